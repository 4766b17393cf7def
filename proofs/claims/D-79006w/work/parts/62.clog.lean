/-! THE CLASS: Log, read -/
set_option maxRecDepth 100000
abbrev iw (w m : zMp) (a : Nat) (x : zE) : Prop := w a = some x ∨ m a = some x
theorem iw.le {w w2 m : zMp} {a : Nat} {x : zE} (h : iw w m a x) (hl : zLe w w2) : iw w2 m a x := h.imp (hl _ _) id
/-- template t of row M -/
def wTm (w : zMp) (x : Nat) (M : Int → Int) (t : Int) : Prop := wTpl w x (gapsL (tx M (fst M t))) (nTl M (fst M t)).toNat (fun k => slt M t k) (fun k => tkl M (fst M t) k) (rws M t)
def wTs (w : zMp) (tf : Nat → Option Nat) (M : Int → Int) : Prop := ∀ t : Nat, t < 12 → (isT M t = false ∧ tf t = none) ∨ (isT M t = true ∧ ∃ x, tf t = some x ∧ wTm w x M t)
theorem wTs.le {w w2 : zMp} {tf : Nat → Option Nat} {M : Int → Int} (h : wTs w tf M) (hl : zLe w w2) : wTs w2 tf M := fun t ht => by
  rcases h t ht with h1 | ⟨h1, x, h2, h3⟩
  · exact Or.inl h1
  · exact Or.inr ⟨h1, x, h2, h3.le hl⟩
/-- a log of row M -/
def wLog (D : zD) (w m : zMp) (a : Nat) (M : Int → Int) (ll ta col : Nat) : Prop := zOk M ∧ iw w m a (eO ciX2 [.ref ll, .ref ta, zI (M 1), .ref col]) ∧ (∃ (mc : Int) (ls : List Nat), iw w m ll (eL mc ls) ∧ wLines w ls (M 0).toNat (tx M)) ∧ ∃ tf : Nat → Option Nat, iw w m ta (eC (aQ D 7 12 tf)) ∧ wTs w tf M
/-- a column to be scribbled on -/
def cOk (D : zD) (m : zMp) (col : Nat) : Prop := ∃ (tc : Nat) (n : Int) (f : Nat → Option Nat), m col = some (eO ciX3 [.ref tc, zI n]) ∧ m tc = some (eC (aQ D 6 40 f))
theorem wTm.it {w : zMp} {x : Nat} {M : Int → Int} {t : Int} (h : wTm w x M t) : ∃ gl sl rl, w x = some (eO ciX7 [.ref gl, .ref sl, .ref rl]) := by
  obtain ⟨-, gl, sl, rl, mc, mc2, mc3, gs, ss, rs, h1, -⟩ := h
  exact ⟨gl, sl, rl, h1⟩
abbrev rmX2_count : Room := { frames := 0, cells := 0, slots := 0, locals := 0 }
set_option maxHeartbeats 4000000 in
theorem c_X2_count (D : zD) (A : Nat → Prop) {w m : zMp} {b : Nat} {M : Int → Int} {ll ta col : Nat} (hb : wLog D w m b M ll ta col) : zC D yX2_count cX2_count 6 (some .int) none rmX2_count A [.ref b] (cI D A w m) (zPd (zI (nTpl M)) (cI D A w m)) (zNo) := by
  refine zC_start (L := [some (.ref b), none, none, none, none, none]) (by decide) (Nat.le_of_ble_eq_true rfl) rfl (fun X hX => ?_)
  obtain ⟨hok, h1, ⟨mc, ls, h2, h3⟩, tf, h4, h5⟩ := hb
  have K : ∀ i : Nat, i ≤ 12 → ∀ (v p : Int) (v5 : Option Value), v = sumI (fun t => bi (isT M t)) i → p = i → zG X 0 0 (cI D A w m) 13 [some (.ref b), some (zI v), some (.ref ta), some (zI 12), some (zI p), v5] [] := by
    refine z_up (fun i hi ih v p v5 ev ep => ?_)
    subst ep
    by_cases hin : i < 12
    · have hst : sumI (fun t => bi (isT M t)) (i + 1) = sumI (fun t => bi (isT M t)) i + bi (isT M i) := rfl
      rcases h5 i hin with ⟨q1, q2⟩ | ⟨q1, x, q2, q3⟩
      · have hz9 : True := trivial
        refine z_iload (q := 15) hX dX2_count_13 rfl rfl ?_
        refine z_iload_n (i := 3) (q := 16) hX dX2_count_15 rfl rfl rfl ?_
        refine z_icmp_ge (q := 19) (t := 44) hX dX2_count_16 (by decide) ⟨by omega, by omega⟩ (by decide) rfl (fun h16 => ?_) (fun h16 => ?_)
        · exact absurd h16 (by omega)
        · refine z_aload_n (i := 2) (q := 20) hX dX2_count_19 rfl rfl rfl ?_
          refine z_iload (q := 22) hX dX2_count_20 rfl rfl ?_
          refine zr_aald (q := 23) hX 7 rfl dX2_count_22 (fun H h => (cI.at h (by first | assumption | exact Or.inl (by assumption) | exact Or.inr (by first | assumption | exact upm_same _ _ _ | exact (upm_ne _ _ (by first | assumption | exact Ne.symm (by assumption) | omega | exact ne_mp (m := m) (by assumption) (by assumption) | exact Ne.symm (ne_mp (m := m) (by assumption) (by assumption)) | exact ne_mp (m := w) (by assumption) (by assumption) | exact Ne.symm (ne_mp (m := w) (by assumption) (by assumption)))).trans (by first | assumption | exact upm_same _ _ _ | exact (upm_ne _ _ (by first | assumption | exact Ne.symm (by assumption) | omega | exact ne_mp (m := m) (by assumption) (by assumption) | exact Ne.symm (ne_mp (m := m) (by assumption) (by assumption)) | exact ne_mp (m := w) (by assumption) (by assumption) | exact Ne.symm (ne_mp (m := w) (by assumption) (by assumption)))).trans (by first | assumption | exact upm_same _ _ _ | exact (upm_ne _ _ (by first | assumption | exact Ne.symm (by assumption) | omega | exact ne_mp (m := m) (by assumption) (by assumption) | exact Ne.symm (ne_mp (m := m) (by assumption) (by assumption)) | exact ne_mp (m := w) (by assumption) (by assumption) | exact Ne.symm (ne_mp (m := w) (by assumption) (by assumption)))).trans (by first | assumption | exact upm_same _ _ _)))))).raQ) ⟨by omega, by omega⟩ (by first | decide | omega) rfl ?_
          refine zG.top (v2 := .null) (by show va_rf (tf ((i : Int)).toNat) = _; rw [Int.toNat_natCast, q2]; rfl) ?_
          refine z_astoreN (q := 25) hX dX2_count_23 (Nat.le_of_ble_eq_true rfl) rfl rfl ?_
          refine z_iload_n (i := 1) (q := 26) hX dX2_count_25 rfl rfl rfl ?_
          refine z_aloadN (q := 28) hX dX2_count_26 rfl rfl ?_
          refine z_ifnonnullN (q := 31) hX dX2_count_28 rfl ?_
          refine z_iconst (q := 32) hX dX2_count_31 rfl ?_
          refine z_goto (t := 36) hX dX2_count_32 (by decide) ?_
          refine z_iadd (q := 37) hX dX2_count_36 rfl ?_
          refine z_istore_n (i := 1) (q := 38) hX dX2_count_37 rfl (Nat.le_of_ble_eq_true rfl) rfl rfl ?_
          refine z_iinc (q := 41) hX dX2_count_38 rfl (Nat.le_of_ble_eq_true rfl) rfl rfl ?_
          refine z_goto (t := 13) hX dX2_count_41 (by decide) ?_
          exact ih hin _ _ _ (by rw [hst, q1, ev]; rfl) rfl
      · have hz9 : True := trivial
        refine z_iload (q := 15) hX dX2_count_13 rfl rfl ?_
        refine z_iload_n (i := 3) (q := 16) hX dX2_count_15 rfl rfl rfl ?_
        refine z_icmp_ge (q := 19) (t := 44) hX dX2_count_16 (by decide) ⟨by omega, by omega⟩ (by decide) rfl (fun h16 => ?_) (fun h16 => ?_)
        · exact absurd h16 (by omega)
        · refine z_aload_n (i := 2) (q := 20) hX dX2_count_19 rfl rfl rfl ?_
          refine z_iload (q := 22) hX dX2_count_20 rfl rfl ?_
          refine zr_aald (q := 23) hX 7 rfl dX2_count_22 (fun H h => (cI.at h (by first | assumption | exact Or.inl (by assumption) | exact Or.inr (by first | assumption | exact upm_same _ _ _ | exact (upm_ne _ _ (by first | assumption | exact Ne.symm (by assumption) | omega | exact ne_mp (m := m) (by assumption) (by assumption) | exact Ne.symm (ne_mp (m := m) (by assumption) (by assumption)) | exact ne_mp (m := w) (by assumption) (by assumption) | exact Ne.symm (ne_mp (m := w) (by assumption) (by assumption)))).trans (by first | assumption | exact upm_same _ _ _ | exact (upm_ne _ _ (by first | assumption | exact Ne.symm (by assumption) | omega | exact ne_mp (m := m) (by assumption) (by assumption) | exact Ne.symm (ne_mp (m := m) (by assumption) (by assumption)) | exact ne_mp (m := w) (by assumption) (by assumption) | exact Ne.symm (ne_mp (m := w) (by assumption) (by assumption)))).trans (by first | assumption | exact upm_same _ _ _ | exact (upm_ne _ _ (by first | assumption | exact Ne.symm (by assumption) | omega | exact ne_mp (m := m) (by assumption) (by assumption) | exact Ne.symm (ne_mp (m := m) (by assumption) (by assumption)) | exact ne_mp (m := w) (by assumption) (by assumption) | exact Ne.symm (ne_mp (m := w) (by assumption) (by assumption)))).trans (by first | assumption | exact upm_same _ _ _)))))).raQ) ⟨by omega, by omega⟩ (by first | decide | omega) rfl ?_
          refine zG.top (v2 := .ref x) (by show va_rf (tf ((i : Int)).toNat) = _; rw [Int.toNat_natCast, q2]; rfl) ?_
          refine z_astore (q := 25) hX dX2_count_23 (Nat.le_of_ble_eq_true rfl) rfl rfl ?_
          refine z_iload_n (i := 1) (q := 26) hX dX2_count_25 rfl rfl rfl ?_
          refine z_aload (q := 28) hX dX2_count_26 rfl rfl ?_
          refine z_ifnonnull (t := 35) hX dX2_count_28 (by decide) ?_
          refine z_iconst (q := 36) hX dX2_count_35 rfl ?_
          refine z_iadd (q := 37) hX dX2_count_36 rfl ?_
          refine z_istore_n (i := 1) (q := 38) hX dX2_count_37 rfl (Nat.le_of_ble_eq_true rfl) rfl rfl ?_
          refine z_iinc (q := 41) hX dX2_count_38 rfl (Nat.le_of_ble_eq_true rfl) rfl rfl ?_
          refine z_goto (t := 13) hX dX2_count_41 (by decide) ?_
          exact ih hin _ _ _ (by rw [hst, q1, ev]; rfl) rfl
    · have hiN : i = 12 := by omega
      subst hiN
      refine z_iload (q := 15) hX dX2_count_13 rfl rfl ?_
      refine z_iload_n (i := 3) (q := 16) hX dX2_count_15 rfl rfl rfl ?_
      refine z_icmp_ge (q := 19) (t := 44) hX dX2_count_16 (by decide) (by decide) (by decide) rfl (fun h16 => ?_) (fun h16 => ?_)
      · refine z_iload_n (i := 1) (q := 45) hX dX2_count_44 rfl rfl rfl ?_
        exact z_iret hX dX2_count_45 (by first | exact Nat.le_of_ble_eq_true rfl | (show (_ : Nat) ≤ 0; omega)) (by first | exact Nat.le_of_ble_eq_true rfl | (show (_ : Nat) ≤ 0; omega)) rfl (fun H h => ⟨congrArg (fun z => some (zI z)) ((by rw [ev]; rfl)), h⟩)
      · exact absurd (by decide) h16
  refine z_iconst (q := 1) hX dX2_count_0 rfl ?_
  refine z_istore_n (i := 1) (q := 2) hX dX2_count_1 rfl (Nat.le_of_ble_eq_true rfl) rfl rfl ?_
  refine z_aload_n (i := 0) (q := 3) hX dX2_count_2 rfl rfl rfl ?_
  refine zr_get (C := RX2) (T := TX2) (N := 4) (q := 6) hX ciX2 1 rfl (by decide) in_X2 dX2_count_3 q207 (Or.inl rfl) (fun H h => cI.rd h (by first | assumption | exact Or.inl (by assumption) | exact Or.inr (by first | assumption | exact upm_same _ _ _ | exact (upm_ne _ _ (by first | assumption | exact Ne.symm (by assumption) | omega | exact ne_mp (m := m) (by assumption) (by assumption) | exact Ne.symm (ne_mp (m := m) (by assumption) (by assumption)) | exact ne_mp (m := w) (by assumption) (by assumption) | exact Ne.symm (ne_mp (m := w) (by assumption) (by assumption)))).trans (by first | assumption | exact upm_same _ _ _ | exact (upm_ne _ _ (by first | assumption | exact Ne.symm (by assumption) | omega | exact ne_mp (m := m) (by assumption) (by assumption) | exact Ne.symm (ne_mp (m := m) (by assumption) (by assumption)) | exact ne_mp (m := w) (by assumption) (by assumption) | exact Ne.symm (ne_mp (m := w) (by assumption) (by assumption)))).trans (by first | assumption | exact upm_same _ _ _ | exact (upm_ne _ _ (by first | assumption | exact Ne.symm (by assumption) | omega | exact ne_mp (m := m) (by assumption) (by assumption) | exact Ne.symm (ne_mp (m := m) (by assumption) (by assumption)) | exact ne_mp (m := w) (by assumption) (by assumption) | exact Ne.symm (ne_mp (m := w) (by assumption) (by assumption)))).trans (by first | assumption | exact upm_same _ _ _))))) rfl (by decide) rfl) rfl ?_
  refine z_astore_n (i := 2) (q := 7) hX dX2_count_6 rfl (Nat.le_of_ble_eq_true rfl) rfl rfl ?_
  refine z_aload_n (i := 2) (q := 8) hX dX2_count_7 rfl rfl rfl ?_
  refine zr_alen (q := 9) hX 7 rfl dX2_count_8 (fun H h => (cI.at h (by first | assumption | exact Or.inl (by assumption) | exact Or.inr (by first | assumption | exact upm_same _ _ _ | exact (upm_ne _ _ (by first | assumption | exact Ne.symm (by assumption) | omega | exact ne_mp (m := m) (by assumption) (by assumption) | exact Ne.symm (ne_mp (m := m) (by assumption) (by assumption)) | exact ne_mp (m := w) (by assumption) (by assumption) | exact Ne.symm (ne_mp (m := w) (by assumption) (by assumption)))).trans (by first | assumption | exact upm_same _ _ _ | exact (upm_ne _ _ (by first | assumption | exact Ne.symm (by assumption) | omega | exact ne_mp (m := m) (by assumption) (by assumption) | exact Ne.symm (ne_mp (m := m) (by assumption) (by assumption)) | exact ne_mp (m := w) (by assumption) (by assumption) | exact Ne.symm (ne_mp (m := w) (by assumption) (by assumption)))).trans (by first | assumption | exact upm_same _ _ _ | exact (upm_ne _ _ (by first | assumption | exact Ne.symm (by assumption) | omega | exact ne_mp (m := m) (by assumption) (by assumption) | exact Ne.symm (ne_mp (m := m) (by assumption) (by assumption)) | exact ne_mp (m := w) (by assumption) (by assumption) | exact Ne.symm (ne_mp (m := w) (by assumption) (by assumption)))).trans (by first | assumption | exact upm_same _ _ _)))))).raQ) rfl ?_
  refine z_istore_n (i := 3) (q := 10) hX dX2_count_9 rfl (Nat.le_of_ble_eq_true rfl) rfl rfl ?_
  refine z_iconst (q := 11) hX dX2_count_10 rfl ?_
  refine z_istore (q := 13) hX dX2_count_11 (Nat.le_of_ble_eq_true rfl) rfl rfl ?_
  exact K 0 (Nat.zero_le _) 0 0 _ rfl rfl
theorem tx_lns {M : Int → Int} (h : zOk M) {l : Int} (h0 : 0 ≤ l) (h1 : l < M 0) : lnS (tx M l) := by
  have h2 := (h.2.1 l h0 h1).1
  have h3 := h2.f
  obtain ⟨z0, z1, z2, z3, z4⟩ := h2
  refine ⟨by have := h3.2.2.2.2.1; omega, by have := h3.2.2.2.2.1; omega, fun c hc => ?_⟩
  unfold tx at hc
  obtain ⟨i, hi, rfl⟩ := List.mem_map.mp hc
  have hi := List.mem_range.mp hi
  have z2 : 1 ≤ M (2 + l) := z2
  have z4 : ∀ i : Int, 0 ≤ i → i < M (2 + l) → 32 ≤ M (84 + 40 * l + i) ∧ M (84 + 40 * l + i) ≤ 126 := z4
  exact z4 i (by omega) (by omega)
/-- a template's rows are lines, of its form -/
theorem rws_mem {M : Int → Int} {t r : Int} : r ∈ rws M t ↔ 0 ≤ r ∧ r < (M 0).toNat ∧ M (43 + r) = t := by
  unfold rws
  rw [rF_mem]
  unfold ofP
  rw [decide_eq_true_iff]
theorem rws_n {M : Int → Int} (h : zOk M) {t r : Int} (hr : r ∈ rws M t) : nTl M r = nTl M (fst M t) ∧ gapsL (tx M r) = gapsL (tx M (fst M t)) := by
  have h1 := rws_mem.mp hr
  have h2 := (h.2.2.2 r h1.1 (by have := h.1.1; omega)).1
  rw [h1.2.2] at h2
  exact ⟨(gapsL_eq.mp h2).1, h2⟩
theorem isT_rows {M : Int → Int} {t : Int} (h : isT M t = true) : 1 ≤ (rws M t).length ∧ fst M t = (rws M t).getD 0 (-1) := by
  unfold isT at h
  have h2 := of_decide_eq_true ((Bool.and_eq_true _ _).mp h).2
  refine ⟨?_, rfl⟩
  by_cases q : (rws M t).length = 0
  · have e : rws M t = [] := List.length_eq_zero_iff.mp q
    unfold fst lnO at h2
    rw [e] at h2
    exact absurd h2 (by decide)
  · omega
theorem isT_fst {M : Int → Int} {t : Int} (h : isT M t = true) : fst M t ∈ rws M t := by
  have h1 := isT_rows h
  rw [h1.2, List.getD_eq_getElem?_getD, List.getElem?_eq_getElem (by omega)]
  exact List.getElem_mem (by omega)
theorem isT_mem {M : Int → Int} {t r : Int} (ht : 0 ≤ t ∧ t ≤ 11) (hr : r ∈ rws M t) : isT M t = true := by
  unfold isT
  rw [decide_eq_true ht.1, decide_eq_true ht.2]
  have hl : 0 < (rws M t).length := List.length_pos_of_mem hr
  have h1 : fst M t ∈ rws M t := by
    unfold fst lnO
    rw [show (0 : Int).toNat = 0 from rfl, List.getD_eq_getElem?_getD, List.getElem?_eq_getElem hl]
    exact List.getElem_mem hl
  have := (rws_mem.mp h1).1
  rw [decide_eq_true this]
  rfl
/-- whose line it is: the last template under n that has it, or -1 -/
def tlS (M : Int → Int) (l : Int) : Nat → Int
  | 0 => -1
  | n + 1 => if (n : Int) = M (43 + l) then (n : Int) else tlS M l n
theorem tlS_eq {M : Int → Int} {l : Int} {n : Nat} (h : 0 ≤ M (43 + l) ∧ M (43 + l) < n) : tlS M l n = M (43 + l) := by
  induction n with
  | zero => omega
  | succ n ih =>
    rw [tlS]
    split
    · assumption
    · exact ih (by omega)
abbrev rmX2_templateOf : Room := { frames := 5, cells := 0, slots := 0, locals := 108 }
set_option maxHeartbeats 4000000 in
theorem c_X2_templateOf (D : zD) (A : Nat → Prop) {w m : zMp} {b : Nat} {M : Int → Int} {ll ta col : Nat} {l : Int} (hb : wLog D w m b M ll ta col) (hl : 0 ≤ l ∧ l < M 0) : zC D yX2_templateOf cX2_templateOf 4 (some .int) none rmX2_templateOf A [.ref b, zI (l)] (cI D A w m) (zPd (zI (M (43 + l))) (cI D A w m)) (zNo) := by
  refine zC_start (L := [some (.ref b), some (zI (l)), none, none]) (by decide) (Nat.le_of_ble_eq_true rfl) rfl (fun X hX => ?_)
  obtain ⟨hok, h1, ⟨mc, ls, h2, h3⟩, tf, h4, h5⟩ := hb
  have hM := hok.1
  have h43 := (hok.2.1 l hl.1 hl.2).2
  refine zG.know (fun H h => h.iv (k := l) (by omega) (by omega)) (fun hiv => ?_)
  have K : ∀ i : Nat, i ≤ 12 → ∀ (v p : Int), v = tlS M l i → p = i → zG X 0 0 (cI D A w m) 4 [some (.ref b), some (zI (l)), some (zI (v)), some (zI (p))] [] := by
    refine z_up (fun i hi ih v p ev ep => ?_)
    subst ep
    by_cases hin : i < 12
    · have hst : tlS M l (i + 1) = if (i : Int) = M (43 + l) then (i : Int) else tlS M l i := rfl
      rcases h5 i hin with ⟨q1, q2⟩ | ⟨q1, x, q2, q3⟩
      · have hne : ¬ (i : Int) = M (43 + l) := fun e => by
          have := isT_mem (M := M) (t := (i : Int)) (r := l) ⟨by omega, by omega⟩ (rws_mem.mpr ⟨hl.1, by omega, e.symm⟩)
          rw [q1] at this
          cases this
        refine z_iload_n (i := 3) (q := 5) hX dX2_templateOf_4 rfl rfl rfl ?_
        refine z_bipush (q := 7) hX dX2_templateOf_5 (by decide) rfl ?_
        refine z_icmp_ge (q := 10) (t := 50) hX dX2_templateOf_7 (by decide) ⟨by omega, by omega⟩ (by decide) rfl (fun h7 => ?_) (fun h7 => ?_)
        · exact absurd h7 (by omega)
        · refine z_aload_n (i := 0) (q := 11) hX dX2_templateOf_10 rfl rfl rfl ?_
          refine zr_get (C := RX2) (T := TX2) (N := 4) (q := 14) hX ciX2 1 rfl (by decide) in_X2 dX2_templateOf_11 q207 (Or.inl rfl) (fun H h => cI.rd h (by first | assumption | exact Or.inl (by assumption) | exact Or.inr (by first | assumption | exact upm_same _ _ _ | exact (upm_ne _ _ (by first | assumption | exact Ne.symm (by assumption) | omega | exact ne_mp (m := m) (by assumption) (by assumption) | exact Ne.symm (ne_mp (m := m) (by assumption) (by assumption)) | exact ne_mp (m := w) (by assumption) (by assumption) | exact Ne.symm (ne_mp (m := w) (by assumption) (by assumption)))).trans (by first | assumption | exact upm_same _ _ _ | exact (upm_ne _ _ (by first | assumption | exact Ne.symm (by assumption) | omega | exact ne_mp (m := m) (by assumption) (by assumption) | exact Ne.symm (ne_mp (m := m) (by assumption) (by assumption)) | exact ne_mp (m := w) (by assumption) (by assumption) | exact Ne.symm (ne_mp (m := w) (by assumption) (by assumption)))).trans (by first | assumption | exact upm_same _ _ _ | exact (upm_ne _ _ (by first | assumption | exact Ne.symm (by assumption) | omega | exact ne_mp (m := m) (by assumption) (by assumption) | exact Ne.symm (ne_mp (m := m) (by assumption) (by assumption)) | exact ne_mp (m := w) (by assumption) (by assumption) | exact Ne.symm (ne_mp (m := w) (by assumption) (by assumption)))).trans (by first | assumption | exact upm_same _ _ _))))) rfl (by decide) rfl) rfl ?_
          refine z_iload_n (i := 3) (q := 15) hX dX2_templateOf_14 rfl rfl rfl ?_
          refine zr_aald (q := 16) hX 7 rfl dX2_templateOf_15 (fun H h => (cI.at h (by first | assumption | exact Or.inl (by assumption) | exact Or.inr (by first | assumption | exact upm_same _ _ _ | exact (upm_ne _ _ (by first | assumption | exact Ne.symm (by assumption) | omega | exact ne_mp (m := m) (by assumption) (by assumption) | exact Ne.symm (ne_mp (m := m) (by assumption) (by assumption)) | exact ne_mp (m := w) (by assumption) (by assumption) | exact Ne.symm (ne_mp (m := w) (by assumption) (by assumption)))).trans (by first | assumption | exact upm_same _ _ _ | exact (upm_ne _ _ (by first | assumption | exact Ne.symm (by assumption) | omega | exact ne_mp (m := m) (by assumption) (by assumption) | exact Ne.symm (ne_mp (m := m) (by assumption) (by assumption)) | exact ne_mp (m := w) (by assumption) (by assumption) | exact Ne.symm (ne_mp (m := w) (by assumption) (by assumption)))).trans (by first | assumption | exact upm_same _ _ _ | exact (upm_ne _ _ (by first | assumption | exact Ne.symm (by assumption) | omega | exact ne_mp (m := m) (by assumption) (by assumption) | exact Ne.symm (ne_mp (m := m) (by assumption) (by assumption)) | exact ne_mp (m := w) (by assumption) (by assumption) | exact Ne.symm (ne_mp (m := w) (by assumption) (by assumption)))).trans (by first | assumption | exact upm_same _ _ _)))))).raQ) ⟨by omega, by omega⟩ (by first | decide | omega) rfl ?_
          refine zG.top (v2 := .null) (by show va_rf (tf ((i : Int)).toNat) = _; rw [Int.toNat_natCast, q2]; rfl) ?_
          refine z_ifnullN (t := 42) hX dX2_templateOf_16 (by decide) ?_
          refine z_iload_n (i := 2) (q := 43) hX dX2_templateOf_42 rfl rfl rfl ?_
          refine z_istore_n (i := 2) (q := 44) hX dX2_templateOf_43 rfl (Nat.le_of_ble_eq_true rfl) rfl rfl ?_
          refine z_iinc (q := 47) hX dX2_templateOf_44 rfl (Nat.le_of_ble_eq_true rfl) rfl rfl ?_
          refine z_goto (t := 4) hX dX2_templateOf_47 (by decide) ?_
          exact ih hin _ _ (by rw [hst, if_neg hne]; exact ev) rfl
      · have q30 := q3
        obtain ⟨⟨k1, k2, k3⟩, gl, sl, rl, mc4, mc2, mc3, gs, ss, rs, y1, y2, y3, y4, y5, y6, y7⟩ := q3
        have l1 := y7.1
        refine z_iload_n (i := 3) (q := 5) hX dX2_templateOf_4 rfl rfl rfl ?_
        refine z_bipush (q := 7) hX dX2_templateOf_5 (by decide) rfl ?_
        refine z_icmp_ge (q := 10) (t := 50) hX dX2_templateOf_7 (by decide) ⟨by omega, by omega⟩ (by decide) rfl (fun h7 => ?_) (fun h7 => ?_)
        · exact absurd h7 (by omega)
        · refine z_aload_n (i := 0) (q := 11) hX dX2_templateOf_10 rfl rfl rfl ?_
          refine zr_get (C := RX2) (T := TX2) (N := 4) (q := 14) hX ciX2 1 rfl (by decide) in_X2 dX2_templateOf_11 q207 (Or.inl rfl) (fun H h => cI.rd h (by first | assumption | exact Or.inl (by assumption) | exact Or.inr (by first | assumption | exact upm_same _ _ _ | exact (upm_ne _ _ (by first | assumption | exact Ne.symm (by assumption) | omega | exact ne_mp (m := m) (by assumption) (by assumption) | exact Ne.symm (ne_mp (m := m) (by assumption) (by assumption)) | exact ne_mp (m := w) (by assumption) (by assumption) | exact Ne.symm (ne_mp (m := w) (by assumption) (by assumption)))).trans (by first | assumption | exact upm_same _ _ _ | exact (upm_ne _ _ (by first | assumption | exact Ne.symm (by assumption) | omega | exact ne_mp (m := m) (by assumption) (by assumption) | exact Ne.symm (ne_mp (m := m) (by assumption) (by assumption)) | exact ne_mp (m := w) (by assumption) (by assumption) | exact Ne.symm (ne_mp (m := w) (by assumption) (by assumption)))).trans (by first | assumption | exact upm_same _ _ _ | exact (upm_ne _ _ (by first | assumption | exact Ne.symm (by assumption) | omega | exact ne_mp (m := m) (by assumption) (by assumption) | exact Ne.symm (ne_mp (m := m) (by assumption) (by assumption)) | exact ne_mp (m := w) (by assumption) (by assumption) | exact Ne.symm (ne_mp (m := w) (by assumption) (by assumption)))).trans (by first | assumption | exact upm_same _ _ _))))) rfl (by decide) rfl) rfl ?_
          refine z_iload_n (i := 3) (q := 15) hX dX2_templateOf_14 rfl rfl rfl ?_
          refine zr_aald (q := 16) hX 7 rfl dX2_templateOf_15 (fun H h => (cI.at h (by first | assumption | exact Or.inl (by assumption) | exact Or.inr (by first | assumption | exact upm_same _ _ _ | exact (upm_ne _ _ (by first | assumption | exact Ne.symm (by assumption) | omega | exact ne_mp (m := m) (by assumption) (by assumption) | exact Ne.symm (ne_mp (m := m) (by assumption) (by assumption)) | exact ne_mp (m := w) (by assumption) (by assumption) | exact Ne.symm (ne_mp (m := w) (by assumption) (by assumption)))).trans (by first | assumption | exact upm_same _ _ _ | exact (upm_ne _ _ (by first | assumption | exact Ne.symm (by assumption) | omega | exact ne_mp (m := m) (by assumption) (by assumption) | exact Ne.symm (ne_mp (m := m) (by assumption) (by assumption)) | exact ne_mp (m := w) (by assumption) (by assumption) | exact Ne.symm (ne_mp (m := w) (by assumption) (by assumption)))).trans (by first | assumption | exact upm_same _ _ _ | exact (upm_ne _ _ (by first | assumption | exact Ne.symm (by assumption) | omega | exact ne_mp (m := m) (by assumption) (by assumption) | exact Ne.symm (ne_mp (m := m) (by assumption) (by assumption)) | exact ne_mp (m := w) (by assumption) (by assumption) | exact Ne.symm (ne_mp (m := w) (by assumption) (by assumption)))).trans (by first | assumption | exact upm_same _ _ _)))))).raQ) ⟨by omega, by omega⟩ (by first | decide | omega) rfl ?_
          refine zG.top (v2 := .ref x) (by show va_rf (tf ((i : Int)).toNat) = _; rw [Int.toNat_natCast, q2]; rfl) ?_
          refine z_ifnull (q := 19) hX dX2_templateOf_16 rfl ?_
          refine z_aload_n (i := 0) (q := 20) hX dX2_templateOf_19 rfl rfl rfl ?_
          refine zr_get (C := RX2) (T := TX2) (N := 4) (q := 23) hX ciX2 1 rfl (by decide) in_X2 dX2_templateOf_20 q207 (Or.inl rfl) (fun H h => cI.rd h (by first | assumption | exact Or.inl (by assumption) | exact Or.inr (by first | assumption | exact upm_same _ _ _ | exact (upm_ne _ _ (by first | assumption | exact Ne.symm (by assumption) | omega | exact ne_mp (m := m) (by assumption) (by assumption) | exact Ne.symm (ne_mp (m := m) (by assumption) (by assumption)) | exact ne_mp (m := w) (by assumption) (by assumption) | exact Ne.symm (ne_mp (m := w) (by assumption) (by assumption)))).trans (by first | assumption | exact upm_same _ _ _ | exact (upm_ne _ _ (by first | assumption | exact Ne.symm (by assumption) | omega | exact ne_mp (m := m) (by assumption) (by assumption) | exact Ne.symm (ne_mp (m := m) (by assumption) (by assumption)) | exact ne_mp (m := w) (by assumption) (by assumption) | exact Ne.symm (ne_mp (m := w) (by assumption) (by assumption)))).trans (by first | assumption | exact upm_same _ _ _ | exact (upm_ne _ _ (by first | assumption | exact Ne.symm (by assumption) | omega | exact ne_mp (m := m) (by assumption) (by assumption) | exact Ne.symm (ne_mp (m := m) (by assumption) (by assumption)) | exact ne_mp (m := w) (by assumption) (by assumption) | exact Ne.symm (ne_mp (m := w) (by assumption) (by assumption)))).trans (by first | assumption | exact upm_same _ _ _))))) rfl (by decide) rfl) rfl ?_
          refine z_iload_n (i := 3) (q := 24) hX dX2_templateOf_23 rfl rfl rfl ?_
          refine zr_aald (q := 25) hX 7 rfl dX2_templateOf_24 (fun H h => (cI.at h (by first | assumption | exact Or.inl (by assumption) | exact Or.inr (by first | assumption | exact upm_same _ _ _ | exact (upm_ne _ _ (by first | assumption | exact Ne.symm (by assumption) | omega | exact ne_mp (m := m) (by assumption) (by assumption) | exact Ne.symm (ne_mp (m := m) (by assumption) (by assumption)) | exact ne_mp (m := w) (by assumption) (by assumption) | exact Ne.symm (ne_mp (m := w) (by assumption) (by assumption)))).trans (by first | assumption | exact upm_same _ _ _ | exact (upm_ne _ _ (by first | assumption | exact Ne.symm (by assumption) | omega | exact ne_mp (m := m) (by assumption) (by assumption) | exact Ne.symm (ne_mp (m := m) (by assumption) (by assumption)) | exact ne_mp (m := w) (by assumption) (by assumption) | exact Ne.symm (ne_mp (m := w) (by assumption) (by assumption)))).trans (by first | assumption | exact upm_same _ _ _ | exact (upm_ne _ _ (by first | assumption | exact Ne.symm (by assumption) | omega | exact ne_mp (m := m) (by assumption) (by assumption) | exact Ne.symm (ne_mp (m := m) (by assumption) (by assumption)) | exact ne_mp (m := w) (by assumption) (by assumption) | exact Ne.symm (ne_mp (m := w) (by assumption) (by assumption)))).trans (by first | assumption | exact upm_same _ _ _)))))).raQ) ⟨by omega, by omega⟩ (by first | decide | omega) rfl ?_
          refine zG.top (v2 := .ref x) (by show va_rf (tf ((i : Int)).toNat) = _; rw [Int.toNat_natCast, q2]; rfl) ?_
          refine zr_getN (C := RX7) (T := TX7) (N := 3) (q := 28) hX ciX7 2 rfl (by decide) in_X7 dX2_templateOf_25 (zNF_at 26 rfl) (fun H h => cI.rd h (by first | assumption | exact Or.inl (by assumption) | exact Or.inr (by first | assumption | exact upm_same _ _ _ | exact (upm_ne _ _ (by first | assumption | exact Ne.symm (by assumption) | omega | exact ne_mp (m := m) (by assumption) (by assumption) | exact Ne.symm (ne_mp (m := m) (by assumption) (by assumption)) | exact ne_mp (m := w) (by assumption) (by assumption) | exact Ne.symm (ne_mp (m := w) (by assumption) (by assumption)))).trans (by first | assumption | exact upm_same _ _ _ | exact (upm_ne _ _ (by first | assumption | exact Ne.symm (by assumption) | omega | exact ne_mp (m := m) (by assumption) (by assumption) | exact Ne.symm (ne_mp (m := m) (by assumption) (by assumption)) | exact ne_mp (m := w) (by assumption) (by assumption) | exact Ne.symm (ne_mp (m := w) (by assumption) (by assumption)))).trans (by first | assumption | exact upm_same _ _ _ | exact (upm_ne _ _ (by first | assumption | exact Ne.symm (by assumption) | omega | exact ne_mp (m := m) (by assumption) (by assumption) | exact Ne.symm (ne_mp (m := m) (by assumption) (by assumption)) | exact ne_mp (m := w) (by assumption) (by assumption) | exact Ne.symm (ne_mp (m := w) (by assumption) (by assumption)))).trans (by first | assumption | exact upm_same _ _ _))))) rfl (by decide) rfl) rfl ?_
          refine z_iload_n (i := 1) (q := 29) hX dX2_templateOf_28 rfl rfl rfl ?_
          refine z_S (na := 1) hX dX2_templateOf_29 (c_J18_valueOf D A (by omega)) q1176 q1177 q121 q1178 (by decide +kernel) ⟨Nat.le_of_ble_eq_true rfl, Nat.le_of_ble_eq_true rfl⟩ rfl rfl (Nat.le_of_ble_eq_true rfl) rfl (by first | exact Nat.le_of_ble_eq_true rfl | (show _ + 0 ≤ 0; omega)) (by first | exact Nat.le_of_ble_eq_true rfl | (show _ + 0 ≤ 0; omega)) (fun H h => h) (fun E a => zT.no) (zPd.out ?_)
          show zG X (_ + 0) (_ + 0) _ 32 _ _
          refine z_V (ci := ciJ2) (T := TJ2) (N := 3) (na := 1) hX dX2_templateOf_32 (c_J2_contains D A y6 (by omega) y7 hiv ⟨by omega, by omega⟩) rfl q1196 q1197 q1198 q101 q1199 (by decide +kernel) ⟨Nat.le_of_ble_eq_true rfl, Nat.le_of_ble_eq_true rfl⟩ rfl rfl (Nat.le_of_ble_eq_true rfl) rfl (by first | exact Nat.le_of_ble_eq_true rfl | (show _ + 0 ≤ 0; omega)) (by first | exact Nat.le_of_ble_eq_true rfl | (show _ + 0 ≤ 0; omega)) (fun H h => ⟨h, h.obL (Or.inl y6)⟩) (fun E a => zT.no) (zPd.out ?_)
          show zG X (_ + 0) (_ + 0) _ 35 _ _
          refine z_ifB_eq (q := 38) (t := 42) hX dX2_templateOf_35 (by decide) rfl (fun h35 => ?_) (fun h35 => ?_)
          · refine z_iload_n (i := 2) (q := 43) hX dX2_templateOf_42 rfl rfl rfl ?_
            refine z_istore_n (i := 2) (q := 44) hX dX2_templateOf_43 rfl (Nat.le_of_ble_eq_true rfl) rfl rfl ?_
            refine z_iinc (q := 47) hX dX2_templateOf_44 rfl (Nat.le_of_ble_eq_true rfl) rfl rfl ?_
            refine z_goto (t := 4) hX dX2_templateOf_47 (by decide) ?_
            refine ih hin _ _ ?_ rfl
            rw [hst, if_neg (fun e => of_decide_eq_false h35 (rws_mem.mpr ⟨hl.1, by omega, e.symm⟩))]
            exact ev
          · refine z_iload_n (i := 3) (q := 39) hX dX2_templateOf_38 rfl rfl rfl ?_
            refine z_goto (t := 43) hX dX2_templateOf_39 (by decide) ?_
            refine z_istore_n (i := 2) (q := 44) hX dX2_templateOf_43 rfl (Nat.le_of_ble_eq_true rfl) rfl rfl ?_
            refine z_iinc (q := 47) hX dX2_templateOf_44 rfl (Nat.le_of_ble_eq_true rfl) rfl rfl ?_
            refine z_goto (t := 4) hX dX2_templateOf_47 (by decide) ?_
            refine ih hin _ _ ?_ rfl
            rw [hst, if_pos (rws_mem.mp (of_decide_eq_true h35)).2.2.symm]
    · have hiN : i = 12 := by omega
      subst hiN
      refine z_iload_n (i := 3) (q := 5) hX dX2_templateOf_4 rfl rfl rfl ?_
      refine z_bipush (q := 7) hX dX2_templateOf_5 (by decide) rfl ?_
      refine z_icmp_ge (q := 10) (t := 50) hX dX2_templateOf_7 (by decide) (by decide) (by decide) rfl (fun h7 => ?_) (fun h7 => ?_)
      · refine z_iload_n (i := 2) (q := 51) hX dX2_templateOf_50 rfl rfl rfl ?_
        exact z_iret hX dX2_templateOf_51 (by first | exact Nat.le_of_ble_eq_true rfl | (show (_ : Nat) ≤ 0; omega)) (by first | exact Nat.le_of_ble_eq_true rfl | (show (_ : Nat) ≤ 0; omega)) rfl (fun H h => ⟨congrArg (fun z => some (zI z)) ((by rw [ev]; exact tlS_eq ⟨h43.1, by omega⟩)), h⟩)
      · exact absurd (by decide) h7
  refine z_iconst (q := 1) hX dX2_templateOf_0 rfl ?_
  refine z_istore_n (i := 2) (q := 2) hX dX2_templateOf_1 rfl (Nat.le_of_ble_eq_true rfl) rfl rfl ?_
  refine z_iconst (q := 3) hX dX2_templateOf_2 rfl ?_
  refine z_istore_n (i := 3) (q := 4) hX dX2_templateOf_3 rfl (Nat.le_of_ble_eq_true rfl) rfl rfl ?_
  exact K 0 (Nat.zero_le _) _ _ rfl rfl
abbrev rmX2_characters : Room := { frames := 3, cells := 1, slots := 4, locals := 61 }
set_option maxHeartbeats 4000000 in
theorem c_X2_characters (D : zD) (A : Nat → Prop) {w m : zMp} {b : Nat} {M : Int → Int} {ll ta col : Nat} (hb : wLog D w m b M ll ta col) (hw : ∃ mc ls, w ll = some (eL mc ls)) : zC D yX2_characters cX2_characters 4 (some .int) none rmX2_characters A [.ref b] (cI D A w m) (zPe (fun (e : Nat) => some (zI (chrI M))) (fun _ => True) (fun _ => cI D A w m)) (zNo) := by
  refine zC_start (L := [some (.ref b), none, none, none]) (by decide) (Nat.le_of_ble_eq_true rfl) rfl (fun X hX => ?_)
  obtain ⟨hok, h1, ⟨mc, ls, h2, h3⟩, tf, h4, h5⟩ := hb
  obtain ⟨mc9, ls9, hw⟩ := hw
  refine zG.know (φ := mc9 = mc ∧ ls9 = ls) (fun H h => by
    rcases h2 with q | q
    · cases hw.symm.trans q; exact ⟨rfl, rfl⟩
    · rw [h.m_of hw] at q; cases q) (fun he => ?_)
  obtain ⟨rfl, rfl⟩ := he
  have hM := hok.1
  have l1 := h3.1
  have K : ∀ e : Nat, m e = none → ∀ i : Nat, i ≤ (M 0).toNat → ∀ (v lr : Int) (v3 : Option Value), v = sumI (fun l => M (2 + l)) i → zG X 1 4 (cI D A w (upm m e (eO ciJ8 [zI (i : Int), zI lr, zI mc9, .ref ll]))) 10 [some (.ref b), some (zI v), some (.ref e), v3] [] := by
    intro e hme
    refine z_up (fun i hi ih v lr v3 ev => ?_)
    by_cases hin : i < (M 0).toNat
    · obtain ⟨x, q1, q2⟩ := h3.2 i hin
      obtain ⟨fs, q3⟩ := q2.it
      have hlen : ((tx M (i : Int)).length : Int) = M (2 + (i : Int)) := ((hok.2.1 i (by omega) (by omega)).1).f.2.2.2.2.1
      refine z_aload_n (i := 2) (q := 11) hX dX2_characters_10 rfl rfl rfl ?_
      refine z_F (x := ⟨"java/util/Iterator", "hasNext", "()Z"⟩) (ci := ciJ8) (T := TJ8) (N := 4) (na := 0) hX dX2_characters_11 (c_J8_hasNext D A (upm_same _ _ _) hw ⟨by omega, by omega⟩ (by omega)) rfl q285 q289 q291 q109 q293 (List.mem_of_getElem? (i := 0) rfl) (by decide +kernel) ⟨Nat.le_of_ble_eq_true rfl, Nat.le_of_ble_eq_true rfl⟩ rfl rfl (Nat.le_of_ble_eq_true rfl) rfl (by first | exact Nat.le_of_ble_eq_true rfl | (show _ + 0 ≤ 1; omega)) (by first | exact Nat.le_of_ble_eq_true rfl | (show _ + 0 ≤ 4; omega)) (fun H h => ⟨h, h.obE (Or.inr (upm_same _ _ _)) rfl⟩) (fun E a => zT.no) (zPd.out ?_)
      show zG X (_ + 0) (_ + 0) _ 16 _ _
      refine z_ifB_eq (q := 19) (t := 39) hX dX2_characters_16 (by decide) rfl (fun h16 => ?_) (fun h16 => ?_)
      · exact absurd h16 (by simp; omega)
      · refine z_aload_n (i := 2) (q := 20) hX dX2_characters_19 rfl rfl rfl ?_
        refine z_F (x := ⟨"java/util/Iterator", "next", "()Ljava/lang/Object;"⟩) (ci := ciJ8) (T := TJ8) (N := 4) (na := 0) hX dX2_characters_20 (c_J8_next D A (upm_same _ _ _) hw q1 (by omega)) rfl q295 q298 q300 q109 q302 (List.mem_of_getElem? (i := 1) rfl) (by decide +kernel) ⟨Nat.le_of_ble_eq_true rfl, Nat.le_of_ble_eq_true rfl⟩ rfl rfl (Nat.le_of_ble_eq_true rfl) rfl (by first | exact Nat.le_of_ble_eq_true rfl | (show _ + 0 ≤ 1; omega)) (by first | exact Nat.le_of_ble_eq_true rfl | (show _ + 0 ≤ 4; omega)) (fun H h => ⟨h, h.obE (Or.inr (upm_same _ _ _)) rfl⟩) (fun E a => zT.no) (zPd.out ?_)
        show zG X (_ + 0) (_ + 0) _ 25 _ _
        refine zr_cast (q := 28) (C := RX5) (T := TX5) (N := 3) hX ciX5 rfl dX2_characters_25 q377 (fun H h => cI.obE h (by first | assumption | exact Or.inl (by assumption) | exact Or.inr (by first | assumption | exact upm_same _ _ _ | exact (upm_ne _ _ (by first | assumption | exact Ne.symm (by assumption) | omega | exact ne_mp (m := m) (by assumption) (by assumption) | exact Ne.symm (ne_mp (m := m) (by assumption) (by assumption)) | exact ne_mp (m := w) (by assumption) (by assumption) | exact Ne.symm (ne_mp (m := w) (by assumption) (by assumption)))).trans (by first | assumption | exact upm_same _ _ _ | exact (upm_ne _ _ (by first | assumption | exact Ne.symm (by assumption) | omega | exact ne_mp (m := m) (by assumption) (by assumption) | exact Ne.symm (ne_mp (m := m) (by assumption) (by assumption)) | exact ne_mp (m := w) (by assumption) (by assumption) | exact Ne.symm (ne_mp (m := w) (by assumption) (by assumption)))).trans (by first | assumption | exact upm_same _ _ _ | exact (upm_ne _ _ (by first | assumption | exact Ne.symm (by assumption) | omega | exact ne_mp (m := m) (by assumption) (by assumption) | exact Ne.symm (ne_mp (m := m) (by assumption) (by assumption)) | exact ne_mp (m := w) (by assumption) (by assumption) | exact Ne.symm (ne_mp (m := w) (by assumption) (by assumption)))).trans (by first | assumption | exact upm_same _ _ _))))) rfl) rfl ?_
        refine z_astore_n (i := 3) (q := 29) hX dX2_characters_28 rfl (Nat.le_of_ble_eq_true rfl) rfl rfl ?_
        refine z_iload_n (i := 1) (q := 30) hX dX2_characters_29 rfl rfl rfl ?_
        refine z_aload_n (i := 3) (q := 31) hX dX2_characters_30 rfl rfl rfl ?_
        refine z_V (ci := ciX5) (T := TX5) (N := 3) (na := 0) hX dX2_characters_31 (c_X5_length D A q2) rfl q1502 q1503 q1504 q115 q1505 (by decide +kernel) ⟨Nat.le_of_ble_eq_true rfl, Nat.le_of_ble_eq_true rfl⟩ rfl rfl (Nat.le_of_ble_eq_true rfl) rfl (by first | exact Nat.le_of_ble_eq_true rfl | (show _ + 0 ≤ 1; omega)) (by first | exact Nat.le_of_ble_eq_true rfl | (show _ + 0 ≤ 4; omega)) (fun H h => ⟨h, h.obE (Or.inl q3) rfl⟩) (fun E a => zT.no) (zPd.out ?_)
        show zG X (_ + 0) (_ + 0) _ 34 _ _
        refine z_iadd (q := 35) hX dX2_characters_34 rfl ?_
        refine z_istore_n (i := 1) (q := 36) hX dX2_characters_35 rfl (Nat.le_of_ble_eq_true rfl) rfl rfl ?_
        refine z_goto (t := 10) hX dX2_characters_36 (by decide) ?_
        exact zG.mono (ih hin _ _ _ (by rw [ev, hlen]; rfl)) (fun H h => by rw [upm_upm] at h; exact h)
    · have hiN : i = (M 0).toNat := by omega
      refine z_aload_n (i := 2) (q := 11) hX dX2_characters_10 rfl rfl rfl ?_
      refine z_F (x := ⟨"java/util/Iterator", "hasNext", "()Z"⟩) (ci := ciJ8) (T := TJ8) (N := 4) (na := 0) hX dX2_characters_11 (c_J8_hasNext D A (upm_same _ _ _) hw ⟨by omega, by omega⟩ (by omega)) rfl q285 q289 q291 q109 q293 (List.mem_of_getElem? (i := 0) rfl) (by decide +kernel) ⟨Nat.le_of_ble_eq_true rfl, Nat.le_of_ble_eq_true rfl⟩ rfl rfl (Nat.le_of_ble_eq_true rfl) rfl (by first | exact Nat.le_of_ble_eq_true rfl | (show _ + 0 ≤ 1; omega)) (by first | exact Nat.le_of_ble_eq_true rfl | (show _ + 0 ≤ 4; omega)) (fun H h => ⟨h, h.obE (Or.inr (upm_same _ _ _)) rfl⟩) (fun E a => zT.no) (zPd.out ?_)
      show zG X (_ + 0) (_ + 0) _ 16 _ _
      refine z_ifB_eq (q := 19) (t := 39) hX dX2_characters_16 (by decide) rfl (fun h16 => ?_) (fun h16 => ?_)
      · refine z_iload_n (i := 1) (q := 40) hX dX2_characters_39 rfl rfl rfl ?_
        exact z_iret hX dX2_characters_40 (by first | exact Nat.le_of_ble_eq_true rfl | (show (_ : Nat) ≤ 1; omega)) (by first | exact Nat.le_of_ble_eq_true rfl | (show (_ : Nat) ≤ 4; omega)) rfl (fun H h => ⟨e, by rw [ev, hiN]; rfl, trivial, by have h2 := h.del e; rw [dlm_upm _ _ hme] at h2; exact h2⟩)
      · exact absurd h16 (by simp; omega)
  refine z_iconst (q := 1) hX dX2_characters_0 rfl ?_
  refine z_istore_n (i := 1) (q := 2) hX dX2_characters_1 rfl (Nat.le_of_ble_eq_true rfl) rfl rfl ?_
  refine z_aload_n (i := 0) (q := 3) hX dX2_characters_2 rfl rfl rfl ?_
  refine zr_get (C := RX2) (T := TX2) (N := 4) (q := 6) hX ciX2 0 rfl (by decide) in_X2 dX2_characters_3 q203 (Or.inl rfl) (fun H h => cI.rd h (by first | assumption | exact Or.inl (by assumption) | exact Or.inr (by first | assumption | exact upm_same _ _ _ | exact (upm_ne _ _ (by first | assumption | exact Ne.symm (by assumption) | omega | exact ne_mp (m := m) (by assumption) (by assumption) | exact Ne.symm (ne_mp (m := m) (by assumption) (by assumption)) | exact ne_mp (m := w) (by assumption) (by assumption) | exact Ne.symm (ne_mp (m := w) (by assumption) (by assumption)))).trans (by first | assumption | exact upm_same _ _ _ | exact (upm_ne _ _ (by first | assumption | exact Ne.symm (by assumption) | omega | exact ne_mp (m := m) (by assumption) (by assumption) | exact Ne.symm (ne_mp (m := m) (by assumption) (by assumption)) | exact ne_mp (m := w) (by assumption) (by assumption) | exact Ne.symm (ne_mp (m := w) (by assumption) (by assumption)))).trans (by first | assumption | exact upm_same _ _ _ | exact (upm_ne _ _ (by first | assumption | exact Ne.symm (by assumption) | omega | exact ne_mp (m := m) (by assumption) (by assumption) | exact Ne.symm (ne_mp (m := m) (by assumption) (by assumption)) | exact ne_mp (m := w) (by assumption) (by assumption) | exact Ne.symm (ne_mp (m := w) (by assumption) (by assumption)))).trans (by first | assumption | exact upm_same _ _ _))))) rfl (by decide) rfl) rfl ?_
  refine z_V (ci := ciJ2) (T := TJ2) (N := 3) (na := 0) hX dX2_characters_6 (c_J2_iterator D A hw) rfl q261 q262 q263 q101 q264 (by decide +kernel) ⟨Nat.le_of_ble_eq_true rfl, Nat.le_of_ble_eq_true rfl⟩ rfl rfl (Nat.le_of_ble_eq_true rfl) rfl (by first | exact Nat.le_of_ble_eq_true rfl | (show _ + 1 ≤ 1; omega)) (by first | exact Nat.le_of_ble_eq_true rfl | (show _ + 4 ≤ 4; omega)) (fun H h => ⟨h, h.obL (Or.inl hw)⟩) (fun E a => zT.no) (zPe.out (fun x6 hx6 => ?_))
  show zG X (_ + 1) (_ + 4) _ 9 _ _
  refine z_astore_n (i := 2) (q := 10) hX dX2_characters_9 rfl (Nat.le_of_ble_eq_true rfl) rfl rfl ?_
  obtain ⟨g1, g2⟩ := hx6
  exact K x6 g2 0 (Nat.zero_le _) 0 _ _ rfl
