/-! THE CLASS: Column -/
set_option maxRecDepth 100000
/-- a column: n tokens, of texts c -/
def wCol (D : zD) (w m : zMp) (a ta n : Nat) (f : Nat → Option Nat) (c : Int → zS) : Prop := m a = some (eO ciX3 [.ref ta, zI n]) ∧ m ta = some (eC (aQ D 6 40 f)) ∧ n ≤ 40 ∧ ∀ r : Nat, r < n → ∃ x, f r = some x ∧ wTok w x (c r)
theorem wCol.le {D : zD} {w w2 m : zMp} {a ta n : Nat} {f : Nat → Option Nat} {c : Int → zS} (h : wCol D w m a ta n f c) (hl : zLe w w2) : wCol D w2 m a ta n f c := ⟨h.1, h.2.1, h.2.2.1, fun r hr => by
  obtain ⟨x, h1, h2⟩ := h.2.2.2 r hr
  exact ⟨x, h1, h2.le hl⟩⟩
theorem wCol.cg {D : zD} {w m : zMp} {a ta n : Nat} {f : Nat → Option Nat} {c c2 : Int → zS} (h : wCol D w m a ta n f c) (hc : ∀ r : Nat, r < n → c r = c2 r) : wCol D w m a ta n f c2 := ⟨h.1, h.2.1, h.2.2.1, fun r hr => by
  obtain ⟨x, h1, h2⟩ := h.2.2.2 r hr
  exact ⟨x, h1, by rw [← hc r hr]; exact h2⟩⟩
theorem wTok.it {w : zMp} {a : Nat} {s : zS} (h : wTok w a s) : ∃ fs, w a = some (eO ciX6 fs) := by
  obtain ⟨h0, t, h1, h2⟩ := h
  exact ⟨_, h1⟩
abbrev rmX3_first : Room := { frames := 3, cells := 0, slots := 0, locals := 65 }
set_option maxHeartbeats 4000000 in
theorem c_X3_first (D : zD) (A : Nat → Prop) {w m : zMp} {b : Nat} {ta n r : Nat} {f : Nat → Option Nat} {c : Int → zS} (hc : wCol D w m b ta n f c) (hr : r < n) : zC D yX3_first cX3_first 3 (some .int) none rmX3_first A [.ref b, zI ((r : Int))] (cI D A w m) (zPd (zI (fstI c r)) (cI D A w m)) (zNo) := by
  refine zC_start (L := [some (.ref b), some (zI ((r : Int))), none]) (by decide) (Nat.le_of_ble_eq_true rfl) rfl (fun X hX => ?_)
  obtain ⟨h1, h2, h3, h4⟩ := hc
  obtain ⟨x, hx1, hx2⟩ := h4 r hr
  have K : ∀ i : Nat, i ≤ r → (∀ j : Nat, j < i → c j ≠ c r) → ∀ p : Int, p = i → zG X 0 0 (cI D A w m) 2 [some (.ref b), some (zI ((r : Int))), some (zI (p))] [] := by
    refine z_up (fun i hi ih hb p ep => ?_)
    subst ep
    obtain ⟨y, hy1, hy2⟩ := h4 i (by omega)
    obtain ⟨fs, hy3⟩ := hy2.it
    refine z_aload_n (i := 0) (q := 3) hX dX3_first_2 rfl rfl rfl ?_
    refine zr_get (C := RX3) (T := TX3) (N := 2) (q := 6) hX ciX3 0 rfl (by decide) in_X3 dX3_first_3 q194 (Or.inl rfl) (fun H h => cI.rd h (by first | assumption | exact Or.inl (by assumption) | exact Or.inr (by first | assumption | exact upm_same _ _ _ | exact (upm_ne _ _ (by first | assumption | exact Ne.symm (by assumption) | omega | exact ne_mp (m := m) (by assumption) (by assumption) | exact Ne.symm (ne_mp (m := m) (by assumption) (by assumption)) | exact ne_mp (m := w) (by assumption) (by assumption) | exact Ne.symm (ne_mp (m := w) (by assumption) (by assumption)))).trans (by first | assumption | exact upm_same _ _ _ | exact (upm_ne _ _ (by first | assumption | exact Ne.symm (by assumption) | omega | exact ne_mp (m := m) (by assumption) (by assumption) | exact Ne.symm (ne_mp (m := m) (by assumption) (by assumption)) | exact ne_mp (m := w) (by assumption) (by assumption) | exact Ne.symm (ne_mp (m := w) (by assumption) (by assumption)))).trans (by first | assumption | exact upm_same _ _ _ | exact (upm_ne _ _ (by first | assumption | exact Ne.symm (by assumption) | omega | exact ne_mp (m := m) (by assumption) (by assumption) | exact Ne.symm (ne_mp (m := m) (by assumption) (by assumption)) | exact ne_mp (m := w) (by assumption) (by assumption) | exact Ne.symm (ne_mp (m := w) (by assumption) (by assumption)))).trans (by first | assumption | exact upm_same _ _ _))))) rfl (by decide) rfl) rfl ?_
    refine z_iload_n (i := 2) (q := 7) hX dX3_first_6 rfl rfl rfl ?_
    refine zr_aald (q := 8) hX 6 rfl dX3_first_7 (fun H h => (cI.at h (by first | assumption | exact Or.inl (by assumption) | exact Or.inr (by first | assumption | exact upm_same _ _ _ | exact (upm_ne _ _ (by first | assumption | exact Ne.symm (by assumption) | omega | exact ne_mp (m := m) (by assumption) (by assumption) | exact Ne.symm (ne_mp (m := m) (by assumption) (by assumption)) | exact ne_mp (m := w) (by assumption) (by assumption) | exact Ne.symm (ne_mp (m := w) (by assumption) (by assumption)))).trans (by first | assumption | exact upm_same _ _ _ | exact (upm_ne _ _ (by first | assumption | exact Ne.symm (by assumption) | omega | exact ne_mp (m := m) (by assumption) (by assumption) | exact Ne.symm (ne_mp (m := m) (by assumption) (by assumption)) | exact ne_mp (m := w) (by assumption) (by assumption) | exact Ne.symm (ne_mp (m := w) (by assumption) (by assumption)))).trans (by first | assumption | exact upm_same _ _ _ | exact (upm_ne _ _ (by first | assumption | exact Ne.symm (by assumption) | omega | exact ne_mp (m := m) (by assumption) (by assumption) | exact Ne.symm (ne_mp (m := m) (by assumption) (by assumption)) | exact ne_mp (m := w) (by assumption) (by assumption) | exact Ne.symm (ne_mp (m := w) (by assumption) (by assumption)))).trans (by first | assumption | exact upm_same _ _ _)))))).raQ) ⟨by omega, by omega⟩ (by first | decide | omega) rfl ?_
    refine zG.top (v2 := .ref y) (by show va_rf (f ((i : Int)).toNat) = _; rw [Int.toNat_natCast, hy1]; rfl) ?_
    refine z_aload_n (i := 0) (q := 9) hX dX3_first_8 rfl rfl rfl ?_
    refine zr_get (C := RX3) (T := TX3) (N := 2) (q := 12) hX ciX3 0 rfl (by decide) in_X3 dX3_first_9 q194 (Or.inl rfl) (fun H h => cI.rd h (by first | assumption | exact Or.inl (by assumption) | exact Or.inr (by first | assumption | exact upm_same _ _ _ | exact (upm_ne _ _ (by first | assumption | exact Ne.symm (by assumption) | omega | exact ne_mp (m := m) (by assumption) (by assumption) | exact Ne.symm (ne_mp (m := m) (by assumption) (by assumption)) | exact ne_mp (m := w) (by assumption) (by assumption) | exact Ne.symm (ne_mp (m := w) (by assumption) (by assumption)))).trans (by first | assumption | exact upm_same _ _ _ | exact (upm_ne _ _ (by first | assumption | exact Ne.symm (by assumption) | omega | exact ne_mp (m := m) (by assumption) (by assumption) | exact Ne.symm (ne_mp (m := m) (by assumption) (by assumption)) | exact ne_mp (m := w) (by assumption) (by assumption) | exact Ne.symm (ne_mp (m := w) (by assumption) (by assumption)))).trans (by first | assumption | exact upm_same _ _ _ | exact (upm_ne _ _ (by first | assumption | exact Ne.symm (by assumption) | omega | exact ne_mp (m := m) (by assumption) (by assumption) | exact Ne.symm (ne_mp (m := m) (by assumption) (by assumption)) | exact ne_mp (m := w) (by assumption) (by assumption) | exact Ne.symm (ne_mp (m := w) (by assumption) (by assumption)))).trans (by first | assumption | exact upm_same _ _ _))))) rfl (by decide) rfl) rfl ?_
    refine z_iload_n (i := 1) (q := 13) hX dX3_first_12 rfl rfl rfl ?_
    refine zr_aald (q := 14) hX 6 rfl dX3_first_13 (fun H h => (cI.at h (by first | assumption | exact Or.inl (by assumption) | exact Or.inr (by first | assumption | exact upm_same _ _ _ | exact (upm_ne _ _ (by first | assumption | exact Ne.symm (by assumption) | omega | exact ne_mp (m := m) (by assumption) (by assumption) | exact Ne.symm (ne_mp (m := m) (by assumption) (by assumption)) | exact ne_mp (m := w) (by assumption) (by assumption) | exact Ne.symm (ne_mp (m := w) (by assumption) (by assumption)))).trans (by first | assumption | exact upm_same _ _ _ | exact (upm_ne _ _ (by first | assumption | exact Ne.symm (by assumption) | omega | exact ne_mp (m := m) (by assumption) (by assumption) | exact Ne.symm (ne_mp (m := m) (by assumption) (by assumption)) | exact ne_mp (m := w) (by assumption) (by assumption) | exact Ne.symm (ne_mp (m := w) (by assumption) (by assumption)))).trans (by first | assumption | exact upm_same _ _ _ | exact (upm_ne _ _ (by first | assumption | exact Ne.symm (by assumption) | omega | exact ne_mp (m := m) (by assumption) (by assumption) | exact Ne.symm (ne_mp (m := m) (by assumption) (by assumption)) | exact ne_mp (m := w) (by assumption) (by assumption) | exact Ne.symm (ne_mp (m := w) (by assumption) (by assumption)))).trans (by first | assumption | exact upm_same _ _ _)))))).raQ) ⟨by omega, by omega⟩ (by first | decide | omega) rfl ?_
    refine zG.top (v2 := .ref x) (by show va_rf (f ((r : Int)).toNat) = _; rw [Int.toNat_natCast, hx1]; rfl) ?_
    refine z_V (ci := ciX6) (T := TX6) (N := 2) (na := 1) hX dX3_first_14 (c_X6_isLike D A hy2 hx2) rfl q592 q593 q594 q123 q595 (by decide +kernel) ⟨Nat.le_of_ble_eq_true rfl, Nat.le_of_ble_eq_true rfl⟩ rfl rfl (Nat.le_of_ble_eq_true rfl) rfl (by first | exact Nat.le_of_ble_eq_true rfl | (show _ + 0 ≤ 0; omega)) (by first | exact Nat.le_of_ble_eq_true rfl | (show _ + 0 ≤ 0; omega)) (fun H h => ⟨h, h.obE (Or.inl hy3) rfl⟩) (fun E a => zT.no) (zPd.out ?_)
    show zG X (_ + 0) (_ + 0) _ 17 _ _
    refine z_ifB_ne (q := 20) (t := 26) hX dX3_first_17 (by decide) rfl (fun h17 => ?_) (fun h17 => ?_)
    · refine z_iload_n (i := 2) (q := 27) hX dX3_first_26 rfl rfl rfl ?_
      exact z_iret hX dX3_first_27 (by first | exact Nat.le_of_ble_eq_true rfl | (show (_ : Nat) ≤ 0; omega)) (by first | exact Nat.le_of_ble_eq_true rfl | (show (_ : Nat) ≤ 0; omega)) rfl (fun H h => ⟨congrArg (fun z => some (zI z)) ((by rw [fstI_eq (n := i) (by omega) hb (of_decide_eq_true h17)])), h⟩)
    · refine z_iinc (q := 23) hX dX3_first_20 rfl (Nat.le_of_ble_eq_true rfl) rfl rfl ?_
      have hne := of_decide_eq_false h17
      refine z_goto (t := 2) hX dX3_first_23 (by decide) ?_
      have hlt : i < r := by
        rcases Nat.lt_or_ge i r with q | q
        · exact q
        · exact absurd (by rw [show i = r by omega]) hne
      refine ih hlt (fun j hj => ?_) _ rfl
      by_cases e : j = i
      · rw [e]; exact hne
      · exact hb j (by omega)
  refine z_iconst (q := 1) hX dX3_first_0 rfl ?_
  refine z_istore_n (i := 2) (q := 2) hX dX3_first_1 rfl (Nat.le_of_ble_eq_true rfl) rfl rfl ?_
  exact K 0 (Nat.zero_le _) (fun j hj => absurd hj (Nat.not_lt_zero j)) 0 rfl
abbrev rmX3_isFirst : Room := { frames := 4, cells := 0, slots := 0, locals := 87 }
set_option maxHeartbeats 4000000 in
theorem c_X3_isFirst (D : zD) (A : Nat → Prop) {w m : zMp} {b : Nat} {ta n r : Nat} {f : Nat → Option Nat} {c : Int → zS} (hc : wCol D w m b ta n f c) (hr : r < n) : zC D yX3_isFirst cX3_isFirst 2 (some .boolean) none rmX3_isFirst A [.ref b, zI ((r : Int))] (cI D A w m) (zPd (zI (bi (decide (fstI c r = r)))) (cI D A w m)) (zNo) := by
  refine zC_start (L := [some (.ref b), some (zI ((r : Int)))]) (by decide) (Nat.le_of_ble_eq_true rfl) rfl (fun X hX => ?_)
  have h1 := hc.1
  have h3 := hc.2.2.1
  have hf := fstI_le c (r := (r : Int)) (by omega)
  refine z_aload_n (i := 0) (q := 1) hX dX3_isFirst_0 rfl rfl rfl ?_
  refine z_iload_n (i := 1) (q := 2) hX dX3_isFirst_1 rfl rfl rfl ?_
  refine z_V (ci := ciX3) (T := TX3) (N := 2) (na := 1) hX dX3_isFirst_2 (c_X3_first D A hc hr) rfl q588 q590 qs8 q102 q591 (by decide +kernel) ⟨Nat.le_of_ble_eq_true rfl, Nat.le_of_ble_eq_true rfl⟩ rfl rfl (Nat.le_of_ble_eq_true rfl) rfl (by first | exact Nat.le_of_ble_eq_true rfl | (show _ + 0 ≤ 0; omega)) (by first | exact Nat.le_of_ble_eq_true rfl | (show _ + 0 ≤ 0; omega)) (fun H h => ⟨h, cI.obE h (by first | assumption | exact Or.inl (by assumption) | exact Or.inr (by first | assumption | exact upm_same _ _ _ | exact (upm_ne _ _ (by first | assumption | exact Ne.symm (by assumption) | omega | exact ne_mp (m := m) (by assumption) (by assumption) | exact Ne.symm (ne_mp (m := m) (by assumption) (by assumption)) | exact ne_mp (m := w) (by assumption) (by assumption) | exact Ne.symm (ne_mp (m := w) (by assumption) (by assumption)))).trans (by first | assumption | exact upm_same _ _ _ | exact (upm_ne _ _ (by first | assumption | exact Ne.symm (by assumption) | omega | exact ne_mp (m := m) (by assumption) (by assumption) | exact Ne.symm (ne_mp (m := m) (by assumption) (by assumption)) | exact ne_mp (m := w) (by assumption) (by assumption) | exact Ne.symm (ne_mp (m := w) (by assumption) (by assumption)))).trans (by first | assumption | exact upm_same _ _ _ | exact (upm_ne _ _ (by first | assumption | exact Ne.symm (by assumption) | omega | exact ne_mp (m := m) (by assumption) (by assumption) | exact Ne.symm (ne_mp (m := m) (by assumption) (by assumption)) | exact ne_mp (m := w) (by assumption) (by assumption) | exact Ne.symm (ne_mp (m := w) (by assumption) (by assumption)))).trans (by first | assumption | exact upm_same _ _ _))))) rfl⟩) (fun E a => zT.no) (zPd.out ?_)
  show zG X (_ + 0) (_ + 0) _ 5 _ _
  refine z_iload_n (i := 1) (q := 6) hX dX3_isFirst_5 rfl rfl rfl ?_
  refine z_icmp_ne (q := 9) (t := 13) hX dX3_isFirst_6 (by decide) ⟨by omega, by omega⟩ ⟨by omega, by omega⟩ rfl (fun h6 => ?_) (fun h6 => ?_)
  · refine z_iconst (q := 14) hX dX3_isFirst_13 rfl ?_
    exact z_zret hX dX3_isFirst_14 (by first | exact Nat.le_of_ble_eq_true rfl | (show (_ : Nat) ≤ 0; omega)) (by first | exact Nat.le_of_ble_eq_true rfl | (show (_ : Nat) ≤ 0; omega)) rfl (by first | decide | omega) (fun H h => ⟨congrArg (fun z => some (zI z)) ((by rw [decide_eq_false h6]; rfl)), h⟩)
  · refine z_iconst (q := 10) hX dX3_isFirst_9 rfl ?_
    refine z_goto (t := 14) hX dX3_isFirst_10 (by decide) ?_
    exact z_zret hX dX3_isFirst_14 (by first | exact Nat.le_of_ble_eq_true rfl | (show (_ : Nat) ≤ 0; omega)) (by first | exact Nat.le_of_ble_eq_true rfl | (show (_ : Nat) ≤ 0; omega)) rfl (by first | decide | omega) (fun H h => ⟨congrArg (fun z => some (zI z)) ((by rw [decide_eq_true (Decidable.not_not.mp h6)]; rfl)), h⟩)
abbrev rmX3_beginsRun : Room := { frames := 3, cells := 0, slots := 0, locals := 65 }
set_option maxHeartbeats 4000000 in
theorem c_X3_beginsRun (D : zD) (A : Nat → Prop) {w m : zMp} {b : Nat} {ta n r : Nat} {f : Nat → Option Nat} {c : Int → zS} (hc : wCol D w m b ta n f c) (hr : r < n) : zC D yX3_beginsRun cX3_beginsRun 2 (some .boolean) none rmX3_beginsRun A [.ref b, zI ((r : Int))] (cI D A w m) (zPd (zI (bi (beg c r))) (cI D A w m)) (zNo) := by
  refine zC_start (L := [some (.ref b), some (zI ((r : Int)))]) (by decide) (Nat.le_of_ble_eq_true rfl) rfl (fun X hX => ?_)
  obtain ⟨h1, h2, h3, h4⟩ := hc
  obtain ⟨x, hx1, hx2⟩ := h4 r hr
  obtain ⟨fs, hx3⟩ := hx2.it
  by_cases hr0 : r = 0
  · subst hr0
    refine z_iload_n (i := 1) (q := 1) hX dX3_beginsRun_0 rfl rfl rfl ?_
    refine z_if_eq (q := 4) (t := 24) hX dX3_beginsRun_1 (by decide) (by decide) rfl (fun h1 => ?_) (fun h1 => ?_)
    · refine z_iconst (q := 25) hX dX3_beginsRun_24 rfl ?_
      refine z_goto (t := 29) hX dX3_beginsRun_25 (by decide) ?_
      exact z_zret hX dX3_beginsRun_29 (by first | exact Nat.le_of_ble_eq_true rfl | (show (_ : Nat) ≤ 0; omega)) (by first | exact Nat.le_of_ble_eq_true rfl | (show (_ : Nat) ≤ 0; omega)) rfl (by first | decide | omega) (fun H h => ⟨rfl, h⟩)
    · exact absurd rfl h1
  · obtain ⟨q, hq⟩ : ∃ q : Nat, r = q + 1 := ⟨r - 1, by omega⟩
    obtain ⟨y, hy1, hy2⟩ := h4 q (by omega)
    have e9 : beg c (r : Int) = !decide (c r = c (q : Int)) := by
      unfold beg
      rw [decide_eq_false (by omega), Bool.false_or, show (r : Int) - 1 = (q : Int) by omega]
      congr 1
      exact decide_eq_decide.mpr ⟨fun z => z.symm, fun z => z.symm⟩
    refine z_iload_n (i := 1) (q := 1) hX dX3_beginsRun_0 rfl rfl rfl ?_
    refine z_if_eq (q := 4) (t := 24) hX dX3_beginsRun_1 (by decide) ⟨by omega, by omega⟩ rfl (fun h1 => ?_) (fun h1 => ?_)
    · exact absurd h1 (by omega)
    · refine z_aload_n (i := 0) (q := 5) hX dX3_beginsRun_4 rfl rfl rfl ?_
      refine zr_get (C := RX3) (T := TX3) (N := 2) (q := 8) hX ciX3 0 rfl (by decide) in_X3 dX3_beginsRun_5 q194 (Or.inl rfl) (fun H h => cI.rd h (by first | assumption | exact Or.inl (by assumption) | exact Or.inr (by first | assumption | exact upm_same _ _ _ | exact (upm_ne _ _ (by first | assumption | exact Ne.symm (by assumption) | omega | exact ne_mp (m := m) (by assumption) (by assumption) | exact Ne.symm (ne_mp (m := m) (by assumption) (by assumption)) | exact ne_mp (m := w) (by assumption) (by assumption) | exact Ne.symm (ne_mp (m := w) (by assumption) (by assumption)))).trans (by first | assumption | exact upm_same _ _ _ | exact (upm_ne _ _ (by first | assumption | exact Ne.symm (by assumption) | omega | exact ne_mp (m := m) (by assumption) (by assumption) | exact Ne.symm (ne_mp (m := m) (by assumption) (by assumption)) | exact ne_mp (m := w) (by assumption) (by assumption) | exact Ne.symm (ne_mp (m := w) (by assumption) (by assumption)))).trans (by first | assumption | exact upm_same _ _ _ | exact (upm_ne _ _ (by first | assumption | exact Ne.symm (by assumption) | omega | exact ne_mp (m := m) (by assumption) (by assumption) | exact Ne.symm (ne_mp (m := m) (by assumption) (by assumption)) | exact ne_mp (m := w) (by assumption) (by assumption) | exact Ne.symm (ne_mp (m := w) (by assumption) (by assumption)))).trans (by first | assumption | exact upm_same _ _ _))))) rfl (by decide) rfl) rfl ?_
      refine z_iload_n (i := 1) (q := 9) hX dX3_beginsRun_8 rfl rfl rfl ?_
      refine zr_aald (q := 10) hX 6 rfl dX3_beginsRun_9 (fun H h => (cI.at h (by first | assumption | exact Or.inl (by assumption) | exact Or.inr (by first | assumption | exact upm_same _ _ _ | exact (upm_ne _ _ (by first | assumption | exact Ne.symm (by assumption) | omega | exact ne_mp (m := m) (by assumption) (by assumption) | exact Ne.symm (ne_mp (m := m) (by assumption) (by assumption)) | exact ne_mp (m := w) (by assumption) (by assumption) | exact Ne.symm (ne_mp (m := w) (by assumption) (by assumption)))).trans (by first | assumption | exact upm_same _ _ _ | exact (upm_ne _ _ (by first | assumption | exact Ne.symm (by assumption) | omega | exact ne_mp (m := m) (by assumption) (by assumption) | exact Ne.symm (ne_mp (m := m) (by assumption) (by assumption)) | exact ne_mp (m := w) (by assumption) (by assumption) | exact Ne.symm (ne_mp (m := w) (by assumption) (by assumption)))).trans (by first | assumption | exact upm_same _ _ _ | exact (upm_ne _ _ (by first | assumption | exact Ne.symm (by assumption) | omega | exact ne_mp (m := m) (by assumption) (by assumption) | exact Ne.symm (ne_mp (m := m) (by assumption) (by assumption)) | exact ne_mp (m := w) (by assumption) (by assumption) | exact Ne.symm (ne_mp (m := w) (by assumption) (by assumption)))).trans (by first | assumption | exact upm_same _ _ _)))))).raQ) ⟨by omega, by omega⟩ (by first | decide | omega) rfl ?_
      refine zG.top (v2 := .ref x) (by show va_rf (f ((r : Int)).toNat) = _; rw [Int.toNat_natCast, hx1]; rfl) ?_
      refine z_aload_n (i := 0) (q := 11) hX dX3_beginsRun_10 rfl rfl rfl ?_
      refine zr_get (C := RX3) (T := TX3) (N := 2) (q := 14) hX ciX3 0 rfl (by decide) in_X3 dX3_beginsRun_11 q194 (Or.inl rfl) (fun H h => cI.rd h (by first | assumption | exact Or.inl (by assumption) | exact Or.inr (by first | assumption | exact upm_same _ _ _ | exact (upm_ne _ _ (by first | assumption | exact Ne.symm (by assumption) | omega | exact ne_mp (m := m) (by assumption) (by assumption) | exact Ne.symm (ne_mp (m := m) (by assumption) (by assumption)) | exact ne_mp (m := w) (by assumption) (by assumption) | exact Ne.symm (ne_mp (m := w) (by assumption) (by assumption)))).trans (by first | assumption | exact upm_same _ _ _ | exact (upm_ne _ _ (by first | assumption | exact Ne.symm (by assumption) | omega | exact ne_mp (m := m) (by assumption) (by assumption) | exact Ne.symm (ne_mp (m := m) (by assumption) (by assumption)) | exact ne_mp (m := w) (by assumption) (by assumption) | exact Ne.symm (ne_mp (m := w) (by assumption) (by assumption)))).trans (by first | assumption | exact upm_same _ _ _ | exact (upm_ne _ _ (by first | assumption | exact Ne.symm (by assumption) | omega | exact ne_mp (m := m) (by assumption) (by assumption) | exact Ne.symm (ne_mp (m := m) (by assumption) (by assumption)) | exact ne_mp (m := w) (by assumption) (by assumption) | exact Ne.symm (ne_mp (m := w) (by assumption) (by assumption)))).trans (by first | assumption | exact upm_same _ _ _))))) rfl (by decide) rfl) rfl ?_
      refine z_iload_n (i := 1) (q := 15) hX dX3_beginsRun_14 rfl rfl rfl ?_
      refine z_iconst (q := 16) hX dX3_beginsRun_15 rfl ?_
      refine z_isub (q := 17) hX dX3_beginsRun_16 rfl ?_
      rw [show (r : Int) - 1 = (q : Int) by omega]
      refine zr_aald (q := 18) hX 6 rfl dX3_beginsRun_17 (fun H h => (cI.at h (by first | assumption | exact Or.inl (by assumption) | exact Or.inr (by first | assumption | exact upm_same _ _ _ | exact (upm_ne _ _ (by first | assumption | exact Ne.symm (by assumption) | omega | exact ne_mp (m := m) (by assumption) (by assumption) | exact Ne.symm (ne_mp (m := m) (by assumption) (by assumption)) | exact ne_mp (m := w) (by assumption) (by assumption) | exact Ne.symm (ne_mp (m := w) (by assumption) (by assumption)))).trans (by first | assumption | exact upm_same _ _ _ | exact (upm_ne _ _ (by first | assumption | exact Ne.symm (by assumption) | omega | exact ne_mp (m := m) (by assumption) (by assumption) | exact Ne.symm (ne_mp (m := m) (by assumption) (by assumption)) | exact ne_mp (m := w) (by assumption) (by assumption) | exact Ne.symm (ne_mp (m := w) (by assumption) (by assumption)))).trans (by first | assumption | exact upm_same _ _ _ | exact (upm_ne _ _ (by first | assumption | exact Ne.symm (by assumption) | omega | exact ne_mp (m := m) (by assumption) (by assumption) | exact Ne.symm (ne_mp (m := m) (by assumption) (by assumption)) | exact ne_mp (m := w) (by assumption) (by assumption) | exact Ne.symm (ne_mp (m := w) (by assumption) (by assumption)))).trans (by first | assumption | exact upm_same _ _ _)))))).raQ) ⟨by omega, by omega⟩ (by first | decide | omega) rfl ?_
      refine zG.top (v2 := .ref y) (by show va_rf (f ((q : Int)).toNat) = _; rw [Int.toNat_natCast, hy1]; rfl) ?_
      refine z_V (ci := ciX6) (T := TX6) (N := 2) (na := 1) hX dX3_beginsRun_18 (c_X6_isLike D A hx2 hy2) rfl q592 q593 q594 q123 q595 (by decide +kernel) ⟨Nat.le_of_ble_eq_true rfl, Nat.le_of_ble_eq_true rfl⟩ rfl rfl (Nat.le_of_ble_eq_true rfl) rfl (by first | exact Nat.le_of_ble_eq_true rfl | (show _ + 0 ≤ 0; omega)) (by first | exact Nat.le_of_ble_eq_true rfl | (show _ + 0 ≤ 0; omega)) (fun H h => ⟨h, h.obE (Or.inl hx3) rfl⟩) (fun E a => zT.no) (zPd.out ?_)
      show zG X (_ + 0) (_ + 0) _ 21 _ _
      refine z_ifB_ne (q := 24) (t := 28) hX dX3_beginsRun_21 (by decide) rfl (fun h21 => ?_) (fun h21 => ?_)
      · refine z_iconst (q := 29) hX dX3_beginsRun_28 rfl ?_
        exact z_zret hX dX3_beginsRun_29 (by first | exact Nat.le_of_ble_eq_true rfl | (show (_ : Nat) ≤ 0; omega)) (by first | exact Nat.le_of_ble_eq_true rfl | (show (_ : Nat) ≤ 0; omega)) rfl (by first | decide | omega) (fun H h => ⟨congrArg (fun z => some (zI z)) ((by rw [e9, h21]; rfl)), h⟩)
      · refine z_iconst (q := 25) hX dX3_beginsRun_24 rfl ?_
        refine z_goto (t := 29) hX dX3_beginsRun_25 (by decide) ?_
        exact z_zret hX dX3_beginsRun_29 (by first | exact Nat.le_of_ble_eq_true rfl | (show (_ : Nat) ≤ 0; omega)) (by first | exact Nat.le_of_ble_eq_true rfl | (show (_ : Nat) ≤ 0; omega)) rfl (by first | decide | omega) (fun H h => ⟨congrArg (fun z => some (zI z)) ((by rw [e9, h21]; rfl)), h⟩)
abbrev rmX3_code : Room := { frames := 5, cells := 0, slots := 0, locals := 108 }
set_option maxHeartbeats 4000000 in
theorem c_X3_code (D : zD) (A : Nat → Prop) {w m : zMp} {b : Nat} {ta n r : Nat} {f : Nat → Option Nat} {c : Int → zS} (hc : wCol D w m b ta n f c) (hr : r < n) : zC D yX3_code cX3_code 4 (some .int) none rmX3_code A [.ref b, zI ((r : Int))] (cI D A w m) (zPd (zI (dffI (fstI c r).toNat c)) (cI D A w m)) (zNo) := by
  refine zC_start (L := [some (.ref b), some (zI ((r : Int))), none, none]) (by decide) (Nat.le_of_ble_eq_true rfl) rfl (fun X hX => ?_)
  have h1 := hc.1
  have h3 := hc.2.2.1
  have hf := fstI_le c (r := (r : Int)) (by omega)
  have K : ∀ i : Nat, i ≤ (fstI c r).toNat → ∀ v p : Int, v = dffI i c → p = i → zG X 0 0 (cI D A w m) 4 [some (.ref b), some (zI ((r : Int))), some (zI (v)), some (zI (p))] [] := by
    refine z_up (fun i hi ih v p ev ep => ?_)
    subst ep
    refine z_iload_n (i := 3) (q := 5) hX dX3_code_4 rfl rfl rfl ?_
    refine z_aload_n (i := 0) (q := 6) hX dX3_code_5 rfl rfl rfl ?_
    refine z_iload_n (i := 1) (q := 7) hX dX3_code_6 rfl rfl rfl ?_
    refine z_V (ci := ciX3) (T := TX3) (N := 2) (na := 1) hX dX3_code_7 (c_X3_first D A hc hr) rfl q588 q590 qs8 q102 q591 (by decide +kernel) ⟨Nat.le_of_ble_eq_true rfl, Nat.le_of_ble_eq_true rfl⟩ rfl rfl (Nat.le_of_ble_eq_true rfl) rfl (by first | exact Nat.le_of_ble_eq_true rfl | (show _ + 0 ≤ 0; omega)) (by first | exact Nat.le_of_ble_eq_true rfl | (show _ + 0 ≤ 0; omega)) (fun H h => ⟨h, cI.obE h (by first | assumption | exact Or.inl (by assumption) | exact Or.inr (by first | assumption | exact upm_same _ _ _ | exact (upm_ne _ _ (by first | assumption | exact Ne.symm (by assumption) | omega | exact ne_mp (m := m) (by assumption) (by assumption) | exact Ne.symm (ne_mp (m := m) (by assumption) (by assumption)) | exact ne_mp (m := w) (by assumption) (by assumption) | exact Ne.symm (ne_mp (m := w) (by assumption) (by assumption)))).trans (by first | assumption | exact upm_same _ _ _ | exact (upm_ne _ _ (by first | assumption | exact Ne.symm (by assumption) | omega | exact ne_mp (m := m) (by assumption) (by assumption) | exact Ne.symm (ne_mp (m := m) (by assumption) (by assumption)) | exact ne_mp (m := w) (by assumption) (by assumption) | exact Ne.symm (ne_mp (m := w) (by assumption) (by assumption)))).trans (by first | assumption | exact upm_same _ _ _ | exact (upm_ne _ _ (by first | assumption | exact Ne.symm (by assumption) | omega | exact ne_mp (m := m) (by assumption) (by assumption) | exact Ne.symm (ne_mp (m := m) (by assumption) (by assumption)) | exact ne_mp (m := w) (by assumption) (by assumption) | exact Ne.symm (ne_mp (m := w) (by assumption) (by assumption)))).trans (by first | assumption | exact upm_same _ _ _))))) rfl⟩) (fun E a => zT.no) (zPd.out ?_)
    show zG X (_ + 0) (_ + 0) _ 10 _ _
    refine z_icmp_ge (q := 13) (t := 35) hX dX3_code_10 (by decide) ⟨by omega, by omega⟩ ⟨by omega, by omega⟩ rfl (fun h10 => ?_) (fun h10 => ?_)
    · refine z_iload_n (i := 2) (q := 36) hX dX3_code_35 rfl rfl rfl ?_
      exact z_iret hX dX3_code_36 (by first | exact Nat.le_of_ble_eq_true rfl | (show (_ : Nat) ≤ 0; omega)) (by first | exact Nat.le_of_ble_eq_true rfl | (show (_ : Nat) ≤ 0; omega)) rfl (fun H h => ⟨congrArg (fun z => some (zI z)) ((by rw [ev, show i = (fstI c r).toNat by omega])), h⟩)
    · refine z_iload_n (i := 2) (q := 14) hX dX3_code_13 rfl rfl rfl ?_
      refine z_aload_n (i := 0) (q := 15) hX dX3_code_14 rfl rfl rfl ?_
      refine z_iload_n (i := 3) (q := 16) hX dX3_code_15 rfl rfl rfl ?_
      refine z_V (ci := ciX3) (T := TX3) (N := 2) (na := 1) hX dX3_code_16 (c_X3_isFirst D A hc (by omega)) rfl q584 q586 qs7 q102 q587 (by decide +kernel) ⟨Nat.le_of_ble_eq_true rfl, Nat.le_of_ble_eq_true rfl⟩ rfl rfl (Nat.le_of_ble_eq_true rfl) rfl (by first | exact Nat.le_of_ble_eq_true rfl | (show _ + 0 ≤ 0; omega)) (by first | exact Nat.le_of_ble_eq_true rfl | (show _ + 0 ≤ 0; omega)) (fun H h => ⟨h, cI.obE h (by first | assumption | exact Or.inl (by assumption) | exact Or.inr (by first | assumption | exact upm_same _ _ _ | exact (upm_ne _ _ (by first | assumption | exact Ne.symm (by assumption) | omega | exact ne_mp (m := m) (by assumption) (by assumption) | exact Ne.symm (ne_mp (m := m) (by assumption) (by assumption)) | exact ne_mp (m := w) (by assumption) (by assumption) | exact Ne.symm (ne_mp (m := w) (by assumption) (by assumption)))).trans (by first | assumption | exact upm_same _ _ _ | exact (upm_ne _ _ (by first | assumption | exact Ne.symm (by assumption) | omega | exact ne_mp (m := m) (by assumption) (by assumption) | exact Ne.symm (ne_mp (m := m) (by assumption) (by assumption)) | exact ne_mp (m := w) (by assumption) (by assumption) | exact Ne.symm (ne_mp (m := w) (by assumption) (by assumption)))).trans (by first | assumption | exact upm_same _ _ _ | exact (upm_ne _ _ (by first | assumption | exact Ne.symm (by assumption) | omega | exact ne_mp (m := m) (by assumption) (by assumption) | exact Ne.symm (ne_mp (m := m) (by assumption) (by assumption)) | exact ne_mp (m := w) (by assumption) (by assumption) | exact Ne.symm (ne_mp (m := w) (by assumption) (by assumption)))).trans (by first | assumption | exact upm_same _ _ _))))) rfl⟩) (fun E a => zT.no) (zPd.out ?_)
      show zG X (_ + 0) (_ + 0) _ 19 _ _
      refine z_ifB_eq (q := 22) (t := 26) hX dX3_code_19 (by decide) rfl (fun h19 => ?_) (fun h19 => ?_)
      · refine z_iconst (q := 27) hX dX3_code_26 rfl ?_
        refine z_iadd (q := 28) hX dX3_code_27 rfl ?_
        refine z_istore_n (i := 2) (q := 29) hX dX3_code_28 rfl (Nat.le_of_ble_eq_true rfl) rfl rfl ?_
        refine z_iinc (q := 32) hX dX3_code_29 rfl (Nat.le_of_ble_eq_true rfl) rfl rfl ?_
        refine z_goto (t := 4) hX dX3_code_32 (by decide) ?_
        exact ih (by omega) _ _ (by rw [ev]; show _ = sumI _ i + bi (decide (fstI c (i : Int) = (i : Int))); rw [h19]; rfl) rfl
      · refine z_iconst (q := 23) hX dX3_code_22 rfl ?_
        refine z_goto (t := 27) hX dX3_code_23 (by decide) ?_
        refine z_iadd (q := 28) hX dX3_code_27 rfl ?_
        refine z_istore_n (i := 2) (q := 29) hX dX3_code_28 rfl (Nat.le_of_ble_eq_true rfl) rfl rfl ?_
        refine z_iinc (q := 32) hX dX3_code_29 rfl (Nat.le_of_ble_eq_true rfl) rfl rfl ?_
        refine z_goto (t := 4) hX dX3_code_32 (by decide) ?_
        exact ih (by omega) _ _ (by rw [ev]; show _ = sumI _ i + bi (decide (fstI c (i : Int) = (i : Int))); rw [h19]; rfl) rfl
  refine z_iconst (q := 1) hX dX3_code_0 rfl ?_
  refine z_istore_n (i := 2) (q := 2) hX dX3_code_1 rfl (Nat.le_of_ble_eq_true rfl) rfl rfl ?_
  refine z_iconst (q := 3) hX dX3_code_2 rfl ?_
  refine z_istore_n (i := 3) (q := 4) hX dX3_code_3 rfl (Nat.le_of_ble_eq_true rfl) rfl rfl ?_
  exact K 0 (Nat.zero_le _) 0 0 rfl rfl
abbrev rmX3_different : Room := { frames := 5, cells := 0, slots := 0, locals := 108 }
set_option maxHeartbeats 4000000 in
theorem c_X3_different (D : zD) (A : Nat → Prop) {w m : zMp} {b : Nat} {ta n : Nat} {f : Nat → Option Nat} {c : Int → zS} (hc : wCol D w m b ta n f c) : zC D yX3_different cX3_different 3 (some .int) none rmX3_different A [.ref b] (cI D A w m) (zPd (zI (dffI n c)) (cI D A w m)) (zNo) := by
  refine zC_start (L := [some (.ref b), none, none]) (by decide) (Nat.le_of_ble_eq_true rfl) rfl (fun X hX => ?_)
  have h1 := hc.1
  have h3 := hc.2.2.1
  have K : ∀ i : Nat, i ≤ n → ∀ v p : Int, v = dffI i c → p = i → zG X 0 0 (cI D A w m) 4 [some (.ref b), some (zI (v)), some (zI (p))] [] := by
    refine z_up (fun i hi ih v p ev ep => ?_)
    subst ep
    refine z_iload_n (i := 2) (q := 5) hX dX3_different_4 rfl rfl rfl ?_
    refine z_aload_n (i := 0) (q := 6) hX dX3_different_5 rfl rfl rfl ?_
    refine zr_get (C := RX3) (T := TX3) (N := 2) (q := 9) hX ciX3 1 rfl (by decide) in_X3 dX3_different_6 q196 (Or.inl rfl) (fun H h => cI.rd h (by first | assumption | exact Or.inl (by assumption) | exact Or.inr (by first | assumption | exact upm_same _ _ _ | exact (upm_ne _ _ (by first | assumption | exact Ne.symm (by assumption) | omega | exact ne_mp (m := m) (by assumption) (by assumption) | exact Ne.symm (ne_mp (m := m) (by assumption) (by assumption)) | exact ne_mp (m := w) (by assumption) (by assumption) | exact Ne.symm (ne_mp (m := w) (by assumption) (by assumption)))).trans (by first | assumption | exact upm_same _ _ _ | exact (upm_ne _ _ (by first | assumption | exact Ne.symm (by assumption) | omega | exact ne_mp (m := m) (by assumption) (by assumption) | exact Ne.symm (ne_mp (m := m) (by assumption) (by assumption)) | exact ne_mp (m := w) (by assumption) (by assumption) | exact Ne.symm (ne_mp (m := w) (by assumption) (by assumption)))).trans (by first | assumption | exact upm_same _ _ _ | exact (upm_ne _ _ (by first | assumption | exact Ne.symm (by assumption) | omega | exact ne_mp (m := m) (by assumption) (by assumption) | exact Ne.symm (ne_mp (m := m) (by assumption) (by assumption)) | exact ne_mp (m := w) (by assumption) (by assumption) | exact Ne.symm (ne_mp (m := w) (by assumption) (by assumption)))).trans (by first | assumption | exact upm_same _ _ _))))) rfl (by decide) rfl) rfl ?_
    refine z_icmp_ge (q := 12) (t := 34) hX dX3_different_9 (by decide) ⟨by omega, by omega⟩ ⟨by omega, by omega⟩ rfl (fun h9 => ?_) (fun h9 => ?_)
    · refine z_iload_n (i := 1) (q := 35) hX dX3_different_34 rfl rfl rfl ?_
      exact z_iret hX dX3_different_35 (by first | exact Nat.le_of_ble_eq_true rfl | (show (_ : Nat) ≤ 0; omega)) (by first | exact Nat.le_of_ble_eq_true rfl | (show (_ : Nat) ≤ 0; omega)) rfl (fun H h => ⟨congrArg (fun z => some (zI z)) ((by rw [ev, show i = n by omega])), h⟩)
    · refine z_iload_n (i := 1) (q := 13) hX dX3_different_12 rfl rfl rfl ?_
      refine z_aload_n (i := 0) (q := 14) hX dX3_different_13 rfl rfl rfl ?_
      refine z_iload_n (i := 2) (q := 15) hX dX3_different_14 rfl rfl rfl ?_
      refine z_V (ci := ciX3) (T := TX3) (N := 2) (na := 1) hX dX3_different_15 (c_X3_isFirst D A hc (by omega)) rfl q584 q586 qs7 q102 q587 (by decide +kernel) ⟨Nat.le_of_ble_eq_true rfl, Nat.le_of_ble_eq_true rfl⟩ rfl rfl (Nat.le_of_ble_eq_true rfl) rfl (by first | exact Nat.le_of_ble_eq_true rfl | (show _ + 0 ≤ 0; omega)) (by first | exact Nat.le_of_ble_eq_true rfl | (show _ + 0 ≤ 0; omega)) (fun H h => ⟨h, cI.obE h (by first | assumption | exact Or.inl (by assumption) | exact Or.inr (by first | assumption | exact upm_same _ _ _ | exact (upm_ne _ _ (by first | assumption | exact Ne.symm (by assumption) | omega | exact ne_mp (m := m) (by assumption) (by assumption) | exact Ne.symm (ne_mp (m := m) (by assumption) (by assumption)) | exact ne_mp (m := w) (by assumption) (by assumption) | exact Ne.symm (ne_mp (m := w) (by assumption) (by assumption)))).trans (by first | assumption | exact upm_same _ _ _ | exact (upm_ne _ _ (by first | assumption | exact Ne.symm (by assumption) | omega | exact ne_mp (m := m) (by assumption) (by assumption) | exact Ne.symm (ne_mp (m := m) (by assumption) (by assumption)) | exact ne_mp (m := w) (by assumption) (by assumption) | exact Ne.symm (ne_mp (m := w) (by assumption) (by assumption)))).trans (by first | assumption | exact upm_same _ _ _ | exact (upm_ne _ _ (by first | assumption | exact Ne.symm (by assumption) | omega | exact ne_mp (m := m) (by assumption) (by assumption) | exact Ne.symm (ne_mp (m := m) (by assumption) (by assumption)) | exact ne_mp (m := w) (by assumption) (by assumption) | exact Ne.symm (ne_mp (m := w) (by assumption) (by assumption)))).trans (by first | assumption | exact upm_same _ _ _))))) rfl⟩) (fun E a => zT.no) (zPd.out ?_)
      show zG X (_ + 0) (_ + 0) _ 18 _ _
      refine z_ifB_eq (q := 21) (t := 25) hX dX3_different_18 (by decide) rfl (fun h18 => ?_) (fun h18 => ?_)
      · refine z_iconst (q := 26) hX dX3_different_25 rfl ?_
        refine z_iadd (q := 27) hX dX3_different_26 rfl ?_
        refine z_istore_n (i := 1) (q := 28) hX dX3_different_27 rfl (Nat.le_of_ble_eq_true rfl) rfl rfl ?_
        refine z_iinc (q := 31) hX dX3_different_28 rfl (Nat.le_of_ble_eq_true rfl) rfl rfl ?_
        refine z_goto (t := 4) hX dX3_different_31 (by decide) ?_
        exact ih (by omega) _ _ (by rw [ev]; show _ = sumI _ i + bi (decide (fstI c (i : Int) = (i : Int))); rw [h18]; rfl) rfl
      · refine z_iconst (q := 22) hX dX3_different_21 rfl ?_
        refine z_goto (t := 26) hX dX3_different_22 (by decide) ?_
        refine z_iadd (q := 27) hX dX3_different_26 rfl ?_
        refine z_istore_n (i := 1) (q := 28) hX dX3_different_27 rfl (Nat.le_of_ble_eq_true rfl) rfl rfl ?_
        refine z_iinc (q := 31) hX dX3_different_28 rfl (Nat.le_of_ble_eq_true rfl) rfl rfl ?_
        refine z_goto (t := 4) hX dX3_different_31 (by decide) ?_
        exact ih (by omega) _ _ (by rw [ev]; show _ = sumI _ i + bi (decide (fstI c (i : Int) = (i : Int))); rw [h18]; rfl) rfl
  refine z_iconst (q := 1) hX dX3_different_0 rfl ?_
  refine z_istore_n (i := 1) (q := 2) hX dX3_different_1 rfl (Nat.le_of_ble_eq_true rfl) rfl rfl ?_
  refine z_iconst (q := 3) hX dX3_different_2 rfl ?_
  refine z_istore_n (i := 2) (q := 4) hX dX3_different_3 rfl (Nat.le_of_ble_eq_true rfl) rfl rfl ?_
  exact K 0 (Nat.zero_le _) 0 0 rfl rfl
abbrev rmX3_runs : Room := { frames := 4, cells := 0, slots := 0, locals := 86 }
set_option maxHeartbeats 4000000 in
theorem c_X3_runs (D : zD) (A : Nat → Prop) {w m : zMp} {b : Nat} {ta n : Nat} {f : Nat → Option Nat} {c : Int → zS} (hc : wCol D w m b ta n f c) : zC D yX3_runs cX3_runs 3 (some .int) none rmX3_runs A [.ref b] (cI D A w m) (zPd (zI (runI n c false)) (cI D A w m)) (zNo) := by
  refine zC_start (L := [some (.ref b), none, none]) (by decide) (Nat.le_of_ble_eq_true rfl) rfl (fun X hX => ?_)
  have h1 := hc.1
  have h3 := hc.2.2.1
  have K : ∀ i : Nat, i ≤ n → ∀ v p : Int, v = runI i c false → p = i → zG X 0 0 (cI D A w m) 4 [some (.ref b), some (zI (v)), some (zI (p))] [] := by
    refine z_up (fun i hi ih v p ev ep => ?_)
    subst ep
    refine z_iload_n (i := 2) (q := 5) hX dX3_runs_4 rfl rfl rfl ?_
    refine z_aload_n (i := 0) (q := 6) hX dX3_runs_5 rfl rfl rfl ?_
    refine zr_get (C := RX3) (T := TX3) (N := 2) (q := 9) hX ciX3 1 rfl (by decide) in_X3 dX3_runs_6 q196 (Or.inl rfl) (fun H h => cI.rd h (by first | assumption | exact Or.inl (by assumption) | exact Or.inr (by first | assumption | exact upm_same _ _ _ | exact (upm_ne _ _ (by first | assumption | exact Ne.symm (by assumption) | omega | exact ne_mp (m := m) (by assumption) (by assumption) | exact Ne.symm (ne_mp (m := m) (by assumption) (by assumption)) | exact ne_mp (m := w) (by assumption) (by assumption) | exact Ne.symm (ne_mp (m := w) (by assumption) (by assumption)))).trans (by first | assumption | exact upm_same _ _ _ | exact (upm_ne _ _ (by first | assumption | exact Ne.symm (by assumption) | omega | exact ne_mp (m := m) (by assumption) (by assumption) | exact Ne.symm (ne_mp (m := m) (by assumption) (by assumption)) | exact ne_mp (m := w) (by assumption) (by assumption) | exact Ne.symm (ne_mp (m := w) (by assumption) (by assumption)))).trans (by first | assumption | exact upm_same _ _ _ | exact (upm_ne _ _ (by first | assumption | exact Ne.symm (by assumption) | omega | exact ne_mp (m := m) (by assumption) (by assumption) | exact Ne.symm (ne_mp (m := m) (by assumption) (by assumption)) | exact ne_mp (m := w) (by assumption) (by assumption) | exact Ne.symm (ne_mp (m := w) (by assumption) (by assumption)))).trans (by first | assumption | exact upm_same _ _ _))))) rfl (by decide) rfl) rfl ?_
    refine z_icmp_ge (q := 12) (t := 34) hX dX3_runs_9 (by decide) ⟨by omega, by omega⟩ ⟨by omega, by omega⟩ rfl (fun h9 => ?_) (fun h9 => ?_)
    · refine z_iload_n (i := 1) (q := 35) hX dX3_runs_34 rfl rfl rfl ?_
      exact z_iret hX dX3_runs_35 (by first | exact Nat.le_of_ble_eq_true rfl | (show (_ : Nat) ≤ 0; omega)) (by first | exact Nat.le_of_ble_eq_true rfl | (show (_ : Nat) ≤ 0; omega)) rfl (fun H h => ⟨congrArg (fun z => some (zI z)) ((by rw [ev, show i = n by omega])), h⟩)
    · refine z_iload_n (i := 1) (q := 13) hX dX3_runs_12 rfl rfl rfl ?_
      refine z_aload_n (i := 0) (q := 14) hX dX3_runs_13 rfl rfl rfl ?_
      refine z_iload_n (i := 2) (q := 15) hX dX3_runs_14 rfl rfl rfl ?_
      refine z_V (ci := ciX3) (T := TX3) (N := 2) (na := 1) hX dX3_runs_15 (c_X3_beginsRun D A hc (by omega)) rfl q604 q606 qs9 q102 q607 (by decide +kernel) ⟨Nat.le_of_ble_eq_true rfl, Nat.le_of_ble_eq_true rfl⟩ rfl rfl (Nat.le_of_ble_eq_true rfl) rfl (by first | exact Nat.le_of_ble_eq_true rfl | (show _ + 0 ≤ 0; omega)) (by first | exact Nat.le_of_ble_eq_true rfl | (show _ + 0 ≤ 0; omega)) (fun H h => ⟨h, cI.obE h (by first | assumption | exact Or.inl (by assumption) | exact Or.inr (by first | assumption | exact upm_same _ _ _ | exact (upm_ne _ _ (by first | assumption | exact Ne.symm (by assumption) | omega | exact ne_mp (m := m) (by assumption) (by assumption) | exact Ne.symm (ne_mp (m := m) (by assumption) (by assumption)) | exact ne_mp (m := w) (by assumption) (by assumption) | exact Ne.symm (ne_mp (m := w) (by assumption) (by assumption)))).trans (by first | assumption | exact upm_same _ _ _ | exact (upm_ne _ _ (by first | assumption | exact Ne.symm (by assumption) | omega | exact ne_mp (m := m) (by assumption) (by assumption) | exact Ne.symm (ne_mp (m := m) (by assumption) (by assumption)) | exact ne_mp (m := w) (by assumption) (by assumption) | exact Ne.symm (ne_mp (m := w) (by assumption) (by assumption)))).trans (by first | assumption | exact upm_same _ _ _ | exact (upm_ne _ _ (by first | assumption | exact Ne.symm (by assumption) | omega | exact ne_mp (m := m) (by assumption) (by assumption) | exact Ne.symm (ne_mp (m := m) (by assumption) (by assumption)) | exact ne_mp (m := w) (by assumption) (by assumption) | exact Ne.symm (ne_mp (m := w) (by assumption) (by assumption)))).trans (by first | assumption | exact upm_same _ _ _))))) rfl⟩) (fun E a => zT.no) (zPd.out ?_)
      show zG X (_ + 0) (_ + 0) _ 18 _ _
      refine z_ifB_eq (q := 21) (t := 25) hX dX3_runs_18 (by decide) rfl (fun h18 => ?_) (fun h18 => ?_)
      · refine z_iconst (q := 26) hX dX3_runs_25 rfl ?_
        refine z_iadd (q := 27) hX dX3_runs_26 rfl ?_
        refine z_istore_n (i := 1) (q := 28) hX dX3_runs_27 rfl (Nat.le_of_ble_eq_true rfl) rfl rfl ?_
        refine z_iinc (q := 31) hX dX3_runs_28 rfl (Nat.le_of_ble_eq_true rfl) rfl rfl ?_
        refine z_goto (t := 4) hX dX3_runs_31 (by decide) ?_
        exact ih (by omega) _ _ (by rw [ev]; show _ = sumI _ i + (if beg c (i : Int) then (if false then ((c (i : Int)).length : Int) + 2 else 1) else 0); rw [h18]; rfl) rfl
      · refine z_iconst (q := 22) hX dX3_runs_21 rfl ?_
        refine z_goto (t := 26) hX dX3_runs_22 (by decide) ?_
        refine z_iadd (q := 27) hX dX3_runs_26 rfl ?_
        refine z_istore_n (i := 1) (q := 28) hX dX3_runs_27 rfl (Nat.le_of_ble_eq_true rfl) rfl rfl ?_
        refine z_iinc (q := 31) hX dX3_runs_28 rfl (Nat.le_of_ble_eq_true rfl) rfl rfl ?_
        refine z_goto (t := 4) hX dX3_runs_31 (by decide) ?_
        exact ih (by omega) _ _ (by rw [ev]; show _ = sumI _ i + (if beg c (i : Int) then (if false then ((c (i : Int)).length : Int) + 2 else 1) else 0); rw [h18]; rfl) rfl
  refine z_iconst (q := 1) hX dX3_runs_0 rfl ?_
  refine z_istore_n (i := 1) (q := 2) hX dX3_runs_1 rfl (Nat.le_of_ble_eq_true rfl) rfl rfl ?_
  refine z_iconst (q := 3) hX dX3_runs_2 rfl ?_
  refine z_istore_n (i := 2) (q := 4) hX dX3_runs_3 rfl (Nat.le_of_ble_eq_true rfl) rfl rfl ?_
  exact K 0 (Nat.zero_le _) 0 0 rfl rfl
abbrev rmX3_isNumeric : Room := { frames := 0, cells := 0, slots := 0, locals := 0 }
set_option maxHeartbeats 4000000 in
theorem c_X3_isNumeric (D : zD) (A : Nat → Prop) {w m : zMp} {b : Nat} {ta n : Nat} {f : Nat → Option Nat} {c : Int → zS} (hc : wCol D w m b ta n f c) : zC D yX3_isNumeric cX3_isNumeric 3 (some .boolean) none rmX3_isNumeric A [.ref b] (cI D A w m) (zPd (zI (bi (allI (fun r => decide (typ (c r) = 2)) n))) (cI D A w m)) (zNo) := by
  refine zC_start (L := [some (.ref b), none, none]) (by decide) (Nat.le_of_ble_eq_true rfl) rfl (fun X hX => ?_)
  obtain ⟨h1, h2, h3, h4⟩ := hc
  have K : ∀ i : Nat, i ≤ n → ∀ (v : Bool) (p : Int), v = allI (fun r => decide (typ (c r) = 2)) i → p = i → zG X 0 0 (cI D A w m) 4 [some (.ref b), some (zI (bi (v))), some (zI (p))] [] := by
    refine z_up (fun i hi ih v p ev ep => ?_)
    subst ep
    refine z_iload_n (i := 2) (q := 5) hX dX3_isNumeric_4 rfl rfl rfl ?_
    refine z_aload_n (i := 0) (q := 6) hX dX3_isNumeric_5 rfl rfl rfl ?_
    refine zr_get (C := RX3) (T := TX3) (N := 2) (q := 9) hX ciX3 1 rfl (by decide) in_X3 dX3_isNumeric_6 q196 (Or.inl rfl) (fun H h => cI.rd h (by first | assumption | exact Or.inl (by assumption) | exact Or.inr (by first | assumption | exact upm_same _ _ _ | exact (upm_ne _ _ (by first | assumption | exact Ne.symm (by assumption) | omega | exact ne_mp (m := m) (by assumption) (by assumption) | exact Ne.symm (ne_mp (m := m) (by assumption) (by assumption)) | exact ne_mp (m := w) (by assumption) (by assumption) | exact Ne.symm (ne_mp (m := w) (by assumption) (by assumption)))).trans (by first | assumption | exact upm_same _ _ _ | exact (upm_ne _ _ (by first | assumption | exact Ne.symm (by assumption) | omega | exact ne_mp (m := m) (by assumption) (by assumption) | exact Ne.symm (ne_mp (m := m) (by assumption) (by assumption)) | exact ne_mp (m := w) (by assumption) (by assumption) | exact Ne.symm (ne_mp (m := w) (by assumption) (by assumption)))).trans (by first | assumption | exact upm_same _ _ _ | exact (upm_ne _ _ (by first | assumption | exact Ne.symm (by assumption) | omega | exact ne_mp (m := m) (by assumption) (by assumption) | exact Ne.symm (ne_mp (m := m) (by assumption) (by assumption)) | exact ne_mp (m := w) (by assumption) (by assumption) | exact Ne.symm (ne_mp (m := w) (by assumption) (by assumption)))).trans (by first | assumption | exact upm_same _ _ _))))) rfl (by decide) rfl) rfl ?_
    refine z_icmp_ge (q := 12) (t := 39) hX dX3_isNumeric_9 (by decide) ⟨by omega, by omega⟩ ⟨by omega, by omega⟩ rfl (fun h9 => ?_) (fun h9 => ?_)
    · refine z_iload_n (i := 1) (q := 40) hX dX3_isNumeric_39 rfl rfl rfl ?_
      exact z_zretB hX dX3_isNumeric_40 (by first | exact Nat.le_of_ble_eq_true rfl | (show (_ : Nat) ≤ 0; omega)) (by first | exact Nat.le_of_ble_eq_true rfl | (show (_ : Nat) ≤ 0; omega)) rfl (fun H h => ⟨congrArg (fun z => some (zI z)) ((by rw [ev, show i = n by omega])), h⟩)
    · obtain ⟨x, hx1, hx0, t, hx2, hx3⟩ := h4 i (by omega)
      have ht := typ_range (c i)
      refine z_iload_n (i := 1) (q := 13) hX dX3_isNumeric_12 rfl rfl rfl ?_
      refine z_aload_n (i := 0) (q := 14) hX dX3_isNumeric_13 rfl rfl rfl ?_
      refine zr_get (C := RX3) (T := TX3) (N := 2) (q := 17) hX ciX3 0 rfl (by decide) in_X3 dX3_isNumeric_14 q194 (Or.inl rfl) (fun H h => cI.rd h (by first | assumption | exact Or.inl (by assumption) | exact Or.inr (by first | assumption | exact upm_same _ _ _ | exact (upm_ne _ _ (by first | assumption | exact Ne.symm (by assumption) | omega | exact ne_mp (m := m) (by assumption) (by assumption) | exact Ne.symm (ne_mp (m := m) (by assumption) (by assumption)) | exact ne_mp (m := w) (by assumption) (by assumption) | exact Ne.symm (ne_mp (m := w) (by assumption) (by assumption)))).trans (by first | assumption | exact upm_same _ _ _ | exact (upm_ne _ _ (by first | assumption | exact Ne.symm (by assumption) | omega | exact ne_mp (m := m) (by assumption) (by assumption) | exact Ne.symm (ne_mp (m := m) (by assumption) (by assumption)) | exact ne_mp (m := w) (by assumption) (by assumption) | exact Ne.symm (ne_mp (m := w) (by assumption) (by assumption)))).trans (by first | assumption | exact upm_same _ _ _ | exact (upm_ne _ _ (by first | assumption | exact Ne.symm (by assumption) | omega | exact ne_mp (m := m) (by assumption) (by assumption) | exact Ne.symm (ne_mp (m := m) (by assumption) (by assumption)) | exact ne_mp (m := w) (by assumption) (by assumption) | exact Ne.symm (ne_mp (m := w) (by assumption) (by assumption)))).trans (by first | assumption | exact upm_same _ _ _))))) rfl (by decide) rfl) rfl ?_
      refine z_iload_n (i := 2) (q := 18) hX dX3_isNumeric_17 rfl rfl rfl ?_
      refine zr_aald (q := 19) hX 6 rfl dX3_isNumeric_18 (fun H h => (cI.at h (by first | assumption | exact Or.inl (by assumption) | exact Or.inr (by first | assumption | exact upm_same _ _ _ | exact (upm_ne _ _ (by first | assumption | exact Ne.symm (by assumption) | omega | exact ne_mp (m := m) (by assumption) (by assumption) | exact Ne.symm (ne_mp (m := m) (by assumption) (by assumption)) | exact ne_mp (m := w) (by assumption) (by assumption) | exact Ne.symm (ne_mp (m := w) (by assumption) (by assumption)))).trans (by first | assumption | exact upm_same _ _ _ | exact (upm_ne _ _ (by first | assumption | exact Ne.symm (by assumption) | omega | exact ne_mp (m := m) (by assumption) (by assumption) | exact Ne.symm (ne_mp (m := m) (by assumption) (by assumption)) | exact ne_mp (m := w) (by assumption) (by assumption) | exact Ne.symm (ne_mp (m := w) (by assumption) (by assumption)))).trans (by first | assumption | exact upm_same _ _ _ | exact (upm_ne _ _ (by first | assumption | exact Ne.symm (by assumption) | omega | exact ne_mp (m := m) (by assumption) (by assumption) | exact Ne.symm (ne_mp (m := m) (by assumption) (by assumption)) | exact ne_mp (m := w) (by assumption) (by assumption) | exact Ne.symm (ne_mp (m := w) (by assumption) (by assumption)))).trans (by first | assumption | exact upm_same _ _ _)))))).raQ) ⟨by omega, by omega⟩ (by first | decide | omega) rfl ?_
      refine zG.top (v2 := .ref x) (by show va_rf (f ((i : Int)).toNat) = _; rw [Int.toNat_natCast, hx1]; rfl) ?_
      refine zr_getN (C := RX6) (T := TX6) (N := 2) (q := 22) hX ciX6 1 rfl (by decide) in_X6 dX3_isNumeric_19 (zNF_at 16 rfl) (fun H h => cI.rd h (by first | assumption | exact Or.inl (by assumption) | exact Or.inr (by first | assumption | exact upm_same _ _ _ | exact (upm_ne _ _ (by first | assumption | exact Ne.symm (by assumption) | omega | exact ne_mp (m := m) (by assumption) (by assumption) | exact Ne.symm (ne_mp (m := m) (by assumption) (by assumption)) | exact ne_mp (m := w) (by assumption) (by assumption) | exact Ne.symm (ne_mp (m := w) (by assumption) (by assumption)))).trans (by first | assumption | exact upm_same _ _ _ | exact (upm_ne _ _ (by first | assumption | exact Ne.symm (by assumption) | omega | exact ne_mp (m := m) (by assumption) (by assumption) | exact Ne.symm (ne_mp (m := m) (by assumption) (by assumption)) | exact ne_mp (m := w) (by assumption) (by assumption) | exact Ne.symm (ne_mp (m := w) (by assumption) (by assumption)))).trans (by first | assumption | exact upm_same _ _ _ | exact (upm_ne _ _ (by first | assumption | exact Ne.symm (by assumption) | omega | exact ne_mp (m := m) (by assumption) (by assumption) | exact Ne.symm (ne_mp (m := m) (by assumption) (by assumption)) | exact ne_mp (m := w) (by assumption) (by assumption) | exact Ne.symm (ne_mp (m := w) (by assumption) (by assumption)))).trans (by first | assumption | exact upm_same _ _ _))))) rfl (by decide) rfl) rfl ?_
      refine z_iconst (q := 23) hX dX3_isNumeric_22 rfl ?_
      refine z_icmp_ne (q := 26) (t := 30) hX dX3_isNumeric_23 (by decide) ⟨by omega, by omega⟩ (by decide) rfl (fun h23 => ?_) (fun h23 => ?_)
      · refine z_iconst (q := 31) hX dX3_isNumeric_30 rfl ?_
        refine zG.top (v2 := zI (bi (decide (typ (c (i : Int)) = 2)))) (by rw [decide_eq_false h23]; rfl) ?_
        refine z_iand (q := 32) hX dX3_isNumeric_31 (bi_iand _ _) rfl ?_
        refine z_istore_n (i := 1) (q := 33) hX dX3_isNumeric_32 rfl (Nat.le_of_ble_eq_true rfl) rfl rfl ?_
        refine z_iinc (q := 36) hX dX3_isNumeric_33 rfl (Nat.le_of_ble_eq_true rfl) rfl rfl ?_
        refine z_goto (t := 4) hX dX3_isNumeric_36 (by decide) ?_
        exact ih (by omega) _ _ (by rw [ev]; rfl) rfl
      · refine z_iconst (q := 27) hX dX3_isNumeric_26 rfl ?_
        refine z_goto (t := 31) hX dX3_isNumeric_27 (by decide) ?_
        refine zG.top (v2 := zI (bi (decide (typ (c (i : Int)) = 2)))) (by rw [decide_eq_true (Decidable.not_not.mp h23)]; rfl) ?_
        refine z_iand (q := 32) hX dX3_isNumeric_31 (bi_iand _ _) rfl ?_
        refine z_istore_n (i := 1) (q := 33) hX dX3_isNumeric_32 rfl (Nat.le_of_ble_eq_true rfl) rfl rfl ?_
        refine z_iinc (q := 36) hX dX3_isNumeric_33 rfl (Nat.le_of_ble_eq_true rfl) rfl rfl ?_
        refine z_goto (t := 4) hX dX3_isNumeric_36 (by decide) ?_
        exact ih (by omega) _ _ (by rw [ev]; rfl) rfl
  refine z_iconst (q := 1) hX dX3_isNumeric_0 rfl ?_
  refine z_istore_n (i := 1) (q := 2) hX dX3_isNumeric_1 rfl (Nat.le_of_ble_eq_true rfl) rfl rfl ?_
  refine z_iconst (q := 3) hX dX3_isNumeric_2 rfl ?_
  refine z_istore_n (i := 2) (q := 4) hX dX3_isNumeric_3 rfl (Nat.le_of_ble_eq_true rfl) rfl rfl ?_
  exact K 0 (Nat.zero_le _) true 0 rfl rfl
