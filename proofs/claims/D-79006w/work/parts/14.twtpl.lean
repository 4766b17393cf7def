/-! THE REFERENCE: its templates -/
set_option maxRecDepth 100000
def zWf (G : zTG) : Prop := (0 ≤ G 0 0 ∧ G 0 0 ≤ 40 ∧ 0 ≤ G 0 1 ∧ G 0 1 ≤ 100) ∧ (∀ l : Int, 0 ≤ l → l < G 0 0 → zLn G l ∧ 0 ≤ G 0 (43 + l) ∧ G 0 (43 + l) ≤ 11) ∧ ∀ t k : Int, 0 ≤ t → t ≤ 11 → 0 ≤ k → k < 20 → -1 ≤ G 0 (1724 + 20 * t + k) ∧ G 0 (1724 + 20 * t + k) ≤ 2
/-- whether line l is template t's -/
def ofP (M : Int → Int) (t : Int) : Int → Bool := fun l => decide (M (43 + l) = t)
/-- a template's lines, ascending -/
def rws (M : Int → Int) (t : Int) : List Int := rF (ofP M t) (M 0).toNat
def nR (M : Int → Int) (t : Int) : Int := (rws M t).length
def lnO (M : Int → Int) (t r : Int) : Int := (rws M t).getD r.toNat (-1)
/-- a template's first line, or -1 -/
def fst (M : Int → Int) (t : Int) : Int := lnO M t 0
def isT (M : Int → Int) (t : Int) : Bool := (decide (0 ≤ t) && decide (t ≤ 11)) && decide (0 ≤ fst M t)
def slt (M : Int → Int) (t k : Int) : Int := M (1724 + 20 * t + k)
/-- the token k of line l -/
def tkl (M : Int → Int) (l k : Int) : zS := tok (tx M l) k
def nTl (M : Int → Int) (l : Int) : Int := nT (tx M l)
theorem nR_rng (M : Int → Int) (t : Int) (_h : 0 ≤ M 0) : 0 ≤ nR M t ∧ nR M t ≤ M 0 := by
  have := rF_le (p := ofP M t) (n := (M 0).toNat)
  unfold nR rws
  omega
theorem lnO_get {M : Int → Int} {t r : Int} (h0 : 0 ≤ r) (h1 : r < nR M t) : (rws M t)[r.toNat]? = some (lnO M t r) := by
  have hl : r.toNat < (rws M t).length := by unfold nR at h1; omega
  unfold lnO
  rw [List.getD_eq_getElem?_getD, List.getElem?_eq_getElem hl]
  rfl
theorem lnO_no {M : Int → Int} {t r : Int} (h0 : 0 ≤ r) (h1 : nR M t ≤ r) : lnO M t r = -1 := by
  unfold lnO
  rw [List.getD_eq_getElem?_getD, List.getElem?_eq_none (by unfold nR at h1; omega)]
  rfl
theorem lnO_rng {M : Int → Int} {t r : Int} (h0 : 0 ≤ r) (h1 : r < nR M t) : 0 ≤ lnO M t r ∧ lnO M t r < M 0 ∧ M (43 + lnO M t r) = t := by
  have := rF_mem.mp (List.mem_of_getElem? (lnO_get h0 h1))
  unfold ofP at this
  rw [decide_eq_true_eq] at this
  omega
theorem fst_rng {M : Int → Int} {t : Int} (h : 0 ≤ fst M t) : fst M t < M 0 ∧ M (43 + fst M t) = t ∧ 1 ≤ nR M t := by
  have h1 : 0 < nR M t := by
    by_cases q : nR M t ≤ 0
    · have := lnO_no (M := M) (t := t) (Int.le_refl 0) q
      unfold fst at h
      omega
    · omega
  have := lnO_rng (M := M) (t := t) (Int.le_refl 0) h1
  exact ⟨this.2.1, this.2.2, by omega⟩
theorem fst_ge {M : Int → Int} {t : Int} : -1 ≤ fst M t ∧ fst M t < max (M 0) 0 := by
  by_cases h : 0 ≤ fst M t
  · have := fst_rng h; omega
  · have : fst M t = -1 := by
      by_cases q : nR M t ≤ 0
      · exact lnO_no (Int.le_refl 0) q
      · have := lnO_rng (M := M) (t := t) (Int.le_refl 0) (by omega)
        unfold fst at h
        omega
    omega
theorem isT_iff {M : Int → Int} {t : Int} : isT M t = true ↔ 0 ≤ t ∧ t ≤ 11 ∧ 0 ≤ fst M t := by
  unfold isT
  simp only [Bool.and_eq_true, decide_eq_true_eq]
  omega
theorem zWf.ln {G : zTG} {l : Int} (h : zWf G) (h0 : 0 ≤ l) (h1 : l < G 0 0) : zLn G l := (h.2.1 l h0 h1).1
theorem zWf.of {G : zTG} {l : Int} (h : zWf G) (h0 : 0 ≤ l) (h1 : l < G 0 0) : 0 ≤ G 0 (43 + l) ∧ G 0 (43 + l) ≤ 11 := (h.2.1 l h0 h1).2
theorem zWf.sl {G : zTG} {t k : Int} (h : zWf G) (h0 : 0 ≤ t) (h1 : t ≤ 11) (h2 : 0 ≤ k) (h3 : k < 20) : -1 ≤ slt (G 0) t k ∧ slt (G 0) t k ≤ 2 := h.2.2 t k h0 h1 h2 h3
/-- a template that there is: its first line -/
theorem zWf.fs {G : zTG} {t : Int} (h : zWf G) (ht : isT (G 0) t = true) : 0 ≤ t ∧ t ≤ 11 ∧ 0 ≤ fst (G 0) t ∧ fst (G 0) t < 40 ∧ fst (G 0) t < G 0 0 ∧ zLn G (fst (G 0) t) ∧ G 4 (fst (G 0) t) = nTl (G 0) (fst (G 0) t) ∧ 0 ≤ nTl (G 0) (fst (G 0) t) ∧ nTl (G 0) (fst (G 0) t) ≤ 20 := by
  have h1 := isT_iff.mp ht
  have h2 := fst_rng h1.2.2
  have h3 := h.ln h1.2.2 h2.1
  have h4 := h3.1.f
  exact ⟨h1.1, h1.2.1, h1.2.2, h4.2.1, h2.1, h3, h3.2.1, h4.2.2.2.2.2.1, h4.2.2.2.2.2.2⟩
/-- the least place under n for which p holds, or n -/
def leastI (p : Int → Bool) : Nat → Nat
  | 0 => 0
  | n + 1 => if leastI p n < n then leastI p n else if p n then n else n + 1
theorem leastI_eq {p : Int → Bool} {t n : Nat} (hn : t ≤ n) (h : ∀ j : Nat, j < t → p j = false) (ht : t < n → p t = true) : leastI p n = t := by
  induction n with
  | zero => rw [leastI]; omega
  | succ n ih =>
    rw [leastI]
    by_cases hl : t ≤ n
    · by_cases he : t = n
      · subst he
        have h1 : leastI p t = t := ih (Nat.le_refl _) (fun hh => absurd hh (Nat.lt_irrefl _))
        rw [h1, if_neg (Nat.lt_irrefl _), if_pos (ht (by omega))]
      · have h1 : leastI p n = t := ih hl (fun _ => ht (by omega))
        rw [h1, if_pos (by omega)]
    · have he : t = n + 1 := by omega
      subst he
      have h1 : ∀ m : Nat, m ≤ n → leastI p m = m := by
        intro m
        induction m with
        | zero => intro _; rfl
        | succ m ihm =>
          intro hm
          rw [leastI, ihm (by omega), if_neg (Nat.lt_irrefl _), h m (by omega)]
          rfl
      rw [h1 n (Nat.le_refl _), if_neg (Nat.lt_irrefl _), h n (by omega)]
      rfl
def lfree (M : Int → Int) : Int := leastI (fun t => !isT M t) 12
def nTpl (M : Int → Int) : Int := sumI (fun t => bi (isT M t)) 12
abbrev rmX4_isLine : Room := { frames := 1, cells := 0, slots := 0, locals := 22 }
set_option maxHeartbeats 4000000 in
theorem c_X4_isLine (D : zD) (A : Nat → Prop) {b : Nat} {F : zTF} {G : zTG} {l : Int} (hw : zWf G) (hl : zR l) : zC D yX4_isLine cX4_isLine 2 (some .boolean) none rmX4_isLine A [.ref b, zI (l)] (twI D A b F G) (zPd (zI (bi ((decide (0 ≤ l) && decide (l ≤ G 0 0 - 1))))) (twI D A b (F) (G))) zNo := by
  refine zC_start (L := [some (.ref b), some (zI (l))]) (by decide) (Nat.le_of_ble_eq_true rfl) rfl (fun X hX => ?_)
  have hm := hw.1
  refine z_iload_n (i := 1) (q := 1) hX dX4_isLine_0 rfl rfl rfl ?_
  refine z_iconst (q := 2) hX dX4_isLine_1 rfl ?_
  refine z_aload_n (i := 0) (q := 3) hX dX4_isLine_2 rfl rfl rfl ?_
  refine zt_getA (q := 6) hX 0 0 dX4_isLine_3 q1864 (by decide) rfl rfl rfl ?_
  refine z_iconst (q := 7) hX dX4_isLine_6 rfl ?_
  refine zt_ald (q := 8) (N := 1964) hX 0 dX4_isLine_7 rfl (by decide) (by decide) (by omega) rfl ?_
  refine z_iconst (q := 9) hX dX4_isLine_8 rfl ?_
  refine z_isub (q := 10) hX dX4_isLine_9 rfl ?_
  refine zt_S1 (q := 13) (na := 3) hX dX4_isLine_10 (c_X4_in D A (by first | assumption | omega) (by first | assumption | omega) (by first | assumption | omega)) q1955 q1956 q103 q1957 (by decide +kernel) ⟨Nat.le_of_ble_eq_true rfl, Nat.le_of_ble_eq_true rfl⟩ rfl rfl (Nat.le_of_ble_eq_true rfl) rfl ⟨rfl, rfl⟩ (Nat.le_of_ble_eq_true rfl) (Nat.le_of_ble_eq_true rfl) rfl ?_
  exact z_zretB hX dX4_isLine_13 (Nat.le_of_ble_eq_true rfl) (Nat.le_of_ble_eq_true rfl) rfl (fun H hI => ⟨congrArg (fun z => some (zI z)) (rfl), hI⟩)
abbrev rmX4_rowsOf : Room := { frames := 0, cells := 0, slots := 0, locals := 0 }
set_option maxHeartbeats 4000000 in
theorem c_X4_rowsOf (D : zD) (A : Nat → Prop) {b : Nat} {F : zTF} {G : zTG} {t : Int} (hw : zWf G) (ht : zR t) : zC D yX4_rowsOf cX4_rowsOf 4 (some .int) none rmX4_rowsOf A [.ref b, zI (t)] (twI D A b F G) (zPd (zI (nR (G 0) t)) (twI D A b (F) (G))) zNo := by
  refine zC_start (L := [some (.ref b), some (zI (t)), none, none]) (by decide) (Nat.le_of_ble_eq_true rfl) rfl (fun X hX => ?_)
  have hm := hw.1
  have K : ∀ n : Nat, n ≤ (G 0 0).toNat → ∀ c p : Int, c = (rF (ofP (G 0) t) n).length → p = n → zG X 0 0 (twI D A b F G) 4 [some (.ref b), some (zI (t)), some (zI (c)), some (zI (p))] [] := by
    refine z_up (fun n hn ih c p e1 e2 => ?_)
    subst e2
    have hl := rF_le (p := ofP (G 0) t) (n := n)
    have hs : ∀ v : Bool, ofP (G 0) t n = v → ((rF (ofP (G 0) t) (n + 1)).length : Int) = c + bi v := fun v hv => by
      rw [rF, hv, e1]; cases v <;> simp [bi]
    refine z_iload_n (i := 3) (q := 5) hX dX4_rowsOf_4 rfl rfl rfl ?_
    refine z_aload_n (i := 0) (q := 6) hX dX4_rowsOf_5 rfl rfl rfl ?_
    refine zt_getA (q := 9) hX 0 0 dX4_rowsOf_6 q1864 (by decide) rfl rfl rfl ?_
    refine z_iconst (q := 10) hX dX4_rowsOf_9 rfl ?_
    refine zt_ald (q := 11) (N := 1964) hX 0 dX4_rowsOf_10 rfl (by decide) (by decide) (by omega) rfl ?_
    refine z_icmp_ge (q := 14) (t := 41) hX dX4_rowsOf_11 (by decide) (by omega) (by omega) rfl (fun h11 => ?_) (fun h11 => ?_)
    · refine z_iload_n (i := 2) (q := 42) hX dX4_rowsOf_41 rfl rfl rfl ?_
      exact z_iret hX dX4_rowsOf_42 (Nat.le_of_ble_eq_true rfl) (Nat.le_of_ble_eq_true rfl) rfl (fun H hI => ⟨congrArg (fun z => some (zI z)) ((by rw [e1]; unfold nR rws; rw [show n = (G 0 0).toNat by omega])), hI⟩)
    · have ho := hw.of (l := n) (by omega) (by omega)
      refine z_iload_n (i := 2) (q := 15) hX dX4_rowsOf_14 rfl rfl rfl ?_
      refine z_aload_n (i := 0) (q := 16) hX dX4_rowsOf_15 rfl rfl rfl ?_
      refine zt_getA (q := 19) hX 0 0 dX4_rowsOf_16 q1864 (by decide) rfl rfl rfl ?_
      refine z_bipush (q := 21) hX dX4_rowsOf_19 (by decide) rfl ?_
      refine z_iload_n (i := 3) (q := 22) hX dX4_rowsOf_21 rfl rfl rfl ?_
      refine z_iadd (q := 23) hX dX4_rowsOf_22 rfl ?_
      refine zt_ald (q := 24) (N := 1964) hX 0 dX4_rowsOf_23 rfl (by decide) (by decide) (by omega) rfl ?_
      refine z_iload_n (i := 1) (q := 25) hX dX4_rowsOf_24 rfl rfl rfl ?_
      refine z_icmp_ne (q := 28) (t := 32) hX dX4_rowsOf_25 (by decide) (by omega) (by omega) rfl (fun h25 => ?_) (fun h25 => ?_)
      · refine z_iconst (q := 33) hX dX4_rowsOf_32 rfl ?_
        refine z_iadd (q := 34) hX dX4_rowsOf_33 rfl ?_
        refine z_istore_n (i := 2) (q := 35) hX dX4_rowsOf_34 rfl (Nat.le_of_ble_eq_true rfl) rfl rfl ?_
        refine z_iinc (q := 38) hX dX4_rowsOf_35 rfl (Nat.le_of_ble_eq_true rfl) rfl rfl ?_
        refine z_goto (t := 4) hX dX4_rowsOf_38 (by decide) ?_
        exact ih (by omega) _ _ (by rw [hs false (decide_eq_false h25)]; rfl) (by omega)
      · refine z_iconst (q := 29) hX dX4_rowsOf_28 rfl ?_
        refine z_goto (t := 33) hX dX4_rowsOf_29 (by decide) ?_
        refine z_iadd (q := 34) hX dX4_rowsOf_33 rfl ?_
        refine z_istore_n (i := 2) (q := 35) hX dX4_rowsOf_34 rfl (Nat.le_of_ble_eq_true rfl) rfl rfl ?_
        refine z_iinc (q := 38) hX dX4_rowsOf_35 rfl (Nat.le_of_ble_eq_true rfl) rfl rfl ?_
        refine z_goto (t := 4) hX dX4_rowsOf_38 (by decide) ?_
        exact ih (by omega) _ _ (by rw [hs true (decide_eq_true (by omega))]; rfl) (by omega)
  refine z_iconst (q := 1) hX dX4_rowsOf_0 rfl ?_
  refine z_istore_n (i := 2) (q := 2) hX dX4_rowsOf_1 rfl (Nat.le_of_ble_eq_true rfl) rfl rfl ?_
  refine z_iconst (q := 3) hX dX4_rowsOf_2 rfl ?_
  refine z_istore_n (i := 3) (q := 4) hX dX4_rowsOf_3 rfl (Nat.le_of_ble_eq_true rfl) rfl rfl ?_
  exact K 0 (Nat.zero_le _) _ _ rfl rfl
abbrev rmX4_lineOf : Room := { frames := 0, cells := 0, slots := 0, locals := 0 }
set_option maxHeartbeats 4000000 in
theorem c_X4_lineOf (D : zD) (A : Nat → Prop) {b : Nat} {F : zTF} {G : zTG} {t r : Int} (hw : zWf G) (ht : zR t) (hr : 0 ≤ r ∧ r < 2147483648) : zC D yX4_lineOf cX4_lineOf 5 (some .int) none rmX4_lineOf A [.ref b, zI (t), zI (r)] (twI D A b F G) (zPd (zI (lnO (G 0) t r)) (twI D A b (F) (G))) zNo := by
  refine zC_start (L := [some (.ref b), some (zI (t)), some (zI (r)), none, none]) (by decide) (Nat.le_of_ble_eq_true rfl) rfl (fun X hX => ?_)
  have hm := hw.1
  have K : ∀ n : Nat, n ≤ (G 0 0).toNat → ∀ c p : Int, c = r - (rF (ofP (G 0) t) n).length → 0 ≤ c → p = n → zG X 0 0 (twI D A b F G) 5 [some (.ref b), some (zI (t)), some (zI (r)), some (zI (c)), some (zI (p))] [] := by
    refine z_up (fun n hn ih c p e1 hc e2 => ?_)
    subst e2
    have hl := rF_le (p := ofP (G 0) t) (n := n)
    have hs : ∀ v : Bool, ofP (G 0) t n = v → ((rF (ofP (G 0) t) (n + 1)).length : Int) = (rF (ofP (G 0) t) n).length + bi v := fun v hv => by
      rw [rF, hv]; cases v <;> simp [bi]
    refine z_iload (q := 7) hX dX4_lineOf_5 rfl rfl ?_
    refine z_aload_n (i := 0) (q := 8) hX dX4_lineOf_7 rfl rfl rfl ?_
    refine zt_getA (q := 11) hX 0 0 dX4_lineOf_8 q1864 (by decide) rfl rfl rfl ?_
    refine z_iconst (q := 12) hX dX4_lineOf_11 rfl ?_
    refine zt_ald (q := 13) (N := 1964) hX 0 dX4_lineOf_12 rfl (by decide) (by decide) (by omega) rfl ?_
    refine z_icmp_ge (q := 16) (t := 46) hX dX4_lineOf_13 (by decide) (by omega) (by omega) rfl (fun h13 => ?_) (fun h13 => ?_)
    · refine z_iconst (q := 47) hX dX4_lineOf_46 rfl ?_
      exact z_iret hX dX4_lineOf_47 (Nat.le_of_ble_eq_true rfl) (Nat.le_of_ble_eq_true rfl) rfl (fun H hI => ⟨congrArg (fun z => some (zI z)) ((lnO_no hr.1 (by unfold nR rws; rw [show (G 0 0).toNat = n by omega]; omega)).symm), hI⟩)
    · have ho := hw.of (l := n) (by omega) (by omega)
      refine z_aload_n (i := 0) (q := 17) hX dX4_lineOf_16 rfl rfl rfl ?_
      refine zt_getA (q := 20) hX 0 0 dX4_lineOf_17 q1864 (by decide) rfl rfl rfl ?_
      refine z_bipush (q := 22) hX dX4_lineOf_20 (by decide) rfl ?_
      refine z_iload (q := 24) hX dX4_lineOf_22 rfl rfl ?_
      refine z_iadd (q := 25) hX dX4_lineOf_24 rfl ?_
      refine zt_ald (q := 26) (N := 1964) hX 0 dX4_lineOf_25 rfl (by decide) (by decide) (by omega) rfl ?_
      refine z_iload_n (i := 1) (q := 27) hX dX4_lineOf_26 rfl rfl rfl ?_
      refine z_icmp_ne (q := 30) (t := 40) hX dX4_lineOf_27 (by decide) (by omega) (by omega) rfl (fun h27 => ?_) (fun h27 => ?_)
      · refine z_iinc (q := 43) hX dX4_lineOf_40 rfl (Nat.le_of_ble_eq_true rfl) rfl rfl ?_
        refine z_goto (t := 5) hX dX4_lineOf_43 (by decide) ?_
        exact ih (by omega) _ _ (by rw [hs false (decide_eq_false h27), bi_f]; omega) hc (by omega)
      · refine z_iload_n (i := 3) (q := 31) hX dX4_lineOf_30 rfl rfl rfl ?_
        refine z_if_ne (q := 34) (t := 37) hX dX4_lineOf_31 (by decide) (by omega) rfl (fun h31 => ?_) (fun h31 => ?_)
        · refine z_iinc (q := 40) hX dX4_lineOf_37 rfl (Nat.le_of_ble_eq_true rfl) rfl rfl ?_
          refine z_iinc (q := 43) hX dX4_lineOf_40 rfl (Nat.le_of_ble_eq_true rfl) rfl rfl ?_
          refine z_goto (t := 5) hX dX4_lineOf_43 (by decide) ?_
          exact ih (by omega) _ _ (by rw [hs true (decide_eq_true (by omega)), bi_t]; omega) (by omega) (by omega)
        · refine z_iload (q := 36) hX dX4_lineOf_34 rfl rfl ?_
          exact z_iret hX dX4_lineOf_36 (Nat.le_of_ble_eq_true rfl) (Nat.le_of_ble_eq_true rfl) rfl (fun H hI => ⟨congrArg (fun z => some (zI z)) ((by
            have h9 := rF_at (p := ofP (G 0) t) (l := n) (n := (G 0 0).toNat) (by omega) (decide_eq_true (by omega))
            unfold lnO rws
            rw [List.getD_eq_getElem?_getD, show r.toNat = (rF (ofP (G 0) t) n).length by omega, h9]
            rfl)), hI⟩)
  refine z_iload_n (i := 2) (q := 1) hX dX4_lineOf_0 rfl rfl rfl ?_
  refine z_istore_n (i := 3) (q := 2) hX dX4_lineOf_1 rfl (Nat.le_of_ble_eq_true rfl) rfl rfl ?_
  refine z_iconst (q := 3) hX dX4_lineOf_2 rfl ?_
  refine z_istore (q := 5) hX dX4_lineOf_3 (Nat.le_of_ble_eq_true rfl) rfl rfl ?_
  exact K 0 (Nat.zero_le _) _ _ (by simp [rF]) (by omega) rfl
abbrev rmX4_isTemplate : Room := { frames := 1, cells := 0, slots := 0, locals := 24 }
set_option maxHeartbeats 4000000 in
theorem c_X4_isTemplate (D : zD) (A : Nat → Prop) {b : Nat} {F : zTF} {G : zTG} {t : Int} (hw : zWf G) (ht : zR t) : zC D yX4_isTemplate cX4_isTemplate 2 (some .boolean) none rmX4_isTemplate A [.ref b, zI (t)] (twI D A b F G) (zPd (zI (bi (isT (G 0) t))) (twI D A b (F) (G))) zNo := by
  refine zC_start (L := [some (.ref b), some (zI (t))]) (by decide) (Nat.le_of_ble_eq_true rfl) rfl (fun X hX => ?_)
  have hg := fst_ge (M := G 0) (t := t)
  have hm := hw.1
  refine z_iload_n (i := 1) (q := 1) hX dX4_isTemplate_0 rfl rfl rfl ?_
  refine z_iconst (q := 2) hX dX4_isTemplate_1 rfl ?_
  refine z_bipush (q := 4) hX dX4_isTemplate_2 (by decide) rfl ?_
  refine zt_S1 (q := 7) (na := 3) hX dX4_isTemplate_4 (c_X4_in D A (by first | assumption | omega) (by first | assumption | omega) (by first | assumption | omega)) q1955 q1956 q103 q1957 (by decide +kernel) ⟨Nat.le_of_ble_eq_true rfl, Nat.le_of_ble_eq_true rfl⟩ rfl rfl (Nat.le_of_ble_eq_true rfl) rfl ⟨rfl, rfl⟩ (Nat.le_of_ble_eq_true rfl) (Nat.le_of_ble_eq_true rfl) rfl ?_
  refine z_ifB_eq (q := 10) (t := 23) hX dX4_isTemplate_7 (by decide) rfl (fun h7 => ?_) (fun h7 => ?_)
  · refine z_iconst (q := 24) hX dX4_isTemplate_23 rfl ?_
    exact z_zret hX dX4_isTemplate_24 (Nat.le_of_ble_eq_true rfl) (Nat.le_of_ble_eq_true rfl) rfl (by first | decide | omega) (fun H hI => ⟨congrArg (fun z => some (zI z)) ((by unfold isT; rw [h7]; rfl)), hI⟩)
  · refine z_aload_n (i := 0) (q := 11) hX dX4_isTemplate_10 rfl rfl rfl ?_
    refine z_iload_n (i := 1) (q := 12) hX dX4_isTemplate_11 rfl rfl rfl ?_
    refine z_iconst (q := 13) hX dX4_isTemplate_12 rfl ?_
    refine zt_V1 (q := 16) (na := 2) hX dX4_isTemplate_13 (c_X4_lineOf D A (by first | assumption | omega) (by first | assumption | omega) (by first | assumption | omega)) q1990 q1992 qs45 q103 q1993 rfl (by decide +kernel) ⟨Nat.le_of_ble_eq_true rfl, Nat.le_of_ble_eq_true rfl⟩ rfl rfl (Nat.le_of_ble_eq_true rfl) rfl ⟨rfl, rfl⟩ (Nat.le_of_ble_eq_true rfl) (Nat.le_of_ble_eq_true rfl) rfl ?_
    have e1 : lnO (G 0) t 0 = fst (G 0) t := rfl
    rw [e1]
    refine z_if_lt (q := 19) (t := 23) hX dX4_isTemplate_16 (by decide) (by omega) rfl (fun h16 => ?_) (fun h16 => ?_)
    · refine z_iconst (q := 24) hX dX4_isTemplate_23 rfl ?_
      exact z_zret hX dX4_isTemplate_24 (Nat.le_of_ble_eq_true rfl) (Nat.le_of_ble_eq_true rfl) rfl (by first | decide | omega) (fun H hI => ⟨congrArg (fun z => some (zI z)) ((by unfold isT; rw [h7, decide_eq_false (by omega)]; rfl)), hI⟩)
    · refine z_iconst (q := 20) hX dX4_isTemplate_19 rfl ?_
      refine z_goto (t := 24) hX dX4_isTemplate_20 (by decide) ?_
      exact z_zret hX dX4_isTemplate_24 (Nat.le_of_ble_eq_true rfl) (Nat.le_of_ble_eq_true rfl) rfl (by first | decide | omega) (fun H hI => ⟨congrArg (fun z => some (zI z)) ((by unfold isT; rw [h7, decide_eq_true (by omega)]; rfl)), hI⟩)
abbrev rmX4_templateMany : Room := { frames := 2, cells := 0, slots := 0, locals := 45 }
set_option maxHeartbeats 4000000 in
theorem c_X4_templateMany (D : zD) (A : Nat → Prop) {b : Nat} {F : zTF} {G : zTG} (hw : zWf G) : zC D yX4_templateMany cX4_templateMany 3 (some .int) none rmX4_templateMany A [.ref b] (twI D A b F G) (zPd (zI (nTpl (G 0))) (twI D A b (F) (G))) zNo := by
  refine zC_start (L := [some (.ref b), none, none]) (by decide) (Nat.le_of_ble_eq_true rfl) rfl (fun X hX => ?_)
  have K : ∀ n : Nat, n ≤ 12 → ∀ c p : Int, c = sumI (fun t => bi (isT (G 0) t)) n → p = n → zG X 0 0 (twI D A b F G) 4 [some (.ref b), some (zI (c)), some (zI (p))] [] := by
    refine z_up (fun n hn ih c p e1 e2 => ?_)
    subst e2
    refine z_iload_n (i := 2) (q := 5) hX dX4_templateMany_4 rfl rfl rfl ?_
    refine z_bipush (q := 7) hX dX4_templateMany_5 (by decide) rfl ?_
    refine z_icmp_ge (q := 10) (t := 32) hX dX4_templateMany_7 (by decide) (by omega) (by omega) rfl (fun h7 => ?_) (fun h7 => ?_)
    · refine z_iload_n (i := 1) (q := 33) hX dX4_templateMany_32 rfl rfl rfl ?_
      exact z_iret hX dX4_templateMany_33 (Nat.le_of_ble_eq_true rfl) (Nat.le_of_ble_eq_true rfl) rfl (fun H hI => ⟨congrArg (fun z => some (zI z)) ((by rw [e1, show n = 12 by omega]; rfl)), hI⟩)
    · refine z_iload_n (i := 1) (q := 11) hX dX4_templateMany_10 rfl rfl rfl ?_
      refine z_aload_n (i := 0) (q := 12) hX dX4_templateMany_11 rfl rfl rfl ?_
      refine z_iload_n (i := 2) (q := 13) hX dX4_templateMany_12 rfl rfl rfl ?_
      refine zt_V1 (q := 16) (na := 1) hX dX4_templateMany_13 (c_X4_isTemplate D A (by first | assumption | omega) (by first | assumption | omega)) q1986 q1988 qs44 q103 q1989 rfl (by decide +kernel) ⟨Nat.le_of_ble_eq_true rfl, Nat.le_of_ble_eq_true rfl⟩ rfl rfl (Nat.le_of_ble_eq_true rfl) rfl ⟨rfl, rfl⟩ (Nat.le_of_ble_eq_true rfl) (Nat.le_of_ble_eq_true rfl) rfl ?_
      refine z_ifB_eq (q := 19) (t := 23) hX dX4_templateMany_16 (by decide) rfl (fun h16 => ?_) (fun h16 => ?_)
      · refine z_iconst (q := 24) hX dX4_templateMany_23 rfl ?_
        refine z_iadd (q := 25) hX dX4_templateMany_24 rfl ?_
        refine z_istore_n (i := 1) (q := 26) hX dX4_templateMany_25 rfl (Nat.le_of_ble_eq_true rfl) rfl rfl ?_
        refine z_iinc (q := 29) hX dX4_templateMany_26 rfl (Nat.le_of_ble_eq_true rfl) rfl rfl ?_
        refine z_goto (t := 4) hX dX4_templateMany_29 (by decide) ?_
        exact ih (by omega) _ _ (by rw [sumI, e1, h16]; rfl) (by omega)
      · refine z_iconst (q := 20) hX dX4_templateMany_19 rfl ?_
        refine z_goto (t := 24) hX dX4_templateMany_20 (by decide) ?_
        refine z_iadd (q := 25) hX dX4_templateMany_24 rfl ?_
        refine z_istore_n (i := 1) (q := 26) hX dX4_templateMany_25 rfl (Nat.le_of_ble_eq_true rfl) rfl rfl ?_
        refine z_iinc (q := 29) hX dX4_templateMany_26 rfl (Nat.le_of_ble_eq_true rfl) rfl rfl ?_
        refine z_goto (t := 4) hX dX4_templateMany_29 (by decide) ?_
        exact ih (by omega) _ _ (by rw [sumI, e1, h16]; rfl) (by omega)
  refine z_iconst (q := 1) hX dX4_templateMany_0 rfl ?_
  refine z_istore_n (i := 1) (q := 2) hX dX4_templateMany_1 rfl (Nat.le_of_ble_eq_true rfl) rfl rfl ?_
  refine z_iconst (q := 3) hX dX4_templateMany_2 rfl ?_
  refine z_istore_n (i := 2) (q := 4) hX dX4_templateMany_3 rfl (Nat.le_of_ble_eq_true rfl) rfl rfl ?_
  exact K 0 (Nat.zero_le _) _ _ rfl rfl
abbrev rmX4_freeTemplate : Room := { frames := 2, cells := 0, slots := 0, locals := 45 }
set_option maxHeartbeats 4000000 in
theorem c_X4_freeTemplate (D : zD) (A : Nat → Prop) {b : Nat} {F : zTF} {G : zTG} (hw : zWf G) : zC D yX4_freeTemplate cX4_freeTemplate 2 (some .int) none rmX4_freeTemplate A [.ref b] (twI D A b F G) (zPd (zI (lfree (G 0))) (twI D A b (F) (G))) zNo := by
  refine zC_start (L := [some (.ref b), none]) (by decide) (Nat.le_of_ble_eq_true rfl) rfl (fun X hX => ?_)
  have K : ∀ n : Nat, n ≤ 12 → (∀ j : Nat, j < n → isT (G 0) j = true) → ∀ p : Int, p = n → zG X 0 0 (twI D A b F G) 2 [some (.ref b), some (zI (p))] [] := by
    refine z_up (fun n hn ih hj p e2 => ?_)
    subst e2
    refine z_iload_n (i := 1) (q := 3) hX dX4_freeTemplate_2 rfl rfl rfl ?_
    refine z_bipush (q := 5) hX dX4_freeTemplate_3 (by decide) rfl ?_
    refine z_icmp_ge (q := 8) (t := 22) hX dX4_freeTemplate_5 (by decide) (by omega) (by omega) rfl (fun h5 => ?_) (fun h5 => ?_)
    · refine z_iload_n (i := 1) (q := 23) hX dX4_freeTemplate_22 rfl rfl rfl ?_
      exact z_iret hX dX4_freeTemplate_23 (Nat.le_of_ble_eq_true rfl) (Nat.le_of_ble_eq_true rfl) rfl (fun H hI => ⟨congrArg (fun z => some (zI z)) ((by unfold lfree; rw [leastI_eq (t := n) (by omega) (fun j hj2 => by rw [hj j hj2]; rfl) (fun q => absurd q (by omega))])), hI⟩)
    · refine z_aload_n (i := 0) (q := 9) hX dX4_freeTemplate_8 rfl rfl rfl ?_
      refine z_iload_n (i := 1) (q := 10) hX dX4_freeTemplate_9 rfl rfl rfl ?_
      refine zt_V1 (q := 13) (na := 1) hX dX4_freeTemplate_10 (c_X4_isTemplate D A (by first | assumption | omega) (by first | assumption | omega)) q1986 q1988 qs44 q103 q1989 rfl (by decide +kernel) ⟨Nat.le_of_ble_eq_true rfl, Nat.le_of_ble_eq_true rfl⟩ rfl rfl (Nat.le_of_ble_eq_true rfl) rfl ⟨rfl, rfl⟩ (Nat.le_of_ble_eq_true rfl) (Nat.le_of_ble_eq_true rfl) rfl ?_
      refine z_ifB_eq (q := 16) (t := 22) hX dX4_freeTemplate_13 (by decide) rfl (fun h13 => ?_) (fun h13 => ?_)
      · refine z_iload_n (i := 1) (q := 23) hX dX4_freeTemplate_22 rfl rfl rfl ?_
        exact z_iret hX dX4_freeTemplate_23 (Nat.le_of_ble_eq_true rfl) (Nat.le_of_ble_eq_true rfl) rfl (fun H hI => ⟨congrArg (fun z => some (zI z)) ((by unfold lfree; rw [leastI_eq (t := n) (by omega) (fun j hj2 => by rw [hj j hj2]; rfl) (fun q => by rw [h13]; rfl)])), hI⟩)
      · refine z_iinc (q := 19) hX dX4_freeTemplate_16 rfl (Nat.le_of_ble_eq_true rfl) rfl rfl ?_
        refine z_goto (t := 2) hX dX4_freeTemplate_19 (by decide) ?_
        exact ih (by omega) (fun j hj2 => by
          by_cases q : j = n
          · rw [q]; exact h13
          · exact hj j (by omega)) _ (by omega)
  refine z_iconst (q := 1) hX dX4_freeTemplate_0 rfl ?_
  refine z_istore_n (i := 1) (q := 2) hX dX4_freeTemplate_1 rfl (Nat.le_of_ble_eq_true rfl) rfl rfl ?_
  exact K 0 (Nat.zero_le _) (fun j q => absurd q (Nat.not_lt_zero _)) _ rfl
abbrev rmX4_slotOf : Room := { frames := 0, cells := 0, slots := 0, locals := 0 }
set_option maxHeartbeats 4000000 in
theorem c_X4_slotOf (D : zD) (A : Nat → Prop) {b : Nat} {F : zTF} {G : zTG} {t k : Int} (ht : 0 ≤ t ∧ t ≤ 11) (hk : 0 ≤ k ∧ k < 20) : zC D yX4_slotOf cX4_slotOf 3 (some .int) none rmX4_slotOf A [.ref b, zI (t), zI (k)] (twI D A b F G) (zPd (zI (slt (G 0) t k)) (twI D A b (F) (G))) zNo := by
  refine zC_start (L := [some (.ref b), some (zI (t)), some (zI (k))]) (by decide) (Nat.le_of_ble_eq_true rfl) rfl (fun X hX => ?_)
  refine z_aload_n (i := 0) (q := 1) hX dX4_slotOf_0 rfl rfl rfl ?_
  refine zt_getA (q := 4) hX 0 0 dX4_slotOf_1 q1864 (by decide) rfl rfl rfl ?_
  refine z_sipush (q := 7) hX dX4_slotOf_4 (by decide) rfl ?_
  refine z_bipush (q := 9) hX dX4_slotOf_7 (by decide) rfl ?_
  refine z_iload_n (i := 1) (q := 10) hX dX4_slotOf_9 rfl rfl rfl ?_
  refine z_imul (q := 11) hX dX4_slotOf_10 rfl ?_
  refine z_iadd (q := 12) hX dX4_slotOf_11 rfl ?_
  refine z_iload_n (i := 2) (q := 13) hX dX4_slotOf_12 rfl rfl rfl ?_
  refine z_iadd (q := 14) hX dX4_slotOf_13 rfl ?_
  refine zt_ald (q := 15) (N := 1964) hX 0 dX4_slotOf_14 rfl (by decide) (by decide) (by omega) rfl ?_
  exact z_iret hX dX4_slotOf_15 (Nat.le_of_ble_eq_true rfl) (Nat.le_of_ble_eq_true rfl) rfl (fun H hI => ⟨congrArg (fun z => some (zI z)) (rfl), hI⟩)
/-- a line's gaps -/
def gapsL (s : zS) : List Int := (List.range (nT s + 1).toNat).map (fun g : Nat => gp s (g : Int))
theorem gapsL_eq {s t : zS} : gapsL s = gapsL t ↔ nT s = nT t ∧ ∀ g : Int, 0 ≤ g → g ≤ nT s → gp s g = gp t g := by
  have h1 := nT_range s
  have h2 := nT_range t
  constructor
  · intro h
    have hl := congrArg List.length h
    unfold gapsL at hl h
    rw [List.length_map, List.length_map, List.length_range, List.length_range] at hl
    have hn : nT s = nT t := by omega
    refine ⟨hn, fun g g0 g1 => ?_⟩
    have h3 := congrArg (fun x : List Int => x[g.toNat]?) h
    simp only [List.getElem?_map] at h3
    rw [List.getElem?_range (by omega), List.getElem?_range (by omega)] at h3
    simp only [Option.map_some, Option.some.injEq] at h3
    rwa [Int.toNat_of_nonneg g0] at h3
  · rintro ⟨hn, hg⟩
    unfold gapsL
    rw [← hn]
    refine List.map_congr_left fun g hg2 => hg g (by omega) ?_
    have := List.mem_range.mp hg2
    omega
theorem gp_rng {G : zTG} {l g : Int} (h : zLn G l) (h0 : 0 ≤ g) (h1 : g ≤ nT (tx (G 0) l)) : -40 ≤ gp (tx (G 0) l) g ∧ gp (tx (G 0) l) g ≤ 40 := by
  have hf := h.1.f
  unfold gp
  have a1 : 0 ≤ (if g = nT (tx (G 0) l) then ((tx (G 0) l).length : Int) else fT (tx (G 0) l) g) ∧ (if g = nT (tx (G 0) l) then ((tx (G 0) l).length : Int) else fT (tx (G 0) l) g) ≤ 40 := by
    split
    · omega
    · have := h.t h0 (by omega); omega
  have a2 : 0 ≤ (if g = 0 then 0 else eT (tx (G 0) l) (g - 1)) ∧ (if g = 0 then 0 else eT (tx (G 0) l) (g - 1)) ≤ 40 := by
    split
    · omega
    · have := h.t (t := g - 1) (by omega) (by omega); omega
  omega
/-- the gaps of two lines alike -/
def isFm (M : Int → Int) (a c : Int) : Bool := decide (gapsL (tx M a) = gapsL (tx M c))
abbrev rmX4_isForm : Room := { frames := 2, cells := 0, slots := 0, locals := 45 }
set_option maxHeartbeats 4000000 in
theorem c_X4_isForm (D : zD) (A : Nat → Prop) {b : Nat} {F : zTF} {G : zTG} {a c : Int} (h : zLn G a) (g : zLn G c) : zC D yX4_isForm cX4_isForm 5 (some .boolean) none rmX4_isForm A [.ref b, zI (a), zI (c)] (twI D A b F G) (zPd (zI (bi (isFm (G 0) a c))) (twI D A b (F) (G))) zNo := by
  refine zC_start (L := [some (.ref b), some (zI (a)), some (zI (c)), none, none]) (by decide) (Nat.le_of_ble_eq_true rfl) rfl (fun X hX => ?_)
  have f1 := h.1.f
  have f2 := g.1.f
  have e4 : G 4 a = nT (tx (G 0) a) := h.2.1
  have e5 : G 4 c = nT (tx (G 0) c) := g.2.1
  obtain ⟨e, he⟩ : ∃ e : Nat → Bool, e = fun i => decide (nT (tx (G 0) a) = nT (tx (G 0) c)) && allI (fun j => decide (gp (tx (G 0) a) j = gp (tx (G 0) c) j)) i := ⟨_, rfl⟩
  have hend : e (nT (tx (G 0) a) + 1).toNat = isFm (G 0) a c := by
    rw [he]
    refine Bool.eq_iff_iff.mpr ?_
    unfold isFm
    simp only [Bool.and_eq_true, decide_eq_true_eq, allI_iff, gapsL_eq]
    refine and_congr_right fun hw => ⟨fun q i i0 i1 => ?_, fun q i i1 => q i (by omega) (by omega)⟩
    have := q i.toNat (by omega)
    rwa [Int.toNat_of_nonneg i0] at this
  have hfalse : ∀ i : Nat, i ≤ (nT (tx (G 0) a) + 1).toNat → e i = false → e (nT (tx (G 0) a) + 1).toNat = false := by
    intro i hi hf
    rw [he] at hf ⊢
    simp only [Bool.and_eq_false_iff, decide_eq_false_iff_not] at hf ⊢
    rcases hf with q | q
    · exact Or.inl q
    · refine Or.inr ?_
      rw [← Bool.not_eq_true, allI_iff] at q ⊢
      exact fun z => q fun j hj => z j (by omega)
  have K : ∀ i : Nat, i ≤ (nT (tx (G 0) a) + 1).toNat → ∀ (v : Bool) (p : Int), v = e i → p = i → zG X 0 0 (twI D A b F G) 24 [some (.ref b), some (zI (a)), some (zI (c)), some (zI (bi (v))), some (zI (p))] [] := by
    refine z_up (fun i hi ih v p hv ep => ?_)
    subst ep
    have hs : e (i + 1) = (e i && decide (gp (tx (G 0) a) i = gp (tx (G 0) c) i)) := by
      rw [he]; simp only [allI, Bool.and_assoc]
    refine z_iload (q := 26) hX dX4_isForm_24 rfl rfl ?_
    refine z_aload_n (i := 0) (q := 27) hX dX4_isForm_26 rfl rfl rfl ?_
    refine zt_getA (q := 30) hX 7 4 dX4_isForm_27 q1871 (by decide) rfl rfl rfl ?_
    refine z_iload_n (i := 1) (q := 31) hX dX4_isForm_30 rfl rfl rfl ?_
    refine zt_ald (q := 32) (N := 41) hX 4 dX4_isForm_31 rfl (by decide) (by decide) (by omega) rfl ?_
    refine z_icmp_gt (q := 35) (t := 68) hX dX4_isForm_32 (by decide) (by omega) (by omega) rfl (fun h32 => ?_) (fun h32 => ?_)
    · refine z_iload_n (i := 3) (q := 69) hX dX4_isForm_68 rfl rfl rfl ?_
      exact z_zretB hX dX4_isForm_69 (Nat.le_of_ble_eq_true rfl) (Nat.le_of_ble_eq_true rfl) rfl (fun H hI => ⟨congrArg (fun z => some (zI z)) ((by rw [hv, ← hend, show i = (nT (tx (G 0) a) + 1).toNat by omega])), hI⟩)
    · refine z_iload_n (i := 3) (q := 36) hX dX4_isForm_35 rfl rfl rfl ?_
      refine z_ifB_eq (q := 39) (t := 68) hX dX4_isForm_36 (by decide) rfl (fun h36 => ?_) (fun h36 => ?_)
      · refine z_iload_n (i := 3) (q := 69) hX dX4_isForm_68 rfl rfl rfl ?_
        exact z_zretB hX dX4_isForm_69 (Nat.le_of_ble_eq_true rfl) (Nat.le_of_ble_eq_true rfl) rfl (fun H hI => ⟨congrArg (fun z => some (zI z)) ((by rw [h36, ← hend, hfalse i hi (by rw [← hv]; exact h36)])), hI⟩)
      · have hei : e i = true := by rw [← hv]; exact h36
        have hq : nT (tx (G 0) a) = nT (tx (G 0) c) := by
          have q := hei
          rw [he] at q; simp only [Bool.and_eq_true, decide_eq_true_eq] at q; exact q.1
        have g1 := gp_rng h (g := i) (by omega) (by omega)
        have g2 := gp_rng g (g := i) (by omega) (by omega)
        refine z_aload_n (i := 0) (q := 40) hX dX4_isForm_39 rfl rfl rfl ?_
        refine z_iload_n (i := 1) (q := 41) hX dX4_isForm_40 rfl rfl rfl ?_
        refine z_iload (q := 43) hX dX4_isForm_41 rfl rfl ?_
        refine zt_V1 (q := 46) (na := 2) hX dX4_isForm_43 (c_X4_gap D A (by first | assumption | omega) (by first | assumption | omega)) q2002 q2004 qs48 q103 q2005 rfl (by decide +kernel) ⟨Nat.le_of_ble_eq_true rfl, Nat.le_of_ble_eq_true rfl⟩ rfl rfl (Nat.le_of_ble_eq_true rfl) rfl ⟨rfl, rfl⟩ (Nat.le_of_ble_eq_true rfl) (Nat.le_of_ble_eq_true rfl) rfl ?_
        refine z_aload_n (i := 0) (q := 47) hX dX4_isForm_46 rfl rfl rfl ?_
        refine z_iload_n (i := 2) (q := 48) hX dX4_isForm_47 rfl rfl rfl ?_
        refine z_iload (q := 50) hX dX4_isForm_48 rfl rfl ?_
        refine zt_V1 (q := 53) (na := 2) hX dX4_isForm_50 (c_X4_gap D A (by first | assumption | omega) (by first | assumption | omega)) q2002 q2004 qs48 q103 q2005 rfl (by decide +kernel) ⟨Nat.le_of_ble_eq_true rfl, Nat.le_of_ble_eq_true rfl⟩ rfl rfl (Nat.le_of_ble_eq_true rfl) rfl ⟨rfl, rfl⟩ (Nat.le_of_ble_eq_true rfl) (Nat.le_of_ble_eq_true rfl) rfl ?_
        refine z_icmp_ne (q := 56) (t := 60) hX dX4_isForm_53 (by decide) (by omega) (by omega) rfl (fun h53 => ?_) (fun h53 => ?_)
        · refine z_iconst (q := 61) hX dX4_isForm_60 rfl ?_
          refine z_istore_n (i := 3) (q := 62) hX dX4_isForm_61 rfl (Nat.le_of_ble_eq_true rfl) rfl rfl ?_
          refine z_iinc (q := 65) hX dX4_isForm_62 rfl (Nat.le_of_ble_eq_true rfl) rfl rfl ?_
          refine z_goto (t := 24) hX dX4_isForm_65 (by decide) ?_
          exact ih (by omega) false _ (by rw [hs, hei, decide_eq_false h53]; rfl) (by omega)
        · refine z_iconst (q := 57) hX dX4_isForm_56 rfl ?_
          refine z_goto (t := 61) hX dX4_isForm_57 (by decide) ?_
          refine z_istore_n (i := 3) (q := 62) hX dX4_isForm_61 rfl (Nat.le_of_ble_eq_true rfl) rfl rfl ?_
          refine z_iinc (q := 65) hX dX4_isForm_62 rfl (Nat.le_of_ble_eq_true rfl) rfl rfl ?_
          refine z_goto (t := 24) hX dX4_isForm_65 (by decide) ?_
          exact ih (by omega) true _ (by rw [hs, hei, decide_eq_true (by omega)]; rfl) (by omega)
  refine z_aload_n (i := 0) (q := 1) hX dX4_isForm_0 rfl rfl rfl ?_
  refine zt_getA (q := 4) hX 7 4 dX4_isForm_1 q1871 (by decide) rfl rfl rfl ?_
  refine z_iload_n (i := 1) (q := 5) hX dX4_isForm_4 rfl rfl rfl ?_
  refine zt_ald (q := 6) (N := 41) hX 4 dX4_isForm_5 rfl (by decide) (by decide) (by omega) rfl ?_
  refine z_aload_n (i := 0) (q := 7) hX dX4_isForm_6 rfl rfl rfl ?_
  refine zt_getA (q := 10) hX 7 4 dX4_isForm_7 q1871 (by decide) rfl rfl rfl ?_
  refine z_iload_n (i := 2) (q := 11) hX dX4_isForm_10 rfl rfl rfl ?_
  refine zt_ald (q := 12) (N := 41) hX 4 dX4_isForm_11 rfl (by decide) (by decide) (by omega) rfl ?_
  refine z_icmp_ne (q := 15) (t := 19) hX dX4_isForm_12 (by decide) (by omega) (by omega) rfl (fun h12 => ?_) (fun h12 => ?_)
  · refine z_iconst (q := 20) hX dX4_isForm_19 rfl ?_
    refine z_istore_n (i := 3) (q := 21) hX dX4_isForm_20 rfl (Nat.le_of_ble_eq_true rfl) rfl rfl ?_
    refine z_iconst (q := 22) hX dX4_isForm_21 rfl ?_
    refine z_istore (q := 24) hX dX4_isForm_22 (Nat.le_of_ble_eq_true rfl) rfl rfl ?_
    exact K 0 (Nat.zero_le _) false _ (by rw [he]; simp [allI]; omega) rfl
  · refine z_iconst (q := 16) hX dX4_isForm_15 rfl ?_
    refine z_goto (t := 20) hX dX4_isForm_16 (by decide) ?_
    refine z_istore_n (i := 3) (q := 21) hX dX4_isForm_20 rfl (Nat.le_of_ble_eq_true rfl) rfl rfl ?_
    refine z_iconst (q := 22) hX dX4_isForm_21 rfl ?_
    refine z_istore (q := 24) hX dX4_isForm_22 (Nat.le_of_ble_eq_true rfl) rfl rfl ?_
    exact K 0 (Nat.zero_le _) true _ (by rw [he]; simp [allI]; omega) rfl
abbrev rmX4_tokensOf : Room := { frames := 1, cells := 0, slots := 0, locals := 24 }
set_option maxHeartbeats 4000000 in
theorem c_X4_tokensOf (D : zD) (A : Nat → Prop) {b : Nat} {F : zTF} {G : zTG} {t : Int} (hw : zWf G) (ht : isT (G 0) t = true) : zC D yX4_tokensOf cX4_tokensOf 2 (some .int) none rmX4_tokensOf A [.ref b, zI (t)] (twI D A b F G) (zPd (zI (nTl (G 0) (fst (G 0) t))) (twI D A b (F) (G))) zNo := by
  refine zC_start (L := [some (.ref b), some (zI (t))]) (by decide) (Nat.le_of_ble_eq_true rfl) rfl (fun X hX => ?_)
  have hf := hw.fs ht
  have e1 : lnO (G 0) t 0 = fst (G 0) t := rfl
  refine z_aload_n (i := 0) (q := 1) hX dX4_tokensOf_0 rfl rfl rfl ?_
  refine zt_getA (q := 4) hX 7 4 dX4_tokensOf_1 q1871 (by decide) rfl rfl rfl ?_
  refine z_aload_n (i := 0) (q := 5) hX dX4_tokensOf_4 rfl rfl rfl ?_
  refine z_iload_n (i := 1) (q := 6) hX dX4_tokensOf_5 rfl rfl rfl ?_
  refine z_iconst (q := 7) hX dX4_tokensOf_6 rfl ?_
  refine zt_V1 (q := 10) (na := 2) hX dX4_tokensOf_7 (c_X4_lineOf D A (by first | assumption | omega) (by first | assumption | omega) (by first | assumption | omega)) q1990 q1992 qs45 q103 q1993 rfl (by decide +kernel) ⟨Nat.le_of_ble_eq_true rfl, Nat.le_of_ble_eq_true rfl⟩ rfl rfl (Nat.le_of_ble_eq_true rfl) rfl ⟨rfl, rfl⟩ (Nat.le_of_ble_eq_true rfl) (Nat.le_of_ble_eq_true rfl) rfl ?_
  rw [e1]
  refine zt_ald (q := 11) (N := 41) hX 4 dX4_tokensOf_10 rfl (by decide) (by decide) (by omega) rfl ?_
  exact z_iret hX dX4_tokensOf_11 (Nat.le_of_ble_eq_true rfl) (Nat.le_of_ble_eq_true rfl) rfl (fun H hI => ⟨congrArg (fun z => some (zI z)) (hf.2.2.2.2.2.2.1), hI⟩)
def fitI (M : Int → Int) (t l : Int) : Int := sumI (fun k => bi (decide (slt M t k = -1) && decide (tkl M (fst M t) k = tkl M l k))) (nTl M l).toNat
abbrev rmX4_fit : Room := { frames := 3, cells := 0, slots := 0, locals := 70 }
set_option maxHeartbeats 4000000 in
theorem c_X4_fit (D : zD) (A : Nat → Prop) {b : Nat} {F : zTF} {G : zTG} {t l : Int} (hw : zWf G) (ht : isT (G 0) t = true) (hl : zLn G l) (hn : nTl (G 0) (fst (G 0) t) = nTl (G 0) l) : zC D yX4_fit cX4_fit 6 (some .int) none rmX4_fit A [.ref b, zI (t), zI (l)] (twI D A b F G) (zPd (zI (fitI (G 0) t l)) (twI D A b (F) (G))) zNo := by
  refine zC_start (L := [some (.ref b), some (zI (t)), some (zI (l)), none, none, none]) (by decide) (Nat.le_of_ble_eq_true rfl) rfl (fun X hX => ?_)
  have hf := hw.fs ht
  have e1 : lnO (G 0) t 0 = fst (G 0) t := rfl
  have f1 := hl.1.f
  have hg := hf.2.2.2.2.2.1
  have e4 : G 4 l = nTl (G 0) l := hl.2.1
  have e5 : nT (tx (G 0) l) = nTl (G 0) l := rfl
  have e6 : nT (tx (G 0) (fst (G 0) t)) = nTl (G 0) (fst (G 0) t) := rfl
  have K : ∀ n : Nat, n ≤ (nTl (G 0) l).toNat → ∀ c p : Int, c = sumI (fun k => bi (decide (slt (G 0) t k = -1) && decide (tkl (G 0) (fst (G 0) t) k = tkl (G 0) l k))) n → p = n → zG X 0 0 (twI D A b F G) 13 [some (.ref b), some (zI (t)), some (zI (l)), some (zI (fst (G 0) t)), some (zI (c)), some (zI (p))] [] := by
    refine z_up (fun n hn ih c p h1 h2 => ?_)
    subst h2
    refine z_iload (q := 15) hX dX4_fit_13 rfl rfl ?_
    refine z_aload_n (i := 0) (q := 16) hX dX4_fit_15 rfl rfl rfl ?_
    refine zt_getA (q := 19) hX 7 4 dX4_fit_16 q1871 (by decide) rfl rfl rfl ?_
    refine z_iload_n (i := 2) (q := 20) hX dX4_fit_19 rfl rfl rfl ?_
    refine zt_ald (q := 21) (N := 41) hX 4 dX4_fit_20 rfl (by decide) (by decide) (by omega) rfl ?_
    refine z_icmp_ge (q := 24) (t := 64) hX dX4_fit_21 (by decide) (by omega) (by omega) rfl (fun h21 => ?_) (fun h21 => ?_)
    · refine z_iload (q := 66) hX dX4_fit_64 rfl rfl ?_
      exact z_iret hX dX4_fit_66 (Nat.le_of_ble_eq_true rfl) (Nat.le_of_ble_eq_true rfl) rfl (fun H hI => ⟨congrArg (fun z => some (zI z)) ((by rw [h1, show n = (nTl (G 0) l).toNat by omega]; rfl)), hI⟩)
    · refine z_iload (q := 26) hX dX4_fit_24 rfl rfl ?_
      refine z_aload_n (i := 0) (q := 27) hX dX4_fit_26 rfl rfl rfl ?_
      refine z_iload_n (i := 1) (q := 28) hX dX4_fit_27 rfl rfl rfl ?_
      refine z_iload (q := 30) hX dX4_fit_28 rfl rfl ?_
      refine zt_V1 (q := 33) (na := 2) hX dX4_fit_30 (c_X4_slotOf D A (by first | assumption | omega) (by first | assumption | omega)) q2014 q2016 qs51 q103 q2017 rfl (by decide +kernel) ⟨Nat.le_of_ble_eq_true rfl, Nat.le_of_ble_eq_true rfl⟩ rfl rfl (Nat.le_of_ble_eq_true rfl) rfl ⟨rfl, rfl⟩ (Nat.le_of_ble_eq_true rfl) (Nat.le_of_ble_eq_true rfl) rfl ?_
      have hs := hw.sl (t := t) (k := n) (by omega) (by omega) (by omega) (by omega)
      refine z_iconst (q := 34) hX dX4_fit_33 rfl ?_
      refine z_icmp_ne (q := 37) (t := 54) hX dX4_fit_34 (by decide) (by omega) (by omega) rfl (fun h34 => ?_) (fun h34 => ?_)
      · refine z_iconst (q := 55) hX dX4_fit_54 rfl ?_
        refine z_iadd (q := 56) hX dX4_fit_55 rfl ?_
        refine z_istore (q := 58) hX dX4_fit_56 (Nat.le_of_ble_eq_true rfl) rfl rfl ?_
        refine z_iinc (q := 61) hX dX4_fit_58 rfl (Nat.le_of_ble_eq_true rfl) rfl rfl ?_
        refine z_goto (t := 13) hX dX4_fit_61 (by decide) ?_
        exact ih (by omega) _ _ (by rw [sumI, h1, decide_eq_false h34]; rfl) (by omega)
      · refine z_aload_n (i := 0) (q := 38) hX dX4_fit_37 rfl rfl rfl ?_
        refine z_iload_n (i := 3) (q := 39) hX dX4_fit_38 rfl rfl rfl ?_
        refine z_iload (q := 41) hX dX4_fit_39 rfl rfl ?_
        refine z_iload_n (i := 2) (q := 42) hX dX4_fit_41 rfl rfl rfl ?_
        refine z_iload (q := 44) hX dX4_fit_42 rfl rfl ?_
        refine zt_V1 (q := 47) (na := 4) hX dX4_fit_44 (c_X4_isSame D A (by first | assumption | omega) (by first | assumption | omega) (by first | assumption | omega) (by first | assumption | omega)) q2018 q2020 qs52 q103 q2021 rfl (by decide +kernel) ⟨Nat.le_of_ble_eq_true rfl, Nat.le_of_ble_eq_true rfl⟩ rfl rfl (Nat.le_of_ble_eq_true rfl) rfl ⟨rfl, rfl⟩ (Nat.le_of_ble_eq_true rfl) (Nat.le_of_ble_eq_true rfl) rfl ?_
        refine z_ifB_eq (q := 50) (t := 54) hX dX4_fit_47 (by decide) rfl (fun h47 => ?_) (fun h47 => ?_)
        · refine z_iconst (q := 55) hX dX4_fit_54 rfl ?_
          refine z_iadd (q := 56) hX dX4_fit_55 rfl ?_
          refine z_istore (q := 58) hX dX4_fit_56 (Nat.le_of_ble_eq_true rfl) rfl rfl ?_
          refine z_iinc (q := 61) hX dX4_fit_58 rfl (Nat.le_of_ble_eq_true rfl) rfl rfl ?_
          refine z_goto (t := 13) hX dX4_fit_61 (by decide) ?_
          exact ih (by omega) _ _ (by rw [sumI, h1, show tkl (G 0) (fst (G 0) t) n = tok (tx (G 0) (fst (G 0) t)) n from rfl, show tkl (G 0) l n = tok (tx (G 0) l) n from rfl, h47, Bool.and_false]; rfl) (by omega)
        · refine z_iconst (q := 51) hX dX4_fit_50 rfl ?_
          refine z_goto (t := 55) hX dX4_fit_51 (by decide) ?_
          refine z_iadd (q := 56) hX dX4_fit_55 rfl ?_
          refine z_istore (q := 58) hX dX4_fit_56 (Nat.le_of_ble_eq_true rfl) rfl rfl ?_
          refine z_iinc (q := 61) hX dX4_fit_58 rfl (Nat.le_of_ble_eq_true rfl) rfl rfl ?_
          refine z_goto (t := 13) hX dX4_fit_61 (by decide) ?_
          exact ih (by omega) _ _ (by rw [sumI, h1, show tkl (G 0) (fst (G 0) t) n = tok (tx (G 0) (fst (G 0) t)) n from rfl, show tkl (G 0) l n = tok (tx (G 0) l) n from rfl, h47, decide_eq_true (by omega)]; rfl) (by omega)
  refine z_aload_n (i := 0) (q := 1) hX dX4_fit_0 rfl rfl rfl ?_
  refine z_iload_n (i := 1) (q := 2) hX dX4_fit_1 rfl rfl rfl ?_
  refine z_iconst (q := 3) hX dX4_fit_2 rfl ?_
  refine zt_V1 (q := 6) (na := 2) hX dX4_fit_3 (c_X4_lineOf D A (by first | assumption | omega) (by first | assumption | omega) (by first | assumption | omega)) q1990 q1992 qs45 q103 q1993 rfl (by decide +kernel) ⟨Nat.le_of_ble_eq_true rfl, Nat.le_of_ble_eq_true rfl⟩ rfl rfl (Nat.le_of_ble_eq_true rfl) rfl ⟨rfl, rfl⟩ (Nat.le_of_ble_eq_true rfl) (Nat.le_of_ble_eq_true rfl) rfl ?_
  rw [e1]
  refine z_istore_n (i := 3) (q := 7) hX dX4_fit_6 rfl (Nat.le_of_ble_eq_true rfl) rfl rfl ?_
  refine z_iconst (q := 8) hX dX4_fit_7 rfl ?_
  refine z_istore (q := 10) hX dX4_fit_8 (Nat.le_of_ble_eq_true rfl) rfl rfl ?_
  refine z_iconst (q := 11) hX dX4_fit_10 rfl ?_
  refine z_istore (q := 13) hX dX4_fit_11 (Nat.le_of_ble_eq_true rfl) rfl rfl ?_
  exact K 0 (Nat.zero_le _) _ _ rfl rfl
/-- a slot against a token: s the slot, u its text if it's fixed -/
def mtI (s : Int) (u w : zS) : Bool := if s = -1 then decide (u = w) else decide (s = 0) || decide (s = typ w)
def isMt (M : Int → Int) (t l : Int) : Bool := isFm M (fst M t) l && allI (fun k => mtI (slt M t k) (tkl M (fst M t) k) (tkl M l k)) (nTl M l).toNat
theorem isFm_n {M : Int → Int} {a c : Int} (h : isFm M a c = true) : nTl M a = nTl M c := (gapsL_eq.mp (of_decide_eq_true h)).1
abbrev rmX4_isMatch : Room := { frames := 3, cells := 0, slots := 0, locals := 70 }
set_option maxHeartbeats 4000000 in
theorem c_X4_isMatch (D : zD) (A : Nat → Prop) {b : Nat} {F : zTF} {G : zTG} {t l : Int} (hw : zWf G) (ht : isT (G 0) t = true) (hl : zLn G l) : zC D yX4_isMatch cX4_isMatch 7 (some .boolean) none rmX4_isMatch A [.ref b, zI (t), zI (l)] (twI D A b F G) (zPd (zI (bi (isMt (G 0) t l))) (twI D A b (F) (G))) zNo := by
  refine zC_start (L := [some (.ref b), some (zI (t)), some (zI (l)), none, none, none, none]) (by decide) (Nat.le_of_ble_eq_true rfl) rfl (fun X hX => ?_)
  have hf := hw.fs ht
  have e1 : lnO (G 0) t 0 = fst (G 0) t := rfl
  have f1 := hl.1.f
  have hg := hf.2.2.2.2.2.1
  have e4 : G 4 l = nTl (G 0) l := hl.2.1
  have e5 : nT (tx (G 0) l) = nTl (G 0) l := rfl
  have e6 : nT (tx (G 0) (fst (G 0) t)) = nTl (G 0) (fst (G 0) t) := rfl
  obtain ⟨e, he⟩ : ∃ e : Nat → Bool, e = fun i => isFm (G 0) (fst (G 0) t) l && allI (fun k => mtI (slt (G 0) t k) (tkl (G 0) (fst (G 0) t) k) (tkl (G 0) l k)) i := ⟨_, rfl⟩
  have hend : e (nTl (G 0) l).toNat = isMt (G 0) t l := by rw [he]; rfl
  have hfalse : ∀ i : Nat, i ≤ (nTl (G 0) l).toNat → e i = false → e (nTl (G 0) l).toNat = false := by
    intro i hi hf
    rw [he] at hf ⊢
    simp only [Bool.and_eq_false_iff] at hf ⊢
    rcases hf with q | q
    · exact Or.inl q
    · refine Or.inr ?_
      rw [← Bool.not_eq_true, allI_iff] at q ⊢
      exact fun z => q fun j hj => z j (by omega)
  have K : ∀ i : Nat, i ≤ (nTl (G 0) l).toNat → ∀ (v : Bool) (p : Int), v = e i → p = i → zG X 0 0 (twI D A b F G) 18 [some (.ref b), some (zI (t)), some (zI (l)), some (zI (fst (G 0) t)), some (zI (bi (v))), some (zI (p)), none] [] := by
    refine z_up (fun i hi ih v p hv ep => ?_)
    subst ep
    have hs : e (i + 1) = (e i && mtI (slt (G 0) t i) (tkl (G 0) (fst (G 0) t) i) (tkl (G 0) l i)) := by
      rw [he]; simp only [allI, Bool.and_assoc]
    refine z_iload (q := 20) hX dX4_isMatch_18 rfl rfl ?_
    refine z_aload_n (i := 0) (q := 21) hX dX4_isMatch_20 rfl rfl rfl ?_
    refine zt_getA (q := 24) hX 7 4 dX4_isMatch_21 q1871 (by decide) rfl rfl rfl ?_
    refine z_iload_n (i := 2) (q := 25) hX dX4_isMatch_24 rfl rfl rfl ?_
    refine zt_ald (q := 26) (N := 41) hX 4 dX4_isMatch_25 rfl (by decide) (by decide) (by omega) rfl ?_
    refine z_icmp_ge (q := 29) (t := 92) hX dX4_isMatch_26 (by decide) (by omega) (by omega) rfl (fun h26 => ?_) (fun h26 => ?_)
    · refine z_iload (q := 94) hX dX4_isMatch_92 rfl rfl ?_
      exact z_zretB hX dX4_isMatch_94 (Nat.le_of_ble_eq_true rfl) (Nat.le_of_ble_eq_true rfl) rfl (fun H hI => ⟨congrArg (fun z => some (zI z)) ((by rw [hv, ← hend, show i = (nTl (G 0) l).toNat by omega])), hI⟩)
    · refine z_iload (q := 31) hX dX4_isMatch_29 rfl rfl ?_
      refine z_ifB_eq (q := 34) (t := 92) hX dX4_isMatch_31 (by decide) rfl (fun h31 => ?_) (fun h31 => ?_)
      · refine z_iload (q := 94) hX dX4_isMatch_92 rfl rfl ?_
        exact z_zretB hX dX4_isMatch_94 (Nat.le_of_ble_eq_true rfl) (Nat.le_of_ble_eq_true rfl) rfl (fun H hI => ⟨congrArg (fun z => some (zI z)) ((by rw [h31, ← hend, hfalse i hi (by rw [← hv]; exact h31)])), hI⟩)
      · have hei : e i = true := by rw [← hv]; exact h31
        have hq : nTl (G 0) (fst (G 0) t) = nTl (G 0) l := by
          have q := hei
          rw [he] at q; simp only [Bool.and_eq_true] at q; exact isFm_n q.1
        have hs2 := hw.sl (t := t) (k := i) (by omega) (by omega) (by omega) (by omega)
        refine z_aload_n (i := 0) (q := 35) hX dX4_isMatch_34 rfl rfl rfl ?_
        refine z_iload_n (i := 1) (q := 36) hX dX4_isMatch_35 rfl rfl rfl ?_
        refine z_iload (q := 38) hX dX4_isMatch_36 rfl rfl ?_
        refine zt_V1 (q := 41) (na := 2) hX dX4_isMatch_38 (c_X4_slotOf D A (by first | assumption | omega) (by first | assumption | omega)) q2014 q2016 qs51 q103 q2017 rfl (by decide +kernel) ⟨Nat.le_of_ble_eq_true rfl, Nat.le_of_ble_eq_true rfl⟩ rfl rfl (Nat.le_of_ble_eq_true rfl) rfl ⟨rfl, rfl⟩ (Nat.le_of_ble_eq_true rfl) (Nat.le_of_ble_eq_true rfl) rfl ?_
        refine z_istore (q := 43) hX dX4_isMatch_41 (Nat.le_of_ble_eq_true rfl) rfl rfl ?_
        refine z_iload (q := 45) hX dX4_isMatch_43 rfl rfl ?_
        refine z_iconst (q := 46) hX dX4_isMatch_45 rfl ?_
        refine z_icmp_ne (q := 49) (t := 62) hX dX4_isMatch_46 (by decide) (by omega) (by omega) rfl (fun h46 => ?_) (fun h46 => ?_)
        · refine z_iload (q := 64) hX dX4_isMatch_62 rfl rfl ?_
          refine z_if_eq (q := 67) (t := 79) hX dX4_isMatch_64 (by decide) (by omega) rfl (fun h64 => ?_) (fun h64 => ?_)
          · refine z_iconst (q := 80) hX dX4_isMatch_79 rfl ?_
            refine z_goto (t := 84) hX dX4_isMatch_80 (by decide) ?_
            refine z_istore (q := 86) hX dX4_isMatch_84 (Nat.le_of_ble_eq_true rfl) rfl rfl ?_
            refine z_iinc (q := 89) hX dX4_isMatch_86 rfl (Nat.le_of_ble_eq_true rfl) rfl rfl ?_
            refine z_goto (t := 18) hX dX4_isMatch_89 (by decide) ?_
            refine zG.drop 6 ?_
            exact ih (by omega) true _ (by rw [hs, hei]; unfold mtI; rw [if_neg h46, decide_eq_true h64]; rfl) (by omega)
          · refine z_iload (q := 69) hX dX4_isMatch_67 rfl rfl ?_
            refine z_aload_n (i := 0) (q := 70) hX dX4_isMatch_69 rfl rfl rfl ?_
            refine z_iload_n (i := 2) (q := 71) hX dX4_isMatch_70 rfl rfl rfl ?_
            refine z_iload (q := 73) hX dX4_isMatch_71 rfl rfl ?_
            refine zt_V1 (q := 76) (na := 2) hX dX4_isMatch_73 (c_X4_typeOf D A (by first | assumption | omega) (by first | assumption | omega)) q2026 q2028 qs54 q103 q2029 rfl (by decide +kernel) ⟨Nat.le_of_ble_eq_true rfl, Nat.le_of_ble_eq_true rfl⟩ rfl rfl (Nat.le_of_ble_eq_true rfl) rfl ⟨rfl, rfl⟩ (Nat.le_of_ble_eq_true rfl) (Nat.le_of_ble_eq_true rfl) rfl ?_
            have hty := typ_range (tok (tx (G 0) l) i)
            refine z_icmp_ne (q := 79) (t := 83) hX dX4_isMatch_76 (by decide) (by omega) (by omega) rfl (fun h76 => ?_) (fun h76 => ?_)
            · refine z_iconst (q := 84) hX dX4_isMatch_83 rfl ?_
              refine z_istore (q := 86) hX dX4_isMatch_84 (Nat.le_of_ble_eq_true rfl) rfl rfl ?_
              refine z_iinc (q := 89) hX dX4_isMatch_86 rfl (Nat.le_of_ble_eq_true rfl) rfl rfl ?_
              refine z_goto (t := 18) hX dX4_isMatch_89 (by decide) ?_
              refine zG.drop 6 ?_
              exact ih (by omega) false _ (by rw [hs, hei]; unfold mtI; rw [if_neg h46, decide_eq_false h64, decide_eq_false (show slt (G 0) t i ≠ typ (tkl (G 0) l i) from h76)]; rfl) (by omega)
            · refine z_iconst (q := 80) hX dX4_isMatch_79 rfl ?_
              refine z_goto (t := 84) hX dX4_isMatch_80 (by decide) ?_
              refine z_istore (q := 86) hX dX4_isMatch_84 (Nat.le_of_ble_eq_true rfl) rfl rfl ?_
              refine z_iinc (q := 89) hX dX4_isMatch_86 rfl (Nat.le_of_ble_eq_true rfl) rfl rfl ?_
              refine z_goto (t := 18) hX dX4_isMatch_89 (by decide) ?_
              refine zG.drop 6 ?_
              exact ih (by omega) true _ (by rw [hs, hei]; unfold mtI; rw [if_neg h46, decide_eq_false h64, decide_eq_true (show slt (G 0) t i = typ (tkl (G 0) l i) by unfold tkl; omega)]; rfl) (by omega)
        · refine z_aload_n (i := 0) (q := 50) hX dX4_isMatch_49 rfl rfl rfl ?_
          refine z_iload_n (i := 3) (q := 51) hX dX4_isMatch_50 rfl rfl rfl ?_
          refine z_iload (q := 53) hX dX4_isMatch_51 rfl rfl ?_
          refine z_iload_n (i := 2) (q := 54) hX dX4_isMatch_53 rfl rfl rfl ?_
          refine z_iload (q := 56) hX dX4_isMatch_54 rfl rfl ?_
          refine zt_V1 (q := 59) (na := 4) hX dX4_isMatch_56 (c_X4_isSame D A (by first | assumption | omega) (by first | assumption | omega) (by first | assumption | omega) (by first | assumption | omega)) q2018 q2020 qs52 q103 q2021 rfl (by decide +kernel) ⟨Nat.le_of_ble_eq_true rfl, Nat.le_of_ble_eq_true rfl⟩ rfl rfl (Nat.le_of_ble_eq_true rfl) rfl ⟨rfl, rfl⟩ (Nat.le_of_ble_eq_true rfl) (Nat.le_of_ble_eq_true rfl) rfl ?_
          refine z_goto (t := 84) hX dX4_isMatch_59 (by decide) ?_
          refine z_istore (q := 86) hX dX4_isMatch_84 (Nat.le_of_ble_eq_true rfl) rfl rfl ?_
          refine z_iinc (q := 89) hX dX4_isMatch_86 rfl (Nat.le_of_ble_eq_true rfl) rfl rfl ?_
          refine z_goto (t := 18) hX dX4_isMatch_89 (by decide) ?_
          refine zG.drop 6 ?_
          exact ih (by omega) _ _ (by rw [hs, hei]; unfold mtI; rw [if_pos (by omega)]; rfl) (by omega)
  refine z_aload_n (i := 0) (q := 1) hX dX4_isMatch_0 rfl rfl rfl ?_
  refine z_iload_n (i := 1) (q := 2) hX dX4_isMatch_1 rfl rfl rfl ?_
  refine z_iconst (q := 3) hX dX4_isMatch_2 rfl ?_
  refine zt_V1 (q := 6) (na := 2) hX dX4_isMatch_3 (c_X4_lineOf D A (by first | assumption | omega) (by first | assumption | omega) (by first | assumption | omega)) q1990 q1992 qs45 q103 q1993 rfl (by decide +kernel) ⟨Nat.le_of_ble_eq_true rfl, Nat.le_of_ble_eq_true rfl⟩ rfl rfl (Nat.le_of_ble_eq_true rfl) rfl ⟨rfl, rfl⟩ (Nat.le_of_ble_eq_true rfl) (Nat.le_of_ble_eq_true rfl) rfl ?_
  rw [e1]
  refine z_istore_n (i := 3) (q := 7) hX dX4_isMatch_6 rfl (Nat.le_of_ble_eq_true rfl) rfl rfl ?_
  refine z_aload_n (i := 0) (q := 8) hX dX4_isMatch_7 rfl rfl rfl ?_
  refine z_iload_n (i := 3) (q := 9) hX dX4_isMatch_8 rfl rfl rfl ?_
  refine z_iload_n (i := 2) (q := 10) hX dX4_isMatch_9 rfl rfl rfl ?_
  refine zt_V1 (q := 13) (na := 2) hX dX4_isMatch_10 (c_X4_isForm D A (by first | assumption | omega) (by first | assumption | omega)) q1998 q2000 qs47 q103 q2001 rfl (by decide +kernel) ⟨Nat.le_of_ble_eq_true rfl, Nat.le_of_ble_eq_true rfl⟩ rfl rfl (Nat.le_of_ble_eq_true rfl) rfl ⟨rfl, rfl⟩ (Nat.le_of_ble_eq_true rfl) (Nat.le_of_ble_eq_true rfl) rfl ?_
  refine z_istore (q := 15) hX dX4_isMatch_13 (Nat.le_of_ble_eq_true rfl) rfl rfl ?_
  refine z_iconst (q := 16) hX dX4_isMatch_15 rfl ?_
  refine z_istore (q := 18) hX dX4_isMatch_16 (Nat.le_of_ble_eq_true rfl) rfl rfl ?_
  exact K 0 (Nat.zero_le _) _ _ (by rw [he]; simp [allI]) rfl
