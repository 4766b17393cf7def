/-! THE REFERENCE: what it answers of columns -/
set_option maxRecDepth 100000
/-- a template's variables: their tokens -/
def vaP (M : Int → Int) (t : Int) : Int → Bool := fun k => !decide (slt M t k = -1)
def vaL (M : Int → Int) (t : Int) : List Int := rF (vaP M t) (nTl M (fst M t)).toNat
def tokO (M : Int → Int) (t c : Int) : Int := if c < 0 then -1 else (vaL M t).getD c.toNat (-1)
theorem vaL_len (M : Int → Int) (t : Int) : ((vaL M t).length : Int) = varsI M t := rF_len
theorem tokO_neg {M : Int → Int} {t c : Int} (h : c < 0) : tokO M t c = -1 := if_pos h
theorem tokO_no {M : Int → Int} {t c : Int} (h0 : 0 ≤ c) (h : varsI M t ≤ c) : tokO M t c = -1 := by
  unfold tokO
  have := vaL_len M t
  rw [if_neg (by omega), List.getD_eq_getElem?_getD, List.getElem?_eq_none (by omega)]
  rfl
theorem tokO_get {M : Int → Int} {t c : Int} (h0 : 0 ≤ c) (h : c < varsI M t) : (vaL M t)[c.toNat]? = some (tokO M t c) := by
  unfold tokO
  have := vaL_len M t
  rw [if_neg (by omega), List.getD_eq_getElem?_getD, List.getElem?_eq_getElem (by omega)]
  rfl
theorem tokO_rng {M : Int → Int} {t c : Int} (h0 : 0 ≤ c) (h : c < varsI M t) : 0 ≤ tokO M t c ∧ tokO M t c < nTl M (fst M t) ∧ slt M t (tokO M t c) ≠ -1 := by
  have h1 := rF_mem.mp (List.mem_of_getElem? (tokO_get h0 h))
  unfold vaP at h1
  simp only [Bool.not_eq_true', decide_eq_false_iff_not] at h1
  exact ⟨h1.1, by omega, h1.2.2⟩
theorem tokO_iff {M : Int → Int} {t c : Int} : 0 ≤ tokO M t c ↔ 0 ≤ c ∧ c < varsI M t := by
  constructor
  · intro h
    by_cases q : c < 0
    · rw [tokO_neg q] at h; omega
    · by_cases q2 : varsI M t ≤ c
      · rw [tokO_no (by omega) q2] at h; omega
      · omega
  · intro h
    exact (tokO_rng h.1 h.2).1
def isC (M : Int → Int) (t c : Int) : Bool := isT M t && (decide (0 ≤ c) && decide (0 ≤ tokO M t c))
theorem isC_iff {M : Int → Int} {t c : Int} : isC M t c = true ↔ isT M t = true ∧ 0 ≤ c ∧ c < varsI M t := by
  unfold isC
  rw [Bool.and_eq_true, and_t, tokO_iff]
  exact ⟨fun h => ⟨h.1, h.2.2⟩, fun h => ⟨h.1, h.2.1, h.2⟩⟩
theorem tokO_ge (M : Int → Int) (t c : Int) : -1 ≤ tokO M t c := by
  by_cases h : 0 ≤ tokO M t c
  · omega
  · have h2 : ¬ (0 ≤ c ∧ c < varsI M t) := fun q => h (tokO_iff.mpr q)
    by_cases q : c < 0
    · rw [tokO_neg q]; omega
    · rw [tokO_no (by omega) (by omega)]; omega
abbrev rmX4_tokenOf : Room := { frames := 2, cells := 0, slots := 0, locals := 45 }
set_option maxHeartbeats 4000000 in
theorem c_X4_tokenOf (D : zD) (A : Nat → Prop) {b : Nat} {F : zTF} {G : zTG} {t c : Int} (hw : zWf G) (ht : isT (G 0) t = true) (hc : zR c) : zC D yX4_tokenOf cX4_tokenOf 5 (some .int) none rmX4_tokenOf A [.ref b, zI (t), zI (c)] (twI D A b F G) (zPd (zI (tokO (G 0) t c)) (twI D A b (F) (G))) zNo := by
  refine zC_start (L := [some (.ref b), some (zI (t)), some (zI (c)), none, none]) (by decide) (Nat.le_of_ble_eq_true rfl) rfl (fun X hX => ?_)
  have hf := hw.fs ht
  have K : ∀ n : Nat, n ≤ (nTl (G 0) (fst (G 0) t)).toNat → ∀ v p : Int, v = c - (rF (vaP (G 0) t) n).length → (0 ≤ v ∨ (n = 0 ∧ v = c)) → p = n → zG X 0 0 (twI D A b F G) 5 [some (.ref b), some (zI (t)), some (zI (c)), some (zI (v)), some (zI (p))] [] := by
    refine z_up (fun n hn ih v p e1 hv e2 => ?_)
    subst e2
    have hl := rF_le (p := vaP (G 0) t) (n := n)
    have hs : ∀ x : Bool, vaP (G 0) t n = x → ((rF (vaP (G 0) t) (n + 1)).length : Int) = (rF (vaP (G 0) t) n).length + bi x := fun x hx => by
      rw [rF, hx]; cases x <;> simp [bi]
    have hrc : zR c := hc
    refine z_iload (q := 7) hX dX4_tokenOf_5 rfl rfl ?_
    refine z_aload_n (i := 0) (q := 8) hX dX4_tokenOf_7 rfl rfl rfl ?_
    refine z_iload_n (i := 1) (q := 9) hX dX4_tokenOf_8 rfl rfl rfl ?_
    refine zt_V1 (q := 12) (na := 1) hX dX4_tokenOf_9 (c_X4_tokensOf D A (by first | assumption | omega) (by first | assumption | omega)) q2085 q2087 qs62 q103 q2088 rfl (by decide +kernel) ⟨Nat.le_of_ble_eq_true rfl, Nat.le_of_ble_eq_true rfl⟩ rfl rfl (Nat.le_of_ble_eq_true rfl) rfl ⟨rfl, rfl⟩ (Nat.le_of_ble_eq_true rfl) (Nat.le_of_ble_eq_true rfl) rfl ?_
    refine z_icmp_ge (q := 15) (t := 46) hX dX4_tokenOf_12 (by decide) (by omega) (by omega) rfl (fun h12 => ?_) (fun h12 => ?_)
    · refine z_iconst (q := 47) hX dX4_tokenOf_46 rfl ?_
      exact z_iret hX dX4_tokenOf_47 (Nat.le_of_ble_eq_true rfl) (Nat.le_of_ble_eq_true rfl) rfl (fun H hI => ⟨congrArg (fun z => some (zI z)) ((by
        by_cases q : c < 0
        · exact (tokO_neg q).symm
        · refine (tokO_no (by omega) ?_).symm
          rw [← vaL_len]
          unfold vaL
          rw [show (nTl (G 0) (fst (G 0) t)).toNat = n by omega]
          omega)), hI⟩)
    · refine z_iload_n (i := 3) (q := 16) hX dX4_tokenOf_15 rfl rfl rfl ?_
      refine z_if_lt (q := 19) (t := 46) hX dX4_tokenOf_16 (by decide) (by omega) rfl (fun h16 => ?_) (fun h16 => ?_)
      · refine z_iconst (q := 47) hX dX4_tokenOf_46 rfl ?_
        exact z_iret hX dX4_tokenOf_47 (Nat.le_of_ble_eq_true rfl) (Nat.le_of_ble_eq_true rfl) rfl (fun H hI => ⟨congrArg (fun z => some (zI z)) ((tokO_neg (by omega)).symm), hI⟩)
      · refine z_aload_n (i := 0) (q := 20) hX dX4_tokenOf_19 rfl rfl rfl ?_
        refine z_iload_n (i := 1) (q := 21) hX dX4_tokenOf_20 rfl rfl rfl ?_
        refine z_iload (q := 23) hX dX4_tokenOf_21 rfl rfl ?_
        have hsl := hw.sl (t := t) (k := n) (by omega) (by omega) (by omega) (by omega)
        refine zt_V1 (q := 26) (na := 2) hX dX4_tokenOf_23 (c_X4_slotOf D A (by first | assumption | omega) (by first | assumption | omega)) q2014 q2016 qs51 q103 q2017 rfl (by decide +kernel) ⟨Nat.le_of_ble_eq_true rfl, Nat.le_of_ble_eq_true rfl⟩ rfl rfl (Nat.le_of_ble_eq_true rfl) rfl ⟨rfl, rfl⟩ (Nat.le_of_ble_eq_true rfl) (Nat.le_of_ble_eq_true rfl) rfl ?_
        refine z_iconst (q := 27) hX dX4_tokenOf_26 rfl ?_
        refine z_icmp_eq (q := 30) (t := 40) hX dX4_tokenOf_27 (by decide) (by omega) (by omega) rfl (fun h27 => ?_) (fun h27 => ?_)
        · refine z_iinc (q := 43) hX dX4_tokenOf_40 rfl (Nat.le_of_ble_eq_true rfl) rfl rfl ?_
          refine z_goto (t := 5) hX dX4_tokenOf_43 (by decide) ?_
          exact ih (by omega) _ _ (by rw [hs false (by unfold vaP; rw [decide_eq_true (by omega)]; rfl), bi_f]; omega) (by omega) (by omega)
        · refine z_iload_n (i := 3) (q := 31) hX dX4_tokenOf_30 rfl rfl rfl ?_
          refine z_if_ne (q := 34) (t := 37) hX dX4_tokenOf_31 (by decide) (by omega) rfl (fun h31 => ?_) (fun h31 => ?_)
          · refine z_iinc (q := 40) hX dX4_tokenOf_37 rfl (Nat.le_of_ble_eq_true rfl) rfl rfl ?_
            refine z_iinc (q := 43) hX dX4_tokenOf_40 rfl (Nat.le_of_ble_eq_true rfl) rfl rfl ?_
            refine z_goto (t := 5) hX dX4_tokenOf_43 (by decide) ?_
            exact ih (by omega) _ _ (by rw [hs true (by unfold vaP; rw [decide_eq_false h27]; rfl), bi_t]; omega) (by omega) (by omega)
          · refine z_iload (q := 36) hX dX4_tokenOf_34 rfl rfl ?_
            exact z_iret hX dX4_tokenOf_36 (Nat.le_of_ble_eq_true rfl) (Nat.le_of_ble_eq_true rfl) rfl (fun H hI => ⟨congrArg (fun z => some (zI z)) ((by
              have h9 := rF_at (p := vaP (G 0) t) (l := n) (n := (nTl (G 0) (fst (G 0) t)).toNat) (by omega) (by unfold vaP; rw [decide_eq_false h27]; rfl)
              unfold tokO vaL
              rw [if_neg (by omega), List.getD_eq_getElem?_getD, show c.toNat = (rF (vaP (G 0) t) n).length by omega, h9]
              rfl)), hI⟩)
  refine z_iload_n (i := 2) (q := 1) hX dX4_tokenOf_0 rfl rfl rfl ?_
  refine z_istore_n (i := 3) (q := 2) hX dX4_tokenOf_1 rfl (Nat.le_of_ble_eq_true rfl) rfl rfl ?_
  refine z_iconst (q := 3) hX dX4_tokenOf_2 rfl ?_
  refine z_istore (q := 5) hX dX4_tokenOf_3 (Nat.le_of_ble_eq_true rfl) rfl rfl ?_
  exact K 0 (Nat.zero_le _) _ _ (by simp [rF]) (Or.inr ⟨rfl, rfl⟩) rfl
abbrev rmX4_isColumn : Room := { frames := 3, cells := 0, slots := 0, locals := 69 }
set_option maxHeartbeats 4000000 in
theorem c_X4_isColumn (D : zD) (A : Nat → Prop) {b : Nat} {F : zTF} {G : zTG} {t c : Int} (hw : zWf G) (ht : zR t) (hc : zR c) : zC D yX4_isColumn cX4_isColumn 3 (some .boolean) none rmX4_isColumn A [.ref b, zI (t), zI (c)] (twI D A b F G) (zPd (zI (bi (isC (G 0) t c))) (twI D A b (F) (G))) zNo := by
  refine zC_start (L := [some (.ref b), some (zI (t)), some (zI (c))]) (by decide) (Nat.le_of_ble_eq_true rfl) rfl (fun X hX => ?_)
  have hm := hw.1
  refine z_aload_n (i := 0) (q := 1) hX dX4_isColumn_0 rfl rfl rfl ?_
  refine z_iload_n (i := 1) (q := 2) hX dX4_isColumn_1 rfl rfl rfl ?_
  refine zt_V1 (q := 5) (na := 1) hX dX4_isColumn_2 (c_X4_isTemplate D A (by first | assumption | omega) (by first | assumption | omega)) q1986 q1988 qs44 q103 q1989 rfl (by decide +kernel) ⟨Nat.le_of_ble_eq_true rfl, Nat.le_of_ble_eq_true rfl⟩ rfl rfl (Nat.le_of_ble_eq_true rfl) rfl ⟨rfl, rfl⟩ (Nat.le_of_ble_eq_true rfl) (Nat.le_of_ble_eq_true rfl) rfl ?_
  refine z_ifB_eq (q := 8) (t := 25) hX dX4_isColumn_5 (by decide) rfl (fun h5 => ?_) (fun h5 => ?_)
  · refine z_iconst (q := 26) hX dX4_isColumn_25 rfl ?_
    exact z_zret hX dX4_isColumn_26 (Nat.le_of_ble_eq_true rfl) (Nat.le_of_ble_eq_true rfl) rfl (by first | decide | omega) (fun H hI => ⟨congrArg (fun z => some (zI z)) ((by unfold isC; rw [h5]; rfl)), hI⟩)
  · refine z_iload_n (i := 2) (q := 9) hX dX4_isColumn_8 rfl rfl rfl ?_
    refine z_if_lt (q := 12) (t := 25) hX dX4_isColumn_9 (by decide) (by omega) rfl (fun h9 => ?_) (fun h9 => ?_)
    · refine z_iconst (q := 26) hX dX4_isColumn_25 rfl ?_
      exact z_zret hX dX4_isColumn_26 (Nat.le_of_ble_eq_true rfl) (Nat.le_of_ble_eq_true rfl) rfl (by first | decide | omega) (fun H hI => ⟨congrArg (fun z => some (zI z)) ((by unfold isC; rw [h5, decide_eq_false (by omega)]; rfl)), hI⟩)
    · refine z_aload_n (i := 0) (q := 13) hX dX4_isColumn_12 rfl rfl rfl ?_
      refine z_iload_n (i := 1) (q := 14) hX dX4_isColumn_13 rfl rfl rfl ?_
      refine z_iload_n (i := 2) (q := 15) hX dX4_isColumn_14 rfl rfl rfl ?_
      have hge := tokO_ge (G 0) t c
      have hf := hw.fs h5
      have hlt : tokO (G 0) t c ≤ 20 := by
        by_cases q : 0 ≤ tokO (G 0) t c
        · have := tokO_iff.mp q
          have := tokO_rng this.1 this.2
          omega
        · omega
      refine zt_V1 (q := 18) (na := 2) hX dX4_isColumn_15 (c_X4_tokenOf D A (by first | assumption | omega) (by first | assumption | omega) (by first | assumption | omega)) q2184 q2186 qs81 q103 q2187 rfl (by decide +kernel) ⟨Nat.le_of_ble_eq_true rfl, Nat.le_of_ble_eq_true rfl⟩ rfl rfl (Nat.le_of_ble_eq_true rfl) rfl ⟨rfl, rfl⟩ (Nat.le_of_ble_eq_true rfl) (Nat.le_of_ble_eq_true rfl) rfl ?_
      refine z_if_lt (q := 21) (t := 25) hX dX4_isColumn_18 (by decide) (by omega) rfl (fun h18 => ?_) (fun h18 => ?_)
      · refine z_iconst (q := 26) hX dX4_isColumn_25 rfl ?_
        exact z_zret hX dX4_isColumn_26 (Nat.le_of_ble_eq_true rfl) (Nat.le_of_ble_eq_true rfl) rfl (by first | decide | omega) (fun H hI => ⟨congrArg (fun z => some (zI z)) ((by unfold isC; rw [h5, decide_eq_true (by omega), decide_eq_false (by omega)]; rfl)), hI⟩)
      · refine z_iconst (q := 22) hX dX4_isColumn_21 rfl ?_
        refine z_goto (t := 26) hX dX4_isColumn_22 (by decide) ?_
        exact z_zret hX dX4_isColumn_26 (Nat.le_of_ble_eq_true rfl) (Nat.le_of_ble_eq_true rfl) rfl (by first | decide | omega) (fun H hI => ⟨congrArg (fun z => some (zI z)) ((by unfold isC; rw [h5, decide_eq_true (by omega), decide_eq_true (by omega)]; rfl)), hI⟩)
/-- different tokens of a column -/
def dffI (n : Nat) (c : Int → zS) : Int := sumI (fun r => bi (decide (fstI c r = r))) n
def opCol (M : Int → Int) (t c w : Int) : Int × Int := if isC M t c = false then (1, 0) else if ¬ (0 ≤ w ∧ w ≤ 4) then (2, 0) else (0, if w = 0 then tokO M t c else if w = 1 then dffI (nR M t).toNat (colT M t (tokO M t c)) else if w = 2 then runI (nR M t).toNat (colT M t (tokO M t c)) false else if w = 3 then wayM M t (tokO M t c) else cosM M t (tokO M t c) (wayM M t (tokO M t c)))
def opCost (M : Int → Int) (t c w : Int) : Int × Int := if isC M t c = false then (1, 0) else if ¬ (0 ≤ w ∧ w ≤ 3) then (2, 0) else (0, cosM M t (tokO M t c) w)
def opCode (M : Int → Int) (t c r : Int) : Int × Int := if isC M t c = true ∧ 0 ≤ r ∧ r ≤ nR M t - 1 then (0, dffI (fstI (colT M t (tokO M t c)) r).toNat (colT M t (tokO M t c))) else (1, 0)
def opVal (M : Int → Int) (t c r : Int) : Int × Int := if isC M t c = true ∧ 0 ≤ r ∧ r ≤ nR M t - 1 then (if typ (colT M t (tokO M t c) r) = 2 then (0, num (colT M t (tokO M t c) r)) else (2, 0)) else (1, 0)
def opSum (M : Int → Int) (t c : Int) : Int × Int := if isC M t c = true then (0, sumI (fun r => if typ (colT M t (tokO M t c) r) = 2 then num (colT M t (tokO M t c) r) else 0) (nR M t).toNat) else (1, 0)
abbrev rmX4_column : Room := { frames := 7, cells := 0, slots := 0, locals := 165 }
set_option maxHeartbeats 4000000 in
theorem c_X4_column (D : zD) (A : Nat → Prop) {b : Nat} {F : zTF} {G : zTG} {t c w : Int} (h : zWg G) (ht : zR t) (hc : zR c) (hi : zR w) : zC D yX4_column cX4_column 7 (some .int) none rmX4_column A [.ref b, zI (t), zI (c), zI (w)] (twI D A b F G) (zPd (zI ((opCol (G 0) t c w).2)) (twE D A b (zS17 (upF F 6 (opCol (G 0) t c w).1) G))) zNo := by
  refine zC_start (L := [some (.ref b), some (zI (t)), some (zI (c)), some (zI (w)), none, none, none]) (by decide) (Nat.le_of_ble_eq_true rfl) rfl (fun X hX => ?_)
  have hw := h.1
  have hm := hw.1
  have J28 : ∀ z : Int, 1 ≤ z ∧ z ≤ 2 → opCol (G 0) t c w = (z, 0) → zG X 0 0 (twI D A b F G) 28 [some (.ref b), some (zI (t)), some (zI (c)), some (zI (w)), none, none, none] [zI (z), .ref b] := by
    intro z hz e
    rw [e] at hX
    refine zt_put (ty := .int) (q := 31) hX 6 dX4_column_28 q1870 (by decide) rfl rfl rfl (by decide) rfl rfl rfl ?_
    refine z_aload_n (i := 0) (q := 32) hX dX4_column_31 rfl rfl rfl ?_
    refine zt_getI (q := 35) hX 6 dX4_column_32 q1870 (by decide) rfl rfl rfl ?_
    rw [upF_same]
    refine z_if_le (q := 38) (t := 40) hX dX4_column_35 (by decide) (by omega) rfl (fun h35 => ?_) (fun h35 => ?_)
    · exact absurd h35 (by omega)
    · refine z_iconst (q := 39) hX dX4_column_38 rfl ?_
      exact z_iret hX dX4_column_39 (Nat.le_of_ble_eq_true rfl) (Nat.le_of_ble_eq_true rfl) rfl (fun H hI => ⟨rfl, _, _, zS17.rf _ _, hI⟩)
  have J40 : isC (G 0) t c = true → (0 ≤ w ∧ w ≤ 4) → zG X 0 0 (twI D A b (upF F 6 0) G) 40 [some (.ref b), some (zI (t)), some (zI (c)), some (zI (w)), none, none, none] [] := by
    intro q1 q2
    have e1 : opCol (G 0) t c w = (0, if w = 0 then tokO (G 0) t c else if w = 1 then dffI (nR (G 0) t).toNat (colT (G 0) t (tokO (G 0) t c)) else if w = 2 then runI (nR (G 0) t).toNat (colT (G 0) t (tokO (G 0) t c)) false else if w = 3 then wayM (G 0) t (tokO (G 0) t c) else cosM (G 0) t (tokO (G 0) t c) (wayM (G 0) t (tokO (G 0) t c))) := by unfold opCol; rw [if_neg (by rw [q1]; decide), if_neg (fun q => q q2)]
    rw [e1] at hX
    simp only at hX
    have q3 := isC_iff.mp q1
    have q4 := tokO_rng q3.2.1 q3.2.2
    have hf := hw.fs q3.1
    have q5 := q3.1
    obtain ⟨kk, hkk⟩ : ∃ kk, kk = tokO (G 0) t c := ⟨_, rfl⟩
    rw [← hkk] at q4 hX
    have hcol := h.col (F := upF F 6 0) q3.1 q4.1 q4.2.1
    have e0 : rowsG G t 0 = G 0 := rowG_j G t _ (by decide)
    have hg1 : zWg (rowsG G t) := h.sc (rowG_j G t _ (by decide)) (rowG_j G t _ (by decide)) (rowG_j G t _ (by decide)) (rowG_j G t _ (by decide))
    have hwy := wayS_rng (nR (G 0) t).toNat (colT (G 0) t kk) 3
    have hn := hcol.2.1
    have hz : zS17 (upF F 6 0) G (upF (upF F 6 0) 17 (nR (G 0) t)) (rowsG G t) := (zS17.rf _ _).row _ _
    have hFr : upF (upF F 6 0) 17 (nR (G 0) t) 17 = nR (G 0) t := upF_same _ _ _
    have hnr := nR_rng (G 0) t (by omega)
    have K : ∀ m : Nat, m ≤ (nR (G 0) t).toNat → ∀ s p : Int, s = dffI m (colT (G 0) t kk) → p = m → zG X 0 0 (twI D A b (upF (upF F 6 0) 17 (nR (G 0) t)) (rowsG G t)) 59 [some (.ref b), some (zI (t)), some (zI (c)), some (zI (w)), some (zI (kk)), some (zI (s)), some (zI (p))] [] := by
      refine z_up (fun m hmm ih s p e2 e3 => ?_)
      subst e3
      have hfl := fstI_le (colT (G 0) t kk) (r := m) (by omega)
      have hs : dffI (m + 1) (colT (G 0) t kk) = s + bi (decide (fstI (colT (G 0) t kk) m = m)) := by rw [e2]; rfl
      refine z_iload (q := 61) hX dX4_column_59 rfl rfl ?_
      refine z_aload_n (i := 0) (q := 62) hX dX4_column_61 rfl rfl rfl ?_
      refine zt_getI (q := 65) hX 17 dX4_column_62 q1881 (by decide) rfl rfl rfl ?_
      refine z_icmp_ge (q := 68) (t := 97) hX dX4_column_65 (by decide) (by omega) (by omega) rfl (fun h65 => ?_) (fun h65 => ?_)
      · refine z_aload_n (i := 0) (q := 98) hX dX4_column_97 rfl rfl rfl ?_
        refine z_iload_n (i := 1) (q := 99) hX dX4_column_98 rfl rfl rfl ?_
        refine z_iload (q := 101) hX dX4_column_99 rfl rfl ?_
        refine zt_V1 (q := 104) (na := 2) hX dX4_column_101 (c_X4_wayOf D A hg1 (by rw [e0]; exact q3.1) (by rw [e0]; exact ⟨q4.1, q4.2.1⟩)) q2141 q2143 qs72 q103 q2144 rfl (by decide +kernel) ⟨Nat.le_of_ble_eq_true rfl, Nat.le_of_ble_eq_true rfl⟩ rfl rfl (Nat.le_of_ble_eq_true rfl) rfl ⟨rfl, rfl⟩ (Nat.le_of_ble_eq_true rfl) (Nat.le_of_ble_eq_true rfl) rfl ?_
        rw [e0, upF_upF, rowsG_2]
        refine z_istore (q := 106) hX dX4_column_104 (Nat.le_of_ble_eq_true rfl) rfl rfl ?_
        refine z_iload_n (i := 3) (q := 107) hX dX4_column_106 rfl rfl rfl ?_
        refine z_if_ne (q := 110) (t := 115) hX dX4_column_107 (by decide) (by omega) rfl (fun h107 => ?_) (fun h107 => ?_)
        · refine z_iload_n (i := 3) (q := 116) hX dX4_column_115 rfl rfl rfl ?_
          refine z_iconst (q := 117) hX dX4_column_116 rfl ?_
          refine z_icmp_ne (q := 120) (t := 125) hX dX4_column_117 (by decide) (by omega) (by omega) rfl (fun h117 => ?_) (fun h117 => ?_)
          · refine z_iload_n (i := 3) (q := 126) hX dX4_column_125 rfl rfl rfl ?_
            refine z_iconst (q := 127) hX dX4_column_126 rfl ?_
            refine z_icmp_ne (q := 130) (t := 140) hX dX4_column_127 (by decide) (by omega) (by omega) rfl (fun h127 => ?_) (fun h127 => ?_)
            · refine z_iload_n (i := 3) (q := 141) hX dX4_column_140 rfl rfl rfl ?_
              refine z_iconst (q := 142) hX dX4_column_141 rfl ?_
              refine z_icmp_ne (q := 145) (t := 150) hX dX4_column_142 (by decide) (by omega) (by omega) rfl (fun h142 => ?_) (fun h142 => ?_)
              · refine z_aload_n (i := 0) (q := 151) hX dX4_column_150 rfl rfl rfl ?_
                refine z_iload_n (i := 1) (q := 152) hX dX4_column_151 rfl rfl rfl ?_
                refine z_iload (q := 154) hX dX4_column_152 rfl rfl ?_
                refine z_iload (q := 156) hX dX4_column_154 rfl rfl ?_
                refine zt_V1 (q := 159) (na := 3) hX dX4_column_156 (c_X4_costOf D A hg1 (by rw [e0]; exact q3.1) (by rw [e0]; exact ⟨q4.1, q4.2.1⟩) (by unfold wayM wayI; omega)) q2145 q2147 qs73 q103 q2148 rfl (by decide +kernel) ⟨Nat.le_of_ble_eq_true rfl, Nat.le_of_ble_eq_true rfl⟩ rfl rfl (Nat.le_of_ble_eq_true rfl) rfl ⟨rfl, rfl⟩ (Nat.le_of_ble_eq_true rfl) (Nat.le_of_ble_eq_true rfl) rfl ?_
                exact z_iret hX dX4_column_159 (Nat.le_of_ble_eq_true rfl) (Nat.le_of_ble_eq_true rfl) rfl (fun H hI => ⟨congrArg (fun z => some (zI z)) (by rw [e0, if_neg h107, if_neg h117, if_neg h127, if_neg h142]), _, _, hz, by rw [e0, upF_upF, rowsG_2] at hI; exact hI⟩)
              · refine z_iload (q := 147) hX dX4_column_145 rfl rfl ?_
                refine z_goto (t := 159) hX dX4_column_147 (by decide) ?_
                exact z_iret hX dX4_column_159 (Nat.le_of_ble_eq_true rfl) (Nat.le_of_ble_eq_true rfl) rfl (fun H hI => ⟨congrArg (fun z => some (zI z)) (by rw [if_neg h107, if_neg h117, if_neg h127, if_pos (by omega)]), _, _, hz, hI⟩)
            · refine z_aload_n (i := 0) (q := 131) hX dX4_column_130 rfl rfl rfl ?_
              refine z_iload (q := 133) hX dX4_column_131 rfl rfl ?_
              refine z_iconst (q := 134) hX dX4_column_133 rfl ?_
              refine zt_V1 (q := 137) (na := 2) hX dX4_column_134 (c_X4_runs D A (d := false) hcol) q2161 q2163 qs77 q103 q2164 rfl (by decide +kernel) ⟨Nat.le_of_ble_eq_true rfl, Nat.le_of_ble_eq_true rfl⟩ rfl rfl (Nat.le_of_ble_eq_true rfl) rfl ⟨rfl, rfl⟩ (Nat.le_of_ble_eq_true rfl) (Nat.le_of_ble_eq_true rfl) rfl ?_
              refine z_goto (t := 159) hX dX4_column_137 (by decide) ?_
              exact z_iret hX dX4_column_159 (Nat.le_of_ble_eq_true rfl) (Nat.le_of_ble_eq_true rfl) rfl (fun H hI => ⟨congrArg (fun z => some (zI z)) (by rw [if_neg h107, if_neg h117, if_pos (by omega)]), _, _, hz, hI⟩)
          · refine z_iload (q := 122) hX dX4_column_120 rfl rfl ?_
            refine z_goto (t := 159) hX dX4_column_122 (by decide) ?_
            exact z_iret hX dX4_column_159 (Nat.le_of_ble_eq_true rfl) (Nat.le_of_ble_eq_true rfl) rfl (fun H hI => ⟨congrArg (fun z => some (zI z)) (by rw [if_neg h107, if_pos (by omega), e2, show m = (nR (G 0) t).toNat by omega]), _, _, hz, hI⟩)
        · refine z_iload (q := 112) hX dX4_column_110 rfl rfl ?_
          refine z_goto (t := 159) hX dX4_column_112 (by decide) ?_
          exact z_iret hX dX4_column_159 (Nat.le_of_ble_eq_true rfl) (Nat.le_of_ble_eq_true rfl) rfl (fun H hI => ⟨congrArg (fun z => some (zI z)) (by rw [if_pos (by omega)]), _, _, hz, hI⟩)
      · refine z_iload (q := 70) hX dX4_column_68 rfl rfl ?_
        refine z_aload_n (i := 0) (q := 71) hX dX4_column_70 rfl rfl rfl ?_
        refine z_iload (q := 73) hX dX4_column_71 rfl rfl ?_
        refine z_iload (q := 75) hX dX4_column_73 rfl rfl ?_
        refine zt_V1 (q := 78) (na := 2) hX dX4_column_75 (c_X4_firstLike D A hcol (r := m) (by omega)) q2157 q2159 qs76 q103 q2160 rfl (by decide +kernel) ⟨Nat.le_of_ble_eq_true rfl, Nat.le_of_ble_eq_true rfl⟩ rfl rfl (Nat.le_of_ble_eq_true rfl) rfl ⟨rfl, rfl⟩ (Nat.le_of_ble_eq_true rfl) (Nat.le_of_ble_eq_true rfl) rfl ?_
        refine z_iload (q := 80) hX dX4_column_78 rfl rfl ?_
        refine z_icmp_ne (q := 83) (t := 87) hX dX4_column_80 (by decide) (by omega) (by omega) rfl (fun h80 => ?_) (fun h80 => ?_)
        · refine z_iconst (q := 88) hX dX4_column_87 rfl ?_
          refine z_iadd (q := 89) hX dX4_column_88 rfl ?_
          refine z_istore (q := 91) hX dX4_column_89 (Nat.le_of_ble_eq_true rfl) rfl rfl ?_
          refine z_iinc (q := 94) hX dX4_column_91 rfl (Nat.le_of_ble_eq_true rfl) rfl rfl ?_
          refine z_goto (t := 59) hX dX4_column_94 (by decide) ?_
          exact ih (by omega) _ _ (by rw [hs, decide_eq_false h80]; rfl) (by omega)
        · refine z_iconst (q := 84) hX dX4_column_83 rfl ?_
          refine z_goto (t := 88) hX dX4_column_84 (by decide) ?_
          refine z_iadd (q := 89) hX dX4_column_88 rfl ?_
          refine z_istore (q := 91) hX dX4_column_89 (Nat.le_of_ble_eq_true rfl) rfl rfl ?_
          refine z_iinc (q := 94) hX dX4_column_91 rfl (Nat.le_of_ble_eq_true rfl) rfl rfl ?_
          refine z_goto (t := 59) hX dX4_column_94 (by decide) ?_
          exact ih (by omega) _ _ (by rw [hs, decide_eq_true (by omega)]; rfl) (by omega)
    refine z_aload_n (i := 0) (q := 41) hX dX4_column_40 rfl rfl rfl ?_
    refine z_iload_n (i := 1) (q := 42) hX dX4_column_41 rfl rfl rfl ?_
    refine z_iload_n (i := 2) (q := 43) hX dX4_column_42 rfl rfl rfl ?_
    refine zt_V1 (q := 46) (na := 2) hX dX4_column_43 (c_X4_tokenOf D A (by first | assumption | omega) (by first | assumption | omega) (by first | assumption | omega)) q2184 q2186 qs81 q103 q2187 rfl (by decide +kernel) ⟨Nat.le_of_ble_eq_true rfl, Nat.le_of_ble_eq_true rfl⟩ rfl rfl (Nat.le_of_ble_eq_true rfl) rfl ⟨rfl, rfl⟩ (Nat.le_of_ble_eq_true rfl) (Nat.le_of_ble_eq_true rfl) rfl ?_
    rw [← hkk]
    refine z_istore (q := 48) hX dX4_column_46 (Nat.le_of_ble_eq_true rfl) rfl rfl ?_
    refine z_aload_n (i := 0) (q := 49) hX dX4_column_48 rfl rfl rfl ?_
    refine z_iload_n (i := 1) (q := 50) hX dX4_column_49 rfl rfl rfl ?_
    refine zt_V0 (q := 53) (na := 1) hX dX4_column_50 (c_X4_layRows D A (by first | assumption | omega) (by first | assumption | omega)) q2149 q2151 qs74 q103 q2152 rfl (by decide +kernel) ⟨Nat.le_of_ble_eq_true rfl, Nat.le_of_ble_eq_true rfl⟩ rfl rfl (Nat.le_of_ble_eq_true rfl) rfl ⟨rfl, rfl⟩ (Nat.le_of_ble_eq_true rfl) (Nat.le_of_ble_eq_true rfl) rfl ?_
    refine z_iconst (q := 54) hX dX4_column_53 rfl ?_
    refine z_istore (q := 56) hX dX4_column_54 (Nat.le_of_ble_eq_true rfl) rfl rfl ?_
    refine z_iconst (q := 57) hX dX4_column_56 rfl ?_
    refine z_istore (q := 59) hX dX4_column_57 (Nat.le_of_ble_eq_true rfl) rfl rfl ?_
    exact K 0 (Nat.zero_le _) _ _ rfl rfl
  refine z_aload_n (i := 0) (q := 1) hX dX4_column_0 rfl rfl rfl ?_
  refine z_aload_n (i := 0) (q := 2) hX dX4_column_1 rfl rfl rfl ?_
  refine z_iload_n (i := 1) (q := 3) hX dX4_column_2 rfl rfl rfl ?_
  refine z_iload_n (i := 2) (q := 4) hX dX4_column_3 rfl rfl rfl ?_
  refine zt_V1 (q := 7) (na := 2) hX dX4_column_4 (c_X4_isColumn D A (by first | assumption | omega) (by first | assumption | omega) (by first | assumption | omega)) q2180 q2182 qs80 q103 q2183 rfl (by decide +kernel) ⟨Nat.le_of_ble_eq_true rfl, Nat.le_of_ble_eq_true rfl⟩ rfl rfl (Nat.le_of_ble_eq_true rfl) rfl ⟨rfl, rfl⟩ (Nat.le_of_ble_eq_true rfl) (Nat.le_of_ble_eq_true rfl) rfl ?_
  refine z_ifB_ne (q := 10) (t := 14) hX dX4_column_7 (by decide) rfl (fun h7 => ?_) (fun h7 => ?_)
  · refine z_iload_n (i := 3) (q := 15) hX dX4_column_14 rfl rfl rfl ?_
    refine z_iconst (q := 16) hX dX4_column_15 rfl ?_
    refine z_iconst (q := 17) hX dX4_column_16 rfl ?_
    refine zt_S1 (q := 20) (na := 3) hX dX4_column_17 (c_X4_in D A (by first | assumption | omega) (by first | assumption | omega) (by first | assumption | omega)) q1955 q1956 q103 q1957 (by decide +kernel) ⟨Nat.le_of_ble_eq_true rfl, Nat.le_of_ble_eq_true rfl⟩ rfl rfl (Nat.le_of_ble_eq_true rfl) rfl ⟨rfl, rfl⟩ (Nat.le_of_ble_eq_true rfl) (Nat.le_of_ble_eq_true rfl) rfl ?_
    refine z_ifB_ne (q := 23) (t := 27) hX dX4_column_20 (by decide) rfl (fun h20 => ?_) (fun h20 => ?_)
    · refine z_iconst (q := 28) hX dX4_column_27 rfl ?_
      refine zt_put (ty := .int) (q := 31) hX 6 dX4_column_28 q1870 (by decide) rfl rfl rfl (by decide) rfl rfl rfl ?_
      refine z_aload_n (i := 0) (q := 32) hX dX4_column_31 rfl rfl rfl ?_
      refine zt_getI (q := 35) hX 6 dX4_column_32 q1870 (by decide) rfl rfl rfl ?_
      rw [upF_same]
      refine z_if_le (q := 38) (t := 40) hX dX4_column_35 (by decide) (by omega) rfl (fun h35 => ?_) (fun h35 => ?_)
      · exact J40 h7 (and_t.mp h20)
      · exact absurd h35 (by decide)
    · refine z_iconst (q := 24) hX dX4_column_23 rfl ?_
      refine z_goto (t := 28) hX dX4_column_24 (by decide) ?_
      exact J28 2 (by omega) (by unfold opCol; rw [if_neg (by rw [h7]; decide), if_pos (and_f.mp h20)])
  · refine z_iconst (q := 11) hX dX4_column_10 rfl ?_
    refine z_goto (t := 28) hX dX4_column_11 (by decide) ?_
    exact J28 1 (by omega) (by unfold opCol; rw [if_pos h7])
abbrev rmX4_cost : Room := { frames := 6, cells := 0, slots := 0, locals := 140 }
set_option maxHeartbeats 4000000 in
theorem c_X4_cost (D : zD) (A : Nat → Prop) {b : Nat} {F : zTF} {G : zTG} {t c w : Int} (h : zWg G) (ht : zR t) (hc : zR c) (hi : zR w) : zC D yX4_cost cX4_cost 4 (some .int) none rmX4_cost A [.ref b, zI (t), zI (c), zI (w)] (twI D A b F G) (zPd (zI ((opCost (G 0) t c w).2)) (twE D A b (zS17 (upF F 6 (opCost (G 0) t c w).1) G))) zNo := by
  refine zC_start (L := [some (.ref b), some (zI (t)), some (zI (c)), some (zI (w))]) (by decide) (Nat.le_of_ble_eq_true rfl) rfl (fun X hX => ?_)
  have hw := h.1
  have hm := hw.1
  have J28 : ∀ z : Int, 1 ≤ z ∧ z ≤ 2 → opCost (G 0) t c w = (z, 0) → zG X 0 0 (twI D A b F G) 28 [some (.ref b), some (zI (t)), some (zI (c)), some (zI (w))] [zI (z), .ref b] := by
    intro z hz e
    rw [e] at hX
    refine zt_put (ty := .int) (q := 31) hX 6 dX4_cost_28 q1870 (by decide) rfl rfl rfl (by decide) rfl rfl rfl ?_
    refine z_aload_n (i := 0) (q := 32) hX dX4_cost_31 rfl rfl rfl ?_
    refine zt_getI (q := 35) hX 6 dX4_cost_32 q1870 (by decide) rfl rfl rfl ?_
    rw [upF_same]
    refine z_if_le (q := 38) (t := 42) hX dX4_cost_35 (by decide) (by omega) rfl (fun h35 => ?_) (fun h35 => ?_)
    · exact absurd h35 (by omega)
    · refine z_iconst (q := 39) hX dX4_cost_38 rfl ?_
      refine z_goto (t := 54) hX dX4_cost_39 (by decide) ?_
      exact z_iret hX dX4_cost_54 (Nat.le_of_ble_eq_true rfl) (Nat.le_of_ble_eq_true rfl) rfl (fun H hI => ⟨rfl, _, _, zS17.rf _ _, hI⟩)
  refine z_aload_n (i := 0) (q := 1) hX dX4_cost_0 rfl rfl rfl ?_
  refine z_aload_n (i := 0) (q := 2) hX dX4_cost_1 rfl rfl rfl ?_
  refine z_iload_n (i := 1) (q := 3) hX dX4_cost_2 rfl rfl rfl ?_
  refine z_iload_n (i := 2) (q := 4) hX dX4_cost_3 rfl rfl rfl ?_
  refine zt_V1 (q := 7) (na := 2) hX dX4_cost_4 (c_X4_isColumn D A (by first | assumption | omega) (by first | assumption | omega) (by first | assumption | omega)) q2180 q2182 qs80 q103 q2183 rfl (by decide +kernel) ⟨Nat.le_of_ble_eq_true rfl, Nat.le_of_ble_eq_true rfl⟩ rfl rfl (Nat.le_of_ble_eq_true rfl) rfl ⟨rfl, rfl⟩ (Nat.le_of_ble_eq_true rfl) (Nat.le_of_ble_eq_true rfl) rfl ?_
  refine z_ifB_ne (q := 10) (t := 14) hX dX4_cost_7 (by decide) rfl (fun h7 => ?_) (fun h7 => ?_)
  · refine z_iload_n (i := 3) (q := 15) hX dX4_cost_14 rfl rfl rfl ?_
    refine z_iconst (q := 16) hX dX4_cost_15 rfl ?_
    refine z_iconst (q := 17) hX dX4_cost_16 rfl ?_
    refine zt_S1 (q := 20) (na := 3) hX dX4_cost_17 (c_X4_in D A (by first | assumption | omega) (by first | assumption | omega) (by first | assumption | omega)) q1955 q1956 q103 q1957 (by decide +kernel) ⟨Nat.le_of_ble_eq_true rfl, Nat.le_of_ble_eq_true rfl⟩ rfl rfl (Nat.le_of_ble_eq_true rfl) rfl ⟨rfl, rfl⟩ (Nat.le_of_ble_eq_true rfl) (Nat.le_of_ble_eq_true rfl) rfl ?_
    refine z_ifB_ne (q := 23) (t := 27) hX dX4_cost_20 (by decide) rfl (fun h20 => ?_) (fun h20 => ?_)
    · refine z_iconst (q := 28) hX dX4_cost_27 rfl ?_
      have q2 := and_t.mp h20
      have e1 : opCost (G 0) t c w = (0, cosM (G 0) t (tokO (G 0) t c) w) := by unfold opCost; rw [if_neg (by rw [h7]; decide), if_neg (fun q => q q2)]
      rw [e1] at hX
      have q3 := isC_iff.mp h7
      have q4 := tokO_rng q3.2.1 q3.2.2
      have hf := hw.fs q3.1
      have hkk : 0 ≤ tokO (G 0) t c ∧ tokO (G 0) t c < nTl (G 0) (fst (G 0) t) := ⟨q4.1, q4.2.1⟩
      have q5 := q3.1
      have hz : zS17 (upF F 6 0) G (upF (upF F 6 0) 17 (nR (G 0) t)) (rowsG G t) := (zS17.rf _ _).row _ _
      refine zt_put (ty := .int) (q := 31) hX 6 dX4_cost_28 q1870 (by decide) rfl rfl rfl (by decide) rfl rfl rfl ?_
      refine z_aload_n (i := 0) (q := 32) hX dX4_cost_31 rfl rfl rfl ?_
      refine zt_getI (q := 35) hX 6 dX4_cost_32 q1870 (by decide) rfl rfl rfl ?_
      rw [upF_same]
      refine z_if_le (q := 38) (t := 42) hX dX4_cost_35 (by decide) (by omega) rfl (fun h35 => ?_) (fun h35 => ?_)
      · refine z_aload_n (i := 0) (q := 43) hX dX4_cost_42 rfl rfl rfl ?_
        refine z_iload_n (i := 1) (q := 44) hX dX4_cost_43 rfl rfl rfl ?_
        refine z_aload_n (i := 0) (q := 45) hX dX4_cost_44 rfl rfl rfl ?_
        refine z_iload_n (i := 1) (q := 46) hX dX4_cost_45 rfl rfl rfl ?_
        refine z_iload_n (i := 2) (q := 47) hX dX4_cost_46 rfl rfl rfl ?_
        refine zt_V1 (q := 50) (na := 2) hX dX4_cost_47 (c_X4_tokenOf D A (by first | assumption | omega) (by first | assumption | omega) (by first | assumption | omega)) q2184 q2186 qs81 q103 q2187 rfl (by decide +kernel) ⟨Nat.le_of_ble_eq_true rfl, Nat.le_of_ble_eq_true rfl⟩ rfl rfl (Nat.le_of_ble_eq_true rfl) rfl ⟨rfl, rfl⟩ (Nat.le_of_ble_eq_true rfl) (Nat.le_of_ble_eq_true rfl) rfl ?_
        refine z_iload_n (i := 3) (q := 51) hX dX4_cost_50 rfl rfl rfl ?_
        refine zt_V1 (q := 54) (na := 3) hX dX4_cost_51 (c_X4_costOf D A (by first | assumption | omega) (by first | assumption | omega) (by first | assumption | omega) (by first | assumption | omega)) q2145 q2147 qs73 q103 q2148 rfl (by decide +kernel) ⟨Nat.le_of_ble_eq_true rfl, Nat.le_of_ble_eq_true rfl⟩ rfl rfl (Nat.le_of_ble_eq_true rfl) rfl ⟨rfl, rfl⟩ (Nat.le_of_ble_eq_true rfl) (Nat.le_of_ble_eq_true rfl) rfl ?_
        exact z_iret hX dX4_cost_54 (Nat.le_of_ble_eq_true rfl) (Nat.le_of_ble_eq_true rfl) rfl (fun H hI => ⟨rfl, _, _, hz, hI⟩)
      · exact absurd h35 (by decide)
    · refine z_iconst (q := 24) hX dX4_cost_23 rfl ?_
      refine z_goto (t := 28) hX dX4_cost_24 (by decide) ?_
      exact J28 2 (by omega) (by unfold opCost; rw [if_neg (by rw [h7]; decide), if_pos (and_f.mp h20)])
  · refine z_iconst (q := 11) hX dX4_cost_10 rfl ?_
    refine z_goto (t := 28) hX dX4_cost_11 (by decide) ?_
    exact J28 1 (by omega) (by unfold opCost; rw [if_pos h7])
abbrev rmX4_code : Room := { frames := 4, cells := 0, slots := 0, locals := 93 }
set_option maxHeartbeats 4000000 in
theorem c_X4_code (D : zD) (A : Nat → Prop) {b : Nat} {F : zTF} {G : zTG} {t c r : Int} (h : zWg G) (ht : zR t) (hc : zR c) (hi : zR r) : zC D yX4_code cX4_code 8 (some .int) none rmX4_code A [.ref b, zI (t), zI (c), zI (r)] (twI D A b F G) (zPd (zI ((opCode (G 0) t c r).2)) (twE D A b (zS17 (upF F 6 (opCode (G 0) t c r).1) G))) zNo := by
  refine zC_start (L := [some (.ref b), some (zI (t)), some (zI (c)), some (zI (r)), none, none, none, none]) (by decide) (Nat.le_of_ble_eq_true rfl) rfl (fun X hX => ?_)
  have hw := h.1
  have hm := hw.1
  have hnr := nR_rng (G 0) t (by omega)
  have J30 : ¬ (isC (G 0) t c = true ∧ 0 ≤ r ∧ r ≤ nR (G 0) t - 1) → zG X 0 0 (twI D A b F G) 30 [some (.ref b), some (zI (t)), some (zI (c)), some (zI (r)), none, none, none, none] [zI (1), .ref b] := by
    intro e
    rw [show opCode (G 0) t c r = (1, 0) from if_neg e] at hX
    refine zt_put (ty := .int) (q := 33) hX 6 dX4_code_30 q1870 (by decide) rfl rfl rfl (by decide) rfl rfl rfl ?_
    refine z_aload_n (i := 0) (q := 34) hX dX4_code_33 rfl rfl rfl ?_
    refine zt_getI (q := 37) hX 6 dX4_code_34 q1870 (by decide) rfl rfl rfl ?_
    rw [upF_same]
    refine z_if_le (q := 40) (t := 42) hX dX4_code_37 (by decide) (by omega) rfl (fun h37 => ?_) (fun h37 => ?_)
    · exact absurd h37 (by decide)
    · refine z_iconst (q := 41) hX dX4_code_40 rfl ?_
      exact z_iret hX dX4_code_41 (Nat.le_of_ble_eq_true rfl) (Nat.le_of_ble_eq_true rfl) rfl (fun H hI => ⟨rfl, _, _, zS17.rf _ _, hI⟩)
  have J42 : isC (G 0) t c = true → (0 ≤ r ∧ r ≤ nR (G 0) t - 1) → zG X 0 0 (twI D A b (upF F 6 0) G) 42 [some (.ref b), some (zI (t)), some (zI (c)), some (zI (r)), none, none, none, none] [] := by
    intro q1 q2
    have e1 : opCode (G 0) t c r = (0, dffI (fstI (colT (G 0) t (tokO (G 0) t c)) r).toNat (colT (G 0) t (tokO (G 0) t c))) := if_pos ⟨q1, q2⟩
    rw [e1] at hX
    simp only at hX
    have q3 := isC_iff.mp q1
    have q4 := tokO_rng q3.2.1 q3.2.2
    have hf := hw.fs q3.1
    have q5 := q3.1
    obtain ⟨kk, hkk⟩ : ∃ kk, kk = tokO (G 0) t c := ⟨_, rfl⟩
    rw [← hkk] at q4 hX
    have hcol := h.col (F := upF F 6 0) q3.1 q4.1 q4.2.1
    have hz : zS17 (upF F 6 0) G (upF (upF F 6 0) 17 (nR (G 0) t)) (rowsG G t) := (zS17.rf _ _).row _ _
    have hfr := fstI_le (colT (G 0) t kk) (r := r) (by omega)
    have K : ∀ m : Nat, m ≤ (fstI (colT (G 0) t kk) r).toNat → ∀ s p : Int, s = dffI m (colT (G 0) t kk) → p = m → zG X 0 0 (twI D A b (upF (upF F 6 0) 17 (nR (G 0) t)) (rowsG G t)) 70 [some (.ref b), some (zI (t)), some (zI (c)), some (zI (r)), some (zI (kk)), some (zI (fstI (colT (G 0) t kk) r)), some (zI (s)), some (zI (p))] [] := by
      refine z_up (fun m hmm ih s p e2 e3 => ?_)
      subst e3
      have hfl := fstI_le (colT (G 0) t kk) (r := m) (by omega)
      have hs : dffI (m + 1) (colT (G 0) t kk) = s + bi (decide (fstI (colT (G 0) t kk) m = m)) := by rw [e2]; rfl
      refine z_iload (q := 72) hX dX4_code_70 rfl rfl ?_
      refine z_iload (q := 74) hX dX4_code_72 rfl rfl ?_
      refine z_icmp_ge (q := 77) (t := 106) hX dX4_code_74 (by decide) (by omega) (by omega) rfl (fun h74 => ?_) (fun h74 => ?_)
      · refine z_iload (q := 108) hX dX4_code_106 rfl rfl ?_
        exact z_iret hX dX4_code_108 (Nat.le_of_ble_eq_true rfl) (Nat.le_of_ble_eq_true rfl) rfl (fun H hI => ⟨congrArg (fun z => some (zI z)) (by rw [e2, show m = (fstI (colT (G 0) t kk) r).toNat by omega]), _, _, hz, hI⟩)
      · refine z_iload (q := 79) hX dX4_code_77 rfl rfl ?_
        refine z_aload_n (i := 0) (q := 80) hX dX4_code_79 rfl rfl rfl ?_
        refine z_iload (q := 82) hX dX4_code_80 rfl rfl ?_
        refine z_iload (q := 84) hX dX4_code_82 rfl rfl ?_
        refine zt_V1 (q := 87) (na := 2) hX dX4_code_84 (c_X4_firstLike D A hcol (r := m) (by omega)) q2157 q2159 qs76 q103 q2160 rfl (by decide +kernel) ⟨Nat.le_of_ble_eq_true rfl, Nat.le_of_ble_eq_true rfl⟩ rfl rfl (Nat.le_of_ble_eq_true rfl) rfl ⟨rfl, rfl⟩ (Nat.le_of_ble_eq_true rfl) (Nat.le_of_ble_eq_true rfl) rfl ?_
        refine z_iload (q := 89) hX dX4_code_87 rfl rfl ?_
        refine z_icmp_ne (q := 92) (t := 96) hX dX4_code_89 (by decide) (by omega) (by omega) rfl (fun h89 => ?_) (fun h89 => ?_)
        · refine z_iconst (q := 97) hX dX4_code_96 rfl ?_
          refine z_iadd (q := 98) hX dX4_code_97 rfl ?_
          refine z_istore (q := 100) hX dX4_code_98 (Nat.le_of_ble_eq_true rfl) rfl rfl ?_
          refine z_iinc (q := 103) hX dX4_code_100 rfl (Nat.le_of_ble_eq_true rfl) rfl rfl ?_
          refine z_goto (t := 70) hX dX4_code_103 (by decide) ?_
          exact ih (by omega) _ _ (by rw [hs, decide_eq_false h89]; rfl) (by omega)
        · refine z_iconst (q := 93) hX dX4_code_92 rfl ?_
          refine z_goto (t := 97) hX dX4_code_93 (by decide) ?_
          refine z_iadd (q := 98) hX dX4_code_97 rfl ?_
          refine z_istore (q := 100) hX dX4_code_98 (Nat.le_of_ble_eq_true rfl) rfl rfl ?_
          refine z_iinc (q := 103) hX dX4_code_100 rfl (Nat.le_of_ble_eq_true rfl) rfl rfl ?_
          refine z_goto (t := 70) hX dX4_code_103 (by decide) ?_
          exact ih (by omega) _ _ (by rw [hs, decide_eq_true (by omega)]; rfl) (by omega)
    refine z_aload_n (i := 0) (q := 43) hX dX4_code_42 rfl rfl rfl ?_
    refine z_iload_n (i := 1) (q := 44) hX dX4_code_43 rfl rfl rfl ?_
    refine z_iload_n (i := 2) (q := 45) hX dX4_code_44 rfl rfl rfl ?_
    refine zt_V1 (q := 48) (na := 2) hX dX4_code_45 (c_X4_tokenOf D A (by first | assumption | omega) (by first | assumption | omega) (by first | assumption | omega)) q2184 q2186 qs81 q103 q2187 rfl (by decide +kernel) ⟨Nat.le_of_ble_eq_true rfl, Nat.le_of_ble_eq_true rfl⟩ rfl rfl (Nat.le_of_ble_eq_true rfl) rfl ⟨rfl, rfl⟩ (Nat.le_of_ble_eq_true rfl) (Nat.le_of_ble_eq_true rfl) rfl ?_
    rw [← hkk]
    refine z_istore (q := 50) hX dX4_code_48 (Nat.le_of_ble_eq_true rfl) rfl rfl ?_
    refine z_aload_n (i := 0) (q := 51) hX dX4_code_50 rfl rfl rfl ?_
    refine z_iload_n (i := 1) (q := 52) hX dX4_code_51 rfl rfl rfl ?_
    refine zt_V0 (q := 55) (na := 1) hX dX4_code_52 (c_X4_layRows D A (by first | assumption | omega) (by first | assumption | omega)) q2149 q2151 qs74 q103 q2152 rfl (by decide +kernel) ⟨Nat.le_of_ble_eq_true rfl, Nat.le_of_ble_eq_true rfl⟩ rfl rfl (Nat.le_of_ble_eq_true rfl) rfl ⟨rfl, rfl⟩ (Nat.le_of_ble_eq_true rfl) (Nat.le_of_ble_eq_true rfl) rfl ?_
    refine z_aload_n (i := 0) (q := 56) hX dX4_code_55 rfl rfl rfl ?_
    refine z_iload (q := 58) hX dX4_code_56 rfl rfl ?_
    refine z_iload_n (i := 3) (q := 59) hX dX4_code_58 rfl rfl rfl ?_
    refine zt_V1 (q := 62) (na := 2) hX dX4_code_59 (c_X4_firstLike D A hcol (r := r) (by omega)) q2157 q2159 qs76 q103 q2160 rfl (by decide +kernel) ⟨Nat.le_of_ble_eq_true rfl, Nat.le_of_ble_eq_true rfl⟩ rfl rfl (Nat.le_of_ble_eq_true rfl) rfl ⟨rfl, rfl⟩ (Nat.le_of_ble_eq_true rfl) (Nat.le_of_ble_eq_true rfl) rfl ?_
    refine z_istore (q := 64) hX dX4_code_62 (Nat.le_of_ble_eq_true rfl) rfl rfl ?_
    refine z_iconst (q := 65) hX dX4_code_64 rfl ?_
    refine z_istore (q := 67) hX dX4_code_65 (Nat.le_of_ble_eq_true rfl) rfl rfl ?_
    refine z_iconst (q := 68) hX dX4_code_67 rfl ?_
    refine z_istore (q := 70) hX dX4_code_68 (Nat.le_of_ble_eq_true rfl) rfl rfl ?_
    exact K 0 (Nat.zero_le _) _ _ rfl rfl
  refine z_aload_n (i := 0) (q := 1) hX dX4_code_0 rfl rfl rfl ?_
  refine z_aload_n (i := 0) (q := 2) hX dX4_code_1 rfl rfl rfl ?_
  refine z_iload_n (i := 1) (q := 3) hX dX4_code_2 rfl rfl rfl ?_
  refine z_iload_n (i := 2) (q := 4) hX dX4_code_3 rfl rfl rfl ?_
  refine zt_V1 (q := 7) (na := 2) hX dX4_code_4 (c_X4_isColumn D A (by first | assumption | omega) (by first | assumption | omega) (by first | assumption | omega)) q2180 q2182 qs80 q103 q2183 rfl (by decide +kernel) ⟨Nat.le_of_ble_eq_true rfl, Nat.le_of_ble_eq_true rfl⟩ rfl rfl (Nat.le_of_ble_eq_true rfl) rfl ⟨rfl, rfl⟩ (Nat.le_of_ble_eq_true rfl) (Nat.le_of_ble_eq_true rfl) rfl ?_
  refine z_ifB_eq (q := 10) (t := 25) hX dX4_code_7 (by decide) rfl (fun h7 => ?_) (fun h7 => ?_)
  · refine z_iconst (q := 26) hX dX4_code_25 rfl ?_
    refine z_goto (t := 30) hX dX4_code_26 (by decide) ?_
    exact J30 (fun q => by rw [q.1] at h7; cases h7)
  · refine z_iload_n (i := 3) (q := 11) hX dX4_code_10 rfl rfl rfl ?_
    refine z_iconst (q := 12) hX dX4_code_11 rfl ?_
    refine z_aload_n (i := 0) (q := 13) hX dX4_code_12 rfl rfl rfl ?_
    refine z_iload_n (i := 1) (q := 14) hX dX4_code_13 rfl rfl rfl ?_
    refine zt_V1 (q := 17) (na := 1) hX dX4_code_14 (c_X4_rowsOf D A (by first | assumption | omega) (by first | assumption | omega)) q2093 q2095 qs64 q103 q2096 rfl (by decide +kernel) ⟨Nat.le_of_ble_eq_true rfl, Nat.le_of_ble_eq_true rfl⟩ rfl rfl (Nat.le_of_ble_eq_true rfl) rfl ⟨rfl, rfl⟩ (Nat.le_of_ble_eq_true rfl) (Nat.le_of_ble_eq_true rfl) rfl ?_
    refine z_iconst (q := 18) hX dX4_code_17 rfl ?_
    refine z_isub (q := 19) hX dX4_code_18 rfl ?_
    refine zt_S1 (q := 22) (na := 3) hX dX4_code_19 (c_X4_in D A (by first | assumption | omega) (by first | assumption | omega) (by first | assumption | omega)) q1955 q1956 q103 q1957 (by decide +kernel) ⟨Nat.le_of_ble_eq_true rfl, Nat.le_of_ble_eq_true rfl⟩ rfl rfl (Nat.le_of_ble_eq_true rfl) rfl ⟨rfl, rfl⟩ (Nat.le_of_ble_eq_true rfl) (Nat.le_of_ble_eq_true rfl) rfl ?_
    refine z_ifB_ne (q := 25) (t := 29) hX dX4_code_22 (by decide) rfl (fun h22 => ?_) (fun h22 => ?_)
    · refine z_iconst (q := 30) hX dX4_code_29 rfl ?_
      refine zt_put (ty := .int) (q := 33) hX 6 dX4_code_30 q1870 (by decide) rfl rfl rfl (by decide) rfl rfl rfl ?_
      refine z_aload_n (i := 0) (q := 34) hX dX4_code_33 rfl rfl rfl ?_
      refine zt_getI (q := 37) hX 6 dX4_code_34 q1870 (by decide) rfl rfl rfl ?_
      rw [upF_same]
      refine z_if_le (q := 40) (t := 42) hX dX4_code_37 (by decide) (by omega) rfl (fun h37 => ?_) (fun h37 => ?_)
      · exact J42 h7 (and_t.mp h22)
      · exact absurd h37 (by decide)
    · refine z_iconst (q := 26) hX dX4_code_25 rfl ?_
      refine z_goto (t := 30) hX dX4_code_26 (by decide) ?_
      exact J30 (fun q => and_f.mp h22 q.2)
abbrev rmX4_value : Room := { frames := 4, cells := 0, slots := 0, locals := 91 }
set_option maxHeartbeats 4000000 in
theorem c_X4_value (D : zD) (A : Nat → Prop) {b : Nat} {F : zTF} {G : zTG} {t c r : Int} (h : zWg G) (ht : zR t) (hc : zR c) (hi : zR r) : zC D yX4_value cX4_value 6 (some .int) none rmX4_value A [.ref b, zI (t), zI (c), zI (r)] (twI D A b F G) (zPd (zI ((opVal (G 0) t c r).2)) (twI D A b (upF F 6 (opVal (G 0) t c r).1) (G))) zNo := by
  refine zC_start (L := [some (.ref b), some (zI (t)), some (zI (c)), some (zI (r)), none, none]) (by decide) (Nat.le_of_ble_eq_true rfl) rfl (fun X hX => ?_)
  have hw := h.1
  have hm := hw.1
  have hnr := nR_rng (G 0) t (by omega)
  have J30 : ¬ (isC (G 0) t c = true ∧ 0 ≤ r ∧ r ≤ nR (G 0) t - 1) → zG X 0 0 (twI D A b F G) 30 [some (.ref b), some (zI (t)), some (zI (c)), some (zI (r)), none, none] [zI (1), .ref b] := by
    intro e
    rw [show opVal (G 0) t c r = (1, 0) from if_neg e] at hX
    refine zt_put (ty := .int) (q := 33) hX 6 dX4_value_30 q1870 (by decide) rfl rfl rfl (by decide) rfl rfl rfl ?_
    refine z_aload_n (i := 0) (q := 34) hX dX4_value_33 rfl rfl rfl ?_
    refine zt_getI (q := 37) hX 6 dX4_value_34 q1870 (by decide) rfl rfl rfl ?_
    rw [upF_same]
    refine z_if_le (q := 40) (t := 42) hX dX4_value_37 (by decide) (by omega) rfl (fun h37 => ?_) (fun h37 => ?_)
    · exact absurd h37 (by decide)
    · refine z_iconst (q := 41) hX dX4_value_40 rfl ?_
      exact z_iret hX dX4_value_41 (Nat.le_of_ble_eq_true rfl) (Nat.le_of_ble_eq_true rfl) rfl (fun H hI => ⟨congrArg (fun z => some (zI z)) (rfl), hI⟩)
  have J42 : isC (G 0) t c = true → (0 ≤ r ∧ r ≤ nR (G 0) t - 1) → zG X 0 0 (twI D A b (upF F 6 0) G) 42 [some (.ref b), some (zI (t)), some (zI (c)), some (zI (r)), none, none] [] := by
    intro q1 q2
    have e1 : opVal (G 0) t c r = if typ (colT (G 0) t (tokO (G 0) t c) r) = 2 then (0, num (colT (G 0) t (tokO (G 0) t c) r)) else (2, 0) := if_pos ⟨q1, q2⟩
    rw [e1] at hX
    have q3 := isC_iff.mp q1
    have q4 := tokO_rng q3.2.1 q3.2.2
    have hf := hw.fs q3.1
    have q5 := q3.1
    have hl := lnO_rng (M := G 0) (t := t) (r := r) q2.1 (by omega)
    have hn := h.n hl.1 hl.2.1 hl.2.2
    have hln := hw.ln hl.1 hl.2.1
    have hk : 0 ≤ tokO (G 0) t c ∧ tokO (G 0) t c < nT (tx (G 0) (lnO (G 0) t r)) := ⟨q4.1, by unfold nTl at hn q4; omega⟩
    have hty := typ_range (tok (tx (G 0) (lnO (G 0) t r)) (tokO (G 0) t c))
    have ec : colT (G 0) t (tokO (G 0) t c) r = tok (tx (G 0) (lnO (G 0) t r)) (tokO (G 0) t c) := rfl
    rw [ec] at hX
    refine z_aload_n (i := 0) (q := 43) hX dX4_value_42 rfl rfl rfl ?_
    refine z_iload_n (i := 1) (q := 44) hX dX4_value_43 rfl rfl rfl ?_
    refine z_iload_n (i := 2) (q := 45) hX dX4_value_44 rfl rfl rfl ?_
    refine zt_V1 (q := 48) (na := 2) hX dX4_value_45 (c_X4_tokenOf D A (by first | assumption | omega) (by first | assumption | omega) (by first | assumption | omega)) q2184 q2186 qs81 q103 q2187 rfl (by decide +kernel) ⟨Nat.le_of_ble_eq_true rfl, Nat.le_of_ble_eq_true rfl⟩ rfl rfl (Nat.le_of_ble_eq_true rfl) rfl ⟨rfl, rfl⟩ (Nat.le_of_ble_eq_true rfl) (Nat.le_of_ble_eq_true rfl) rfl ?_
    refine z_istore (q := 50) hX dX4_value_48 (Nat.le_of_ble_eq_true rfl) rfl rfl ?_
    refine z_aload_n (i := 0) (q := 51) hX dX4_value_50 rfl rfl rfl ?_
    refine z_iload_n (i := 1) (q := 52) hX dX4_value_51 rfl rfl rfl ?_
    refine z_iload_n (i := 3) (q := 53) hX dX4_value_52 rfl rfl rfl ?_
    refine zt_V1 (q := 56) (na := 2) hX dX4_value_53 (c_X4_lineOf D A (by first | assumption | omega) (by first | assumption | omega) (by first | assumption | omega)) q1990 q1992 qs45 q103 q1993 rfl (by decide +kernel) ⟨Nat.le_of_ble_eq_true rfl, Nat.le_of_ble_eq_true rfl⟩ rfl rfl (Nat.le_of_ble_eq_true rfl) rfl ⟨rfl, rfl⟩ (Nat.le_of_ble_eq_true rfl) (Nat.le_of_ble_eq_true rfl) rfl ?_
    refine z_istore (q := 58) hX dX4_value_56 (Nat.le_of_ble_eq_true rfl) rfl rfl ?_
    refine z_aload_n (i := 0) (q := 59) hX dX4_value_58 rfl rfl rfl ?_
    refine z_iload (q := 61) hX dX4_value_59 rfl rfl ?_
    refine z_iload (q := 63) hX dX4_value_61 rfl rfl ?_
    refine zt_V1 (q := 66) (na := 2) hX dX4_value_63 (c_X4_typeOf D A (by first | assumption | omega) (by first | assumption | omega)) q2026 q2028 qs54 q103 q2029 rfl (by decide +kernel) ⟨Nat.le_of_ble_eq_true rfl, Nat.le_of_ble_eq_true rfl⟩ rfl rfl (Nat.le_of_ble_eq_true rfl) rfl ⟨rfl, rfl⟩ (Nat.le_of_ble_eq_true rfl) (Nat.le_of_ble_eq_true rfl) rfl ?_
    refine z_iconst (q := 67) hX dX4_value_66 rfl ?_
    refine z_icmp_ne (q := 70) (t := 81) hX dX4_value_67 (by decide) (by omega) (by omega) rfl (fun h67 => ?_) (fun h67 => ?_)
    · rw [if_neg h67] at hX
      refine z_aload_n (i := 0) (q := 82) hX dX4_value_81 rfl rfl rfl ?_
      refine z_iconst (q := 83) hX dX4_value_82 rfl ?_
      refine zt_V1 (q := 86) (na := 1) hX dX4_value_83 (c_X4_refuse D A) q1962 q1964 qs39 q103 q1965 rfl (by decide +kernel) ⟨Nat.le_of_ble_eq_true rfl, Nat.le_of_ble_eq_true rfl⟩ rfl rfl (Nat.le_of_ble_eq_true rfl) rfl ⟨rfl, rfl⟩ (Nat.le_of_ble_eq_true rfl) (Nat.le_of_ble_eq_true rfl) rfl ?_
      rw [upF_upF]
      exact z_iret hX dX4_value_86 (Nat.le_of_ble_eq_true rfl) (Nat.le_of_ble_eq_true rfl) rfl (fun H hI => ⟨congrArg (fun z => some (zI z)) (rfl), hI⟩)
    · rw [if_pos (by omega)] at hX
      refine z_aload_n (i := 0) (q := 71) hX dX4_value_70 rfl rfl rfl ?_
      refine z_iload (q := 73) hX dX4_value_71 rfl rfl ?_
      refine z_iload (q := 75) hX dX4_value_73 rfl rfl ?_
      refine zt_V1 (q := 78) (na := 2) hX dX4_value_75 (c_X4_numberOf D A (by first | assumption | omega) (by first | assumption | omega)) q2169 q2171 qs79 q103 q2172 rfl (by decide +kernel) ⟨Nat.le_of_ble_eq_true rfl, Nat.le_of_ble_eq_true rfl⟩ rfl rfl (Nat.le_of_ble_eq_true rfl) rfl ⟨rfl, rfl⟩ (Nat.le_of_ble_eq_true rfl) (Nat.le_of_ble_eq_true rfl) rfl ?_
      refine z_goto (t := 86) hX dX4_value_78 (by decide) ?_
      skip
      exact z_iret hX dX4_value_86 (Nat.le_of_ble_eq_true rfl) (Nat.le_of_ble_eq_true rfl) rfl (fun H hI => ⟨congrArg (fun z => some (zI z)) (rfl), hI⟩)
  refine z_aload_n (i := 0) (q := 1) hX dX4_value_0 rfl rfl rfl ?_
  refine z_aload_n (i := 0) (q := 2) hX dX4_value_1 rfl rfl rfl ?_
  refine z_iload_n (i := 1) (q := 3) hX dX4_value_2 rfl rfl rfl ?_
  refine z_iload_n (i := 2) (q := 4) hX dX4_value_3 rfl rfl rfl ?_
  refine zt_V1 (q := 7) (na := 2) hX dX4_value_4 (c_X4_isColumn D A (by first | assumption | omega) (by first | assumption | omega) (by first | assumption | omega)) q2180 q2182 qs80 q103 q2183 rfl (by decide +kernel) ⟨Nat.le_of_ble_eq_true rfl, Nat.le_of_ble_eq_true rfl⟩ rfl rfl (Nat.le_of_ble_eq_true rfl) rfl ⟨rfl, rfl⟩ (Nat.le_of_ble_eq_true rfl) (Nat.le_of_ble_eq_true rfl) rfl ?_
  refine z_ifB_eq (q := 10) (t := 25) hX dX4_value_7 (by decide) rfl (fun h7 => ?_) (fun h7 => ?_)
  · refine z_iconst (q := 26) hX dX4_value_25 rfl ?_
    refine z_goto (t := 30) hX dX4_value_26 (by decide) ?_
    exact J30 (fun q => by rw [q.1] at h7; cases h7)
  · refine z_iload_n (i := 3) (q := 11) hX dX4_value_10 rfl rfl rfl ?_
    refine z_iconst (q := 12) hX dX4_value_11 rfl ?_
    refine z_aload_n (i := 0) (q := 13) hX dX4_value_12 rfl rfl rfl ?_
    refine z_iload_n (i := 1) (q := 14) hX dX4_value_13 rfl rfl rfl ?_
    refine zt_V1 (q := 17) (na := 1) hX dX4_value_14 (c_X4_rowsOf D A (by first | assumption | omega) (by first | assumption | omega)) q2093 q2095 qs64 q103 q2096 rfl (by decide +kernel) ⟨Nat.le_of_ble_eq_true rfl, Nat.le_of_ble_eq_true rfl⟩ rfl rfl (Nat.le_of_ble_eq_true rfl) rfl ⟨rfl, rfl⟩ (Nat.le_of_ble_eq_true rfl) (Nat.le_of_ble_eq_true rfl) rfl ?_
    refine z_iconst (q := 18) hX dX4_value_17 rfl ?_
    refine z_isub (q := 19) hX dX4_value_18 rfl ?_
    refine zt_S1 (q := 22) (na := 3) hX dX4_value_19 (c_X4_in D A (by first | assumption | omega) (by first | assumption | omega) (by first | assumption | omega)) q1955 q1956 q103 q1957 (by decide +kernel) ⟨Nat.le_of_ble_eq_true rfl, Nat.le_of_ble_eq_true rfl⟩ rfl rfl (Nat.le_of_ble_eq_true rfl) rfl ⟨rfl, rfl⟩ (Nat.le_of_ble_eq_true rfl) (Nat.le_of_ble_eq_true rfl) rfl ?_
    refine z_ifB_ne (q := 25) (t := 29) hX dX4_value_22 (by decide) rfl (fun h22 => ?_) (fun h22 => ?_)
    · refine z_iconst (q := 30) hX dX4_value_29 rfl ?_
      refine zt_put (ty := .int) (q := 33) hX 6 dX4_value_30 q1870 (by decide) rfl rfl rfl (by decide) rfl rfl rfl ?_
      refine z_aload_n (i := 0) (q := 34) hX dX4_value_33 rfl rfl rfl ?_
      refine zt_getI (q := 37) hX 6 dX4_value_34 q1870 (by decide) rfl rfl rfl ?_
      rw [upF_same]
      refine z_if_le (q := 40) (t := 42) hX dX4_value_37 (by decide) (by omega) rfl (fun h37 => ?_) (fun h37 => ?_)
      · exact J42 h7 (and_t.mp h22)
      · exact absurd h37 (by decide)
    · refine z_iconst (q := 26) hX dX4_value_25 rfl ?_
      refine z_goto (t := 30) hX dX4_value_26 (by decide) ?_
      exact J30 (fun q => and_f.mp h22 q.2)
abbrev rmX4_sum : Room := { frames := 4, cells := 0, slots := 0, locals := 91 }
set_option maxHeartbeats 4000000 in
theorem c_X4_sum (D : zD) (A : Nat → Prop) {b : Nat} {F : zTF} {G : zTG} {t c : Int} (h : zWg G) (ht : zR t) (hc : zR c) : zC D yX4_sum cX4_sum 7 (some .long) none rmX4_sum A [.ref b, zI (t), zI (c)] (twI D A b F G) (zPd (zJ ((opSum (G 0) t c).2)) (twE D A b (zS17 (upF F 6 (opSum (G 0) t c).1) G))) zNo := by
  refine zC_start (L := [some (.ref b), some (zI (t)), some (zI (c)), none, none, none, none]) (by decide) (Nat.le_of_ble_eq_true rfl) rfl (fun X hX => ?_)
  have hw := h.1
  have hm := hw.1
  have hnr := nR_rng (G 0) t (by omega)
  have J15 : ¬ (isC (G 0) t c = true) → zG X 0 0 (twI D A b F G) 15 [some (.ref b), some (zI (t)), some (zI (c)), none, none, none, none] [zI (1), .ref b] := by
    intro e
    rw [show opSum (G 0) t c = (1, 0) from if_neg e] at hX
    refine zt_put (ty := .int) (q := 18) hX 6 dX4_sum_15 q1870 (by decide) rfl rfl rfl (by decide) rfl rfl rfl ?_
    refine z_aload_n (i := 0) (q := 19) hX dX4_sum_18 rfl rfl rfl ?_
    refine zt_getI (q := 22) hX 6 dX4_sum_19 q1870 (by decide) rfl rfl rfl ?_
    rw [upF_same]
    refine z_if_le (q := 25) (t := 27) hX dX4_sum_22 (by decide) (by omega) rfl (fun h22 => ?_) (fun h22 => ?_)
    · exact absurd h22 (by decide)
    · refine z_lconst (z := 0) (q := 26) hX dX4_sum_25 (by decide) rfl ?_
      exact z_lret hX dX4_sum_26 (Nat.le_of_ble_eq_true rfl) (Nat.le_of_ble_eq_true rfl) rfl (fun H hI => ⟨rfl, _, _, zS17.rf _ _, hI⟩)
  have J27 : isC (G 0) t c = true → zG X 0 0 (twI D A b (upF F 6 0) G) 27 [some (.ref b), some (zI (t)), some (zI (c)), none, none, none, none] [] := by
    intro q1
    have e1 : opSum (G 0) t c = (0, sumI (fun r => if typ (colT (G 0) t (tokO (G 0) t c) r) = 2 then num (colT (G 0) t (tokO (G 0) t c) r) else 0) (nR (G 0) t).toNat) := if_pos q1
    rw [e1] at hX
    simp only at hX
    have q3 := isC_iff.mp q1
    have q4 := tokO_rng q3.2.1 q3.2.2
    have hf := hw.fs q3.1
    have q5 := q3.1
    obtain ⟨kk, hkk⟩ : ∃ kk, kk = tokO (G 0) t c := ⟨_, rfl⟩
    rw [← hkk] at q4 hX
    have hcol := h.col (F := upF F 6 0) q3.1 q4.1 q4.2.1
    have hz : zS17 (upF F 6 0) G (upF (upF F 6 0) 17 (nR (G 0) t)) (rowsG G t) := (zS17.rf _ _).row _ _
    have hFr : upF (upF F 6 0) 17 (nR (G 0) t) 17 = nR (G 0) t := upF_same _ _ _
    have K : ∀ m : Nat, m ≤ (nR (G 0) t).toNat → ∀ s p : Int, s = sumI (fun r => if typ (colT (G 0) t kk r) = 2 then num (colT (G 0) t kk r) else 0) m → p = m → zG X 0 0 (twI D A b (upF (upF F 6 0) 17 (nR (G 0) t)) (rowsG G t)) 45 [some (.ref b), some (zI (t)), some (zI (c)), some (zI (kk)), some (zJ (s)), none, some (zI (p))] [] := by
      refine z_up (fun m hmm ih s p e2 e3 => ?_)
      subst e3
      have hg : (m : Int) < nR (G 0) t → _ := fun q => hcol.g (r := m) (by omega) (by omega)
      refine z_iload (q := 47) hX dX4_sum_45 rfl rfl ?_
      refine z_aload_n (i := 0) (q := 48) hX dX4_sum_47 rfl rfl rfl ?_
      refine zt_getI (q := 51) hX 17 dX4_sum_48 q1881 (by decide) rfl rfl rfl ?_
      refine z_icmp_ge (q := 54) (t := 98) hX dX4_sum_51 (by decide) (by omega) (by omega) rfl (fun h51 => ?_) (fun h51 => ?_)
      · refine z_lload (q := 100) hX dX4_sum_98 rfl rfl ?_
        exact z_lret hX dX4_sum_100 (Nat.le_of_ble_eq_true rfl) (Nat.le_of_ble_eq_true rfl) rfl (fun H hI => ⟨by rw [e2, show m = (nR (G 0) t).toNat by omega], _, _, hz, hI⟩)
      · obtain ⟨g1, g2, g3, -⟩ := hg (by omega)
        have hty := typ_range (tok (tx (rowsG G t 0) (rowsG G t 11 m)) kk)
        refine z_lload (q := 56) hX dX4_sum_54 rfl rfl ?_
        refine z_aload_n (i := 0) (q := 57) hX dX4_sum_56 rfl rfl rfl ?_
        refine z_aload_n (i := 0) (q := 58) hX dX4_sum_57 rfl rfl rfl ?_
        refine zt_getA (q := 61) hX 18 11 dX4_sum_58 q1882 (by decide) rfl rfl rfl ?_
        refine z_iload (q := 63) hX dX4_sum_61 rfl rfl ?_
        refine zt_ald (q := 64) (N := 40) hX 11 dX4_sum_63 rfl (by decide) (by decide) (by omega) rfl ?_
        refine z_iload_n (i := 3) (q := 65) hX dX4_sum_64 rfl rfl rfl ?_
        refine zt_V1 (q := 68) (na := 2) hX dX4_sum_65 (c_X4_typeOf D A (by first | assumption | omega) (by first | assumption | omega)) q2026 q2028 qs54 q103 q2029 rfl (by decide +kernel) ⟨Nat.le_of_ble_eq_true rfl, Nat.le_of_ble_eq_true rfl⟩ rfl rfl (Nat.le_of_ble_eq_true rfl) rfl ⟨rfl, rfl⟩ (Nat.le_of_ble_eq_true rfl) (Nat.le_of_ble_eq_true rfl) rfl ?_
        refine z_iconst (q := 69) hX dX4_sum_68 rfl ?_
        refine z_icmp_ne (q := 72) (t := 88) hX dX4_sum_69 (by decide) (by omega) (by omega) rfl (fun h69 => ?_) (fun h69 => ?_)
        · refine z_lconst (z := 0) (q := 89) hX dX4_sum_88 (by decide) rfl ?_
          refine z_ladd (q := 90) hX dX4_sum_89 rfl ?_
          refine z_lstore (q := 92) hX dX4_sum_90 (Nat.le_of_ble_eq_true rfl) rfl rfl ?_
          refine z_iinc (q := 95) hX dX4_sum_92 rfl (Nat.le_of_ble_eq_true rfl) rfl rfl ?_
          refine z_goto (t := 45) hX dX4_sum_95 (by decide) ?_
          exact ih (by omega) _ _ (by rw [sumI, e2, g3, if_neg h69]) (by omega)
        · refine z_aload_n (i := 0) (q := 73) hX dX4_sum_72 rfl rfl rfl ?_
          refine z_aload_n (i := 0) (q := 74) hX dX4_sum_73 rfl rfl rfl ?_
          refine zt_getA (q := 77) hX 18 11 dX4_sum_74 q1882 (by decide) rfl rfl rfl ?_
          refine z_iload (q := 79) hX dX4_sum_77 rfl rfl ?_
          refine zt_ald (q := 80) (N := 40) hX 11 dX4_sum_79 rfl (by decide) (by decide) (by omega) rfl ?_
          refine z_iload_n (i := 3) (q := 81) hX dX4_sum_80 rfl rfl rfl ?_
          refine zt_V1 (q := 84) (na := 2) hX dX4_sum_81 (c_X4_numberOf D A (by first | assumption | omega) (by first | assumption | omega)) q2169 q2171 qs79 q103 q2172 rfl (by decide +kernel) ⟨Nat.le_of_ble_eq_true rfl, Nat.le_of_ble_eq_true rfl⟩ rfl rfl (Nat.le_of_ble_eq_true rfl) rfl ⟨rfl, rfl⟩ (Nat.le_of_ble_eq_true rfl) (Nat.le_of_ble_eq_true rfl) rfl ?_
          have hnm := num_rng (w := tok (tx (rowsG G t 0) (rowsG G t 11 m)) kk) (by omega)
          refine z_i2l (q := 85) hX dX4_sum_84 (by omega) rfl ?_
          refine z_goto (t := 89) hX dX4_sum_85 (by decide) ?_
          refine z_ladd (q := 90) hX dX4_sum_89 rfl ?_
          refine z_lstore (q := 92) hX dX4_sum_90 (Nat.le_of_ble_eq_true rfl) rfl rfl ?_
          refine z_iinc (q := 95) hX dX4_sum_92 rfl (Nat.le_of_ble_eq_true rfl) rfl rfl ?_
          refine z_goto (t := 45) hX dX4_sum_95 (by decide) ?_
          exact ih (by omega) _ _ (by rw [sumI, e2, g3, if_pos (by omega)]) (by omega)
    refine z_aload_n (i := 0) (q := 28) hX dX4_sum_27 rfl rfl rfl ?_
    refine z_iload_n (i := 1) (q := 29) hX dX4_sum_28 rfl rfl rfl ?_
    refine z_iload_n (i := 2) (q := 30) hX dX4_sum_29 rfl rfl rfl ?_
    refine zt_V1 (q := 33) (na := 2) hX dX4_sum_30 (c_X4_tokenOf D A (by first | assumption | omega) (by first | assumption | omega) (by first | assumption | omega)) q2184 q2186 qs81 q103 q2187 rfl (by decide +kernel) ⟨Nat.le_of_ble_eq_true rfl, Nat.le_of_ble_eq_true rfl⟩ rfl rfl (Nat.le_of_ble_eq_true rfl) rfl ⟨rfl, rfl⟩ (Nat.le_of_ble_eq_true rfl) (Nat.le_of_ble_eq_true rfl) rfl ?_
    rw [← hkk]
    refine z_istore_n (i := 3) (q := 34) hX dX4_sum_33 rfl (Nat.le_of_ble_eq_true rfl) rfl rfl ?_
    refine z_aload_n (i := 0) (q := 35) hX dX4_sum_34 rfl rfl rfl ?_
    refine z_iload_n (i := 1) (q := 36) hX dX4_sum_35 rfl rfl rfl ?_
    refine zt_V0 (q := 39) (na := 1) hX dX4_sum_36 (c_X4_layRows D A (by first | assumption | omega) (by first | assumption | omega)) q2149 q2151 qs74 q103 q2152 rfl (by decide +kernel) ⟨Nat.le_of_ble_eq_true rfl, Nat.le_of_ble_eq_true rfl⟩ rfl rfl (Nat.le_of_ble_eq_true rfl) rfl ⟨rfl, rfl⟩ (Nat.le_of_ble_eq_true rfl) (Nat.le_of_ble_eq_true rfl) rfl ?_
    refine z_lconst (z := 0) (q := 40) hX dX4_sum_39 (by decide) rfl ?_
    refine z_lstore (q := 42) hX dX4_sum_40 (Nat.le_of_ble_eq_true rfl) rfl rfl ?_
    refine z_iconst (q := 43) hX dX4_sum_42 rfl ?_
    refine z_istore (q := 45) hX dX4_sum_43 (Nat.le_of_ble_eq_true rfl) rfl rfl ?_
    exact K 0 (Nat.zero_le _) _ _ rfl rfl
  refine z_aload_n (i := 0) (q := 1) hX dX4_sum_0 rfl rfl rfl ?_
  refine z_aload_n (i := 0) (q := 2) hX dX4_sum_1 rfl rfl rfl ?_
  refine z_iload_n (i := 1) (q := 3) hX dX4_sum_2 rfl rfl rfl ?_
  refine z_iload_n (i := 2) (q := 4) hX dX4_sum_3 rfl rfl rfl ?_
  refine zt_V1 (q := 7) (na := 2) hX dX4_sum_4 (c_X4_isColumn D A (by first | assumption | omega) (by first | assumption | omega) (by first | assumption | omega)) q2180 q2182 qs80 q103 q2183 rfl (by decide +kernel) ⟨Nat.le_of_ble_eq_true rfl, Nat.le_of_ble_eq_true rfl⟩ rfl rfl (Nat.le_of_ble_eq_true rfl) rfl ⟨rfl, rfl⟩ (Nat.le_of_ble_eq_true rfl) (Nat.le_of_ble_eq_true rfl) rfl ?_
  refine z_ifB_eq (q := 10) (t := 14) hX dX4_sum_7 (by decide) rfl (fun h7 => ?_) (fun h7 => ?_)
  · refine z_iconst (q := 15) hX dX4_sum_14 rfl ?_
    exact J15 (fun q => by rw [q] at h7; cases h7)
  · refine z_iconst (q := 11) hX dX4_sum_10 rfl ?_
    refine z_goto (t := 15) hX dX4_sum_11 (by decide) ?_
    refine zt_put (ty := .int) (q := 18) hX 6 dX4_sum_15 q1870 (by decide) rfl rfl rfl (by decide) rfl rfl rfl ?_
    refine z_aload_n (i := 0) (q := 19) hX dX4_sum_18 rfl rfl rfl ?_
    refine zt_getI (q := 22) hX 6 dX4_sum_19 q1870 (by decide) rfl rfl rfl ?_
    rw [upF_same]
    refine z_if_le (q := 25) (t := 27) hX dX4_sum_22 (by decide) (by omega) rfl (fun h22 => ?_) (fun h22 => ?_)
    · exact J27 h7
    · exact absurd h22 (by decide)
