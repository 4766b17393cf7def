/-! THE REFERENCE: costs of all -/
set_option maxRecDepth 100000
theorem zRaw.sc {G G2 : zTG} {l : Int} (h0 : G2 0 = G 0) (h : zRaw G l) : zRaw G2 l := h.same h0
theorem zLn.sc {G G2 : zTG} {l : Int} (h0 : G2 0 = G 0) (h4 : G2 4 = G 4) (h5 : G2 5 = G 5) (h6 : G2 6 = G 6) (h : zLn G l) : zLn G2 l := by
  refine ⟨h.1.same h0, ?_⟩
  unfold zTks
  rw [h0, h4, h5, h6]
  exact h.2
theorem zWf.sc {G G2 : zTG} (h0 : G2 0 = G 0) (h4 : G2 4 = G 4) (h5 : G2 5 = G 5) (h6 : G2 6 = G 6) (h : zWf G) : zWf G2 := by
  refine ⟨by rw [h0]; exact h.1, fun l l0 l1 => ?_, by rw [h0]; exact h.2.2⟩
  rw [h0] at l1 ⊢
  exact ⟨(h.2.1 l l0 l1).1.sc h0 h4 h5 h6, (h.2.1 l l0 l1).2⟩
/-- .. and the lines of a template have its form, and its fixed tokens -/
def zFx (M : Int → Int) : Prop := ∀ l : Int, 0 ≤ l → l < M 0 → gapsL (tx M l) = gapsL (tx M (fst M (M (43 + l)))) ∧ ∀ k : Int, 0 ≤ k → k < nTl M l → slt M (M (43 + l)) k = -1 → tkl M l k = tkl M (fst M (M (43 + l))) k
def zWg (G : zTG) : Prop := zWf G ∧ zFx (G 0)
theorem zWg.sc {G G2 : zTG} (h0 : G2 0 = G 0) (h4 : G2 4 = G 4) (h5 : G2 5 = G 5) (h6 : G2 6 = G 6) (h : zWg G) : zWg G2 := ⟨h.1.sc h0 h4 h5 h6, by rw [h0]; exact h.2⟩
theorem rws_of {M : Int → Int} {t l : Int} (h0 : 0 ≤ l) (h1 : l < M 0) (ht : M (43 + l) = t) : l ∈ rws M t := rF_mem.mpr ⟨h0, by omega, decide_eq_true ht⟩
theorem fst_of {M : Int → Int} {t l : Int} (h0 : 0 ≤ l) (h1 : l < M 0) (ht : M (43 + l) = t) : 0 ≤ fst M t := by
  have h := rws_of h0 h1 ht
  have hl : 0 < (rws M t).length := List.length_pos_of_mem h
  have := lnO_rng (M := M) (t := t) (r := 0) (Int.le_refl 0) (by unfold nR; omega)
  exact this.1
theorem zWg.is {G : zTG} {l : Int} (h : zWg G) (h0 : 0 ≤ l) (h1 : l < G 0 0) : isT (G 0) (G 0 (43 + l)) = true := by
  have ho := h.1.of h0 h1
  exact isT_iff.mpr ⟨ho.1, ho.2, fst_of h0 h1 rfl⟩
theorem zWg.n {G : zTG} {l t : Int} (h : zWg G) (h0 : 0 ≤ l) (h1 : l < G 0 0) (ht : G 0 (43 + l) = t) : nTl (G 0) l = nTl (G 0) (fst (G 0) t) := by
  rw [← ht]
  exact (gapsL_eq.mp (h.2 l h0 h1).1).1
/-- a column's tokens, row by row -/
def colT (M : Int → Int) (t k : Int) : Int → zS := fun r => tkl M (lnO M t r) k
theorem zWg.col {G : zTG} {F : zTF} {t k : Int} (h : zWg G) (ht : isT (G 0) t = true) (h0 : 0 ≤ k) (h1 : k < nTl (G 0) (fst (G 0) t)) : zCol (upF F 17 (nR (G 0) t)) (rowsG G t) k (nR (G 0) t).toNat (colT (G 0) t k) := by
  have hm := h.1.1
  have hr := nR_rng (G 0) t (by omega)
  have e0 : rowsG G t 0 = G 0 := rowG_j G t _ (by decide)
  refine ⟨by rw [upF_same]; omega, by omega, fun r r0 r1 => ?_⟩
  rw [rowG_at r0 (by omega), e0]
  have hl := lnO_rng (M := G 0) (t := t) r0 (by omega)
  have hn := h.n hl.1 hl.2.1 hl.2.2
  exact ⟨(h.1.ln hl.1 hl.2.1).sc e0 (rowG_j G t _ (by decide)) (rowG_j G t _ (by decide)) (rowG_j G t _ (by decide)), h0, by unfold nTl at hn h1; omega, rfl⟩
/-- what a column costs, in a way -/
def cosM (M : Int → Int) (t k way : Int) : Int := cosI (nR M t).toNat (colT M t k) way
def wayM (M : Int → Int) (t k : Int) : Int := wayI (nR M t).toNat (colT M t k)
theorem len_rng {G : zTG} {t k r : Int} (h : zWg G) (ht : isT (G 0) t = true) (h0 : 0 ≤ k) (h1 : k < nTl (G 0) (fst (G 0) t)) (r0 : 0 ≤ r) (r1 : r < nR (G 0) t) : 1 ≤ ((colT (G 0) t k r).length : Int) ∧ ((colT (G 0) t k r).length : Int) ≤ 40 := by
  have hc := h.col (F := fun _ => 0) ht h0 h1
  have := hc.g (r := r) r0 (by omega)
  exact ⟨this.2.2.2.2.1, this.2.2.2.2.2⟩
theorem dl_rng (m : Nat) : m ≤ 2147483648 → 0 ≤ dlN m ∧ dlN m ≤ 10 := by
  have key : ∀ (e m : Nat), m < 10 ^ e → 0 ≤ dlN m ∧ dlN m ≤ e := by
    intro e
    induction e with
    | zero => intro m hm; have : m = 0 := by omega
              subst this; rw [dlN_0]; omega
    | succ e ih =>
      intro m hm
      by_cases h : m = 0
      · subst h; rw [dlN_0]; omega
      · have hd : m / 10 < 10 ^ e := by rw [Nat.pow_succ] at hm; omega
        have := ih _ hd
        rw [dlN_s h]; omega
  intro hm
  have := key 10 m (by omega)
  omega
theorem dgt_rng {v : Int} (h : zR v) : 1 ≤ dgt v ∧ dgt v ≤ 12 := by
  have := dl_rng (v.natAbs / 10) (by have := h.1; have := h.2; omega)
  unfold dgt
  split <;> omega
/-- costs are small -/
theorem cos_rng {n : Nat} {c : Int → zS} {way : Int} (hn : n ≤ 40) (hc : ∀ r : Int, 0 ≤ r → r < n → 1 ≤ ((c r).length : Int) ∧ ((c r).length : Int) ≤ 40) : -1 ≤ cosI n c way ∧ cosI n c way ≤ 2000 := by
  have hs : ∀ f : Int → Int, (∀ r : Nat, r < n → 0 ≤ f r ∧ f r ≤ 42) → 0 ≤ sumI f n ∧ sumI f n ≤ 1680 := fun f hf => by
    have := sumI_range (f := f) (n := n) (lo := 0) (hi := 42) hf
    omega
  unfold cosI
  split
  · unfold pln
    have := hs (fun r => if !false || decide (fstI c r = r) then ((c r).length : Int) + 1 else 0) (fun r hr => by have := hc r (by omega) (by omega); split <;> omega)
    simp only [Bool.false_eq_true, if_false]
    omega
  · split
    · unfold pln
      have := hs (fun r => if !true || decide (fstI c r = r) then ((c r).length : Int) + 1 else 0) (fun r hr => by have := hc r (by omega) (by omega); split <;> omega)
      simp only [if_true]
      omega
    · split
      · unfold runI
        have := hs (fun r => if beg c r then (if true then ((c r).length : Int) + 2 else 1) else 0) (fun r hr => by have := hc r (by omega) (by omega); split <;> simp <;> omega)
        omega
      · unfold difI
        split
        · rename_i hall
          rw [allI_iff] at hall
          unfold difS
          have := hs (fun r => 1 + (if r = 0 then ((c 0).length : Int) else dgt (num (c r) - num (c (r - 1))))) (fun r hr => by
            split
            · have := hc 0 (by omega) (by omega); omega
            · have n1 := num_rng (of_decide_eq_true (hall r hr))
              have h2 := hall (r - 1) (by omega)
              rw [show ((r - 1 : Nat) : Int) = (r : Int) - 1 by omega] at h2
              have n2 := num_rng (of_decide_eq_true h2)
              have := dgt_rng (v := num (c r) - num (c ((r : Int) - 1))) ⟨by omega, by omega⟩
              omega)
          omega
        · omega
theorem cosM_rng {G : zTG} {t k way : Int} (h : zWg G) (ht : isT (G 0) t = true) (h0 : 0 ≤ k) (h1 : k < nTl (G 0) (fst (G 0) t)) : -1 ≤ cosM (G 0) t k way ∧ cosM (G 0) t k way ≤ 2000 := by
  have hm := h.1.1
  have hr := nR_rng (G 0) t (by omega)
  exact cos_rng (by omega) (fun r r0 r1 => len_rng h ht h0 h1 r0 (by omega))
abbrev rmX4_costOf : Room := { frames := 5, cells := 0, slots := 0, locals := 117 }
set_option maxHeartbeats 4000000 in
theorem c_X4_costOf (D : zD) (A : Nat → Prop) {b : Nat} {F : zTF} {G : zTG} {t k way : Int} (h : zWg G) (ht : isT (G 0) t = true) (hk : 0 ≤ k ∧ k < nTl (G 0) (fst (G 0) t)) (hy : 0 ≤ way ∧ way ≤ 3) : zC D yX4_costOf cX4_costOf 4 (some .int) none rmX4_costOf A [.ref b, zI (t), zI (k), zI (way)] (twI D A b F G) (zPd (zI (cosM (G 0) t k way)) (twI D A b (upF F 17 (nR (G 0) t)) (rowsG G t))) zNo := by
  refine zC_start (L := [some (.ref b), some (zI (t)), some (zI (k)), some (zI (way))]) (by decide) (Nat.le_of_ble_eq_true rfl) rfl (fun X hX => ?_)
  have hw := h.1
  have hf := hw.fs ht
  have hc := h.col (F := F) ht hk.1 hk.2
  refine z_aload_n (i := 0) (q := 1) hX dX4_costOf_0 rfl rfl rfl ?_
  refine z_iload_n (i := 1) (q := 2) hX dX4_costOf_1 rfl rfl rfl ?_
  refine zt_V0 (q := 5) (na := 1) hX dX4_costOf_2 (c_X4_layRows D A (by first | assumption | omega) (by first | assumption | omega)) q2149 q2151 qs74 q103 q2152 rfl (by decide +kernel) ⟨Nat.le_of_ble_eq_true rfl, Nat.le_of_ble_eq_true rfl⟩ rfl rfl (Nat.le_of_ble_eq_true rfl) rfl ⟨rfl, rfl⟩ (Nat.le_of_ble_eq_true rfl) (Nat.le_of_ble_eq_true rfl) rfl ?_
  refine z_iload_n (i := 3) (q := 6) hX dX4_costOf_5 rfl rfl rfl ?_
  refine z_if_ne (q := 9) (t := 18) hX dX4_costOf_6 (by decide) (by omega) rfl (fun h6 => ?_) (fun h6 => ?_)
  · refine z_iload_n (i := 3) (q := 19) hX dX4_costOf_18 rfl rfl rfl ?_
    refine z_iconst (q := 20) hX dX4_costOf_19 rfl ?_
    refine z_icmp_ne (q := 23) (t := 32) hX dX4_costOf_20 (by decide) (by omega) (by omega) rfl (fun h20 => ?_) (fun h20 => ?_)
    · refine z_iload_n (i := 3) (q := 33) hX dX4_costOf_32 rfl rfl rfl ?_
      refine z_iconst (q := 34) hX dX4_costOf_33 rfl ?_
      refine z_icmp_ne (q := 37) (t := 46) hX dX4_costOf_34 (by decide) (by omega) (by omega) rfl (fun h34 => ?_) (fun h34 => ?_)
      · refine z_aload_n (i := 0) (q := 47) hX dX4_costOf_46 rfl rfl rfl ?_
        refine z_iload_n (i := 2) (q := 48) hX dX4_costOf_47 rfl rfl rfl ?_
        refine zt_V1 (q := 51) (na := 1) hX dX4_costOf_48 (c_X4_differences D A hc) q2165 q2167 qs78 q103 q2168 rfl (by decide +kernel) ⟨Nat.le_of_ble_eq_true rfl, Nat.le_of_ble_eq_true rfl⟩ rfl rfl (Nat.le_of_ble_eq_true rfl) rfl ⟨rfl, rfl⟩ (Nat.le_of_ble_eq_true rfl) (Nat.le_of_ble_eq_true rfl) rfl ?_
        exact z_iret hX dX4_costOf_51 (Nat.le_of_ble_eq_true rfl) (Nat.le_of_ble_eq_true rfl) rfl (fun H hI => ⟨congrArg (fun z => some (zI z)) ((by unfold cosM cosI; rw [if_neg h6, if_neg h20, if_neg h34])), hI⟩)
      · refine z_aload_n (i := 0) (q := 38) hX dX4_costOf_37 rfl rfl rfl ?_
        refine z_iload_n (i := 2) (q := 39) hX dX4_costOf_38 rfl rfl rfl ?_
        refine z_iconst (q := 40) hX dX4_costOf_39 rfl ?_
        refine zt_V1 (q := 43) (na := 2) hX dX4_costOf_40 (c_X4_runs D A (d := true) hc) q2161 q2163 qs77 q103 q2164 rfl (by decide +kernel) ⟨Nat.le_of_ble_eq_true rfl, Nat.le_of_ble_eq_true rfl⟩ rfl rfl (Nat.le_of_ble_eq_true rfl) rfl ⟨rfl, rfl⟩ (Nat.le_of_ble_eq_true rfl) (Nat.le_of_ble_eq_true rfl) rfl ?_
        refine z_goto (t := 51) hX dX4_costOf_43 (by decide) ?_
        exact z_iret hX dX4_costOf_51 (Nat.le_of_ble_eq_true rfl) (Nat.le_of_ble_eq_true rfl) rfl (fun H hI => ⟨congrArg (fun z => some (zI z)) ((by unfold cosM cosI; rw [if_neg h6, if_neg h20, if_pos (by omega)])), hI⟩)
    · refine z_aload_n (i := 0) (q := 24) hX dX4_costOf_23 rfl rfl rfl ?_
      refine z_iload_n (i := 2) (q := 25) hX dX4_costOf_24 rfl rfl rfl ?_
      refine z_iconst (q := 26) hX dX4_costOf_25 rfl ?_
      refine zt_V1 (q := 29) (na := 2) hX dX4_costOf_26 (c_X4_plain D A (d := true) hc) q2153 q2155 qs75 q103 q2156 rfl (by decide +kernel) ⟨Nat.le_of_ble_eq_true rfl, Nat.le_of_ble_eq_true rfl⟩ rfl rfl (Nat.le_of_ble_eq_true rfl) rfl ⟨rfl, rfl⟩ (Nat.le_of_ble_eq_true rfl) (Nat.le_of_ble_eq_true rfl) rfl ?_
      refine z_goto (t := 51) hX dX4_costOf_29 (by decide) ?_
      exact z_iret hX dX4_costOf_51 (Nat.le_of_ble_eq_true rfl) (Nat.le_of_ble_eq_true rfl) rfl (fun H hI => ⟨congrArg (fun z => some (zI z)) ((by unfold cosM cosI; rw [if_neg h6, if_pos (by omega)])), hI⟩)
  · refine z_aload_n (i := 0) (q := 10) hX dX4_costOf_9 rfl rfl rfl ?_
    refine z_iload_n (i := 2) (q := 11) hX dX4_costOf_10 rfl rfl rfl ?_
    refine z_iconst (q := 12) hX dX4_costOf_11 rfl ?_
    refine zt_V1 (q := 15) (na := 2) hX dX4_costOf_12 (c_X4_plain D A (d := false) hc) q2153 q2155 qs75 q103 q2156 rfl (by decide +kernel) ⟨Nat.le_of_ble_eq_true rfl, Nat.le_of_ble_eq_true rfl⟩ rfl rfl (Nat.le_of_ble_eq_true rfl) rfl ⟨rfl, rfl⟩ (Nat.le_of_ble_eq_true rfl) (Nat.le_of_ble_eq_true rfl) rfl ?_
    refine z_goto (t := 51) hX dX4_costOf_15 (by decide) ?_
    exact z_iret hX dX4_costOf_51 (Nat.le_of_ble_eq_true rfl) (Nat.le_of_ble_eq_true rfl) rfl (fun H hI => ⟨congrArg (fun z => some (zI z)) ((by unfold cosM cosI; rw [if_pos (by omega)])), hI⟩)
abbrev rmX4_wayOf : Room := { frames := 6, cells := 0, slots := 0, locals := 140 }
set_option maxHeartbeats 4000000 in
theorem c_X4_wayOf (D : zD) (A : Nat → Prop) {b : Nat} {F : zTF} {G : zTG} {t k : Int} (h : zWg G) (ht : isT (G 0) t = true) (hk : 0 ≤ k ∧ k < nTl (G 0) (fst (G 0) t)) : zC D yX4_wayOf cX4_wayOf 6 (some .int) none rmX4_wayOf A [.ref b, zI (t), zI (k)] (twI D A b F G) (zPd (zI (wayM (G 0) t k)) (twI D A b (upF F 17 (nR (G 0) t)) (rowsG G t))) zNo := by
  refine zC_start (L := [some (.ref b), some (zI (t)), some (zI (k)), none, none, none]) (by decide) (Nat.le_of_ble_eq_true rfl) rfl (fun X hX => ?_)
  have body : ∀ (F0 : zTF) (G0 : zTG), zWg G0 → G0 0 = G 0 → rowsG G0 t = rowsG G t → upF F0 17 (nR (G 0) t) = upF F 17 (nR (G 0) t) → ∀ w : Nat, w < 3 → zG X 0 0 (twI D A b (upF F 17 (nR (G 0) t)) (rowsG G t)) 5 [some (.ref b), some (zI (t)), some (zI (k)), some (zI (wayS (nR (G 0) t).toNat (colT (G 0) t k) (w + 1))), some (zI ((w : Int) + 2)), none] [] → zG X 0 0 (twI D A b F0 G0) 5 [some (.ref b), some (zI (t)), some (zI (k)), some (zI (wayS (nR (G 0) t).toNat (colT (G 0) t k) w)), some (zI ((w : Int) + 1)), none] [] := by
    intro F0 G0 hg e0 eR eF w hw3 next
    have hr0 := wayS_rng (nR (G 0) t).toNat (colT (G 0) t k) w
    have ht0 : isT (G0 0) t = true := by rw [e0]; exact ht
    have hk0 : 0 ≤ k ∧ k < nTl (G0 0) (fst (G0 0) t) := by rw [e0]; exact hk
    have hg1 : zWg (rowsG G t) := by rw [← eR]; exact hg.sc (rowG_j G0 t _ (by decide)) (rowG_j G0 t _ (by decide)) (rowG_j G0 t _ (by decide)) (rowG_j G0 t _ (by decide))
    have e1 : rowsG G t 0 = G 0 := rowG_j G t _ (by decide)
    have ht1 : isT (rowsG G t 0) t = true := by rw [e1]; exact ht
    have hk1 : 0 ≤ k ∧ k < nTl (rowsG G t 0) (fst (rowsG G t 0) t) := by rw [e1]; exact hk
    have c1 := cosM_rng (way := (w : Int) + 1) hg ht0 hk0.1 hk0.2
    have c2 := cosM_rng (way := wayS (nR (G 0) t).toNat (colT (G 0) t k) w) hg1 ht1 hk1.1 hk1.2
    rw [e0] at c1
    rw [e1] at c2
    refine z_iload (q := 7) hX dX4_wayOf_5 rfl rfl ?_
    refine z_iconst (q := 8) hX dX4_wayOf_7 rfl ?_
    refine z_icmp_ge (q := 11) (t := 51) hX dX4_wayOf_8 (by decide) (by omega) (by omega) rfl (fun h8 => ?_) (fun h8 => ?_)
    · exact absurd h8 (by omega)
    · refine z_aload_n (i := 0) (q := 12) hX dX4_wayOf_11 rfl rfl rfl ?_
      refine z_iload_n (i := 1) (q := 13) hX dX4_wayOf_12 rfl rfl rfl ?_
      refine z_iload_n (i := 2) (q := 14) hX dX4_wayOf_13 rfl rfl rfl ?_
      refine z_iload (q := 16) hX dX4_wayOf_14 rfl rfl ?_
      refine zt_V1 (q := 19) (na := 3) hX dX4_wayOf_16 (c_X4_costOf D A (by first | assumption | omega) (by first | assumption | omega) (by first | assumption | omega) (by first | assumption | omega)) q2145 q2147 qs73 q103 q2148 rfl (by decide +kernel) ⟨Nat.le_of_ble_eq_true rfl, Nat.le_of_ble_eq_true rfl⟩ rfl rfl (Nat.le_of_ble_eq_true rfl) rfl ⟨rfl, rfl⟩ (Nat.le_of_ble_eq_true rfl) (Nat.le_of_ble_eq_true rfl) rfl ?_
      rw [e0, eR, eF]
      refine z_istore (q := 21) hX dX4_wayOf_19 (Nat.le_of_ble_eq_true rfl) rfl rfl ?_
      refine z_iload (q := 23) hX dX4_wayOf_21 rfl rfl ?_
      refine z_if_lt (q := 26) (t := 43) hX dX4_wayOf_23 (by decide) (by omega) rfl (fun h23 => ?_) (fun h23 => ?_)
      · refine z_iload_n (i := 3) (q := 44) hX dX4_wayOf_43 rfl rfl rfl ?_
        refine z_istore_n (i := 3) (q := 45) hX dX4_wayOf_44 rfl (Nat.le_of_ble_eq_true rfl) rfl rfl ?_
        refine z_iinc (q := 48) hX dX4_wayOf_45 rfl (Nat.le_of_ble_eq_true rfl) rfl rfl ?_
        refine z_goto (t := 5) hX dX4_wayOf_48 (by decide) ?_
        refine zG.drop 5 ?_
        have e9 : wayS (nR (G 0) t).toNat (colT (G 0) t k) (w + 1) = wayS (nR (G 0) t).toNat (colT (G 0) t k) w := by
          rw [wayS, if_neg]
          unfold cosM at h23
          intro q
          omega
        rw [← e9, show (w : Int) + 1 + 1 = (w : Int) + 2 by omega]
        exact next
      · refine z_iload (q := 28) hX dX4_wayOf_26 rfl rfl ?_
        refine z_aload_n (i := 0) (q := 29) hX dX4_wayOf_28 rfl rfl rfl ?_
        refine z_iload_n (i := 1) (q := 30) hX dX4_wayOf_29 rfl rfl rfl ?_
        refine z_iload_n (i := 2) (q := 31) hX dX4_wayOf_30 rfl rfl rfl ?_
        refine z_iload_n (i := 3) (q := 32) hX dX4_wayOf_31 rfl rfl rfl ?_
        refine zt_V1 (q := 35) (na := 3) hX dX4_wayOf_32 (c_X4_costOf D A (by first | assumption | omega) (by first | assumption | omega) (by first | assumption | omega) (by first | assumption | omega)) q2145 q2147 qs73 q103 q2148 rfl (by decide +kernel) ⟨Nat.le_of_ble_eq_true rfl, Nat.le_of_ble_eq_true rfl⟩ rfl rfl (Nat.le_of_ble_eq_true rfl) rfl ⟨rfl, rfl⟩ (Nat.le_of_ble_eq_true rfl) (Nat.le_of_ble_eq_true rfl) rfl ?_
        rw [e1, upF_upF, rowsG_2]
        refine z_icmp_ge (q := 38) (t := 43) hX dX4_wayOf_35 (by decide) (by omega) (by omega) rfl (fun h35 => ?_) (fun h35 => ?_)
        · refine z_iload_n (i := 3) (q := 44) hX dX4_wayOf_43 rfl rfl rfl ?_
          refine z_istore_n (i := 3) (q := 45) hX dX4_wayOf_44 rfl (Nat.le_of_ble_eq_true rfl) rfl rfl ?_
          refine z_iinc (q := 48) hX dX4_wayOf_45 rfl (Nat.le_of_ble_eq_true rfl) rfl rfl ?_
          refine z_goto (t := 5) hX dX4_wayOf_48 (by decide) ?_
          refine zG.drop 5 ?_
          have e9 : wayS (nR (G 0) t).toNat (colT (G 0) t k) (w + 1) = wayS (nR (G 0) t).toNat (colT (G 0) t k) w := by
            rw [wayS, if_neg]
            unfold cosM at h35
            intro q
            omega
          rw [← e9, show (w : Int) + 1 + 1 = (w : Int) + 2 by omega]
          exact next
        · refine z_iload (q := 40) hX dX4_wayOf_38 rfl rfl ?_
          refine z_goto (t := 44) hX dX4_wayOf_40 (by decide) ?_
          refine z_istore_n (i := 3) (q := 45) hX dX4_wayOf_44 rfl (Nat.le_of_ble_eq_true rfl) rfl rfl ?_
          refine z_iinc (q := 48) hX dX4_wayOf_45 rfl (Nat.le_of_ble_eq_true rfl) rfl rfl ?_
          refine z_goto (t := 5) hX dX4_wayOf_48 (by decide) ?_
          refine zG.drop 5 ?_
          have e9 : wayS (nR (G 0) t).toNat (colT (G 0) t k) (w + 1) = (w : Int) + 1 := by
            rw [wayS, if_pos]
            unfold cosM at h35 h23
            constructor <;> omega
          rw [e9] at next
          rw [show (w : Int) + 1 + 1 = (w : Int) + 2 by omega]
          exact next
  have hg1 : zWg (rowsG G t) := h.sc (rowG_j G t _ (by decide)) (rowG_j G t _ (by decide)) (rowG_j G t _ (by decide)) (rowG_j G t _ (by decide))
  have e1 : rowsG G t 0 = G 0 := rowG_j G t _ (by decide)
  have fin : zG X 0 0 (twI D A b (upF F 17 (nR (G 0) t)) (rowsG G t)) 5 [some (.ref b), some (zI (t)), some (zI (k)), some (zI (wayS (nR (G 0) t).toNat (colT (G 0) t k) 3)), some (zI (4)), none] [] := by
    refine z_iload (q := 7) hX dX4_wayOf_5 rfl rfl ?_
    refine z_iconst (q := 8) hX dX4_wayOf_7 rfl ?_
    refine z_icmp_ge (q := 11) (t := 51) hX dX4_wayOf_8 (by decide) (by omega) (by omega) rfl (fun h8 => ?_) (fun h8 => ?_)
    · refine z_iload_n (i := 3) (q := 52) hX dX4_wayOf_51 rfl rfl rfl ?_
      exact z_iret hX dX4_wayOf_52 (Nat.le_of_ble_eq_true rfl) (Nat.le_of_ble_eq_true rfl) rfl (fun H hI => ⟨congrArg (fun z => some (zI z)) (rfl), hI⟩)
    · exact absurd h8 (by decide)
  have b2 := body (upF F 17 (nR (G 0) t)) (rowsG G t) hg1 e1 (rowsG_2 G t) (upF_upF _ _ _ _) 2 (by omega) fin
  have b1 := body (upF F 17 (nR (G 0) t)) (rowsG G t) hg1 e1 (rowsG_2 G t) (upF_upF _ _ _ _) 1 (by omega) b2
  have b0 := body F G h rfl rfl rfl 0 (by omega) b1
  refine z_iconst (q := 1) hX dX4_wayOf_0 rfl ?_
  refine z_istore_n (i := 3) (q := 2) hX dX4_wayOf_1 rfl (Nat.le_of_ble_eq_true rfl) rfl rfl ?_
  refine z_iconst (q := 3) hX dX4_wayOf_2 rfl ?_
  refine z_istore (q := 5) hX dX4_wayOf_3 (Nat.le_of_ble_eq_true rfl) rfl rfl ?_
  exact b0
def zS17 (F : zTF) (G : zTG) (F2 : zTF) (G2 : zTG) : Prop := (∀ j, j ≠ 17 → F2 j = F j) ∧ ∀ j, j ≠ 11 → G2 j = G j
theorem zS17.rf (F : zTF) (G : zTG) : zS17 F G F G := ⟨fun _ _ => rfl, fun _ _ => rfl⟩
theorem zS17.row {F F2 : zTF} {G G2 : zTG} (h : zS17 F G F2 G2) (x : Int) (t : Int) : zS17 F G (upF F2 17 x) (rowsG G2 t) := ⟨fun j hj => by rw [upF_ne _ _ hj]; exact h.1 j hj, fun j hj => by rw [show rowsG G2 t j = G2 j from rowG_j G2 t _ hj]; exact h.2 j hj⟩
theorem zS17.wg {F F2 : zTF} {G G2 : zTG} (h : zS17 F G F2 G2) (hg : zWg G) : zWg G2 := hg.sc (h.2 0 (by decide)) (h.2 4 (by decide)) (h.2 5 (by decide)) (h.2 6 (by decide))
def cosTk (M : Int → Int) (t k : Int) : Int := if slt M t k = -1 then 0 else cosM M t k (wayM M t k)
def cosTt (M : Int → Int) (t : Int) : Int := if isT M t then costT M t + sumI (fun k => cosTk M t k) (nTl M (fst M t)).toNat else 0
/-- the cost of everything -/
def cosA (M : Int → Int) : Int := M 0 + sumI (fun t => cosTt M t) 12
abbrev rmX4_costOfAll : Room := { frames := 7, cells := 0, slots := 0, locals := 165 }
set_option maxHeartbeats 4000000 in
theorem c_X4_costOfAll (D : zD) (A : Nat → Prop) {b : Nat} {F : zTF} {G : zTG} (h : zWg G) : zC D yX4_costOfAll cX4_costOfAll 4 (some .int) none rmX4_costOfAll A [.ref b] (twI D A b F G) (zPd (zI (cosA (G 0))) (twE D A b (zS17 F G))) zNo := by
  refine zC_start (L := [some (.ref b), none, none, none]) (by decide) (Nat.le_of_ble_eq_true rfl) rfl (fun X hX => ?_)
  have K : ∀ n : Nat, n ≤ 12 → ∀ (F0 : zTF) (G0 : zTG), zS17 F G F0 G0 → ∀ s p : Int, s = G 0 0 + sumI (fun t => cosTt (G 0) t) n → p = n → zG X 0 0 (twI D A b F0 G0) 9 [some (.ref b), some (zI (s)), some (zI (p)), none] [] := by
    refine z_up (fun n hn ih F0 G0 hs s p e1 e2 => ?_)
    subst e2
    have e0 : G0 0 = G 0 := hs.2 0 (by decide)
    have hg0 := hs.wg h
    have hw0 := hg0.1
    have K2 : isT (G 0) n = true → n < 12 → ∀ m : Nat, m ≤ (nTl (G 0) (fst (G 0) n)).toNat → ∀ (F1 : zTF) (G1 : zTG), zS17 F G F1 G1 → ∀ s2 p2 : Int, s2 = s + (costT (G 0) n + sumI (fun k => cosTk (G 0) n k) m) → p2 = m → zG X 0 0 (twI D A b F1 G1) 33 [some (.ref b), some (zI (s2)), some (zI (n)), some (zI (p2))] [] := by
      intro htn hn12
      refine z_up (fun m hm ih2 F1 G1 hs1 s2 p2 e3 e4 => ?_)
      subst e4
      have e5 : G1 0 = G 0 := hs1.2 0 (by decide)
      have hg1 := hs1.wg h
      have hw1 := hg1.1
      have ht1 : isT (G1 0) n = true := by rw [e5]; exact htn
      have hf1 := hw1.fs ht1
      have hwy := wayS_rng (nR (G1 0) n).toNat (colT (G1 0) n m) 3
      have hk1 : m < (nTl (G 0) (fst (G 0) n)).toNat → 0 ≤ (m : Int) ∧ (m : Int) < nTl (G1 0) (fst (G1 0) n) := fun q => by rw [e5]; omega
      have hg2 : zWg (rowsG G1 n) := hg1.sc (rowG_j G1 n _ (by decide)) (rowG_j G1 n _ (by decide)) (rowG_j G1 n _ (by decide)) (rowG_j G1 n _ (by decide))
      have e6 : rowsG G1 n 0 = G1 0 := rowG_j G1 n _ (by decide)
      rw [e5] at hf1
      refine z_iload_n (i := 3) (q := 34) hX dX4_costOfAll_33 rfl rfl rfl ?_
      refine z_aload_n (i := 0) (q := 35) hX dX4_costOfAll_34 rfl rfl rfl ?_
      refine z_iload_n (i := 2) (q := 36) hX dX4_costOfAll_35 rfl rfl rfl ?_
      refine zt_V1 (q := 39) (na := 1) hX dX4_costOfAll_36 (c_X4_tokensOf D A (by first | assumption | omega) (by first | assumption | omega)) q2085 q2087 qs62 q103 q2088 rfl (by decide +kernel) ⟨Nat.le_of_ble_eq_true rfl, Nat.le_of_ble_eq_true rfl⟩ rfl rfl (Nat.le_of_ble_eq_true rfl) rfl ⟨rfl, rfl⟩ (Nat.le_of_ble_eq_true rfl) (Nat.le_of_ble_eq_true rfl) rfl ?_
      rw [e5]
      refine z_icmp_ge (q := 42) (t := 77) hX dX4_costOfAll_39 (by decide) (by omega) (by omega) rfl (fun h39 => ?_) (fun h39 => ?_)
      · refine z_iinc (q := 80) hX dX4_costOfAll_77 rfl (Nat.le_of_ble_eq_true rfl) rfl rfl ?_
        refine z_goto (t := 9) hX dX4_costOfAll_80 (by decide) ?_
        refine zG.drop 3 ?_
        exact ih (by omega) _ _ hs1 _ _ (by rw [e3, e1, sumI, show cosTt (G 0) n = costT (G 0) n + sumI (fun k => cosTk (G 0) n k) (nTl (G 0) (fst (G 0) n)).toNat from if_pos htn, show m = (nTl (G 0) (fst (G 0) n)).toNat by omega]; omega) (by omega)
      · refine z_iload_n (i := 1) (q := 43) hX dX4_costOfAll_42 rfl rfl rfl ?_
        refine z_aload_n (i := 0) (q := 44) hX dX4_costOfAll_43 rfl rfl rfl ?_
        refine z_iload_n (i := 2) (q := 45) hX dX4_costOfAll_44 rfl rfl rfl ?_
        refine z_iload_n (i := 3) (q := 46) hX dX4_costOfAll_45 rfl rfl rfl ?_
        refine zt_V1 (q := 49) (na := 2) hX dX4_costOfAll_46 (c_X4_slotOf D A (by first | assumption | omega) (by first | assumption | omega)) q2014 q2016 qs51 q103 q2017 rfl (by decide +kernel) ⟨Nat.le_of_ble_eq_true rfl, Nat.le_of_ble_eq_true rfl⟩ rfl rfl (Nat.le_of_ble_eq_true rfl) rfl ⟨rfl, rfl⟩ (Nat.le_of_ble_eq_true rfl) (Nat.le_of_ble_eq_true rfl) rfl ?_
        have hsl := hw1.sl (t := n) (k := m) (by omega) (by omega) (by omega) (by omega)
        rw [e5] at hsl ⊢
        have hkk := hk1 (by omega)
        refine z_iconst (q := 50) hX dX4_costOfAll_49 rfl ?_
        refine z_icmp_ne (q := 53) (t := 57) hX dX4_costOfAll_50 (by decide) (by omega) (by omega) rfl (fun h50 => ?_) (fun h50 => ?_)
        · refine z_aload_n (i := 0) (q := 58) hX dX4_costOfAll_57 rfl rfl rfl ?_
          refine z_iload_n (i := 2) (q := 59) hX dX4_costOfAll_58 rfl rfl rfl ?_
          refine z_iload_n (i := 3) (q := 60) hX dX4_costOfAll_59 rfl rfl rfl ?_
          refine z_aload_n (i := 0) (q := 61) hX dX4_costOfAll_60 rfl rfl rfl ?_
          refine z_iload_n (i := 2) (q := 62) hX dX4_costOfAll_61 rfl rfl rfl ?_
          refine z_iload_n (i := 3) (q := 63) hX dX4_costOfAll_62 rfl rfl rfl ?_
          refine zt_V1 (q := 66) (na := 2) hX dX4_costOfAll_63 (c_X4_wayOf D A hg1 ht1 hkk) q2141 q2143 qs72 q103 q2144 rfl (by decide +kernel) ⟨Nat.le_of_ble_eq_true rfl, Nat.le_of_ble_eq_true rfl⟩ rfl rfl (Nat.le_of_ble_eq_true rfl) rfl ⟨rfl, rfl⟩ (Nat.le_of_ble_eq_true rfl) (Nat.le_of_ble_eq_true rfl) rfl ?_
          refine zt_V1 (q := 69) (na := 3) hX dX4_costOfAll_66 (c_X4_costOf D A hg2 (by rw [e6]; exact ht1) (by rw [e6]; exact hkk) (by unfold wayM wayI; omega)) q2145 q2147 qs73 q103 q2148 rfl (by decide +kernel) ⟨Nat.le_of_ble_eq_true rfl, Nat.le_of_ble_eq_true rfl⟩ rfl rfl (Nat.le_of_ble_eq_true rfl) rfl ⟨rfl, rfl⟩ (Nat.le_of_ble_eq_true rfl) (Nat.le_of_ble_eq_true rfl) rfl ?_
          refine z_iadd (q := 70) hX dX4_costOfAll_69 rfl ?_
          refine z_istore_n (i := 1) (q := 71) hX dX4_costOfAll_70 rfl (Nat.le_of_ble_eq_true rfl) rfl rfl ?_
          refine z_iinc (q := 74) hX dX4_costOfAll_71 rfl (Nat.le_of_ble_eq_true rfl) rfl rfl ?_
          refine z_goto (t := 33) hX dX4_costOfAll_74 (by decide) ?_
          rw [e6, upF_upF, rowsG_2, e5]
          exact ih2 (by omega) _ _ (hs1.row _ _) _ _ (by rw [e3, sumI, show cosTk (G 0) n m = cosM (G 0) n m (wayM (G 0) n m) from if_neg h50]; omega) (by omega)
        · refine z_iconst (q := 54) hX dX4_costOfAll_53 rfl ?_
          refine z_goto (t := 69) hX dX4_costOfAll_54 (by decide) ?_
          refine z_iadd (q := 70) hX dX4_costOfAll_69 rfl ?_
          refine z_istore_n (i := 1) (q := 71) hX dX4_costOfAll_70 rfl (Nat.le_of_ble_eq_true rfl) rfl rfl ?_
          refine z_iinc (q := 74) hX dX4_costOfAll_71 rfl (Nat.le_of_ble_eq_true rfl) rfl rfl ?_
          refine z_goto (t := 33) hX dX4_costOfAll_74 (by decide) ?_
          exact ih2 (by omega) _ _ hs1 _ _ (by rw [e3, sumI, show cosTk (G 0) n m = 0 from if_pos (by omega)]; omega) (by omega)
    refine z_iload_n (i := 2) (q := 10) hX dX4_costOfAll_9 rfl rfl rfl ?_
    refine z_bipush (q := 12) hX dX4_costOfAll_10 (by decide) rfl ?_
    refine z_icmp_ge (q := 15) (t := 83) hX dX4_costOfAll_12 (by decide) (by omega) (by omega) rfl (fun h12 => ?_) (fun h12 => ?_)
    · refine z_iload_n (i := 1) (q := 84) hX dX4_costOfAll_83 rfl rfl rfl ?_
      exact z_iret hX dX4_costOfAll_84 (Nat.le_of_ble_eq_true rfl) (Nat.le_of_ble_eq_true rfl) rfl (fun H hI => ⟨congrArg (fun z => some (zI z)) (by rw [e1, show n = 12 by omega]; rfl), _, _, hs, hI⟩)
    · refine z_aload_n (i := 0) (q := 16) hX dX4_costOfAll_15 rfl rfl rfl ?_
      refine z_iload_n (i := 2) (q := 17) hX dX4_costOfAll_16 rfl rfl rfl ?_
      refine zt_V1 (q := 20) (na := 1) hX dX4_costOfAll_17 (c_X4_isTemplate D A (by first | assumption | omega) (by first | assumption | omega)) q1986 q1988 qs44 q103 q1989 rfl (by decide +kernel) ⟨Nat.le_of_ble_eq_true rfl, Nat.le_of_ble_eq_true rfl⟩ rfl rfl (Nat.le_of_ble_eq_true rfl) rfl ⟨rfl, rfl⟩ (Nat.le_of_ble_eq_true rfl) (Nat.le_of_ble_eq_true rfl) rfl ?_
      rw [e0]
      refine z_ifB_eq (q := 23) (t := 77) hX dX4_costOfAll_20 (by decide) rfl (fun h20 => ?_) (fun h20 => ?_)
      · refine z_iinc (q := 80) hX dX4_costOfAll_77 rfl (Nat.le_of_ble_eq_true rfl) rfl rfl ?_
        refine z_goto (t := 9) hX dX4_costOfAll_80 (by decide) ?_
        refine zG.drop 3 ?_
        exact ih (by omega) _ _ hs _ _ (by rw [e1, sumI, show cosTt (G 0) n = 0 from if_neg (by rw [h20]; decide)]; omega) (by omega)
      · have ht0 : isT (G0 0) n = true := by rw [e0]; exact h20
        refine z_iload_n (i := 1) (q := 24) hX dX4_costOfAll_23 rfl rfl rfl ?_
        refine z_aload_n (i := 0) (q := 25) hX dX4_costOfAll_24 rfl rfl rfl ?_
        refine z_iload_n (i := 2) (q := 26) hX dX4_costOfAll_25 rfl rfl rfl ?_
        refine zt_V1 (q := 29) (na := 1) hX dX4_costOfAll_26 (c_X4_costOfTemplate D A (by first | assumption | omega) (by first | assumption | omega)) q2097 q2099 qs65 q103 q2100 rfl (by decide +kernel) ⟨Nat.le_of_ble_eq_true rfl, Nat.le_of_ble_eq_true rfl⟩ rfl rfl (Nat.le_of_ble_eq_true rfl) rfl ⟨rfl, rfl⟩ (Nat.le_of_ble_eq_true rfl) (Nat.le_of_ble_eq_true rfl) rfl ?_
        rw [e0]
        refine z_iadd (q := 30) hX dX4_costOfAll_29 rfl ?_
        refine z_istore_n (i := 1) (q := 31) hX dX4_costOfAll_30 rfl (Nat.le_of_ble_eq_true rfl) rfl rfl ?_
        refine z_iconst (q := 32) hX dX4_costOfAll_31 rfl ?_
        refine z_istore_n (i := 3) (q := 33) hX dX4_costOfAll_32 rfl (Nat.le_of_ble_eq_true rfl) rfl rfl ?_
        exact K2 h20 (by omega) 0 (Nat.zero_le _) _ _ hs _ _ (by simp [sumI]) rfl
  refine z_aload_n (i := 0) (q := 1) hX dX4_costOfAll_0 rfl rfl rfl ?_
  refine zt_getA (q := 4) hX 0 0 dX4_costOfAll_1 q1864 (by decide) rfl rfl rfl ?_
  refine z_iconst (q := 5) hX dX4_costOfAll_4 rfl ?_
  refine zt_ald (q := 6) (N := 1964) hX 0 dX4_costOfAll_5 rfl (by decide) (by decide) (by omega) rfl ?_
  refine z_istore_n (i := 1) (q := 7) hX dX4_costOfAll_6 rfl (Nat.le_of_ble_eq_true rfl) rfl rfl ?_
  refine z_iconst (q := 8) hX dX4_costOfAll_7 rfl ?_
  refine z_istore_n (i := 2) (q := 9) hX dX4_costOfAll_8 rfl (Nat.le_of_ble_eq_true rfl) rfl rfl ?_
  exact K 0 (Nat.zero_le _) _ _ (zS17.rf F G) _ _ (by simp [sumI]) rfl
def chrI (M : Int → Int) : Int := sumI (fun l => M (2 + l)) (M 0).toNat
abbrev rmX4_characters : Room := { frames := 1, cells := 0, slots := 0, locals := 21 }
set_option maxHeartbeats 4000000 in
theorem c_X4_characters (D : zD) (A : Nat → Prop) {b : Nat} {F : zTF} {G : zTG} (hw : zWf G) : zC D yX4_characters cX4_characters 3 (some .int) none rmX4_characters A [.ref b] (twI D A b F G) (zPd (zI (chrI (G 0))) (twI D A b (F) (G))) zNo := by
  refine zC_start (L := [some (.ref b), none, none]) (by decide) (Nat.le_of_ble_eq_true rfl) rfl (fun X hX => ?_)
  have hm := hw.1
  have K : ∀ n : Nat, n ≤ (G 0 0).toNat → ∀ s p : Int, s = sumI (fun l => G 0 (2 + l)) n → p = n → zG X 0 0 (twI D A b F G) 4 [some (.ref b), some (zI (s)), some (zI (p))] [] := by
    refine z_up (fun n hn ih s p e1 e2 => ?_)
    subst e2
    refine z_iload_n (i := 2) (q := 5) hX dX4_characters_4 rfl rfl rfl ?_
    refine z_aload_n (i := 0) (q := 6) hX dX4_characters_5 rfl rfl rfl ?_
    refine zt_getA (q := 9) hX 0 0 dX4_characters_6 q1864 (by decide) rfl rfl rfl ?_
    refine z_iconst (q := 10) hX dX4_characters_9 rfl ?_
    refine zt_ald (q := 11) (N := 1964) hX 0 dX4_characters_10 rfl (by decide) (by decide) (by omega) rfl ?_
    refine z_icmp_ge (q := 14) (t := 28) hX dX4_characters_11 (by decide) (by omega) (by omega) rfl (fun h11 => ?_) (fun h11 => ?_)
    · refine z_iload_n (i := 1) (q := 29) hX dX4_characters_28 rfl rfl rfl ?_
      exact z_iret hX dX4_characters_29 (Nat.le_of_ble_eq_true rfl) (Nat.le_of_ble_eq_true rfl) rfl (fun H hI => ⟨congrArg (fun z => some (zI z)) ((by rw [e1, show n = (G 0 0).toNat by omega]; rfl)), hI⟩)
    · refine z_iload_n (i := 1) (q := 15) hX dX4_characters_14 rfl rfl rfl ?_
      refine z_aload_n (i := 0) (q := 16) hX dX4_characters_15 rfl rfl rfl ?_
      refine z_iload_n (i := 2) (q := 17) hX dX4_characters_16 rfl rfl rfl ?_
      refine zt_V1 (q := 20) (na := 1) hX dX4_characters_17 (c_X4_lengthOf D A (by first | assumption | omega)) q1974 q1976 qs41 q103 q1977 rfl (by decide +kernel) ⟨Nat.le_of_ble_eq_true rfl, Nat.le_of_ble_eq_true rfl⟩ rfl rfl (Nat.le_of_ble_eq_true rfl) rfl ⟨rfl, rfl⟩ (Nat.le_of_ble_eq_true rfl) (Nat.le_of_ble_eq_true rfl) rfl ?_
      refine z_iadd (q := 21) hX dX4_characters_20 rfl ?_
      refine z_istore_n (i := 1) (q := 22) hX dX4_characters_21 rfl (Nat.le_of_ble_eq_true rfl) rfl rfl ?_
      refine z_iinc (q := 25) hX dX4_characters_22 rfl (Nat.le_of_ble_eq_true rfl) rfl rfl ?_
      refine z_goto (t := 4) hX dX4_characters_25 (by decide) ?_
      exact ih (by omega) _ _ (by rw [sumI, e1]) (by omega)
  refine z_iconst (q := 1) hX dX4_characters_0 rfl ?_
  refine z_istore_n (i := 1) (q := 2) hX dX4_characters_1 rfl (Nat.le_of_ble_eq_true rfl) rfl rfl ?_
  refine z_iconst (q := 3) hX dX4_characters_2 rfl ?_
  refine z_istore_n (i := 2) (q := 4) hX dX4_characters_3 rfl (Nat.le_of_ble_eq_true rfl) rfl rfl ?_
  exact K 0 (Nat.zero_le _) _ _ rfl rfl
