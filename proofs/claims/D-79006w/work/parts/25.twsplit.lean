/-! THE REFERENCE: splitting a template -/
set_option maxRecDepth 100000
theorem zOkw.wf {G : zTG} (h : zOkw (G 0)) (hk : zTka G) : zWf G := ⟨h.1, fun l l0 l1 => ⟨⟨(h.2.1 l l0 l1).1, hk l l0 l1⟩, (h.2.1 l l0 l1).2⟩, h.2.2.1⟩
theorem zTka.lo {G G2 : zTG} (hm : G2 0 0 = G 0 0) (ht : ∀ l : Int, 0 ≤ l → l < G 0 0 → tx (G2 0) l = tx (G 0) l) (h4 : G2 4 = G 4) (h5 : G2 5 = G 5) (h6 : G2 6 = G 6) (h : zTka G) : zTka G2 := by
  intro l l0 l1
  rw [hm] at l1
  have h1 := h l l0 l1
  unfold zTks at h1 ⊢
  rw [ht l l0 l1, h4, h5, h6]
  exact h1
abbrev rmX4_slotsAnew : Room := { frames := 4, cells := 0, slots := 0, locals := 97 }
set_option maxHeartbeats 4000000 in
theorem c_X4_slotsAnew (D : zD) (A : Nat → Prop) {b : Nat} {F : zTF} {G : zTG} {t : Int} (h : zOkw (G 0)) (hk : zTka G) (ht : isT (G 0) t = true) : zC D yX4_slotsAnew cX4_slotsAnew 5 none none rmX4_slotsAnew A [.ref b, zI (t)] (twI D A b F G) (zPv (twI D A b (upF F 17 (nR (G 0) t)) (setG (rowsG G t) 0 (slM (G 0) t)))) zNo := by
  refine zC_start (L := [some (.ref b), some (zI (t)), none, none, none]) (by decide) (Nat.le_of_ble_eq_true rfl) rfl (fun X hX => ?_)
  have hw := h.wf hk
  have hf := hw.fs ht
  have hm := hw.1
  have rt := fst_rng hf.2.2.1
  have hnr := nR_rng (G 0) t (by omega)
  have e00 : rowsG G t 0 = G 0 := rowG_j G t _ (by decide)
  have e04 : rowsG G t 4 = G 4 := rowG_j G t _ (by decide)
  have e05 : rowsG G t 5 = G 5 := rowG_j G t _ (by decide)
  have e06 : rowsG G t 6 = G 6 := rowG_j G t _ (by decide)
  have er0 : rowsG G t 11 0 = fst (G 0) t := rowG_at (Int.le_refl 0) (by omega)
  have hln : ∀ (m l : Int), 0 ≤ l → l < G 0 0 → zLn (sltG (rowsG G t) t m (anw (G 0) t)) l ∧ tx (sltG (rowsG G t) t m (anw (G 0) t) 0) l = tx (G 0) l := fun m l l0 l1 => by
    have h1 := hw.ln l0 l1
    have hlo : ∀ i : Int, i < 1724 → sltG (rowsG G t) t m (anw (G 0) t) 0 i = G 0 i := fun i hi => by rw [sltG_lo _ t m _ hf.1 hi, e00]
    have g := h1.1.f
    exact ⟨h1.lo hlo (by rw [sltG_j _ _ _ _ (by decide), e04]) (by rw [sltG_j _ _ _ _ (by decide), e05]) (by rw [sltG_j _ _ _ _ (by decide), e06]), tx_lo hlo ⟨g.1, g.2.1⟩ g.2.2.2.1⟩
  have K : ∀ k : Nat, k ≤ (nTl (G 0) (fst (G 0) t)).toNat → ∀ p : Int, p = k → zG X 0 0 (twI D A b (upF F 17 (nR (G 0) t)) (sltG (rowsG G t) t k (anw (G 0) t))) 7 [some (.ref b), some (zI (t)), some (zI (p)), none, none] [] := by
    refine z_up (fun k hk1 ih p e2 => ?_)
    subst e2
    have K2 : k < (nTl (G 0) (fst (G 0) t)).toNat → ∀ r : Nat, r ≤ (nR (G 0) t).toNat → 1 ≤ r → ∀ s p : Int, s = anS (colT (G 0) t k) r → p = r → zG X 0 0 (twI D A b (upF F 17 (nR (G 0) t)) (sltG (rowsG G t) t k (anw (G 0) t))) 27 [some (.ref b), some (zI (t)), some (zI (k)), some (zI (s)), some (zI (p))] [] := by
      intro hlt
      refine z_up (fun r hr ih2 hr1 s p es ep => ?_)
      subst ep
      have hrs := anS_rng (colT (G 0) t k) r
      rw [← es] at hrs
      have e11 : ∀ r2 : Int, 0 ≤ r2 → r2 < nR (G 0) t → sltG (rowsG G t) t k (anw (G 0) t) 11 r2 = lnO (G 0) t r2 := fun r2 h0 h1 => by rw [sltG_j _ _ _ _ (by decide)]; exact rowG_at h0 h1
      refine z_iload (q := 29) hX dX4_slotsAnew_27 rfl rfl ?_
      refine z_aload_n (i := 0) (q := 30) hX dX4_slotsAnew_29 rfl rfl rfl ?_
      refine zt_getI (q := 33) hX 17 dX4_slotsAnew_30 q1881 (by decide) rfl rfl rfl ?_
      rw [upF_same]
      refine z_icmp_ge (q := 36) (t := 63) hX dX4_slotsAnew_33 (by decide) (by omega) (by omega) rfl (fun h33 => ?_) (fun h33 => ?_)
      · refine z_aload_n (i := 0) (q := 64) hX dX4_slotsAnew_63 rfl rfl rfl ?_
        refine zt_getA (q := 67) hX 0 0 dX4_slotsAnew_64 q1864 (by decide) rfl rfl rfl ?_
        refine z_sipush (q := 70) hX dX4_slotsAnew_67 (by decide) rfl ?_
        refine z_bipush (q := 72) hX dX4_slotsAnew_70 (by decide) rfl ?_
        refine z_iload_n (i := 1) (q := 73) hX dX4_slotsAnew_72 rfl rfl rfl ?_
        refine z_imul (q := 74) hX dX4_slotsAnew_73 rfl ?_
        refine z_iadd (q := 75) hX dX4_slotsAnew_74 rfl ?_
        refine z_iload_n (i := 2) (q := 76) hX dX4_slotsAnew_75 rfl rfl rfl ?_
        refine z_iadd (q := 77) hX dX4_slotsAnew_76 rfl ?_
        refine z_iload_n (i := 3) (q := 78) hX dX4_slotsAnew_77 rfl rfl rfl ?_
        refine zt_ast (q := 79) (N := 1964) hX 0 dX4_slotsAnew_78 rfl (by decide) (by decide) (by omega) rfl ?_
        refine z_iinc (q := 82) hX dX4_slotsAnew_79 rfl (Nat.le_of_ble_eq_true rfl) rfl rfl ?_
        refine z_goto (t := 7) hX dX4_slotsAnew_82 (by decide) ?_
        rw [sltG_s (rowsG G t) t k s (anw (G 0) t) (by omega) (by rw [es, show r = (nR (G 0) t).toNat by omega]; rfl)]
        refine zG.drop 3 (zG.drop 4 ?_)
        have e9 := ih (by omega) ((k : Int) + 1) (by omega)
        rw [show ((k + 1 : Nat) : Int) = (k : Int) + 1 by omega] at e9
        exact e9
      · refine z_aload_n (i := 0) (q := 37) hX dX4_slotsAnew_36 rfl rfl rfl ?_
        refine z_iload_n (i := 3) (q := 38) hX dX4_slotsAnew_37 rfl rfl rfl ?_
        refine z_aload_n (i := 0) (q := 39) hX dX4_slotsAnew_38 rfl rfl rfl ?_
        refine zt_getA (q := 42) hX 18 11 dX4_slotsAnew_39 q1882 (by decide) rfl rfl rfl ?_
        refine z_iconst (q := 43) hX dX4_slotsAnew_42 rfl ?_
        refine zt_ald (q := 44) (N := 40) hX 11 dX4_slotsAnew_43 rfl (by decide) (by decide) (by omega) rfl ?_
        rw [e11 0 (by omega) (by omega)]
        have hr3 := lnO_rng (M := G 0) (t := t) (r := (r : Int)) (by omega) (by omega)
        have l1 := hln k (lnO (G 0) t r) hr3.1 hr3.2.1
        have l2 := hln k (fst (G 0) t) hf.2.2.1 rt.1
        have u1 : lnO (G 0) t 0 = fst (G 0) t := rfl
        rw [u1]
        have nl := h.n hr3.1 hr3.2.1 hr3.2.2
        have n1 : nTl (sltG (rowsG G t) t k (anw (G 0) t) 0) (lnO (G 0) t r) = nTl (G 0) (lnO (G 0) t r) := by unfold nTl; rw [l1.2]
        have n2 : nTl (sltG (rowsG G t) t k (anw (G 0) t) 0) (fst (G 0) t) = nTl (G 0) (fst (G 0) t) := by unfold nTl; rw [l2.2]
        have k1 : tkl (sltG (rowsG G t) t k (anw (G 0) t) 0) (lnO (G 0) t r) k = tkl (G 0) (lnO (G 0) t r) k := by unfold tkl; rw [l1.2]
        have k2 : tkl (sltG (rowsG G t) t k (anw (G 0) t) 0) (fst (G 0) t) k = tkl (G 0) (fst (G 0) t) k := by unfold tkl; rw [l2.2]
        refine z_iconst (q := 45) hX dX4_slotsAnew_44 rfl ?_
        refine z_aload_n (i := 0) (q := 46) hX dX4_slotsAnew_45 rfl rfl rfl ?_
        refine zt_getA (q := 49) hX 18 11 dX4_slotsAnew_46 q1882 (by decide) rfl rfl rfl ?_
        refine z_iload (q := 51) hX dX4_slotsAnew_49 rfl rfl ?_
        refine zt_ald (q := 52) (N := 40) hX 11 dX4_slotsAnew_51 rfl (by decide) (by decide) (by omega) rfl ?_
        rw [e11 r (by omega) (by omega)]
        refine z_iload_n (i := 2) (q := 53) hX dX4_slotsAnew_52 rfl rfl rfl ?_
        refine zt_V1 (q := 56) (na := 5) hX dX4_slotsAnew_53 (c_X4_union D A hrs l2.1 (by decide) l1.1 (by omega) (by omega) (by omega)) q2053 q2055 qs60 q103 q2056 rfl (by decide +kernel) ⟨Nat.le_of_ble_eq_true rfl, Nat.le_of_ble_eq_true rfl⟩ rfl rfl (Nat.le_of_ble_eq_true rfl) rfl ⟨rfl, rfl⟩ (Nat.le_of_ble_eq_true rfl) (Nat.le_of_ble_eq_true rfl) rfl ?_
        rw [k1, k2]
        refine z_istore_n (i := 3) (q := 57) hX dX4_slotsAnew_56 rfl (Nat.le_of_ble_eq_true rfl) rfl rfl ?_
        refine z_iinc (q := 60) hX dX4_slotsAnew_57 rfl (Nat.le_of_ble_eq_true rfl) rfl rfl ?_
        refine z_goto (t := 27) hX dX4_slotsAnew_60 (by decide) ?_
        exact ih2 (by omega) (by omega) _ _ (by
          rw [anS, if_neg (by omega), ← es]
          rfl) (by omega)
    refine z_iload_n (i := 2) (q := 8) hX dX4_slotsAnew_7 rfl rfl rfl ?_
    refine z_aload_n (i := 0) (q := 9) hX dX4_slotsAnew_8 rfl rfl rfl ?_
    refine zt_getA (q := 12) hX 7 4 dX4_slotsAnew_9 q1871 (by decide) rfl rfl rfl ?_
    refine z_aload_n (i := 0) (q := 13) hX dX4_slotsAnew_12 rfl rfl rfl ?_
    refine zt_getA (q := 16) hX 18 11 dX4_slotsAnew_13 q1882 (by decide) rfl rfl rfl ?_
    refine z_iconst (q := 17) hX dX4_slotsAnew_16 rfl ?_
    refine zt_ald (q := 18) (N := 40) hX 11 dX4_slotsAnew_17 rfl (by decide) (by decide) (by omega) rfl ?_
    rw [sltG_j _ _ _ _ (by decide : (11 : Nat) ≠ 0), er0]
    refine zt_ald (q := 19) (N := 41) hX 4 dX4_slotsAnew_18 rfl (by decide) (by decide) (by omega) rfl ?_
    rw [sltG_j _ _ _ _ (by decide : (4 : Nat) ≠ 0), e04, hf.2.2.2.2.2.2.1]
    refine z_icmp_ge (q := 22) (t := 85) hX dX4_slotsAnew_19 (by decide) (by omega) (by omega) rfl (fun h19 => ?_) (fun h19 => ?_)
    · refine zt_conv (F2 := upF F 17 (nR (G 0) t)) (G2 := setG (rowsG G t) 0 (slM (G 0) t)) rfl ?_ ?_
      · rw [show (k : Int) = nTl (G 0) (fst (G 0) t) by omega]
        funext j i
        by_cases hj : j = 0
        · subst hj
          rw [setG_same]
          unfold slM
          show (if _ then _ else _) = _
          by_cases q : 1724 + 20 * t ≤ i ∧ i < 1724 + 20 * t + nTl (G 0) (fst (G 0) t)
          · rw [if_pos ⟨rfl, q⟩, if_pos q]
          · rw [if_neg (fun z => q z.2), if_neg q, e00]
        · rw [setG_ne _ _ hj, sltG_j _ _ _ _ hj]
      exact z_vret hX dX4_slotsAnew_85 (Nat.le_of_ble_eq_true rfl) (Nat.le_of_ble_eq_true rfl) rfl (fun H hI => ⟨rfl, hI⟩)
    · refine z_iconst (q := 23) hX dX4_slotsAnew_22 rfl ?_
      refine z_istore_n (i := 3) (q := 24) hX dX4_slotsAnew_23 rfl (Nat.le_of_ble_eq_true rfl) rfl rfl ?_
      refine z_iconst (q := 25) hX dX4_slotsAnew_24 rfl ?_
      refine z_istore (q := 27) hX dX4_slotsAnew_25 (Nat.le_of_ble_eq_true rfl) rfl rfl ?_
      exact K2 (by omega) 1 (by omega) (Nat.le_refl _) _ _ rfl rfl
  refine z_aload_n (i := 0) (q := 1) hX dX4_slotsAnew_0 rfl rfl rfl ?_
  refine z_iload_n (i := 1) (q := 2) hX dX4_slotsAnew_1 rfl rfl rfl ?_
  refine zt_V0 (q := 5) (na := 1) hX dX4_slotsAnew_2 (c_X4_layRows D A (by first | assumption | omega) (by first | assumption | omega)) q2149 q2151 qs74 q103 q2152 rfl (by decide +kernel) ⟨Nat.le_of_ble_eq_true rfl, Nat.le_of_ble_eq_true rfl⟩ rfl rfl (Nat.le_of_ble_eq_true rfl) rfl ⟨rfl, rfl⟩ (Nat.le_of_ble_eq_true rfl) (Nat.le_of_ble_eq_true rfl) rfl ?_
  refine z_iconst (q := 6) hX dX4_slotsAnew_5 rfl ?_
  refine z_istore_n (i := 2) (q := 7) hX dX4_slotsAnew_6 rfl (Nat.le_of_ble_eq_true rfl) rfl rfl ?_
  have e9 := K 0 (Nat.zero_le _) 0 rfl
  rw [show ((0 : Nat) : Int) = 0 from rfl, sltG_0] at e9
  exact e9
def splC (M : Int → Int) (t c : Int) : Int := if isC M t c = false then 1 else if nTpl M = 12 then 2 else if runI (nR M t).toNat (colT M t (tokO M t c)) false = 1 then 3 else 0
def splF (F : zTF) (c : Int) : zTF := if c = 0 then upF (upF F 6 0) 5 (keepC F + 1) else if c = 3 then upF (upF (upF F 6 0) 10 1) 6 3 else upF F 6 c
def splG (F : zTF) (G : zTG) (t c : Int) : zTG := if splC (G 0) t c = 0 then setG (keepG F G) 0 (splM (G 0) t (tokO (G 0) t c) (lfree (G 0))) else if splC (G 0) t c = 3 then repG G 3 t 13 c else G
/-- .. of the first n rows -/
def spN (M : Int → Int) (t k nx : Int) (n : Nat) : Int → Int := fun i => if 43 ≤ i ∧ i < 43 + M 0 ∧ M i = t ∧ (i - 43) ∈ (rws M t).take n then (if tkl M (fst M t) k = tkl M (i - 43) k then nx else t) else M i
theorem spN_0 (M : Int → Int) (t k nx : Int) : spN M t k nx 0 = M := by
  funext i
  exact if_neg (fun q => by have := q.2.2.2; rw [List.take_zero] at this; cases this)
theorem spN_lo {M : Int → Int} {t k nx i : Int} {n : Nat} (h40 : M 0 ≤ 40) (h : i < 43 ∨ 84 ≤ i) : spN M t k nx n i = M i := if_neg (by omega)
theorem spN_all (M : Int → Int) (t k nx : Int) : spN M t k nx (nR M t).toNat = spO M t k nx := by
  funext i
  unfold spN spO
  by_cases q : 43 ≤ i ∧ i < 43 + M 0 ∧ M i = t
  · have hm : (i - 43) ∈ rws M t := rws_of (by omega) (by omega) (by rw [show 43 + (i - 43) = i by omega]; exact q.2.2)
    rw [if_pos ⟨q.1, q.2.1, q.2.2, by rw [List.take_of_length_le (by unfold nR; omega)]; exact hm⟩, if_pos q]
  · rw [if_neg (fun z => q ⟨z.1, z.2.1, z.2.2.1⟩), if_neg q]
theorem spN_s {M : Int → Int} {t k nx z : Int} {n : Nat} (hn : (n : Int) < nR M t) (hz : z = if tkl M (fst M t) k = tkl M (lnO M t n) k then nx else t) : (fun i => if i = 43 + lnO M t n then z else spN M t k nx n i) = spN M t k nx (n + 1) := by
  have h1 := lnO_rng (M := M) (t := t) (r := (n : Int)) (by omega) hn
  have h2 := lnO_get (M := M) (t := t) (r := (n : Int)) (by omega) hn
  rw [show ((n : Int)).toNat = n by omega] at h2
  have h3 : (rws M t).take (n + 1) = (rws M t).take n ++ [lnO M t n] := by rw [List.take_add_one, h2]; rfl
  funext i
  unfold spN
  rw [h3]
  simp only [List.mem_append, List.mem_singleton]
  by_cases q : i = 43 + lnO M t n
  · rw [if_pos q, if_pos ⟨by omega, by omega, by rw [q]; exact h1.2.2, Or.inr (by omega)⟩, hz, show i - 43 = lnO M t n by omega]
  · rw [if_neg q]
    by_cases q2 : 43 ≤ i ∧ i < 43 + M 0 ∧ M i = t ∧ (i - 43) ∈ (rws M t).take n
    · rw [if_pos q2, if_pos (show 43 ≤ i ∧ i < 43 + M 0 ∧ M i = t ∧ (i - 43 ∈ (rws M t).take n ∨ i - 43 = lnO M t n) from ⟨q2.1, q2.2.1, q2.2.2.1, Or.inl q2.2.2.2⟩)]
    · rw [if_neg q2, if_neg (fun z => q2 ⟨z.1, z.2.1, z.2.2.1, z.2.2.2.resolve_right (by omega)⟩)]
theorem spN_ln {G G2 : zTG} {t k nx l : Int} {n : Nat} (h40 : G 0 0 ≤ 40) (h0 : G2 0 = spN (G 0) t k nx n) (h4 : G2 4 = G 4) (h5 : G2 5 = G 5) (h6 : G2 6 = G 6) (h : zLn G l) : zLn G2 l ∧ tx (G2 0) l = tx (G 0) l := by
  have g := h.1.f
  have ht : tx (G2 0) l = tx (G 0) l := tx_congr (by rw [h0]; exact spN_lo h40 (by omega)) (fun i i0 i1 => by rw [h0]; exact spN_lo h40 (by omega))
  refine ⟨⟨?_, ?_⟩, ht⟩
  · have hr : zRaw (fun _ => G2 0) l := zRaw.of (M := G 0) (by rw [h0]; exact spN_lo h40 (by omega)) (fun i i0 i1 => by rw [h0]; exact spN_lo h40 (by omega)) h.1
    exact hr
  · have h1 := h.2
    unfold zTks at h1 ⊢
    rw [ht, h4, h5, h6]
    exact h1
abbrev rmX4_split : Room := { frames := 5, cells := 0, slots := 0, locals := 121 }
set_option maxHeartbeats 4000000 in
theorem c_X4_split (D : zD) (A : Nat → Prop) {b : Nat} {F : zTF} {G : zTG} {t c : Int} (h : zWg G) (ht : zR t) (hc : zR c) (hF : 0 ≤ F 5 ∧ F 5 ≤ 10) : zC D yX4_split cX4_split 7 (some .int) none rmX4_split A [.ref b, zI (t), zI (c)] (twI D A b F G) (zPd (zI ((if splC (G 0) t c = 0 then lfree (G 0) else 0))) (twE D A b (zS17 (splF F (splC (G 0) t c)) (splG F G t c)))) zNo := by
  refine zC_start (L := [some (.ref b), some (zI (t)), some (zI (c)), none, none, none, none]) (by decide) (Nat.le_of_ble_eq_true rfl) rfl (fun X hX => ?_)
  have hw := h.1
  have hm := hw.1
  have ho := (zWg_iff.mp h).1
  have e5 : upF F 6 0 5 = F 5 := upF_ne _ _ (by decide)
  have J28 : ∀ z : Int, 1 ≤ z ∧ z ≤ 2 → splC (G 0) t c = z → zG X 0 0 (twI D A b F G) 28 [some (.ref b), some (zI (t)), some (zI (c)), none, none, none, none] [zI (z), .ref b] := by
    intro z hz e
    rw [e] at hX
    rw [show splF F z = upF F 6 z by unfold splF; rw [if_neg (by omega), if_neg (by omega)], show splG F G t c = G by unfold splG; rw [e, if_neg (by omega), if_neg (by omega)], if_neg (show ¬ z = 0 by omega)] at hX
    refine zt_put (ty := .int) (q := 31) hX 6 dX4_split_28 q1870 (by decide) rfl rfl rfl (by decide) rfl rfl rfl ?_
    refine z_aload_n (i := 0) (q := 32) hX dX4_split_31 rfl rfl rfl ?_
    refine zt_getI (q := 35) hX 6 dX4_split_32 q1870 (by decide) rfl rfl rfl ?_
    rw [upF_same]
    refine z_if_le (q := 38) (t := 40) hX dX4_split_35 (by decide) (by omega) rfl (fun h35 => ?_) (fun h35 => ?_)
    · exact absurd h35 (by omega)
    · refine z_iconst (q := 39) hX dX4_split_38 rfl ?_
      exact z_iret hX dX4_split_39 (Nat.le_of_ble_eq_true rfl) (Nat.le_of_ble_eq_true rfl) rfl (fun H hI => ⟨rfl, _, _, zS17.rf _ _, hI⟩)
  have J40 : isC (G 0) t c = true → nTpl (G 0) ≠ 12 → zG X 0 0 (twI D A b (upF F 6 0) G) 40 [some (.ref b), some (zI (t)), some (zI (c)), none, none, none, none] [] := by
    intro q1 q2
    have qc := isC_iff.mp q1
    have hf := hw.fs qc.1
    have rt := fst_rng hf.2.2.1
    have hnr := nR_rng (G 0) t (by omega)
    have hk := tokO_rng qc.2.1 qc.2.2
    have hcol := h.col (F := upF F 6 0) qc.1 hk.1 hk.2.1
    have ec : splC (G 0) t c = if runI (nR (G 0) t).toNat (colT (G 0) t (tokO (G 0) t c)) false = 1 then 3 else 0 := by unfold splC; rw [if_neg (by rw [q1]; decide), if_neg q2]
    have hri : zR (runI (nR (G 0) t).toNat (colT (G 0) t (tokO (G 0) t c)) false) := by
      have h1 := sumI_range (f := fun r => if beg (colT (G 0) t (tokO (G 0) t c)) r then (if false = true then (((colT (G 0) t (tokO (G 0) t c)) r).length : Int) + 2 else 1) else 0) (n := (nR (G 0) t).toNat) (lo := 0) (hi := 1) (fun r hr => by split <;> simp)
      have e : runI (nR (G 0) t).toNat (colT (G 0) t (tokO (G 0) t c)) false = sumI (fun r => if beg (colT (G 0) t (tokO (G 0) t c)) r then (if false = true then (((colT (G 0) t (tokO (G 0) t c)) r).length : Int) + 2 else 1) else 0) (nR (G 0) t).toNat := rfl
      unfold zR
      omega
    have hlf := lfree_ok q2
    have e00 : rowsG G t 0 = G 0 := rowG_j G t _ (by decide)
    obtain ⟨F1, hF1⟩ : ∃ F1 : zTF, F1 = upF (upF F 6 0) 17 (nR (G 0) t) := ⟨_, rfl⟩
    have f15 : F1 5 = F 5 := by rw [hF1, upF_ne _ _ (by decide), e5]
    have fk1 : keepC F1 = keepC F := by unfold keepC; rw [f15]
    obtain ⟨G1, hG1⟩ : ∃ G1 : zTG, G1 = keepG F1 (rowsG G t) := ⟨_, rfl⟩
    have g10 : G1 0 = G 0 := by rw [hG1, keepG_j _ _ (by decide), e00]
    have g14 : G1 4 = G 4 := by rw [hG1, keepG_j _ _ (by decide)]; exact rowG_j G t _ (by decide)
    have g15 : G1 5 = G 5 := by rw [hG1, keepG_j _ _ (by decide)]; exact rowG_j G t _ (by decide)
    have g16 : G1 6 = G 6 := by rw [hG1, keepG_j _ _ (by decide)]; exact rowG_j G t _ (by decide)
    have g11 : ∀ r : Int, 0 ≤ r → r < nR (G 0) t → G1 11 r = lnO (G 0) t r := fun r h0 h1 => by rw [hG1, keepG_j _ _ (by decide)]; exact rowG_at h0 h1
    have gfin : ∀ j : Nat, j ≠ 11 → G1 j = keepG F G j := fun j hj => by
      have er : ∀ j2 : Nat, j2 ≠ 11 → rowsG G t j2 = G j2 := fun j2 h2 => rowG_j G t _ h2
      rw [hG1]
      funext i
      unfold keepG
      rw [er 0 (by decide), er 3 (by decide), er j hj, fk1, f15]
    have hw1 : zWf G1 := hw.sc g10 g14 g15 g16
    have ht1 : isT (G1 0) t = true := by rw [g10]; exact qc.1
    have K : runI (nR (G 0) t).toNat (colT (G 0) t (tokO (G 0) t c)) false ≠ 1 → ∀ n : Nat, n ≤ (nR (G 0) t).toNat → ∀ p : Int, p = n → zG X 0 0 (twI D A b (upF F1 5 (keepC F1 + 1)) (setG G1 0 (spN (G 0) t (tokO (G 0) t c) (lfree (G 0)) n))) 99 [some (.ref b), some (zI (t)), some (zI (c)), some (zI (tokO (G 0) t c)), some (zI (lfree (G 0))), some (zI (fst (G 0) t)), some (zI (p))] [] := by
      intro hne
      have ec0 : splC (G 0) t c = 0 := by rw [ec, if_neg hne]
      have ef0 : splF F (splC (G 0) t c) = upF (upF F 6 0) 5 (keepC F + 1) := by rw [ec0]; rfl
      have eg0 : splG F G t c = setG (keepG F G) 0 (splM (G 0) t (tokO (G 0) t c) (lfree (G 0))) := if_pos ec0
      rw [ef0, eg0, if_pos ec0] at hX
      obtain ⟨r9, hr9, hd9⟩ : ∃ r : Nat, r < (nR (G 0) t).toNat ∧ colT (G 0) t (tokO (G 0) t c) r ≠ colT (G 0) t (tokO (G 0) t c) 0 := by
        refine Classical.byContradiction fun q => hne ((runI_1 (by omega)).mpr fun r hr => ?_)
        exact Classical.byContradiction fun q2 => q ⟨r, hr, q2⟩
      have hl9 := lnO_rng (M := G 0) (t := t) (r := (r9 : Int)) (by omega) (by omega)
      have hd9b : tkl (G 0) (fst (G 0) t) (tokO (G 0) t c) ≠ tkl (G 0) (lnO (G 0) t r9) (tokO (G 0) t c) := fun q => hd9 q.symm
      obtain ⟨s1, s2, s3, s4⟩ := spO_ok (k := tokO (G 0) t c) ho qc.1 hlf.2.2 ⟨hlf.1, hlf.2.1⟩ hl9.1 hl9.2.1 hl9.2.2 hd9b
      obtain ⟨y1, y2, y3⟩ := slM_ok s1 s2
      have hso40 : spO (G 0) t (tokO (G 0) t c) (lfree (G 0)) 0 = G 0 0 := spO_lo (by omega) (by omega)
      have y4 : isT (slM (spO (G 0) t (tokO (G 0) t c) (lfree (G 0))) t) (lfree (G 0)) = true := by
        have i3 := isT_iff.mp s3
        exact isT_iff.mpr ⟨hlf.1, hlf.2.1, by rw [slM_fst hf.1 s1.1.2.1]; exact i3.2.2⟩
      have hka1 : zTka (setG G1 0 (spO (G 0) t (tokO (G 0) t c) (lfree (G 0)))) := by
        refine zTka.lo (G := G) (by rw [setG_same]; exact hso40) (fun l l0 l1 => ?_) (by rw [setG_ne _ _ (by decide)]; exact g14) (by rw [setG_ne _ _ (by decide)]; exact g15) (by rw [setG_ne _ _ (by decide)]; exact g16) (zWg_iff.mp h).2
        rw [setG_same, ← spN_all]
        exact (spN_ln (G2 := setG G 0 (spN (G 0) t (tokO (G 0) t c) (lfree (G 0)) (nR (G 0) t).toNat)) (by omega) (setG_same _ _ _) (setG_ne _ _ (by decide)) (setG_ne _ _ (by decide)) (setG_ne _ _ (by decide)) (hw.ln l0 l1)).2 |> fun q => by rwa [setG_same] at q
      refine z_up (fun n hn ih p e2 => ?_)
      subst e2
      have hln : ∀ l : Int, 0 ≤ l → l < G 0 0 → zLn (setG G1 0 (spN (G 0) t (tokO (G 0) t c) (lfree (G 0)) n)) l ∧ tx (setG G1 0 (spN (G 0) t (tokO (G 0) t c) (lfree (G 0)) n) 0) l = tx (G 0) l := fun l l0 l1 => spN_ln (by omega) (setG_same _ _ _) (by rw [setG_ne _ _ (by decide)]; exact g14) (by rw [setG_ne _ _ (by decide)]; exact g15) (by rw [setG_ne _ _ (by decide)]; exact g16) (hw.ln l0 l1)
      have e11 : ∀ r2 : Int, 0 ≤ r2 → r2 < nR (G 0) t → setG G1 0 (spN (G 0) t (tokO (G 0) t c) (lfree (G 0)) n) 11 r2 = lnO (G 0) t r2 := fun r2 h0 h1 => by rw [setG_ne _ _ (by decide)]; exact g11 r2 h0 h1
      have f17 : upF F1 5 (keepC F1 + 1) 17 = nR (G 0) t := by rw [upF_ne _ _ (by decide), hF1, upF_same]
      have hset : ∀ (f : Int → Int) (i0 z : Int), upG (setG G1 0 f) 0 i0 z = setG G1 0 (fun i => if i = i0 then z else f i) := fun f i0 z => by
        funext j i
        by_cases q : j = 0
        · subst q
          rw [setG_same]
          show (if _ then _ else _) = _
          by_cases q2 : i = i0
          · rw [if_pos ⟨rfl, q2⟩]
            exact (if_pos q2).symm
          · rw [if_neg (fun w => q2 w.2), setG_same]
            exact (if_neg q2).symm
        · rw [setG_ne _ _ q]
          show (if _ then _ else _) = _
          rw [if_neg (fun w => q w.1), setG_ne _ _ q]
      refine z_iload (q := 101) hX dX4_split_99 rfl rfl ?_
      refine z_aload_n (i := 0) (q := 102) hX dX4_split_101 rfl rfl rfl ?_
      refine zt_getI (q := 105) hX 17 dX4_split_102 q1881 (by decide) rfl rfl rfl ?_
      rw [f17]
      refine z_icmp_ge (q := 108) (t := 153) hX dX4_split_105 (by decide) (by omega) (by omega) rfl (fun h105 => ?_) (fun h105 => ?_)
      · rw [show n = (nR (G 0) t).toNat by omega, spN_all]
        refine z_aload_n (i := 0) (q := 154) hX dX4_split_153 rfl rfl rfl ?_
        refine z_iload_n (i := 1) (q := 155) hX dX4_split_154 rfl rfl rfl ?_
        refine zt_V0 (q := 158) (na := 1) hX dX4_split_155 (c_X4_slotsAnew D A (by rw [setG_same]; exact s1) hka1 (by rw [setG_same]; exact s2)) q2222 q2224 qs83 q103 q2225 rfl (by decide +kernel) ⟨Nat.le_of_ble_eq_true rfl, Nat.le_of_ble_eq_true rfl⟩ rfl rfl (Nat.le_of_ble_eq_true rfl) rfl ⟨rfl, rfl⟩ (Nat.le_of_ble_eq_true rfl) (Nat.le_of_ble_eq_true rfl) rfl ?_
        rw [setG_same]
        have hka2 : zTka (setG (rowsG (setG G1 0 (spO (G 0) t (tokO (G 0) t c) (lfree (G 0)))) t) 0 (slM (spO (G 0) t (tokO (G 0) t c) (lfree (G 0))) t)) := by
          have er : ∀ j2 : Nat, j2 ≠ 11 → rowsG (setG G1 0 (spO (G 0) t (tokO (G 0) t c) (lfree (G 0)))) t j2 = setG G1 0 (spO (G 0) t (tokO (G 0) t c) (lfree (G 0))) j2 := fun j2 h2 => rowG_j _ t _ h2
          refine zTka.lo (G := setG G1 0 (spO (G 0) t (tokO (G 0) t c) (lfree (G 0)))) (by rw [setG_same, setG_same]; exact slM_lo hf.1 (by omega)) (fun l l0 l1 => ?_) (by rw [setG_ne _ _ (by decide)]; exact er 4 (by decide)) (by rw [setG_ne _ _ (by decide)]; exact er 5 (by decide)) (by rw [setG_ne _ _ (by decide)]; exact er 6 (by decide)) hka1
          rw [setG_same] at l1
          rw [setG_same, setG_same]
          have hfl := s1.f l0 l1
          exact slM_tx hf.1 l0 hfl.1 hfl.2.2.1
        refine z_aload_n (i := 0) (q := 159) hX dX4_split_158 rfl rfl rfl ?_
        refine z_iload (q := 161) hX dX4_split_159 rfl rfl ?_
        refine zt_V0 (q := 164) (na := 1) hX dX4_split_161 (c_X4_slotsAnew D A (by rw [setG_same]; exact y1) hka2 (by rw [setG_same]; exact y4)) q2222 q2224 qs83 q103 q2225 rfl (by decide +kernel) ⟨Nat.le_of_ble_eq_true rfl, Nat.le_of_ble_eq_true rfl⟩ rfl rfl (Nat.le_of_ble_eq_true rfl) rfl ⟨rfl, rfl⟩ (Nat.le_of_ble_eq_true rfl) (Nat.le_of_ble_eq_true rfl) rfl ?_
        refine z_iload (q := 166) hX dX4_split_164 rfl rfl ?_
        exact z_iret hX dX4_split_166 (Nat.le_of_ble_eq_true rfl) (Nat.le_of_ble_eq_true rfl) rfl (fun H hI => ⟨rfl, _, _, ⟨fun j hj => by
          rw [upF_ne _ _ hj, upF_ne _ _ hj, fk1, hF1]
          unfold upF
          by_cases q : j = 5
          · rw [if_pos q, if_pos q]
          · rw [if_neg q, if_neg q, if_neg hj], fun j hj => by
          by_cases q : j = 0
          · subst q
            rw [setG_same, setG_same, setG_same]
            rfl
          · have e1 : ∀ (GG : zTG) (u : Int), rowsG GG u j = GG j := fun GG u => rowG_j GG u _ hj
            rw [setG_ne _ _ q, setG_ne _ _ q, e1, setG_ne _ _ q, e1, setG_ne _ _ q]
            exact gfin j hj⟩, hI⟩)
      · refine z_aload_n (i := 0) (q := 109) hX dX4_split_108 rfl rfl rfl ?_
        refine zt_getA (q := 112) hX 0 0 dX4_split_109 q1864 (by decide) rfl rfl rfl ?_
        refine z_bipush (q := 114) hX dX4_split_112 (by decide) rfl ?_
        refine z_aload_n (i := 0) (q := 115) hX dX4_split_114 rfl rfl rfl ?_
        refine zt_getA (q := 118) hX 18 11 dX4_split_115 q1882 (by decide) rfl rfl rfl ?_
        refine z_iload (q := 120) hX dX4_split_118 rfl rfl ?_
        refine zt_ald (q := 121) (N := 40) hX 11 dX4_split_120 rfl (by decide) (by decide) (by omega) rfl ?_
        rw [e11 n (by omega) (by omega)]
        have hr3 := lnO_rng (M := G 0) (t := t) (r := (n : Int)) (by omega) (by omega)
        have l1 := hln (lnO (G 0) t n) hr3.1 hr3.2.1
        have l2 := hln (fst (G 0) t) hf.2.2.1 rt.1
        have nl := ho.n hr3.1 hr3.2.1 hr3.2.2
        have n1 : nT (tx (setG G1 0 (spN (G 0) t (tokO (G 0) t c) (lfree (G 0)) n) 0) (lnO (G 0) t n)) = nTl (G 0) (lnO (G 0) t n) := by rw [l1.2]; rfl
        have n2 : nT (tx (setG G1 0 (spN (G 0) t (tokO (G 0) t c) (lfree (G 0)) n) 0) (fst (G 0) t)) = nTl (G 0) (fst (G 0) t) := by rw [l2.2]; rfl
        refine z_iadd (q := 122) hX dX4_split_121 rfl ?_
        refine z_aload_n (i := 0) (q := 123) hX dX4_split_122 rfl rfl rfl ?_
        refine z_iload (q := 125) hX dX4_split_123 rfl rfl ?_
        refine z_iload_n (i := 3) (q := 126) hX dX4_split_125 rfl rfl rfl ?_
        refine z_aload_n (i := 0) (q := 127) hX dX4_split_126 rfl rfl rfl ?_
        refine zt_getA (q := 130) hX 18 11 dX4_split_127 q1882 (by decide) rfl rfl rfl ?_
        refine z_iload (q := 132) hX dX4_split_130 rfl rfl ?_
        refine zt_ald (q := 133) (N := 40) hX 11 dX4_split_132 rfl (by decide) (by decide) (by omega) rfl ?_
        rw [e11 n (by omega) (by omega)]
        refine z_iload_n (i := 3) (q := 134) hX dX4_split_133 rfl rfl rfl ?_
        refine zt_V1 (q := 137) (na := 4) hX dX4_split_134 (c_X4_isSame D A l2.1 ⟨by omega, by omega⟩ l1.1 ⟨by omega, by omega⟩) q2018 q2020 qs52 q103 q2021 rfl (by decide +kernel) ⟨Nat.le_of_ble_eq_true rfl, Nat.le_of_ble_eq_true rfl⟩ rfl rfl (Nat.le_of_ble_eq_true rfl) rfl ⟨rfl, rfl⟩ (Nat.le_of_ble_eq_true rfl) (Nat.le_of_ble_eq_true rfl) rfl ?_
        rw [l1.2, l2.2]
        refine z_ifB_eq (q := 140) (t := 145) hX dX4_split_137 (by decide) rfl (fun h137 => ?_) (fun h137 => ?_)
        · refine z_iload_n (i := 1) (q := 146) hX dX4_split_145 rfl rfl rfl ?_
          refine zt_ast (q := 147) (N := 1964) hX 0 dX4_split_146 rfl (by decide) (by decide) (by omega) rfl ?_
          refine z_iinc (q := 150) hX dX4_split_147 rfl (Nat.le_of_ble_eq_true rfl) rfl rfl ?_
          refine z_goto (t := 99) hX dX4_split_150 (by decide) ?_
          rw [hset, spN_s (by omega) (by rw [if_neg (show ¬ tkl (G 0) (fst (G 0) t) (tokO (G 0) t c) = tkl (G 0) (lnO (G 0) t n) (tokO (G 0) t c) from of_decide_eq_false h137)])]
          exact ih (by omega) _ (by omega)
        · refine z_iload (q := 142) hX dX4_split_140 rfl rfl ?_
          refine z_goto (t := 146) hX dX4_split_142 (by decide) ?_
          refine zt_ast (q := 147) (N := 1964) hX 0 dX4_split_146 rfl (by decide) (by decide) (by omega) rfl ?_
          refine z_iinc (q := 150) hX dX4_split_147 rfl (Nat.le_of_ble_eq_true rfl) rfl rfl ?_
          refine z_goto (t := 99) hX dX4_split_150 (by decide) ?_
          rw [hset, spN_s (by omega) (by rw [if_pos (show tkl (G 0) (fst (G 0) t) (tokO (G 0) t c) = tkl (G 0) (lnO (G 0) t n) (tokO (G 0) t c) from of_decide_eq_true h137)])]
          exact ih (by omega) _ (by omega)
    refine z_aload_n (i := 0) (q := 41) hX dX4_split_40 rfl rfl rfl ?_
    refine z_iload_n (i := 1) (q := 42) hX dX4_split_41 rfl rfl rfl ?_
    refine z_iload_n (i := 2) (q := 43) hX dX4_split_42 rfl rfl rfl ?_
    refine zt_V1 (q := 46) (na := 2) hX dX4_split_43 (c_X4_tokenOf D A hw qc.1 hc) q2184 q2186 qs81 q103 q2187 rfl (by decide +kernel) ⟨Nat.le_of_ble_eq_true rfl, Nat.le_of_ble_eq_true rfl⟩ rfl rfl (Nat.le_of_ble_eq_true rfl) rfl ⟨rfl, rfl⟩ (Nat.le_of_ble_eq_true rfl) (Nat.le_of_ble_eq_true rfl) rfl ?_
    refine z_istore_n (i := 3) (q := 47) hX dX4_split_46 rfl (Nat.le_of_ble_eq_true rfl) rfl rfl ?_
    refine z_aload_n (i := 0) (q := 48) hX dX4_split_47 rfl rfl rfl ?_
    refine z_iload_n (i := 1) (q := 49) hX dX4_split_48 rfl rfl rfl ?_
    refine zt_V0 (q := 52) (na := 1) hX dX4_split_49 (c_X4_layRows D A (by first | assumption | omega) (by first | assumption | omega)) q2149 q2151 qs74 q103 q2152 rfl (by decide +kernel) ⟨Nat.le_of_ble_eq_true rfl, Nat.le_of_ble_eq_true rfl⟩ rfl rfl (Nat.le_of_ble_eq_true rfl) rfl ⟨rfl, rfl⟩ (Nat.le_of_ble_eq_true rfl) (Nat.le_of_ble_eq_true rfl) rfl ?_
    refine z_aload_n (i := 0) (q := 53) hX dX4_split_52 rfl rfl rfl ?_
    refine z_iload_n (i := 3) (q := 54) hX dX4_split_53 rfl rfl rfl ?_
    refine z_iconst (q := 55) hX dX4_split_54 rfl ?_
    refine zt_V1 (q := 58) (na := 2) hX dX4_split_55 (c_X4_runs D A (d := false) hcol) q2161 q2163 qs77 q103 q2164 rfl (by decide +kernel) ⟨Nat.le_of_ble_eq_true rfl, Nat.le_of_ble_eq_true rfl⟩ rfl rfl (Nat.le_of_ble_eq_true rfl) rfl ⟨rfl, rfl⟩ (Nat.le_of_ble_eq_true rfl) (Nat.le_of_ble_eq_true rfl) rfl ?_
    refine z_iconst (q := 59) hX dX4_split_58 rfl ?_
    refine z_icmp_ne (q := 62) (t := 78) hX dX4_split_59 (by decide) (by omega) (by omega) rfl (fun h59 => ?_) (fun h59 => ?_)
    · rw [← hF1]
      refine z_aload_n (i := 0) (q := 79) hX dX4_split_78 rfl rfl rfl ?_
      refine zt_V0 (q := 82) (na := 0) hX dX4_split_79 (c_X4_keep D A (by rw [f15]; exact hF)) q2045 q2047 qs58 q103 q2048 rfl (by decide +kernel) ⟨Nat.le_of_ble_eq_true rfl, Nat.le_of_ble_eq_true rfl⟩ rfl rfl (Nat.le_of_ble_eq_true rfl) rfl ⟨rfl, rfl⟩ (Nat.le_of_ble_eq_true rfl) (Nat.le_of_ble_eq_true rfl) rfl ?_
      rw [← hG1]
      refine z_aload_n (i := 0) (q := 83) hX dX4_split_82 rfl rfl rfl ?_
      refine zt_V1 (q := 86) (na := 0) hX dX4_split_83 (c_X4_freeTemplate D A hw1) q2037 q2039 qs56 q103 q2040 rfl (by decide +kernel) ⟨Nat.le_of_ble_eq_true rfl, Nat.le_of_ble_eq_true rfl⟩ rfl rfl (Nat.le_of_ble_eq_true rfl) rfl ⟨rfl, rfl⟩ (Nat.le_of_ble_eq_true rfl) (Nat.le_of_ble_eq_true rfl) rfl ?_
      rw [g10]
      refine z_istore (q := 88) hX dX4_split_86 (Nat.le_of_ble_eq_true rfl) rfl rfl ?_
      refine z_aload_n (i := 0) (q := 89) hX dX4_split_88 rfl rfl rfl ?_
      refine zt_getA (q := 92) hX 18 11 dX4_split_89 q1882 (by decide) rfl rfl rfl ?_
      refine z_iconst (q := 93) hX dX4_split_92 rfl ?_
      refine zt_ald (q := 94) (N := 40) hX 11 dX4_split_93 rfl (by decide) (by decide) (by omega) rfl ?_
      rw [g11 0 (by omega) (by omega), show lnO (G 0) t 0 = fst (G 0) t from rfl]
      refine z_istore (q := 96) hX dX4_split_94 (Nat.le_of_ble_eq_true rfl) rfl rfl ?_
      refine z_iconst (q := 97) hX dX4_split_96 rfl ?_
      refine z_istore (q := 99) hX dX4_split_97 (Nat.le_of_ble_eq_true rfl) rfl rfl ?_
      have e9 := K h59 0 (Nat.zero_le _) 0 rfl
      rw [spN_0, ← g10, setG_self, g10] at e9
      exact e9
    · have ec3 : splC (G 0) t c = 3 := by rw [ec, if_pos (by omega)]
      rw [ec3, show splF F 3 = upF (upF (upF F 6 0) 10 1) 6 3 from rfl, show splG F G t c = repG G 3 t 13 c by unfold splG; rw [ec3]; rfl, if_neg (by decide : ¬ (3 : Int) = 0)] at hX
      refine z_aload_n (i := 0) (q := 63) hX dX4_split_62 rfl rfl rfl ?_
      refine z_iconst (q := 64) hX dX4_split_63 rfl ?_
      refine z_iload_n (i := 1) (q := 65) hX dX4_split_64 rfl rfl rfl ?_
      refine z_bipush (q := 67) hX dX4_split_65 (by decide) rfl ?_
      refine z_iload_n (i := 2) (q := 68) hX dX4_split_67 rfl rfl rfl ?_
      refine zt_V1 (q := 71) (na := 4) hX dX4_split_68 (c_X4_reports D A) q2041 q2043 qs57 q103 q2044 rfl (by decide +kernel) ⟨Nat.le_of_ble_eq_true rfl, Nat.le_of_ble_eq_true rfl⟩ rfl rfl (Nat.le_of_ble_eq_true rfl) rfl ⟨rfl, rfl⟩ (Nat.le_of_ble_eq_true rfl) (Nat.le_of_ble_eq_true rfl) rfl ?_
      refine z_pop (q := 72) hX dX4_split_71 rfl rfl ?_
      refine z_aload_n (i := 0) (q := 73) hX dX4_split_72 rfl rfl rfl ?_
      refine z_iconst (q := 74) hX dX4_split_73 rfl ?_
      refine zt_V1 (q := 77) (na := 1) hX dX4_split_74 (c_X4_refuse D A) q1962 q1964 qs39 q103 q1965 rfl (by decide +kernel) ⟨Nat.le_of_ble_eq_true rfl, Nat.le_of_ble_eq_true rfl⟩ rfl rfl (Nat.le_of_ble_eq_true rfl) rfl ⟨rfl, rfl⟩ (Nat.le_of_ble_eq_true rfl) (Nat.le_of_ble_eq_true rfl) rfl ?_
      exact z_iret hX dX4_split_77 (Nat.le_of_ble_eq_true rfl) (Nat.le_of_ble_eq_true rfl) rfl (fun H hI => ⟨rfl, _, _, ⟨fun j hj => by
        unfold upF
        by_cases q : j = 6 <;> by_cases q1 : j = 10 <;> simp [q, q1, hj], fun j hj => by
        have e1 : rowsG G t j = G j := rowG_j G t _ hj
        funext i
        unfold repG upG
        rw [e1]⟩, hI⟩)
  have hn0 : 0 ≤ nTpl (G 0) ∧ nTpl (G 0) ≤ 12 := by
    have := cnt_rng (fun t => isT (G 0) t) 12
    unfold nTpl
    omega
  refine z_aload_n (i := 0) (q := 1) hX dX4_split_0 rfl rfl rfl ?_
  refine z_aload_n (i := 0) (q := 2) hX dX4_split_1 rfl rfl rfl ?_
  refine z_iload_n (i := 1) (q := 3) hX dX4_split_2 rfl rfl rfl ?_
  refine z_iload_n (i := 2) (q := 4) hX dX4_split_3 rfl rfl rfl ?_
  refine zt_V1 (q := 7) (na := 2) hX dX4_split_4 (c_X4_isColumn D A (by first | assumption | omega) (by first | assumption | omega) (by first | assumption | omega)) q2180 q2182 qs80 q103 q2183 rfl (by decide +kernel) ⟨Nat.le_of_ble_eq_true rfl, Nat.le_of_ble_eq_true rfl⟩ rfl rfl (Nat.le_of_ble_eq_true rfl) rfl ⟨rfl, rfl⟩ (Nat.le_of_ble_eq_true rfl) (Nat.le_of_ble_eq_true rfl) rfl ?_
  refine z_ifB_ne (q := 10) (t := 14) hX dX4_split_7 (by decide) rfl (fun h7 => ?_) (fun h7 => ?_)
  · refine z_aload_n (i := 0) (q := 15) hX dX4_split_14 rfl rfl rfl ?_
    refine zt_V1 (q := 18) (na := 0) hX dX4_split_15 (c_X4_templateMany D A (by first | assumption | omega)) q2129 q2131 qs69 q103 q2132 rfl (by decide +kernel) ⟨Nat.le_of_ble_eq_true rfl, Nat.le_of_ble_eq_true rfl⟩ rfl rfl (Nat.le_of_ble_eq_true rfl) rfl ⟨rfl, rfl⟩ (Nat.le_of_ble_eq_true rfl) (Nat.le_of_ble_eq_true rfl) rfl ?_
    refine z_bipush (q := 20) hX dX4_split_18 (by decide) rfl ?_
    refine z_icmp_ne (q := 23) (t := 27) hX dX4_split_20 (by decide) (by omega) (by omega) rfl (fun h20 => ?_) (fun h20 => ?_)
    · refine z_iconst (q := 28) hX dX4_split_27 rfl ?_
      refine zt_put (ty := .int) (q := 31) hX 6 dX4_split_28 q1870 (by decide) rfl rfl rfl (by decide) rfl rfl rfl ?_
      refine z_aload_n (i := 0) (q := 32) hX dX4_split_31 rfl rfl rfl ?_
      refine zt_getI (q := 35) hX 6 dX4_split_32 q1870 (by decide) rfl rfl rfl ?_
      rw [upF_same]
      refine z_if_le (q := 38) (t := 40) hX dX4_split_35 (by decide) (by omega) rfl (fun h35 => ?_) (fun h35 => ?_)
      · exact J40 h7 h20
      · exact absurd h35 (by decide)
    · refine z_iconst (q := 24) hX dX4_split_23 rfl ?_
      refine z_goto (t := 28) hX dX4_split_24 (by decide) ?_
      exact J28 2 (by omega) (by unfold splC; rw [if_neg (by rw [h7]; decide), if_pos (by omega)])
  · refine z_iconst (q := 11) hX dX4_split_10 rfl ?_
    refine z_goto (t := 28) hX dX4_split_11 (by decide) ?_
    exact J28 1 (by omega) (by unfold splC; rw [if_pos h7])
