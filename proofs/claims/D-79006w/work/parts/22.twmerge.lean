/-! THE REFERENCE: merging, gains, compacting -/
set_option maxRecDepth 100000
theorem zOk.ex {M : Int → Int} (h : zOk M) : ∃ G : zTG, zWg G ∧ G 0 = M := by
  have h0 := layN_0 (fun _ => M) (M 0).toNat
  refine ⟨layN (fun _ => M) (M 0).toNat, zWg_iff.mpr ⟨by rw [h0]; exact h, fun l l0 l1 => ?_⟩, h0⟩
  rw [h0] at l1
  exact (layN_ln (G := fun _ => M) (n := (M 0).toNat) (fun l l0 l1 => (h.2.1 l l0 (by omega)).1) l l0 (by omega)).2
theorem gapsS_rng {G : zTG} {l : Int} (h : zLn G l) : -900 ≤ gapsS (tx (G 0) l) ∧ gapsS (tx (G 0) l) ≤ 900 := by
  have hf := h.1.f
  have h1 := sumI_range (f := fun g => gp (tx (G 0) l) g) (n := (nT (tx (G 0) l) + 1).toNat) (lo := -40) (hi := 40) (fun g hg => gp_rng h (by omega) (by omega))
  unfold gapsS
  omega
theorem cosTt_rng {G : zTG} {t : Int} (h : zWg G) : -2000 ≤ cosTt (G 0) t ∧ cosTt (G 0) t ≤ 50000 := by
  unfold cosTt
  split
  · rename_i ht
    have hf := h.1.fs ht
    have g1 := gapsS_rng hf.2.2.2.2.2.1
    have hnt : nT (tx (G 0) (fst (G 0) t)) = nTl (G 0) (fst (G 0) t) := rfl
    have hf2 := hf.2.2.2.2.2.1.1.f
    have h1 := sumI_range (f := fun k => if slt (G 0) t k = -1 then wT (tx (G 0) (fst (G 0) t)) k + 1 else 2) (n := (nTl (G 0) (fst (G 0) t)).toNat) (lo := 0) (hi := 42) (fun k hk => by
      have ht2 := hf.2.2.2.2.2.1.t (t := k) (by omega) (by omega)
      split <;> omega)
    have h2 := sumI_range (f := fun k => cosTk (G 0) t k) (n := (nTl (G 0) (fst (G 0) t)).toNat) (lo := -1) (hi := 2000) (fun k hk => by
      simp only [cosTk]
      split
      · omega
      · exact cosM_rng h ht (by omega) (by omega))
    unfold costT
    omega
  · omega
theorem cosA_rng {G : zTG} (h : zWg G) : -100000 ≤ cosA (G 0) ∧ cosA (G 0) ≤ 1000000 := by
  have h1 := sumI_range (f := fun t => cosTt (G 0) t) (n := 12) (lo := -2000) (hi := 50000) (fun t _ => cosTt_rng h)
  have := h.1.1
  unfold cosA
  omega
theorem cosA_rngM {M : Int → Int} (h : zOk M) : -100000 ≤ cosA M ∧ cosA M ≤ 1000000 := by
  obtain ⟨G, h1, h2⟩ := h.ex
  have := cosA_rng h1
  rwa [h2] at this
def mgS (M : Int → Int) (lo hi : Int) : Int → Int := fun k => unionS (slt M lo k) (tkl M (fst M lo) k) (slt M hi k) (tkl M (fst M hi) k)
/-- template numbers hi made lo, of the lines under n -/
def mgO (G : zTG) (lo hi : Int) (n : Nat) : zTG := fun j i => if j = 0 ∧ 43 ≤ i ∧ i < 43 + (n : Int) then (if G 0 i = hi then lo else G 0 i) else G j i
theorem mgO_j (G : zTG) (lo hi : Int) (n : Nat) {j : Nat} (h : j ≠ 0) : mgO G lo hi n j = G j := by
  funext i
  exact if_neg (fun q => h q.1)
theorem mgO_out (G : zTG) (lo hi : Int) (n : Nat) {i : Int} (h : i < 43 ∨ 43 + (n : Int) ≤ i) : mgO G lo hi n 0 i = G 0 i := if_neg (by omega)
theorem mgO_s (G : zTG) (lo hi z : Int) (n : Nat) (hz : z = if G 0 (43 + n) = hi then lo else G 0 (43 + n)) : upG (mgO G lo hi n) 0 (43 + n) z = mgO G lo hi (n + 1) := by
  funext j i
  show (if _ then _ else _) = if _ then _ else _
  by_cases q : j = 0 ∧ i = 43 + n
  · rw [if_pos q, if_pos (by omega), hz, q.2]
  · rw [if_neg q]
    show (if _ then _ else _) = _
    by_cases q2 : j = 0 ∧ 43 ≤ i ∧ i < 43 + (n : Int)
    · rw [if_pos q2, if_pos (show j = 0 ∧ 43 ≤ i ∧ i < 43 + ((n + 1 : Nat) : Int) from ⟨q2.1, q2.2.1, by omega⟩)]
    · rw [if_neg q2, if_neg (show ¬ (j = 0 ∧ 43 ≤ i ∧ i < 43 + ((n + 1 : Nat) : Int)) by omega)]
theorem mgG_eq {G : zTG} {lo hi : Int} (hm : 0 ≤ G 0 0 ∧ G 0 0 ≤ 40) (hl : 0 ≤ lo) : mgO (sltG G lo (nTl (G 0) (fst (G 0) lo)) (mgS (G 0) lo hi)) lo hi (G 0 0).toNat = setG G 0 (mgM (G 0) lo hi) := by
  funext j i
  by_cases hj : j = 0
  · subst hj
    rw [setG_same]
    show (if _ then _ else _) = _
    unfold mgM
    by_cases q : 43 ≤ i ∧ i < 43 + G 0 0
    · rw [if_pos ⟨rfl, q.1, by omega⟩, sltG_lo G lo _ _ hl (by omega), if_neg (show ¬ (1724 + 20 * lo ≤ i ∧ i < 1724 + 20 * lo + nTl (G 0) (fst (G 0) lo)) by omega), if_pos q]
    · rw [if_neg (by omega)]
      show (if _ then _ else _) = _
      by_cases q2 : 1724 + 20 * lo ≤ i ∧ i < 1724 + 20 * lo + nTl (G 0) (fst (G 0) lo)
      · rw [if_pos ⟨rfl, q2⟩, if_pos q2]
        rfl
      · rw [if_neg (fun z => q2 z.2), if_neg q2, if_neg q]
  · rw [setG_ne _ _ hj, mgO_j _ _ _ _ hj, sltG_j _ _ _ _ hj]
theorem zWg.mg {G : zTG} {lo hi : Int} (h : zWg G) (ha : isT (G 0) lo = true) (hb : isT (G 0) hi = true) (hf : isFm (G 0) (fst (G 0) lo) (fst (G 0) hi) = true) : zWg (setG G 0 (mgM (G 0) lo hi)) := by
  have ho := (zWg_iff.mp h).1
  have ia := isT_iff.mp ha
  refine zWg_iff.mpr ⟨by rw [setG_same]; exact mgM_ok ho ha hb hf, fun l l0 l1 => ?_⟩
  rw [setG_same, mgM_0 ho ia.1] at l1
  have h2 := (zWg_iff.mp h).2 l l0 l1
  unfold zTks at h2 ⊢
  rw [setG_same, mgM_tx ho ia.1 l0 l1, setG_ne _ _ (by decide), setG_ne _ _ (by decide), setG_ne _ _ (by decide)]
  exact h2
abbrev rmX4_merges : Room := { frames := 4, cells := 0, slots := 0, locals := 97 }
set_option maxHeartbeats 4000000 in
theorem c_X4_merges (D : zD) (A : Nat → Prop) {b : Nat} {F : zTF} {G : zTG} {lo hi : Int} (h : zWg G) (ha : isT (G 0) lo = true) (hb : isT (G 0) hi = true) (hf : isFm (G 0) (fst (G 0) lo) (fst (G 0) hi) = true) : zC D yX4_merges cX4_merges 6 none none rmX4_merges A [.ref b, zI (lo), zI (hi)] (twI D A b F G) (zPv (twI D A b (F) (setG G 0 (mgM (G 0) lo hi)))) zNo := by
  refine zC_start (L := [some (.ref b), some (zI (lo)), some (zI (hi)), none, none, none]) (by decide) (Nat.le_of_ble_eq_true rfl) rfl (fun X hX => ?_)
  have hw := h.1
  have hm := hw.1
  have fa := hw.fs ha
  have fb := hw.fs hb
  have hn := isFm_n hf
  have e1 : lnO (G 0) lo 0 = fst (G 0) lo := rfl
  have e2 : lnO (G 0) hi 0 = fst (G 0) hi := rfl
  have K2 : ∀ n : Nat, n ≤ (G 0 0).toNat → ∀ p : Int, p = n → zG X 0 0 (twI D A b F (mgO (sltG G lo (nTl (G 0) (fst (G 0) lo)) (mgS (G 0) lo hi)) lo hi n)) 77 [some (.ref b), some (zI (lo)), some (zI (hi)), some (zI (fst (G 0) lo)), some (zI (fst (G 0) hi)), some (zI (p))] [] := by
    refine z_up (fun n hn1 ih p e3 => ?_)
    subst e3
    have e0 : mgO (sltG G lo (nTl (G 0) (fst (G 0) lo)) (mgS (G 0) lo hi)) lo hi n 0 0 = G 0 0 := by rw [mgO_out _ _ _ _ (by omega), sltG_lo G lo _ _ fa.1 (by omega)]
    have eo : n < (G 0 0).toNat → mgO (sltG G lo (nTl (G 0) (fst (G 0) lo)) (mgS (G 0) lo hi)) lo hi n 0 (43 + n) = G 0 (43 + n) := fun q => by rw [mgO_out _ _ _ _ (by omega), sltG_lo G lo _ _ fa.1 (by omega)]
    refine z_iload (q := 79) hX dX4_merges_77 rfl rfl ?_
    refine z_aload_n (i := 0) (q := 80) hX dX4_merges_79 rfl rfl rfl ?_
    refine zt_getA (q := 83) hX 0 0 dX4_merges_80 q1864 (by decide) rfl rfl rfl ?_
    refine z_iconst (q := 84) hX dX4_merges_83 rfl ?_
    refine zt_ald (q := 85) (N := 1964) hX 0 dX4_merges_84 rfl (by decide) (by decide) (by omega) rfl ?_
    rw [e0]
    refine z_icmp_ge (q := 88) (t := 132) hX dX4_merges_85 (by decide) (by omega) (by omega) rfl (fun h85 => ?_) (fun h85 => ?_)
    · refine zt_conv (G2 := setG G 0 (mgM (G 0) lo hi)) rfl (by rw [show n = (G 0 0).toNat by omega]; exact mgG_eq ⟨by omega, by omega⟩ fa.1) ?_
      exact z_vret hX dX4_merges_132 (Nat.le_of_ble_eq_true rfl) (Nat.le_of_ble_eq_true rfl) rfl (fun H hI => ⟨rfl, hI⟩)
    · refine z_aload_n (i := 0) (q := 89) hX dX4_merges_88 rfl rfl rfl ?_
      refine zt_getA (q := 92) hX 0 0 dX4_merges_89 q1864 (by decide) rfl rfl rfl ?_
      refine z_bipush (q := 94) hX dX4_merges_92 (by decide) rfl ?_
      refine z_iload (q := 96) hX dX4_merges_94 rfl rfl ?_
      refine z_iadd (q := 97) hX dX4_merges_96 rfl ?_
      refine z_aload_n (i := 0) (q := 98) hX dX4_merges_97 rfl rfl rfl ?_
      refine zt_getA (q := 101) hX 0 0 dX4_merges_98 q1864 (by decide) rfl rfl rfl ?_
      refine z_bipush (q := 103) hX dX4_merges_101 (by decide) rfl ?_
      refine z_iload (q := 105) hX dX4_merges_103 rfl rfl ?_
      refine z_iadd (q := 106) hX dX4_merges_105 rfl ?_
      refine zt_ald (q := 107) (N := 1964) hX 0 dX4_merges_106 rfl (by decide) (by decide) (by omega) rfl ?_
      rw [eo (by omega)]
      have ho := hw.of (l := n) (by omega) (by omega)
      have es : sltG G lo (nTl (G 0) (fst (G 0) lo)) (mgS (G 0) lo hi) 0 (43 + n) = G 0 (43 + n) := sltG_lo G lo _ _ fa.1 (by omega)
      refine z_iload_n (i := 2) (q := 108) hX dX4_merges_107 rfl rfl rfl ?_
      refine z_icmp_ne (q := 111) (t := 115) hX dX4_merges_108 (by decide) (by omega) (by omega) rfl (fun h108 => ?_) (fun h108 => ?_)
      · refine z_aload_n (i := 0) (q := 116) hX dX4_merges_115 rfl rfl rfl ?_
        refine zt_getA (q := 119) hX 0 0 dX4_merges_116 q1864 (by decide) rfl rfl rfl ?_
        refine z_bipush (q := 121) hX dX4_merges_119 (by decide) rfl ?_
        refine z_iload (q := 123) hX dX4_merges_121 rfl rfl ?_
        refine z_iadd (q := 124) hX dX4_merges_123 rfl ?_
        refine zt_ald (q := 125) (N := 1964) hX 0 dX4_merges_124 rfl (by decide) (by decide) (by omega) rfl ?_
        rw [eo (by omega)]
        refine zt_ast (q := 126) (N := 1964) hX 0 dX4_merges_125 rfl (by decide) (by decide) (by omega) rfl ?_
        refine z_iinc (q := 129) hX dX4_merges_126 rfl (Nat.le_of_ble_eq_true rfl) rfl rfl ?_
        refine z_goto (t := 77) hX dX4_merges_129 (by decide) ?_
        rw [mgO_s _ lo hi (G 0 (43 + n)) n (by rw [es, if_neg h108])]
        exact ih (by omega) _ (by omega)
      · refine z_iload_n (i := 1) (q := 112) hX dX4_merges_111 rfl rfl rfl ?_
        refine z_goto (t := 125) hX dX4_merges_112 (by decide) ?_
        skip
        refine zt_ast (q := 126) (N := 1964) hX 0 dX4_merges_125 rfl (by decide) (by decide) (by omega) rfl ?_
        refine z_iinc (q := 129) hX dX4_merges_126 rfl (Nat.le_of_ble_eq_true rfl) rfl rfl ?_
        refine z_goto (t := 77) hX dX4_merges_129 (by decide) ?_
        rw [mgO_s _ lo hi lo n (by rw [es, if_pos (by omega)])]
        exact ih (by omega) _ (by omega)
  have K1 : ∀ n : Nat, n ≤ (nTl (G 0) (fst (G 0) lo)).toNat → ∀ p : Int, p = n → zG X 0 0 (twI D A b F (sltG G lo n (mgS (G 0) lo hi))) 18 [some (.ref b), some (zI (lo)), some (zI (hi)), some (zI (fst (G 0) lo)), some (zI (fst (G 0) hi)), some (zI (p))] [] := by
    refine z_up (fun n hn1 ih p e3 => ?_)
    subst e3
    have hl1 := fa.2.2.2.2.2.1
    have hl2 := fb.2.2.2.2.2.1
    have la : zLn (sltG G lo n (mgS (G 0) lo hi)) (fst (G 0) lo) := hl1.slt fa.1
    have lb : zLn (sltG G lo n (mgS (G 0) lo hi)) (fst (G 0) hi) := hl2.slt fa.1
    have t1 : tx (sltG G lo n (mgS (G 0) lo hi) 0) (fst (G 0) lo) = tx (G 0) (fst (G 0) lo) := sltG_tx fa.1 hl1
    have t2 : tx (sltG G lo n (mgS (G 0) lo hi) 0) (fst (G 0) hi) = tx (G 0) (fst (G 0) hi) := sltG_tx fa.1 hl2
    have k1 : tkl (sltG G lo n (mgS (G 0) lo hi) 0) (fst (G 0) lo) n = tkl (G 0) (fst (G 0) lo) n := by unfold tkl; rw [t1]
    have k2 : tkl (sltG G lo n (mgS (G 0) lo hi) 0) (fst (G 0) hi) n = tkl (G 0) (fst (G 0) hi) n := by unfold tkl; rw [t2]
    have n1 : nTl (sltG G lo n (mgS (G 0) lo hi) 0) (fst (G 0) lo) = nTl (G 0) (fst (G 0) lo) := by unfold nTl; rw [t1]
    have n2 : nTl (sltG G lo n (mgS (G 0) lo hi) 0) (fst (G 0) hi) = nTl (G 0) (fst (G 0) hi) := by unfold nTl; rw [t2]
    have s1 : slt (sltG G lo n (mgS (G 0) lo hi) 0) lo n = slt (G 0) lo n := sltG_out G lo n _ (by omega)
    have s2 : n < (nTl (G 0) (fst (G 0) lo)).toNat → slt (sltG G lo n (mgS (G 0) lo hi) 0) hi n = slt (G 0) hi n := fun q => sltG_out G lo n _ (by omega)
    refine z_iload (q := 20) hX dX4_merges_18 rfl rfl ?_
    refine z_aload_n (i := 0) (q := 21) hX dX4_merges_20 rfl rfl rfl ?_
    refine zt_getA (q := 24) hX 7 4 dX4_merges_21 q1871 (by decide) rfl rfl rfl ?_
    refine z_iload_n (i := 3) (q := 25) hX dX4_merges_24 rfl rfl rfl ?_
    refine zt_ald (q := 26) (N := 41) hX 4 dX4_merges_25 rfl (by decide) (by decide) (by omega) rfl ?_
    rw [sltG_j G lo n (mgS (G 0) lo hi) (by decide : (4 : Nat) ≠ 0), fa.2.2.2.2.2.2.1]
    refine z_icmp_ge (q := 29) (t := 74) hX dX4_merges_26 (by decide) (by omega) (by omega) rfl (fun h26 => ?_) (fun h26 => ?_)
    · refine z_iconst (q := 75) hX dX4_merges_74 rfl ?_
      refine z_istore (q := 77) hX dX4_merges_75 (Nat.le_of_ble_eq_true rfl) rfl rfl ?_
      have e9 := K2 0 (Nat.zero_le _) 0 rfl
      rw [show mgO (sltG G lo (nTl (G 0) (fst (G 0) lo)) (mgS (G 0) lo hi)) lo hi 0 = sltG G lo (nTl (G 0) (fst (G 0) lo)) (mgS (G 0) lo hi) by funext j i; exact if_neg (by omega)] at e9
      rw [show (n : Int) = nTl (G 0) (fst (G 0) lo) by omega]
      exact e9
    · refine z_aload_n (i := 0) (q := 30) hX dX4_merges_29 rfl rfl rfl ?_
      refine zt_getA (q := 33) hX 0 0 dX4_merges_30 q1864 (by decide) rfl rfl rfl ?_
      refine z_sipush (q := 36) hX dX4_merges_33 (by decide) rfl ?_
      refine z_bipush (q := 38) hX dX4_merges_36 (by decide) rfl ?_
      refine z_iload_n (i := 1) (q := 39) hX dX4_merges_38 rfl rfl rfl ?_
      refine z_imul (q := 40) hX dX4_merges_39 rfl ?_
      refine z_iadd (q := 41) hX dX4_merges_40 rfl ?_
      refine z_iload (q := 43) hX dX4_merges_41 rfl rfl ?_
      refine z_iadd (q := 44) hX dX4_merges_43 rfl ?_
      refine z_aload_n (i := 0) (q := 45) hX dX4_merges_44 rfl rfl rfl ?_
      refine z_aload_n (i := 0) (q := 46) hX dX4_merges_45 rfl rfl rfl ?_
      refine z_iload_n (i := 1) (q := 47) hX dX4_merges_46 rfl rfl rfl ?_
      refine z_iload (q := 49) hX dX4_merges_47 rfl rfl ?_
      refine zt_V1 (q := 52) (na := 2) hX dX4_merges_49 (c_X4_slotOf D A (by first | assumption | omega) (by first | assumption | omega)) q2014 q2016 qs51 q103 q2017 rfl (by decide +kernel) ⟨Nat.le_of_ble_eq_true rfl, Nat.le_of_ble_eq_true rfl⟩ rfl rfl (Nat.le_of_ble_eq_true rfl) rfl ⟨rfl, rfl⟩ (Nat.le_of_ble_eq_true rfl) (Nat.le_of_ble_eq_true rfl) rfl ?_
      rw [s1]
      have hs := hw.sl (t := lo) (k := n) (by omega) (by omega) (by omega) (by omega)
      have hs2 := hw.sl (t := hi) (k := n) (by omega) (by omega) (by omega) (by omega)
      refine z_iload_n (i := 3) (q := 53) hX dX4_merges_52 rfl rfl rfl ?_
      refine z_aload_n (i := 0) (q := 54) hX dX4_merges_53 rfl rfl rfl ?_
      refine z_iload_n (i := 2) (q := 55) hX dX4_merges_54 rfl rfl rfl ?_
      refine z_iload (q := 57) hX dX4_merges_55 rfl rfl ?_
      refine zt_V1 (q := 60) (na := 2) hX dX4_merges_57 (c_X4_slotOf D A (by first | assumption | omega) (by first | assumption | omega)) q2014 q2016 qs51 q103 q2017 rfl (by decide +kernel) ⟨Nat.le_of_ble_eq_true rfl, Nat.le_of_ble_eq_true rfl⟩ rfl rfl (Nat.le_of_ble_eq_true rfl) rfl ⟨rfl, rfl⟩ (Nat.le_of_ble_eq_true rfl) (Nat.le_of_ble_eq_true rfl) rfl ?_
      rw [s2 (by omega)]
      refine z_iload (q := 62) hX dX4_merges_60 rfl rfl ?_
      refine z_iload (q := 64) hX dX4_merges_62 rfl rfl ?_
      refine zt_V1 (q := 67) (na := 5) hX dX4_merges_64 (c_X4_union D A (by first | assumption | omega) (by first | assumption | omega) (by first | assumption | omega) (by first | assumption | omega) (by first | assumption | omega) (by first | assumption | omega) (by first | assumption | omega)) q2053 q2055 qs60 q103 q2056 rfl (by decide +kernel) ⟨Nat.le_of_ble_eq_true rfl, Nat.le_of_ble_eq_true rfl⟩ rfl rfl (Nat.le_of_ble_eq_true rfl) rfl ⟨rfl, rfl⟩ (Nat.le_of_ble_eq_true rfl) (Nat.le_of_ble_eq_true rfl) rfl ?_
      rw [k1, k2]
      refine zt_ast (q := 68) (N := 1964) hX 0 dX4_merges_67 rfl (by decide) (by decide) (by omega) rfl ?_
      refine z_iinc (q := 71) hX dX4_merges_68 rfl (Nat.le_of_ble_eq_true rfl) rfl rfl ?_
      refine z_goto (t := 18) hX dX4_merges_71 (by decide) ?_
      rw [sltG_s G lo n (unionS (slt (G 0) lo n) (tkl (G 0) (fst (G 0) lo) n) (slt (G 0) hi n) (tkl (G 0) (fst (G 0) hi) n)) (mgS (G 0) lo hi) (by omega) rfl]
      have e9 := ih (by omega) ((n : Int) + 1) (by omega)
      rw [show ((n + 1 : Nat) : Int) = (n : Int) + 1 by omega] at e9
      exact e9
  refine z_aload_n (i := 0) (q := 1) hX dX4_merges_0 rfl rfl rfl ?_
  refine z_iload_n (i := 1) (q := 2) hX dX4_merges_1 rfl rfl rfl ?_
  refine z_iconst (q := 3) hX dX4_merges_2 rfl ?_
  refine zt_V1 (q := 6) (na := 2) hX dX4_merges_3 (c_X4_lineOf D A (by first | assumption | omega) (by first | assumption | omega) (by first | assumption | omega)) q1990 q1992 qs45 q103 q1993 rfl (by decide +kernel) ⟨Nat.le_of_ble_eq_true rfl, Nat.le_of_ble_eq_true rfl⟩ rfl rfl (Nat.le_of_ble_eq_true rfl) rfl ⟨rfl, rfl⟩ (Nat.le_of_ble_eq_true rfl) (Nat.le_of_ble_eq_true rfl) rfl ?_
  rw [e1]
  refine z_istore_n (i := 3) (q := 7) hX dX4_merges_6 rfl (Nat.le_of_ble_eq_true rfl) rfl rfl ?_
  refine z_aload_n (i := 0) (q := 8) hX dX4_merges_7 rfl rfl rfl ?_
  refine z_iload_n (i := 2) (q := 9) hX dX4_merges_8 rfl rfl rfl ?_
  refine z_iconst (q := 10) hX dX4_merges_9 rfl ?_
  refine zt_V1 (q := 13) (na := 2) hX dX4_merges_10 (c_X4_lineOf D A (by first | assumption | omega) (by first | assumption | omega) (by first | assumption | omega)) q1990 q1992 qs45 q103 q1993 rfl (by decide +kernel) ⟨Nat.le_of_ble_eq_true rfl, Nat.le_of_ble_eq_true rfl⟩ rfl rfl (Nat.le_of_ble_eq_true rfl) rfl ⟨rfl, rfl⟩ (Nat.le_of_ble_eq_true rfl) (Nat.le_of_ble_eq_true rfl) rfl ?_
  rw [e2]
  refine z_istore (q := 15) hX dX4_merges_13 (Nat.le_of_ble_eq_true rfl) rfl rfl ?_
  refine z_iconst (q := 16) hX dX4_merges_15 rfl ?_
  refine z_istore (q := 18) hX dX4_merges_16 (Nat.le_of_ble_eq_true rfl) rfl rfl ?_
  have e9 := K1 0 (Nat.zero_le _) 0 rfl
  rw [show ((0 : Nat) : Int) = 0 from rfl, sltG_0] at e9
  exact e9
def zSA (F : zTF) (G : zTG) (F2 : zTF) (G2 : zTG) : Prop := (∀ j, j ≠ 17 → F2 j = F j) ∧ ∀ j, j ≠ 11 → j ≠ 2 → G2 j = G j
theorem zSA.rf (F : zTF) (G : zTG) : zSA F G F G := ⟨fun _ _ => rfl, fun _ _ _ => rfl⟩
theorem zSA.wg {F F2 : zTF} {G G2 : zTG} (h : zSA F G F2 G2) (hg : zWg G) : zWg G2 := hg.sc (h.2 0 (by decide) (by decide)) (h.2 4 (by decide) (by decide)) (h.2 5 (by decide) (by decide)) (h.2 6 (by decide) (by decide))
theorem zSA.tr {F F2 F3 : zTF} {G G2 G3 : zTG} (h : zSA F G F2 G2) (g : zSA F2 G2 F3 G3) : zSA F G F3 G3 := ⟨fun j hj => (g.1 j hj).trans (h.1 j hj), fun j h1 h2 => (g.2 j h1 h2).trans (h.2 j h1 h2)⟩
/-- how much less it costs if two are merged -/
def gainM (M : Int → Int) (lo hi : Int) : Int := cosA M - cosA (mgM M lo hi)
abbrev rmX4_gainOf : Room := { frames := 8, cells := 0, slots := 0, locals := 188 }
set_option maxHeartbeats 4000000 in
theorem c_X4_gainOf (D : zD) (A : Nat → Prop) {b : Nat} {F : zTF} {G : zTG} {lo hi : Int} (h : zWg G) (ha : isT (G 0) lo = true) (hb : isT (G 0) hi = true) (hf : isFm (G 0) (fst (G 0) lo) (fst (G 0) hi) = true) : zC D yX4_gainOf cX4_gainOf 6 (some .int) none rmX4_gainOf A [.ref b, zI (lo), zI (hi)] (twI D A b F G) (zPd (zI (gainM (G 0) lo hi)) (twE D A b (zSA F G))) zNo := by
  refine zC_start (L := [some (.ref b), some (zI (lo)), some (zI (hi)), none, none, none]) (by decide) (Nat.le_of_ble_eq_true rfl) rfl (fun X hX => ?_)
  have K3 : ∀ (F2 : zTF) (G2 : zTG) (c1 c2 : Int), (∀ j, j ≠ 17 → F2 j = F j) → (∀ j, j ≠ 11 → j ≠ 2 → j ≠ 0 → G2 j = G j) → G2 2 = G 0 → c1 - c2 = gainM (G 0) lo hi → ∀ n : Nat, n ≤ 1964 → ∀ p : Int, p = n → zG X 0 0 (twI D A b F2 (cpyG G2 0 (G 0) n)) 47 [some (.ref b), some (zI (lo)), some (zI (hi)), some (zI (c1)), some (zI (c2)), some (zI (p))] [] := by
    intro F2 G2 c1 c2 hF2 hG2 hG22 hc
    refine z_up (fun n hn1 ih p e3 => ?_)
    subst e3
    refine z_iload (q := 49) hX dX4_gainOf_47 rfl rfl ?_
    refine z_sipush (q := 52) hX dX4_gainOf_49 (by decide) rfl ?_
    refine z_icmp_ge (q := 55) (t := 75) hX dX4_gainOf_52 (by decide) (by omega) (by omega) rfl (fun h52 => ?_) (fun h52 => ?_)
    · refine zt_rng (G2 := setG G2 0 (G 0)) (cpyG_all G2 0 (G 0) (by show n = 1964; omega)) ?_
      refine z_iload_n (i := 3) (q := 76) hX dX4_gainOf_75 rfl rfl rfl ?_
      refine z_iload (q := 78) hX dX4_gainOf_76 rfl rfl ?_
      refine z_isub (q := 79) hX dX4_gainOf_78 rfl ?_
      exact z_iret hX dX4_gainOf_79 (Nat.le_of_ble_eq_true rfl) (Nat.le_of_ble_eq_true rfl) rfl (fun H hI => ⟨congrArg (fun z => some (zI z)) hc, _, _, ⟨hF2, fun j h1 h2 => by
        by_cases q : j = 0
        · rw [q, setG_same]
        · rw [setG_ne _ _ q]; exact hG2 j h1 h2 q⟩, hI⟩)
    · refine z_aload_n (i := 0) (q := 56) hX dX4_gainOf_55 rfl rfl rfl ?_
      refine zt_getA (q := 59) hX 0 0 dX4_gainOf_56 q1864 (by decide) rfl rfl rfl ?_
      refine z_iload (q := 61) hX dX4_gainOf_59 rfl rfl ?_
      refine z_aload_n (i := 0) (q := 62) hX dX4_gainOf_61 rfl rfl rfl ?_
      refine zt_getA (q := 65) hX 2 2 dX4_gainOf_62 q1866 (by decide) rfl rfl rfl ?_
      refine z_iload (q := 67) hX dX4_gainOf_65 rfl rfl ?_
      refine zt_ald (q := 68) (N := 1964) hX 2 dX4_gainOf_67 rfl (by decide) (by decide) (by omega) rfl ?_
      rw [cpyG_ne G2 (G 0) n (by decide : (2 : Nat) ≠ 0), hG22]
      refine zt_ast (q := 69) (N := 1964) hX 0 dX4_gainOf_68 rfl (by decide) (by decide) (by omega) rfl ?_
      refine z_iinc (q := 72) hX dX4_gainOf_69 rfl (Nat.le_of_ble_eq_true rfl) rfl rfl ?_
      refine z_goto (t := 47) hX dX4_gainOf_72 (by decide) ?_
      rw [cpyG_s G2 0 (G 0) n _ rfl]
      exact ih (by omega) _ (by omega)
  have K1 : ∀ n : Nat, n ≤ 1964 → ∀ p : Int, p = n → zG X 0 0 (twI D A b F (cpyG G 2 (G 0) n)) 2 [some (.ref b), some (zI (lo)), some (zI (hi)), some (zI (p)), none, none] [] := by
    refine z_up (fun n hn1 ih p e3 => ?_)
    subst e3
    have e2 : setG G 2 (G 0) 0 = G 0 := setG_ne _ _ (by decide)
    have hg : zWg (setG G 2 (G 0)) := h.sc e2 (setG_ne _ _ (by decide)) (setG_ne _ _ (by decide)) (setG_ne _ _ (by decide))
    refine z_iload_n (i := 3) (q := 3) hX dX4_gainOf_2 rfl rfl rfl ?_
    refine z_sipush (q := 6) hX dX4_gainOf_3 (by decide) rfl ?_
    refine z_icmp_ge (q := 9) (t := 27) hX dX4_gainOf_6 (by decide) (by omega) (by omega) rfl (fun h6 => ?_) (fun h6 => ?_)
    · refine zt_rng (G2 := setG G 2 (G 0)) (cpyG_all G 2 (G 0) (by show n = 1964; omega)) ?_
      refine z_aload_n (i := 0) (q := 28) hX dX4_gainOf_27 rfl rfl rfl ?_
      refine zt_VE1 (q := 31) (na := 0) hX dX4_gainOf_28 (c_X4_costOfAll D A (by first | assumption | omega)) q2137 q2139 qs71 q103 q2140 rfl (by decide +kernel) ⟨Nat.le_of_ble_eq_true rfl, Nat.le_of_ble_eq_true rfl⟩ rfl rfl (Nat.le_of_ble_eq_true rfl) rfl ⟨rfl, rfl⟩ (Nat.le_of_ble_eq_true rfl) (Nat.le_of_ble_eq_true rfl) rfl (fun F28 G28 hs28 => ?_)
      rw [e2]
      have g0 : G28 0 = G 0 := (hs28.2 0 (by decide)).trans e2
      have hg28 := hs28.wg hg
      refine z_istore_n (i := 3) (q := 32) hX dX4_gainOf_31 rfl (Nat.le_of_ble_eq_true rfl) rfl rfl ?_
      refine z_aload_n (i := 0) (q := 33) hX dX4_gainOf_32 rfl rfl rfl ?_
      refine z_iload_n (i := 1) (q := 34) hX dX4_gainOf_33 rfl rfl rfl ?_
      refine z_iload_n (i := 2) (q := 35) hX dX4_gainOf_34 rfl rfl rfl ?_
      refine zt_V0 (q := 38) (na := 2) hX dX4_gainOf_35 (c_X4_merges D A hg28 (by rw [g0]; exact ha) (by rw [g0]; exact hb) (by rw [g0]; exact hf)) q2214 q2216 qs82 q103 q2217 rfl (by decide +kernel) ⟨Nat.le_of_ble_eq_true rfl, Nat.le_of_ble_eq_true rfl⟩ rfl rfl (Nat.le_of_ble_eq_true rfl) rfl ⟨rfl, rfl⟩ (Nat.le_of_ble_eq_true rfl) (Nat.le_of_ble_eq_true rfl) rfl ?_
      rw [g0]
      have hm := h.mg ha hb hf
      have hg2 : zWg (setG G28 0 (mgM (G 0) lo hi)) := hm.sc (by rw [setG_same, setG_same]) (by rw [setG_ne _ _ (by decide), setG_ne _ _ (by decide)]; exact (hs28.2 4 (by decide)).trans (setG_ne _ _ (by decide))) (by rw [setG_ne _ _ (by decide), setG_ne _ _ (by decide)]; exact (hs28.2 5 (by decide)).trans (setG_ne _ _ (by decide))) (by rw [setG_ne _ _ (by decide), setG_ne _ _ (by decide)]; exact (hs28.2 6 (by decide)).trans (setG_ne _ _ (by decide)))
      refine z_aload_n (i := 0) (q := 39) hX dX4_gainOf_38 rfl rfl rfl ?_
      refine zt_VE1 (q := 42) (na := 0) hX dX4_gainOf_39 (c_X4_costOfAll D A hg2) q2137 q2139 qs71 q103 q2140 rfl (by decide +kernel) ⟨Nat.le_of_ble_eq_true rfl, Nat.le_of_ble_eq_true rfl⟩ rfl rfl (Nat.le_of_ble_eq_true rfl) rfl ⟨rfl, rfl⟩ (Nat.le_of_ble_eq_true rfl) (Nat.le_of_ble_eq_true rfl) rfl (fun F39 G39 hs39 => ?_)
      rw [setG_same]
      refine z_istore (q := 44) hX dX4_gainOf_42 (Nat.le_of_ble_eq_true rfl) rfl rfl ?_
      refine z_iconst (q := 45) hX dX4_gainOf_44 rfl ?_
      refine z_istore (q := 47) hX dX4_gainOf_45 (Nat.le_of_ble_eq_true rfl) rfl rfl ?_
      have e9 := K3 F39 G39 (cosA (G 0)) (cosA (mgM (G 0) lo hi)) (fun j hj => (hs39.1 j hj).trans (hs28.1 j hj)) (fun j h1 h2 h3 => by rw [hs39.2 j h1, setG_ne _ _ h3, hs28.2 j h1, setG_ne _ _ h2]) (by rw [hs39.2 2 (by decide), setG_ne _ _ (by decide), hs28.2 2 (by decide), setG_same]) rfl 0 (Nat.zero_le _) 0 rfl
      rw [cpyG_0] at e9
      exact e9
    · refine z_aload_n (i := 0) (q := 10) hX dX4_gainOf_9 rfl rfl rfl ?_
      refine zt_getA (q := 13) hX 2 2 dX4_gainOf_10 q1866 (by decide) rfl rfl rfl ?_
      refine z_iload_n (i := 3) (q := 14) hX dX4_gainOf_13 rfl rfl rfl ?_
      refine z_aload_n (i := 0) (q := 15) hX dX4_gainOf_14 rfl rfl rfl ?_
      refine zt_getA (q := 18) hX 0 0 dX4_gainOf_15 q1864 (by decide) rfl rfl rfl ?_
      refine z_iload_n (i := 3) (q := 19) hX dX4_gainOf_18 rfl rfl rfl ?_
      refine zt_ald (q := 20) (N := 1964) hX 0 dX4_gainOf_19 rfl (by decide) (by decide) (by omega) rfl ?_
      rw [cpyG_ne G (G 0) n (by decide : (0 : Nat) ≠ 2)]
      refine zt_ast (q := 21) (N := 1964) hX 2 dX4_gainOf_20 rfl (by decide) (by decide) (by omega) rfl ?_
      refine z_iinc (q := 24) hX dX4_gainOf_21 rfl (Nat.le_of_ble_eq_true rfl) rfl rfl ?_
      refine z_goto (t := 2) hX dX4_gainOf_24 (by decide) ?_
      rw [cpyG_s G 2 (G 0) n _ rfl]
      exact ih (by omega) _ (by omega)
  refine z_iconst (q := 1) hX dX4_gainOf_0 rfl ?_
  refine z_istore_n (i := 3) (q := 2) hX dX4_gainOf_1 rfl (Nat.le_of_ble_eq_true rfl) rfl rfl ?_
  have e9 := K1 0 (Nat.zero_le _) 0 rfl
  rw [cpyG_0] at e9
  exact e9
def mrgC (M : Int → Int) (x y : Int) : Int := if isT M x = true ∧ isT M y = true then (if x = y then 2 else if isFm M (fst M (min x y)) (fst M (max x y)) = true then 0 else 3) else 1
def repG (G : zTG) (c0 d0 c1 d1 : Int) : zTG := upG (upG (upG (upG G 7 0 c0) 8 0 d0) 7 1 c1) 8 1 d1
def mrgF (F : zTF) (c : Int) : zTF := if c = 0 then upF (upF F 6 0) 5 (keepC F + 1) else if c = 3 then upF (upF (upF F 6 0) 10 1) 6 3 else upF F 6 c
def mrgG (F : zTF) (G : zTG) (c x y : Int) : zTG := if c = 0 then setG (keepG F G) 0 (mgM (G 0) (min x y) (max x y)) else if c = 3 then repG G 2 (max x y) 12 (min x y) else G
def mrgR (M : Int → Int) (c x y : Int) : Int := if c = 0 then varsI (mgM M (min x y) (max x y)) (min x y) else 0
theorem varsI_rng {G : zTG} {t : Int} (h : zWg G) (ht : isT (G 0) t = true) : 0 ≤ varsI (G 0) t ∧ varsI (G 0) t ≤ 20 := by
  have hf := h.1.fs ht
  have := cnt_rng (fun k => !decide (slt (G 0) t k = -1)) (nTl (G 0) (fst (G 0) t)).toNat
  unfold varsI
  omega
abbrev rmX4_merge : Room := { frames := 5, cells := 0, slots := 0, locals := 122 }
set_option maxHeartbeats 4000000 in
theorem c_X4_merge (D : zD) (A : Nat → Prop) {b : Nat} {F : zTF} {G : zTG} {x y : Int} (h : zWg G) (hx : zR x) (hy : zR y) (hF : 0 ≤ F 5 ∧ F 5 ≤ 10) : zC D yX4_merge cX4_merge 5 (some .int) none rmX4_merge A [.ref b, zI (x), zI (y)] (twI D A b F G) (zPd (zI (mrgR (G 0) (mrgC (G 0) x y) x y)) (twI D A b (mrgF F (mrgC (G 0) x y)) (mrgG F G (mrgC (G 0) x y) x y))) zNo := by
  refine zC_start (L := [some (.ref b), some (zI (x)), some (zI (y)), none, none]) (by decide) (Nat.le_of_ble_eq_true rfl) rfl (fun X hX => ?_)
  have hw := h.1
  have hm := hw.1
  have e5 : upF F 6 0 5 = F 5 := upF_ne _ _ (by decide)
  have ek : keepC (upF F 6 0) = keepC F := by unfold keepC; rw [e5]
  have eg : keepG (upF F 6 0) G = keepG F G := by unfold keepG; rw [ek, e5]
  have e0 : keepG F G 0 = G 0 := keepG_j F G (by decide)
  have J31 : ∀ z : Int, 1 ≤ z ∧ z ≤ 2 → mrgC (G 0) x y = z → zG X 0 0 (twI D A b F G) 31 [some (.ref b), some (zI (x)), some (zI (y)), none, none] [zI (z), .ref b] := by
    intro z hz e
    rw [e, show mrgR (G 0) z x y = 0 from if_neg (by omega), show mrgF F z = upF F 6 z by unfold mrgF; rw [if_neg (by omega), if_neg (by omega)], show mrgG F G z x y = G by unfold mrgG; rw [if_neg (by omega), if_neg (by omega)]] at hX
    refine zt_put (ty := .int) (q := 34) hX 6 dX4_merge_31 q1870 (by decide) rfl rfl rfl (by decide) rfl rfl rfl ?_
    refine z_aload_n (i := 0) (q := 35) hX dX4_merge_34 rfl rfl rfl ?_
    refine zt_getI (q := 38) hX 6 dX4_merge_35 q1870 (by decide) rfl rfl rfl ?_
    rw [upF_same]
    refine z_if_le (q := 41) (t := 43) hX dX4_merge_38 (by decide) (by omega) rfl (fun h38 => ?_) (fun h38 => ?_)
    · exact absurd h38 (by omega)
    · refine z_iconst (q := 42) hX dX4_merge_41 rfl ?_
      exact z_iret hX dX4_merge_42 (Nat.le_of_ble_eq_true rfl) (Nat.le_of_ble_eq_true rfl) rfl (fun H hI => ⟨congrArg (fun z => some (zI z)) (rfl), hI⟩)
  have J43 : isT (G 0) x = true → isT (G 0) y = true → x ≠ y → zG X 0 0 (twI D A b (upF F 6 0) G) 43 [some (.ref b), some (zI (x)), some (zI (y)), none, none] [] := by
    intro q1 q2 q3
    have ec : mrgC (G 0) x y = if isFm (G 0) (fst (G 0) (min x y)) (fst (G 0) (max x y)) = true then 0 else 3 := by unfold mrgC; rw [if_pos ⟨q1, q2⟩, if_neg q3]
    have ra := hw.fs q1
    have rb := hw.fs q2
    have qa : isT (G 0) (min x y) = true := by rcases (show min x y = x ∨ min x y = y by omega) with z | z <;> rw [z] <;> assumption
    have qb : isT (G 0) (max x y) = true := by rcases (show max x y = x ∨ max x y = y by omega) with z | z <;> rw [z] <;> assumption
    have rc := hw.fs qa
    have rd := hw.fs qb
    have l1 := rc.2.2.2.2.2.1
    have l2 := rd.2.2.2.2.2.1
    have u1 : lnO (G 0) (min x y) 0 = fst (G 0) (min x y) := rfl
    have u2 : lnO (G 0) (max x y) 0 = fst (G 0) (max x y) := rfl
    have hk : zWg (keepG F G) := h.sc e0 (keepG_j F G (by decide)) (keepG_j F G (by decide)) (keepG_j F G (by decide))
    refine z_iload_n (i := 1) (q := 44) hX dX4_merge_43 rfl rfl rfl ?_
    refine z_iload_n (i := 2) (q := 45) hX dX4_merge_44 rfl rfl rfl ?_
    refine z_mmin (q := 48) hX dX4_merge_45 (by omega) (by omega) q2212 q445 q112 q446 (Nat.le_of_ble_eq_true rfl) rfl ⟨Nat.le_of_ble_eq_true rfl, Nat.le_of_ble_eq_true rfl⟩ (Nat.le_of_ble_eq_true rfl) (Nat.le_of_ble_eq_true rfl) rfl ?_
    refine z_istore_n (i := 3) (q := 49) hX dX4_merge_48 rfl (Nat.le_of_ble_eq_true rfl) rfl rfl ?_
    refine z_iload_n (i := 1) (q := 50) hX dX4_merge_49 rfl rfl rfl ?_
    refine z_iload_n (i := 2) (q := 51) hX dX4_merge_50 rfl rfl rfl ?_
    refine z_mmax (q := 54) hX dX4_merge_51 (by omega) (by omega) q2213 q398 q112 q399 (Nat.le_of_ble_eq_true rfl) rfl ⟨Nat.le_of_ble_eq_true rfl, Nat.le_of_ble_eq_true rfl⟩ (Nat.le_of_ble_eq_true rfl) (Nat.le_of_ble_eq_true rfl) rfl ?_
    refine z_istore (q := 56) hX dX4_merge_54 (Nat.le_of_ble_eq_true rfl) rfl rfl ?_
    refine z_aload_n (i := 0) (q := 57) hX dX4_merge_56 rfl rfl rfl ?_
    refine z_aload_n (i := 0) (q := 58) hX dX4_merge_57 rfl rfl rfl ?_
    refine z_iload_n (i := 3) (q := 59) hX dX4_merge_58 rfl rfl rfl ?_
    refine z_iconst (q := 60) hX dX4_merge_59 rfl ?_
    refine zt_V1 (q := 63) (na := 2) hX dX4_merge_60 (c_X4_lineOf D A (by first | assumption | omega) (by first | assumption | omega) (by first | assumption | omega)) q1990 q1992 qs45 q103 q1993 rfl (by decide +kernel) ⟨Nat.le_of_ble_eq_true rfl, Nat.le_of_ble_eq_true rfl⟩ rfl rfl (Nat.le_of_ble_eq_true rfl) rfl ⟨rfl, rfl⟩ (Nat.le_of_ble_eq_true rfl) (Nat.le_of_ble_eq_true rfl) rfl ?_
    rw [u1]
    refine z_aload_n (i := 0) (q := 64) hX dX4_merge_63 rfl rfl rfl ?_
    refine z_iload (q := 66) hX dX4_merge_64 rfl rfl ?_
    refine z_iconst (q := 67) hX dX4_merge_66 rfl ?_
    refine zt_V1 (q := 70) (na := 2) hX dX4_merge_67 (c_X4_lineOf D A (by first | assumption | omega) (by first | assumption | omega) (by first | assumption | omega)) q1990 q1992 qs45 q103 q1993 rfl (by decide +kernel) ⟨Nat.le_of_ble_eq_true rfl, Nat.le_of_ble_eq_true rfl⟩ rfl rfl (Nat.le_of_ble_eq_true rfl) rfl ⟨rfl, rfl⟩ (Nat.le_of_ble_eq_true rfl) (Nat.le_of_ble_eq_true rfl) rfl ?_
    rw [u2]
    refine zt_V1 (q := 73) (na := 2) hX dX4_merge_70 (c_X4_isForm D A (by first | assumption | omega) (by first | assumption | omega)) q1998 q2000 qs47 q103 q2001 rfl (by decide +kernel) ⟨Nat.le_of_ble_eq_true rfl, Nat.le_of_ble_eq_true rfl⟩ rfl rfl (Nat.le_of_ble_eq_true rfl) rfl ⟨rfl, rfl⟩ (Nat.le_of_ble_eq_true rfl) (Nat.le_of_ble_eq_true rfl) rfl ?_
    refine z_ifB_ne (q := 76) (t := 93) hX dX4_merge_73 (by decide) rfl (fun h73 => ?_) (fun h73 => ?_)
    · have hmg := hk.mg (lo := min x y) (hi := max x y) (by rw [e0]; exact qa) (by rw [e0]; exact qb) (by rw [e0]; exact h73)
      rw [e0] at hmg
      have ht3 : isT (setG (keepG F G) 0 (mgM (G 0) (min x y) (max x y)) 0) (min x y) = true := by
        rw [setG_same]
        have ho := (zWg_iff.mp h).1
        rw [isT_iff]
        have := mgM_fl (M := G 0) (lo := min x y) (hi := max x y) ho rc.1 rc.2.2.1 rd.2.2.1
        omega
      rw [ec, if_pos h73, show mrgR (G 0) 0 x y = varsI (mgM (G 0) (min x y) (max x y)) (min x y) from rfl, show mrgF F 0 = upF (upF F 6 0) 5 (keepC F + 1) from rfl, show mrgG F G 0 x y = setG (keepG F G) 0 (mgM (G 0) (min x y) (max x y)) from rfl] at hX
      refine z_aload_n (i := 0) (q := 94) hX dX4_merge_93 rfl rfl rfl ?_
      refine zt_V0 (q := 97) (na := 0) hX dX4_merge_94 (c_X4_keep D A (by rw [e5]; exact hF)) q2045 q2047 qs58 q103 q2048 rfl (by decide +kernel) ⟨Nat.le_of_ble_eq_true rfl, Nat.le_of_ble_eq_true rfl⟩ rfl rfl (Nat.le_of_ble_eq_true rfl) rfl ⟨rfl, rfl⟩ (Nat.le_of_ble_eq_true rfl) (Nat.le_of_ble_eq_true rfl) rfl ?_
      rw [ek, eg]
      refine z_aload_n (i := 0) (q := 98) hX dX4_merge_97 rfl rfl rfl ?_
      refine z_iload_n (i := 3) (q := 99) hX dX4_merge_98 rfl rfl rfl ?_
      refine z_iload (q := 101) hX dX4_merge_99 rfl rfl ?_
      refine zt_V0 (q := 104) (na := 2) hX dX4_merge_101 (c_X4_merges D A hk (by rw [e0]; exact qa) (by rw [e0]; exact qb) (by rw [e0]; exact h73)) q2214 q2216 qs82 q103 q2217 rfl (by decide +kernel) ⟨Nat.le_of_ble_eq_true rfl, Nat.le_of_ble_eq_true rfl⟩ rfl rfl (Nat.le_of_ble_eq_true rfl) rfl ⟨rfl, rfl⟩ (Nat.le_of_ble_eq_true rfl) (Nat.le_of_ble_eq_true rfl) rfl ?_
      rw [e0]
      refine z_aload_n (i := 0) (q := 105) hX dX4_merge_104 rfl rfl rfl ?_
      refine z_iload_n (i := 3) (q := 106) hX dX4_merge_105 rfl rfl rfl ?_
      refine zt_V1 (q := 109) (na := 1) hX dX4_merge_106 (c_X4_variables D A hmg.1 ht3) q2089 q2091 qs63 q103 q2092 rfl (by decide +kernel) ⟨Nat.le_of_ble_eq_true rfl, Nat.le_of_ble_eq_true rfl⟩ rfl rfl (Nat.le_of_ble_eq_true rfl) rfl ⟨rfl, rfl⟩ (Nat.le_of_ble_eq_true rfl) (Nat.le_of_ble_eq_true rfl) rfl ?_
      rw [setG_same]
      exact z_iret hX dX4_merge_109 (Nat.le_of_ble_eq_true rfl) (Nat.le_of_ble_eq_true rfl) rfl (fun H hI => ⟨congrArg (fun z => some (zI z)) (rfl), hI⟩)
    · rw [ec, if_neg (by rw [h73]; decide), show mrgR (G 0) 3 x y = 0 from if_neg (by decide), show mrgF F 3 = upF (upF (upF F 6 0) 10 1) 6 3 from rfl, show mrgG F G 3 x y = repG G 2 (max x y) 12 (min x y) from rfl] at hX
      refine z_aload_n (i := 0) (q := 77) hX dX4_merge_76 rfl rfl rfl ?_
      refine z_iconst (q := 78) hX dX4_merge_77 rfl ?_
      refine z_iload (q := 80) hX dX4_merge_78 rfl rfl ?_
      refine z_bipush (q := 82) hX dX4_merge_80 (by decide) rfl ?_
      refine z_iload_n (i := 3) (q := 83) hX dX4_merge_82 rfl rfl rfl ?_
      refine zt_V1 (q := 86) (na := 4) hX dX4_merge_83 (c_X4_reports D A) q2041 q2043 qs57 q103 q2044 rfl (by decide +kernel) ⟨Nat.le_of_ble_eq_true rfl, Nat.le_of_ble_eq_true rfl⟩ rfl rfl (Nat.le_of_ble_eq_true rfl) rfl ⟨rfl, rfl⟩ (Nat.le_of_ble_eq_true rfl) (Nat.le_of_ble_eq_true rfl) rfl ?_
      refine z_pop (q := 87) hX dX4_merge_86 rfl rfl ?_
      refine z_aload_n (i := 0) (q := 88) hX dX4_merge_87 rfl rfl rfl ?_
      refine z_iconst (q := 89) hX dX4_merge_88 rfl ?_
      refine zt_V1 (q := 92) (na := 1) hX dX4_merge_89 (c_X4_refuse D A) q1962 q1964 qs39 q103 q1965 rfl (by decide +kernel) ⟨Nat.le_of_ble_eq_true rfl, Nat.le_of_ble_eq_true rfl⟩ rfl rfl (Nat.le_of_ble_eq_true rfl) rfl ⟨rfl, rfl⟩ (Nat.le_of_ble_eq_true rfl) (Nat.le_of_ble_eq_true rfl) rfl ?_
      exact z_iret hX dX4_merge_92 (Nat.le_of_ble_eq_true rfl) (Nat.le_of_ble_eq_true rfl) rfl (fun H hI => ⟨congrArg (fun z => some (zI z)) (rfl), hI⟩)
  refine z_aload_n (i := 0) (q := 1) hX dX4_merge_0 rfl rfl rfl ?_
  refine z_aload_n (i := 0) (q := 2) hX dX4_merge_1 rfl rfl rfl ?_
  refine z_iload_n (i := 1) (q := 3) hX dX4_merge_2 rfl rfl rfl ?_
  refine zt_V1 (q := 6) (na := 1) hX dX4_merge_3 (c_X4_isTemplate D A (by first | assumption | omega) (by first | assumption | omega)) q1986 q1988 qs44 q103 q1989 rfl (by decide +kernel) ⟨Nat.le_of_ble_eq_true rfl, Nat.le_of_ble_eq_true rfl⟩ rfl rfl (Nat.le_of_ble_eq_true rfl) rfl ⟨rfl, rfl⟩ (Nat.le_of_ble_eq_true rfl) (Nat.le_of_ble_eq_true rfl) rfl ?_
  refine z_ifB_eq (q := 9) (t := 17) hX dX4_merge_6 (by decide) rfl (fun h6 => ?_) (fun h6 => ?_)
  · refine z_iconst (q := 18) hX dX4_merge_17 rfl ?_
    refine z_goto (t := 31) hX dX4_merge_18 (by decide) ?_
    exact J31 1 (by omega) (by unfold mrgC; rw [if_neg (fun q => by rw [q.1] at h6; cases h6)])
  · refine z_aload_n (i := 0) (q := 10) hX dX4_merge_9 rfl rfl rfl ?_
    refine z_iload_n (i := 2) (q := 11) hX dX4_merge_10 rfl rfl rfl ?_
    refine zt_V1 (q := 14) (na := 1) hX dX4_merge_11 (c_X4_isTemplate D A (by first | assumption | omega) (by first | assumption | omega)) q1986 q1988 qs44 q103 q1989 rfl (by decide +kernel) ⟨Nat.le_of_ble_eq_true rfl, Nat.le_of_ble_eq_true rfl⟩ rfl rfl (Nat.le_of_ble_eq_true rfl) rfl ⟨rfl, rfl⟩ (Nat.le_of_ble_eq_true rfl) (Nat.le_of_ble_eq_true rfl) rfl ?_
    refine z_ifB_ne (q := 17) (t := 21) hX dX4_merge_14 (by decide) rfl (fun h14 => ?_) (fun h14 => ?_)
    · refine z_iload_n (i := 1) (q := 22) hX dX4_merge_21 rfl rfl rfl ?_
      refine z_iload_n (i := 2) (q := 23) hX dX4_merge_22 rfl rfl rfl ?_
      refine z_icmp_ne (q := 26) (t := 30) hX dX4_merge_23 (by decide) (by omega) (by omega) rfl (fun h23 => ?_) (fun h23 => ?_)
      · refine z_iconst (q := 31) hX dX4_merge_30 rfl ?_
        refine zt_put (ty := .int) (q := 34) hX 6 dX4_merge_31 q1870 (by decide) rfl rfl rfl (by decide) rfl rfl rfl ?_
        refine z_aload_n (i := 0) (q := 35) hX dX4_merge_34 rfl rfl rfl ?_
        refine zt_getI (q := 38) hX 6 dX4_merge_35 q1870 (by decide) rfl rfl rfl ?_
        rw [upF_same]
        refine z_if_le (q := 41) (t := 43) hX dX4_merge_38 (by decide) (by omega) rfl (fun h38 => ?_) (fun h38 => ?_)
        · exact J43 h6 h14 h23
        · exact absurd h38 (by decide)
      · refine z_iconst (q := 27) hX dX4_merge_26 rfl ?_
        refine z_goto (t := 31) hX dX4_merge_27 (by decide) ?_
        exact J31 2 (by omega) (by unfold mrgC; rw [if_pos ⟨h6, h14⟩, if_pos (by omega)])
    · refine z_iconst (q := 18) hX dX4_merge_17 rfl ?_
      refine z_goto (t := 31) hX dX4_merge_18 (by decide) ?_
      exact J31 1 (by omega) (by unfold mrgC; rw [if_neg (fun q => by rw [q.2] at h14; cases h14)])
def gainC (M : Int → Int) (x y : Int) : Int := if isT M x = true ∧ isT M y = true then (if x = y then 2 else if isFm M (fst M x) (fst M y) = true then 0 else 3) else 1
def opGain (M : Int → Int) (x y : Int) : Int × Int := (gainC M x y, if gainC M x y = 0 then gainM M (min x y) (max x y) else 0)
theorem isFm_comm {M : Int → Int} {a c : Int} : isFm M a c = isFm M c a := by
  unfold isFm
  exact decide_eq_decide.mpr eq_comm
abbrev rmX4_gain : Room := { frames := 9, cells := 0, slots := 0, locals := 213 }
set_option maxHeartbeats 4000000 in
theorem c_X4_gain (D : zD) (A : Nat → Prop) {b : Nat} {F : zTF} {G : zTG} {x y : Int} (h : zWg G) (hx : zR x) (hy : zR y) : zC D yX4_gain cX4_gain 3 (some .int) none rmX4_gain A [.ref b, zI (x), zI (y)] (twI D A b F G) (zPd (zI ((opGain (G 0) x y).2)) (twE D A b (zSA (upF F 6 (opGain (G 0) x y).1) G))) zNo := by
  refine zC_start (L := [some (.ref b), some (zI (x)), some (zI (y))]) (by decide) (Nat.le_of_ble_eq_true rfl) rfl (fun X hX => ?_)
  have hw := h.1
  have hm := hw.1
  have J54 : ∀ z : Int, 1 ≤ z ∧ z ≤ 3 → gainC (G 0) x y = z → zG X 0 0 (twI D A b F G) 54 [some (.ref b), some (zI (x)), some (zI (y))] [zI (z), .ref b] := by
    intro z hz e
    rw [show opGain (G 0) x y = (z, 0) by unfold opGain; rw [e, if_neg (by omega)]] at hX
    refine zt_put (ty := .int) (q := 57) hX 6 dX4_gain_54 q1870 (by decide) rfl rfl rfl (by decide) rfl rfl rfl ?_
    refine z_aload_n (i := 0) (q := 58) hX dX4_gain_57 rfl rfl rfl ?_
    refine zt_getI (q := 61) hX 6 dX4_gain_58 q1870 (by decide) rfl rfl rfl ?_
    rw [upF_same]
    refine z_if_le (q := 64) (t := 68) hX dX4_gain_61 (by decide) (by omega) rfl (fun h61 => ?_) (fun h61 => ?_)
    · exact absurd h61 (by omega)
    · refine z_iconst (q := 65) hX dX4_gain_64 rfl ?_
      refine z_goto (t := 82) hX dX4_gain_65 (by decide) ?_
      exact z_iret hX dX4_gain_82 (Nat.le_of_ble_eq_true rfl) (Nat.le_of_ble_eq_true rfl) rfl (fun H hI => ⟨rfl, _, _, zSA.rf _ _, hI⟩)
  have J30 : isT (G 0) x = true → isT (G 0) y = true → x ≠ y → zG X 0 0 (twI D A b F G) 30 [some (.ref b), some (zI (x)), some (zI (y))] [.ref b] := by
    intro q1 q2 q3
    have ec : gainC (G 0) x y = if isFm (G 0) (fst (G 0) x) (fst (G 0) y) = true then 0 else 3 := by unfold gainC; rw [if_pos ⟨q1, q2⟩, if_neg q3]
    have ra := hw.fs q1
    have rb := hw.fs q2
    have qa : isT (G 0) (min x y) = true := by rcases (show min x y = x ∨ min x y = y by omega) with z | z <;> rw [z] <;> assumption
    have qb : isT (G 0) (max x y) = true := by rcases (show max x y = x ∨ max x y = y by omega) with z | z <;> rw [z] <;> assumption
    have l1 := ra.2.2.2.2.2.1
    have l2 := rb.2.2.2.2.2.1
    have u1 : lnO (G 0) x 0 = fst (G 0) x := rfl
    have u2 : lnO (G 0) y 0 = fst (G 0) y := rfl
    refine z_aload_n (i := 0) (q := 31) hX dX4_gain_30 rfl rfl rfl ?_
    refine z_aload_n (i := 0) (q := 32) hX dX4_gain_31 rfl rfl rfl ?_
    refine z_iload_n (i := 1) (q := 33) hX dX4_gain_32 rfl rfl rfl ?_
    refine z_iconst (q := 34) hX dX4_gain_33 rfl ?_
    refine zt_V1 (q := 37) (na := 2) hX dX4_gain_34 (c_X4_lineOf D A (by first | assumption | omega) (by first | assumption | omega) (by first | assumption | omega)) q1990 q1992 qs45 q103 q1993 rfl (by decide +kernel) ⟨Nat.le_of_ble_eq_true rfl, Nat.le_of_ble_eq_true rfl⟩ rfl rfl (Nat.le_of_ble_eq_true rfl) rfl ⟨rfl, rfl⟩ (Nat.le_of_ble_eq_true rfl) (Nat.le_of_ble_eq_true rfl) rfl ?_
    rw [u1]
    refine z_aload_n (i := 0) (q := 38) hX dX4_gain_37 rfl rfl rfl ?_
    refine z_iload_n (i := 2) (q := 39) hX dX4_gain_38 rfl rfl rfl ?_
    refine z_iconst (q := 40) hX dX4_gain_39 rfl ?_
    refine zt_V1 (q := 43) (na := 2) hX dX4_gain_40 (c_X4_lineOf D A (by first | assumption | omega) (by first | assumption | omega) (by first | assumption | omega)) q1990 q1992 qs45 q103 q1993 rfl (by decide +kernel) ⟨Nat.le_of_ble_eq_true rfl, Nat.le_of_ble_eq_true rfl⟩ rfl rfl (Nat.le_of_ble_eq_true rfl) rfl ⟨rfl, rfl⟩ (Nat.le_of_ble_eq_true rfl) (Nat.le_of_ble_eq_true rfl) rfl ?_
    rw [u2]
    refine zt_V1 (q := 46) (na := 2) hX dX4_gain_43 (c_X4_isForm D A (by first | assumption | omega) (by first | assumption | omega)) q1998 q2000 qs47 q103 q2001 rfl (by decide +kernel) ⟨Nat.le_of_ble_eq_true rfl, Nat.le_of_ble_eq_true rfl⟩ rfl rfl (Nat.le_of_ble_eq_true rfl) rfl ⟨rfl, rfl⟩ (Nat.le_of_ble_eq_true rfl) (Nat.le_of_ble_eq_true rfl) rfl ?_
    refine z_ifB_ne (q := 49) (t := 53) hX dX4_gain_46 (by decide) rfl (fun h46 => ?_) (fun h46 => ?_)
    · refine z_iconst (q := 54) hX dX4_gain_53 rfl ?_
      have qf : isFm (G 0) (fst (G 0) (min x y)) (fst (G 0) (max x y)) = true := by
        rcases (show (min x y = x ∧ max x y = y) ∨ (min x y = y ∧ max x y = x) by omega) with ⟨z1, z2⟩ | ⟨z1, z2⟩
        · rw [z1, z2]; exact h46
        · rw [z1, z2, isFm_comm]; exact h46
      have ec2 : gainC (G 0) x y = 0 := by rw [ec, if_pos h46]
      rw [show opGain (G 0) x y = (0, gainM (G 0) (min x y) (max x y)) by unfold opGain; rw [ec2, if_pos rfl]] at hX
      refine zt_put (ty := .int) (q := 57) hX 6 dX4_gain_54 q1870 (by decide) rfl rfl rfl (by decide) rfl rfl rfl ?_
      refine z_aload_n (i := 0) (q := 58) hX dX4_gain_57 rfl rfl rfl ?_
      refine zt_getI (q := 61) hX 6 dX4_gain_58 q1870 (by decide) rfl rfl rfl ?_
      rw [upF_same]
      refine z_if_le (q := 64) (t := 68) hX dX4_gain_61 (by decide) (by omega) rfl (fun h61 => ?_) (fun h61 => ?_)
      · refine z_aload_n (i := 0) (q := 69) hX dX4_gain_68 rfl rfl rfl ?_
        refine z_iload_n (i := 1) (q := 70) hX dX4_gain_69 rfl rfl rfl ?_
        refine z_iload_n (i := 2) (q := 71) hX dX4_gain_70 rfl rfl rfl ?_
        refine z_mmin (q := 74) hX dX4_gain_71 (by omega) (by omega) q2212 q445 q112 q446 (Nat.le_of_ble_eq_true rfl) rfl ⟨Nat.le_of_ble_eq_true rfl, Nat.le_of_ble_eq_true rfl⟩ (Nat.le_of_ble_eq_true rfl) (Nat.le_of_ble_eq_true rfl) rfl ?_
        refine z_iload_n (i := 1) (q := 75) hX dX4_gain_74 rfl rfl rfl ?_
        refine z_iload_n (i := 2) (q := 76) hX dX4_gain_75 rfl rfl rfl ?_
        refine z_mmax (q := 79) hX dX4_gain_76 (by omega) (by omega) q2213 q398 q112 q399 (Nat.le_of_ble_eq_true rfl) rfl ⟨Nat.le_of_ble_eq_true rfl, Nat.le_of_ble_eq_true rfl⟩ (Nat.le_of_ble_eq_true rfl) (Nat.le_of_ble_eq_true rfl) rfl ?_
        refine zt_VE1 (q := 82) (na := 2) hX dX4_gain_79 (c_X4_gainOf D A (by first | assumption | omega) (by first | assumption | omega) (by first | assumption | omega) (by first | assumption | omega)) q2230 q2232 qs84 q103 q2233 rfl (by decide +kernel) ⟨Nat.le_of_ble_eq_true rfl, Nat.le_of_ble_eq_true rfl⟩ rfl rfl (Nat.le_of_ble_eq_true rfl) rfl ⟨rfl, rfl⟩ (Nat.le_of_ble_eq_true rfl) (Nat.le_of_ble_eq_true rfl) rfl (fun F79 G79 hs79 => ?_)
        exact z_iret hX dX4_gain_82 (Nat.le_of_ble_eq_true rfl) (Nat.le_of_ble_eq_true rfl) rfl (fun H hI => ⟨rfl, _, _, hs79, hI⟩)
      · exact absurd h61 (by decide)
    · refine z_iconst (q := 50) hX dX4_gain_49 rfl ?_
      refine z_goto (t := 54) hX dX4_gain_50 (by decide) ?_
      exact J54 3 (by omega) (by rw [ec, if_neg (by rw [h46]; decide)])
  refine z_aload_n (i := 0) (q := 1) hX dX4_gain_0 rfl rfl rfl ?_
  refine z_aload_n (i := 0) (q := 2) hX dX4_gain_1 rfl rfl rfl ?_
  refine z_iload_n (i := 1) (q := 3) hX dX4_gain_2 rfl rfl rfl ?_
  refine zt_V1 (q := 6) (na := 1) hX dX4_gain_3 (c_X4_isTemplate D A (by first | assumption | omega) (by first | assumption | omega)) q1986 q1988 qs44 q103 q1989 rfl (by decide +kernel) ⟨Nat.le_of_ble_eq_true rfl, Nat.le_of_ble_eq_true rfl⟩ rfl rfl (Nat.le_of_ble_eq_true rfl) rfl ⟨rfl, rfl⟩ (Nat.le_of_ble_eq_true rfl) (Nat.le_of_ble_eq_true rfl) rfl ?_
  refine z_ifB_eq (q := 9) (t := 17) hX dX4_gain_6 (by decide) rfl (fun h6 => ?_) (fun h6 => ?_)
  · refine z_iconst (q := 18) hX dX4_gain_17 rfl ?_
    refine z_goto (t := 54) hX dX4_gain_18 (by decide) ?_
    exact J54 1 (by omega) (by unfold gainC; rw [if_neg (fun q => by rw [q.1] at h6; cases h6)])
  · refine z_aload_n (i := 0) (q := 10) hX dX4_gain_9 rfl rfl rfl ?_
    refine z_iload_n (i := 2) (q := 11) hX dX4_gain_10 rfl rfl rfl ?_
    refine zt_V1 (q := 14) (na := 1) hX dX4_gain_11 (c_X4_isTemplate D A (by first | assumption | omega) (by first | assumption | omega)) q1986 q1988 qs44 q103 q1989 rfl (by decide +kernel) ⟨Nat.le_of_ble_eq_true rfl, Nat.le_of_ble_eq_true rfl⟩ rfl rfl (Nat.le_of_ble_eq_true rfl) rfl ⟨rfl, rfl⟩ (Nat.le_of_ble_eq_true rfl) (Nat.le_of_ble_eq_true rfl) rfl ?_
    refine z_ifB_ne (q := 17) (t := 21) hX dX4_gain_14 (by decide) rfl (fun h14 => ?_) (fun h14 => ?_)
    · refine z_iload_n (i := 1) (q := 22) hX dX4_gain_21 rfl rfl rfl ?_
      refine z_iload_n (i := 2) (q := 23) hX dX4_gain_22 rfl rfl rfl ?_
      refine z_icmp_ne (q := 26) (t := 30) hX dX4_gain_23 (by decide) (by omega) (by omega) rfl (fun h23 => ?_) (fun h23 => ?_)
      · exact J30 h6 h14 h23
      · refine z_iconst (q := 27) hX dX4_gain_26 rfl ?_
        refine z_goto (t := 54) hX dX4_gain_27 (by decide) ?_
        exact J54 2 (by omega) (by unfold gainC; rw [if_pos ⟨h6, h14⟩, if_pos (by omega)])
    · refine z_iconst (q := 18) hX dX4_gain_17 rfl ?_
      refine z_goto (t := 54) hX dX4_gain_18 (by decide) ?_
      exact J54 1 (by omega) (by unfold gainC; rw [if_neg (fun q => by rw [q.2] at h14; cases h14)])
