/-! THE CLASS: Log: canTake, best, free -/
set_option maxRecDepth 100000
theorem isMt_eq {M : Int → Int} {t l : Int} : (decide (gapsL (tx M (fst M t)) = gapsL (tx M l)) && allI (fun k => mtI (slt M t k) (tkl M (fst M t) k) (tok (tx M l) k)) (nTl M (fst M t)).toNat) = isMt M t l := by
  unfold isMt isFm
  cases q : decide (gapsL (tx M (fst M t)) = gapsL (tx M l)) with
  | false => rfl
  | true =>
    have h1 := (gapsL_eq.mp (of_decide_eq_true q)).1
    have h2 : nTl M (fst M t) = nTl M l := h1
    rw [h2]
    rfl
theorem fit_eq {M : Int → Int} {t l : Int} (h : isFm M (fst M t) l = true) : sumI (fun k => bi (decide (slt M t k = -1) && decide (tkl M (fst M t) k = tok (tx M l) k))) (nTl M (fst M t)).toNat = fitI M t l := by
  unfold fitI
  rw [isFm_n h]
  rfl
theorem fitI_rg (M : Int → Int) (t l : Int) : 0 ≤ fitI M t l ∧ fitI M t l ≤ (nTl M l).toNat := by
  have := sumI_range (f := fun k => bi (decide (slt M t k = -1) && decide (tkl M (fst M t) k = tkl M l k))) (n := (nTl M l).toNat) (lo := 0) (hi := 1) (fun i hi => by unfold bi; split <;> omega)
  unfold fitI
  omega
/-- can template t take line l? -/
def ctP (M : Int → Int) (l : Int) (wid : Bool) (t : Int) : Bool := if wid then (isFm M (fst M t) l && decide (M 1 * nTl M l ≤ 100 * fitI M t l)) else isMt M t l
theorem ctP_fm {M : Int → Int} {l t : Int} {wid : Bool} (h : ctP M l wid t = true) : isFm M (fst M t) l = true := by
  unfold ctP at h
  cases wid with
  | true => exact ((Bool.and_eq_true _ _).mp h).1
  | false =>
    have h : isMt M t l = true := h
    unfold isMt at h
    exact ((Bool.and_eq_true _ _).mp h).1
def takP (M : Int → Int) (l : Int) (wid : Bool) : Int → Bool := if wid then nrP M l else mtP M l
theorem takP_eq {M : Int → Int} {l t : Int} {wid : Bool} : takP M l wid t = (isT M t && ctP M l wid t) := by
  unfold takP ctP
  cases wid <;> rfl
abbrev rmX2_canTake_n : Room := { frames := 0, cells := 0, slots := 0, locals := 0 }
set_option maxHeartbeats 4000000 in
theorem c_X2_canTake_n (D : zD) (A : Nat → Prop) {w m : zMp} {b : Nat} {y : Nat} {wid : Bool} : zC D yX2_canTake cX2_canTake 4 (some .boolean) none rmX2_canTake_n A [.ref b, .null, .ref y, zI (bi (wid))] (cI D A w m) (zPd (zI 0) (cI D A w m)) (zNo) := by
  refine zC_start (L := [some (.ref b), some (.null), some (.ref y), some (zI (bi (wid)))]) (by decide) (Nat.le_of_ble_eq_true rfl) rfl (fun X hX => ?_)
  refine z_aload_nN (i := 1) (q := 1) hX dX2_canTake_0 rfl rfl rfl ?_
  refine z_ifnonnullN (q := 4) hX dX2_canTake_1 rfl ?_
  refine z_iconst (q := 5) hX dX2_canTake_4 rfl ?_
  exact z_zret hX dX2_canTake_5 (by first | exact Nat.le_of_ble_eq_true rfl | (show (_ : Nat) ≤ 0; omega)) (by first | exact Nat.le_of_ble_eq_true rfl | (show (_ : Nat) ≤ 0; omega)) rfl (by first | decide | omega) (fun H h => ⟨rfl, h⟩)
abbrev rmX2_canTake_x : Room := { frames := 5, cells := 0, slots := 0, locals := 111 }
set_option maxHeartbeats 4000000 in
theorem c_X2_canTake_x (D : zD) (A : Nat → Prop) {w m : zMp} {b : Nat} {M : Int → Int} {ll ta col x y : Nat} {t l : Int} {wid : Bool} (hb : wLog D w m b M ll ta col) (hx : wTm w x M t) (hy : wLine w y (tx M l)) : zC D yX2_canTake cX2_canTake 4 (some .boolean) none rmX2_canTake_x A [.ref b, .ref x, .ref y, zI (bi (wid))] (cI D A w m) (zPd (zI (bi (ctP M l wid t))) (cI D A w m)) (zNo) := by
  refine zC_start (L := [some (.ref b), some (.ref x), some (.ref y), some (zI (bi (wid)))]) (by decide) (Nat.le_of_ble_eq_true rfl) rfl (fun X hX => ?_)
  obtain ⟨hok, h1, -⟩ := hb
  have hM := hok.1
  have hx0 := hx
  have hy0 := hy
  obtain ⟨⟨k1, k2, k3⟩, gl, sl, rl, mc4, mc2, mc3, gs, ss, rs, y1, y2, y3, y4, y5, y6, y7⟩ := hx
  obtain ⟨hs, t9, tl, gl9, mc9, mc8, ts, gs9, z1, z2, z3, z4, z5, z6⟩ := hy
  have n1 := gapsL_len (tx M l)
  have n2 := nT_range (tx M l)
  have n3 := hs.2.1
  have n4 := z4.1
  have n5 : nTl M l = nT (tx M l) := rfl
  have hfr := fitI_rg M t l
  cases wid with
  | false =>
    refine z_aload_n (i := 1) (q := 1) hX dX2_canTake_0 rfl rfl rfl ?_
    refine z_ifnonnull (t := 6) hX dX2_canTake_1 (by decide) ?_
    refine z_iload_n (i := 3) (q := 7) hX dX2_canTake_6 rfl rfl rfl ?_
    refine z_ifB_ne (q := 10) (t := 16) hX dX2_canTake_7 (by decide) rfl (fun h7 => ?_) (fun h7 => ?_)
    · cases h7
    · refine z_aload_n (i := 1) (q := 11) hX dX2_canTake_10 rfl rfl rfl ?_
      refine z_aload_n (i := 2) (q := 12) hX dX2_canTake_11 rfl rfl rfl ?_
      refine z_V (ci := ciX7) (T := TX7) (N := 3) (na := 1) hX dX2_canTake_12 (c_X7_matches D A hx0 hy0) rfl q1425 q1426 q1427 q127 q1428 (by decide +kernel) ⟨Nat.le_of_ble_eq_true rfl, Nat.le_of_ble_eq_true rfl⟩ rfl rfl (Nat.le_of_ble_eq_true rfl) rfl (by first | exact Nat.le_of_ble_eq_true rfl | (show _ + 0 ≤ 0; omega)) (by first | exact Nat.le_of_ble_eq_true rfl | (show _ + 0 ≤ 0; omega)) (fun H h => ⟨h, h.obE (Or.inl y1) rfl⟩) (fun E a => zT.no) (zPd.out ?_)
      show zG X (_ + 0) (_ + 0) _ 15 _ _
      exact z_zretB hX dX2_canTake_15 (by first | exact Nat.le_of_ble_eq_true rfl | (show (_ : Nat) ≤ 0; omega)) (by first | exact Nat.le_of_ble_eq_true rfl | (show (_ : Nat) ≤ 0; omega)) rfl (fun H h => ⟨congrArg (fun z => some (zI z)) (by rw [isMt_eq]; rfl), h⟩)
  | true =>
    have e9 : ctP M l true t = (isFm M (fst M t) l && decide (M 1 * nTl M l ≤ 100 * fitI M t l)) := rfl
    have e8 : decide (gapsL (tx M (fst M t)) = gapsL (tx M l)) = isFm M (fst M t) l := rfl
    have mulb : 0 ≤ M 1 * nTl M l ∧ M 1 * nTl M l ≤ 100 * 20 := ⟨Int.mul_nonneg (by omega) (by omega), Int.mul_le_mul (by omega) (by omega) (by omega) (by omega)⟩
    refine z_aload_n (i := 1) (q := 1) hX dX2_canTake_0 rfl rfl rfl ?_
    refine z_ifnonnull (t := 6) hX dX2_canTake_1 (by decide) ?_
    refine z_iload_n (i := 3) (q := 7) hX dX2_canTake_6 rfl rfl rfl ?_
    refine z_ifB_ne (q := 10) (t := 16) hX dX2_canTake_7 (by decide) rfl (fun h7 => ?_) (fun h7 => ?_)
    · refine z_aload_n (i := 1) (q := 17) hX dX2_canTake_16 rfl rfl rfl ?_
      refine z_aload_n (i := 2) (q := 18) hX dX2_canTake_17 rfl rfl rfl ?_
      refine zr_getN (C := RX5) (T := TX5) (N := 3) (q := 21) hX ciX5 2 rfl (by decide) in_X5 dX2_canTake_18 (zNF_at 23 rfl) (fun H h => cI.rd h (by first | assumption | exact Or.inl (by assumption) | exact Or.inr (by first | assumption | exact upm_same _ _ _ | exact (upm_ne _ _ (by first | assumption | exact Ne.symm (by assumption) | omega | exact ne_mp (m := m) (by assumption) (by assumption) | exact Ne.symm (ne_mp (m := m) (by assumption) (by assumption)) | exact ne_mp (m := w) (by assumption) (by assumption) | exact Ne.symm (ne_mp (m := w) (by assumption) (by assumption)))).trans (by first | assumption | exact upm_same _ _ _ | exact (upm_ne _ _ (by first | assumption | exact Ne.symm (by assumption) | omega | exact ne_mp (m := m) (by assumption) (by assumption) | exact Ne.symm (ne_mp (m := m) (by assumption) (by assumption)) | exact ne_mp (m := w) (by assumption) (by assumption) | exact Ne.symm (ne_mp (m := w) (by assumption) (by assumption)))).trans (by first | assumption | exact upm_same _ _ _ | exact (upm_ne _ _ (by first | assumption | exact Ne.symm (by assumption) | omega | exact ne_mp (m := m) (by assumption) (by assumption) | exact Ne.symm (ne_mp (m := m) (by assumption) (by assumption)) | exact ne_mp (m := w) (by assumption) (by assumption) | exact Ne.symm (ne_mp (m := w) (by assumption) (by assumption)))).trans (by first | assumption | exact upm_same _ _ _))))) rfl (by decide) rfl) rfl ?_
      refine z_V (ci := ciX7) (T := TX7) (N := 3) (na := 1) hX dX2_canTake_21 (c_X7_isForm D A hx0 z5 z6 (by omega)) rfl q462 q463 q464 q127 q465 (by decide +kernel) ⟨Nat.le_of_ble_eq_true rfl, Nat.le_of_ble_eq_true rfl⟩ rfl rfl (Nat.le_of_ble_eq_true rfl) rfl (by first | exact Nat.le_of_ble_eq_true rfl | (show _ + 0 ≤ 0; omega)) (by first | exact Nat.le_of_ble_eq_true rfl | (show _ + 0 ≤ 0; omega)) (fun H h => ⟨h, h.obE (Or.inl y1) rfl⟩) (fun E a => zT.no) (zPd.out ?_)
      show zG X (_ + 0) (_ + 0) _ 24 _ _
      refine z_ifB_eq (q := 27) (t := 54) hX dX2_canTake_24 (by decide) rfl (fun h24 => ?_) (fun h24 => ?_)
      · refine z_iconst (q := 55) hX dX2_canTake_54 rfl ?_
        exact z_zret hX dX2_canTake_55 (by first | exact Nat.le_of_ble_eq_true rfl | (show (_ : Nat) ≤ 0; omega)) (by first | exact Nat.le_of_ble_eq_true rfl | (show (_ : Nat) ≤ 0; omega)) rfl (by first | decide | omega) (fun H h => ⟨congrArg (fun z => some (zI z)) ((by rw [e8] at h24; rw [e9, h24]; rfl)), h⟩)
      · rw [e8] at h24
        have hnn := isFm_n h24
        refine z_bipush (q := 29) hX dX2_canTake_27 (by decide) rfl ?_
        refine z_aload_n (i := 1) (q := 30) hX dX2_canTake_29 rfl rfl rfl ?_
        refine z_aload_n (i := 2) (q := 31) hX dX2_canTake_30 rfl rfl rfl ?_
        refine z_V (ci := ciX7) (T := TX7) (N := 3) (na := 1) hX dX2_canTake_31 (c_X7_fit D A hx0 hy0 (by omega)) rfl q1435 q1436 q1437 q127 q1438 (by decide +kernel) ⟨Nat.le_of_ble_eq_true rfl, Nat.le_of_ble_eq_true rfl⟩ rfl rfl (Nat.le_of_ble_eq_true rfl) rfl (by first | exact Nat.le_of_ble_eq_true rfl | (show _ + 0 ≤ 0; omega)) (by first | exact Nat.le_of_ble_eq_true rfl | (show _ + 0 ≤ 0; omega)) (fun H h => ⟨h, h.obE (Or.inl y1) rfl⟩) (fun E a => zT.no) (zPd.out ?_)
        show zG X (_ + 0) (_ + 0) _ 34 _ _
        rw [fit_eq h24]
        refine z_imul (q := 35) hX dX2_canTake_34 rfl ?_
        refine z_aload_n (i := 0) (q := 36) hX dX2_canTake_35 rfl rfl rfl ?_
        refine zr_get (C := RX2) (T := TX2) (N := 4) (q := 39) hX ciX2 2 rfl (by decide) in_X2 dX2_canTake_36 q210 (Or.inl rfl) (fun H h => cI.rd h h1 rfl (by decide) rfl) rfl ?_
        refine z_aload_n (i := 2) (q := 40) hX dX2_canTake_39 rfl rfl rfl ?_
        refine zr_getN (C := RX5) (T := TX5) (N := 3) (q := 43) hX ciX5 1 rfl (by decide) in_X5 dX2_canTake_40 (zNF_at 24 rfl) (fun H h => cI.rd h (by first | assumption | exact Or.inl (by assumption) | exact Or.inr (by first | assumption | exact upm_same _ _ _ | exact (upm_ne _ _ (by first | assumption | exact Ne.symm (by assumption) | omega | exact ne_mp (m := m) (by assumption) (by assumption) | exact Ne.symm (ne_mp (m := m) (by assumption) (by assumption)) | exact ne_mp (m := w) (by assumption) (by assumption) | exact Ne.symm (ne_mp (m := w) (by assumption) (by assumption)))).trans (by first | assumption | exact upm_same _ _ _ | exact (upm_ne _ _ (by first | assumption | exact Ne.symm (by assumption) | omega | exact ne_mp (m := m) (by assumption) (by assumption) | exact Ne.symm (ne_mp (m := m) (by assumption) (by assumption)) | exact ne_mp (m := w) (by assumption) (by assumption) | exact Ne.symm (ne_mp (m := w) (by assumption) (by assumption)))).trans (by first | assumption | exact upm_same _ _ _ | exact (upm_ne _ _ (by first | assumption | exact Ne.symm (by assumption) | omega | exact ne_mp (m := m) (by assumption) (by assumption) | exact Ne.symm (ne_mp (m := m) (by assumption) (by assumption)) | exact ne_mp (m := w) (by assumption) (by assumption) | exact Ne.symm (ne_mp (m := w) (by assumption) (by assumption)))).trans (by first | assumption | exact upm_same _ _ _))))) rfl (by decide) rfl) rfl ?_
        refine z_V (ci := ciJ2) (T := TJ2) (N := 3) (na := 0) hX dX2_canTake_43 (c_J2_size D A (Or.inl z3)) rfl q547 q467 q468 q101 q469 (by decide +kernel) ⟨Nat.le_of_ble_eq_true rfl, Nat.le_of_ble_eq_true rfl⟩ rfl rfl (Nat.le_of_ble_eq_true rfl) rfl (by first | exact Nat.le_of_ble_eq_true rfl | (show _ + 0 ≤ 0; omega)) (by first | exact Nat.le_of_ble_eq_true rfl | (show _ + 0 ≤ 0; omega)) (fun H h => ⟨h, h.obL (Or.inl z3)⟩) (fun E a => zT.no) (zPd.out ?_)
        show zG X (_ + 0) (_ + 0) _ 46 _ _
        rw [show ((ts.length : Nat) : Int) = nTl M l by omega]
        refine z_imul (q := 47) hX dX2_canTake_46 rfl ?_
        refine z_icmp_lt (q := 50) (t := 54) hX dX2_canTake_47 (by decide) ⟨by omega, by omega⟩ ⟨by omega, by omega⟩ rfl (fun h47 => ?_) (fun h47 => ?_)
        · refine z_iconst (q := 55) hX dX2_canTake_54 rfl ?_
          exact z_zret hX dX2_canTake_55 (by first | exact Nat.le_of_ble_eq_true rfl | (show (_ : Nat) ≤ 0; omega)) (by first | exact Nat.le_of_ble_eq_true rfl | (show (_ : Nat) ≤ 0; omega)) rfl (by first | decide | omega) (fun H h => ⟨congrArg (fun z => some (zI z)) ((by rw [e9, decide_eq_false (by omega), Bool.and_false]; rfl)), h⟩)
        · refine z_iconst (q := 51) hX dX2_canTake_50 rfl ?_
          refine z_goto (t := 55) hX dX2_canTake_51 (by decide) ?_
          exact z_zret hX dX2_canTake_55 (by first | exact Nat.le_of_ble_eq_true rfl | (show (_ : Nat) ≤ 0; omega)) (by first | exact Nat.le_of_ble_eq_true rfl | (show (_ : Nat) ≤ 0; omega)) rfl (by first | decide | omega) (fun H h => ⟨congrArg (fun z => some (zI z)) ((by rw [e9, h24, decide_eq_true (by omega)]; rfl)), h⟩)
    · cases h7
theorem lfree_at {M : Int → Int} {i : Nat} (hi : i < 12) (hj : ∀ j : Nat, j < i → isT M j = true) (q : isT M i = false) : lfree M = i := by
  have h := leastI_eq (p := fun t => !isT M t) (t := i) (n := 12) (by omega) (fun j h2 => by rw [hj j h2]; rfl) (fun _ => by rw [q]; rfl)
  unfold lfree
  rw [h]
theorem lfree_all {M : Int → Int} (hj : ∀ j : Nat, j < 12 → isT M j = true) : lfree M = 12 := by
  have h := leastI_eq (p := fun t => !isT M t) (t := 12) (n := 12) (Nat.le_refl _) (fun j h2 => by rw [hj j h2]; rfl) (fun q => absurd q (by omega))
  unfold lfree
  rw [h]
  rfl
theorem lfree_full {M : Int → Int} (h : lfree M = 12) : ∀ j : Nat, j < 12 → isT M j = true := by
  intro j
  induction j using Nat.strongRecOn with
  | _ j ih =>
    intro hj
    cases q : isT M j with
    | true => rfl
    | false =>
      have := lfree_at hj (fun k hk => ih k hk (by omega)) q
      omega
abbrev rmX2_free_ok : Room := { frames := 0, cells := 0, slots := 0, locals := 0 }
set_option maxHeartbeats 4000000 in
theorem c_X2_free_ok (D : zD) (A : Nat → Prop) {w m : zMp} {b : Nat} {M : Int → Int} {ll ta col : Nat} {v : Int} (hb : wLog D w m b M ll ta col) (hv : ∀ i : Nat, i < 12 → (∀ j : Nat, j < i → isT M j = true) → isT M i = false → v = i) (hn : ∃ i : Nat, i < 12 ∧ isT M i = false) : zC D yX2_free cX2_free 2 (some .int) none rmX2_free_ok A [.ref b] (cI D A w m) (zPd (zI v) (cI D A w m)) (zNo) := by
  refine zC_start (L := [some (.ref b), none]) (by decide) (Nat.le_of_ble_eq_true rfl) rfl (fun X hX => ?_)
  obtain ⟨hok, h1, ⟨mc, ls, h2, h3⟩, tf, h4, h5⟩ := hb
  have K : ∀ i : Nat, i ≤ 12 → (∀ j : Nat, j < i → isT M j = true) → ∀ p : Int, p = i → zG X 0 0 (cI D A w m) 2 [some (.ref b), some (zI (p))] [] := by
    refine z_up (fun i hi ih hj p ep => ?_)
    subst ep
    by_cases hin : i < 12
    · rcases h5 i hin with ⟨q1, q2⟩ | ⟨q1, x, q2, q3⟩
      · have e9 : v = i := hv i hin hj q1
        refine z_iload_n (i := 1) (q := 3) hX dX2_free_2 rfl rfl rfl ?_
        refine z_bipush (q := 5) hX dX2_free_3 (by decide) rfl ?_
        refine z_icmp_ge (q := 8) (t := 25) hX dX2_free_5 (by decide) ⟨by omega, by omega⟩ (by decide) rfl (fun h5 => ?_) (fun h5 => ?_)
        · exact absurd h5 (by omega)
        · refine z_aload_n (i := 0) (q := 9) hX dX2_free_8 rfl rfl rfl ?_
          refine zr_get (C := RX2) (T := TX2) (N := 4) (q := 12) hX ciX2 1 rfl (by decide) in_X2 dX2_free_9 q207 (Or.inl rfl) (fun H h => cI.rd h (by first | assumption | exact Or.inl (by assumption) | exact Or.inr (by first | assumption | exact upm_same _ _ _ | exact (upm_ne _ _ (by first | assumption | exact Ne.symm (by assumption) | omega | exact ne_mp (m := m) (by assumption) (by assumption) | exact Ne.symm (ne_mp (m := m) (by assumption) (by assumption)) | exact ne_mp (m := w) (by assumption) (by assumption) | exact Ne.symm (ne_mp (m := w) (by assumption) (by assumption)))).trans (by first | assumption | exact upm_same _ _ _ | exact (upm_ne _ _ (by first | assumption | exact Ne.symm (by assumption) | omega | exact ne_mp (m := m) (by assumption) (by assumption) | exact Ne.symm (ne_mp (m := m) (by assumption) (by assumption)) | exact ne_mp (m := w) (by assumption) (by assumption) | exact Ne.symm (ne_mp (m := w) (by assumption) (by assumption)))).trans (by first | assumption | exact upm_same _ _ _ | exact (upm_ne _ _ (by first | assumption | exact Ne.symm (by assumption) | omega | exact ne_mp (m := m) (by assumption) (by assumption) | exact Ne.symm (ne_mp (m := m) (by assumption) (by assumption)) | exact ne_mp (m := w) (by assumption) (by assumption) | exact Ne.symm (ne_mp (m := w) (by assumption) (by assumption)))).trans (by first | assumption | exact upm_same _ _ _))))) rfl (by decide) rfl) rfl ?_
          refine z_iload_n (i := 1) (q := 13) hX dX2_free_12 rfl rfl rfl ?_
          refine zr_aald (q := 14) hX 7 rfl dX2_free_13 (fun H h => (cI.at h (by first | assumption | exact Or.inl (by assumption) | exact Or.inr (by first | assumption | exact upm_same _ _ _ | exact (upm_ne _ _ (by first | assumption | exact Ne.symm (by assumption) | omega | exact ne_mp (m := m) (by assumption) (by assumption) | exact Ne.symm (ne_mp (m := m) (by assumption) (by assumption)) | exact ne_mp (m := w) (by assumption) (by assumption) | exact Ne.symm (ne_mp (m := w) (by assumption) (by assumption)))).trans (by first | assumption | exact upm_same _ _ _ | exact (upm_ne _ _ (by first | assumption | exact Ne.symm (by assumption) | omega | exact ne_mp (m := m) (by assumption) (by assumption) | exact Ne.symm (ne_mp (m := m) (by assumption) (by assumption)) | exact ne_mp (m := w) (by assumption) (by assumption) | exact Ne.symm (ne_mp (m := w) (by assumption) (by assumption)))).trans (by first | assumption | exact upm_same _ _ _ | exact (upm_ne _ _ (by first | assumption | exact Ne.symm (by assumption) | omega | exact ne_mp (m := m) (by assumption) (by assumption) | exact Ne.symm (ne_mp (m := m) (by assumption) (by assumption)) | exact ne_mp (m := w) (by assumption) (by assumption) | exact Ne.symm (ne_mp (m := w) (by assumption) (by assumption)))).trans (by first | assumption | exact upm_same _ _ _)))))).raQ) ⟨by omega, by omega⟩ (by first | decide | omega) rfl ?_
          refine zG.top (v2 := .null) (by show va_rf (tf ((i : Int)).toNat) = _; rw [Int.toNat_natCast, q2]; rfl) ?_
          refine z_ifnonnullN (q := 17) hX dX2_free_14 rfl ?_
          refine z_iload_n (i := 1) (q := 18) hX dX2_free_17 rfl rfl rfl ?_
          exact z_iret hX dX2_free_18 (by first | exact Nat.le_of_ble_eq_true rfl | (show (_ : Nat) ≤ 0; omega)) (by first | exact Nat.le_of_ble_eq_true rfl | (show (_ : Nat) ≤ 0; omega)) rfl (fun H h => ⟨congrArg (fun z => some (zI z)) ((by rw [e9])), h⟩)
      · have hz9 : True := trivial
        refine z_iload_n (i := 1) (q := 3) hX dX2_free_2 rfl rfl rfl ?_
        refine z_bipush (q := 5) hX dX2_free_3 (by decide) rfl ?_
        refine z_icmp_ge (q := 8) (t := 25) hX dX2_free_5 (by decide) ⟨by omega, by omega⟩ (by decide) rfl (fun h5 => ?_) (fun h5 => ?_)
        · exact absurd h5 (by omega)
        · refine z_aload_n (i := 0) (q := 9) hX dX2_free_8 rfl rfl rfl ?_
          refine zr_get (C := RX2) (T := TX2) (N := 4) (q := 12) hX ciX2 1 rfl (by decide) in_X2 dX2_free_9 q207 (Or.inl rfl) (fun H h => cI.rd h (by first | assumption | exact Or.inl (by assumption) | exact Or.inr (by first | assumption | exact upm_same _ _ _ | exact (upm_ne _ _ (by first | assumption | exact Ne.symm (by assumption) | omega | exact ne_mp (m := m) (by assumption) (by assumption) | exact Ne.symm (ne_mp (m := m) (by assumption) (by assumption)) | exact ne_mp (m := w) (by assumption) (by assumption) | exact Ne.symm (ne_mp (m := w) (by assumption) (by assumption)))).trans (by first | assumption | exact upm_same _ _ _ | exact (upm_ne _ _ (by first | assumption | exact Ne.symm (by assumption) | omega | exact ne_mp (m := m) (by assumption) (by assumption) | exact Ne.symm (ne_mp (m := m) (by assumption) (by assumption)) | exact ne_mp (m := w) (by assumption) (by assumption) | exact Ne.symm (ne_mp (m := w) (by assumption) (by assumption)))).trans (by first | assumption | exact upm_same _ _ _ | exact (upm_ne _ _ (by first | assumption | exact Ne.symm (by assumption) | omega | exact ne_mp (m := m) (by assumption) (by assumption) | exact Ne.symm (ne_mp (m := m) (by assumption) (by assumption)) | exact ne_mp (m := w) (by assumption) (by assumption) | exact Ne.symm (ne_mp (m := w) (by assumption) (by assumption)))).trans (by first | assumption | exact upm_same _ _ _))))) rfl (by decide) rfl) rfl ?_
          refine z_iload_n (i := 1) (q := 13) hX dX2_free_12 rfl rfl rfl ?_
          refine zr_aald (q := 14) hX 7 rfl dX2_free_13 (fun H h => (cI.at h (by first | assumption | exact Or.inl (by assumption) | exact Or.inr (by first | assumption | exact upm_same _ _ _ | exact (upm_ne _ _ (by first | assumption | exact Ne.symm (by assumption) | omega | exact ne_mp (m := m) (by assumption) (by assumption) | exact Ne.symm (ne_mp (m := m) (by assumption) (by assumption)) | exact ne_mp (m := w) (by assumption) (by assumption) | exact Ne.symm (ne_mp (m := w) (by assumption) (by assumption)))).trans (by first | assumption | exact upm_same _ _ _ | exact (upm_ne _ _ (by first | assumption | exact Ne.symm (by assumption) | omega | exact ne_mp (m := m) (by assumption) (by assumption) | exact Ne.symm (ne_mp (m := m) (by assumption) (by assumption)) | exact ne_mp (m := w) (by assumption) (by assumption) | exact Ne.symm (ne_mp (m := w) (by assumption) (by assumption)))).trans (by first | assumption | exact upm_same _ _ _ | exact (upm_ne _ _ (by first | assumption | exact Ne.symm (by assumption) | omega | exact ne_mp (m := m) (by assumption) (by assumption) | exact Ne.symm (ne_mp (m := m) (by assumption) (by assumption)) | exact ne_mp (m := w) (by assumption) (by assumption) | exact Ne.symm (ne_mp (m := w) (by assumption) (by assumption)))).trans (by first | assumption | exact upm_same _ _ _)))))).raQ) ⟨by omega, by omega⟩ (by first | decide | omega) rfl ?_
          refine zG.top (v2 := .ref x) (by show va_rf (tf ((i : Int)).toNat) = _; rw [Int.toNat_natCast, q2]; rfl) ?_
          refine z_ifnonnull (t := 19) hX dX2_free_14 (by decide) ?_
          refine z_iinc (q := 22) hX dX2_free_19 rfl (Nat.le_of_ble_eq_true rfl) rfl rfl ?_
          refine z_goto (t := 2) hX dX2_free_22 (by decide) ?_
          refine ih hin (fun j hj2 => ?_) _ rfl
          by_cases e : j = i
          · rw [e]; exact q1
          · exact hj j (by omega)
    · have hiN : i = 12 := by omega
      subst hiN
      obtain ⟨i9, k1, k2⟩ := hn
      rw [hj i9 k1] at k2
      cases k2
  refine z_iconst (q := 1) hX dX2_free_0 rfl ?_
  refine z_istore_n (i := 1) (q := 2) hX dX2_free_1 rfl (Nat.le_of_ble_eq_true rfl) rfl rfl ?_
  exact K 0 (Nat.zero_le _) (fun j hj => absurd hj (Nat.not_lt_zero j)) 0 rfl
abbrev rmX2_free_no : Room := { frames := 4, cells := 1, slots := 8, locals := 90 }
set_option maxHeartbeats 4000000 in
theorem c_X2_free_no (D : zD) (A : Nat → Prop) {w m : zMp} {b : Nat} {M : Int → Int} {ll ta col : Nat} (hb : wLog D w m b M ll ta col) (hf : ∀ j : Nat, j < 12 → isT M j = true) : zC D yX2_free cX2_free 2 (some .int) none rmX2_free_no A [.ref b] (cI D A w m) (zPe (fun (z : Nat) => none) (fun _ => False) (fun _ => cI D A w m)) (xRf D A w m 11 12) := by
  refine zC_start (L := [some (.ref b), none]) (by decide) (Nat.le_of_ble_eq_true rfl) rfl (fun X hX => ?_)
  obtain ⟨hok, h1, ⟨mc, ls, h2, h3⟩, tf, h4, h5⟩ := hb
  have K : ∀ i : Nat, i ≤ 12 → (∀ j : Nat, j < i → isT M j = true) → ∀ p : Int, p = i → zG X 0 0 (cI D A w m) 2 [some (.ref b), some (zI (p))] [] := by
    refine z_up (fun i hi ih hj p ep => ?_)
    subst ep
    by_cases hin : i < 12
    · rcases h5 i hin with ⟨q1, q2⟩ | ⟨q1, x, q2, q3⟩
      · rw [hf i hin] at q1
        cases q1
      · have hz9 : True := trivial
        refine z_iload_n (i := 1) (q := 3) hX dX2_free_2 rfl rfl rfl ?_
        refine z_bipush (q := 5) hX dX2_free_3 (by decide) rfl ?_
        refine z_icmp_ge (q := 8) (t := 25) hX dX2_free_5 (by decide) ⟨by omega, by omega⟩ (by decide) rfl (fun h5 => ?_) (fun h5 => ?_)
        · exact absurd h5 (by omega)
        · refine z_aload_n (i := 0) (q := 9) hX dX2_free_8 rfl rfl rfl ?_
          refine zr_get (C := RX2) (T := TX2) (N := 4) (q := 12) hX ciX2 1 rfl (by decide) in_X2 dX2_free_9 q207 (Or.inl rfl) (fun H h => cI.rd h (by first | assumption | exact Or.inl (by assumption) | exact Or.inr (by first | assumption | exact upm_same _ _ _ | exact (upm_ne _ _ (by first | assumption | exact Ne.symm (by assumption) | omega | exact ne_mp (m := m) (by assumption) (by assumption) | exact Ne.symm (ne_mp (m := m) (by assumption) (by assumption)) | exact ne_mp (m := w) (by assumption) (by assumption) | exact Ne.symm (ne_mp (m := w) (by assumption) (by assumption)))).trans (by first | assumption | exact upm_same _ _ _ | exact (upm_ne _ _ (by first | assumption | exact Ne.symm (by assumption) | omega | exact ne_mp (m := m) (by assumption) (by assumption) | exact Ne.symm (ne_mp (m := m) (by assumption) (by assumption)) | exact ne_mp (m := w) (by assumption) (by assumption) | exact Ne.symm (ne_mp (m := w) (by assumption) (by assumption)))).trans (by first | assumption | exact upm_same _ _ _ | exact (upm_ne _ _ (by first | assumption | exact Ne.symm (by assumption) | omega | exact ne_mp (m := m) (by assumption) (by assumption) | exact Ne.symm (ne_mp (m := m) (by assumption) (by assumption)) | exact ne_mp (m := w) (by assumption) (by assumption) | exact Ne.symm (ne_mp (m := w) (by assumption) (by assumption)))).trans (by first | assumption | exact upm_same _ _ _))))) rfl (by decide) rfl) rfl ?_
          refine z_iload_n (i := 1) (q := 13) hX dX2_free_12 rfl rfl rfl ?_
          refine zr_aald (q := 14) hX 7 rfl dX2_free_13 (fun H h => (cI.at h (by first | assumption | exact Or.inl (by assumption) | exact Or.inr (by first | assumption | exact upm_same _ _ _ | exact (upm_ne _ _ (by first | assumption | exact Ne.symm (by assumption) | omega | exact ne_mp (m := m) (by assumption) (by assumption) | exact Ne.symm (ne_mp (m := m) (by assumption) (by assumption)) | exact ne_mp (m := w) (by assumption) (by assumption) | exact Ne.symm (ne_mp (m := w) (by assumption) (by assumption)))).trans (by first | assumption | exact upm_same _ _ _ | exact (upm_ne _ _ (by first | assumption | exact Ne.symm (by assumption) | omega | exact ne_mp (m := m) (by assumption) (by assumption) | exact Ne.symm (ne_mp (m := m) (by assumption) (by assumption)) | exact ne_mp (m := w) (by assumption) (by assumption) | exact Ne.symm (ne_mp (m := w) (by assumption) (by assumption)))).trans (by first | assumption | exact upm_same _ _ _ | exact (upm_ne _ _ (by first | assumption | exact Ne.symm (by assumption) | omega | exact ne_mp (m := m) (by assumption) (by assumption) | exact Ne.symm (ne_mp (m := m) (by assumption) (by assumption)) | exact ne_mp (m := w) (by assumption) (by assumption) | exact Ne.symm (ne_mp (m := w) (by assumption) (by assumption)))).trans (by first | assumption | exact upm_same _ _ _)))))).raQ) ⟨by omega, by omega⟩ (by first | decide | omega) rfl ?_
          refine zG.top (v2 := .ref x) (by show va_rf (tf ((i : Int)).toNat) = _; rw [Int.toNat_natCast, q2]; rfl) ?_
          refine z_ifnonnull (t := 19) hX dX2_free_14 (by decide) ?_
          refine z_iinc (q := 22) hX dX2_free_19 rfl (Nat.le_of_ble_eq_true rfl) rfl rfl ?_
          refine z_goto (t := 2) hX dX2_free_22 (by decide) ?_
          refine ih hin (fun j hj2 => ?_) _ rfl
          by_cases e : j = i
          · rw [e]; exact q1
          · exact hj j (by omega)
    · have hiN : i = 12 := by omega
      subst hiN
      refine z_iload_n (i := 1) (q := 3) hX dX2_free_2 rfl rfl rfl ?_
      refine z_bipush (q := 5) hX dX2_free_3 (by decide) rfl ?_
      refine z_icmp_ge (q := 8) (t := 25) hX dX2_free_5 (by decide) (by decide) (by decide) rfl (fun h5 => ?_) (fun h5 => ?_)
      · refine zc_new (q := 28) (fs := [.null, .null, .null, .null, .null, zI 0, zI 0, zI 0]) (C := RX9) (T := TX9) (N := 8) hX ciX9 rfl in_X9 tyX9_ok dX2_free_25 q461 q495 q130 (fun j hj => by match j, hj with | 0, _ => rfl | 1, _ => rfl | 2, _ => rfl | 3, _ => rfl | 4, _ => rfl | 5, _ => rfl | 6, _ => rfl | 7, _ => rfl | (_ + 8), h => exact absurd h (by omega)) (by first | exact Nat.le_of_ble_eq_true rfl | (show _ + 1 ≤ 1; omega)) (by first | exact Nat.le_of_ble_eq_true rfl | (show _ + 8 ≤ 8; omega)) rfl (fun a25 ha25 hb25 => ?_)
        have n25 := hb25
        try simp only [upm_none] at n25
        repeat (have := And.left n25; replace n25 := And.right n25)
        refine z_dup (q := 29) hX dX2_free_28 rfl rfl ?_
        refine z_bipush (q := 31) hX dX2_free_29 (by decide) rfl ?_
        refine z_bipush (q := 33) hX dX2_free_31 (by decide) rfl ?_
        refine z_C (na := 2) hX dX2_free_33 (c_X9_init D A (upm_same _ _ _)) q503 q504 q130 q505 rfl (by decide +kernel) ⟨Nat.le_of_ble_eq_true rfl, Nat.le_of_ble_eq_true rfl⟩ rfl rfl (Nat.le_of_ble_eq_true rfl) rfl (by first | exact Nat.le_of_ble_eq_true rfl | (show _ + 0 ≤ 1; omega)) (by first | exact Nat.le_of_ble_eq_true rfl | (show _ + 0 ≤ 8; omega)) (fun H h => h) (fun E a => zT.no) (zPv.out ?_)
        show zG X (_ + 0) (_ + 0) _ 36 _ _
        refine z_athrow hX ciX9 rfl dX2_free_36 (fun H h => (h.at (Or.inr (upm_same _ _ _))).th) ?_
        exact zT.out hX (by decide) (by first | exact Nat.le_of_ble_eq_true rfl | (show (_ : Nat) ≤ 1; omega)) (by first | exact Nat.le_of_ble_eq_true rfl | (show (_ : Nat) ≤ 8; omega)) (fun H h => ⟨rfl, ⟨ha25, hb25⟩, by simp only [upm_upm] at h; exact h⟩)
      · exact absurd (by decide) h5
  refine z_iconst (q := 1) hX dX2_free_0 rfl ?_
  refine z_istore_n (i := 1) (q := 2) hX dX2_free_1 rfl (Nat.le_of_ble_eq_true rfl) rfl rfl ?_
  exact K 0 (Nat.zero_le _) (fun j hj => absurd hj (Nat.not_lt_zero j)) 0 rfl
abbrev rmX2_best : Room := { frames := 6, cells := 0, slots := 0, locals := 134 }
set_option maxHeartbeats 4000000 in
theorem c_X2_best (D : zD) (A : Nat → Prop) {w m : zMp} {b : Nat} {M : Int → Int} {ll ta col y : Nat} {l v9 : Int} {wid : Bool} (hb : wLog D w m b M ll ta col) (hy : wLine w y (tx M l)) (hv9 : ∀ n : Nat, n = 12 → bestI (takP M l wid) (fun t => fitI M t l) n = v9) : zC D yX2_best cX2_best 5 (some .int) none rmX2_best A [.ref b, .ref y, zI (bi (wid))] (cI D A w m) (zPd (zI v9) (cI D A w m)) (zNo) := by
  refine zC_start (L := [some (.ref b), some (.ref y), some (zI (bi (wid))), none, none]) (by decide) (Nat.le_of_ble_eq_true rfl) rfl (fun X hX => ?_)
  have hb0 := hb
  obtain ⟨hok, h1, ⟨mc, ls, h2, h3⟩, tf, h4, h5⟩ := hb
  obtain ⟨hs, -⟩ := id hy
  have n2 := nT_range (tx M l)
  have n3 := hs.2.1
  have n5 : nTl M l = nT (tx M l) := rfl
  have K : ∀ i : Nat, i ≤ 12 → ∀ (v p : Int), v = bestI (takP M l wid) (fun t => fitI M t l) i → p = i → zG X 0 0 (cI D A w m) 5 [some (.ref b), some (.ref (y)), some (zI (bi (wid))), some (zI (v)), some (zI (p))] [] := by
    refine z_up (fun i hi ih v p ev ep => ?_)
    subst ep
    by_cases hin : i < 12
    · have hst : bestI (takP M l wid) (fun t => fitI M t l) (i + 1) = if takP M l wid i = true ∧ (bestI (takP M l wid) (fun t => fitI M t l) i < 0 ∨ fitI M (bestI (takP M l wid) (fun t => fitI M t l) i) l < fitI M i l) then (i : Int) else bestI (takP M l wid) (fun t => fitI M t l) i := rfl
      rw [← ev] at hst
      have hbk := bestI_ok (takP M l wid) (fun t => fitI M t l) i
      rw [← ev] at hbk
      rcases h5 i hin with ⟨q1, q2⟩ | ⟨q1, x, q2, q3⟩
      · have e9 : takP M l wid i = false := by rw [takP_eq, q1]; rfl
        refine z_iload (q := 7) hX dX2_best_5 rfl rfl ?_
        refine z_bipush (q := 9) hX dX2_best_7 (by decide) rfl ?_
        refine z_icmp_ge (q := 12) (t := 66) hX dX2_best_9 (by decide) ⟨by omega, by omega⟩ (by decide) rfl (fun h9 => ?_) (fun h9 => ?_)
        · exact absurd h9 (by omega)
        · refine z_aload_n (i := 0) (q := 13) hX dX2_best_12 rfl rfl rfl ?_
          refine z_aload_n (i := 0) (q := 14) hX dX2_best_13 rfl rfl rfl ?_
          refine zr_get (C := RX2) (T := TX2) (N := 4) (q := 17) hX ciX2 1 rfl (by decide) in_X2 dX2_best_14 q207 (Or.inl rfl) (fun H h => cI.rd h (by first | assumption | exact Or.inl (by assumption) | exact Or.inr (by first | assumption | exact upm_same _ _ _ | exact (upm_ne _ _ (by first | assumption | exact Ne.symm (by assumption) | omega | exact ne_mp (m := m) (by assumption) (by assumption) | exact Ne.symm (ne_mp (m := m) (by assumption) (by assumption)) | exact ne_mp (m := w) (by assumption) (by assumption) | exact Ne.symm (ne_mp (m := w) (by assumption) (by assumption)))).trans (by first | assumption | exact upm_same _ _ _ | exact (upm_ne _ _ (by first | assumption | exact Ne.symm (by assumption) | omega | exact ne_mp (m := m) (by assumption) (by assumption) | exact Ne.symm (ne_mp (m := m) (by assumption) (by assumption)) | exact ne_mp (m := w) (by assumption) (by assumption) | exact Ne.symm (ne_mp (m := w) (by assumption) (by assumption)))).trans (by first | assumption | exact upm_same _ _ _ | exact (upm_ne _ _ (by first | assumption | exact Ne.symm (by assumption) | omega | exact ne_mp (m := m) (by assumption) (by assumption) | exact Ne.symm (ne_mp (m := m) (by assumption) (by assumption)) | exact ne_mp (m := w) (by assumption) (by assumption) | exact Ne.symm (ne_mp (m := w) (by assumption) (by assumption)))).trans (by first | assumption | exact upm_same _ _ _))))) rfl (by decide) rfl) rfl ?_
          refine z_iload (q := 19) hX dX2_best_17 rfl rfl ?_
          refine zr_aald (q := 20) hX 7 rfl dX2_best_19 (fun H h => (cI.at h (by first | assumption | exact Or.inl (by assumption) | exact Or.inr (by first | assumption | exact upm_same _ _ _ | exact (upm_ne _ _ (by first | assumption | exact Ne.symm (by assumption) | omega | exact ne_mp (m := m) (by assumption) (by assumption) | exact Ne.symm (ne_mp (m := m) (by assumption) (by assumption)) | exact ne_mp (m := w) (by assumption) (by assumption) | exact Ne.symm (ne_mp (m := w) (by assumption) (by assumption)))).trans (by first | assumption | exact upm_same _ _ _ | exact (upm_ne _ _ (by first | assumption | exact Ne.symm (by assumption) | omega | exact ne_mp (m := m) (by assumption) (by assumption) | exact Ne.symm (ne_mp (m := m) (by assumption) (by assumption)) | exact ne_mp (m := w) (by assumption) (by assumption) | exact Ne.symm (ne_mp (m := w) (by assumption) (by assumption)))).trans (by first | assumption | exact upm_same _ _ _ | exact (upm_ne _ _ (by first | assumption | exact Ne.symm (by assumption) | omega | exact ne_mp (m := m) (by assumption) (by assumption) | exact Ne.symm (ne_mp (m := m) (by assumption) (by assumption)) | exact ne_mp (m := w) (by assumption) (by assumption) | exact Ne.symm (ne_mp (m := w) (by assumption) (by assumption)))).trans (by first | assumption | exact upm_same _ _ _)))))).raQ) ⟨by omega, by omega⟩ (by first | decide | omega) rfl ?_
          refine zG.top (v2 := .null) (by show va_rf (tf ((i : Int)).toNat) = _; rw [Int.toNat_natCast, q2]; rfl) ?_
          refine z_aload_n (i := 1) (q := 21) hX dX2_best_20 rfl rfl rfl ?_
          refine z_iload_n (i := 2) (q := 22) hX dX2_best_21 rfl rfl rfl ?_
          refine z_V (ci := ciX2) (T := TX2) (N := 4) (na := 3) hX dX2_best_22 (c_X2_canTake_n D A) rfl q1421 q1423 qs29 q98 q1424 (by decide +kernel) ⟨Nat.le_of_ble_eq_true rfl, Nat.le_of_ble_eq_true rfl⟩ rfl rfl (Nat.le_of_ble_eq_true rfl) rfl (by first | exact Nat.le_of_ble_eq_true rfl | (show _ + 0 ≤ 0; omega)) (by first | exact Nat.le_of_ble_eq_true rfl | (show _ + 0 ≤ 0; omega)) (fun H h => ⟨h, h.obE h1 rfl⟩) (fun E a => zT.no) (zPd.out ?_)
          show zG X (_ + 0) (_ + 0) _ 25 _ _
          refine z_if_eq (q := 28) (t := 60) hX dX2_best_25 (by decide) (by omega) rfl (fun h25 => ?_) (fun h25 => ?_)
          · refine z_iinc (q := 63) hX dX2_best_60 rfl (Nat.le_of_ble_eq_true rfl) rfl rfl ?_
            refine z_goto (t := 5) hX dX2_best_63 (by decide) ?_
            exact ih hin _ _ (by rw [hst, if_neg (fun q => by rw [e9] at q; exact Bool.false_ne_true q.1)]) rfl
          · exact absurd h25 (by decide)
      · obtain ⟨gl, sl, rl, q4⟩ := q3.it
        have e9 : takP M l wid i = ctP M l wid i := by rw [takP_eq, q1]; rfl
        have hfi := fitI_rg M i l
        have hfb := fitI_rg M v l
        refine z_iload (q := 7) hX dX2_best_5 rfl rfl ?_
        refine z_bipush (q := 9) hX dX2_best_7 (by decide) rfl ?_
        refine z_icmp_ge (q := 12) (t := 66) hX dX2_best_9 (by decide) ⟨by omega, by omega⟩ (by decide) rfl (fun h9 => ?_) (fun h9 => ?_)
        · exact absurd h9 (by omega)
        · refine z_aload_n (i := 0) (q := 13) hX dX2_best_12 rfl rfl rfl ?_
          refine z_aload_n (i := 0) (q := 14) hX dX2_best_13 rfl rfl rfl ?_
          refine zr_get (C := RX2) (T := TX2) (N := 4) (q := 17) hX ciX2 1 rfl (by decide) in_X2 dX2_best_14 q207 (Or.inl rfl) (fun H h => cI.rd h (by first | assumption | exact Or.inl (by assumption) | exact Or.inr (by first | assumption | exact upm_same _ _ _ | exact (upm_ne _ _ (by first | assumption | exact Ne.symm (by assumption) | omega | exact ne_mp (m := m) (by assumption) (by assumption) | exact Ne.symm (ne_mp (m := m) (by assumption) (by assumption)) | exact ne_mp (m := w) (by assumption) (by assumption) | exact Ne.symm (ne_mp (m := w) (by assumption) (by assumption)))).trans (by first | assumption | exact upm_same _ _ _ | exact (upm_ne _ _ (by first | assumption | exact Ne.symm (by assumption) | omega | exact ne_mp (m := m) (by assumption) (by assumption) | exact Ne.symm (ne_mp (m := m) (by assumption) (by assumption)) | exact ne_mp (m := w) (by assumption) (by assumption) | exact Ne.symm (ne_mp (m := w) (by assumption) (by assumption)))).trans (by first | assumption | exact upm_same _ _ _ | exact (upm_ne _ _ (by first | assumption | exact Ne.symm (by assumption) | omega | exact ne_mp (m := m) (by assumption) (by assumption) | exact Ne.symm (ne_mp (m := m) (by assumption) (by assumption)) | exact ne_mp (m := w) (by assumption) (by assumption) | exact Ne.symm (ne_mp (m := w) (by assumption) (by assumption)))).trans (by first | assumption | exact upm_same _ _ _))))) rfl (by decide) rfl) rfl ?_
          refine z_iload (q := 19) hX dX2_best_17 rfl rfl ?_
          refine zr_aald (q := 20) hX 7 rfl dX2_best_19 (fun H h => (cI.at h (by first | assumption | exact Or.inl (by assumption) | exact Or.inr (by first | assumption | exact upm_same _ _ _ | exact (upm_ne _ _ (by first | assumption | exact Ne.symm (by assumption) | omega | exact ne_mp (m := m) (by assumption) (by assumption) | exact Ne.symm (ne_mp (m := m) (by assumption) (by assumption)) | exact ne_mp (m := w) (by assumption) (by assumption) | exact Ne.symm (ne_mp (m := w) (by assumption) (by assumption)))).trans (by first | assumption | exact upm_same _ _ _ | exact (upm_ne _ _ (by first | assumption | exact Ne.symm (by assumption) | omega | exact ne_mp (m := m) (by assumption) (by assumption) | exact Ne.symm (ne_mp (m := m) (by assumption) (by assumption)) | exact ne_mp (m := w) (by assumption) (by assumption) | exact Ne.symm (ne_mp (m := w) (by assumption) (by assumption)))).trans (by first | assumption | exact upm_same _ _ _ | exact (upm_ne _ _ (by first | assumption | exact Ne.symm (by assumption) | omega | exact ne_mp (m := m) (by assumption) (by assumption) | exact Ne.symm (ne_mp (m := m) (by assumption) (by assumption)) | exact ne_mp (m := w) (by assumption) (by assumption) | exact Ne.symm (ne_mp (m := w) (by assumption) (by assumption)))).trans (by first | assumption | exact upm_same _ _ _)))))).raQ) ⟨by omega, by omega⟩ (by first | decide | omega) rfl ?_
          refine zG.top (v2 := .ref x) (by show va_rf (tf ((i : Int)).toNat) = _; rw [Int.toNat_natCast, q2]; rfl) ?_
          refine z_aload_n (i := 1) (q := 21) hX dX2_best_20 rfl rfl rfl ?_
          refine z_iload_n (i := 2) (q := 22) hX dX2_best_21 rfl rfl rfl ?_
          refine z_V (ci := ciX2) (T := TX2) (N := 4) (na := 3) hX dX2_best_22 (c_X2_canTake_x D A (t := (i : Int)) hb0 q3 hy) rfl q1421 q1423 qs29 q98 q1424 (by decide +kernel) ⟨Nat.le_of_ble_eq_true rfl, Nat.le_of_ble_eq_true rfl⟩ rfl rfl (Nat.le_of_ble_eq_true rfl) rfl (by first | exact Nat.le_of_ble_eq_true rfl | (show _ + 0 ≤ 0; omega)) (by first | exact Nat.le_of_ble_eq_true rfl | (show _ + 0 ≤ 0; omega)) (fun H h => ⟨h, h.obE h1 rfl⟩) (fun E a => zT.no) (zPd.out ?_)
          show zG X (_ + 0) (_ + 0) _ 25 _ _
          refine z_ifB_eq (q := 28) (t := 60) hX dX2_best_25 (by decide) rfl (fun h25 => ?_) (fun h25 => ?_)
          · refine z_iinc (q := 63) hX dX2_best_60 rfl (Nat.le_of_ble_eq_true rfl) rfl rfl ?_
            refine z_goto (t := 5) hX dX2_best_63 (by decide) ?_
            exact ih hin _ _ (by rw [hst, if_neg (fun q => by rw [e9, h25] at q; exact Bool.false_ne_true q.1)]) rfl
          · have hfm := ctP_fm h25
            have hnn := isFm_n hfm
            refine z_iload_n (i := 3) (q := 29) hX dX2_best_28 rfl rfl rfl ?_
            refine z_iconst (q := 30) hX dX2_best_29 rfl ?_
            refine z_icmp_eq (q := 33) (t := 57) hX dX2_best_30 (by decide) ⟨by omega, by omega⟩ (by decide) rfl (fun h30 => ?_) (fun h30 => ?_)
            · refine z_iload (q := 59) hX dX2_best_57 rfl rfl ?_
              refine z_istore_n (i := 3) (q := 60) hX dX2_best_59 rfl (Nat.le_of_ble_eq_true rfl) rfl rfl ?_
              refine z_iinc (q := 63) hX dX2_best_60 rfl (Nat.le_of_ble_eq_true rfl) rfl rfl ?_
              refine z_goto (t := 5) hX dX2_best_63 (by decide) ?_
              exact ih hin _ _ (by rw [hst, if_pos ⟨by rw [e9]; exact h25, Or.inl (by omega)⟩]) rfl
            · obtain ⟨xb, b1, b2, b3, b4⟩ := h5.get (t := v) (by have := hbk.2.2 (by omega); rw [takP_eq] at this; exact ((Bool.and_eq_true _ _).mp this).1)
              have hfmb := ctP_fm (M := M) (l := l) (t := v) (wid := wid) (by have := hbk.2.2 (by omega); rw [takP_eq] at this; exact ((Bool.and_eq_true _ _).mp this).2)
              have hnb := isFm_n hfmb
              obtain ⟨gl2, sl2, rl2, b5⟩ := b2.it
              refine z_aload_n (i := 0) (q := 34) hX dX2_best_33 rfl rfl rfl ?_
              refine zr_get (C := RX2) (T := TX2) (N := 4) (q := 37) hX ciX2 1 rfl (by decide) in_X2 dX2_best_34 q207 (Or.inl rfl) (fun H h => cI.rd h (by first | assumption | exact Or.inl (by assumption) | exact Or.inr (by first | assumption | exact upm_same _ _ _ | exact (upm_ne _ _ (by first | assumption | exact Ne.symm (by assumption) | omega | exact ne_mp (m := m) (by assumption) (by assumption) | exact Ne.symm (ne_mp (m := m) (by assumption) (by assumption)) | exact ne_mp (m := w) (by assumption) (by assumption) | exact Ne.symm (ne_mp (m := w) (by assumption) (by assumption)))).trans (by first | assumption | exact upm_same _ _ _ | exact (upm_ne _ _ (by first | assumption | exact Ne.symm (by assumption) | omega | exact ne_mp (m := m) (by assumption) (by assumption) | exact Ne.symm (ne_mp (m := m) (by assumption) (by assumption)) | exact ne_mp (m := w) (by assumption) (by assumption) | exact Ne.symm (ne_mp (m := w) (by assumption) (by assumption)))).trans (by first | assumption | exact upm_same _ _ _ | exact (upm_ne _ _ (by first | assumption | exact Ne.symm (by assumption) | omega | exact ne_mp (m := m) (by assumption) (by assumption) | exact Ne.symm (ne_mp (m := m) (by assumption) (by assumption)) | exact ne_mp (m := w) (by assumption) (by assumption) | exact Ne.symm (ne_mp (m := w) (by assumption) (by assumption)))).trans (by first | assumption | exact upm_same _ _ _))))) rfl (by decide) rfl) rfl ?_
              refine z_iload (q := 39) hX dX2_best_37 rfl rfl ?_
              refine zr_aald (q := 40) hX 7 rfl dX2_best_39 (fun H h => (cI.at h (by first | assumption | exact Or.inl (by assumption) | exact Or.inr (by first | assumption | exact upm_same _ _ _ | exact (upm_ne _ _ (by first | assumption | exact Ne.symm (by assumption) | omega | exact ne_mp (m := m) (by assumption) (by assumption) | exact Ne.symm (ne_mp (m := m) (by assumption) (by assumption)) | exact ne_mp (m := w) (by assumption) (by assumption) | exact Ne.symm (ne_mp (m := w) (by assumption) (by assumption)))).trans (by first | assumption | exact upm_same _ _ _ | exact (upm_ne _ _ (by first | assumption | exact Ne.symm (by assumption) | omega | exact ne_mp (m := m) (by assumption) (by assumption) | exact Ne.symm (ne_mp (m := m) (by assumption) (by assumption)) | exact ne_mp (m := w) (by assumption) (by assumption) | exact Ne.symm (ne_mp (m := w) (by assumption) (by assumption)))).trans (by first | assumption | exact upm_same _ _ _ | exact (upm_ne _ _ (by first | assumption | exact Ne.symm (by assumption) | omega | exact ne_mp (m := m) (by assumption) (by assumption) | exact Ne.symm (ne_mp (m := m) (by assumption) (by assumption)) | exact ne_mp (m := w) (by assumption) (by assumption) | exact Ne.symm (ne_mp (m := w) (by assumption) (by assumption)))).trans (by first | assumption | exact upm_same _ _ _)))))).raQ) ⟨by omega, by omega⟩ (by first | decide | omega) rfl ?_
              refine zG.top (v2 := .ref x) (by show va_rf (tf ((i : Int)).toNat) = _; rw [Int.toNat_natCast, q2]; rfl) ?_
              refine z_aload_n (i := 1) (q := 41) hX dX2_best_40 rfl rfl rfl ?_
              refine z_V (ci := ciX7) (T := TX7) (N := 3) (na := 1) hX dX2_best_41 (c_X7_fit D A q3 hy (by omega)) rfl q1435 q1436 q1437 q127 q1438 (by decide +kernel) ⟨Nat.le_of_ble_eq_true rfl, Nat.le_of_ble_eq_true rfl⟩ rfl rfl (Nat.le_of_ble_eq_true rfl) rfl (by first | exact Nat.le_of_ble_eq_true rfl | (show _ + 0 ≤ 0; omega)) (by first | exact Nat.le_of_ble_eq_true rfl | (show _ + 0 ≤ 0; omega)) (fun H h => ⟨h, h.obE (Or.inl q4) rfl⟩) (fun E a => zT.no) (zPd.out ?_)
              show zG X (_ + 0) (_ + 0) _ 44 _ _
              rw [fit_eq hfm]
              refine z_aload_n (i := 0) (q := 45) hX dX2_best_44 rfl rfl rfl ?_
              refine zr_get (C := RX2) (T := TX2) (N := 4) (q := 48) hX ciX2 1 rfl (by decide) in_X2 dX2_best_45 q207 (Or.inl rfl) (fun H h => cI.rd h (by first | assumption | exact Or.inl (by assumption) | exact Or.inr (by first | assumption | exact upm_same _ _ _ | exact (upm_ne _ _ (by first | assumption | exact Ne.symm (by assumption) | omega | exact ne_mp (m := m) (by assumption) (by assumption) | exact Ne.symm (ne_mp (m := m) (by assumption) (by assumption)) | exact ne_mp (m := w) (by assumption) (by assumption) | exact Ne.symm (ne_mp (m := w) (by assumption) (by assumption)))).trans (by first | assumption | exact upm_same _ _ _ | exact (upm_ne _ _ (by first | assumption | exact Ne.symm (by assumption) | omega | exact ne_mp (m := m) (by assumption) (by assumption) | exact Ne.symm (ne_mp (m := m) (by assumption) (by assumption)) | exact ne_mp (m := w) (by assumption) (by assumption) | exact Ne.symm (ne_mp (m := w) (by assumption) (by assumption)))).trans (by first | assumption | exact upm_same _ _ _ | exact (upm_ne _ _ (by first | assumption | exact Ne.symm (by assumption) | omega | exact ne_mp (m := m) (by assumption) (by assumption) | exact Ne.symm (ne_mp (m := m) (by assumption) (by assumption)) | exact ne_mp (m := w) (by assumption) (by assumption) | exact Ne.symm (ne_mp (m := w) (by assumption) (by assumption)))).trans (by first | assumption | exact upm_same _ _ _))))) rfl (by decide) rfl) rfl ?_
              refine z_iload_n (i := 3) (q := 49) hX dX2_best_48 rfl rfl rfl ?_
              refine zr_aald (q := 50) hX 7 rfl dX2_best_49 (fun H h => (cI.at h (by first | assumption | exact Or.inl (by assumption) | exact Or.inr (by first | assumption | exact upm_same _ _ _ | exact (upm_ne _ _ (by first | assumption | exact Ne.symm (by assumption) | omega | exact ne_mp (m := m) (by assumption) (by assumption) | exact Ne.symm (ne_mp (m := m) (by assumption) (by assumption)) | exact ne_mp (m := w) (by assumption) (by assumption) | exact Ne.symm (ne_mp (m := w) (by assumption) (by assumption)))).trans (by first | assumption | exact upm_same _ _ _ | exact (upm_ne _ _ (by first | assumption | exact Ne.symm (by assumption) | omega | exact ne_mp (m := m) (by assumption) (by assumption) | exact Ne.symm (ne_mp (m := m) (by assumption) (by assumption)) | exact ne_mp (m := w) (by assumption) (by assumption) | exact Ne.symm (ne_mp (m := w) (by assumption) (by assumption)))).trans (by first | assumption | exact upm_same _ _ _ | exact (upm_ne _ _ (by first | assumption | exact Ne.symm (by assumption) | omega | exact ne_mp (m := m) (by assumption) (by assumption) | exact Ne.symm (ne_mp (m := m) (by assumption) (by assumption)) | exact ne_mp (m := w) (by assumption) (by assumption) | exact Ne.symm (ne_mp (m := w) (by assumption) (by assumption)))).trans (by first | assumption | exact upm_same _ _ _)))))).raQ) ⟨by omega, by omega⟩ (by first | decide | omega) rfl ?_
              refine zG.top (v2 := .ref xb) (by show va_rf (tf (v).toNat) = _; rw [b1]; rfl) ?_
              refine z_aload_n (i := 1) (q := 51) hX dX2_best_50 rfl rfl rfl ?_
              refine z_V (ci := ciX7) (T := TX7) (N := 3) (na := 1) hX dX2_best_51 (c_X7_fit D A b2 hy (by omega)) rfl q1435 q1436 q1437 q127 q1438 (by decide +kernel) ⟨Nat.le_of_ble_eq_true rfl, Nat.le_of_ble_eq_true rfl⟩ rfl rfl (Nat.le_of_ble_eq_true rfl) rfl (by first | exact Nat.le_of_ble_eq_true rfl | (show _ + 0 ≤ 0; omega)) (by first | exact Nat.le_of_ble_eq_true rfl | (show _ + 0 ≤ 0; omega)) (fun H h => ⟨h, h.obE (Or.inl b5) rfl⟩) (fun E a => zT.no) (zPd.out ?_)
              show zG X (_ + 0) (_ + 0) _ 54 _ _
              rw [fit_eq hfmb]
              refine z_icmp_le (q := 57) (t := 60) hX dX2_best_54 (by decide) ⟨by omega, by omega⟩ ⟨by omega, by omega⟩ rfl (fun h54 => ?_) (fun h54 => ?_)
              · refine z_iinc (q := 63) hX dX2_best_60 rfl (Nat.le_of_ble_eq_true rfl) rfl rfl ?_
                refine z_goto (t := 5) hX dX2_best_63 (by decide) ?_
                exact ih hin _ _ (by rw [hst, if_neg (fun q => by rcases q.2 with z | z; omega; omega)]) rfl
              · refine z_iload (q := 59) hX dX2_best_57 rfl rfl ?_
                refine z_istore_n (i := 3) (q := 60) hX dX2_best_59 rfl (Nat.le_of_ble_eq_true rfl) rfl rfl ?_
                refine z_iinc (q := 63) hX dX2_best_60 rfl (Nat.le_of_ble_eq_true rfl) rfl rfl ?_
                refine z_goto (t := 5) hX dX2_best_63 (by decide) ?_
                exact ih hin _ _ (by rw [hst, if_pos ⟨by rw [e9]; exact h25, Or.inr (by omega)⟩]) rfl
    · have hN9 : i = 12 := by omega
      refine z_iload (q := 7) hX dX2_best_5 rfl rfl ?_
      refine z_bipush (q := 9) hX dX2_best_7 (by decide) rfl ?_
      refine z_icmp_ge (q := 12) (t := 66) hX dX2_best_9 (by decide) ⟨by omega, by omega⟩ (by decide) rfl (fun h9 => ?_) (fun h9 => ?_)
      · refine z_iload_n (i := 3) (q := 67) hX dX2_best_66 rfl rfl rfl ?_
        exact z_iret hX dX2_best_67 (by first | exact Nat.le_of_ble_eq_true rfl | (show (_ : Nat) ≤ 0; omega)) (by first | exact Nat.le_of_ble_eq_true rfl | (show (_ : Nat) ≤ 0; omega)) rfl (fun H h => ⟨congrArg (fun z => some (zI z)) ((by rw [ev]; exact hv9 _ hN9)), h⟩)
      · exact absurd (by omega) h9
  refine z_iconst (q := 1) hX dX2_best_0 rfl ?_
  refine z_istore_n (i := 3) (q := 2) hX dX2_best_1 rfl (Nat.le_of_ble_eq_true rfl) rfl rfl ?_
  refine z_iconst (q := 3) hX dX2_best_2 rfl ?_
  refine z_istore (q := 5) hX dX2_best_3 (Nat.le_of_ble_eq_true rfl) rfl rfl ?_
  exact K 0 (Nat.zero_le _) _ 0 rfl rfl
