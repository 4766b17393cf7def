/-! THE CLASS: Log.compactOnce -/
set_option maxRecDepth 100000
/-- cells of a log apart from its column's -/
def lgC (b ll ta col tc : Nat) : Prop := (col ≠ b ∧ col ≠ ll ∧ col ≠ ta) ∧ tc ≠ b ∧ tc ≠ ll ∧ tc ≠ ta
theorem logM_cM {D : zD} {mR : zMp} {b ll ta col tc : Nat} {th mc : Int} {ls : List Nat} {tf : Nat → Option Nat} (h : lgC b ll ta col tc) (n : Int) (f : Nat → Option Nat) : cM D (logM D mR b ll ta col th mc ls tf) col tc n f = logM D (cM D mR col tc n f) b ll ta col th mc ls tf := by
  obtain ⟨⟨h1, h2, h3⟩, h4, h5, h6⟩ := h
  unfold cM logM
  funext c
  by_cases c1 : c = tc
  · rw [c1, upm_same, upm_ne _ _ h4, upm_ne _ _ h6, upm_ne _ _ h5, upm_same]
  · rw [upm_ne _ _ c1]
    by_cases c2 : c = col
    · rw [c2, upm_same, upm_ne _ _ h1, upm_ne _ _ h3, upm_ne _ _ h2, upm_ne _ _ (by rw [← c2]; exact c1), upm_same]
    · rw [upm_ne _ _ c2]
      by_cases c3 : c = b
      · rw [c3, upm_same, upm_same]
      · rw [upm_ne _ _ c3, upm_ne _ _ c3]
        by_cases c4 : c = ta
        · rw [c4, upm_same, upm_same]
        · rw [upm_ne _ _ c4, upm_ne _ _ c4]
          by_cases c5 : c = ll
          · rw [c5, upm_same, upm_same]
          · rw [upm_ne _ _ c5, upm_ne _ _ c5, upm_ne _ _ c1, upm_ne _ _ c2]
theorem logM_cH {D : zD} {mR : zMp} {b ll ta col tc : Nat} {th mc : Int} {ls : List Nat} {tf : Nat → Option Nat} (h : lgC b ll ta col tc) (hc : cH D mR col tc) : cH D (logM D mR b ll ta col th mc ls tf) col tc := by
  obtain ⟨n, f, h1, h2⟩ := hc
  exact ⟨n, f, (logM_ot h.1.1 h.1.2.1 h.1.2.2).trans h1, (logM_ot h.2.1 h.2.2.1 h.2.2.2).trans h2⟩
theorem gnN_eq {M : Int → Int} (h : zOk M) {x y : Int} (hxy : x < y) : gnN M x y = gnP M x y := by
  unfold gnN gnP
  by_cases q : mayP M x y = true
  · have q2 := mayP_iff.mp q
    rw [if_pos q, if_pos ⟨⟨q2.2.1, q2.2.2.1⟩, q2.2.2.2⟩, gain_eq h q2.2.1 q2.2.2.1 (by omega) q2.2.2.2]
  · rw [if_neg q, if_neg (fun z => q (mayP_iff.mpr ⟨hxy, z.1.1, z.1.2, z.2⟩))]
theorem scP_step {M : Int → Int} {x y : Nat} (hy : y < 12) : scP M (12 * x + y + 1) = if (scP M (12 * x + y)).1 < gnP M x y then (gnP M x y, (x : Int), (y : Int)) else scP M (12 * x + y) := by
  rw [scP, show (12 * x + y) / 12 = x by omega, show (12 * x + y) % 12 = y by omega]
theorem scP_skip {M : Int → Int} {x : Nat} (hx : x < 12) : ∀ y : Nat, y ≤ x + 1 → scP M (12 * x + y) = scP M (12 * x) := by
  intro y
  induction y with
  | zero => intro _; rfl
  | succ y ih =>
    intro hy
    rw [← Nat.add_assoc, scP_step (by omega), ih (by omega)]
    have e : gnP M x y = 0 := by
      unfold gnP
      rw [if_neg (fun q => by have := (mayP_iff.mp q).1; omega)]
    rw [e, if_neg (by have := (scP_ok M (12 * x) (by omega)).1; omega)]
theorem scP_pos {M : Int → Int} : ∀ k : Nat, ((scP M k).1 = 0 ∧ scP M k = (0, -1, -1)) ∨ (0 < (scP M k).1 ∧ 0 ≤ (scP M k).2.1 ∧ 0 ≤ (scP M k).2.2) := by
  intro k
  induction k with
  | zero => exact Or.inl ⟨rfl, rfl⟩
  | succ k ih =>
    rw [scP]
    split
    · rename_i hlt
      right
      refine ⟨?_, by show (0 : Int) ≤ ((k / 12 : Nat) : Int); omega, by show (0 : Int) ≤ ((k % 12 : Nat) : Int); omega⟩
      show 0 < gnP M _ _
      rcases ih with q | q
      · omega
      · omega
    · exact ih
abbrev rmX2_compactOnce_no : Room := { frames := 12, cells := 0, slots := 0, locals := 270 }
set_option maxHeartbeats 4000000 in
theorem c_X2_compactOnce_no (D : zD) (A : Nat → Prop) {w m : zMp} {b : Nat} {M : Int → Int} {mR : zMp} {ll ta col tc : Nat} {mc : Int} {ls : List Nat} {tf : Nat → Option Nat} (hm : m = logM D mR b ll ta col (M 1) mc ls tf) (hd : lgD b ll ta) (hdc : lgC b ll ta col tc) (hc : cH D mR col tc) (hok : zOk M) (hls : wLines w ls (M 0).toNat (tx M)) (hts : wTs w tf M) (hno : ∀ n : Nat, n = 144 → (scP M n).2.1 < 0) : zC D yX2_compactOnce cX2_compactOnce 7 (some .boolean) none rmX2_compactOnce_no A [.ref b] (cI D A w m) (zPe (fun (z : Int × (Nat → Option Nat)) => some (zI 0)) (fun _ => True) (fun z => cI D A w (logM D (cM D mR col tc z.1 z.2) b ll ta col (M 1) mc ls tf))) (zNo) := by
  refine zC_start (L := [some (.ref b), none, none, none, none, none, none]) (by decide) (Nat.le_of_ble_eq_true rfl) rfl (fun X hX => ?_)
  subst hm
  have hne := hc.ne
  obtain ⟨n0, f0, hc1, hc2⟩ := id hc
  have hM := hok.1
  have gR : ∀ k : Nat, k ≤ 144 → zR (scP M k).1 := fun k hk => by
    have h1 := (scP_ok M k hk)
    rcases h1.2 with q | ⟨q1, q2, q3⟩
    · rw [q]; decide
    · have := mayP_iff.mp q2
      have c1 := cosA_rngM hok
      have c2 := cosA_rngM (mgM_ok hok this.2.1 this.2.2.1 this.2.2.2)
      unfold gainM at q3
      exact ⟨by omega, by omega⟩
  have gP : ∀ x y : Int, zR (gnP M x y) := fun x y => by
    unfold gnP
    split
    · rename_i q
      have := mayP_iff.mp q
      have c1 := cosA_rngM hok
      have c2 := cosA_rngM (mgM_ok hok this.2.1 this.2.2.1 this.2.2.2)
      unfold gainM
      exact ⟨by omega, by omega⟩
    · decide
  have K9 : ∀ i : Nat, i ≤ 12 → ∀ (n1 : Int) (f1 : Nat → Option Nat) (p q r s : Int) (v5 v6 : Option Value), p = (scP M (12 * i)).1 → q = (scP M (12 * i)).2.1 → r = (scP M (12 * i)).2.2 → s = i → zG X 0 0 (cI D A w (logM D (cM D mR col tc n1 f1) b ll ta col (M 1) mc ls tf)) 9 [some (.ref b), some (zI p), some (zI q), some (zI r), some (zI s), v5, v6] [] := by
    refine z_up (fun i hi ih n1 f1 p q r s v5 v6 ep eq er es => ?_)
    subst es
    by_cases hin : i < 12
    · have K22 : ∀ j : Nat, j ≤ 12 → i + 1 ≤ j → ∀ (n1 : Int) (f1 : Nat → Option Nat) (p q r s : Int) (v6 : Option Value), p = (scP M (12 * i + j)).1 → q = (scP M (12 * i + j)).2.1 → r = (scP M (12 * i + j)).2.2 → s = j → zG X 0 0 (cI D A w (logM D (cM D mR col tc n1 f1) b ll ta col (M 1) mc ls tf)) 22 [some (.ref b), some (zI p), some (zI q), some (zI r), some (zI (i : Int)), some (zI s), v6] [] := by
        refine z_up (fun j hj ih2 hij n1 f1 p q r s v6 ep eq er es => ?_)
        subst es
        by_cases hjn : j < 12
        · have hb0 : wLog D w (logM D (cM D mR col tc n1 f1) b ll ta col (M 1) mc ls tf) b M ll ta col := ⟨hok, Or.inr logM_b, ⟨mc, ls, Or.inr (logM_ll hd), hls⟩, tf, Or.inr (logM_ta hd), hts⟩
          have hc0 := logM_cH (D := D) (th := M 1) (mc := mc) (ls := ls) (tf := tf) hdc (hc.cM n1 f1)
          have hst := scP_step (M := M) (x := i) (y := j) hjn
          have hg1 := gR (12 * i + j) (by omega)
          have hg2 := gP i j
          refine z_iload (q := 24) hX dX2_compactOnce_22 rfl rfl ?_
          refine z_bipush (q := 26) hX dX2_compactOnce_24 (by decide) rfl ?_
          refine z_icmp_ge (q := 29) (t := 60) hX dX2_compactOnce_26 (by decide) ⟨by omega, by omega⟩ (by decide) rfl (fun h26 => ?_) (fun h26 => ?_)
          · exact absurd h26 (by omega)
          · refine z_aload_n (i := 0) (q := 30) hX dX2_compactOnce_29 rfl rfl rfl ?_
            refine z_iload (q := 32) hX dX2_compactOnce_30 rfl rfl ?_
            refine z_iload (q := 34) hX dX2_compactOnce_32 rfl rfl ?_
            refine z_VW (ci := ciX2) (T := TX2) (N := 4) (na := 2) hX dX2_compactOnce_34 (c_X2_gainOrNothing D A hb0 hc0 (by omega) hjn) rfl q457 q459 qs4 q98 q460 (by decide +kernel) ⟨Nat.le_of_ble_eq_true rfl, Nat.le_of_ble_eq_true rfl⟩ rfl rfl (Nat.le_of_ble_eq_true rfl) rfl (by first | exact Nat.le_of_ble_eq_true rfl | (show _ + 0 ≤ 0; omega)) (by first | exact Nat.le_of_ble_eq_true rfl | (show _ + 0 ≤ 0; omega)) (fun H h => ⟨h, h.obE (Or.inr logM_b) rfl⟩) (fun E a => zT.no) (zPe.out (fun x34 hx34 => ?_))
            show zG X (_ + 0) (_ + 0) _ 37 _ _
            rw [gnN_eq hok (by omega), logM_cM hdc, cM_cM (n := n1) (f := f1) hne]
            refine z_istore (q := 39) hX dX2_compactOnce_37 (Nat.le_of_ble_eq_true rfl) rfl rfl ?_
            refine z_iload (q := 41) hX dX2_compactOnce_39 rfl rfl ?_
            refine z_iload_n (i := 1) (q := 42) hX dX2_compactOnce_41 rfl rfl rfl ?_
            refine z_icmp_le (q := 45) (t := 54) hX dX2_compactOnce_42 (by decide) hg2 (by rw [ep]; exact hg1) rfl (fun h42 => ?_) (fun h42 => ?_)
            · refine z_iinc (q := 57) hX dX2_compactOnce_54 rfl (Nat.le_of_ble_eq_true rfl) rfl rfl ?_
              refine z_goto (t := 22) hX dX2_compactOnce_57 (by decide) ?_
              have e9 : scP M (12 * i + (j + 1)) = scP M (12 * i + j) := by rw [← Nat.add_assoc, hst, if_neg (by omega)]
              exact ih2 hjn (by omega) _ _ _ _ _ _ _ (by rw [e9]; exact ep) (by rw [e9]; exact eq) (by rw [e9]; exact er) rfl
            · refine z_iload (q := 47) hX dX2_compactOnce_45 rfl rfl ?_
              refine z_istore_n (i := 1) (q := 48) hX dX2_compactOnce_47 rfl (Nat.le_of_ble_eq_true rfl) rfl rfl ?_
              refine z_iload (q := 50) hX dX2_compactOnce_48 rfl rfl ?_
              refine z_istore_n (i := 2) (q := 51) hX dX2_compactOnce_50 rfl (Nat.le_of_ble_eq_true rfl) rfl rfl ?_
              refine z_iload (q := 53) hX dX2_compactOnce_51 rfl rfl ?_
              refine z_istore_n (i := 3) (q := 54) hX dX2_compactOnce_53 rfl (Nat.le_of_ble_eq_true rfl) rfl rfl ?_
              refine z_iinc (q := 57) hX dX2_compactOnce_54 rfl (Nat.le_of_ble_eq_true rfl) rfl rfl ?_
              refine z_goto (t := 22) hX dX2_compactOnce_57 (by decide) ?_
              have e9 : scP M (12 * i + (j + 1)) = (gnP M i j, (i : Int), (j : Int)) := by rw [← Nat.add_assoc, hst, if_pos (by omega)]
              exact ih2 hjn (by omega) _ _ _ _ _ _ _ (by rw [e9]) (by rw [e9]) (by rw [e9]) rfl
        · have hj12 : j = 12 := by omega
          refine z_iload (q := 24) hX dX2_compactOnce_22 rfl rfl ?_
          refine z_bipush (q := 26) hX dX2_compactOnce_24 (by decide) rfl ?_
          refine z_icmp_ge (q := 29) (t := 60) hX dX2_compactOnce_26 (by decide) ⟨by omega, by omega⟩ (by decide) rfl (fun h26 => ?_) (fun h26 => ?_)
          · refine z_iinc (q := 63) hX dX2_compactOnce_60 rfl (Nat.le_of_ble_eq_true rfl) rfl rfl ?_
            refine z_goto (t := 9) hX dX2_compactOnce_63 (by decide) ?_
            have e9 : 12 * (i + 1) = 12 * i + j := by omega
            exact ih hin _ _ _ _ _ _ _ _ (by rw [e9]; exact ep) (by rw [e9]; exact eq) (by rw [e9]; exact er) rfl
          · exact absurd (by omega) h26
      have e8 := scP_skip (M := M) hin (i + 1) (Nat.le_refl _)
      refine z_iload (q := 11) hX dX2_compactOnce_9 rfl rfl ?_
      refine z_bipush (q := 13) hX dX2_compactOnce_11 (by decide) rfl ?_
      refine z_icmp_ge (q := 16) (t := 66) hX dX2_compactOnce_13 (by decide) ⟨by omega, by omega⟩ (by decide) rfl (fun h13 => ?_) (fun h13 => ?_)
      · exact absurd h13 (by omega)
      · refine z_iload (q := 18) hX dX2_compactOnce_16 rfl rfl ?_
        refine z_iconst (q := 19) hX dX2_compactOnce_18 rfl ?_
        refine z_iadd (q := 20) hX dX2_compactOnce_19 rfl ?_
        refine z_istore (q := 22) hX dX2_compactOnce_20 (Nat.le_of_ble_eq_true rfl) rfl rfl ?_
        exact K22 (i + 1) (by omega) (Nat.le_refl _) n1 f1 _ _ _ _ _ (by rw [e8]; exact ep) (by rw [e8]; exact eq) (by rw [e8]; exact er) rfl
    · have hi12 : 12 * i = 144 := by omega
      have hp0 : p = 0 := by
        rcases scP_pos (M := M) (12 * i) with z | z
        · rw [ep]; exact z.1
        · have := hno _ hi12; omega
      subst hp0
      refine z_iload (q := 11) hX dX2_compactOnce_9 rfl rfl ?_
      refine z_bipush (q := 13) hX dX2_compactOnce_11 (by decide) rfl ?_
      refine z_icmp_ge (q := 16) (t := 66) hX dX2_compactOnce_13 (by decide) ⟨by omega, by omega⟩ (by decide) rfl (fun h13 => ?_) (fun h13 => ?_)
      · refine z_iload_n (i := 1) (q := 67) hX dX2_compactOnce_66 rfl rfl rfl ?_
        refine z_if_le (q := 70) (t := 84) hX dX2_compactOnce_67 (by decide) (by decide) rfl (fun h67 => ?_) (fun h67 => ?_)
        · refine z_iconst (q := 85) hX dX2_compactOnce_84 rfl ?_
          exact z_zret hX dX2_compactOnce_85 (by first | exact Nat.le_of_ble_eq_true rfl | (show (_ : Nat) ≤ 0; omega)) (by first | exact Nat.le_of_ble_eq_true rfl | (show (_ : Nat) ≤ 0; omega)) rfl (by first | decide | omega) (fun H h => ⟨(n1, f1), rfl, trivial, h⟩)
        · exact absurd (by decide) h67
      · exact absurd (by omega) h13
  refine z_iconst (q := 1) hX dX2_compactOnce_0 rfl ?_
  refine z_istore_n (i := 1) (q := 2) hX dX2_compactOnce_1 rfl (Nat.le_of_ble_eq_true rfl) rfl rfl ?_
  refine z_iconst (q := 3) hX dX2_compactOnce_2 rfl ?_
  refine z_istore_n (i := 2) (q := 4) hX dX2_compactOnce_3 rfl (Nat.le_of_ble_eq_true rfl) rfl rfl ?_
  refine z_iconst (q := 5) hX dX2_compactOnce_4 rfl ?_
  refine z_istore_n (i := 3) (q := 6) hX dX2_compactOnce_5 rfl (Nat.le_of_ble_eq_true rfl) rfl rfl ?_
  refine z_iconst (q := 7) hX dX2_compactOnce_6 rfl ?_
  refine z_istore (q := 9) hX dX2_compactOnce_7 (Nat.le_of_ble_eq_true rfl) rfl rfl ?_
  exact zG.mono (K9 0 (Nat.zero_le _) n0 f0 0 (-1) (-1) 0 _ _ rfl rfl rfl rfl) (fun H h => by rw [cM_self hc1 hc2]; exact h)
abbrev rmX2_compactOnce_yes : Room := { frames := 12, cells := 150, slots := 6600, locals := 270 }
set_option maxHeartbeats 4000000 in
theorem c_X2_compactOnce_yes (D : zD) (A : Nat → Prop) {w m : zMp} {b : Nat} {M : Int → Int} {mR : zMp} {ll ta col tc : Nat} {mc : Int} {ls : List Nat} {tf : Nat → Option Nat} (hm : m = logM D mR b ll ta col (M 1) mc ls tf) (hd : lgD b ll ta) (hdc : lgC b ll ta col tc) (hc : cH D mR col tc) (hok : zOk M) (hls : wLines w ls (M 0).toNat (tx M)) (hts : wTs w tf M) {lo hi : Int} (hyes : ∀ n : Nat, n = 144 → 0 ≤ (scP M n).2.1 ∧ (scP M n).2.1 = lo ∧ (scP M n).2.2 = hi) : zC D yX2_compactOnce cX2_compactOnce 7 (some .boolean) none rmX2_compactOnce_yes A [.ref b] (cI D A w m) (zPe (fun (z : (Int × (Nat → Option Nat)) × zMp × (Nat → Option Nat)) => some (zI 1)) (fun z => zLe w z.2.1 ∧ wTs z.2.1 z.2.2 (mgM M lo hi)) (fun z => cI D A z.2.1 (logM D (cM D mR col tc z.1.1 z.1.2) b ll ta col (M 1) mc ls z.2.2))) (zNo) := by
  refine zC_start (L := [some (.ref b), none, none, none, none, none, none]) (by decide) (Nat.le_of_ble_eq_true rfl) rfl (fun X hX => ?_)
  subst hm
  have hne := hc.ne
  obtain ⟨n0, f0, hc1, hc2⟩ := id hc
  have hM := hok.1
  have gR : ∀ k : Nat, k ≤ 144 → zR (scP M k).1 := fun k hk => by
    have h1 := (scP_ok M k hk)
    rcases h1.2 with q | ⟨q1, q2, q3⟩
    · rw [q]; decide
    · have := mayP_iff.mp q2
      have c1 := cosA_rngM hok
      have c2 := cosA_rngM (mgM_ok hok this.2.1 this.2.2.1 this.2.2.2)
      unfold gainM at q3
      exact ⟨by omega, by omega⟩
  have gP : ∀ x y : Int, zR (gnP M x y) := fun x y => by
    unfold gnP
    split
    · rename_i q
      have := mayP_iff.mp q
      have c1 := cosA_rngM hok
      have c2 := cosA_rngM (mgM_ok hok this.2.1 this.2.2.1 this.2.2.2)
      unfold gainM
      exact ⟨by omega, by omega⟩
    · decide
  have K9 : ∀ i : Nat, i ≤ 12 → ∀ (n1 : Int) (f1 : Nat → Option Nat) (p q r s : Int) (v5 v6 : Option Value), p = (scP M (12 * i)).1 → q = (scP M (12 * i)).2.1 → r = (scP M (12 * i)).2.2 → s = i → zG X 0 0 (cI D A w (logM D (cM D mR col tc n1 f1) b ll ta col (M 1) mc ls tf)) 9 [some (.ref b), some (zI p), some (zI q), some (zI r), some (zI s), v5, v6] [] := by
    refine z_up (fun i hi9 ih n1 f1 p q r s v5 v6 ep eq er es => ?_)
    subst es
    by_cases hin : i < 12
    · have K22 : ∀ j : Nat, j ≤ 12 → i + 1 ≤ j → ∀ (n1 : Int) (f1 : Nat → Option Nat) (p q r s : Int) (v6 : Option Value), p = (scP M (12 * i + j)).1 → q = (scP M (12 * i + j)).2.1 → r = (scP M (12 * i + j)).2.2 → s = j → zG X 0 0 (cI D A w (logM D (cM D mR col tc n1 f1) b ll ta col (M 1) mc ls tf)) 22 [some (.ref b), some (zI p), some (zI q), some (zI r), some (zI (i : Int)), some (zI s), v6] [] := by
        refine z_up (fun j hj ih2 hij n1 f1 p q r s v6 ep eq er es => ?_)
        subst es
        by_cases hjn : j < 12
        · have hb0 : wLog D w (logM D (cM D mR col tc n1 f1) b ll ta col (M 1) mc ls tf) b M ll ta col := ⟨hok, Or.inr logM_b, ⟨mc, ls, Or.inr (logM_ll hd), hls⟩, tf, Or.inr (logM_ta hd), hts⟩
          have hc0 := logM_cH (D := D) (th := M 1) (mc := mc) (ls := ls) (tf := tf) hdc (hc.cM n1 f1)
          have hst := scP_step (M := M) (x := i) (y := j) hjn
          have hg1 := gR (12 * i + j) (by omega)
          have hg2 := gP i j
          refine z_iload (q := 24) hX dX2_compactOnce_22 rfl rfl ?_
          refine z_bipush (q := 26) hX dX2_compactOnce_24 (by decide) rfl ?_
          refine z_icmp_ge (q := 29) (t := 60) hX dX2_compactOnce_26 (by decide) ⟨by omega, by omega⟩ (by decide) rfl (fun h26 => ?_) (fun h26 => ?_)
          · exact absurd h26 (by omega)
          · refine z_aload_n (i := 0) (q := 30) hX dX2_compactOnce_29 rfl rfl rfl ?_
            refine z_iload (q := 32) hX dX2_compactOnce_30 rfl rfl ?_
            refine z_iload (q := 34) hX dX2_compactOnce_32 rfl rfl ?_
            refine z_VW (ci := ciX2) (T := TX2) (N := 4) (na := 2) hX dX2_compactOnce_34 (c_X2_gainOrNothing D A hb0 hc0 (by omega) hjn) rfl q457 q459 qs4 q98 q460 (by decide +kernel) ⟨Nat.le_of_ble_eq_true rfl, Nat.le_of_ble_eq_true rfl⟩ rfl rfl (Nat.le_of_ble_eq_true rfl) rfl (by first | exact Nat.le_of_ble_eq_true rfl | (show _ + 0 ≤ 150; omega)) (by first | exact Nat.le_of_ble_eq_true rfl | (show _ + 0 ≤ 6600; omega)) (fun H h => ⟨h, h.obE (Or.inr logM_b) rfl⟩) (fun E a => zT.no) (zPe.out (fun x34 hx34 => ?_))
            show zG X (_ + 0) (_ + 0) _ 37 _ _
            rw [gnN_eq hok (by omega), logM_cM hdc, cM_cM (n := n1) (f := f1) hne]
            refine z_istore (q := 39) hX dX2_compactOnce_37 (Nat.le_of_ble_eq_true rfl) rfl rfl ?_
            refine z_iload (q := 41) hX dX2_compactOnce_39 rfl rfl ?_
            refine z_iload_n (i := 1) (q := 42) hX dX2_compactOnce_41 rfl rfl rfl ?_
            refine z_icmp_le (q := 45) (t := 54) hX dX2_compactOnce_42 (by decide) hg2 (by rw [ep]; exact hg1) rfl (fun h42 => ?_) (fun h42 => ?_)
            · refine z_iinc (q := 57) hX dX2_compactOnce_54 rfl (Nat.le_of_ble_eq_true rfl) rfl rfl ?_
              refine z_goto (t := 22) hX dX2_compactOnce_57 (by decide) ?_
              have e9 : scP M (12 * i + (j + 1)) = scP M (12 * i + j) := by rw [← Nat.add_assoc, hst, if_neg (by omega)]
              exact ih2 hjn (by omega) _ _ _ _ _ _ _ (by rw [e9]; exact ep) (by rw [e9]; exact eq) (by rw [e9]; exact er) rfl
            · refine z_iload (q := 47) hX dX2_compactOnce_45 rfl rfl ?_
              refine z_istore_n (i := 1) (q := 48) hX dX2_compactOnce_47 rfl (Nat.le_of_ble_eq_true rfl) rfl rfl ?_
              refine z_iload (q := 50) hX dX2_compactOnce_48 rfl rfl ?_
              refine z_istore_n (i := 2) (q := 51) hX dX2_compactOnce_50 rfl (Nat.le_of_ble_eq_true rfl) rfl rfl ?_
              refine z_iload (q := 53) hX dX2_compactOnce_51 rfl rfl ?_
              refine z_istore_n (i := 3) (q := 54) hX dX2_compactOnce_53 rfl (Nat.le_of_ble_eq_true rfl) rfl rfl ?_
              refine z_iinc (q := 57) hX dX2_compactOnce_54 rfl (Nat.le_of_ble_eq_true rfl) rfl rfl ?_
              refine z_goto (t := 22) hX dX2_compactOnce_57 (by decide) ?_
              have e9 : scP M (12 * i + (j + 1)) = (gnP M i j, (i : Int), (j : Int)) := by rw [← Nat.add_assoc, hst, if_pos (by omega)]
              exact ih2 hjn (by omega) _ _ _ _ _ _ _ (by rw [e9]) (by rw [e9]) (by rw [e9]) rfl
        · have hj12 : j = 12 := by omega
          refine z_iload (q := 24) hX dX2_compactOnce_22 rfl rfl ?_
          refine z_bipush (q := 26) hX dX2_compactOnce_24 (by decide) rfl ?_
          refine z_icmp_ge (q := 29) (t := 60) hX dX2_compactOnce_26 (by decide) ⟨by omega, by omega⟩ (by decide) rfl (fun h26 => ?_) (fun h26 => ?_)
          · refine z_iinc (q := 63) hX dX2_compactOnce_60 rfl (Nat.le_of_ble_eq_true rfl) rfl rfl ?_
            refine z_goto (t := 9) hX dX2_compactOnce_63 (by decide) ?_
            have e9 : 12 * (i + 1) = 12 * i + j := by omega
            exact ih hin _ _ _ _ _ _ _ _ (by rw [e9]; exact ep) (by rw [e9]; exact eq) (by rw [e9]; exact er) rfl
          · exact absurd (by omega) h26
      have e8 := scP_skip (M := M) hin (i + 1) (Nat.le_refl _)
      refine z_iload (q := 11) hX dX2_compactOnce_9 rfl rfl ?_
      refine z_bipush (q := 13) hX dX2_compactOnce_11 (by decide) rfl ?_
      refine z_icmp_ge (q := 16) (t := 66) hX dX2_compactOnce_13 (by decide) ⟨by omega, by omega⟩ (by decide) rfl (fun h13 => ?_) (fun h13 => ?_)
      · exact absurd h13 (by omega)
      · refine z_iload (q := 18) hX dX2_compactOnce_16 rfl rfl ?_
        refine z_iconst (q := 19) hX dX2_compactOnce_18 rfl ?_
        refine z_iadd (q := 20) hX dX2_compactOnce_19 rfl ?_
        refine z_istore (q := 22) hX dX2_compactOnce_20 (Nat.le_of_ble_eq_true rfl) rfl rfl ?_
        exact K22 (i + 1) (by omega) (Nat.le_refl _) n1 f1 _ _ _ _ _ (by rw [e8]; exact ep) (by rw [e8]; exact eq) (by rw [e8]; exact er) rfl
    · have hi12 : 12 * i = 144 := by omega
      obtain ⟨u1, u2, u3⟩ := hyes _ hi12
      have hpp : 0 < p := by
        rcases scP_pos (M := M) (12 * i) with z | z
        · rw [z.2] at u1; exact absurd (show (0 : Int) ≤ -1 from u1) (by decide)
        · rw [ep]; exact z.1
      have hmay : mayP M lo hi = true := by
        rcases (scP_ok M (12 * i) (by omega)).2 with z | z
        · rw [z] at u1; exact absurd (show (0 : Int) ≤ -1 from u1) (by decide)
        · have := z.2.1
          rw [u2, u3] at this
          exact this
      obtain ⟨m1, m2, m3, m4⟩ := mayP_iff.mp hmay
      have hql : q = lo := by rw [eq]; exact u2
      have hrh : r = hi := by rw [er]; exact u3
      subst hql
      subst hrh
      have hmin : min q r = q ∧ max q r = r := ⟨by omega, by omega⟩
      have hg1 := gR (12 * i) (by omega)
      rw [← ep] at hg1
      have rq := isT_row hok m2
      refine z_iload (q := 11) hX dX2_compactOnce_9 rfl rfl ?_
      refine z_bipush (q := 13) hX dX2_compactOnce_11 (by decide) rfl ?_
      refine z_icmp_ge (q := 16) (t := 66) hX dX2_compactOnce_13 (by decide) ⟨by omega, by omega⟩ (by decide) rfl (fun h13 => ?_) (fun h13 => ?_)
      · refine z_iload_n (i := 1) (q := 67) hX dX2_compactOnce_66 rfl rfl rfl ?_
        refine z_if_le (q := 70) (t := 84) hX dX2_compactOnce_67 (by decide) hg1 rfl (fun h67 => ?_) (fun h67 => ?_)
        · exact absurd h67 (by omega)
        · refine z_aload_n (i := 0) (q := 71) hX dX2_compactOnce_70 rfl rfl rfl ?_
          refine z_iload_n (i := 2) (q := 72) hX dX2_compactOnce_71 rfl rfl rfl ?_
          refine z_iload_n (i := 3) (q := 73) hX dX2_compactOnce_72 rfl rfl rfl ?_
          refine z_VW (ci := ciX2) (T := TX2) (N := 4) (na := 2) hX dX2_compactOnce_73 (c_X2_merge_ok D A (M := M) (mR := cM D mR col tc n1 f1) (ll := ll) (ta := ta) (col := col) (mc := mc) (ls := ls) (tf := tf) rfl hd hok hls hts m2 m3 (by omega) (by rw [hmin.1, hmin.2]; exact m4)) rfl q667 q668 q669 q98 q670 (by decide +kernel) ⟨Nat.le_of_ble_eq_true rfl, Nat.le_of_ble_eq_true rfl⟩ rfl rfl (Nat.le_of_ble_eq_true rfl) rfl (by first | exact Nat.le_of_ble_eq_true rfl | (show _ + 150 ≤ 150; omega)) (by first | exact Nat.le_of_ble_eq_true rfl | (show _ + 6600 ≤ 6600; omega)) (fun H h => ⟨h, h.obE (Or.inr logM_b) rfl⟩) (fun E a => zT.no) (zPe.out (fun x73 hx73 => ?_))
          show zG X (_ + 150) (_ + 6600) _ 76 _ _
          obtain ⟨j1, j2, j3, j4⟩ := hx73
          rw [hmin.1, hmin.2]
          rw [hmin.1, hmin.2] at j2 j4
          refine z_iload_n (i := 2) (q := 77) hX dX2_compactOnce_76 rfl rfl rfl ?_
          refine z_icmp_ne (q := 80) (t := 84) hX dX2_compactOnce_77 (by decide) ⟨by omega, by omega⟩ ⟨by omega, by omega⟩ rfl (fun h77 => ?_) (fun h77 => ?_)
          · exact absurd rfl h77
          · refine z_iconst (q := 81) hX dX2_compactOnce_80 rfl ?_
            refine z_goto (t := 85) hX dX2_compactOnce_81 (by decide) ?_
            exact z_zret hX dX2_compactOnce_85 (by first | exact Nat.le_of_ble_eq_true rfl | (show (_ : Nat) ≤ 150; omega)) (by first | exact Nat.le_of_ble_eq_true rfl | (show (_ : Nat) ≤ 6600; omega)) rfl (by first | decide | omega) (fun H h => ⟨((n1, f1), x73.2.1, va_up (va_up tf q.toNat (some x73.1)) r.toNat none), rfl, ⟨j1, mgM_ts hok m2 m3 (by omega) (hts.le j1) (mgM_tm hok m2 m3 (by omega) m4 j3 j4 j2)⟩, h⟩)
      · exact absurd (by omega) h13
  refine z_iconst (q := 1) hX dX2_compactOnce_0 rfl ?_
  refine z_istore_n (i := 1) (q := 2) hX dX2_compactOnce_1 rfl (Nat.le_of_ble_eq_true rfl) rfl rfl ?_
  refine z_iconst (q := 3) hX dX2_compactOnce_2 rfl ?_
  refine z_istore_n (i := 2) (q := 4) hX dX2_compactOnce_3 rfl (Nat.le_of_ble_eq_true rfl) rfl rfl ?_
  refine z_iconst (q := 5) hX dX2_compactOnce_4 rfl ?_
  refine z_istore_n (i := 3) (q := 6) hX dX2_compactOnce_5 rfl (Nat.le_of_ble_eq_true rfl) rfl rfl ?_
  refine z_iconst (q := 7) hX dX2_compactOnce_6 rfl ?_
  refine z_istore (q := 9) hX dX2_compactOnce_7 (Nat.le_of_ble_eq_true rfl) rfl rfl ?_
  exact zG.mono (K9 0 (Nat.zero_le _) n0 f0 0 (-1) (-1) 0 _ _ rfl rfl rfl rfl) (fun H h => by rw [cM_self hc1 hc2]; exact h)
