/-! THE REFERENCE: what it answers of a query's hits -/
set_option maxRecDepth 100000
theorem zCds.cg {F F2 : zTF} {G : zTG} (h : zCds F G) (e : F2 20 = F 20) : zCds F2 G := by
  unfold zCds at h ⊢
  rw [e]
  exact h
def hiP (F : zTF) (G : zTG) : Int → Bool := fun l => htI (G 0) (G 12) (G 13) l (-1) (F 20).toNat
def opHit (F : zTF) (G : zTG) (x : Int) : Int × Int := if F 19 = 0 then (1, 0) else if ¬ (0 ≤ x ∧ x ≤ hiI (G 0) (G 12) (G 13) (F 20).toNat - 1) then (2, 0) else (0, (rF (hiP F G) (G 0 0).toNat).getD x.toNat 0)
theorem hiI_len (F : zTF) (G : zTG) : hiI (G 0) (G 12) (G 13) (F 20).toNat = ((rF (hiP F G) (G 0 0).toNat).length : Int) := rF_len.symm
abbrev rmX4_hit : Room := { frames := 7, cells := 0, slots := 0, locals := 167 }
set_option maxHeartbeats 4000000 in
theorem c_X4_hit (D : zD) (A : Nat → Prop) {b : Nat} {F : zTF} {G : zTG} {x : Int} (h : zWg G) (hc : zCds F G) (hx : zR x) (hF : 0 ≤ F 19 ∧ F 19 ≤ 1) : zC D yX4_hit cX4_hit 4 (some .int) none rmX4_hit A [.ref b, zI (x)] (twI D A b F G) (zPd (zI ((opHit F G x).2)) (twI D A b (upF F 6 (opHit F G x).1) (G))) zNo := by
  refine zC_start (L := [some (.ref b), some (zI (x)), none, none]) (by decide) (Nat.le_of_ble_eq_true rfl) rfl (fun X hX => ?_)
  have hw := h.1
  have hm := hw.1
  have hlen := hiI_len F G
  have hle := rF_le (p := hiP F G) (n := (G 0 0).toNat)
  have J31 : ∀ z : Int, 1 ≤ z ∧ z ≤ 2 → opHit F G x = (z, 0) → zG X 0 0 (twI D A b F G) 31 [some (.ref b), some (zI (x)), none, none] [zI (z), .ref b] := by
    intro z hz e
    rw [e] at hX
    refine zt_put (ty := .int) (q := 34) hX 6 dX4_hit_31 q1870 (by decide) rfl rfl rfl (by decide) rfl rfl rfl ?_
    refine z_aload_n (i := 0) (q := 35) hX dX4_hit_34 rfl rfl rfl ?_
    refine zt_getI (q := 38) hX 6 dX4_hit_35 q1870 (by decide) rfl rfl rfl ?_
    rw [upF_same]
    refine z_if_le (q := 41) (t := 43) hX dX4_hit_38 (by decide) (by omega) rfl (fun h38 => ?_) (fun h38 => ?_)
    · exact absurd h38 (by omega)
    · refine z_iconst (q := 42) hX dX4_hit_41 rfl ?_
      exact z_iret hX dX4_hit_42 (Nat.le_of_ble_eq_true rfl) (Nat.le_of_ble_eq_true rfl) rfl (fun H hI => ⟨congrArg (fun z => some (zI z)) (rfl), hI⟩)
  have J43 : F 19 ≠ 0 → (0 ≤ x ∧ x ≤ hiI (G 0) (G 12) (G 13) (F 20).toNat - 1) → zG X 0 0 (twI D A b (upF F 6 0) G) 43 [some (.ref b), some (zI (x)), none, none] [] := by
    intro q1 q2
    have e1 : opHit F G x = (0, (rF (hiP F G) (G 0 0).toNat).getD x.toNat 0) := by unfold opHit; rw [if_neg q1, if_neg (fun z => z q2)]
    rw [e1] at hX
    have hc2 : zCds (upF F 6 0) G := hc.cg (upF_ne _ _ (by decide))
    have e20 : upF F 6 0 20 = F 20 := upF_ne _ _ (by decide)
    have K : ∀ n : Nat, n ≤ (G 0 0).toNat → ∀ y p : Int, y = x - ((rF (hiP F G) n).length : Int) → 0 ≤ y → p = n → zG X 0 0 (twI D A b (upF F 6 0) G) 47 [some (.ref b), some (zI (x)), some (zI (y)), some (zI (p))] [] := by
      refine z_up (fun n hn ih y p ey hy ep => ?_)
      subst ep
      have hlt : n < (G 0 0).toNat := by
        by_cases q : n = (G 0 0).toNat
        · rw [q] at ey; omega
        · omega
      have hs : ∀ v : Bool, hiP F G n = v → ((rF (hiP F G) (n + 1)).length : Int) = (rF (hiP F G) n).length + bi v := fun v hv => by
        rw [rF, hv]; cases v <;> simp [bi]
      have hPd : hiP F G n = htI (G 0) (G 12) (G 13) n (-1) (F 20).toNat := rfl
      refine z_aload_n (i := 0) (q := 48) hX dX4_hit_47 rfl rfl rfl ?_
      refine z_iload_n (i := 3) (q := 49) hX dX4_hit_48 rfl rfl rfl ?_
      refine z_iconst (q := 50) hX dX4_hit_49 rfl ?_
      refine zt_V1 (q := 53) (na := 2) hX dX4_hit_50 (c_X4_isHit D A h (by omega) (by omega) (by decide) hc2) q2266 q2268 qs91 q103 q2269 rfl (by decide +kernel) ⟨Nat.le_of_ble_eq_true rfl, Nat.le_of_ble_eq_true rfl⟩ rfl rfl (Nat.le_of_ble_eq_true rfl) rfl ⟨rfl, rfl⟩ (Nat.le_of_ble_eq_true rfl) (Nat.le_of_ble_eq_true rfl) rfl ?_
      rw [e20, ← hPd]
      refine z_ifB_eq (q := 56) (t := 60) hX dX4_hit_53 (by decide) rfl (fun h53 => ?_) (fun h53 => ?_)
      · refine z_iload_n (i := 2) (q := 61) hX dX4_hit_60 rfl rfl rfl ?_
        refine z_aload_n (i := 0) (q := 62) hX dX4_hit_61 rfl rfl rfl ?_
        refine z_iload_n (i := 3) (q := 63) hX dX4_hit_62 rfl rfl rfl ?_
        refine z_iconst (q := 64) hX dX4_hit_63 rfl ?_
        refine zt_V1 (q := 67) (na := 2) hX dX4_hit_64 (c_X4_isHit D A h (by omega) (by omega) (by decide) hc2) q2266 q2268 qs91 q103 q2269 rfl (by decide +kernel) ⟨Nat.le_of_ble_eq_true rfl, Nat.le_of_ble_eq_true rfl⟩ rfl rfl (Nat.le_of_ble_eq_true rfl) rfl ⟨rfl, rfl⟩ (Nat.le_of_ble_eq_true rfl) (Nat.le_of_ble_eq_true rfl) rfl ?_
        rw [e20, ← hPd]
        refine z_ifB_eq (q := 70) (t := 74) hX dX4_hit_67 (by decide) rfl (fun h67 => ?_) (fun h67 => ?_)
        · refine z_iconst (q := 75) hX dX4_hit_74 rfl ?_
          refine z_isub (q := 76) hX dX4_hit_75 rfl ?_
          refine z_istore_n (i := 2) (q := 77) hX dX4_hit_76 rfl (Nat.le_of_ble_eq_true rfl) rfl rfl ?_
          refine z_iinc (q := 80) hX dX4_hit_77 rfl (Nat.le_of_ble_eq_true rfl) rfl rfl ?_
          refine z_goto (t := 47) hX dX4_hit_80 (by decide) ?_
          exact ih hlt _ _ (by rw [hs false h53, bi_f]; omega) (by omega) (by omega)
        · refine z_iconst (q := 71) hX dX4_hit_70 rfl ?_
          refine z_goto (t := 75) hX dX4_hit_71 (by decide) ?_
          refine z_isub (q := 76) hX dX4_hit_75 rfl ?_
          refine z_istore_n (i := 2) (q := 77) hX dX4_hit_76 rfl (Nat.le_of_ble_eq_true rfl) rfl rfl ?_
          refine z_iinc (q := 80) hX dX4_hit_77 rfl (Nat.le_of_ble_eq_true rfl) rfl rfl ?_
          refine z_goto (t := 47) hX dX4_hit_80 (by decide) ?_
          exact absurd h53 (by rw [h67]; decide)
      · refine z_iload_n (i := 2) (q := 57) hX dX4_hit_56 rfl rfl rfl ?_
        refine z_if_le (q := 60) (t := 83) hX dX4_hit_57 (by decide) (by omega) rfl (fun h57 => ?_) (fun h57 => ?_)
        · refine z_iload_n (i := 3) (q := 84) hX dX4_hit_83 rfl rfl rfl ?_
          exact z_iret hX dX4_hit_84 (Nat.le_of_ble_eq_true rfl) (Nat.le_of_ble_eq_true rfl) rfl (fun H hI => ⟨congrArg (fun z => some (zI z)) ((by
            have h9 := rF_at (p := hiP F G) (l := n) (n := (G 0 0).toNat) hlt h53
            rw [List.getD_eq_getElem?_getD, show x.toNat = (rF (hiP F G) n).length by omega, h9]
            rfl)), hI⟩)
        · refine z_iload_n (i := 2) (q := 61) hX dX4_hit_60 rfl rfl rfl ?_
          refine z_aload_n (i := 0) (q := 62) hX dX4_hit_61 rfl rfl rfl ?_
          refine z_iload_n (i := 3) (q := 63) hX dX4_hit_62 rfl rfl rfl ?_
          refine z_iconst (q := 64) hX dX4_hit_63 rfl ?_
          refine zt_V1 (q := 67) (na := 2) hX dX4_hit_64 (c_X4_isHit D A h (by omega) (by omega) (by decide) hc2) q2266 q2268 qs91 q103 q2269 rfl (by decide +kernel) ⟨Nat.le_of_ble_eq_true rfl, Nat.le_of_ble_eq_true rfl⟩ rfl rfl (Nat.le_of_ble_eq_true rfl) rfl ⟨rfl, rfl⟩ (Nat.le_of_ble_eq_true rfl) (Nat.le_of_ble_eq_true rfl) rfl ?_
          rw [e20, ← hPd]
          refine z_ifB_eq (q := 70) (t := 74) hX dX4_hit_67 (by decide) rfl (fun h67 => ?_) (fun h67 => ?_)
          · refine z_iconst (q := 75) hX dX4_hit_74 rfl ?_
            refine z_isub (q := 76) hX dX4_hit_75 rfl ?_
            refine z_istore_n (i := 2) (q := 77) hX dX4_hit_76 rfl (Nat.le_of_ble_eq_true rfl) rfl rfl ?_
            refine z_iinc (q := 80) hX dX4_hit_77 rfl (Nat.le_of_ble_eq_true rfl) rfl rfl ?_
            refine z_goto (t := 47) hX dX4_hit_80 (by decide) ?_
            exact absurd h53 (by rw [h67]; decide)
          · refine z_iconst (q := 71) hX dX4_hit_70 rfl ?_
            refine z_goto (t := 75) hX dX4_hit_71 (by decide) ?_
            refine z_isub (q := 76) hX dX4_hit_75 rfl ?_
            refine z_istore_n (i := 2) (q := 77) hX dX4_hit_76 rfl (Nat.le_of_ble_eq_true rfl) rfl rfl ?_
            refine z_iinc (q := 80) hX dX4_hit_77 rfl (Nat.le_of_ble_eq_true rfl) rfl rfl ?_
            refine z_goto (t := 47) hX dX4_hit_80 (by decide) ?_
            exact ih hlt _ _ (by rw [hs true h53, bi_t]; omega) (by omega) (by omega)
    refine z_iload_n (i := 1) (q := 44) hX dX4_hit_43 rfl rfl rfl ?_
    refine z_istore_n (i := 2) (q := 45) hX dX4_hit_44 rfl (Nat.le_of_ble_eq_true rfl) rfl rfl ?_
    refine z_iconst (q := 46) hX dX4_hit_45 rfl ?_
    refine z_istore_n (i := 3) (q := 47) hX dX4_hit_46 rfl (Nat.le_of_ble_eq_true rfl) rfl rfl ?_
    exact K 0 (Nat.zero_le _) _ _ (by simp [rF]) (by omega) rfl
  refine z_aload_n (i := 0) (q := 1) hX dX4_hit_0 rfl rfl rfl ?_
  refine z_aload_n (i := 0) (q := 2) hX dX4_hit_1 rfl rfl rfl ?_
  refine zt_getI (q := 5) hX 19 dX4_hit_2 q1883 (by decide) rfl rfl rfl ?_
  refine z_if_ne (q := 8) (t := 12) hX dX4_hit_5 (by decide) (by omega) rfl (fun h5 => ?_) (fun h5 => ?_)
  · refine z_iload_n (i := 1) (q := 13) hX dX4_hit_12 rfl rfl rfl ?_
    refine z_iconst (q := 14) hX dX4_hit_13 rfl ?_
    refine z_aload_n (i := 0) (q := 15) hX dX4_hit_14 rfl rfl rfl ?_
    refine zt_V1 (q := 18) (na := 0) hX dX4_hit_15 (c_X4_hits D A h hc) q2262 q2264 qs90 q103 q2265 rfl (by decide +kernel) ⟨Nat.le_of_ble_eq_true rfl, Nat.le_of_ble_eq_true rfl⟩ rfl rfl (Nat.le_of_ble_eq_true rfl) rfl ⟨rfl, rfl⟩ (Nat.le_of_ble_eq_true rfl) (Nat.le_of_ble_eq_true rfl) rfl ?_
    have hh : 0 ≤ hiI (G 0) (G 12) (G 13) (F 20).toNat ∧ hiI (G 0) (G 12) (G 13) (F 20).toNat ≤ 40 := by omega
    refine z_iconst (q := 19) hX dX4_hit_18 rfl ?_
    refine z_isub (q := 20) hX dX4_hit_19 rfl ?_
    refine zt_S1 (q := 23) (na := 3) hX dX4_hit_20 (c_X4_in D A (by first | assumption | omega) (by first | assumption | omega) (by first | assumption | omega)) q1955 q1956 q103 q1957 (by decide +kernel) ⟨Nat.le_of_ble_eq_true rfl, Nat.le_of_ble_eq_true rfl⟩ rfl rfl (Nat.le_of_ble_eq_true rfl) rfl ⟨rfl, rfl⟩ (Nat.le_of_ble_eq_true rfl) (Nat.le_of_ble_eq_true rfl) rfl ?_
    refine z_ifB_ne (q := 26) (t := 30) hX dX4_hit_23 (by decide) rfl (fun h23 => ?_) (fun h23 => ?_)
    · refine z_iconst (q := 31) hX dX4_hit_30 rfl ?_
      refine zt_put (ty := .int) (q := 34) hX 6 dX4_hit_31 q1870 (by decide) rfl rfl rfl (by decide) rfl rfl rfl ?_
      refine z_aload_n (i := 0) (q := 35) hX dX4_hit_34 rfl rfl rfl ?_
      refine zt_getI (q := 38) hX 6 dX4_hit_35 q1870 (by decide) rfl rfl rfl ?_
      rw [upF_same]
      refine z_if_le (q := 41) (t := 43) hX dX4_hit_38 (by decide) (by omega) rfl (fun h38 => ?_) (fun h38 => ?_)
      · exact J43 h5 (and_t.mp h23)
      · exact absurd h38 (by decide)
    · refine z_iconst (q := 27) hX dX4_hit_26 rfl ?_
      refine z_goto (t := 31) hX dX4_hit_27 (by decide) ?_
      exact J31 2 (by omega) (by unfold opHit; rw [if_neg h5, if_pos (and_f.mp h23)])
  · refine z_iconst (q := 9) hX dX4_hit_8 rfl ?_
    refine z_goto (t := 31) hX dX4_hit_9 (by decide) ?_
    exact J31 1 (by omega) (by unfold opHit; rw [if_pos (by omega)])
def opExc (F : zTF) (G : zTG) (x : Int) : Int × Int := if F 19 ≠ 0 ∧ 0 ≤ x ∧ x ≤ F 20 - 1 then (0, sumI (fun l => bi (htI (G 0) (G 12) (G 13) l x (F 20).toNat && !fuI (G 0) (G 12) (G 13) l x)) (G 0 0).toNat) else (1, 0)
abbrev rmX4_excluded : Room := { frames := 6, cells := 0, slots := 0, locals := 145 }
set_option maxHeartbeats 4000000 in
theorem c_X4_excluded (D : zD) (A : Nat → Prop) {b : Nat} {F : zTF} {G : zTG} {x : Int} (h : zWg G) (hc : zCds F G) (hx : zR x) (hF : 0 ≤ F 19 ∧ F 19 ≤ 1) : zC D yX4_excluded cX4_excluded 4 (some .int) none rmX4_excluded A [.ref b, zI (x)] (twI D A b F G) (zPd (zI ((opExc F G x).2)) (twI D A b (upF F 6 (opExc F G x).1) (G))) zNo := by
  refine zC_start (L := [some (.ref b), some (zI (x)), none, none]) (by decide) (Nat.le_of_ble_eq_true rfl) rfl (fun X hX => ?_)
  have hw := h.1
  have hm := hw.1
  have hn := hc.1
  have J27n : ¬ (F 19 ≠ 0 ∧ 0 ≤ x ∧ x ≤ F 20 - 1) → zG X 0 0 (twI D A b F G) 27 [some (.ref b), some (zI (x)), none, none] [zI (1), .ref b] := by
    intro q
    rw [show opExc F G x = (1, 0) from if_neg q] at hX
    refine zt_put (ty := .int) (q := 30) hX 6 dX4_excluded_27 q1870 (by decide) rfl rfl rfl (by decide) rfl rfl rfl ?_
    refine z_iconst (q := 31) hX dX4_excluded_30 rfl ?_
    refine z_istore_n (i := 2) (q := 32) hX dX4_excluded_31 rfl (Nat.le_of_ble_eq_true rfl) rfl rfl ?_
    refine z_iconst (q := 33) hX dX4_excluded_32 rfl ?_
    refine z_istore_n (i := 3) (q := 34) hX dX4_excluded_33 rfl (Nat.le_of_ble_eq_true rfl) rfl rfl ?_
    refine z_iload_n (i := 3) (q := 35) hX dX4_excluded_34 rfl rfl rfl ?_
    refine z_aload_n (i := 0) (q := 36) hX dX4_excluded_35 rfl rfl rfl ?_
    refine zt_getA (q := 39) hX 0 0 dX4_excluded_36 q1864 (by decide) rfl rfl rfl ?_
    refine z_iconst (q := 40) hX dX4_excluded_39 rfl ?_
    refine zt_ald (q := 41) (N := 1964) hX 0 dX4_excluded_40 rfl (by decide) (by decide) (by omega) rfl ?_
    refine z_icmp_ge (q := 44) (t := 83) hX dX4_excluded_41 (by decide) (by omega) (by omega) rfl (fun h41 => ?_) (fun h41 => ?_)
    · refine z_iload_n (i := 2) (q := 84) hX dX4_excluded_83 rfl rfl rfl ?_
      exact z_iret hX dX4_excluded_84 (Nat.le_of_ble_eq_true rfl) (Nat.le_of_ble_eq_true rfl) rfl (fun H hI => ⟨congrArg (fun z => some (zI z)) (rfl), hI⟩)
    · refine z_aload_n (i := 0) (q := 45) hX dX4_excluded_44 rfl rfl rfl ?_
      refine zt_getI (q := 48) hX 6 dX4_excluded_45 q1870 (by decide) rfl rfl rfl ?_
      rw [upF_same]
      refine z_if_ne (q := 51) (t := 83) hX dX4_excluded_48 (by decide) (by omega) rfl (fun h48 => ?_) (fun h48 => ?_)
      · refine z_iload_n (i := 2) (q := 84) hX dX4_excluded_83 rfl rfl rfl ?_
        exact z_iret hX dX4_excluded_84 (Nat.le_of_ble_eq_true rfl) (Nat.le_of_ble_eq_true rfl) rfl (fun H hI => ⟨congrArg (fun z => some (zI z)) (rfl), hI⟩)
      · exact absurd h48 (by decide)
  have J27y : (F 19 ≠ 0 ∧ 0 ≤ x ∧ x ≤ F 20 - 1) → zG X 0 0 (twI D A b F G) 27 [some (.ref b), some (zI (x)), none, none] [zI (0), .ref b] := by
    intro q
    rw [show opExc F G x = (0, sumI (fun l => bi (htI (G 0) (G 12) (G 13) l x (F 20).toNat && !fuI (G 0) (G 12) (G 13) l x)) (G 0 0).toNat) from if_pos q] at hX
    have hc2 : zCds (upF F 6 0) G := hc.cg (upF_ne _ _ (by decide))
    have e20 : upF F 6 0 20 = F 20 := upF_ne _ _ (by decide)
    have K : ∀ n : Nat, n ≤ (G 0 0).toNat → ∀ c p : Int, c = sumI (fun l => bi (htI (G 0) (G 12) (G 13) l x (F 20).toNat && !fuI (G 0) (G 12) (G 13) l x)) n → p = n → zG X 0 0 (twI D A b (upF F 6 0) G) 34 [some (.ref b), some (zI (x)), some (zI (c)), some (zI (p))] [] := by
      refine z_up (fun n hn1 ih c p e1 e2 => ?_)
      subst e2
      refine z_iload_n (i := 3) (q := 35) hX dX4_excluded_34 rfl rfl rfl ?_
      refine z_aload_n (i := 0) (q := 36) hX dX4_excluded_35 rfl rfl rfl ?_
      refine zt_getA (q := 39) hX 0 0 dX4_excluded_36 q1864 (by decide) rfl rfl rfl ?_
      refine z_iconst (q := 40) hX dX4_excluded_39 rfl ?_
      refine zt_ald (q := 41) (N := 1964) hX 0 dX4_excluded_40 rfl (by decide) (by decide) (by omega) rfl ?_
      refine z_icmp_ge (q := 44) (t := 83) hX dX4_excluded_41 (by decide) (by omega) (by omega) rfl (fun h41 => ?_) (fun h41 => ?_)
      · refine z_iload_n (i := 2) (q := 84) hX dX4_excluded_83 rfl rfl rfl ?_
        exact z_iret hX dX4_excluded_84 (Nat.le_of_ble_eq_true rfl) (Nat.le_of_ble_eq_true rfl) rfl (fun H hI => ⟨congrArg (fun z => some (zI z)) ((by rw [e1, show n = (G 0 0).toNat by omega])), hI⟩)
      · refine z_aload_n (i := 0) (q := 45) hX dX4_excluded_44 rfl rfl rfl ?_
        refine zt_getI (q := 48) hX 6 dX4_excluded_45 q1870 (by decide) rfl rfl rfl ?_
        rw [upF_same]
        refine z_if_ne (q := 51) (t := 83) hX dX4_excluded_48 (by decide) (by omega) rfl (fun h48 => ?_) (fun h48 => ?_)
        · exact absurd rfl h48
        · refine z_iload_n (i := 2) (q := 52) hX dX4_excluded_51 rfl rfl rfl ?_
          refine z_aload_n (i := 0) (q := 53) hX dX4_excluded_52 rfl rfl rfl ?_
          refine z_iload_n (i := 3) (q := 54) hX dX4_excluded_53 rfl rfl rfl ?_
          refine z_iload_n (i := 1) (q := 55) hX dX4_excluded_54 rfl rfl rfl ?_
          refine zt_V1 (q := 58) (na := 2) hX dX4_excluded_55 (c_X4_isHit D A h (by omega) (by omega) hx hc2) q2266 q2268 qs91 q103 q2269 rfl (by decide +kernel) ⟨Nat.le_of_ble_eq_true rfl, Nat.le_of_ble_eq_true rfl⟩ rfl rfl (Nat.le_of_ble_eq_true rfl) rfl ⟨rfl, rfl⟩ (Nat.le_of_ble_eq_true rfl) (Nat.le_of_ble_eq_true rfl) rfl ?_
          rw [e20]
          refine z_ifB_eq (q := 61) (t := 74) hX dX4_excluded_58 (by decide) rfl (fun h58 => ?_) (fun h58 => ?_)
          · refine z_iconst (q := 75) hX dX4_excluded_74 rfl ?_
            refine z_iadd (q := 76) hX dX4_excluded_75 rfl ?_
            refine z_istore_n (i := 2) (q := 77) hX dX4_excluded_76 rfl (Nat.le_of_ble_eq_true rfl) rfl rfl ?_
            refine z_iinc (q := 80) hX dX4_excluded_77 rfl (Nat.le_of_ble_eq_true rfl) rfl rfl ?_
            refine z_goto (t := 34) hX dX4_excluded_80 (by decide) ?_
            exact ih (by omega) _ _ (by rw [sumI, e1, h58, Bool.false_and]; rfl) (by omega)
          · refine z_aload_n (i := 0) (q := 62) hX dX4_excluded_61 rfl rfl rfl ?_
            refine z_iload_n (i := 3) (q := 63) hX dX4_excluded_62 rfl rfl rfl ?_
            refine z_iload_n (i := 1) (q := 64) hX dX4_excluded_63 rfl rfl rfl ?_
            refine zt_V1 (q := 67) (na := 2) hX dX4_excluded_64 (c_X4_fulfils D A h (by omega) (by omega) (by omega) (hc.2.1 x (by omega) (by omega)) hc.2.2) q2270 q2272 qs92 q103 q2273 rfl (by decide +kernel) ⟨Nat.le_of_ble_eq_true rfl, Nat.le_of_ble_eq_true rfl⟩ rfl rfl (Nat.le_of_ble_eq_true rfl) rfl ⟨rfl, rfl⟩ (Nat.le_of_ble_eq_true rfl) (Nat.le_of_ble_eq_true rfl) rfl ?_
            refine z_ifB_ne (q := 70) (t := 74) hX dX4_excluded_67 (by decide) rfl (fun h67 => ?_) (fun h67 => ?_)
            · refine z_iconst (q := 75) hX dX4_excluded_74 rfl ?_
              refine z_iadd (q := 76) hX dX4_excluded_75 rfl ?_
              refine z_istore_n (i := 2) (q := 77) hX dX4_excluded_76 rfl (Nat.le_of_ble_eq_true rfl) rfl rfl ?_
              refine z_iinc (q := 80) hX dX4_excluded_77 rfl (Nat.le_of_ble_eq_true rfl) rfl rfl ?_
              refine z_goto (t := 34) hX dX4_excluded_80 (by decide) ?_
              exact ih (by omega) _ _ (by rw [sumI, e1, h58, h67]; rfl) (by omega)
            · refine z_iconst (q := 71) hX dX4_excluded_70 rfl ?_
              refine z_goto (t := 75) hX dX4_excluded_71 (by decide) ?_
              refine z_iadd (q := 76) hX dX4_excluded_75 rfl ?_
              refine z_istore_n (i := 2) (q := 77) hX dX4_excluded_76 rfl (Nat.le_of_ble_eq_true rfl) rfl rfl ?_
              refine z_iinc (q := 80) hX dX4_excluded_77 rfl (Nat.le_of_ble_eq_true rfl) rfl rfl ?_
              refine z_goto (t := 34) hX dX4_excluded_80 (by decide) ?_
              exact ih (by omega) _ _ (by rw [sumI, e1, h58, h67]; rfl) (by omega)
    refine zt_put (ty := .int) (q := 30) hX 6 dX4_excluded_27 q1870 (by decide) rfl rfl rfl (by decide) rfl rfl rfl ?_
    refine z_iconst (q := 31) hX dX4_excluded_30 rfl ?_
    refine z_istore_n (i := 2) (q := 32) hX dX4_excluded_31 rfl (Nat.le_of_ble_eq_true rfl) rfl rfl ?_
    refine z_iconst (q := 33) hX dX4_excluded_32 rfl ?_
    refine z_istore_n (i := 3) (q := 34) hX dX4_excluded_33 rfl (Nat.le_of_ble_eq_true rfl) rfl rfl ?_
    exact K 0 (Nat.zero_le _) _ _ rfl rfl
  refine z_aload_n (i := 0) (q := 1) hX dX4_excluded_0 rfl rfl rfl ?_
  refine z_aload_n (i := 0) (q := 2) hX dX4_excluded_1 rfl rfl rfl ?_
  refine zt_getI (q := 5) hX 19 dX4_excluded_2 q1883 (by decide) rfl rfl rfl ?_
  refine z_if_eq (q := 8) (t := 26) hX dX4_excluded_5 (by decide) (by omega) rfl (fun h5 => ?_) (fun h5 => ?_)
  · refine z_iconst (q := 27) hX dX4_excluded_26 rfl ?_
    exact J27n (fun q => q.1 (by omega))
  · refine z_iload_n (i := 1) (q := 9) hX dX4_excluded_8 rfl rfl rfl ?_
    refine z_iconst (q := 10) hX dX4_excluded_9 rfl ?_
    refine z_aload_n (i := 0) (q := 11) hX dX4_excluded_10 rfl rfl rfl ?_
    refine zt_getI (q := 14) hX 20 dX4_excluded_11 q1884 (by decide) rfl rfl rfl ?_
    refine z_iconst (q := 15) hX dX4_excluded_14 rfl ?_
    refine z_isub (q := 16) hX dX4_excluded_15 rfl ?_
    refine zt_S1 (q := 19) (na := 3) hX dX4_excluded_16 (c_X4_in D A (by first | assumption | omega) (by first | assumption | omega) (by first | assumption | omega)) q1955 q1956 q103 q1957 (by decide +kernel) ⟨Nat.le_of_ble_eq_true rfl, Nat.le_of_ble_eq_true rfl⟩ rfl rfl (Nat.le_of_ble_eq_true rfl) rfl ⟨rfl, rfl⟩ (Nat.le_of_ble_eq_true rfl) (Nat.le_of_ble_eq_true rfl) rfl ?_
    refine z_ifB_eq (q := 22) (t := 26) hX dX4_excluded_19 (by decide) rfl (fun h19 => ?_) (fun h19 => ?_)
    · refine z_iconst (q := 27) hX dX4_excluded_26 rfl ?_
      exact J27n (fun q => and_f.mp h19 q.2)
    · refine z_iconst (q := 23) hX dX4_excluded_22 rfl ?_
      refine z_goto (t := 27) hX dX4_excluded_23 (by decide) ?_
      exact J27y ⟨by omega, and_t.mp h19⟩
