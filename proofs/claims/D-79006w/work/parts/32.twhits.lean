/-! THE REFERENCE: the lines that a query hits -/
set_option maxRecDepth 100000
def zCd (C : Int → Int) (c : Int) : Prop := (0 ≤ C c ∧ C c ≤ 4) ∧ zR (C (c + 1)) ∧ zR (C (c + 2)) ∧ zR (C (c + 3)) ∧ zR (C (c + 4)) ∧ (C (c + 1) = 36 → 0 ≤ C (c + 5) ∧ C (c + 5) ≤ C (c + 6) ∧ C (c + 6) ≤ 60)
/-- the query's conditions, if any -/
def zCds (F : zTF) (G : zTG) : Prop := (0 ≤ F 20 ∧ F 20 ≤ 59) ∧ (∀ i : Int, 0 ≤ i → i < F 20 → zCd (G 12) (7 * i)) ∧ ∀ i : Int, 0 ≤ i → i < 60 → zR (G 13 i)
def fuR (M C Q : Int → Int) (l c : Int) : Bool := if C (c + 1) = 35 then decide (M (43 + l) = C (c + 4)) else if C (c + 1) = 36 then hwI M l (wdQ C Q c) else cwB M l (C (c + 2)) (C (c + 3)) (C (c + 4))
def fuI (M C Q : Int → Int) (l x : Int) : Bool := decide (fuR M C Q l (7 * x) = decide (C (7 * x) % 2 = 0))
theorem zI_rem2 {a : Int} (h : 0 ≤ a ∧ a ≤ 4) : Int32.ofInt a - Int32.ofInt a / Int32.ofInt 2 * Int32.ofInt 2 = Int32.ofInt (a % 2) := by
  have : a = 0 ∨ a = 1 ∨ a = 2 ∨ a = 3 ∨ a = 4 := by omega
  rcases this with rfl | rfl | rfl | rfl | rfl <;> decide
theorem bi_inj {a c : Bool} (h : bi a = bi c) : a = c := by
  cases a <;> cases c <;> first | rfl | exact absurd h (by decide)
abbrev rmX4_fulfils : Room := { frames := 4, cells := 0, slots := 0, locals := 96 }
set_option maxHeartbeats 4000000 in
theorem c_X4_fulfils (D : zD) (A : Nat → Prop) {b : Nat} {F : zTF} {G : zTG} {l x : Int} (h : zWg G) (l0 : 0 ≤ l) (l1 : l < G 0 0) (hx : 0 ≤ x ∧ x < 59) (hc : zCd (G 12) (7 * x)) (hq : ∀ i : Int, 0 ≤ i → i < 60 → zR (G 13 i)) : zC D yX4_fulfils cX4_fulfils 6 (some .boolean) none rmX4_fulfils A [.ref b, zI (l), zI (x)] (twI D A b F G) (zPd (zI (bi (fuI (G 0) (G 12) (G 13) l x))) (twI D A b (F) (G))) zNo := by
  refine zC_start (L := [some (.ref b), some (zI (l)), some (zI (x)), none, none, none]) (by decide) (Nat.le_of_ble_eq_true rfl) rfl (fun X hX => ?_)
  have hw := h.1
  have hm := hw.1
  have hof := hw.of l0 l1
  have hl := hw.ln l0 l1
  have hln := hl.1.f
  obtain ⟨n1, n2, n3, n4, n5, n6⟩ := hc
  have J72 : ∀ w : Bool, w = fuR (G 0) (G 12) (G 13) l (7 * x) → zG X 0 0 (twI D A b F G) 72 [some (.ref b), some (zI (l)), some (zI (x)), some (zI (7 * x)), some (zI (G 12 (7 * x + 1))), none] [zI (bi (w))] := by
    intro w ew
    have hbw := bi_range w
    have J92 : ∀ e : Bool, e = decide (G 12 (7 * x) % 2 = 0) → zG X 0 0 (twI D A b F G) 92 [some (.ref b), some (zI (l)), some (zI (x)), some (zI (7 * x)), some (zI (G 12 (7 * x + 1))), some (zI (bi (w)))] [zI (bi (e)), zI (bi (w))] := by
      intro e ee
      have hbe := bi_range e
      refine z_icmp_ne (q := 95) (t := 99) hX dX4_fulfils_92 (by decide) (by omega) (by omega) rfl (fun h92 => ?_) (fun h92 => ?_)
      · refine z_iconst (q := 100) hX dX4_fulfils_99 rfl ?_
        exact z_zret hX dX4_fulfils_100 (Nat.le_of_ble_eq_true rfl) (Nat.le_of_ble_eq_true rfl) rfl (by first | decide | omega) (fun H hI => ⟨congrArg (fun z => some (zI z)) ((by unfold fuI; rw [← ew, ← ee, decide_eq_false (fun q => h92 (by rw [q]))]; rfl)), hI⟩)
      · refine z_iconst (q := 96) hX dX4_fulfils_95 rfl ?_
        refine z_goto (t := 100) hX dX4_fulfils_96 (by decide) ?_
        exact z_zret hX dX4_fulfils_100 (Nat.le_of_ble_eq_true rfl) (Nat.le_of_ble_eq_true rfl) rfl (by first | decide | omega) (fun H hI => ⟨congrArg (fun z => some (zI z)) ((by unfold fuI; rw [← ew, ← ee, decide_eq_true (bi_inj (by omega))]; rfl)), hI⟩)
    refine z_istore (q := 74) hX dX4_fulfils_72 (Nat.le_of_ble_eq_true rfl) rfl rfl ?_
    refine z_iload (q := 76) hX dX4_fulfils_74 rfl rfl ?_
    refine z_aload_n (i := 0) (q := 77) hX dX4_fulfils_76 rfl rfl rfl ?_
    refine zt_getA (q := 80) hX 21 12 dX4_fulfils_77 q1885 (by decide) rfl rfl rfl ?_
    refine z_iload_n (i := 3) (q := 81) hX dX4_fulfils_80 rfl rfl rfl ?_
    refine zt_ald (q := 82) (N := 420) hX 12 dX4_fulfils_81 rfl (by decide) (by decide) (by omega) rfl ?_
    refine z_iconst (q := 83) hX dX4_fulfils_82 rfl ?_
    refine z_irem (q := 84) hX dX4_fulfils_83 (by decide) (zI_rem2 n1) rfl ?_
    refine z_if_ne (q := 87) (t := 91) hX dX4_fulfils_84 (by decide) (by omega) rfl (fun h84 => ?_) (fun h84 => ?_)
    · refine z_iconst (q := 92) hX dX4_fulfils_91 rfl ?_
      exact J92 false (decide_eq_false (by omega)).symm
    · refine z_iconst (q := 88) hX dX4_fulfils_87 rfl ?_
      refine z_goto (t := 92) hX dX4_fulfils_88 (by decide) ?_
      exact J92 true (decide_eq_true (by omega)).symm
  refine z_bipush (q := 2) hX dX4_fulfils_0 (by decide) rfl ?_
  refine z_iload_n (i := 2) (q := 3) hX dX4_fulfils_2 rfl rfl rfl ?_
  refine z_imul (q := 4) hX dX4_fulfils_3 rfl ?_
  refine z_istore_n (i := 3) (q := 5) hX dX4_fulfils_4 rfl (Nat.le_of_ble_eq_true rfl) rfl rfl ?_
  refine z_aload_n (i := 0) (q := 6) hX dX4_fulfils_5 rfl rfl rfl ?_
  refine zt_getA (q := 9) hX 21 12 dX4_fulfils_6 q1885 (by decide) rfl rfl rfl ?_
  refine z_iload_n (i := 3) (q := 10) hX dX4_fulfils_9 rfl rfl rfl ?_
  refine z_iconst (q := 11) hX dX4_fulfils_10 rfl ?_
  refine z_iadd (q := 12) hX dX4_fulfils_11 rfl ?_
  refine zt_ald (q := 13) (N := 420) hX 12 dX4_fulfils_12 rfl (by decide) (by decide) (by omega) rfl ?_
  refine z_istore (q := 15) hX dX4_fulfils_13 (Nat.le_of_ble_eq_true rfl) rfl rfl ?_
  refine z_iload (q := 17) hX dX4_fulfils_15 rfl rfl ?_
  refine z_bipush (q := 19) hX dX4_fulfils_17 (by decide) rfl ?_
  refine z_icmp_ne (q := 22) (t := 50) hX dX4_fulfils_19 (by decide) (by omega) (by omega) rfl (fun h19 => ?_) (fun h19 => ?_)
  · refine z_iload (q := 52) hX dX4_fulfils_50 rfl rfl ?_
    refine z_bipush (q := 54) hX dX4_fulfils_52 (by decide) rfl ?_
    refine z_icmp_ne (q := 57) (t := 66) hX dX4_fulfils_54 (by decide) (by omega) (by omega) rfl (fun h54 => ?_) (fun h54 => ?_)
    · refine z_aload_n (i := 0) (q := 67) hX dX4_fulfils_66 rfl rfl rfl ?_
      refine z_iload_n (i := 1) (q := 68) hX dX4_fulfils_67 rfl rfl rfl ?_
      refine z_iload_n (i := 3) (q := 69) hX dX4_fulfils_68 rfl rfl rfl ?_
      refine zt_V1 (q := 72) (na := 2) hX dX4_fulfils_69 (c_X4_compares D A h l0 l1 (by omega) n3 n4 n5) q2278 q2280 qs94 q103 q2281 rfl (by decide +kernel) ⟨Nat.le_of_ble_eq_true rfl, Nat.le_of_ble_eq_true rfl⟩ rfl rfl (Nat.le_of_ble_eq_true rfl) rfl ⟨rfl, rfl⟩ (Nat.le_of_ble_eq_true rfl) (Nat.le_of_ble_eq_true rfl) rfl ?_
      exact J72 _ (by unfold fuR; rw [if_neg h19, if_neg h54])
    · refine z_aload_n (i := 0) (q := 58) hX dX4_fulfils_57 rfl rfl rfl ?_
      refine z_iload_n (i := 1) (q := 59) hX dX4_fulfils_58 rfl rfl rfl ?_
      refine z_iload_n (i := 3) (q := 60) hX dX4_fulfils_59 rfl rfl rfl ?_
      refine zt_V1 (q := 63) (na := 2) hX dX4_fulfils_60 (c_X4_hasWord D A hl (by omega) (n6 (by omega)).1 (n6 (by omega)).2.1 (n6 (by omega)).2.2 hq) q2274 q2276 qs93 q103 q2277 rfl (by decide +kernel) ⟨Nat.le_of_ble_eq_true rfl, Nat.le_of_ble_eq_true rfl⟩ rfl rfl (Nat.le_of_ble_eq_true rfl) rfl ⟨rfl, rfl⟩ (Nat.le_of_ble_eq_true rfl) (Nat.le_of_ble_eq_true rfl) rfl ?_
      refine z_goto (t := 72) hX dX4_fulfils_63 (by decide) ?_
      exact J72 _ (by unfold fuR; rw [if_neg h19, if_pos (by omega)])
  · refine z_aload_n (i := 0) (q := 23) hX dX4_fulfils_22 rfl rfl rfl ?_
    refine zt_getA (q := 26) hX 0 0 dX4_fulfils_23 q1864 (by decide) rfl rfl rfl ?_
    refine z_bipush (q := 28) hX dX4_fulfils_26 (by decide) rfl ?_
    refine z_iload_n (i := 1) (q := 29) hX dX4_fulfils_28 rfl rfl rfl ?_
    refine z_iadd (q := 30) hX dX4_fulfils_29 rfl ?_
    refine zt_ald (q := 31) (N := 1964) hX 0 dX4_fulfils_30 rfl (by decide) (by decide) (by omega) rfl ?_
    refine z_aload_n (i := 0) (q := 32) hX dX4_fulfils_31 rfl rfl rfl ?_
    refine zt_getA (q := 35) hX 21 12 dX4_fulfils_32 q1885 (by decide) rfl rfl rfl ?_
    refine z_iload_n (i := 3) (q := 36) hX dX4_fulfils_35 rfl rfl rfl ?_
    refine z_iconst (q := 37) hX dX4_fulfils_36 rfl ?_
    refine z_iadd (q := 38) hX dX4_fulfils_37 rfl ?_
    refine zt_ald (q := 39) (N := 420) hX 12 dX4_fulfils_38 rfl (by decide) (by decide) (by omega) rfl ?_
    refine z_icmp_ne (q := 42) (t := 46) hX dX4_fulfils_39 (by decide) (by omega) (by omega) rfl (fun h39 => ?_) (fun h39 => ?_)
    · refine z_iconst (q := 47) hX dX4_fulfils_46 rfl ?_
      refine z_goto (t := 72) hX dX4_fulfils_47 (by decide) ?_
      exact J72 false (by unfold fuR; rw [if_pos (by omega), decide_eq_false (by omega)])
    · refine z_iconst (q := 43) hX dX4_fulfils_42 rfl ?_
      refine z_goto (t := 72) hX dX4_fulfils_43 (by decide) ?_
      exact J72 true (by unfold fuR; rw [if_pos (by omega), decide_eq_true (by omega)])
def htI (M C Q : Int → Int) (l e : Int) (n : Nat) : Bool := allI (fun i => decide (i = e) || fuI M C Q l i) n
abbrev rmX4_isHit : Room := { frames := 5, cells := 0, slots := 0, locals := 121 }
set_option maxHeartbeats 4000000 in
theorem c_X4_isHit (D : zD) (A : Nat → Prop) {b : Nat} {F : zTF} {G : zTG} {l e : Int} (h : zWg G) (l0 : 0 ≤ l) (l1 : l < G 0 0) (he : zR e) (hc : zCds F G) : zC D yX4_isHit cX4_isHit 5 (some .boolean) none rmX4_isHit A [.ref b, zI (l), zI (e)] (twI D A b F G) (zPd (zI (bi (htI (G 0) (G 12) (G 13) l e (F 20).toNat))) (twI D A b (F) (G))) zNo := by
  refine zC_start (L := [some (.ref b), some (zI (l)), some (zI (e)), none, none]) (by decide) (Nat.le_of_ble_eq_true rfl) rfl (fun X hX => ?_)
  have hw := h.1
  have hm := hw.1
  have hn := hc.1
  have K : ∀ n : Nat, n ≤ (F 20).toNat → ∀ (v : Bool) (p : Int), v = htI (G 0) (G 12) (G 13) l e n → p = n → zG X 0 0 (twI D A b F G) 5 [some (.ref b), some (zI (l)), some (zI (e)), some (zI (bi (v))), some (zI (p))] [] := by
    refine z_up (fun n hn1 ih v p ev ep => ?_)
    subst ep
    have hbv := bi_range v
    have hs : htI (G 0) (G 12) (G 13) l e (n + 1) = (htI (G 0) (G 12) (G 13) l e n && (decide ((n : Int) = e) || fuI (G 0) (G 12) (G 13) l n)) := rfl
    have hfalse : htI (G 0) (G 12) (G 13) l e n = false → htI (G 0) (G 12) (G 13) l e (F 20).toNat = false := by
      intro q
      unfold htI at q ⊢
      rw [← Bool.not_eq_true, allI_iff] at q ⊢
      exact fun y => q fun j hj => y j (by omega)
    refine z_iload (q := 7) hX dX4_isHit_5 rfl rfl ?_
    refine z_aload_n (i := 0) (q := 8) hX dX4_isHit_7 rfl rfl rfl ?_
    refine zt_getI (q := 11) hX 20 dX4_isHit_8 q1884 (by decide) rfl rfl rfl ?_
    refine z_icmp_ge (q := 14) (t := 46) hX dX4_isHit_11 (by decide) (by omega) (by omega) rfl (fun h11 => ?_) (fun h11 => ?_)
    · refine z_iload_n (i := 3) (q := 47) hX dX4_isHit_46 rfl rfl rfl ?_
      exact z_zretB hX dX4_isHit_47 (Nat.le_of_ble_eq_true rfl) (Nat.le_of_ble_eq_true rfl) rfl (fun H hI => ⟨congrArg (fun z => some (zI z)) ((by rw [ev, show n = (F 20).toNat by omega])), hI⟩)
    · refine z_iload_n (i := 3) (q := 15) hX dX4_isHit_14 rfl rfl rfl ?_
      refine z_ifB_eq (q := 18) (t := 46) hX dX4_isHit_15 (by decide) rfl (fun h15 => ?_) (fun h15 => ?_)
      · refine z_iload_n (i := 3) (q := 47) hX dX4_isHit_46 rfl rfl rfl ?_
        exact z_zretB hX dX4_isHit_47 (Nat.le_of_ble_eq_true rfl) (Nat.le_of_ble_eq_true rfl) rfl (fun H hI => ⟨congrArg (fun z => some (zI z)) ((by rw [h15, hfalse (by rw [← ev]; exact h15)])), hI⟩)
      · refine z_iload (q := 20) hX dX4_isHit_18 rfl rfl ?_
        refine z_iload_n (i := 2) (q := 21) hX dX4_isHit_20 rfl rfl rfl ?_
        refine z_icmp_eq (q := 24) (t := 34) hX dX4_isHit_21 (by decide) (by omega) (by omega) rfl (fun h21 => ?_) (fun h21 => ?_)
        · refine z_iconst (q := 35) hX dX4_isHit_34 rfl ?_
          refine z_goto (t := 39) hX dX4_isHit_35 (by decide) ?_
          refine z_istore_n (i := 3) (q := 40) hX dX4_isHit_39 rfl (Nat.le_of_ble_eq_true rfl) rfl rfl ?_
          refine z_iinc (q := 43) hX dX4_isHit_40 rfl (Nat.le_of_ble_eq_true rfl) rfl rfl ?_
          refine z_goto (t := 5) hX dX4_isHit_43 (by decide) ?_
          exact ih (by omega) true ((n : Int) + 1) (by rw [hs, ← ev, h15, decide_eq_true (by omega)]; rfl) (by omega)
        · refine z_aload_n (i := 0) (q := 25) hX dX4_isHit_24 rfl rfl rfl ?_
          refine z_iload_n (i := 1) (q := 26) hX dX4_isHit_25 rfl rfl rfl ?_
          refine z_iload (q := 28) hX dX4_isHit_26 rfl rfl ?_
          refine zt_V1 (q := 31) (na := 2) hX dX4_isHit_28 (c_X4_fulfils D A h l0 l1 (by omega) (hc.2.1 n (by omega) (by omega)) hc.2.2) q2270 q2272 qs92 q103 q2273 rfl (by decide +kernel) ⟨Nat.le_of_ble_eq_true rfl, Nat.le_of_ble_eq_true rfl⟩ rfl rfl (Nat.le_of_ble_eq_true rfl) rfl ⟨rfl, rfl⟩ (Nat.le_of_ble_eq_true rfl) (Nat.le_of_ble_eq_true rfl) rfl ?_
          refine z_ifB_eq (q := 34) (t := 38) hX dX4_isHit_31 (by decide) rfl (fun h31 => ?_) (fun h31 => ?_)
          · refine z_iconst (q := 39) hX dX4_isHit_38 rfl ?_
            refine z_istore_n (i := 3) (q := 40) hX dX4_isHit_39 rfl (Nat.le_of_ble_eq_true rfl) rfl rfl ?_
            refine z_iinc (q := 43) hX dX4_isHit_40 rfl (Nat.le_of_ble_eq_true rfl) rfl rfl ?_
            refine z_goto (t := 5) hX dX4_isHit_43 (by decide) ?_
            exact ih (by omega) false ((n : Int) + 1) (by rw [hs, ← ev, h15, decide_eq_false h21, h31]; rfl) (by omega)
          · refine z_iconst (q := 35) hX dX4_isHit_34 rfl ?_
            refine z_goto (t := 39) hX dX4_isHit_35 (by decide) ?_
            refine z_istore_n (i := 3) (q := 40) hX dX4_isHit_39 rfl (Nat.le_of_ble_eq_true rfl) rfl rfl ?_
            refine z_iinc (q := 43) hX dX4_isHit_40 rfl (Nat.le_of_ble_eq_true rfl) rfl rfl ?_
            refine z_goto (t := 5) hX dX4_isHit_43 (by decide) ?_
            exact ih (by omega) true ((n : Int) + 1) (by rw [hs, ← ev, h15, h31, Bool.or_true]; rfl) (by omega)
  refine z_iconst (q := 1) hX dX4_isHit_0 rfl ?_
  refine z_istore_n (i := 3) (q := 2) hX dX4_isHit_1 rfl (Nat.le_of_ble_eq_true rfl) rfl rfl ?_
  refine z_iconst (q := 3) hX dX4_isHit_2 rfl ?_
  refine z_istore (q := 5) hX dX4_isHit_3 (Nat.le_of_ble_eq_true rfl) rfl rfl ?_
  exact K 0 (Nat.zero_le _) true _ rfl rfl
/-- how many lines are hit -/
def hiI (M C Q : Int → Int) (n : Nat) : Int := sumI (fun l => bi (htI M C Q l (-1) n)) (M 0).toNat
abbrev rmX4_hits : Room := { frames := 6, cells := 0, slots := 0, locals := 145 }
set_option maxHeartbeats 4000000 in
theorem c_X4_hits (D : zD) (A : Nat → Prop) {b : Nat} {F : zTF} {G : zTG} (h : zWg G) (hc : zCds F G) : zC D yX4_hits cX4_hits 3 (some .int) none rmX4_hits A [.ref b] (twI D A b F G) (zPd (zI (hiI (G 0) (G 12) (G 13) (F 20).toNat)) (twI D A b (F) (G))) zNo := by
  refine zC_start (L := [some (.ref b), none, none]) (by decide) (Nat.le_of_ble_eq_true rfl) rfl (fun X hX => ?_)
  have hw := h.1
  have hm := hw.1
  have K : ∀ n : Nat, n ≤ (G 0 0).toNat → ∀ c p : Int, c = sumI (fun l => bi (htI (G 0) (G 12) (G 13) l (-1) (F 20).toNat)) n → p = n → zG X 0 0 (twI D A b F G) 4 [some (.ref b), some (zI (c)), some (zI (p))] [] := by
    refine z_up (fun n hn ih c p e1 e2 => ?_)
    subst e2
    refine z_iload_n (i := 2) (q := 5) hX dX4_hits_4 rfl rfl rfl ?_
    refine z_aload_n (i := 0) (q := 6) hX dX4_hits_5 rfl rfl rfl ?_
    refine zt_getA (q := 9) hX 0 0 dX4_hits_6 q1864 (by decide) rfl rfl rfl ?_
    refine z_iconst (q := 10) hX dX4_hits_9 rfl ?_
    refine zt_ald (q := 11) (N := 1964) hX 0 dX4_hits_10 rfl (by decide) (by decide) (by omega) rfl ?_
    refine z_icmp_ge (q := 14) (t := 37) hX dX4_hits_11 (by decide) (by omega) (by omega) rfl (fun h11 => ?_) (fun h11 => ?_)
    · refine z_iload_n (i := 1) (q := 38) hX dX4_hits_37 rfl rfl rfl ?_
      exact z_iret hX dX4_hits_38 (Nat.le_of_ble_eq_true rfl) (Nat.le_of_ble_eq_true rfl) rfl (fun H hI => ⟨congrArg (fun z => some (zI z)) ((by rw [e1, show n = (G 0 0).toNat by omega]; rfl)), hI⟩)
    · refine z_iload_n (i := 1) (q := 15) hX dX4_hits_14 rfl rfl rfl ?_
      refine z_aload_n (i := 0) (q := 16) hX dX4_hits_15 rfl rfl rfl ?_
      refine z_iload_n (i := 2) (q := 17) hX dX4_hits_16 rfl rfl rfl ?_
      refine z_iconst (q := 18) hX dX4_hits_17 rfl ?_
      refine zt_V1 (q := 21) (na := 2) hX dX4_hits_18 (c_X4_isHit D A h (by omega) (by omega) (by decide) hc) q2266 q2268 qs91 q103 q2269 rfl (by decide +kernel) ⟨Nat.le_of_ble_eq_true rfl, Nat.le_of_ble_eq_true rfl⟩ rfl rfl (Nat.le_of_ble_eq_true rfl) rfl ⟨rfl, rfl⟩ (Nat.le_of_ble_eq_true rfl) (Nat.le_of_ble_eq_true rfl) rfl ?_
      refine z_ifB_eq (q := 24) (t := 28) hX dX4_hits_21 (by decide) rfl (fun h21 => ?_) (fun h21 => ?_)
      · refine z_iconst (q := 29) hX dX4_hits_28 rfl ?_
        refine z_iadd (q := 30) hX dX4_hits_29 rfl ?_
        refine z_istore_n (i := 1) (q := 31) hX dX4_hits_30 rfl (Nat.le_of_ble_eq_true rfl) rfl rfl ?_
        refine z_iinc (q := 34) hX dX4_hits_31 rfl (Nat.le_of_ble_eq_true rfl) rfl rfl ?_
        refine z_goto (t := 4) hX dX4_hits_34 (by decide) ?_
        exact ih (by omega) _ _ (by rw [sumI, e1, h21]; rfl) (by omega)
      · refine z_iconst (q := 25) hX dX4_hits_24 rfl ?_
        refine z_goto (t := 29) hX dX4_hits_25 (by decide) ?_
        refine z_iadd (q := 30) hX dX4_hits_29 rfl ?_
        refine z_istore_n (i := 1) (q := 31) hX dX4_hits_30 rfl (Nat.le_of_ble_eq_true rfl) rfl rfl ?_
        refine z_iinc (q := 34) hX dX4_hits_31 rfl (Nat.le_of_ble_eq_true rfl) rfl rfl ?_
        refine z_goto (t := 4) hX dX4_hits_34 (by decide) ?_
        exact ih (by omega) _ _ (by rw [sumI, e1, h21]; rfl) (by omega)
  refine z_iconst (q := 1) hX dX4_hits_0 rfl ?_
  refine z_istore_n (i := 1) (q := 2) hX dX4_hits_1 rfl (Nat.le_of_ble_eq_true rfl) rfl rfl ?_
  refine z_iconst (q := 3) hX dX4_hits_2 rfl ?_
  refine z_istore_n (i := 2) (q := 4) hX dX4_hits_3 rfl (Nat.le_of_ble_eq_true rfl) rfl rfl ?_
  exact K 0 (Nat.zero_le _) _ _ rfl rfl
