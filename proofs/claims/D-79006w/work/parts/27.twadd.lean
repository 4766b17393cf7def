/-! THE REFERENCE: adding a line -/
set_option maxRecDepth 100000
theorem fitI_rng {M : Int → Int} {t l : Int} (h : nTl M l ≤ 20) : 0 ≤ fitI M t l ∧ fitI M t l ≤ 20 := by
  have := cnt_rng (fun k => decide (slt M t k = -1) && decide (tkl M (fst M t) k = tkl M l k)) (nTl M l).toNat
  unfold fitI
  omega
abbrev rmX4_takerOf : Room := { frames := 4, cells := 0, slots := 0, locals := 96 }
set_option maxHeartbeats 4000000 in
theorem c_X4_takerOf (D : zD) (A : Nat → Prop) {b : Nat} {F : zTF} {G : zTG} {l : Int} (hw : zWf G) (hl : zLn G l) : zC D yX4_takerOf cX4_takerOf 5 (some .int) none rmX4_takerOf A [.ref b, zI (l)] (twI D A b F G) (zPd (zI (takM (G 0) l)) (twI D A b (F) (G))) zNo := by
  refine zC_start (L := [some (.ref b), some (zI (l)), none, none, none]) (by decide) (Nat.le_of_ble_eq_true rfl) rfl (fun X hX => ?_)
  have hm := hw.1
  have lf := hl.1.f
  have e4 : G 4 l = nTl (G 0) l := hl.2.1
  have e5 : nT (tx (G 0) l) = nTl (G 0) l := rfl
  have hfr : ∀ t : Int, 0 ≤ fitI (G 0) t l ∧ fitI (G 0) t l ≤ 20 := fun t => fitI_rng (by omega)
  obtain ⟨hml1, hml2⟩ : 0 ≤ G 0 1 * nTl (G 0) l ∧ G 0 1 * nTl (G 0) l ≤ 2000 := by
    have a1 : G 0 1 * nTl (G 0) l ≤ 100 * 20 := Int.mul_le_mul hm.2.2.2 (by omega) (by omega) (by decide)
    have a2 := Int.mul_nonneg (a := G 0 1) (b := nTl (G 0) l) hm.2.2.1 (by omega)
    omega
  obtain ⟨hfr2, hfr3⟩ := lfree_rng (G 0)
  have K2 : bestI (mtP (G 0) l) (fun t => fitI (G 0) t l) 12 < 0 → ∀ n : Nat, n ≤ 12 → ∀ bst p : Int, bst = bestI (nrP (G 0) l) (fun t => fitI (G 0) t l) n → p = n → zG X 0 0 (twI D A b F G) 78 [some (.ref b), some (zI (l)), some (zI (bst)), some (zI (p)), none] [] := by
    intro hno
    refine z_up (fun n hn ih bst p e1 e2 => ?_)
    subst e2
    have hb := bestI_ok (nrP (G 0) l) (fun t => fitI (G 0) t l) n
    rw [← e1] at hb
    have hstep : bestI (nrP (G 0) l) (fun t => fitI (G 0) t l) (n + 1) = if nrP (G 0) l n = true ∧ (bst < 0 ∨ fitI (G 0) bst l < fitI (G 0) n l) then (n : Int) else bst := by rw [bestI, ← e1]
    have J167 : n < 12 → ∀ (x : Int) (v : Bool), x = bestI (nrP (G 0) l) (fun t => fitI (G 0) t l) (n + 1) → zG X 0 0 (twI D A b F G) 167 [some (.ref b), some (zI (l)), some (zI (bst)), some (zI (n)), some (zI (bi (v)))] [zI (x)] := by
      intro hlt x v ex
      refine z_istore_n (i := 2) (q := 168) hX dX4_takerOf_167 rfl (Nat.le_of_ble_eq_true rfl) rfl rfl ?_
      refine z_iinc (q := 171) hX dX4_takerOf_168 rfl (Nat.le_of_ble_eq_true rfl) rfl rfl ?_
      refine z_goto (t := 78) hX dX4_takerOf_171 (by decide) ?_
      refine zG.drop 4 ?_
      exact ih hlt _ _ ex (by omega)
    have J136 : n < 12 → ∀ v : Bool, nrP (G 0) l n = v → zG X 0 0 (twI D A b F G) 136 [some (.ref b), some (zI (l)), some (zI (bst)), some (zI (n)), none] [zI (bi (v))] := by
      intro hlt v hv
      have g1 := hfr n
      have g2 := hfr bst
      refine z_istore (q := 138) hX dX4_takerOf_136 (Nat.le_of_ble_eq_true rfl) rfl rfl ?_
      refine z_iload (q := 140) hX dX4_takerOf_138 rfl rfl ?_
      refine z_ifB_eq (q := 143) (t := 166) hX dX4_takerOf_140 (by decide) rfl (fun h140 => ?_) (fun h140 => ?_)
      · refine z_iload_n (i := 2) (q := 167) hX dX4_takerOf_166 rfl rfl rfl ?_
        exact J167 hlt _ _ (by rw [hstep, if_neg (by rw [hv, h140]; simp)])
      · have hq : nrP (G 0) l n = true := by rw [hv, h140]
        have hq2 := hq
        unfold nrP at hq2
        rw [Bool.and_eq_true, Bool.and_eq_true] at hq2
        refine z_iload_n (i := 2) (q := 144) hX dX4_takerOf_143 rfl rfl rfl ?_
        refine z_if_lt (q := 147) (t := 162) hX dX4_takerOf_144 (by decide) (by omega) rfl (fun h144 => ?_) (fun h144 => ?_)
        · refine z_iload_n (i := 3) (q := 163) hX dX4_takerOf_162 rfl rfl rfl ?_
          refine z_goto (t := 167) hX dX4_takerOf_163 (by decide) ?_
          exact J167 hlt _ _ (by rw [hstep, if_pos ⟨hq, Or.inl (by omega)⟩])
        · have hb2 := hb.2.2 (by omega)
          unfold nrP at hb2
          rw [Bool.and_eq_true, Bool.and_eq_true] at hb2
          have hi2 := isT_iff.mp hb2.1
          refine z_aload_n (i := 0) (q := 148) hX dX4_takerOf_147 rfl rfl rfl ?_
          refine z_iload_n (i := 3) (q := 149) hX dX4_takerOf_148 rfl rfl rfl ?_
          refine z_iload_n (i := 1) (q := 150) hX dX4_takerOf_149 rfl rfl rfl ?_
          refine zt_V1 (q := 153) (na := 2) hX dX4_takerOf_150 (c_X4_fit D A hw hq2.1 hl (isFm_n hq2.2.1)) q2033 q2035 qs55 q103 q2036 rfl (by decide +kernel) ⟨Nat.le_of_ble_eq_true rfl, Nat.le_of_ble_eq_true rfl⟩ rfl rfl (Nat.le_of_ble_eq_true rfl) rfl ⟨rfl, rfl⟩ (Nat.le_of_ble_eq_true rfl) (Nat.le_of_ble_eq_true rfl) rfl ?_
          refine z_aload_n (i := 0) (q := 154) hX dX4_takerOf_153 rfl rfl rfl ?_
          refine z_iload_n (i := 2) (q := 155) hX dX4_takerOf_154 rfl rfl rfl ?_
          refine z_iload_n (i := 1) (q := 156) hX dX4_takerOf_155 rfl rfl rfl ?_
          refine zt_V1 (q := 159) (na := 2) hX dX4_takerOf_156 (c_X4_fit D A hw hb2.1 hl (isFm_n hb2.2.1)) q2033 q2035 qs55 q103 q2036 rfl (by decide +kernel) ⟨Nat.le_of_ble_eq_true rfl, Nat.le_of_ble_eq_true rfl⟩ rfl rfl (Nat.le_of_ble_eq_true rfl) rfl ⟨rfl, rfl⟩ (Nat.le_of_ble_eq_true rfl) (Nat.le_of_ble_eq_true rfl) rfl ?_
          refine z_icmp_le (q := 162) (t := 166) hX dX4_takerOf_159 (by decide) (by omega) (by omega) rfl (fun h159 => ?_) (fun h159 => ?_)
          · refine z_iload_n (i := 2) (q := 167) hX dX4_takerOf_166 rfl rfl rfl ?_
            exact J167 hlt _ _ (by rw [hstep, if_neg (fun q => by have := q.2; omega)])
          · refine z_iload_n (i := 3) (q := 163) hX dX4_takerOf_162 rfl rfl rfl ?_
            refine z_goto (t := 167) hX dX4_takerOf_163 (by decide) ?_
            exact J167 hlt _ _ (by rw [hstep, if_pos ⟨hq, Or.inr (by omega)⟩])
    have u1 : lnO (G 0) n 0 = fst (G 0) n := rfl
    refine z_iload_n (i := 3) (q := 79) hX dX4_takerOf_78 rfl rfl rfl ?_
    refine z_bipush (q := 81) hX dX4_takerOf_79 (by decide) rfl ?_
    refine z_icmp_ge (q := 84) (t := 174) hX dX4_takerOf_81 (by decide) (by omega) (by omega) rfl (fun h81 => ?_) (fun h81 => ?_)
    · rw [e1, show n = 12 by omega]
      have hb12 := bestI_ok (nrP (G 0) l) (fun t => fitI (G 0) t l) 12
      refine z_iload_n (i := 2) (q := 175) hX dX4_takerOf_174 rfl rfl rfl ?_
      refine z_if_lt (q := 178) (t := 182) hX dX4_takerOf_175 (by decide) (by omega) rfl (fun h175 => ?_) (fun h175 => ?_)
      · refine z_aload_n (i := 0) (q := 183) hX dX4_takerOf_182 rfl rfl rfl ?_
        refine zt_V1 (q := 186) (na := 0) hX dX4_takerOf_183 (c_X4_freeTemplate D A (by first | assumption | omega)) q2037 q2039 qs56 q103 q2040 rfl (by decide +kernel) ⟨Nat.le_of_ble_eq_true rfl, Nat.le_of_ble_eq_true rfl⟩ rfl rfl (Nat.le_of_ble_eq_true rfl) rfl ⟨rfl, rfl⟩ (Nat.le_of_ble_eq_true rfl) (Nat.le_of_ble_eq_true rfl) rfl ?_
        exact z_iret hX dX4_takerOf_186 (Nat.le_of_ble_eq_true rfl) (Nat.le_of_ble_eq_true rfl) rfl (fun H hI => ⟨congrArg (fun z => some (zI z)) ((by unfold takM; rw [if_neg (by omega), if_neg (by omega)])), hI⟩)
      · refine z_iload_n (i := 2) (q := 179) hX dX4_takerOf_178 rfl rfl rfl ?_
        refine z_goto (t := 186) hX dX4_takerOf_179 (by decide) ?_
        exact z_iret hX dX4_takerOf_186 (Nat.le_of_ble_eq_true rfl) (Nat.le_of_ble_eq_true rfl) rfl (fun H hI => ⟨congrArg (fun z => some (zI z)) ((by unfold takM; rw [if_neg (by omega), if_pos (by omega)])), hI⟩)
    · refine z_aload_n (i := 0) (q := 85) hX dX4_takerOf_84 rfl rfl rfl ?_
      refine z_iload_n (i := 3) (q := 86) hX dX4_takerOf_85 rfl rfl rfl ?_
      refine zt_V1 (q := 89) (na := 1) hX dX4_takerOf_86 (c_X4_isTemplate D A (by first | assumption | omega) (by first | assumption | omega)) q1986 q1988 qs44 q103 q1989 rfl (by decide +kernel) ⟨Nat.le_of_ble_eq_true rfl, Nat.le_of_ble_eq_true rfl⟩ rfl rfl (Nat.le_of_ble_eq_true rfl) rfl ⟨rfl, rfl⟩ (Nat.le_of_ble_eq_true rfl) (Nat.le_of_ble_eq_true rfl) rfl ?_
      refine z_ifB_eq (q := 92) (t := 135) hX dX4_takerOf_89 (by decide) rfl (fun h89 => ?_) (fun h89 => ?_)
      · refine z_iconst (q := 136) hX dX4_takerOf_135 rfl ?_
        exact J136 (by omega) _ (by unfold nrP; rw [h89])
      · have hf := hw.fs h89
        have l1 := hf.2.2.2.2.2.1
        refine z_aload_n (i := 0) (q := 93) hX dX4_takerOf_92 rfl rfl rfl ?_
        refine z_aload_n (i := 0) (q := 94) hX dX4_takerOf_93 rfl rfl rfl ?_
        refine z_iload_n (i := 3) (q := 95) hX dX4_takerOf_94 rfl rfl rfl ?_
        refine z_iconst (q := 96) hX dX4_takerOf_95 rfl ?_
        refine zt_V1 (q := 99) (na := 2) hX dX4_takerOf_96 (c_X4_lineOf D A (by first | assumption | omega) (by first | assumption | omega) (by first | assumption | omega)) q1990 q1992 qs45 q103 q1993 rfl (by decide +kernel) ⟨Nat.le_of_ble_eq_true rfl, Nat.le_of_ble_eq_true rfl⟩ rfl rfl (Nat.le_of_ble_eq_true rfl) rfl ⟨rfl, rfl⟩ (Nat.le_of_ble_eq_true rfl) (Nat.le_of_ble_eq_true rfl) rfl ?_
        rw [u1]
        refine z_iload_n (i := 1) (q := 100) hX dX4_takerOf_99 rfl rfl rfl ?_
        refine zt_V1 (q := 103) (na := 2) hX dX4_takerOf_100 (c_X4_isForm D A (by first | assumption | omega) (by first | assumption | omega)) q1998 q2000 qs47 q103 q2001 rfl (by decide +kernel) ⟨Nat.le_of_ble_eq_true rfl, Nat.le_of_ble_eq_true rfl⟩ rfl rfl (Nat.le_of_ble_eq_true rfl) rfl ⟨rfl, rfl⟩ (Nat.le_of_ble_eq_true rfl) (Nat.le_of_ble_eq_true rfl) rfl ?_
        refine z_ifB_eq (q := 106) (t := 135) hX dX4_takerOf_103 (by decide) rfl (fun h103 => ?_) (fun h103 => ?_)
        · refine z_iconst (q := 136) hX dX4_takerOf_135 rfl ?_
          exact J136 (by omega) _ (by unfold nrP; rw [h103, Bool.false_and, Bool.and_false])
        · refine z_bipush (q := 108) hX dX4_takerOf_106 (by decide) rfl ?_
          refine z_aload_n (i := 0) (q := 109) hX dX4_takerOf_108 rfl rfl rfl ?_
          refine z_iload_n (i := 3) (q := 110) hX dX4_takerOf_109 rfl rfl rfl ?_
          refine z_iload_n (i := 1) (q := 111) hX dX4_takerOf_110 rfl rfl rfl ?_
          refine zt_V1 (q := 114) (na := 2) hX dX4_takerOf_111 (c_X4_fit D A hw h89 hl (isFm_n h103)) q2033 q2035 qs55 q103 q2036 rfl (by decide +kernel) ⟨Nat.le_of_ble_eq_true rfl, Nat.le_of_ble_eq_true rfl⟩ rfl rfl (Nat.le_of_ble_eq_true rfl) rfl ⟨rfl, rfl⟩ (Nat.le_of_ble_eq_true rfl) (Nat.le_of_ble_eq_true rfl) rfl ?_
          have g1 := hfr n
          refine z_imul (q := 115) hX dX4_takerOf_114 rfl ?_
          refine z_aload_n (i := 0) (q := 116) hX dX4_takerOf_115 rfl rfl rfl ?_
          refine zt_getA (q := 119) hX 0 0 dX4_takerOf_116 q1864 (by decide) rfl rfl rfl ?_
          refine z_iconst (q := 120) hX dX4_takerOf_119 rfl ?_
          refine zt_ald (q := 121) (N := 1964) hX 0 dX4_takerOf_120 rfl (by decide) (by decide) (by omega) rfl ?_
          refine z_aload_n (i := 0) (q := 122) hX dX4_takerOf_121 rfl rfl rfl ?_
          refine zt_getA (q := 125) hX 7 4 dX4_takerOf_122 q1871 (by decide) rfl rfl rfl ?_
          refine z_iload_n (i := 1) (q := 126) hX dX4_takerOf_125 rfl rfl rfl ?_
          refine zt_ald (q := 127) (N := 41) hX 4 dX4_takerOf_126 rfl (by decide) (by decide) (by omega) rfl ?_
          rw [e4]
          refine z_imul (q := 128) hX dX4_takerOf_127 rfl ?_
          refine z_icmp_lt (q := 131) (t := 135) hX dX4_takerOf_128 (by decide) (by omega) (by omega) rfl (fun h128 => ?_) (fun h128 => ?_)
          · refine z_iconst (q := 136) hX dX4_takerOf_135 rfl ?_
            exact J136 (by omega) _ (by unfold nrP; rw [h89, h103, decide_eq_false (by omega)])
          · refine z_iconst (q := 132) hX dX4_takerOf_131 rfl ?_
            refine z_goto (t := 136) hX dX4_takerOf_132 (by decide) ?_
            exact J136 (by omega) _ (by unfold nrP; rw [h89, h103, decide_eq_true (by omega)])
  have K1 : ∀ n : Nat, n ≤ 12 → ∀ bst p : Int, bst = bestI (mtP (G 0) l) (fun t => fitI (G 0) t l) n → p = n → zG X 0 0 (twI D A b F G) 4 [some (.ref b), some (zI (l)), some (zI (bst)), some (zI (p)), none] [] := by
    refine z_up (fun n hn ih bst p e1 e2 => ?_)
    subst e2
    have hb := bestI_ok (mtP (G 0) l) (fun t => fitI (G 0) t l) n
    rw [← e1] at hb
    have hstep : bestI (mtP (G 0) l) (fun t => fitI (G 0) t l) (n + 1) = if mtP (G 0) l n = true ∧ (bst < 0 ∨ fitI (G 0) bst l < fitI (G 0) n l) then (n : Int) else bst := by rw [bestI, ← e1]
    have J63 : n < 12 → ∀ (x : Int) (v : Bool), x = bestI (mtP (G 0) l) (fun t => fitI (G 0) t l) (n + 1) → zG X 0 0 (twI D A b F G) 63 [some (.ref b), some (zI (l)), some (zI (bst)), some (zI (n)), some (zI (bi (v)))] [zI (x)] := by
      intro hlt x v ex
      refine z_istore_n (i := 2) (q := 64) hX dX4_takerOf_63 rfl (Nat.le_of_ble_eq_true rfl) rfl rfl ?_
      refine z_iinc (q := 67) hX dX4_takerOf_64 rfl (Nat.le_of_ble_eq_true rfl) rfl rfl ?_
      refine z_goto (t := 4) hX dX4_takerOf_67 (by decide) ?_
      refine zG.drop 4 ?_
      exact ih hlt _ _ ex (by omega)
    have J32 : n < 12 → ∀ v : Bool, mtP (G 0) l n = v → zG X 0 0 (twI D A b F G) 32 [some (.ref b), some (zI (l)), some (zI (bst)), some (zI (n)), none] [zI (bi (v))] := by
      intro hlt v hv
      have g1 := hfr n
      have g2 := hfr bst
      refine z_istore (q := 34) hX dX4_takerOf_32 (Nat.le_of_ble_eq_true rfl) rfl rfl ?_
      refine z_iload (q := 36) hX dX4_takerOf_34 rfl rfl ?_
      refine z_ifB_eq (q := 39) (t := 62) hX dX4_takerOf_36 (by decide) rfl (fun h36 => ?_) (fun h36 => ?_)
      · refine z_iload_n (i := 2) (q := 63) hX dX4_takerOf_62 rfl rfl rfl ?_
        exact J63 hlt _ _ (by rw [hstep, if_neg (by rw [hv, h36]; simp)])
      · have hq : mtP (G 0) l n = true := by rw [hv, h36]
        have hq2 := hq
        unfold mtP at hq2
        rw [Bool.and_eq_true] at hq2
        refine z_iload_n (i := 2) (q := 40) hX dX4_takerOf_39 rfl rfl rfl ?_
        refine z_if_lt (q := 43) (t := 58) hX dX4_takerOf_40 (by decide) (by omega) rfl (fun h40 => ?_) (fun h40 => ?_)
        · refine z_iload_n (i := 3) (q := 59) hX dX4_takerOf_58 rfl rfl rfl ?_
          refine z_goto (t := 63) hX dX4_takerOf_59 (by decide) ?_
          exact J63 hlt _ _ (by rw [hstep, if_pos ⟨hq, Or.inl (by omega)⟩])
        · have hb2 := hb.2.2 (by omega)
          unfold mtP at hb2
          rw [Bool.and_eq_true] at hb2
          have hi2 := isT_iff.mp hb2.1
          refine z_aload_n (i := 0) (q := 44) hX dX4_takerOf_43 rfl rfl rfl ?_
          refine z_iload_n (i := 3) (q := 45) hX dX4_takerOf_44 rfl rfl rfl ?_
          refine z_iload_n (i := 1) (q := 46) hX dX4_takerOf_45 rfl rfl rfl ?_
          refine zt_V1 (q := 49) (na := 2) hX dX4_takerOf_46 (c_X4_fit D A hw hq2.1 hl (isFm_n (isMt_fm hq2.2))) q2033 q2035 qs55 q103 q2036 rfl (by decide +kernel) ⟨Nat.le_of_ble_eq_true rfl, Nat.le_of_ble_eq_true rfl⟩ rfl rfl (Nat.le_of_ble_eq_true rfl) rfl ⟨rfl, rfl⟩ (Nat.le_of_ble_eq_true rfl) (Nat.le_of_ble_eq_true rfl) rfl ?_
          refine z_aload_n (i := 0) (q := 50) hX dX4_takerOf_49 rfl rfl rfl ?_
          refine z_iload_n (i := 2) (q := 51) hX dX4_takerOf_50 rfl rfl rfl ?_
          refine z_iload_n (i := 1) (q := 52) hX dX4_takerOf_51 rfl rfl rfl ?_
          refine zt_V1 (q := 55) (na := 2) hX dX4_takerOf_52 (c_X4_fit D A hw hb2.1 hl (isFm_n (isMt_fm hb2.2))) q2033 q2035 qs55 q103 q2036 rfl (by decide +kernel) ⟨Nat.le_of_ble_eq_true rfl, Nat.le_of_ble_eq_true rfl⟩ rfl rfl (Nat.le_of_ble_eq_true rfl) rfl ⟨rfl, rfl⟩ (Nat.le_of_ble_eq_true rfl) (Nat.le_of_ble_eq_true rfl) rfl ?_
          refine z_icmp_le (q := 58) (t := 62) hX dX4_takerOf_55 (by decide) (by omega) (by omega) rfl (fun h55 => ?_) (fun h55 => ?_)
          · refine z_iload_n (i := 2) (q := 63) hX dX4_takerOf_62 rfl rfl rfl ?_
            exact J63 hlt _ _ (by rw [hstep, if_neg (fun q => by have := q.2; omega)])
          · refine z_iload_n (i := 3) (q := 59) hX dX4_takerOf_58 rfl rfl rfl ?_
            refine z_goto (t := 63) hX dX4_takerOf_59 (by decide) ?_
            exact J63 hlt _ _ (by rw [hstep, if_pos ⟨hq, Or.inr (by omega)⟩])
    refine z_iload_n (i := 3) (q := 5) hX dX4_takerOf_4 rfl rfl rfl ?_
    refine z_bipush (q := 7) hX dX4_takerOf_5 (by decide) rfl ?_
    refine z_icmp_ge (q := 10) (t := 70) hX dX4_takerOf_7 (by decide) (by omega) (by omega) rfl (fun h7 => ?_) (fun h7 => ?_)
    · rw [e1, show n = 12 by omega]
      have hb12 := bestI_ok (mtP (G 0) l) (fun t => fitI (G 0) t l) 12
      refine z_iload_n (i := 2) (q := 71) hX dX4_takerOf_70 rfl rfl rfl ?_
      refine z_if_lt (q := 74) (t := 76) hX dX4_takerOf_71 (by decide) (by omega) rfl (fun h71 => ?_) (fun h71 => ?_)
      · refine z_iconst (q := 77) hX dX4_takerOf_76 rfl ?_
        refine z_istore_n (i := 3) (q := 78) hX dX4_takerOf_77 rfl (Nat.le_of_ble_eq_true rfl) rfl rfl ?_
        refine zG.drop 4 ?_
        have e9 : bestI (mtP (G 0) l) (fun t => fitI (G 0) t l) 12 = -1 := by omega
        rw [e9]
        exact K2 (by omega) 0 (Nat.zero_le _) _ _ rfl rfl
      · refine z_iload_n (i := 2) (q := 75) hX dX4_takerOf_74 rfl rfl rfl ?_
        exact z_iret hX dX4_takerOf_75 (Nat.le_of_ble_eq_true rfl) (Nat.le_of_ble_eq_true rfl) rfl (fun H hI => ⟨congrArg (fun z => some (zI z)) ((by unfold takM; rw [if_pos (by omega)])), hI⟩)
    · refine z_aload_n (i := 0) (q := 11) hX dX4_takerOf_10 rfl rfl rfl ?_
      refine z_iload_n (i := 3) (q := 12) hX dX4_takerOf_11 rfl rfl rfl ?_
      refine zt_V1 (q := 15) (na := 1) hX dX4_takerOf_12 (c_X4_isTemplate D A (by first | assumption | omega) (by first | assumption | omega)) q1986 q1988 qs44 q103 q1989 rfl (by decide +kernel) ⟨Nat.le_of_ble_eq_true rfl, Nat.le_of_ble_eq_true rfl⟩ rfl rfl (Nat.le_of_ble_eq_true rfl) rfl ⟨rfl, rfl⟩ (Nat.le_of_ble_eq_true rfl) (Nat.le_of_ble_eq_true rfl) rfl ?_
      refine z_ifB_eq (q := 18) (t := 31) hX dX4_takerOf_15 (by decide) rfl (fun h15 => ?_) (fun h15 => ?_)
      · refine z_iconst (q := 32) hX dX4_takerOf_31 rfl ?_
        exact J32 (by omega) _ (by unfold mtP; rw [h15])
      · refine z_aload_n (i := 0) (q := 19) hX dX4_takerOf_18 rfl rfl rfl ?_
        refine z_iload_n (i := 3) (q := 20) hX dX4_takerOf_19 rfl rfl rfl ?_
        refine z_iload_n (i := 1) (q := 21) hX dX4_takerOf_20 rfl rfl rfl ?_
        refine zt_V1 (q := 24) (na := 2) hX dX4_takerOf_21 (c_X4_isMatch D A (by first | assumption | omega) (by first | assumption | omega) (by first | assumption | omega)) q1994 q1996 qs46 q103 q1997 rfl (by decide +kernel) ⟨Nat.le_of_ble_eq_true rfl, Nat.le_of_ble_eq_true rfl⟩ rfl rfl (Nat.le_of_ble_eq_true rfl) rfl ⟨rfl, rfl⟩ (Nat.le_of_ble_eq_true rfl) (Nat.le_of_ble_eq_true rfl) rfl ?_
        refine z_ifB_eq (q := 27) (t := 31) hX dX4_takerOf_24 (by decide) rfl (fun h24 => ?_) (fun h24 => ?_)
        · refine z_iconst (q := 32) hX dX4_takerOf_31 rfl ?_
          exact J32 (by omega) _ (by unfold mtP; rw [h24, Bool.and_false])
        · refine z_iconst (q := 28) hX dX4_takerOf_27 rfl ?_
          refine z_goto (t := 32) hX dX4_takerOf_28 (by decide) ?_
          exact J32 (by omega) _ (by unfold mtP; rw [h15, h24])
  refine z_iconst (q := 1) hX dX4_takerOf_0 rfl ?_
  refine z_istore_n (i := 2) (q := 2) hX dX4_takerOf_1 rfl (Nat.le_of_ble_eq_true rfl) rfl rfl ?_
  refine z_iconst (q := 3) hX dX4_takerOf_2 rfl ?_
  refine z_istore_n (i := 3) (q := 4) hX dX4_takerOf_3 rfl (Nat.le_of_ble_eq_true rfl) rfl rfl ?_
  exact K1 0 (Nat.zero_le _) _ _ rfl rfl
/-- is the buffer's text one that a line may have? -/
def addOk (B : Int → Int) (n : Int) (m : Nat) : Bool := (decide (1 ≤ n) && decide (n ≤ 40)) && allI (fun i => decide (32 ≤ B i) && decide (B i ≤ 126)) m
theorem addOk_iff {B : Int → Int} {n : Int} : addOk B n n.toNat = true ↔ txOk B n := by
  unfold addOk txOk
  simp only [Bool.and_eq_true, decide_eq_true_eq, allI_iff, and_assoc]
  refine and_congr_right fun h1 => and_congr_right fun h2 => ⟨fun h i i0 i1 => ?_, fun h i hi => h i (by omega) (by omega)⟩
  have := h i.toNat (by omega)
  rwa [Int.toNat_of_nonneg i0] at this
def addC (M B : Int → Int) (n : Int) : Int := if addOk B n n.toNat = false then 1 else if M 0 = 40 then 2 else if takM (rwM M B n) (M 0) = 12 then 3 else 0
def addF (F : zTF) (c : Int) : zTF := if c = 0 then upF (upF (upF F 6 0) 13 0) 5 (keepC F + 1) else if c = 3 then upF (upF (upF (upF F 6 0) 13 0) 10 1) 6 3 else upF (upF (upF F 6 0) 13 0) 6 c
def addG (F : zTF) (G : zTG) (c : Int) : zTG := if c = 0 then setG (keepG F (setG G 0 (rwM (G 0) (G 9) (F 13)))) 0 (addM (rwM (G 0) (G 9) (F 13)) (takM (rwM (G 0) (G 9) (F 13)) (G 0 0))) else if c = 3 then repG (setG G 0 (rwJ (G 0) (G 9) (F 13))) 1 (G 0 0) 11 12 else G
def addQ (F : zTF) (G : zTG) (F2 : zTF) (G2 : zTG) : Prop := F2 = addF F (addC (G 0) (G 9) (F 13)) ∧ (∀ j : Nat, j ≠ 4 → j ≠ 5 → j ≠ 6 → G2 j = addG F G (addC (G 0) (G 9) (F 13)) j) ∧ zTka G2
theorem zTks.cg {G G2 : zTG} {l : Int} (h4 : G2 4 = G 4) (h5 : G2 5 = G 5) (h6 : G2 6 = G 6) (ht : tx (G2 0) l = tx (G 0) l) (h : zTks G l) : zTks G2 l := by
  unfold zTks at h ⊢
  rw [ht, h4, h5, h6]
  exact h
theorem addM_tx {M : Int → Int} {t l : Int} (h : zOk M) (hr : zRaw (fun _ => M) (M 0)) (ht : 0 ≤ t) (l0 : 0 ≤ l) (l1 : l ≤ M 0) : tx (addM M t) l = tx M l := by
  have hm := h.1
  have hr1 : M 0 < 40 := hr.2.1
  have hlen : 1 ≤ M (2 + M 0) ∧ M (2 + M 0) ≤ 40 := ⟨hr.2.2.1, hr.2.2.2.1⟩
  by_cases q : l = M 0
  · subst q
    exact tx_congr (addM_lo ht (by omega) (by omega) (by omega)) (fun i i0 i1 => addM_lo ht (by omega) (by omega) (by omega))
  · have hfl := h.f l0 (by omega)
    exact tx_congr (addM_lo ht (by omega) (by omega) (by omega)) (fun i i0 i1 => addM_lo ht (by omega) (by omega) (by omega))
/-- the text behind the lines, n characters of it -/
def rwN (M B : Int → Int) (w : Int) (n : Nat) : Int → Int := fun i => if i = 2 + M 0 then w else if 84 + 40 * M 0 ≤ i ∧ i < 84 + 40 * M 0 + (n : Int) then B (i - (84 + 40 * M 0)) else M i
theorem rwN_s {M B : Int → Int} {w : Int} {n : Nat} (h0 : 0 ≤ M 0 ∧ M 0 < 40) : (fun i => if i = 84 + 40 * M 0 + (n : Int) then B n else rwN M B w n i) = rwN M B w (n + 1) := by
  funext i
  unfold rwN
  by_cases q : i = 84 + 40 * M 0 + n
  · rw [if_pos q, if_neg (by omega), if_pos (by omega), show i - (84 + 40 * M 0) = (n : Int) by omega]
  · rw [if_neg q]
    by_cases q1 : i = 2 + M 0
    · rw [if_pos q1, if_pos q1]
    · rw [if_neg q1, if_neg q1]
      by_cases q2 : 84 + 40 * M 0 ≤ i ∧ i < 84 + 40 * M 0 + (n : Int)
      · rw [if_pos q2, if_pos (by omega)]
      · rw [if_neg q2, if_neg (by omega)]
theorem upG_set (G : zTG) (f : Int → Int) (i0 z : Int) : upG (setG G 0 f) 0 i0 z = setG G 0 (fun i => if i = i0 then z else f i) := by
  funext j i
  by_cases q : j = 0
  · subst q
    rw [setG_same]
    show (if _ then _ else _) = _
    by_cases q2 : i = i0
    · rw [if_pos ⟨rfl, q2⟩]
      exact (if_pos q2).symm
    · rw [if_neg (fun w => q2 w.2), setG_same]
      exact (if_neg q2).symm
  · rw [setG_ne _ _ q]
    show (if _ then _ else _) = _
    rw [if_neg (fun w => q w.1), setG_ne _ _ q]
theorem setG_setG (G : zTG) (j : Nat) (f g : Int → Int) : setG (setG G j f) j g = setG G j g := by
  funext j2
  unfold setG
  split <;> rfl
abbrev rmX4_add : Room := { frames := 5, cells := 0, slots := 0, locals := 121 }
set_option maxHeartbeats 4000000 in
theorem c_X4_add (D : zD) (A : Nat → Prop) {b : Nat} {F : zTF} {G : zTG} (h : zWg G) (hF : 0 ≤ F 5 ∧ F 5 ≤ 10) (h13 : 0 ≤ F 13 ∧ F 13 ≤ 60) (hB : ∀ i : Int, 0 ≤ i → i < 60 → zR (G 9 i)) : zC D yX4_add cX4_add 7 (some .int) none rmX4_add A [.ref b] (twI D A b F G) (zPd (zI ((if addC (G 0) (G 9) (F 13) = 0 then takM (rwM (G 0) (G 9) (F 13)) (G 0 0) else 0))) (twE D A b (addQ F G))) zNo := by
  refine zC_start (L := [some (.ref b), none, none, none, none, none, none]) (by decide) (Nat.le_of_ble_eq_true rfl) rfl (fun X hX => ?_)
  have hw := h.1
  have hm := hw.1
  have ho := (zWg_iff.mp h).1
  have hka := (zWg_iff.mp h).2
  obtain ⟨F0, hF0⟩ : ∃ F0 : zTF, F0 = upF (upF F 6 0) 13 0 := ⟨_, rfl⟩
  have f05 : F0 5 = F 5 := by rw [hF0, upF_ne _ _ (by decide), upF_ne _ _ (by decide)]
  have fk0 : keepC F0 = keepC F := by unfold keepC; rw [f05]
  have e13 : upF F 6 0 13 = F 13 := upF_ne _ _ (by decide)
  have J62 : addOk (G 9) (F 13) (F 13).toNat = true → zG X 0 0 (twI D A b F0 G) 62 [some (.ref b), some (zI (F 13)), none, none, none, none, none] [] := by
    intro hok
    have htx := addOk_iff.mp hok
    obtain ⟨R, hR⟩ : ∃ R : Int → Int, R = rwM (G 0) (G 9) (F 13) := ⟨_, rfl⟩
    have rest : G 0 0 < 40 → zG X 0 0 (twI D A b F0 (setG G 0 R)) 142 [some (.ref b), some (zI (F 13)), none, some (zI (G 0 0)), some (zI (G 0 (2 + G 0 0))), none, none] [] := by
      intro h40
      have hEq : zEqv (G 0) R := by rw [hR]; exact rwM_e ho h40 htx.2.1
      have hRok := hEq.ok ho
      have hR0 := hEq.1
      have hraw : zRaw (fun _ => R) (G 0 0) := by rw [hR]; exact rwM_raw hm.1 h40 htx
      have hrawS : zRaw (setG G 0 R) (G 0 0) := hraw.same (G := fun _ => R) (setG_same _ _ _)
      have hrl : 1 ≤ R (2 + G 0 0) ∧ R (2 + G 0 0) ≤ 40 := ⟨hraw.2.2.1, hraw.2.2.2.1⟩
      obtain ⟨G1, hG1⟩ : ∃ G1 : zTG, G1 = layC (setG G 0 R) (G 0 0) (nT (tx R (G 0 0))) := ⟨_, rfl⟩
      have g10 : G1 0 = R := by rw [hG1, layC_j _ _ _ (by decide) (by decide) (by decide), setG_same]
      have g1j : ∀ j : Nat, j ≠ 0 → j ≠ 4 → j ≠ 5 → j ≠ 6 → G1 j = G j := fun j q0 q4 q5 q6 => by rw [hG1, layC_j _ _ _ q4 q5 q6, setG_ne _ _ q0]
      have hraw1 : zRaw G1 (G 0 0) := hraw.same (G := fun _ => R) g10
      have tks1 : ∀ l : Int, 0 ≤ l → l ≤ G 0 0 → zTks G1 l := fun l l0 l1 => by
        by_cases q : l = G 0 0
        · rw [q, hG1]
          have e := layC_tks hrawS
          rw [setG_same] at e
          exact e
        · have hf := hrawS.f
          rw [setG_same] at hf
          have h2 := hEq.2.2.1 l l0 (by omega)
          have hr2 : zRaw (setG G 0 R) l := (zRaw.of (M := G 0) (M2 := R) h2.1 h2.2.2 (ho.2.1 l l0 (by omega)).1).same (G := fun _ => R) (setG_same _ _ _)
          rw [hG1]
          refine layC_keep ⟨hf.2.2.2.2.2.1, hf.2.2.2.2.2.2⟩ q hr2 ?_
          exact zTks.cg (setG_ne _ _ (by decide)) (setG_ne _ _ (by decide)) (setG_ne _ _ (by decide)) (by rw [setG_same]; exact hEq.eX l0 (by omega)) (hka l l0 (by omega))
      have hln : zLn G1 (G 0 0) := ⟨hraw1, tks1 _ hm.1 (Int.le_refl _)⟩
      have hw1 : zWf G1 := by
        have e := zWg_iff.mpr ⟨by rw [g10]; exact hRok, fun l l0 l1 => tks1 l l0 (by rw [g10, hR0] at l1; omega)⟩
        exact e.1
      have htk := takM_ok (M := R) (l := G 0 0)
      obtain ⟨G2, hG2⟩ : ∃ G2 : zTG, G2 = keepG F0 G1 := ⟨_, rfl⟩
      have g2j : ∀ j : Nat, j ≠ 3 → G2 j = G1 j := fun j q => by rw [hG2]; exact keepG_j _ _ q
      have g20 : G2 0 = R := (g2j 0 (by decide)).trans g10
      have hw2 : zWf G2 := hw1.sc (g2j 0 (by decide)) (g2j 4 (by decide)) (g2j 5 (by decide)) (g2j 6 (by decide))
      have hln2 : zLn G2 (G 0 0) := ⟨hraw.same (G := fun _ => R) g20, zTks.cg (g2j 4 (by decide)) (g2j 5 (by decide)) (g2j 6 (by decide)) (by rw [g20, g10]) hln.2⟩
      have J198 : takM R (G 0 0) ≠ 12 → zG X 0 0 (twI D A b (upF F0 5 (keepC F + 1)) G2) 192 [some (.ref b), some (zI (F 13)), none, some (zI (G 0 0)), some (zI (G 0 (2 + G 0 0))), some (zI (takM R (G 0 0))), none] [] := by
        intro h12
        have hfz := htk.2.2 h12
        have hnl : nTl R (G 0 0) ≤ 20 ∧ 0 ≤ nTl R (G 0 0) := ⟨hraw.f.2.2.2.2.2.2, hraw.f.2.2.2.2.2.1⟩
        have ec0 : addC (G 0) (G 9) (F 13) = 0 := by unfold addC; rw [if_neg (by rw [hok]; decide), if_neg (by omega), ← hR, if_neg h12]
        rw [if_pos ec0, ← hR] at hX
        obtain ⟨t, hT⟩ : ∃ t : Int, t = takM R (G 0 0) := ⟨_, rfl⟩
        rw [← hT] at hX htk hfz h12 ⊢
        have J245 : ∀ G3 : zTG, (∀ j : Nat, j ≠ 0 → G3 j = G2 j) → (∀ i : Int, i ≠ 0 → i ≠ 43 + G 0 0 → G3 0 i = addM R t i) → G3 0 0 = G 0 0 → zG X 0 0 (twI D A b (upF F0 5 (keepC F + 1)) G3) 245 [some (.ref b), some (zI (F 13)), none, some (zI (G 0 0)), some (zI (G 0 (2 + G 0 0))), some (zI (t)), none] [] := by
          intro G3 h3j h30 h3m
          have e00 : upG G3 0 (43 + G 0 0) t 0 0 = G 0 0 := (if_neg (by omega)).trans h3m
          have fin : upG (upG G3 0 (43 + G 0 0) t) 0 0 (G 0 0 + 1) 0 = addM R t := by
            funext i
            show (if _ then _ else if _ then _ else _) = _
            by_cases q : i = 0
            · rw [if_pos ⟨rfl, q⟩, q, addM_0, hR0]
            · rw [if_neg (fun z => q z.2)]
              by_cases q2 : i = 43 + G 0 0
              · rw [if_pos ⟨rfl, q2⟩, q2, ← hR0, addM_of (by omega)]
              · rw [if_neg (fun z => q2 z.2)]
                exact h30 i q q2
          have finj : ∀ j : Nat, j ≠ 0 → upG (upG G3 0 (43 + G 0 0) t) 0 0 (G 0 0 + 1) j = G2 j := fun j q => by
            rw [upG_nj _ _ _ q, upG_nj _ _ _ q]
            exact h3j j q
          refine z_aload_n (i := 0) (q := 246) hX dX4_add_245 rfl rfl rfl ?_
          refine zt_getA (q := 249) hX 0 0 dX4_add_246 q1864 (by decide) rfl rfl rfl ?_
          refine z_bipush (q := 251) hX dX4_add_249 (by decide) rfl ?_
          refine z_iload_n (i := 3) (q := 252) hX dX4_add_251 rfl rfl rfl ?_
          refine z_iadd (q := 253) hX dX4_add_252 rfl ?_
          refine z_iload (q := 255) hX dX4_add_253 rfl rfl ?_
          refine zt_ast (q := 256) (N := 1964) hX 0 dX4_add_255 rfl (by decide) (by decide) (by omega) rfl ?_
          refine z_aload_n (i := 0) (q := 257) hX dX4_add_256 rfl rfl rfl ?_
          refine zt_getA (q := 260) hX 0 0 dX4_add_257 q1864 (by decide) rfl rfl rfl ?_
          refine z_iconst (q := 261) hX dX4_add_260 rfl ?_
          refine z_dup2 (q := 262) hX dX4_add_261 rfl rfl rfl ?_
          refine zt_ald (q := 263) (N := 1964) hX 0 dX4_add_262 rfl (by decide) (by decide) (by omega) rfl ?_
          rw [e00]
          refine z_iconst (q := 264) hX dX4_add_263 rfl ?_
          refine z_iadd (q := 265) hX dX4_add_264 rfl ?_
          refine zt_ast (q := 266) (N := 1964) hX 0 dX4_add_265 rfl (by decide) (by decide) (by omega) rfl ?_
          refine z_iload (q := 268) hX dX4_add_266 rfl rfl ?_
          exact z_iret hX dX4_add_268 (Nat.le_of_ble_eq_true rfl) (Nat.le_of_ble_eq_true rfl) rfl (fun H hI => ⟨rfl, _, _, by
            refine ⟨by rw [ec0, hF0]; rfl, fun j q4 q5 q6 => ?_, fun l l0 l1 => ?_⟩
            · rw [ec0]
              show _ = setG (keepG F (setG G 0 (rwM (G 0) (G 9) (F 13)))) 0 (addM (rwM (G 0) (G 9) (F 13)) (takM (rwM (G 0) (G 9) (F 13)) (G 0 0))) j
              rw [← hR, ← hT]
              by_cases q : j = 0
              · subst q
                rw [setG_same]
                exact fin
              · rw [setG_ne _ _ q, finj j q, hG2]
                funext i
                unfold keepG
                rw [fk0, f05, g10, setG_same, g1j 3 (by decide) (by decide) (by decide) (by decide), setG_ne _ _ (by decide), g1j j q q4 q5 q6, setG_ne _ _ q]
            · rw [fin, addM_0, hR0] at l1
              refine zTks.cg (G := G1) ((finj 4 (by decide)).trans (g2j 4 (by decide))) ((finj 5 (by decide)).trans (g2j 5 (by decide))) ((finj 6 (by decide)).trans (g2j 6 (by decide))) ?_ (tks1 l l0 (by omega))
              rw [fin, g10]
              exact addM_tx hRok (by rw [hR0]; exact hraw) htk.1 l0 (by omega), hI⟩)
        have K3 : isT R t = false → ∀ n : Nat, n ≤ 20 → ∀ p : Int, p = n → zG X 0 0 (twI D A b (upF F0 5 (keepC F + 1)) (sltG G2 t n (fun _ => -1))) 214 [some (.ref b), some (zI (F 13)), none, some (zI (G 0 0)), some (zI (G 0 (2 + G 0 0))), some (zI (t)), some (zI (p))] [] := by
          intro hf
          refine z_up (fun n hn ih p e2 => ?_)
          subst e2
          refine z_iload (q := 216) hX dX4_add_214 rfl rfl ?_
          refine z_bipush (q := 218) hX dX4_add_216 (by decide) rfl ?_
          refine z_icmp_ge (q := 221) (t := 245) hX dX4_add_218 (by decide) (by omega) (by omega) rfl (fun h218 => ?_) (fun h218 => ?_)
          · refine zG.drop 6 ?_
            refine J245 _ (fun j q => sltG_j _ _ _ _ q) (fun i q0 q1 => ?_) (by rw [sltG_lo _ _ _ _ htk.1 (by omega), g20, hR0])
            rw [show (n : Int) = 20 by omega]
            unfold addM
            rw [if_neg q0, if_neg (by rw [hR0]; exact q1), if_neg (by rw [hf]; decide)]
            show (if _ then _ else _) = _
            by_cases q : 1724 + 20 * t ≤ i ∧ i < 1724 + 20 * t + 20
            · rw [if_pos ⟨rfl, q⟩, if_pos (by omega)]
            · rw [if_neg (fun z => q z.2), if_neg (by omega), g20]
          · refine z_aload_n (i := 0) (q := 222) hX dX4_add_221 rfl rfl rfl ?_
            refine zt_getA (q := 225) hX 0 0 dX4_add_222 q1864 (by decide) rfl rfl rfl ?_
            refine z_sipush (q := 228) hX dX4_add_225 (by decide) rfl ?_
            refine z_bipush (q := 230) hX dX4_add_228 (by decide) rfl ?_
            refine z_iload (q := 232) hX dX4_add_230 rfl rfl ?_
            refine z_imul (q := 233) hX dX4_add_232 rfl ?_
            refine z_iadd (q := 234) hX dX4_add_233 rfl ?_
            refine z_iload (q := 236) hX dX4_add_234 rfl rfl ?_
            refine z_iadd (q := 237) hX dX4_add_236 rfl ?_
            refine z_iconst (q := 238) hX dX4_add_237 rfl ?_
            refine zt_ast (q := 239) (N := 1964) hX 0 dX4_add_238 rfl (by decide) (by decide) (by omega) rfl ?_
            refine z_iinc (q := 242) hX dX4_add_239 rfl (Nat.le_of_ble_eq_true rfl) rfl rfl ?_
            refine z_goto (t := 214) hX dX4_add_242 (by decide) ?_
            rw [sltG_s G2 t n (-1) (fun _ => -1) (by omega) rfl]
            have e9 := ih (by omega) ((n : Int) + 1) (by omega)
            rw [show ((n + 1 : Nat) : Int) = (n : Int) + 1 by omega] at e9
            exact e9
        refine z_aload_n (i := 0) (q := 193) hX dX4_add_192 rfl rfl rfl ?_
        refine z_iload (q := 195) hX dX4_add_193 rfl rfl ?_
        refine zt_V1 (q := 198) (na := 1) hX dX4_add_195 (c_X4_isTemplate D A hw2 (by omega)) q1986 q1988 qs44 q103 q1989 rfl (by decide +kernel) ⟨Nat.le_of_ble_eq_true rfl, Nat.le_of_ble_eq_true rfl⟩ rfl rfl (Nat.le_of_ble_eq_true rfl) rfl ⟨rfl, rfl⟩ (Nat.le_of_ble_eq_true rfl) (Nat.le_of_ble_eq_true rfl) rfl ?_
        rw [g20]
        refine z_ifB_eq (q := 201) (t := 211) hX dX4_add_198 (by decide) rfl (fun h198 => ?_) (fun h198 => ?_)
        · refine z_iconst (q := 212) hX dX4_add_211 rfl ?_
          refine z_istore (q := 214) hX dX4_add_212 (Nat.le_of_ble_eq_true rfl) rfl rfl ?_
          have e9 := K3 h198 0 (Nat.zero_le _) 0 rfl
          rw [show ((0 : Nat) : Int) = 0 from rfl, sltG_0] at e9
          exact e9
        · have hfm : isFm R (fst R t) (G 0 0) = true := by
            rcases hfz with z | z
            · exact z.2
            · rw [h198] at z; cases z
          refine z_aload_n (i := 0) (q := 202) hX dX4_add_201 rfl rfl rfl ?_
          refine z_iload (q := 204) hX dX4_add_202 rfl rfl ?_
          refine z_iload_n (i := 3) (q := 205) hX dX4_add_204 rfl rfl rfl ?_
          refine zt_V0 (q := 208) (na := 2) hX dX4_add_205 (c_X4_widen D A hw2 (by rw [g20]; exact h198) hln2 (by rw [g20]; exact isFm_n hfm)) q2049 q2051 qs59 q103 q2052 rfl (by decide +kernel) ⟨Nat.le_of_ble_eq_true rfl, Nat.le_of_ble_eq_true rfl⟩ rfl rfl (Nat.le_of_ble_eq_true rfl) rfl ⟨rfl, rfl⟩ (Nat.le_of_ble_eq_true rfl) (Nat.le_of_ble_eq_true rfl) rfl ?_
          refine z_goto (t := 245) hX dX4_add_208 (by decide) ?_
          rw [g20]
          refine J245 _ (fun j q => sltG_j _ _ _ _ q) (fun i q0 q1 => ?_) (by rw [sltG_lo _ _ _ _ htk.1 (by omega), g20, hR0])
          unfold addM
          rw [if_neg q0, if_neg (by rw [hR0]; exact q1), if_pos h198, hR0]
          show (if _ then _ else _) = _
          by_cases q : 1724 + 20 * t ≤ i ∧ i < 1724 + 20 * t + nTl R (G 0 0)
          · rw [if_pos ⟨rfl, q⟩, if_pos q]
          · rw [if_neg (fun z => q z.2), if_neg q, g20]
      refine z_aload_n (i := 0) (q := 143) hX dX4_add_142 rfl rfl rfl ?_
      refine z_iload_n (i := 3) (q := 144) hX dX4_add_143 rfl rfl rfl ?_
      refine zt_V0 (q := 147) (na := 1) hX dX4_add_144 (c_X4_layTokens D A hrawS) q1970 q1972 qs40 q103 q1973 rfl (by decide +kernel) ⟨Nat.le_of_ble_eq_true rfl, Nat.le_of_ble_eq_true rfl⟩ rfl rfl (Nat.le_of_ble_eq_true rfl) rfl ⟨rfl, rfl⟩ (Nat.le_of_ble_eq_true rfl) (Nat.le_of_ble_eq_true rfl) rfl ?_
      rw [setG_same, ← hG1]
      refine z_aload_n (i := 0) (q := 148) hX dX4_add_147 rfl rfl rfl ?_
      refine z_iload_n (i := 3) (q := 149) hX dX4_add_148 rfl rfl rfl ?_
      refine zt_V1 (q := 152) (na := 1) hX dX4_add_149 (c_X4_takerOf D A (by first | assumption | omega) (by first | assumption | omega)) q1982 q1984 qs43 q103 q1985 rfl (by decide +kernel) ⟨Nat.le_of_ble_eq_true rfl, Nat.le_of_ble_eq_true rfl⟩ rfl rfl (Nat.le_of_ble_eq_true rfl) rfl ⟨rfl, rfl⟩ (Nat.le_of_ble_eq_true rfl) (Nat.le_of_ble_eq_true rfl) rfl ?_
      rw [g10]
      refine z_istore (q := 154) hX dX4_add_152 (Nat.le_of_ble_eq_true rfl) rfl rfl ?_
      refine z_iload (q := 156) hX dX4_add_154 rfl rfl ?_
      refine z_bipush (q := 158) hX dX4_add_156 (by decide) rfl ?_
      refine z_icmp_ne (q := 161) (t := 188) hX dX4_add_158 (by decide) (by omega) (by omega) rfl (fun h158 => ?_) (fun h158 => ?_)
      · refine z_aload_n (i := 0) (q := 189) hX dX4_add_188 rfl rfl rfl ?_
        refine zt_V0 (q := 192) (na := 0) hX dX4_add_189 (c_X4_keep D A (by rw [f05]; exact hF)) q2045 q2047 qs58 q103 q2048 rfl (by decide +kernel) ⟨Nat.le_of_ble_eq_true rfl, Nat.le_of_ble_eq_true rfl⟩ rfl rfl (Nat.le_of_ble_eq_true rfl) rfl ⟨rfl, rfl⟩ (Nat.le_of_ble_eq_true rfl) (Nat.le_of_ble_eq_true rfl) rfl ?_
        rw [fk0, ← hG2]
        exact J198 (by omega)
      · refine z_aload_n (i := 0) (q := 162) hX dX4_add_161 rfl rfl rfl ?_
        refine zt_getA (q := 165) hX 0 0 dX4_add_162 q1864 (by decide) rfl rfl rfl ?_
        refine z_iconst (q := 166) hX dX4_add_165 rfl ?_
        refine z_iload_n (i := 3) (q := 167) hX dX4_add_166 rfl rfl rfl ?_
        refine z_iadd (q := 168) hX dX4_add_167 rfl ?_
        refine z_iload (q := 170) hX dX4_add_168 rfl rfl ?_
        refine zt_ast (q := 171) (N := 1964) hX 0 dX4_add_170 rfl (by decide) (by decide) (by omega) rfl ?_
        rw [hR] at h158
        have ec3 : addC (G 0) (G 9) (F 13) = 3 := by unfold addC; rw [if_neg (by rw [hok]; decide), if_neg (by omega), if_pos (by omega)]
        rw [if_neg (by rw [ec3]; decide)] at hX
        refine z_aload_n (i := 0) (q := 172) hX dX4_add_171 rfl rfl rfl ?_
        refine z_iconst (q := 173) hX dX4_add_172 rfl ?_
        refine z_iload_n (i := 3) (q := 174) hX dX4_add_173 rfl rfl rfl ?_
        refine z_bipush (q := 176) hX dX4_add_174 (by decide) rfl ?_
        refine z_bipush (q := 178) hX dX4_add_176 (by decide) rfl ?_
        refine zt_V1 (q := 181) (na := 4) hX dX4_add_178 (c_X4_reports D A) q2041 q2043 qs57 q103 q2044 rfl (by decide +kernel) ⟨Nat.le_of_ble_eq_true rfl, Nat.le_of_ble_eq_true rfl⟩ rfl rfl (Nat.le_of_ble_eq_true rfl) rfl ⟨rfl, rfl⟩ (Nat.le_of_ble_eq_true rfl) (Nat.le_of_ble_eq_true rfl) rfl ?_
        refine z_pop (q := 182) hX dX4_add_181 rfl rfl ?_
        refine z_aload_n (i := 0) (q := 183) hX dX4_add_182 rfl rfl rfl ?_
        refine z_iconst (q := 184) hX dX4_add_183 rfl ?_
        refine zt_V1 (q := 187) (na := 1) hX dX4_add_184 (c_X4_refuse D A) q1962 q1964 qs39 q103 q1965 rfl (by decide +kernel) ⟨Nat.le_of_ble_eq_true rfl, Nat.le_of_ble_eq_true rfl⟩ rfl rfl (Nat.le_of_ble_eq_true rfl) rfl ⟨rfl, rfl⟩ (Nat.le_of_ble_eq_true rfl) (Nat.le_of_ble_eq_true rfl) rfl ?_
        exact z_iret hX dX4_add_187 (Nat.le_of_ble_eq_true rfl) (Nat.le_of_ble_eq_true rfl) rfl (fun H hI => ⟨rfl, _, _, by
          have base : ∀ j : Nat, j ≠ 4 → j ≠ 5 → j ≠ 6 → upG G1 0 (2 + G 0 0) (G 0 (2 + G 0 0)) j = setG G 0 (rwJ (G 0) (G 9) (F 13)) j := fun j q4 q5 q6 => by
            funext i
            show (if _ then _ else _) = _
            by_cases q0 : j = 0
            · subst q0
              rw [setG_same, g10, hR]
              unfold rwJ
              by_cases q : i = 2 + G 0 0
              · rw [if_pos ⟨rfl, q⟩, if_pos q, q]
              · rw [if_neg (fun z => q z.2), if_neg q]
            · rw [if_neg (fun z => q0 z.1), setG_ne _ _ q0, g1j j q0 q4 q5 q6]
          refine ⟨by rw [ec3, hF0]; rfl, fun j q4 q5 q6 => ?_, fun l l0 l1 => ?_⟩
          · rw [ec3]
            show _ = repG (setG G 0 (rwJ (G 0) (G 9) (F 13))) 1 (G 0 0) 11 12 j
            funext i
            unfold repG
            have e := congrFun (base j q4 q5 q6) i
            show (if _ then _ else if _ then _ else if _ then _ else if _ then _ else upG G1 0 (2 + G 0 0) (G 0 (2 + G 0 0)) j i) = (if _ then _ else if _ then _ else if _ then _ else if _ then _ else setG G 0 (rwJ (G 0) (G 9) (F 13)) j i)
            rw [e]
          · have ej := rwJ_e (B := G 9) (n := F 13) ho (by omega) htx.2.1
            have b0 := base 0 (by decide) (by decide) (by decide)
            have e0 : ∀ x : Int, repG (upG G1 0 (2 + G 0 0) (G 0 (2 + G 0 0))) 1 (G 0 0) 11 12 0 x = rwJ (G 0) (G 9) (F 13) x := fun x => (congrFun b0 x).trans (congrFun (setG_same _ _ _) x)
            have l2 : l < G 0 0 := by
              have e3 : repG (upG G1 0 (2 + G 0 0) (G 0 (2 + G 0 0))) 1 (G 0 0) 11 12 0 0 = G 0 0 := (e0 0).trans ej.1
              have l3 : l < repG (upG G1 0 (2 + G 0 0) (G 0 (2 + G 0 0))) 1 (G 0 0) 11 12 0 0 := l1
              omega
            refine zTks.cg (G := G1) rfl rfl rfl ?_ (tks1 l l0 (by omega))
            rw [g10, hEq.eX l0 l2, ← ej.eX l0 l2]
            congr 1, hI⟩)
    have hup : upG G 0 (2 + G 0 0) (F 13) = setG G 0 (rwN (G 0) (G 9) (F 13) 0) := by
      have e := upG_set G (G 0) (2 + G 0 0) (F 13)
      rw [setG_self] at e
      rw [e]
      congr 1
      funext i
      unfold rwN
      by_cases q : i = 2 + G 0 0
      · rw [if_pos q, if_pos q]
      · rw [if_neg q, if_neg q, if_neg (by omega)]
    have K : G 0 0 < 40 → ∀ n : Nat, n ≤ (F 13).toNat → ∀ p : Int, p = n → zG X 0 0 (twI D A b F0 (setG G 0 (rwN (G 0) (G 9) (F 13) n))) 108 [some (.ref b), some (zI (F 13)), none, some (zI (G 0 0)), some (zI (G 0 (2 + G 0 0))), some (zI (p)), none] [] := by
      intro h40
      refine z_up (fun n hn ih p e2 => ?_)
      subst e2
      have hbn := htx
      refine z_iload (q := 110) hX dX4_add_108 rfl rfl ?_
      refine z_iload_n (i := 1) (q := 111) hX dX4_add_110 rfl rfl rfl ?_
      refine z_icmp_ge (q := 114) (t := 142) hX dX4_add_111 (by decide) (by omega) (by omega) rfl (fun h111 => ?_) (fun h111 => ?_)
      · refine zG.drop 5 ?_
        rw [show rwN (G 0) (G 9) (F 13) n = R by
          rw [hR]
          funext i
          unfold rwN rwM
          rw [show (n : Int) = F 13 by omega]]
        exact rest h40
      · refine z_aload_n (i := 0) (q := 115) hX dX4_add_114 rfl rfl rfl ?_
        refine zt_getA (q := 118) hX 0 0 dX4_add_115 q1864 (by decide) rfl rfl rfl ?_
        refine z_bipush (q := 120) hX dX4_add_118 (by decide) rfl ?_
        refine z_bipush (q := 122) hX dX4_add_120 (by decide) rfl ?_
        refine z_iload_n (i := 3) (q := 123) hX dX4_add_122 rfl rfl rfl ?_
        refine z_imul (q := 124) hX dX4_add_123 rfl ?_
        refine z_iadd (q := 125) hX dX4_add_124 rfl ?_
        refine z_iload (q := 127) hX dX4_add_125 rfl rfl ?_
        refine z_iadd (q := 128) hX dX4_add_127 rfl ?_
        refine z_aload_n (i := 0) (q := 129) hX dX4_add_128 rfl rfl rfl ?_
        refine zt_getA (q := 132) hX 14 9 dX4_add_129 q1878 (by decide) rfl rfl rfl ?_
        refine z_iload (q := 134) hX dX4_add_132 rfl rfl ?_
        refine zt_ald (q := 135) (N := 60) hX 9 dX4_add_134 rfl (by decide) (by decide) (by omega) rfl ?_
        rw [setG_ne _ _ (by decide : (9 : Nat) ≠ 0)]
        refine zt_ast (q := 136) (N := 1964) hX 0 dX4_add_135 rfl (by decide) (by decide) (by omega) rfl ?_
        refine z_iinc (q := 139) hX dX4_add_136 rfl (Nat.le_of_ble_eq_true rfl) rfl rfl ?_
        refine z_goto (t := 108) hX dX4_add_139 (by decide) ?_
        rw [upG_set, rwN_s ⟨hm.1, h40⟩]
        exact ih (by omega) _ (by omega)
    refine z_aload_n (i := 0) (q := 63) hX dX4_add_62 rfl rfl rfl ?_
    refine zt_getA (q := 66) hX 0 0 dX4_add_63 q1864 (by decide) rfl rfl rfl ?_
    refine z_iconst (q := 67) hX dX4_add_66 rfl ?_
    refine zt_ald (q := 68) (N := 1964) hX 0 dX4_add_67 rfl (by decide) (by decide) (by omega) rfl ?_
    refine z_bipush (q := 70) hX dX4_add_68 (by decide) rfl ?_
    refine z_icmp_ne (q := 73) (t := 79) hX dX4_add_70 (by decide) (by omega) (by omega) rfl (fun h70 => ?_) (fun h70 => ?_)
    · refine z_aload_n (i := 0) (q := 80) hX dX4_add_79 rfl rfl rfl ?_
      refine zt_getA (q := 83) hX 0 0 dX4_add_80 q1864 (by decide) rfl rfl rfl ?_
      refine z_iconst (q := 84) hX dX4_add_83 rfl ?_
      refine zt_ald (q := 85) (N := 1964) hX 0 dX4_add_84 rfl (by decide) (by decide) (by omega) rfl ?_
      refine z_istore_n (i := 3) (q := 86) hX dX4_add_85 rfl (Nat.le_of_ble_eq_true rfl) rfl rfl ?_
      refine z_aload_n (i := 0) (q := 87) hX dX4_add_86 rfl rfl rfl ?_
      refine zt_getA (q := 90) hX 0 0 dX4_add_87 q1864 (by decide) rfl rfl rfl ?_
      refine z_iconst (q := 91) hX dX4_add_90 rfl ?_
      refine z_iload_n (i := 3) (q := 92) hX dX4_add_91 rfl rfl rfl ?_
      refine z_iadd (q := 93) hX dX4_add_92 rfl ?_
      refine zt_ald (q := 94) (N := 1964) hX 0 dX4_add_93 rfl (by decide) (by decide) (by omega) rfl ?_
      refine z_istore (q := 96) hX dX4_add_94 (Nat.le_of_ble_eq_true rfl) rfl rfl ?_
      refine z_aload_n (i := 0) (q := 97) hX dX4_add_96 rfl rfl rfl ?_
      refine zt_getA (q := 100) hX 0 0 dX4_add_97 q1864 (by decide) rfl rfl rfl ?_
      refine z_iconst (q := 101) hX dX4_add_100 rfl ?_
      refine z_iload_n (i := 3) (q := 102) hX dX4_add_101 rfl rfl rfl ?_
      refine z_iadd (q := 103) hX dX4_add_102 rfl ?_
      refine z_iload_n (i := 1) (q := 104) hX dX4_add_103 rfl rfl rfl ?_
      refine zt_ast (q := 105) (N := 1964) hX 0 dX4_add_104 rfl (by decide) (by decide) (by omega) rfl ?_
      refine z_iconst (q := 106) hX dX4_add_105 rfl ?_
      refine z_istore (q := 108) hX dX4_add_106 (Nat.le_of_ble_eq_true rfl) rfl rfl ?_
      rw [hup]
      exact K (by omega) 0 (Nat.zero_le _) _ rfl
    · refine z_aload_n (i := 0) (q := 74) hX dX4_add_73 rfl rfl rfl ?_
      refine z_iconst (q := 75) hX dX4_add_74 rfl ?_
      refine zt_V1 (q := 78) (na := 1) hX dX4_add_75 (c_X4_refuse D A) q1962 q1964 qs39 q103 q1965 rfl (by decide +kernel) ⟨Nat.le_of_ble_eq_true rfl, Nat.le_of_ble_eq_true rfl⟩ rfl rfl (Nat.le_of_ble_eq_true rfl) rfl ⟨rfl, rfl⟩ (Nat.le_of_ble_eq_true rfl) (Nat.le_of_ble_eq_true rfl) rfl ?_
      exact z_iret hX dX4_add_78 (Nat.le_of_ble_eq_true rfl) (Nat.le_of_ble_eq_true rfl) rfl (fun H hI => by
        have ec2 : addC (G 0) (G 9) (F 13) = 2 := by unfold addC; rw [if_neg (by rw [hok]; decide), if_pos (by omega)]
        refine ⟨by rw [if_neg (by rw [ec2]; decide)], _, _, ⟨by rw [ec2, hF0]; rfl, fun j _ _ _ => by rw [ec2]; rfl, hka⟩, hI⟩)
  have K0 : ∀ n : Nat, n ≤ (F 13).toNat → ∀ (v : Bool) (p : Int), v = addOk (G 9) (F 13) n → p = n → zG X 0 0 (twI D A b F0 G) 25 [some (.ref b), some (zI (F 13)), some (zI (bi (v))), some (zI (p)), none, none, none] [] := by
    refine z_up (fun n hn ih v p e1 e2 => ?_)
    subst e2
    have hs : addOk (G 9) (F 13) (n + 1) = (addOk (G 9) (F 13) n && (decide (32 ≤ G 9 n) && decide (G 9 n ≤ 126))) := by
      unfold addOk
      rw [allI, ← Bool.and_assoc]
    refine z_iload_n (i := 3) (q := 26) hX dX4_add_25 rfl rfl rfl ?_
    refine z_iload_n (i := 1) (q := 27) hX dX4_add_26 rfl rfl rfl ?_
    refine z_icmp_ge (q := 30) (t := 52) hX dX4_add_27 (by decide) (by omega) (by omega) rfl (fun h27 => ?_) (fun h27 => ?_)
    · refine z_iload_n (i := 2) (q := 53) hX dX4_add_52 rfl rfl rfl ?_
      refine z_ifB_ne (q := 56) (t := 62) hX dX4_add_53 (by decide) rfl (fun h53 => ?_) (fun h53 => ?_)
      · refine zG.drop 2 (zG.drop 3 ?_)
        exact J62 (by rw [show (F 13).toNat = n by omega, ← e1]; exact h53)
      · refine z_aload_n (i := 0) (q := 57) hX dX4_add_56 rfl rfl rfl ?_
        refine z_iconst (q := 58) hX dX4_add_57 rfl ?_
        refine zt_V1 (q := 61) (na := 1) hX dX4_add_58 (c_X4_refuse D A) q1962 q1964 qs39 q103 q1965 rfl (by decide +kernel) ⟨Nat.le_of_ble_eq_true rfl, Nat.le_of_ble_eq_true rfl⟩ rfl rfl (Nat.le_of_ble_eq_true rfl) rfl ⟨rfl, rfl⟩ (Nat.le_of_ble_eq_true rfl) (Nat.le_of_ble_eq_true rfl) rfl ?_
        exact z_iret hX dX4_add_61 (Nat.le_of_ble_eq_true rfl) (Nat.le_of_ble_eq_true rfl) rfl (fun H hI => by
          have ec1 : addC (G 0) (G 9) (F 13) = 1 := by unfold addC; rw [if_pos (by rw [show (F 13).toNat = n by omega, ← e1]; exact h53)]
          refine ⟨by rw [if_neg (by rw [ec1]; decide)], _, _, ⟨by rw [ec1, hF0]; rfl, fun j _ _ _ => by rw [ec1]; rfl, hka⟩, hI⟩)
    · refine z_iload_n (i := 2) (q := 31) hX dX4_add_30 rfl rfl rfl ?_
      refine z_aload_n (i := 0) (q := 32) hX dX4_add_31 rfl rfl rfl ?_
      refine zt_getA (q := 35) hX 14 9 dX4_add_32 q1878 (by decide) rfl rfl rfl ?_
      refine z_iload_n (i := 3) (q := 36) hX dX4_add_35 rfl rfl rfl ?_
      refine zt_ald (q := 37) (N := 60) hX 9 dX4_add_36 rfl (by decide) (by decide) (by omega) rfl ?_
      have hb9 := hB n (by omega) (by omega)
      refine z_bipush (q := 39) hX dX4_add_37 (by decide) rfl ?_
      refine z_bipush (q := 41) hX dX4_add_39 (by decide) rfl ?_
      refine zt_S1 (q := 44) (na := 3) hX dX4_add_41 (c_X4_in D A (by first | assumption | omega) (by first | assumption | omega) (by first | assumption | omega)) q1955 q1956 q103 q1957 (by decide +kernel) ⟨Nat.le_of_ble_eq_true rfl, Nat.le_of_ble_eq_true rfl⟩ rfl rfl (Nat.le_of_ble_eq_true rfl) rfl ⟨rfl, rfl⟩ (Nat.le_of_ble_eq_true rfl) (Nat.le_of_ble_eq_true rfl) rfl ?_
      refine z_iand (q := 45) hX dX4_add_44 (bi_iand _ _) rfl ?_
      refine z_istore_n (i := 2) (q := 46) hX dX4_add_45 rfl (Nat.le_of_ble_eq_true rfl) rfl rfl ?_
      refine z_iinc (q := 49) hX dX4_add_46 rfl (Nat.le_of_ble_eq_true rfl) rfl rfl ?_
      refine z_goto (t := 25) hX dX4_add_49 (by decide) ?_
      exact ih (by omega) _ _ (by rw [hs, e1]) (by omega)
  refine z_aload_n (i := 0) (q := 1) hX dX4_add_0 rfl rfl rfl ?_
  refine z_iconst (q := 2) hX dX4_add_1 rfl ?_
  refine zt_put (ty := .int) (q := 5) hX 6 dX4_add_2 q1870 (by decide) rfl rfl rfl (by decide) rfl rfl rfl ?_
  refine z_aload_n (i := 0) (q := 6) hX dX4_add_5 rfl rfl rfl ?_
  refine zt_getI (q := 9) hX 13 dX4_add_6 q1877 (by decide) rfl rfl rfl ?_
  rw [e13]
  refine z_istore_n (i := 1) (q := 10) hX dX4_add_9 rfl (Nat.le_of_ble_eq_true rfl) rfl rfl ?_
  refine z_aload_n (i := 0) (q := 11) hX dX4_add_10 rfl rfl rfl ?_
  refine z_iconst (q := 12) hX dX4_add_11 rfl ?_
  refine zt_put (ty := .int) (q := 15) hX 13 dX4_add_12 q1877 (by decide) rfl rfl rfl (by decide) rfl rfl rfl ?_
  rw [← hF0]
  refine z_iload_n (i := 1) (q := 16) hX dX4_add_15 rfl rfl rfl ?_
  refine z_iconst (q := 17) hX dX4_add_16 rfl ?_
  refine z_bipush (q := 19) hX dX4_add_17 (by decide) rfl ?_
  refine zt_S1 (q := 22) (na := 3) hX dX4_add_19 (c_X4_in D A (by first | assumption | omega) (by first | assumption | omega) (by first | assumption | omega)) q1955 q1956 q103 q1957 (by decide +kernel) ⟨Nat.le_of_ble_eq_true rfl, Nat.le_of_ble_eq_true rfl⟩ rfl rfl (Nat.le_of_ble_eq_true rfl) rfl ⟨rfl, rfl⟩ (Nat.le_of_ble_eq_true rfl) (Nat.le_of_ble_eq_true rfl) rfl ?_
  refine z_istore_n (i := 2) (q := 23) hX dX4_add_22 rfl (Nat.le_of_ble_eq_true rfl) rfl rfl ?_
  refine z_iconst (q := 24) hX dX4_add_23 rfl ?_
  refine z_istore_n (i := 3) (q := 25) hX dX4_add_24 rfl (Nat.le_of_ble_eq_true rfl) rfl rfl ?_
  exact K0 0 (Nat.zero_le _) _ _ (by unfold addOk; rw [allI, Bool.and_true]) rfl
