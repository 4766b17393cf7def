/-! THE REFERENCE: reading a condition -/
set_option maxRecDepth 100000
theorem upG_upG (G : zTG) (j : Nat) (i x y : Int) : upG (upG G j i x) j i y = upG G j i y := by
  funext j2 i2
  unfold upG
  split <;> simp_all
/-- how many exclamation marks from a place on, m at most -/
def exc (s : zS) (p : Int) : Nat → Nat
  | 0 => 0
  | m + 1 => if exc s p m = m ∧ hr s (p + m) = 33 then m + 1 else exc s p m
theorem exc_le (s : zS) (p : Int) (m : Nat) : exc s p m ≤ m := by
  induction m with
  | zero => exact Nat.le_refl _
  | succ m ih =>
    rw [exc]
    split <;> omega
theorem exc_stop {s : zS} {p : Int} {m n : Nat} (h : exc s p m = m) (hd : hr s (p + m) ≠ 33) (hn : m ≤ n) : exc s p n = m := by
  induction n with
  | zero => rw [show m = 0 by omega]; rfl
  | succ n ih =>
    by_cases q : m = n + 1
    · rw [← q]; exact h
    · rw [exc, ih (by omega), if_neg]
      rintro ⟨h1, h2⟩
      rw [← h1] at h2
      exact hd h2
theorem exc_s {s : zS} {p : Int} {m : Nat} (h : exc s p m = m) (hd : hr s (p + m) = 33) : exc s p (m + 1) = m + 1 := by
  rw [exc, if_pos ⟨h, hd⟩]
/-- behind the exclamation marks -/
def rqP (s : zS) (p : Int) : Int := p + exc s p 4
abbrev rqB (s : zS) (p : Int) : Prop := hr s (rqP s p) = 35 ∨ hr s (rqP s p) = 36 ∨ hr s (rqP s p) = 37
def rq1 (F : zTF) (s : zS) : zTF := upF (upF (upF F 25 (rqP s (F 25))) 26 0) 25 (rqP s (F 25) + 1)
def rqF (F : zTF) (s : zS) : zTF := if rqB s (F 25) then upF (if hr s (rqP s (F 25)) = 35 then upF (upF (rq1 F s) 25 (nuP s (rqP s (F 25) + 1))) 26 (bi (decide (nuN s (rqP s (F 25) + 1) = 0))) else if hr s (rqP s (F 25)) = 36 then upF (upF (rq1 F s) 25 (wdP s (rqP s (F 25) + 1))) 26 (bi (decide (wdN s (rqP s (F 25) + 1) = 0))) else rcF (rq1 F s) s) 23 (F 23 + 1) else upF (upF F 25 (rqP s (F 25))) 26 1
def rq0 (F : zTF) (G : zTG) (s : zS) : zTG := upG (upG G 14 (7 * F 23) (exc s (F 25) 4)) 14 (7 * F 23 + 1) (hr s (rqP s (F 25)))
def rqG (F : zTF) (G : zTG) (s : zS) : zTG := if rqB s (F 25) then (if hr s (rqP s (F 25)) = 35 then upG (rq0 F G s) 14 (7 * F 23 + 4) (nuV s (rqP s (F 25) + 1)) else if hr s (rqP s (F 25)) = 36 then upG (upG (rq0 F G s) 14 (7 * F 23 + 5) (rqP s (F 25) + 1)) 14 (7 * F 23 + 6) (wdP s (rqP s (F 25) + 1)) else rcG (rq1 F s) (rq0 F G s) s (7 * F 23)) else rq0 F G s
theorem rcF_23 (F : zTF) (s : zS) : rcF F s 23 = F 23 := by
  unfold rcF
  split
  · exact upF_ne _ _ (by decide)
  · split
    · rw [upF_ne _ _ (by decide), upF_ne _ _ (by decide)]
    · rw [upF_ne _ _ (by decide), upF_ne _ _ (by decide)]
abbrev rmX4_readCondition : Room := { frames := 4, cells := 0, slots := 0, locals := 87 }
set_option maxHeartbeats 4000000 in
theorem c_X4_readCondition (D : zD) (A : Nat → Prop) {b : Nat} {F : zTF} {G : zTG} {s : zS} (h : zBuf F G s) (h0 : 0 ≤ F 25 ∧ F 25 ≤ 60) (h23 : 0 ≤ F 23 ∧ F 23 ≤ 58) : zC D yX4_readCondition cX4_readCondition 3 none none rmX4_readCondition A [.ref b] (twI D A b F G) (zPv (twI D A b (rqF F s) (rqG F G s))) zNo := by
  refine zC_start (L := [some (.ref b), none, none]) (by decide) (Nat.le_of_ble_eq_true rfl) rfl (fun X hX => ?_)
  have h60 := h.2.1
  have K : ∀ m : Nat, m ≤ 4 → exc s (F 25) m = m → ∀ p : Int, p = F 25 + m → zG X 0 0 (twI D A b (upF F 25 p) (upG G 14 (7 * F 23) m)) 15 [some (.ref b), some (zI (7 * F 23)), none] [] := by
    refine z_up (fun m hm ih hd p ep => ?_)
    subst ep
    have hb : zBuf (upF F 25 (F 25 + m)) (upG G 14 (7 * F 23) m) s := h.cg (upF_ne _ _ (by decide)) (upG_nj _ _ _ (by decide))
    have e25 : upF F 25 (F 25 + m) 25 = F 25 + m := upF_same _ _ _
    have eR : upG G 14 (7 * F 23) m 14 (7 * F 23) = m := upG_same _ _ _ _
    have hR := hr_R h (p := F 25 + m) (by omega)
    have J57 : exc s (F 25) 4 = m → zG X 0 0 (twI D A b (upF F 25 (F 25 + m)) (upG G 14 (7 * F 23) m)) 57 [some (.ref b), some (zI (7 * F 23)), none] [] := by
      intro hx
      have eP : rqP s (F 25) = F 25 + m := by unfold rqP; rw [hx]
      have e0 : rq0 F G s = upG (upG G 14 (7 * F 23) m) 14 (7 * F 23 + 1) (hr s (F 25 + m)) := by unfold rq0; rw [hx, eP]
      have e1 : rq1 F s = upF (upF (upF F 25 (F 25 + m)) 26 0) 25 (F 25 + m + 1) := by unfold rq1; rw [eP]
      obtain ⟨G1, hG1⟩ : ∃ G1 : zTG, G1 = rq0 F G s := ⟨_, rfl⟩
      obtain ⟨F1, hF1⟩ : ∃ F1 : zTF, F1 = rq1 F s := ⟨_, rfl⟩
      have f125 : F1 25 = F 25 + m + 1 := by rw [hF1, e1, upF_same]
      have f123 : F1 23 = F 23 := by rw [hF1, e1, upF_ne _ _ (by decide), upF_ne _ _ (by decide), upF_ne _ _ (by decide)]
      have f113 : F1 13 = F 13 := by rw [hF1, e1, upF_ne _ _ (by decide), upF_ne _ _ (by decide), upF_ne _ _ (by decide)]
      have g19 : G1 9 = G 9 := by rw [hG1, e0, upG_nj _ _ _ (by decide), upG_nj _ _ _ (by decide)]
      have hb1 : zBuf F1 G1 s := h.cg f113 g19
      have J95 : ∀ w : Bool, w = !decide (rqB s (F 25)) → zG X 0 0 (twI D A b (upF F 25 (F 25 + m)) G1) 95 [some (.ref b), some (zI (7 * F 23)), some (zI (hr s (F 25 + m)))] [zI (bi (w)), .ref b] := by
        intro w ew
        have e26 : upF (upF F 25 (F 25 + m)) 26 (bi w) 26 = bi w := upF_same _ _ _
        have hbr := bi_range w
        cases w with
        | true =>
          have hk : ¬ rqB s (F 25) := fun q => by rw [decide_eq_true q] at ew; cases ew
          rw [show rqF F s = upF (upF F 25 (F 25 + m)) 26 1 by unfold rqF; rw [if_neg hk, eP], show rqG F G s = G1 by unfold rqG; rw [if_neg hk, hG1]] at hX
          refine zt_put (ty := .boolean) (q := 98) hX 26 dX4_readCondition_95 q1890 (by decide) rfl rfl rfl (by decide) (by first | decide | exact narrow_bi _) (by first | decide | exact fits_bi _) rfl ?_
          refine z_aload_n (i := 0) (q := 99) hX dX4_readCondition_98 rfl rfl rfl ?_
          refine zt_getI (q := 102) hX 26 dX4_readCondition_99 q1890 (by decide) rfl rfl rfl ?_
          refine z_if_eq (q := 105) (t := 106) hX dX4_readCondition_102 (by decide) (by omega) rfl (fun h102 => ?_) (fun h102 => ?_)
          · exact absurd (show upF (upF F 25 (F 25 + m)) 26 (bi true) 26 = 1 from e26) (by omega)
          · exact z_vret hX dX4_readCondition_105 (Nat.le_of_ble_eq_true rfl) (Nat.le_of_ble_eq_true rfl) rfl (fun H hI => ⟨rfl, hI⟩)
        | false =>
          have hk : rqB s (F 25) := Classical.byContradiction fun q => by rw [decide_eq_false q] at ew; cases ew
          have hk2 := hk
          unfold rqB at hk2
          rw [eP] at hk2
          have hi := hr_in (s := s) (p := F 25 + m) (by omega)
          have f2 : upF (upF F 25 (F 25 + m)) 26 (bi false) 25 = F 25 + m := by rw [upF_ne _ _ (by decide), upF_same]
          have eF : upF (upF (upF F 25 (F 25 + m)) 26 (bi false)) 25 (F 25 + m + 1) = F1 := by rw [hF1, e1]; rfl
          refine zt_put (ty := .boolean) (q := 98) hX 26 dX4_readCondition_95 q1890 (by decide) rfl rfl rfl (by decide) (by first | decide | exact narrow_bi _) (by first | decide | exact fits_bi _) rfl ?_
          refine z_aload_n (i := 0) (q := 99) hX dX4_readCondition_98 rfl rfl rfl ?_
          refine zt_getI (q := 102) hX 26 dX4_readCondition_99 q1890 (by decide) rfl rfl rfl ?_
          refine z_if_eq (q := 105) (t := 106) hX dX4_readCondition_102 (by decide) (by omega) rfl (fun h102 => ?_) (fun h102 => ?_)
          · refine z_aload_n (i := 0) (q := 107) hX dX4_readCondition_106 rfl rfl rfl ?_
            refine z_dup (q := 108) hX dX4_readCondition_107 rfl rfl ?_
            refine zt_getI (q := 111) hX 25 dX4_readCondition_108 q1889 (by decide) rfl rfl rfl ?_
            rw [f2]
            refine z_iconst (q := 112) hX dX4_readCondition_111 rfl ?_
            refine z_iadd (q := 113) hX dX4_readCondition_112 rfl ?_
            refine zt_put (ty := .int) (q := 116) hX 25 dX4_readCondition_113 q1889 (by decide) rfl rfl rfl (by decide) rfl rfl rfl ?_
            rw [eF]
            refine z_iload_n (i := 2) (q := 117) hX dX4_readCondition_116 rfl rfl rfl ?_
            refine z_bipush (q := 119) hX dX4_readCondition_117 (by decide) rfl ?_
            refine z_icmp_ne (q := 122) (t := 137) hX dX4_readCondition_119 (by decide) (by omega) (by omega) rfl (fun h119 => ?_) (fun h119 => ?_)
            · refine z_iload_n (i := 2) (q := 138) hX dX4_readCondition_137 rfl rfl rfl ?_
              refine z_bipush (q := 140) hX dX4_readCondition_138 (by decide) rfl ?_
              refine z_icmp_ne (q := 143) (t := 151) hX dX4_readCondition_140 (by decide) (by omega) (by omega) rfl (fun h140 => ?_) (fun h140 => ?_)
              · refine z_aload_n (i := 0) (q := 152) hX dX4_readCondition_151 rfl rfl rfl ?_
                refine z_iload_n (i := 1) (q := 153) hX dX4_readCondition_152 rfl rfl rfl ?_
                refine zt_V0 (q := 156) (na := 1) hX dX4_readCondition_153 (c_X4_readColumn D A (by first | assumption | omega) (by first | assumption | omega) (by first | assumption | omega)) q2258 q2260 qs89 q103 q2261 rfl (by decide +kernel) ⟨Nat.le_of_ble_eq_true rfl, Nat.le_of_ble_eq_true rfl⟩ rfl rfl (Nat.le_of_ble_eq_true rfl) rfl ⟨rfl, rfl⟩ (Nat.le_of_ble_eq_true rfl) (Nat.le_of_ble_eq_true rfl) rfl ?_
                refine z_aload_n (i := 0) (q := 157) hX dX4_readCondition_156 rfl rfl rfl ?_
                refine z_dup (q := 158) hX dX4_readCondition_157 rfl rfl ?_
                refine zt_getI (q := 161) hX 23 dX4_readCondition_158 q1887 (by decide) rfl rfl rfl ?_
                rw [rcF_23, f123]
                refine z_iconst (q := 162) hX dX4_readCondition_161 rfl ?_
                refine z_iadd (q := 163) hX dX4_readCondition_162 rfl ?_
                refine zt_put (ty := .int) (q := 166) hX 23 dX4_readCondition_163 q1887 (by decide) rfl rfl rfl (by decide) rfl rfl rfl ?_
                refine zt_conv (F2 := rqF F s) (G2 := rqG F G s) (by unfold rqF; rw [if_pos hk, eP, if_neg h119, if_neg h140, hF1]) (by unfold rqG; rw [if_pos hk, eP, if_neg h119, if_neg h140, hG1, hF1]) ?_
                exact z_vret hX dX4_readCondition_166 (Nat.le_of_ble_eq_true rfl) (Nat.le_of_ble_eq_true rfl) rfl (fun H hI => ⟨rfl, hI⟩)
              · refine z_aload_n (i := 0) (q := 144) hX dX4_readCondition_143 rfl rfl rfl ?_
                refine z_iload_n (i := 1) (q := 145) hX dX4_readCondition_144 rfl rfl rfl ?_
                refine zt_V0 (q := 148) (na := 1) hX dX4_readCondition_145 (c_X4_readWord D A (by first | assumption | omega) (by first | assumption | omega) (by first | assumption | omega)) q2254 q2256 qs88 q103 q2257 rfl (by decide +kernel) ⟨Nat.le_of_ble_eq_true rfl, Nat.le_of_ble_eq_true rfl⟩ rfl rfl (Nat.le_of_ble_eq_true rfl) rfl ⟨rfl, rfl⟩ (Nat.le_of_ble_eq_true rfl) (Nat.le_of_ble_eq_true rfl) rfl ?_
                rw [f125]
                refine z_goto (t := 156) hX dX4_readCondition_148 (by decide) ?_
                refine z_aload_n (i := 0) (q := 157) hX dX4_readCondition_156 rfl rfl rfl ?_
                refine z_dup (q := 158) hX dX4_readCondition_157 rfl rfl ?_
                refine zt_getI (q := 161) hX 23 dX4_readCondition_158 q1887 (by decide) rfl rfl rfl ?_
                rw [upF_ne _ _ (by decide), upF_ne _ _ (by decide), f123]
                refine z_iconst (q := 162) hX dX4_readCondition_161 rfl ?_
                refine z_iadd (q := 163) hX dX4_readCondition_162 rfl ?_
                refine zt_put (ty := .int) (q := 166) hX 23 dX4_readCondition_163 q1887 (by decide) rfl rfl rfl (by decide) rfl rfl rfl ?_
                refine zt_conv (F2 := rqF F s) (G2 := rqG F G s) (by unfold rqF; rw [if_pos hk, eP, if_neg h119, if_pos (by omega), hF1]) (by unfold rqG; rw [if_pos hk, eP, if_neg h119, if_pos (by omega), hG1]) ?_
                exact z_vret hX dX4_readCondition_166 (Nat.le_of_ble_eq_true rfl) (Nat.le_of_ble_eq_true rfl) rfl (fun H hI => ⟨rfl, hI⟩)
            · refine z_aload_n (i := 0) (q := 123) hX dX4_readCondition_122 rfl rfl rfl ?_
              refine zt_getA (q := 126) hX 24 14 dX4_readCondition_123 q1888 (by decide) rfl rfl rfl ?_
              refine z_iload_n (i := 1) (q := 127) hX dX4_readCondition_126 rfl rfl rfl ?_
              refine z_iconst (q := 128) hX dX4_readCondition_127 rfl ?_
              refine z_iadd (q := 129) hX dX4_readCondition_128 rfl ?_
              refine z_aload_n (i := 0) (q := 130) hX dX4_readCondition_129 rfl rfl rfl ?_
              refine zt_V1 (q := 133) (na := 0) hX dX4_readCondition_130 (c_X4_number D A (by first | assumption | omega) (by first | assumption | omega)) q2250 q2252 qs87 q103 q2253 rfl (by decide +kernel) ⟨Nat.le_of_ble_eq_true rfl, Nat.le_of_ble_eq_true rfl⟩ rfl rfl (Nat.le_of_ble_eq_true rfl) rfl ⟨rfl, rfl⟩ (Nat.le_of_ble_eq_true rfl) (Nat.le_of_ble_eq_true rfl) rfl ?_
              rw [f125]
              refine zt_ast (q := 134) (N := 420) hX 14 dX4_readCondition_133 rfl (by decide) (by decide) (by omega) rfl ?_
              refine z_goto (t := 156) hX dX4_readCondition_134 (by decide) ?_
              refine z_aload_n (i := 0) (q := 157) hX dX4_readCondition_156 rfl rfl rfl ?_
              refine z_dup (q := 158) hX dX4_readCondition_157 rfl rfl ?_
              refine zt_getI (q := 161) hX 23 dX4_readCondition_158 q1887 (by decide) rfl rfl rfl ?_
              rw [upF_ne _ _ (by decide), upF_ne _ _ (by decide), f123]
              refine z_iconst (q := 162) hX dX4_readCondition_161 rfl ?_
              refine z_iadd (q := 163) hX dX4_readCondition_162 rfl ?_
              refine zt_put (ty := .int) (q := 166) hX 23 dX4_readCondition_163 q1887 (by decide) rfl rfl rfl (by decide) rfl rfl rfl ?_
              refine zt_conv (F2 := rqF F s) (G2 := rqG F G s) (by unfold rqF; rw [if_pos hk, eP, if_pos (by omega), hF1]) (by unfold rqG; rw [if_pos hk, eP, if_pos (by omega), hG1]) ?_
              exact z_vret hX dX4_readCondition_166 (Nat.le_of_ble_eq_true rfl) (Nat.le_of_ble_eq_true rfl) rfl (fun H hI => ⟨rfl, hI⟩)
          · exact absurd (show upF (upF F 25 (F 25 + m)) 26 (bi false) 26 = 0 from e26) h102
      have hp : ((F 25 + m : Int)) = rqP s (F 25) := eP.symm
      refine z_aload_n (i := 0) (q := 58) hX dX4_readCondition_57 rfl rfl rfl ?_
      refine zt_V1 (q := 61) (na := 0) hX dX4_readCondition_58 (c_X4_here D A (by first | assumption | omega) (by first | assumption | omega) (by first | assumption | omega)) q2246 q2248 qs86 q103 q2249 rfl (by decide +kernel) ⟨Nat.le_of_ble_eq_true rfl, Nat.le_of_ble_eq_true rfl⟩ rfl rfl (Nat.le_of_ble_eq_true rfl) rfl ⟨rfl, rfl⟩ (Nat.le_of_ble_eq_true rfl) (Nat.le_of_ble_eq_true rfl) rfl ?_
      rw [e25]
      refine z_istore_n (i := 2) (q := 62) hX dX4_readCondition_61 rfl (Nat.le_of_ble_eq_true rfl) rfl rfl ?_
      refine z_aload_n (i := 0) (q := 63) hX dX4_readCondition_62 rfl rfl rfl ?_
      refine zt_getA (q := 66) hX 24 14 dX4_readCondition_63 q1888 (by decide) rfl rfl rfl ?_
      refine z_iload_n (i := 1) (q := 67) hX dX4_readCondition_66 rfl rfl rfl ?_
      refine z_iconst (q := 68) hX dX4_readCondition_67 rfl ?_
      refine z_iadd (q := 69) hX dX4_readCondition_68 rfl ?_
      refine z_iload_n (i := 2) (q := 70) hX dX4_readCondition_69 rfl rfl rfl ?_
      refine zt_ast (q := 71) (N := 420) hX 14 dX4_readCondition_70 rfl (by decide) (by decide) (by omega) rfl ?_
      rw [← e0, ← hG1]
      refine z_aload_n (i := 0) (q := 72) hX dX4_readCondition_71 rfl rfl rfl ?_
      refine z_iload_n (i := 2) (q := 73) hX dX4_readCondition_72 rfl rfl rfl ?_
      refine z_bipush (q := 75) hX dX4_readCondition_73 (by decide) rfl ?_
      refine z_icmp_eq (q := 78) (t := 94) hX dX4_readCondition_75 (by decide) (by omega) (by omega) rfl (fun h75 => ?_) (fun h75 => ?_)
      · refine z_iconst (q := 95) hX dX4_readCondition_94 rfl ?_
        exact J95 false (by rw [decide_eq_true (show rqB s (F 25) by unfold rqB; rw [eP]; omega)]; rfl)
      · refine z_iload_n (i := 2) (q := 79) hX dX4_readCondition_78 rfl rfl rfl ?_
        refine z_bipush (q := 81) hX dX4_readCondition_79 (by decide) rfl ?_
        refine z_icmp_eq (q := 84) (t := 94) hX dX4_readCondition_81 (by decide) (by omega) (by omega) rfl (fun h81 => ?_) (fun h81 => ?_)
        · refine z_iconst (q := 95) hX dX4_readCondition_94 rfl ?_
          exact J95 false (by rw [decide_eq_true (show rqB s (F 25) by unfold rqB; rw [eP]; omega)]; rfl)
        · refine z_iload_n (i := 2) (q := 85) hX dX4_readCondition_84 rfl rfl rfl ?_
          refine z_bipush (q := 87) hX dX4_readCondition_85 (by decide) rfl ?_
          refine z_icmp_eq (q := 90) (t := 94) hX dX4_readCondition_87 (by decide) (by omega) (by omega) rfl (fun h87 => ?_) (fun h87 => ?_)
          · refine z_iconst (q := 95) hX dX4_readCondition_94 rfl ?_
            exact J95 false (by rw [decide_eq_true (show rqB s (F 25) by unfold rqB; rw [eP]; omega)]; rfl)
          · refine z_iconst (q := 91) hX dX4_readCondition_90 rfl ?_
            refine z_goto (t := 95) hX dX4_readCondition_91 (by decide) ?_
            exact J95 true (by rw [decide_eq_false (show ¬ rqB s (F 25) by unfold rqB; rw [eP]; omega)]; rfl)
    refine z_aload_n (i := 0) (q := 16) hX dX4_readCondition_15 rfl rfl rfl ?_
    refine zt_V1 (q := 19) (na := 0) hX dX4_readCondition_16 (c_X4_here D A (by first | assumption | omega) (by first | assumption | omega) (by first | assumption | omega)) q2246 q2248 qs86 q103 q2249 rfl (by decide +kernel) ⟨Nat.le_of_ble_eq_true rfl, Nat.le_of_ble_eq_true rfl⟩ rfl rfl (Nat.le_of_ble_eq_true rfl) rfl ⟨rfl, rfl⟩ (Nat.le_of_ble_eq_true rfl) (Nat.le_of_ble_eq_true rfl) rfl ?_
    rw [e25]
    refine z_bipush (q := 21) hX dX4_readCondition_19 (by decide) rfl ?_
    refine z_icmp_ne (q := 24) (t := 57) hX dX4_readCondition_21 (by decide) (by omega) (by omega) rfl (fun h21 => ?_) (fun h21 => ?_)
    · exact J57 (exc_stop hd h21 hm)
    · refine z_aload_n (i := 0) (q := 25) hX dX4_readCondition_24 rfl rfl rfl ?_
      refine zt_getA (q := 28) hX 24 14 dX4_readCondition_25 q1888 (by decide) rfl rfl rfl ?_
      refine z_iload_n (i := 1) (q := 29) hX dX4_readCondition_28 rfl rfl rfl ?_
      refine zt_ald (q := 30) (N := 420) hX 14 dX4_readCondition_29 rfl (by decide) (by decide) (by omega) rfl ?_
      rw [eR]
      refine z_iconst (q := 31) hX dX4_readCondition_30 rfl ?_
      refine z_icmp_ge (q := 34) (t := 57) hX dX4_readCondition_31 (by decide) (by omega) (by omega) rfl (fun h31 => ?_) (fun h31 => ?_)
      · exact J57 (by rw [show (4 : Nat) = m by omega]; exact hd)
      · refine z_aload_n (i := 0) (q := 35) hX dX4_readCondition_34 rfl rfl rfl ?_
        refine zt_getA (q := 38) hX 24 14 dX4_readCondition_35 q1888 (by decide) rfl rfl rfl ?_
        refine z_iload_n (i := 1) (q := 39) hX dX4_readCondition_38 rfl rfl rfl ?_
        refine z_dup2 (q := 40) hX dX4_readCondition_39 rfl rfl rfl ?_
        refine zt_ald (q := 41) (N := 420) hX 14 dX4_readCondition_40 rfl (by decide) (by decide) (by omega) rfl ?_
        rw [eR]
        refine z_iconst (q := 42) hX dX4_readCondition_41 rfl ?_
        refine z_iadd (q := 43) hX dX4_readCondition_42 rfl ?_
        refine zt_ast (q := 44) (N := 420) hX 14 dX4_readCondition_43 rfl (by decide) (by decide) (by omega) rfl ?_
        rw [upG_upG]
        refine z_aload_n (i := 0) (q := 45) hX dX4_readCondition_44 rfl rfl rfl ?_
        refine z_dup (q := 46) hX dX4_readCondition_45 rfl rfl ?_
        refine zt_getI (q := 49) hX 25 dX4_readCondition_46 q1889 (by decide) rfl rfl rfl ?_
        rw [e25]
        refine z_iconst (q := 50) hX dX4_readCondition_49 rfl ?_
        refine z_iadd (q := 51) hX dX4_readCondition_50 rfl ?_
        refine zt_put (ty := .int) (q := 54) hX 25 dX4_readCondition_51 q1889 (by decide) rfl rfl rfl (by decide) rfl rfl rfl ?_
        refine z_goto (t := 15) hX dX4_readCondition_54 (by decide) ?_
        rw [upF_upF]
        have e9 := ih (by omega) (exc_s hd (by omega)) (F 25 + m + 1) (by omega)
        rw [show ((m + 1 : Nat) : Int) = (m : Int) + 1 by omega] at e9
        exact e9
  refine z_bipush (q := 2) hX dX4_readCondition_0 (by decide) rfl ?_
  refine z_aload_n (i := 0) (q := 3) hX dX4_readCondition_2 rfl rfl rfl ?_
  refine zt_getI (q := 6) hX 23 dX4_readCondition_3 q1887 (by decide) rfl rfl rfl ?_
  refine z_imul (q := 7) hX dX4_readCondition_6 rfl ?_
  refine z_istore_n (i := 1) (q := 8) hX dX4_readCondition_7 rfl (Nat.le_of_ble_eq_true rfl) rfl rfl ?_
  refine z_aload_n (i := 0) (q := 9) hX dX4_readCondition_8 rfl rfl rfl ?_
  refine zt_getA (q := 12) hX 24 14 dX4_readCondition_9 q1888 (by decide) rfl rfl rfl ?_
  refine z_iload_n (i := 1) (q := 13) hX dX4_readCondition_12 rfl rfl rfl ?_
  refine z_iconst (q := 14) hX dX4_readCondition_13 rfl ?_
  refine zt_ast (q := 15) (N := 420) hX 14 dX4_readCondition_14 rfl (by decide) (by decide) (by omega) rfl ?_
  have e9 := K 0 (Nat.zero_le _) rfl (F 25) (by omega)
  rw [upF_self] at e9
  exact e9
