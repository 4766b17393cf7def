/-! THE REFERENCE: a query -/
set_option maxRecDepth 100000
/-- conditions read, as many as there are -/
def qrn (s : zS) : Nat → zTF → zTG → zTF × zTG
  | 0, F, G => (F, G)
  | n + 1, F, G => if rqF F s 26 = 0 ∧ hr s (rqF F s 25) = 38 then qrn s n (upF (rqF F s) 25 (rqF F s 25 + 1)) (rqG F G s) else (rqF F s, rqG F G s)
theorem rqG_9 (F : zTF) (G : zTG) (s : zS) {j : Nat} (hj : j ≠ 14) : rqG F G s j = G j := by
  have e0 : rq0 F G s j = G j := by unfold rq0; rw [upG_nj _ _ _ hj, upG_nj _ _ _ hj]
  have ec : ∀ (F1 : zTF) (G1 : zTG) (c : Int), rcG F1 G1 s c j = G1 j := fun F1 G1 c => by
    unfold rcG
    split
    · rfl
    · split
      · rw [upG_nj _ _ _ hj]
      · rw [upG_nj _ _ _ hj, upG_nj _ _ _ hj, upG_nj _ _ _ hj]
  unfold rqG
  split
  · split
    · rw [upG_nj _ _ _ hj, e0]
    · split
      · rw [upG_nj _ _ _ hj, upG_nj _ _ _ hj, e0]
      · rw [ec, e0]
  · exact e0
theorem qrn_f (s : zS) : ∀ (n : Nat) (F : zTF) (G : zTG), (∀ k : Nat, k ≠ 23 → k ≠ 25 → k ≠ 26 → (qrn s n F G).1 k = F k) ∧ ∀ j : Nat, j ≠ 14 → (qrn s n F G).2 j = G j := by
  intro n
  induction n with
  | zero => intro F G; exact ⟨fun _ _ _ _ => rfl, fun _ _ => rfl⟩
  | succ n ih =>
    intro F G
    have h1 := rqF_f F s
    rw [qrn]
    split
    · have h2 := ih (upF (rqF F s) 25 (rqF F s 25 + 1)) (rqG F G s)
      exact ⟨fun k a c d => by rw [h2.1 k a c d, upF_ne _ _ c]; exact h1.1 k a c d, fun j hj => (h2.2 j hj).trans (rqG_9 F G s hj)⟩
    · exact ⟨h1.1, fun j hj => rqG_9 F G s hj⟩
def qr0 (F : zTF) : zTF := upF (upF (upF F 6 0) 25 0) 23 0
def qrR (F : zTF) (G : zTG) (s : zS) : zTF × zTG := qrn s 61 (qr0 F) G
/-- did the query's text end well? -/
def qrOk (F : zTF) (G : zTG) (s : zS) : Bool := decide ((qrR F G s).1 26 = 0) && decide ((qrR F G s).1 25 = (s.length : Int))
/-- array j filled from array j2, n places -/
def qrF (F : zTF) (G : zTG) (s : zS) : zTF := if qrOk F G s = true then upF (upF (upF (qrR F G s).1 13 0) 19 1) 20 ((qrR F G s).1 23) else upF (qrR F G s).1 13 0
def qrG (F : zTF) (G : zTG) (s : zS) : zTG := if qrOk F G s = true then cpyG (cpyG (qrR F G s).2 12 ((qrR F G s).2 14) (7 * (qrR F G s).1 23).toNat) 13 (G 9) (s.length) else (qrR F G s).2
def qrA (F : zTF) (G : zTG) (s : zS) : Int := if qrOk F G s = true then hiI (G 0) (qrG F G s 12) (qrG F G s 13) ((qrR F G s).1 23).toNat else -100 - (qrR F G s).1 25
/-- how far the query's reading is -/
def qrI (F : zTF) (G : zTG) (s : zS) (F1 : zTF) (G1 : zTG) : Prop := (∀ k : Nat, k ≠ 23 → k ≠ 25 → k ≠ 26 → F1 k = upF F 6 0 k) ∧ (∀ j : Nat, j ≠ 14 → G1 j = G j) ∧ (∀ i : Int, 0 ≤ i → i < 420 → zR (G1 14 i)) ∧ (0 ≤ F1 23 ∧ F1 23 ≤ 31) ∧ ∀ i : Int, 0 ≤ i → i < F1 23 → zCd (G1 14) (7 * i)
abbrev rmX4_query : Room := { frames := 7, cells := 0, slots := 0, locals := 167 }
set_option maxHeartbeats 4000000 in
theorem c_X4_query (D : zD) (A : Nat → Prop) {b : Nat} {F : zTF} {G : zTG} {s : zS} (h : zWg G) (hb : zBuf F G s) (h14 : ∀ i : Int, 0 ≤ i → i < 420 → zR (G 14 i)) (h13 : ∀ i : Int, 0 ≤ i → i < 60 → zR (G 13 i)) : zC D yX4_query cX4_query 5 (some .int) none rmX4_query A [.ref b] (twI D A b F G) (zPd (zI (qrA F G s)) (twI D A b (qrF F G s) (qrG F G s))) zNo := by
  refine zC_start (L := [some (.ref b), none, none, none, none]) (by decide) (Nat.le_of_ble_eq_true rfl) rfl (fun X hX => ?_)
  have h60 := hb.2.1
  obtain ⟨R1, hR1⟩ : ∃ R1, R1 = (qrR F G s).1 := ⟨_, rfl⟩
  obtain ⟨R2, hR2⟩ : ∃ R2, R2 = (qrR F G s).2 := ⟨_, rfl⟩
  have J17 : qrI F G s R1 R2 → (R1 26 = 0 ∨ R1 26 = 1) → 0 ≤ R1 25 ∧ R1 25 ≤ 200 → zG X 0 0 (twI D A b R1 R2) 17 [some (.ref b), some (zI (0)), none, none, none] [] := by
    intro hi h26 h25
    obtain ⟨i1, i2, i3, i4, i5⟩ := hi
    have e13 : R1 13 = (s.length : Int) := (i1 13 (by decide) (by decide) (by decide)).trans ((upF_ne _ _ (by decide)).trans hb.1)
    have e9 : R2 9 = G 9 := i2 9 (by decide)
    have J91 : ∀ g : Bool, g = qrOk F G s → zG X 0 0 (twI D A b R1 R2) 91 [some (.ref b), some (zI (0)), none, none, none] [zI (bi (g))] := by
      intro g eg
      have f25 : upF R1 13 0 25 = R1 25 := upF_ne _ _ (by decide)
      cases g with
      | false =>
        rw [show qrF F G s = upF R1 13 0 by unfold qrF; rw [← eg, if_neg (by decide), hR1], show qrG F G s = R2 by unfold qrG; rw [← eg, if_neg (by decide), hR2], show qrA F G s = -100 - R1 25 by unfold qrA; rw [← eg, if_neg (by decide), hR1]] at hX
        refine z_istore_n (i := 2) (q := 92) hX dX4_query_91 rfl (Nat.le_of_ble_eq_true rfl) rfl rfl ?_
        refine z_aload_n (i := 0) (q := 93) hX dX4_query_92 rfl rfl rfl ?_
        refine zt_getI (q := 96) hX 13 dX4_query_93 q1877 (by decide) rfl rfl rfl ?_
        refine z_istore_n (i := 3) (q := 97) hX dX4_query_96 rfl (Nat.le_of_ble_eq_true rfl) rfl rfl ?_
        refine z_aload_n (i := 0) (q := 98) hX dX4_query_97 rfl rfl rfl ?_
        refine z_iconst (q := 99) hX dX4_query_98 rfl ?_
        refine zt_put (ty := .int) (q := 102) hX 13 dX4_query_99 q1877 (by decide) rfl rfl rfl (by decide) rfl rfl rfl ?_
        refine z_iload_n (i := 2) (q := 103) hX dX4_query_102 rfl rfl rfl ?_
        refine z_ifB_ne (q := 106) (t := 114) hX dX4_query_103 (by decide) rfl (fun h103 => ?_) (fun h103 => ?_)
        · exact absurd h103 (by decide)
        · refine z_bipush (q := 108) hX dX4_query_106 (by decide) rfl ?_
          refine z_aload_n (i := 0) (q := 109) hX dX4_query_108 rfl rfl rfl ?_
          refine zt_getI (q := 112) hX 25 dX4_query_109 q1889 (by decide) rfl rfl rfl ?_
          refine z_isub (q := 113) hX dX4_query_112 rfl ?_
          exact z_iret hX dX4_query_113 (Nat.le_of_ble_eq_true rfl) (Nat.le_of_ble_eq_true rfl) rfl (fun H hI => ⟨congrArg (fun z => some (zI z)) ((by rw [f25])), hI⟩)
      | true =>
        obtain ⟨Fq, hFq⟩ : ∃ Fq, Fq = upF (upF (upF R1 13 0) 19 1) 20 (R1 23) := ⟨_, rfl⟩
        have q23 : Fq 23 = R1 23 := by rw [hFq, upF_ne _ _ (by decide), upF_ne _ _ (by decide), upF_ne _ _ (by decide)]
        have q20 : Fq 20 = R1 23 := by rw [hFq, upF_same]
        obtain ⟨G3, hG3⟩ : ∃ G3, G3 = cpyG R2 12 (R2 14) (7 * R1 23).toNat := ⟨_, rfl⟩
        have g9 : G3 9 = G 9 := by rw [hG3, cpyG_ne _ _ _ (by decide), e9]
        have eF : qrF F G s = Fq := by unfold qrF; rw [← eg, if_pos rfl, hFq, hR1]
        have eG : qrG F G s = cpyG G3 13 (G 9) s.length := by unfold qrG; rw [← eg, if_pos rfl, hG3, hR1, hR2]
        have eA : qrA F G s = hiI (G 0) (qrG F G s 12) (qrG F G s 13) (R1 23).toNat := by unfold qrA; rw [← eg, if_pos rfl, hR1]
        have gj : ∀ j : Nat, j ≠ 12 → j ≠ 13 → j ≠ 14 → qrG F G s j = G j := fun j a b c => by rw [eG, cpyG_ne _ _ _ b, hG3, cpyG_ne _ _ _ a]; exact i2 j c
        have g12 : ∀ i : Int, 0 ≤ i → i < 7 * R1 23 → qrG F G s 12 i = R2 14 i := fun i a b => by
          rw [eG, cpyG_ne _ _ _ (by decide), hG3]
          exact if_pos ⟨rfl, a, by omega⟩
        have g13 : ∀ i : Int, 0 ≤ i → i < 60 → zR (qrG F G s 13 i) := fun i a b => by
          rw [eG]
          show zR (if _ then _ else _)
          split
          · rename_i q
            rw [(hb.2.2 i a (by omega)).1]
            exact (hb.2.2 i a (by omega)).2
          · rw [hG3, cpyG_ne _ _ _ (by decide), i2 13 (by decide)]
            exact h13 i a b
        have hcd : zCds (qrF F G s) (qrG F G s) := by
          refine ⟨by rw [eF, q20]; exact ⟨i4.1, by omega⟩, fun i a b => ?_, g13⟩
          rw [eF, q20] at b
          have h9 := i5 i a b
          unfold zCd at h9 ⊢
          rw [g12 _ (by omega) (by omega), g12 _ (by omega) (by omega), g12 _ (by omega) (by omega), g12 _ (by omega) (by omega), g12 _ (by omega) (by omega), g12 _ (by omega) (by omega), g12 _ (by omega) (by omega)]
          exact h9
        have hwg : zWg (qrG F G s) := h.sc (gj 0 (by decide) (by decide) (by decide)) (gj 4 (by decide) (by decide) (by decide)) (gj 5 (by decide) (by decide) (by decide)) (gj 6 (by decide) (by decide) (by decide))
        have hA : hiI (qrG F G s 0) (qrG F G s 12) (qrG F G s 13) (qrF F G s 20).toNat = qrA F G s := by rw [gj 0 (by decide) (by decide) (by decide), eF, q20, ← eA]
        rw [← hA] at hX
        have K2 : ∀ n : Nat, n ≤ s.length → ∀ p : Int, p = n → zG X 0 0 (twI D A b Fq (cpyG G3 13 (G 9) n)) 165 [some (.ref b), some (zI (0)), some (zI (bi (true))), some (zI ((s.length : Int))), some (zI (p))] [] := by
          refine z_up (fun n hn ih p ep => ?_)
          subst ep
          refine z_iload (q := 167) hX dX4_query_165 rfl rfl ?_
          refine z_iload_n (i := 3) (q := 168) hX dX4_query_167 rfl rfl rfl ?_
          refine z_icmp_ge (q := 171) (t := 191) hX dX4_query_168 (by decide) (by omega) (by omega) rfl (fun h168 => ?_) (fun h168 => ?_)
          · rw [show n = s.length by omega, ← eF, ← eG]
            refine z_aload_n (i := 0) (q := 192) hX dX4_query_191 rfl rfl rfl ?_
            refine zt_V1 (q := 195) (na := 0) hX dX4_query_192 (c_X4_hits D A (by first | assumption | omega) (by first | assumption | omega)) q2262 q2264 qs90 q103 q2265 rfl (by decide +kernel) ⟨Nat.le_of_ble_eq_true rfl, Nat.le_of_ble_eq_true rfl⟩ rfl rfl (Nat.le_of_ble_eq_true rfl) rfl ⟨rfl, rfl⟩ (Nat.le_of_ble_eq_true rfl) (Nat.le_of_ble_eq_true rfl) rfl ?_
            exact z_iret hX dX4_query_195 (Nat.le_of_ble_eq_true rfl) (Nat.le_of_ble_eq_true rfl) rfl (fun H hI => ⟨congrArg (fun z => some (zI z)) (rfl), hI⟩)
          · refine z_aload_n (i := 0) (q := 172) hX dX4_query_171 rfl rfl rfl ?_
            refine zt_getA (q := 175) hX 22 13 dX4_query_172 q1886 (by decide) rfl rfl rfl ?_
            refine z_iload (q := 177) hX dX4_query_175 rfl rfl ?_
            refine z_aload_n (i := 0) (q := 178) hX dX4_query_177 rfl rfl rfl ?_
            refine zt_getA (q := 181) hX 14 9 dX4_query_178 q1878 (by decide) rfl rfl rfl ?_
            refine z_iload (q := 183) hX dX4_query_181 rfl rfl ?_
            refine zt_ald (q := 184) (N := 60) hX 9 dX4_query_183 rfl (by decide) (by decide) (by omega) rfl ?_
            rw [cpyG_ne G3 (G 9) n (by decide : (9 : Nat) ≠ 13), g9]
            refine zt_ast (q := 185) (N := 60) hX 13 dX4_query_184 rfl (by decide) (by decide) (by omega) rfl ?_
            refine z_iinc (q := 188) hX dX4_query_185 rfl (Nat.le_of_ble_eq_true rfl) rfl rfl ?_
            refine z_goto (t := 165) hX dX4_query_188 (by decide) ?_
            rw [cpyG_s G3 13 (G 9) n _ rfl]
            exact ih (by omega) _ (by omega)
        have K1 : ∀ n : Nat, n ≤ (7 * R1 23).toNat → ∀ p : Int, p = n → zG X 0 0 (twI D A b Fq (cpyG R2 12 (R2 14) n)) 130 [some (.ref b), some (zI (0)), some (zI (bi (true))), some (zI ((s.length : Int))), some (zI (p))] [] := by
          refine z_up (fun n hn ih p ep => ?_)
          subst ep
          refine z_iload (q := 132) hX dX4_query_130 rfl rfl ?_
          refine z_bipush (q := 134) hX dX4_query_132 (by decide) rfl ?_
          refine z_aload_n (i := 0) (q := 135) hX dX4_query_134 rfl rfl rfl ?_
          refine zt_getI (q := 138) hX 23 dX4_query_135 q1887 (by decide) rfl rfl rfl ?_
          rw [q23]
          refine z_imul (q := 139) hX dX4_query_138 rfl ?_
          refine z_icmp_ge (q := 142) (t := 162) hX dX4_query_139 (by decide) (by omega) (by omega) rfl (fun h139 => ?_) (fun h139 => ?_)
          · rw [show n = (7 * R1 23).toNat by omega, ← hG3]
            refine z_iconst (q := 163) hX dX4_query_162 rfl ?_
            refine z_istore (q := 165) hX dX4_query_163 (Nat.le_of_ble_eq_true rfl) rfl rfl ?_
            have e9 := K2 0 (Nat.zero_le _) 0 rfl
            rw [cpyG_0] at e9
            exact e9
          · refine z_aload_n (i := 0) (q := 143) hX dX4_query_142 rfl rfl rfl ?_
            refine zt_getA (q := 146) hX 21 12 dX4_query_143 q1885 (by decide) rfl rfl rfl ?_
            refine z_iload (q := 148) hX dX4_query_146 rfl rfl ?_
            refine z_aload_n (i := 0) (q := 149) hX dX4_query_148 rfl rfl rfl ?_
            refine zt_getA (q := 152) hX 24 14 dX4_query_149 q1888 (by decide) rfl rfl rfl ?_
            refine z_iload (q := 154) hX dX4_query_152 rfl rfl ?_
            refine zt_ald (q := 155) (N := 420) hX 14 dX4_query_154 rfl (by decide) (by decide) (by omega) rfl ?_
            rw [cpyG_ne R2 (R2 14) n (by decide : (14 : Nat) ≠ 12)]
            refine zt_ast (q := 156) (N := 420) hX 12 dX4_query_155 rfl (by decide) (by decide) (by omega) rfl ?_
            refine z_iinc (q := 159) hX dX4_query_156 rfl (Nat.le_of_ble_eq_true rfl) rfl rfl ?_
            refine z_goto (t := 130) hX dX4_query_159 (by decide) ?_
            rw [cpyG_s R2 12 (R2 14) n _ rfl]
            exact ih (by omega) _ (by omega)
        refine z_istore_n (i := 2) (q := 92) hX dX4_query_91 rfl (Nat.le_of_ble_eq_true rfl) rfl rfl ?_
        refine z_aload_n (i := 0) (q := 93) hX dX4_query_92 rfl rfl rfl ?_
        refine zt_getI (q := 96) hX 13 dX4_query_93 q1877 (by decide) rfl rfl rfl ?_
        refine z_istore_n (i := 3) (q := 97) hX dX4_query_96 rfl (Nat.le_of_ble_eq_true rfl) rfl rfl ?_
        rw [e13]
        refine z_aload_n (i := 0) (q := 98) hX dX4_query_97 rfl rfl rfl ?_
        refine z_iconst (q := 99) hX dX4_query_98 rfl ?_
        refine zt_put (ty := .int) (q := 102) hX 13 dX4_query_99 q1877 (by decide) rfl rfl rfl (by decide) rfl rfl rfl ?_
        refine z_iload_n (i := 2) (q := 103) hX dX4_query_102 rfl rfl rfl ?_
        refine z_ifB_ne (q := 106) (t := 114) hX dX4_query_103 (by decide) rfl (fun h103 => ?_) (fun h103 => ?_)
        · refine z_aload_n (i := 0) (q := 115) hX dX4_query_114 rfl rfl rfl ?_
          refine z_iconst (q := 116) hX dX4_query_115 rfl ?_
          refine zt_put (ty := .boolean) (q := 119) hX 19 dX4_query_116 q1883 (by decide) rfl rfl rfl (by decide) (by first | decide | exact narrow_bi _) (by first | decide | exact fits_bi _) rfl ?_
          refine z_aload_n (i := 0) (q := 120) hX dX4_query_119 rfl rfl rfl ?_
          refine z_aload_n (i := 0) (q := 121) hX dX4_query_120 rfl rfl rfl ?_
          refine zt_getI (q := 124) hX 23 dX4_query_121 q1887 (by decide) rfl rfl rfl ?_
          rw [show upF (upF R1 13 0) 19 1 23 = R1 23 by rw [upF_ne _ _ (by decide), upF_ne _ _ (by decide)]]
          refine zt_put (ty := .int) (q := 127) hX 20 dX4_query_124 q1884 (by decide) rfl rfl rfl (by decide) rfl rfl rfl ?_
          rw [← hFq]
          refine z_iconst (q := 128) hX dX4_query_127 rfl ?_
          refine z_istore (q := 130) hX dX4_query_128 (Nat.le_of_ble_eq_true rfl) rfl rfl ?_
          have e9 := K1 0 (Nat.zero_le _) 0 rfl
          rw [cpyG_0] at e9
          exact e9
        · exact absurd h103 (by decide)
    have hok : qrOk F G s = (decide (R1 26 = 0) && decide (R1 25 = (s.length : Int))) := by unfold qrOk; rw [← hR1]
    refine z_iload_n (i := 1) (q := 18) hX dX4_query_17 rfl rfl rfl ?_
    refine z_if_eq (q := 21) (t := 68) hX dX4_query_18 (by decide) (by omega) rfl (fun h18 => ?_) (fun h18 => ?_)
    · refine z_aload_n (i := 0) (q := 69) hX dX4_query_68 rfl rfl rfl ?_
      refine zt_getI (q := 72) hX 26 dX4_query_69 q1890 (by decide) rfl rfl rfl ?_
      refine z_if_ne (q := 75) (t := 90) hX dX4_query_72 (by decide) (by omega) rfl (fun h72 => ?_) (fun h72 => ?_)
      · refine z_iconst (q := 91) hX dX4_query_90 rfl ?_
        exact J91 false (by rw [hok, decide_eq_false h72, Bool.false_and])
      · refine z_aload_n (i := 0) (q := 76) hX dX4_query_75 rfl rfl rfl ?_
        refine zt_getI (q := 79) hX 25 dX4_query_76 q1889 (by decide) rfl rfl rfl ?_
        refine z_aload_n (i := 0) (q := 80) hX dX4_query_79 rfl rfl rfl ?_
        refine zt_getI (q := 83) hX 13 dX4_query_80 q1877 (by decide) rfl rfl rfl ?_
        rw [e13]
        refine z_icmp_ne (q := 86) (t := 90) hX dX4_query_83 (by decide) (by omega) (by omega) rfl (fun h83 => ?_) (fun h83 => ?_)
        · refine z_iconst (q := 91) hX dX4_query_90 rfl ?_
          exact J91 false (by rw [hok, decide_eq_false h83, Bool.and_false])
        · refine z_iconst (q := 87) hX dX4_query_86 rfl ?_
          refine z_goto (t := 91) hX dX4_query_87 (by decide) ?_
          exact J91 true (by rw [hok, decide_eq_true (show R1 26 = 0 by omega), decide_eq_true (show R1 25 = (s.length : Int) by omega)]; rfl)
    · exact absurd h18 (by decide)
  have K : ∀ n : Nat, ∀ (F1 : zTF) (G1 : zTG), qrn s n F1 G1 = qrR F G s → F1 23 + n = 61 → 2 * F1 23 ≤ F1 25 → F1 25 ≤ 60 → qrI F G s F1 G1 → zG X 0 0 (twI D A b F1 G1) 17 [some (.ref b), some (zI (1)), none, none, none] [] := by
    intro n
    induction n with
    | zero => intro F1 G1 e h1 h2 h3 h4; exact absurd h4.2.2.2.1 (by omega)
    | succ n ih =>
      intro F1 G1 e h1 h2 h3 h4
      obtain ⟨i1, i2, i3, i4, i5⟩ := h4
      have hb1 : zBuf F1 G1 s := hb.cg ((i1 13 (by decide) (by decide) (by decide)).trans (upF_ne _ _ (by decide))) (i2 9 (by decide))
      obtain ⟨o1, o2, o3⟩ := rqG_ok hb1 ⟨by omega, h3⟩ ⟨i4.1, by omega⟩ i3
      obtain ⟨f1, f2, f3, f4, f5, f6⟩ := rqF_f F1 s
      obtain ⟨F2, hF2⟩ : ∃ F2, F2 = rqF F1 s := ⟨_, rfl⟩
      obtain ⟨G2, hG2⟩ : ∃ G2, G2 = rqG F1 G1 s := ⟨_, rfl⟩
      rw [← hF2] at f1 f2 f3 f4 f5 f6
      rw [← hG2] at o1 o2 o3
      have hg9 : ∀ j : Nat, j ≠ 14 → G2 j = G1 j := fun j hj => by rw [hG2]; exact rqG_9 F1 G1 s hj
      have hb2 : zBuf F2 G2 s := hb1.cg (f1 13 (by decide) (by decide) (by decide)) (hg9 9 (by decide))
      rw [qrn, ← hF2, ← hG2] at e
      have hq2 : ∀ F3 : zTF, (∀ k : Nat, k ≠ 23 → k ≠ 25 → k ≠ 26 → F3 k = F2 k) → F3 23 = F2 23 → F2 26 = 0 → qrI F G s F3 G2 := by
        intro F3 a1 a2 a3
        have a4 := (f4 a3).2
        refine ⟨fun k a b c => by rw [a1 k a b c, f1 k a b c]; exact i1 k a b c, fun j hj => (hg9 j hj).trans (i2 j hj), o1, by omega, fun i ia ib => ?_⟩
        by_cases ie : i = F1 23
        · rw [ie]; exact o3
        · have h9 := i5 i ia (by omega)
          unfold zCd at h9 ⊢
          rw [o2 _ (by omega), o2 _ (by omega), o2 _ (by omega), o2 _ (by omega), o2 _ (by omega), o2 _ (by omega), o2 _ (by omega)]
          exact h9
      have fin : ¬ (F2 26 = 0 ∧ hr s (F2 25) = 38) → zG X 0 0 (twI D A b F2 G2) 17 [some (.ref b), some (zI (0)), none, none, none] [] := by
        intro hn
        rw [if_neg hn] at e
        have e1 : F2 = R1 := by rw [hR1, ← e]
        have e2 : G2 = R2 := by rw [hR2, ← e]
        rw [e1, e2]
        rw [e1] at f1 f2 f3 f4 f5 f6
        refine J17 ?_ f2 ⟨by omega, by omega⟩
        by_cases q : R1 26 = 0
        · have := hq2 R1 (fun k _ _ _ => by rw [e1]) (by rw [e1]) (by rw [e1]; exact q)
          rw [e2] at this
          exact this
        · refine ⟨fun k a b c => by rw [f1 k a b c]; exact i1 k a b c, fun j hj => by rw [← e2]; exact (hg9 j hj).trans (i2 j hj), by rw [← e2]; exact o1, ⟨by omega, by omega⟩, fun i ia ib => ?_⟩
          rw [← e2]
          by_cases ie : i < F1 23
          · have h9 := i5 i ia ie
            unfold zCd at h9 ⊢
            rw [o2 _ (by omega), o2 _ (by omega), o2 _ (by omega), o2 _ (by omega), o2 _ (by omega), o2 _ (by omega), o2 _ (by omega)]
            exact h9
          · rw [show i = F1 23 by omega]; exact o3
      have J46 : ∀ v : Int, v = 0 → ¬ (F2 26 = 0 ∧ hr s (F2 25) = 38) → zG X 0 0 (twI D A b F2 G2) 46 [some (.ref b), some (zI (1)), none, none, none] [zI (v)] := by
        intro v ev hn
        subst ev
        refine z_istore_n (i := 1) (q := 47) hX dX4_query_46 rfl (Nat.le_of_ble_eq_true rfl) rfl rfl ?_
        refine z_aload_n (i := 0) (q := 48) hX dX4_query_47 rfl rfl rfl ?_
        refine z_dup (q := 49) hX dX4_query_48 rfl rfl ?_
        refine zt_getI (q := 52) hX 25 dX4_query_49 q1889 (by decide) rfl rfl rfl ?_
        refine z_iload_n (i := 1) (q := 53) hX dX4_query_52 rfl rfl rfl ?_
        refine z_if_eq (q := 56) (t := 60) hX dX4_query_53 (by decide) (by omega) rfl (fun h53 => ?_) (fun h53 => ?_)
        · refine z_iconst (q := 61) hX dX4_query_60 rfl ?_
          refine z_iadd (q := 62) hX dX4_query_61 rfl ?_
          refine zt_put (ty := .int) (q := 65) hX 25 dX4_query_62 q1889 (by decide) rfl rfl rfl (by decide) rfl rfl rfl ?_
          refine z_goto (t := 17) hX dX4_query_65 (by decide) ?_
          refine zt_conv (F2 := F2) (G2 := G2) (by rw [show F2 25 + 0 = F2 25 by omega]; exact upF_self _ _) rfl (fin hn)
        · exact absurd h53 (by decide)
      have hR := hr_R hb2 (p := F2 25) (by omega)
      refine z_iload_n (i := 1) (q := 18) hX dX4_query_17 rfl rfl rfl ?_
      refine z_if_eq (q := 21) (t := 68) hX dX4_query_18 (by decide) (by omega) rfl (fun h18 => ?_) (fun h18 => ?_)
      · exact absurd h18 (by decide)
      · refine z_aload_n (i := 0) (q := 22) hX dX4_query_21 rfl rfl rfl ?_
        refine zt_V0 (q := 25) (na := 0) hX dX4_query_22 (c_X4_readCondition D A hb1 ⟨by omega, h3⟩ ⟨i4.1, by omega⟩) q2242 q2244 qs85 q103 q2245 rfl (by decide +kernel) ⟨Nat.le_of_ble_eq_true rfl, Nat.le_of_ble_eq_true rfl⟩ rfl rfl (Nat.le_of_ble_eq_true rfl) rfl ⟨rfl, rfl⟩ (Nat.le_of_ble_eq_true rfl) (Nat.le_of_ble_eq_true rfl) rfl ?_
        rw [← hF2, ← hG2]
        refine z_aload_n (i := 0) (q := 26) hX dX4_query_25 rfl rfl rfl ?_
        refine zt_getI (q := 29) hX 26 dX4_query_26 q1890 (by decide) rfl rfl rfl ?_
        refine z_if_ne (q := 32) (t := 45) hX dX4_query_29 (by decide) (by omega) rfl (fun h29 => ?_) (fun h29 => ?_)
        · refine z_iconst (q := 46) hX dX4_query_45 rfl ?_
          exact J46 0 rfl (fun q => h29 q.1)
        · refine z_aload_n (i := 0) (q := 33) hX dX4_query_32 rfl rfl rfl ?_
          refine zt_V1 (q := 36) (na := 0) hX dX4_query_33 (c_X4_here D A hb2 (by omega) ⟨by omega, by omega⟩) q2246 q2248 qs86 q103 q2249 rfl (by decide +kernel) ⟨Nat.le_of_ble_eq_true rfl, Nat.le_of_ble_eq_true rfl⟩ rfl rfl (Nat.le_of_ble_eq_true rfl) rfl ⟨rfl, rfl⟩ (Nat.le_of_ble_eq_true rfl) (Nat.le_of_ble_eq_true rfl) rfl ?_
          refine z_bipush (q := 38) hX dX4_query_36 (by decide) rfl ?_
          refine z_icmp_ne (q := 41) (t := 45) hX dX4_query_38 (by decide) (by omega) (by omega) rfl (fun h38 => ?_) (fun h38 => ?_)
          · refine z_iconst (q := 46) hX dX4_query_45 rfl ?_
            exact J46 0 rfl (fun q => h38 q.2)
          · refine z_iconst (q := 42) hX dX4_query_41 rfl ?_
            refine z_goto (t := 46) hX dX4_query_42 (by decide) ?_
            have hc : F2 26 = 0 ∧ hr s (F2 25) = 38 := ⟨by omega, by omega⟩
            rw [if_pos hc] at e
            have hi2 := hr_in (s := s) (p := F2 25) (by rw [hc.2]; decide)
            have a4 := f4 hc.1
            have e9 := ih (upF F2 25 (F2 25 + 1)) G2 e (by rw [upF_ne _ _ (by decide)]; omega) (by rw [upF_ne _ _ (by decide), upF_same]; omega) (by rw [upF_same]; omega) (hq2 _ (fun k a b c => upF_ne _ _ b) (upF_ne _ _ (by decide)) hc.1)
            refine z_istore_n (i := 1) (q := 47) hX dX4_query_46 rfl (Nat.le_of_ble_eq_true rfl) rfl rfl ?_
            refine z_aload_n (i := 0) (q := 48) hX dX4_query_47 rfl rfl rfl ?_
            refine z_dup (q := 49) hX dX4_query_48 rfl rfl ?_
            refine zt_getI (q := 52) hX 25 dX4_query_49 q1889 (by decide) rfl rfl rfl ?_
            refine z_iload_n (i := 1) (q := 53) hX dX4_query_52 rfl rfl rfl ?_
            refine z_if_eq (q := 56) (t := 60) hX dX4_query_53 (by decide) (by omega) rfl (fun h53 => ?_) (fun h53 => ?_)
            · exact absurd h53 (by decide)
            · refine z_iconst (q := 57) hX dX4_query_56 rfl ?_
              refine z_goto (t := 61) hX dX4_query_57 (by decide) ?_
              refine z_iadd (q := 62) hX dX4_query_61 rfl ?_
              refine zt_put (ty := .int) (q := 65) hX 25 dX4_query_62 q1889 (by decide) rfl rfl rfl (by decide) rfl rfl rfl ?_
              refine z_goto (t := 17) hX dX4_query_65 (by decide) ?_
              exact e9
  refine z_aload_n (i := 0) (q := 1) hX dX4_query_0 rfl rfl rfl ?_
  refine z_iconst (q := 2) hX dX4_query_1 rfl ?_
  refine zt_put (ty := .int) (q := 5) hX 6 dX4_query_2 q1870 (by decide) rfl rfl rfl (by decide) rfl rfl rfl ?_
  refine z_aload_n (i := 0) (q := 6) hX dX4_query_5 rfl rfl rfl ?_
  refine z_iconst (q := 7) hX dX4_query_6 rfl ?_
  refine zt_put (ty := .int) (q := 10) hX 25 dX4_query_7 q1889 (by decide) rfl rfl rfl (by decide) rfl rfl rfl ?_
  refine z_aload_n (i := 0) (q := 11) hX dX4_query_10 rfl rfl rfl ?_
  refine z_iconst (q := 12) hX dX4_query_11 rfl ?_
  refine zt_put (ty := .int) (q := 15) hX 23 dX4_query_12 q1887 (by decide) rfl rfl rfl (by decide) rfl rfl rfl ?_
  refine z_iconst (q := 16) hX dX4_query_15 rfl ?_
  refine z_istore_n (i := 1) (q := 17) hX dX4_query_16 rfl (Nat.le_of_ble_eq_true rfl) rfl rfl ?_
  have q23 : qr0 F 23 = 0 := upF_same _ _ _
  have q25 : qr0 F 25 = 0 := by unfold qr0; rw [upF_ne _ _ (by decide), upF_same]
  exact K 61 (qr0 F) G rfl (by rw [q23]; rfl) (by rw [q23, q25]; decide) (by rw [q25]; decide) ⟨fun k a b c => by unfold qr0; rw [upF_ne _ _ a, upF_ne _ _ b], fun _ _ => rfl, h14, by rw [q23]; exact ⟨by decide, by decide⟩, fun i a b => absurd b (by rw [q23]; omega)⟩
