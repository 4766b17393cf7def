/-! THE REFERENCE: reading a query -/
set_option maxRecDepth 100000
/-- the buffer's text -/
def zBuf (F : zTF) (G : zTG) (s : zS) : Prop := F 13 = s.length ∧ (s.length : Int) ≤ 60 ∧ ∀ i : Int, 0 ≤ i → i < s.length → G 9 i = cT s i ∧ zR (cT s i)
theorem zBuf.cg {F F2 : zTF} {G G2 : zTG} {s : zS} (hF : F2 13 = F 13) (hG : G2 9 = G 9) (h : zBuf F G s) : zBuf F2 G2 s := by
  unfold zBuf at h ⊢
  rw [hF, hG]
  exact h
/-- the character at a place, or -1 -/
def hr (s : zS) (p : Int) : Int := if p < (s.length : Int) then cT s p else -1
theorem hr_R {F : zTF} {G : zTG} {s : zS} {p : Int} (h : zBuf F G s) (h0 : 0 ≤ p) : zR (hr s p) := by
  unfold hr
  split
  · exact (h.2.2 p h0 (by omega)).2
  · exact ⟨by decide, by decide⟩
theorem hr_in {s : zS} {p : Int} (h : hr s p ≠ -1) : p < (s.length : Int) := by
  unfold hr at h
  split at h
  · assumption
  · exact absurd rfl h
abbrev rmX4_here : Room := { frames := 0, cells := 0, slots := 0, locals := 0 }
set_option maxHeartbeats 4000000 in
theorem c_X4_here (D : zD) (A : Nat → Prop) {b : Nat} {F : zTF} {G : zTG} {s : zS} (h : zBuf F G s) (h0 : 0 ≤ F 25) (h1 : zR (F 25)) : zC D yX4_here cX4_here 1 (some .int) none rmX4_here A [.ref b] (twI D A b F G) (zPd (zI (hr s (F 25))) (twI D A b (F) (G))) zNo := by
  refine zC_start (L := [some (.ref b)]) (by decide) (Nat.le_of_ble_eq_true rfl) rfl (fun X hX => ?_)
  have e13 := h.1
  have h60 := h.2.1
  refine z_aload_n (i := 0) (q := 1) hX dX4_here_0 rfl rfl rfl ?_
  refine zt_getI (q := 4) hX 25 dX4_here_1 q1889 (by decide) rfl rfl rfl ?_
  refine z_aload_n (i := 0) (q := 5) hX dX4_here_4 rfl rfl rfl ?_
  refine zt_getI (q := 8) hX 13 dX4_here_5 q1877 (by decide) rfl rfl rfl ?_
  refine z_icmp_ge (q := 11) (t := 23) hX dX4_here_8 (by decide) (by omega) (by omega) rfl (fun h8 => ?_) (fun h8 => ?_)
  · refine z_iconst (q := 24) hX dX4_here_23 rfl ?_
    exact z_iret hX dX4_here_24 (Nat.le_of_ble_eq_true rfl) (Nat.le_of_ble_eq_true rfl) rfl (fun H hI => ⟨congrArg (fun z => some (zI z)) ((by unfold hr; rw [if_neg (by omega)])), hI⟩)
  · refine z_aload_n (i := 0) (q := 12) hX dX4_here_11 rfl rfl rfl ?_
    refine zt_getA (q := 15) hX 14 9 dX4_here_12 q1878 (by decide) rfl rfl rfl ?_
    refine z_aload_n (i := 0) (q := 16) hX dX4_here_15 rfl rfl rfl ?_
    refine zt_getI (q := 19) hX 25 dX4_here_16 q1889 (by decide) rfl rfl rfl ?_
    refine zt_ald (q := 20) (N := 60) hX 9 dX4_here_19 rfl (by decide) (by decide) (by omega) rfl ?_
    rw [(h.2.2 (F 25) h0 (by omega)).1]
    refine z_goto (t := 24) hX dX4_here_20 (by decide) ?_
    exact z_iret hX dX4_here_24 (Nat.le_of_ble_eq_true rfl) (Nat.le_of_ble_eq_true rfl) rfl (fun H hI => ⟨congrArg (fun z => some (zI z)) ((by unfold hr; rw [if_pos (by omega)])), hI⟩)
/-- how many digits from a place on, m at most -/
def dgc (s : zS) (p : Int) : Nat → Nat
  | 0 => 0
  | m + 1 => if dgc s p m = m ∧ isDig (hr s (p + m)) = true then m + 1 else dgc s p m
theorem dgc_le (s : zS) (p : Int) (m : Nat) : dgc s p m ≤ m := by
  induction m with
  | zero => exact Nat.le_refl _
  | succ m ih =>
    rw [dgc]
    split <;> omega
theorem dgc_stop {s : zS} {p : Int} {m n : Nat} (h : dgc s p m = m) (hd : isDig (hr s (p + m)) = false) (hn : m ≤ n) : dgc s p n = m := by
  induction n with
  | zero => rw [show m = 0 by omega]; rfl
  | succ n ih =>
    by_cases q : m = n + 1
    · rw [← q]; exact h
    · rw [dgc, ih (by omega), if_neg]
      rintro ⟨h1, h2⟩
      rw [← h1, hd] at h2
      cases h2
theorem dgc_s {s : zS} {p : Int} {m : Nat} (h : dgc s p m = m) (hd : isDig (hr s (p + m)) = true) : dgc s p (m + 1) = m + 1 := by
  rw [dgc, if_pos ⟨h, hd⟩]
def ngI (s : zS) (p : Int) : Int := if hr s p = 45 then 1 else 0
def nuN (s : zS) (p : Int) : Nat := dgc s (p + ngI s p) 6
def nuP (s : zS) (p : Int) : Int := p + ngI s p + nuN s p
def nuA (s : zS) (p : Int) : Int := numI (fun i => hr s (p + ngI s p + i)) (nuN s p)
def nuV (s : zS) (p : Int) : Int := if hr s p = 45 then -nuA s p else nuA s p
abbrev rmX4_number : Room := { frames := 2, cells := 0, slots := 0, locals := 42 }
set_option maxHeartbeats 4000000 in
theorem c_X4_number (D : zD) (A : Nat → Prop) {b : Nat} {F : zTF} {G : zTG} {s : zS} (h : zBuf F G s) (h0 : 0 ≤ F 25 ∧ F 25 ≤ 60) : zC D yX4_number cX4_number 4 (some .int) none rmX4_number A [.ref b] (twI D A b F G) (zPd (zI (nuV s (F 25))) (twI D A b (upF (upF F 25 (nuP s (F 25))) 26 (bi (decide (nuN s (F 25) = 0)))) (G))) zNo := by
  refine zC_start (L := [some (.ref b), none, none, none]) (by decide) (Nat.le_of_ble_eq_true rfl) rfl (fun X hX => ?_)
  have hR0 := hr_R h h0.1
  have hng : 0 ≤ ngI s (F 25) ∧ ngI s (F 25) ≤ 1 := by unfold ngI; split <;> omega
  have K : ∀ v : Bool, hr s (F 25) = (if v then 45 else hr s (F 25)) → (v = false → hr s (F 25) ≠ 45) → ∀ m : Nat, m ≤ 6 → dgc s (F 25 + ngI s (F 25)) m = m → ∀ x p : Int, x = numI (fun i => hr s (F 25 + ngI s (F 25) + i)) m → p = m → zG X 0 0 (twI D A b (upF F 25 (F 25 + ngI s (F 25) + m)) G) 37 [some (.ref b), some (zI (bi (v))), some (zI (x)), some (zI (p))] [] := by
    intro v hv1 hv2
    refine z_up (fun m hm ih hd x p ex ep => ?_)
    subst ep
    have hb : zBuf (upF F 25 (F 25 + ngI s (F 25) + m)) G s := h.cg (upF_ne _ _ (by decide)) rfl
    have e25 : upF F 25 (F 25 + ngI s (F 25) + m) 25 = F 25 + ngI s (F 25) + m := upF_same _ _ _
    have hR := hr_R h (p := F 25 + ngI s (F 25) + m) (by omega)
    have J82 : nuN s (F 25) = m → zG X 0 0 (twI D A b (upF F 25 (F 25 + ngI s (F 25) + m)) G) 82 [some (.ref b), some (zI (bi (v))), some (zI (x)), some (zI (m))] [] := by
      intro hn
      have eP : nuP s (F 25) = F 25 + ngI s (F 25) + m := by unfold nuP; rw [hn]
      have eA : nuA s (F 25) = x := by unfold nuA; rw [hn, ex]
      rw [eP, hn] at hX
      have J92 : ∀ w : Bool, w = decide (m = 0) → zG X 0 0 (twI D A b (upF F 25 (F 25 + ngI s (F 25) + m)) G) 92 [some (.ref b), some (zI (bi (v))), some (zI (x)), some (zI (m))] [zI (bi (w)), .ref b] := by
        intro w ew
        rw [← ew] at hX
        refine zt_put (ty := .boolean) (q := 95) hX 26 dX4_number_92 q1890 (by decide) rfl rfl rfl (by decide) (by first | decide | exact narrow_bi _) (by first | decide | exact fits_bi _) rfl ?_
        refine z_iload_n (i := 1) (q := 96) hX dX4_number_95 rfl rfl rfl ?_
        refine z_ifB_eq (q := 99) (t := 104) hX dX4_number_96 (by decide) rfl (fun h96 => ?_) (fun h96 => ?_)
        · refine z_iload_n (i := 2) (q := 105) hX dX4_number_104 rfl rfl rfl ?_
          exact z_iret hX dX4_number_105 (Nat.le_of_ble_eq_true rfl) (Nat.le_of_ble_eq_true rfl) rfl (fun H hI => ⟨congrArg (fun z => some (zI z)) ((by unfold nuV; rw [eA]; rw [if_neg (hv2 h96)])), hI⟩)
        · refine z_iload_n (i := 2) (q := 100) hX dX4_number_99 rfl rfl rfl ?_
          refine z_ineg (q := 101) hX dX4_number_100 rfl ?_
          refine z_goto (t := 105) hX dX4_number_101 (by decide) ?_
          exact z_iret hX dX4_number_105 (Nat.le_of_ble_eq_true rfl) (Nat.le_of_ble_eq_true rfl) rfl (fun H hI => ⟨congrArg (fun z => some (zI z)) ((by unfold nuV; rw [eA]; rw [if_pos (by rw [hv1, h96]; rfl)])), hI⟩)
      refine z_aload_n (i := 0) (q := 83) hX dX4_number_82 rfl rfl rfl ?_
      refine z_iload_n (i := 3) (q := 84) hX dX4_number_83 rfl rfl rfl ?_
      refine z_if_ne (q := 87) (t := 91) hX dX4_number_84 (by decide) (by omega) rfl (fun h84 => ?_) (fun h84 => ?_)
      · refine z_iconst (q := 92) hX dX4_number_91 rfl ?_
        exact J92 false (decide_eq_false (by omega)).symm
      · refine z_iconst (q := 88) hX dX4_number_87 rfl ?_
        refine z_goto (t := 92) hX dX4_number_88 (by decide) ?_
        exact J92 true (decide_eq_true (by omega)).symm
    refine z_aload_n (i := 0) (q := 38) hX dX4_number_37 rfl rfl rfl ?_
    refine zt_V1 (q := 41) (na := 0) hX dX4_number_38 (c_X4_here D A (by first | assumption | omega) (by first | assumption | omega) (by first | assumption | omega)) q2246 q2248 qs86 q103 q2249 rfl (by decide +kernel) ⟨Nat.le_of_ble_eq_true rfl, Nat.le_of_ble_eq_true rfl⟩ rfl rfl (Nat.le_of_ble_eq_true rfl) rfl ⟨rfl, rfl⟩ (Nat.le_of_ble_eq_true rfl) (Nat.le_of_ble_eq_true rfl) rfl ?_
    rw [e25]
    refine zt_S1 (q := 44) (na := 1) hX dX4_number_41 (c_X4_isDigit D A (by first | assumption | omega)) q2030 q2031 q103 q2032 (by decide +kernel) ⟨Nat.le_of_ble_eq_true rfl, Nat.le_of_ble_eq_true rfl⟩ rfl rfl (Nat.le_of_ble_eq_true rfl) rfl ⟨rfl, rfl⟩ (Nat.le_of_ble_eq_true rfl) (Nat.le_of_ble_eq_true rfl) rfl ?_
    refine z_ifB_eq (q := 47) (t := 82) hX dX4_number_44 (by decide) rfl (fun h44 => ?_) (fun h44 => ?_)
    · exact J82 (dgc_stop hd h44 hm)
    · refine z_iload_n (i := 3) (q := 48) hX dX4_number_47 rfl rfl rfl ?_
      refine z_bipush (q := 50) hX dX4_number_48 (by decide) rfl ?_
      refine z_icmp_ge (q := 53) (t := 82) hX dX4_number_50 (by decide) (by omega) (by omega) rfl (fun h50 => ?_) (fun h50 => ?_)
      · exact J82 (by unfold nuN; rw [show (6 : Nat) = m by omega]; exact hd)
      · refine z_bipush (q := 55) hX dX4_number_53 (by decide) rfl ?_
        refine z_iload_n (i := 2) (q := 56) hX dX4_number_55 rfl rfl rfl ?_
        refine z_imul (q := 57) hX dX4_number_56 rfl ?_
        refine z_aload_n (i := 0) (q := 58) hX dX4_number_57 rfl rfl rfl ?_
        refine zt_V1 (q := 61) (na := 0) hX dX4_number_58 (c_X4_here D A (by first | assumption | omega) (by first | assumption | omega) (by first | assumption | omega)) q2246 q2248 qs86 q103 q2249 rfl (by decide +kernel) ⟨Nat.le_of_ble_eq_true rfl, Nat.le_of_ble_eq_true rfl⟩ rfl rfl (Nat.le_of_ble_eq_true rfl) rfl ⟨rfl, rfl⟩ (Nat.le_of_ble_eq_true rfl) (Nat.le_of_ble_eq_true rfl) rfl ?_
        rw [e25]
        refine z_iadd (q := 62) hX dX4_number_61 rfl ?_
        refine z_bipush (q := 64) hX dX4_number_62 (by decide) rfl ?_
        refine z_isub (q := 65) hX dX4_number_64 rfl ?_
        refine z_istore_n (i := 2) (q := 66) hX dX4_number_65 rfl (Nat.le_of_ble_eq_true rfl) rfl rfl ?_
        refine z_aload_n (i := 0) (q := 67) hX dX4_number_66 rfl rfl rfl ?_
        refine z_dup (q := 68) hX dX4_number_67 rfl rfl ?_
        refine zt_getI (q := 71) hX 25 dX4_number_68 q1889 (by decide) rfl rfl rfl ?_
        refine z_iconst (q := 72) hX dX4_number_71 rfl ?_
        refine z_iadd (q := 73) hX dX4_number_72 rfl ?_
        refine zt_put (ty := .int) (q := 76) hX 25 dX4_number_73 q1889 (by decide) rfl rfl rfl (by decide) rfl rfl rfl ?_
        refine z_iinc (q := 79) hX dX4_number_76 rfl (Nat.le_of_ble_eq_true rfl) rfl rfl ?_
        refine z_goto (t := 37) hX dX4_number_79 (by decide) ?_
        rw [e25, upF_upF]
        have e9 := ih (by omega) (dgc_s hd h44) (10 * x + hr s (F 25 + ngI s (F 25) + m) - 48) ((m : Int) + 1) (by rw [numI, ← ex]) (by omega)
        rw [show F 25 + ngI s (F 25) + ((m + 1 : Nat) : Int) = F 25 + ngI s (F 25) + m + 1 by omega] at e9
        exact e9
  have J14 : ∀ v : Bool, hr s (F 25) = (if v then 45 else hr s (F 25)) → (v = false → hr s (F 25) ≠ 45) → zG X 0 0 (twI D A b F G) 14 [some (.ref b), none, none, none] [zI (bi (v))] := by
    intro v hv1 hv2
    have fin := K v hv1 hv2 0 (Nat.zero_le _) rfl 0 0 rfl rfl
    rw [show F 25 + ngI s (F 25) + ((0 : Nat) : Int) = F 25 + ngI s (F 25) by omega] at fin
    refine z_istore_n (i := 1) (q := 15) hX dX4_number_14 rfl (Nat.le_of_ble_eq_true rfl) rfl rfl ?_
    refine z_aload_n (i := 0) (q := 16) hX dX4_number_15 rfl rfl rfl ?_
    refine z_dup (q := 17) hX dX4_number_16 rfl rfl ?_
    refine zt_getI (q := 20) hX 25 dX4_number_17 q1889 (by decide) rfl rfl rfl ?_
    refine z_iload_n (i := 1) (q := 21) hX dX4_number_20 rfl rfl rfl ?_
    refine z_ifB_eq (q := 24) (t := 28) hX dX4_number_21 (by decide) rfl (fun h21 => ?_) (fun h21 => ?_)
    · refine z_iconst (q := 29) hX dX4_number_28 rfl ?_
      refine z_iadd (q := 30) hX dX4_number_29 rfl ?_
      refine zt_put (ty := .int) (q := 33) hX 25 dX4_number_30 q1889 (by decide) rfl rfl rfl (by decide) rfl rfl rfl ?_
      refine z_iconst (q := 34) hX dX4_number_33 rfl ?_
      refine z_istore_n (i := 2) (q := 35) hX dX4_number_34 rfl (Nat.le_of_ble_eq_true rfl) rfl rfl ?_
      refine z_iconst (q := 36) hX dX4_number_35 rfl ?_
      refine z_istore_n (i := 3) (q := 37) hX dX4_number_36 rfl (Nat.le_of_ble_eq_true rfl) rfl rfl ?_
      rw [show ngI s (F 25) = 0 from if_neg (hv2 h21)] at fin
      exact fin
    · refine z_iconst (q := 25) hX dX4_number_24 rfl ?_
      refine z_goto (t := 29) hX dX4_number_25 (by decide) ?_
      refine z_iadd (q := 30) hX dX4_number_29 rfl ?_
      refine zt_put (ty := .int) (q := 33) hX 25 dX4_number_30 q1889 (by decide) rfl rfl rfl (by decide) rfl rfl rfl ?_
      refine z_iconst (q := 34) hX dX4_number_33 rfl ?_
      refine z_istore_n (i := 2) (q := 35) hX dX4_number_34 rfl (Nat.le_of_ble_eq_true rfl) rfl rfl ?_
      refine z_iconst (q := 36) hX dX4_number_35 rfl ?_
      refine z_istore_n (i := 3) (q := 37) hX dX4_number_36 rfl (Nat.le_of_ble_eq_true rfl) rfl rfl ?_
      rw [show ngI s (F 25) = 1 from if_pos (by rw [hv1, h21]; rfl)] at fin
      exact fin
  refine z_aload_n (i := 0) (q := 1) hX dX4_number_0 rfl rfl rfl ?_
  refine zt_V1 (q := 4) (na := 0) hX dX4_number_1 (c_X4_here D A (by first | assumption | omega) (by first | assumption | omega) (by first | assumption | omega)) q2246 q2248 qs86 q103 q2249 rfl (by decide +kernel) ⟨Nat.le_of_ble_eq_true rfl, Nat.le_of_ble_eq_true rfl⟩ rfl rfl (Nat.le_of_ble_eq_true rfl) rfl ⟨rfl, rfl⟩ (Nat.le_of_ble_eq_true rfl) (Nat.le_of_ble_eq_true rfl) rfl ?_
  refine z_bipush (q := 6) hX dX4_number_4 (by decide) rfl ?_
  refine z_icmp_ne (q := 9) (t := 13) hX dX4_number_6 (by decide) (by omega) (by omega) rfl (fun h6 => ?_) (fun h6 => ?_)
  · refine z_iconst (q := 14) hX dX4_number_13 rfl ?_
    exact J14 false (by rfl) (fun _ => h6)
  · refine z_iconst (q := 10) hX dX4_number_9 rfl ?_
    refine z_goto (t := 14) hX dX4_number_10 (by decide) ?_
    exact J14 true (by show hr s (F 25) = 45; omega) (fun q => by cases q)
def isW (c : Int) : Bool := (decide (33 ≤ c) && decide (c ≤ 126)) && !decide (c = 38)
/-- how many characters of a word from a place on, m at most -/
def wdc (s : zS) (p : Int) : Nat → Nat
  | 0 => 0
  | m + 1 => if wdc s p m = m ∧ isW (hr s (p + m)) = true then m + 1 else wdc s p m
theorem wdc_le (s : zS) (p : Int) (m : Nat) : wdc s p m ≤ m := by
  induction m with
  | zero => exact Nat.le_refl _
  | succ m ih =>
    rw [wdc]
    split <;> omega
theorem wdc_stop {s : zS} {p : Int} {m n : Nat} (h : wdc s p m = m) (hd : isW (hr s (p + m)) = false) (hn : m ≤ n) : wdc s p n = m := by
  induction n with
  | zero => rw [show m = 0 by omega]; rfl
  | succ n ih =>
    by_cases q : m = n + 1
    · rw [← q]; exact h
    · rw [wdc, ih (by omega), if_neg]
      rintro ⟨h1, h2⟩
      rw [← h1, hd] at h2
      cases h2
theorem wdc_s {s : zS} {p : Int} {m : Nat} (h : wdc s p m = m) (hd : isW (hr s (p + m)) = true) : wdc s p (m + 1) = m + 1 := by
  rw [wdc, if_pos ⟨h, hd⟩]
def wdN (s : zS) (p : Int) : Nat := wdc s p 60
def wdP (s : zS) (p : Int) : Int := p + wdN s p
abbrev rmX4_readWord : Room := { frames := 1, cells := 0, slots := 0, locals := 22 }
set_option maxHeartbeats 4000000 in
theorem c_X4_readWord (D : zD) (A : Nat → Prop) {b : Nat} {F : zTF} {G : zTG} {s : zS} {c : Int} (h : zBuf F G s) (h0 : 0 ≤ F 25 ∧ F 25 ≤ 60) (hc : 0 ≤ c ∧ c ≤ 413) : zC D yX4_readWord cX4_readWord 2 none none rmX4_readWord A [.ref b, zI (c)] (twI D A b F G) (zPv (twI D A b (upF (upF F 25 (wdP s (F 25))) 26 (bi (decide (wdN s (F 25) = 0)))) (upG (upG G 14 (c + 5) (F 25)) 14 (c + 6) (wdP s (F 25))))) zNo := by
  refine zC_start (L := [some (.ref b), some (zI (c))]) (by decide) (Nat.le_of_ble_eq_true rfl) rfl (fun X hX => ?_)
  have K : ∀ m : Nat, m ≤ 60 → wdc s (F 25) m = m → ∀ p : Int, p = F 25 + m → zG X 0 0 (twI D A b (upF F 25 p) (upG G 14 (c + 5) (F 25))) 12 [some (.ref b), some (zI (c))] [] := by
    refine z_up (fun m hm ih hd p ep => ?_)
    subst ep
    have hb : zBuf (upF F 25 (F 25 + m)) (upG G 14 (c + 5) (F 25)) s := h.cg (upF_ne _ _ (by decide)) (upG_nj _ _ _ (by decide))
    have e25 : upF F 25 (F 25 + m) 25 = F 25 + m := upF_same _ _ _
    have hR := hr_R h (p := F 25 + m) (by omega)
    have h60 := h.2.1
    have J48 : wdN s (F 25) = m → zG X 0 0 (twI D A b (upF F 25 (F 25 + m)) (upG G 14 (c + 5) (F 25))) 48 [some (.ref b), some (zI (c))] [] := by
      intro hn
      have eP : wdP s (F 25) = F 25 + m := by unfold wdP; rw [hn]
      rw [eP, hn] at hX
      have e5 : upG (upG G 14 (c + 5) (F 25)) 14 (c + 6) (F 25 + m) 14 (c + 5) = F 25 := by rw [upG_ni _ _ _ (by omega), upG_same]
      have J82 : ∀ w : Bool, w = decide (m = 0) → zG X 0 0 (twI D A b (upF F 25 (F 25 + m)) (upG (upG G 14 (c + 5) (F 25)) 14 (c + 6) (F 25 + m))) 82 [some (.ref b), some (zI (c))] [zI (bi (w)), .ref b] := by
        intro w ew
        rw [← ew] at hX
        refine zt_put (ty := .boolean) (q := 85) hX 26 dX4_readWord_82 q1890 (by decide) rfl rfl rfl (by decide) (by first | decide | exact narrow_bi _) (by first | decide | exact fits_bi _) rfl ?_
        exact z_vret hX dX4_readWord_85 (Nat.le_of_ble_eq_true rfl) (Nat.le_of_ble_eq_true rfl) rfl (fun H hI => ⟨rfl, hI⟩)
      refine z_aload_n (i := 0) (q := 49) hX dX4_readWord_48 rfl rfl rfl ?_
      refine zt_getA (q := 52) hX 24 14 dX4_readWord_49 q1888 (by decide) rfl rfl rfl ?_
      refine z_iload_n (i := 1) (q := 53) hX dX4_readWord_52 rfl rfl rfl ?_
      refine z_bipush (q := 55) hX dX4_readWord_53 (by decide) rfl ?_
      refine z_iadd (q := 56) hX dX4_readWord_55 rfl ?_
      refine z_aload_n (i := 0) (q := 57) hX dX4_readWord_56 rfl rfl rfl ?_
      refine zt_getI (q := 60) hX 25 dX4_readWord_57 q1889 (by decide) rfl rfl rfl ?_
      rw [e25]
      refine zt_ast (q := 61) (N := 420) hX 14 dX4_readWord_60 rfl (by decide) (by decide) (by omega) rfl ?_
      refine z_aload_n (i := 0) (q := 62) hX dX4_readWord_61 rfl rfl rfl ?_
      refine z_aload_n (i := 0) (q := 63) hX dX4_readWord_62 rfl rfl rfl ?_
      refine zt_getI (q := 66) hX 25 dX4_readWord_63 q1889 (by decide) rfl rfl rfl ?_
      rw [e25]
      refine z_aload_n (i := 0) (q := 67) hX dX4_readWord_66 rfl rfl rfl ?_
      refine zt_getA (q := 70) hX 24 14 dX4_readWord_67 q1888 (by decide) rfl rfl rfl ?_
      refine z_iload_n (i := 1) (q := 71) hX dX4_readWord_70 rfl rfl rfl ?_
      refine z_iconst (q := 72) hX dX4_readWord_71 rfl ?_
      refine z_iadd (q := 73) hX dX4_readWord_72 rfl ?_
      refine zt_ald (q := 74) (N := 420) hX 14 dX4_readWord_73 rfl (by decide) (by decide) (by omega) rfl ?_
      rw [e5]
      refine z_icmp_ne (q := 77) (t := 81) hX dX4_readWord_74 (by decide) (by omega) (by omega) rfl (fun h74 => ?_) (fun h74 => ?_)
      · refine z_iconst (q := 82) hX dX4_readWord_81 rfl ?_
        exact J82 false (decide_eq_false (by omega)).symm
      · refine z_iconst (q := 78) hX dX4_readWord_77 rfl ?_
        refine z_goto (t := 82) hX dX4_readWord_78 (by decide) ?_
        exact J82 true (decide_eq_true (by omega)).symm
    refine z_aload_n (i := 0) (q := 13) hX dX4_readWord_12 rfl rfl rfl ?_
    refine zt_V1 (q := 16) (na := 0) hX dX4_readWord_13 (c_X4_here D A (by first | assumption | omega) (by first | assumption | omega) (by first | assumption | omega)) q2246 q2248 qs86 q103 q2249 rfl (by decide +kernel) ⟨Nat.le_of_ble_eq_true rfl, Nat.le_of_ble_eq_true rfl⟩ rfl rfl (Nat.le_of_ble_eq_true rfl) rfl ⟨rfl, rfl⟩ (Nat.le_of_ble_eq_true rfl) (Nat.le_of_ble_eq_true rfl) rfl ?_
    rw [e25]
    refine z_bipush (q := 18) hX dX4_readWord_16 (by decide) rfl ?_
    refine z_bipush (q := 20) hX dX4_readWord_18 (by decide) rfl ?_
    refine zt_S1 (q := 23) (na := 3) hX dX4_readWord_20 (c_X4_in D A (by first | assumption | omega) (by first | assumption | omega) (by first | assumption | omega)) q1955 q1956 q103 q1957 (by decide +kernel) ⟨Nat.le_of_ble_eq_true rfl, Nat.le_of_ble_eq_true rfl⟩ rfl rfl (Nat.le_of_ble_eq_true rfl) rfl ⟨rfl, rfl⟩ (Nat.le_of_ble_eq_true rfl) (Nat.le_of_ble_eq_true rfl) rfl ?_
    refine z_ifB_eq (q := 26) (t := 48) hX dX4_readWord_23 (by decide) rfl (fun h23 => ?_) (fun h23 => ?_)
    · refine J48 (wdc_stop hd ?_ hm)
      unfold isW
      rw [h23]
      rfl
    · refine z_aload_n (i := 0) (q := 27) hX dX4_readWord_26 rfl rfl rfl ?_
      refine zt_V1 (q := 30) (na := 0) hX dX4_readWord_27 (c_X4_here D A (by first | assumption | omega) (by first | assumption | omega) (by first | assumption | omega)) q2246 q2248 qs86 q103 q2249 rfl (by decide +kernel) ⟨Nat.le_of_ble_eq_true rfl, Nat.le_of_ble_eq_true rfl⟩ rfl rfl (Nat.le_of_ble_eq_true rfl) rfl ⟨rfl, rfl⟩ (Nat.le_of_ble_eq_true rfl) (Nat.le_of_ble_eq_true rfl) rfl ?_
      rw [e25]
      refine z_bipush (q := 32) hX dX4_readWord_30 (by decide) rfl ?_
      refine z_icmp_eq (q := 35) (t := 48) hX dX4_readWord_32 (by decide) (by omega) (by omega) rfl (fun h32 => ?_) (fun h32 => ?_)
      · refine J48 (wdc_stop hd ?_ hm)
        unfold isW
        rw [decide_eq_true (by omega : hr s (F 25 + m) = 38), Bool.not_true, Bool.and_false]
      · refine z_aload_n (i := 0) (q := 36) hX dX4_readWord_35 rfl rfl rfl ?_
        refine z_dup (q := 37) hX dX4_readWord_36 rfl rfl ?_
        refine zt_getI (q := 40) hX 25 dX4_readWord_37 q1889 (by decide) rfl rfl rfl ?_
        refine z_iconst (q := 41) hX dX4_readWord_40 rfl ?_
        refine z_iadd (q := 42) hX dX4_readWord_41 rfl ?_
        refine zt_put (ty := .int) (q := 45) hX 25 dX4_readWord_42 q1889 (by decide) rfl rfl rfl (by decide) rfl rfl rfl ?_
        refine z_goto (t := 12) hX dX4_readWord_45 (by decide) ?_
        have hi := hr_in (s := s) (p := F 25 + m) (fun q => by rw [q] at h23; exact absurd h23 (by decide))
        rw [e25, upF_upF]
        refine ih (by omega) (wdc_s hd ?_) _ (by omega)
        unfold isW
        rw [h23, decide_eq_false (by omega)]
        rfl
  refine z_aload_n (i := 0) (q := 1) hX dX4_readWord_0 rfl rfl rfl ?_
  refine zt_getA (q := 4) hX 24 14 dX4_readWord_1 q1888 (by decide) rfl rfl rfl ?_
  refine z_iload_n (i := 1) (q := 5) hX dX4_readWord_4 rfl rfl rfl ?_
  refine z_iconst (q := 6) hX dX4_readWord_5 rfl ?_
  refine z_iadd (q := 7) hX dX4_readWord_6 rfl ?_
  refine z_aload_n (i := 0) (q := 8) hX dX4_readWord_7 rfl rfl rfl ?_
  refine zt_getI (q := 11) hX 25 dX4_readWord_8 q1889 (by decide) rfl rfl rfl ?_
  refine zt_ast (q := 12) (N := 420) hX 14 dX4_readWord_11 rfl (by decide) (by decide) (by omega) rfl ?_
  have e9 := K 0 (Nat.zero_le _) rfl (F 25) (by omega)
  rw [upF_self] at e9
  exact e9
/-- how far a column's condition is read: 0 no digit, 1 no sign, 2 up to its number -/
def rcK (s : zS) (p : Int) : Int := if isDig (hr s p) = false then 0 else if hr s (p + 1) = 60 ∨ hr s (p + 1) = 61 ∨ hr s (p + 1) = 62 then 2 else 1
def rcF (F : zTF) (s : zS) : zTF := if rcK s (F 25) = 0 then upF F 26 1 else if rcK s (F 25) = 1 then upF (upF F 25 (F 25 + 1)) 26 1 else upF (upF F 25 (nuP s (F 25 + 2))) 26 (bi (decide (nuN s (F 25 + 2) = 0)))
def rcG (F : zTF) (G : zTG) (s : zS) (c : Int) : zTG := if rcK s (F 25) = 0 then G else if rcK s (F 25) = 1 then upG G 14 (c + 2) (hr s (F 25) - 48) else upG (upG (upG G 14 (c + 2) (hr s (F 25) - 48)) 14 (c + 3) (hr s (F 25 + 1))) 14 (c + 4) (nuV s (F 25 + 2))
theorem upF_cm (F : zTF) {j k : Nat} (x y : Int) (h : j ≠ k) : upF (upF F j x) k y = upF (upF F k y) j x := by
  funext i
  unfold upF
  by_cases q : i = k
  · rw [if_pos q, if_neg (by omega), if_pos q]
  · rw [if_neg q, if_neg q]
theorem isDig_in {s : zS} {p : Int} (h : isDig (hr s p) = true) : p < (s.length : Int) := hr_in (fun q => by rw [q] at h; exact absurd h (by decide))
abbrev rmX4_readColumn : Room := { frames := 3, cells := 0, slots := 0, locals := 65 }
set_option maxHeartbeats 4000000 in
theorem c_X4_readColumn (D : zD) (A : Nat → Prop) {b : Nat} {F : zTF} {G : zTG} {s : zS} {c : Int} (h : zBuf F G s) (h0 : 0 ≤ F 25 ∧ F 25 ≤ 60) (hc : 0 ≤ c ∧ c ≤ 413) : zC D yX4_readColumn cX4_readColumn 3 none none rmX4_readColumn A [.ref b, zI (c)] (twI D A b F G) (zPv (twI D A b (rcF F s) (rcG F G s c))) zNo := by
  refine zC_start (L := [some (.ref b), some (zI (c)), none]) (by decide) (Nat.le_of_ble_eq_true rfl) rfl (fun X hX => ?_)
  have h60 := h.2.1
  have hR := hr_R h h0.1
  by_cases q0 : isDig (hr s (F 25)) = true
  · have hi0 := isDig_in q0
    have hb1 : zBuf (upF F 26 0) G s := h.cg (upF_ne _ _ (by decide)) rfl
    have e25 : upF F 26 0 25 = F 25 := upF_ne _ _ (by decide)
    obtain ⟨G1, hG1⟩ : ∃ G1 : zTG, G1 = upG G 14 (c + 2) (hr s (F 25) - 48) := ⟨_, rfl⟩
    obtain ⟨F1, hF1⟩ : ∃ F1 : zTF, F1 = upF (upF F 26 0) 25 (F 25 + 1) := ⟨_, rfl⟩
    have hb2 : zBuf F1 G1 s := h.cg (by rw [hF1, upF_ne _ _ (by decide), upF_ne _ _ (by decide)]) (by rw [hG1, upG_nj _ _ _ (by decide)])
    have f1 : F1 25 = F 25 + 1 := by rw [hF1, upF_same]
    have hR1 := hr_R h (p := F 25 + 1) (by omega)
    have J80 : ∀ w : Bool, w = !decide (hr s (F 25 + 1) = 60 ∨ hr s (F 25 + 1) = 61 ∨ hr s (F 25 + 1) = 62) → zG X 0 0 (twI D A b F1 G1) 80 [some (.ref b), some (zI (c)), some (zI (hr s (F 25 + 1)))] [zI (bi (w)), .ref b] := by
      intro w ew
      have e26 : upF F1 26 (bi w) 26 = bi w := upF_same _ _ _
      have hbr := bi_range w
      cases w with
      | true =>
        have hk : rcK s (F 25) = 1 := by
          unfold rcK
          rw [if_neg (by rw [q0]; decide), if_neg]
          intro q
          rw [decide_eq_true q] at ew
          cases ew
        rw [show rcF F s = upF F1 26 1 by
          unfold rcF
          rw [hk, hF1]
          show upF (upF F 25 (F 25 + 1)) 26 1 = _
          rw [upF_cm F 0 (F 25 + 1) (by decide : (26 : Nat) ≠ 25), upF_upF], show rcG F G s c = G1 by unfold rcG; rw [hk, hG1]; rfl] at hX
        refine zt_put (ty := .boolean) (q := 83) hX 26 dX4_readColumn_80 q1890 (by decide) rfl rfl rfl (by decide) (by first | decide | exact narrow_bi _) (by first | decide | exact fits_bi _) rfl ?_
        refine z_aload_n (i := 0) (q := 84) hX dX4_readColumn_83 rfl rfl rfl ?_
        refine zt_getI (q := 87) hX 26 dX4_readColumn_84 q1890 (by decide) rfl rfl rfl ?_
        refine z_if_ne (q := 90) (t := 121) hX dX4_readColumn_87 (by decide) (by omega) rfl (fun h87 => ?_) (fun h87 => ?_)
        · exact z_vret hX dX4_readColumn_121 (Nat.le_of_ble_eq_true rfl) (Nat.le_of_ble_eq_true rfl) rfl (fun H hI => ⟨rfl, hI⟩)
        · exact absurd h87 (by rw [e26]; decide)
      | false =>
        have hby : hr s (F 25 + 1) = 60 ∨ hr s (F 25 + 1) = 61 ∨ hr s (F 25 + 1) = 62 := by
          refine Classical.byContradiction fun q => ?_
          rw [decide_eq_false q] at ew
          cases ew
        have hk : rcK s (F 25) = 2 := by
          unfold rcK
          rw [if_neg (by rw [q0]; decide), if_pos hby]
        have hi1 := hr_in (s := s) (p := F 25 + 1) (by omega)
        have hb3 : zBuf (upF (upF F1 26 (bi false)) 25 (F 25 + 2)) (upG G1 14 (c + 3) (hr s (F 25 + 1))) s := hb2.cg (by rw [upF_ne _ _ (by decide), upF_ne _ _ (by decide)]) (upG_nj _ _ _ (by decide))
        have f2 : upF F1 26 (bi false) 25 = F 25 + 1 := by rw [upF_ne _ _ (by decide), f1]
        have f3 : upF (upF F1 26 (bi false)) 25 (F 25 + 2) 25 = F 25 + 2 := upF_same _ _ _
        rw [show rcF F s = upF (upF (upF (upF F1 26 (bi false)) 25 (F 25 + 2)) 25 (nuP s (F 25 + 2))) 26 (bi (decide (nuN s (F 25 + 2) = 0))) by
          unfold rcF
          rw [hk, hF1]
          show upF (upF F 25 (nuP s (F 25 + 2))) 26 (bi (decide (nuN s (F 25 + 2) = 0))) = _
          funext j
          unfold upF
          by_cases j1 : j = 26 <;> by_cases j2 : j = 25 <;> simp [j1, j2], show rcG F G s c = upG (upG G1 14 (c + 3) (hr s (F 25 + 1))) 14 (c + 4) (nuV s (F 25 + 2)) by unfold rcG; rw [hk, hG1]; rfl] at hX
        refine zt_put (ty := .boolean) (q := 83) hX 26 dX4_readColumn_80 q1890 (by decide) rfl rfl rfl (by decide) (by first | decide | exact narrow_bi _) (by first | decide | exact fits_bi _) rfl ?_
        refine z_aload_n (i := 0) (q := 84) hX dX4_readColumn_83 rfl rfl rfl ?_
        refine zt_getI (q := 87) hX 26 dX4_readColumn_84 q1890 (by decide) rfl rfl rfl ?_
        refine z_if_ne (q := 90) (t := 121) hX dX4_readColumn_87 (by decide) (by omega) rfl (fun h87 => ?_) (fun h87 => ?_)
        · exact absurd (show upF F1 26 (bi false) 26 = 0 from e26) h87
        · refine z_aload_n (i := 0) (q := 91) hX dX4_readColumn_90 rfl rfl rfl ?_
          refine zt_getA (q := 94) hX 24 14 dX4_readColumn_91 q1888 (by decide) rfl rfl rfl ?_
          refine z_iload_n (i := 1) (q := 95) hX dX4_readColumn_94 rfl rfl rfl ?_
          refine z_iconst (q := 96) hX dX4_readColumn_95 rfl ?_
          refine z_iadd (q := 97) hX dX4_readColumn_96 rfl ?_
          refine z_iload_n (i := 2) (q := 98) hX dX4_readColumn_97 rfl rfl rfl ?_
          refine zt_ast (q := 99) (N := 420) hX 14 dX4_readColumn_98 rfl (by decide) (by decide) (by omega) rfl ?_
          refine z_aload_n (i := 0) (q := 100) hX dX4_readColumn_99 rfl rfl rfl ?_
          refine z_dup (q := 101) hX dX4_readColumn_100 rfl rfl ?_
          refine zt_getI (q := 104) hX 25 dX4_readColumn_101 q1889 (by decide) rfl rfl rfl ?_
          rw [f2, show F 25 + 1 = F 25 + 1 from rfl]
          refine z_iconst (q := 105) hX dX4_readColumn_104 rfl ?_
          refine z_iadd (q := 106) hX dX4_readColumn_105 rfl ?_
          refine zt_put (ty := .int) (q := 109) hX 25 dX4_readColumn_106 q1889 (by decide) rfl rfl rfl (by decide) rfl rfl rfl ?_
          rw [show F 25 + 1 + 1 = F 25 + 2 by omega]
          refine z_aload_n (i := 0) (q := 110) hX dX4_readColumn_109 rfl rfl rfl ?_
          refine zt_getA (q := 113) hX 24 14 dX4_readColumn_110 q1888 (by decide) rfl rfl rfl ?_
          refine z_iload_n (i := 1) (q := 114) hX dX4_readColumn_113 rfl rfl rfl ?_
          refine z_iconst (q := 115) hX dX4_readColumn_114 rfl ?_
          refine z_iadd (q := 116) hX dX4_readColumn_115 rfl ?_
          refine z_aload_n (i := 0) (q := 117) hX dX4_readColumn_116 rfl rfl rfl ?_
          refine zt_V1 (q := 120) (na := 0) hX dX4_readColumn_117 (c_X4_number D A (by first | assumption | omega) (by first | assumption | omega)) q2250 q2252 qs87 q103 q2253 rfl (by decide +kernel) ⟨Nat.le_of_ble_eq_true rfl, Nat.le_of_ble_eq_true rfl⟩ rfl rfl (Nat.le_of_ble_eq_true rfl) rfl ⟨rfl, rfl⟩ (Nat.le_of_ble_eq_true rfl) (Nat.le_of_ble_eq_true rfl) rfl ?_
          rw [f3]
          refine zt_ast (q := 121) (N := 420) hX 14 dX4_readColumn_120 rfl (by decide) (by decide) (by omega) rfl ?_
          exact z_vret hX dX4_readColumn_121 (Nat.le_of_ble_eq_true rfl) (Nat.le_of_ble_eq_true rfl) rfl (fun H hI => ⟨rfl, hI⟩)
    have e26 : upF F 26 0 26 = 0 := upF_same _ _ _
    refine z_aload_n (i := 0) (q := 1) hX dX4_readColumn_0 rfl rfl rfl ?_
    refine z_aload_n (i := 0) (q := 2) hX dX4_readColumn_1 rfl rfl rfl ?_
    refine zt_V1 (q := 5) (na := 0) hX dX4_readColumn_2 (c_X4_here D A (by first | assumption | omega) (by first | assumption | omega) (by first | assumption | omega)) q2246 q2248 qs86 q103 q2249 rfl (by decide +kernel) ⟨Nat.le_of_ble_eq_true rfl, Nat.le_of_ble_eq_true rfl⟩ rfl rfl (Nat.le_of_ble_eq_true rfl) rfl ⟨rfl, rfl⟩ (Nat.le_of_ble_eq_true rfl) (Nat.le_of_ble_eq_true rfl) rfl ?_
    refine zt_S1 (q := 8) (na := 1) hX dX4_readColumn_5 (c_X4_isDigit D A (by first | assumption | omega)) q2030 q2031 q103 q2032 (by decide +kernel) ⟨Nat.le_of_ble_eq_true rfl, Nat.le_of_ble_eq_true rfl⟩ rfl rfl (Nat.le_of_ble_eq_true rfl) rfl ⟨rfl, rfl⟩ (Nat.le_of_ble_eq_true rfl) (Nat.le_of_ble_eq_true rfl) rfl ?_
    refine z_ifB_ne (q := 11) (t := 15) hX dX4_readColumn_8 (by decide) rfl (fun h8 => ?_) (fun h8 => ?_)
    · refine z_iconst (q := 16) hX dX4_readColumn_15 rfl ?_
      refine zt_put (ty := .boolean) (q := 19) hX 26 dX4_readColumn_16 q1890 (by decide) rfl rfl rfl (by decide) (by first | decide | exact narrow_bi _) (by first | decide | exact fits_bi _) rfl ?_
      refine z_aload_n (i := 0) (q := 20) hX dX4_readColumn_19 rfl rfl rfl ?_
      refine zt_getI (q := 23) hX 26 dX4_readColumn_20 q1890 (by decide) rfl rfl rfl ?_
      refine z_if_ne (q := 26) (t := 121) hX dX4_readColumn_23 (by decide) (by omega) rfl (fun h23 => ?_) (fun h23 => ?_)
      · exact absurd e26 h23
      · refine z_aload_n (i := 0) (q := 27) hX dX4_readColumn_26 rfl rfl rfl ?_
        refine zt_getA (q := 30) hX 24 14 dX4_readColumn_27 q1888 (by decide) rfl rfl rfl ?_
        refine z_iload_n (i := 1) (q := 31) hX dX4_readColumn_30 rfl rfl rfl ?_
        refine z_iconst (q := 32) hX dX4_readColumn_31 rfl ?_
        refine z_iadd (q := 33) hX dX4_readColumn_32 rfl ?_
        refine z_aload_n (i := 0) (q := 34) hX dX4_readColumn_33 rfl rfl rfl ?_
        refine zt_V1 (q := 37) (na := 0) hX dX4_readColumn_34 (c_X4_here D A (by first | assumption | omega) (by first | assumption | omega) (by first | assumption | omega)) q2246 q2248 qs86 q103 q2249 rfl (by decide +kernel) ⟨Nat.le_of_ble_eq_true rfl, Nat.le_of_ble_eq_true rfl⟩ rfl rfl (Nat.le_of_ble_eq_true rfl) rfl ⟨rfl, rfl⟩ (Nat.le_of_ble_eq_true rfl) (Nat.le_of_ble_eq_true rfl) rfl ?_
        rw [e25]
        refine z_bipush (q := 39) hX dX4_readColumn_37 (by decide) rfl ?_
        refine z_isub (q := 40) hX dX4_readColumn_39 rfl ?_
        refine zt_ast (q := 41) (N := 420) hX 14 dX4_readColumn_40 rfl (by decide) (by decide) (by omega) rfl ?_
        rw [← hG1]
        refine z_aload_n (i := 0) (q := 42) hX dX4_readColumn_41 rfl rfl rfl ?_
        refine z_dup (q := 43) hX dX4_readColumn_42 rfl rfl ?_
        refine zt_getI (q := 46) hX 25 dX4_readColumn_43 q1889 (by decide) rfl rfl rfl ?_
        rw [e25]
        refine z_iconst (q := 47) hX dX4_readColumn_46 rfl ?_
        refine z_iadd (q := 48) hX dX4_readColumn_47 rfl ?_
        refine zt_put (ty := .int) (q := 51) hX 25 dX4_readColumn_48 q1889 (by decide) rfl rfl rfl (by decide) rfl rfl rfl ?_
        rw [← hF1]
        refine z_aload_n (i := 0) (q := 52) hX dX4_readColumn_51 rfl rfl rfl ?_
        refine zt_V1 (q := 55) (na := 0) hX dX4_readColumn_52 (c_X4_here D A (by first | assumption | omega) (by first | assumption | omega) (by first | assumption | omega)) q2246 q2248 qs86 q103 q2249 rfl (by decide +kernel) ⟨Nat.le_of_ble_eq_true rfl, Nat.le_of_ble_eq_true rfl⟩ rfl rfl (Nat.le_of_ble_eq_true rfl) rfl ⟨rfl, rfl⟩ (Nat.le_of_ble_eq_true rfl) (Nat.le_of_ble_eq_true rfl) rfl ?_
        rw [f1]
        refine z_istore_n (i := 2) (q := 56) hX dX4_readColumn_55 rfl (Nat.le_of_ble_eq_true rfl) rfl rfl ?_
        refine z_aload_n (i := 0) (q := 57) hX dX4_readColumn_56 rfl rfl rfl ?_
        refine z_iload_n (i := 2) (q := 58) hX dX4_readColumn_57 rfl rfl rfl ?_
        refine z_bipush (q := 60) hX dX4_readColumn_58 (by decide) rfl ?_
        refine z_icmp_eq (q := 63) (t := 79) hX dX4_readColumn_60 (by decide) (by omega) (by omega) rfl (fun h60 => ?_) (fun h60 => ?_)
        · refine z_iconst (q := 80) hX dX4_readColumn_79 rfl ?_
          exact J80 false (by rw [decide_eq_true (Or.inl (by omega))]; rfl)
        · refine z_iload_n (i := 2) (q := 64) hX dX4_readColumn_63 rfl rfl rfl ?_
          refine z_bipush (q := 66) hX dX4_readColumn_64 (by decide) rfl ?_
          refine z_icmp_eq (q := 69) (t := 79) hX dX4_readColumn_66 (by decide) (by omega) (by omega) rfl (fun h66 => ?_) (fun h66 => ?_)
          · refine z_iconst (q := 80) hX dX4_readColumn_79 rfl ?_
            exact J80 false (by rw [decide_eq_true (Or.inr (Or.inl (by omega)))]; rfl)
          · refine z_iload_n (i := 2) (q := 70) hX dX4_readColumn_69 rfl rfl rfl ?_
            refine z_bipush (q := 72) hX dX4_readColumn_70 (by decide) rfl ?_
            refine z_icmp_eq (q := 75) (t := 79) hX dX4_readColumn_72 (by decide) (by omega) (by omega) rfl (fun h72 => ?_) (fun h72 => ?_)
            · refine z_iconst (q := 80) hX dX4_readColumn_79 rfl ?_
              exact J80 false (by rw [decide_eq_true (Or.inr (Or.inr (by omega)))]; rfl)
            · refine z_iconst (q := 76) hX dX4_readColumn_75 rfl ?_
              refine z_goto (t := 80) hX dX4_readColumn_76 (by decide) ?_
              exact J80 true (by rw [decide_eq_false (by omega)]; rfl)
    · exact absurd q0 (by rw [h8]; decide)
  · have q1 : isDig (hr s (F 25)) = false := by simpa using q0
    have hk : rcK s (F 25) = 0 := if_pos q1
    rw [show rcF F s = upF F 26 1 from if_pos hk, show rcG F G s c = G from if_pos hk] at hX
    have e26 : upF F 26 1 26 = 1 := upF_same _ _ _
    refine z_aload_n (i := 0) (q := 1) hX dX4_readColumn_0 rfl rfl rfl ?_
    refine z_aload_n (i := 0) (q := 2) hX dX4_readColumn_1 rfl rfl rfl ?_
    refine zt_V1 (q := 5) (na := 0) hX dX4_readColumn_2 (c_X4_here D A (by first | assumption | omega) (by first | assumption | omega) (by first | assumption | omega)) q2246 q2248 qs86 q103 q2249 rfl (by decide +kernel) ⟨Nat.le_of_ble_eq_true rfl, Nat.le_of_ble_eq_true rfl⟩ rfl rfl (Nat.le_of_ble_eq_true rfl) rfl ⟨rfl, rfl⟩ (Nat.le_of_ble_eq_true rfl) (Nat.le_of_ble_eq_true rfl) rfl ?_
    refine zt_S1 (q := 8) (na := 1) hX dX4_readColumn_5 (c_X4_isDigit D A (by first | assumption | omega)) q2030 q2031 q103 q2032 (by decide +kernel) ⟨Nat.le_of_ble_eq_true rfl, Nat.le_of_ble_eq_true rfl⟩ rfl rfl (Nat.le_of_ble_eq_true rfl) rfl ⟨rfl, rfl⟩ (Nat.le_of_ble_eq_true rfl) (Nat.le_of_ble_eq_true rfl) rfl ?_
    refine z_ifB_ne (q := 11) (t := 15) hX dX4_readColumn_8 (by decide) rfl (fun h8 => ?_) (fun h8 => ?_)
    · exact absurd q1 (by rw [h8]; decide)
    · refine z_iconst (q := 12) hX dX4_readColumn_11 rfl ?_
      refine z_goto (t := 16) hX dX4_readColumn_12 (by decide) ?_
      refine zt_put (ty := .boolean) (q := 19) hX 26 dX4_readColumn_16 q1890 (by decide) rfl rfl rfl (by decide) (by first | decide | exact narrow_bi _) (by first | decide | exact fits_bi _) rfl ?_
      refine z_aload_n (i := 0) (q := 20) hX dX4_readColumn_19 rfl rfl rfl ?_
      refine zt_getI (q := 23) hX 26 dX4_readColumn_20 q1890 (by decide) rfl rfl rfl ?_
      refine z_if_ne (q := 26) (t := 121) hX dX4_readColumn_23 (by decide) (by omega) rfl (fun h23 => ?_) (fun h23 => ?_)
      · exact z_vret hX dX4_readColumn_121 (Nat.le_of_ble_eq_true rfl) (Nat.le_of_ble_eq_true rfl) rfl (fun H hI => ⟨rfl, hI⟩)
      · exact absurd e26 (by omega)
