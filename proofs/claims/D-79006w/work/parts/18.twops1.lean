/-! THE REFERENCE: what it answers of lines and templates -/
set_option maxRecDepth 100000
theorem and_t {p q : Prop} [Decidable p] [Decidable q] : (decide p && decide q) = true ↔ p ∧ q := by simp
theorem and_f {p q : Prop} [Decidable p] [Decidable q] : (decide p && decide q) = false ↔ ¬ (p ∧ q) := by simp
def opLine (M : Int → Int) (l i : Int) : Int × Int := if (0 ≤ l ∧ l ≤ M 0 - 1) ∧ (-1 ≤ i ∧ i ≤ M (2 + l) - 1) then (0, if i = -1 then M (2 + l) else cT (tx M l) i) else (1, 0)
def opPlace (M : Int → Int) (l w : Int) : Int × Int := if ¬ (0 ≤ l ∧ l ≤ M 0 - 1) then (1, 0) else if ¬ (0 ≤ w ∧ w ≤ 3) then (2, 0) else (0, if w = 0 then M (43 + l) else if w = 1 then ((rF (ofP M (M (43 + l))) l.toNat).length : Int) else if w = 2 then nTl M l else fitI M (M (43 + l)) l)
def opTempl (M : Int → Int) (t w : Int) : Int × Int := if isT M t = false then (1, 0) else if ¬ (0 ≤ w ∧ w ≤ 4) then (2, 0) else (0, if w = 0 then nTl M (fst M t) else if w = 1 then varsI M t else if w = 2 then nR M t else if w = 3 then costT M t else gapsS (tx M (fst M t)))
def opSlot (M : Int → Int) (t k : Int) : Int × Int := if isT M t = true ∧ 0 ≤ k ∧ k ≤ nTl M (fst M t) - 1 then (0, slt M t k) else (1, 0)
def opRow (M : Int → Int) (t r : Int) : Int × Int := if isT M t = true ∧ 0 ≤ r ∧ r ≤ nR M t - 1 then (0, lnO M t r) else (1, 0)
def colsM (M : Int → Int) : Int := sumI (fun t => if isT M t then varsI M t else 0) 12
def opCount (M : Int → Int) (w : Int) : Int × Int := if 0 ≤ w ∧ w ≤ 4 then (0, if w = 0 then M 0 else if w = 1 then nTpl M else if w = 2 then colsM M else if w = 3 then chrI M else cosA M) else (1, 0)
def setM (M : Int → Int) (n : Nat) : Int := sumI (fun t => if isT M t then 2 ^ t.toNat else 0) n
theorem shl_1 : ∀ t : Nat, t < 12 → Int32.ofInt 1 <<< (Int32.ofInt (t : Int) &&& 31) = Int32.ofInt ((2 : Int) ^ t) := by decide +kernel
theorem ior_1 : ∀ t : Nat, t < 12 → ∀ s : Nat, s < 2 ^ t → Int32.ofInt (s : Int) ||| Int32.ofInt ((2 : Int) ^ t) = Int32.ofInt ((s : Int) + (2 : Int) ^ t) := by decide +kernel
theorem ior_0 (s : Int) : Int32.ofInt s ||| Int32.ofInt 0 = Int32.ofInt s := by
  rw [show Int32.ofInt 0 = 0 from rfl, Int32.or_zero]
theorem setM_rng (M : Int → Int) (n : Nat) : 0 ≤ setM M n ∧ setM M n < 2 ^ n := by
  induction n with
  | zero => exact ⟨Int.le_refl 0, by show (0 : Int) < 2 ^ 0; decide⟩
  | succ n ih =>
    have h2 : (2 : Int) ^ (n + 1) = 2 * 2 ^ n := by rw [Int.pow_succ, Int.mul_comm]
    have h3 : setM M (n + 1) = setM M n + (if isT M n then 2 ^ n else 0) := rfl
    rw [h3, h2]
    split <;> omega
abbrev rmX4_feed : Room := { frames := 1, cells := 0, slots := 0, locals := 21 }
set_option maxHeartbeats 4000000 in
theorem c_X4_feed (D : zD) (A : Nat → Prop) {b : Nat} {F : zTF} {G : zTG} {c : Int} (hF : 0 ≤ F 13 ∧ F 13 ≤ 60) : zC D yX4_feed cX4_feed 2 (some .int) none rmX4_feed A [.ref b, zI (c)] (twI D A b F G) (zPd (zI ((if F 13 = 60 then 0 else F 13 + 1))) (twI D A b (if F 13 = 60 then upF F 6 1 else upF (upF F 6 0) 13 (F 13 + 1)) (if F 13 = 60 then G else upG G 9 (F 13) c))) zNo := by
  refine zC_start (L := [some (.ref b), some (zI (c))]) (by decide) (Nat.le_of_ble_eq_true rfl) rfl (fun X hX => ?_)
  have e13 : upF F 6 0 13 = F 13 := upF_ne _ _ (by decide)
  by_cases hq : F 13 = 60
  · rw [if_pos hq, if_pos hq, if_pos hq] at hX
    refine z_aload_n (i := 0) (q := 1) hX dX4_feed_0 rfl rfl rfl ?_
    refine z_iconst (q := 2) hX dX4_feed_1 rfl ?_
    refine zt_put (ty := .int) (q := 5) hX 6 dX4_feed_2 q1870 (by decide) rfl rfl rfl (by decide) rfl rfl rfl ?_
    refine z_aload_n (i := 0) (q := 6) hX dX4_feed_5 rfl rfl rfl ?_
    refine zt_getI (q := 9) hX 13 dX4_feed_6 q1877 (by decide) rfl rfl rfl ?_
    rw [e13]
    refine z_bipush (q := 11) hX dX4_feed_9 (by decide) rfl ?_
    refine z_icmp_ne (q := 14) (t := 20) hX dX4_feed_11 (by decide) (by omega) (by omega) rfl (fun h11 => ?_) (fun h11 => ?_)
    · exact absurd h11 (by omega)
    · refine z_aload_n (i := 0) (q := 15) hX dX4_feed_14 rfl rfl rfl ?_
      refine z_iconst (q := 16) hX dX4_feed_15 rfl ?_
      refine zt_V1 (q := 19) (na := 1) hX dX4_feed_16 (c_X4_refuse D A) q1962 q1964 qs39 q103 q1965 rfl (by decide +kernel) ⟨Nat.le_of_ble_eq_true rfl, Nat.le_of_ble_eq_true rfl⟩ rfl rfl (Nat.le_of_ble_eq_true rfl) rfl ⟨rfl, rfl⟩ (Nat.le_of_ble_eq_true rfl) (Nat.le_of_ble_eq_true rfl) rfl ?_
      rw [upF_upF]
      exact z_iret hX dX4_feed_19 (Nat.le_of_ble_eq_true rfl) (Nat.le_of_ble_eq_true rfl) rfl (fun H hI => ⟨congrArg (fun z => some (zI z)) (rfl), hI⟩)
  · rw [if_neg hq, if_neg hq, if_neg hq] at hX
    refine z_aload_n (i := 0) (q := 1) hX dX4_feed_0 rfl rfl rfl ?_
    refine z_iconst (q := 2) hX dX4_feed_1 rfl ?_
    refine zt_put (ty := .int) (q := 5) hX 6 dX4_feed_2 q1870 (by decide) rfl rfl rfl (by decide) rfl rfl rfl ?_
    refine z_aload_n (i := 0) (q := 6) hX dX4_feed_5 rfl rfl rfl ?_
    refine zt_getI (q := 9) hX 13 dX4_feed_6 q1877 (by decide) rfl rfl rfl ?_
    rw [e13]
    refine z_bipush (q := 11) hX dX4_feed_9 (by decide) rfl ?_
    refine z_icmp_ne (q := 14) (t := 20) hX dX4_feed_11 (by decide) (by omega) (by omega) rfl (fun h11 => ?_) (fun h11 => ?_)
    · refine z_aload_n (i := 0) (q := 21) hX dX4_feed_20 rfl rfl rfl ?_
      refine zt_getA (q := 24) hX 14 9 dX4_feed_21 q1878 (by decide) rfl rfl rfl ?_
      refine z_aload_n (i := 0) (q := 25) hX dX4_feed_24 rfl rfl rfl ?_
      refine zt_getI (q := 28) hX 13 dX4_feed_25 q1877 (by decide) rfl rfl rfl ?_
      rw [e13]
      refine z_iload_n (i := 1) (q := 29) hX dX4_feed_28 rfl rfl rfl ?_
      refine zt_ast (q := 30) (N := 60) hX 9 dX4_feed_29 rfl (by decide) (by decide) (by omega) rfl ?_
      refine z_aload_n (i := 0) (q := 31) hX dX4_feed_30 rfl rfl rfl ?_
      refine z_dup (q := 32) hX dX4_feed_31 rfl rfl ?_
      refine zt_getI (q := 35) hX 13 dX4_feed_32 q1877 (by decide) rfl rfl rfl ?_
      rw [e13]
      refine z_iconst (q := 36) hX dX4_feed_35 rfl ?_
      refine z_iadd (q := 37) hX dX4_feed_36 rfl ?_
      refine zt_put (ty := .int) (q := 40) hX 13 dX4_feed_37 q1877 (by decide) rfl rfl rfl (by decide) rfl rfl rfl ?_
      refine z_aload_n (i := 0) (q := 41) hX dX4_feed_40 rfl rfl rfl ?_
      refine zt_getI (q := 44) hX 13 dX4_feed_41 q1877 (by decide) rfl rfl rfl ?_
      rw [upF_same]
      exact z_iret hX dX4_feed_44 (Nat.le_of_ble_eq_true rfl) (Nat.le_of_ble_eq_true rfl) rfl (fun H hI => ⟨congrArg (fun z => some (zI z)) (rfl), hI⟩)
    · exact absurd h11 (by omega)
abbrev rmX4_line : Room := { frames := 2, cells := 0, slots := 0, locals := 43 }
set_option maxHeartbeats 4000000 in
theorem c_X4_line (D : zD) (A : Nat → Prop) {b : Nat} {F : zTF} {G : zTG} {l i : Int} (hw : zWf G) (hl : zR l) (hi : zR i) : zC D yX4_line cX4_line 3 (some .int) none rmX4_line A [.ref b, zI (l), zI (i)] (twI D A b F G) (zPd (zI ((opLine (G 0) l i).2)) (twI D A b (upF F 6 (opLine (G 0) l i).1) (G))) zNo := by
  refine zC_start (L := [some (.ref b), some (zI (l)), some (zI (i))]) (by decide) (Nat.le_of_ble_eq_true rfl) rfl (fun X hX => ?_)
  have hm := hw.1
  have J28 : ¬ ((0 ≤ l ∧ l ≤ G 0 0 - 1) ∧ (-1 ≤ i ∧ i ≤ G 0 (2 + l) - 1)) → zG X 0 0 (twI D A b (upF F 6 0) G) 28 [some (.ref b), some (zI (l)), some (zI (i))] [] := by
    intro q
    rw [show opLine (G 0) l i = (1, 0) from if_neg q] at hX
    refine z_aload_n (i := 0) (q := 29) hX dX4_line_28 rfl rfl rfl ?_
    refine z_iconst (q := 30) hX dX4_line_29 rfl ?_
    refine zt_V1 (q := 33) (na := 1) hX dX4_line_30 (c_X4_refuse D A) q1962 q1964 qs39 q103 q1965 rfl (by decide +kernel) ⟨Nat.le_of_ble_eq_true rfl, Nat.le_of_ble_eq_true rfl⟩ rfl rfl (Nat.le_of_ble_eq_true rfl) rfl ⟨rfl, rfl⟩ (Nat.le_of_ble_eq_true rfl) (Nat.le_of_ble_eq_true rfl) rfl ?_
    rw [upF_upF]
    exact z_iret hX dX4_line_33 (Nat.le_of_ble_eq_true rfl) (Nat.le_of_ble_eq_true rfl) rfl (fun H hI => ⟨congrArg (fun z => some (zI z)) (rfl), hI⟩)
  refine z_aload_n (i := 0) (q := 1) hX dX4_line_0 rfl rfl rfl ?_
  refine z_iconst (q := 2) hX dX4_line_1 rfl ?_
  refine zt_put (ty := .int) (q := 5) hX 6 dX4_line_2 q1870 (by decide) rfl rfl rfl (by decide) rfl rfl rfl ?_
  refine z_aload_n (i := 0) (q := 6) hX dX4_line_5 rfl rfl rfl ?_
  refine z_iload_n (i := 1) (q := 7) hX dX4_line_6 rfl rfl rfl ?_
  refine zt_V1 (q := 10) (na := 1) hX dX4_line_7 (c_X4_isLine D A (by first | assumption | omega) (by first | assumption | omega)) q2061 q2063 qs61 q103 q2064 rfl (by decide +kernel) ⟨Nat.le_of_ble_eq_true rfl, Nat.le_of_ble_eq_true rfl⟩ rfl rfl (Nat.le_of_ble_eq_true rfl) rfl ⟨rfl, rfl⟩ (Nat.le_of_ble_eq_true rfl) (Nat.le_of_ble_eq_true rfl) rfl ?_
  have hln : 0 ≤ l ∧ l ≤ G 0 0 - 1 → zLn G l := fun q => hw.ln q.1 (by omega)
  refine z_ifB_eq (q := 13) (t := 28) hX dX4_line_10 (by decide) rfl (fun h10 => ?_) (fun h10 => ?_)
  · exact J28 (fun q => and_f.mp h10 q.1)
  · have q1 := and_t.mp h10
    have hr := (hln q1).1
    have hf := hr.f
    refine z_iload_n (i := 2) (q := 14) hX dX4_line_13 rfl rfl rfl ?_
    refine z_iconst (q := 15) hX dX4_line_14 rfl ?_
    refine z_aload_n (i := 0) (q := 16) hX dX4_line_15 rfl rfl rfl ?_
    refine z_iload_n (i := 1) (q := 17) hX dX4_line_16 rfl rfl rfl ?_
    refine zt_V1 (q := 20) (na := 1) hX dX4_line_17 (c_X4_lengthOf D A (by first | assumption | omega)) q1974 q1976 qs41 q103 q1977 rfl (by decide +kernel) ⟨Nat.le_of_ble_eq_true rfl, Nat.le_of_ble_eq_true rfl⟩ rfl rfl (Nat.le_of_ble_eq_true rfl) rfl ⟨rfl, rfl⟩ (Nat.le_of_ble_eq_true rfl) (Nat.le_of_ble_eq_true rfl) rfl ?_
    refine z_iconst (q := 21) hX dX4_line_20 rfl ?_
    refine z_isub (q := 22) hX dX4_line_21 rfl ?_
    refine zt_S1 (q := 25) (na := 3) hX dX4_line_22 (c_X4_in D A (by first | assumption | omega) (by first | assumption | omega) (by first | assumption | omega)) q1955 q1956 q103 q1957 (by decide +kernel) ⟨Nat.le_of_ble_eq_true rfl, Nat.le_of_ble_eq_true rfl⟩ rfl rfl (Nat.le_of_ble_eq_true rfl) rfl ⟨rfl, rfl⟩ (Nat.le_of_ble_eq_true rfl) (Nat.le_of_ble_eq_true rfl) rfl ?_
    refine z_ifB_ne (q := 28) (t := 34) hX dX4_line_25 (by decide) rfl (fun h25 => ?_) (fun h25 => ?_)
    · have q2 := and_t.mp h25
      have e1 : opLine (G 0) l i = (0, if i = -1 then G 0 (2 + l) else cT (tx (G 0) l) i) := if_pos ⟨q1, q2⟩
      rw [e1] at hX
      refine z_iload_n (i := 2) (q := 35) hX dX4_line_34 rfl rfl rfl ?_
      refine z_iconst (q := 36) hX dX4_line_35 rfl ?_
      refine z_icmp_ne (q := 39) (t := 47) hX dX4_line_36 (by decide) (by omega) (by omega) rfl (fun h36 => ?_) (fun h36 => ?_)
      · refine z_aload_n (i := 0) (q := 48) hX dX4_line_47 rfl rfl rfl ?_
        refine z_iload_n (i := 1) (q := 49) hX dX4_line_48 rfl rfl rfl ?_
        refine z_iload_n (i := 2) (q := 50) hX dX4_line_49 rfl rfl rfl ?_
        refine zt_V1 (q := 53) (na := 2) hX dX4_line_50 (c_X4_charAt D A (by first | assumption | omega) (by first | assumption | omega)) q1978 q1980 qs42 q103 q1981 rfl (by decide +kernel) ⟨Nat.le_of_ble_eq_true rfl, Nat.le_of_ble_eq_true rfl⟩ rfl rfl (Nat.le_of_ble_eq_true rfl) rfl ⟨rfl, rfl⟩ (Nat.le_of_ble_eq_true rfl) (Nat.le_of_ble_eq_true rfl) rfl ?_
        exact z_iret hX dX4_line_53 (Nat.le_of_ble_eq_true rfl) (Nat.le_of_ble_eq_true rfl) rfl (fun H hI => ⟨congrArg (fun z => some (zI z)) ((by simp only; rw [if_neg h36])), hI⟩)
      · refine z_aload_n (i := 0) (q := 40) hX dX4_line_39 rfl rfl rfl ?_
        refine z_iload_n (i := 1) (q := 41) hX dX4_line_40 rfl rfl rfl ?_
        refine zt_V1 (q := 44) (na := 1) hX dX4_line_41 (c_X4_lengthOf D A (by first | assumption | omega)) q1974 q1976 qs41 q103 q1977 rfl (by decide +kernel) ⟨Nat.le_of_ble_eq_true rfl, Nat.le_of_ble_eq_true rfl⟩ rfl rfl (Nat.le_of_ble_eq_true rfl) rfl ⟨rfl, rfl⟩ (Nat.le_of_ble_eq_true rfl) (Nat.le_of_ble_eq_true rfl) rfl ?_
        refine z_goto (t := 53) hX dX4_line_44 (by decide) ?_
        exact z_iret hX dX4_line_53 (Nat.le_of_ble_eq_true rfl) (Nat.le_of_ble_eq_true rfl) rfl (fun H hI => ⟨congrArg (fun z => some (zI z)) ((by simp only; rw [if_pos (by omega)])), hI⟩)
    · exact J28 (fun q => and_f.mp h25 q.2)
abbrev rmX4_place : Room := { frames := 4, cells := 0, slots := 0, locals := 95 }
set_option maxHeartbeats 4000000 in
theorem c_X4_place (D : zD) (A : Nat → Prop) {b : Nat} {F : zTF} {G : zTG} {l w : Int} (h : zWg G) (hl : zR l) (hi : zR w) : zC D yX4_place cX4_place 6 (some .int) none rmX4_place A [.ref b, zI (l), zI (w)] (twI D A b F G) (zPd (zI ((opPlace (G 0) l w).2)) (twI D A b (upF F 6 (opPlace (G 0) l w).1) (G))) zNo := by
  refine zC_start (L := [some (.ref b), some (zI (l)), some (zI (w)), none, none, none]) (by decide) (Nat.le_of_ble_eq_true rfl) rfl (fun X hX => ?_)
  have hw := h.1
  have hm := hw.1
  have J27 : ∀ z : Int, 1 ≤ z ∧ z ≤ 2 → opPlace (G 0) l w = (z, 0) → zG X 0 0 (twI D A b F G) 27 [some (.ref b), some (zI (l)), some (zI (w)), none, none, none] [zI (z), .ref b] := by
    intro z hz e
    rw [e] at hX
    refine zt_put (ty := .int) (q := 30) hX 6 dX4_place_27 q1870 (by decide) rfl rfl rfl (by decide) rfl rfl rfl ?_
    refine z_aload_n (i := 0) (q := 31) hX dX4_place_30 rfl rfl rfl ?_
    refine zt_getI (q := 34) hX 6 dX4_place_31 q1870 (by decide) rfl rfl rfl ?_
    rw [upF_same]
    refine z_if_le (q := 37) (t := 39) hX dX4_place_34 (by decide) (by omega) rfl (fun h34 => ?_) (fun h34 => ?_)
    · exact absurd h34 (by omega)
    · refine z_iconst (q := 38) hX dX4_place_37 rfl ?_
      exact z_iret hX dX4_place_38 (Nat.le_of_ble_eq_true rfl) (Nat.le_of_ble_eq_true rfl) rfl (fun H hI => ⟨congrArg (fun z => some (zI z)) (rfl), hI⟩)
  refine z_aload_n (i := 0) (q := 1) hX dX4_place_0 rfl rfl rfl ?_
  refine z_aload_n (i := 0) (q := 2) hX dX4_place_1 rfl rfl rfl ?_
  refine z_iload_n (i := 1) (q := 3) hX dX4_place_2 rfl rfl rfl ?_
  refine zt_V1 (q := 6) (na := 1) hX dX4_place_3 (c_X4_isLine D A (by first | assumption | omega) (by first | assumption | omega)) q2061 q2063 qs61 q103 q2064 rfl (by decide +kernel) ⟨Nat.le_of_ble_eq_true rfl, Nat.le_of_ble_eq_true rfl⟩ rfl rfl (Nat.le_of_ble_eq_true rfl) rfl ⟨rfl, rfl⟩ (Nat.le_of_ble_eq_true rfl) (Nat.le_of_ble_eq_true rfl) rfl ?_
  refine z_ifB_ne (q := 9) (t := 13) hX dX4_place_6 (by decide) rfl (fun h6 => ?_) (fun h6 => ?_)
  · refine z_iload_n (i := 2) (q := 14) hX dX4_place_13 rfl rfl rfl ?_
    refine z_iconst (q := 15) hX dX4_place_14 rfl ?_
    refine z_iconst (q := 16) hX dX4_place_15 rfl ?_
    refine zt_S1 (q := 19) (na := 3) hX dX4_place_16 (c_X4_in D A (by first | assumption | omega) (by first | assumption | omega) (by first | assumption | omega)) q1955 q1956 q103 q1957 (by decide +kernel) ⟨Nat.le_of_ble_eq_true rfl, Nat.le_of_ble_eq_true rfl⟩ rfl rfl (Nat.le_of_ble_eq_true rfl) rfl ⟨rfl, rfl⟩ (Nat.le_of_ble_eq_true rfl) (Nat.le_of_ble_eq_true rfl) rfl ?_
    refine z_ifB_ne (q := 22) (t := 26) hX dX4_place_19 (by decide) rfl (fun h19 => ?_) (fun h19 => ?_)
    · have q1 := and_t.mp h6
      have q2 := and_t.mp h19
      have hln := hw.ln q1.1 (by omega)
      have hf := hln.1.f
      have ho := hw.of q1.1 (by omega)
      have his := h.is q1.1 (by omega)
      have hnn := h.n q1.1 (by omega) rfl
      have e4 : G 4 l = nTl (G 0) l := hln.2.1
      have e1 : opPlace (G 0) l w = (0, if w = 0 then G 0 (43 + l) else if w = 1 then ((rF (ofP (G 0) (G 0 (43 + l))) l.toNat).length : Int) else if w = 2 then nTl (G 0) l else fitI (G 0) (G 0 (43 + l)) l) := by unfold opPlace; rw [if_neg (fun q => q q1), if_neg (fun q => q q2)]
      rw [e1] at hX
      have K : ∀ n : Nat, n ≤ l.toNat → ∀ c p : Int, c = (rF (ofP (G 0) (G 0 (43 + l))) n).length → p = n → zG X 0 0 (twI D A b (upF F 6 0) G) 55 [some (.ref b), some (zI (l)), some (zI (w)), some (zI (G 0 (43 + l))), some (zI (c)), some (zI (p))] [] := by
        refine z_up (fun n hn ih c p e2 e3 => ?_)
        subst e3
        have hl2 := rF_le (p := ofP (G 0) (G 0 (43 + l))) (n := n)
        have hs : ∀ v : Bool, ofP (G 0) (G 0 (43 + l)) n = v → ((rF (ofP (G 0) (G 0 (43 + l))) (n + 1)).length : Int) = c + bi v := fun v hv => by
          rw [rF, hv, e2]; cases v <;> simp [bi]
        refine z_iload (q := 57) hX dX4_place_55 rfl rfl ?_
        refine z_iload_n (i := 1) (q := 58) hX dX4_place_57 rfl rfl rfl ?_
        refine z_icmp_ge (q := 61) (t := 91) hX dX4_place_58 (by decide) (by omega) (by omega) rfl (fun h58 => ?_) (fun h58 => ?_)
        · refine z_iload_n (i := 2) (q := 92) hX dX4_place_91 rfl rfl rfl ?_
          refine z_if_ne (q := 95) (t := 99) hX dX4_place_92 (by decide) (by omega) rfl (fun h92 => ?_) (fun h92 => ?_)
          · refine z_iload_n (i := 2) (q := 100) hX dX4_place_99 rfl rfl rfl ?_
            refine z_iconst (q := 101) hX dX4_place_100 rfl ?_
            refine z_icmp_ne (q := 104) (t := 109) hX dX4_place_101 (by decide) (by omega) (by omega) rfl (fun h101 => ?_) (fun h101 => ?_)
            · refine z_iload_n (i := 2) (q := 110) hX dX4_place_109 rfl rfl rfl ?_
              refine z_iconst (q := 111) hX dX4_place_110 rfl ?_
              refine z_icmp_ne (q := 114) (t := 123) hX dX4_place_111 (by decide) (by omega) (by omega) rfl (fun h111 => ?_) (fun h111 => ?_)
              · refine z_aload_n (i := 0) (q := 124) hX dX4_place_123 rfl rfl rfl ?_
                refine z_iload_n (i := 3) (q := 125) hX dX4_place_124 rfl rfl rfl ?_
                refine z_iload_n (i := 1) (q := 126) hX dX4_place_125 rfl rfl rfl ?_
                refine zt_V1 (q := 129) (na := 2) hX dX4_place_126 (c_X4_fit D A (by first | assumption | omega) (by first | assumption | omega) (by first | assumption | omega) (by first | assumption | omega)) q2033 q2035 qs55 q103 q2036 rfl (by decide +kernel) ⟨Nat.le_of_ble_eq_true rfl, Nat.le_of_ble_eq_true rfl⟩ rfl rfl (Nat.le_of_ble_eq_true rfl) rfl ⟨rfl, rfl⟩ (Nat.le_of_ble_eq_true rfl) (Nat.le_of_ble_eq_true rfl) rfl ?_
                exact z_iret hX dX4_place_129 (Nat.le_of_ble_eq_true rfl) (Nat.le_of_ble_eq_true rfl) rfl (fun H hI => ⟨congrArg (fun z => some (zI z)) ((by simp only; rw [if_neg h92, if_neg h101, if_neg h111])), hI⟩)
              · refine z_aload_n (i := 0) (q := 115) hX dX4_place_114 rfl rfl rfl ?_
                refine zt_getA (q := 118) hX 7 4 dX4_place_115 q1871 (by decide) rfl rfl rfl ?_
                refine z_iload_n (i := 1) (q := 119) hX dX4_place_118 rfl rfl rfl ?_
                refine zt_ald (q := 120) (N := 41) hX 4 dX4_place_119 rfl (by decide) (by decide) (by omega) rfl ?_
                refine z_goto (t := 129) hX dX4_place_120 (by decide) ?_
                exact z_iret hX dX4_place_129 (Nat.le_of_ble_eq_true rfl) (Nat.le_of_ble_eq_true rfl) rfl (fun H hI => ⟨congrArg (fun z => some (zI z)) ((by simp only; rw [if_neg h92, if_neg h101, if_pos (by omega)]; exact e4)), hI⟩)
            · refine z_iload (q := 106) hX dX4_place_104 rfl rfl ?_
              refine z_goto (t := 129) hX dX4_place_106 (by decide) ?_
              exact z_iret hX dX4_place_129 (Nat.le_of_ble_eq_true rfl) (Nat.le_of_ble_eq_true rfl) rfl (fun H hI => ⟨congrArg (fun z => some (zI z)) ((by simp only; rw [if_neg h92, if_pos (by omega), e2, show n = l.toNat by omega])), hI⟩)
          · refine z_iload_n (i := 3) (q := 96) hX dX4_place_95 rfl rfl rfl ?_
            refine z_goto (t := 129) hX dX4_place_96 (by decide) ?_
            exact z_iret hX dX4_place_129 (Nat.le_of_ble_eq_true rfl) (Nat.le_of_ble_eq_true rfl) rfl (fun H hI => ⟨congrArg (fun z => some (zI z)) ((by simp only; rw [if_pos (by omega)])), hI⟩)
        · have ho2 := hw.of (l := n) (by omega) (by omega)
          refine z_iload (q := 63) hX dX4_place_61 rfl rfl ?_
          refine z_aload_n (i := 0) (q := 64) hX dX4_place_63 rfl rfl rfl ?_
          refine zt_getA (q := 67) hX 0 0 dX4_place_64 q1864 (by decide) rfl rfl rfl ?_
          refine z_bipush (q := 69) hX dX4_place_67 (by decide) rfl ?_
          refine z_iload (q := 71) hX dX4_place_69 rfl rfl ?_
          refine z_iadd (q := 72) hX dX4_place_71 rfl ?_
          refine zt_ald (q := 73) (N := 1964) hX 0 dX4_place_72 rfl (by decide) (by decide) (by omega) rfl ?_
          refine z_iload_n (i := 3) (q := 74) hX dX4_place_73 rfl rfl rfl ?_
          refine z_icmp_ne (q := 77) (t := 81) hX dX4_place_74 (by decide) (by omega) (by omega) rfl (fun h74 => ?_) (fun h74 => ?_)
          · refine z_iconst (q := 82) hX dX4_place_81 rfl ?_
            refine z_iadd (q := 83) hX dX4_place_82 rfl ?_
            refine z_istore (q := 85) hX dX4_place_83 (Nat.le_of_ble_eq_true rfl) rfl rfl ?_
            refine z_iinc (q := 88) hX dX4_place_85 rfl (Nat.le_of_ble_eq_true rfl) rfl rfl ?_
            refine z_goto (t := 55) hX dX4_place_88 (by decide) ?_
            exact ih (by omega) _ _ (by rw [hs false (decide_eq_false h74)]; rfl) (by omega)
          · refine z_iconst (q := 78) hX dX4_place_77 rfl ?_
            refine z_goto (t := 82) hX dX4_place_78 (by decide) ?_
            refine z_iadd (q := 83) hX dX4_place_82 rfl ?_
            refine z_istore (q := 85) hX dX4_place_83 (Nat.le_of_ble_eq_true rfl) rfl rfl ?_
            refine z_iinc (q := 88) hX dX4_place_85 rfl (Nat.le_of_ble_eq_true rfl) rfl rfl ?_
            refine z_goto (t := 55) hX dX4_place_88 (by decide) ?_
            exact ih (by omega) _ _ (by rw [hs true (decide_eq_true (by omega))]; rfl) (by omega)
      refine z_iconst (q := 27) hX dX4_place_26 rfl ?_
      refine zt_put (ty := .int) (q := 30) hX 6 dX4_place_27 q1870 (by decide) rfl rfl rfl (by decide) rfl rfl rfl ?_
      refine z_aload_n (i := 0) (q := 31) hX dX4_place_30 rfl rfl rfl ?_
      refine zt_getI (q := 34) hX 6 dX4_place_31 q1870 (by decide) rfl rfl rfl ?_
      rw [upF_same]
      refine z_if_le (q := 37) (t := 39) hX dX4_place_34 (by decide) (by omega) rfl (fun h34 => ?_) (fun h34 => ?_)
      · refine z_aload_n (i := 0) (q := 40) hX dX4_place_39 rfl rfl rfl ?_
        refine zt_getA (q := 43) hX 0 0 dX4_place_40 q1864 (by decide) rfl rfl rfl ?_
        refine z_bipush (q := 45) hX dX4_place_43 (by decide) rfl ?_
        refine z_iload_n (i := 1) (q := 46) hX dX4_place_45 rfl rfl rfl ?_
        refine z_iadd (q := 47) hX dX4_place_46 rfl ?_
        refine zt_ald (q := 48) (N := 1964) hX 0 dX4_place_47 rfl (by decide) (by decide) (by omega) rfl ?_
        refine z_istore_n (i := 3) (q := 49) hX dX4_place_48 rfl (Nat.le_of_ble_eq_true rfl) rfl rfl ?_
        refine z_iconst (q := 50) hX dX4_place_49 rfl ?_
        refine z_istore (q := 52) hX dX4_place_50 (Nat.le_of_ble_eq_true rfl) rfl rfl ?_
        refine z_iconst (q := 53) hX dX4_place_52 rfl ?_
        refine z_istore (q := 55) hX dX4_place_53 (Nat.le_of_ble_eq_true rfl) rfl rfl ?_
        exact K 0 (Nat.zero_le _) _ _ rfl rfl
      · exact absurd h34 (by decide)
    · refine z_iconst (q := 23) hX dX4_place_22 rfl ?_
      refine z_goto (t := 27) hX dX4_place_23 (by decide) ?_
      exact J27 2 (by omega) (by unfold opPlace; rw [if_neg (fun q => q (and_t.mp h6)), if_pos (and_f.mp h19)])
  · refine z_iconst (q := 10) hX dX4_place_9 rfl ?_
    refine z_goto (t := 27) hX dX4_place_10 (by decide) ?_
    exact J27 1 (by omega) (by unfold opPlace; rw [if_pos (and_f.mp h6)])
abbrev rmX4_cut : Room := { frames := 2, cells := 0, slots := 0, locals := 43 }
set_option maxHeartbeats 4000000 in
theorem c_X4_cut (D : zD) (A : Nat → Prop) {b : Nat} {F : zTF} {G : zTG} {l : Int} (hw : zWf G) (hl : zR l) (hF : 0 ≤ F 5 ∧ F 5 ≤ 10) : zC D yX4_cut cX4_cut 3 (some .int) none rmX4_cut A [.ref b, zI (l)] (twI D A b F G) (zPd (zI ((if 0 ≤ l ∧ l ≤ G 0 0 - 1 then G 0 0 - l else 0))) (twI D A b (if 0 ≤ l ∧ l ≤ G 0 0 - 1 then upF (upF F 6 0) 5 (keepC F + 1) else upF F 6 1) (if 0 ≤ l ∧ l ≤ G 0 0 - 1 then upG (keepG F G) 0 0 l else G))) zNo := by
  refine zC_start (L := [some (.ref b), some (zI (l)), none]) (by decide) (Nat.le_of_ble_eq_true rfl) rfl (fun X hX => ?_)
  have hm := hw.1
  have e5 : upF F 6 0 5 = F 5 := upF_ne _ _ (by decide)
  have ek : keepC (upF F 6 0) = keepC F := by unfold keepC; rw [e5]
  have eg : keepG (upF F 6 0) G = keepG F G := by unfold keepG; rw [ek, e5]
  have e0 : keepG F G 0 = G 0 := keepG_j F G (by decide)
  refine z_aload_n (i := 0) (q := 1) hX dX4_cut_0 rfl rfl rfl ?_
  refine z_iconst (q := 2) hX dX4_cut_1 rfl ?_
  refine zt_put (ty := .int) (q := 5) hX 6 dX4_cut_2 q1870 (by decide) rfl rfl rfl (by decide) rfl rfl rfl ?_
  refine z_aload_n (i := 0) (q := 6) hX dX4_cut_5 rfl rfl rfl ?_
  refine z_iload_n (i := 1) (q := 7) hX dX4_cut_6 rfl rfl rfl ?_
  refine zt_V1 (q := 10) (na := 1) hX dX4_cut_7 (c_X4_isLine D A (by first | assumption | omega) (by first | assumption | omega)) q2061 q2063 qs61 q103 q2064 rfl (by decide +kernel) ⟨Nat.le_of_ble_eq_true rfl, Nat.le_of_ble_eq_true rfl⟩ rfl rfl (Nat.le_of_ble_eq_true rfl) rfl ⟨rfl, rfl⟩ (Nat.le_of_ble_eq_true rfl) (Nat.le_of_ble_eq_true rfl) rfl ?_
  refine z_ifB_ne (q := 13) (t := 19) hX dX4_cut_10 (by decide) rfl (fun h10 => ?_) (fun h10 => ?_)
  · have q1 := and_t.mp h10
    rw [if_pos q1, if_pos q1, if_pos q1] at hX
    refine z_aload_n (i := 0) (q := 20) hX dX4_cut_19 rfl rfl rfl ?_
    refine zt_V0 (q := 23) (na := 0) hX dX4_cut_20 (c_X4_keep D A (by rw [e5]; exact hF)) q2045 q2047 qs58 q103 q2048 rfl (by decide +kernel) ⟨Nat.le_of_ble_eq_true rfl, Nat.le_of_ble_eq_true rfl⟩ rfl rfl (Nat.le_of_ble_eq_true rfl) rfl ⟨rfl, rfl⟩ (Nat.le_of_ble_eq_true rfl) (Nat.le_of_ble_eq_true rfl) rfl ?_
    rw [ek, eg]
    refine z_aload_n (i := 0) (q := 24) hX dX4_cut_23 rfl rfl rfl ?_
    refine zt_getA (q := 27) hX 0 0 dX4_cut_24 q1864 (by decide) rfl rfl rfl ?_
    refine z_iconst (q := 28) hX dX4_cut_27 rfl ?_
    refine zt_ald (q := 29) (N := 1964) hX 0 dX4_cut_28 rfl (by decide) (by decide) (by omega) rfl ?_
    rw [e0]
    refine z_iload_n (i := 1) (q := 30) hX dX4_cut_29 rfl rfl rfl ?_
    refine z_isub (q := 31) hX dX4_cut_30 rfl ?_
    refine z_istore_n (i := 2) (q := 32) hX dX4_cut_31 rfl (Nat.le_of_ble_eq_true rfl) rfl rfl ?_
    refine z_aload_n (i := 0) (q := 33) hX dX4_cut_32 rfl rfl rfl ?_
    refine zt_getA (q := 36) hX 0 0 dX4_cut_33 q1864 (by decide) rfl rfl rfl ?_
    refine z_iconst (q := 37) hX dX4_cut_36 rfl ?_
    refine z_iload_n (i := 1) (q := 38) hX dX4_cut_37 rfl rfl rfl ?_
    refine zt_ast (q := 39) (N := 1964) hX 0 dX4_cut_38 rfl (by decide) (by decide) (by omega) rfl ?_
    refine z_iload_n (i := 2) (q := 40) hX dX4_cut_39 rfl rfl rfl ?_
    exact z_iret hX dX4_cut_40 (Nat.le_of_ble_eq_true rfl) (Nat.le_of_ble_eq_true rfl) rfl (fun H hI => ⟨congrArg (fun z => some (zI z)) (rfl), hI⟩)
  · have q1 := and_f.mp h10
    rw [if_neg q1, if_neg q1, if_neg q1] at hX
    refine z_aload_n (i := 0) (q := 14) hX dX4_cut_13 rfl rfl rfl ?_
    refine z_iconst (q := 15) hX dX4_cut_14 rfl ?_
    refine zt_V1 (q := 18) (na := 1) hX dX4_cut_15 (c_X4_refuse D A) q1962 q1964 qs39 q103 q1965 rfl (by decide +kernel) ⟨Nat.le_of_ble_eq_true rfl, Nat.le_of_ble_eq_true rfl⟩ rfl rfl (Nat.le_of_ble_eq_true rfl) rfl ⟨rfl, rfl⟩ (Nat.le_of_ble_eq_true rfl) (Nat.le_of_ble_eq_true rfl) rfl ?_
    rw [upF_upF]
    exact z_iret hX dX4_cut_18 (Nat.le_of_ble_eq_true rfl) (Nat.le_of_ble_eq_true rfl) rfl (fun H hI => ⟨congrArg (fun z => some (zI z)) (rfl), hI⟩)
abbrev rmX4_setThreshold : Room := { frames := 1, cells := 0, slots := 0, locals := 22 }
set_option maxHeartbeats 4000000 in
theorem c_X4_setThreshold (D : zD) (A : Nat → Prop) {b : Nat} {F : zTF} {G : zTG} {v : Int} (hw : zWf G) (hl : zR v) (hF : 0 ≤ F 5 ∧ F 5 ≤ 10) : zC D yX4_setThreshold cX4_setThreshold 3 (some .int) none rmX4_setThreshold A [.ref b, zI (v)] (twI D A b F G) (zPd (zI ((if 0 ≤ v ∧ v ≤ 100 then G 0 1 else 0))) (twI D A b (if 0 ≤ v ∧ v ≤ 100 then upF (upF F 6 0) 5 (keepC F + 1) else upF F 6 1) (if 0 ≤ v ∧ v ≤ 100 then upG (keepG F G) 0 1 v else G))) zNo := by
  refine zC_start (L := [some (.ref b), some (zI (v)), none]) (by decide) (Nat.le_of_ble_eq_true rfl) rfl (fun X hX => ?_)
  have hm := hw.1
  have e5 : upF F 6 0 5 = F 5 := upF_ne _ _ (by decide)
  have ek : keepC (upF F 6 0) = keepC F := by unfold keepC; rw [e5]
  have eg : keepG (upF F 6 0) G = keepG F G := by unfold keepG; rw [ek, e5]
  have e0 : keepG F G 0 = G 0 := keepG_j F G (by decide)
  refine z_aload_n (i := 0) (q := 1) hX dX4_setThreshold_0 rfl rfl rfl ?_
  refine z_iconst (q := 2) hX dX4_setThreshold_1 rfl ?_
  refine zt_put (ty := .int) (q := 5) hX 6 dX4_setThreshold_2 q1870 (by decide) rfl rfl rfl (by decide) rfl rfl rfl ?_
  refine z_iload_n (i := 1) (q := 6) hX dX4_setThreshold_5 rfl rfl rfl ?_
  refine z_iconst (q := 7) hX dX4_setThreshold_6 rfl ?_
  refine z_bipush (q := 9) hX dX4_setThreshold_7 (by decide) rfl ?_
  refine zt_S1 (q := 12) (na := 3) hX dX4_setThreshold_9 (c_X4_in D A (by first | assumption | omega) (by first | assumption | omega) (by first | assumption | omega)) q1955 q1956 q103 q1957 (by decide +kernel) ⟨Nat.le_of_ble_eq_true rfl, Nat.le_of_ble_eq_true rfl⟩ rfl rfl (Nat.le_of_ble_eq_true rfl) rfl ⟨rfl, rfl⟩ (Nat.le_of_ble_eq_true rfl) (Nat.le_of_ble_eq_true rfl) rfl ?_
  refine z_ifB_ne (q := 15) (t := 21) hX dX4_setThreshold_12 (by decide) rfl (fun h12 => ?_) (fun h12 => ?_)
  · have q1 := and_t.mp h12
    rw [if_pos q1, if_pos q1, if_pos q1] at hX
    refine z_aload_n (i := 0) (q := 22) hX dX4_setThreshold_21 rfl rfl rfl ?_
    refine zt_V0 (q := 25) (na := 0) hX dX4_setThreshold_22 (c_X4_keep D A (by rw [e5]; exact hF)) q2045 q2047 qs58 q103 q2048 rfl (by decide +kernel) ⟨Nat.le_of_ble_eq_true rfl, Nat.le_of_ble_eq_true rfl⟩ rfl rfl (Nat.le_of_ble_eq_true rfl) rfl ⟨rfl, rfl⟩ (Nat.le_of_ble_eq_true rfl) (Nat.le_of_ble_eq_true rfl) rfl ?_
    rw [ek, eg]
    refine z_aload_n (i := 0) (q := 26) hX dX4_setThreshold_25 rfl rfl rfl ?_
    refine zt_getA (q := 29) hX 0 0 dX4_setThreshold_26 q1864 (by decide) rfl rfl rfl ?_
    refine z_iconst (q := 30) hX dX4_setThreshold_29 rfl ?_
    refine zt_ald (q := 31) (N := 1964) hX 0 dX4_setThreshold_30 rfl (by decide) (by decide) (by omega) rfl ?_
    rw [e0]
    refine z_istore_n (i := 2) (q := 32) hX dX4_setThreshold_31 rfl (Nat.le_of_ble_eq_true rfl) rfl rfl ?_
    refine z_aload_n (i := 0) (q := 33) hX dX4_setThreshold_32 rfl rfl rfl ?_
    refine zt_getA (q := 36) hX 0 0 dX4_setThreshold_33 q1864 (by decide) rfl rfl rfl ?_
    refine z_iconst (q := 37) hX dX4_setThreshold_36 rfl ?_
    refine z_iload_n (i := 1) (q := 38) hX dX4_setThreshold_37 rfl rfl rfl ?_
    refine zt_ast (q := 39) (N := 1964) hX 0 dX4_setThreshold_38 rfl (by decide) (by decide) (by omega) rfl ?_
    refine z_iload_n (i := 2) (q := 40) hX dX4_setThreshold_39 rfl rfl rfl ?_
    exact z_iret hX dX4_setThreshold_40 (Nat.le_of_ble_eq_true rfl) (Nat.le_of_ble_eq_true rfl) rfl (fun H hI => ⟨congrArg (fun z => some (zI z)) (rfl), hI⟩)
  · have q1 := and_f.mp h12
    rw [if_neg q1, if_neg q1, if_neg q1] at hX
    refine z_aload_n (i := 0) (q := 16) hX dX4_setThreshold_15 rfl rfl rfl ?_
    refine z_iconst (q := 17) hX dX4_setThreshold_16 rfl ?_
    refine zt_V1 (q := 20) (na := 1) hX dX4_setThreshold_17 (c_X4_refuse D A) q1962 q1964 qs39 q103 q1965 rfl (by decide +kernel) ⟨Nat.le_of_ble_eq_true rfl, Nat.le_of_ble_eq_true rfl⟩ rfl rfl (Nat.le_of_ble_eq_true rfl) rfl ⟨rfl, rfl⟩ (Nat.le_of_ble_eq_true rfl) (Nat.le_of_ble_eq_true rfl) rfl ?_
    rw [upF_upF]
    exact z_iret hX dX4_setThreshold_20 (Nat.le_of_ble_eq_true rfl) (Nat.le_of_ble_eq_true rfl) rfl (fun H hI => ⟨congrArg (fun z => some (zI z)) (rfl), hI⟩)
abbrev rmX4_templates : Room := { frames := 2, cells := 0, slots := 0, locals := 45 }
set_option maxHeartbeats 4000000 in
theorem c_X4_templates (D : zD) (A : Nat → Prop) {b : Nat} {F : zTF} {G : zTG} (hw : zWf G) : zC D yX4_templates cX4_templates 3 (some .int) none rmX4_templates A [.ref b] (twI D A b F G) (zPd (zI (setM (G 0) 12)) (twI D A b (upF F 6 0) (G))) zNo := by
  refine zC_start (L := [some (.ref b), none, none]) (by decide) (Nat.le_of_ble_eq_true rfl) rfl (fun X hX => ?_)
  have K : ∀ n : Nat, n ≤ 12 → ∀ c p : Int, c = setM (G 0) n → p = n → zG X 0 0 (twI D A b (upF F 6 0) G) 9 [some (.ref b), some (zI (c)), some (zI (p))] [] := by
    refine z_up (fun n hn ih c p e1 e2 => ?_)
    subst e2
    have hr := setM_rng (G 0) n
    have hs : setM (G 0) (n + 1) = setM (G 0) n + (if isT (G 0) n then 2 ^ n else 0) := rfl
    refine z_iload_n (i := 2) (q := 10) hX dX4_templates_9 rfl rfl rfl ?_
    refine z_bipush (q := 12) hX dX4_templates_10 (by decide) rfl ?_
    refine z_icmp_ge (q := 15) (t := 39) hX dX4_templates_12 (by decide) (by omega) (by omega) rfl (fun h12 => ?_) (fun h12 => ?_)
    · refine z_iload_n (i := 1) (q := 40) hX dX4_templates_39 rfl rfl rfl ?_
      exact z_iret hX dX4_templates_40 (Nat.le_of_ble_eq_true rfl) (Nat.le_of_ble_eq_true rfl) rfl (fun H hI => ⟨congrArg (fun z => some (zI z)) ((by rw [e1, show n = 12 by omega])), hI⟩)
    · refine z_iload_n (i := 1) (q := 16) hX dX4_templates_15 rfl rfl rfl ?_
      refine z_aload_n (i := 0) (q := 17) hX dX4_templates_16 rfl rfl rfl ?_
      refine z_iload_n (i := 2) (q := 18) hX dX4_templates_17 rfl rfl rfl ?_
      refine zt_V1 (q := 21) (na := 1) hX dX4_templates_18 (c_X4_isTemplate D A (by first | assumption | omega) (by first | assumption | omega)) q1986 q1988 qs44 q103 q1989 rfl (by decide +kernel) ⟨Nat.le_of_ble_eq_true rfl, Nat.le_of_ble_eq_true rfl⟩ rfl rfl (Nat.le_of_ble_eq_true rfl) rfl ⟨rfl, rfl⟩ (Nat.le_of_ble_eq_true rfl) (Nat.le_of_ble_eq_true rfl) rfl ?_
      refine z_ifB_eq (q := 24) (t := 30) hX dX4_templates_21 (by decide) rfl (fun h21 => ?_) (fun h21 => ?_)
      · refine z_iconst (q := 31) hX dX4_templates_30 rfl ?_
        refine z_ior (q := 32) hX dX4_templates_31 (ior_0 c) rfl ?_
        refine z_istore_n (i := 1) (q := 33) hX dX4_templates_32 rfl (Nat.le_of_ble_eq_true rfl) rfl rfl ?_
        refine z_iinc (q := 36) hX dX4_templates_33 rfl (Nat.le_of_ble_eq_true rfl) rfl rfl ?_
        refine z_goto (t := 9) hX dX4_templates_36 (by decide) ?_
        exact ih (by omega) _ _ (by rw [hs, e1, if_neg (by rw [h21]; decide), Int.add_zero]) (by omega)
      · refine z_iconst (q := 25) hX dX4_templates_24 rfl ?_
        refine z_iload_n (i := 2) (q := 26) hX dX4_templates_25 rfl rfl rfl ?_
        refine z_ishl (q := 27) hX dX4_templates_26 (shl_1 n (by omega)) rfl ?_
        refine z_goto (t := 31) hX dX4_templates_27 (by decide) ?_
        refine z_ior (q := 32) hX dX4_templates_31 (by
        have h2 : ((2 ^ n : Nat) : Int) = (2 : Int) ^ n := by simp
        have h9 := ior_1 n (by omega) c.toNat (by omega)
        rw [show ((c.toNat : Nat) : Int) = c by omega] at h9
        exact h9) rfl ?_
        refine z_istore_n (i := 1) (q := 33) hX dX4_templates_32 rfl (Nat.le_of_ble_eq_true rfl) rfl rfl ?_
        refine z_iinc (q := 36) hX dX4_templates_33 rfl (Nat.le_of_ble_eq_true rfl) rfl rfl ?_
        refine z_goto (t := 9) hX dX4_templates_36 (by decide) ?_
        exact ih (by omega) _ _ (by rw [hs, e1, if_pos h21]) (by omega)
  refine z_aload_n (i := 0) (q := 1) hX dX4_templates_0 rfl rfl rfl ?_
  refine z_iconst (q := 2) hX dX4_templates_1 rfl ?_
  refine zt_put (ty := .int) (q := 5) hX 6 dX4_templates_2 q1870 (by decide) rfl rfl rfl (by decide) rfl rfl rfl ?_
  refine z_iconst (q := 6) hX dX4_templates_5 rfl ?_
  refine z_istore_n (i := 1) (q := 7) hX dX4_templates_6 rfl (Nat.le_of_ble_eq_true rfl) rfl rfl ?_
  refine z_iconst (q := 8) hX dX4_templates_7 rfl ?_
  refine z_istore_n (i := 2) (q := 9) hX dX4_templates_8 rfl (Nat.le_of_ble_eq_true rfl) rfl rfl ?_
  exact K 0 (Nat.zero_le _) _ _ rfl rfl
abbrev rmX4_template : Room := { frames := 4, cells := 0, slots := 0, locals := 93 }
set_option maxHeartbeats 4000000 in
theorem c_X4_template (D : zD) (A : Nat → Prop) {b : Nat} {F : zTF} {G : zTG} {t w : Int} (hw : zWf G) (hl : zR t) (hi : zR w) : zC D yX4_template cX4_template 3 (some .int) none rmX4_template A [.ref b, zI (t), zI (w)] (twI D A b F G) (zPd (zI ((opTempl (G 0) t w).2)) (twI D A b (upF F 6 (opTempl (G 0) t w).1) (G))) zNo := by
  refine zC_start (L := [some (.ref b), some (zI (t)), some (zI (w))]) (by decide) (Nat.le_of_ble_eq_true rfl) rfl (fun X hX => ?_)
  have hm := hw.1
  have J27 : ∀ z : Int, 1 ≤ z ∧ z ≤ 2 → opTempl (G 0) t w = (z, 0) → zG X 0 0 (twI D A b F G) 27 [some (.ref b), some (zI (t)), some (zI (w))] [zI (z), .ref b] := by
    intro z hz e
    rw [e] at hX
    refine zt_put (ty := .int) (q := 30) hX 6 dX4_template_27 q1870 (by decide) rfl rfl rfl (by decide) rfl rfl rfl ?_
    refine z_aload_n (i := 0) (q := 31) hX dX4_template_30 rfl rfl rfl ?_
    refine zt_getI (q := 34) hX 6 dX4_template_31 q1870 (by decide) rfl rfl rfl ?_
    rw [upF_same]
    refine z_if_le (q := 37) (t := 39) hX dX4_template_34 (by decide) (by omega) rfl (fun h34 => ?_) (fun h34 => ?_)
    · exact absurd h34 (by omega)
    · refine z_iconst (q := 38) hX dX4_template_37 rfl ?_
      exact z_iret hX dX4_template_38 (Nat.le_of_ble_eq_true rfl) (Nat.le_of_ble_eq_true rfl) rfl (fun H hI => ⟨congrArg (fun z => some (zI z)) (rfl), hI⟩)
  refine z_aload_n (i := 0) (q := 1) hX dX4_template_0 rfl rfl rfl ?_
  refine z_aload_n (i := 0) (q := 2) hX dX4_template_1 rfl rfl rfl ?_
  refine z_iload_n (i := 1) (q := 3) hX dX4_template_2 rfl rfl rfl ?_
  refine zt_V1 (q := 6) (na := 1) hX dX4_template_3 (c_X4_isTemplate D A (by first | assumption | omega) (by first | assumption | omega)) q1986 q1988 qs44 q103 q1989 rfl (by decide +kernel) ⟨Nat.le_of_ble_eq_true rfl, Nat.le_of_ble_eq_true rfl⟩ rfl rfl (Nat.le_of_ble_eq_true rfl) rfl ⟨rfl, rfl⟩ (Nat.le_of_ble_eq_true rfl) (Nat.le_of_ble_eq_true rfl) rfl ?_
  refine z_ifB_ne (q := 9) (t := 13) hX dX4_template_6 (by decide) rfl (fun h6 => ?_) (fun h6 => ?_)
  · refine z_iload_n (i := 2) (q := 14) hX dX4_template_13 rfl rfl rfl ?_
    refine z_iconst (q := 15) hX dX4_template_14 rfl ?_
    refine z_iconst (q := 16) hX dX4_template_15 rfl ?_
    refine zt_S1 (q := 19) (na := 3) hX dX4_template_16 (c_X4_in D A (by first | assumption | omega) (by first | assumption | omega) (by first | assumption | omega)) q1955 q1956 q103 q1957 (by decide +kernel) ⟨Nat.le_of_ble_eq_true rfl, Nat.le_of_ble_eq_true rfl⟩ rfl rfl (Nat.le_of_ble_eq_true rfl) rfl ⟨rfl, rfl⟩ (Nat.le_of_ble_eq_true rfl) (Nat.le_of_ble_eq_true rfl) rfl ?_
    refine z_ifB_ne (q := 22) (t := 26) hX dX4_template_19 (by decide) rfl (fun h19 => ?_) (fun h19 => ?_)
    · have q2 := and_t.mp h19
      have e1 : opTempl (G 0) t w = (0, if w = 0 then nTl (G 0) (fst (G 0) t) else if w = 1 then varsI (G 0) t else if w = 2 then nR (G 0) t else if w = 3 then costT (G 0) t else gapsS (tx (G 0) (fst (G 0) t))) := by unfold opTempl; rw [if_neg (by rw [h6]; decide), if_neg (fun q => q q2)]
      rw [e1] at hX
      refine z_iconst (q := 27) hX dX4_template_26 rfl ?_
      refine zt_put (ty := .int) (q := 30) hX 6 dX4_template_27 q1870 (by decide) rfl rfl rfl (by decide) rfl rfl rfl ?_
      refine z_aload_n (i := 0) (q := 31) hX dX4_template_30 rfl rfl rfl ?_
      refine zt_getI (q := 34) hX 6 dX4_template_31 q1870 (by decide) rfl rfl rfl ?_
      rw [upF_same]
      refine z_if_le (q := 37) (t := 39) hX dX4_template_34 (by decide) (by omega) rfl (fun h34 => ?_) (fun h34 => ?_)
      · refine z_iload_n (i := 2) (q := 40) hX dX4_template_39 rfl rfl rfl ?_
        refine z_if_ne (q := 43) (t := 51) hX dX4_template_40 (by decide) (by omega) rfl (fun h40 => ?_) (fun h40 => ?_)
        · refine z_iload_n (i := 2) (q := 52) hX dX4_template_51 rfl rfl rfl ?_
          refine z_iconst (q := 53) hX dX4_template_52 rfl ?_
          refine z_icmp_ne (q := 56) (t := 64) hX dX4_template_53 (by decide) (by omega) (by omega) rfl (fun h53 => ?_) (fun h53 => ?_)
          · refine z_iload_n (i := 2) (q := 65) hX dX4_template_64 rfl rfl rfl ?_
            refine z_iconst (q := 66) hX dX4_template_65 rfl ?_
            refine z_icmp_ne (q := 69) (t := 77) hX dX4_template_66 (by decide) (by omega) (by omega) rfl (fun h66 => ?_) (fun h66 => ?_)
            · refine z_iload_n (i := 2) (q := 78) hX dX4_template_77 rfl rfl rfl ?_
              refine z_iconst (q := 79) hX dX4_template_78 rfl ?_
              refine z_icmp_ne (q := 82) (t := 90) hX dX4_template_79 (by decide) (by omega) (by omega) rfl (fun h79 => ?_) (fun h79 => ?_)
              · refine z_aload_n (i := 0) (q := 91) hX dX4_template_90 rfl rfl rfl ?_
                refine z_iload_n (i := 1) (q := 92) hX dX4_template_91 rfl rfl rfl ?_
                refine zt_V1 (q := 95) (na := 1) hX dX4_template_92 (c_X4_gaps D A (by first | assumption | omega) (by first | assumption | omega)) q2101 q2103 qs66 q103 q2104 rfl (by decide +kernel) ⟨Nat.le_of_ble_eq_true rfl, Nat.le_of_ble_eq_true rfl⟩ rfl rfl (Nat.le_of_ble_eq_true rfl) rfl ⟨rfl, rfl⟩ (Nat.le_of_ble_eq_true rfl) (Nat.le_of_ble_eq_true rfl) rfl ?_
                exact z_iret hX dX4_template_95 (Nat.le_of_ble_eq_true rfl) (Nat.le_of_ble_eq_true rfl) rfl (fun H hI => ⟨congrArg (fun z => some (zI z)) ((by simp only; rw [if_neg h40, if_neg h53, if_neg h66, if_neg h79])), hI⟩)
              · refine z_aload_n (i := 0) (q := 83) hX dX4_template_82 rfl rfl rfl ?_
                refine z_iload_n (i := 1) (q := 84) hX dX4_template_83 rfl rfl rfl ?_
                refine zt_V1 (q := 87) (na := 1) hX dX4_template_84 (c_X4_costOfTemplate D A (by first | assumption | omega) (by first | assumption | omega)) q2097 q2099 qs65 q103 q2100 rfl (by decide +kernel) ⟨Nat.le_of_ble_eq_true rfl, Nat.le_of_ble_eq_true rfl⟩ rfl rfl (Nat.le_of_ble_eq_true rfl) rfl ⟨rfl, rfl⟩ (Nat.le_of_ble_eq_true rfl) (Nat.le_of_ble_eq_true rfl) rfl ?_
                refine z_goto (t := 95) hX dX4_template_87 (by decide) ?_
                exact z_iret hX dX4_template_95 (Nat.le_of_ble_eq_true rfl) (Nat.le_of_ble_eq_true rfl) rfl (fun H hI => ⟨congrArg (fun z => some (zI z)) ((by simp only; rw [if_neg h40, if_neg h53, if_neg h66, if_pos (by omega)])), hI⟩)
            · refine z_aload_n (i := 0) (q := 70) hX dX4_template_69 rfl rfl rfl ?_
              refine z_iload_n (i := 1) (q := 71) hX dX4_template_70 rfl rfl rfl ?_
              refine zt_V1 (q := 74) (na := 1) hX dX4_template_71 (c_X4_rowsOf D A (by first | assumption | omega) (by first | assumption | omega)) q2093 q2095 qs64 q103 q2096 rfl (by decide +kernel) ⟨Nat.le_of_ble_eq_true rfl, Nat.le_of_ble_eq_true rfl⟩ rfl rfl (Nat.le_of_ble_eq_true rfl) rfl ⟨rfl, rfl⟩ (Nat.le_of_ble_eq_true rfl) (Nat.le_of_ble_eq_true rfl) rfl ?_
              refine z_goto (t := 95) hX dX4_template_74 (by decide) ?_
              exact z_iret hX dX4_template_95 (Nat.le_of_ble_eq_true rfl) (Nat.le_of_ble_eq_true rfl) rfl (fun H hI => ⟨congrArg (fun z => some (zI z)) ((by simp only; rw [if_neg h40, if_neg h53, if_pos (by omega)])), hI⟩)
          · refine z_aload_n (i := 0) (q := 57) hX dX4_template_56 rfl rfl rfl ?_
            refine z_iload_n (i := 1) (q := 58) hX dX4_template_57 rfl rfl rfl ?_
            refine zt_V1 (q := 61) (na := 1) hX dX4_template_58 (c_X4_variables D A (by first | assumption | omega) (by first | assumption | omega)) q2089 q2091 qs63 q103 q2092 rfl (by decide +kernel) ⟨Nat.le_of_ble_eq_true rfl, Nat.le_of_ble_eq_true rfl⟩ rfl rfl (Nat.le_of_ble_eq_true rfl) rfl ⟨rfl, rfl⟩ (Nat.le_of_ble_eq_true rfl) (Nat.le_of_ble_eq_true rfl) rfl ?_
            refine z_goto (t := 95) hX dX4_template_61 (by decide) ?_
            exact z_iret hX dX4_template_95 (Nat.le_of_ble_eq_true rfl) (Nat.le_of_ble_eq_true rfl) rfl (fun H hI => ⟨congrArg (fun z => some (zI z)) ((by simp only; rw [if_neg h40, if_pos (by omega)])), hI⟩)
        · refine z_aload_n (i := 0) (q := 44) hX dX4_template_43 rfl rfl rfl ?_
          refine z_iload_n (i := 1) (q := 45) hX dX4_template_44 rfl rfl rfl ?_
          refine zt_V1 (q := 48) (na := 1) hX dX4_template_45 (c_X4_tokensOf D A (by first | assumption | omega) (by first | assumption | omega)) q2085 q2087 qs62 q103 q2088 rfl (by decide +kernel) ⟨Nat.le_of_ble_eq_true rfl, Nat.le_of_ble_eq_true rfl⟩ rfl rfl (Nat.le_of_ble_eq_true rfl) rfl ⟨rfl, rfl⟩ (Nat.le_of_ble_eq_true rfl) (Nat.le_of_ble_eq_true rfl) rfl ?_
          refine z_goto (t := 95) hX dX4_template_48 (by decide) ?_
          exact z_iret hX dX4_template_95 (Nat.le_of_ble_eq_true rfl) (Nat.le_of_ble_eq_true rfl) rfl (fun H hI => ⟨congrArg (fun z => some (zI z)) ((by simp only; rw [if_pos (by omega)])), hI⟩)
      · exact absurd h34 (by decide)
    · refine z_iconst (q := 23) hX dX4_template_22 rfl ?_
      refine z_goto (t := 27) hX dX4_template_23 (by decide) ?_
      exact J27 2 (by omega) (by unfold opTempl; rw [if_neg (by rw [h6]; decide), if_pos (and_f.mp h19)])
  · refine z_iconst (q := 10) hX dX4_template_9 rfl ?_
    refine z_goto (t := 27) hX dX4_template_10 (by decide) ?_
    exact J27 1 (by omega) (by unfold opTempl; rw [if_pos h6])
abbrev rmX4_slot : Room := { frames := 2, cells := 0, slots := 0, locals := 45 }
set_option maxHeartbeats 4000000 in
theorem c_X4_slot (D : zD) (A : Nat → Prop) {b : Nat} {F : zTF} {G : zTG} {t k : Int} (hw : zWf G) (ht : zR t) (hk : zR k) : zC D yX4_slot cX4_slot 4 (some .int) none rmX4_slot A [.ref b, zI (t), zI (k)] (twI D A b F G) (zPd (zI ((opSlot (G 0) t k).2)) (twI D A b (upF F 6 (opSlot (G 0) t k).1) (G))) zNo := by
  refine zC_start (L := [some (.ref b), some (zI (t)), some (zI (k)), none]) (by decide) (Nat.le_of_ble_eq_true rfl) rfl (fun X hX => ?_)
  have hm := hw.1
  have J33 : ∀ v : Bool, (v = true ↔ isT (G 0) t = true ∧ 0 ≤ k ∧ k ≤ nTl (G 0) (fst (G 0) t) - 1) → zG X 0 0 (twI D A b (upF F 6 0) G) 33 [some (.ref b), some (zI (t)), some (zI (k)), none] [zI (bi (v))] := by
    intro v hv
    refine z_istore_n (i := 3) (q := 34) hX dX4_slot_33 rfl (Nat.le_of_ble_eq_true rfl) rfl rfl ?_
    refine z_iload_n (i := 3) (q := 35) hX dX4_slot_34 rfl rfl rfl ?_
    refine z_ifB_eq (q := 38) (t := 47) hX dX4_slot_35 (by decide) rfl (fun h35 => ?_) (fun h35 => ?_)
    · have q : ¬ (isT (G 0) t = true ∧ 0 ≤ k ∧ k ≤ nTl (G 0) (fst (G 0) t) - 1) := fun z => by rw [hv.mpr z] at h35; cases h35
      rw [show opSlot (G 0) t k = (1, 0) from if_neg q] at hX
      refine z_aload_n (i := 0) (q := 48) hX dX4_slot_47 rfl rfl rfl ?_
      refine z_iconst (q := 49) hX dX4_slot_48 rfl ?_
      refine zt_V1 (q := 52) (na := 1) hX dX4_slot_49 (c_X4_refuse D A) q1962 q1964 qs39 q103 q1965 rfl (by decide +kernel) ⟨Nat.le_of_ble_eq_true rfl, Nat.le_of_ble_eq_true rfl⟩ rfl rfl (Nat.le_of_ble_eq_true rfl) rfl ⟨rfl, rfl⟩ (Nat.le_of_ble_eq_true rfl) (Nat.le_of_ble_eq_true rfl) rfl ?_
      rw [upF_upF]
      exact z_iret hX dX4_slot_52 (Nat.le_of_ble_eq_true rfl) (Nat.le_of_ble_eq_true rfl) rfl (fun H hI => ⟨congrArg (fun z => some (zI z)) (rfl), hI⟩)
    · have q := hv.mp h35
      have hf := hw.fs q.1
      rw [show opSlot (G 0) t k = (0, slt (G 0) t k) from if_pos q] at hX
      refine z_aload_n (i := 0) (q := 39) hX dX4_slot_38 rfl rfl rfl ?_
      refine z_iload_n (i := 1) (q := 40) hX dX4_slot_39 rfl rfl rfl ?_
      refine z_iload_n (i := 2) (q := 41) hX dX4_slot_40 rfl rfl rfl ?_
      refine zt_V1 (q := 44) (na := 2) hX dX4_slot_41 (c_X4_slotOf D A (by first | assumption | omega) (by first | assumption | omega)) q2014 q2016 qs51 q103 q2017 rfl (by decide +kernel) ⟨Nat.le_of_ble_eq_true rfl, Nat.le_of_ble_eq_true rfl⟩ rfl rfl (Nat.le_of_ble_eq_true rfl) rfl ⟨rfl, rfl⟩ (Nat.le_of_ble_eq_true rfl) (Nat.le_of_ble_eq_true rfl) rfl ?_
      refine z_goto (t := 52) hX dX4_slot_44 (by decide) ?_
      skip
      exact z_iret hX dX4_slot_52 (Nat.le_of_ble_eq_true rfl) (Nat.le_of_ble_eq_true rfl) rfl (fun H hI => ⟨congrArg (fun z => some (zI z)) (rfl), hI⟩)
  refine z_aload_n (i := 0) (q := 1) hX dX4_slot_0 rfl rfl rfl ?_
  refine z_iconst (q := 2) hX dX4_slot_1 rfl ?_
  refine zt_put (ty := .int) (q := 5) hX 6 dX4_slot_2 q1870 (by decide) rfl rfl rfl (by decide) rfl rfl rfl ?_
  refine z_aload_n (i := 0) (q := 6) hX dX4_slot_5 rfl rfl rfl ?_
  refine z_iload_n (i := 1) (q := 7) hX dX4_slot_6 rfl rfl rfl ?_
  refine zt_V1 (q := 10) (na := 1) hX dX4_slot_7 (c_X4_isTemplate D A (by first | assumption | omega) (by first | assumption | omega)) q1986 q1988 qs44 q103 q1989 rfl (by decide +kernel) ⟨Nat.le_of_ble_eq_true rfl, Nat.le_of_ble_eq_true rfl⟩ rfl rfl (Nat.le_of_ble_eq_true rfl) rfl ⟨rfl, rfl⟩ (Nat.le_of_ble_eq_true rfl) (Nat.le_of_ble_eq_true rfl) rfl ?_
  refine z_ifB_eq (q := 13) (t := 32) hX dX4_slot_10 (by decide) rfl (fun h10 => ?_) (fun h10 => ?_)
  · refine z_iconst (q := 33) hX dX4_slot_32 rfl ?_
    exact J33 false ⟨fun z => (by cases z), fun z => by rw [z.1] at h10; cases h10⟩
  · have hf := hw.fs h10
    refine z_iload_n (i := 2) (q := 14) hX dX4_slot_13 rfl rfl rfl ?_
    refine z_iconst (q := 15) hX dX4_slot_14 rfl ?_
    refine z_aload_n (i := 0) (q := 16) hX dX4_slot_15 rfl rfl rfl ?_
    refine z_iload_n (i := 1) (q := 17) hX dX4_slot_16 rfl rfl rfl ?_
    refine zt_V1 (q := 20) (na := 1) hX dX4_slot_17 (c_X4_tokensOf D A (by first | assumption | omega) (by first | assumption | omega)) q2085 q2087 qs62 q103 q2088 rfl (by decide +kernel) ⟨Nat.le_of_ble_eq_true rfl, Nat.le_of_ble_eq_true rfl⟩ rfl rfl (Nat.le_of_ble_eq_true rfl) rfl ⟨rfl, rfl⟩ (Nat.le_of_ble_eq_true rfl) (Nat.le_of_ble_eq_true rfl) rfl ?_
    refine z_iconst (q := 21) hX dX4_slot_20 rfl ?_
    refine z_isub (q := 22) hX dX4_slot_21 rfl ?_
    refine zt_S1 (q := 25) (na := 3) hX dX4_slot_22 (c_X4_in D A (by first | assumption | omega) (by first | assumption | omega) (by first | assumption | omega)) q1955 q1956 q103 q1957 (by decide +kernel) ⟨Nat.le_of_ble_eq_true rfl, Nat.le_of_ble_eq_true rfl⟩ rfl rfl (Nat.le_of_ble_eq_true rfl) rfl ⟨rfl, rfl⟩ (Nat.le_of_ble_eq_true rfl) (Nat.le_of_ble_eq_true rfl) rfl ?_
    refine z_ifB_eq (q := 28) (t := 32) hX dX4_slot_25 (by decide) rfl (fun h25 => ?_) (fun h25 => ?_)
    · refine z_iconst (q := 33) hX dX4_slot_32 rfl ?_
      exact J33 false ⟨fun z => (by cases z), fun z => absurd z.2 (and_f.mp h25)⟩
    · refine z_iconst (q := 29) hX dX4_slot_28 rfl ?_
      refine z_goto (t := 33) hX dX4_slot_29 (by decide) ?_
      exact J33 true ⟨fun _ => ⟨h10, and_t.mp h25⟩, fun _ => rfl⟩
abbrev rmX4_row : Room := { frames := 2, cells := 0, slots := 0, locals := 45 }
set_option maxHeartbeats 4000000 in
theorem c_X4_row (D : zD) (A : Nat → Prop) {b : Nat} {F : zTF} {G : zTG} {t k : Int} (hw : zWf G) (ht : zR t) (hk : zR k) : zC D yX4_row cX4_row 4 (some .int) none rmX4_row A [.ref b, zI (t), zI (k)] (twI D A b F G) (zPd (zI ((opRow (G 0) t k).2)) (twI D A b (upF F 6 (opRow (G 0) t k).1) (G))) zNo := by
  refine zC_start (L := [some (.ref b), some (zI (t)), some (zI (k)), none]) (by decide) (Nat.le_of_ble_eq_true rfl) rfl (fun X hX => ?_)
  have hm := hw.1
  have hr := nR_rng (G 0) t (by omega)
  have J33 : ∀ v : Bool, (v = true ↔ isT (G 0) t = true ∧ 0 ≤ k ∧ k ≤ nR (G 0) t - 1) → zG X 0 0 (twI D A b (upF F 6 0) G) 33 [some (.ref b), some (zI (t)), some (zI (k)), none] [zI (bi (v))] := by
    intro v hv
    refine z_istore_n (i := 3) (q := 34) hX dX4_row_33 rfl (Nat.le_of_ble_eq_true rfl) rfl rfl ?_
    refine z_iload_n (i := 3) (q := 35) hX dX4_row_34 rfl rfl rfl ?_
    refine z_ifB_eq (q := 38) (t := 47) hX dX4_row_35 (by decide) rfl (fun h35 => ?_) (fun h35 => ?_)
    · have q : ¬ (isT (G 0) t = true ∧ 0 ≤ k ∧ k ≤ nR (G 0) t - 1) := fun z => by rw [hv.mpr z] at h35; cases h35
      rw [show opRow (G 0) t k = (1, 0) from if_neg q] at hX
      refine z_aload_n (i := 0) (q := 48) hX dX4_row_47 rfl rfl rfl ?_
      refine z_iconst (q := 49) hX dX4_row_48 rfl ?_
      refine zt_V1 (q := 52) (na := 1) hX dX4_row_49 (c_X4_refuse D A) q1962 q1964 qs39 q103 q1965 rfl (by decide +kernel) ⟨Nat.le_of_ble_eq_true rfl, Nat.le_of_ble_eq_true rfl⟩ rfl rfl (Nat.le_of_ble_eq_true rfl) rfl ⟨rfl, rfl⟩ (Nat.le_of_ble_eq_true rfl) (Nat.le_of_ble_eq_true rfl) rfl ?_
      rw [upF_upF]
      exact z_iret hX dX4_row_52 (Nat.le_of_ble_eq_true rfl) (Nat.le_of_ble_eq_true rfl) rfl (fun H hI => ⟨congrArg (fun z => some (zI z)) (rfl), hI⟩)
    · have q := hv.mp h35
      rw [show opRow (G 0) t k = (0, lnO (G 0) t k) from if_pos q] at hX
      refine z_aload_n (i := 0) (q := 39) hX dX4_row_38 rfl rfl rfl ?_
      refine z_iload_n (i := 1) (q := 40) hX dX4_row_39 rfl rfl rfl ?_
      refine z_iload_n (i := 2) (q := 41) hX dX4_row_40 rfl rfl rfl ?_
      refine zt_V1 (q := 44) (na := 2) hX dX4_row_41 (c_X4_lineOf D A (by first | assumption | omega) (by first | assumption | omega) (by first | assumption | omega)) q1990 q1992 qs45 q103 q1993 rfl (by decide +kernel) ⟨Nat.le_of_ble_eq_true rfl, Nat.le_of_ble_eq_true rfl⟩ rfl rfl (Nat.le_of_ble_eq_true rfl) rfl ⟨rfl, rfl⟩ (Nat.le_of_ble_eq_true rfl) (Nat.le_of_ble_eq_true rfl) rfl ?_
      refine z_goto (t := 52) hX dX4_row_44 (by decide) ?_
      skip
      exact z_iret hX dX4_row_52 (Nat.le_of_ble_eq_true rfl) (Nat.le_of_ble_eq_true rfl) rfl (fun H hI => ⟨congrArg (fun z => some (zI z)) (rfl), hI⟩)
  refine z_aload_n (i := 0) (q := 1) hX dX4_row_0 rfl rfl rfl ?_
  refine z_iconst (q := 2) hX dX4_row_1 rfl ?_
  refine zt_put (ty := .int) (q := 5) hX 6 dX4_row_2 q1870 (by decide) rfl rfl rfl (by decide) rfl rfl rfl ?_
  refine z_aload_n (i := 0) (q := 6) hX dX4_row_5 rfl rfl rfl ?_
  refine z_iload_n (i := 1) (q := 7) hX dX4_row_6 rfl rfl rfl ?_
  refine zt_V1 (q := 10) (na := 1) hX dX4_row_7 (c_X4_isTemplate D A (by first | assumption | omega) (by first | assumption | omega)) q1986 q1988 qs44 q103 q1989 rfl (by decide +kernel) ⟨Nat.le_of_ble_eq_true rfl, Nat.le_of_ble_eq_true rfl⟩ rfl rfl (Nat.le_of_ble_eq_true rfl) rfl ⟨rfl, rfl⟩ (Nat.le_of_ble_eq_true rfl) (Nat.le_of_ble_eq_true rfl) rfl ?_
  refine z_ifB_eq (q := 13) (t := 32) hX dX4_row_10 (by decide) rfl (fun h10 => ?_) (fun h10 => ?_)
  · refine z_iconst (q := 33) hX dX4_row_32 rfl ?_
    exact J33 false ⟨fun z => (by cases z), fun z => by rw [z.1] at h10; cases h10⟩
  · refine z_iload_n (i := 2) (q := 14) hX dX4_row_13 rfl rfl rfl ?_
    refine z_iconst (q := 15) hX dX4_row_14 rfl ?_
    refine z_aload_n (i := 0) (q := 16) hX dX4_row_15 rfl rfl rfl ?_
    refine z_iload_n (i := 1) (q := 17) hX dX4_row_16 rfl rfl rfl ?_
    refine zt_V1 (q := 20) (na := 1) hX dX4_row_17 (c_X4_rowsOf D A (by first | assumption | omega) (by first | assumption | omega)) q2093 q2095 qs64 q103 q2096 rfl (by decide +kernel) ⟨Nat.le_of_ble_eq_true rfl, Nat.le_of_ble_eq_true rfl⟩ rfl rfl (Nat.le_of_ble_eq_true rfl) rfl ⟨rfl, rfl⟩ (Nat.le_of_ble_eq_true rfl) (Nat.le_of_ble_eq_true rfl) rfl ?_
    refine z_iconst (q := 21) hX dX4_row_20 rfl ?_
    refine z_isub (q := 22) hX dX4_row_21 rfl ?_
    refine zt_S1 (q := 25) (na := 3) hX dX4_row_22 (c_X4_in D A (by first | assumption | omega) (by first | assumption | omega) (by first | assumption | omega)) q1955 q1956 q103 q1957 (by decide +kernel) ⟨Nat.le_of_ble_eq_true rfl, Nat.le_of_ble_eq_true rfl⟩ rfl rfl (Nat.le_of_ble_eq_true rfl) rfl ⟨rfl, rfl⟩ (Nat.le_of_ble_eq_true rfl) (Nat.le_of_ble_eq_true rfl) rfl ?_
    refine z_ifB_eq (q := 28) (t := 32) hX dX4_row_25 (by decide) rfl (fun h25 => ?_) (fun h25 => ?_)
    · refine z_iconst (q := 33) hX dX4_row_32 rfl ?_
      exact J33 false ⟨fun z => (by cases z), fun z => absurd z.2 (and_f.mp h25)⟩
    · refine z_iconst (q := 29) hX dX4_row_28 rfl ?_
      refine z_goto (t := 33) hX dX4_row_29 (by decide) ?_
      exact J33 true ⟨fun _ => ⟨h10, and_t.mp h25⟩, fun _ => rfl⟩
abbrev rmX4_count : Room := { frames := 8, cells := 0, slots := 0, locals := 188 }
set_option maxHeartbeats 4000000 in
theorem c_X4_count (D : zD) (A : Nat → Prop) {b : Nat} {F : zTF} {G : zTG} {w : Int} (h : zWg G) (hi : zR w) : zC D yX4_count cX4_count 4 (some .int) none rmX4_count A [.ref b, zI (w)] (twI D A b F G) (zPd (zI ((opCount (G 0) w).2)) (twE D A b (zS17 (upF F 6 (opCount (G 0) w).1) G))) zNo := by
  refine zC_start (L := [some (.ref b), some (zI (w)), none, none]) (by decide) (Nat.le_of_ble_eq_true rfl) rfl (fun X hX => ?_)
  have hw := h.1
  have hm := hw.1
  have J41 : ∀ c p : Int, c = colsM (G 0) → zG X 0 0 (twI D A b (upF F 6 0) G) 41 [some (.ref b), some (zI (w)), some (zI (c)), some (zI (p))] [] := by
    intro c p ec
    by_cases q : 0 ≤ w ∧ w ≤ 4
    · rw [show opCount (G 0) w = (0, if w = 0 then G 0 0 else if w = 1 then nTpl (G 0) else if w = 2 then colsM (G 0) else if w = 3 then chrI (G 0) else cosA (G 0)) from if_pos q] at hX
      simp only at hX
      refine z_iload_n (i := 1) (q := 42) hX dX4_count_41 rfl rfl rfl ?_
      by_cases s42_0 : w = 0
      · refine z_tableIn (t := 76) hX dX4_count_42 (by omega) (by omega) (by omega) (by rw [s42_0]; rfl) (by decide) ?_
        refine z_aload_n (i := 0) (q := 77) hX dX4_count_76 rfl rfl rfl ?_
        refine zt_getA (q := 80) hX 0 0 dX4_count_77 q1864 (by decide) rfl rfl rfl ?_
        refine z_iconst (q := 81) hX dX4_count_80 rfl ?_
        refine zt_ald (q := 82) (N := 1964) hX 0 dX4_count_81 rfl (by decide) (by decide) (by omega) rfl ?_
        exact z_iret hX dX4_count_82 (Nat.le_of_ble_eq_true rfl) (Nat.le_of_ble_eq_true rfl) rfl (fun H hI => ⟨congrArg (fun z => some (zI z)) (by rw [if_pos s42_0]), _, _, zS17.rf _ _, hI⟩)
      by_cases s42_1 : w = 1
      · refine z_tableIn (t := 83) hX dX4_count_42 (by omega) (by omega) (by omega) (by rw [s42_1]; rfl) (by decide) ?_
        refine z_aload_n (i := 0) (q := 84) hX dX4_count_83 rfl rfl rfl ?_
        refine zt_V1 (q := 87) (na := 0) hX dX4_count_84 (c_X4_templateMany D A (by first | assumption | omega)) q2129 q2131 qs69 q103 q2132 rfl (by decide +kernel) ⟨Nat.le_of_ble_eq_true rfl, Nat.le_of_ble_eq_true rfl⟩ rfl rfl (Nat.le_of_ble_eq_true rfl) rfl ⟨rfl, rfl⟩ (Nat.le_of_ble_eq_true rfl) (Nat.le_of_ble_eq_true rfl) rfl ?_
        exact z_iret hX dX4_count_87 (Nat.le_of_ble_eq_true rfl) (Nat.le_of_ble_eq_true rfl) rfl (fun H hI => ⟨congrArg (fun z => some (zI z)) (by rw [if_neg s42_0, if_pos s42_1]), _, _, zS17.rf _ _, hI⟩)
      by_cases s42_2 : w = 2
      · refine z_tableIn (t := 88) hX dX4_count_42 (by omega) (by omega) (by omega) (by rw [s42_2]; rfl) (by decide) ?_
        refine z_iload_n (i := 2) (q := 89) hX dX4_count_88 rfl rfl rfl ?_
        exact z_iret hX dX4_count_89 (Nat.le_of_ble_eq_true rfl) (Nat.le_of_ble_eq_true rfl) rfl (fun H hI => ⟨congrArg (fun z => some (zI z)) (by rw [if_neg s42_0, if_neg s42_1, if_pos s42_2, ec]), _, _, zS17.rf _ _, hI⟩)
      by_cases s42_3 : w = 3
      · refine z_tableIn (t := 90) hX dX4_count_42 (by omega) (by omega) (by omega) (by rw [s42_3]; rfl) (by decide) ?_
        refine z_aload_n (i := 0) (q := 91) hX dX4_count_90 rfl rfl rfl ?_
        refine zt_V1 (q := 94) (na := 0) hX dX4_count_91 (c_X4_characters D A (by first | assumption | omega)) q2133 q2135 qs70 q103 q2136 rfl (by decide +kernel) ⟨Nat.le_of_ble_eq_true rfl, Nat.le_of_ble_eq_true rfl⟩ rfl rfl (Nat.le_of_ble_eq_true rfl) rfl ⟨rfl, rfl⟩ (Nat.le_of_ble_eq_true rfl) (Nat.le_of_ble_eq_true rfl) rfl ?_
        exact z_iret hX dX4_count_94 (Nat.le_of_ble_eq_true rfl) (Nat.le_of_ble_eq_true rfl) rfl (fun H hI => ⟨congrArg (fun z => some (zI z)) (by rw [if_neg s42_0, if_neg s42_1, if_neg s42_2, if_pos s42_3]), _, _, zS17.rf _ _, hI⟩)
      by_cases s42_4 : w = 4
      · refine z_tableIn (t := 95) hX dX4_count_42 (by omega) (by omega) (by omega) (by rw [s42_4]; rfl) (by decide) ?_
        refine z_aload_n (i := 0) (q := 96) hX dX4_count_95 rfl rfl rfl ?_
        refine zt_VE1 (q := 99) (na := 0) hX dX4_count_96 (c_X4_costOfAll D A (by first | assumption | omega)) q2137 q2139 qs71 q103 q2140 rfl (by decide +kernel) ⟨Nat.le_of_ble_eq_true rfl, Nat.le_of_ble_eq_true rfl⟩ rfl rfl (Nat.le_of_ble_eq_true rfl) rfl ⟨rfl, rfl⟩ (Nat.le_of_ble_eq_true rfl) (Nat.le_of_ble_eq_true rfl) rfl (fun F96 G96 hs96 => ?_)
        exact z_iret hX dX4_count_99 (Nat.le_of_ble_eq_true rfl) (Nat.le_of_ble_eq_true rfl) rfl (fun H hI => ⟨congrArg (fun z => some (zI z)) (by rw [if_neg s42_0, if_neg s42_1, if_neg s42_2, if_neg s42_3]), _, _, hs96, hI⟩)
      refine z_tableOut (t := 100) hX dX4_count_42 (by omega) (by omega) (by decide) ?_
      exact absurd q (by omega)
    · rw [show opCount (G 0) w = (1, 0) from if_neg q] at hX
      simp only at hX
      refine z_iload_n (i := 1) (q := 42) hX dX4_count_41 rfl rfl rfl ?_
      refine z_tableOut (t := 100) hX dX4_count_42 hi (by omega) (by decide) ?_
      refine z_aload_n (i := 0) (q := 101) hX dX4_count_100 rfl rfl rfl ?_
      refine z_iconst (q := 102) hX dX4_count_101 rfl ?_
      refine zt_V1 (q := 105) (na := 1) hX dX4_count_102 (c_X4_refuse D A) q1962 q1964 qs39 q103 q1965 rfl (by decide +kernel) ⟨Nat.le_of_ble_eq_true rfl, Nat.le_of_ble_eq_true rfl⟩ rfl rfl (Nat.le_of_ble_eq_true rfl) rfl ⟨rfl, rfl⟩ (Nat.le_of_ble_eq_true rfl) (Nat.le_of_ble_eq_true rfl) rfl ?_
      exact z_iret hX dX4_count_105 (Nat.le_of_ble_eq_true rfl) (Nat.le_of_ble_eq_true rfl) rfl (fun H hI => ⟨rfl, _, _, zS17.rf _ _, by rw [upF_upF] at hI; exact hI⟩)
  have K : ∀ n : Nat, n ≤ 12 → ∀ c p : Int, c = sumI (fun t => if isT (G 0) t then varsI (G 0) t else 0) n → p = n → zG X 0 0 (twI D A b (upF F 6 0) G) 9 [some (.ref b), some (zI (w)), some (zI (c)), some (zI (p))] [] := by
    refine z_up (fun n hn ih c p e1 e2 => ?_)
    subst e2
    refine z_iload_n (i := 3) (q := 10) hX dX4_count_9 rfl rfl rfl ?_
    refine z_bipush (q := 12) hX dX4_count_10 (by decide) rfl ?_
    refine z_icmp_ge (q := 15) (t := 41) hX dX4_count_12 (by decide) (by omega) (by omega) rfl (fun h12 => ?_) (fun h12 => ?_)
    · exact J41 _ _ (by rw [e1, show n = 12 by omega]; rfl)
    · refine z_iload_n (i := 2) (q := 16) hX dX4_count_15 rfl rfl rfl ?_
      refine z_aload_n (i := 0) (q := 17) hX dX4_count_16 rfl rfl rfl ?_
      refine z_iload_n (i := 3) (q := 18) hX dX4_count_17 rfl rfl rfl ?_
      refine zt_V1 (q := 21) (na := 1) hX dX4_count_18 (c_X4_isTemplate D A (by first | assumption | omega) (by first | assumption | omega)) q1986 q1988 qs44 q103 q1989 rfl (by decide +kernel) ⟨Nat.le_of_ble_eq_true rfl, Nat.le_of_ble_eq_true rfl⟩ rfl rfl (Nat.le_of_ble_eq_true rfl) rfl ⟨rfl, rfl⟩ (Nat.le_of_ble_eq_true rfl) (Nat.le_of_ble_eq_true rfl) rfl ?_
      refine z_ifB_eq (q := 24) (t := 32) hX dX4_count_21 (by decide) rfl (fun h21 => ?_) (fun h21 => ?_)
      · refine z_iconst (q := 33) hX dX4_count_32 rfl ?_
        refine z_iadd (q := 34) hX dX4_count_33 rfl ?_
        refine z_istore_n (i := 2) (q := 35) hX dX4_count_34 rfl (Nat.le_of_ble_eq_true rfl) rfl rfl ?_
        refine z_iinc (q := 38) hX dX4_count_35 rfl (Nat.le_of_ble_eq_true rfl) rfl rfl ?_
        refine z_goto (t := 9) hX dX4_count_38 (by decide) ?_
        exact ih (by omega) _ _ (by rw [sumI, e1, if_neg (by rw [h21]; decide)]) (by omega)
      · refine z_aload_n (i := 0) (q := 25) hX dX4_count_24 rfl rfl rfl ?_
        refine z_iload_n (i := 3) (q := 26) hX dX4_count_25 rfl rfl rfl ?_
        refine zt_V1 (q := 29) (na := 1) hX dX4_count_26 (c_X4_variables D A (by first | assumption | omega) (by first | assumption | omega)) q2089 q2091 qs63 q103 q2092 rfl (by decide +kernel) ⟨Nat.le_of_ble_eq_true rfl, Nat.le_of_ble_eq_true rfl⟩ rfl rfl (Nat.le_of_ble_eq_true rfl) rfl ⟨rfl, rfl⟩ (Nat.le_of_ble_eq_true rfl) (Nat.le_of_ble_eq_true rfl) rfl ?_
        refine z_goto (t := 33) hX dX4_count_29 (by decide) ?_
        refine z_iadd (q := 34) hX dX4_count_33 rfl ?_
        refine z_istore_n (i := 2) (q := 35) hX dX4_count_34 rfl (Nat.le_of_ble_eq_true rfl) rfl rfl ?_
        refine z_iinc (q := 38) hX dX4_count_35 rfl (Nat.le_of_ble_eq_true rfl) rfl rfl ?_
        refine z_goto (t := 9) hX dX4_count_38 (by decide) ?_
        exact ih (by omega) _ _ (by rw [sumI, e1, if_pos h21]) (by omega)
  refine z_aload_n (i := 0) (q := 1) hX dX4_count_0 rfl rfl rfl ?_
  refine z_iconst (q := 2) hX dX4_count_1 rfl ?_
  refine zt_put (ty := .int) (q := 5) hX 6 dX4_count_2 q1870 (by decide) rfl rfl rfl (by decide) rfl rfl rfl ?_
  refine z_iconst (q := 6) hX dX4_count_5 rfl ?_
  refine z_istore_n (i := 2) (q := 7) hX dX4_count_6 rfl (Nat.le_of_ble_eq_true rfl) rfl rfl ?_
  refine z_iconst (q := 8) hX dX4_count_7 rfl ?_
  refine z_istore_n (i := 3) (q := 9) hX dX4_count_8 rfl (Nat.le_of_ble_eq_true rfl) rfl rfl ?_
  exact K 0 (Nat.zero_le _) _ _ rfl rfl
