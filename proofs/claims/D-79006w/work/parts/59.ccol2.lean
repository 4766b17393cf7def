/-! THE CLASS: Column's costs -/
set_option maxRecDepth 100000
theorem numI_pos {f : Int → Int} {n : Nat} (hd : ∀ i : Nat, i < n → 48 ≤ f i ∧ f i ≤ 57) (h0 : 49 ≤ f 0) (hn : 1 ≤ n) : 1 ≤ numI f n := by
  induction n with
  | zero => omega
  | succ n ih =>
    rw [numI]
    by_cases e : n = 0
    · subst e
      have := hd 0 (by omega)
      show 1 ≤ 10 * 0 + f 0 - 48
      omega
    · have h1 := ih (fun i hi => hd i (by omega)) (by omega)
      have h2 := hd n (by omega)
      omega
theorem dlN_num {f : Int → Int} {n : Nat} (hd : ∀ i : Nat, i < n → 48 ≤ f i ∧ f i ≤ 57) (h0 : n = 1 ∨ 49 ≤ f 0) (hn : 1 ≤ n) : 1 + dlN ((numI f n).natAbs / 10) = n := by
  induction n with
  | zero => omega
  | succ n ih =>
    have hr := numI_rng (f := f) (n := n) (fun i hi => hd i (by omega))
    have hl := hd n (by omega)
    have e1 : (numI f (n + 1)).natAbs / 10 = (numI f n).natAbs := by
      rw [numI]
      omega
    rw [e1]
    by_cases e : n = 0
    · subst e
      show 1 + dlN (0 : Int).natAbs = _
      rw [show (0 : Int).natAbs = 0 from rfl, dlN_0]
      rfl
    · have h49 : 49 ≤ f 0 := by rcases h0 with q | q; omega; exact q
      have hp := numI_pos (f := f) (n := n) (fun i hi => hd i (by omega)) h49 (by omega)
      rw [dlN_s (by omega), ih (fun i hi => hd i (by omega)) (Or.inr h49) (by omega)]
      push_cast
      omega
/-- a number's text is the decimal of the number -/
theorem dgt_num {s : zS} (h : isNum s = true) : dgt (num s) = s.length := by
  have h1 := isNum_f h
  have hn := neg1_rng s
  have hc := neg1_cs s
  have hd : ∀ i : Nat, i < s.length - (neg1 s).toNat → 48 ≤ cT s (neg1 s + i) ∧ cT s (neg1 s + i) ≤ 57 := fun i hi => isDig_rng (h1.2.2 i hi)
  have hz : (s.length - (neg1 s).toNat = 1 ∧ neg1 s = 0) ∨ 49 ≤ cT s (neg1 s + (0 : Nat)) := by
    have h0 := hd 0 (by omega)
    by_cases q : cT s (neg1 s) = 48
    · left
      unfold isNum at h
      rw [decide_eq_true q] at h
      simp only [Bool.and_eq_true, Bool.true_and, Bool.not_not, decide_eq_true_eq] at h
      omega
    · right
      rw [show neg1 s + ((0 : Nat) : Int) = neg1 s by omega] at h0 ⊢
      omega
  have hk := dlN_num (f := fun i => cT s (neg1 s + i)) (n := s.length - (neg1 s).toNat) hd (by rcases hz with q | q; exact Or.inl q.1; exact Or.inr q) (by omega)
  have hr := numI_rng (f := fun i => cT s (neg1 s + i)) (n := s.length - (neg1 s).toNat) hd
  unfold num dgt
  rcases hc with ⟨c1, c2⟩ | ⟨c1, c2⟩
  · have hp : 1 ≤ absNum s := numI_pos (f := fun i => cT s (neg1 s + i)) hd (by rcases hz with q | q; omega; exact q) (by omega)
    rw [if_pos c1, if_pos (by omega), Int.natAbs_neg]
    unfold absNum
    omega
  · have hp : 0 ≤ absNum s := hr.1
    rw [if_neg c1, if_neg (by omega)]
    unfold absNum
    omega
/-- a row's cost in a way -/
def coF (c : Int → zS) (way r : Int) : Int := if way = 0 then ((c r).length : Int) + 1 else if way = 1 then 1 + (if fstI c r = r then ((c r).length : Int) + 1 else 0) else if way = 2 then (if beg c r then ((c r).length : Int) + 2 else 0) else 1 + dgt (num (c r) - (if r = 0 then 0 else num (c (r - 1))))
theorem coF0 (c : Int → zS) (r : Int) : coF c 0 r = ((c r).length : Int) + 1 := if_pos rfl
theorem coF1 (c : Int → zS) (r : Int) : coF c 1 r = 1 + (if fstI c r = r then ((c r).length : Int) + 1 else 0) := (if_neg (by decide)).trans (if_pos rfl)
theorem coF2 (c : Int → zS) (r : Int) : coF c 2 r = (if beg c r then ((c r).length : Int) + 2 else 0) := (if_neg (by decide)).trans ((if_neg (by decide)).trans (if_pos rfl))
theorem coF3 (c : Int → zS) (r : Int) : coF c 3 r = 1 + dgt (num (c r) - (if r = 0 then 0 else num (c (r - 1)))) := (if_neg (by decide)).trans ((if_neg (by decide)).trans (if_neg (by decide)))
theorem sumI_one {f : Int → Int} {n : Nat} : sumI (fun r => 1 + f r) n = n + sumI f n := by
  induction n with
  | zero => rfl
  | succ n ih =>
    show sumI _ n + (1 + f n) = ((n + 1 : Nat) : Int) + (sumI f n + f n)
    rw [ih]
    omega
theorem cosI_eq {c : Int → zS} {n : Nat} {way : Int} (hw : 0 ≤ way ∧ way ≤ 3) (hn : way = 3 → allI (fun r => decide (typ (c r) = 2)) n = true) : cosI n c way = sumI (fun r => coF c way r) n := by
  unfold cosI
  by_cases h0 : way = 0
  · subst h0
    rw [if_pos rfl]
    unfold pln
    rw [if_neg Bool.false_ne_true, Int.zero_add]
    refine sumI_congr (fun i hi => ?_)
    show (if (!false || _) = true then _ else _) = coF c 0 i
    rw [Bool.not_false, Bool.true_or, if_pos rfl, coF0]
  · rw [if_neg h0]
    by_cases h1 : way = 1
    · subst h1
      rw [if_pos rfl]
      unfold pln
      rw [if_pos rfl, ← sumI_one]
      refine sumI_congr (fun i hi => ?_)
      show 1 + (if (!true || decide (fstI c (i : Int) = i)) = true then _ else _) = coF c 1 i
      rw [Bool.not_true, Bool.false_or, coF1]
      by_cases q : fstI c (i : Int) = i
      · rw [if_pos q, if_pos (decide_eq_true q)]
      · rw [if_neg q, if_neg (by rw [decide_eq_false q]; exact Bool.false_ne_true)]
    · rw [if_neg h1]
      by_cases h2 : way = 2
      · subst h2
        rw [if_pos rfl]
        unfold runI
        refine sumI_congr (fun i hi => ?_)
        rw [coF2]
        rfl
      · rw [if_neg h2]
        have h3 : way = 3 := by omega
        unfold difI
        rw [if_pos (hn h3)]
        unfold difS
        refine sumI_congr (fun i hi => ?_)
        rw [h3, coF3]
        congr 1
        by_cases q : (i : Int) = 0
        · rw [if_pos q, if_pos q, q, Int.sub_zero]
          have ht := allI_iff.mp (hn h3) 0 (by omega)
          exact (dgt_num (typ_num (of_decide_eq_true ht))).symm
        · rw [if_neg q, if_neg q]
abbrev rmX3_digits : Room := { frames := 0, cells := 0, slots := 0, locals := 0 }
set_option maxHeartbeats 4000000 in
theorem c_X3_digits (D : zD) (A : Nat → Prop) {I : Heap → Prop} {v : Int} (hv : zR v) : zC D yX3_digits cX3_digits 3 (some .int) none rmX3_digits A [zI (v)] (I) (zPd (zI (dgt v)) I) (zNo) := by
  refine zC_start (L := [some (zI (v)), none, none]) (by decide) (Nat.le_of_ble_eq_true rfl) rfl (fun X hX => ?_)
  have K : ∀ x : Int, zR x → ∀ c : Int, c + dlN x.natAbs = dgt v → zG X 0 0 I 15 [some (zI v), some (zI c), some (zI x)] [] := by
    refine z_wf (fun x : Int => x.natAbs) (fun x ih hx c hc => ?_)
    refine z_iload_n (i := 2) (q := 16) hX dX3_digits_15 rfl rfl rfl ?_
    refine z_if_eq (q := 19) (t := 30) hX dX3_digits_16 (by decide) hx rfl (fun h16 => ?_) (fun h16 => ?_)
    · refine z_iload_n (i := 1) (q := 31) hX dX3_digits_30 rfl rfl rfl ?_
      exact z_iret hX dX3_digits_31 (by first | exact Nat.le_of_ble_eq_true rfl | (show (_ : Nat) ≤ 0; omega)) (by first | exact Nat.le_of_ble_eq_true rfl | (show (_ : Nat) ≤ 0; omega)) rfl (fun H h => ⟨congrArg (fun z => some (zI z)) (by rw [← hc, h16, show (0 : Int).natAbs = 0 from rfl, dlN_0, Int.add_zero]), h⟩)
    · refine z_iinc (q := 22) hX dX3_digits_19 rfl (Nat.le_of_ble_eq_true rfl) rfl rfl ?_
      refine z_iload_n (i := 2) (q := 23) hX dX3_digits_22 rfl rfl rfl ?_
      refine z_bipush (q := 25) hX dX3_digits_23 (by decide) rfl ?_
      refine z_idiv (q := 26) hX dX3_digits_25 (by decide) (zI_div10 hx) rfl ?_
      refine z_istore_n (i := 2) (q := 27) hX dX3_digits_26 rfl (Nat.le_of_ble_eq_true rfl) rfl rfl ?_
      refine z_goto (t := 15) hX dX3_digits_27 (by decide) ?_
      have hz : (x.tdiv 10).natAbs = x.natAbs / 10 := Int.natAbs_tdiv x 10
      have h1 : x.natAbs / 10 < x.natAbs := by omega
      have h2 : x.natAbs ≤ 2147483648 := by have := hx.1; have := hx.2; omega
      refine ih (x.tdiv 10) (by rw [hz]; exact h1) ⟨by omega, by omega⟩ _ ?_
      rw [hz, ← hc, dlN_s (m := x.natAbs) (by omega)]
      omega
  have hz : (v.tdiv 10).natAbs = v.natAbs / 10 := Int.natAbs_tdiv v 10
  have h2 : v.natAbs ≤ 2147483648 := by have := hv.1; have := hv.2; omega
  refine z_iload_n (i := 0) (q := 1) hX dX3_digits_0 rfl rfl rfl ?_
  refine z_if_ge (q := 4) (t := 8) hX dX3_digits_1 (by decide) hv rfl (fun h1 => ?_) (fun h1 => ?_)
  · refine z_iconst (q := 9) hX dX3_digits_8 rfl ?_
    refine z_istore_n (i := 1) (q := 10) hX dX3_digits_9 rfl (Nat.le_of_ble_eq_true rfl) rfl rfl ?_
    refine z_iload_n (i := 0) (q := 11) hX dX3_digits_10 rfl rfl rfl ?_
    refine z_bipush (q := 13) hX dX3_digits_11 (by decide) rfl ?_
    refine z_idiv (q := 14) hX dX3_digits_13 (by decide) (zI_div10 hv) rfl ?_
    refine z_istore_n (i := 2) (q := 15) hX dX3_digits_14 rfl (Nat.le_of_ble_eq_true rfl) rfl rfl ?_
    exact K _ ⟨by omega, by omega⟩ _ (by rw [hz]; unfold dgt; rw [if_neg (by omega)])
  · refine z_iconst (q := 5) hX dX3_digits_4 rfl ?_
    refine z_goto (t := 9) hX dX3_digits_5 (by decide) ?_
    refine z_istore_n (i := 1) (q := 10) hX dX3_digits_9 rfl (Nat.le_of_ble_eq_true rfl) rfl rfl ?_
    refine z_iload_n (i := 0) (q := 11) hX dX3_digits_10 rfl rfl rfl ?_
    refine z_bipush (q := 13) hX dX3_digits_11 (by decide) rfl ?_
    refine z_idiv (q := 14) hX dX3_digits_13 (by decide) (zI_div10 hv) rfl ?_
    refine z_istore_n (i := 2) (q := 15) hX dX3_digits_14 rfl (Nat.le_of_ble_eq_true rfl) rfl rfl ?_
    exact K _ ⟨by omega, by omega⟩ _ (by rw [hz]; unfold dgt; rw [if_pos (by omega)])
abbrev rmX3_costOf : Room := { frames := 5, cells := 0, slots := 0, locals := 108 }
set_option maxHeartbeats 4000000 in
theorem c_X3_costOf (D : zD) (A : Nat → Prop) {w m : zMp} {b : Nat} {ta n r : Nat} {way : Int} {f : Nat → Option Nat} {c : Int → zS} (hc : wCol D w m b ta n f c) (hr : r < n) (hw : 0 ≤ way ∧ way ≤ 3) (hn : way = 3 → allI (fun r => decide (typ (c r) = 2)) n = true) : zC D yX3_costOf cX3_costOf 4 (some .int) none rmX3_costOf A [.ref b, zI (way), zI ((r : Int))] (cI D A w m) (zPd (zI (coF c way r)) (cI D A w m)) (zNo) := by
  refine zC_start (L := [some (.ref b), some (zI (way)), some (zI ((r : Int))), none]) (by decide) (Nat.le_of_ble_eq_true rfl) rfl (fun X hX => ?_)
  have hc0 := hc
  obtain ⟨h1, h2, h3, h4⟩ := hc
  obtain ⟨x, hx1, hx2⟩ := h4 r hr
  have hx20 := hx2
  obtain ⟨hx3, t, hx4, hx5⟩ := hx2
  have hl := hx3.2
  have hfs := fstI_le c (r := (r : Int)) (by omega)
  by_cases hw3 : way = 3
  · have hall := hn hw3
    have ht1 : typ (c r) = 2 := of_decide_eq_true (allI_iff.mp hall r hr)
    have hr1 := num_rng ht1
    by_cases hr0 : r = 0
    · subst hr0
      refine z_aload_n (i := 0) (q := 1) hX dX3_costOf_0 rfl rfl rfl ?_
      refine zr_get (C := RX3) (T := TX3) (N := 2) (q := 4) hX ciX3 0 rfl (by decide) in_X3 dX3_costOf_1 q194 (Or.inl rfl) (fun H h => cI.rd h (by first | assumption | exact Or.inl (by assumption) | exact Or.inr (by first | assumption | exact upm_same _ _ _ | exact (upm_ne _ _ (by first | assumption | exact Ne.symm (by assumption) | omega | exact ne_mp (m := m) (by assumption) (by assumption) | exact Ne.symm (ne_mp (m := m) (by assumption) (by assumption)) | exact ne_mp (m := w) (by assumption) (by assumption) | exact Ne.symm (ne_mp (m := w) (by assumption) (by assumption)))).trans (by first | assumption | exact upm_same _ _ _ | exact (upm_ne _ _ (by first | assumption | exact Ne.symm (by assumption) | omega | exact ne_mp (m := m) (by assumption) (by assumption) | exact Ne.symm (ne_mp (m := m) (by assumption) (by assumption)) | exact ne_mp (m := w) (by assumption) (by assumption) | exact Ne.symm (ne_mp (m := w) (by assumption) (by assumption)))).trans (by first | assumption | exact upm_same _ _ _ | exact (upm_ne _ _ (by first | assumption | exact Ne.symm (by assumption) | omega | exact ne_mp (m := m) (by assumption) (by assumption) | exact Ne.symm (ne_mp (m := m) (by assumption) (by assumption)) | exact ne_mp (m := w) (by assumption) (by assumption) | exact Ne.symm (ne_mp (m := w) (by assumption) (by assumption)))).trans (by first | assumption | exact upm_same _ _ _))))) rfl (by decide) rfl) rfl ?_
      refine z_iload_n (i := 2) (q := 5) hX dX3_costOf_4 rfl rfl rfl ?_
      refine zr_aald (q := 6) hX 6 rfl dX3_costOf_5 (fun H h => (cI.at h (by first | assumption | exact Or.inl (by assumption) | exact Or.inr (by first | assumption | exact upm_same _ _ _ | exact (upm_ne _ _ (by first | assumption | exact Ne.symm (by assumption) | omega | exact ne_mp (m := m) (by assumption) (by assumption) | exact Ne.symm (ne_mp (m := m) (by assumption) (by assumption)) | exact ne_mp (m := w) (by assumption) (by assumption) | exact Ne.symm (ne_mp (m := w) (by assumption) (by assumption)))).trans (by first | assumption | exact upm_same _ _ _ | exact (upm_ne _ _ (by first | assumption | exact Ne.symm (by assumption) | omega | exact ne_mp (m := m) (by assumption) (by assumption) | exact Ne.symm (ne_mp (m := m) (by assumption) (by assumption)) | exact ne_mp (m := w) (by assumption) (by assumption) | exact Ne.symm (ne_mp (m := w) (by assumption) (by assumption)))).trans (by first | assumption | exact upm_same _ _ _ | exact (upm_ne _ _ (by first | assumption | exact Ne.symm (by assumption) | omega | exact ne_mp (m := m) (by assumption) (by assumption) | exact Ne.symm (ne_mp (m := m) (by assumption) (by assumption)) | exact ne_mp (m := w) (by assumption) (by assumption) | exact Ne.symm (ne_mp (m := w) (by assumption) (by assumption)))).trans (by first | assumption | exact upm_same _ _ _)))))).raQ) ⟨by omega, by omega⟩ (by first | decide | omega) rfl ?_
      refine zG.top (v2 := .ref x) (by show va_rf (f 0) = _; rw [hx1]; rfl) ?_
      refine zr_getN (C := RX6) (T := TX6) (N := 2) (q := 9) hX ciX6 0 rfl (by decide) in_X6 dX3_costOf_6 (zNF_at 17 rfl) (fun H h => cI.rd h (by first | assumption | exact Or.inl (by assumption) | exact Or.inr (by first | assumption | exact upm_same _ _ _ | exact (upm_ne _ _ (by first | assumption | exact Ne.symm (by assumption) | omega | exact ne_mp (m := m) (by assumption) (by assumption) | exact Ne.symm (ne_mp (m := m) (by assumption) (by assumption)) | exact ne_mp (m := w) (by assumption) (by assumption) | exact Ne.symm (ne_mp (m := w) (by assumption) (by assumption)))).trans (by first | assumption | exact upm_same _ _ _ | exact (upm_ne _ _ (by first | assumption | exact Ne.symm (by assumption) | omega | exact ne_mp (m := m) (by assumption) (by assumption) | exact Ne.symm (ne_mp (m := m) (by assumption) (by assumption)) | exact ne_mp (m := w) (by assumption) (by assumption) | exact Ne.symm (ne_mp (m := w) (by assumption) (by assumption)))).trans (by first | assumption | exact upm_same _ _ _ | exact (upm_ne _ _ (by first | assumption | exact Ne.symm (by assumption) | omega | exact ne_mp (m := m) (by assumption) (by assumption) | exact Ne.symm (ne_mp (m := m) (by assumption) (by assumption)) | exact ne_mp (m := w) (by assumption) (by assumption) | exact Ne.symm (ne_mp (m := w) (by assumption) (by assumption)))).trans (by first | assumption | exact upm_same _ _ _))))) rfl (by decide) rfl) rfl ?_
      refine z_V (ci := ciJ13) (T := TJ13) (N := 4) (na := 0) hX dX3_costOf_9 (c_J13_length D A (by first | assumption | exact Or.inl (by assumption) | exact Or.inr (by first | assumption | exact upm_same _ _ _ | exact (upm_ne _ _ (by first | assumption | exact Ne.symm (by assumption) | omega | exact ne_mp (m := m) (by assumption) (by assumption) | exact Ne.symm (ne_mp (m := m) (by assumption) (by assumption)) | exact ne_mp (m := w) (by assumption) (by assumption) | exact Ne.symm (ne_mp (m := w) (by assumption) (by assumption)))).trans (by first | assumption | exact upm_same _ _ _ | exact (upm_ne _ _ (by first | assumption | exact Ne.symm (by assumption) | omega | exact ne_mp (m := m) (by assumption) (by assumption) | exact Ne.symm (ne_mp (m := m) (by assumption) (by assumption)) | exact ne_mp (m := w) (by assumption) (by assumption) | exact Ne.symm (ne_mp (m := w) (by assumption) (by assumption)))).trans (by first | assumption | exact upm_same _ _ _ | exact (upm_ne _ _ (by first | assumption | exact Ne.symm (by assumption) | omega | exact ne_mp (m := m) (by assumption) (by assumption) | exact Ne.symm (ne_mp (m := m) (by assumption) (by assumption)) | exact ne_mp (m := w) (by assumption) (by assumption) | exact Ne.symm (ne_mp (m := w) (by assumption) (by assumption)))).trans (by first | assumption | exact upm_same _ _ _)))))) rfl q583 q538 q539 q116 q540 (by decide +kernel) ⟨Nat.le_of_ble_eq_true rfl, Nat.le_of_ble_eq_true rfl⟩ rfl rfl (Nat.le_of_ble_eq_true rfl) rfl (by first | exact Nat.le_of_ble_eq_true rfl | (show _ + 0 ≤ 0; omega)) (by first | exact Nat.le_of_ble_eq_true rfl | (show _ + 0 ≤ 0; omega)) (fun H h => ⟨h, cI.obE h (by first | assumption | exact Or.inl (by assumption) | exact Or.inr (by first | assumption | exact upm_same _ _ _ | exact (upm_ne _ _ (by first | assumption | exact Ne.symm (by assumption) | omega | exact ne_mp (m := m) (by assumption) (by assumption) | exact Ne.symm (ne_mp (m := m) (by assumption) (by assumption)) | exact ne_mp (m := w) (by assumption) (by assumption) | exact Ne.symm (ne_mp (m := w) (by assumption) (by assumption)))).trans (by first | assumption | exact upm_same _ _ _ | exact (upm_ne _ _ (by first | assumption | exact Ne.symm (by assumption) | omega | exact ne_mp (m := m) (by assumption) (by assumption) | exact Ne.symm (ne_mp (m := m) (by assumption) (by assumption)) | exact ne_mp (m := w) (by assumption) (by assumption) | exact Ne.symm (ne_mp (m := w) (by assumption) (by assumption)))).trans (by first | assumption | exact upm_same _ _ _ | exact (upm_ne _ _ (by first | assumption | exact Ne.symm (by assumption) | omega | exact ne_mp (m := m) (by assumption) (by assumption) | exact Ne.symm (ne_mp (m := m) (by assumption) (by assumption)) | exact ne_mp (m := w) (by assumption) (by assumption) | exact Ne.symm (ne_mp (m := w) (by assumption) (by assumption)))).trans (by first | assumption | exact upm_same _ _ _))))) rfl⟩) (fun E a => zT.no) (zPd.out ?_)
      show zG X (_ + 0) (_ + 0) _ 12 _ _
      refine z_istore_n (i := 3) (q := 13) hX dX3_costOf_12 rfl (Nat.le_of_ble_eq_true rfl) rfl rfl ?_
      refine z_iload_n (i := 1) (q := 14) hX dX3_costOf_13 rfl rfl rfl ?_
      by_cases s14_0 : way = 0
      · refine z_tableIn (t := 40) hX dX3_costOf_14 (by omega) (by omega) (by omega) (by rw [s14_0]; rfl) (by decide) ?_
        exact absurd s14_0 (by omega)
      by_cases s14_1 : way = 1
      · refine z_tableIn (t := 44) hX dX3_costOf_14 (by omega) (by omega) (by omega) (by rw [s14_1]; rfl) (by decide) ?_
        exact absurd s14_1 (by omega)
      by_cases s14_2 : way = 2
      · refine z_tableIn (t := 62) hX dX3_costOf_14 (by omega) (by omega) (by omega) (by rw [s14_2]; rfl) (by decide) ?_
        exact absurd s14_2 (by omega)
      refine z_tableOut (t := 78) hX dX3_costOf_14 (by omega) (by omega) (by decide) ?_
      refine z_iconst (q := 79) hX dX3_costOf_78 rfl ?_
      refine z_aload_n (i := 0) (q := 80) hX dX3_costOf_79 rfl rfl rfl ?_
      refine zr_get (C := RX3) (T := TX3) (N := 2) (q := 83) hX ciX3 0 rfl (by decide) in_X3 dX3_costOf_80 q194 (Or.inl rfl) (fun H h => cI.rd h (by first | assumption | exact Or.inl (by assumption) | exact Or.inr (by first | assumption | exact upm_same _ _ _ | exact (upm_ne _ _ (by first | assumption | exact Ne.symm (by assumption) | omega | exact ne_mp (m := m) (by assumption) (by assumption) | exact Ne.symm (ne_mp (m := m) (by assumption) (by assumption)) | exact ne_mp (m := w) (by assumption) (by assumption) | exact Ne.symm (ne_mp (m := w) (by assumption) (by assumption)))).trans (by first | assumption | exact upm_same _ _ _ | exact (upm_ne _ _ (by first | assumption | exact Ne.symm (by assumption) | omega | exact ne_mp (m := m) (by assumption) (by assumption) | exact Ne.symm (ne_mp (m := m) (by assumption) (by assumption)) | exact ne_mp (m := w) (by assumption) (by assumption) | exact Ne.symm (ne_mp (m := w) (by assumption) (by assumption)))).trans (by first | assumption | exact upm_same _ _ _ | exact (upm_ne _ _ (by first | assumption | exact Ne.symm (by assumption) | omega | exact ne_mp (m := m) (by assumption) (by assumption) | exact Ne.symm (ne_mp (m := m) (by assumption) (by assumption)) | exact ne_mp (m := w) (by assumption) (by assumption) | exact Ne.symm (ne_mp (m := w) (by assumption) (by assumption)))).trans (by first | assumption | exact upm_same _ _ _))))) rfl (by decide) rfl) rfl ?_
      refine z_iload_n (i := 2) (q := 84) hX dX3_costOf_83 rfl rfl rfl ?_
      refine zr_aald (q := 85) hX 6 rfl dX3_costOf_84 (fun H h => (cI.at h (by first | assumption | exact Or.inl (by assumption) | exact Or.inr (by first | assumption | exact upm_same _ _ _ | exact (upm_ne _ _ (by first | assumption | exact Ne.symm (by assumption) | omega | exact ne_mp (m := m) (by assumption) (by assumption) | exact Ne.symm (ne_mp (m := m) (by assumption) (by assumption)) | exact ne_mp (m := w) (by assumption) (by assumption) | exact Ne.symm (ne_mp (m := w) (by assumption) (by assumption)))).trans (by first | assumption | exact upm_same _ _ _ | exact (upm_ne _ _ (by first | assumption | exact Ne.symm (by assumption) | omega | exact ne_mp (m := m) (by assumption) (by assumption) | exact Ne.symm (ne_mp (m := m) (by assumption) (by assumption)) | exact ne_mp (m := w) (by assumption) (by assumption) | exact Ne.symm (ne_mp (m := w) (by assumption) (by assumption)))).trans (by first | assumption | exact upm_same _ _ _ | exact (upm_ne _ _ (by first | assumption | exact Ne.symm (by assumption) | omega | exact ne_mp (m := m) (by assumption) (by assumption) | exact Ne.symm (ne_mp (m := m) (by assumption) (by assumption)) | exact ne_mp (m := w) (by assumption) (by assumption) | exact Ne.symm (ne_mp (m := w) (by assumption) (by assumption)))).trans (by first | assumption | exact upm_same _ _ _)))))).raQ) ⟨by omega, by omega⟩ (by first | decide | omega) rfl ?_
      refine zG.top (v2 := .ref x) (by show va_rf (f 0) = _; rw [hx1]; rfl) ?_
      refine z_V (ci := ciX6) (T := TX6) (N := 2) (na := 0) hX dX3_costOf_85 (c_X6_number D A hx20) rfl q608 q609 q610 q123 q611 (by decide +kernel) ⟨Nat.le_of_ble_eq_true rfl, Nat.le_of_ble_eq_true rfl⟩ rfl rfl (Nat.le_of_ble_eq_true rfl) rfl (by first | exact Nat.le_of_ble_eq_true rfl | (show _ + 0 ≤ 0; omega)) (by first | exact Nat.le_of_ble_eq_true rfl | (show _ + 0 ≤ 0; omega)) (fun H h => ⟨h, cI.obE h (by first | assumption | exact Or.inl (by assumption) | exact Or.inr (by first | assumption | exact upm_same _ _ _ | exact (upm_ne _ _ (by first | assumption | exact Ne.symm (by assumption) | omega | exact ne_mp (m := m) (by assumption) (by assumption) | exact Ne.symm (ne_mp (m := m) (by assumption) (by assumption)) | exact ne_mp (m := w) (by assumption) (by assumption) | exact Ne.symm (ne_mp (m := w) (by assumption) (by assumption)))).trans (by first | assumption | exact upm_same _ _ _ | exact (upm_ne _ _ (by first | assumption | exact Ne.symm (by assumption) | omega | exact ne_mp (m := m) (by assumption) (by assumption) | exact Ne.symm (ne_mp (m := m) (by assumption) (by assumption)) | exact ne_mp (m := w) (by assumption) (by assumption) | exact Ne.symm (ne_mp (m := w) (by assumption) (by assumption)))).trans (by first | assumption | exact upm_same _ _ _ | exact (upm_ne _ _ (by first | assumption | exact Ne.symm (by assumption) | omega | exact ne_mp (m := m) (by assumption) (by assumption) | exact Ne.symm (ne_mp (m := m) (by assumption) (by assumption)) | exact ne_mp (m := w) (by assumption) (by assumption) | exact Ne.symm (ne_mp (m := w) (by assumption) (by assumption)))).trans (by first | assumption | exact upm_same _ _ _))))) rfl⟩) (fun E a => zT.no) (zPd.out ?_)
      show zG X (_ + 0) (_ + 0) _ 88 _ _
      refine z_iload_n (i := 2) (q := 89) hX dX3_costOf_88 rfl rfl rfl ?_
      refine z_if_ne (q := 92) (t := 96) hX dX3_costOf_89 (by decide) (by decide) rfl (fun h89 => ?_) (fun h89 => ?_)
      · exact absurd rfl h89
      · refine z_iconst (q := 93) hX dX3_costOf_92 rfl ?_
        refine z_goto (t := 107) hX dX3_costOf_93 (by decide) ?_
        refine z_isub (q := 108) hX dX3_costOf_107 rfl ?_
        refine z_S (na := 1) hX dX3_costOf_108 (c_X3_digits D A ⟨by omega, by omega⟩) q649 q650 q102 q651 (by decide +kernel) ⟨Nat.le_of_ble_eq_true rfl, Nat.le_of_ble_eq_true rfl⟩ rfl rfl (Nat.le_of_ble_eq_true rfl) rfl (by first | exact Nat.le_of_ble_eq_true rfl | (show _ + 0 ≤ 0; omega)) (by first | exact Nat.le_of_ble_eq_true rfl | (show _ + 0 ≤ 0; omega)) (fun H h => h) (fun E a => zT.no) (zPd.out ?_)
        show zG X (_ + 0) (_ + 0) _ 111 _ _
        refine z_iadd (q := 112) hX dX3_costOf_111 rfl ?_
        exact z_iret hX dX3_costOf_112 (by first | exact Nat.le_of_ble_eq_true rfl | (show (_ : Nat) ≤ 0; omega)) (by first | exact Nat.le_of_ble_eq_true rfl | (show (_ : Nat) ≤ 0; omega)) rfl (fun H h => ⟨congrArg (fun z => some (zI z)) (by rw [hw3, coF3, if_pos (show ((0 : Nat) : Int) = 0 from rfl)]), h⟩)
    · obtain ⟨q, hq⟩ : ∃ q : Nat, r = q + 1 := ⟨r - 1, by omega⟩
      obtain ⟨y, hy1, hy2⟩ := h4 q (by omega)
      have ht2 : typ (c q) = 2 := of_decide_eq_true (allI_iff.mp hall q (by omega))
      have hr2 := num_rng ht2
      obtain ⟨fs, hy3⟩ := hy2.it
      refine z_aload_n (i := 0) (q := 1) hX dX3_costOf_0 rfl rfl rfl ?_
      refine zr_get (C := RX3) (T := TX3) (N := 2) (q := 4) hX ciX3 0 rfl (by decide) in_X3 dX3_costOf_1 q194 (Or.inl rfl) (fun H h => cI.rd h (by first | assumption | exact Or.inl (by assumption) | exact Or.inr (by first | assumption | exact upm_same _ _ _ | exact (upm_ne _ _ (by first | assumption | exact Ne.symm (by assumption) | omega | exact ne_mp (m := m) (by assumption) (by assumption) | exact Ne.symm (ne_mp (m := m) (by assumption) (by assumption)) | exact ne_mp (m := w) (by assumption) (by assumption) | exact Ne.symm (ne_mp (m := w) (by assumption) (by assumption)))).trans (by first | assumption | exact upm_same _ _ _ | exact (upm_ne _ _ (by first | assumption | exact Ne.symm (by assumption) | omega | exact ne_mp (m := m) (by assumption) (by assumption) | exact Ne.symm (ne_mp (m := m) (by assumption) (by assumption)) | exact ne_mp (m := w) (by assumption) (by assumption) | exact Ne.symm (ne_mp (m := w) (by assumption) (by assumption)))).trans (by first | assumption | exact upm_same _ _ _ | exact (upm_ne _ _ (by first | assumption | exact Ne.symm (by assumption) | omega | exact ne_mp (m := m) (by assumption) (by assumption) | exact Ne.symm (ne_mp (m := m) (by assumption) (by assumption)) | exact ne_mp (m := w) (by assumption) (by assumption) | exact Ne.symm (ne_mp (m := w) (by assumption) (by assumption)))).trans (by first | assumption | exact upm_same _ _ _))))) rfl (by decide) rfl) rfl ?_
      refine z_iload_n (i := 2) (q := 5) hX dX3_costOf_4 rfl rfl rfl ?_
      refine zr_aald (q := 6) hX 6 rfl dX3_costOf_5 (fun H h => (cI.at h (by first | assumption | exact Or.inl (by assumption) | exact Or.inr (by first | assumption | exact upm_same _ _ _ | exact (upm_ne _ _ (by first | assumption | exact Ne.symm (by assumption) | omega | exact ne_mp (m := m) (by assumption) (by assumption) | exact Ne.symm (ne_mp (m := m) (by assumption) (by assumption)) | exact ne_mp (m := w) (by assumption) (by assumption) | exact Ne.symm (ne_mp (m := w) (by assumption) (by assumption)))).trans (by first | assumption | exact upm_same _ _ _ | exact (upm_ne _ _ (by first | assumption | exact Ne.symm (by assumption) | omega | exact ne_mp (m := m) (by assumption) (by assumption) | exact Ne.symm (ne_mp (m := m) (by assumption) (by assumption)) | exact ne_mp (m := w) (by assumption) (by assumption) | exact Ne.symm (ne_mp (m := w) (by assumption) (by assumption)))).trans (by first | assumption | exact upm_same _ _ _ | exact (upm_ne _ _ (by first | assumption | exact Ne.symm (by assumption) | omega | exact ne_mp (m := m) (by assumption) (by assumption) | exact Ne.symm (ne_mp (m := m) (by assumption) (by assumption)) | exact ne_mp (m := w) (by assumption) (by assumption) | exact Ne.symm (ne_mp (m := w) (by assumption) (by assumption)))).trans (by first | assumption | exact upm_same _ _ _)))))).raQ) ⟨by omega, by omega⟩ (by first | decide | omega) rfl ?_
      refine zG.top (v2 := .ref x) (by show va_rf (f ((r : Int)).toNat) = _; rw [Int.toNat_natCast, hx1]; rfl) ?_
      refine zr_getN (C := RX6) (T := TX6) (N := 2) (q := 9) hX ciX6 0 rfl (by decide) in_X6 dX3_costOf_6 (zNF_at 17 rfl) (fun H h => cI.rd h (by first | assumption | exact Or.inl (by assumption) | exact Or.inr (by first | assumption | exact upm_same _ _ _ | exact (upm_ne _ _ (by first | assumption | exact Ne.symm (by assumption) | omega | exact ne_mp (m := m) (by assumption) (by assumption) | exact Ne.symm (ne_mp (m := m) (by assumption) (by assumption)) | exact ne_mp (m := w) (by assumption) (by assumption) | exact Ne.symm (ne_mp (m := w) (by assumption) (by assumption)))).trans (by first | assumption | exact upm_same _ _ _ | exact (upm_ne _ _ (by first | assumption | exact Ne.symm (by assumption) | omega | exact ne_mp (m := m) (by assumption) (by assumption) | exact Ne.symm (ne_mp (m := m) (by assumption) (by assumption)) | exact ne_mp (m := w) (by assumption) (by assumption) | exact Ne.symm (ne_mp (m := w) (by assumption) (by assumption)))).trans (by first | assumption | exact upm_same _ _ _ | exact (upm_ne _ _ (by first | assumption | exact Ne.symm (by assumption) | omega | exact ne_mp (m := m) (by assumption) (by assumption) | exact Ne.symm (ne_mp (m := m) (by assumption) (by assumption)) | exact ne_mp (m := w) (by assumption) (by assumption) | exact Ne.symm (ne_mp (m := w) (by assumption) (by assumption)))).trans (by first | assumption | exact upm_same _ _ _))))) rfl (by decide) rfl) rfl ?_
      refine z_V (ci := ciJ13) (T := TJ13) (N := 4) (na := 0) hX dX3_costOf_9 (c_J13_length D A (by first | assumption | exact Or.inl (by assumption) | exact Or.inr (by first | assumption | exact upm_same _ _ _ | exact (upm_ne _ _ (by first | assumption | exact Ne.symm (by assumption) | omega | exact ne_mp (m := m) (by assumption) (by assumption) | exact Ne.symm (ne_mp (m := m) (by assumption) (by assumption)) | exact ne_mp (m := w) (by assumption) (by assumption) | exact Ne.symm (ne_mp (m := w) (by assumption) (by assumption)))).trans (by first | assumption | exact upm_same _ _ _ | exact (upm_ne _ _ (by first | assumption | exact Ne.symm (by assumption) | omega | exact ne_mp (m := m) (by assumption) (by assumption) | exact Ne.symm (ne_mp (m := m) (by assumption) (by assumption)) | exact ne_mp (m := w) (by assumption) (by assumption) | exact Ne.symm (ne_mp (m := w) (by assumption) (by assumption)))).trans (by first | assumption | exact upm_same _ _ _ | exact (upm_ne _ _ (by first | assumption | exact Ne.symm (by assumption) | omega | exact ne_mp (m := m) (by assumption) (by assumption) | exact Ne.symm (ne_mp (m := m) (by assumption) (by assumption)) | exact ne_mp (m := w) (by assumption) (by assumption) | exact Ne.symm (ne_mp (m := w) (by assumption) (by assumption)))).trans (by first | assumption | exact upm_same _ _ _)))))) rfl q583 q538 q539 q116 q540 (by decide +kernel) ⟨Nat.le_of_ble_eq_true rfl, Nat.le_of_ble_eq_true rfl⟩ rfl rfl (Nat.le_of_ble_eq_true rfl) rfl (by first | exact Nat.le_of_ble_eq_true rfl | (show _ + 0 ≤ 0; omega)) (by first | exact Nat.le_of_ble_eq_true rfl | (show _ + 0 ≤ 0; omega)) (fun H h => ⟨h, cI.obE h (by first | assumption | exact Or.inl (by assumption) | exact Or.inr (by first | assumption | exact upm_same _ _ _ | exact (upm_ne _ _ (by first | assumption | exact Ne.symm (by assumption) | omega | exact ne_mp (m := m) (by assumption) (by assumption) | exact Ne.symm (ne_mp (m := m) (by assumption) (by assumption)) | exact ne_mp (m := w) (by assumption) (by assumption) | exact Ne.symm (ne_mp (m := w) (by assumption) (by assumption)))).trans (by first | assumption | exact upm_same _ _ _ | exact (upm_ne _ _ (by first | assumption | exact Ne.symm (by assumption) | omega | exact ne_mp (m := m) (by assumption) (by assumption) | exact Ne.symm (ne_mp (m := m) (by assumption) (by assumption)) | exact ne_mp (m := w) (by assumption) (by assumption) | exact Ne.symm (ne_mp (m := w) (by assumption) (by assumption)))).trans (by first | assumption | exact upm_same _ _ _ | exact (upm_ne _ _ (by first | assumption | exact Ne.symm (by assumption) | omega | exact ne_mp (m := m) (by assumption) (by assumption) | exact Ne.symm (ne_mp (m := m) (by assumption) (by assumption)) | exact ne_mp (m := w) (by assumption) (by assumption) | exact Ne.symm (ne_mp (m := w) (by assumption) (by assumption)))).trans (by first | assumption | exact upm_same _ _ _))))) rfl⟩) (fun E a => zT.no) (zPd.out ?_)
      show zG X (_ + 0) (_ + 0) _ 12 _ _
      refine z_istore_n (i := 3) (q := 13) hX dX3_costOf_12 rfl (Nat.le_of_ble_eq_true rfl) rfl rfl ?_
      refine z_iload_n (i := 1) (q := 14) hX dX3_costOf_13 rfl rfl rfl ?_
      by_cases s14_0 : way = 0
      · refine z_tableIn (t := 40) hX dX3_costOf_14 (by omega) (by omega) (by omega) (by rw [s14_0]; rfl) (by decide) ?_
        exact absurd s14_0 (by omega)
      by_cases s14_1 : way = 1
      · refine z_tableIn (t := 44) hX dX3_costOf_14 (by omega) (by omega) (by omega) (by rw [s14_1]; rfl) (by decide) ?_
        exact absurd s14_1 (by omega)
      by_cases s14_2 : way = 2
      · refine z_tableIn (t := 62) hX dX3_costOf_14 (by omega) (by omega) (by omega) (by rw [s14_2]; rfl) (by decide) ?_
        exact absurd s14_2 (by omega)
      refine z_tableOut (t := 78) hX dX3_costOf_14 (by omega) (by omega) (by decide) ?_
      refine z_iconst (q := 79) hX dX3_costOf_78 rfl ?_
      refine z_aload_n (i := 0) (q := 80) hX dX3_costOf_79 rfl rfl rfl ?_
      refine zr_get (C := RX3) (T := TX3) (N := 2) (q := 83) hX ciX3 0 rfl (by decide) in_X3 dX3_costOf_80 q194 (Or.inl rfl) (fun H h => cI.rd h (by first | assumption | exact Or.inl (by assumption) | exact Or.inr (by first | assumption | exact upm_same _ _ _ | exact (upm_ne _ _ (by first | assumption | exact Ne.symm (by assumption) | omega | exact ne_mp (m := m) (by assumption) (by assumption) | exact Ne.symm (ne_mp (m := m) (by assumption) (by assumption)) | exact ne_mp (m := w) (by assumption) (by assumption) | exact Ne.symm (ne_mp (m := w) (by assumption) (by assumption)))).trans (by first | assumption | exact upm_same _ _ _ | exact (upm_ne _ _ (by first | assumption | exact Ne.symm (by assumption) | omega | exact ne_mp (m := m) (by assumption) (by assumption) | exact Ne.symm (ne_mp (m := m) (by assumption) (by assumption)) | exact ne_mp (m := w) (by assumption) (by assumption) | exact Ne.symm (ne_mp (m := w) (by assumption) (by assumption)))).trans (by first | assumption | exact upm_same _ _ _ | exact (upm_ne _ _ (by first | assumption | exact Ne.symm (by assumption) | omega | exact ne_mp (m := m) (by assumption) (by assumption) | exact Ne.symm (ne_mp (m := m) (by assumption) (by assumption)) | exact ne_mp (m := w) (by assumption) (by assumption) | exact Ne.symm (ne_mp (m := w) (by assumption) (by assumption)))).trans (by first | assumption | exact upm_same _ _ _))))) rfl (by decide) rfl) rfl ?_
      refine z_iload_n (i := 2) (q := 84) hX dX3_costOf_83 rfl rfl rfl ?_
      refine zr_aald (q := 85) hX 6 rfl dX3_costOf_84 (fun H h => (cI.at h (by first | assumption | exact Or.inl (by assumption) | exact Or.inr (by first | assumption | exact upm_same _ _ _ | exact (upm_ne _ _ (by first | assumption | exact Ne.symm (by assumption) | omega | exact ne_mp (m := m) (by assumption) (by assumption) | exact Ne.symm (ne_mp (m := m) (by assumption) (by assumption)) | exact ne_mp (m := w) (by assumption) (by assumption) | exact Ne.symm (ne_mp (m := w) (by assumption) (by assumption)))).trans (by first | assumption | exact upm_same _ _ _ | exact (upm_ne _ _ (by first | assumption | exact Ne.symm (by assumption) | omega | exact ne_mp (m := m) (by assumption) (by assumption) | exact Ne.symm (ne_mp (m := m) (by assumption) (by assumption)) | exact ne_mp (m := w) (by assumption) (by assumption) | exact Ne.symm (ne_mp (m := w) (by assumption) (by assumption)))).trans (by first | assumption | exact upm_same _ _ _ | exact (upm_ne _ _ (by first | assumption | exact Ne.symm (by assumption) | omega | exact ne_mp (m := m) (by assumption) (by assumption) | exact Ne.symm (ne_mp (m := m) (by assumption) (by assumption)) | exact ne_mp (m := w) (by assumption) (by assumption) | exact Ne.symm (ne_mp (m := w) (by assumption) (by assumption)))).trans (by first | assumption | exact upm_same _ _ _)))))).raQ) ⟨by omega, by omega⟩ (by first | decide | omega) rfl ?_
      refine zG.top (v2 := .ref x) (by show va_rf (f ((r : Int)).toNat) = _; rw [Int.toNat_natCast, hx1]; rfl) ?_
      refine z_V (ci := ciX6) (T := TX6) (N := 2) (na := 0) hX dX3_costOf_85 (c_X6_number D A hx20) rfl q608 q609 q610 q123 q611 (by decide +kernel) ⟨Nat.le_of_ble_eq_true rfl, Nat.le_of_ble_eq_true rfl⟩ rfl rfl (Nat.le_of_ble_eq_true rfl) rfl (by first | exact Nat.le_of_ble_eq_true rfl | (show _ + 0 ≤ 0; omega)) (by first | exact Nat.le_of_ble_eq_true rfl | (show _ + 0 ≤ 0; omega)) (fun H h => ⟨h, cI.obE h (by first | assumption | exact Or.inl (by assumption) | exact Or.inr (by first | assumption | exact upm_same _ _ _ | exact (upm_ne _ _ (by first | assumption | exact Ne.symm (by assumption) | omega | exact ne_mp (m := m) (by assumption) (by assumption) | exact Ne.symm (ne_mp (m := m) (by assumption) (by assumption)) | exact ne_mp (m := w) (by assumption) (by assumption) | exact Ne.symm (ne_mp (m := w) (by assumption) (by assumption)))).trans (by first | assumption | exact upm_same _ _ _ | exact (upm_ne _ _ (by first | assumption | exact Ne.symm (by assumption) | omega | exact ne_mp (m := m) (by assumption) (by assumption) | exact Ne.symm (ne_mp (m := m) (by assumption) (by assumption)) | exact ne_mp (m := w) (by assumption) (by assumption) | exact Ne.symm (ne_mp (m := w) (by assumption) (by assumption)))).trans (by first | assumption | exact upm_same _ _ _ | exact (upm_ne _ _ (by first | assumption | exact Ne.symm (by assumption) | omega | exact ne_mp (m := m) (by assumption) (by assumption) | exact Ne.symm (ne_mp (m := m) (by assumption) (by assumption)) | exact ne_mp (m := w) (by assumption) (by assumption) | exact Ne.symm (ne_mp (m := w) (by assumption) (by assumption)))).trans (by first | assumption | exact upm_same _ _ _))))) rfl⟩) (fun E a => zT.no) (zPd.out ?_)
      show zG X (_ + 0) (_ + 0) _ 88 _ _
      refine z_iload_n (i := 2) (q := 89) hX dX3_costOf_88 rfl rfl rfl ?_
      refine z_if_ne (q := 92) (t := 96) hX dX3_costOf_89 (by decide) ⟨by omega, by omega⟩ rfl (fun h89 => ?_) (fun h89 => ?_)
      · refine z_aload_n (i := 0) (q := 97) hX dX3_costOf_96 rfl rfl rfl ?_
        refine zr_get (C := RX3) (T := TX3) (N := 2) (q := 100) hX ciX3 0 rfl (by decide) in_X3 dX3_costOf_97 q194 (Or.inl rfl) (fun H h => cI.rd h (by first | assumption | exact Or.inl (by assumption) | exact Or.inr (by first | assumption | exact upm_same _ _ _ | exact (upm_ne _ _ (by first | assumption | exact Ne.symm (by assumption) | omega | exact ne_mp (m := m) (by assumption) (by assumption) | exact Ne.symm (ne_mp (m := m) (by assumption) (by assumption)) | exact ne_mp (m := w) (by assumption) (by assumption) | exact Ne.symm (ne_mp (m := w) (by assumption) (by assumption)))).trans (by first | assumption | exact upm_same _ _ _ | exact (upm_ne _ _ (by first | assumption | exact Ne.symm (by assumption) | omega | exact ne_mp (m := m) (by assumption) (by assumption) | exact Ne.symm (ne_mp (m := m) (by assumption) (by assumption)) | exact ne_mp (m := w) (by assumption) (by assumption) | exact Ne.symm (ne_mp (m := w) (by assumption) (by assumption)))).trans (by first | assumption | exact upm_same _ _ _ | exact (upm_ne _ _ (by first | assumption | exact Ne.symm (by assumption) | omega | exact ne_mp (m := m) (by assumption) (by assumption) | exact Ne.symm (ne_mp (m := m) (by assumption) (by assumption)) | exact ne_mp (m := w) (by assumption) (by assumption) | exact Ne.symm (ne_mp (m := w) (by assumption) (by assumption)))).trans (by first | assumption | exact upm_same _ _ _))))) rfl (by decide) rfl) rfl ?_
        refine z_iload_n (i := 2) (q := 101) hX dX3_costOf_100 rfl rfl rfl ?_
        refine z_iconst (q := 102) hX dX3_costOf_101 rfl ?_
        refine z_isub (q := 103) hX dX3_costOf_102 rfl ?_
        rw [show (r : Int) - 1 = (q : Int) by omega]
        refine zr_aald (q := 104) hX 6 rfl dX3_costOf_103 (fun H h => (cI.at h (by first | assumption | exact Or.inl (by assumption) | exact Or.inr (by first | assumption | exact upm_same _ _ _ | exact (upm_ne _ _ (by first | assumption | exact Ne.symm (by assumption) | omega | exact ne_mp (m := m) (by assumption) (by assumption) | exact Ne.symm (ne_mp (m := m) (by assumption) (by assumption)) | exact ne_mp (m := w) (by assumption) (by assumption) | exact Ne.symm (ne_mp (m := w) (by assumption) (by assumption)))).trans (by first | assumption | exact upm_same _ _ _ | exact (upm_ne _ _ (by first | assumption | exact Ne.symm (by assumption) | omega | exact ne_mp (m := m) (by assumption) (by assumption) | exact Ne.symm (ne_mp (m := m) (by assumption) (by assumption)) | exact ne_mp (m := w) (by assumption) (by assumption) | exact Ne.symm (ne_mp (m := w) (by assumption) (by assumption)))).trans (by first | assumption | exact upm_same _ _ _ | exact (upm_ne _ _ (by first | assumption | exact Ne.symm (by assumption) | omega | exact ne_mp (m := m) (by assumption) (by assumption) | exact Ne.symm (ne_mp (m := m) (by assumption) (by assumption)) | exact ne_mp (m := w) (by assumption) (by assumption) | exact Ne.symm (ne_mp (m := w) (by assumption) (by assumption)))).trans (by first | assumption | exact upm_same _ _ _)))))).raQ) ⟨by omega, by omega⟩ (by first | decide | omega) rfl ?_
        refine zG.top (v2 := .ref y) (by show va_rf (f ((q : Int)).toNat) = _; rw [Int.toNat_natCast, hy1]; rfl) ?_
        refine z_V (ci := ciX6) (T := TX6) (N := 2) (na := 0) hX dX3_costOf_104 (c_X6_number D A hy2) rfl q608 q609 q610 q123 q611 (by decide +kernel) ⟨Nat.le_of_ble_eq_true rfl, Nat.le_of_ble_eq_true rfl⟩ rfl rfl (Nat.le_of_ble_eq_true rfl) rfl (by first | exact Nat.le_of_ble_eq_true rfl | (show _ + 0 ≤ 0; omega)) (by first | exact Nat.le_of_ble_eq_true rfl | (show _ + 0 ≤ 0; omega)) (fun H h => ⟨h, h.obE (Or.inl hy3) rfl⟩) (fun E a => zT.no) (zPd.out ?_)
        show zG X (_ + 0) (_ + 0) _ 107 _ _
        refine z_isub (q := 108) hX dX3_costOf_107 rfl ?_
        refine z_S (na := 1) hX dX3_costOf_108 (c_X3_digits D A ⟨by omega, by omega⟩) q649 q650 q102 q651 (by decide +kernel) ⟨Nat.le_of_ble_eq_true rfl, Nat.le_of_ble_eq_true rfl⟩ rfl rfl (Nat.le_of_ble_eq_true rfl) rfl (by first | exact Nat.le_of_ble_eq_true rfl | (show _ + 0 ≤ 0; omega)) (by first | exact Nat.le_of_ble_eq_true rfl | (show _ + 0 ≤ 0; omega)) (fun H h => h) (fun E a => zT.no) (zPd.out ?_)
        show zG X (_ + 0) (_ + 0) _ 111 _ _
        refine z_iadd (q := 112) hX dX3_costOf_111 rfl ?_
        exact z_iret hX dX3_costOf_112 (by first | exact Nat.le_of_ble_eq_true rfl | (show (_ : Nat) ≤ 0; omega)) (by first | exact Nat.le_of_ble_eq_true rfl | (show (_ : Nat) ≤ 0; omega)) rfl (fun H h => ⟨congrArg (fun z => some (zI z)) (by rw [hw3, coF3, if_neg (by omega), show (r : Int) - 1 = (q : Int) by omega]), h⟩)
      · exact absurd (by omega) h89
  · have hz9 : True := trivial
    refine z_aload_n (i := 0) (q := 1) hX dX3_costOf_0 rfl rfl rfl ?_
    refine zr_get (C := RX3) (T := TX3) (N := 2) (q := 4) hX ciX3 0 rfl (by decide) in_X3 dX3_costOf_1 q194 (Or.inl rfl) (fun H h => cI.rd h (by first | assumption | exact Or.inl (by assumption) | exact Or.inr (by first | assumption | exact upm_same _ _ _ | exact (upm_ne _ _ (by first | assumption | exact Ne.symm (by assumption) | omega | exact ne_mp (m := m) (by assumption) (by assumption) | exact Ne.symm (ne_mp (m := m) (by assumption) (by assumption)) | exact ne_mp (m := w) (by assumption) (by assumption) | exact Ne.symm (ne_mp (m := w) (by assumption) (by assumption)))).trans (by first | assumption | exact upm_same _ _ _ | exact (upm_ne _ _ (by first | assumption | exact Ne.symm (by assumption) | omega | exact ne_mp (m := m) (by assumption) (by assumption) | exact Ne.symm (ne_mp (m := m) (by assumption) (by assumption)) | exact ne_mp (m := w) (by assumption) (by assumption) | exact Ne.symm (ne_mp (m := w) (by assumption) (by assumption)))).trans (by first | assumption | exact upm_same _ _ _ | exact (upm_ne _ _ (by first | assumption | exact Ne.symm (by assumption) | omega | exact ne_mp (m := m) (by assumption) (by assumption) | exact Ne.symm (ne_mp (m := m) (by assumption) (by assumption)) | exact ne_mp (m := w) (by assumption) (by assumption) | exact Ne.symm (ne_mp (m := w) (by assumption) (by assumption)))).trans (by first | assumption | exact upm_same _ _ _))))) rfl (by decide) rfl) rfl ?_
    refine z_iload_n (i := 2) (q := 5) hX dX3_costOf_4 rfl rfl rfl ?_
    refine zr_aald (q := 6) hX 6 rfl dX3_costOf_5 (fun H h => (cI.at h (by first | assumption | exact Or.inl (by assumption) | exact Or.inr (by first | assumption | exact upm_same _ _ _ | exact (upm_ne _ _ (by first | assumption | exact Ne.symm (by assumption) | omega | exact ne_mp (m := m) (by assumption) (by assumption) | exact Ne.symm (ne_mp (m := m) (by assumption) (by assumption)) | exact ne_mp (m := w) (by assumption) (by assumption) | exact Ne.symm (ne_mp (m := w) (by assumption) (by assumption)))).trans (by first | assumption | exact upm_same _ _ _ | exact (upm_ne _ _ (by first | assumption | exact Ne.symm (by assumption) | omega | exact ne_mp (m := m) (by assumption) (by assumption) | exact Ne.symm (ne_mp (m := m) (by assumption) (by assumption)) | exact ne_mp (m := w) (by assumption) (by assumption) | exact Ne.symm (ne_mp (m := w) (by assumption) (by assumption)))).trans (by first | assumption | exact upm_same _ _ _ | exact (upm_ne _ _ (by first | assumption | exact Ne.symm (by assumption) | omega | exact ne_mp (m := m) (by assumption) (by assumption) | exact Ne.symm (ne_mp (m := m) (by assumption) (by assumption)) | exact ne_mp (m := w) (by assumption) (by assumption) | exact Ne.symm (ne_mp (m := w) (by assumption) (by assumption)))).trans (by first | assumption | exact upm_same _ _ _)))))).raQ) ⟨by omega, by omega⟩ (by first | decide | omega) rfl ?_
    refine zG.top (v2 := .ref x) (by show va_rf (f ((r : Int)).toNat) = _; rw [Int.toNat_natCast, hx1]; rfl) ?_
    refine zr_getN (C := RX6) (T := TX6) (N := 2) (q := 9) hX ciX6 0 rfl (by decide) in_X6 dX3_costOf_6 (zNF_at 17 rfl) (fun H h => cI.rd h (by first | assumption | exact Or.inl (by assumption) | exact Or.inr (by first | assumption | exact upm_same _ _ _ | exact (upm_ne _ _ (by first | assumption | exact Ne.symm (by assumption) | omega | exact ne_mp (m := m) (by assumption) (by assumption) | exact Ne.symm (ne_mp (m := m) (by assumption) (by assumption)) | exact ne_mp (m := w) (by assumption) (by assumption) | exact Ne.symm (ne_mp (m := w) (by assumption) (by assumption)))).trans (by first | assumption | exact upm_same _ _ _ | exact (upm_ne _ _ (by first | assumption | exact Ne.symm (by assumption) | omega | exact ne_mp (m := m) (by assumption) (by assumption) | exact Ne.symm (ne_mp (m := m) (by assumption) (by assumption)) | exact ne_mp (m := w) (by assumption) (by assumption) | exact Ne.symm (ne_mp (m := w) (by assumption) (by assumption)))).trans (by first | assumption | exact upm_same _ _ _ | exact (upm_ne _ _ (by first | assumption | exact Ne.symm (by assumption) | omega | exact ne_mp (m := m) (by assumption) (by assumption) | exact Ne.symm (ne_mp (m := m) (by assumption) (by assumption)) | exact ne_mp (m := w) (by assumption) (by assumption) | exact Ne.symm (ne_mp (m := w) (by assumption) (by assumption)))).trans (by first | assumption | exact upm_same _ _ _))))) rfl (by decide) rfl) rfl ?_
    refine z_V (ci := ciJ13) (T := TJ13) (N := 4) (na := 0) hX dX3_costOf_9 (c_J13_length D A (by first | assumption | exact Or.inl (by assumption) | exact Or.inr (by first | assumption | exact upm_same _ _ _ | exact (upm_ne _ _ (by first | assumption | exact Ne.symm (by assumption) | omega | exact ne_mp (m := m) (by assumption) (by assumption) | exact Ne.symm (ne_mp (m := m) (by assumption) (by assumption)) | exact ne_mp (m := w) (by assumption) (by assumption) | exact Ne.symm (ne_mp (m := w) (by assumption) (by assumption)))).trans (by first | assumption | exact upm_same _ _ _ | exact (upm_ne _ _ (by first | assumption | exact Ne.symm (by assumption) | omega | exact ne_mp (m := m) (by assumption) (by assumption) | exact Ne.symm (ne_mp (m := m) (by assumption) (by assumption)) | exact ne_mp (m := w) (by assumption) (by assumption) | exact Ne.symm (ne_mp (m := w) (by assumption) (by assumption)))).trans (by first | assumption | exact upm_same _ _ _ | exact (upm_ne _ _ (by first | assumption | exact Ne.symm (by assumption) | omega | exact ne_mp (m := m) (by assumption) (by assumption) | exact Ne.symm (ne_mp (m := m) (by assumption) (by assumption)) | exact ne_mp (m := w) (by assumption) (by assumption) | exact Ne.symm (ne_mp (m := w) (by assumption) (by assumption)))).trans (by first | assumption | exact upm_same _ _ _)))))) rfl q583 q538 q539 q116 q540 (by decide +kernel) ⟨Nat.le_of_ble_eq_true rfl, Nat.le_of_ble_eq_true rfl⟩ rfl rfl (Nat.le_of_ble_eq_true rfl) rfl (by first | exact Nat.le_of_ble_eq_true rfl | (show _ + 0 ≤ 0; omega)) (by first | exact Nat.le_of_ble_eq_true rfl | (show _ + 0 ≤ 0; omega)) (fun H h => ⟨h, cI.obE h (by first | assumption | exact Or.inl (by assumption) | exact Or.inr (by first | assumption | exact upm_same _ _ _ | exact (upm_ne _ _ (by first | assumption | exact Ne.symm (by assumption) | omega | exact ne_mp (m := m) (by assumption) (by assumption) | exact Ne.symm (ne_mp (m := m) (by assumption) (by assumption)) | exact ne_mp (m := w) (by assumption) (by assumption) | exact Ne.symm (ne_mp (m := w) (by assumption) (by assumption)))).trans (by first | assumption | exact upm_same _ _ _ | exact (upm_ne _ _ (by first | assumption | exact Ne.symm (by assumption) | omega | exact ne_mp (m := m) (by assumption) (by assumption) | exact Ne.symm (ne_mp (m := m) (by assumption) (by assumption)) | exact ne_mp (m := w) (by assumption) (by assumption) | exact Ne.symm (ne_mp (m := w) (by assumption) (by assumption)))).trans (by first | assumption | exact upm_same _ _ _ | exact (upm_ne _ _ (by first | assumption | exact Ne.symm (by assumption) | omega | exact ne_mp (m := m) (by assumption) (by assumption) | exact Ne.symm (ne_mp (m := m) (by assumption) (by assumption)) | exact ne_mp (m := w) (by assumption) (by assumption) | exact Ne.symm (ne_mp (m := w) (by assumption) (by assumption)))).trans (by first | assumption | exact upm_same _ _ _))))) rfl⟩) (fun E a => zT.no) (zPd.out ?_)
    show zG X (_ + 0) (_ + 0) _ 12 _ _
    refine z_istore_n (i := 3) (q := 13) hX dX3_costOf_12 rfl (Nat.le_of_ble_eq_true rfl) rfl rfl ?_
    refine z_iload_n (i := 1) (q := 14) hX dX3_costOf_13 rfl rfl rfl ?_
    by_cases s14_0 : way = 0
    · refine z_tableIn (t := 40) hX dX3_costOf_14 (by omega) (by omega) (by omega) (by rw [s14_0]; rfl) (by decide) ?_
      refine z_iload_n (i := 3) (q := 41) hX dX3_costOf_40 rfl rfl rfl ?_
      refine z_iconst (q := 42) hX dX3_costOf_41 rfl ?_
      refine z_iadd (q := 43) hX dX3_costOf_42 rfl ?_
      exact z_iret hX dX3_costOf_43 (by first | exact Nat.le_of_ble_eq_true rfl | (show (_ : Nat) ≤ 0; omega)) (by first | exact Nat.le_of_ble_eq_true rfl | (show (_ : Nat) ≤ 0; omega)) rfl (fun H h => ⟨congrArg (fun z => some (zI z)) (by rw [s14_0, coF0]), h⟩)
    by_cases s14_1 : way = 1
    · refine z_tableIn (t := 44) hX dX3_costOf_14 (by omega) (by omega) (by omega) (by rw [s14_1]; rfl) (by decide) ?_
      refine z_iconst (q := 45) hX dX3_costOf_44 rfl ?_
      refine z_aload_n (i := 0) (q := 46) hX dX3_costOf_45 rfl rfl rfl ?_
      refine z_iload_n (i := 2) (q := 47) hX dX3_costOf_46 rfl rfl rfl ?_
      refine z_V (ci := ciX3) (T := TX3) (N := 2) (na := 1) hX dX3_costOf_47 (c_X3_isFirst D A hc0 hr) rfl q584 q586 qs7 q102 q587 (by decide +kernel) ⟨Nat.le_of_ble_eq_true rfl, Nat.le_of_ble_eq_true rfl⟩ rfl rfl (Nat.le_of_ble_eq_true rfl) rfl (by first | exact Nat.le_of_ble_eq_true rfl | (show _ + 0 ≤ 0; omega)) (by first | exact Nat.le_of_ble_eq_true rfl | (show _ + 0 ≤ 0; omega)) (fun H h => ⟨h, cI.obE h (by first | assumption | exact Or.inl (by assumption) | exact Or.inr (by first | assumption | exact upm_same _ _ _ | exact (upm_ne _ _ (by first | assumption | exact Ne.symm (by assumption) | omega | exact ne_mp (m := m) (by assumption) (by assumption) | exact Ne.symm (ne_mp (m := m) (by assumption) (by assumption)) | exact ne_mp (m := w) (by assumption) (by assumption) | exact Ne.symm (ne_mp (m := w) (by assumption) (by assumption)))).trans (by first | assumption | exact upm_same _ _ _ | exact (upm_ne _ _ (by first | assumption | exact Ne.symm (by assumption) | omega | exact ne_mp (m := m) (by assumption) (by assumption) | exact Ne.symm (ne_mp (m := m) (by assumption) (by assumption)) | exact ne_mp (m := w) (by assumption) (by assumption) | exact Ne.symm (ne_mp (m := w) (by assumption) (by assumption)))).trans (by first | assumption | exact upm_same _ _ _ | exact (upm_ne _ _ (by first | assumption | exact Ne.symm (by assumption) | omega | exact ne_mp (m := m) (by assumption) (by assumption) | exact Ne.symm (ne_mp (m := m) (by assumption) (by assumption)) | exact ne_mp (m := w) (by assumption) (by assumption) | exact Ne.symm (ne_mp (m := w) (by assumption) (by assumption)))).trans (by first | assumption | exact upm_same _ _ _))))) rfl⟩) (fun E a => zT.no) (zPd.out ?_)
      show zG X (_ + 0) (_ + 0) _ 50 _ _
      refine z_ifB_eq (q := 53) (t := 59) hX dX3_costOf_50 (by decide) rfl (fun h50 => ?_) (fun h50 => ?_)
      · refine z_iconst (q := 60) hX dX3_costOf_59 rfl ?_
        refine z_iadd (q := 61) hX dX3_costOf_60 rfl ?_
        exact z_iret hX dX3_costOf_61 (by first | exact Nat.le_of_ble_eq_true rfl | (show (_ : Nat) ≤ 0; omega)) (by first | exact Nat.le_of_ble_eq_true rfl | (show (_ : Nat) ≤ 0; omega)) rfl (fun H h => ⟨congrArg (fun z => some (zI z)) (by rw [s14_1, coF1, if_neg (of_decide_eq_false h50)]), h⟩)
      · refine z_iload_n (i := 3) (q := 54) hX dX3_costOf_53 rfl rfl rfl ?_
        refine z_iconst (q := 55) hX dX3_costOf_54 rfl ?_
        refine z_iadd (q := 56) hX dX3_costOf_55 rfl ?_
        refine z_goto (t := 60) hX dX3_costOf_56 (by decide) ?_
        refine z_iadd (q := 61) hX dX3_costOf_60 rfl ?_
        exact z_iret hX dX3_costOf_61 (by first | exact Nat.le_of_ble_eq_true rfl | (show (_ : Nat) ≤ 0; omega)) (by first | exact Nat.le_of_ble_eq_true rfl | (show (_ : Nat) ≤ 0; omega)) rfl (fun H h => ⟨congrArg (fun z => some (zI z)) (by rw [s14_1, coF1, if_pos (of_decide_eq_true h50)]), h⟩)
    by_cases s14_2 : way = 2
    · refine z_tableIn (t := 62) hX dX3_costOf_14 (by omega) (by omega) (by omega) (by rw [s14_2]; rfl) (by decide) ?_
      refine z_aload_n (i := 0) (q := 63) hX dX3_costOf_62 rfl rfl rfl ?_
      refine z_iload_n (i := 2) (q := 64) hX dX3_costOf_63 rfl rfl rfl ?_
      refine z_V (ci := ciX3) (T := TX3) (N := 2) (na := 1) hX dX3_costOf_64 (c_X3_beginsRun D A hc0 hr) rfl q604 q606 qs9 q102 q607 (by decide +kernel) ⟨Nat.le_of_ble_eq_true rfl, Nat.le_of_ble_eq_true rfl⟩ rfl rfl (Nat.le_of_ble_eq_true rfl) rfl (by first | exact Nat.le_of_ble_eq_true rfl | (show _ + 0 ≤ 0; omega)) (by first | exact Nat.le_of_ble_eq_true rfl | (show _ + 0 ≤ 0; omega)) (fun H h => ⟨h, cI.obE h (by first | assumption | exact Or.inl (by assumption) | exact Or.inr (by first | assumption | exact upm_same _ _ _ | exact (upm_ne _ _ (by first | assumption | exact Ne.symm (by assumption) | omega | exact ne_mp (m := m) (by assumption) (by assumption) | exact Ne.symm (ne_mp (m := m) (by assumption) (by assumption)) | exact ne_mp (m := w) (by assumption) (by assumption) | exact Ne.symm (ne_mp (m := w) (by assumption) (by assumption)))).trans (by first | assumption | exact upm_same _ _ _ | exact (upm_ne _ _ (by first | assumption | exact Ne.symm (by assumption) | omega | exact ne_mp (m := m) (by assumption) (by assumption) | exact Ne.symm (ne_mp (m := m) (by assumption) (by assumption)) | exact ne_mp (m := w) (by assumption) (by assumption) | exact Ne.symm (ne_mp (m := w) (by assumption) (by assumption)))).trans (by first | assumption | exact upm_same _ _ _ | exact (upm_ne _ _ (by first | assumption | exact Ne.symm (by assumption) | omega | exact ne_mp (m := m) (by assumption) (by assumption) | exact Ne.symm (ne_mp (m := m) (by assumption) (by assumption)) | exact ne_mp (m := w) (by assumption) (by assumption) | exact Ne.symm (ne_mp (m := w) (by assumption) (by assumption)))).trans (by first | assumption | exact upm_same _ _ _))))) rfl⟩) (fun E a => zT.no) (zPd.out ?_)
      show zG X (_ + 0) (_ + 0) _ 67 _ _
      refine z_ifB_eq (q := 70) (t := 76) hX dX3_costOf_67 (by decide) rfl (fun h67 => ?_) (fun h67 => ?_)
      · refine z_iconst (q := 77) hX dX3_costOf_76 rfl ?_
        exact z_iret hX dX3_costOf_77 (by first | exact Nat.le_of_ble_eq_true rfl | (show (_ : Nat) ≤ 0; omega)) (by first | exact Nat.le_of_ble_eq_true rfl | (show (_ : Nat) ≤ 0; omega)) rfl (fun H h => ⟨congrArg (fun z => some (zI z)) (by rw [s14_2, coF2, h67]; rfl), h⟩)
      · refine z_iload_n (i := 3) (q := 71) hX dX3_costOf_70 rfl rfl rfl ?_
        refine z_iconst (q := 72) hX dX3_costOf_71 rfl ?_
        refine z_iadd (q := 73) hX dX3_costOf_72 rfl ?_
        refine z_goto (t := 77) hX dX3_costOf_73 (by decide) ?_
        exact z_iret hX dX3_costOf_77 (by first | exact Nat.le_of_ble_eq_true rfl | (show (_ : Nat) ≤ 0; omega)) (by first | exact Nat.le_of_ble_eq_true rfl | (show (_ : Nat) ≤ 0; omega)) rfl (fun H h => ⟨congrArg (fun z => some (zI z)) (by rw [s14_2, coF2, h67]; rfl), h⟩)
    refine z_tableOut (t := 78) hX dX3_costOf_14 (by omega) (by omega) (by decide) ?_
    exact absurd hw (by omega)
theorem wCol.cos {D : zD} {w m : zMp} {a ta n : Nat} {f : Nat → Option Nat} {c : Int → zS} (h : wCol D w m a ta n f c) (way : Int) : -1 ≤ cosI n c way ∧ cosI n c way ≤ 2000 := cos_rng h.2.2.1 (fun r h0 h1 => by
  obtain ⟨x, -, h2⟩ := h.2.2.2 r.toNat (by omega)
  rw [show ((r.toNat : Nat) : Int) = r by omega] at h2
  have := h2.1.2
  omega)
abbrev rmX3_cost : Room := { frames := 6, cells := 0, slots := 0, locals := 131 }
set_option maxHeartbeats 4000000 in
theorem c_X3_cost (D : zD) (A : Nat → Prop) {w m : zMp} {b : Nat} {ta n : Nat} {way : Int} {f : Nat → Option Nat} {c : Int → zS} (hc : wCol D w m b ta n f c) (hw : 0 ≤ way ∧ way ≤ 3) : zC D yX3_cost cX3_cost 4 (some .int) none rmX3_cost A [.ref b, zI (way)] (cI D A w m) (zPd (zI (cosI n c way)) (cI D A w m)) (zNo) := by
  refine zC_start (L := [some (.ref b), some (zI (way)), none, none]) (by decide) (Nat.le_of_ble_eq_true rfl) rfl (fun X hX => ?_)
  have hc0 := hc
  obtain ⟨h1, h2, h3, h4⟩ := hc
  by_cases hn : way = 3 → allI (fun r => decide (typ (c r) = 2)) n = true
  · have K : ∀ i : Nat, i ≤ n → ∀ v p : Int, v = sumI (fun r => coF c way r) i → p = i → zG X 0 0 (cI D A w m) 18 [some (.ref b), some (zI (way)), some (zI (v)), some (zI (p))] [] := by
      refine z_up (fun i hi ih v p ev ep => ?_)
      subst ep
      refine z_iload_n (i := 3) (q := 19) hX dX3_cost_18 rfl rfl rfl ?_
      refine z_aload_n (i := 0) (q := 20) hX dX3_cost_19 rfl rfl rfl ?_
      refine zr_get (C := RX3) (T := TX3) (N := 2) (q := 23) hX ciX3 1 rfl (by decide) in_X3 dX3_cost_20 q196 (Or.inl rfl) (fun H h => cI.rd h (by first | assumption | exact Or.inl (by assumption) | exact Or.inr (by first | assumption | exact upm_same _ _ _ | exact (upm_ne _ _ (by first | assumption | exact Ne.symm (by assumption) | omega | exact ne_mp (m := m) (by assumption) (by assumption) | exact Ne.symm (ne_mp (m := m) (by assumption) (by assumption)) | exact ne_mp (m := w) (by assumption) (by assumption) | exact Ne.symm (ne_mp (m := w) (by assumption) (by assumption)))).trans (by first | assumption | exact upm_same _ _ _ | exact (upm_ne _ _ (by first | assumption | exact Ne.symm (by assumption) | omega | exact ne_mp (m := m) (by assumption) (by assumption) | exact Ne.symm (ne_mp (m := m) (by assumption) (by assumption)) | exact ne_mp (m := w) (by assumption) (by assumption) | exact Ne.symm (ne_mp (m := w) (by assumption) (by assumption)))).trans (by first | assumption | exact upm_same _ _ _ | exact (upm_ne _ _ (by first | assumption | exact Ne.symm (by assumption) | omega | exact ne_mp (m := m) (by assumption) (by assumption) | exact Ne.symm (ne_mp (m := m) (by assumption) (by assumption)) | exact ne_mp (m := w) (by assumption) (by assumption) | exact Ne.symm (ne_mp (m := w) (by assumption) (by assumption)))).trans (by first | assumption | exact upm_same _ _ _))))) rfl (by decide) rfl) rfl ?_
      refine z_icmp_ge (q := 26) (t := 41) hX dX3_cost_23 (by decide) ⟨by omega, by omega⟩ ⟨by omega, by omega⟩ rfl (fun h23 => ?_) (fun h23 => ?_)
      · refine z_iload_n (i := 2) (q := 42) hX dX3_cost_41 rfl rfl rfl ?_
        exact z_iret hX dX3_cost_42 (by first | exact Nat.le_of_ble_eq_true rfl | (show (_ : Nat) ≤ 0; omega)) (by first | exact Nat.le_of_ble_eq_true rfl | (show (_ : Nat) ≤ 0; omega)) rfl (fun H h => ⟨congrArg (fun z => some (zI z)) ((by rw [ev, cosI_eq hw hn, show i = n by omega])), h⟩)
      · refine z_iload_n (i := 2) (q := 27) hX dX3_cost_26 rfl rfl rfl ?_
        refine z_aload_n (i := 0) (q := 28) hX dX3_cost_27 rfl rfl rfl ?_
        refine z_iload_n (i := 1) (q := 29) hX dX3_cost_28 rfl rfl rfl ?_
        refine z_iload_n (i := 3) (q := 30) hX dX3_cost_29 rfl rfl rfl ?_
        refine z_V (ci := ciX3) (T := TX3) (N := 2) (na := 2) hX dX3_cost_30 (c_X3_costOf D A hc0 (by omega) hw hn) rfl q579 q581 qs6 q102 q582 (by decide +kernel) ⟨Nat.le_of_ble_eq_true rfl, Nat.le_of_ble_eq_true rfl⟩ rfl rfl (Nat.le_of_ble_eq_true rfl) rfl (by first | exact Nat.le_of_ble_eq_true rfl | (show _ + 0 ≤ 0; omega)) (by first | exact Nat.le_of_ble_eq_true rfl | (show _ + 0 ≤ 0; omega)) (fun H h => ⟨h, cI.obE h (by first | assumption | exact Or.inl (by assumption) | exact Or.inr (by first | assumption | exact upm_same _ _ _ | exact (upm_ne _ _ (by first | assumption | exact Ne.symm (by assumption) | omega | exact ne_mp (m := m) (by assumption) (by assumption) | exact Ne.symm (ne_mp (m := m) (by assumption) (by assumption)) | exact ne_mp (m := w) (by assumption) (by assumption) | exact Ne.symm (ne_mp (m := w) (by assumption) (by assumption)))).trans (by first | assumption | exact upm_same _ _ _ | exact (upm_ne _ _ (by first | assumption | exact Ne.symm (by assumption) | omega | exact ne_mp (m := m) (by assumption) (by assumption) | exact Ne.symm (ne_mp (m := m) (by assumption) (by assumption)) | exact ne_mp (m := w) (by assumption) (by assumption) | exact Ne.symm (ne_mp (m := w) (by assumption) (by assumption)))).trans (by first | assumption | exact upm_same _ _ _ | exact (upm_ne _ _ (by first | assumption | exact Ne.symm (by assumption) | omega | exact ne_mp (m := m) (by assumption) (by assumption) | exact Ne.symm (ne_mp (m := m) (by assumption) (by assumption)) | exact ne_mp (m := w) (by assumption) (by assumption) | exact Ne.symm (ne_mp (m := w) (by assumption) (by assumption)))).trans (by first | assumption | exact upm_same _ _ _))))) rfl⟩) (fun E a => zT.no) (zPd.out ?_)
        show zG X (_ + 0) (_ + 0) _ 33 _ _
        refine z_iadd (q := 34) hX dX3_cost_33 rfl ?_
        refine z_istore_n (i := 2) (q := 35) hX dX3_cost_34 rfl (Nat.le_of_ble_eq_true rfl) rfl rfl ?_
        refine z_iinc (q := 38) hX dX3_cost_35 rfl (Nat.le_of_ble_eq_true rfl) rfl rfl ?_
        refine z_goto (t := 18) hX dX3_cost_38 (by decide) ?_
        exact ih (by omega) _ _ (by rw [ev]; rfl) rfl
    refine z_iload_n (i := 1) (q := 1) hX dX3_cost_0 rfl rfl rfl ?_
    refine z_iconst (q := 2) hX dX3_cost_1 rfl ?_
    refine z_icmp_ne (q := 5) (t := 14) hX dX3_cost_2 (by decide) ⟨by omega, by omega⟩ (by decide) rfl (fun h2 => ?_) (fun h2 => ?_)
    · refine z_iconst (q := 15) hX dX3_cost_14 rfl ?_
      refine z_istore_n (i := 2) (q := 16) hX dX3_cost_15 rfl (Nat.le_of_ble_eq_true rfl) rfl rfl ?_
      refine z_iconst (q := 17) hX dX3_cost_16 rfl ?_
      refine z_istore_n (i := 3) (q := 18) hX dX3_cost_17 rfl (Nat.le_of_ble_eq_true rfl) rfl rfl ?_
      exact K 0 (Nat.zero_le _) 0 0 rfl rfl
    · refine z_aload_n (i := 0) (q := 6) hX dX3_cost_5 rfl rfl rfl ?_
      refine z_V (ci := ciX3) (T := TX3) (N := 2) (na := 0) hX dX3_cost_6 (c_X3_isNumeric D A hc0) rfl q575 q577 qs5 q102 q578 (by decide +kernel) ⟨Nat.le_of_ble_eq_true rfl, Nat.le_of_ble_eq_true rfl⟩ rfl rfl (Nat.le_of_ble_eq_true rfl) rfl (by first | exact Nat.le_of_ble_eq_true rfl | (show _ + 0 ≤ 0; omega)) (by first | exact Nat.le_of_ble_eq_true rfl | (show _ + 0 ≤ 0; omega)) (fun H h => ⟨h, cI.obE h (by first | assumption | exact Or.inl (by assumption) | exact Or.inr (by first | assumption | exact upm_same _ _ _ | exact (upm_ne _ _ (by first | assumption | exact Ne.symm (by assumption) | omega | exact ne_mp (m := m) (by assumption) (by assumption) | exact Ne.symm (ne_mp (m := m) (by assumption) (by assumption)) | exact ne_mp (m := w) (by assumption) (by assumption) | exact Ne.symm (ne_mp (m := w) (by assumption) (by assumption)))).trans (by first | assumption | exact upm_same _ _ _ | exact (upm_ne _ _ (by first | assumption | exact Ne.symm (by assumption) | omega | exact ne_mp (m := m) (by assumption) (by assumption) | exact Ne.symm (ne_mp (m := m) (by assumption) (by assumption)) | exact ne_mp (m := w) (by assumption) (by assumption) | exact Ne.symm (ne_mp (m := w) (by assumption) (by assumption)))).trans (by first | assumption | exact upm_same _ _ _ | exact (upm_ne _ _ (by first | assumption | exact Ne.symm (by assumption) | omega | exact ne_mp (m := m) (by assumption) (by assumption) | exact Ne.symm (ne_mp (m := m) (by assumption) (by assumption)) | exact ne_mp (m := w) (by assumption) (by assumption) | exact Ne.symm (ne_mp (m := w) (by assumption) (by assumption)))).trans (by first | assumption | exact upm_same _ _ _))))) rfl⟩) (fun E a => zT.no) (zPd.out ?_)
      show zG X (_ + 0) (_ + 0) _ 9 _ _
      refine z_ifB_ne (q := 12) (t := 14) hX dX3_cost_9 (by decide) rfl (fun h9 => ?_) (fun h9 => ?_)
      · refine z_iconst (q := 15) hX dX3_cost_14 rfl ?_
        refine z_istore_n (i := 2) (q := 16) hX dX3_cost_15 rfl (Nat.le_of_ble_eq_true rfl) rfl rfl ?_
        refine z_iconst (q := 17) hX dX3_cost_16 rfl ?_
        refine z_istore_n (i := 3) (q := 18) hX dX3_cost_17 rfl (Nat.le_of_ble_eq_true rfl) rfl rfl ?_
        exact K 0 (Nat.zero_le _) 0 0 rfl rfl
      · rw [hn (Decidable.not_not.mp h2)] at h9
        cases h9
  · have hw3 : way = 3 := by omega
    have hnn : allI (fun r => decide (typ (c r) = 2)) n = false := by
      cases q : allI (fun r => decide (typ (c r) = 2)) n with
      | false => rfl
      | true => exact absurd (fun _ => q) hn
    have e9 : cosI n c way = -1 := by
      rw [hw3]
      unfold cosI
      rw [if_neg (by decide), if_neg (by decide), if_neg (by decide)]
      unfold difI
      rw [if_neg (by rw [hnn]; exact Bool.false_ne_true)]
    refine z_iload_n (i := 1) (q := 1) hX dX3_cost_0 rfl rfl rfl ?_
    refine z_iconst (q := 2) hX dX3_cost_1 rfl ?_
    refine z_icmp_ne (q := 5) (t := 14) hX dX3_cost_2 (by decide) ⟨by omega, by omega⟩ (by decide) rfl (fun h2 => ?_) (fun h2 => ?_)
    · exact absurd hw3 h2
    · refine z_aload_n (i := 0) (q := 6) hX dX3_cost_5 rfl rfl rfl ?_
      refine z_V (ci := ciX3) (T := TX3) (N := 2) (na := 0) hX dX3_cost_6 (c_X3_isNumeric D A hc0) rfl q575 q577 qs5 q102 q578 (by decide +kernel) ⟨Nat.le_of_ble_eq_true rfl, Nat.le_of_ble_eq_true rfl⟩ rfl rfl (Nat.le_of_ble_eq_true rfl) rfl (by first | exact Nat.le_of_ble_eq_true rfl | (show _ + 0 ≤ 0; omega)) (by first | exact Nat.le_of_ble_eq_true rfl | (show _ + 0 ≤ 0; omega)) (fun H h => ⟨h, cI.obE h (by first | assumption | exact Or.inl (by assumption) | exact Or.inr (by first | assumption | exact upm_same _ _ _ | exact (upm_ne _ _ (by first | assumption | exact Ne.symm (by assumption) | omega | exact ne_mp (m := m) (by assumption) (by assumption) | exact Ne.symm (ne_mp (m := m) (by assumption) (by assumption)) | exact ne_mp (m := w) (by assumption) (by assumption) | exact Ne.symm (ne_mp (m := w) (by assumption) (by assumption)))).trans (by first | assumption | exact upm_same _ _ _ | exact (upm_ne _ _ (by first | assumption | exact Ne.symm (by assumption) | omega | exact ne_mp (m := m) (by assumption) (by assumption) | exact Ne.symm (ne_mp (m := m) (by assumption) (by assumption)) | exact ne_mp (m := w) (by assumption) (by assumption) | exact Ne.symm (ne_mp (m := w) (by assumption) (by assumption)))).trans (by first | assumption | exact upm_same _ _ _ | exact (upm_ne _ _ (by first | assumption | exact Ne.symm (by assumption) | omega | exact ne_mp (m := m) (by assumption) (by assumption) | exact Ne.symm (ne_mp (m := m) (by assumption) (by assumption)) | exact ne_mp (m := w) (by assumption) (by assumption) | exact Ne.symm (ne_mp (m := w) (by assumption) (by assumption)))).trans (by first | assumption | exact upm_same _ _ _))))) rfl⟩) (fun E a => zT.no) (zPd.out ?_)
      show zG X (_ + 0) (_ + 0) _ 9 _ _
      refine z_ifB_ne (q := 12) (t := 14) hX dX3_cost_9 (by decide) rfl (fun h9 => ?_) (fun h9 => ?_)
      · rw [hnn] at h9
        cases h9
      · refine z_iconst (q := 13) hX dX3_cost_12 rfl ?_
        exact z_iret hX dX3_cost_13 (by first | exact Nat.le_of_ble_eq_true rfl | (show (_ : Nat) ≤ 0; omega)) (by first | exact Nat.le_of_ble_eq_true rfl | (show (_ : Nat) ≤ 0; omega)) rfl (fun H h => ⟨congrArg (fun z => some (zI z)) ((by rw [e9])), h⟩)
abbrev rmX3_bestWay : Room := { frames := 7, cells := 0, slots := 0, locals := 154 }
set_option maxHeartbeats 4000000 in
theorem c_X3_bestWay (D : zD) (A : Nat → Prop) {w m : zMp} {b : Nat} {ta n : Nat} {f : Nat → Option Nat} {c : Int → zS} (hc : wCol D w m b ta n f c) : zC D yX3_bestWay cX3_bestWay 3 (some .int) none rmX3_bestWay A [.ref b] (cI D A w m) (zPd (zI (wayI n c)) (cI D A w m)) (zNo) := by
  refine zC_start (L := [some (.ref b), none, none]) (by decide) (Nat.le_of_ble_eq_true rfl) rfl (fun X hX => ?_)
  have h1 := hc.1
  have K : ∀ i : Nat, i ≤ 3 → ∀ v p : Int, v = wayS n c i → p = (i : Int) + 1 → zG X 0 0 (cI D A w m) 4 [some (.ref b), some (zI (v)), some (zI (p))] [] := by
    refine z_up (fun i hi ih v p ev ep => ?_)
    subst ep
    subst ev
    have hr := wayS_rng n c i
    have c1 := hc.cos ((i : Int) + 1)
    have c2 := hc.cos (wayS n c i)
    have hst : wayS n c (i + 1) = if 0 ≤ cosI n c ((i : Int) + 1) ∧ cosI n c ((i : Int) + 1) < cosI n c (wayS n c i) then ((i : Int) + 1) else wayS n c i := rfl
    refine z_iload_n (i := 2) (q := 5) hX dX3_bestWay_4 rfl rfl rfl ?_
    refine z_iconst (q := 6) hX dX3_bestWay_5 rfl ?_
    refine z_icmp_ge (q := 9) (t := 43) hX dX3_bestWay_6 (by decide) ⟨by omega, by omega⟩ (by decide) rfl (fun h6 => ?_) (fun h6 => ?_)
    · refine z_iload_n (i := 1) (q := 44) hX dX3_bestWay_43 rfl rfl rfl ?_
      exact z_iret hX dX3_bestWay_44 (by first | exact Nat.le_of_ble_eq_true rfl | (show (_ : Nat) ≤ 0; omega)) (by first | exact Nat.le_of_ble_eq_true rfl | (show (_ : Nat) ≤ 0; omega)) rfl (fun H h => ⟨congrArg (fun z => some (zI z)) ((by rw [show i = 3 by omega]; rfl)), h⟩)
    · refine z_aload_n (i := 0) (q := 10) hX dX3_bestWay_9 rfl rfl rfl ?_
      refine z_iload_n (i := 2) (q := 11) hX dX3_bestWay_10 rfl rfl rfl ?_
      refine z_V (ci := ciX3) (T := TX3) (N := 2) (na := 1) hX dX3_bestWay_11 (c_X3_cost D A hc ⟨by omega, by omega⟩) rfl q571 q572 q573 q102 q574 (by decide +kernel) ⟨Nat.le_of_ble_eq_true rfl, Nat.le_of_ble_eq_true rfl⟩ rfl rfl (Nat.le_of_ble_eq_true rfl) rfl (by first | exact Nat.le_of_ble_eq_true rfl | (show _ + 0 ≤ 0; omega)) (by first | exact Nat.le_of_ble_eq_true rfl | (show _ + 0 ≤ 0; omega)) (fun H h => ⟨h, cI.obE h (by first | assumption | exact Or.inl (by assumption) | exact Or.inr (by first | assumption | exact upm_same _ _ _ | exact (upm_ne _ _ (by first | assumption | exact Ne.symm (by assumption) | omega | exact ne_mp (m := m) (by assumption) (by assumption) | exact Ne.symm (ne_mp (m := m) (by assumption) (by assumption)) | exact ne_mp (m := w) (by assumption) (by assumption) | exact Ne.symm (ne_mp (m := w) (by assumption) (by assumption)))).trans (by first | assumption | exact upm_same _ _ _ | exact (upm_ne _ _ (by first | assumption | exact Ne.symm (by assumption) | omega | exact ne_mp (m := m) (by assumption) (by assumption) | exact Ne.symm (ne_mp (m := m) (by assumption) (by assumption)) | exact ne_mp (m := w) (by assumption) (by assumption) | exact Ne.symm (ne_mp (m := w) (by assumption) (by assumption)))).trans (by first | assumption | exact upm_same _ _ _ | exact (upm_ne _ _ (by first | assumption | exact Ne.symm (by assumption) | omega | exact ne_mp (m := m) (by assumption) (by assumption) | exact Ne.symm (ne_mp (m := m) (by assumption) (by assumption)) | exact ne_mp (m := w) (by assumption) (by assumption) | exact Ne.symm (ne_mp (m := w) (by assumption) (by assumption)))).trans (by first | assumption | exact upm_same _ _ _))))) rfl⟩) (fun E a => zT.no) (zPd.out ?_)
      show zG X (_ + 0) (_ + 0) _ 14 _ _
      refine z_iconst (q := 15) hX dX3_bestWay_14 rfl ?_
      refine z_icmp_eq (q := 18) (t := 35) hX dX3_bestWay_15 (by decide) ⟨by omega, by omega⟩ (by decide) rfl (fun h15 => ?_) (fun h15 => ?_)
      · refine z_iload_n (i := 1) (q := 36) hX dX3_bestWay_35 rfl rfl rfl ?_
        refine z_istore_n (i := 1) (q := 37) hX dX3_bestWay_36 rfl (Nat.le_of_ble_eq_true rfl) rfl rfl ?_
        refine z_iinc (q := 40) hX dX3_bestWay_37 rfl (Nat.le_of_ble_eq_true rfl) rfl rfl ?_
        refine z_goto (t := 4) hX dX3_bestWay_40 (by decide) ?_
        exact ih (by omega) _ _ (by rw [hst, if_neg (by omega)]) (by omega)
      · refine z_aload_n (i := 0) (q := 19) hX dX3_bestWay_18 rfl rfl rfl ?_
        refine z_iload_n (i := 2) (q := 20) hX dX3_bestWay_19 rfl rfl rfl ?_
        refine z_V (ci := ciX3) (T := TX3) (N := 2) (na := 1) hX dX3_bestWay_20 (c_X3_cost D A hc ⟨by omega, by omega⟩) rfl q571 q572 q573 q102 q574 (by decide +kernel) ⟨Nat.le_of_ble_eq_true rfl, Nat.le_of_ble_eq_true rfl⟩ rfl rfl (Nat.le_of_ble_eq_true rfl) rfl (by first | exact Nat.le_of_ble_eq_true rfl | (show _ + 0 ≤ 0; omega)) (by first | exact Nat.le_of_ble_eq_true rfl | (show _ + 0 ≤ 0; omega)) (fun H h => ⟨h, cI.obE h (by first | assumption | exact Or.inl (by assumption) | exact Or.inr (by first | assumption | exact upm_same _ _ _ | exact (upm_ne _ _ (by first | assumption | exact Ne.symm (by assumption) | omega | exact ne_mp (m := m) (by assumption) (by assumption) | exact Ne.symm (ne_mp (m := m) (by assumption) (by assumption)) | exact ne_mp (m := w) (by assumption) (by assumption) | exact Ne.symm (ne_mp (m := w) (by assumption) (by assumption)))).trans (by first | assumption | exact upm_same _ _ _ | exact (upm_ne _ _ (by first | assumption | exact Ne.symm (by assumption) | omega | exact ne_mp (m := m) (by assumption) (by assumption) | exact Ne.symm (ne_mp (m := m) (by assumption) (by assumption)) | exact ne_mp (m := w) (by assumption) (by assumption) | exact Ne.symm (ne_mp (m := w) (by assumption) (by assumption)))).trans (by first | assumption | exact upm_same _ _ _ | exact (upm_ne _ _ (by first | assumption | exact Ne.symm (by assumption) | omega | exact ne_mp (m := m) (by assumption) (by assumption) | exact Ne.symm (ne_mp (m := m) (by assumption) (by assumption)) | exact ne_mp (m := w) (by assumption) (by assumption) | exact Ne.symm (ne_mp (m := w) (by assumption) (by assumption)))).trans (by first | assumption | exact upm_same _ _ _))))) rfl⟩) (fun E a => zT.no) (zPd.out ?_)
        show zG X (_ + 0) (_ + 0) _ 23 _ _
        refine z_aload_n (i := 0) (q := 24) hX dX3_bestWay_23 rfl rfl rfl ?_
        refine z_iload_n (i := 1) (q := 25) hX dX3_bestWay_24 rfl rfl rfl ?_
        refine z_V (ci := ciX3) (T := TX3) (N := 2) (na := 1) hX dX3_bestWay_25 (c_X3_cost D A hc ⟨by omega, by omega⟩) rfl q571 q572 q573 q102 q574 (by decide +kernel) ⟨Nat.le_of_ble_eq_true rfl, Nat.le_of_ble_eq_true rfl⟩ rfl rfl (Nat.le_of_ble_eq_true rfl) rfl (by first | exact Nat.le_of_ble_eq_true rfl | (show _ + 0 ≤ 0; omega)) (by first | exact Nat.le_of_ble_eq_true rfl | (show _ + 0 ≤ 0; omega)) (fun H h => ⟨h, cI.obE h (by first | assumption | exact Or.inl (by assumption) | exact Or.inr (by first | assumption | exact upm_same _ _ _ | exact (upm_ne _ _ (by first | assumption | exact Ne.symm (by assumption) | omega | exact ne_mp (m := m) (by assumption) (by assumption) | exact Ne.symm (ne_mp (m := m) (by assumption) (by assumption)) | exact ne_mp (m := w) (by assumption) (by assumption) | exact Ne.symm (ne_mp (m := w) (by assumption) (by assumption)))).trans (by first | assumption | exact upm_same _ _ _ | exact (upm_ne _ _ (by first | assumption | exact Ne.symm (by assumption) | omega | exact ne_mp (m := m) (by assumption) (by assumption) | exact Ne.symm (ne_mp (m := m) (by assumption) (by assumption)) | exact ne_mp (m := w) (by assumption) (by assumption) | exact Ne.symm (ne_mp (m := w) (by assumption) (by assumption)))).trans (by first | assumption | exact upm_same _ _ _ | exact (upm_ne _ _ (by first | assumption | exact Ne.symm (by assumption) | omega | exact ne_mp (m := m) (by assumption) (by assumption) | exact Ne.symm (ne_mp (m := m) (by assumption) (by assumption)) | exact ne_mp (m := w) (by assumption) (by assumption) | exact Ne.symm (ne_mp (m := w) (by assumption) (by assumption)))).trans (by first | assumption | exact upm_same _ _ _))))) rfl⟩) (fun E a => zT.no) (zPd.out ?_)
        show zG X (_ + 0) (_ + 0) _ 28 _ _
        refine z_icmp_ge (q := 31) (t := 35) hX dX3_bestWay_28 (by decide) ⟨by omega, by omega⟩ ⟨by omega, by omega⟩ rfl (fun h28 => ?_) (fun h28 => ?_)
        · refine z_iload_n (i := 1) (q := 36) hX dX3_bestWay_35 rfl rfl rfl ?_
          refine z_istore_n (i := 1) (q := 37) hX dX3_bestWay_36 rfl (Nat.le_of_ble_eq_true rfl) rfl rfl ?_
          refine z_iinc (q := 40) hX dX3_bestWay_37 rfl (Nat.le_of_ble_eq_true rfl) rfl rfl ?_
          refine z_goto (t := 4) hX dX3_bestWay_40 (by decide) ?_
          exact ih (by omega) _ _ (by rw [hst, if_neg (by omega)]) (by omega)
        · refine z_iload_n (i := 2) (q := 32) hX dX3_bestWay_31 rfl rfl rfl ?_
          refine z_goto (t := 36) hX dX3_bestWay_32 (by decide) ?_
          refine z_istore_n (i := 1) (q := 37) hX dX3_bestWay_36 rfl (Nat.le_of_ble_eq_true rfl) rfl rfl ?_
          refine z_iinc (q := 40) hX dX3_bestWay_37 rfl (Nat.le_of_ble_eq_true rfl) rfl rfl ?_
          refine z_goto (t := 4) hX dX3_bestWay_40 (by decide) ?_
          exact ih (by omega) _ _ (by rw [hst, if_pos ⟨by omega, by omega⟩]) (by omega)
  refine z_iconst (q := 1) hX dX3_bestWay_0 rfl ?_
  refine z_istore_n (i := 1) (q := 2) hX dX3_bestWay_1 rfl (Nat.le_of_ble_eq_true rfl) rfl rfl ?_
  refine z_iconst (q := 3) hX dX3_bestWay_2 rfl ?_
  refine z_istore_n (i := 2) (q := 4) hX dX3_bestWay_3 rfl (Nat.le_of_ble_eq_true rfl) rfl rfl ?_
  exact K 0 (Nat.zero_le _) 0 1 rfl rfl
abbrev rmX3_leastCost : Room := { frames := 8, cells := 0, slots := 0, locals := 176 }
set_option maxHeartbeats 4000000 in
theorem c_X3_leastCost (D : zD) (A : Nat → Prop) {w m : zMp} {b : Nat} {ta n : Nat} {f : Nat → Option Nat} {c : Int → zS} (hc : wCol D w m b ta n f c) : zC D yX3_leastCost cX3_leastCost 1 (some .int) none rmX3_leastCost A [.ref b] (cI D A w m) (zPd (zI (cosI n c (wayI n c))) (cI D A w m)) (zNo) := by
  refine zC_start (L := [some (.ref b)]) (by decide) (Nat.le_of_ble_eq_true rfl) rfl (fun X hX => ?_)
  have h1 := hc.1
  have hr := wayS_rng n c 3
  have hr2 : wayI n c = wayS n c 3 := rfl
  refine z_aload_n (i := 0) (q := 1) hX dX3_leastCost_0 rfl rfl rfl ?_
  refine z_aload_n (i := 0) (q := 2) hX dX3_leastCost_1 rfl rfl rfl ?_
  refine z_V (ci := ciX3) (T := TX3) (N := 2) (na := 0) hX dX3_leastCost_2 (c_X3_bestWay D A (by first | assumption | omega | decide)) rfl q567 q568 q569 q102 q570 (by decide +kernel) ⟨Nat.le_of_ble_eq_true rfl, Nat.le_of_ble_eq_true rfl⟩ rfl rfl (Nat.le_of_ble_eq_true rfl) rfl (by first | exact Nat.le_of_ble_eq_true rfl | (show _ + 0 ≤ 0; omega)) (by first | exact Nat.le_of_ble_eq_true rfl | (show _ + 0 ≤ 0; omega)) (fun H h => ⟨h, cI.obE h (by first | assumption | exact Or.inl (by assumption) | exact Or.inr (by first | assumption | exact upm_same _ _ _ | exact (upm_ne _ _ (by first | assumption | exact Ne.symm (by assumption) | omega | exact ne_mp (m := m) (by assumption) (by assumption) | exact Ne.symm (ne_mp (m := m) (by assumption) (by assumption)) | exact ne_mp (m := w) (by assumption) (by assumption) | exact Ne.symm (ne_mp (m := w) (by assumption) (by assumption)))).trans (by first | assumption | exact upm_same _ _ _ | exact (upm_ne _ _ (by first | assumption | exact Ne.symm (by assumption) | omega | exact ne_mp (m := m) (by assumption) (by assumption) | exact Ne.symm (ne_mp (m := m) (by assumption) (by assumption)) | exact ne_mp (m := w) (by assumption) (by assumption) | exact Ne.symm (ne_mp (m := w) (by assumption) (by assumption)))).trans (by first | assumption | exact upm_same _ _ _ | exact (upm_ne _ _ (by first | assumption | exact Ne.symm (by assumption) | omega | exact ne_mp (m := m) (by assumption) (by assumption) | exact Ne.symm (ne_mp (m := m) (by assumption) (by assumption)) | exact ne_mp (m := w) (by assumption) (by assumption) | exact Ne.symm (ne_mp (m := w) (by assumption) (by assumption)))).trans (by first | assumption | exact upm_same _ _ _))))) rfl⟩) (fun E a => zT.no) (zPd.out ?_)
  show zG X (_ + 0) (_ + 0) _ 5 _ _
  refine z_V (ci := ciX3) (T := TX3) (N := 2) (na := 1) hX dX3_leastCost_5 (c_X3_cost D A hc ⟨by omega, by omega⟩) rfl q571 q572 q573 q102 q574 (by decide +kernel) ⟨Nat.le_of_ble_eq_true rfl, Nat.le_of_ble_eq_true rfl⟩ rfl rfl (Nat.le_of_ble_eq_true rfl) rfl (by first | exact Nat.le_of_ble_eq_true rfl | (show _ + 0 ≤ 0; omega)) (by first | exact Nat.le_of_ble_eq_true rfl | (show _ + 0 ≤ 0; omega)) (fun H h => ⟨h, cI.obE h (by first | assumption | exact Or.inl (by assumption) | exact Or.inr (by first | assumption | exact upm_same _ _ _ | exact (upm_ne _ _ (by first | assumption | exact Ne.symm (by assumption) | omega | exact ne_mp (m := m) (by assumption) (by assumption) | exact Ne.symm (ne_mp (m := m) (by assumption) (by assumption)) | exact ne_mp (m := w) (by assumption) (by assumption) | exact Ne.symm (ne_mp (m := w) (by assumption) (by assumption)))).trans (by first | assumption | exact upm_same _ _ _ | exact (upm_ne _ _ (by first | assumption | exact Ne.symm (by assumption) | omega | exact ne_mp (m := m) (by assumption) (by assumption) | exact Ne.symm (ne_mp (m := m) (by assumption) (by assumption)) | exact ne_mp (m := w) (by assumption) (by assumption) | exact Ne.symm (ne_mp (m := w) (by assumption) (by assumption)))).trans (by first | assumption | exact upm_same _ _ _ | exact (upm_ne _ _ (by first | assumption | exact Ne.symm (by assumption) | omega | exact ne_mp (m := m) (by assumption) (by assumption) | exact Ne.symm (ne_mp (m := m) (by assumption) (by assumption)) | exact ne_mp (m := w) (by assumption) (by assumption) | exact Ne.symm (ne_mp (m := w) (by assumption) (by assumption)))).trans (by first | assumption | exact upm_same _ _ _))))) rfl⟩) (fun E a => zT.no) (zPd.out ?_)
  show zG X (_ + 0) (_ + 0) _ 8 _ _
  exact z_iret hX dX3_leastCost_8 (by first | exact Nat.le_of_ble_eq_true rfl | (show (_ : Nat) ≤ 0; omega)) (by first | exact Nat.le_of_ble_eq_true rfl | (show (_ : Nat) ≤ 0; omega)) rfl (fun H h => ⟨rfl, h⟩)
abbrev rmX3_init : Room := { frames := 1, cells := 1, slots := 40, locals := 20 }
set_option maxHeartbeats 4000000 in
theorem c_X3_init (D : zD) (A : Nat → Prop) {w m : zMp} {b : Nat} {v1 : Value} (hm : m b = some (eO ciX3 [.null, v1])) : zC D yX3_init cX3_init 1 none none rmX3_init A [.ref b] (cI D A w m) (zPe (fun (ta : Nat) => none) (fun ta => m ta = none ∧ w ta = none) (fun ta => cI D A w (upm (upm m ta (eC (aQ D 6 40 (fun _ => none)))) b (eO ciX3 [.ref ta, v1])))) (zNo) := by
  refine zC_start (L := [some (.ref b)]) (by decide) (Nat.le_of_ble_eq_true rfl) rfl (fun X hX => ?_)
  refine z_aload_n (i := 0) (q := 1) hX dX3_init_0 rfl rfl rfl ?_
  refine z_objInit (q := 4) hX dX3_init_1 q191 q147 q148 (Nat.le_of_ble_eq_true rfl) rfl ⟨Nat.le_of_ble_eq_true rfl, Nat.le_of_ble_eq_true rfl⟩ rfl ?_
  refine z_aload_n (i := 0) (q := 5) hX dX3_init_4 rfl rfl rfl ?_
  refine z_bipush (q := 7) hX dX3_init_5 (by decide) rfl ?_
  refine zc_newaQ (q := 10) hX 6 rfl dX3_init_7 q192 (by decide) (by omega) (by first | exact Nat.le_of_ble_eq_true rfl | (show _ + 1 ≤ 1; omega)) (by first | exact Nat.le_of_ble_eq_true rfl | omega | (show _ ≤ 40; omega)) rfl (fun a7 ha7 hb7 => ?_)
  have n7 := hb7
  try simp only [upm_none] at n7
  repeat (have := And.left n7; replace n7 := And.right n7)
  refine zc_putF (C := RX3) (T := TX3) (N := 2) (q := 13) hX ciX3 0 rfl (by decide) in_X3 tyX3_ok nmX3 dX3_init_10 q194 rfl rfl rfl (by first | assumption | exact upm_same _ _ _ | exact (upm_ne _ _ (by first | assumption | exact Ne.symm (by assumption) | omega | exact ne_mp (m := m) (by assumption) (by assumption) | exact Ne.symm (ne_mp (m := m) (by assumption) (by assumption)) | exact ne_mp (m := w) (by assumption) (by assumption) | exact Ne.symm (ne_mp (m := w) (by assumption) (by assumption)))).trans (by first | assumption | exact upm_same _ _ _ | exact (upm_ne _ _ (by first | assumption | exact Ne.symm (by assumption) | omega | exact ne_mp (m := m) (by assumption) (by assumption) | exact Ne.symm (ne_mp (m := m) (by assumption) (by assumption)) | exact ne_mp (m := w) (by assumption) (by assumption) | exact Ne.symm (ne_mp (m := w) (by assumption) (by assumption)))).trans (by first | assumption | exact upm_same _ _ _ | exact (upm_ne _ _ (by first | assumption | exact Ne.symm (by assumption) | omega | exact ne_mp (m := m) (by assumption) (by assumption) | exact Ne.symm (ne_mp (m := m) (by assumption) (by assumption)) | exact ne_mp (m := w) (by assumption) (by assumption) | exact Ne.symm (ne_mp (m := w) (by assumption) (by assumption)))).trans (by first | assumption | exact upm_same _ _ _)))) (Nat.le_of_ble_eq_true rfl) rfl rfl rfl rfl ?_
  exact z_vret hX dX3_init_13 (by first | exact Nat.le_of_ble_eq_true rfl | (show (_ : Nat) ≤ 1; omega)) (by first | exact Nat.le_of_ble_eq_true rfl | (show (_ : Nat) ≤ 40; omega)) rfl (fun H h => ⟨a7, rfl, ⟨hb7, ha7⟩, h⟩)
abbrev rmX3_fill : Room := { frames := 3, cells := 0, slots := 0, locals := 64 }
set_option maxHeartbeats 4000000 in
theorem c_X3_fill (D : zD) (A : Nat → Prop) {w m : zMp} {b : Nat} {ta L t : Nat} {mcL : Int} {ls : List Nat} {T : Int → zS} {g rows : List Int} {N nn : Nat} {sv : Int → Int} {su : Int → zS} {f0 : Nat → Option Nat} {k : Int} {v1 : Value} (hb : m b = some (eO ciX3 [.ref ta, v1])) (ha : m ta = some (eC (aQ D 6 40 f0))) (hL : w L = some (eL mcL ls) ∨ m L = some (eL mcL ls)) (hls : wLines w ls N T) (hN : N ≤ 40) (ht : wTpl w t g nn sv su rows) (hr : ∀ r ∈ rows, 0 ≤ r ∧ r < N ∧ k < nT (T r)) (hk : 0 ≤ k) : zC D yX3_fill cX3_fill 5 none none rmX3_fill A [.ref b, .ref L, .ref t, zI (k)] (cI D A w m) (zPe (fun (f : Nat → Option Nat) => none) (fun f => ∀ i : Nat, i < rows.length → ∃ x, f i = some x ∧ wTok w x (cR T rows k i)) (fun f => cI D A w (upm (upm m b (eO ciX3 [.ref ta, zI rows.length])) ta (eC (aQ D 6 40 f))))) (zNo) := by
  refine zC_start (L := [some (.ref b), some (.ref L), some (.ref t), some (zI (k)), none]) (by decide) (Nat.le_of_ble_eq_true rfl) rfl (fun X hX => ?_)
  obtain ⟨⟨k1, k2, k3⟩, gl, sl, rl, mc, mc2, mc3, gs, ss, rs, h1, h2, h3, h4, h5, h6, h7⟩ := ht
  have hba : b ≠ ta := fun e => by rw [e, ha] at hb; cases hb
  have l1 := h7.1
  have l2 := hls.1
  have hLb : ∀ x, m L = some (eL mcL ls) → upm (upm m b (eO ciX3 [.ref ta, zI rows.length])) ta x L = some (eL mcL ls) := fun x q => by
    rw [upm_ne _ _ (fun e => by rw [e, ha] at q; cases q), upm_ne _ _ (fun e => by rw [e, hb] at q; cases q)]
    exact q
  have K : ∀ i : Nat, i ≤ rows.length → ∀ (f : Nat → Option Nat) (p : Int), (∀ j : Nat, j < i → ∃ x, f j = some x ∧ wTok w x (cR T rows k j)) → p = i → zG X 0 0 (cI D A w (upm (upm m b (eO ciX3 [.ref ta, zI rows.length])) ta (eC (aQ D 6 40 f)))) 14 [some (.ref b), some (.ref L), some (.ref t), some (zI k), some (zI p)] [] := by
    refine z_up (fun i hi ih f p hf ep => ?_)
    subst ep
    have hLM : w L = some (eL mcL ls) ∨ upm (upm m b (eO ciX3 [.ref ta, zI rows.length])) ta (eC (aQ D 6 40 f)) L = some (eL mcL ls) := hL.imp id (hLb _)
    have hMb : upm (upm m b (eO ciX3 [.ref ta, zI rows.length])) ta (eC (aQ D 6 40 f)) b = some (eO ciX3 [.ref ta, zI rows.length]) := (upm_ne _ _ hba).trans (upm_same _ _ _)
    by_cases hin : i < rows.length
    · have hgd : rows[i]? = some (rows.getD i (-1)) := by rw [List.getD_eq_getElem?_getD, List.getElem?_eq_getElem hin]; rfl
      have hrr := hr _ (List.mem_of_getElem? hgd)
      obtain ⟨r, hrN⟩ : ∃ r : Nat, rows.getD i (-1) = (r : Int) := ⟨(rows.getD i (-1)).toNat, by omega⟩
      rw [hrN] at hrr hgd
      obtain ⟨-, y, q1, q2⟩ := h7.2 i _ hgd
      obtain ⟨a, q3, q4⟩ := hls.2 r (by omega)
      have q5 := q4
      obtain ⟨hs, t9, tl, gl9, mc9, mc8, ts, gs9, y1, y2, y3, y4, y5, y6⟩ := q4
      obtain ⟨x, q6, q7⟩ := y4.2 k.toNat (by omega)
      rw [show ((k.toNat : Nat) : Int) = k by omega] at q7
      have hcr : cR T rows k (i : Int) = tok (T r) k := by
        unfold cR
        rw [Int.toNat_natCast, hrN]
      have l3 := nT_range (T (r : Int))
      have l4 := hs.2.1
      have l5 := y4.1
      obtain ⟨fs, q8⟩ := q7.it
      refine z_iload (q := 16) hX dX3_fill_14 rfl rfl ?_
      refine z_aload_n (i := 0) (q := 17) hX dX3_fill_16 rfl rfl rfl ?_
      refine zr_get (C := RX3) (T := TX3) (N := 2) (q := 20) hX ciX3 1 rfl (by decide) in_X3 dX3_fill_17 q196 (Or.inl rfl) (fun H h => cI.rd h (by first | assumption | exact Or.inl (by assumption) | exact Or.inr (by first | assumption | exact upm_same _ _ _ | exact (upm_ne _ _ (by first | assumption | exact Ne.symm (by assumption) | omega | exact ne_mp (m := m) (by assumption) (by assumption) | exact Ne.symm (ne_mp (m := m) (by assumption) (by assumption)) | exact ne_mp (m := w) (by assumption) (by assumption) | exact Ne.symm (ne_mp (m := w) (by assumption) (by assumption)))).trans (by first | assumption | exact upm_same _ _ _ | exact (upm_ne _ _ (by first | assumption | exact Ne.symm (by assumption) | omega | exact ne_mp (m := m) (by assumption) (by assumption) | exact Ne.symm (ne_mp (m := m) (by assumption) (by assumption)) | exact ne_mp (m := w) (by assumption) (by assumption) | exact Ne.symm (ne_mp (m := w) (by assumption) (by assumption)))).trans (by first | assumption | exact upm_same _ _ _ | exact (upm_ne _ _ (by first | assumption | exact Ne.symm (by assumption) | omega | exact ne_mp (m := m) (by assumption) (by assumption) | exact Ne.symm (ne_mp (m := m) (by assumption) (by assumption)) | exact ne_mp (m := w) (by assumption) (by assumption) | exact Ne.symm (ne_mp (m := w) (by assumption) (by assumption)))).trans (by first | assumption | exact upm_same _ _ _))))) rfl (by decide) rfl) rfl ?_
      refine z_icmp_ge (q := 23) (t := 68) hX dX3_fill_20 (by decide) ⟨by omega, by omega⟩ ⟨by omega, by omega⟩ rfl (fun h20 => ?_) (fun h20 => ?_)
      · exact absurd h20 (by omega)
      · refine z_aload_n (i := 0) (q := 24) hX dX3_fill_23 rfl rfl rfl ?_
        refine zr_get (C := RX3) (T := TX3) (N := 2) (q := 27) hX ciX3 0 rfl (by decide) in_X3 dX3_fill_24 q194 (Or.inl rfl) (fun H h => cI.rd h (by first | assumption | exact Or.inl (by assumption) | exact Or.inr (by first | assumption | exact upm_same _ _ _ | exact (upm_ne _ _ (by first | assumption | exact Ne.symm (by assumption) | omega | exact ne_mp (m := m) (by assumption) (by assumption) | exact Ne.symm (ne_mp (m := m) (by assumption) (by assumption)) | exact ne_mp (m := w) (by assumption) (by assumption) | exact Ne.symm (ne_mp (m := w) (by assumption) (by assumption)))).trans (by first | assumption | exact upm_same _ _ _ | exact (upm_ne _ _ (by first | assumption | exact Ne.symm (by assumption) | omega | exact ne_mp (m := m) (by assumption) (by assumption) | exact Ne.symm (ne_mp (m := m) (by assumption) (by assumption)) | exact ne_mp (m := w) (by assumption) (by assumption) | exact Ne.symm (ne_mp (m := w) (by assumption) (by assumption)))).trans (by first | assumption | exact upm_same _ _ _ | exact (upm_ne _ _ (by first | assumption | exact Ne.symm (by assumption) | omega | exact ne_mp (m := m) (by assumption) (by assumption) | exact Ne.symm (ne_mp (m := m) (by assumption) (by assumption)) | exact ne_mp (m := w) (by assumption) (by assumption) | exact Ne.symm (ne_mp (m := w) (by assumption) (by assumption)))).trans (by first | assumption | exact upm_same _ _ _))))) rfl (by decide) rfl) rfl ?_
        refine z_iload (q := 29) hX dX3_fill_27 rfl rfl ?_
        refine z_aload_n (i := 1) (q := 30) hX dX3_fill_29 rfl rfl rfl ?_
        refine z_aload_n (i := 2) (q := 31) hX dX3_fill_30 rfl rfl rfl ?_
        refine zr_getN (C := RX7) (T := TX7) (N := 3) (q := 34) hX ciX7 2 rfl (by decide) in_X7 dX3_fill_31 (zNF_at 14 rfl) (fun H h => cI.rd h (by first | assumption | exact Or.inl (by assumption) | exact Or.inr (by first | assumption | exact upm_same _ _ _ | exact (upm_ne _ _ (by first | assumption | exact Ne.symm (by assumption) | omega | exact ne_mp (m := m) (by assumption) (by assumption) | exact Ne.symm (ne_mp (m := m) (by assumption) (by assumption)) | exact ne_mp (m := w) (by assumption) (by assumption) | exact Ne.symm (ne_mp (m := w) (by assumption) (by assumption)))).trans (by first | assumption | exact upm_same _ _ _ | exact (upm_ne _ _ (by first | assumption | exact Ne.symm (by assumption) | omega | exact ne_mp (m := m) (by assumption) (by assumption) | exact Ne.symm (ne_mp (m := m) (by assumption) (by assumption)) | exact ne_mp (m := w) (by assumption) (by assumption) | exact Ne.symm (ne_mp (m := w) (by assumption) (by assumption)))).trans (by first | assumption | exact upm_same _ _ _ | exact (upm_ne _ _ (by first | assumption | exact Ne.symm (by assumption) | omega | exact ne_mp (m := m) (by assumption) (by assumption) | exact Ne.symm (ne_mp (m := m) (by assumption) (by assumption)) | exact ne_mp (m := w) (by assumption) (by assumption) | exact Ne.symm (ne_mp (m := w) (by assumption) (by assumption)))).trans (by first | assumption | exact upm_same _ _ _))))) rfl (by decide) rfl) rfl ?_
        refine z_iload (q := 36) hX dX3_fill_34 rfl rfl ?_
        refine z_V (ci := ciJ2) (T := TJ2) (N := 3) (na := 1) hX dX3_fill_36 (c_J2_get D A (Or.inl h6) (by omega) (by rw [Int.toNat_natCast]; exact q1) (by omega)) rfl q559 q471 q472 q101 q473 (by decide +kernel) ⟨Nat.le_of_ble_eq_true rfl, Nat.le_of_ble_eq_true rfl⟩ rfl rfl (Nat.le_of_ble_eq_true rfl) rfl (by first | exact Nat.le_of_ble_eq_true rfl | (show _ + 0 ≤ 0; omega)) (by first | exact Nat.le_of_ble_eq_true rfl | (show _ + 0 ≤ 0; omega)) (fun H h => ⟨h, h.obL (Or.inl h6)⟩) (fun E a => zT.no) (zPd.out ?_)
        show zG X (_ + 0) (_ + 0) _ 39 _ _
        refine zr_cast (q := 42) (C := RJ18) (T := TJ18) (N := 1) hX ciJ18 rfl dX3_fill_39 q560 (fun H h => cI.obE h (by first | assumption | exact Or.inl (by assumption) | exact Or.inr (by first | assumption | exact upm_same _ _ _ | exact (upm_ne _ _ (by first | assumption | exact Ne.symm (by assumption) | omega | exact ne_mp (m := m) (by assumption) (by assumption) | exact Ne.symm (ne_mp (m := m) (by assumption) (by assumption)) | exact ne_mp (m := w) (by assumption) (by assumption) | exact Ne.symm (ne_mp (m := w) (by assumption) (by assumption)))).trans (by first | assumption | exact upm_same _ _ _ | exact (upm_ne _ _ (by first | assumption | exact Ne.symm (by assumption) | omega | exact ne_mp (m := m) (by assumption) (by assumption) | exact Ne.symm (ne_mp (m := m) (by assumption) (by assumption)) | exact ne_mp (m := w) (by assumption) (by assumption) | exact Ne.symm (ne_mp (m := w) (by assumption) (by assumption)))).trans (by first | assumption | exact upm_same _ _ _ | exact (upm_ne _ _ (by first | assumption | exact Ne.symm (by assumption) | omega | exact ne_mp (m := m) (by assumption) (by assumption) | exact Ne.symm (ne_mp (m := m) (by assumption) (by assumption)) | exact ne_mp (m := w) (by assumption) (by assumption) | exact Ne.symm (ne_mp (m := w) (by assumption) (by assumption)))).trans (by first | assumption | exact upm_same _ _ _))))) rfl) rfl ?_
        refine z_V (ci := ciJ18) (T := TJ18) (N := 1) (na := 0) hX dX3_fill_42 (c_J18_intValue D A (fun H h => h) (Or.inl q2)) rfl q561 q486 q487 q121 q488 (by decide +kernel) ⟨Nat.le_of_ble_eq_true rfl, Nat.le_of_ble_eq_true rfl⟩ rfl rfl (Nat.le_of_ble_eq_true rfl) rfl (by first | exact Nat.le_of_ble_eq_true rfl | (show _ + 0 ≤ 0; omega)) (by first | exact Nat.le_of_ble_eq_true rfl | (show _ + 0 ≤ 0; omega)) (fun H h => ⟨h, h.obE (Or.inl q2) rfl⟩) (fun E a => zT.no) (zPd.out ?_)
        show zG X (_ + 0) (_ + 0) _ 45 _ _
        refine z_V (ci := ciJ2) (T := TJ2) (N := 3) (na := 1) hX dX3_fill_45 (c_J2_get D A hLM (by omega) (by rw [Int.toNat_natCast]; exact q3) (by omega)) rfl q559 q471 q472 q101 q473 (by decide +kernel) ⟨Nat.le_of_ble_eq_true rfl, Nat.le_of_ble_eq_true rfl⟩ rfl rfl (Nat.le_of_ble_eq_true rfl) rfl (by first | exact Nat.le_of_ble_eq_true rfl | (show _ + 0 ≤ 0; omega)) (by first | exact Nat.le_of_ble_eq_true rfl | (show _ + 0 ≤ 0; omega)) (fun H h => ⟨h, h.obL hLM⟩) (fun E a => zT.no) (zPd.out ?_)
        show zG X (_ + 0) (_ + 0) _ 48 _ _
        refine zr_cast (q := 51) (C := RX5) (T := TX5) (N := 3) hX ciX5 rfl dX3_fill_48 q562 (fun H h => cI.obE h (by first | assumption | exact Or.inl (by assumption) | exact Or.inr (by first | assumption | exact upm_same _ _ _ | exact (upm_ne _ _ (by first | assumption | exact Ne.symm (by assumption) | omega | exact ne_mp (m := m) (by assumption) (by assumption) | exact Ne.symm (ne_mp (m := m) (by assumption) (by assumption)) | exact ne_mp (m := w) (by assumption) (by assumption) | exact Ne.symm (ne_mp (m := w) (by assumption) (by assumption)))).trans (by first | assumption | exact upm_same _ _ _ | exact (upm_ne _ _ (by first | assumption | exact Ne.symm (by assumption) | omega | exact ne_mp (m := m) (by assumption) (by assumption) | exact Ne.symm (ne_mp (m := m) (by assumption) (by assumption)) | exact ne_mp (m := w) (by assumption) (by assumption) | exact Ne.symm (ne_mp (m := w) (by assumption) (by assumption)))).trans (by first | assumption | exact upm_same _ _ _ | exact (upm_ne _ _ (by first | assumption | exact Ne.symm (by assumption) | omega | exact ne_mp (m := m) (by assumption) (by assumption) | exact Ne.symm (ne_mp (m := m) (by assumption) (by assumption)) | exact ne_mp (m := w) (by assumption) (by assumption) | exact Ne.symm (ne_mp (m := w) (by assumption) (by assumption)))).trans (by first | assumption | exact upm_same _ _ _))))) rfl) rfl ?_
        refine zr_getN (C := RX5) (T := TX5) (N := 3) (q := 54) hX ciX5 1 rfl (by decide) in_X5 dX3_fill_51 (zNF_at 15 rfl) (fun H h => cI.rd h (by first | assumption | exact Or.inl (by assumption) | exact Or.inr (by first | assumption | exact upm_same _ _ _ | exact (upm_ne _ _ (by first | assumption | exact Ne.symm (by assumption) | omega | exact ne_mp (m := m) (by assumption) (by assumption) | exact Ne.symm (ne_mp (m := m) (by assumption) (by assumption)) | exact ne_mp (m := w) (by assumption) (by assumption) | exact Ne.symm (ne_mp (m := w) (by assumption) (by assumption)))).trans (by first | assumption | exact upm_same _ _ _ | exact (upm_ne _ _ (by first | assumption | exact Ne.symm (by assumption) | omega | exact ne_mp (m := m) (by assumption) (by assumption) | exact Ne.symm (ne_mp (m := m) (by assumption) (by assumption)) | exact ne_mp (m := w) (by assumption) (by assumption) | exact Ne.symm (ne_mp (m := w) (by assumption) (by assumption)))).trans (by first | assumption | exact upm_same _ _ _ | exact (upm_ne _ _ (by first | assumption | exact Ne.symm (by assumption) | omega | exact ne_mp (m := m) (by assumption) (by assumption) | exact Ne.symm (ne_mp (m := m) (by assumption) (by assumption)) | exact ne_mp (m := w) (by assumption) (by assumption) | exact Ne.symm (ne_mp (m := w) (by assumption) (by assumption)))).trans (by first | assumption | exact upm_same _ _ _))))) rfl (by decide) rfl) rfl ?_
        refine z_iload_n (i := 3) (q := 55) hX dX3_fill_54 rfl rfl rfl ?_
        refine z_V (ci := ciJ2) (T := TJ2) (N := 3) (na := 1) hX dX3_fill_55 (c_J2_get D A (Or.inl y3) hk q6 (by omega)) rfl q559 q471 q472 q101 q473 (by decide +kernel) ⟨Nat.le_of_ble_eq_true rfl, Nat.le_of_ble_eq_true rfl⟩ rfl rfl (Nat.le_of_ble_eq_true rfl) rfl (by first | exact Nat.le_of_ble_eq_true rfl | (show _ + 0 ≤ 0; omega)) (by first | exact Nat.le_of_ble_eq_true rfl | (show _ + 0 ≤ 0; omega)) (fun H h => ⟨h, h.obL (Or.inl y3)⟩) (fun E a => zT.no) (zPd.out ?_)
        show zG X (_ + 0) (_ + 0) _ 58 _ _
        refine zr_cast (q := 61) (C := RX6) (T := TX6) (N := 2) hX ciX6 rfl dX3_fill_58 q192 (fun H h => cI.obE h (by first | assumption | exact Or.inl (by assumption) | exact Or.inr (by first | assumption | exact upm_same _ _ _ | exact (upm_ne _ _ (by first | assumption | exact Ne.symm (by assumption) | omega | exact ne_mp (m := m) (by assumption) (by assumption) | exact Ne.symm (ne_mp (m := m) (by assumption) (by assumption)) | exact ne_mp (m := w) (by assumption) (by assumption) | exact Ne.symm (ne_mp (m := w) (by assumption) (by assumption)))).trans (by first | assumption | exact upm_same _ _ _ | exact (upm_ne _ _ (by first | assumption | exact Ne.symm (by assumption) | omega | exact ne_mp (m := m) (by assumption) (by assumption) | exact Ne.symm (ne_mp (m := m) (by assumption) (by assumption)) | exact ne_mp (m := w) (by assumption) (by assumption) | exact Ne.symm (ne_mp (m := w) (by assumption) (by assumption)))).trans (by first | assumption | exact upm_same _ _ _ | exact (upm_ne _ _ (by first | assumption | exact Ne.symm (by assumption) | omega | exact ne_mp (m := m) (by assumption) (by assumption) | exact Ne.symm (ne_mp (m := m) (by assumption) (by assumption)) | exact ne_mp (m := w) (by assumption) (by assumption) | exact Ne.symm (ne_mp (m := w) (by assumption) (by assumption)))).trans (by first | assumption | exact upm_same _ _ _))))) rfl) rfl ?_
        refine zc_aast (q := 62) hX 6 ciX6 rfl dX3_fill_61 (upm_same _ _ _) (fun H h => h.obE (Or.inl q8) rfl) (by decide +kernel) ⟨by omega, by omega⟩ (by first | decide | omega) rfl ?_
        refine z_iinc (q := 65) hX dX3_fill_62 rfl (Nat.le_of_ble_eq_true rfl) rfl rfl ?_
        refine z_goto (t := 14) hX dX3_fill_65 (by decide) ?_
        refine zG.mono (ih hin (va_up f i (some x)) _ (fun j hj => ?_) rfl) (fun H h => by simp only [upm_upm, Int.toNat_natCast] at h; exact h)
        by_cases e : j = i
        · subst e
          exact ⟨x, by simp [va_up], by rw [hcr]; exact q7⟩
        · obtain ⟨x2, g1, g2⟩ := hf j (by omega)
          exact ⟨x2, by simp [va_up, e, g1], g2⟩
    · have hiN : i = rows.length := by omega
      refine z_iload (q := 16) hX dX3_fill_14 rfl rfl ?_
      refine z_aload_n (i := 0) (q := 17) hX dX3_fill_16 rfl rfl rfl ?_
      refine zr_get (C := RX3) (T := TX3) (N := 2) (q := 20) hX ciX3 1 rfl (by decide) in_X3 dX3_fill_17 q196 (Or.inl rfl) (fun H h => cI.rd h (by first | assumption | exact Or.inl (by assumption) | exact Or.inr (by first | assumption | exact upm_same _ _ _ | exact (upm_ne _ _ (by first | assumption | exact Ne.symm (by assumption) | omega | exact ne_mp (m := m) (by assumption) (by assumption) | exact Ne.symm (ne_mp (m := m) (by assumption) (by assumption)) | exact ne_mp (m := w) (by assumption) (by assumption) | exact Ne.symm (ne_mp (m := w) (by assumption) (by assumption)))).trans (by first | assumption | exact upm_same _ _ _ | exact (upm_ne _ _ (by first | assumption | exact Ne.symm (by assumption) | omega | exact ne_mp (m := m) (by assumption) (by assumption) | exact Ne.symm (ne_mp (m := m) (by assumption) (by assumption)) | exact ne_mp (m := w) (by assumption) (by assumption) | exact Ne.symm (ne_mp (m := w) (by assumption) (by assumption)))).trans (by first | assumption | exact upm_same _ _ _ | exact (upm_ne _ _ (by first | assumption | exact Ne.symm (by assumption) | omega | exact ne_mp (m := m) (by assumption) (by assumption) | exact Ne.symm (ne_mp (m := m) (by assumption) (by assumption)) | exact ne_mp (m := w) (by assumption) (by assumption) | exact Ne.symm (ne_mp (m := w) (by assumption) (by assumption)))).trans (by first | assumption | exact upm_same _ _ _))))) rfl (by decide) rfl) rfl ?_
      refine z_icmp_ge (q := 23) (t := 68) hX dX3_fill_20 (by decide) ⟨by omega, by omega⟩ ⟨by omega, by omega⟩ rfl (fun h20 => ?_) (fun h20 => ?_)
      · exact z_vret hX dX3_fill_68 (by first | exact Nat.le_of_ble_eq_true rfl | (show (_ : Nat) ≤ 0; omega)) (by first | exact Nat.le_of_ble_eq_true rfl | (show (_ : Nat) ≤ 0; omega)) rfl (fun H h => ⟨f, rfl, fun j hj => hf j (by omega), h⟩)
      · exact absurd (by omega) h20
  refine z_aload_n (i := 0) (q := 1) hX dX3_fill_0 rfl rfl rfl ?_
  refine z_aload_n (i := 2) (q := 2) hX dX3_fill_1 rfl rfl rfl ?_
  refine zr_getN (C := RX7) (T := TX7) (N := 3) (q := 5) hX ciX7 2 rfl (by decide) in_X7 dX3_fill_2 (zNF_at 14 rfl) (fun H h => cI.rd h (by first | assumption | exact Or.inl (by assumption) | exact Or.inr (by first | assumption | exact upm_same _ _ _ | exact (upm_ne _ _ (by first | assumption | exact Ne.symm (by assumption) | omega | exact ne_mp (m := m) (by assumption) (by assumption) | exact Ne.symm (ne_mp (m := m) (by assumption) (by assumption)) | exact ne_mp (m := w) (by assumption) (by assumption) | exact Ne.symm (ne_mp (m := w) (by assumption) (by assumption)))).trans (by first | assumption | exact upm_same _ _ _ | exact (upm_ne _ _ (by first | assumption | exact Ne.symm (by assumption) | omega | exact ne_mp (m := m) (by assumption) (by assumption) | exact Ne.symm (ne_mp (m := m) (by assumption) (by assumption)) | exact ne_mp (m := w) (by assumption) (by assumption) | exact Ne.symm (ne_mp (m := w) (by assumption) (by assumption)))).trans (by first | assumption | exact upm_same _ _ _ | exact (upm_ne _ _ (by first | assumption | exact Ne.symm (by assumption) | omega | exact ne_mp (m := m) (by assumption) (by assumption) | exact Ne.symm (ne_mp (m := m) (by assumption) (by assumption)) | exact ne_mp (m := w) (by assumption) (by assumption) | exact Ne.symm (ne_mp (m := w) (by assumption) (by assumption)))).trans (by first | assumption | exact upm_same _ _ _))))) rfl (by decide) rfl) rfl ?_
  refine z_V (ci := ciJ2) (T := TJ2) (N := 3) (na := 0) hX dX3_fill_5 (c_J2_size D A (Or.inl h6)) rfl q558 q467 q468 q101 q469 (by decide +kernel) ⟨Nat.le_of_ble_eq_true rfl, Nat.le_of_ble_eq_true rfl⟩ rfl rfl (Nat.le_of_ble_eq_true rfl) rfl (by first | exact Nat.le_of_ble_eq_true rfl | (show _ + 0 ≤ 0; omega)) (by first | exact Nat.le_of_ble_eq_true rfl | (show _ + 0 ≤ 0; omega)) (fun H h => ⟨h, h.obL (Or.inl h6)⟩) (fun E a => zT.no) (zPd.out ?_)
  show zG X (_ + 0) (_ + 0) _ 8 _ _
  rw [show ((rs.length : Nat) : Int) = ((rows.length : Nat) : Int) by omega]
  refine zc_put (C := RX3) (T := TX3) (N := 2) (q := 11) hX ciX3 1 rfl (by decide) in_X3 tyX3_ok nmX3 dX3_fill_8 q196 (Or.inl rfl) rfl (by first | assumption | exact upm_same _ _ _ | exact (upm_ne _ _ (by first | assumption | exact Ne.symm (by assumption) | omega | exact ne_mp (m := m) (by assumption) (by assumption) | exact Ne.symm (ne_mp (m := m) (by assumption) (by assumption)) | exact ne_mp (m := w) (by assumption) (by assumption) | exact Ne.symm (ne_mp (m := w) (by assumption) (by assumption)))).trans (by first | assumption | exact upm_same _ _ _ | exact (upm_ne _ _ (by first | assumption | exact Ne.symm (by assumption) | omega | exact ne_mp (m := m) (by assumption) (by assumption) | exact Ne.symm (ne_mp (m := m) (by assumption) (by assumption)) | exact ne_mp (m := w) (by assumption) (by assumption) | exact Ne.symm (ne_mp (m := w) (by assumption) (by assumption)))).trans (by first | assumption | exact upm_same _ _ _ | exact (upm_ne _ _ (by first | assumption | exact Ne.symm (by assumption) | omega | exact ne_mp (m := m) (by assumption) (by assumption) | exact Ne.symm (ne_mp (m := m) (by assumption) (by assumption)) | exact ne_mp (m := w) (by assumption) (by assumption) | exact Ne.symm (ne_mp (m := w) (by assumption) (by assumption)))).trans (by first | assumption | exact upm_same _ _ _)))) (Nat.le_of_ble_eq_true rfl) rfl rfl rfl rfl ?_
  refine z_iconst (q := 12) hX dX3_fill_11 rfl ?_
  refine z_istore (q := 14) hX dX3_fill_12 (Nat.le_of_ble_eq_true rfl) rfl rfl ?_
  exact zG.mono (K 0 (Nat.zero_le _) f0 0 (fun j hj => absurd hj (Nat.not_lt_zero j)) rfl) (fun H h => h.eqv (fun c => by by_cases c1 : c = ta <;> by_cases c2 : c = b <;> simp [upm, c1, c2, hba, hba.symm, ha]))
