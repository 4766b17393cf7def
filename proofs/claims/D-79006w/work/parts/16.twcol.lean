/-! THE REFERENCE: columns and costs -/
set_option maxRecDepth 100000
/-- the first row with the same token -/
def fstI (c : Int → zS) (r : Int) : Int := leastI (fun i => decide (c i = c r)) r.toNat
theorem fstI_le (c : Int → zS) {r : Int} (h : 0 ≤ r) : 0 ≤ fstI c r ∧ fstI c r ≤ r := by
  have key : ∀ (p : Int → Bool) (n : Nat), leastI p n ≤ n := by
    intro p n
    induction n with
    | zero => exact Nat.le_refl _
    | succ n ih =>
      rw [leastI]
      split
      · omega
      · split <;> omega
  have := key (fun i => decide (c i = c r)) r.toNat
  unfold fstI
  omega
theorem fstI_eq {c : Int → zS} {r : Int} {n : Nat} (hn : (n : Int) ≤ r) (h : ∀ j : Nat, j < n → c j ≠ c r) (he : c n = c r) : fstI c r = n := by
  unfold fstI
  rw [leastI_eq (t := n) (by omega) (fun j hj => decide_eq_false (h j hj)) (fun _ => decide_eq_true he)]
/-- how many more signs: by tens -/
def dlN (m : Nat) : Int := if h : m = 0 then 0 else 1 + dlN (m / 10)
theorem dlN_0 : dlN 0 = 0 := by unfold dlN; rfl
theorem dlN_s {m : Nat} (h : m ≠ 0) : dlN m = 1 + dlN (m / 10) := by rw [dlN, dif_neg h]
/-- the signs of a number written as a decimal -/
def dgt (v : Int) : Int := (if v < 0 then 2 else 1) + dlN (v.natAbs / 10)
def beg (c : Int → zS) (r : Int) : Bool := decide (r = 0) || !decide (c (r - 1) = c r)
def pln (n : Nat) (c : Int → zS) (d : Bool) : Int := (if d then (n : Int) else 0) + sumI (fun r => if !d || decide (fstI c r = r) then ((c r).length : Int) + 1 else 0) n
def runI (n : Nat) (c : Int → zS) (d : Bool) : Int := sumI (fun r => if beg c r then (if d then ((c r).length : Int) + 2 else 1) else 0) n
def difS (n : Nat) (c : Int → zS) : Int := sumI (fun r => 1 + (if r = 0 then ((c 0).length : Int) else dgt (num (c r) - num (c (r - 1))))) n
def difI (n : Nat) (c : Int → zS) : Int := if allI (fun r => decide (typ (c r) = 2)) n then difS n c else -1
def cosI (n : Nat) (c : Int → zS) (way : Int) : Int := if way = 0 then pln n c false else if way = 1 then pln n c true else if way = 2 then runI n c true else difI n c
/-- the best of the ways under w, the earlier if they're as good -/
def wayS (n : Nat) (c : Int → zS) : Nat → Int
  | 0 => 0
  | w + 1 => if 0 ≤ cosI n c (w + 1) ∧ cosI n c (w + 1) < cosI n c (wayS n c w) then (w + 1 : Int) else wayS n c w
def wayI (n : Nat) (c : Int → zS) : Int := wayS n c 3
theorem wayS_rng (n : Nat) (c : Int → zS) (w : Nat) : 0 ≤ wayS n c w ∧ wayS n c w ≤ w := by
  induction w with
  | zero => exact ⟨Int.le_refl 0, Int.le_refl 0⟩
  | succ w ih => rw [wayS]; split <;> omega
/-! numbers that are read are small -/
theorem numI_rng {f : Int → Int} {n : Nat} (h : ∀ i : Nat, i < n → 48 ≤ f i ∧ f i ≤ 57) : 0 ≤ numI f n ∧ numI f n ≤ 10 ^ n - 1 := by
  induction n with
  | zero => exact ⟨Int.le_refl 0, by show (0 : Int) ≤ 10 ^ 0 - 1; decide⟩
  | succ n ih =>
    have h1 := ih (fun i hi => h i (by omega))
    have h2 := h n (by omega)
    have h3 : (10 : Int) ^ (n + 1) = 10 * 10 ^ n := by rw [Int.pow_succ, Int.mul_comm]
    rw [numI, h3]
    omega
theorem pow_mono {n : Nat} (h : n ≤ 9) : (10 : Int) ^ n ≤ 1000000000 := by
  match n, h with
  | 0, _ => decide
  | 1, _ => decide
  | 2, _ => decide
  | 3, _ => decide
  | 4, _ => decide
  | 5, _ => decide
  | 6, _ => decide
  | 7, _ => decide
  | 8, _ => decide
  | 9, _ => decide
theorem isDig_rng {c : Int} (h : isDig c = true) : 48 ≤ c ∧ c ≤ 57 := by
  unfold isDig at h
  simpa using h
theorem isNum_f {w : zS} (h : isNum w = true) : 1 ≤ (w.length : Int) - neg1 w ∧ (w.length : Int) - neg1 w ≤ 9 ∧ (∀ i : Nat, i < w.length - (neg1 w).toNat → isDig (cT w (neg1 w + i)) = true) := by
  unfold isNum at h
  simp only [Bool.and_eq_true, decide_eq_true_eq] at h
  exact ⟨h.1.1.1, h.1.1.2, allI_iff.mp h.1.2⟩
theorem typ_num {w : zS} (h : typ w = 2) : isNum w = true := by
  unfold typ at h
  by_cases q : isNum w = true
  · exact q
  · rw [if_neg q] at h
    split at h <;> omega
theorem num_rng {w : zS} (h : typ w = 2) : -999999999 ≤ num w ∧ num w ≤ 999999999 := by
  have h1 := isNum_f (typ_num h)
  have hn := neg1_rng w
  have h2 := numI_rng (f := fun i => cT w (neg1 w + i)) (n := w.length - (neg1 w).toNat) (fun i hi => isDig_rng (h1.2.2 i hi))
  have h3 := pow_mono (n := w.length - (neg1 w).toNat) (by omega)
  unfold num
  unfold absNum
  split <;> omega
theorem zI_div10 {a : Int} (h : zR a) : Int32.ofInt a / Int32.ofInt 10 = Int32.ofInt (a.tdiv 10) :=
  (Int32.ofInt_tdiv (by have := h.1; exact this) (by have := h.2; show a ≤ 2147483647; omega) (by decide) (by decide)).symm
abbrev rmX4_digits : Room := { frames := 0, cells := 0, slots := 0, locals := 0 }
set_option maxHeartbeats 4000000 in
theorem c_X4_digits (D : zD) (A : Nat → Prop) {I : Heap → Prop} {v : Int} (hv : zR v) : zC D yX4_digits cX4_digits 3 (some .int) none rmX4_digits A [zI (v)] (I) (zPd (zI (dgt v)) I) zNo := by
  refine zC_start (L := [some (zI (v)), none, none]) (by decide) (Nat.le_of_ble_eq_true rfl) rfl (fun X hX => ?_)
  have K : ∀ x : Int, zR x → ∀ c : Int, c + dlN x.natAbs = dgt v → zG X 0 0 (I) 15 [some (zI (v)), some (zI (c)), some (zI (x))] [] := by
    refine z_wf (fun x : Int => x.natAbs) (fun x ih hx c hc => ?_)
    refine z_iload_n (i := 2) (q := 16) hX dX4_digits_15 rfl rfl rfl ?_
    refine z_if_eq (q := 19) (t := 30) hX dX4_digits_16 (by decide) (by omega) rfl (fun h16 => ?_) (fun h16 => ?_)
    · refine z_iload_n (i := 1) (q := 31) hX dX4_digits_30 rfl rfl rfl ?_
      exact z_iret hX dX4_digits_31 (Nat.le_of_ble_eq_true rfl) (Nat.le_of_ble_eq_true rfl) rfl (fun H hI => ⟨congrArg (fun z => some (zI z)) ((by rw [← hc, h16, show (0 : Int).natAbs = 0 from rfl, dlN_0, Int.add_zero])), hI⟩)
    · refine z_iinc (q := 22) hX dX4_digits_19 rfl (Nat.le_of_ble_eq_true rfl) rfl rfl ?_
      refine z_iload_n (i := 2) (q := 23) hX dX4_digits_22 rfl rfl rfl ?_
      refine z_bipush (q := 25) hX dX4_digits_23 (by decide) rfl ?_
      refine z_idiv (q := 26) hX dX4_digits_25 (by decide) (zI_div10 hx) rfl ?_
      refine z_istore_n (i := 2) (q := 27) hX dX4_digits_26 rfl (Nat.le_of_ble_eq_true rfl) rfl rfl ?_
      refine z_goto (t := 15) hX dX4_digits_27 (by decide) ?_
      have hz : (x.tdiv 10).natAbs = x.natAbs / 10 := Int.natAbs_tdiv x 10
      have h1 : x.natAbs / 10 < x.natAbs := by omega
      have h2 : x.natAbs ≤ 2147483648 := by have := hx.1; have := hx.2; omega
      refine ih (x.tdiv 10) (by rw [hz]; exact h1) ⟨by omega, by omega⟩ _ ?_
      rw [hz, ← hc, dlN_s (m := x.natAbs) (by omega)]
      omega
  have hz : (v.tdiv 10).natAbs = v.natAbs / 10 := Int.natAbs_tdiv v 10
  have h2 : v.natAbs ≤ 2147483648 := by have := hv.1; have := hv.2; omega
  refine z_iload_n (i := 0) (q := 1) hX dX4_digits_0 rfl rfl rfl ?_
  refine z_if_ge (q := 4) (t := 8) hX dX4_digits_1 (by decide) (by omega) rfl (fun h1 => ?_) (fun h1 => ?_)
  · refine z_iconst (q := 9) hX dX4_digits_8 rfl ?_
    refine z_istore_n (i := 1) (q := 10) hX dX4_digits_9 rfl (Nat.le_of_ble_eq_true rfl) rfl rfl ?_
    refine z_iload_n (i := 0) (q := 11) hX dX4_digits_10 rfl rfl rfl ?_
    refine z_bipush (q := 13) hX dX4_digits_11 (by decide) rfl ?_
    refine z_idiv (q := 14) hX dX4_digits_13 (by decide) (zI_div10 hv) rfl ?_
    refine z_istore_n (i := 2) (q := 15) hX dX4_digits_14 rfl (Nat.le_of_ble_eq_true rfl) rfl rfl ?_
    exact K _ ⟨by omega, by omega⟩ _ (by rw [hz]; unfold dgt; rw [if_neg (by omega)])
  · refine z_iconst (q := 5) hX dX4_digits_4 rfl ?_
    refine z_goto (t := 9) hX dX4_digits_5 (by decide) ?_
    refine z_istore_n (i := 1) (q := 10) hX dX4_digits_9 rfl (Nat.le_of_ble_eq_true rfl) rfl rfl ?_
    refine z_iload_n (i := 0) (q := 11) hX dX4_digits_10 rfl rfl rfl ?_
    refine z_bipush (q := 13) hX dX4_digits_11 (by decide) rfl ?_
    refine z_idiv (q := 14) hX dX4_digits_13 (by decide) (zI_div10 hv) rfl ?_
    refine z_istore_n (i := 2) (q := 15) hX dX4_digits_14 rfl (Nat.le_of_ble_eq_true rfl) rfl rfl ?_
    exact K _ ⟨by omega, by omega⟩ _ (by rw [hz]; unfold dgt; rw [if_pos (by omega)])
/-- template t's rows laid -/
def rowG (G : zTG) (t : Int) (n : Nat) : zTG := fun j i => if j = 11 ∧ 0 ≤ i ∧ i < (rF (ofP (G 0) t) n).length then (rF (ofP (G 0) t) n).getD i.toNat 0 else G j i
def rowsG (G : zTG) (t : Int) : zTG := rowG G t (G 0 0).toNat
theorem rowG_j (G : zTG) (t : Int) (n : Nat) {j : Nat} (h : j ≠ 11) : rowG G t n j = G j := by
  funext i
  exact if_neg (fun q => h q.1)
theorem rowG_at {G : zTG} {t r : Int} (h0 : 0 ≤ r) (h1 : r < nR (G 0) t) : rowsG G t 11 r = lnO (G 0) t r := by
  unfold nR rws at h1
  show (if _ then _ else _) = _
  rw [if_pos ⟨rfl, h0, h1⟩]
  unfold lnO rws
  rw [List.getD_eq_getElem?_getD, List.getD_eq_getElem?_getD, List.getElem?_eq_getElem (by omega)]
  rfl
theorem rowsG_2 (G : zTG) (t : Int) : rowsG (rowsG G t) t = rowsG G t := by
  have e0 : rowsG G t 0 = G 0 := rowG_j G t _ (by decide)
  funext j i
  show (if j = 11 ∧ 0 ≤ i ∧ i < (rF (ofP (rowsG G t 0) t) (rowsG G t 0 0).toNat).length then (rF (ofP (rowsG G t 0) t) (rowsG G t 0 0).toNat).getD i.toNat 0 else rowsG G t j i) = rowsG G t j i
  rw [e0]
  by_cases h : j = 11 ∧ 0 ≤ i ∧ i < (rF (ofP (G 0) t) (G 0 0).toNat).length
  · rw [if_pos h]
    exact (if_pos h).symm
  · rw [if_neg h]
abbrev rmX4_layRows : Room := { frames := 0, cells := 0, slots := 0, locals := 0 }
set_option maxHeartbeats 4000000 in
theorem c_X4_layRows (D : zD) (A : Nat → Prop) {b : Nat} {F : zTF} {G : zTG} {t : Int} (hw : zWf G) (ht : zR t) : zC D yX4_layRows cX4_layRows 3 none none rmX4_layRows A [.ref b, zI (t)] (twI D A b F G) (zPv (twI D A b (upF F 17 (nR (G 0) t)) (rowsG G t))) zNo := by
  refine zC_start (L := [some (.ref b), some (zI (t)), none]) (by decide) (Nat.le_of_ble_eq_true rfl) rfl (fun X hX => ?_)
  have hm := hw.1
  have K : ∀ n : Nat, n ≤ (G 0 0).toNat → ∀ p : Int, p = n → zG X 0 0 (twI D A b (upF F 17 (rF (ofP (G 0) t) n).length) (rowG G t n)) 7 [some (.ref b), some (zI (t)), some (zI (p))] [] := by
    refine z_up (fun n hn ih p e2 => ?_)
    subst e2
    have hl := rF_le (p := ofP (G 0) t) (n := n)
    have e0 : rowG G t n 0 = G 0 := rowG_j G t n (by decide)
    refine z_iload_n (i := 2) (q := 8) hX dX4_layRows_7 rfl rfl rfl ?_
    refine z_aload_n (i := 0) (q := 9) hX dX4_layRows_8 rfl rfl rfl ?_
    refine zt_getA (q := 12) hX 0 0 dX4_layRows_9 q1864 (by decide) rfl rfl rfl ?_
    refine z_iconst (q := 13) hX dX4_layRows_12 rfl ?_
    refine zt_ald (q := 14) (N := 1964) hX 0 dX4_layRows_13 rfl (by decide) (by decide) (by omega) rfl ?_
    rw [e0]
    refine z_icmp_ge (q := 17) (t := 56) hX dX4_layRows_14 (by decide) (by omega) (by omega) rfl (fun h14 => ?_) (fun h14 => ?_)
    · refine zt_conv (F2 := upF F 17 (nR (G 0) t)) (G2 := rowsG G t) (by unfold nR rws; rw [show n = (G 0 0).toNat by omega]) (by unfold rowsG; rw [show n = (G 0 0).toNat by omega]) ?_
      exact z_vret hX dX4_layRows_56 (Nat.le_of_ble_eq_true rfl) (Nat.le_of_ble_eq_true rfl) rfl (fun H hI => ⟨rfl, hI⟩)
    · refine z_aload_n (i := 0) (q := 18) hX dX4_layRows_17 rfl rfl rfl ?_
      refine zt_getA (q := 21) hX 0 0 dX4_layRows_18 q1864 (by decide) rfl rfl rfl ?_
      refine z_bipush (q := 23) hX dX4_layRows_21 (by decide) rfl ?_
      refine z_iload_n (i := 2) (q := 24) hX dX4_layRows_23 rfl rfl rfl ?_
      refine z_iadd (q := 25) hX dX4_layRows_24 rfl ?_
      refine zt_ald (q := 26) (N := 1964) hX 0 dX4_layRows_25 rfl (by decide) (by decide) (by omega) rfl ?_
      rw [e0]
      have ho := hw.of (l := n) (by omega) (by omega)
      refine z_iload_n (i := 1) (q := 27) hX dX4_layRows_26 rfl rfl rfl ?_
      refine z_icmp_ne (q := 30) (t := 50) hX dX4_layRows_27 (by decide) (by omega) (by omega) rfl (fun h27 => ?_) (fun h27 => ?_)
      · refine z_iinc (q := 53) hX dX4_layRows_50 rfl (Nat.le_of_ble_eq_true rfl) rfl rfl ?_
        refine z_goto (t := 7) hX dX4_layRows_53 (by decide) ?_
        have e9 := ih (by omega) _ rfl
        have hp : ofP (G 0) t n = false := decide_eq_false h27
        have e8 : rF (ofP (G 0) t) (n + 1) = rF (ofP (G 0) t) n := by rw [rF, hp]; rfl
        have e7 : rowG G t (n + 1) = rowG G t n := by unfold rowG; rw [e8]
        rw [e7, e8] at e9
        exact e9
      · refine z_aload_n (i := 0) (q := 31) hX dX4_layRows_30 rfl rfl rfl ?_
        refine zt_getA (q := 34) hX 18 11 dX4_layRows_31 q1882 (by decide) rfl rfl rfl ?_
        refine z_aload_n (i := 0) (q := 35) hX dX4_layRows_34 rfl rfl rfl ?_
        refine zt_getI (q := 38) hX 17 dX4_layRows_35 q1881 (by decide) rfl rfl rfl ?_
        rw [upF_same]
        refine z_iload_n (i := 2) (q := 39) hX dX4_layRows_38 rfl rfl rfl ?_
        refine zt_ast (q := 40) (N := 40) hX 11 dX4_layRows_39 rfl (by decide) (by decide) (by omega) rfl ?_
        refine z_aload_n (i := 0) (q := 41) hX dX4_layRows_40 rfl rfl rfl ?_
        refine z_dup (q := 42) hX dX4_layRows_41 rfl rfl ?_
        refine zt_getI (q := 45) hX 17 dX4_layRows_42 q1881 (by decide) rfl rfl rfl ?_
        rw [upF_same]
        refine z_iconst (q := 46) hX dX4_layRows_45 rfl ?_
        refine z_iadd (q := 47) hX dX4_layRows_46 rfl ?_
        refine zt_put (ty := .int) (q := 50) hX 17 dX4_layRows_47 q1881 (by decide) rfl rfl rfl (by decide) rfl rfl rfl ?_
        refine z_iinc (q := 53) hX dX4_layRows_50 rfl (Nat.le_of_ble_eq_true rfl) rfl rfl ?_
        refine z_goto (t := 7) hX dX4_layRows_53 (by decide) ?_
        have e9 := ih (by omega) _ rfl
        have hp : ofP (G 0) t n = true := decide_eq_true (by omega)
        have e8 : rF (ofP (G 0) t) (n + 1) = rF (ofP (G 0) t) n ++ [(n : Int)] := by rw [rF, hp]; rfl
        have e7 : upG (rowG G t n) 11 (rF (ofP (G 0) t) n).length n = rowG G t (n + 1) := by
          funext j i
          unfold rowG
          rw [e8, List.length_append, List.length_singleton]
          show (if _ then _ else _) = _
          by_cases q : j = 11 ∧ i = (rF (ofP (G 0) t) n).length
          · rw [if_pos q, if_pos (by omega), q.2, List.getD_eq_getElem?_getD, show (((rF (ofP (G 0) t) n).length : Nat) : Int).toNat = (rF (ofP (G 0) t) n).length by omega, List.getElem?_append_right (Nat.le_refl _), Nat.sub_self]
            rfl
          · rw [if_neg q]
            show (if _ then _ else _) = _
            by_cases q2 : j = 11 ∧ 0 ≤ i ∧ i < ((rF (ofP (G 0) t) n).length : Int)
            · rw [if_pos q2, if_pos (by omega), List.getD_eq_getElem?_getD, List.getD_eq_getElem?_getD, List.getElem?_append_left (by omega)]
            · rw [if_neg q2, if_neg (by omega)]
        rw [upF_upF, e7, show ((rF (ofP (G 0) t) n).length : Int) + 1 = ((rF (ofP (G 0) t) (n + 1)).length : Int) by rw [e8, List.length_append, List.length_singleton]; omega]
        exact e9
  refine z_aload_n (i := 0) (q := 1) hX dX4_layRows_0 rfl rfl rfl ?_
  refine z_iconst (q := 2) hX dX4_layRows_1 rfl ?_
  refine zt_put (ty := .int) (q := 5) hX 17 dX4_layRows_2 q1881 (by decide) rfl rfl rfl (by decide) rfl rfl rfl ?_
  refine z_iconst (q := 6) hX dX4_layRows_5 rfl ?_
  refine z_istore_n (i := 2) (q := 7) hX dX4_layRows_6 rfl (Nat.le_of_ble_eq_true rfl) rfl rfl ?_
  have e9 := K 0 (Nat.zero_le _) 0 rfl
  rw [show rowG G t 0 = G by funext j i; exact if_neg (by rintro ⟨-, h1, h2⟩; simp only [rF, List.length_nil] at h2; omega)] at e9
  exact e9
/-- the column k of the template whose rows are laid -/
def zCol (F : zTF) (G : zTG) (k : Int) (n : Nat) (c : Int → zS) : Prop := F 17 = n ∧ n ≤ 40 ∧ ∀ r : Int, 0 ≤ r → r < n → zLn G (G 11 r) ∧ 0 ≤ k ∧ k < nT (tx (G 0) (G 11 r)) ∧ c r = tok (tx (G 0) (G 11 r)) k
theorem zCol.g {F : zTF} {G : zTG} {k : Int} {n : Nat} {c : Int → zS} (h : zCol F G k n c) {r : Int} (h0 : 0 ≤ r) (h1 : r < n) : zLn G (G 11 r) ∧ (0 ≤ k ∧ k < nT (tx (G 0) (G 11 r))) ∧ c r = tok (tx (G 0) (G 11 r)) k ∧ ((c r).length : Int) = wT (tx (G 0) (G 11 r)) k ∧ 1 ≤ ((c r).length : Int) ∧ ((c r).length : Int) ≤ 40 := by
  obtain ⟨a1, a2, a3, a4⟩ := h.2.2 r h0 h1
  have h2 := tok_len a2 a3
  have h3 := a1.t a2 a3
  have h4 := a1.1.f
  rw [← a4] at h2
  exact ⟨a1, ⟨a2, a3⟩, a4, h2, by omega, by omega⟩
abbrev rmX4_firstLike : Room := { frames := 3, cells := 0, slots := 0, locals := 70 }
set_option maxHeartbeats 4000000 in
theorem c_X4_firstLike (D : zD) (A : Nat → Prop) {b : Nat} {F : zTF} {G : zTG} {k r : Int} {n : Nat} {c : Int → zS} (hc : zCol F G k n c) (hr : 0 ≤ r ∧ r < (n : Int)) : zC D yX4_firstLike cX4_firstLike 4 (some .int) none rmX4_firstLike A [.ref b, zI (k), zI (r)] (twI D A b F G) (zPd (zI (fstI c r)) (twI D A b (F) (G))) zNo := by
  refine zC_start (L := [some (.ref b), some (zI (k)), some (zI (r)), none]) (by decide) (Nat.le_of_ble_eq_true rfl) rfl (fun X hX => ?_)
  have hn := hc.2.1
  obtain ⟨g1, g2, g3, -⟩ := hc.g hr.1 hr.2
  have K : ∀ m : Nat, m ≤ r.toNat → (∀ j : Nat, j < m → c j ≠ c r) → ∀ p : Int, p = m → zG X 0 0 (twI D A b F G) 2 [some (.ref b), some (zI (k)), some (zI (r)), some (zI (p))] [] := by
    refine z_up (fun m hm ih hj p e2 => ?_)
    subst e2
    obtain ⟨g4, g5, g6, -⟩ := hc.g (r := m) (by omega) (by omega)
    refine z_aload_n (i := 0) (q := 3) hX dX4_firstLike_2 rfl rfl rfl ?_
    refine z_aload_n (i := 0) (q := 4) hX dX4_firstLike_3 rfl rfl rfl ?_
    refine zt_getA (q := 7) hX 18 11 dX4_firstLike_4 q1882 (by decide) rfl rfl rfl ?_
    refine z_iload_n (i := 3) (q := 8) hX dX4_firstLike_7 rfl rfl rfl ?_
    refine zt_ald (q := 9) (N := 40) hX 11 dX4_firstLike_8 rfl (by decide) (by decide) (by omega) rfl ?_
    refine z_iload_n (i := 1) (q := 10) hX dX4_firstLike_9 rfl rfl rfl ?_
    refine z_aload_n (i := 0) (q := 11) hX dX4_firstLike_10 rfl rfl rfl ?_
    refine zt_getA (q := 14) hX 18 11 dX4_firstLike_11 q1882 (by decide) rfl rfl rfl ?_
    refine z_iload_n (i := 2) (q := 15) hX dX4_firstLike_14 rfl rfl rfl ?_
    refine zt_ald (q := 16) (N := 40) hX 11 dX4_firstLike_15 rfl (by decide) (by decide) (by omega) rfl ?_
    refine z_iload_n (i := 1) (q := 17) hX dX4_firstLike_16 rfl rfl rfl ?_
    refine zt_V1 (q := 20) (na := 4) hX dX4_firstLike_17 (c_X4_isSame D A (by first | assumption | omega) (by first | assumption | omega) (by first | assumption | omega) (by first | assumption | omega)) q2018 q2020 qs52 q103 q2021 rfl (by decide +kernel) ⟨Nat.le_of_ble_eq_true rfl, Nat.le_of_ble_eq_true rfl⟩ rfl rfl (Nat.le_of_ble_eq_true rfl) rfl ⟨rfl, rfl⟩ (Nat.le_of_ble_eq_true rfl) (Nat.le_of_ble_eq_true rfl) rfl ?_
    refine z_ifB_ne (q := 23) (t := 29) hX dX4_firstLike_20 (by decide) rfl (fun h20 => ?_) (fun h20 => ?_)
    · refine z_iload_n (i := 3) (q := 30) hX dX4_firstLike_29 rfl rfl rfl ?_
      exact z_iret hX dX4_firstLike_30 (Nat.le_of_ble_eq_true rfl) (Nat.le_of_ble_eq_true rfl) rfl (fun H hI => ⟨congrArg (fun z => some (zI z)) ((fstI_eq (by omega) hj (by rw [g6, g3]; exact of_decide_eq_true h20)).symm), hI⟩)
    · refine z_iinc (q := 26) hX dX4_firstLike_23 rfl (Nat.le_of_ble_eq_true rfl) rfl rfl ?_
      refine z_goto (t := 2) hX dX4_firstLike_26 (by decide) ?_
      have hne : c m ≠ c r := by rw [g6, g3]; exact of_decide_eq_false h20
      by_cases hl : m < r.toNat
      · exact ih hl (fun j hj2 => by
          by_cases q : j = m
          · rw [q]; exact hne
          · exact hj j (by omega)) _ (by omega)
      · exact absurd (show c m = c r by rw [show (m : Int) = r by omega]) hne
  refine z_iconst (q := 1) hX dX4_firstLike_0 rfl ?_
  refine z_istore_n (i := 3) (q := 2) hX dX4_firstLike_1 rfl (Nat.le_of_ble_eq_true rfl) rfl rfl ?_
  exact K 0 (Nat.zero_le _) (fun j q => absurd q (Nat.not_lt_zero _)) _ rfl
abbrev rmX4_plain : Room := { frames := 4, cells := 0, slots := 0, locals := 93 }
set_option maxHeartbeats 4000000 in
theorem c_X4_plain (D : zD) (A : Nat → Prop) {b : Nat} {F : zTF} {G : zTG} {k : Int} {d : Bool} {n : Nat} {c : Int → zS} (hc : zCol F G k n c) : zC D yX4_plain cX4_plain 5 (some .int) none rmX4_plain A [.ref b, zI (k), zI (bi (d))] (twI D A b F G) (zPd (zI (pln n c d)) (twI D A b (F) (G))) zNo := by
  refine zC_start (L := [some (.ref b), some (zI (k)), some (zI (bi (d))), none, none]) (by decide) (Nat.le_of_ble_eq_true rfl) rfl (fun X hX => ?_)
  have hn := hc.2.1
  have hF := hc.1
  have K : ∀ m : Nat, m ≤ n → ∀ s p : Int, s = (if d then (n : Int) else 0) + sumI (fun r => if !d || decide (fstI c r = r) then ((c r).length : Int) + 1 else 0) m → p = m → zG X 0 0 (twI D A b F G) 16 [some (.ref b), some (zI (k)), some (zI (bi (d))), some (zI (s)), some (zI (p))] [] := by
    refine z_up (fun m hm ih s p e1 e2 => ?_)
    subst e2
    refine z_iload (q := 18) hX dX4_plain_16 rfl rfl ?_
    refine z_aload_n (i := 0) (q := 19) hX dX4_plain_18 rfl rfl rfl ?_
    refine zt_getI (q := 22) hX 17 dX4_plain_19 q1881 (by decide) rfl rfl rfl ?_
    refine z_icmp_ge (q := 25) (t := 68) hX dX4_plain_22 (by decide) (by omega) (by omega) rfl (fun h22 => ?_) (fun h22 => ?_)
    · refine z_iload_n (i := 3) (q := 69) hX dX4_plain_68 rfl rfl rfl ?_
      exact z_iret hX dX4_plain_69 (Nat.le_of_ble_eq_true rfl) (Nat.le_of_ble_eq_true rfl) rfl (fun H hI => ⟨congrArg (fun z => some (zI z)) ((by rw [e1, show m = n by omega]; rfl)), hI⟩)
    · obtain ⟨g1, g2, g3, g4, g5, g6⟩ := hc.g (r := m) (by omega) (by omega)
      have hfl := fstI_le c (r := m) (by omega)
      refine z_iload_n (i := 3) (q := 26) hX dX4_plain_25 rfl rfl rfl ?_
      refine z_iload_n (i := 2) (q := 27) hX dX4_plain_26 rfl rfl rfl ?_
      refine z_ifB_eq (q := 30) (t := 42) hX dX4_plain_27 (by decide) rfl (fun h27 => ?_) (fun h27 => ?_)
      · refine z_aload_n (i := 0) (q := 43) hX dX4_plain_42 rfl rfl rfl ?_
        refine z_aload_n (i := 0) (q := 44) hX dX4_plain_43 rfl rfl rfl ?_
        refine zt_getA (q := 47) hX 18 11 dX4_plain_44 q1882 (by decide) rfl rfl rfl ?_
        refine z_iload (q := 49) hX dX4_plain_47 rfl rfl ?_
        refine zt_ald (q := 50) (N := 40) hX 11 dX4_plain_49 rfl (by decide) (by decide) (by omega) rfl ?_
        refine z_iload_n (i := 1) (q := 51) hX dX4_plain_50 rfl rfl rfl ?_
        refine zt_V1 (q := 54) (na := 2) hX dX4_plain_51 (c_X4_wide D A (by first | assumption | omega) (by first | assumption | omega)) q2022 q2024 qs53 q103 q2025 rfl (by decide +kernel) ⟨Nat.le_of_ble_eq_true rfl, Nat.le_of_ble_eq_true rfl⟩ rfl rfl (Nat.le_of_ble_eq_true rfl) rfl ⟨rfl, rfl⟩ (Nat.le_of_ble_eq_true rfl) (Nat.le_of_ble_eq_true rfl) rfl ?_
        refine z_iconst (q := 55) hX dX4_plain_54 rfl ?_
        refine z_iadd (q := 56) hX dX4_plain_55 rfl ?_
        refine z_goto (t := 60) hX dX4_plain_56 (by decide) ?_
        refine z_iadd (q := 61) hX dX4_plain_60 rfl ?_
        refine z_istore_n (i := 3) (q := 62) hX dX4_plain_61 rfl (Nat.le_of_ble_eq_true rfl) rfl rfl ?_
        refine z_iinc (q := 65) hX dX4_plain_62 rfl (Nat.le_of_ble_eq_true rfl) rfl rfl ?_
        refine z_goto (t := 16) hX dX4_plain_65 (by decide) ?_
        exact ih (by omega) _ _ (by rw [sumI, e1, h27, g4]; simp <;> omega) (by omega)
      · refine z_aload_n (i := 0) (q := 31) hX dX4_plain_30 rfl rfl rfl ?_
        refine z_iload_n (i := 1) (q := 32) hX dX4_plain_31 rfl rfl rfl ?_
        refine z_iload (q := 34) hX dX4_plain_32 rfl rfl ?_
        refine zt_V1 (q := 37) (na := 2) hX dX4_plain_34 (c_X4_firstLike D A (by first | assumption | omega) (by first | assumption | omega)) q2157 q2159 qs76 q103 q2160 rfl (by decide +kernel) ⟨Nat.le_of_ble_eq_true rfl, Nat.le_of_ble_eq_true rfl⟩ rfl rfl (Nat.le_of_ble_eq_true rfl) rfl ⟨rfl, rfl⟩ (Nat.le_of_ble_eq_true rfl) (Nat.le_of_ble_eq_true rfl) rfl ?_
        refine z_iload (q := 39) hX dX4_plain_37 rfl rfl ?_
        refine z_icmp_ne (q := 42) (t := 59) hX dX4_plain_39 (by decide) (by omega) (by omega) rfl (fun h39 => ?_) (fun h39 => ?_)
        · refine z_iconst (q := 60) hX dX4_plain_59 rfl ?_
          refine z_iadd (q := 61) hX dX4_plain_60 rfl ?_
          refine z_istore_n (i := 3) (q := 62) hX dX4_plain_61 rfl (Nat.le_of_ble_eq_true rfl) rfl rfl ?_
          refine z_iinc (q := 65) hX dX4_plain_62 rfl (Nat.le_of_ble_eq_true rfl) rfl rfl ?_
          refine z_goto (t := 16) hX dX4_plain_65 (by decide) ?_
          exact ih (by omega) _ _ (by rw [sumI, e1, h27, decide_eq_false h39]; simp) (by omega)
        · refine z_aload_n (i := 0) (q := 43) hX dX4_plain_42 rfl rfl rfl ?_
          refine z_aload_n (i := 0) (q := 44) hX dX4_plain_43 rfl rfl rfl ?_
          refine zt_getA (q := 47) hX 18 11 dX4_plain_44 q1882 (by decide) rfl rfl rfl ?_
          refine z_iload (q := 49) hX dX4_plain_47 rfl rfl ?_
          refine zt_ald (q := 50) (N := 40) hX 11 dX4_plain_49 rfl (by decide) (by decide) (by omega) rfl ?_
          refine z_iload_n (i := 1) (q := 51) hX dX4_plain_50 rfl rfl rfl ?_
          refine zt_V1 (q := 54) (na := 2) hX dX4_plain_51 (c_X4_wide D A (by first | assumption | omega) (by first | assumption | omega)) q2022 q2024 qs53 q103 q2025 rfl (by decide +kernel) ⟨Nat.le_of_ble_eq_true rfl, Nat.le_of_ble_eq_true rfl⟩ rfl rfl (Nat.le_of_ble_eq_true rfl) rfl ⟨rfl, rfl⟩ (Nat.le_of_ble_eq_true rfl) (Nat.le_of_ble_eq_true rfl) rfl ?_
          refine z_iconst (q := 55) hX dX4_plain_54 rfl ?_
          refine z_iadd (q := 56) hX dX4_plain_55 rfl ?_
          refine z_goto (t := 60) hX dX4_plain_56 (by decide) ?_
          refine z_iadd (q := 61) hX dX4_plain_60 rfl ?_
          refine z_istore_n (i := 3) (q := 62) hX dX4_plain_61 rfl (Nat.le_of_ble_eq_true rfl) rfl rfl ?_
          refine z_iinc (q := 65) hX dX4_plain_62 rfl (Nat.le_of_ble_eq_true rfl) rfl rfl ?_
          refine z_goto (t := 16) hX dX4_plain_65 (by decide) ?_
          exact ih (by omega) _ _ (by rw [sumI, e1, h27, g4, decide_eq_true (by omega)]; simp <;> omega) (by omega)
  refine z_iload_n (i := 2) (q := 1) hX dX4_plain_0 rfl rfl rfl ?_
  refine z_ifB_eq (q := 4) (t := 11) hX dX4_plain_1 (by decide) rfl (fun h1 => ?_) (fun h1 => ?_)
  · refine z_iconst (q := 12) hX dX4_plain_11 rfl ?_
    refine z_istore_n (i := 3) (q := 13) hX dX4_plain_12 rfl (Nat.le_of_ble_eq_true rfl) rfl rfl ?_
    refine z_iconst (q := 14) hX dX4_plain_13 rfl ?_
    refine z_istore (q := 16) hX dX4_plain_14 (Nat.le_of_ble_eq_true rfl) rfl rfl ?_
    exact K 0 (Nat.zero_le _) _ _ (by rw [h1]; rfl) rfl
  · refine z_aload_n (i := 0) (q := 5) hX dX4_plain_4 rfl rfl rfl ?_
    refine zt_getI (q := 8) hX 17 dX4_plain_5 q1881 (by decide) rfl rfl rfl ?_
    refine z_goto (t := 12) hX dX4_plain_8 (by decide) ?_
    refine z_istore_n (i := 3) (q := 13) hX dX4_plain_12 rfl (Nat.le_of_ble_eq_true rfl) rfl rfl ?_
    refine z_iconst (q := 14) hX dX4_plain_13 rfl ?_
    refine z_istore (q := 16) hX dX4_plain_14 (Nat.le_of_ble_eq_true rfl) rfl rfl ?_
    exact K 0 (Nat.zero_le _) _ _ (by rw [h1, hF]; simp [sumI]) rfl
abbrev rmX4_runs : Room := { frames := 3, cells := 0, slots := 0, locals := 70 }
set_option maxHeartbeats 4000000 in
theorem c_X4_runs (D : zD) (A : Nat → Prop) {b : Nat} {F : zTF} {G : zTG} {k : Int} {d : Bool} {n : Nat} {c : Int → zS} (hc : zCol F G k n c) : zC D yX4_runs cX4_runs 6 (some .int) none rmX4_runs A [.ref b, zI (k), zI (bi (d))] (twI D A b F G) (zPd (zI (runI n c d)) (twI D A b (F) (G))) zNo := by
  refine zC_start (L := [some (.ref b), some (zI (k)), some (zI (bi (d))), none, none, none]) (by decide) (Nat.le_of_ble_eq_true rfl) rfl (fun X hX => ?_)
  have hn := hc.2.1
  have hF := hc.1
  have K : ∀ m : Nat, m ≤ n → ∀ s p : Int, s = sumI (fun r => if beg c r then (if d then ((c r).length : Int) + 2 else 1) else 0) m → p = m → zG X 0 0 (twI D A b F G) 5 [some (.ref b), some (zI (k)), some (zI (bi (d))), some (zI (s)), some (zI (p)), none] [] := by
    refine z_up (fun m hm ih s p e1 e2 => ?_)
    subst e2
    have J49 : m < n → ∀ (v : Bool) (x : Int), v = beg c m → x = bi v → zG X 0 0 (twI D A b F G) 49 [some (.ref b), some (zI (k)), some (zI (bi (d))), some (zI (s)), some (zI (m)), none] [zI (x)] := by
      intro hlt v x ev ex
      subst ex
      obtain ⟨g1, g2, g3, g4, g5, g6⟩ := hc.g (r := m) (by omega) (by omega)
      refine z_istore (q := 51) hX dX4_runs_49 (Nat.le_of_ble_eq_true rfl) rfl rfl ?_
      refine z_iload_n (i := 3) (q := 52) hX dX4_runs_51 rfl rfl rfl ?_
      refine z_iload (q := 54) hX dX4_runs_52 rfl rfl ?_
      refine z_ifB_eq (q := 57) (t := 82) hX dX4_runs_54 (by decide) rfl (fun h54 => ?_) (fun h54 => ?_)
      · refine z_iconst (q := 83) hX dX4_runs_82 rfl ?_
        refine z_iadd (q := 84) hX dX4_runs_83 rfl ?_
        refine z_istore_n (i := 3) (q := 85) hX dX4_runs_84 rfl (Nat.le_of_ble_eq_true rfl) rfl rfl ?_
        refine z_iinc (q := 88) hX dX4_runs_85 rfl (Nat.le_of_ble_eq_true rfl) rfl rfl ?_
        refine z_goto (t := 5) hX dX4_runs_88 (by decide) ?_
        refine zG.drop 5 ?_
        exact ih (by omega) _ _ (by rw [sumI, e1, ← ev, h54]; simp) (by omega)
      · refine z_iload_n (i := 2) (q := 58) hX dX4_runs_57 rfl rfl rfl ?_
        refine z_ifB_eq (q := 61) (t := 78) hX dX4_runs_58 (by decide) rfl (fun h58 => ?_) (fun h58 => ?_)
        · refine z_iconst (q := 79) hX dX4_runs_78 rfl ?_
          refine z_goto (t := 83) hX dX4_runs_79 (by decide) ?_
          refine z_iadd (q := 84) hX dX4_runs_83 rfl ?_
          refine z_istore_n (i := 3) (q := 85) hX dX4_runs_84 rfl (Nat.le_of_ble_eq_true rfl) rfl rfl ?_
          refine z_iinc (q := 88) hX dX4_runs_85 rfl (Nat.le_of_ble_eq_true rfl) rfl rfl ?_
          refine z_goto (t := 5) hX dX4_runs_88 (by decide) ?_
          refine zG.drop 5 ?_
          exact ih (by omega) _ _ (by rw [sumI, e1, ← ev, h54, h58]; simp) (by omega)
        · refine z_aload_n (i := 0) (q := 62) hX dX4_runs_61 rfl rfl rfl ?_
          refine z_aload_n (i := 0) (q := 63) hX dX4_runs_62 rfl rfl rfl ?_
          refine zt_getA (q := 66) hX 18 11 dX4_runs_63 q1882 (by decide) rfl rfl rfl ?_
          refine z_iload (q := 68) hX dX4_runs_66 rfl rfl ?_
          refine zt_ald (q := 69) (N := 40) hX 11 dX4_runs_68 rfl (by decide) (by decide) (by omega) rfl ?_
          refine z_iload_n (i := 1) (q := 70) hX dX4_runs_69 rfl rfl rfl ?_
          refine zt_V1 (q := 73) (na := 2) hX dX4_runs_70 (c_X4_wide D A (by first | assumption | omega) (by first | assumption | omega)) q2022 q2024 qs53 q103 q2025 rfl (by decide +kernel) ⟨Nat.le_of_ble_eq_true rfl, Nat.le_of_ble_eq_true rfl⟩ rfl rfl (Nat.le_of_ble_eq_true rfl) rfl ⟨rfl, rfl⟩ (Nat.le_of_ble_eq_true rfl) (Nat.le_of_ble_eq_true rfl) rfl ?_
          refine z_iconst (q := 74) hX dX4_runs_73 rfl ?_
          refine z_iadd (q := 75) hX dX4_runs_74 rfl ?_
          refine z_goto (t := 83) hX dX4_runs_75 (by decide) ?_
          refine z_iadd (q := 84) hX dX4_runs_83 rfl ?_
          refine z_istore_n (i := 3) (q := 85) hX dX4_runs_84 rfl (Nat.le_of_ble_eq_true rfl) rfl rfl ?_
          refine z_iinc (q := 88) hX dX4_runs_85 rfl (Nat.le_of_ble_eq_true rfl) rfl rfl ?_
          refine z_goto (t := 5) hX dX4_runs_88 (by decide) ?_
          refine zG.drop 5 ?_
          exact ih (by omega) _ _ (by rw [sumI, e1, ← ev, h54, h58, g4]; simp) (by omega)
    refine z_iload (q := 7) hX dX4_runs_5 rfl rfl ?_
    refine z_aload_n (i := 0) (q := 8) hX dX4_runs_7 rfl rfl rfl ?_
    refine zt_getI (q := 11) hX 17 dX4_runs_8 q1881 (by decide) rfl rfl rfl ?_
    refine z_icmp_ge (q := 14) (t := 91) hX dX4_runs_11 (by decide) (by omega) (by omega) rfl (fun h11 => ?_) (fun h11 => ?_)
    · refine z_iload_n (i := 3) (q := 92) hX dX4_runs_91 rfl rfl rfl ?_
      exact z_iret hX dX4_runs_92 (Nat.le_of_ble_eq_true rfl) (Nat.le_of_ble_eq_true rfl) rfl (fun H hI => ⟨congrArg (fun z => some (zI z)) ((by rw [e1, show m = n by omega]; rfl)), hI⟩)
    · obtain ⟨g1, g2, g3, g4, g5, g6⟩ := hc.g (r := m) (by omega) (by omega)
      refine z_iload (q := 16) hX dX4_runs_14 rfl rfl ?_
      refine z_if_eq (q := 19) (t := 44) hX dX4_runs_16 (by decide) (by omega) rfl (fun h16 => ?_) (fun h16 => ?_)
      · refine z_iconst (q := 45) hX dX4_runs_44 rfl ?_
        refine z_goto (t := 49) hX dX4_runs_45 (by decide) ?_
        exact J49 (by omega) true _ (by unfold beg; rw [decide_eq_true h16]; rfl) rfl
      · obtain ⟨f1, f2, f3, f4, f5, f6⟩ := hc.g (r := (m : Int) - 1) (by omega) (by omega)
        refine z_aload_n (i := 0) (q := 20) hX dX4_runs_19 rfl rfl rfl ?_
        refine z_aload_n (i := 0) (q := 21) hX dX4_runs_20 rfl rfl rfl ?_
        refine zt_getA (q := 24) hX 18 11 dX4_runs_21 q1882 (by decide) rfl rfl rfl ?_
        refine z_iload (q := 26) hX dX4_runs_24 rfl rfl ?_
        refine z_iconst (q := 27) hX dX4_runs_26 rfl ?_
        refine z_isub (q := 28) hX dX4_runs_27 rfl ?_
        refine zt_ald (q := 29) (N := 40) hX 11 dX4_runs_28 rfl (by decide) (by decide) (by omega) rfl ?_
        refine z_iload_n (i := 1) (q := 30) hX dX4_runs_29 rfl rfl rfl ?_
        refine z_aload_n (i := 0) (q := 31) hX dX4_runs_30 rfl rfl rfl ?_
        refine zt_getA (q := 34) hX 18 11 dX4_runs_31 q1882 (by decide) rfl rfl rfl ?_
        refine z_iload (q := 36) hX dX4_runs_34 rfl rfl ?_
        refine zt_ald (q := 37) (N := 40) hX 11 dX4_runs_36 rfl (by decide) (by decide) (by omega) rfl ?_
        refine z_iload_n (i := 1) (q := 38) hX dX4_runs_37 rfl rfl rfl ?_
        refine zt_V1 (q := 41) (na := 4) hX dX4_runs_38 (c_X4_isSame D A (by first | assumption | omega) (by first | assumption | omega) (by first | assumption | omega) (by first | assumption | omega)) q2018 q2020 qs52 q103 q2021 rfl (by decide +kernel) ⟨Nat.le_of_ble_eq_true rfl, Nat.le_of_ble_eq_true rfl⟩ rfl rfl (Nat.le_of_ble_eq_true rfl) rfl ⟨rfl, rfl⟩ (Nat.le_of_ble_eq_true rfl) (Nat.le_of_ble_eq_true rfl) rfl ?_
        refine z_ifB_ne (q := 44) (t := 48) hX dX4_runs_41 (by decide) rfl (fun h41 => ?_) (fun h41 => ?_)
        · refine z_iconst (q := 49) hX dX4_runs_48 rfl ?_
          exact J49 (by omega) false _ (by unfold beg; rw [decide_eq_false h16, f3, g3, h41]; rfl) rfl
        · refine z_iconst (q := 45) hX dX4_runs_44 rfl ?_
          refine z_goto (t := 49) hX dX4_runs_45 (by decide) ?_
          exact J49 (by omega) true _ (by unfold beg; rw [decide_eq_false h16, f3, g3, h41]; rfl) rfl
  refine z_iconst (q := 1) hX dX4_runs_0 rfl ?_
  refine z_istore_n (i := 3) (q := 2) hX dX4_runs_1 rfl (Nat.le_of_ble_eq_true rfl) rfl rfl ?_
  refine z_iconst (q := 3) hX dX4_runs_2 rfl ?_
  refine z_istore (q := 5) hX dX4_runs_3 (Nat.le_of_ble_eq_true rfl) rfl rfl ?_
  exact K 0 (Nat.zero_le _) _ _ rfl rfl
abbrev rmX4_differences : Room := { frames := 3, cells := 0, slots := 0, locals := 70 }
set_option maxHeartbeats 4000000 in
theorem c_X4_differences (D : zD) (A : Nat → Prop) {b : Nat} {F : zTF} {G : zTG} {k : Int} {n : Nat} {c : Int → zS} (hc : zCol F G k n c) : zC D yX4_differences cX4_differences 5 (some .int) none rmX4_differences A [.ref b, zI (k)] (twI D A b F G) (zPd (zI (difI n c)) (twI D A b (F) (G))) zNo := by
  refine zC_start (L := [some (.ref b), some (zI (k)), none, none, none]) (by decide) (Nat.le_of_ble_eq_true rfl) rfl (fun X hX => ?_)
  have hn := hc.2.1
  have hF := hc.1
  have K : ∀ m : Nat, m ≤ n → (∀ j : Nat, j < m → typ (c j) = 2) → ∀ s p : Int, s = difS m c → p = m → zG X 0 0 (twI D A b F G) 4 [some (.ref b), some (zI (k)), some (zI (s)), some (zI (p)), none] [] := by
    refine z_up (fun m hm ih hj s p e1 e2 => ?_)
    subst e2
    have J81 : m < n → typ (c m) = 2 → ∀ x : Int, x = (if (m : Int) = 0 then ((c 0).length : Int) else dgt (num (c m) - num (c ((m : Int) - 1)))) → zG X 0 0 (twI D A b F G) 81 [some (.ref b), some (zI (k)), some (zI (s)), some (zI (m)), some (zI (num (c m)))] [zI (x), zI (1), zI (s)] := by
      intro hlt hty x ex
      refine z_iadd (q := 82) hX dX4_differences_81 rfl ?_
      refine z_iadd (q := 83) hX dX4_differences_82 rfl ?_
      refine z_istore_n (i := 2) (q := 84) hX dX4_differences_83 rfl (Nat.le_of_ble_eq_true rfl) rfl rfl ?_
      refine z_iinc (q := 87) hX dX4_differences_84 rfl (Nat.le_of_ble_eq_true rfl) rfl rfl ?_
      refine z_goto (t := 4) hX dX4_differences_87 (by decide) ?_
      refine zG.drop 4 ?_
      exact ih (by omega) (fun j hj2 => by
        by_cases q : j = m
        · rw [q]; exact hty
        · exact hj j (by omega)) _ _ (by rw [difS, sumI, e1, ex]; rfl) (by omega)
    refine z_iload_n (i := 3) (q := 5) hX dX4_differences_4 rfl rfl rfl ?_
    refine z_aload_n (i := 0) (q := 6) hX dX4_differences_5 rfl rfl rfl ?_
    refine zt_getI (q := 9) hX 17 dX4_differences_6 q1881 (by decide) rfl rfl rfl ?_
    refine z_icmp_ge (q := 12) (t := 90) hX dX4_differences_9 (by decide) (by omega) (by omega) rfl (fun h9 => ?_) (fun h9 => ?_)
    · refine z_iload_n (i := 2) (q := 91) hX dX4_differences_90 rfl rfl rfl ?_
      exact z_iret hX dX4_differences_91 (Nat.le_of_ble_eq_true rfl) (Nat.le_of_ble_eq_true rfl) rfl (fun H hI => ⟨congrArg (fun z => some (zI z)) ((by unfold difI; rw [if_pos (by rw [allI_iff]; intro i hi; exact decide_eq_true (hj i (by omega)))]; rw [e1, show m = n by omega])), hI⟩)
    · obtain ⟨g1, g2, g3, g4, g5, g6⟩ := hc.g (r := m) (by omega) (by omega)
      have hty0 := typ_range (tok (tx (G 0) (G 11 m)) k)
      refine z_aload_n (i := 0) (q := 13) hX dX4_differences_12 rfl rfl rfl ?_
      refine z_aload_n (i := 0) (q := 14) hX dX4_differences_13 rfl rfl rfl ?_
      refine zt_getA (q := 17) hX 18 11 dX4_differences_14 q1882 (by decide) rfl rfl rfl ?_
      refine z_iload_n (i := 3) (q := 18) hX dX4_differences_17 rfl rfl rfl ?_
      refine zt_ald (q := 19) (N := 40) hX 11 dX4_differences_18 rfl (by decide) (by decide) (by omega) rfl ?_
      refine z_iload_n (i := 1) (q := 20) hX dX4_differences_19 rfl rfl rfl ?_
      refine zt_V1 (q := 23) (na := 2) hX dX4_differences_20 (c_X4_typeOf D A (by first | assumption | omega) (by first | assumption | omega)) q2026 q2028 qs54 q103 q2029 rfl (by decide +kernel) ⟨Nat.le_of_ble_eq_true rfl, Nat.le_of_ble_eq_true rfl⟩ rfl rfl (Nat.le_of_ble_eq_true rfl) rfl ⟨rfl, rfl⟩ (Nat.le_of_ble_eq_true rfl) (Nat.le_of_ble_eq_true rfl) rfl ?_
      refine z_iconst (q := 24) hX dX4_differences_23 rfl ?_
      refine z_icmp_eq (q := 27) (t := 29) hX dX4_differences_24 (by decide) (by omega) (by omega) rfl (fun h24 => ?_) (fun h24 => ?_)
      · refine z_aload_n (i := 0) (q := 30) hX dX4_differences_29 rfl rfl rfl ?_
        refine z_aload_n (i := 0) (q := 31) hX dX4_differences_30 rfl rfl rfl ?_
        refine zt_getA (q := 34) hX 18 11 dX4_differences_31 q1882 (by decide) rfl rfl rfl ?_
        refine z_iload_n (i := 3) (q := 35) hX dX4_differences_34 rfl rfl rfl ?_
        refine zt_ald (q := 36) (N := 40) hX 11 dX4_differences_35 rfl (by decide) (by decide) (by omega) rfl ?_
        refine z_iload_n (i := 1) (q := 37) hX dX4_differences_36 rfl rfl rfl ?_
        refine zt_V1 (q := 40) (na := 2) hX dX4_differences_37 (c_X4_numberOf D A (by first | assumption | omega) (by first | assumption | omega)) q2169 q2171 qs79 q103 q2172 rfl (by decide +kernel) ⟨Nat.le_of_ble_eq_true rfl, Nat.le_of_ble_eq_true rfl⟩ rfl rfl (Nat.le_of_ble_eq_true rfl) rfl ⟨rfl, rfl⟩ (Nat.le_of_ble_eq_true rfl) (Nat.le_of_ble_eq_true rfl) rfl ?_
        refine z_istore (q := 42) hX dX4_differences_40 (Nat.le_of_ble_eq_true rfl) rfl rfl ?_
        rw [← g3]
        refine z_iload_n (i := 2) (q := 43) hX dX4_differences_42 rfl rfl rfl ?_
        refine z_iconst (q := 44) hX dX4_differences_43 rfl ?_
        refine z_iload_n (i := 3) (q := 45) hX dX4_differences_44 rfl rfl rfl ?_
        have hty : typ (c m) = 2 := by rw [g3]; exact h24
        have hnr := num_rng hty
        refine z_if_ne (q := 48) (t := 62) hX dX4_differences_45 (by decide) (by omega) rfl (fun h45 => ?_) (fun h45 => ?_)
        · obtain ⟨f1, f2, f3, f4, f5, f6⟩ := hc.g (r := (m : Int) - 1) (by omega) (by omega)
          have hty2 := hj (m - 1) (by omega)
          rw [show ((m - 1 : Nat) : Int) = (m : Int) - 1 by omega] at hty2
          have hnr2 := num_rng hty2
          refine z_iload (q := 64) hX dX4_differences_62 rfl rfl ?_
          refine z_aload_n (i := 0) (q := 65) hX dX4_differences_64 rfl rfl rfl ?_
          refine z_aload_n (i := 0) (q := 66) hX dX4_differences_65 rfl rfl rfl ?_
          refine zt_getA (q := 69) hX 18 11 dX4_differences_66 q1882 (by decide) rfl rfl rfl ?_
          refine z_iload_n (i := 3) (q := 70) hX dX4_differences_69 rfl rfl rfl ?_
          refine z_iconst (q := 71) hX dX4_differences_70 rfl ?_
          refine z_isub (q := 72) hX dX4_differences_71 rfl ?_
          refine zt_ald (q := 73) (N := 40) hX 11 dX4_differences_72 rfl (by decide) (by decide) (by omega) rfl ?_
          refine z_iload_n (i := 1) (q := 74) hX dX4_differences_73 rfl rfl rfl ?_
          refine zt_V1 (q := 77) (na := 2) hX dX4_differences_74 (c_X4_numberOf D A (by first | assumption | omega) (by first | assumption | omega)) q2169 q2171 qs79 q103 q2172 rfl (by decide +kernel) ⟨Nat.le_of_ble_eq_true rfl, Nat.le_of_ble_eq_true rfl⟩ rfl rfl (Nat.le_of_ble_eq_true rfl) rfl ⟨rfl, rfl⟩ (Nat.le_of_ble_eq_true rfl) (Nat.le_of_ble_eq_true rfl) rfl ?_
          rw [← f3]
          refine z_isub (q := 78) hX dX4_differences_77 rfl ?_
          refine zt_S1 (q := 81) (na := 1) hX dX4_differences_78 (c_X4_digits D A (by first | assumption | omega)) q2173 q2174 q103 q2175 (by decide +kernel) ⟨Nat.le_of_ble_eq_true rfl, Nat.le_of_ble_eq_true rfl⟩ rfl rfl (Nat.le_of_ble_eq_true rfl) rfl ⟨rfl, rfl⟩ (Nat.le_of_ble_eq_true rfl) (Nat.le_of_ble_eq_true rfl) rfl ?_
          exact J81 (by omega) hty _ (by rw [if_neg h45])
        · obtain ⟨f1, f2, f3, f4, f5, f6⟩ := hc.g (r := 0) (by omega) (by omega)
          refine z_aload_n (i := 0) (q := 49) hX dX4_differences_48 rfl rfl rfl ?_
          refine z_aload_n (i := 0) (q := 50) hX dX4_differences_49 rfl rfl rfl ?_
          refine zt_getA (q := 53) hX 18 11 dX4_differences_50 q1882 (by decide) rfl rfl rfl ?_
          refine z_iconst (q := 54) hX dX4_differences_53 rfl ?_
          refine zt_ald (q := 55) (N := 40) hX 11 dX4_differences_54 rfl (by decide) (by decide) (by omega) rfl ?_
          refine z_iload_n (i := 1) (q := 56) hX dX4_differences_55 rfl rfl rfl ?_
          refine zt_V1 (q := 59) (na := 2) hX dX4_differences_56 (c_X4_wide D A (by first | assumption | omega) (by first | assumption | omega)) q2022 q2024 qs53 q103 q2025 rfl (by decide +kernel) ⟨Nat.le_of_ble_eq_true rfl, Nat.le_of_ble_eq_true rfl⟩ rfl rfl (Nat.le_of_ble_eq_true rfl) rfl ⟨rfl, rfl⟩ (Nat.le_of_ble_eq_true rfl) (Nat.le_of_ble_eq_true rfl) rfl ?_
          refine z_goto (t := 81) hX dX4_differences_59 (by decide) ?_
          exact J81 (by omega) hty _ (by rw [if_pos (by omega), f4])
      · refine z_iconst (q := 28) hX dX4_differences_27 rfl ?_
        exact z_iret hX dX4_differences_28 (Nat.le_of_ble_eq_true rfl) (Nat.le_of_ble_eq_true rfl) rfl (fun H hI => ⟨congrArg (fun z => some (zI z)) ((by
          unfold difI
          rw [if_neg]
          rw [allI_iff]
          intro q
          have q1 := q m (by omega)
          rw [decide_eq_true_eq, g3] at q1
          exact h24 q1)), hI⟩)
  refine z_iconst (q := 1) hX dX4_differences_0 rfl ?_
  refine z_istore_n (i := 2) (q := 2) hX dX4_differences_1 rfl (Nat.le_of_ble_eq_true rfl) rfl rfl ?_
  refine z_iconst (q := 3) hX dX4_differences_2 rfl ?_
  refine z_istore_n (i := 3) (q := 4) hX dX4_differences_3 rfl (Nat.le_of_ble_eq_true rfl) rfl rfl ?_
  exact K 0 (Nat.zero_le _) (fun j q => absurd q (Nat.not_lt_zero _)) _ _ rfl rfl
