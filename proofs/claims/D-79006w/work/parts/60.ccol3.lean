/-! THE CLASS: Column.fillBoth, its constructor of a template -/
set_option maxRecDepth 100000
/-- two ascending lists in one -/
def mgN : Nat → List Int → List Int → List Int
  | 0, xs, ys => xs ++ ys
  | _ + 1, [], ys => ys
  | _ + 1, x :: xs, [] => x :: xs
  | n + 1, x :: xs, y :: ys => if x < y then x :: mgN n xs (y :: ys) else y :: mgN n (x :: xs) ys
def mgL (xs ys : List Int) : List Int := mgN (xs.length + ys.length) xs ys
theorem mgL_nil (ys : List Int) : mgL [] ys = ys := by
  unfold mgL
  cases ys with
  | nil => rfl
  | cons y ys => rfl
theorem mgL_nil2 (xs : List Int) : mgL xs [] = xs := by
  unfold mgL
  cases xs with
  | nil => rfl
  | cons x xs => rfl
theorem mgL_lt {x y : Int} {xs ys : List Int} (h : x < y) : mgL (x :: xs) (y :: ys) = x :: mgL xs (y :: ys) := by
  unfold mgL
  rw [show (x :: xs).length + (y :: ys).length = (xs.length + (y :: ys).length) + 1 by simp only [List.length_cons]; omega, mgN, if_pos h]
theorem mgL_ge {x y : Int} {xs ys : List Int} (h : ¬ x < y) : mgL (x :: xs) (y :: ys) = y :: mgL (x :: xs) ys := by
  unfold mgL
  rw [show (x :: xs).length + (y :: ys).length = ((x :: xs).length + ys.length) + 1 by simp only [List.length_cons]; omega, mgN, if_neg h]
theorem mgL_len : ∀ (n : Nat) (xs ys : List Int), xs.length + ys.length ≤ n → (mgL xs ys).length = xs.length + ys.length := by
  intro n
  induction n with
  | zero =>
    intro xs ys h
    have h1 : xs = [] := List.length_eq_zero_iff.mp (by omega)
    have h2 : ys = [] := List.length_eq_zero_iff.mp (by omega)
    subst h1
    subst h2
    rfl
  | succ n ih =>
    intro xs ys h
    cases xs with
    | nil => rw [mgL_nil]; simp
    | cons x xs =>
      cases ys with
      | nil => rw [mgL_nil2]; simp
      | cons y ys =>
        simp only [List.length_cons] at h
        by_cases q : x < y
        · rw [mgL_lt q, List.length_cons, ih xs (y :: ys) (by simp only [List.length_cons]; omega)]
          simp only [List.length_cons]; omega
        · rw [mgL_ge q, List.length_cons, ih (x :: xs) ys (by simp only [List.length_cons]; omega)]
          simp only [List.length_cons]; omega
theorem mgL_mem : ∀ (n : Nat) (xs ys : List Int), xs.length + ys.length ≤ n → ∀ z, z ∈ mgL xs ys ↔ z ∈ xs ∨ z ∈ ys := by
  intro n
  induction n with
  | zero =>
    intro xs ys h z
    have h1 : xs = [] := List.length_eq_zero_iff.mp (by omega)
    have h2 : ys = [] := List.length_eq_zero_iff.mp (by omega)
    subst h1
    subst h2
    rw [mgL_nil]
    simp
  | succ n ih =>
    intro xs ys h z
    cases xs with
    | nil => rw [mgL_nil]; simp
    | cons x xs =>
      cases ys with
      | nil => rw [mgL_nil2]; simp
      | cons y ys =>
        simp only [List.length_cons] at h
        by_cases q : x < y
        · rw [mgL_lt q, List.mem_cons, ih xs (y :: ys) (by simp only [List.length_cons]; omega) z, List.mem_cons (l := xs), or_assoc]
        · rw [mgL_ge q, List.mem_cons, ih (x :: xs) ys (by simp only [List.length_cons]; omega) z, List.mem_cons (l := ys)]
          constructor
          · rintro (e | e | e)
            · exact Or.inr (Or.inl e)
            · exact Or.inl e
            · exact Or.inr (Or.inr e)
          · rintro (e | e | e)
            · exact Or.inr (Or.inl e)
            · exact Or.inl e
            · exact Or.inr (Or.inr e)
theorem mgL_asc : ∀ (n : Nat) (xs ys : List Int), xs.length + ys.length ≤ n → asc xs → asc ys → (∀ z ∈ ys, z ∉ xs) → asc (mgL xs ys) := by
  intro n
  induction n with
  | zero =>
    intro xs ys h _ _ _
    have h1 : xs = [] := List.length_eq_zero_iff.mp (by omega)
    have h2 : ys = [] := List.length_eq_zero_iff.mp (by omega)
    subst h1
    subst h2
    exact List.Pairwise.nil
  | succ n ih =>
    intro xs ys h hx hy hd
    cases xs with
    | nil => rw [mgL_nil]; exact hy
    | cons x xs =>
      cases ys with
      | nil => rw [mgL_nil2]; exact hx
      | cons y ys =>
        simp only [List.length_cons] at h
        have hx2 := List.pairwise_cons.mp hx
        have hy2 := List.pairwise_cons.mp hy
        by_cases q : x < y
        · rw [mgL_lt q]
          refine List.pairwise_cons.mpr ⟨fun z hz => ?_, ih xs (y :: ys) (by simp only [List.length_cons]; omega) hx2.2 hy (fun z hz hz2 => hd z hz (List.mem_cons_of_mem _ hz2))⟩
          rcases (mgL_mem _ xs (y :: ys) (Nat.le_refl _) z).mp hz with e | e
          · exact hx2.1 z e
          · rcases List.mem_cons.mp e with e | e
            · rw [e]; exact q
            · have := hy2.1 z e; omega
        · have hne : y ≠ x := fun e => hd y List.mem_cons_self (by rw [e]; exact List.mem_cons_self)
          rw [mgL_ge q]
          refine List.pairwise_cons.mpr ⟨fun z hz => ?_, ih (x :: xs) ys (by simp only [List.length_cons]; omega) hx hy2.2 (fun z hz => hd z (List.mem_cons_of_mem _ hz))⟩
          rcases (mgL_mem _ (x :: xs) ys (Nat.le_refl _) z).mp hz with e | e
          · rcases List.mem_cons.mp e with e | e
            · omega
            · have := hx2.1 z e; omega
          · exact hy2.1 z e
/-- a step of it -/
theorem mgL_step1 {R S C : List Int} {i j : Nat} (hC : C.drop (i + j) = mgL (R.drop i) (S.drop j)) (hi : i < R.length) (h : j = S.length ∨ (j < S.length ∧ R.getD i 0 < S.getD j 0)) : C[i + j]? = some (R.getD i 0) ∧ C.drop (i + 1 + j) = mgL (R.drop (i + 1)) (S.drop j) := by
  have e1 : R.getD i 0 = R[i] := by rw [List.getD_eq_getElem?_getD, List.getElem?_eq_getElem hi]; rfl
  have e2 : C.drop (i + j) = R.getD i 0 :: mgL (R.drop (i + 1)) (S.drop j) := by
    rw [hC, List.drop_eq_getElem_cons hi, ← e1]
    rcases h with h | ⟨h, h2⟩
    · rw [List.drop_eq_nil_of_le (by omega : S.length ≤ j), mgL_nil2, mgL_nil2]
    · have e3 : S.getD j 0 = S[j] := by rw [List.getD_eq_getElem?_getD, List.getElem?_eq_getElem h]; rfl
      rw [List.drop_eq_getElem_cons h, ← e3, mgL_lt h2]
  constructor
  · have := congrArg (fun l => l[0]?) e2
    simpa using this
  · have := congrArg (fun l => l.drop 1) e2
    simp only [List.drop_drop] at this
    rw [show i + 1 + j = i + j + 1 by omega, this]
    rfl
theorem mgL_step2 {R S C : List Int} {i j : Nat} (hC : C.drop (i + j) = mgL (R.drop i) (S.drop j)) (hj : j < S.length) (h : i = R.length ∨ (i < R.length ∧ ¬ R.getD i 0 < S.getD j 0)) : C[i + j]? = some (S.getD j 0) ∧ C.drop (i + (j + 1)) = mgL (R.drop i) (S.drop (j + 1)) := by
  have e1 : S.getD j 0 = S[j] := by rw [List.getD_eq_getElem?_getD, List.getElem?_eq_getElem hj]; rfl
  have e2 : C.drop (i + j) = S.getD j 0 :: mgL (R.drop i) (S.drop (j + 1)) := by
    rw [hC, List.drop_eq_getElem_cons hj, ← e1]
    rcases h with h | ⟨h, h2⟩
    · rw [List.drop_eq_nil_of_le (by omega : R.length ≤ i), mgL_nil, mgL_nil]
    · have e3 : R.getD i 0 = R[i] := by rw [List.getD_eq_getElem?_getD, List.getElem?_eq_getElem h]; rfl
      rw [List.drop_eq_getElem_cons h, ← e3, mgL_ge h2]
  constructor
  · have := congrArg (fun l => l[0]?) e2
    simpa using this
  · have := congrArg (fun l => l.drop 1) e2
    simp only [List.drop_drop] at this
    rw [show i + (j + 1) = i + j + 1 by omega, this]
    rfl
abbrev rmX3_fillBoth : Room := { frames := 3, cells := 0, slots := 0, locals := 64 }
set_option maxHeartbeats 4000000 in
theorem c_X3_fillBoth (D : zD) (A : Nat → Prop) {w m : zMp} {b : Nat} {ta L t t2 : Nat} {mcL : Int} {ls : List Nat} {T : Int → zS} {g g2 R S : List Int} {N nn nn2 : Nat} {sv sv2 : Int → Int} {su su2 : Int → zS} {f0 : Nat → Option Nat} {k : Int} {v1 : Value} (hb : m b = some (eO ciX3 [.ref ta, v1])) (ha : m ta = some (eC (aQ D 6 40 f0))) (hL : w L = some (eL mcL ls) ∨ m L = some (eL mcL ls)) (hls : wLines w ls N T) (hN : N ≤ 40) (ht : wTpl w t g nn sv su R) (ht2 : wTpl w t2 g2 nn2 sv2 su2 S) (hr : ∀ r : Int, r ∈ R ∨ r ∈ S → 0 ≤ r ∧ r < N ∧ k < nT (T r)) (hk : 0 ≤ k) (hl : R.length + S.length ≤ 40) : zC D yX3_fillBoth cX3_fillBoth 9 none none rmX3_fillBoth A [.ref b, .ref L, .ref t, .ref t2, zI (k)] (cI D A w m) (zPe (fun (f : Nat → Option Nat) => none) (fun f => ∀ i : Nat, i < R.length + S.length → ∃ x, f i = some x ∧ wTok w x (cR T (mgL R S) k i)) (fun f => cI D A w (upm (upm m b (eO ciX3 [.ref ta, zI ((R.length + S.length : Nat) : Int)])) ta (eC (aQ D 6 40 f))))) (zNo) := by
  refine zC_start (L := [some (.ref b), some (.ref L), some (.ref t), some (.ref t2), some (zI (k)), none, none, none, none]) (by decide) (Nat.le_of_ble_eq_true rfl) rfl (fun X hX => ?_)
  obtain ⟨⟨k1, k2, k3⟩, gl, sl, rl, mc, mc2, mc3, gs, ss, rs, h1, h2, h3, h4, h5, h6, h7⟩ := ht
  obtain ⟨⟨j1, j2, j3⟩, gl9, sl9, rl9, mc9, mc8, mc7, gs9, ss9, rs9, y1, y2, y3, y4, y5, y6, y7⟩ := ht2
  have hba : b ≠ ta := fun e => by rw [e, ha] at hb; cases hb
  have l1 := h7.1
  have l3 := y7.1
  have l2 := hls.1
  have hlen := mgL_len _ R S (Nat.le_refl _)
  obtain ⟨C, hC0⟩ : ∃ C : List Int, C = mgL R S := ⟨_, rfl⟩
  rw [← hC0] at hX hlen
  have hlk : ∀ r : Int, r ∈ R ∨ r ∈ S → ∃ (q a x : Nat), r = (q : Int) ∧ ls[q]? = some a ∧ wLine w a (T r) ∧ ∃ (tl : Nat) (mc6 : Int) (ts : List Nat) (t6 gl6 : Nat), w a = some (eO ciX5 [.ref t6, .ref tl, .ref gl6]) ∧ w tl = some (eL mc6 ts) ∧ ts.length ≤ 40 ∧ ts[k.toNat]? = some x ∧ wTok w x (tok (T r) k) := fun r hm => by
    have hrr := hr r hm
    obtain ⟨a, q3, q4⟩ := hls.2 r.toNat (by omega)
    rw [show ((r.toNat : Nat) : Int) = r by omega] at q4
    have q5 := q4
    obtain ⟨hs, t9, tl, gl8, mc9, mc8, ts, gs8, z1, z2, z3, z4, z5, z6⟩ := q4
    obtain ⟨x, q6, q7⟩ := z4.2 k.toNat (by omega)
    rw [show ((k.toNat : Nat) : Int) = k by omega] at q7
    have n1 := nT_range (T r)
    have n2 := hs.2.1
    exact ⟨r.toNat, a, x, by omega, q3, q5, tl, mc9, ts, t9, gl8, z1, z3, by have := z4.1; omega, q6, q7⟩
  have hLb : ∀ (x y : zE), m L = some (eL mcL ls) → upm (upm m b y) ta x L = some (eL mcL ls) := fun x y q => by
    rw [upm_ne _ _ (fun e => by rw [e, ha] at q; cases q), upm_ne _ _ (fun e => by rw [e, hb] at q; cases q)]
    exact q
  have K : ∀ x : Nat × Nat, ∀ (f : Nat → Option Nat) (p q : Int) (v7 v8 : Option Value), x.1 ≤ R.length → x.2 ≤ S.length → C.drop (x.1 + x.2) = mgL (R.drop x.1) (S.drop x.2) → (∀ u : Nat, u < x.1 + x.2 → ∃ y, f u = some y ∧ wTok w y (cR T C k u)) → p = x.1 → q = x.2 → zG X 0 0 (cI D A w (upm (upm m b (eO ciX3 [.ref ta, zI ((x.1 + x.2 : Nat) : Int)])) ta (eC (aQ D 6 40 f)))) 11 [some (.ref b), some (.ref L), some (.ref t), some (.ref t2), some (zI k), some (zI p), some (zI q), v7, v8] [] := by
    refine z_wf (fun x : Nat × Nat => (R.length - x.1) + (S.length - x.2)) (fun x ih f p q v7 v8 hi hj hCd hf ep eq => ?_)
    obtain ⟨i, j⟩ := x
    simp only at ih hi hj hCd hf ep eq ⊢
    subst ep
    subst eq
    have hMb : upm (upm m b (eO ciX3 [.ref ta, zI ((i + j : Nat) : Int)])) ta (eC (aQ D 6 40 f)) b = some (eO ciX3 [.ref ta, zI ((i + j : Nat) : Int)]) := (upm_ne _ _ hba).trans (upm_same _ _ _)
    have hLM : w L = some (eL mcL ls) ∨ upm (upm m b (eO ciX3 [.ref ta, zI ((i + j : Nat) : Int)])) ta (eC (aQ D 6 40 f)) L = some (eL mcL ls) := hL.imp id (hLb _ _)
    have F1 : i < R.length → (j = S.length ∨ (j < S.length ∧ R.getD i 0 < S.getD j 0)) → zG X 0 0 (cI D A w (upm (upm m b (eO ciX3 [.ref ta, zI ((i + j : Nat) : Int)])) ta (eC (aQ D 6 40 f)))) 97 [some (.ref b), some (.ref L), some (.ref t), some (.ref t2), some (zI k), some (zI (i : Int)), some (zI (j : Int)), v7, v8] [zI 1] := by
      intro hin hcs
      obtain ⟨z1, y, q1, q2⟩ := h7.at hin
      have hst := mgL_step1 hCd hin hcs
      have hmem : R.getD i 0 ∈ R := by rw [List.getD_eq_getElem?_getD, List.getElem?_eq_getElem hin]; exact List.getElem_mem hin
      obtain ⟨q, a, x, e1, e2, e3, tl, mc6, ts, t6, gl6, e4, e5, e6, e7, e8⟩ := hlk _ (Or.inl hmem)
      obtain ⟨fs, e9⟩ := e8.it
      have hqs : q < ls.length := (List.getElem?_eq_some_iff.mp e2).1
      have hcr : cR T C k ((i + j : Nat) : Int) = tok (T (R.getD i 0)) k := by
        unfold cR
        rw [Int.toNat_natCast, List.getD_eq_getElem?_getD, hst.1]
        rfl
      refine z_istore (q := 99) hX dX3_fillBoth_97 (Nat.le_of_ble_eq_true rfl) rfl rfl ?_
      refine z_iload (q := 101) hX dX3_fillBoth_99 rfl rfl ?_
      refine z_if_eq (q := 104) (t := 119) hX dX3_fillBoth_101 (by decide) (by omega) rfl (fun h101 => ?_) (fun h101 => ?_)
      · exact absurd h101 (by decide)
      · refine z_aload_n (i := 2) (q := 105) hX dX3_fillBoth_104 rfl rfl rfl ?_
        refine zr_getN (C := RX7) (T := TX7) (N := 3) (q := 108) hX ciX7 2 rfl (by decide) in_X7 dX3_fillBoth_105 (zNF_at 14 rfl) (fun H h => cI.rd h (by first | assumption | exact Or.inl (by assumption) | exact Or.inr (by first | assumption | exact upm_same _ _ _ | exact (upm_ne _ _ (by first | assumption | exact Ne.symm (by assumption) | omega | exact ne_mp (m := m) (by assumption) (by assumption) | exact Ne.symm (ne_mp (m := m) (by assumption) (by assumption)) | exact ne_mp (m := w) (by assumption) (by assumption) | exact Ne.symm (ne_mp (m := w) (by assumption) (by assumption)))).trans (by first | assumption | exact upm_same _ _ _ | exact (upm_ne _ _ (by first | assumption | exact Ne.symm (by assumption) | omega | exact ne_mp (m := m) (by assumption) (by assumption) | exact Ne.symm (ne_mp (m := m) (by assumption) (by assumption)) | exact ne_mp (m := w) (by assumption) (by assumption) | exact Ne.symm (ne_mp (m := w) (by assumption) (by assumption)))).trans (by first | assumption | exact upm_same _ _ _ | exact (upm_ne _ _ (by first | assumption | exact Ne.symm (by assumption) | omega | exact ne_mp (m := m) (by assumption) (by assumption) | exact Ne.symm (ne_mp (m := m) (by assumption) (by assumption)) | exact ne_mp (m := w) (by assumption) (by assumption) | exact Ne.symm (ne_mp (m := w) (by assumption) (by assumption)))).trans (by first | assumption | exact upm_same _ _ _))))) rfl (by decide) rfl) rfl ?_
        refine z_iload (q := 110) hX dX3_fillBoth_108 rfl rfl ?_
        refine z_V (ci := ciJ2) (T := TJ2) (N := 3) (na := 1) hX dX3_fillBoth_110 (c_J2_get D A (Or.inl h6) (by omega) (by rw [Int.toNat_natCast]; exact q1) (by omega)) rfl q559 q471 q472 q101 q473 (by decide +kernel) ⟨Nat.le_of_ble_eq_true rfl, Nat.le_of_ble_eq_true rfl⟩ rfl rfl (Nat.le_of_ble_eq_true rfl) rfl (by first | exact Nat.le_of_ble_eq_true rfl | (show _ + 0 ≤ 0; omega)) (by first | exact Nat.le_of_ble_eq_true rfl | (show _ + 0 ≤ 0; omega)) (fun H h => ⟨h, h.obL (Or.inl h6)⟩) (fun E a => zT.no) (zPd.out ?_)
        show zG X (_ + 0) (_ + 0) _ 113 _ _
        refine zr_cast (q := 116) (C := RJ18) (T := TJ18) (N := 1) hX ciJ18 rfl dX3_fillBoth_113 q560 (fun H h => cI.obE h (by first | assumption | exact Or.inl (by assumption) | exact Or.inr (by first | assumption | exact upm_same _ _ _ | exact (upm_ne _ _ (by first | assumption | exact Ne.symm (by assumption) | omega | exact ne_mp (m := m) (by assumption) (by assumption) | exact Ne.symm (ne_mp (m := m) (by assumption) (by assumption)) | exact ne_mp (m := w) (by assumption) (by assumption) | exact Ne.symm (ne_mp (m := w) (by assumption) (by assumption)))).trans (by first | assumption | exact upm_same _ _ _ | exact (upm_ne _ _ (by first | assumption | exact Ne.symm (by assumption) | omega | exact ne_mp (m := m) (by assumption) (by assumption) | exact Ne.symm (ne_mp (m := m) (by assumption) (by assumption)) | exact ne_mp (m := w) (by assumption) (by assumption) | exact Ne.symm (ne_mp (m := w) (by assumption) (by assumption)))).trans (by first | assumption | exact upm_same _ _ _ | exact (upm_ne _ _ (by first | assumption | exact Ne.symm (by assumption) | omega | exact ne_mp (m := m) (by assumption) (by assumption) | exact Ne.symm (ne_mp (m := m) (by assumption) (by assumption)) | exact ne_mp (m := w) (by assumption) (by assumption) | exact Ne.symm (ne_mp (m := w) (by assumption) (by assumption)))).trans (by first | assumption | exact upm_same _ _ _))))) rfl) rfl ?_
        refine z_goto (t := 131) hX dX3_fillBoth_116 (by decide) ?_
        refine z_V (ci := ciJ18) (T := TJ18) (N := 1) (na := 0) hX dX3_fillBoth_131 (c_J18_intValue D A (fun H h => h) (Or.inl q2)) rfl q561 q486 q487 q121 q488 (by decide +kernel) ⟨Nat.le_of_ble_eq_true rfl, Nat.le_of_ble_eq_true rfl⟩ rfl rfl (Nat.le_of_ble_eq_true rfl) rfl (by first | exact Nat.le_of_ble_eq_true rfl | (show _ + 0 ≤ 0; omega)) (by first | exact Nat.le_of_ble_eq_true rfl | (show _ + 0 ≤ 0; omega)) (fun H h => ⟨h, h.obE (Or.inl q2) rfl⟩) (fun E a => zT.no) (zPd.out ?_)
        show zG X (_ + 0) (_ + 0) _ 134 _ _
        refine z_istore (q := 136) hX dX3_fillBoth_134 (Nat.le_of_ble_eq_true rfl) rfl rfl ?_
        refine z_aload_n (i := 0) (q := 137) hX dX3_fillBoth_136 rfl rfl rfl ?_
        refine zr_get (C := RX3) (T := TX3) (N := 2) (q := 140) hX ciX3 0 rfl (by decide) in_X3 dX3_fillBoth_137 q194 (Or.inl rfl) (fun H h => cI.rd h (by first | assumption | exact Or.inl (by assumption) | exact Or.inr (by first | assumption | exact upm_same _ _ _ | exact (upm_ne _ _ (by first | assumption | exact Ne.symm (by assumption) | omega | exact ne_mp (m := m) (by assumption) (by assumption) | exact Ne.symm (ne_mp (m := m) (by assumption) (by assumption)) | exact ne_mp (m := w) (by assumption) (by assumption) | exact Ne.symm (ne_mp (m := w) (by assumption) (by assumption)))).trans (by first | assumption | exact upm_same _ _ _ | exact (upm_ne _ _ (by first | assumption | exact Ne.symm (by assumption) | omega | exact ne_mp (m := m) (by assumption) (by assumption) | exact Ne.symm (ne_mp (m := m) (by assumption) (by assumption)) | exact ne_mp (m := w) (by assumption) (by assumption) | exact Ne.symm (ne_mp (m := w) (by assumption) (by assumption)))).trans (by first | assumption | exact upm_same _ _ _ | exact (upm_ne _ _ (by first | assumption | exact Ne.symm (by assumption) | omega | exact ne_mp (m := m) (by assumption) (by assumption) | exact Ne.symm (ne_mp (m := m) (by assumption) (by assumption)) | exact ne_mp (m := w) (by assumption) (by assumption) | exact Ne.symm (ne_mp (m := w) (by assumption) (by assumption)))).trans (by first | assumption | exact upm_same _ _ _))))) rfl (by decide) rfl) rfl ?_
        refine z_aload_n (i := 0) (q := 141) hX dX3_fillBoth_140 rfl rfl rfl ?_
        refine zr_get (C := RX3) (T := TX3) (N := 2) (q := 144) hX ciX3 1 rfl (by decide) in_X3 dX3_fillBoth_141 q196 (Or.inl rfl) (fun H h => cI.rd h (by first | assumption | exact Or.inl (by assumption) | exact Or.inr (by first | assumption | exact upm_same _ _ _ | exact (upm_ne _ _ (by first | assumption | exact Ne.symm (by assumption) | omega | exact ne_mp (m := m) (by assumption) (by assumption) | exact Ne.symm (ne_mp (m := m) (by assumption) (by assumption)) | exact ne_mp (m := w) (by assumption) (by assumption) | exact Ne.symm (ne_mp (m := w) (by assumption) (by assumption)))).trans (by first | assumption | exact upm_same _ _ _ | exact (upm_ne _ _ (by first | assumption | exact Ne.symm (by assumption) | omega | exact ne_mp (m := m) (by assumption) (by assumption) | exact Ne.symm (ne_mp (m := m) (by assumption) (by assumption)) | exact ne_mp (m := w) (by assumption) (by assumption) | exact Ne.symm (ne_mp (m := w) (by assumption) (by assumption)))).trans (by first | assumption | exact upm_same _ _ _ | exact (upm_ne _ _ (by first | assumption | exact Ne.symm (by assumption) | omega | exact ne_mp (m := m) (by assumption) (by assumption) | exact Ne.symm (ne_mp (m := m) (by assumption) (by assumption)) | exact ne_mp (m := w) (by assumption) (by assumption) | exact Ne.symm (ne_mp (m := w) (by assumption) (by assumption)))).trans (by first | assumption | exact upm_same _ _ _))))) rfl (by decide) rfl) rfl ?_
        refine z_aload_n (i := 1) (q := 145) hX dX3_fillBoth_144 rfl rfl rfl ?_
        refine z_iload (q := 147) hX dX3_fillBoth_145 rfl rfl ?_
        refine z_V (ci := ciJ2) (T := TJ2) (N := 3) (na := 1) hX dX3_fillBoth_147 (c_J2_get D A hLM (by omega) (by rw [e1, Int.toNat_natCast]; exact e2) (by omega)) rfl q559 q471 q472 q101 q473 (by decide +kernel) ⟨Nat.le_of_ble_eq_true rfl, Nat.le_of_ble_eq_true rfl⟩ rfl rfl (Nat.le_of_ble_eq_true rfl) rfl (by first | exact Nat.le_of_ble_eq_true rfl | (show _ + 0 ≤ 0; omega)) (by first | exact Nat.le_of_ble_eq_true rfl | (show _ + 0 ≤ 0; omega)) (fun H h => ⟨h, h.obL hLM⟩) (fun E a => zT.no) (zPd.out ?_)
        show zG X (_ + 0) (_ + 0) _ 150 _ _
        refine zr_cast (q := 153) (C := RX5) (T := TX5) (N := 3) hX ciX5 rfl dX3_fillBoth_150 q562 (fun H h => cI.obE h (by first | assumption | exact Or.inl (by assumption) | exact Or.inr (by first | assumption | exact upm_same _ _ _ | exact (upm_ne _ _ (by first | assumption | exact Ne.symm (by assumption) | omega | exact ne_mp (m := m) (by assumption) (by assumption) | exact Ne.symm (ne_mp (m := m) (by assumption) (by assumption)) | exact ne_mp (m := w) (by assumption) (by assumption) | exact Ne.symm (ne_mp (m := w) (by assumption) (by assumption)))).trans (by first | assumption | exact upm_same _ _ _ | exact (upm_ne _ _ (by first | assumption | exact Ne.symm (by assumption) | omega | exact ne_mp (m := m) (by assumption) (by assumption) | exact Ne.symm (ne_mp (m := m) (by assumption) (by assumption)) | exact ne_mp (m := w) (by assumption) (by assumption) | exact Ne.symm (ne_mp (m := w) (by assumption) (by assumption)))).trans (by first | assumption | exact upm_same _ _ _ | exact (upm_ne _ _ (by first | assumption | exact Ne.symm (by assumption) | omega | exact ne_mp (m := m) (by assumption) (by assumption) | exact Ne.symm (ne_mp (m := m) (by assumption) (by assumption)) | exact ne_mp (m := w) (by assumption) (by assumption) | exact Ne.symm (ne_mp (m := w) (by assumption) (by assumption)))).trans (by first | assumption | exact upm_same _ _ _))))) rfl) rfl ?_
        refine zr_getN (C := RX5) (T := TX5) (N := 3) (q := 156) hX ciX5 1 rfl (by decide) in_X5 dX3_fillBoth_153 (zNF_at 15 rfl) (fun H h => cI.rd h (by first | assumption | exact Or.inl (by assumption) | exact Or.inr (by first | assumption | exact upm_same _ _ _ | exact (upm_ne _ _ (by first | assumption | exact Ne.symm (by assumption) | omega | exact ne_mp (m := m) (by assumption) (by assumption) | exact Ne.symm (ne_mp (m := m) (by assumption) (by assumption)) | exact ne_mp (m := w) (by assumption) (by assumption) | exact Ne.symm (ne_mp (m := w) (by assumption) (by assumption)))).trans (by first | assumption | exact upm_same _ _ _ | exact (upm_ne _ _ (by first | assumption | exact Ne.symm (by assumption) | omega | exact ne_mp (m := m) (by assumption) (by assumption) | exact Ne.symm (ne_mp (m := m) (by assumption) (by assumption)) | exact ne_mp (m := w) (by assumption) (by assumption) | exact Ne.symm (ne_mp (m := w) (by assumption) (by assumption)))).trans (by first | assumption | exact upm_same _ _ _ | exact (upm_ne _ _ (by first | assumption | exact Ne.symm (by assumption) | omega | exact ne_mp (m := m) (by assumption) (by assumption) | exact Ne.symm (ne_mp (m := m) (by assumption) (by assumption)) | exact ne_mp (m := w) (by assumption) (by assumption) | exact Ne.symm (ne_mp (m := w) (by assumption) (by assumption)))).trans (by first | assumption | exact upm_same _ _ _))))) rfl (by decide) rfl) rfl ?_
        refine z_iload (q := 158) hX dX3_fillBoth_156 rfl rfl ?_
        refine z_V (ci := ciJ2) (T := TJ2) (N := 3) (na := 1) hX dX3_fillBoth_158 (c_J2_get D A (Or.inl e5) hk e7 (by omega)) rfl q559 q471 q472 q101 q473 (by decide +kernel) ⟨Nat.le_of_ble_eq_true rfl, Nat.le_of_ble_eq_true rfl⟩ rfl rfl (Nat.le_of_ble_eq_true rfl) rfl (by first | exact Nat.le_of_ble_eq_true rfl | (show _ + 0 ≤ 0; omega)) (by first | exact Nat.le_of_ble_eq_true rfl | (show _ + 0 ≤ 0; omega)) (fun H h => ⟨h, h.obL (Or.inl e5)⟩) (fun E a => zT.no) (zPd.out ?_)
        show zG X (_ + 0) (_ + 0) _ 161 _ _
        refine zr_cast (q := 164) (C := RX6) (T := TX6) (N := 2) hX ciX6 rfl dX3_fillBoth_161 q192 (fun H h => cI.obE h (by first | assumption | exact Or.inl (by assumption) | exact Or.inr (by first | assumption | exact upm_same _ _ _ | exact (upm_ne _ _ (by first | assumption | exact Ne.symm (by assumption) | omega | exact ne_mp (m := m) (by assumption) (by assumption) | exact Ne.symm (ne_mp (m := m) (by assumption) (by assumption)) | exact ne_mp (m := w) (by assumption) (by assumption) | exact Ne.symm (ne_mp (m := w) (by assumption) (by assumption)))).trans (by first | assumption | exact upm_same _ _ _ | exact (upm_ne _ _ (by first | assumption | exact Ne.symm (by assumption) | omega | exact ne_mp (m := m) (by assumption) (by assumption) | exact Ne.symm (ne_mp (m := m) (by assumption) (by assumption)) | exact ne_mp (m := w) (by assumption) (by assumption) | exact Ne.symm (ne_mp (m := w) (by assumption) (by assumption)))).trans (by first | assumption | exact upm_same _ _ _ | exact (upm_ne _ _ (by first | assumption | exact Ne.symm (by assumption) | omega | exact ne_mp (m := m) (by assumption) (by assumption) | exact Ne.symm (ne_mp (m := m) (by assumption) (by assumption)) | exact ne_mp (m := w) (by assumption) (by assumption) | exact Ne.symm (ne_mp (m := w) (by assumption) (by assumption)))).trans (by first | assumption | exact upm_same _ _ _))))) rfl) rfl ?_
        refine zc_aast (q := 165) hX 6 ciX6 rfl dX3_fillBoth_164 (upm_same _ _ _) (fun H h => h.obE (Or.inl e9) rfl) (by decide +kernel) ⟨by omega, by omega⟩ (by first | decide | omega) rfl ?_
        refine z_aload_n (i := 0) (q := 166) hX dX3_fillBoth_165 rfl rfl rfl ?_
        refine z_dup (q := 167) hX dX3_fillBoth_166 rfl rfl ?_
        refine zr_get (C := RX3) (T := TX3) (N := 2) (q := 170) hX ciX3 1 rfl (by decide) in_X3 dX3_fillBoth_167 q196 (Or.inl rfl) (fun H h => cI.rd h (by first | assumption | exact Or.inl (by assumption) | exact Or.inr (by first | assumption | exact upm_same _ _ _ | exact (upm_ne _ _ (by first | assumption | exact Ne.symm (by assumption) | omega | exact ne_mp (m := m) (by assumption) (by assumption) | exact Ne.symm (ne_mp (m := m) (by assumption) (by assumption)) | exact ne_mp (m := w) (by assumption) (by assumption) | exact Ne.symm (ne_mp (m := w) (by assumption) (by assumption)))).trans (by first | assumption | exact upm_same _ _ _ | exact (upm_ne _ _ (by first | assumption | exact Ne.symm (by assumption) | omega | exact ne_mp (m := m) (by assumption) (by assumption) | exact Ne.symm (ne_mp (m := m) (by assumption) (by assumption)) | exact ne_mp (m := w) (by assumption) (by assumption) | exact Ne.symm (ne_mp (m := w) (by assumption) (by assumption)))).trans (by first | assumption | exact upm_same _ _ _ | exact (upm_ne _ _ (by first | assumption | exact Ne.symm (by assumption) | omega | exact ne_mp (m := m) (by assumption) (by assumption) | exact Ne.symm (ne_mp (m := m) (by assumption) (by assumption)) | exact ne_mp (m := w) (by assumption) (by assumption) | exact Ne.symm (ne_mp (m := w) (by assumption) (by assumption)))).trans (by first | assumption | exact upm_same _ _ _))))) rfl (by decide) rfl) rfl ?_
        refine z_iconst (q := 171) hX dX3_fillBoth_170 rfl ?_
        refine z_iadd (q := 172) hX dX3_fillBoth_171 rfl ?_
        refine zc_put (C := RX3) (T := TX3) (N := 2) (q := 175) hX ciX3 1 rfl (by decide) in_X3 tyX3_ok nmX3 dX3_fillBoth_172 q196 (Or.inl rfl) rfl (by first | assumption | exact upm_same _ _ _ | exact (upm_ne _ _ (by first | assumption | exact Ne.symm (by assumption) | omega | exact ne_mp (m := m) (by assumption) (by assumption) | exact Ne.symm (ne_mp (m := m) (by assumption) (by assumption)) | exact ne_mp (m := w) (by assumption) (by assumption) | exact Ne.symm (ne_mp (m := w) (by assumption) (by assumption)))).trans (by first | assumption | exact upm_same _ _ _ | exact (upm_ne _ _ (by first | assumption | exact Ne.symm (by assumption) | omega | exact ne_mp (m := m) (by assumption) (by assumption) | exact Ne.symm (ne_mp (m := m) (by assumption) (by assumption)) | exact ne_mp (m := w) (by assumption) (by assumption) | exact Ne.symm (ne_mp (m := w) (by assumption) (by assumption)))).trans (by first | assumption | exact upm_same _ _ _ | exact (upm_ne _ _ (by first | assumption | exact Ne.symm (by assumption) | omega | exact ne_mp (m := m) (by assumption) (by assumption) | exact Ne.symm (ne_mp (m := m) (by assumption) (by assumption)) | exact ne_mp (m := w) (by assumption) (by assumption) | exact Ne.symm (ne_mp (m := w) (by assumption) (by assumption)))).trans (by first | assumption | exact upm_same _ _ _)))) (Nat.le_of_ble_eq_true rfl) rfl rfl rfl rfl ?_
        refine z_iload (q := 177) hX dX3_fillBoth_175 rfl rfl ?_
        refine z_iload (q := 179) hX dX3_fillBoth_177 rfl rfl ?_
        refine z_if_eq (q := 182) (t := 186) hX dX3_fillBoth_179 (by decide) (by omega) rfl (fun h179 => ?_) (fun h179 => ?_)
        · exact absurd h179 (by decide)
        · refine z_iconst (q := 183) hX dX3_fillBoth_182 rfl ?_
          refine z_goto (t := 187) hX dX3_fillBoth_183 (by decide) ?_
          refine z_iadd (q := 188) hX dX3_fillBoth_187 rfl ?_
          refine z_istore (q := 190) hX dX3_fillBoth_188 (Nat.le_of_ble_eq_true rfl) rfl rfl ?_
          refine z_iload (q := 192) hX dX3_fillBoth_190 rfl rfl ?_
          refine z_iload (q := 194) hX dX3_fillBoth_192 rfl rfl ?_
          refine z_if_eq (q := 197) (t := 201) hX dX3_fillBoth_194 (by decide) (by omega) rfl (fun h194 => ?_) (fun h194 => ?_)
          · exact absurd h194 (by decide)
          · refine z_iconst (q := 198) hX dX3_fillBoth_197 rfl ?_
            refine z_goto (t := 202) hX dX3_fillBoth_198 (by decide) ?_
            refine z_iadd (q := 203) hX dX3_fillBoth_202 rfl ?_
            refine z_istore (q := 205) hX dX3_fillBoth_203 (Nat.le_of_ble_eq_true rfl) rfl rfl ?_
            refine z_goto (t := 11) hX dX3_fillBoth_205 (by decide) ?_
            refine zG.mono (ih (i + 1, j) (by show (R.length - (i + 1)) + (S.length - j) < _; omega) (va_up f (i + j) (some x)) _ _ _ _ hin hj hst.2 (fun u hu => ?_) (by show (i : Int) + 1 = ((i + 1 : Nat) : Int); omega) (by show (j : Int) + 0 = (j : Int); omega)) (fun H h => h.eqv (fun c => by
              have e0 : ((i + j : Nat) : Int).toNat = i + j := rfl
              have e00 : ((i + 1 + j : Nat) : Int) = ((i + j : Nat) : Int) + 1 := by omega
              show upm (upm m b (eO ciX3 [.ref ta, zI ((i + 1 + j : Nat) : Int)])) ta _ c = _
              rw [e00]
              by_cases c1 : c = ta
              · rw [c1, upm_same, upm_ne _ _ hba.symm, upm_same, e0]
              · by_cases c2 : c = b
                · rw [c2, upm_ne _ _ hba, upm_same, upm_same]
                  rfl
                · rw [upm_ne _ _ c1, upm_ne _ _ c2, upm_ne _ _ c2, upm_ne _ _ c1, upm_ne _ _ c1, upm_ne _ _ c2]))
            have hu : u < i + 1 + j := hu
            by_cases e : u = i + j
            · subst e
              exact ⟨x, by simp [va_up], by rw [hcr]; exact e8⟩
            · obtain ⟨x2, g1, g2⟩ := hf u (by omega)
              exact ⟨x2, by simp [va_up, e, g1], g2⟩
    have F0 : j < S.length → (i = R.length ∨ (i < R.length ∧ ¬ R.getD i 0 < S.getD j 0)) → zG X 0 0 (cI D A w (upm (upm m b (eO ciX3 [.ref ta, zI ((i + j : Nat) : Int)])) ta (eC (aQ D 6 40 f)))) 97 [some (.ref b), some (.ref L), some (.ref t), some (.ref t2), some (zI k), some (zI (i : Int)), some (zI (j : Int)), v7, v8] [zI 0] := by
      intro hin hcs
      obtain ⟨z1, y, q1, q2⟩ := y7.at hin
      have hst := mgL_step2 hCd hin hcs
      have hmem : S.getD j 0 ∈ S := by rw [List.getD_eq_getElem?_getD, List.getElem?_eq_getElem hin]; exact List.getElem_mem hin
      obtain ⟨q, a, x, e1, e2, e3, tl, mc6, ts, t6, gl6, e4, e5, e6, e7, e8⟩ := hlk _ (Or.inr hmem)
      obtain ⟨fs, e9⟩ := e8.it
      have hqs : q < ls.length := (List.getElem?_eq_some_iff.mp e2).1
      have hcr : cR T C k ((i + j : Nat) : Int) = tok (T (S.getD j 0)) k := by
        unfold cR
        rw [Int.toNat_natCast, List.getD_eq_getElem?_getD, hst.1]
        rfl
      refine z_istore (q := 99) hX dX3_fillBoth_97 (Nat.le_of_ble_eq_true rfl) rfl rfl ?_
      refine z_iload (q := 101) hX dX3_fillBoth_99 rfl rfl ?_
      refine z_if_eq (q := 104) (t := 119) hX dX3_fillBoth_101 (by decide) (by omega) rfl (fun h101 => ?_) (fun h101 => ?_)
      · refine z_aload_n (i := 3) (q := 120) hX dX3_fillBoth_119 rfl rfl rfl ?_
        refine zr_getN (C := RX7) (T := TX7) (N := 3) (q := 123) hX ciX7 2 rfl (by decide) in_X7 dX3_fillBoth_120 (zNF_at 14 rfl) (fun H h => cI.rd h (by first | assumption | exact Or.inl (by assumption) | exact Or.inr (by first | assumption | exact upm_same _ _ _ | exact (upm_ne _ _ (by first | assumption | exact Ne.symm (by assumption) | omega | exact ne_mp (m := m) (by assumption) (by assumption) | exact Ne.symm (ne_mp (m := m) (by assumption) (by assumption)) | exact ne_mp (m := w) (by assumption) (by assumption) | exact Ne.symm (ne_mp (m := w) (by assumption) (by assumption)))).trans (by first | assumption | exact upm_same _ _ _ | exact (upm_ne _ _ (by first | assumption | exact Ne.symm (by assumption) | omega | exact ne_mp (m := m) (by assumption) (by assumption) | exact Ne.symm (ne_mp (m := m) (by assumption) (by assumption)) | exact ne_mp (m := w) (by assumption) (by assumption) | exact Ne.symm (ne_mp (m := w) (by assumption) (by assumption)))).trans (by first | assumption | exact upm_same _ _ _ | exact (upm_ne _ _ (by first | assumption | exact Ne.symm (by assumption) | omega | exact ne_mp (m := m) (by assumption) (by assumption) | exact Ne.symm (ne_mp (m := m) (by assumption) (by assumption)) | exact ne_mp (m := w) (by assumption) (by assumption) | exact Ne.symm (ne_mp (m := w) (by assumption) (by assumption)))).trans (by first | assumption | exact upm_same _ _ _))))) rfl (by decide) rfl) rfl ?_
        refine z_iload (q := 125) hX dX3_fillBoth_123 rfl rfl ?_
        refine z_V (ci := ciJ2) (T := TJ2) (N := 3) (na := 1) hX dX3_fillBoth_125 (c_J2_get D A (Or.inl y6) (by omega) (by rw [Int.toNat_natCast]; exact q1) (by omega)) rfl q559 q471 q472 q101 q473 (by decide +kernel) ⟨Nat.le_of_ble_eq_true rfl, Nat.le_of_ble_eq_true rfl⟩ rfl rfl (Nat.le_of_ble_eq_true rfl) rfl (by first | exact Nat.le_of_ble_eq_true rfl | (show _ + 0 ≤ 0; omega)) (by first | exact Nat.le_of_ble_eq_true rfl | (show _ + 0 ≤ 0; omega)) (fun H h => ⟨h, h.obL (Or.inl y6)⟩) (fun E a => zT.no) (zPd.out ?_)
        show zG X (_ + 0) (_ + 0) _ 128 _ _
        refine zr_cast (q := 131) (C := RJ18) (T := TJ18) (N := 1) hX ciJ18 rfl dX3_fillBoth_128 q560 (fun H h => cI.obE h (by first | assumption | exact Or.inl (by assumption) | exact Or.inr (by first | assumption | exact upm_same _ _ _ | exact (upm_ne _ _ (by first | assumption | exact Ne.symm (by assumption) | omega | exact ne_mp (m := m) (by assumption) (by assumption) | exact Ne.symm (ne_mp (m := m) (by assumption) (by assumption)) | exact ne_mp (m := w) (by assumption) (by assumption) | exact Ne.symm (ne_mp (m := w) (by assumption) (by assumption)))).trans (by first | assumption | exact upm_same _ _ _ | exact (upm_ne _ _ (by first | assumption | exact Ne.symm (by assumption) | omega | exact ne_mp (m := m) (by assumption) (by assumption) | exact Ne.symm (ne_mp (m := m) (by assumption) (by assumption)) | exact ne_mp (m := w) (by assumption) (by assumption) | exact Ne.symm (ne_mp (m := w) (by assumption) (by assumption)))).trans (by first | assumption | exact upm_same _ _ _ | exact (upm_ne _ _ (by first | assumption | exact Ne.symm (by assumption) | omega | exact ne_mp (m := m) (by assumption) (by assumption) | exact Ne.symm (ne_mp (m := m) (by assumption) (by assumption)) | exact ne_mp (m := w) (by assumption) (by assumption) | exact Ne.symm (ne_mp (m := w) (by assumption) (by assumption)))).trans (by first | assumption | exact upm_same _ _ _))))) rfl) rfl ?_
        refine z_V (ci := ciJ18) (T := TJ18) (N := 1) (na := 0) hX dX3_fillBoth_131 (c_J18_intValue D A (fun H h => h) (Or.inl q2)) rfl q561 q486 q487 q121 q488 (by decide +kernel) ⟨Nat.le_of_ble_eq_true rfl, Nat.le_of_ble_eq_true rfl⟩ rfl rfl (Nat.le_of_ble_eq_true rfl) rfl (by first | exact Nat.le_of_ble_eq_true rfl | (show _ + 0 ≤ 0; omega)) (by first | exact Nat.le_of_ble_eq_true rfl | (show _ + 0 ≤ 0; omega)) (fun H h => ⟨h, h.obE (Or.inl q2) rfl⟩) (fun E a => zT.no) (zPd.out ?_)
        show zG X (_ + 0) (_ + 0) _ 134 _ _
        refine z_istore (q := 136) hX dX3_fillBoth_134 (Nat.le_of_ble_eq_true rfl) rfl rfl ?_
        refine z_aload_n (i := 0) (q := 137) hX dX3_fillBoth_136 rfl rfl rfl ?_
        refine zr_get (C := RX3) (T := TX3) (N := 2) (q := 140) hX ciX3 0 rfl (by decide) in_X3 dX3_fillBoth_137 q194 (Or.inl rfl) (fun H h => cI.rd h (by first | assumption | exact Or.inl (by assumption) | exact Or.inr (by first | assumption | exact upm_same _ _ _ | exact (upm_ne _ _ (by first | assumption | exact Ne.symm (by assumption) | omega | exact ne_mp (m := m) (by assumption) (by assumption) | exact Ne.symm (ne_mp (m := m) (by assumption) (by assumption)) | exact ne_mp (m := w) (by assumption) (by assumption) | exact Ne.symm (ne_mp (m := w) (by assumption) (by assumption)))).trans (by first | assumption | exact upm_same _ _ _ | exact (upm_ne _ _ (by first | assumption | exact Ne.symm (by assumption) | omega | exact ne_mp (m := m) (by assumption) (by assumption) | exact Ne.symm (ne_mp (m := m) (by assumption) (by assumption)) | exact ne_mp (m := w) (by assumption) (by assumption) | exact Ne.symm (ne_mp (m := w) (by assumption) (by assumption)))).trans (by first | assumption | exact upm_same _ _ _ | exact (upm_ne _ _ (by first | assumption | exact Ne.symm (by assumption) | omega | exact ne_mp (m := m) (by assumption) (by assumption) | exact Ne.symm (ne_mp (m := m) (by assumption) (by assumption)) | exact ne_mp (m := w) (by assumption) (by assumption) | exact Ne.symm (ne_mp (m := w) (by assumption) (by assumption)))).trans (by first | assumption | exact upm_same _ _ _))))) rfl (by decide) rfl) rfl ?_
        refine z_aload_n (i := 0) (q := 141) hX dX3_fillBoth_140 rfl rfl rfl ?_
        refine zr_get (C := RX3) (T := TX3) (N := 2) (q := 144) hX ciX3 1 rfl (by decide) in_X3 dX3_fillBoth_141 q196 (Or.inl rfl) (fun H h => cI.rd h (by first | assumption | exact Or.inl (by assumption) | exact Or.inr (by first | assumption | exact upm_same _ _ _ | exact (upm_ne _ _ (by first | assumption | exact Ne.symm (by assumption) | omega | exact ne_mp (m := m) (by assumption) (by assumption) | exact Ne.symm (ne_mp (m := m) (by assumption) (by assumption)) | exact ne_mp (m := w) (by assumption) (by assumption) | exact Ne.symm (ne_mp (m := w) (by assumption) (by assumption)))).trans (by first | assumption | exact upm_same _ _ _ | exact (upm_ne _ _ (by first | assumption | exact Ne.symm (by assumption) | omega | exact ne_mp (m := m) (by assumption) (by assumption) | exact Ne.symm (ne_mp (m := m) (by assumption) (by assumption)) | exact ne_mp (m := w) (by assumption) (by assumption) | exact Ne.symm (ne_mp (m := w) (by assumption) (by assumption)))).trans (by first | assumption | exact upm_same _ _ _ | exact (upm_ne _ _ (by first | assumption | exact Ne.symm (by assumption) | omega | exact ne_mp (m := m) (by assumption) (by assumption) | exact Ne.symm (ne_mp (m := m) (by assumption) (by assumption)) | exact ne_mp (m := w) (by assumption) (by assumption) | exact Ne.symm (ne_mp (m := w) (by assumption) (by assumption)))).trans (by first | assumption | exact upm_same _ _ _))))) rfl (by decide) rfl) rfl ?_
        refine z_aload_n (i := 1) (q := 145) hX dX3_fillBoth_144 rfl rfl rfl ?_
        refine z_iload (q := 147) hX dX3_fillBoth_145 rfl rfl ?_
        refine z_V (ci := ciJ2) (T := TJ2) (N := 3) (na := 1) hX dX3_fillBoth_147 (c_J2_get D A hLM (by omega) (by rw [e1, Int.toNat_natCast]; exact e2) (by omega)) rfl q559 q471 q472 q101 q473 (by decide +kernel) ⟨Nat.le_of_ble_eq_true rfl, Nat.le_of_ble_eq_true rfl⟩ rfl rfl (Nat.le_of_ble_eq_true rfl) rfl (by first | exact Nat.le_of_ble_eq_true rfl | (show _ + 0 ≤ 0; omega)) (by first | exact Nat.le_of_ble_eq_true rfl | (show _ + 0 ≤ 0; omega)) (fun H h => ⟨h, h.obL hLM⟩) (fun E a => zT.no) (zPd.out ?_)
        show zG X (_ + 0) (_ + 0) _ 150 _ _
        refine zr_cast (q := 153) (C := RX5) (T := TX5) (N := 3) hX ciX5 rfl dX3_fillBoth_150 q562 (fun H h => cI.obE h (by first | assumption | exact Or.inl (by assumption) | exact Or.inr (by first | assumption | exact upm_same _ _ _ | exact (upm_ne _ _ (by first | assumption | exact Ne.symm (by assumption) | omega | exact ne_mp (m := m) (by assumption) (by assumption) | exact Ne.symm (ne_mp (m := m) (by assumption) (by assumption)) | exact ne_mp (m := w) (by assumption) (by assumption) | exact Ne.symm (ne_mp (m := w) (by assumption) (by assumption)))).trans (by first | assumption | exact upm_same _ _ _ | exact (upm_ne _ _ (by first | assumption | exact Ne.symm (by assumption) | omega | exact ne_mp (m := m) (by assumption) (by assumption) | exact Ne.symm (ne_mp (m := m) (by assumption) (by assumption)) | exact ne_mp (m := w) (by assumption) (by assumption) | exact Ne.symm (ne_mp (m := w) (by assumption) (by assumption)))).trans (by first | assumption | exact upm_same _ _ _ | exact (upm_ne _ _ (by first | assumption | exact Ne.symm (by assumption) | omega | exact ne_mp (m := m) (by assumption) (by assumption) | exact Ne.symm (ne_mp (m := m) (by assumption) (by assumption)) | exact ne_mp (m := w) (by assumption) (by assumption) | exact Ne.symm (ne_mp (m := w) (by assumption) (by assumption)))).trans (by first | assumption | exact upm_same _ _ _))))) rfl) rfl ?_
        refine zr_getN (C := RX5) (T := TX5) (N := 3) (q := 156) hX ciX5 1 rfl (by decide) in_X5 dX3_fillBoth_153 (zNF_at 15 rfl) (fun H h => cI.rd h (by first | assumption | exact Or.inl (by assumption) | exact Or.inr (by first | assumption | exact upm_same _ _ _ | exact (upm_ne _ _ (by first | assumption | exact Ne.symm (by assumption) | omega | exact ne_mp (m := m) (by assumption) (by assumption) | exact Ne.symm (ne_mp (m := m) (by assumption) (by assumption)) | exact ne_mp (m := w) (by assumption) (by assumption) | exact Ne.symm (ne_mp (m := w) (by assumption) (by assumption)))).trans (by first | assumption | exact upm_same _ _ _ | exact (upm_ne _ _ (by first | assumption | exact Ne.symm (by assumption) | omega | exact ne_mp (m := m) (by assumption) (by assumption) | exact Ne.symm (ne_mp (m := m) (by assumption) (by assumption)) | exact ne_mp (m := w) (by assumption) (by assumption) | exact Ne.symm (ne_mp (m := w) (by assumption) (by assumption)))).trans (by first | assumption | exact upm_same _ _ _ | exact (upm_ne _ _ (by first | assumption | exact Ne.symm (by assumption) | omega | exact ne_mp (m := m) (by assumption) (by assumption) | exact Ne.symm (ne_mp (m := m) (by assumption) (by assumption)) | exact ne_mp (m := w) (by assumption) (by assumption) | exact Ne.symm (ne_mp (m := w) (by assumption) (by assumption)))).trans (by first | assumption | exact upm_same _ _ _))))) rfl (by decide) rfl) rfl ?_
        refine z_iload (q := 158) hX dX3_fillBoth_156 rfl rfl ?_
        refine z_V (ci := ciJ2) (T := TJ2) (N := 3) (na := 1) hX dX3_fillBoth_158 (c_J2_get D A (Or.inl e5) hk e7 (by omega)) rfl q559 q471 q472 q101 q473 (by decide +kernel) ⟨Nat.le_of_ble_eq_true rfl, Nat.le_of_ble_eq_true rfl⟩ rfl rfl (Nat.le_of_ble_eq_true rfl) rfl (by first | exact Nat.le_of_ble_eq_true rfl | (show _ + 0 ≤ 0; omega)) (by first | exact Nat.le_of_ble_eq_true rfl | (show _ + 0 ≤ 0; omega)) (fun H h => ⟨h, h.obL (Or.inl e5)⟩) (fun E a => zT.no) (zPd.out ?_)
        show zG X (_ + 0) (_ + 0) _ 161 _ _
        refine zr_cast (q := 164) (C := RX6) (T := TX6) (N := 2) hX ciX6 rfl dX3_fillBoth_161 q192 (fun H h => cI.obE h (by first | assumption | exact Or.inl (by assumption) | exact Or.inr (by first | assumption | exact upm_same _ _ _ | exact (upm_ne _ _ (by first | assumption | exact Ne.symm (by assumption) | omega | exact ne_mp (m := m) (by assumption) (by assumption) | exact Ne.symm (ne_mp (m := m) (by assumption) (by assumption)) | exact ne_mp (m := w) (by assumption) (by assumption) | exact Ne.symm (ne_mp (m := w) (by assumption) (by assumption)))).trans (by first | assumption | exact upm_same _ _ _ | exact (upm_ne _ _ (by first | assumption | exact Ne.symm (by assumption) | omega | exact ne_mp (m := m) (by assumption) (by assumption) | exact Ne.symm (ne_mp (m := m) (by assumption) (by assumption)) | exact ne_mp (m := w) (by assumption) (by assumption) | exact Ne.symm (ne_mp (m := w) (by assumption) (by assumption)))).trans (by first | assumption | exact upm_same _ _ _ | exact (upm_ne _ _ (by first | assumption | exact Ne.symm (by assumption) | omega | exact ne_mp (m := m) (by assumption) (by assumption) | exact Ne.symm (ne_mp (m := m) (by assumption) (by assumption)) | exact ne_mp (m := w) (by assumption) (by assumption) | exact Ne.symm (ne_mp (m := w) (by assumption) (by assumption)))).trans (by first | assumption | exact upm_same _ _ _))))) rfl) rfl ?_
        refine zc_aast (q := 165) hX 6 ciX6 rfl dX3_fillBoth_164 (upm_same _ _ _) (fun H h => h.obE (Or.inl e9) rfl) (by decide +kernel) ⟨by omega, by omega⟩ (by first | decide | omega) rfl ?_
        refine z_aload_n (i := 0) (q := 166) hX dX3_fillBoth_165 rfl rfl rfl ?_
        refine z_dup (q := 167) hX dX3_fillBoth_166 rfl rfl ?_
        refine zr_get (C := RX3) (T := TX3) (N := 2) (q := 170) hX ciX3 1 rfl (by decide) in_X3 dX3_fillBoth_167 q196 (Or.inl rfl) (fun H h => cI.rd h (by first | assumption | exact Or.inl (by assumption) | exact Or.inr (by first | assumption | exact upm_same _ _ _ | exact (upm_ne _ _ (by first | assumption | exact Ne.symm (by assumption) | omega | exact ne_mp (m := m) (by assumption) (by assumption) | exact Ne.symm (ne_mp (m := m) (by assumption) (by assumption)) | exact ne_mp (m := w) (by assumption) (by assumption) | exact Ne.symm (ne_mp (m := w) (by assumption) (by assumption)))).trans (by first | assumption | exact upm_same _ _ _ | exact (upm_ne _ _ (by first | assumption | exact Ne.symm (by assumption) | omega | exact ne_mp (m := m) (by assumption) (by assumption) | exact Ne.symm (ne_mp (m := m) (by assumption) (by assumption)) | exact ne_mp (m := w) (by assumption) (by assumption) | exact Ne.symm (ne_mp (m := w) (by assumption) (by assumption)))).trans (by first | assumption | exact upm_same _ _ _ | exact (upm_ne _ _ (by first | assumption | exact Ne.symm (by assumption) | omega | exact ne_mp (m := m) (by assumption) (by assumption) | exact Ne.symm (ne_mp (m := m) (by assumption) (by assumption)) | exact ne_mp (m := w) (by assumption) (by assumption) | exact Ne.symm (ne_mp (m := w) (by assumption) (by assumption)))).trans (by first | assumption | exact upm_same _ _ _))))) rfl (by decide) rfl) rfl ?_
        refine z_iconst (q := 171) hX dX3_fillBoth_170 rfl ?_
        refine z_iadd (q := 172) hX dX3_fillBoth_171 rfl ?_
        refine zc_put (C := RX3) (T := TX3) (N := 2) (q := 175) hX ciX3 1 rfl (by decide) in_X3 tyX3_ok nmX3 dX3_fillBoth_172 q196 (Or.inl rfl) rfl (by first | assumption | exact upm_same _ _ _ | exact (upm_ne _ _ (by first | assumption | exact Ne.symm (by assumption) | omega | exact ne_mp (m := m) (by assumption) (by assumption) | exact Ne.symm (ne_mp (m := m) (by assumption) (by assumption)) | exact ne_mp (m := w) (by assumption) (by assumption) | exact Ne.symm (ne_mp (m := w) (by assumption) (by assumption)))).trans (by first | assumption | exact upm_same _ _ _ | exact (upm_ne _ _ (by first | assumption | exact Ne.symm (by assumption) | omega | exact ne_mp (m := m) (by assumption) (by assumption) | exact Ne.symm (ne_mp (m := m) (by assumption) (by assumption)) | exact ne_mp (m := w) (by assumption) (by assumption) | exact Ne.symm (ne_mp (m := w) (by assumption) (by assumption)))).trans (by first | assumption | exact upm_same _ _ _ | exact (upm_ne _ _ (by first | assumption | exact Ne.symm (by assumption) | omega | exact ne_mp (m := m) (by assumption) (by assumption) | exact Ne.symm (ne_mp (m := m) (by assumption) (by assumption)) | exact ne_mp (m := w) (by assumption) (by assumption) | exact Ne.symm (ne_mp (m := w) (by assumption) (by assumption)))).trans (by first | assumption | exact upm_same _ _ _)))) (Nat.le_of_ble_eq_true rfl) rfl rfl rfl rfl ?_
        refine z_iload (q := 177) hX dX3_fillBoth_175 rfl rfl ?_
        refine z_iload (q := 179) hX dX3_fillBoth_177 rfl rfl ?_
        refine z_if_eq (q := 182) (t := 186) hX dX3_fillBoth_179 (by decide) (by omega) rfl (fun h179 => ?_) (fun h179 => ?_)
        · refine z_iconst (q := 187) hX dX3_fillBoth_186 rfl ?_
          refine z_iadd (q := 188) hX dX3_fillBoth_187 rfl ?_
          refine z_istore (q := 190) hX dX3_fillBoth_188 (Nat.le_of_ble_eq_true rfl) rfl rfl ?_
          refine z_iload (q := 192) hX dX3_fillBoth_190 rfl rfl ?_
          refine z_iload (q := 194) hX dX3_fillBoth_192 rfl rfl ?_
          refine z_if_eq (q := 197) (t := 201) hX dX3_fillBoth_194 (by decide) (by omega) rfl (fun h194 => ?_) (fun h194 => ?_)
          · refine z_iconst (q := 202) hX dX3_fillBoth_201 rfl ?_
            refine z_iadd (q := 203) hX dX3_fillBoth_202 rfl ?_
            refine z_istore (q := 205) hX dX3_fillBoth_203 (Nat.le_of_ble_eq_true rfl) rfl rfl ?_
            refine z_goto (t := 11) hX dX3_fillBoth_205 (by decide) ?_
            refine zG.mono (ih (i, j + 1) (by show (R.length - i) + (S.length - (j + 1)) < _; omega) (va_up f (i + j) (some x)) _ _ _ _ hi hin hst.2 (fun u hu => ?_) (by show (i : Int) + 0 = (i : Int); omega) (by show (j : Int) + 1 = ((j + 1 : Nat) : Int); omega)) (fun H h => h.eqv (fun c => by
              have e0 : ((i + j : Nat) : Int).toNat = i + j := rfl
              have e00 : ((i + (j + 1) : Nat) : Int) = ((i + j : Nat) : Int) + 1 := by omega
              show upm (upm m b (eO ciX3 [.ref ta, zI ((i + (j + 1) : Nat) : Int)])) ta _ c = _
              rw [e00]
              by_cases c1 : c = ta
              · rw [c1, upm_same, upm_ne _ _ hba.symm, upm_same, e0]
              · by_cases c2 : c = b
                · rw [c2, upm_ne _ _ hba, upm_same, upm_same]
                  rfl
                · rw [upm_ne _ _ c1, upm_ne _ _ c2, upm_ne _ _ c2, upm_ne _ _ c1, upm_ne _ _ c1, upm_ne _ _ c2]))
            have hu : u < i + (j + 1) := hu
            by_cases e : u = i + j
            · subst e
              exact ⟨x, by simp [va_up], by rw [hcr]; exact e8⟩
            · obtain ⟨x2, g1, g2⟩ := hf u (by omega)
              exact ⟨x2, by simp [va_up, e, g1], g2⟩
          · exact absurd h194 (by decide)
        · exact absurd h179 (by decide)
      · exact absurd h101 (by decide)
    have K35 : (i < R.length ∨ j < S.length) → zG X 0 0 (cI D A w (upm (upm m b (eO ciX3 [.ref ta, zI ((i + j : Nat) : Int)])) ta (eC (aQ D 6 40 f)))) 35 [some (.ref b), some (.ref L), some (.ref t), some (.ref t2), some (zI k), some (zI (i : Int)), some (zI (j : Int)), v7, v8] [] := by
      intro hor
      refine z_iload (q := 37) hX dX3_fillBoth_35 rfl rfl ?_
      refine z_aload_n (i := 3) (q := 38) hX dX3_fillBoth_37 rfl rfl rfl ?_
      refine zr_getN (C := RX7) (T := TX7) (N := 3) (q := 41) hX ciX7 2 rfl (by decide) in_X7 dX3_fillBoth_38 (zNF_at 14 rfl) (fun H h => cI.rd h (by first | assumption | exact Or.inl (by assumption) | exact Or.inr (by first | assumption | exact upm_same _ _ _ | exact (upm_ne _ _ (by first | assumption | exact Ne.symm (by assumption) | omega | exact ne_mp (m := m) (by assumption) (by assumption) | exact Ne.symm (ne_mp (m := m) (by assumption) (by assumption)) | exact ne_mp (m := w) (by assumption) (by assumption) | exact Ne.symm (ne_mp (m := w) (by assumption) (by assumption)))).trans (by first | assumption | exact upm_same _ _ _ | exact (upm_ne _ _ (by first | assumption | exact Ne.symm (by assumption) | omega | exact ne_mp (m := m) (by assumption) (by assumption) | exact Ne.symm (ne_mp (m := m) (by assumption) (by assumption)) | exact ne_mp (m := w) (by assumption) (by assumption) | exact Ne.symm (ne_mp (m := w) (by assumption) (by assumption)))).trans (by first | assumption | exact upm_same _ _ _ | exact (upm_ne _ _ (by first | assumption | exact Ne.symm (by assumption) | omega | exact ne_mp (m := m) (by assumption) (by assumption) | exact Ne.symm (ne_mp (m := m) (by assumption) (by assumption)) | exact ne_mp (m := w) (by assumption) (by assumption) | exact Ne.symm (ne_mp (m := w) (by assumption) (by assumption)))).trans (by first | assumption | exact upm_same _ _ _))))) rfl (by decide) rfl) rfl ?_
      refine z_V (ci := ciJ2) (T := TJ2) (N := 3) (na := 0) hX dX3_fillBoth_41 (c_J2_size D A (Or.inl y6)) rfl q558 q467 q468 q101 q469 (by decide +kernel) ⟨Nat.le_of_ble_eq_true rfl, Nat.le_of_ble_eq_true rfl⟩ rfl rfl (Nat.le_of_ble_eq_true rfl) rfl (by first | exact Nat.le_of_ble_eq_true rfl | (show _ + 0 ≤ 0; omega)) (by first | exact Nat.le_of_ble_eq_true rfl | (show _ + 0 ≤ 0; omega)) (fun H h => ⟨h, h.obL (Or.inl y6)⟩) (fun E a => zT.no) (zPd.out ?_)
      show zG X (_ + 0) (_ + 0) _ 44 _ _
      refine z_icmp_eq (q := 47) (t := 92) hX dX3_fillBoth_44 (by decide) ⟨by omega, by omega⟩ ⟨by omega, by omega⟩ rfl (fun h44 => ?_) (fun h44 => ?_)
      · refine z_iconst (q := 93) hX dX3_fillBoth_92 rfl ?_
        refine z_goto (t := 97) hX dX3_fillBoth_93 (by decide) ?_
        exact F1 (by omega) (Or.inl (by omega))
      · refine z_iload (q := 49) hX dX3_fillBoth_47 rfl rfl ?_
        refine z_aload_n (i := 2) (q := 50) hX dX3_fillBoth_49 rfl rfl rfl ?_
        refine zr_getN (C := RX7) (T := TX7) (N := 3) (q := 53) hX ciX7 2 rfl (by decide) in_X7 dX3_fillBoth_50 (zNF_at 14 rfl) (fun H h => cI.rd h (by first | assumption | exact Or.inl (by assumption) | exact Or.inr (by first | assumption | exact upm_same _ _ _ | exact (upm_ne _ _ (by first | assumption | exact Ne.symm (by assumption) | omega | exact ne_mp (m := m) (by assumption) (by assumption) | exact Ne.symm (ne_mp (m := m) (by assumption) (by assumption)) | exact ne_mp (m := w) (by assumption) (by assumption) | exact Ne.symm (ne_mp (m := w) (by assumption) (by assumption)))).trans (by first | assumption | exact upm_same _ _ _ | exact (upm_ne _ _ (by first | assumption | exact Ne.symm (by assumption) | omega | exact ne_mp (m := m) (by assumption) (by assumption) | exact Ne.symm (ne_mp (m := m) (by assumption) (by assumption)) | exact ne_mp (m := w) (by assumption) (by assumption) | exact Ne.symm (ne_mp (m := w) (by assumption) (by assumption)))).trans (by first | assumption | exact upm_same _ _ _ | exact (upm_ne _ _ (by first | assumption | exact Ne.symm (by assumption) | omega | exact ne_mp (m := m) (by assumption) (by assumption) | exact Ne.symm (ne_mp (m := m) (by assumption) (by assumption)) | exact ne_mp (m := w) (by assumption) (by assumption) | exact Ne.symm (ne_mp (m := w) (by assumption) (by assumption)))).trans (by first | assumption | exact upm_same _ _ _))))) rfl (by decide) rfl) rfl ?_
        refine z_V (ci := ciJ2) (T := TJ2) (N := 3) (na := 0) hX dX3_fillBoth_53 (c_J2_size D A (Or.inl h6)) rfl q558 q467 q468 q101 q469 (by decide +kernel) ⟨Nat.le_of_ble_eq_true rfl, Nat.le_of_ble_eq_true rfl⟩ rfl rfl (Nat.le_of_ble_eq_true rfl) rfl (by first | exact Nat.le_of_ble_eq_true rfl | (show _ + 0 ≤ 0; omega)) (by first | exact Nat.le_of_ble_eq_true rfl | (show _ + 0 ≤ 0; omega)) (fun H h => ⟨h, h.obL (Or.inl h6)⟩) (fun E a => zT.no) (zPd.out ?_)
        show zG X (_ + 0) (_ + 0) _ 56 _ _
        refine z_icmp_ge (q := 59) (t := 96) hX dX3_fillBoth_56 (by decide) ⟨by omega, by omega⟩ ⟨by omega, by omega⟩ rfl (fun h56 => ?_) (fun h56 => ?_)
        · refine z_iconst (q := 97) hX dX3_fillBoth_96 rfl ?_
          exact F0 (by omega) (Or.inl (by omega))
        · have hin : i < R.length := by omega
          have hjn : j < S.length := by omega
          obtain ⟨z1, y, q1, q2⟩ := h7.at hin
          obtain ⟨z2, y', q3, q4⟩ := y7.at hjn
          refine z_aload_n (i := 2) (q := 60) hX dX3_fillBoth_59 rfl rfl rfl ?_
          refine zr_getN (C := RX7) (T := TX7) (N := 3) (q := 63) hX ciX7 2 rfl (by decide) in_X7 dX3_fillBoth_60 (zNF_at 14 rfl) (fun H h => cI.rd h (by first | assumption | exact Or.inl (by assumption) | exact Or.inr (by first | assumption | exact upm_same _ _ _ | exact (upm_ne _ _ (by first | assumption | exact Ne.symm (by assumption) | omega | exact ne_mp (m := m) (by assumption) (by assumption) | exact Ne.symm (ne_mp (m := m) (by assumption) (by assumption)) | exact ne_mp (m := w) (by assumption) (by assumption) | exact Ne.symm (ne_mp (m := w) (by assumption) (by assumption)))).trans (by first | assumption | exact upm_same _ _ _ | exact (upm_ne _ _ (by first | assumption | exact Ne.symm (by assumption) | omega | exact ne_mp (m := m) (by assumption) (by assumption) | exact Ne.symm (ne_mp (m := m) (by assumption) (by assumption)) | exact ne_mp (m := w) (by assumption) (by assumption) | exact Ne.symm (ne_mp (m := w) (by assumption) (by assumption)))).trans (by first | assumption | exact upm_same _ _ _ | exact (upm_ne _ _ (by first | assumption | exact Ne.symm (by assumption) | omega | exact ne_mp (m := m) (by assumption) (by assumption) | exact Ne.symm (ne_mp (m := m) (by assumption) (by assumption)) | exact ne_mp (m := w) (by assumption) (by assumption) | exact Ne.symm (ne_mp (m := w) (by assumption) (by assumption)))).trans (by first | assumption | exact upm_same _ _ _))))) rfl (by decide) rfl) rfl ?_
          refine z_iload (q := 65) hX dX3_fillBoth_63 rfl rfl ?_
          refine z_V (ci := ciJ2) (T := TJ2) (N := 3) (na := 1) hX dX3_fillBoth_65 (c_J2_get D A (Or.inl h6) (by omega) (by rw [Int.toNat_natCast]; exact q1) (by omega)) rfl q559 q471 q472 q101 q473 (by decide +kernel) ⟨Nat.le_of_ble_eq_true rfl, Nat.le_of_ble_eq_true rfl⟩ rfl rfl (Nat.le_of_ble_eq_true rfl) rfl (by first | exact Nat.le_of_ble_eq_true rfl | (show _ + 0 ≤ 0; omega)) (by first | exact Nat.le_of_ble_eq_true rfl | (show _ + 0 ≤ 0; omega)) (fun H h => ⟨h, h.obL (Or.inl h6)⟩) (fun E a => zT.no) (zPd.out ?_)
          show zG X (_ + 0) (_ + 0) _ 68 _ _
          refine zr_cast (q := 71) (C := RJ18) (T := TJ18) (N := 1) hX ciJ18 rfl dX3_fillBoth_68 q560 (fun H h => cI.obE h (by first | assumption | exact Or.inl (by assumption) | exact Or.inr (by first | assumption | exact upm_same _ _ _ | exact (upm_ne _ _ (by first | assumption | exact Ne.symm (by assumption) | omega | exact ne_mp (m := m) (by assumption) (by assumption) | exact Ne.symm (ne_mp (m := m) (by assumption) (by assumption)) | exact ne_mp (m := w) (by assumption) (by assumption) | exact Ne.symm (ne_mp (m := w) (by assumption) (by assumption)))).trans (by first | assumption | exact upm_same _ _ _ | exact (upm_ne _ _ (by first | assumption | exact Ne.symm (by assumption) | omega | exact ne_mp (m := m) (by assumption) (by assumption) | exact Ne.symm (ne_mp (m := m) (by assumption) (by assumption)) | exact ne_mp (m := w) (by assumption) (by assumption) | exact Ne.symm (ne_mp (m := w) (by assumption) (by assumption)))).trans (by first | assumption | exact upm_same _ _ _ | exact (upm_ne _ _ (by first | assumption | exact Ne.symm (by assumption) | omega | exact ne_mp (m := m) (by assumption) (by assumption) | exact Ne.symm (ne_mp (m := m) (by assumption) (by assumption)) | exact ne_mp (m := w) (by assumption) (by assumption) | exact Ne.symm (ne_mp (m := w) (by assumption) (by assumption)))).trans (by first | assumption | exact upm_same _ _ _))))) rfl) rfl ?_
          refine z_V (ci := ciJ18) (T := TJ18) (N := 1) (na := 0) hX dX3_fillBoth_71 (c_J18_intValue D A (fun H h => h) (Or.inl q2)) rfl q561 q486 q487 q121 q488 (by decide +kernel) ⟨Nat.le_of_ble_eq_true rfl, Nat.le_of_ble_eq_true rfl⟩ rfl rfl (Nat.le_of_ble_eq_true rfl) rfl (by first | exact Nat.le_of_ble_eq_true rfl | (show _ + 0 ≤ 0; omega)) (by first | exact Nat.le_of_ble_eq_true rfl | (show _ + 0 ≤ 0; omega)) (fun H h => ⟨h, h.obE (Or.inl q2) rfl⟩) (fun E a => zT.no) (zPd.out ?_)
          show zG X (_ + 0) (_ + 0) _ 74 _ _
          refine z_aload_n (i := 3) (q := 75) hX dX3_fillBoth_74 rfl rfl rfl ?_
          refine zr_getN (C := RX7) (T := TX7) (N := 3) (q := 78) hX ciX7 2 rfl (by decide) in_X7 dX3_fillBoth_75 (zNF_at 14 rfl) (fun H h => cI.rd h (by first | assumption | exact Or.inl (by assumption) | exact Or.inr (by first | assumption | exact upm_same _ _ _ | exact (upm_ne _ _ (by first | assumption | exact Ne.symm (by assumption) | omega | exact ne_mp (m := m) (by assumption) (by assumption) | exact Ne.symm (ne_mp (m := m) (by assumption) (by assumption)) | exact ne_mp (m := w) (by assumption) (by assumption) | exact Ne.symm (ne_mp (m := w) (by assumption) (by assumption)))).trans (by first | assumption | exact upm_same _ _ _ | exact (upm_ne _ _ (by first | assumption | exact Ne.symm (by assumption) | omega | exact ne_mp (m := m) (by assumption) (by assumption) | exact Ne.symm (ne_mp (m := m) (by assumption) (by assumption)) | exact ne_mp (m := w) (by assumption) (by assumption) | exact Ne.symm (ne_mp (m := w) (by assumption) (by assumption)))).trans (by first | assumption | exact upm_same _ _ _ | exact (upm_ne _ _ (by first | assumption | exact Ne.symm (by assumption) | omega | exact ne_mp (m := m) (by assumption) (by assumption) | exact Ne.symm (ne_mp (m := m) (by assumption) (by assumption)) | exact ne_mp (m := w) (by assumption) (by assumption) | exact Ne.symm (ne_mp (m := w) (by assumption) (by assumption)))).trans (by first | assumption | exact upm_same _ _ _))))) rfl (by decide) rfl) rfl ?_
          refine z_iload (q := 80) hX dX3_fillBoth_78 rfl rfl ?_
          refine z_V (ci := ciJ2) (T := TJ2) (N := 3) (na := 1) hX dX3_fillBoth_80 (c_J2_get D A (Or.inl y6) (by omega) (by rw [Int.toNat_natCast]; exact q3) (by omega)) rfl q559 q471 q472 q101 q473 (by decide +kernel) ⟨Nat.le_of_ble_eq_true rfl, Nat.le_of_ble_eq_true rfl⟩ rfl rfl (Nat.le_of_ble_eq_true rfl) rfl (by first | exact Nat.le_of_ble_eq_true rfl | (show _ + 0 ≤ 0; omega)) (by first | exact Nat.le_of_ble_eq_true rfl | (show _ + 0 ≤ 0; omega)) (fun H h => ⟨h, h.obL (Or.inl y6)⟩) (fun E a => zT.no) (zPd.out ?_)
          show zG X (_ + 0) (_ + 0) _ 83 _ _
          refine zr_cast (q := 86) (C := RJ18) (T := TJ18) (N := 1) hX ciJ18 rfl dX3_fillBoth_83 q560 (fun H h => cI.obE h (by first | assumption | exact Or.inl (by assumption) | exact Or.inr (by first | assumption | exact upm_same _ _ _ | exact (upm_ne _ _ (by first | assumption | exact Ne.symm (by assumption) | omega | exact ne_mp (m := m) (by assumption) (by assumption) | exact Ne.symm (ne_mp (m := m) (by assumption) (by assumption)) | exact ne_mp (m := w) (by assumption) (by assumption) | exact Ne.symm (ne_mp (m := w) (by assumption) (by assumption)))).trans (by first | assumption | exact upm_same _ _ _ | exact (upm_ne _ _ (by first | assumption | exact Ne.symm (by assumption) | omega | exact ne_mp (m := m) (by assumption) (by assumption) | exact Ne.symm (ne_mp (m := m) (by assumption) (by assumption)) | exact ne_mp (m := w) (by assumption) (by assumption) | exact Ne.symm (ne_mp (m := w) (by assumption) (by assumption)))).trans (by first | assumption | exact upm_same _ _ _ | exact (upm_ne _ _ (by first | assumption | exact Ne.symm (by assumption) | omega | exact ne_mp (m := m) (by assumption) (by assumption) | exact Ne.symm (ne_mp (m := m) (by assumption) (by assumption)) | exact ne_mp (m := w) (by assumption) (by assumption) | exact Ne.symm (ne_mp (m := w) (by assumption) (by assumption)))).trans (by first | assumption | exact upm_same _ _ _))))) rfl) rfl ?_
          refine z_V (ci := ciJ18) (T := TJ18) (N := 1) (na := 0) hX dX3_fillBoth_86 (c_J18_intValue D A (fun H h => h) (Or.inl q4)) rfl q561 q486 q487 q121 q488 (by decide +kernel) ⟨Nat.le_of_ble_eq_true rfl, Nat.le_of_ble_eq_true rfl⟩ rfl rfl (Nat.le_of_ble_eq_true rfl) rfl (by first | exact Nat.le_of_ble_eq_true rfl | (show _ + 0 ≤ 0; omega)) (by first | exact Nat.le_of_ble_eq_true rfl | (show _ + 0 ≤ 0; omega)) (fun H h => ⟨h, h.obE (Or.inl q4) rfl⟩) (fun E a => zT.no) (zPd.out ?_)
          show zG X (_ + 0) (_ + 0) _ 89 _ _
          refine z_icmp_ge (q := 92) (t := 96) hX dX3_fillBoth_89 (by decide) z1 z2 rfl (fun h89 => ?_) (fun h89 => ?_)
          · refine z_iconst (q := 97) hX dX3_fillBoth_96 rfl ?_
            exact F0 (by omega) (Or.inr ⟨by omega, by omega⟩)
          · refine z_iconst (q := 93) hX dX3_fillBoth_92 rfl ?_
            refine z_goto (t := 97) hX dX3_fillBoth_93 (by decide) ?_
            exact F1 (by omega) (Or.inr ⟨by omega, by omega⟩)
    refine z_iload (q := 13) hX dX3_fillBoth_11 rfl rfl ?_
    refine z_aload_n (i := 2) (q := 14) hX dX3_fillBoth_13 rfl rfl rfl ?_
    refine zr_getN (C := RX7) (T := TX7) (N := 3) (q := 17) hX ciX7 2 rfl (by decide) in_X7 dX3_fillBoth_14 (zNF_at 14 rfl) (fun H h => cI.rd h (by first | assumption | exact Or.inl (by assumption) | exact Or.inr (by first | assumption | exact upm_same _ _ _ | exact (upm_ne _ _ (by first | assumption | exact Ne.symm (by assumption) | omega | exact ne_mp (m := m) (by assumption) (by assumption) | exact Ne.symm (ne_mp (m := m) (by assumption) (by assumption)) | exact ne_mp (m := w) (by assumption) (by assumption) | exact Ne.symm (ne_mp (m := w) (by assumption) (by assumption)))).trans (by first | assumption | exact upm_same _ _ _ | exact (upm_ne _ _ (by first | assumption | exact Ne.symm (by assumption) | omega | exact ne_mp (m := m) (by assumption) (by assumption) | exact Ne.symm (ne_mp (m := m) (by assumption) (by assumption)) | exact ne_mp (m := w) (by assumption) (by assumption) | exact Ne.symm (ne_mp (m := w) (by assumption) (by assumption)))).trans (by first | assumption | exact upm_same _ _ _ | exact (upm_ne _ _ (by first | assumption | exact Ne.symm (by assumption) | omega | exact ne_mp (m := m) (by assumption) (by assumption) | exact Ne.symm (ne_mp (m := m) (by assumption) (by assumption)) | exact ne_mp (m := w) (by assumption) (by assumption) | exact Ne.symm (ne_mp (m := w) (by assumption) (by assumption)))).trans (by first | assumption | exact upm_same _ _ _))))) rfl (by decide) rfl) rfl ?_
    refine z_V (ci := ciJ2) (T := TJ2) (N := 3) (na := 0) hX dX3_fillBoth_17 (c_J2_size D A (Or.inl h6)) rfl q558 q467 q468 q101 q469 (by decide +kernel) ⟨Nat.le_of_ble_eq_true rfl, Nat.le_of_ble_eq_true rfl⟩ rfl rfl (Nat.le_of_ble_eq_true rfl) rfl (by first | exact Nat.le_of_ble_eq_true rfl | (show _ + 0 ≤ 0; omega)) (by first | exact Nat.le_of_ble_eq_true rfl | (show _ + 0 ≤ 0; omega)) (fun H h => ⟨h, h.obL (Or.inl h6)⟩) (fun E a => zT.no) (zPd.out ?_)
    show zG X (_ + 0) (_ + 0) _ 20 _ _
    refine z_icmp_lt (q := 23) (t := 35) hX dX3_fillBoth_20 (by decide) ⟨by omega, by omega⟩ ⟨by omega, by omega⟩ rfl (fun h20 => ?_) (fun h20 => ?_)
    · exact K35 (by omega)
    · refine z_iload (q := 25) hX dX3_fillBoth_23 rfl rfl ?_
      refine z_aload_n (i := 3) (q := 26) hX dX3_fillBoth_25 rfl rfl rfl ?_
      refine zr_getN (C := RX7) (T := TX7) (N := 3) (q := 29) hX ciX7 2 rfl (by decide) in_X7 dX3_fillBoth_26 (zNF_at 14 rfl) (fun H h => cI.rd h (by first | assumption | exact Or.inl (by assumption) | exact Or.inr (by first | assumption | exact upm_same _ _ _ | exact (upm_ne _ _ (by first | assumption | exact Ne.symm (by assumption) | omega | exact ne_mp (m := m) (by assumption) (by assumption) | exact Ne.symm (ne_mp (m := m) (by assumption) (by assumption)) | exact ne_mp (m := w) (by assumption) (by assumption) | exact Ne.symm (ne_mp (m := w) (by assumption) (by assumption)))).trans (by first | assumption | exact upm_same _ _ _ | exact (upm_ne _ _ (by first | assumption | exact Ne.symm (by assumption) | omega | exact ne_mp (m := m) (by assumption) (by assumption) | exact Ne.symm (ne_mp (m := m) (by assumption) (by assumption)) | exact ne_mp (m := w) (by assumption) (by assumption) | exact Ne.symm (ne_mp (m := w) (by assumption) (by assumption)))).trans (by first | assumption | exact upm_same _ _ _ | exact (upm_ne _ _ (by first | assumption | exact Ne.symm (by assumption) | omega | exact ne_mp (m := m) (by assumption) (by assumption) | exact Ne.symm (ne_mp (m := m) (by assumption) (by assumption)) | exact ne_mp (m := w) (by assumption) (by assumption) | exact Ne.symm (ne_mp (m := w) (by assumption) (by assumption)))).trans (by first | assumption | exact upm_same _ _ _))))) rfl (by decide) rfl) rfl ?_
      refine z_V (ci := ciJ2) (T := TJ2) (N := 3) (na := 0) hX dX3_fillBoth_29 (c_J2_size D A (Or.inl y6)) rfl q558 q467 q468 q101 q469 (by decide +kernel) ⟨Nat.le_of_ble_eq_true rfl, Nat.le_of_ble_eq_true rfl⟩ rfl rfl (Nat.le_of_ble_eq_true rfl) rfl (by first | exact Nat.le_of_ble_eq_true rfl | (show _ + 0 ≤ 0; omega)) (by first | exact Nat.le_of_ble_eq_true rfl | (show _ + 0 ≤ 0; omega)) (fun H h => ⟨h, h.obL (Or.inl y6)⟩) (fun E a => zT.no) (zPd.out ?_)
      show zG X (_ + 0) (_ + 0) _ 32 _ _
      refine z_icmp_ge (q := 35) (t := 208) hX dX3_fillBoth_32 (by decide) ⟨by omega, by omega⟩ ⟨by omega, by omega⟩ rfl (fun h32 => ?_) (fun h32 => ?_)
      · exact z_vret hX dX3_fillBoth_208 (by first | exact Nat.le_of_ble_eq_true rfl | (show (_ : Nat) ≤ 0; omega)) (by first | exact Nat.le_of_ble_eq_true rfl | (show (_ : Nat) ≤ 0; omega)) rfl (fun H h => ⟨f, rfl, fun u hu => hf u (by omega), by rw [show i + j = R.length + S.length by omega] at h; exact h⟩)
      · exact K35 (by omega)
  refine z_aload_n (i := 0) (q := 1) hX dX3_fillBoth_0 rfl rfl rfl ?_
  refine z_iconst (q := 2) hX dX3_fillBoth_1 rfl ?_
  refine zc_put (C := RX3) (T := TX3) (N := 2) (q := 5) hX ciX3 1 rfl (by decide) in_X3 tyX3_ok nmX3 dX3_fillBoth_2 q196 (Or.inl rfl) rfl (by first | assumption | exact upm_same _ _ _ | exact (upm_ne _ _ (by first | assumption | exact Ne.symm (by assumption) | omega | exact ne_mp (m := m) (by assumption) (by assumption) | exact Ne.symm (ne_mp (m := m) (by assumption) (by assumption)) | exact ne_mp (m := w) (by assumption) (by assumption) | exact Ne.symm (ne_mp (m := w) (by assumption) (by assumption)))).trans (by first | assumption | exact upm_same _ _ _ | exact (upm_ne _ _ (by first | assumption | exact Ne.symm (by assumption) | omega | exact ne_mp (m := m) (by assumption) (by assumption) | exact Ne.symm (ne_mp (m := m) (by assumption) (by assumption)) | exact ne_mp (m := w) (by assumption) (by assumption) | exact Ne.symm (ne_mp (m := w) (by assumption) (by assumption)))).trans (by first | assumption | exact upm_same _ _ _ | exact (upm_ne _ _ (by first | assumption | exact Ne.symm (by assumption) | omega | exact ne_mp (m := m) (by assumption) (by assumption) | exact Ne.symm (ne_mp (m := m) (by assumption) (by assumption)) | exact ne_mp (m := w) (by assumption) (by assumption) | exact Ne.symm (ne_mp (m := w) (by assumption) (by assumption)))).trans (by first | assumption | exact upm_same _ _ _)))) (Nat.le_of_ble_eq_true rfl) rfl rfl rfl rfl ?_
  refine z_iconst (q := 6) hX dX3_fillBoth_5 rfl ?_
  refine z_istore (q := 8) hX dX3_fillBoth_6 (Nat.le_of_ble_eq_true rfl) rfl rfl ?_
  refine z_iconst (q := 9) hX dX3_fillBoth_8 rfl ?_
  refine z_istore (q := 11) hX dX3_fillBoth_9 (Nat.le_of_ble_eq_true rfl) rfl rfl ?_
  exact zG.mono (K (0, 0) f0 0 0 _ _ (Nat.zero_le _) (Nat.zero_le _) (by rw [hC0]; rfl) (fun u hu => absurd hu (Nat.not_lt_zero u)) rfl rfl) (fun H h => h.eqv (fun c => by by_cases c1 : c = ta <;> by_cases c2 : c = b <;> simp [upm, c1, c2, hba, hba.symm, ha]))
abbrev rmX3_init_2 : Room := { frames := 4, cells := 1, slots := 40, locals := 88 }
set_option maxHeartbeats 4000000 in
theorem c_X3_init_2 (D : zD) (A : Nat → Prop) {w m : zMp} {b : Nat} {L t : Nat} {mcL : Int} {ls : List Nat} {T : Int → zS} {g rows : List Int} {N nn : Nat} {sv : Int → Int} {su : Int → zS} {k v0 : Int} (hb : m b = some (eO ciX3 [.null, zI v0])) (hL : w L = some (eL mcL ls) ∨ m L = some (eL mcL ls)) (hls : wLines w ls N T) (hN : N ≤ 40) (ht : wTpl w t g nn sv su rows) (hr : ∀ r ∈ rows, 0 ≤ r ∧ r < N ∧ k < nT (T r)) (hk : 0 ≤ k) : zC D yX3_init_2 cX3_init_2 4 none none rmX3_init_2 A [.ref b, .ref L, .ref t, zI (k)] (cI D A w m) (zPe (fun (x : Nat × (Nat → Option Nat)) => none) (fun x => (m x.1 = none ∧ w x.1 = none ∧ x.1 ≠ b) ∧ ∀ i : Nat, i < rows.length → ∃ y, x.2 i = some y ∧ wTok w y (cR T rows k i)) (fun x => cI D A w (upm (upm m b (eO ciX3 [.ref x.1, zI rows.length])) x.1 (eC (aQ D 6 40 x.2))))) (zNo) := by
  refine zC_start (L := [some (.ref b), some (.ref L), some (.ref t), some (zI (k))]) (by decide) (Nat.le_of_ble_eq_true rfl) rfl (fun X hX => ?_)
  refine z_aload_n (i := 0) (q := 1) hX dX3_init_2_0 rfl rfl rfl ?_
  refine z_objInit (q := 4) hX dX3_init_2_1 q191 q147 q148 (Nat.le_of_ble_eq_true rfl) rfl ⟨Nat.le_of_ble_eq_true rfl, Nat.le_of_ble_eq_true rfl⟩ rfl ?_
  refine z_aload_n (i := 0) (q := 5) hX dX3_init_2_4 rfl rfl rfl ?_
  refine z_bipush (q := 7) hX dX3_init_2_5 (by decide) rfl ?_
  refine zc_newaQ (q := 10) hX 6 rfl dX3_init_2_7 q192 (by decide) (by omega) (by first | exact Nat.le_of_ble_eq_true rfl | (show _ + 1 ≤ 1; omega)) (by first | exact Nat.le_of_ble_eq_true rfl | omega | (show _ ≤ 40; omega)) rfl (fun a7 ha7 hb7 => ?_)
  have n7 := hb7
  try simp only [upm_none] at n7
  repeat (have := And.left n7; replace n7 := And.right n7)
  refine zc_putF (C := RX3) (T := TX3) (N := 2) (q := 13) hX ciX3 0 rfl (by decide) in_X3 tyX3_ok nmX3 dX3_init_2_10 q194 rfl rfl rfl (by first | assumption | exact upm_same _ _ _ | exact (upm_ne _ _ (by first | assumption | exact Ne.symm (by assumption) | omega | exact ne_mp (m := m) (by assumption) (by assumption) | exact Ne.symm (ne_mp (m := m) (by assumption) (by assumption)) | exact ne_mp (m := w) (by assumption) (by assumption) | exact Ne.symm (ne_mp (m := w) (by assumption) (by assumption)))).trans (by first | assumption | exact upm_same _ _ _ | exact (upm_ne _ _ (by first | assumption | exact Ne.symm (by assumption) | omega | exact ne_mp (m := m) (by assumption) (by assumption) | exact Ne.symm (ne_mp (m := m) (by assumption) (by assumption)) | exact ne_mp (m := w) (by assumption) (by assumption) | exact Ne.symm (ne_mp (m := w) (by assumption) (by assumption)))).trans (by first | assumption | exact upm_same _ _ _ | exact (upm_ne _ _ (by first | assumption | exact Ne.symm (by assumption) | omega | exact ne_mp (m := m) (by assumption) (by assumption) | exact Ne.symm (ne_mp (m := m) (by assumption) (by assumption)) | exact ne_mp (m := w) (by assumption) (by assumption) | exact Ne.symm (ne_mp (m := w) (by assumption) (by assumption)))).trans (by first | assumption | exact upm_same _ _ _)))) (Nat.le_of_ble_eq_true rfl) rfl rfl rfl rfl ?_
  refine z_aload_n (i := 0) (q := 14) hX dX3_init_2_13 rfl rfl rfl ?_
  refine z_aload_n (i := 1) (q := 15) hX dX3_init_2_14 rfl rfl rfl ?_
  refine z_aload_n (i := 2) (q := 16) hX dX3_init_2_15 rfl rfl rfl ?_
  refine z_iload_n (i := 3) (q := 17) hX dX3_init_2_16 rfl rfl rfl ?_
  have hab : a7 ≠ b := ne_mp hb7 hb
  have hLM : w L = some (eL mcL ls) ∨ upm (upm m a7 (eC (aQ D 6 40 (fun _ => none)))) b (eO ciX3 [.ref a7, zI v0]) L = some (eL mcL ls) := hL.imp id (fun q => by
    rw [upm_ne _ _ (fun e => by rw [e, hb] at q; cases q), upm_ne _ _ (Ne.symm (ne_mp hb7 q))]
    exact q)
  refine z_V (ci := ciX3) (T := TX3) (N := 2) (na := 3) hX dX3_init_2_17 (c_X3_fill D A (upm_same _ _ _) ((upm_ne _ _ hab).trans (upm_same _ _ _)) hLM hls hN ht hr hk) rfl q1575 q555 q556 q102 q557 (by decide +kernel) ⟨Nat.le_of_ble_eq_true rfl, Nat.le_of_ble_eq_true rfl⟩ rfl rfl (Nat.le_of_ble_eq_true rfl) rfl (by first | exact Nat.le_of_ble_eq_true rfl | (show _ + 0 ≤ 1; omega)) (by first | exact Nat.le_of_ble_eq_true rfl | (show _ + 0 ≤ 40; omega)) (fun H h => ⟨h, cI.obE h (by first | assumption | exact Or.inl (by assumption) | exact Or.inr (by first | assumption | exact upm_same _ _ _ | exact (upm_ne _ _ (by first | assumption | exact Ne.symm (by assumption) | omega | exact ne_mp (m := m) (by assumption) (by assumption) | exact Ne.symm (ne_mp (m := m) (by assumption) (by assumption)) | exact ne_mp (m := w) (by assumption) (by assumption) | exact Ne.symm (ne_mp (m := w) (by assumption) (by assumption)))).trans (by first | assumption | exact upm_same _ _ _ | exact (upm_ne _ _ (by first | assumption | exact Ne.symm (by assumption) | omega | exact ne_mp (m := m) (by assumption) (by assumption) | exact Ne.symm (ne_mp (m := m) (by assumption) (by assumption)) | exact ne_mp (m := w) (by assumption) (by assumption) | exact Ne.symm (ne_mp (m := w) (by assumption) (by assumption)))).trans (by first | assumption | exact upm_same _ _ _ | exact (upm_ne _ _ (by first | assumption | exact Ne.symm (by assumption) | omega | exact ne_mp (m := m) (by assumption) (by assumption) | exact Ne.symm (ne_mp (m := m) (by assumption) (by assumption)) | exact ne_mp (m := w) (by assumption) (by assumption) | exact Ne.symm (ne_mp (m := w) (by assumption) (by assumption)))).trans (by first | assumption | exact upm_same _ _ _))))) rfl⟩) (fun E a => zT.no) (zPe.out (fun x17 hx17 => ?_))
  show zG X (_ + 0) (_ + 0) _ 20 _ _
  exact z_vret hX dX3_init_2_20 (by first | exact Nat.le_of_ble_eq_true rfl | (show (_ : Nat) ≤ 1; omega)) (by first | exact Nat.le_of_ble_eq_true rfl | (show (_ : Nat) ≤ 40; omega)) rfl (fun H h => ⟨(a7, x17), rfl, ⟨⟨hb7, ha7, hab⟩, hx17⟩, h.eqv (fun c => by by_cases c1 : c = a7 <;> by_cases c2 : c = b <;> simp [upm, c1, c2, hab, hab.symm])⟩)
