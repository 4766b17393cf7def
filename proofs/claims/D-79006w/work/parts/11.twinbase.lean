/-! THE REFERENCE'S WORLD: one object at b, its fifteen int arrays behind it; F its whole-number fields, G its arrays' contents -/
set_option maxRecDepth 100000
def twArr : Nat → Option Nat
  | 0 => some 0 | 1 => some 1 | 2 => some 2 | 4 => some 3 | 7 => some 4 | 8 => some 5 | 9 => some 6 | 11 => some 7 | 12 => some 8 | 14 => some 9 | 16 => some 10 | 18 => some 11 | 21 => some 12 | 22 => some 13 | 24 => some 14 | _ => none
def twLen : Nat → Nat
  | 0 => 1964 | 1 => 1964 | 2 => 1964 | 3 => 19640 | 4 => 41 | 5 => 820 | 6 => 820 | 7 => 2 | 8 => 2 | 9 => 60 | 10 => 41 | 11 => 40 | 12 => 420 | 13 => 60 | _ => 420
abbrev zTF : Type := Nat → Int
abbrev zTG : Type := Nat → Int → Int
def upF (F : zTF) (k : Nat) (z : Int) : zTF := fun j => if j = k then z else F j
def upG (G : zTG) (j : Nat) (i z : Int) : zTG := fun j2 i2 => if j2 = j ∧ i2 = i then z else G j2 i2
theorem upF_same (F : zTF) (k : Nat) (z : Int) : upF F k z k = z := if_pos rfl
theorem upF_ne (F : zTF) {k j : Nat} (z : Int) (h : j ≠ k) : upF F k z j = F j := if_neg h
theorem upG_same (G : zTG) (j : Nat) (i z : Int) : upG G j i z j i = z := if_pos ⟨rfl, rfl⟩
theorem upG_nj (G : zTG) {j j2 : Nat} (i z : Int) (h : j2 ≠ j) : upG G j i z j2 = G j2 := funext fun _ => if_neg fun q => h q.1
theorem upG_ni (G : zTG) (j : Nat) {i i2 : Int} (z : Int) (h : i2 ≠ i) : upG G j i z j i2 = G j i2 := if_neg fun q => h q.2
def twFv (b : Nat) (F : zTF) (k : Nat) : Value := match twArr k with
  | some j => .ref (b + 1 + j)
  | none => zI (F k)
def twFs (b : Nat) (F : zTF) : List Value := (List.range 27).map (twFv b F)
def twAe (D : zD) (G : zTG) (j : Nat) : va_E := .inl (D.2.1 0, twLen j, .inl (fun i => Int32.ofInt (G j (i : Int))))
def twW (D : zD) (b : Nat) (F : zTF) (G : zTG) : va_W := (b, .inr (ciX4, twFs b F)) :: (List.range 15).map (fun j => (b + 1 + j, twAe D G j))
/-- the reference's world -/
def twI (D : zD) (A : Nat → Prop) (b : Nat) (F : zTF) (G : zTG) (H : Heap) : Prop := va_P D.1 zCl (twW D b F G) H ∧ va_D A (twW D b F G)
/-- .. with some of its cells unknown, by φ -/
def twE (D : zD) (A : Nat → Prop) (b : Nat) (φ : zTF → zTG → Prop) (H : Heap) : Prop := ∃ F2 G2, φ F2 G2 ∧ twI D A b F2 G2 H
theorem twFs_at {b : Nat} {F : zTF} {k : Nat} (hk : k < 27) : (twFs b F)[k]? = some (twFv b F k) := by
  unfold twFs
  rw [List.getElem?_map, List.getElem?_range hk]
  rfl
theorem twW_0 {D : zD} {b : Nat} {F : zTF} {G : zTG} : (twW D b F G)[0]? = some (b, .inr (ciX4, twFs b F)) := rfl
theorem twW_at {D : zD} {b : Nat} {F : zTF} {G : zTG} {j : Nat} (hj : j < 15) : (twW D b F G)[j + 1]? = some (b + 1 + j, twAe D G j) := by
  unfold twW
  rw [List.getElem?_cons_succ, List.getElem?_map, List.getElem?_range hj]
  rfl
theorem twW_cases {D : zD} {b : Nat} {F : zTF} {G : zTG} {i : Nat} {q : Nat × va_E} (h : (twW D b F G)[i]? = some q) : (i = 0 ∧ q = (b, .inr (ciX4, twFs b F))) ∨ ∃ j, j < 15 ∧ i = j + 1 ∧ q = (b + 1 + j, twAe D G j) := by
  cases i with
  | zero => rw [twW_0] at h; cases h; exact Or.inl ⟨rfl, rfl⟩
  | succ j =>
    by_cases hj : j < 15
    · rw [twW_at hj] at h; cases h; exact Or.inr ⟨j, hj, rfl, rfl⟩
    · unfold twW at h
      rw [List.getElem?_cons_succ, List.getElem?_map, List.getElem?_eq_none (by rw [List.length_range]; omega)] at h
      cases h
theorem twI.apart {D : zD} {A : Nat → Prop} {b : Nat} {F F2 : zTF} {G G2 : zTG} {H : Heap} (h : twI D A b F G H) : va_D A (twW D b F2 G2) := by
  have hD := h.2
  refine ⟨fun i j p q hi hj hpq => ?_, fun k q hk => ?_⟩
  · rcases twW_cases hi with ⟨rfl, rfl⟩ | ⟨i2, h1, rfl, rfl⟩ <;> rcases twW_cases hj with ⟨rfl, rfl⟩ | ⟨j2, h2, rfl, rfl⟩
    · rfl
    · exact absurd hpq (by show ¬ b = b + 1 + j2; omega)
    · exact absurd hpq (by show ¬ b + 1 + i2 = b; omega)
    · have : b + 1 + i2 = b + 1 + j2 := hpq
      omega
  · rcases twW_cases hk with ⟨rfl, rfl⟩ | ⟨j, h1, rfl, rfl⟩
    · exact hD.2 0 (b, .inr (ciX4, twFs b F)) twW_0
    · exact hD.2 (j + 1) (b + 1 + j, twAe D G j) (twW_at h1)
theorem twI.ob {D : zD} {A : Nat → Prop} {b : Nat} {F : zTF} {G : zTG} {H : Heap} (h : twI D A b F G H) : zOb D ciX4 b H := by
  obtain ⟨r, h1, cell, g1, g2, g3, -⟩ := h.1 0 _ twW_0
  exact ⟨cell, g1, by rw [g3]; rfl, g2⟩
/-- an int array written at a place -/
theorem twI.putA {D : zD} {A : Nat → Prop} {b : Nat} {F : zTF} {G : zTG} {H H1 : Heap} {j : Nat} {i z : Int} (hj : j < 15) (h0 : 0 ≤ i) (h : twI D A b F G H) (h1 : va_P D.1 zCl ((twW D b F G).set (j + 1) (b + 1 + j, .inl (D.2.1 0, twLen j, .inl (upd (fun i => Int32.ofInt (G j (i : Int))) i.toNat (Int32.ofInt z))))) H1) : twI D A b F (upG G j i z) H1 := by
  refine ⟨fun k q hk => ?_, h.apart⟩
  have he : (twAe D (upG G j i z) j : va_E) = .inl (D.2.1 0, twLen j, .inl (upd (fun i => Int32.ofInt (G j (i : Int))) i.toNat (Int32.ofInt z))) := by
    unfold twAe
    congr 4
    funext n
    unfold upG upd
    by_cases hn : n = i.toNat
    · subst hn
      rw [if_pos rfl, if_pos ⟨rfl, by omega⟩]
    · rw [if_neg hn, if_neg (by rintro ⟨-, q⟩; omega)]
  rcases twW_cases hk with ⟨rfl, rfl⟩ | ⟨j2, h2, rfl, rfl⟩
  · refine h1 0 _ ?_
    rw [List.getElem?_set_ne (by omega)]
    exact twW_0
  · by_cases hjj : j2 = j
    · subst hjj
      refine h1 (j2 + 1) _ ?_
      rw [he, List.getElem?_set_self (by rw [show (twW D b F G).length = 16 from rfl]; omega)]
    · refine h1 (j2 + 1) _ ?_
      rw [List.getElem?_set_ne (by omega), twW_at h2]
      congr 2
      unfold twAe
      rw [upG_nj G i z hjj]
/-- a field written -/
theorem twI.putF {D : zD} {A : Nat → Prop} {b : Nat} {F : zTF} {G : zTG} {H H1 : Heap} {k : Nat} {z : Int} (hk : k < 27) (ha : twArr k = none) (h : twI D A b F G H) (h1 : va_P D.1 zCl ((twW D b F G).set 0 (b, .inr (ciX4, (twFs b F).set k (zI z)))) H1) : twI D A b (upF F k z) G H1 := by
  refine ⟨fun i q hi => ?_, h.apart⟩
  have he : twFs b (upF F k z) = (twFs b F).set k (zI z) := by
    refine List.ext_getElem? fun j => ?_
    by_cases hj : j < 27
    · rw [twFs_at hj]
      by_cases hjk : j = k
      · subst hjk
        rw [List.getElem?_set_self (by rw [show (twFs b F).length = 27 from rfl]; exact hj)]
        unfold twFv
        rw [ha]
        show some (zI (upF F j z j)) = _
        rw [upF_same]
      · rw [List.getElem?_set_ne (Ne.symm hjk), twFs_at hj]
        unfold twFv
        cases twArr j with
        | some _ => rfl
        | none => show some (zI (upF F k z j)) = _; rw [upF_ne F z hjk]
    · rw [List.getElem?_eq_none (by rw [show (twFs b (upF F k z)).length = 27 from rfl]; omega), List.getElem?_eq_none (by rw [List.length_set, show (twFs b F).length = 27 from rfl]; omega)]
  rcases twW_cases hi with ⟨rfl, rfl⟩ | ⟨j2, h2, rfl, rfl⟩
  · refine h1 0 _ ?_
    rw [he, List.getElem?_set_self (by rw [show (twW D b F G).length = 16 from rfl]; omega)]
  · refine h1 (j2 + 1) _ ?_
    rw [List.getElem?_set_ne (by omega), twW_at h2]
section ZTR
variable {D : zD} {X : zX} {cc : ByteArray} {nL : Nat} {ret : Option FieldType} {hh : zHh} {rm : Room} {A : Nat → Prop} {P : Option Value → Heap → Prop} {Ex : String → Nat → Heap → Prop} {nm : String} {k n : Nat} {pc q : Nat} {L : List (Option Value)} {st : List Value} {b : Nat} {F F2 : zTF} {G G2 : zTG}
theorem zt_conv (hF : F = F2) (hG : G = G2) (h : zG X k n (twI D A b F2 G2) pc L st) : zG X k n (twI D A b F G) pc L st := by
  subst hF; subst hG; exact h
theorem zt_getI (hX : zF D X RX4 cc nL ret hh rm A P Ex nm) (fk : Nat) {idx : Nat} (d : decode cc pc = .ok (.getfield idx, 3)) (hl : Cond.fieldLink RX4 idx RX4 (TX4 fk).2.1 (TX4 fk).2.2.1 ∈ lw_all) (hk : fk < 27) (ha : twArr fk = none) (hs : (TX4 fk).1 = RX4) (hq : pc + 3 = q) (kk : zG X k n (twI D A b F G) q L (zI (F fk) :: st)) : zG X k n (twI D A b F G) pc L (.ref b :: st) := by
  subst hq
  obtain ⟨p, l, e, R, s, m, args, below, meth, c, Q, A⟩ := X
  obtain ⟨hx, hb, hr, hlocks, hml, hown, hts, rfl, rfl, rfl, htab, hK, hlt, hnm⟩ := hX
  intro H locs ls hI hS hL
  refine va_get (D := D.1) (ci := ciX4) (v := zI (F fk)) (C := RX4) (T := TX4) (N := 27) hx hb hts in_X4 hown hK.k1 hI.1 0 twW_0 rfl fk hk (hts _ hl) (fun _ h9 => by rw [hs] at h9; exact h9) (by rw [twFs_at hk]; unfold twFv; rw [ha]) d (kk H locs ls hI hS hL)
theorem zt_getA (hX : zF D X RX4 cc nL ret hh rm A P Ex nm) (fk j : Nat) {idx : Nat} (d : decode cc pc = .ok (.getfield idx, 3)) (hl : Cond.fieldLink RX4 idx RX4 (TX4 fk).2.1 (TX4 fk).2.2.1 ∈ lw_all) (hk : fk < 27) (ha : twArr fk = some j) (hs : (TX4 fk).1 = RX4) (hq : pc + 3 = q) (kk : zG X k n (twI D A b F G) q L (.ref (b + 1 + j) :: st)) : zG X k n (twI D A b F G) pc L (.ref b :: st) := by
  subst hq
  obtain ⟨p, l, e, R, s, m, args, below, meth, c, Q, A⟩ := X
  obtain ⟨hx, hb, hr, hlocks, hml, hown, hts, rfl, rfl, rfl, htab, hK, hlt, hnm⟩ := hX
  intro H locs ls hI hS hL
  refine va_get (D := D.1) (ci := ciX4) (v := .ref (b + 1 + j)) (C := RX4) (T := TX4) (N := 27) hx hb hts in_X4 hown hK.k1 hI.1 0 twW_0 rfl fk hk (hts _ hl) (fun _ h9 => by rw [hs] at h9; exact h9) (by rw [twFs_at hk]; unfold twFv; rw [ha]) d (kk H locs ls hI hS hL)
theorem zt_put (hX : zF D X RX4 cc nL ret hh rm A P Ex nm) (fk : Nat) {idx : Nat} {z : Int} {ty : FieldType} (d : decode cc pc = .ok (.putfield idx, 3)) (hl : Cond.fieldLink RX4 idx RX4 (TX4 fk).2.1 (TX4 fk).2.2.1 ∈ lw_all) (hk : fk < 27) (ha : twArr fk = none) (hs : (TX4 fk).1 = RX4) (hf : (TX4 fk).2.2.2 = false) (hd : parseFieldDescriptor (TX4 fk).2.2.1 = some ty) (hn : narrow ty (zI z) = zI z) (hfit : fits ty (zI z) = true) (hq : pc + 3 = q) (kk : zG X k n (twI D A b (upF F fk z) G) q L st) : zG X k n (twI D A b F G) pc L (zI z :: .ref b :: st) := by
  subst hq
  obtain ⟨p, l, e, R, s, m, args, below, meth, c, Q, A⟩ := X
  obtain ⟨hx, hb, hr, hlocks, hml, hown, hts, rfl, rfl, rfl, htab, hK, hlt, hnm⟩ := hX
  intro H locs ls hI hS hL
  refine va_put (D := D.1) (ci := ciX4) (v := zI z) (ty := ty) (C := RX4) (T := TX4) (N := 27) hx hb hts in_X4 tyX4 tyX4_ok nmX4 hown hK.k1 hI.1 hI.2 hS 0 twW_0 rfl fk hk (hts _ hl) (fun _ h9 => by rw [hs] at h9; exact h9) hf hd hn hfit (by rw [show (twFs b F).length = 27 from rfl]; exact hk) d (fun H1 locs1 hP1 hD1 hS1 => ?_)
  exact kk H1 locs1 ls (twI.putF hk ha hI hP1) hS1 hL
theorem zt_ald (hX : zF D X RX4 cc nL ret hh rm A P Ex nm) (j : Nat) {N : Nat} {i : Int} (d : decode cc pc = .ok (.iaload, 1)) (hN : twLen j = N) (hj : j < 15) (hs : N < 2147483648) (hi : 0 ≤ i ∧ i < (N : Int)) (hq : pc + 1 = q) (kk : zG X k n (twI D A b F G) q L (zI (G j i) :: st)) : zG X k n (twI D A b F G) pc L (zI i :: .ref (b + 1 + j) :: st) := by
  subst hq; subst hN
  obtain ⟨p, l, e, R, s, m, args, below, meth, c, Q, A⟩ := X
  obtain ⟨hx, hb, hr, hlocks, hml, hown, hts, rfl, rfl, rfl, htab, hK, hlt, hnm⟩ := hX
  intro H locs ls hI hS hL
  have hzr : zR i := ⟨by omega, by omega⟩
  refine va_iald (f := fun i => Int32.ofInt (G j (i : Int))) hx hb hK.k1 hI.1 (j + 1) 0 (twW_at hj) rfl (zI_in hzr hi.1 hi.2) d ?_
  show W p l e R s m args below meth c H locs k n _ (F0 m (pc + 1) ls (.int (Int32.ofInt (G j (((Int32.ofInt i).toNatClampNeg : Nat) : Int))) :: st))
  rw [zI_nat hzr, Int.toNat_of_nonneg hi.1]
  exact kk H locs ls hI hS hL
theorem zt_ast (hX : zF D X RX4 cc nL ret hh rm A P Ex nm) (j : Nat) {N : Nat} {i z : Int} (d : decode cc pc = .ok (.iastore, 1)) (hN : twLen j = N) (hj : j < 15) (hs : N < 2147483648) (hi : 0 ≤ i ∧ i < (N : Int)) (hq : pc + 1 = q) (kk : zG X k n (twI D A b F (upG G j i z)) q L st) : zG X k n (twI D A b F G) pc L (zI z :: zI i :: .ref (b + 1 + j) :: st) := by
  subst hq; subst hN
  obtain ⟨p, l, e, R, s, m, args, below, meth, c, Q, A⟩ := X
  obtain ⟨hx, hb, hr, hlocks, hml, hown, hts, rfl, rfl, rfl, htab, hK, hlt, hnm⟩ := hX
  intro H locs ls hI hS hL
  have hzr : zR i := ⟨by omega, by omega⟩
  refine va_iast (f := fun i => Int32.ofInt (G j (i : Int))) hx hb hK.k1 hI.1 hI.2 hS (j + 1) 0 (twW_at hj) rfl (zI_in hzr hi.1 hi.2) d (fun H1 locs1 hP1 hD1 hS1 => ?_)
  rw [zI_nat hzr] at hP1
  exact kk H1 locs1 ls (twI.putA hj hi.1 hI hP1) hS1 hL
section ZTCALL
variable {y : MethodName} {cc2 : ByteArray} {nL2 : Nat} {ret2 : Option FieldType} {rm2 : Room} {As rest : List Value} {idx na : Nat} {r : Value}
theorem zt_V1 (hX : zF D X RX4 cc nL ret hh rm A P Ex nm) (d : decode cc pc = .ok (.invokevirtual idx, 3)) (hc : zC D y cc2 nL2 ret2 none rm2 A (.ref b :: As) (twI D A b F G) (zPd r (twI D A b F2 G2)) zNo)
    (h1 : Cond.methodLink RX4 idx y ∈ lw_all) (h2 : Cond.instanceMethod y ∈ lw_all) (h3 : Cond.selects RX4 y y ∈ lw_all) (h4 : Cond.initialized RX4 ∈ lw_all) (h5 : Cond.code y cc2 nL2 ret2 ∈ lw_all) (hy : y.cls = RX4)
    (hd : zArgN y na) (hR : zRoom rm rm2 nL2) (hn : As.length = na) (hst : st = As.reverse ++ .ref b :: rest) (hW : (rest.map fun v => v.category).sum ≤ 8) (hLn : L.length = nL) (hz : rm2.cells = 0 ∧ rm2.slots = 0) (hk : k ≤ rm.cells) (hs : n ≤ rm.slots) (hq : pc + 3 = q)
    (kk : zG X k n (twI D A b F2 G2) q L (r :: rest)) : zG X k n (twI D A b F G) pc L st := by
  subst hq
  refine z_V (T := TX4) (N := 27) (ci := ciX4) hX d hc (by rw [hy]; rfl) h1 h2 (by rw [hy]; exact h3) (by rw [hy]; exact h4) h5 hd hR hn hst hW hLn (by rw [hz.1]; exact hk) (by rw [hz.2]; exact hs) (fun H h => ⟨h, h.ob⟩) (fun E a => zT.no) (zPd.out ?_)
  rw [hz.1, hz.2]
  exact kk
theorem zt_V0 (hX : zF D X RX4 cc nL ret hh rm A P Ex nm) (d : decode cc pc = .ok (.invokevirtual idx, 3)) (hc : zC D y cc2 nL2 ret2 none rm2 A (.ref b :: As) (twI D A b F G) (zPv (twI D A b F2 G2)) zNo)
    (h1 : Cond.methodLink RX4 idx y ∈ lw_all) (h2 : Cond.instanceMethod y ∈ lw_all) (h3 : Cond.selects RX4 y y ∈ lw_all) (h4 : Cond.initialized RX4 ∈ lw_all) (h5 : Cond.code y cc2 nL2 ret2 ∈ lw_all) (hy : y.cls = RX4)
    (hd : zArgN y na) (hR : zRoom rm rm2 nL2) (hn : As.length = na) (hst : st = As.reverse ++ .ref b :: rest) (hW : (rest.map fun v => v.category).sum ≤ 8) (hLn : L.length = nL) (hz : rm2.cells = 0 ∧ rm2.slots = 0) (hk : k ≤ rm.cells) (hs : n ≤ rm.slots) (hq : pc + 3 = q)
    (kk : zG X k n (twI D A b F2 G2) q L rest) : zG X k n (twI D A b F G) pc L st := by
  subst hq
  refine z_V (T := TX4) (N := 27) (ci := ciX4) hX d hc (by rw [hy]; rfl) h1 h2 (by rw [hy]; exact h3) (by rw [hy]; exact h4) h5 hd hR hn hst hW hLn (by rw [hz.1]; exact hk) (by rw [hz.2]; exact hs) (fun H h => ⟨h, h.ob⟩) (fun E a => zT.no) (zPv.out ?_)
  rw [hz.1, hz.2]
  exact kk
theorem zt_VE1 {φ : zTF → zTG → Prop} (hX : zF D X RX4 cc nL ret hh rm A P Ex nm) (d : decode cc pc = .ok (.invokevirtual idx, 3)) (hc : zC D y cc2 nL2 ret2 none rm2 A (.ref b :: As) (twI D A b F G) (zPd r (twE D A b φ)) zNo)
    (h1 : Cond.methodLink RX4 idx y ∈ lw_all) (h2 : Cond.instanceMethod y ∈ lw_all) (h3 : Cond.selects RX4 y y ∈ lw_all) (h4 : Cond.initialized RX4 ∈ lw_all) (h5 : Cond.code y cc2 nL2 ret2 ∈ lw_all) (hy : y.cls = RX4)
    (hd : zArgN y na) (hR : zRoom rm rm2 nL2) (hn : As.length = na) (hst : st = As.reverse ++ .ref b :: rest) (hW : (rest.map fun v => v.category).sum ≤ 8) (hLn : L.length = nL) (hz : rm2.cells = 0 ∧ rm2.slots = 0) (hk : k ≤ rm.cells) (hs : n ≤ rm.slots) (hq : pc + 3 = q)
    (kk : ∀ F2 G2, φ F2 G2 → zG X k n (twI D A b F2 G2) q L (r :: rest)) : zG X k n (twI D A b F G) pc L st := by
  subst hq
  refine z_V (T := TX4) (N := 27) (ci := ciX4) hX d hc (by rw [hy]; rfl) h1 h2 (by rw [hy]; exact h3) (by rw [hy]; exact h4) h5 hd hR hn hst hW hLn (by rw [hz.1]; exact hk) (by rw [hz.2]; exact hs) (fun H h => ⟨h, h.ob⟩) (fun E a => zT.no) (zPd.out ?_)
  rw [hz.1, hz.2]
  exact zG.ex fun F2 => zG.ex fun G2 => zG.ax fun h => kk F2 G2 h
theorem zt_VE0 {φ : zTF → zTG → Prop} (hX : zF D X RX4 cc nL ret hh rm A P Ex nm) (d : decode cc pc = .ok (.invokevirtual idx, 3)) (hc : zC D y cc2 nL2 ret2 none rm2 A (.ref b :: As) (twI D A b F G) (zPv (twE D A b φ)) zNo)
    (h1 : Cond.methodLink RX4 idx y ∈ lw_all) (h2 : Cond.instanceMethod y ∈ lw_all) (h3 : Cond.selects RX4 y y ∈ lw_all) (h4 : Cond.initialized RX4 ∈ lw_all) (h5 : Cond.code y cc2 nL2 ret2 ∈ lw_all) (hy : y.cls = RX4)
    (hd : zArgN y na) (hR : zRoom rm rm2 nL2) (hn : As.length = na) (hst : st = As.reverse ++ .ref b :: rest) (hW : (rest.map fun v => v.category).sum ≤ 8) (hLn : L.length = nL) (hz : rm2.cells = 0 ∧ rm2.slots = 0) (hk : k ≤ rm.cells) (hs : n ≤ rm.slots) (hq : pc + 3 = q)
    (kk : ∀ F2 G2, φ F2 G2 → zG X k n (twI D A b F2 G2) q L (rest)) : zG X k n (twI D A b F G) pc L st := by
  subst hq
  refine z_V (T := TX4) (N := 27) (ci := ciX4) hX d hc (by rw [hy]; rfl) h1 h2 (by rw [hy]; exact h3) (by rw [hy]; exact h4) h5 hd hR hn hst hW hLn (by rw [hz.1]; exact hk) (by rw [hz.2]; exact hs) (fun H h => ⟨h, h.ob⟩) (fun E a => zT.no) (zPv.out ?_)
  rw [hz.1, hz.2]
  exact zG.ex fun F2 => zG.ex fun G2 => zG.ax fun h => kk F2 G2 h
theorem zt_S1 (hX : zF D X RX4 cc nL ret hh rm A P Ex nm) {I : Heap → Prop} (d : decode cc pc = .ok (.invokestatic idx, 3)) (hc : zC D y cc2 nL2 ret2 none rm2 A As I (zPd r I) zNo)
    (h1 : Cond.methodLink RX4 idx y ∈ lw_all) (h2 : Cond.static y ∈ lw_all) (h4 : Cond.initialized y.cls ∈ lw_all) (h5 : Cond.code y cc2 nL2 ret2 ∈ lw_all)
    (hd : zArgN y na) (hR : zRoom rm rm2 nL2) (hn : As.length = na) (hst : st = As.reverse ++ rest) (hW : (rest.map fun v => v.category).sum ≤ 8) (hLn : L.length = nL) (hz : rm2.cells = 0 ∧ rm2.slots = 0) (hk : k ≤ rm.cells) (hs : n ≤ rm.slots) (hq : pc + 3 = q)
    (kk : zG X k n I q L (r :: rest)) : zG X k n I pc L st := by
  subst hq
  refine z_S hX d hc h1 h2 h4 h5 hd hR hn hst hW hLn (by rw [hz.1]; exact hk) (by rw [hz.2]; exact hs) (fun H h => h) (fun E a => zT.no) (zPd.out ?_)
  rw [hz.1, hz.2]
  exact kk
end ZTCALL
end ZTR

