/-! ROWS OF THE LAW'S OWN BODY: its script, comparisons of longs and doubles that are the same, its words' bits -/
set_option maxRecDepth 100000
theorem lv_lcmpE {p : Program} {l : Launch} {e : Env} {R : Room} {s : State} {m : MethodId} {args : Array Value} {below : List Frame} {meth : Method} {c : Code} {H : Heap} {locs : List Loc} {cells slots : Nat} {Q : State → Prop} {cc : ByteArray} {pc : Nat} {ls : Array Slot} {rest : List Value} (hexec : p.tables.exec = Jvm.exec) (hb : c.code = cc) {x : Int64} (hdg : decode cc pc = .ok (.lcmp, 1))
    (k : W p l e R s m args below meth c H locs cells slots Q (F0 m (pc + 1) ls (.int 0 :: rest))) : W p l e R s m args below meth c H locs cells slots Q (F0 m pc ls (.long x :: .long x :: rest)) := by
  have hne : ¬ x > x := Int64.lt_irrefl
  intro T hT X
  obtain ⟨t, a, b⟩ := k T hT X
  refine ⟨t, ?_, b⟩
  jvm_step X.here [X.here.top, hexec, hb, hdg, hne, Op.lcmp.sem]
  exact a
section
variable {D : zD} {X : zX} {own : String} {cc : ByteArray} {nL : Nat} {ret : Option FieldType} {hh : zHh} {rm : Room} {A : Nat → Prop} {P : Option Value → Heap → Prop} {Ex : String → Nat → Heap → Prop} {nm : String} {k n pc q : Nat} {I : Heap → Prop} {L : List (Option Value)} {st : List Value}
/-- the law's script: whole numbers, outside what may be written -/
def zSc (X : zX) (sc Ln : Nat) (ys : Nat → Int) : Prop :=
  match X with
  | (_, _, _, _, s, _, _, _, _, _, _, A) => va_X sc Ln (fun j => Int32.ofInt (ys j)) s s.heap ∧ sc < s.heap.size ∧ ¬ A sc
theorem z_sld (hX : zF D X own cc nL ret hh rm A P Ex nm) {sc Ln : Nat} {ys : Nat → Int} {i : Int} (hs : zSc X sc Ln ys) (d : decode cc pc = .ok (.iaload, 1)) (hi : 0 ≤ i ∧ i < (Ln : Int)) (hN : Ln < 2147483648) (hq : pc + 1 = q) (kk : zG X k n I q L (zI (ys i.toNat) :: st)) : zG X k n I pc L (zI i :: .ref sc :: st) := by
  subst hq
  obtain ⟨p, l, e, R, s, m, args, below, meth, c, Q, A⟩ := X
  obtain ⟨hx, hb, hr2, hlocks, hml, hown, hts, rfl, rfl, rfl, htab, hK, hlt, hnm⟩ := hX
  obtain ⟨s1, s2, s3⟩ := hs
  intro H locs ls hI hS hL
  have hzr : zR i := ⟨by omega, by omega⟩
  refine va_sld hx hb s1 s2 s3 hS (zI_in hzr hi.1 hi.2) d ?_
  rw [zI_nat hzr]
  exact kk H locs ls hI hS hL
theorem z_slen (hX : zF D X own cc nL ret hh rm A P Ex nm) {sc Ln : Nat} {ys : Nat → Int} (hs : zSc X sc Ln ys) (d : decode cc pc = .ok (.arraylength, 1)) (hq : pc + 1 = q) (kk : zG X k n I q L (zI (Ln : Int) :: st)) : zG X k n I pc L (.ref sc :: st) := by
  subst hq
  obtain ⟨p, l, e, R, s, m, args, below, meth, c, Q, A⟩ := X
  obtain ⟨hx, hb, hr2, hlocks, hml, hown, hts, rfl, rfl, rfl, htab, hK, hlt, hnm⟩ := hX
  obtain ⟨s1, s2, s3⟩ := hs
  intro H locs ls hI hS hL
  refine va_slen hx hb s1 s2 s3 hS d ?_
  rw [zI_ofNat]
  exact kk H locs ls hI hS hL
theorem z_lcmpE (hX : zF D X own cc nL ret hh rm A P Ex nm) {x : Int64} (d : decode cc pc = .ok (.lcmp, 1)) (hq : pc + 1 = q) (kk : zG X k n I q L (zI 0 :: st)) : zG X k n I pc L (.long x :: .long x :: st) := by
  subst hq
  obtain ⟨p, l, e, R, s, m, args, below, meth, c, Q, A⟩ := X
  obtain ⟨hx, hb, hr2, hlocks, hml, hown, hts, rfl, rfl, rfl, htab, hK, hlt, hnm⟩ := hX
  intro H locs ls hI hS hL
  exact lv_lcmpE hx hb d (kk H locs ls hI hS hL)
theorem z_dcmp (hX : zF D X own cc nL ret hh rm A P Ex nm) {x y : UInt64} {op : CmpOp} {z : Int} (d : decode cc pc = .ok (.dcmp op, 1)) (hz : z = (Op.cmpValue (FP.dcmp x y) op).toInt) (hq : pc + 1 = q) (kk : zG X k n I q L (zI z :: st)) : zG X k n I pc L (.double y :: .double x :: st) := by
  subst hq
  subst hz
  obtain ⟨p, l, e, R, s, m, args, below, meth, c, Q, A⟩ := X
  obtain ⟨hx, hb, hr2, hlocks, hml, hown, hts, rfl, rfl, rfl, htab, hK, hlt, hnm⟩ := hX
  intro H locs ls hI hS hL
  refine lv_dcmp hx hb d ?_
  have e : zI (Op.cmpValue (FP.dcmp x y) op).toInt = .int (Op.cmpValue (FP.dcmp x y) op) := congrArg Value.int (Int32.ofInt_toInt _)
  rw [← e]
  exact kk H locs ls hI hS hL
end
theorem zI_toR (v : Int32) : zR v.toInt := ⟨Int32.minValue_le_toInt v, Int.lt_of_le_of_lt (Int32.toInt_le v) (by decide)⟩
theorem zI_bv {v : Int32} {x : BitVec 32} (h : v.toBitVec = x) : v = Int32.ofInt (x.toNat : Int) := by
  apply Int32.toBitVec_inj.mp
  rw [Int32.toBitVec_ofInt, BitVec.ofInt_natCast, BitVec.ofNat_toNat, BitVec.setWidth_eq, h]
theorem zI_and31 (a : Int) : ∃ c : Int, (0 ≤ c ∧ c ≤ 31) ∧ Int32.ofInt a &&& Int32.ofInt 31 = Int32.ofInt c := by
  refine ⟨(((Int32.ofInt a).toBitVec &&& (Int32.ofInt 31).toBitVec).toNat : Int), ⟨by omega, ?_⟩, zI_bv (Int32.toBitVec_and _ _)⟩
  have h : ((Int32.ofInt a).toBitVec &&& (Int32.ofInt 31).toBitVec).toNat ≤ 31 := by
    rw [BitVec.toNat_and]
    exact Nat.le_trans Nat.and_le_right (by decide)
  omega
theorem zI_c16 (a : Int) : ∃ c : Int, (0 ≤ c ∧ c < 65536) ∧ ((Int32.ofInt a).toUInt32 % 65536).toInt32 = Int32.ofInt c := by
  refine ⟨(((Int32.ofInt a).toUInt32 % 65536).toBitVec.toNat : Int), ⟨by omega, ?_⟩, zI_bv rfl⟩
  have h : ((Int32.ofInt a).toUInt32 % 65536).toBitVec.toNat < 65536 := by
    show ((Int32.ofInt a).toUInt32 % 65536).toNat < 65536
    rw [UInt32.toNat_mod]
    exact Nat.mod_lt _ (by decide)
  omega

