/-! MORE ROWS: shifts, references compared, arrays copied, an array's class -/
set_option maxRecDepth 100000
theorem zI_shr1 {a : Int} (h : 0 ≤ a) (h2 : a < 2147483648) : Int32.ofInt a >>> (Int32.ofInt 1 &&& 31) = Int32.ofInt (a / 2) := by
  apply Int32.toInt_inj.mp
  have e2 : (Int32.ofInt a >>> (Int32.ofInt 1 &&& 31)).toInt = (Int32.ofInt a).toInt >>> 1 := by
    show ((Int32.ofInt a).toBitVec.sshiftRight 1).toInt = _
    rw [BitVec.toInt_sshiftRight]
    rfl
  rw [e2, zI_toInt ⟨by omega, by omega⟩, zI_toInt ⟨by omega, by omega⟩, Int.shiftRight_eq_div_pow]
  rfl
theorem zI_shr0 (a : Int) : Int32.ofInt a >>> (Int32.ofInt 0 &&& 31) = Int32.ofInt a := by
  apply Int32.toInt_inj.mp
  show ((Int32.ofInt a).toBitVec.sshiftRight 0).toInt = _
  rw [BitVec.toInt_sshiftRight, Int.shiftRight_zero]
  rfl
theorem zI_shl0 (a : Int) : Int32.ofInt a <<< (Int32.ofInt 0 &&& 31) = Int32.ofInt a := by
  apply Int32.toBitVec_inj.mp
  show (Int32.ofInt a).toBitVec <<< (0 : Nat) = _
  simp
theorem zI_nn {z : Int} (h : 0 ≤ z) (h2 : z < 2147483648) : ¬ Int32.ofInt z < 0 := by
  have e := zI_lt (a := z) (b := 0) ⟨by omega, by omega⟩ (by decide)
  rw [show (0 : Int32) = Int32.ofInt 0 from rfl]
  rw [e]
  omega
/-- an array's cells are known if its reads are -/
theorem arrV_of {c : ClassId} {n : Nat} {f : Nat → Value} {cell : Cell} (hs : cell.slots.size = n) (hr : ∀ j, j < n → cell.slots[j]? = some (f j)) : ({ cls := c, slots := cell.slots } : Cell) = arrV c n f := by
  have e : cell.slots = (arrV c n f).slots := by
    apply Array.ext_getElem?
    intro i
    by_cases hi : i < n
    · rw [hr i hi, arrV_read _ _ hi]
    · rw [Array.getElem?_eq_none (by omega), Array.getElem?_eq_none (by rw [arrV_size]; omega)]
  rw [e]
  rfl
section ZCM
variable {D : zD} {X : zX} {own : String} {cc : ByteArray} {nL : Nat} {ret : Option FieldType} {hh : zHh} {rm : Room} {A : Nat → Prop} {P : Option Value → Heap → Prop} {Ex : String → Nat → Heap → Prop} {nm : String} {k n : Nat} {I : Heap → Prop} {pc q : Nat} {L : List (Option Value)} {st : List Value} {w mm : zMp} {a : Nat}
theorem z_ishr (hX : zF D X own cc nL ret hh rm A P Ex nm) {a b r : Int} (d : decode cc pc = .ok (.ishr, 1)) (hv : Int32.ofInt a >>> (Int32.ofInt b &&& 31) = Int32.ofInt r) (hq : pc + 1 = q) (kk : zG X k n I q L (zI r :: st)) : zG X k n I pc L (zI b :: zI a :: st) := by
  subst hq
  obtain ⟨p, l, e, R, s, m, args, below, meth, c, Q, A⟩ := X
  obtain ⟨hx, hb, hr2, hlocks, hml, hown, hts, rfl, rfl, rfl, htab, hK, hlt, hnm⟩ := hX
  intro H locs ls hI hS hL
  refine lv_ishr hx hb d ?_
  rw [hv]
  exact kk H locs ls hI hS hL
theorem z_acmp_eq (hX : zF D X own cc nL ret hh rm A P Ex nm) (rx ry : Option Nat) {off : Int} {t : Nat} (d : decode cc pc = .ok (.if_acmp .eq off, 3)) (ht : (pc : Int) + off = (t : Int)) (hq : pc + 3 = q) (kt : rx = ry → zG X k n I t L st) (kf : ¬ rx = ry → zG X k n I q L st) : zG X k n I pc L (va_rf ry :: va_rf rx :: st) := by
  subst hq
  obtain ⟨p, l, e, R, s, m, args, below, meth, c, Q, A⟩ := X
  obtain ⟨hx, hb, hr2, hlocks, hml, hown, hts, rfl, rfl, rfl, htab, hK, hlt, hnm⟩ := hX
  intro H locs ls hI hS hL
  exact lv_acmp_eq hx hb d ht (fun h => kt h H locs ls hI hS hL) (fun h => kf h H locs ls hI hS hL)
theorem z_acmp_ne (hX : zF D X own cc nL ret hh rm A P Ex nm) (rx ry : Option Nat) {off : Int} {t : Nat} (d : decode cc pc = .ok (.if_acmp .ne off, 3)) (ht : (pc : Int) + off = (t : Int)) (hq : pc + 3 = q) (kt : ¬ rx = ry → zG X k n I t L st) (kf : rx = ry → zG X k n I q L st) : zG X k n I pc L (va_rf ry :: va_rf rx :: st) := by
  subst hq
  obtain ⟨p, l, e, R, s, m, args, below, meth, c, Q, A⟩ := X
  obtain ⟨hx, hb, hr2, hlocks, hml, hown, hts, rfl, rfl, rfl, htab, hK, hlt, hnm⟩ := hX
  intro H locs ls hI hS hL
  exact lv_acmp_ne hx hb d ht (fun h => kt h H locs ls hI hS hL) (fun h => kf h H locs ls hI hS hL)
theorem z_ldc (hX : zF D X own cc nL ret hh rm A P Ex nm) {idx : Nat} {v : Int32} {z : Int} (d : decode cc pc = .ok (.ldc idx, 2)) (hl : Cond.constant own idx v ∈ lw_all) (hz : v = Int32.ofInt z) (hq : pc + 2 = q) (kk : zG X k n I q L (zI z :: st)) : zG X k n I pc L st := by
  subst hq
  subst hz
  obtain ⟨p, l, e, R, s, m, args, below, meth, c, Q, A⟩ := X
  obtain ⟨hx, hb, hr2, hlocks, hml, hown, hts, rfl, rfl, rfl, htab, hK, hlt, hnm⟩ := hX
  intro H locs ls hI hS hL
  exact lv_ldc hx hb hown (hts _ hl) d (kk H locs ls hI hS hL)
section ZC3
variable {y x : MethodName} {cc2 : ByteArray} {nL2 : Nat} {ret2 : Option FieldType} {h2 : List (Nat × Nat × Nat × Nat)} {rm2 : Room} {I2 : Heap → Prop} {P2 : Option Value → Heap → Prop} {Ex2 : String → Nat → Heap → Prop} {As rest : List Value} {b ci idx na : Nat} {T : u_T} {N : Nat}
/-- a method named in a class above, declared there with code of its own -/
theorem z_VUd (hX : zF D X own cc nL ret hh rm A P Ex nm) {C : String} {cc3 : ByteArray} {nL3 : Nat} {ret3 : Option FieldType} (d : decode cc pc = .ok (.invokevirtual idx, 3)) (hc : zC D y cc2 nL2 ret2 none rm2 A (.ref b :: As) I2 P2 Ex2)
    (hci : zCl[ci]? = some (C, T, N)) (h1 : Cond.methodLink own idx x ∈ lw_all) (hsm : Cond.sameMethod x.cls x.cls x.name x.desc ∈ lw_all) (h3 : Cond.selects C x y ∈ lw_all) (h7 : Cond.instanceMethod x ∈ lw_all) (h8 : Cond.code x cc3 nL3 ret3 ∈ lw_all) (h4 : Cond.instanceMethod y ∈ lw_all) (h5 : Cond.initialized y.cls ∈ lw_all) (h6 : Cond.code y cc2 nL2 ret2 ∈ lw_all)
    (hd : x.cls ≠ "java/lang/invoke/MethodHandle" ∧ x.cls ≠ "java/lang/invoke/VarHandle" ∧ (parseMethodDescriptor x.desc).map (fun d => d.parameters.length) = some na) (hR : zRoom rm rm2 nL2) (hn : As.length = na) (hst : st = As.reverse ++ .ref b :: rest) (hW : (rest.map fun v => v.category).sum ≤ 8) (hLn : L.length = nL) (hk : k + rm2.cells ≤ rm.cells) (hs : n + rm2.slots ≤ rm.slots)
    (hI : ∀ H, I H → I2 H ∧ zOb D ci b H)
    (kx : ∀ E a, zT X (k + rm2.cells) (n + rm2.slots) (fun H => Ex2 E a H) pc L E a) (kk : ∀ v, zG X (k + rm2.cells) (n + rm2.slots) (fun H => P2 v H) (pc + 3) L (v.toList ++ rest)) : zG X k n I pc L st := by
  refine z_ofRun (a := (.ref b :: As).toArray) (rest := rest) hX ?_ kx kk
  obtain ⟨p, l, e, R, s, m, args, below, meth, c, Q, A⟩ := X
  obtain ⟨hx, hb, hr, hlocks, hml, hown, hts, rfl, rfl, rfl, htab, hK, hlt, hnm⟩ := hX
  intro H locs ls hI0 hS hL
  have hcw : va_CU R s args own C x.cls idx x y cc2 nL2 ret2 (ws_ y cc2 nL2 ret2) rm2 rm2.cells rm2.slots na := by
    refine ⟨⟨rfl, rfl, hR.1, hR.2, pay_in hts (lw_meth h6), List.mem_cons_self⟩, hts _ h6, hts _ h5, ⟨hd.1, hd.2.1⟩, fun sig h => ?_, hts _ h1, hts _ hsm, va_Decl.of (hts _ h7) (hts _ h8), hts _ h3, hts _ h4⟩
    have h2 := hd.2.2
    rw [h] at h2
    exact (Option.some.inj h2).symm
  exact vx_runU ⟨hx, hb, hml, hown, hts⟩ (hc l hlt) hcw ⟨zC_blind, (hI H hI0).2.cl hK.1 hci, fun U hU hW => ⟨rfl, by rw [hU]; exact (hI H hI0).1, by rw [hU]; exact hK.step hW hS⟩⟩ rfl hn (hL.1.trans hLn) hst (lv_room hW) d ⟨hk, hs⟩
end ZC3
/-- references copied from an array to one of m -/
theorem zc_copyQ (hX : zF D X own cc nL ret hh rm A P Ex nm) (t0 t1 : Nat) {idx : Nat} {E0 E1 : String} {a0 n0 n1 : Nat} {f g : Nat → Option Nat} {sp dp z : Int} (ht0 : (zTys D)[t0]? = some (D.2.1 t0, .object E0)) (ht1 : (zTys D)[t1]? = some (D.2.1 t1, .object E1)) (d : decode cc pc = .ok (.invokestatic idx, 3)) (h1 : Cond.methodLink own idx arraycopyName ∈ lw_all) (h2 : Cond.native arraycopyName ∈ lw_all) (h3 : Cond.static arraycopyName ∈ lw_all) (h4 : Cond.initialized "java/lang/System" ∈ lw_all) (hm : mm a = some (eC (aQ D t1 n1 g))) (hr : ∀ H, cI D A w mm H → zRa D t0 a0 n0 (fun j => va_rf (f j)) H) (hel : ∀ H, cI D A w mm H → ∀ i : Nat, i < z.toNat → ∀ y : Nat, f (sp.toNat + i) = some y → ∃ ci, zAsg ci E1 = true ∧ zOb D ci y H) (hs : 0 ≤ sp ∧ 0 ≤ dp ∧ 0 ≤ z ∧ sp + z ≤ (n0 : Int) ∧ dp + z ≤ (n1 : Int)) (hN : n0 ≤ 100000 ∧ n1 ≤ 100000) (hRf : 1 ≤ rm.frames) (hRl : 8 + (nativeFrameWords "java/lang/System" "arraycopy" 5 + 11) ≤ rm.locals) (hW : (st.map fun v => v.category).sum ≤ 8) (hLn : L.length = nL) (hq : pc + 3 = q)
    (kk : zG X k n (cI D A w (upm mm a (eC (aQ D t1 n1 (va_cpy f g sp.toNat dp.toNat z.toNat))))) q L st) : zG X k n (cI D A w mm) pc L (zI z :: zI dp :: .ref a :: zI sp :: .ref a0 :: st) := by
  subst hq
  obtain ⟨p, l, e, R, s, m, args, below, meth, c, Q, A⟩ := X
  obtain ⟨hx, hb, hr2, hlocks, hml, hown, hts, rfl, rfl, rfl, htab, hK, hlt, hnm⟩ := hX
  intro H locs ls hI hS hL T hT XX
  obtain ⟨s1, s2, s3, s4, s5⟩ := hs
  have r1 : zR sp := ⟨by omega, by omega⟩
  have r2 : zR dp := ⟨by omega, by omega⟩
  have r3 : zR z := ⟨by omega, by omega⟩
  obtain ⟨cs, hc0, hcls, hvs, hvu, ⟨hsz, -⟩, hrd⟩ := hr H hI
  have hc1 : H[a]? = some (vp_cell (D.2.1 t1) (n1, .inr (.inr (.inr (.inr g))))) := hI.at (Or.inr hm)
  obtain ⟨-, k0, hk0, cm0, hkk0⟩ := (hK.k1.2 t0 _ ht0).1 n0 (fun j => va_rf (f j))
  obtain ⟨-, k1, hk1, cm1, hkk1⟩ := (hK.k1.2 t1 _ ht1).1 n1 (fun j => va_rf (g j))
  have nz := zI_nat r3
  have ns := zI_nat r1
  have nd := zI_nat r2
  obtain ⟨vm', X', step⟩ := XX.arraycopy hx hown (hts _ h1) (hts _ h2) (hts _ h3) (hts _ h4) (src := a0) (dst := a) (cs := cs) (cd := vp_cell (D.2.1 t1) (n1, .inr (.inr (.inr (.inr g))))) (srcPos := Int32.ofInt sp) (destPos := Int32.ofInt dp) (n := Int32.ofInt z) (by rw [hT]; exact hc0) (by rw [hT]; exact hc1)
    hvs (fun _ h => by cases h) hvu (fun h => by cases h) (by rw [hcls]; exact hk0) hk1 hkk0 hkk1 rfl (zI_nn s1 (by omega)) (zI_nn s2 (by omega)) (zI_nn s3 (by omega))
    (by rw [zI_toInt r1, zI_toInt r3]; omega)
    (by rw [zI_toInt r2, zI_toInt r3]; show ¬ _ > ((arrV _ n1 (fun j => va_rf (g j))).slots.size : Int); rw [arrV_size]; omega)
    (fun vm₁ hal i hi => by
      rw [nz] at hi
      have e : cs.slots.getD ((Int32.ofInt sp).toNatClampNeg + i) .null = va_rf (f (sp.toNat + i)) := by
        rw [ns, Array.getD_eq_getD_getElem?, hrd _ (by omega)]
        rfl
      rw [e]
      cases hy : f (sp.toNat + i) with
      | none => exact ⟨rfl, trivial⟩
      | some y =>
        obtain ⟨ci, ha, ho⟩ := hel H hI i hi y hy
        obtain ⟨cellV, g1, g2, ⟨kC, hkC⟩, hasg⟩ := zAsg.any hK.1 ha ho
        obtain ⟨kA, comp, q1, q2, q3, -⟩ := (hK.k1.2 t1 _ ht1).2
        cases hk1.symm.trans q1
        cases hkk1.symm.trans q2
        obtain ⟨kE, hkE, -⟩ := Vm.findClass_spec q3
        obtain ⟨kC', hkC', -⟩ := hal.2.2 _ _ hkC
        obtain ⟨kE', hkE', -⟩ := hal.2.2 _ _ hkE
        refine ⟨rfl, cellV, (show T.heap[y]? = some cellV by rw [hT]; exact g1), (fun q h => by rw [h] at g2; cases g2), ⟨kC', hkC'⟩, ?_, ?_⟩
        · exact ⟨kE', hkE'⟩
        · show vm₁.assignable _ _ = true
          rw [hal.assignable]
          exact hasg _ q3)
    (g := F0 m pc ls (zI z :: zI dp :: .ref a :: zI sp :: .ref a0 :: st)) rfl (hL.1.trans (hLn.trans hml.symm)) (rest := st) rfl (by rw [hb]; exact d) hRf (by show 2 * 0 + _ + _ ≤ _; omega)
  have e1 : copied cs (vp_cell (D.2.1 t1) (n1, .inr (.inr (.inr (.inr g))))) (Int32.ofInt sp) (Int32.ofInt dp) (Int32.ofInt z) = vp_cell (D.2.1 t1) (n1, .inr (.inr (.inr (.inr (va_cpy f g sp.toNat dp.toNat z.toNat))))) := by
    rw [vp_cell_q, vp_cell_q]
    show (arrV _ n1 (fun j => va_rf (g j))).storeRun _ (cs.stretch _ _) = _
    rw [nz, ns, nd]
    exact va_copiedX (fun z => va_rf z) cs (D.2.1 t1) f g hrd (by omega)
  rw [e1] at X' step
  have hl : a < H.size := (Array.getElem?_eq_some_iff.mp hc1).1
  have hheap : ((T.setVm vm').setCell a (vp_cell (D.2.1 t1) (n1, .inr (.inr (.inr (.inr (va_cpy f g sp.toNat dp.toNat z.toNat))))))).heap = H.setIfInBounds a (vp_cell (D.2.1 t1) (n1, .inr (.inr (.inr (.inr (va_cpy f g sp.toNat dp.toNat z.toNat)))))) := by rw [← hT]; rfl
  have oq : ∀ q : Nat, q ≠ a → (H.setIfInBounds a (vp_cell (D.2.1 t1) (n1, .inr (.inr (.inr (.inr (va_cpy f g sp.toNat dp.toNat z.toNat)))))))[q]? = H[q]? := fun q hq => by simp [Array.getElem?_setIfInBounds, Ne.symm hq]
  obtain ⟨t, b1, b2⟩ := kk _ _ ls (hI.put hm (show (H.setIfInBounds a _)[a]? = some (vp_cell _ _) by simp [Array.getElem?_setIfInBounds, hl]) (by simp) oq) ⟨by simp; exact hS.1, fun q g1 g2 => by
      rw [oq q (fun e => g2 (by rw [e]; exact hI.own hm))]
      exact hS.2.1 q g1 g2, fun q hq => by
      rcases List.mem_append.mp hq with h | h
      · exact hS.2.2 q h
      · obtain ⟨z, -, hz⟩ := List.mem_map.mp h
        rw [← hz]
        exact hI.own hm⟩ hL _ hheap X'
  exact ⟨t, step t b1, b2⟩
/-- .. bytes -/
theorem zc_copyB (hX : zF D X own cc nL ret hh rm A P Ex nm) {K : Heap → Prop} {idx : Nat} {a0 n0 n1 : Nat} {f g : Nat → Int32} {sp dp z : Int} (d : decode cc pc = .ok (.invokestatic idx, 3)) (h1 : Cond.methodLink own idx arraycopyName ∈ lw_all) (h2 : Cond.native arraycopyName ∈ lw_all) (h3 : Cond.static arraycopyName ∈ lw_all) (h4 : Cond.initialized "java/lang/System" ∈ lw_all) (hm : mm a = some (eC (aN D 2 n1 g))) (hr : ∀ H, K H → zRa D 2 a0 n0 (fun j => .int (f j)) H) (hf : ∀ j, j < n0 → fits .byte (.int (f j)) = true) (hs : 0 ≤ sp ∧ 0 ≤ dp ∧ 0 ≤ z ∧ sp + z ≤ (n0 : Int) ∧ dp + z ≤ (n1 : Int)) (hN : n0 ≤ 100000 ∧ n1 ≤ 100000) (hRf : 1 ≤ rm.frames) (hRl : 8 + (nativeFrameWords "java/lang/System" "arraycopy" 5 + 11) ≤ rm.locals) (hW : (st.map fun v => v.category).sum ≤ 8) (hLn : L.length = nL) (hq : pc + 3 = q)
    (kk : zG X k n (cI D A w (upm mm a (eC (aN D 2 n1 (va_cpy f g sp.toNat dp.toNat z.toNat))))) q L st) : zG X k n (fun H => K H ∧ cI D A w mm H) pc L (zI z :: zI dp :: .ref a :: zI sp :: .ref a0 :: st) := by
  subst hq
  obtain ⟨p, l, e, R, s, m, args, below, meth, c, Q, A⟩ := X
  obtain ⟨hx, hb, hr2, hlocks, hml, hown, hts, rfl, rfl, rfl, htab, hK, hlt, hnm⟩ := hX
  intro H locs ls hI0 hS hL T hT XX
  obtain ⟨hK0, hI⟩ := hI0
  obtain ⟨s1, s2, s3, s4, s5⟩ := hs
  have r1 : zR sp := ⟨by omega, by omega⟩
  have r2 : zR dp := ⟨by omega, by omega⟩
  have r3 : zR z := ⟨by omega, by omega⟩
  obtain ⟨cs, hc0, hcls, hvs, hvu, ⟨hsz, -⟩, hrd⟩ := hr H hK0
  have hc1 : H[a]? = some (vp_cell (D.2.1 2) (n1, .inl g)) := hI.at (Or.inr hm)
  obtain ⟨-, k0, hk0, cm0, hkk0⟩ := (hK.k1.2 2 (D.2.1 2, .byte) rfl).1 n0 (fun j => .int (f j))
  have nz := zI_nat r3
  have ns := zI_nat r1
  have nd := zI_nat r2
  obtain ⟨vm', X', step⟩ := XX.arraycopy hx hown (hts _ h1) (hts _ h2) (hts _ h3) (hts _ h4) (src := a0) (dst := a) (cs := cs) (cd := vp_cell (D.2.1 2) (n1, .inl g)) (srcPos := Int32.ofInt sp) (destPos := Int32.ofInt dp) (n := Int32.ofInt z) (by rw [hT]; exact hc0) (by rw [hT]; exact hc1)
    hvs (fun _ h => by cases h) hvu (fun h => by cases h) (by rw [hcls]; exact hk0) hk0 hkk0 hkk0 (by simp [refKind]) (zI_nn s1 (by omega)) (zI_nn s2 (by omega)) (zI_nn s3 (by omega))
    (by rw [zI_toInt r1, zI_toInt r3]; omega)
    (by rw [zI_toInt r2, zI_toInt r3]; show ¬ _ > ((arrV _ n1 (fun j => .int (g j))).slots.size : Int); rw [arrV_size]; omega)
    (fun vm₁ hal i hi => by
      rw [nz] at hi
      have e : cs.slots.getD ((Int32.ofInt sp).toNatClampNeg + i) .null = .int (f (sp.toNat + i)) := by
        rw [ns, Array.getD_eq_getD_getElem?, hrd _ (by omega)]
        rfl
      rw [e]
      exact ⟨hf _ (by omega), trivial⟩)
    (g := F0 m pc ls (zI z :: zI dp :: .ref a :: zI sp :: .ref a0 :: st)) rfl (hL.1.trans (hLn.trans hml.symm)) (rest := st) rfl (by rw [hb]; exact d) hRf (by show 2 * 0 + _ + _ ≤ _; omega)
  have e1 : copied cs (vp_cell (D.2.1 2) (n1, .inl g)) (Int32.ofInt sp) (Int32.ofInt dp) (Int32.ofInt z) = vp_cell (D.2.1 2) (n1, .inl (va_cpy f g sp.toNat dp.toNat z.toNat)) := by
    rw [vp_cell_i, vp_cell_i]
    show (arrV _ n1 (fun j => .int (g j))).storeRun _ (cs.stretch _ _) = _
    rw [nz, ns, nd]
    exact va_copiedX (fun z => .int z) cs (D.2.1 2) f g hrd (by omega)
  rw [e1] at X' step
  have hl : a < H.size := (Array.getElem?_eq_some_iff.mp hc1).1
  have hheap : ((T.setVm vm').setCell a (vp_cell (D.2.1 2) (n1, .inl (va_cpy f g sp.toNat dp.toNat z.toNat)))).heap = H.setIfInBounds a (vp_cell (D.2.1 2) (n1, .inl (va_cpy f g sp.toNat dp.toNat z.toNat))) := by rw [← hT]; rfl
  have oq : ∀ q : Nat, q ≠ a → (H.setIfInBounds a (vp_cell (D.2.1 2) (n1, .inl (va_cpy f g sp.toNat dp.toNat z.toNat))))[q]? = H[q]? := fun q hq => by simp [Array.getElem?_setIfInBounds, Ne.symm hq]
  obtain ⟨t, b1, b2⟩ := kk _ _ ls (hI.put hm (show (H.setIfInBounds a _)[a]? = some (vp_cell _ _) by simp [Array.getElem?_setIfInBounds, hl]) (by simp) oq) ⟨by simp; exact hS.1, fun q g1 g2 => by
      rw [oq q (fun e => g2 (by rw [e]; exact hI.own hm))]
      exact hS.2.1 q g1 g2, fun q hq => by
      rcases List.mem_append.mp hq with h | h
      · exact hS.2.2 q h
      · obtain ⟨z, -, hz⟩ := List.mem_map.mp h
        rw [← hz]
        exact hI.own hm⟩ hL _ hheap X'
  exact ⟨t, step t b1, b2⟩
/-- x.getClass(), x an Object[] -/
theorem z_getC (hX : zF D X own cc nL ret hh rm A P Ex nm) {idx : Nat} {N : Nat} {f : Nat → Value} (d : decode cc pc = .ok (.invokevirtual idx, 3)) (h1 : Cond.methodLink own idx ⟨"java/lang/Object", "getClass", "()Ljava/lang/Class;"⟩ ∈ lw_all) (h2 : (⟨"java/lang/Object", "getClass", "()Ljava/lang/Class;"⟩ : MethodName) ∈ zDs ∨ Cond.declares ⟨"java/lang/Object", "getClass", "()Ljava/lang/Class;"⟩ ∈ lw_all) (h3 : Cond.selects "[Ljava/lang/Object;" ⟨"java/lang/Object", "getClass", "()Ljava/lang/Class;"⟩ ⟨"java/lang/Object", "getClass", "()Ljava/lang/Class;"⟩ ∈ lw_all) (h4 : Cond.instanceMethod ⟨"java/lang/Object", "getClass", "()Ljava/lang/Class;"⟩ ∈ lw_all) (h5 : Cond.native ⟨"java/lang/Object", "getClass", "()Ljava/lang/Class;"⟩ ∈ lw_all) (hr : ∀ H, I H → zRa D 5 a N f H) (hRf : 1 ≤ rm.frames) (hRl : 8 + 14 ≤ rm.locals) (hW : (st.map fun v => v.category).sum ≤ 8) (hLn : L.length = nL) (hq : pc + 3 = q) (kk : zG X k n I q L (.ref (zMi D) :: st)) : zG X k n I pc L (.ref a :: st) := by
  subst hq
  obtain ⟨p, l, e, R, s, m, args, below, meth, c, Q, A⟩ := X
  obtain ⟨hx, hb, hr2, hlocks, hml, hown, hts, rfl, rfl, rfl, htab, hK, hlt, hnm⟩ := hX
  intro H locs ls hI hS hL
  obtain ⟨cell, c1, c2, c3, -⟩ := hr H hI
  obtain ⟨kA2, comp2, k1, k2, k3, k4⟩ := (hK.k1.2 5 (D.2.1 5, .object "java/lang/Object") rfl).2
  refine va_getC hx hb (hml.trans (hLn.symm.trans hL.1.symm)) hown (hts _ h1) ?_ (hts _ h3) (hts _ h4) (hts _ h5) hK.1.2.2.2.2.2.2.2.2.2.1 ⟨cell, c1, ?_, by rw [c2]; exact k4⟩ hRf (by omega) d (kk H locs ls hI hS hL)
  · rcases h2 with h2 | h2
    · exact va_Nw.use rfl (hK.1.2.2.2.2.2.1 _ h2)
    · exact hts _ h2
  · cases hv : cell.vm with
    | statics q => exact absurd hv (c3 q)
    | _ => rfl
/-- x.clone(), x a byte[] -/
theorem zc_cloneB (hX : zF D X own cc nL ret hh rm A P Ex nm) {K : Heap → Prop} {idx : Nat} {N : Nat} {f : Nat → Int32} (d : decode cc pc = .ok (.invokevirtual idx, 3)) (h1 : Cond.methodLink own idx ⟨"[B", "clone", "()Ljava/lang/Object;"⟩ ∈ lw_all) (h2 : Cond.sameMethod "[B" "java/lang/Object" "clone" "()Ljava/lang/Object;" ∈ lw_all) (h3 : Cond.native ⟨"java/lang/Object", "clone", "()Ljava/lang/Object;"⟩ ∈ lw_all) (h4 : Cond.instanceMethod ⟨"java/lang/Object", "clone", "()Ljava/lang/Object;"⟩ ∈ lw_all) (h5 : Cond.selects "[B" ⟨"[B", "clone", "()Ljava/lang/Object;"⟩ ⟨"java/lang/Object", "clone", "()Ljava/lang/Object;"⟩ ∈ lw_all) (h6 : (("[B", "java/lang/Cloneable") : String × String) ∈ zCs) (hr : ∀ H, K H → zRa D 2 a N (fun j => .int (f j)) H) (hrx : ∀ H, K H → zRx a N H) (hf : ∀ j, j < N → fits .byte (.int (f j)) = true) (hRf : 1 ≤ rm.frames) (hRl : 8 + 14 ≤ rm.locals) (hk : k + 1 ≤ rm.cells) (hs : n + N ≤ rm.slots) (hW : (st.map fun v => v.category).sum ≤ 8) (hLn : L.length = nL) (hq : pc + 3 = q) (kk : ∀ b, w b = none → mm b = none → zG X (k + 1) (n + N) (cI D A w (upm mm b (eC (aN D 2 N f)))) q L (.ref b :: st)) : zG X k n (fun H => K H ∧ cI D A w mm H) pc L (.ref a :: st) := by
  subst hq
  obtain ⟨p, l, e, R, s, m, args, below, meth, c, Q, A⟩ := X
  obtain ⟨hx, hb, hr2, hlocks, hml, hown, hts, rfl, rfl, rfl, htab, hK, hlt, hnm⟩ := hX
  intro H locs ls hI0 hS hL T hT XX
  obtain ⟨hK0, hI⟩ := hI0
  obtain ⟨cell, c1, c2, c3, c4, -, c6⟩ := hr H hK0
  obtain ⟨cell9, x1, c5⟩ := hrx H hK0
  cases c1.symm.trans x1
  have hnmB : s.vm.findClass "[B" = some (D.2.1 2) := (hK.k1.2 2 (D.2.1 2, .byte) rfl).2
  obtain ⟨c0, t0', f1, f2, f3⟩ := Cond.castable_spec (va_Nw.use (A := args) rfl (hK.1.2.2.2.1 _ h6))
  cases hnmB.symm.trans f1
  obtain ⟨-, kA, hkA, comp, hkind⟩ := State.isArrayOf_alike XX.warmed.alike ((hK.k1.2 2 (D.2.1 2, .byte) rfl).1 0 (fun _ => .null))
  obtain ⟨-, kS, hkS, compS, hkindS⟩ := (hK.k1.2 2 (D.2.1 2, .byte) rfl).1 0 (fun _ => .null)
  obtain ⟨vm', X', st0⟩ := XX.cloneArray hx hown (hts _ h1) (hts _ h2) (hts _ h3) (hts _ h4) (hts _ h5) (a := a) (cell := cell) (by rw [hT]; exact c1) c3 c4 (by rw [c2]; exact hnmB) f2 (by rw [c2]; exact f3)
    (fun i v hv => by
      have hi : i < N := by
        rw [← c5]
        exact (Array.getElem?_eq_some_iff.mp hv).1
      cases (c6 i hi).symm.trans hv
      rw [c2]
      have hk' : T.vm.classes[D.2.1 2]? = some kA := hkA
      simpa [State.fitsSlot, State.slotType?, hk', hkind] using hf i hi)
    (g := F0 m pc ls (.ref a :: st)) rfl (hL.1.trans (hLn.trans hml.symm)) rfl (by rw [hb]; exact d) hRf (by show 2 * 0 + _ + 14 ≤ _; omega) hk (by rw [c5]; exact hs) (hloader := by rw [c2]; exact Vm.clonesLoader_of_array hkS hkindS)
  rw [arrV_of (c := cell.cls) c5 c6, c2, c5] at X'
  generalize hH1 : H.push (arrV (D.2.1 2) N (fun j => .int (f j))) = H1
  have z1 : H1.size = H.size + 1 := by rw [← hH1, Array.size_push]
  have e1 : H1[H.size]? = some (arrV (D.2.1 2) N (fun j => .int (f j))) := by rw [← hH1, Array.getElem?_push_size]
  have o1 : ∀ q : Nat, q < H.size → H1[q]? = H[q]? := fun q hq => by rw [← hH1, Array.getElem?_push, if_neg (Nat.ne_of_lt hq)]
  obtain ⟨hwn, hmn, hI1⟩ := hI.new (e := aN D 2 N f) (by show H1[H.size]? = some (vp_cell _ _); rw [vp_cell_i]; exact e1) z1 o1
  obtain ⟨t, b1, b2⟩ := kk H.size hwn hmn H1 locs ls hI1 ⟨Nat.le_trans hS.1 (by omega), fun x h1 h2 => (o1 x (Nat.lt_of_lt_of_le h1 hS.1)).trans (hS.2.1 x h1 h2), hS.2.2⟩ hL _ (by rw [← hH1, ← hT]; rfl) X'
  refine ⟨t, st0 t ?_, b2⟩
  rw [arrV_of (c := cell.cls) c5 c6, c2, hT]
  exact b1
theorem zc_newaNK (hX : zF D X own cc nL ret hh rm A P Ex nm) {K : Heap → Prop} (hKk : ∀ H H1, K H → (∀ q : Nat, q < H.size → H1[q]? = H[q]?) → K H1) (t : Nat) {at_ : ArrayType} {ty : FieldType} {z : Int} (hat : newarray.typeOf at_ = ty) (ht : (zTys D)[t]? = some (D.2.1 t, ty)) (hpr : va_RA = va_RA → ∀ (s : State) (cA : ClassId), va_RA s cA ty → s.vm.findClass ("[" ++ ty.toString) = some cA) (hdv : defaultValue ty = .int 0) (d : decode cc pc = .ok (.newarray at_, 2)) (ha : Cond.arrayClass ty ∈ lw_all) (hz : 0 ≤ z ∧ z ≤ 100000) (hby : componentBytes ty ≤ 8) (hk : k + 1 ≤ rm.cells) (hs : n + z.toNat ≤ rm.slots) (hq : pc + 2 = q) (kk : ∀ b, w b = none → mm b = none → zG X (k + 1) (n + z.toNat) (fun H => K H ∧ cI D A w (upm mm b (eC (aN D t z.toNat (fun _ => 0)))) H) q L (.ref b :: st)) : zG X k n (fun H => K H ∧ cI D A w mm H) pc L (zI z :: st) := by
  subst hq
  obtain ⟨p, l, e, R, s, m, args, below, meth, c, Q, A⟩ := X
  obtain ⟨hx, hb, hr2, hlocks, hml, hown, hts, rfl, rfl, rfl, htab, hK, hlt, hnm⟩ := hX
  intro H locs ls hI0 hS hL
  obtain ⟨hK0, hI⟩ := hI0
  have hzr : zR z := ⟨by omega, by omega⟩
  subst hat
  have hmul : z.toNat * componentBytes (newarray.typeOf at_) ≤ 100000 * 8 := Nat.mul_le_mul (by omega) hby
  refine va_newaK hx hb (hts _ ha) (g := F0 m pc ls (zI z :: st)) rfl d rfl (by rw [show (0 : Int32) = Int32.ofInt 0 from rfl, zI_lt hzr (by decide)]; omega) (zI_nat hzr) (by omega) hk hs rfl fun H1 cA e1 z1 o1 hAr hNm => ?_
  have hcA : cA = D.2.1 t := Option.some.inj (hNm.symm.trans (hpr rfl s _ (hK.k1.2 t _ ht).2))
  subst hcA
  rw [hdv] at e1
  obtain ⟨hwn, hmn, hI1⟩ := hI.new (e := aN D t z.toNat (fun _ => 0)) (by show H1[H.size]? = some (vp_cell _ _); rw [vp_cell_i]; exact e1) z1 o1
  exact kk H.size hwn hmn H1 locs ls ⟨hKk _ _ hK0 o1, hI1⟩ ⟨Nat.le_trans hS.1 (by omega), fun x h1 h2 => (o1 x (Nat.lt_of_lt_of_le h1 hS.1)).trans (hS.2.1 x h1 h2), hS.2.2⟩ hL
theorem zc_newK (hX : zF D X own cc nL ret hh rm A P Ex nm) {K : Heap → Prop} (hKk : ∀ H H1, K H → (∀ q : Nat, q < H.size → H1[q]? = H[q]?) → K H1) (ci : Nat) {idx n9 : Nat} {C : String} {T : u_T} {N : Nat} {fs : List Value} {tyf : Nat → FieldType} (hc : zCl[ci]? = some (C, T, N)) (hw : ∀ w ∈ u_ws C T N, w ∈ lw_all) (hty : ∀ k, k < N → parseFieldDescriptor (T k).2.2.1 = some (tyf k)) (d : decode cc pc = .ok (.new idx, 3)) (hl : Cond.classLink own idx C ∈ lw_all) (hi : Cond.instantiable C n9 ∈ lw_all) (hini : Cond.initialized C ∈ lw_all) (hfs : ∀ j, j < N → defaultValue (tyf j) = vp_V fs j) (hk : k + 1 ≤ rm.cells) (hs : n + n9 ≤ rm.slots) (hq : pc + 3 = q) (kk : ∀ b, w b = none → mm b = none → zG X (k + 1) (n + n9) (fun H => K H ∧ cI D A w (upm mm b (eO ci fs)) H) q L (.ref b :: st)) : zG X k n (fun H => K H ∧ cI D A w mm H) pc L st := by
  subst hq
  obtain ⟨p, l, e, R, s, m, args, below, meth, c, Q, A⟩ := X
  obtain ⟨hx, hb, hr2, hlocks, hml, hown, hts, rfl, rfl, rfl, htab, hK, hlt, hnm⟩ := hX
  intro H locs ls hI0 hS hL
  obtain ⟨hK0, hI⟩ := hI0
  have hKn := hK.k1.1 ci _ hc
  refine W.newcK hx hb hown (hts _ hl) (hts _ hi) (hts _ hini) rfl d hk hs hKn.2.1 rfl fun H1 kC hkC e1 z1 o1 => ?_
  obtain ⟨cell, g1, g2, g3, g4⟩ := (u_born tyf hts hw hKn hkC e1 hty).to hfs
  have hce : cell = blank (D.1.1 ci) kC := Option.some.inj (g1.symm.trans e1)
  obtain ⟨hwn, hmn, hI1⟩ := hI.new (e := .inr (ci, fs)) ⟨_, cell, hc, g1, g2, g3, by rw [hce]; exact ⟨rfl, rfl⟩, g4⟩ z1 o1
  exact kk H.size hwn hmn H1 locs ls ⟨hKk _ _ hK0 o1, hI1⟩ ⟨Nat.le_trans hS.1 (by omega), fun x h1 h2 => (o1 x (Nat.lt_of_lt_of_le h1 hS.1)).trans (hS.2.1 x h1 h2), hS.2.2⟩ hL
theorem z_iushr (hX : zF D X own cc nL ret hh rm A P Ex nm) {a b r : Int} (d : decode cc pc = .ok (.iushr, 1)) (hv : ((Int32.ofInt a).toUInt32 >>> ((Int32.ofInt b).toUInt32 &&& Int32.toUInt32 31)).toInt32 = Int32.ofInt r) (hq : pc + 1 = q) (kk : zG X k n I q L (zI r :: st)) : zG X k n I pc L (zI b :: zI a :: st) := by
  subst hq
  obtain ⟨p, l, e, R, s, m, args, below, meth, c, Q, A⟩ := X
  obtain ⟨hx, hb, hr2, hlocks, hml, hown, hts, rfl, rfl, rfl, htab, hK, hlt, hnm⟩ := hX
  intro H locs ls hI hS hL
  exact lv_iushr hx hb d hv (kk H locs ls hI hS hL)
theorem zr_castB (hX : zF D X own cc nL ret hh rm A P Ex nm) {idx N : Nat} {f : Nat → Value} (d : decode cc pc = .ok (.checkcast idx, 3)) (hl : Cond.classLink own idx "[B" ∈ lw_all) (hr : ∀ H, I H → zRa D 2 a N f H) (hq : pc + 3 = q) (kk : zG X k n I q L (.ref a :: st)) : zG X k n I pc L (.ref a :: st) := by
  subst hq
  obtain ⟨p, l, e, R, s, m, args, below, meth, c, Q, A⟩ := X
  obtain ⟨hx, hb, hr2, hlocks, hml, hown, hts, rfl, rfl, rfl, htab, hK, hlt, hnm⟩ := hX
  intro H locs ls hI hS hL
  obtain ⟨cell, c1, c2, c3, -⟩ := hr H hI
  have hnmB : s.vm.findClass "[B" = some (D.2.1 2) := (hK.k1.2 2 (D.2.1 2, .byte) rfl).2
  refine va_castE hx hb hown (hts _ hl) ⟨cell, c1, ?_, by rw [c2]; exact hnmB⟩ d (kk H locs ls hI hS hL)
  cases hv : cell.vm with
  | statics q => exact absurd hv (c3 q)
  | _ => rfl
theorem zG.keep {K : Heap → Prop} (h : ∀ H, I H → K H) (kk : zG X k n (fun H => K H ∧ I H) pc L st) : zG X k n I pc L st := zG.mono kk (fun H g => ⟨h H g, g⟩)
theorem zG.drK {K : Heap → Prop} (kk : zG X k n I pc L st) : zG X k n (fun H => K H ∧ I H) pc L st := zG.mono kk (fun H g => g.2)
/-- a field written; what is known besides stands -/
theorem zc_putK (hX : zF D X own cc nL ret hh rm A P Ex nm) {K : Heap → Prop} (hKk : ∀ H H1, K H → (∀ q : Nat, q ≠ a → H1[q]? = H[q]?) → K H1) (ci fk : Nat) {idx : Nat} {v : Value} {C ref : String} {T : u_T} {N : Nat} {ty : FieldType} {fs : List Value} {tyf : Nat → FieldType} (hc : zCl[ci]? = some (C, T, N)) (hk : fk < N) (hw : ∀ w ∈ u_ws C T N, w ∈ lw_all) (hty : ∀ k, k < N → parseFieldDescriptor (T k).2.2.1 = some (tyf k)) (hnm2 : ∀ a, a < N → ∀ b, b < N → a ≠ b → (T a).2.1 ≠ (T b).2.1) (d : decode cc pc = .ok (.putfield idx, 3)) (hl : Cond.fieldLink own idx ref (T fk).2.1 (T fk).2.2.1 ∈ lw_all) (hs : (T fk).1 = ref ∨ Cond.sameField ref (T fk).1 (T fk).2.1 (T fk).2.2.1 ∈ lw_all) (hfin : (T fk).2.2.2 = false) (hm : mm a = some (eO ci fs)) (hlen : fk < fs.length) (hd : parseFieldDescriptor (T fk).2.2.1 = some ty) (hn : narrow ty v = v) (hfit : fits ty v = true) (hq : pc + 3 = q) (kk : zG X k n (fun H => K H ∧ cI D A w (upm mm a (eO ci (fs.set fk v))) H) q L st) : zG X k n (fun H => K H ∧ cI D A w mm H) pc L (v :: .ref a :: st) := by
  subst hq
  obtain ⟨p, l, e, R, s, m, args, below, meth, c, Q, A⟩ := X
  obtain ⟨hx, hb, hr2, hlocks, hml, hown, hts, rfl, rfl, rfl, htab, hK, hlt, hnm⟩ := hX
  intro H locs ls hI0 hS hL
  obtain ⟨hK0, hI⟩ := hI0
  have hap := va_apart (own := own) hts hw tyf hty hnm2 hK.k1 hc
  obtain ⟨r, cell, h1, q1, q2, q3, q6, q4⟩ := hI.at (Or.inr hm)
  have hr : r = (C, T, N) := Option.some.inj (h1.symm.trans hc)
  subst hr
  obtain ⟨hSl, hfc, kC, hkC, hkind⟩ := hK.k1.1 ci _ hc
  obtain ⟨cf, kf, fi, f, hi, hsl⟩ := hSl fk hk
  have hi2 : s.fieldFound? ref (T fk).2.1 (T fk).2.2.1 = some (cf, kf, fi, f) := by
    rcases hs with rfl | hs
    · exact hi
    · exact u_same (hts _ hs) _ hi
  have hlay := hts _ (hw _ (u_in_lay hk))
  unfold u_lay at hlay
  rw [if_neg (by rw [hfin]; decide)] at hlay
  have hst := (u_facts hfc hkC (u_lays hts hw hk) hi).1
  have h6 := u_store hfc hkC hkind hlay hi hd hn hfit
  refine W.putK hx hb (f := f) ⟨hown, hts _ hl, ⟨_, _, _, hi2⟩, hst⟩ (by rw [q2]; exact h6) q1 q3 (by rw [hsl]; exact k2_hasslot (q4 fk hk)) rfl rfl d fun H' e1 e2 e3 => ?_
  rw [hsl] at e1 ⊢
  exact kk H' _ ls ⟨hKk _ _ hK0 e3, hI.put hm ⟨_, _, hc, e1, q2, q3, q6, fun j hj => by rw [← vp_updV_set hlen v j]; exact t_set q4 hap hk v j hj⟩ e2 e3⟩ (hS.put e2 e3 (hI.own hm)) hL
theorem z_icmpS (hX : zF D X own cc nL ret hh rm A P Ex nm) {z : Int} {off : Int} {t : Nat} (d : decode cc pc = .ok (.if_icmp .eq off, 3)) (ht : (pc : Int) + off = (t : Int)) (kt : zG X k n I t L st) : zG X k n I pc L (zI z :: zI z :: st) := by
  obtain ⟨p, l, e, R, s, m, args, below, meth, c, Q, A⟩ := X
  obtain ⟨hx, hb, hr2, hlocks, hml, hown, hts, rfl, rfl, rfl, htab, hK, hlt, hnm⟩ := hX
  intro H locs ls hI hS hL
  exact lv_icmp_eq hx hb d ht (fun _ => kt H locs ls hI hS hL) (fun h => absurd rfl h)
/-- the value on top is another's name -/
theorem zG.top {v v2 : Value} (e : v = v2) (kk : zG X k n I pc L (v2 :: st)) : zG X k n I pc L (v :: st) := by
  subst e
  exact kk
/-- a list of m, taken apart -/
theorem zG.opn {mc : Int} {xs : List Nat} (hm : mm a = some (eL mc xs)) (kE : xs = [] → zG X k n (cI D A w (upm mm a (eO ciJ2 [zI mc, .ref (zEm D), zI 0]))) pc L st)
    (kk : ∀ (d N : Nat) (f : Nat → Option Nat), d ≠ a → w d = none → mm d = none → N ≤ 1000 → xs.length ≤ N → (∀ i : Nat, i < xs.length → f i = xs[i]?) → zG X k n (cI D A w (upm (upm mm a (eO ciJ2 [zI mc, .ref d, zI xs.length])) d (eC (aQ D 5 N f)))) pc L st) : zG X k n (cI D A w mm) pc L st := by
  obtain ⟨p, l, e, R, s, m, args, below, meth, c, Q, A2⟩ := X
  intro H locs ls hI hS hL
  rcases hI.opn hm with ⟨e, h⟩ | ⟨d, N, f, h1, h2, h3, h4, h5, h6, h⟩
  · refine kE e H locs ls ?_ hS hL
    rw [e] at h
    exact h
  · exact kk d N f h1 h2 h3 h4 h5 h6 H locs ls h hS hL
/-- a list's array, to be read -/
theorem zG.arL {mc : Int} {xs : List Nat} (hm : w a = some (eL mc xs) ∨ mm a = some (eL mc xs)) (kk : ∀ (d N : Nat) (f : Nat → Value), N ≤ 1000 → xs.length ≤ N → (∀ i : Nat, i < xs.length → f i = va_rf xs[i]?) → zG X k n (fun H => (zRd D ciJ2 a 1 (.ref d) H ∧ zRa D 5 d N f H) ∧ cI D A w mm H) pc L st) : zG X k n (cI D A w mm) pc L st := by
  obtain ⟨p, l, e, R, s, m, args, below, meth, c, Q, A2⟩ := X
  intro H locs ls hI hS hL
  obtain ⟨d, h1, N, f, h2, h3, h4, h5⟩ := hI.dtL hm
  exact kk d N f h3 h4 h5 H locs ls ⟨⟨h1, h2⟩, hI⟩ hS hL
/-- .. of a list of w; a cell of m is none of it -/
theorem zG.arLb {mc : Int} {xs : List Nat} {b : Nat} {it : zE} (hm : w a = some (eL mc xs)) (hb : mm b = some it) (kk : ∀ (d N : Nat) (f : Nat → Value), d ≠ b → N ≤ 1000 → xs.length ≤ N → (∀ i : Nat, i < xs.length → f i = va_rf xs[i]?) → zG X k n (fun H => (zRd D ciJ2 a 1 (.ref d) H ∧ zRa D 5 d N f H) ∧ cI D A w mm H) pc L st) : zG X k n (cI D A w mm) pc L st := by
  obtain ⟨p, l, e, R, s, m, args, below, meth, c, Q, A2⟩ := X
  intro H locs ls hI hS hL
  have hI0 := hI
  obtain ⟨hB, hA, hd, ow, h1, h2⟩ := hI
  obtain ⟨-, d, g1, g2⟩ := h1 a _ hm
  have hba : b ≠ a := fun e => by
    subst e
    rcases hd b with q | q
    · rw [hm] at q; cases q
    · rw [hb] at q; cases q
  rcases g2 with ⟨rfl, g3⟩ | ⟨g3, -, N, f, g5, g6, g7, g8⟩
  · have g : zRa D 5 (zEm D) 0 (fun _ => .null) H := (h1 _ _ hB.1.2.1).2
    have g3 : xs = [] := g3
    refine kk (zEm D) 0 _ (fun e => ?_) (by omega) (by rw [g3]; exact Nat.le_refl _) (fun i hi => ?_) H locs ls ⟨⟨g1.rd (C := RJ2) (T := TJ2) (N := 3) rfl (by decide) rfl, g⟩, hI0⟩ hS hL
    · rcases hd b with q | q
      · rw [← e, hB.1.2.1] at q; cases q
      · rw [hb] at q; cases q
    · rw [g3] at hi
      exact absurd hi (Nat.not_lt_zero i)
  · refine kk d N _ (fun e => ?_) g6 g7 (fun i hi => by rw [g8 i hi]) H locs ls ⟨⟨g1.rd (C := RJ2) (T := TJ2) (N := 3) rfl (by decide) rfl, g5.raQ⟩, hI0⟩ hS hL
    subst e
    obtain ⟨⟨k1, k2⟩, -⟩ := h2 d _ hb
    rcases g3 with g3 | g3
    · exact hba (k1.symm.trans g3)
    · exact g3 k2
/-- a text's bytes, to be read -/
theorem zG.arS {s : zS} (hm : w a = some (eS s) ∨ mm a = some (eS s)) (kk : ∀ d : Nat, zCh s → zG X k n (fun H => (zRd D ciJ13 a 0 (.ref d) H ∧ zRd D ciJ13 a 1 (zI 0) H ∧ zRa D 2 d s.length (fun j => zI (cT s j)) H) ∧ cI D A w mm H) pc L st) : zG X k n (cI D A w mm) pc L st := by
  obtain ⟨p, l, e, R, s, m, args, below, meth, c, Q, A2⟩ := X
  intro H locs ls hI hS hL
  obtain ⟨hs, d, h1, h2, h3⟩ := hI.rdS hm
  exact kk d hs H locs ls ⟨⟨h1, h2, h3⟩, hI⟩ hS hL
/-- two texts' bytes, to be read -/
theorem zG.arS2 {b : Nat} {s t : zS} (hm : w a = some (eS s)) (hm2 : w b = some (eS t)) (kk : ∀ d d2 : Nat, zCh s → zCh t → zG X k n (fun H => ((zRd D ciJ13 a 0 (.ref d) H ∧ zRd D ciJ13 a 1 (zI 0) H ∧ zRa D 2 d s.length (fun j => zI (cT s j)) H) ∧ zRd D ciJ13 b 0 (.ref d2) H ∧ zRd D ciJ13 b 1 (zI 0) H ∧ zRa D 2 d2 t.length (fun j => zI (cT t j)) H) ∧ cI D A w mm H) pc L st) : zG X k n (cI D A w mm) pc L st := by
  obtain ⟨p, l, e, R, s, m, args, below, meth, c, Q, A2⟩ := X
  intro H locs ls hI hS hL
  obtain ⟨hs, d, h1, h2, h3⟩ := hI.rdS (Or.inl hm)
  obtain ⟨ht, d2, g1, g2, g3⟩ := hI.rdS (Or.inl hm2)
  exact kk d d2 hs ht H locs ls ⟨⟨⟨h1, h2, h3⟩, g1, g2, g3⟩, hI⟩ hS hL
/-- a text that is being built, taken apart -/
theorem zG.opnB {s : zS} (hm : mm a = some (eB s)) (kk : ∀ (d N : Nat) (f : Nat → Int32) (ml : Value), zCh s → d ≠ a → w d = none → mm d = none → N ≤ 1000 → s.length ≤ N → (∀ i : Nat, i < s.length → f i = Int32.ofInt (cT s i)) → (∀ i : Nat, i < N → fits .byte (.int (f i)) = true) → zG X k n (cI D A w (upm (upm mm a (eO ciJ20 [.ref d, zI 0, ml, zI s.length])) d (eC (aN D 2 N f)))) pc L st) : zG X k n (cI D A w mm) pc L st := by
  obtain ⟨p, l, e, R, s, m, args, below, meth, c, Q, A2⟩ := X
  intro H locs ls hI hS hL
  obtain ⟨hs, d, N, f, ml, h1, h2, h3, h4, h5, h6, h7, h⟩ := hI.opnB hm
  exact kk d N f ml hs h1 h2 h3 h4 h5 h6 h7 H locs ls h hS hL
end ZCM
theorem upm_none {m : zMp} {a c : Nat} {x : zE} : upm m a x c = none ↔ c ≠ a ∧ m c = none := by
  unfold upm
  split
  · rename_i h
    simp [h]
  · rename_i h
    simp [h]
theorem ne_mp {m : zMp} {a c : Nat} {x : zE} (h : m c = none) (h2 : m a = some x) : c ≠ a := fun e => by rw [e, h2] at h; cases h
section ZCN
variable {D : zD} {A : Nat → Prop} {w m M : zMp} {H : Heap} {a b d : Nat}
theorem cI.eqv {m2 : zMp} (h : cI D A w m H) (e : ∀ c, m2 c = m c) : cI D A w m2 H := by
  have e2 : m2 = m := funext e
  rw [e2]
  exact h
theorem cI.raZ (h : cI D A w m H) : zRa D 5 (zEm D) 0 (fun _ => .null) H := by
  obtain ⟨hb, -, -, ow, h1, -⟩ := h
  exact (h1 _ _ hb.1.2.1).2
theorem cI.emw (h : cI D A w m H) : w (zEm D) = some eZ := h.1.1.2.1
theorem cI.elsL {mc : Int} {xs : List Nat} (h : cI D A w m H) (hm : w a = some (eL mc xs) ∨ m a = some (eL mc xs)) : ∀ x ∈ xs, ∃ it, w x = some it ∧ zElO it = true := h.1.2 a mc xs hm
/-- a list, put together again -/
theorem cI.clsL {mc : Int} {xs : List Nat} {N : Nat} {f : Nat → Option Nat} (h : cI D A w M H) (hb : M b = some (eO ciJ2 [zI mc, .ref d, zI xs.length])) (hd : M d = some (eC (aQ D 5 N f))) (hne : d ≠ b) (hN : N ≤ 1000) (hl : xs.length ≤ N) (hf : ∀ i : Nat, i < xs.length → f i = xs[i]?) (hes : ∀ x ∈ xs, ∃ it, w x = some it ∧ zElO it = true) (hM : ∀ c, c ≠ b → c ≠ d → M c = m c) (hmd : m d = none) : cI D A w (upm m b (eL mc xs)) H := by
  refine (h.join (it := eL mc xs) hb hd hne (fun mc2 xs2 e => ?_) (fun B hB hD h1 h2 => ⟨hB, d, h1, Or.inr ⟨hD, hne, N, f, h2, hN, hl, hf⟩⟩)).eqv (fun c => ?_)
  · cases e
    exact hes
  · by_cases c1 : c = b
    · rw [c1, upm_same, upm_same]
    · rw [upm_ne _ _ c1, upm_ne _ _ c1]
      by_cases c2 : c = d
      · rw [c2, dlm_same, hmd]
      · rw [dlm_ne _ c2, hM c c1 c2]
theorem cI.clsE {mc : Int} (h : cI D A w M H) (hb : M b = some (eO ciJ2 [zI mc, .ref (zEm D), zI 0])) (hM : ∀ c, c ≠ b → M c = m c) : cI D A w (upm m b (eL mc [])) H := by
  refine (h.as (it := eL mc []) hb (fun mc2 xs2 e => ?_) (fun B hB h1 => ⟨hB, _, h1, Or.inl ⟨rfl, rfl⟩⟩)).eqv (fun c => ?_)
  · cases e
    exact fun x hx => by cases hx
  · by_cases c1 : c = b
    · rw [c1, upm_same, upm_same]
    · rw [upm_ne _ _ c1, upm_ne _ _ c1, hM c c1]
/-- a text made -/
theorem cI.clsS {s : zS} {n : Nat} {f : Nat → Int32} {v2 v3 : Value} (h : cI D A w M H) (hb : M b = some (eO ciJ13 [.ref d, zI 0, v2, v3])) (hd : M d = some (eC (aN D 2 n f))) (hne : d ≠ b) (hn : n = s.length) (hs : zCh s) (hf : ∀ i : Nat, i < n → f i = Int32.ofInt (cT s i)) (hM : ∀ c, c ≠ b → c ≠ d → M c = m c) (hmb : m b = none) (hmd : m d = none) : cI D A (upm w b (eS s)) m H := by
  have h1 := h.join (it := eS s) hb hd hne (fun mc2 xs2 e => by cases e) (fun B hB hD h1 h2 => ⟨hB, hs, d, hD, hne, h1.rd (C := RJ13) (T := TJ13) (N := 4) rfl (by decide) rfl, h1.rd (C := RJ13) (T := TJ13) (N := 4) rfl (by decide) rfl, by
    subst hn
    obtain ⟨cell, c1, c2, c3, c4, c5, c6⟩ := h2.raN
    exact ⟨cell, c1, c2, c3, c4, c5, fun j hj => by rw [c6 j hj]; show some (Value.int (f j)) = some (zI _); rw [hf j hj]⟩⟩)
  refine (h1.frz (a := b) (it := eS s) (upm_same _ _ _)).eqv (fun c => ?_)
  by_cases c1 : c = b
  · rw [c1, dlm_same, hmb]
  · rw [dlm_ne _ c1, upm_ne _ _ c1]
    by_cases c2 : c = d
    · rw [c2, dlm_same, hmd]
    · rw [dlm_ne _ c2, hM c c1 c2]
/-- a text that is being built, put together again -/
theorem cI.clsB {s : zS} {N : Nat} {f : Nat → Int32} {ml : Value} (h : cI D A w M H) (hb : M b = some (eO ciJ20 [.ref d, zI 0, ml, zI s.length])) (hd : M d = some (eC (aN D 2 N f))) (hne : d ≠ b) (hs : zCh s) (hN : N ≤ 1000) (hl : s.length ≤ N) (hf : ∀ i : Nat, i < s.length → f i = Int32.ofInt (cT s i)) (hft : ∀ i : Nat, i < N → fits .byte (.int (f i)) = true) (hM : ∀ c, c ≠ b → c ≠ d → M c = m c) (hmd : m d = none) : cI D A w (upm m b (eB s)) H := by
  refine (h.join (it := eB s) hb hd hne (fun mc2 xs2 e => by cases e) (fun B hB hD h1 h2 => ⟨hB, hs, d, N, f, ml, h1, hD, hne, h2, hN, hl, hf, hft⟩)).eqv (fun c => ?_)
  by_cases c1 : c = b
  · rw [c1, upm_same, upm_same]
  · rw [upm_ne _ _ c1, upm_ne _ _ c1]
    by_cases c2 : c = d
    · rw [c2, dlm_same, hmd]
    · rw [dlm_ne _ c2, hM c c1 c2]
end ZCN
theorem zElO.ci {it : zE} (h : zElO it = true) : ∃ ci, eCi it = some ci ∧ zAsg ci "java/lang/Object" = true := by
  unfold zElO at h
  cases q : eCi it with
  | none => rw [q] at h; cases h
  | some ci => rw [q] at h; exact ⟨ci, rfl, h⟩
theorem fits_by {z : Int} (h : 0 ≤ z ∧ z < 128) : fits .byte (zI z) = true := by
  obtain ⟨k, rfl⟩ : ∃ k : Nat, z = k := ⟨z.toNat, by omega⟩
  have hk : k < 128 := by omega
  have e : ∀ j : Fin 128, fits .byte (zI (j.val : Int)) = true := by decide +kernel
  exact e ⟨k, hk⟩
theorem nar_by {z : Int} (h : 0 ≤ z ∧ z < 128) : narrow .byte (zI z) = zI z := by
  obtain ⟨k, rfl⟩ : ∃ k : Nat, z = k := ⟨z.toNat, by omega⟩
  have hk : k < 128 := by omega
  have e : ∀ j : Fin 128, narrow .byte (zI (j.val : Int)) = zI (j.val : Int) := by decide +kernel
  exact e ⟨k, hk⟩
/-- characters of one byte -/
theorem ch_all {φ : Int → Prop} (h : ∀ j : Fin 128, φ (j.val : Int)) {z : Int} (hz : 0 ≤ z ∧ z < 128) : φ z := by
  obtain ⟨k, rfl⟩ : ∃ k : Nat, z = k := ⟨z.toNat, by omega⟩
  exact h ⟨k, by omega⟩
theorem ch_and {z : Int} (hz : 0 ≤ z ∧ z < 128) : Int32.ofInt z &&& Int32.ofInt 255 = Int32.ofInt z := ch_all (φ := fun z => Int32.ofInt z &&& Int32.ofInt 255 = Int32.ofInt z) (by decide +kernel) hz
theorem ch_i2c {z : Int} (hz : 0 ≤ z ∧ z < 128) : ((Int32.ofInt z).toUInt32 % 65536).toInt32 = Int32.ofInt z := ch_all (φ := fun z => ((Int32.ofInt z).toUInt32 % 65536).toInt32 = Int32.ofInt z) (by decide +kernel) hz
theorem ch_i2b {z : Int} (hz : 0 ≤ z ∧ z < 128) : (Int32.ofInt z).toInt8.toInt32 = Int32.ofInt z := ch_all (φ := fun z => (Int32.ofInt z).toInt8.toInt32 = Int32.ofInt z) (by decide +kernel) hz
theorem ch_nar {z : Int} (hz : 0 ≤ z ∧ z < 128) : narrow .char (zI z) = zI z := ch_all (φ := fun z => narrow .char (zI z) = zI z) (by decide +kernel) hz
theorem or_nn {a b : Int} (ha : 0 ≤ a ∧ a < 2147483648) (hb : 0 ≤ b ∧ b < 2147483648) : ∃ r : Int, (0 ≤ r ∧ r < 2147483648) ∧ Int32.ofInt a ||| Int32.ofInt b = Int32.ofInt r := by
  have e : ∀ z : Int, 0 ≤ z → z < 2147483648 → (Int32.ofInt z).toBitVec.msb = false := fun z h0 h1 => by
    have := zI_toInt (z := z) ⟨by omega, by omega⟩
    rw [BitVec.msb_eq_toInt]
    have h2 : (Int32.ofInt z).toBitVec.toInt = z := this
    rw [h2]
    simp only [decide_eq_false_iff_not]
    omega
  refine ⟨(Int32.ofInt a ||| Int32.ofInt b).toInt, ?_, by simp⟩
  have hm : (Int32.ofInt a ||| Int32.ofInt b).toBitVec.msb = false := by
    rw [Int32.toBitVec_or, BitVec.msb_or, e a ha.1 ha.2, e b hb.1 hb.2]
    rfl
  have h2 := BitVec.msb_eq_toInt (x := (Int32.ofInt a ||| Int32.ofInt b).toBitVec)
  rw [hm] at h2
  have h3 : ¬ (Int32.ofInt a ||| Int32.ofInt b).toBitVec.toInt < 0 := by
    intro q
    rw [decide_eq_true q] at h2
    cases h2
  have h4 : (Int32.ofInt a ||| Int32.ofInt b).toInt = (Int32.ofInt a ||| Int32.ofInt b).toBitVec.toInt := rfl
  have h5 := BitVec.toInt_lt (x := (Int32.ofInt a ||| Int32.ofInt b).toBitVec)
  rw [h4]
  constructor
  · omega
  · simpa using h5

