/-! CALLS, ANSWERS AND EXCEPTIONS OF THE CLASS'S WORLD -/
set_option maxRecDepth 100000
/-- an answer and a world that are known up to x, of which φ is known -/
def zPe {α : Type} (val : α → Option Value) (φ : α → Prop) (I : α → Heap → Prop) : Option Value → Heap → Prop := fun v H => ∃ x, v = val x ∧ φ x ∧ I x H
/-- what is thrown: of class E, at an address of which J speaks -/
def zXs (E : String) (J : Nat → Heap → Prop) : String → Nat → Heap → Prop := fun E2 a H => E2 = E ∧ J a H
def zXo (x y : String → Nat → Heap → Prop) : String → Nat → Heap → Prop := fun E a H => x E a H ∨ y E a H
section ZCC
variable {D : zD} {X : zX} {own : String} {cc : ByteArray} {nL : Nat} {ret : Option FieldType} {hh : zHh} {rm : Room} {A : Nat → Prop} {P : Option Value → Heap → Prop} {Ex : String → Nat → Heap → Prop} {nm : String} {k n : Nat} {I J : Heap → Prop} {pc q : Nat} {L : List (Option Value)} {st : List Value} {w mm : zMp} {a : Nat}
theorem zPe.out {α : Type} {val : α → Option Value} {φ : α → Prop} {I2 : α → Heap → Prop} {rest : List Value} (h : ∀ x, φ x → zG X k n (I2 x) pc L ((val x).toList ++ rest)) : ∀ v, zG X k n (fun H => zPe val φ I2 v H) pc L (v.toList ++ rest) := by
  intro v
  refine zG.ex (fun x => zG.ax (fun hv => zG.ax (fun hp => ?_)))
  subst hv
  exact h x hp
theorem zXs.out {E0 : String} {J : Nat → Heap → Prop} (h : ∀ a, zT X k n (J a) pc L E0 a) : ∀ E a, zT X k n (fun H => zXs E0 J E a H) pc L E a := by
  intro E a
  refine zT.ax (fun hv => ?_)
  subst hv
  exact h a
theorem zXo.out {x y : String → Nat → Heap → Prop} (h1 : ∀ E a, zT X k n (fun H => x E a H) pc L E a) (h2 : ∀ E a, zT X k n (fun H => y E a H) pc L E a) : ∀ E a, zT X k n (fun H => zXo x y E a H) pc L E a := by
  intro E a
  obtain ⟨p, l, e, R, s, m, args, below, meth, c, Q, A⟩ := X
  intro H locs ls st ce hI hS hL
  rcases hI with h | h
  · exact h1 E a H locs ls st ce h hS hL
  · exact h2 E a H locs ls st ce h hS hL
theorem zT.wid {k2 n2 : Nat} {E : String} (hk : k ≤ k2) (hn : n ≤ n2) (h : zT X k2 n2 I pc L E a) : zT X k n I pc L E a := by
  obtain ⟨p, l, e, R, s, m, args, below, meth, c, Q, A⟩ := X
  exact fun H locs ls st ce hI hS hL h1 h2 h3 => vx_widen hk hn (h H locs ls st ce hI hS hL h1 h2 h3)
/-- nothing here catches it -/
theorem zT.out (hX : zF D X own cc nL ret hh rm A P Ex nm) {E : String} (hout : ∀ x ∈ tableOf (hh.getD []), covers x pc = false) (hk : k ≤ rm.cells) (hn : n ≤ rm.slots) (hE : ∀ H, I H → Ex E a H) : zT X k n I pc L E a := by
  obtain ⟨p, l, e, R, s, m, args, below, meth, c, Q, A⟩ := X
  obtain ⟨hx, hb, hr, hlocks, hml, hown, hts, rfl, rfl, rfl, htab, hK, hlt, hnm⟩ := hX
  intro H locs ls st ce hI hS hL h1 h2 h3
  exact vx_widen hk hn (vx_out (by rw [htab]; exact hout) hlocks h1 h2 h3 (fun t ht _ => ⟨by rw [ht]; exact hE H hI, hS.F ht⟩) hS.2.2 (Nat.le_refl _) (Nat.le_refl _))
/-- caught here, by the row x of the table -/
theorem zT.catch (hX : zF D X own cc nL ret hh rm A P Ex nm) {E C : String} (pre : List ExceptionTableEntry) (x : ExceptionTableEntry) (suf : List ExceptionTableEntry) (hsplit : tableOf (hh.getD []) = pre ++ x :: suf) (hpass : ∀ z ∈ pre, covers z pc = false ∨ (z.catchType ≠ 0 ∧ ∃ nm2 : String, Cond.classLink own z.catchType nm2 ∈ lw_all ∧ (E, nm2) ∈ zNc)) (hx9 : covers x pc = true) (h0 : x.catchType ≠ 0) (hl : Cond.classLink own x.catchType C ∈ lw_all) (hca : (E, C) ∈ zCs) (hq : x.handlerPc = q) (kk : zG X k n I q L [.ref a]) : zT X k n I pc L E a := by
  subst hq
  obtain ⟨p, l, e, R, s, m, args, below, meth, c, Q, A⟩ := X
  obtain ⟨hx, hb, hr, hlocks, hml, hown, hts, rfl, rfl, rfl, htab, hK, hlt, hnm⟩ := hX
  intro H locs ls st ce hI hS hL h1 h2 h3
  refine vx_catch hown pre x suf (by rw [htab]; exact hsplit) (fun z hz => ?_) hx9 h0 (hts _ hl) (va_Nw.use rfl (hK.1.2.2.2.1 _ hca)) h1 h2 h3 (kk H locs ls hI hS hL)
  rcases hpass z hz with h | ⟨h, nm2, h4, h5⟩
  · exact Or.inl h
  · exact Or.inr ⟨h, nm2, hts _ h4, hK.1.2.2.2.2.1 _ h5⟩
/-- caught here, by a row that takes all -/
theorem zT.catchAll (hX : zF D X own cc nL ret hh rm A P Ex nm) {E : String} (pre : List ExceptionTableEntry) (x : ExceptionTableEntry) (suf : List ExceptionTableEntry) (hsplit : tableOf (hh.getD []) = pre ++ x :: suf) (hpass : ∀ z ∈ pre, covers z pc = false ∨ (z.catchType ≠ 0 ∧ ∃ nm2 : String, Cond.classLink own z.catchType nm2 ∈ lw_all ∧ (E, nm2) ∈ zNc)) (hx9 : covers x pc = true) (h0 : x.catchType = 0) (hq : x.handlerPc = q) (kk : zG X k n I q L [.ref a]) : zT X k n I pc L E a := by
  subst hq
  obtain ⟨p, l, e, R, s, m, args, below, meth, c, Q, A⟩ := X
  obtain ⟨hx, hb, hr, hlocks, hml, hown, hts, rfl, rfl, rfl, htab, hK, hlt, hnm⟩ := hX
  intro H locs ls st ce hI hS hL h1 h2 h3 T hT XX
  have hpl : e.platform.magicAccessors = ({} : Platform).magicAccessors := by rw [XX.admits.platform]
  obtain ⟨k9, h9, -⟩ := Vm.findClass_spec h3
  obtain ⟨vm', X', st9⟩ := XX.thenCaughtThrough a (g := F0 m pc ls st) rfl (Steps.refl _) (by rw [hT]; exact h1) (by rw [h2]; rfl) ⟨k9, h9⟩ pre x suf (by rw [htab]; exact hsplit)
    (fun z hz => by
      rcases hpass z hz with h | ⟨hz0, nm2, hl1, hn1⟩
      · exact Or.inl h
      · obtain ⟨c6, hc6, hcl6⟩ := Cond.classLink_spec hown (hts _ hl1) e.platform hpl
        obtain ⟨a8, b8, g1, g2, g3⟩ := hK.1.2.2.2.2.1 _ hn1
        cases Option.some.inj (g1.symm.trans h3)
        cases Option.some.inj (g2.symm.trans hc6)
        exact Or.inr ⟨hz0, _, hcl6, g3⟩) hx9 (Or.inl h0)
  obtain ⟨t, a1, b1⟩ := kk H locs ls hI hS hL (T.setVm vm') hT X'
  exact ⟨t, st9.trans a1, b1⟩
/-- throw -/
theorem z_athrow (hX : zF D X own cc nL ret hh rm A P Ex nm) (ci : Nat) {C : String} {T : u_T} {N : Nat} (hc : zCl[ci]? = some (C, T, N)) (d : decode cc pc = .ok (.athrow, 1)) (hr : ∀ H, I H → zTh D ci a H) (kk : zT X k n I pc L C a) : zG X k n I pc L (.ref a :: st) := by
  obtain ⟨p, l, e, R, s, m, args, below, meth, c, Q, A⟩ := X
  obtain ⟨hx, hb, hr2, hlocks, hml, hown, hts, rfl, rfl, rfl, htab, hK, hlt, hnm⟩ := hX
  intro H locs ls hI hS hL
  obtain ⟨ce, h1, h2, h3⟩ := hr H hI
  exact vx_athrow hx hb d (kk H locs ls st ce hI hS hL h1 h3 (by rw [h2]; exact (hK.k1.1 ci _ hc).2.1))
/-- new E(); throw -/
theorem zc_throw0 (hX : zF D X own cc nL ret hh rm A P Ex nm) (ci : Nat) {ik ic : Nat} {C : String} {T : u_T} {N : Nat} {names : List String} (hc : zCl[ci]? = some (C, T, N)) (hcls : Bundle.fit C = true) (hnames : ∀ n ∈ names, Bundle.fit n = true) (hl : Cond.classLink own ik C ∈ lw_all) (hini : Cond.initialized C ∈ lw_all) (hat : ∀ w ∈ vx_at0 own ic C names, w ∈ lw_all ∨ w ∈ zCs.map (fun t => Cond.castable t.1 t.2) ∨ w ∈ zDs.map Cond.declares) (hgd : ∀ w ∈ Cond.classLink own ik C :: Cond.initialized C :: vx_at0 own ic C names, vx_ot w = true)
    (d0 : decode cc pc = .ok (.new ik, 3)) (d3 : decode cc (pc + 3) = .ok (.dup, 1)) (d4 : decode cc (pc + 4) = .ok (.invokespecial ic, 3)) (d7 : decode cc (pc + 7) = .ok (.athrow, 1)) (hW : (st.map fun v => v.category).sum ≤ 8) (hLn : L.length = nL) (hRf : names.length + 3 < rm.frames) (hRl : 8 + (13 * (names.length + 1) + 42) ≤ rm.locals) (hk : k + 1 ≤ rm.cells) (hs : n + 6 ≤ rm.slots) (hq : pc + 7 = q)
    (kk : ∀ b, w b = none → mm b = none → zT X (k + 1) (n + 6) (cI D A w (upm mm b (eX ci))) q L C b) : zG X k n (cI D A w mm) pc L st := by
  subst hq
  obtain ⟨p, l, e, R, s, m, args, below, meth, c, Q, A⟩ := X
  obtain ⟨hx, hb, hr2, hlocks, hml, hown, hts, rfl, rfl, rfl, htab, hK, hlt, hnm⟩ := hX
  intro H locs ls hI hS hL
  refine vz_make0 hx hb hlt (own := own) (cls := C) (names := names) (ik := ik) (ic := ic) hown hcls hnames (hts _ hl) (hts _ hini) (fun w hw => ?_) hgd hK.2.2.2.2.1 hK.2.2.2.2.2 hS ((hL.1.trans hLn).trans hml.symm) d0 d3 d4 hRf (by omega) hk hs (fun ce H1 e1 e2 e3 e4 e5 => ?_)
  · rcases hat w hw with h | h | h
    · exact hts _ h
    · obtain ⟨t, ht, rfl⟩ := List.mem_map.mp h
      exact va_Nw.use rfl (hK.1.2.2.2.1 t ht)
    · obtain ⟨t, ht, rfl⟩ := List.mem_map.mp h
      exact va_Nw.use rfl (hK.1.2.2.2.2.2.1 t ht)
  · obtain ⟨hwn, hmn, hI1⟩ := hI.newX (ci := ci) ⟨ce, e1, by have := (hK.k1.1 ci _ hc).2.1; exact Option.some.inj (e3.symm.trans this), e2⟩ e4 e5
    refine vx_athrow hx hb d7 (kk H.size hwn hmn H1 locs ls st ce hI1 ⟨Nat.le_trans hS.1 (Nat.le_of_lt e4), fun x g1 g2 => (e5 x (Nat.lt_of_lt_of_le g1 hS.1)).trans (hS.2.1 x g1 g2), hS.2.2⟩ hL e1 e2 e3)
section ZC2
variable {y x : MethodName} {cc2 : ByteArray} {nL2 : Nat} {ret2 : Option FieldType} {h2 : List (Nat × Nat × Nat × Nat)} {rm2 : Room} {I2 : Heap → Prop} {P2 : Option Value → Heap → Prop} {Ex2 : String → Nat → Heap → Prop} {As rest : List Value} {b ci idx na : Nat} {T : u_T} {N : Nat}
theorem z_VW (hX : zF D X own cc nL ret hh rm A P Ex nm) (d : decode cc pc = .ok (.invokevirtual idx, 3)) (hc : zC D y cc2 nL2 ret2 (some h2) rm2 A (.ref b :: As) I2 P2 Ex2)
    (hci : zCl[ci]? = some (y.cls, T, N)) (h1 : Cond.methodLink own idx y ∈ lw_all) (h3 : Cond.instanceMethod y ∈ lw_all) (h4 : Cond.selects y.cls y y ∈ lw_all) (h5 : Cond.initialized y.cls ∈ lw_all) (h6 : Cond.codeWith y cc2 nL2 ret2 h2 ∈ lw_all)
    (hd : zArgN y na) (hR : zRoom rm rm2 nL2) (hn : As.length = na) (hst : st = As.reverse ++ .ref b :: rest) (hW : (rest.map fun v => v.category).sum ≤ 8) (hLn : L.length = nL) (hk : k + rm2.cells ≤ rm.cells) (hs : n + rm2.slots ≤ rm.slots)
    (hI : ∀ H, I H → I2 H ∧ zOb D ci b H)
    (kx : ∀ E a, zT X (k + rm2.cells) (n + rm2.slots) (fun H => Ex2 E a H) pc L E a) (kk : ∀ v, zG X (k + rm2.cells) (n + rm2.slots) (fun H => P2 v H) (pc + 3) L (v.toList ++ rest)) : zG X k n I pc L st := by
  refine z_ofRun (a := (.ref b :: As).toArray) (rest := rest) hX ?_ kx kk
  obtain ⟨p, l, e, R, s, m, args, below, meth, c, Q, A⟩ := X
  obtain ⟨hx, hb, hr, hlocks, hml, hown, hts, rfl, rfl, rfl, htab, hK, hlt, hnm⟩ := hX
  intro H locs ls hI0 hS hL
  have hcw : vx_CVW R s args own y.cls idx y cc2 nL2 ret2 h2 (wsW_ y cc2 nL2 ret2 h2) rm2 rm2.cells rm2.slots na := vx_cwVW na hts (lw_VW h1 h3 h4 h5 h6) rfl rfl rfl ⟨rfl, hd⟩ hR
  exact vx_runVX ⟨hx, hb, hml, hown, hts⟩ (hc l hlt) hcw ⟨zC_blind, (hI H hI0).2.recv hK hci, fun U hU hW => ⟨rfl, by rw [hU]; exact (hI H hI0).1, by rw [hU]; exact hK.step hW hS⟩⟩ rfl hn (hL.1.trans hLn) hst (lv_room hW) d ⟨hk, hs⟩
theorem z_SW (hX : zF D X own cc nL ret hh rm A P Ex nm) (d : decode cc pc = .ok (.invokestatic idx, 3)) (hc : zC D y cc2 nL2 ret2 (some h2) rm2 A As I2 P2 Ex2)
    (h1 : Cond.methodLink own idx y ∈ lw_all) (h3 : Cond.static y ∈ lw_all) (h5 : Cond.initialized y.cls ∈ lw_all) (h6 : Cond.codeWith y cc2 nL2 ret2 h2 ∈ lw_all)
    (hd : zArgN y na) (hR : zRoom rm rm2 nL2) (hn : As.length = na) (hst : st = As.reverse ++ rest) (hW : (rest.map fun v => v.category).sum ≤ 8) (hLn : L.length = nL) (hk : k + rm2.cells ≤ rm.cells) (hs : n + rm2.slots ≤ rm.slots)
    (hI : ∀ H, I H → I2 H)
    (kx : ∀ E a, zT X (k + rm2.cells) (n + rm2.slots) (fun H => Ex2 E a H) pc L E a) (kk : ∀ v, zG X (k + rm2.cells) (n + rm2.slots) (fun H => P2 v H) (pc + 3) L (v.toList ++ rest)) : zG X k n I pc L st := by
  refine z_ofRun (a := As.toArray) (rest := rest) hX ?_ kx kk
  obtain ⟨p, l, e, R, s, m, args, below, meth, c, Q, A⟩ := X
  obtain ⟨hx, hb, hr, hlocks, hml, hown, hts, rfl, rfl, rfl, htab, hK, hlt, hnm⟩ := hX
  intro H locs ls hI0 hS hL
  have hcw : vx_CSW R s args own idx y cc2 nL2 ret2 h2 (wsW_ y cc2 nL2 ret2 h2) rm2 rm2.cells rm2.slots na := vx_cwSW na hts (lw_SW h1 h3 h5 h6) rfl rfl rfl hd hR
  exact vx_runSX ⟨hx, hb, hml, hown, hts⟩ (hc l hlt) hcw ⟨zC_blind, fun U hU hW => ⟨rfl, by rw [hU]; exact hI H hI0, by rw [hU]; exact hK.step hW hS⟩⟩ rfl hn (hL.1.trans hLn) hst (lv_room hW) d ⟨hk, hs⟩
theorem lw_4 {a1 a2 a3 a4 : Cond} {ws : List Cond} (h1 : a1 ∈ lw_all) (h2 : a2 ∈ lw_all) (h3 : a3 ∈ lw_all) (h4 : a4 ∈ lw_all) : ∀ w ∈ [a1, a2, a3, a4], w ∈ lw_all := by
  intro w hw
  simp only [List.mem_cons, List.not_mem_nil, or_false] at hw
  rcases hw with e | e | e | e
  · rw [e]; exact h1
  · rw [e]; exact h2
  · rw [e]; exact h3
  · rw [e]; exact h4
theorem lw_5 {a1 a2 a3 a4 a5 : Cond} (h1 : a1 ∈ lw_all) (h2 : a2 ∈ lw_all) (h3 : a3 ∈ lw_all) (h4 : a4 ∈ lw_all) (h5 : a5 ∈ lw_all) : ∀ w ∈ [a1, a2, a3, a4, a5], w ∈ lw_all := by
  intro w hw
  simp only [List.mem_cons, List.not_mem_nil, or_false] at hw
  rcases hw with e | e | e | e | e
  · rw [e]; exact h1
  · rw [e]; exact h2
  · rw [e]; exact h3
  · rw [e]; exact h4
  · rw [e]; exact h5
/-- a method named x, declared in 'owner', whose code is y's for objects of class ci; what the tables say of x -/
theorem z_VU (hX : zF D X own cc nL ret hh rm A P Ex nm) {C owner : String} (d : decode cc pc = .ok (.invokevirtual idx, 3)) (hc : zC D y cc2 nL2 ret2 none rm2 A (.ref b :: As) I2 P2 Ex2)
    (hci : zCl[ci]? = some (C, T, N)) (h1 : Cond.methodLink own idx x ∈ lw_all) (hsm : Cond.sameMethod x.cls owner x.name x.desc ∈ lw_all) (h3 : Cond.selects C x y ∈ lw_all) (h4 : Cond.instanceMethod y ∈ lw_all) (h5 : Cond.initialized y.cls ∈ lw_all) (h6 : Cond.code y cc2 nL2 ret2 ∈ lw_all) (hdc : y = ⟨owner, x.name, x.desc⟩ ∨ (⟨owner, x.name, x.desc⟩ : MethodName) ∈ zDs)
    (hd : owner ≠ "java/lang/invoke/MethodHandle" ∧ owner ≠ "java/lang/invoke/VarHandle" ∧ (parseMethodDescriptor x.desc).map (fun d => d.parameters.length) = some na) (hR : zRoom rm rm2 nL2) (hn : As.length = na) (hst : st = As.reverse ++ .ref b :: rest) (hW : (rest.map fun v => v.category).sum ≤ 8) (hLn : L.length = nL) (hk : k + rm2.cells ≤ rm.cells) (hs : n + rm2.slots ≤ rm.slots)
    (hI : ∀ H, I H → I2 H ∧ zOb D ci b H)
    (kx : ∀ E a, zT X (k + rm2.cells) (n + rm2.slots) (fun H => Ex2 E a H) pc L E a) (kk : ∀ v, zG X (k + rm2.cells) (n + rm2.slots) (fun H => P2 v H) (pc + 3) L (v.toList ++ rest)) : zG X k n I pc L st := by
  refine z_ofRun (a := (.ref b :: As).toArray) (rest := rest) hX ?_ kx kk
  obtain ⟨p, l, e, R, s, m, args, below, meth, c, Q, A⟩ := X
  obtain ⟨hx, hb, hr, hlocks, hml, hown, hts, rfl, rfl, rfl, htab, hK, hlt, hnm⟩ := hX
  intro H locs ls hI0 hS hL
  have hG : GoodIn lw_all (va_wsU own idx C owner x y (ws_ y cc2 nL2 ret2)) := lw_app (lw_5 h1 hsm h3 h4 h5) (lw_meth h6)
  have hcw : va_CU R s args own C owner idx x y cc2 nL2 ret2 (ws_ y cc2 nL2 ret2) rm2 rm2.cells rm2.slots na := by
    rcases hdc with e9 | e9
    · exact va_cwU na hts hG rfl rfl rfl e9 hd hR
    · exact va_cwA na hts hG rfl rfl rfl (hK.1.2.2.2.2.2.1 _ e9) hd hR
  exact vx_runU ⟨hx, hb, hml, hown, hts⟩ (hc l hlt) hcw ⟨zC_blind, (hI H hI0).2.cl hK.1 hci, fun U hU hW => ⟨rfl, by rw [hU]; exact (hI H hI0).1, by rw [hU]; exact hK.step hW hS⟩⟩ rfl hn (hL.1.trans hLn) hst (lv_room hW) d ⟨hk, hs⟩
/-- a private method of the class above -/
theorem z_VUp (hX : zF D X own cc nL ret hh rm A P Ex nm) {C : String} (d : decode cc pc = .ok (.invokevirtual idx, 3)) (hc : zC D y cc2 nL2 ret2 none rm2 A (.ref b :: As) I2 P2 Ex2)
    (hci : zCl[ci]? = some (C, T, N)) (h1 : Cond.methodLink own idx y ∈ lw_all) (hsm : Cond.sameMethod y.cls y.cls y.name y.desc ∈ lw_all) (h3 : (C, y) ∈ zSl) (h4 : Cond.instanceMethod y ∈ lw_all) (h5 : Cond.initialized y.cls ∈ lw_all) (h6 : Cond.code y cc2 nL2 ret2 ∈ lw_all)
    (hd : y.cls ≠ "java/lang/invoke/MethodHandle" ∧ y.cls ≠ "java/lang/invoke/VarHandle" ∧ (parseMethodDescriptor y.desc).map (fun d => d.parameters.length) = some na) (hR : zRoom rm rm2 nL2) (hn : As.length = na) (hst : st = As.reverse ++ .ref b :: rest) (hW : (rest.map fun v => v.category).sum ≤ 8) (hLn : L.length = nL) (hk : k + rm2.cells ≤ rm.cells) (hs : n + rm2.slots ≤ rm.slots)
    (hI : ∀ H, I H → I2 H ∧ zOb D ci b H)
    (kx : ∀ E a, zT X (k + rm2.cells) (n + rm2.slots) (fun H => Ex2 E a H) pc L E a) (kk : ∀ v, zG X (k + rm2.cells) (n + rm2.slots) (fun H => P2 v H) (pc + 3) L (v.toList ++ rest)) : zG X k n I pc L st := by
  refine z_ofRun (a := (.ref b :: As).toArray) (rest := rest) hX ?_ kx kk
  obtain ⟨p, l, e, R, s, m, args, below, meth, c, Q, A⟩ := X
  obtain ⟨hx, hb, hr, hlocks, hml, hown, hts, rfl, rfl, rfl, htab, hK, hlt, hnm⟩ := hX
  intro H locs ls hI0 hS hL
  have hcw : va_CU R s args own C y.cls idx y y cc2 nL2 ret2 (ws_ y cc2 nL2 ret2) rm2 rm2.cells rm2.slots na := by
    refine ⟨⟨rfl, rfl, hR.1, hR.2, pay_in hts (lw_meth h6), List.mem_cons_self⟩, hts _ h6, hts _ h5, ⟨hd.1, hd.2.1⟩, fun sig h => ?_, hts _ h1, hts _ hsm, va_Decl.of (hts _ h4) (hts _ h6), va_Nw.use rfl (hK.1.2.2.2.2.2.2.2.2.2.2 _ h3), hts _ h4⟩
    have h2 := hd.2.2
    rw [h] at h2
    exact (Option.some.inj h2).symm
  exact vx_runU ⟨hx, hb, hml, hown, hts⟩ (hc l hlt) hcw ⟨zC_blind, (hI H hI0).2.cl hK.1 hci, fun U hU hW => ⟨rfl, by rw [hU]; exact (hI H hI0).1, by rw [hU]; exact hK.step hW hS⟩⟩ rfl hn (hL.1.trans hLn) hst (lv_room hW) d ⟨hk, hs⟩
/-- super.m(..) -/
theorem z_SU (hX : zF D X own cc nL ret hh rm A P Ex nm) {C : String} (d : decode cc pc = .ok (.invokespecial idx, 3)) (hc : zC D y cc2 nL2 ret2 none rm2 A (.ref b :: As) I2 P2 Ex2)
    (hci : zCl[ci]? = some (C, T, N)) (h1 : Cond.methodLink own idx y ∈ lw_all) (hsm : Cond.sameMethod y.cls y.cls y.name y.desc ∈ lw_all) (hsp : Cond.superclass own y.cls ∈ lw_all) (h4 : Cond.instanceMethod y ∈ lw_all) (h5 : Cond.initialized y.cls ∈ lw_all) (h6 : Cond.code y cc2 nL2 ret2 ∈ lw_all)
    (hd : y.name ≠ "<init>" ∧ (parseMethodDescriptor y.desc).map (fun d => d.parameters.length) = some na) (hR : zRoom rm rm2 nL2) (hn : As.length = na) (hst : st = As.reverse ++ .ref b :: rest) (hW : (rest.map fun v => v.category).sum ≤ 8) (hLn : L.length = nL) (hk : k + rm2.cells ≤ rm.cells) (hs : n + rm2.slots ≤ rm.slots)
    (hI : ∀ H, I H → I2 H ∧ zOb D ci b H)
    (kx : ∀ E a, zT X (k + rm2.cells) (n + rm2.slots) (fun H => Ex2 E a H) pc L E a) (kk : ∀ v, zG X (k + rm2.cells) (n + rm2.slots) (fun H => P2 v H) (pc + 3) L (v.toList ++ rest)) : zG X k n I pc L st := by
  refine z_ofRun (a := (.ref b :: As).toArray) (rest := rest) hX ?_ kx kk
  obtain ⟨p, l, e, R, s, m, args, below, meth, c, Q, A⟩ := X
  obtain ⟨hx, hb, hr, hlocks, hml, hown, hts, rfl, rfl, rfl, htab, hK, hlt, hnm⟩ := hX
  intro H locs ls hI0 hS hL
  have hG : GoodIn lw_all (va_wsSU own idx y (ws_ y cc2 nL2 ret2)) := lw_app (lw_5 h1 hsm hsp h4 h5) (lw_meth h6)
  have hcw := va_cwSU (R := R) (s := s) (args := args) (rm := rm2) na hts hG rfl rfl rfl hd hR
  exact vx_runSU (hK.k1.1 ci _ hci).2 ⟨hx, hb, hml, hown, hts⟩ (hc l hlt) hcw ⟨zC_blind, (hI H hI0).2.cl hK.1 hci, fun U hU hW => ⟨rfl, by rw [hU]; exact (hI H hI0).1, by rw [hU]; exact hK.step hW hS⟩⟩ rfl hn (hL.1.trans hLn) hst (lv_room hW) d ⟨hk, hs⟩
/-- a nest mate's private methods and constructors -/
theorem z_VN (hX : zF D X own cc nL ret hh rm A P Ex nm) {host : String} (d : decode cc pc = .ok (.invokevirtual idx, 3)) (hc : zC D y cc2 nL2 ret2 none rm2 A (.ref b :: As) I2 P2 Ex2)
    (hci : zCl[ci]? = some (y.cls, T, N)) (h1 : (own, idx, y, host) ∈ zNM) (h3 : Cond.selects y.cls y y ∈ lw_all) (h4 : Cond.instanceMethod y ∈ lw_all) (h5 : Cond.initialized y.cls ∈ lw_all) (h6 : Cond.code y cc2 nL2 ret2 ∈ lw_all)
    (hd : zArgN y na) (hR : zRoom rm rm2 nL2) (hn : As.length = na) (hst : st = As.reverse ++ .ref b :: rest) (hW : (rest.map fun v => v.category).sum ≤ 8) (hLn : L.length = nL) (hk : k + rm2.cells ≤ rm.cells) (hs : n + rm2.slots ≤ rm.slots)
    (hI : ∀ H, I H → I2 H ∧ zOb D ci b H)
    (kx : ∀ E a, zT X (k + rm2.cells) (n + rm2.slots) (fun H => Ex2 E a H) pc L E a) (kk : ∀ v, zG X (k + rm2.cells) (n + rm2.slots) (fun H => P2 v H) (pc + 3) L (v.toList ++ rest)) : zG X k n I pc L st := by
  refine z_ofRun (a := (.ref b :: As).toArray) (rest := rest) hX ?_ kx kk
  obtain ⟨p, l, e, R, s, m, args, below, meth, c, Q, A⟩ := X
  obtain ⟨hx, hb, hr, hlocks, hml, hown, hts, rfl, rfl, rfl, htab, hK, hlt, hnm⟩ := hX
  intro H locs ls hI0 hS hL
  have hcw := va_cnB (R := R) (s := s) (args := args) (rm := rm2) na hts (lw_meth h6) rfl rfl rfl (hK.1.2.2.1 _ h1) (hts _ h5) hd hR
  exact vx_runVN ⟨hx, hb, hml, hown, hts⟩ (hc l hlt) ⟨hcw, hts _ h4, hts _ h3⟩ ⟨zC_blind, (hI H hI0).2.cl hK.1 hci, fun U hU hW => ⟨rfl, by rw [hU]; exact (hI H hI0).1, by rw [hU]; exact hK.step hW hS⟩⟩ rfl hn (hL.1.trans hLn) hst (lv_room hW) d ⟨hk, hs⟩
theorem z_SN (hX : zF D X own cc nL ret hh rm A P Ex nm) {host : String} (d : decode cc pc = .ok (.invokestatic idx, 3)) (hc : zC D y cc2 nL2 ret2 none rm2 A As I2 P2 Ex2)
    (h1 : (own, idx, y, host) ∈ zNM) (h4 : Cond.static y ∈ lw_all) (h5 : Cond.initialized y.cls ∈ lw_all) (h6 : Cond.code y cc2 nL2 ret2 ∈ lw_all)
    (hd : zArgN y na) (hR : zRoom rm rm2 nL2) (hn : As.length = na) (hst : st = As.reverse ++ rest) (hW : (rest.map fun v => v.category).sum ≤ 8) (hLn : L.length = nL) (hk : k + rm2.cells ≤ rm.cells) (hs : n + rm2.slots ≤ rm.slots)
    (hI : ∀ H, I H → I2 H)
    (kx : ∀ E a, zT X (k + rm2.cells) (n + rm2.slots) (fun H => Ex2 E a H) pc L E a) (kk : ∀ v, zG X (k + rm2.cells) (n + rm2.slots) (fun H => P2 v H) (pc + 3) L (v.toList ++ rest)) : zG X k n I pc L st := by
  refine z_ofRun (a := As.toArray) (rest := rest) hX ?_ kx kk
  obtain ⟨p, l, e, R, s, m, args, below, meth, c, Q, A⟩ := X
  obtain ⟨hx, hb, hr, hlocks, hml, hown, hts, rfl, rfl, rfl, htab, hK, hlt, hnm⟩ := hX
  intro H locs ls hI0 hS hL
  have hcw := va_cnB (R := R) (s := s) (args := args) (rm := rm2) na hts (lw_meth h6) rfl rfl rfl (hK.1.2.2.1 _ h1) (hts _ h5) hd hR
  exact vx_runSN ⟨hx, hb, hml, hown, hts⟩ (hc l hlt) ⟨hcw, hts _ h4, trivial⟩ ⟨zC_blind, fun U hU hW => ⟨rfl, by rw [hU]; exact hI H hI0, by rw [hU]; exact hK.step hW hS⟩⟩ rfl hn (hL.1.trans hLn) hst (lv_room hW) d ⟨hk, hs⟩
theorem z_CN (hX : zF D X own cc nL ret hh rm A P Ex nm) {host : String} (d : decode cc pc = .ok (.invokespecial idx, 3)) (hc : zC D y cc2 nL2 none none rm2 A (.ref b :: As) I2 P2 Ex2)
    (h1 : (own, idx, y, host) ∈ zNM) (h4 : Cond.instanceMethod y ∈ lw_all) (h5 : Cond.initialized y.cls ∈ lw_all) (h6 : Cond.code y cc2 nL2 none ∈ lw_all) (hy1 : y.name = "<init>")
    (hd : zArgN y na) (hR : zRoom rm rm2 nL2) (hn : As.length = na) (hst : st = As.reverse ++ .ref b :: rest) (hW : (rest.map fun v => v.category).sum ≤ 8) (hLn : L.length = nL) (hk : k + rm2.cells ≤ rm.cells) (hs : n + rm2.slots ≤ rm.slots)
    (hI : ∀ H, I H → I2 H)
    (kx : ∀ E a, zT X (k + rm2.cells) (n + rm2.slots) (fun H => Ex2 E a H) pc L E a) (kk : ∀ v, zG X (k + rm2.cells) (n + rm2.slots) (fun H => P2 v H) (pc + 3) L (v.toList ++ rest)) : zG X k n I pc L st := by
  refine z_ofRun (a := (.ref b :: As).toArray) (rest := rest) hX ?_ kx kk
  obtain ⟨p, l, e, R, s, m, args, below, meth, c, Q, A⟩ := X
  obtain ⟨hx, hb, hr, hlocks, hml, hown, hts, rfl, rfl, rfl, htab, hK, hlt, hnm⟩ := hX
  intro H locs ls hI0 hS hL
  have hcw := va_cnB (R := R) (s := s) (args := args) (rm := rm2) na hts (lw_meth h6) rfl rfl rfl (hK.1.2.2.1 _ h1) (hts _ h5) hd hR
  exact vx_runIN ⟨hx, hb, hml, hown, hts⟩ (hc l hlt) ⟨hcw, hy1, hts _ h4⟩ ⟨zC_blind, fun U hU hW => ⟨rfl, by rw [hU]; exact hI H hI0, by rw [hU]; exact hK.step hW hS⟩⟩ rfl hn (hL.1.trans hLn) hst (lv_room hW) d ⟨hk, hs⟩
/-- by an interface -/
theorem z_ofRun5 {mc ms : Nat} {P2 : Option Value → Heap → Prop} {Ex2 : String → Nat → Heap → Prop} {a : Array Value} {st0 rest : List Value} (hX : zF D X own cc nL ret hh rm A P Ex nm)
    (hr : match X with | (p, l, e, R, s, m, args, below, meth, c, Q, A) => ∀ (H : Heap) (locs : List Loc) (ls : Array Slot), I H → va_S A s.heap H locs → zL ls L → vx_Run5 p l e R s m args below meth c H locs k n mc ms (F0 m pc ls st0) rest (zQc P2 A a) (zXc Ex2 A) A)
    (kx : ∀ E a, zT X (k + mc) (n + ms) (fun H => Ex2 E a H) pc L E a) (kk : ∀ v, zG X (k + mc) (n + ms) (fun H => P2 v H) (pc + 5) L (v.toList ++ rest)) : zG X k n I pc L st0 := by
  obtain ⟨p, l, e, R, s, m, args, below, meth, c, Q, A⟩ := X
  intro H locs ls hI hS hL T hT XX
  have keep : ∀ {st₀ t T' : State} {L0 : List Loc}, st₀.heap = H → T'.heap = t.heap → (∀ q ∈ L0, A q.base) → va_F A st₀ t → va_S A s.heap T'.heap (locs ++ L0) := by
    intro st₀ t T' L0 h0 e1 hA ⟨hz, hk⟩
    rw [h0] at hz hk
    refine ⟨Nat.le_trans hS.1 (by rw [e1]; exact hz), fun q h1 h2 => ?_, fun q hq => ?_⟩
    · rw [e1, hk q (Nat.lt_of_lt_of_le h1 hS.1) h2]
      exact hS.2.1 q h1 h2
    · rcases List.mem_append.mp hq with h | h
      · exact hS.2.2 q h
      · exact hA q h
  rcases hr H locs ls hI hS hL T hT XX with ⟨v, st₀, t, T', L0, h0, X', hL0, e1, e2, ⟨⟨v2, hv, hp⟩, hF⟩, st⟩ | ⟨q, st₀, t, T', L0, E, ce, h0, X', hL0, e1, e2, ⟨hp, hF⟩, hce, hcv, hcl, st⟩
  · cases hv
    obtain ⟨t2, a1, b1⟩ := kk v T'.heap (locs ++ L0) ls (by rw [e1]; exact hp) (keep h0 e1 hL0 hF) hL T' rfl X'
    exact ⟨t2, st t2 a1, b1⟩
  · obtain ⟨t2, a1, b1⟩ := kx E q T'.heap (locs ++ L0) ls rest ce (by rw [e1]; exact hp) (keep h0 e1 hL0 hF) hL (by rw [e1]; exact hce) hcv hcl T' rfl X'
    exact ⟨t2, st.trans a1, b1⟩
theorem z_F (hX : zF D X own cc nL ret hh rm A P Ex nm) {C : String} {cnt : Nat} (d : decode cc pc = .ok (.invokeinterface idx cnt, 5)) (hc : zC D y cc2 nL2 ret2 none rm2 A (.ref b :: As) I2 P2 Ex2)
    (hci : zCl[ci]? = some (C, T, N)) (h1 : Cond.methodLink own idx x ∈ lw_all) (h3 : Cond.selects C x y ∈ lw_all) (h4 : Cond.instanceMethod y ∈ lw_all) (h5 : Cond.initialized y.cls ∈ lw_all) (h6 : Cond.code y cc2 nL2 ret2 ∈ lw_all) (hF : (C, x, y) ∈ zFs)
    (hd : zArgN x na) (hR : zRoom rm rm2 nL2) (hn : As.length = na) (hst : st = As.reverse ++ .ref b :: rest) (hW : (rest.map fun v => v.category).sum ≤ 8) (hLn : L.length = nL) (hk : k + rm2.cells ≤ rm.cells) (hs : n + rm2.slots ≤ rm.slots)
    (hI : ∀ H, I H → I2 H ∧ zOb D ci b H)
    (kx : ∀ E a, zT X (k + rm2.cells) (n + rm2.slots) (fun H => Ex2 E a H) pc L E a) (kk : ∀ v, zG X (k + rm2.cells) (n + rm2.slots) (fun H => P2 v H) (pc + 5) L (v.toList ++ rest)) : zG X k n I pc L st := by
  refine z_ofRun5 (a := (.ref b :: As).toArray) (rest := rest) hX ?_ kx kk
  obtain ⟨p, l, e, R, s, m, args, below, meth, c, Q, A⟩ := X
  obtain ⟨hx, hb, hr, hlocks, hml, hown, hts, rfl, rfl, rfl, htab, hK, hlt, hnm⟩ := hX
  intro H locs ls hI0 hS hL
  have hG : GoodIn lw_all (va_wsF own idx C x y (ws_ y cc2 nL2 ret2)) := lw_app (lw_4 (ws := []) h1 h3 h4 h5) (lw_meth h6)
  have hcw := va_cwF (R := R) (s := s) (args := args) (rm := rm2) na hts hG rfl rfl rfl (hK.1.2.2.2.2.2.2.2.1 _ hF) hd hR
  exact vx_runF (hK.k1.1 ci _ hci).2 ⟨hx, hb, hml, hown, hts⟩ (hc l hlt) hcw ⟨zC_blind, (hI H hI0).2.cl hK.1 hci, fun U hU hW => ⟨rfl, by rw [hU]; exact (hI H hI0).1, by rw [hU]; exact hK.step hW hS⟩⟩ rfl hn (hL.1.trans hLn) hst (lv_room hW) d ⟨hk, hs⟩
end ZC2
end ZCC

