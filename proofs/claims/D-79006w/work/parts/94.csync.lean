/-! A SYNCHRONIZED METHOD: Throwable.getCause; its call; RefusedException.at -/
set_option maxRecDepth 100000
section VSY
variable {l : Launch} {R : Room} {p : Program} {e : Env} {below : List Frame} {s : State} {sargs : Array Value} {y : MethodName} {len W9 : Nat}
theorem vs_back {ws : List Cond} {rm : Room} {Pc : Array Value → State → Prop} {Qc : Array Value → State → Outcome → State → Prop} {XC : Nat → String → State → State → Prop} {mc ms : Nat} {free : Addr → Prop} {bytes : ByteArray} {maxL : Nat} {ret : Option FieldType}
    (hM : vx_Met l y ws rm Pc Qc XC mc ms free) (hblind : FrameBlind Pc) (hrc : rm.cells = mc) (hrs : rm.slots = ms)
    (hframes : rm.frames + 1 ≤ R.frames) (hlocals : W9 + (maxL + 11) + rm.locals ≤ R.locals)
    (hws : ∀ w ∈ ws, ∀ a' U, s.WarmedH U.vm → w.before a' U = true) (hcode : Cond.codeSync y bytes maxL ret ∈ ws) (hinit : ∀ a' U, s.WarmedH U.vm → (Cond.initialized y.cls).before a' U = true) :
    vx_Back l R p e below s sargs y len W9 (PreOf R mc ms Pc) (PostOf Qc mc ms free) (vx_Post XC mc ms free) := by
  intro m meth c A g ig mk a X hg hsize hdg hW hn hp
  have h1 : (headSpec ws rm).pre.before a A.U = true := atoms_intro fun w hw => hws w hw _ _ X.warmed
  have h2 : (Cond.codeSync y bytes maxL ret).before a A.U = true := hws _ hcode _ _ X.warmed
  have h3 : (Cond.initialized y.cls).before a A.U = true := hinit _ _ X.warmed
  have h4 : A.cells + (headSpec ws rm).room.cells ≤ R.cells := by rw [show (headSpec ws rm).room.cells = mc from hrc]; exact hp.1
  have h5 : A.slots + (headSpec ws rm).room.slots ≤ R.slots := by rw [show (headSpec ws rm).room.slots = ms from hrs]; exact hp.2.1
  have hPc : Pc a (A.U.calling g mk a) := hblind _ _ _ _ hp.2.2
  obtain ⟨U, Ls, c0, s0⟩ := A
  dsimp only [Pt.U, Pt.locs, Pt.cells, Pt.slots] at h1 h2 h3 h4 h5 X hn hPc ⊢
  obtain ⟨methY, cY, hmY, hcY, -, hlY, -, -, -, -⟩ := Cond.codeSync_spec hn h2
  obtain ⟨kY, hkY, -⟩ := className_of_methodNamed hn
  have hinitY : kY.init = .initialized := Cond.initialized_spec (findClass_of_methodNamed hn) hkY h3
  have h : At U g.method c below := by rw [hg]; exact X.here
  have hlocals9 : W9 + (maxL + 11) + (headSpec ws rm).room.locals ≤ R.locals := hlocals
  have happ : (headSpec ws rm).appliesLoose y e.platform (U.calling g mk a) = true :=
    Spec.appliesLoose_calling (g := g) h hdg hn hkY hinitY
      (X.room_calling (g := g) (R' := (headSpec ws rm).room) hsize hmY hcY hframes (by rw [hlY]; omega) h4 h5) h1
  obtain ⟨mid, hmid⟩ := h.above
  have hfr : (U.setTop g).frames = (.java g :: mid) ++ below := by rw [State.frames_setTop' g h.top, hmid]; rfl
  obtain ⟨o, s₂, hsteps, -, hend, hq⟩ := Steps.callFree hM p X.admits X.cas X.clock (acts := []) hfr happ hPc trivial
  have hq' : vx_Q Qc XC mc ms free a (U.calling g mk a) o s₂ := hq
  rw [State.frames_setTop' g h.top] at hend
  obtain ⟨g₀, hg0⟩ := Option.isSome_iff_exists.mp h.top
  obtain ⟨r, hr⟩ := State.topJava?_eq_some.mp hg0
  have hr' : (({ U with heap := s₂.heap, slotsUsed := s₂.slotsUsed } : State).setVm s₂.vm).frames = .java g₀ :: r := hr
  rcases hq' with ⟨hqc, L, hfe, hL⟩ | ⟨q, rfl, E, ce, L, hx, hce, hcv, hcl, hW₂, hsm, hL⟩
  · obtain ⟨⟨v, rfl⟩, hW₂, e2, q2, q3, q4, q5, q6⟩ := id hfe
    have e3 : s₂ = ({ (U.calling g mk a).setFrames s₂.frames with heap := s₂.heap, slotsUsed := s₂.slotsUsed } : State).setVm s₂.vm := by
      have : s₂ = ({ s₂ with vm := (U.calling g mk a).vm } : State).setVm s₂.vm := rfl
      rw [e2] at this
      exact this
    obtain ⟨c₂, i₂, len₂, hc₂, hd₂, hf₂⟩ := hend
    have hW' : U.WarmedH s₂.vm := hW₂
    have hcc : c₂ = c := by
      have h1 : s₂.code? g.method = U.code? g.method := by
        rw [State.code?_eq, State.code?_eq, hW'.alike.method?]
      exact Option.some.inj (hc₂.symm.trans (h1.trans h.code))
    subst hcc
    have hlen : len₂ = len := by rw [hdg] at hd₂; cases hd₂; rfl
    subst hlen
    have hs₂ : s₂ = (({ U with heap := s₂.heap, slotsUsed := s₂.slotsUsed } : State).setVm s₂.vm).setTop { g with pc := g.pc + len₂, stack := v.toList ++ g.stack } := by
      refine e3.trans ?_
      rw [hf₂, State.calling_eq h.top, State.setFrames_setFrames, State.setTop_of_frames _ hr', hr]
      rfl
    have hsame : U.sameButNew ({ U with heap := s₂.heap, slotsUsed := s₂.slotsUsed } : State) L mc ms := by
      refine ⟨?_, q2, q3, q4, q5, q6⟩
      obtain ⟨t, ht, -⟩ := State.frames_cons hr
      show ({ U with heap := s₂.heap, slotsUsed := s₂.slotsUsed } : State) = { U.setFrames U.frames with heap := s₂.heap, slotsUsed := s₂.slotsUsed }
      rw [State.setFrames_self ht]
    subst hg
    refine Or.inl ⟨v, ⟨(({ U with heap := s₂.heap, slotsUsed := s₂.slotsUsed } : State).setVm s₂.vm), Ls ++ L, c0 + mc, s0 + ms⟩,
      ⟨X.admits, X.cas, X.clock, X.frames, X.room, X.hears, X.method, X.code, (X.here.setHeapUsed s₂.heap s₂.slotsUsed).setVm hW'.alike, X.tail, State.WarmedH.trans X.warmed hW', X.limits, X.bytes, X.same.trans (hsame.setVm s.vm)⟩,
      ⟨g, mk, s₂, L, rfl, rfl, hqc, rfl, hL, rfl, rfl⟩, ?_⟩
    show Steps p.tables e below _ ((({ U with heap := s₂.heap, slotsUsed := s₂.slotsUsed } : State).setVm s₂.vm).setTop { g with pc := g.pc + len₂, stack := v.toList ++ g.stack })
    rw [← hs₂]
    exact hsteps
  · obtain ⟨e2, q2, q3, q4, q5, q6⟩ := id hsm
    have e3 : s₂ = ({ (U.calling g mk a).setFrames s₂.frames with heap := s₂.heap, slotsUsed := s₂.slotsUsed } : State).setVm s₂.vm := by
      have : s₂ = ({ s₂ with vm := (U.calling g mk a).vm } : State).setVm s₂.vm := rfl
      rw [e2] at this
      exact this
    have hf₂ : s₂.frames = .throwing q :: .java g :: U.frames.tail := hend
    have hW' : U.WarmedH s₂.vm := hW₂
    have hs₂ : s₂ = ((({ U with heap := s₂.heap, slotsUsed := s₂.slotsUsed } : State).setVm s₂.vm).setTop g).pushFrame (.throwing q) := by
      refine e3.trans ?_
      rw [hf₂, State.calling_eq h.top, State.setFrames_setFrames, State.pushFrame, State.frames_setTop _ hr', State.setTop_of_frames _ hr', State.setFrames_setFrames, hr]
      rfl
    have hsame : U.sameButNew ({ U with heap := s₂.heap, slotsUsed := s₂.slotsUsed } : State) L mc ms := by
      refine ⟨?_, q2, q3, q4, q5, q6⟩
      obtain ⟨t, ht, -⟩ := State.frames_cons hr
      show ({ U with heap := s₂.heap, slotsUsed := s₂.slotsUsed } : State) = { U.setFrames U.frames with heap := s₂.heap, slotsUsed := s₂.slotsUsed }
      rw [State.setFrames_self ht]
    subst hg
    refine Or.inr ⟨q, ⟨(({ U with heap := s₂.heap, slotsUsed := s₂.slotsUsed } : State).setVm s₂.vm), Ls ++ L, c0 + mc, s0 + ms⟩,
      ⟨X.admits, X.cas, X.clock, X.frames, X.room, X.hears, X.method, X.code, (X.here.setHeapUsed s₂.heap s₂.slotsUsed).setVm hW'.alike, X.tail, State.WarmedH.trans X.warmed hW', X.limits, X.bytes, X.same.trans (hsame.setVm s.vm)⟩,
      ⟨g, mk, s₂, L, E, ce, rfl, rfl, hx, hce, hcv, hcl, rfl, hL, rfl, rfl⟩, ?_⟩
    show Steps p.tables e below _ (((({ U with heap := s₂.heap, slotsUsed := s₂.slotsUsed } : State).setVm s₂.vm).setTop g).pushFrame (.throwing q))
    rw [← hs₂]
    exact hsteps
end VSY
section VSY
variable {p : Program} {l : Launch} {e : Env} {R : Room} {s : State} {m : MethodId} {args : Array Value} {below : List Frame} {meth : Method} {c : Code} {H : Heap} {locs : List Loc} {cells slots : Nat}
theorem vs_callVU {T : State} {locs : List Loc} {cells slots : Nat} (X : Stand p l e R s m args below meth c T locs cells slots) (hexec : p.tables.exec = Jvm.exec) {own C owner : String} {index : Nat} {x y : MethodName}
    (hown : s.vm.findClass own = some m.cls) (hlink : (Cond.methodLink own index x).before args s = true) (hsame : (Cond.sameMethod x.cls owner x.name x.desc).before args s = true)
    (hd0 : va_Decl s ⟨owner, x.name, x.desc⟩) (howner : owner ≠ "java/lang/invoke/MethodHandle" ∧ owner ≠ "java/lang/invoke/VarHandle")
    (hsel : (Cond.selects C x y).before args s = true) (hinst : (Cond.instanceMethod y).before args s = true)
    {W : Nat} {Pre : Pt → Array Value → Prop} {Post : Pt → Array Value → Option Value → Pt → Prop} {PostX : Pt → Array Value → Addr → Pt → Prop} (hK : vx_Back l R p e below s args y 3 W Pre Post PostX)
    {b : Addr} {cellB : Cell} (hcell : T.heap[b]? = some cellB) (hobj : cellB.vm.isStatics = false) (hcls : s.vm.findClass C = some cellB.cls)
    {g : JFrame} (hg : g.method = m) (hsize : g.locals.size = c.maxLocals) {argsL rest : List Value} (hlen : ∀ sig, parseMethodDescriptor x.desc = some sig → argsL.length = sig.parameters.length)
    (hstack : g.stack = argsL.reverse ++ .ref b :: rest) (hW : 2 * g.monitorRoom + (rest.map fun v => v.category).sum ≤ W) (hdg : decode c.code g.pc = .ok (.invokevirtual index, 3))
    (hpre : ∀ vm₁, s.WarmedH vm₁ → Pre ⟨T.setVm vm₁, locs, cells, slots⟩ (Value.ref b :: argsL).toArray) :
    (∃ (v : Option Value) (vm₁ : Vm) (B : Pt), s.WarmedH vm₁ ∧ Stand p l e R s m args below meth c B.U B.locs B.cells B.slots ∧ Post ⟨T.setVm vm₁, locs, cells, slots⟩ (Value.ref b :: argsL).toArray v B ∧
      ∀ target, Steps p.tables e below (B.U.setTop { g with pc := g.pc + 3, stack := v.toList ++ rest }) target → Steps p.tables e below (T.setTop g) target) ∨
    (∃ (q : Addr) (vm₁ : Vm) (B : Pt), s.WarmedH vm₁ ∧ Stand p l e R s m args below meth c B.U B.locs B.cells B.slots ∧ PostX ⟨T.setVm vm₁, locs, cells, slots⟩ (Value.ref b :: argsL).toArray q B ∧
      Steps p.tables e below (T.setTop g) ((B.U.setTop { g with stack := rest }).pushFrame (.throwing q))) := by
  obtain ⟨r0, r, hn, hrm, hstR, hsigR⟩ := hd0
  obtain ⟨cn, ck, r1, hcn, hck, hni, hf, hn1⟩ := Cond.sameMethod_found hsame
  cases hn.symm.trans hn1
  obtain ⟨mk, methM, hnamed, hmethM, -, habM⟩ := Cond.instanceMethod_spec hinst
  obtain ⟨c2, r2, m2, q1, q2, q3, q4, kP, hkP, hkPi⟩ := Cond.selects_spec hsel
  cases hcls.symm.trans q1
  cases hf.symm.trans q2
  cases hnamed.symm.trans q3
  have hselP : selectMethod e.platform s.vm cellB.cls r0 = .method mk := by rw [Launch.admits_selectMethod X.admits]; exact q4
  obtain ⟨vm₁, X₁, hstep₁⟩ := X.invokevirtualUp hexec hown hlink hsame howner hn hrm hstR (a := b) (cell := cellB) hcell
    (fun z h => by rw [h] at hobj; cases hobj) hselP hmethM habM hkP hkPi (g := g) hg (argsL := argsL) (rest := rest) (hlen _ hsigR) hstack hdg
  rcases hK m meth c ⟨T.setVm vm₁, locs, cells, slots⟩ { g with stack := rest } (.invokevirtual index) mk (Value.ref b :: argsL).toArray X₁ hg hsize hdg hW (X₁.named hnamed) (hpre vm₁ X₁.warmed) with ⟨v, B, X', hpost, hsteps⟩ | ⟨q, B, X', hpost, hsteps⟩
  · exact Or.inl ⟨v, vm₁, B, X₁.warmed, X', hpost, fun target h => hstep₁ _ fun acts => by rw [doInvoke_state]; exact hsteps.trans h⟩
  · exact Or.inr ⟨q, vm₁, B, X₁.warmed, X', hpost, hstep₁ _ fun acts => by rw [doInvoke_state]; exact hsteps⟩
/-- the entry of a synchronized method (follows the proofs of the library's Meets.of_body_sync and Stand.of_body_sync) -/
theorem vs_ofS {l : Launch} {x : MethodName} {S : Spec} {P : Array Value → State → Prop} {K : Program → Env → List Frame → State → Array Value → Prop} {Q : Array Value → State → Outcome → State → Prop} {code : ByteArray} {maxLocals : Nat} {ret : Option FieldType} (hx : plainFor x = true)
    (his : ∀ args (s : State) m, S.pre.before args s = true → s.methodNamed? x = some m → ∃ meth c, s.vm.method? m = some meth ∧ meth.code = some c ∧ c.code = code ∧ c.maxLocals = maxLocals ∧ meth.sig.returnType = ret ∧ meth.locks = true ∧ meth.isStatic = false)
    (hrecv : ∀ args (s : State), S.pre.before args s = true → P args s → ∃ a cell, args[0]? = some (.ref a) ∧ s.heap[a]? = some cell ∧ cell.enterable s.cur)
    (body : ∀ (p : Program) e s m args below meth c a cell s₁, p.tables.exec = Jvm.exec → s.methodNamed? x = some m → S.pre.before args s = true → meth.sig.returnType = ret → meth.locks = true → c.code = code → args[0]? = some (.ref a) → s.heap[a]? = some cell → cell.enterable s.cur →
      s₁.heap = s.heap.setIfInBounds a (cell.withEntry s.cur) → Stand p l e S.room (s.setCell a (cell.withEntry s.cur)) m args below meth c s₁ [] 0 0 → P args s → ∃ s₂ o, Steps p.tables e below (s₁.setTop (entryFrameSync m args maxLocals a)) s₂ ∧ s₂.status = .running ∧ Ended s₂ below o ∧ Q args s o s₂) : MetFree l x S P K Q := by
  intro p e ha hc hk s m args below hf happ hP hK
  obtain ⟨hrun, hable, halone, hname, hhears, hinit, hroom, hpre⟩ := (Spec.appliesLoose_iff hf).mp happ
  obtain ⟨meth, c, hmeth, hcode, hbytes, hlocals, hret, hlocks, hst⟩ := his args s m hpre hname
  obtain ⟨a, cell, harg, hcell, hent⟩ := hrecv args s hpre hP
  have hcur := State.cur_lt_of_frames hf
  obtain ⟨z, hz⟩ : ∃ z, z = s.setCell a (cell.withEntry s.cur) := ⟨_, rfl⟩
  have hcur' : z.cur < z.threads.size := by rw [hz]; exact hcur
  have hf1 : (z.setFrames (.java (entryFrameSync m args maxLocals a) :: below)).frames = .java (entryFrameSync m args maxLocals a) :: below := State.frames_setFrames _ hcur'
  have ht1 := State.topJava?_of_frames hf1
  have hplain : (z.setFrames (.java (entryFrameSync m args maxLocals a) :: below)).plainMethod m := by rw [hz]; exact State.plainMethod.of_named (s := s) hx hname hmeth
  have hAt : At (z.setFrames (.java (entryFrameSync m args maxLocals a) :: below)) m c below := by
    subst hz
    exact ⟨by rw [ht1]; rfl, ⟨[], by rw [hf1]; rfl⟩, hrun, by simpa using hable, by simpa using halone, by rw [State.code?_eq]; simp [State.setFrames, State.setCell, hmeth, hcode], hplain⟩
  obtain ⟨t9, ht9, -⟩ := State.frames_cons hf
  have hX : Stand p l e S.room z m args below meth c (z.setFrames (.java (entryFrameSync m args maxLocals a) :: below)) [] 0 0 := by
    refine ⟨ha, hc, hk, by rw [hz]; exact hf, by rw [hz, State.hasRoom_setCell (x := cell.withEntry s.cur) hcell rfl]; exact hroom, by rw [hz]; exact hhears, by rw [hz]; exact hmeth, hcode, hAt, by rw [hf1]; rfl, by rw [hz]; exact State.WarmedH.refl (s.setCell a (cell.withEntry s.cur)), by rw [State.stackLimits_setFrames], by rw [State.stackBytes_setFrames], ?_⟩
    rw [hz]
    exact (State.sameButNew.refl (s.setCell a (cell.withEntry s.cur)) (x := t9) ht9).setFrames (.java (entryFrameSync m args maxLocals a) :: below) hcur
  obtain ⟨s₂, o, hs, hr, he, hp⟩ := body p e s m args below meth c a cell _ (by cases p <;> rfl) hname hpre hret hlocks hbytes harg hcell hent (by subst hz; rfl) (hz ▸ hX) hP
  have hstep : (stepThread p.tables e s).1 = (z.setFrames (.java (entryFrameSync m args maxLocals a) :: below)).setTop (entryFrameSync m args maxLocals a) := by
    have hfull : e.platform.stackFull (s.setFrames below).me (s.setFrames below).frames (c.maxLocals + 2) = false := by
      obtain ⟨-, h1, -, h2⟩ := State.hasRoom_stack hroom
      rw [hf, List.length_cons] at h1
      rw [State.localsInUse_invoking hf hmeth hcode] at h2
      have hw := stackUse_le_stackWeight below
      rw [State.frames_setFrames _ hcur]
      simp only [vmFrameWords] at h2
      exact Platform.stackFull_eq_false (by rw [State.stackLimits_setFrames]; omega) (by rw [State.stackLimits_setFrames]; omega)
    rw [stepThread_invoking hf, (doInvoke_java_sync (s := s.setFrames below) (e := e) (meth := meth) (code := c) (a := a) (cell := cell) hmeth hcode hlocks hst harg hcell hent.either hfull).1, State.setTop_self ht1, hlocals, hz]
    show (((s.setFrames below).setCell a (cell.withEntry s.cur)).setFrames (.java (entryFrameSync m args maxLocals a) :: ((s.setFrames below).setCell a (cell.withEntry s.cur)).frames)) = _
    rw [show ((s.setFrames below).setCell a (cell.withEntry s.cur)).frames = below from State.frames_setFrames _ hcur, State.setCell_setFrames, State.setFrames_setFrames]
  obtain ⟨n, hn, hw⟩ := Steps.head (tb := p.tables) (e := e) ⟨hrun, hable, halone⟩ ⟨[.invoking m args], hf, by simp, by simp⟩ (hstep ▸ (hz ▸ hs))
  exact ⟨n, o, hw, hn ▸ hr, hn ▸ he, hn ▸ hp⟩
abbrev wsY_ (y : MethodName) (b : ByteArray) (L : Nat) (r : Option FieldType) : List Cond := Cond.codeSync y b L r :: lw_all
/-- a synchronized method's contract -/
def zCy (D : zD) (y : MethodName) (cc : ByteArray) (nL : Nat) (ret : Option FieldType) (rm : Room) (A : Nat → Prop) (As : List Value) (I : Heap → Prop) (P : Option Value → Heap → Prop) (Ex : String → Nat → Heap → Prop) : Prop :=
  ∀ l : Launch, l.stackTraces = false → vx_Met l y (wsY_ y cc nL ret) rm (va_Pc As (fun U => I U.heap ∧ zK D A U U.heap)) (zQc P A) (zXc Ex A) rm.cells rm.slots A
variable {pc : Nat} {ls : Array Slot} {rest : List Value} {cc : ByteArray} {Q : State → Prop} {a : Nat}
abbrev gcF (a : Nat) (m : MethodId) (pc : Nat) (ls : Array Slot) (st : List Value) : JFrame := { method := m, pc := pc, locals := ls, stack := st, locked := some a, monitorRoom := 1 }
theorem gc_al (hexec : p.tables.exec = Jvm.exec) (hb : c.code = cc) {k : Fin 4} {i : Nat} {x : Nat} (hdg : decode cc pc = .ok (.aload_n k, 1)) (hi : (k : Nat) = i) (hl : ls[i]? = some (.val (.ref x)))
    (k : W p l e R s m args below meth c H locs cells slots Q (gcF a m (pc + 1) ls (.ref x :: rest))) : W p l e R s m args below meth c H locs cells slots Q (gcF a m pc ls (rest)) := by
  subst hi
  intro T hT X
  obtain ⟨t, a1, b⟩ := k T hT X
  refine ⟨t, ?_, b⟩
  jvm_step X.here [X.here.top, hexec, hb, hdg, hl, Value.isRef]
  exact a1
theorem gc_acmp (hexec : p.tables.exec = Jvm.exec) (hb : c.code = cc) {rx : Option Nat} {b : Nat} {off : Int} {tgt : Nat} (hdg : decode cc pc = .ok (.if_acmp .ne off, 3)) (ht : (pc : Int) + off = (tgt : Int)) (hP : rx ≠ some b)
    (kt : W p l e R s m args below meth c H locs cells slots Q (gcF a m tgt ls rest)) : W p l e R s m args below meth c H locs cells slots Q (gcF a m pc ls (.ref b :: va_rf rx :: rest)) := by
  intro T hT X
  obtain ⟨t, a1, b1⟩ := kt T hT X
  refine ⟨t, ?_, b1⟩
  cases rx with
  | none => jvm_step X.here [X.here.top, hexec, hb, hdg, va_rf, Value.asRef?, Op.if_acmp.holds, ht]; exact a1
  | some x =>
    have hxy : ¬ x = b := fun q => hP (by rw [q])
    jvm_step X.here [X.here.top, hexec, hb, hdg, va_rf, Value.asRef?, Op.if_acmp.holds, ht, hxy]; exact a1
theorem gc_0 : decode prog_41_method_8_code 0 = .ok (.aload_n 0, 1) := by decide +kernel
theorem gc_1 : decode prog_41_method_8_code 1 = .ok (.getfield 7, 3) := by decide +kernel
theorem gc_4 : decode prog_41_method_8_code 4 = .ok (.aload_n 0, 1) := by decide +kernel
theorem gc_5 : decode prog_41_method_8_code 5 = .ok (.if_acmp .ne 7, 3) := by decide +kernel
theorem gc_12 : decode prog_41_method_8_code 12 = .ok (.aload_n 0, 1) := by decide +kernel
theorem gc_13 : decode prog_41_method_8_code 13 = .ok (.getfield 7, 3) := by decide +kernel
theorem gc_16 : decode prog_41_method_8_code 16 = .ok (.areturn, 1) := by decide +kernel
/-- its code, up to the answer -/
theorem gc_W (hx : p.tables.exec = Jvm.exec) (hb : c.code = prog_41_method_8_code) (hown : s.vm.findClass "java/lang/Throwable" = some m.cls) (hlink : (Cond.fieldLink "java/lang/Throwable" 7 "java/lang/Throwable" "cause" "Ljava/lang/Throwable;").before args s = true)
    {cf i : Nat} {k : Class} {f : Field} (hi : s.fieldFound? "java/lang/Throwable" "cause" "Ljava/lang/Throwable;" = some (cf, k, i, f)) (hst : f.isStatic = false) {cell : Cell} {r : Option Nat} (hcell : H[a]? = some cell) (hknown : cell.vm ≠ .unknown) (hslot : cell.slots[f.slot]? = some (va_rf r)) (hr : r ≠ some a)
    (hl : ls[0]? = some (.val (.ref a))) (kk : W p l e R s m args below meth c H locs cells slots Q (gcF a m 16 ls [va_rf r])) : W p l e R s m args below meth c H locs cells slots Q (gcF a m 0 ls []) := by
  refine gc_al hx hb gc_0 rfl hl ?_
  refine W.getf hx hb hown hlink hi hst hcell hknown hslot rfl rfl gc_1 ?_
  refine gc_al (pc := 4) hx hb gc_4 rfl hl ?_
  refine gc_acmp (pc := 5) hx hb gc_5 (tgt := 12) rfl hr ?_
  refine gc_al (pc := 12) hx hb gc_12 rfl hl ?_
  exact W.getf hx hb hown hlink hi hst hcell hknown hslot rfl rfl gc_13 kk
end VSY
def yGC : MethodName := ⟨"java/lang/Throwable", "getCause", "()Ljava/lang/Throwable;"⟩
abbrev rmGC : Room := { frames := 0, cells := 0, slots := 0, locals := 0 }
theorem gc_met (D : zD) (A : Nat → Prop) {w m : zMp} {b : Nat} {r : Option Nat} {c d : Int} (hm : m b = some (eR r c d)) (hr : r ≠ some b) : zCy D yGC prog_41_method_8_code 1 (some (.object "java/lang/Throwable")) rmGC A [.ref b] (cI D A w m) (zPd (va_rf r) (cI D A w m)) zNo := by
  intro l hl
  have hcell : ∀ H, cI D A w m H → ∃ cell : Cell, H[b]? = some cell ∧ cell.cls = D.1.1 ciX9 ∧ cell.vm = .none ∧ (cell.monitor.owner = none ∧ cell.monitor.count = 0) ∧ cell.slots[D.1.2 ciX9 0]? = some (va_rf r) := by
    intro H hI
    obtain ⟨B, -, q⟩ := hI.it (Or.inr hm)
    obtain ⟨r0, cell, q1, q2, q3, q4, q5, q6⟩ := q
    have hr0 : r0 = (RX9, TX9, 8) := Option.some.inj (q1.symm.trans rfl)
    subst hr0
    exact ⟨cell, q2, q3, q4, q5, (q6 0 (by decide)).trans rfl⟩
  refine vs_ofS (code := prog_41_method_8_code) (maxLocals := 1) (ret := some (.object "java/lang/Throwable")) (by decide +kernel) ?_ ?_ ?_
  · intro args s m9 hh hn
    have hts := atoms_spec (ws := wsY_ yGC prog_41_method_8_code 1 (some (.object "java/lang/Throwable"))) hh
    obtain ⟨meth, c9, hmeth, hcode, hbytes, hlocals, hret, hlocks, -, -⟩ := Cond.codeSync_spec hn (hts _ List.mem_cons_self)
    obtain ⟨mk, methM, hn2, hm2, hst, -⟩ := Cond.instanceMethod_spec (hts _ (List.mem_cons_of_mem _ q1823))
    cases hn2.symm.trans hn
    cases hm2.symm.trans hmeth
    exact ⟨_, c9, hmeth, hcode, hbytes, hlocals, hret, hlocks, hst⟩
  · intro args s hh hP
    obtain ⟨rfl, hI, -⟩ := hP
    obtain ⟨cell, h1, -, -, h4, -⟩ := hcell _ hI
    exact ⟨b, cell, rfl, h1, Or.inl h4⟩
  · intro p e s m9 args below meth c9 a cell s₁ hxx hnamed hpre9 hret2 hlocks hbb hrec hobj hent hh hXs hP
    obtain ⟨rfl, hI, hK⟩ := hP
    have hab : a = b := by
      have h := hrec
      have h2 : (#[Value.ref b] : Array Value)[0]? = some (.ref b) := rfl
      exact Value.ref.inj (Option.some.inj (h.symm.trans h2))
    subst hab
    have hts := atoms_spec (ws := wsY_ yGC prog_41_method_8_code 1 (some (.object "java/lang/Throwable"))) hpre9
    have hts : ∀ w ∈ lw_all, w.before [Value.ref a].toArray s = true := fun w h => hts w (List.mem_cons_of_mem _ h)
    obtain ⟨cell2, h1, h2, h3, h4, h5⟩ := hcell _ hI
    cases Option.some.inj (h1.symm.trans hobj)
    obtain ⟨hSl, hfc, kC, hkC, hkind⟩ := hK.k1.1 ciX9 (RX9, TX9, 8) rfl
    obtain ⟨cf, kf, fi, f, hi, hsl⟩ := hSl 0 (by decide)
    have hfac := (u_facts hfc hkC (u_lays hts in_X9 (show 0 < 8 by decide)) hi).1
    have hls : argsToLocals [Value.ref a].toArray 1 = #[.val (.ref a)] := rfl
    have hc1 : s₁.heap[a]? = some (cell.withEntry s.cur) := by
      have hlt : a < s.heap.size := (Array.getElem?_eq_some_iff.mp hobj).1
      rw [hh]
      simp [hlt]
    have hmain : W p l e (headSpec (wsY_ yGC prog_41_method_8_code 1 (some (.object "java/lang/Throwable"))) rmGC).room (s.setCell a (cell.withEntry s.cur)) m9 [Value.ref a].toArray below meth c9 s₁.heap [] 0 0 (fun t => ∃ o, t.status = .running ∧ Ended t below o ∧ vx_Q (zQc (zPd (va_rf r) (cI D A w m)) A) (zXc zNo A) rmGC.cells rmGC.slots A [Value.ref a].toArray s o t) (gcF a m9 0 #[.val (.ref a)] []) := by
      refine gc_W hxx hbb (findClass_of_methodNamed (s := s) hnamed) (word_at (a' := [Value.ref a].toArray) (s := s) (State.WarmedH.refl s) (Or.inl rfl) (hts _ q366)) (cf := cf) (i := fi) (k := kf) (f := f) hi hfac hc1 (by show cell.vm ≠ _; rw [h3]; exact fun q => by cases q) (r := r) (by show cell.slots[f.slot]? = _; rw [hsl]; exact h5) hr rfl ?_
      intro T hT X
      have hmeth' : T.vm.method? m9 = some meth := X.method'
      obtain ⟨fs, cellT, hcT, hret, hrun, hend, hW, hfr⟩ := X.leaveSync hobj hent hlocks (v := some (va_rf r)) (fun h => by rw [hret2] at h; cases h)
      have hcT2 : cellT = cell.withEntry s.cur := by
        rw [hT] at hcT
        exact Option.some.inj (hcT.symm.trans hc1)
      have hheap : ((T.setCell a cellT.left).setFrames fs).heap = s.heap := by
        show T.heap.setIfInBounds a cellT.left = s.heap
        rw [hcT2, Cell.left_withEntry' hent, hT, hh, Array.setIfInBounds_setIfInBounds]
        exact congrArg (·.heap) (State.setCell_same hobj)
      refine ⟨(T.setCell a cellT.left).setFrames fs, ?_, .returned (some (va_rf r)), hrun, hend, Or.inl ⟨⟨⟨_, rfl, rfl, by rw [hheap]; exact hI⟩, ?_⟩, [], ⟨⟨_, rfl⟩, hW, hfr⟩, fun q hq => by cases hq⟩⟩
      · cases r <;>
          (dsimp only [va_rf] at hret
           jvm_step X.here [X.here.top, hxx, hbb, gc_16, hmeth', hret2, va_rf]
           (try refine ⟨rfl, ?_⟩); (try refine ⟨rfl, ?_⟩)
           first | (intro acts; rw [hret _ acts rfl rfl rfl]) | rw [hret _ _ rfl rfl rfl]
           exact Steps.refl _)
      · exact ⟨by rw [hheap]; exact Nat.le_refl _, fun q _ _ => by rw [hheap]⟩
    obtain ⟨t, a1, o, b1, b2, b3⟩ := hmain s₁ rfl hXs
    exact ⟨t, o, a1, b1, b2, b3⟩
section
variable {p : Program} {l : Launch} {e : Env} {R : Room} {s : State} {m : MethodId} {args : Array Value} {below : List Frame} {meth : Method} {c : Code} {H : Heap} {locs : List Loc} {cells slots : Nat}
theorem vs_runU {x y : MethodName} {bytes cc : ByteArray} {maxL nL mc ms n index : Nat} {ret : Option FieldType} {ws : List Cond} {rm : Room} {Pc : Array Value → State → Prop} {Qc : Array Value → State → Outcome → State → Prop} {XC : Nat → String → State → State → Prop} {free : Addr → Prop} {Ts : List Cond} {own C owner : String} {b : Addr} {As rest : List Value} {g : JFrame}
    (S : CallFix p m c cc nL s args Ts own) (hM : vx_Met l y ws rm Pc Qc XC mc ms free) (hrc : rm.cells = mc) (hrs : rm.slots = ms) (hfr : rm.frames + 1 ≤ R.frames) (hlo : 8 + (maxL + 11) + rm.locals ≤ R.locals) (hws : ∀ w ∈ ws, ∀ (a' : Array Value) (U : State), s.WarmedH U.vm → w.before a' U = true) (hcw : Cond.codeSync y bytes maxL ret ∈ ws)
    (hini : (Cond.initialized y.cls).before args s = true) (hnm : owner ≠ "java/lang/invoke/MethodHandle" ∧ owner ≠ "java/lang/invoke/VarHandle") (hlen : ∀ sig, parseMethodDescriptor x.desc = some sig → n = sig.parameters.length) (hlink : (Cond.methodLink own index x).before args s = true) (hsame : (Cond.sameMethod x.cls owner x.name x.desc).before args s = true) (hdecl : va_Decl s ⟨owner, x.name, x.desc⟩) (hsel : (Cond.selects C x y).before args s = true) (hinst : (Cond.instanceMethod y).before args s = true) (hp : PreV s H C b Pc As)
    (hg : g.method = m) (hn : As.length = n) (hsize : g.locals.size = nL) (hstack : g.stack = As.reverse ++ .ref b :: rest) (hW : 2 * g.monitorRoom + (rest.map fun v => v.category).sum ≤ 8) (hdg : decode cc g.pc = .ok (.invokevirtual index, 3)) (hf : cells + mc ≤ R.cells ∧ slots + ms ≤ R.slots) :
    vx_Run p l e R s m args below meth c H locs cells slots mc ms g rest (Qc (Value.ref b :: As).toArray) XC free := by
  have hK : vx_Back l R p e below s args y 3 8 (PreOf R mc ms Pc) (PostOf Qc mc ms free) (vx_Post XC mc ms free) := vs_back (bytes := bytes) (maxL := maxL) (ret := ret) hM hp.1 hrc hrs hfr hlo hws hcw (fun a' U hW => word_at hW (Or.inl (by first | rfl | simp [Cond.onTables, Cond.keeps, Cond.steady])) hini)
  obtain ⟨hx, hb, hml, ho, -⟩ := S
  obtain ⟨-, ⟨cellB, hcB, hoB, hclB⟩, hPc⟩ := hp
  intro T hT X
  rcases vs_callVU X hx (C := C) (owner := owner) ho hlink hsame hdecl hnm hsel hinst hK (by rw [hT]; exact hcB) hoB hclB hg (hsize.trans hml.symm) (argsL := As) (rest := rest) (fun sig h => hn.trans (hlen sig h)) hstack hW (by rw [hb]; exact hdg)
    (fun vm₁ hW₁ => ⟨hf.1, hf.2, hPc (T.setVm vm₁) hT hW₁⟩) with ⟨v, vm₁, ⟨U', l2, c2, s2⟩, hW₁, X', ⟨g', mk, t, L, e1, e2, hq, h1, hL, h2, h3⟩, st⟩ | ⟨q, vm₁, ⟨U', l2, c2, s2⟩, hW₁, X', ⟨g', mk, t, L, E, ce, e1, e2, hq, hce, hcv, hcl, h1, hL, h2, h3⟩, st⟩
  · dsimp only [Pt.U, Pt.locs, Pt.cells, Pt.slots] at X' e1 e2 h1 h2 h3 st
    subst h1; subst h2; subst h3
    exact Or.inl ⟨v, (T.setVm vm₁).calling g' mk (Value.ref b :: As).toArray, t, U', L, hT, X', hL, e1, e2, hq, st⟩
  · dsimp only [Pt.U, Pt.locs, Pt.cells, Pt.slots] at X' e1 e2 h1 h2 h3 st hcl
    subst h1; subst h2; subst h3
    exact Or.inr ⟨q, (T.setVm vm₁).calling g' mk (Value.ref b :: As).toArray, t, U', L, E, ce, hT, X', hL, e1, e2, hq, hce, hcv, vx_cls hW₁ hcl, st⟩
end
theorem lw_methY {y : MethodName} {b : ByteArray} {L : Nat} {r : Option FieldType} (h : Cond.codeSync y b L r ∈ lw_all) : GoodIn lw_all (wsY_ y b L r) := by
  intro w hw
  rcases List.mem_cons.mp hw with e | e
  · rw [e]
    exact lw_self _ h
  · exact lw_self _ e
section
variable {D : zD} {X : zX} {own : String} {cc : ByteArray} {nL : Nat} {ret : Option FieldType} {hh : zHh} {rm : Room} {A : Nat → Prop} {P : Option Value → Heap → Prop} {Ex : String → Nat → Heap → Prop} {nm : String} {k n pc q : Nat} {I : Heap → Prop} {L : List (Option Value)} {st : List Value}
/-- a call of getCause -/
theorem z_VUs (hX : zF D X own cc nL ret hh rm A P Ex nm) {C : String} {T : u_T} {N : Nat} {ci b idx : Nat} {v : Value} {I2 I3 : Heap → Prop} {rest : List Value} (d : decode cc pc = .ok (.invokevirtual idx, 3)) (hc : zCy D yGC prog_41_method_8_code 1 (some (.object "java/lang/Throwable")) rmGC A [.ref b] I2 (zPd v I3) zNo)
    (hci : zCl[ci]? = some (C, T, N)) (h1 : Cond.methodLink own idx yGC ∈ lw_all) (h3 : Cond.selects C yGC yGC ∈ lw_all) (hR : 1 ≤ rm.frames ∧ 20 ≤ rm.locals) (hst : st = .ref b :: rest) (hW : (rest.map fun v => v.category).sum ≤ 8) (hLn : L.length = nL) (hk : k ≤ rm.cells) (hs : n ≤ rm.slots)
    (hI : ∀ H, I H → I2 H ∧ zOb D ci b H) (hq : pc + 3 = q) (kk : zG X k n I3 q L (v :: rest)) : zG X k n I pc L st := by
  subst hq
  refine z_ofRun (mc := 0) (ms := 0) (a := [Value.ref b].toArray) (rest := rest) (P2 := zPd v I3) (Ex2 := zNo) hX ?_ (fun E a => zT.no) (zPd.out kk)
  obtain ⟨p, l, e, R, s, m, args, below, meth, c, Q, A⟩ := X
  obtain ⟨hx, hb, hr, hlocks, hml, hown, hts, rfl, rfl, rfl, htab, hK, hlt, hnm⟩ := hX
  intro H locs ls hI0 hS hL
  have hG := lw_methY q1834
  refine vs_runU (x := yGC) (y := yGC) (bytes := prog_41_method_8_code) (maxL := 1) (ret := some (.object "java/lang/Throwable")) (owner := "java/lang/Throwable") (n := 0) (As := []) ⟨hx, hb, hml, hown, hts⟩ (hc l hlt) rfl rfl hR.1 hR.2 (pay_in hts hG) List.mem_cons_self (hts _ q104) (by decide) (fun sig h => ?_) (hts _ h1) (hts _ q1824) ?_ (hts _ h3) (hts _ q1823) ⟨zC_blind, (hI H hI0).2.cl hK.1 hci, fun U hU hW => ⟨rfl, by rw [hU]; exact (hI H hI0).1, by rw [hU]; exact hK.step hW hS⟩⟩ rfl rfl (hL.1.trans hLn) hst (lv_room hW) d ⟨hk, hs⟩
  · have h2 : (parseMethodDescriptor yGC.desc).map (fun d => d.parameters.length) = some 0 := by decide +kernel
    rw [h] at h2
    exact (Option.some.inj h2).symm
  · obtain ⟨mk, methM, hn2, hm2, hst2, -⟩ := Cond.instanceMethod_spec (hts _ q1823)
    obtain ⟨meth9, c9, hmeth, -, -, -, -, -, -, hsig⟩ := Cond.codeSync_spec hn2 (hts _ q1834)
    cases hm2.symm.trans hmeth
    exact ⟨mk, _, hn2, hmeth, hst2, hsig⟩
end

