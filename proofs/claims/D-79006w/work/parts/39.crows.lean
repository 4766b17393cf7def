/-! ROWS OF THE CLASS'S WORLD -/
set_option maxRecDepth 100000
theorem zI_ofNat (n : Nat) : Int32.ofNat n = Int32.ofInt (n : Int) := by first | rfl | exact Int32.ofInt_eq_ofNat.symm
theorem zNF_at {t : String × Nat × String × String × String × String} (i : Nat) (h : zNF[i]? = some t) : t ∈ zNF := List.mem_of_getElem? h
theorem zNM_at {t : String × Nat × MethodName × String} (i : Nat) (h : zNM[i]? = some t) : t ∈ zNM := List.mem_of_getElem? h
theorem zCs_at {t : String × String} (i : Nat) (h : zCs[i]? = some t) : t ∈ zCs := List.mem_of_getElem? h
theorem zNc_at {t : String × String} (i : Nat) (h : zNc[i]? = some t) : t ∈ zNc := List.mem_of_getElem? h
theorem zDs_at {t : MethodName} (i : Nat) (h : zDs[i]? = some t) : t ∈ zDs := List.mem_of_getElem? h
theorem zRa.of {s : State} {D : zD} {t : Nat} {ty : FieldType} (h : ArrOfT s (D.2.1 t) ty) {cell : Cell} (hc : cell.cls = D.2.1 t) (hs : ∀ q, cell.vm ≠ .statics q) : s.isArrayOf cell ty := ⟨hs, by rw [hc]; exact (h 0 (fun _ => .null)).2⟩
theorem zAsg.any {D : zD} {s : State} {ci : Nat} {E : String} {H : Heap} {y : Nat} (hK : zKt D s) (h : zAsg ci E = true) (ho : zOb D ci y H) : va_Any E s H y := by
  unfold zAsg at h
  cases hc : zCl[ci]? with
  | none => rw [hc] at h; cases h
  | some r =>
    rw [hc] at h
    simp only [Bool.or_eq_true, decide_eq_true_eq] at h
    obtain ⟨-, hfc, kC, hkC, -⟩ := hK.1.1 ci r hc
    obtain ⟨cell, h1, h2, h3⟩ := ho
    refine ⟨cell, h1, h2, ⟨kC, by rw [h3]; exact hkC⟩, fun comp hcomp => ?_⟩
    rw [h3]
    rcases h with rfl | h
    · exact vb_asgS comp _ hcomp hfc
    · exact vb_asgC (hK.2.2.2.1 _ h) comp _ hcomp hfc
theorem zOb.cl {D : zD} {s : State} {ci : Nat} {C : String} {T : u_T} {N : Nat} {H : Heap} {y : Nat} (hK : zKt D s) (hc : zCl[ci]? = some (C, T, N)) (ho : zOb D ci y H) : ∃ cell : Cell, H[y]? = some cell ∧ cell.vm.isStatics = false ∧ s.vm.findClass C = some cell.cls := by
  obtain ⟨cell, h1, h2, h3⟩ := ho
  exact ⟨cell, h1, h2, by rw [h3]; exact (hK.1.1 ci _ hc).2.1⟩
section ZCR
variable {D : zD} {X : zX} {own : String} {cc : ByteArray} {nL : Nat} {ret : Option FieldType} {hh : zHh} {rm : Room} {A : Nat → Prop} {P : Option Value → Heap → Prop} {Ex : String → Nat → Heap → Prop} {nm : String} {k n : Nat} {I : Heap → Prop} {pc q : Nat} {L : List (Option Value)} {st : List Value} {w mm : zMp} {a : Nat}
/-- what the heap says -/
theorem zG.know {φ : Prop} (h : ∀ H, I H → φ) (kk : φ → zG X k n I pc L st) : zG X k n I pc L st := zG.use h kk
theorem zr_get (hX : zF D X own cc nL ret hh rm A P Ex nm) (ci fk : Nat) {idx : Nat} {v : Value} {C ref : String} {T : u_T} {N : Nat} (hc : zCl[ci]? = some (C, T, N)) (hk : fk < N) (hw : ∀ w ∈ u_ws C T N, w ∈ lw_all) (d : decode cc pc = .ok (.getfield idx, 3)) (hl : Cond.fieldLink own idx ref (T fk).2.1 (T fk).2.2.1 ∈ lw_all) (hs : (T fk).1 = ref ∨ Cond.sameField ref (T fk).1 (T fk).2.1 (T fk).2.2.1 ∈ lw_all) (hr : ∀ H, I H → zRd D ci a fk v H) (hq : pc + 3 = q) (kk : zG X k n I q L (v :: st)) : zG X k n I pc L (.ref a :: st) := by
  subst hq
  obtain ⟨p, l, e, R, s, m, args, below, meth, c, Q, A⟩ := X
  obtain ⟨hx, hb, hr2, hlocks, hml, hown, hts, rfl, rfl, rfl, htab, hK, hlt, hnm⟩ := hX
  intro H locs ls hI hS hL
  obtain ⟨cell, q1, q2, q3, q4, q5⟩ := hr H hI
  obtain ⟨hSl, hfc, kC, hkC, hkind⟩ := hK.k1.1 ci _ hc
  obtain ⟨cf, kf, fi, f, hi, hsl⟩ := hSl fk hk
  have hi2 : s.fieldFound? ref (T fk).2.1 (T fk).2.2.1 = some (cf, kf, fi, f) := by
    rcases hs with rfl | hs
    · exact hi
    · exact u_same (hts _ hs) _ hi
  refine W.getf hx hb hown (hts _ hl) hi2 (u_facts hfc hkC (u_lays hts hw hk) hi).1 q1 q4 (v := v) ?_ rfl rfl d (kk H locs ls hI hS hL)
  rw [hsl]
  exact q5
theorem zr_getN (hX : zF D X own cc nL ret hh rm A P Ex nm) (ci fk : Nat) {idx : Nat} {v : Value} {C host : String} {T : u_T} {N : Nat} (hc : zCl[ci]? = some (C, T, N)) (hk : fk < N) (hw : ∀ w ∈ u_ws C T N, w ∈ lw_all) (d : decode cc pc = .ok (.getfield idx, 3)) (hl : (own, idx, (T fk).1, (T fk).2.1, (T fk).2.2.1, host) ∈ zNF) (hr : ∀ H, I H → zRd D ci a fk v H) (hq : pc + 3 = q) (kk : zG X k n I q L (v :: st)) : zG X k n I pc L (.ref a :: st) := by
  subst hq
  obtain ⟨p, l, e, R, s, m, args, below, meth, c, Q, A⟩ := X
  obtain ⟨hx, hb, hr2, hlocks, hml, hown, hts, rfl, rfl, rfl, htab, hK, hlt, hnm⟩ := hX
  intro H locs ls hI hS hL
  obtain ⟨cell, q1, q2, q3, q4, q5⟩ := hr H hI
  obtain ⟨hSl, hfc, kC, hkC, hkind⟩ := hK.k1.1 ci _ hc
  obtain ⟨cf, kf, fi, f, hi, hsl⟩ := hSl fk hk
  refine va_Wgetf hx hb hown (va_Nw.use rfl (hK.1.2.1 _ hl)) hi (u_facts hfc hkC (u_lays hts hw hk) hi).1 q1 q4 (v := v) ?_ rfl rfl d (kk H locs ls hI hS hL)
  rw [hsl]
  exact q5
theorem zc_put (hX : zF D X own cc nL ret hh rm A P Ex nm) (ci fk : Nat) {idx : Nat} {v : Value} {C ref : String} {T : u_T} {N : Nat} {ty : FieldType} {fs : List Value} {tyf : Nat → FieldType} (hc : zCl[ci]? = some (C, T, N)) (hk : fk < N) (hw : ∀ w ∈ u_ws C T N, w ∈ lw_all) (hty : ∀ k, k < N → parseFieldDescriptor (T k).2.2.1 = some (tyf k)) (hnm2 : ∀ a, a < N → ∀ b, b < N → a ≠ b → (T a).2.1 ≠ (T b).2.1) (d : decode cc pc = .ok (.putfield idx, 3)) (hl : Cond.fieldLink own idx ref (T fk).2.1 (T fk).2.2.1 ∈ lw_all) (hs : (T fk).1 = ref ∨ Cond.sameField ref (T fk).1 (T fk).2.1 (T fk).2.2.1 ∈ lw_all) (hfin : (T fk).2.2.2 = false) (hm : mm a = some (eO ci fs)) (hlen : fk < fs.length) (hd : parseFieldDescriptor (T fk).2.2.1 = some ty) (hn : narrow ty v = v) (hfit : fits ty v = true) (hq : pc + 3 = q) (kk : zG X k n (cI D A w (upm mm a (eO ci (fs.set fk v)))) q L st) : zG X k n (cI D A w mm) pc L (v :: .ref a :: st) := by
  subst hq
  obtain ⟨p, l, e, R, s, m, args, below, meth, c, Q, A⟩ := X
  obtain ⟨hx, hb, hr2, hlocks, hml, hown, hts, rfl, rfl, rfl, htab, hK, hlt, hnm⟩ := hX
  intro H locs ls hI hS hL
  have hap := va_apart (own := own) hts hw tyf hty hnm2 hK.k1 hc
  obtain ⟨r, cell, h1, q1, q2, q3, q6, q4⟩ := hI.at (Or.inr hm)
  have hr : r = (C, T, N) := Option.some.inj (h1.symm.trans hc)
  subst hr
  obtain ⟨hSl, hfc, kC, hkC, hkind⟩ := hK.k1.1 ci _ hc
  obtain ⟨cf, kf, fi, f, hi, hsl⟩ := hSl fk hk
  have hi2 : s.fieldFound? ref (T fk).2.1 (T fk).2.2.1 = some (cf, kf, fi, f) := by
    rcases hs with rfl | hs
    · exact hi
    · exact u_same (hts _ hs) _ hi
  have hlay := hts _ (hw _ (u_in_lay hk))
  unfold u_lay at hlay
  rw [if_neg (by rw [hfin]; decide)] at hlay
  have hst := (u_facts hfc hkC (u_lays hts hw hk) hi).1
  have h6 := u_store hfc hkC hkind hlay hi hd hn hfit
  refine W.putK hx hb (f := f) ⟨hown, hts _ hl, ⟨_, _, _, hi2⟩, hst⟩ (by rw [q2]; exact h6) q1 q3 (by rw [hsl]; exact k2_hasslot (q4 fk hk)) rfl rfl d fun H' e1 e2 e3 => ?_
  rw [hsl] at e1 ⊢
  exact kk H' _ ls (hI.put hm ⟨_, _, hc, e1, q2, q3, q6, fun j hj => by rw [← vp_updV_set hlen v j]; exact t_set q4 hap hk v j hj⟩ e2 e3) (hS.put e2 e3 (hI.own hm)) hL
theorem zc_putN (hX : zF D X own cc nL ret hh rm A P Ex nm) (ci fk : Nat) {idx : Nat} {v : Value} {C host : String} {T : u_T} {N : Nat} {ty : FieldType} {fs : List Value} {tyf : Nat → FieldType} (hc : zCl[ci]? = some (C, T, N)) (hk : fk < N) (hw : ∀ w ∈ u_ws C T N, w ∈ lw_all) (hty : ∀ k, k < N → parseFieldDescriptor (T k).2.2.1 = some (tyf k)) (hnm2 : ∀ a, a < N → ∀ b, b < N → a ≠ b → (T a).2.1 ≠ (T b).2.1) (d : decode cc pc = .ok (.putfield idx, 3)) (hl : (own, idx, (T fk).1, (T fk).2.1, (T fk).2.2.1, host) ∈ zNF) (hfin : (T fk).2.2.2 = false) (hm : mm a = some (eO ci fs)) (hlen : fk < fs.length) (hd : parseFieldDescriptor (T fk).2.2.1 = some ty) (hn : narrow ty v = v) (hfit : fits ty v = true) (hq : pc + 3 = q) (kk : zG X k n (cI D A w (upm mm a (eO ci (fs.set fk v)))) q L st) : zG X k n (cI D A w mm) pc L (v :: .ref a :: st) := by
  subst hq
  obtain ⟨p, l, e, R, s, m, args, below, meth, c, Q, A⟩ := X
  obtain ⟨hx, hb, hr2, hlocks, hml, hown, hts, rfl, rfl, rfl, htab, hK, hlt, hnm⟩ := hX
  intro H locs ls hI hS hL
  have hap := va_apart (own := own) hts hw tyf hty hnm2 hK.k1 hc
  obtain ⟨r, cell, h1, q1, q2, q3, q6, q4⟩ := hI.at (Or.inr hm)
  have hr : r = (C, T, N) := Option.some.inj (h1.symm.trans hc)
  subst hr
  obtain ⟨hSl, hfc, kC, hkC, hkind⟩ := hK.k1.1 ci _ hc
  obtain ⟨cf, kf, fi, f, hi, hsl⟩ := hSl fk hk
  have hlay := hts _ (hw _ (u_in_lay hk))
  unfold u_lay at hlay
  rw [if_neg (by rw [hfin]; decide)] at hlay
  have hst := (u_facts hfc hkC (u_lays hts hw hk) hi).1
  have h6 := u_store hfc hkC hkind hlay hi hd hn hfit
  refine va_WputK hx hb (f := f) hown (va_Nw.use rfl (hK.1.2.1 _ hl)) hi hst (by rw [q2]; exact h6) q1 q3 (by rw [hsl]; exact k2_hasslot (q4 fk hk)) rfl rfl d fun H' e1 e2 e3 => ?_
  rw [hsl] at e1 ⊢
  exact kk H' _ ls (hI.put hm ⟨_, _, hc, e1, q2, q3, q6, fun j hj => by rw [← vp_updV_set hlen v j]; exact t_set q4 hap hk v j hj⟩ e2 e3) (hS.put e2 e3 (hI.own hm)) hL
/-- a final field, in its class's constructor -/
theorem zc_putF (hX : zF D X own cc nL ret hh rm A P Ex nm) (ci fk : Nat) {idx : Nat} {v : Value} {C : String} {T : u_T} {N : Nat} {ty : FieldType} {fs : List Value} {tyf : Nat → FieldType} (hc : zCl[ci]? = some (C, T, N)) (hk : fk < N) (hw : ∀ w ∈ u_ws C T N, w ∈ lw_all) (hty : ∀ k, k < N → parseFieldDescriptor (T k).2.2.1 = some (tyf k)) (hnm2 : ∀ a, a < N → ∀ b, b < N → a ≠ b → (T a).2.1 ≠ (T b).2.1) (d : decode cc pc = .ok (.putfield idx, 3)) (hl : Cond.fieldLink own idx (T fk).1 (T fk).2.1 (T fk).2.2.1 ∈ lw_all) (hfin : (T fk).2.2.2 = true) (hin2 : nm = "<init>") (hdecl : (T fk).1 = own) (hm : mm a = some (eO ci fs)) (hlen : fk < fs.length) (hd : parseFieldDescriptor (T fk).2.2.1 = some ty) (hn : narrow ty v = v) (hfit : fits ty v = true) (hq : pc + 3 = q) (kk : zG X k n (cI D A w (upm mm a (eO ci (fs.set fk v)))) q L st) : zG X k n (cI D A w mm) pc L (v :: .ref a :: st) := by
  subst hq
  obtain ⟨p, l, e, R, s, m, args, below, meth, c, Q, A⟩ := X
  obtain ⟨hx, hb, hr2, hlocks, hml, hown, hts, rfl, rfl, rfl, htab, hK, hlt, hnm⟩ := hX
  intro H locs ls hI hS hL
  have hap := va_apart (own := own) hts hw tyf hty hnm2 hK.k1 hc
  obtain ⟨r, cell, h1, q1, q2, q3, q6, q4⟩ := hI.at (Or.inr hm)
  have hr : r = (C, T, N) := Option.some.inj (h1.symm.trans hc)
  subst hr
  obtain ⟨hSl, hfc, kC, hkC, hkind⟩ := hK.k1.1 ci _ hc
  obtain ⟨cf, kf, fi, f, hi, hsl⟩ := hSl fk hk
  have hlay := hts _ (hw _ (u_in_lay hk))
  unfold u_lay at hlay
  rw [if_pos hfin] at hlay
  have hst := (u_facts hfc hkC (u_lays hts hw hk) hi).1
  have hcf : m.cls = cf := by
    obtain ⟨_, _, c', _, _, _, -, -, hf', -, -, -, hown2, -⟩ := Cond.laysFinal_spec hlay
    have e1 : c' = cf := by have := hi.symm.trans hf'; simp at this; exact this.1.symm
    rw [hdecl] at hown2
    rw [← e1]; exact Option.some.inj (hown.symm.trans hown2)
  have h6 := u_fits hfc hkC hkind (Or.inr hlay) hi hd hn hfit
  refine W.putFinK hx hb hown (hts _ hl) hi hst hcf (hnm.trans hin2) (by rw [q2]; exact h6) q1 q3 (by rw [hsl]; exact k2_hasslot (q4 fk hk)) rfl rfl d fun H' e1 e2 e3 => ?_
  rw [hsl] at e1 ⊢
  exact kk H' _ ls (hI.put hm ⟨_, _, hc, e1, q2, q3, q6, fun j hj => by rw [← vp_updV_set hlen v j]; exact t_set q4 hap hk v j hj⟩ e2 e3) (hS.put e2 e3 (hI.own hm)) hL
/-- arrays read -/
theorem zr_aald (hX : zF D X own cc nL ret hh rm A P Ex nm) (t : Nat) {C : String} {N : Nat} {f : Nat → Value} {i : Int} (ht : (zTys D)[t]? = some (D.2.1 t, .object C)) (d : decode cc pc = .ok (.aaload, 1)) (hr : ∀ H, I H → zRa D t a N f H) (hi : 0 ≤ i ∧ i < (N : Int)) (hN : N < 2147483648) (hq : pc + 1 = q) (kk : zG X k n I q L (f i.toNat :: st)) : zG X k n I pc L (zI i :: .ref a :: st) := by
  subst hq
  obtain ⟨p, l, e, R, s, m, args, below, meth, c, Q, A⟩ := X
  obtain ⟨hx, hb, hr2, hlocks, hml, hown, hts, rfl, rfl, rfl, htab, hK, hlt, hnm⟩ := hX
  intro H locs ls hI hS hL
  obtain ⟨cell, q1, q2, q3, q4, q5, q6⟩ := hr H hI
  have hzr : zR i := ⟨by omega, by omega⟩
  refine W.aald (v := f i.toNat) (ty := .object C) hx hb q1 (zRa.of ((hK.k1.2 t _ ht).1) q2 q3) rfl q4 (zI_in hzr hi.1 (by have := q5.1; omega)) ?_ rfl rfl d (kk H locs ls hI hS hL)
  rw [zI_nat hzr]
  exact q6 _ (by omega)
theorem zr_bald (hX : zF D X own cc nL ret hh rm A P Ex nm) {N : Nat} {f : Nat → Value} {i : Int} (d : decode cc pc = .ok (.baload, 1)) (hr : ∀ H, I H → zRa D 2 a N f H) (hi : 0 ≤ i ∧ i < (N : Int)) (hN : N < 2147483648) (hq : pc + 1 = q) (kk : zG X k n I q L (f i.toNat :: st)) : zG X k n I pc L (zI i :: .ref a :: st) := by
  subst hq
  obtain ⟨p, l, e, R, s, m, args, below, meth, c, Q, A⟩ := X
  obtain ⟨hx, hb, hr2, hlocks, hml, hown, hts, rfl, rfl, rfl, htab, hK, hlt, hnm⟩ := hX
  intro H locs ls hI hS hL
  obtain ⟨cell, q1, q2, q3, q4, q5, q6⟩ := hr H hI
  have hzr : zR i := ⟨by omega, by omega⟩
  refine W.bald (v := f i.toNat) hx hb q1 (zRa.of ((hK.k1.2 2 _ rfl).1) q2 q3) q4 (zI_in hzr hi.1 (by have := q5.1; omega)) ?_ rfl rfl d (kk H locs ls hI hS hL)
  rw [zI_nat hzr]
  exact q6 _ (by omega)
theorem zr_cald (hX : zF D X own cc nL ret hh rm A P Ex nm) {N : Nat} {f : Nat → Value} {i : Int} (d : decode cc pc = .ok (.caload, 1)) (hr : ∀ H, I H → zRa D 1 a N f H) (hi : 0 ≤ i ∧ i < (N : Int)) (hN : N < 2147483648) (hq : pc + 1 = q) (kk : zG X k n I q L (f i.toNat :: st)) : zG X k n I pc L (zI i :: .ref a :: st) := by
  subst hq
  obtain ⟨p, l, e, R, s, m, args, below, meth, c, Q, A⟩ := X
  obtain ⟨hx, hb, hr2, hlocks, hml, hown, hts, rfl, rfl, rfl, htab, hK, hlt, hnm⟩ := hX
  intro H locs ls hI hS hL
  obtain ⟨cell, q1, q2, q3, q4, q5, q6⟩ := hr H hI
  have hzr : zR i := ⟨by omega, by omega⟩
  refine W.cald (v := f i.toNat) hx hb q1 (zRa.of ((hK.k1.2 1 _ rfl).1) q2 q3) q4 (zI_in hzr hi.1 (by have := q5.1; omega)) ?_ rfl rfl d (kk H locs ls hI hS hL)
  rw [zI_nat hzr]
  exact q6 _ (by omega)
theorem zr_lald (hX : zF D X own cc nL ret hh rm A P Ex nm) {N : Nat} {f : Nat → Value} {i : Int} (d : decode cc pc = .ok (.laload, 1)) (hr : ∀ H, I H → zRa D 3 a N f H) (hi : 0 ≤ i ∧ i < (N : Int)) (hN : N < 2147483648) (hq : pc + 1 = q) (kk : zG X k n I q L (f i.toNat :: st)) : zG X k n I pc L (zI i :: .ref a :: st) := by
  subst hq
  obtain ⟨p, l, e, R, s, m, args, below, meth, c, Q, A⟩ := X
  obtain ⟨hx, hb, hr2, hlocks, hml, hown, hts, rfl, rfl, rfl, htab, hK, hlt, hnm⟩ := hX
  intro H locs ls hI hS hL
  obtain ⟨cell, q1, q2, q3, q4, q5, q6⟩ := hr H hI
  have hzr : zR i := ⟨by omega, by omega⟩
  refine W.lald (v := f i.toNat) hx hb q1 (zRa.of ((hK.k1.2 3 _ rfl).1) q2 q3) q4 (zI_in hzr hi.1 (by have := q5.1; omega)) ?_ rfl rfl d (kk H locs ls hI hS hL)
  rw [zI_nat hzr]
  exact q6 _ (by omega)
theorem zr_dald (hX : zF D X own cc nL ret hh rm A P Ex nm) {N : Nat} {f : Nat → Value} {i : Int} (d : decode cc pc = .ok (.daload, 1)) (hr : ∀ H, I H → zRa D 4 a N f H) (hi : 0 ≤ i ∧ i < (N : Int)) (hN : N < 2147483648) (hq : pc + 1 = q) (kk : zG X k n I q L (f i.toNat :: st)) : zG X k n I pc L (zI i :: .ref a :: st) := by
  subst hq
  obtain ⟨p, l, e, R, s, m, args, below, meth, c, Q, A⟩ := X
  obtain ⟨hx, hb, hr2, hlocks, hml, hown, hts, rfl, rfl, rfl, htab, hK, hlt, hnm⟩ := hX
  intro H locs ls hI hS hL
  obtain ⟨cell, q1, q2, q3, q4, q5, q6⟩ := hr H hI
  have hzr : zR i := ⟨by omega, by omega⟩
  refine W.dald (v := f i.toNat) hx hb q1 (zRa.of ((hK.k1.2 4 _ rfl).1) q2 q3) q4 (zI_in hzr hi.1 (by have := q5.1; omega)) ?_ rfl rfl d (kk H locs ls hI hS hL)
  rw [zI_nat hzr]
  exact q6 _ (by omega)
theorem zr_alen (hX : zF D X own cc nL ret hh rm A P Ex nm) (t : Nat) {ty : FieldType} {N : Nat} {f : Nat → Value} (ht : (zTys D)[t]? = some (D.2.1 t, ty)) (d : decode cc pc = .ok (.arraylength, 1)) (hr : ∀ H, I H → zRa D t a N f H) (hq : pc + 1 = q) (kk : zG X k n I q L (zI N :: st)) : zG X k n I pc L (.ref a :: st) := by
  subst hq
  obtain ⟨p, l, e, R, s, m, args, below, meth, c, Q, A⟩ := X
  obtain ⟨hx, hb, hr2, hlocks, hml, hown, hts, rfl, rfl, rfl, htab, hK, hlt, hnm⟩ := hX
  intro H locs ls hI hS hL
  obtain ⟨cell, q1, q2, q3, q4, q5, q6⟩ := hr H hI
  exact W.alen (n := Int32.ofInt N) hx hb q1 (zRa.of ((hK.k1.2 t _ ht).1) q2 q3) (q5.2.trans (zI_ofNat N)) rfl rfl d (kk H locs ls hI hS hL)
/-- arrays written -/
theorem zc_cast (hX : zF D X own cc nL ret hh rm A P Ex nm) {N : Nat} {f : Nat → Int32} {i z : Int} (d : decode cc pc = .ok (.castore, 1)) (hm : mm a = some (eC (aN D 1 N f))) (hi : 0 ≤ i ∧ i < (N : Int)) (hN : N < 2147483648) (hz : 0 ≤ z ∧ z < 65536) (hq : pc + 1 = q) (kk : zG X k n (cI D A w (upm mm a (eC (aN D 1 N (upd f i.toNat (Int32.ofInt z)))))) q L st) : zG X k n (cI D A w mm) pc L (zI z :: zI i :: .ref a :: st) := by
  subst hq
  obtain ⟨p, l, e, R, s, m, args, below, meth, c, Q, A⟩ := X
  obtain ⟨hx, hb, hr2, hlocks, hml, hown, hts, rfl, rfl, rfl, htab, hK, hlt, hnm⟩ := hX
  intro H locs ls hI hS hL
  have hc : H[a]? = some (vp_cell (D.2.1 1) (N, .inl f)) := hI.at (Or.inr hm)
  have hzr : zR i := ⟨by omega, by omega⟩
  have hnz : narrow .char (.int (Int32.ofInt z)) = .int (Int32.ofInt z) := by
    have h1 : (Int32.ofInt z).toUInt32.toUInt16.toUInt32.toInt32 = Int32.ofInt z := by
      refine Int32.toInt_inj.mp ?_
      rw [zI_toInt ⟨by omega, by omega⟩]
      have e2 : (Int32.ofInt z).toUInt32.toNat = z.toNat := by
        rw [show (Int32.ofInt z).toUInt32 = UInt32.ofNat z.toNat from by
          have : (Int32.ofInt z) = Int32.ofNat z.toNat := by rw [zI_ofNat]; congr 1; omega
          rw [this]; rfl]
        exact UInt32.toNat_ofNat_of_lt' (by show z.toNat < 4294967296; omega)
      have e3 : (Int32.ofInt z).toUInt32.toUInt16.toUInt32.toNat = z.toNat := by
        rw [UInt16.toNat_toUInt32, UInt32.toNat_toUInt16, e2]
        omega
      have e4 : ((Int32.ofInt z).toUInt32.toUInt16.toUInt32.toInt32).toInt = (((Int32.ofInt z).toUInt32.toUInt16.toUInt32.toNat : Nat) : Int) := by
        show ((Int32.ofInt z).toUInt32.toUInt16.toUInt32.toBitVec).toInt = _
        rw [BitVec.toInt_eq_toNat_of_lt (by show 2 * ((Int32.ofInt z).toUInt32.toUInt16.toUInt32.toNat) < 4294967296; omega)]
        rfl
      rw [e4, e3]
      omega
    have h2 := vp_nar_char (Int32.ofInt z)
    rw [h1] at h2
    exact congrArg Value.int h2
  refine W.cast hx hb hc ((hK.k1.2 1 _ rfl).1 N (fun j => .int (f j))) (fun q => by cases q) (by show ¬ (_ ∨ (arrV _ _ _).slots.size ≤ _); rw [arrV_size]; exact zI_in hzr hi.1 hi.2) rfl rfl d fun H1 e z1 oq => ?_
  refine kk H1 _ ls (hI.put hm ?_ z1 oq) (hS.put z1 oq (hI.own hm)) hL
  show H1[a]? = some (vp_cell _ _)
  rw [e, hnz, zI_nat hzr, vp_cell_i, vp_cell_i, arrV_store]
  congr 2
  funext j
  by_cases hq : j = i.toNat
  · subst hq
    simp [updV, upd]
  · simp [updV, upd, hq]
theorem zc_bast (hX : zF D X own cc nL ret hh rm A P Ex nm) {N : Nat} {f : Nat → Int32} {i z : Int} (d : decode cc pc = .ok (.bastore, 1)) (hm : mm a = some (eC (aN D 2 N f))) (hi : 0 ≤ i ∧ i < (N : Int)) (hN : N < 2147483648) (hz : 0 ≤ z ∧ z < 128) (hq : pc + 1 = q) (kk : zG X k n (cI D A w (upm mm a (eC (aN D 2 N (upd f i.toNat (Int32.ofInt z)))))) q L st) : zG X k n (cI D A w mm) pc L (zI z :: zI i :: .ref a :: st) := by
  subst hq
  obtain ⟨p, l, e, R, s, m, args, below, meth, c, Q, A⟩ := X
  obtain ⟨hx, hb, hr2, hlocks, hml, hown, hts, rfl, rfl, rfl, htab, hK, hlt, hnm⟩ := hX
  intro H locs ls hI hS hL
  have hc : H[a]? = some (vp_cell (D.2.1 2) (N, .inl f)) := hI.at (Or.inr hm)
  have hzr : zR i := ⟨by omega, by omega⟩
  have hnz : narrow .byte (.int (Int32.ofInt z)) = .int (Int32.ofInt z) := by
    obtain ⟨u, hu⟩ : ∃ u : Nat, u = z.toNat := ⟨_, rfl⟩
    have hu2 : z = (u : Int) := by omega
    subst hu2
    have key : ∀ u : Nat, u < 128 → narrow .byte (.int (Int32.ofInt (u : Int))) = .int (Int32.ofInt (u : Int)) := by decide +kernel
    exact key u (by omega)
  refine W.bast hx hb hc ((hK.k1.2 2 _ rfl).1 N (fun j => .int (f j))) (fun q => by cases q) (by show ¬ (_ ∨ (arrV _ _ _).slots.size ≤ _); rw [arrV_size]; exact zI_in hzr hi.1 hi.2) rfl rfl d fun H1 e z1 oq => ?_
  refine kk H1 _ ls (hI.put hm ?_ z1 oq) (hS.put z1 oq (hI.own hm)) hL
  show H1[a]? = some (vp_cell _ _)
  rw [e, hnz, zI_nat hzr, vp_cell_i, vp_cell_i, arrV_store]
  congr 2
  funext j
  by_cases hq : j = i.toNat
  · subst hq
    simp [updV, upd]
  · simp [updV, upd, hq]
theorem zc_aast (hX : zF D X own cc nL ret hh rm A P Ex nm) (t ci : Nat) {E : String} {N v : Nat} {f : Nat → Option Nat} {i : Int} (ht : (zTys D)[t]? = some (D.2.1 t, .object E)) (d : decode cc pc = .ok (.aastore, 1)) (hm : mm a = some (eC (aQ D t N f))) (hob : ∀ H, cI D A w mm H → zOb D ci v H) (has : zAsg ci E = true) (hi : 0 ≤ i ∧ i < (N : Int)) (hN : N < 2147483648) (hq : pc + 1 = q) (kk : zG X k n (cI D A w (upm mm a (eC (aQ D t N (va_up f i.toNat (some v)))))) q L st) : zG X k n (cI D A w mm) pc L (.ref v :: zI i :: .ref a :: st) := by
  subst hq
  obtain ⟨p, l, e, R, s, m, args, below, meth, c, Q, A⟩ := X
  obtain ⟨hx, hb, hr2, hlocks, hml, hown, hts, rfl, rfl, rfl, htab, hK, hlt, hnm⟩ := hX
  intro H locs ls hI hS hL
  have hc : H[a]? = some (vp_cell (D.2.1 t) (N, .inr (.inr (.inr (.inr f))))) := hI.at (Or.inr hm)
  have hzr : zR i := ⟨by omega, by omega⟩
  obtain ⟨cellV, g1, g3, ⟨kC, hkC⟩, hasg⟩ := zAsg.any hK.1 has (hob H hI)
  obtain ⟨kA, comp, k1, k2, k3, -⟩ := (hK.k1.2 t _ ht).2
  obtain ⟨kE, hkE, -⟩ := Vm.findClass_spec k3
  have hin := zI_in hzr hi.1 hi.2
  refine W.aast hx hb hc (fun q h => by cases h) (fun h => by cases h) k1 k2 rfl hkE ⟨fun q => hin (Or.inl q), by show _ < (arrV _ _ _).slots.size; rw [arrV_size]; exact Nat.not_le.mp fun q => hin (Or.inr q)⟩ g1 (fun q h => by rw [h] at g3; cases g3) hkC (hasg _ k3) rfl rfl d fun H1 e z1 oq => ?_
  refine kk H1 _ ls (hI.put hm ?_ z1 oq) (hS.put z1 oq (hI.own hm)) hL
  show H1[a]? = some (vp_cell _ _)
  rw [e, zI_nat hzr, vp_cell_q, vp_cell_q, arrV_store]
  congr 2
  funext j
  by_cases hq : j = i.toNat
  · subst hq
    simp [updV, va_up, va_rf]
  · simp [updV, va_up, hq]
theorem zc_aastN (hX : zF D X own cc nL ret hh rm A P Ex nm) (t : Nat) {E : String} {N : Nat} {f : Nat → Option Nat} {i : Int} (ht : (zTys D)[t]? = some (D.2.1 t, .object E)) (d : decode cc pc = .ok (.aastore, 1)) (hm : mm a = some (eC (aQ D t N f))) (hi : 0 ≤ i ∧ i < (N : Int)) (hN : N < 2147483648) (hq : pc + 1 = q) (kk : zG X k n (cI D A w (upm mm a (eC (aQ D t N (va_up f i.toNat none))))) q L st) : zG X k n (cI D A w mm) pc L (.null :: zI i :: .ref a :: st) := by
  subst hq
  obtain ⟨p, l, e, R, s, m, args, below, meth, c, Q, A⟩ := X
  obtain ⟨hx, hb, hr2, hlocks, hml, hown, hts, rfl, rfl, rfl, htab, hK, hlt, hnm⟩ := hX
  intro H locs ls hI hS hL
  have hc : H[a]? = some (vp_cell (D.2.1 t) (N, .inr (.inr (.inr (.inr f))))) := hI.at (Or.inr hm)
  have hzr : zR i := ⟨by omega, by omega⟩
  refine va_WaastN (C := E) hx hb hc ((hK.k1.2 t _ ht).1 N (fun j => va_rf (f j))) (fun h => by cases h) (by show ¬ (_ ∨ (arrV _ _ _).slots.size ≤ _); rw [arrV_size]; exact zI_in hzr hi.1 hi.2) rfl rfl d fun H1 e z1 oq => ?_
  refine kk H1 _ ls (hI.put hm ?_ z1 oq) (hS.put z1 oq (hI.own hm)) hL
  show H1[a]? = some (vp_cell _ _)
  rw [e, zI_nat hzr, vp_cell_q, vp_cell_q, arrV_store]
  congr 2
  funext j
  by_cases hq : j = i.toNat
  · subst hq
    simp [updV, va_up, va_rf]
  · simp [updV, va_up, hq]
/-- statics -/
theorem zr_gets (hX : zF D X own cc nL ret hh rm A P Ex nm) (i : Nat) {idx : Nat} {C f ds : String} {v : Value} (hz : (zSt D)[i]? = some (C, f, ds, v)) (d : decode cc pc = .ok (.getstatic idx, 3)) (hl : Cond.fieldLink own idx C f ds ∈ lw_all) (hq : pc + 3 = q) (kk : zG X k n I q L (v :: st)) : zG X k n I pc L st := by
  subst hq
  obtain ⟨p, l, e, R, s, m, args, below, meth, c, Q, A⟩ := X
  obtain ⟨hx, hb, hr2, hlocks, hml, hown, hts, rfl, rfl, rfl, htab, hK, hlt, hnm⟩ := hX
  intro H locs ls hI hS hL
  exact va_gets hx hb (hK.2.1 _ (List.mem_of_getElem? hz)) hS hown (hts _ hl) (fun _ h => h) d (kk H locs ls hI hS hL)
theorem zr_getsQ (hX : zF D X own cc nL ret hh rm A P Ex nm) {idx : Nat} {C f ds : String} (hz : ∀ (s : State) (H : Heap), zKh D A s H → va_Zq C f ds A s H) (d : decode cc pc = .ok (.getstatic idx, 3)) (hl : Cond.fieldLink own idx C f ds ∈ lw_all) (hq : pc + 3 = q) (kk : ∀ r : Option Nat, zG X k n I q L (va_rf r :: st)) : zG X k n I pc L st := by
  subst hq
  obtain ⟨p, l, e, R, s, m, args, below, meth, c, Q, A⟩ := X
  obtain ⟨hx, hb, hr2, hlocks, hml, hown, hts, rfl, rfl, rfl, htab, hK, hlt, hnm⟩ := hX
  intro H locs ls hI hS hL
  rcases hz s _ hK.2 with h | ⟨t, h⟩
  · exact va_gets hx hb h hS hown (hts _ hl) (fun _ h => h) d (kk none H locs ls hI hS hL)
  · exact va_gets hx hb h hS hown (hts _ hl) (fun _ h => h) d (kk (some t) H locs ls hI hS hL)
/-- the cached Integers' array -/
theorem zr_aaldC (hX : zF D X own cc nL ret hh rm A P Ex nm) {i : Int} (d : decode cc pc = .ok (.aaload, 1)) (hi : 0 ≤ i ∧ i < 256) (hq : pc + 1 = q) (kk : zG X k n I q L (.ref (D.2.2.1 i.toNat) :: st)) : zG X k n I pc L (zI i :: .ref (D.2.2.2 1) :: st) := by
  subst hq
  obtain ⟨p, l, e, R, s, m, args, below, meth, c, Q, A⟩ := X
  obtain ⟨hx, hb, hr2, hlocks, hml, hown, hts, rfl, rfl, rfl, htab, hK, hlt, hnm⟩ := hX
  intro H locs ls hI hS hL
  have hzr : zR i := ⟨by omega, by omega⟩
  exact vb_tq hx hb hK.2.2.1 hS (zI_in hzr hi.1 hi.2) (by rw [zI_nat hzr]) d (kk H locs ls hI hS hL)
/-- texts and class objects of the pool -/
theorem zr_ldcS (hX : zF D X own cc nL ret hh rm A P Ex nm) (i : Nat) {idx j : Nat} {tx : String} (hz : zLs[i]? = some (own, idx, tx, j)) (d : decode cc pc = .ok (.ldc idx, 2)) (hq : pc + 2 = q) (kk : zG X k n I q L (.ref (D.2.2.2 j) :: st)) : zG X k n I pc L st := by
  subst hq
  obtain ⟨p, l, e, R, s, m, args, below, meth, c, Q, A⟩ := X
  obtain ⟨hx, hb, hr2, hlocks, hml, hown, hts, rfl, rfl, rfl, htab, hK, hlt, hnm⟩ := hX
  intro H locs ls hI hS hL
  exact va_ldcS hx hb hown (hK.1.2.2.2.2.2.2.2.2.1 _ (List.mem_of_getElem? hz)) d (kk H locs ls hI hS hL)
theorem zr_ldcM (hX : zF D X own cc nL ret hh rm A P Ex nm) {idx : Nat} (d : decode cc pc = .ok (.ldc idx, 2)) (hl : Cond.classLink own idx "[Ljava/lang/Object;" ∈ lw_all) (hq : pc + 2 = q) (kk : zG X k n I q L (.ref (zMi D) :: st)) : zG X k n I pc L st := by
  subst hq
  obtain ⟨p, l, e, R, s, m, args, below, meth, c, Q, A⟩ := X
  obtain ⟨hx, hb, hr2, hlocks, hml, hown, hts, rfl, rfl, rfl, htab, hK, hlt, hnm⟩ := hX
  intro H locs ls hI hS hL
  exact va_ldcM hx hb hown (hts _ hl) hK.1.2.2.2.2.2.2.2.2.2.1 d (kk H locs ls hI hS hL)
/-- casts -/
theorem zr_cast (hX : zF D X own cc nL ret hh rm A P Ex nm) (ci : Nat) {idx : Nat} {C : String} {T : u_T} {N : Nat} (hc : zCl[ci]? = some (C, T, N)) (d : decode cc pc = .ok (.checkcast idx, 3)) (hl : Cond.classLink own idx C ∈ lw_all) (hr : ∀ H, I H → zOb D ci a H) (hq : pc + 3 = q) (kk : zG X k n I q L (.ref a :: st)) : zG X k n I pc L (.ref a :: st) := by
  subst hq
  obtain ⟨p, l, e, R, s, m, args, below, meth, c, Q, A⟩ := X
  obtain ⟨hx, hb, hr2, hlocks, hml, hown, hts, rfl, rfl, rfl, htab, hK, hlt, hnm⟩ := hX
  intro H locs ls hI hS hL
  exact va_castE hx hb hown (hts _ hl) ((hr H hI).cl hK.1 hc) d (kk H locs ls hI hS hL)
theorem zr_castY (hX : zF D X own cc nL ret hh rm A P Ex nm) (ci : Nat) {idx : Nat} {C E : String} {T : u_T} {N : Nat} (hc : zCl[ci]? = some (C, T, N)) (d : decode cc pc = .ok (.checkcast idx, 3)) (hl : Cond.classLink own idx E ∈ lw_all) (hca : (C, E) ∈ zCs) (hr : ∀ H, I H → zOb D ci a H) (hq : pc + 3 = q) (kk : zG X k n I q L (.ref a :: st)) : zG X k n I pc L (.ref a :: st) := by
  subst hq
  obtain ⟨p, l, e, R, s, m, args, below, meth, c, Q, A⟩ := X
  obtain ⟨hx, hb, hr2, hlocks, hml, hown, hts, rfl, rfl, rfl, htab, hK, hlt, hnm⟩ := hX
  intro H locs ls hI hS hL
  exact va_castY hx hb hown (hts _ hl) (hK.1.2.2.2.1 _ hca) ((hr H hI).cl hK.1 hc) d (kk H locs ls hI hS hL)
theorem zr_inst (hX : zF D X own cc nL ret hh rm A P Ex nm) (ci : Nat) {idx : Nat} {C : String} {T : u_T} {N : Nat} (hc : zCl[ci]? = some (C, T, N)) (d : decode cc pc = .ok (.instanceof idx, 3)) (hl : Cond.classLink own idx C ∈ lw_all) (hr : ∀ H, I H → zOb D ci a H) (hq : pc + 3 = q) (kk : zG X k n I q L (zI 1 :: st)) : zG X k n I pc L (.ref a :: st) := by
  subst hq
  obtain ⟨p, l, e, R, s, m, args, below, meth, c, Q, A⟩ := X
  obtain ⟨hx, hb, hr2, hlocks, hml, hown, hts, rfl, rfl, rfl, htab, hK, hlt, hnm⟩ := hX
  intro H locs ls hI hS hL
  exact va_instE hx hb hown (hts _ hl) ((hr H hI).cl hK.1 hc) d (kk H locs ls hI hS hL)
theorem zr_instN (hX : zF D X own cc nL ret hh rm A P Ex nm) {idx : Nat} (d : decode cc pc = .ok (.instanceof idx, 3)) (hq : pc + 3 = q) (kk : zG X k n I q L (zI 0 :: st)) : zG X k n I pc L (.null :: st) := by
  subst hq
  obtain ⟨p, l, e, R, s, m, args, below, meth, c, Q, A⟩ := X
  obtain ⟨hx, hb, hr2, hlocks, hml, hown, hts, rfl, rfl, rfl, htab, hK, hlt, hnm⟩ := hX
  intro H locs ls hI hS hL
  exact lv_instN hx hb d (kk H locs ls hI hS hL)
theorem zr_castNl (hX : zF D X own cc nL ret hh rm A P Ex nm) {idx : Nat} (d : decode cc pc = .ok (.checkcast idx, 3)) (hq : pc + 3 = q) (kk : zG X k n I q L (.null :: st)) : zG X k n I pc L (.null :: st) := by
  subst hq
  obtain ⟨p, l, e, R, s, m, args, below, meth, c, Q, A⟩ := X
  obtain ⟨hx, hb, hr2, hlocks, hml, hown, hts, rfl, rfl, rfl, htab, hK, hlt, hnm⟩ := hX
  intro H locs ls hI hS hL
  exact lv_castN hx hb d (kk H locs ls hI hS hL)
/-- made -/
theorem zc_new (hX : zF D X own cc nL ret hh rm A P Ex nm) (ci : Nat) {idx n9 : Nat} {C : String} {T : u_T} {N : Nat} {fs : List Value} {tyf : Nat → FieldType} (hc : zCl[ci]? = some (C, T, N)) (hw : ∀ w ∈ u_ws C T N, w ∈ lw_all) (hty : ∀ k, k < N → parseFieldDescriptor (T k).2.2.1 = some (tyf k)) (d : decode cc pc = .ok (.new idx, 3)) (hl : Cond.classLink own idx C ∈ lw_all) (hi : Cond.instantiable C n9 ∈ lw_all) (hini : Cond.initialized C ∈ lw_all) (hfs : ∀ j, j < N → defaultValue (tyf j) = vp_V fs j) (hk : k + 1 ≤ rm.cells) (hs : n + n9 ≤ rm.slots) (hq : pc + 3 = q) (kk : ∀ b, w b = none → mm b = none → zG X (k + 1) (n + n9) (cI D A w (upm mm b (eO ci fs))) q L (.ref b :: st)) : zG X k n (cI D A w mm) pc L st := by
  subst hq
  obtain ⟨p, l, e, R, s, m, args, below, meth, c, Q, A⟩ := X
  obtain ⟨hx, hb, hr2, hlocks, hml, hown, hts, rfl, rfl, rfl, htab, hK, hlt, hnm⟩ := hX
  intro H locs ls hI hS hL
  have hKn := hK.k1.1 ci _ hc
  refine W.newcK hx hb hown (hts _ hl) (hts _ hi) (hts _ hini) rfl d hk hs hKn.2.1 rfl fun H1 kC hkC e1 z1 o1 => ?_
  obtain ⟨cell, g1, g2, g3, g4⟩ := (u_born tyf hts hw hKn hkC e1 hty).to hfs
  have hce : cell = blank (D.1.1 ci) kC := Option.some.inj (g1.symm.trans e1)
  obtain ⟨hwn, hmn, hI1⟩ := hI.new (e := .inr (ci, fs)) ⟨_, cell, hc, g1, g2, g3, by rw [hce]; exact ⟨rfl, rfl⟩, g4⟩ z1 o1
  exact kk H.size hwn hmn H1 locs ls hI1 ⟨Nat.le_trans hS.1 (by omega), fun x h1 h2 => (o1 x (Nat.lt_of_lt_of_le h1 hS.1)).trans (hS.2.1 x h1 h2), hS.2.2⟩ hL
theorem zc_newaN (hX : zF D X own cc nL ret hh rm A P Ex nm) (t : Nat) {at_ : ArrayType} {ty : FieldType} {z : Int} (hat : newarray.typeOf at_ = ty) (ht : (zTys D)[t]? = some (D.2.1 t, ty)) (hpr : va_RA = va_RA → ∀ (s : State) (cA : ClassId), va_RA s cA ty → s.vm.findClass ("[" ++ ty.toString) = some cA) (hdv : defaultValue ty = .int 0) (d : decode cc pc = .ok (.newarray at_, 2)) (ha : Cond.arrayClass ty ∈ lw_all) (hz : 0 ≤ z ∧ z ≤ 100000) (hby : componentBytes ty ≤ 8) (hk : k + 1 ≤ rm.cells) (hs : n + z.toNat ≤ rm.slots) (hq : pc + 2 = q) (kk : ∀ b, w b = none → mm b = none → zG X (k + 1) (n + z.toNat) (cI D A w (upm mm b (eC (aN D t z.toNat (fun _ => 0))))) q L (.ref b :: st)) : zG X k n (cI D A w mm) pc L (zI z :: st) := by
  subst hq
  obtain ⟨p, l, e, R, s, m, args, below, meth, c, Q, A⟩ := X
  obtain ⟨hx, hb, hr2, hlocks, hml, hown, hts, rfl, rfl, rfl, htab, hK, hlt, hnm⟩ := hX
  intro H locs ls hI hS hL
  have hzr : zR z := ⟨by omega, by omega⟩
  subst hat
  have hmul : z.toNat * componentBytes (newarray.typeOf at_) ≤ 100000 * 8 := Nat.mul_le_mul (by omega) hby
  refine va_newaK hx hb (hts _ ha) (g := F0 m pc ls (zI z :: st)) rfl d rfl (by rw [show (0 : Int32) = Int32.ofInt 0 from rfl, zI_lt hzr (by decide)]; omega) (zI_nat hzr) (by omega) hk hs rfl fun H1 cA e1 z1 o1 hAr hNm => ?_
  have hcA : cA = D.2.1 t := Option.some.inj (hNm.symm.trans (hpr rfl s _ (hK.k1.2 t _ ht).2))
  subst hcA
  rw [hdv] at e1
  obtain ⟨hwn, hmn, hI1⟩ := hI.new (e := aN D t z.toNat (fun _ => 0)) (by show H1[H.size]? = some (vp_cell _ _); rw [vp_cell_i]; exact e1) z1 o1
  exact kk H.size hwn hmn H1 locs ls hI1 ⟨Nat.le_trans hS.1 (by omega), fun x h1 h2 => (o1 x (Nat.lt_of_lt_of_le h1 hS.1)).trans (hS.2.1 x h1 h2), hS.2.2⟩ hL
theorem zc_newaQ (hX : zF D X own cc nL ret hh rm A P Ex nm) (t : Nat) {idx : Nat} {C : String} {z : Int} (ht : (zTys D)[t]? = some (D.2.1 t, .object C)) (d : decode cc pc = .ok (.anewarray idx, 3)) (hl : Cond.classLink own idx C ∈ lw_all) (ho : C ∈ zAs9) (hz : 0 ≤ z ∧ z ≤ 100000) (hk : k + 1 ≤ rm.cells) (hs : n + z.toNat ≤ rm.slots) (hq : pc + 3 = q) (kk : ∀ b, w b = none → mm b = none → zG X (k + 1) (n + z.toNat) (cI D A w (upm mm b (eC (aQ D t z.toNat (fun _ => none))))) q L (.ref b :: st)) : zG X k n (cI D A w mm) pc L (zI z :: st) := by
  subst hq
  obtain ⟨p, l, e, R, s, m, args, below, meth, c, Q, A⟩ := X
  obtain ⟨hx, hb, hr2, hlocks, hml, hown, hts, rfl, rfl, rfl, htab, hK, hlt, hnm⟩ := hX
  intro H locs ls hI hS hL
  have hzr : zR z := ⟨by omega, by omega⟩
  refine W.anew hx hb hown (hts _ hl) (va_AO.use (hK.1.2.2.2.2.2.2.1 _ ho)) (g := F0 m pc ls (zI z :: st)) rfl d rfl (by rw [show (0 : Int32) = Int32.ofInt 0 from rfl, zI_lt hzr (by decide)]; omega) (by rw [zI_nat hzr]; omega) hk (by rw [zI_nat hzr]; exact hs) fun cA kA comp f1 f2 f3 f4 => ?_
  obtain ⟨kA2, comp2, k1, k2, k3, k4⟩ := (hK.k1.2 t _ ht).2
  have hcA : cA = D.2.1 t := Option.some.inj (f1.symm.trans k4)
  subst hcA
  rw [zI_nat hzr]
  generalize hH1 : H.push ({ cls := D.2.1 t, slots := Array.replicate z.toNat .null, vm := .none } : Cell) = H1
  have z1 : H1.size = H.size + 1 := by rw [← hH1, Array.size_push]
  have e1 : H1[H.size]? = some (arrV (D.2.1 t) z.toNat (fun _ => .null)) := by rw [← hH1, Array.getElem?_push_size, ← arrV_new]
  have o1 : ∀ q : Nat, q < H.size → H1[q]? = H[q]? := fun q hq => by rw [← hH1, Array.getElem?_push, if_neg (Nat.ne_of_lt hq)]
  obtain ⟨hwn, hmn, hI1⟩ := hI.new (e := aQ D t z.toNat (fun _ => none)) (by show H1[H.size]? = some (vp_cell _ _); rw [vp_cell_q]; exact e1) z1 o1
  exact kk H.size hwn hmn H1 locs ls hI1 ⟨Nat.le_trans hS.1 (by omega), fun x h1 h2 => (o1 x (Nat.lt_of_lt_of_le h1 hS.1)).trans (hS.2.1 x h1 h2), hS.2.2⟩ hL
/-- the world seen otherwise -/
theorem zc_conv {w2 m2 : zMp} (h : ∀ H, cI D A w mm H → cI D A w2 m2 H) (kk : zG X k n (cI D A w2 m2) pc L st) : zG X k n (cI D A w mm) pc L st := zG.mono kk h
theorem zc_frz {it : zE} (b : Nat) (hm : mm b = some it) (kk : zG X k n (cI D A (upm w b it) (dlm mm b)) pc L st) : zG X k n (cI D A w mm) pc L st := zG.mono kk (fun _ h => h.frz hm)
theorem zc_eq {m2 : zMp} (e : mm = m2) (kk : zG X k n (cI D A w m2) pc L st) : zG X k n (cI D A w mm) pc L st := by subst e; exact kk
end ZCR

