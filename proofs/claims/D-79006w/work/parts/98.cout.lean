/-! THE LAW'S OUT ARRAYS: one long, one double; the compactor beside what is changed -/
set_option maxRecDepth 100000
abbrev eJ1 (D : zD) (x : Int64) : zE := .inl (.inl (D.2.1 3, 1, .inr (.inl (fun _ => x))))
abbrev eD1 (D : zD) (x : UInt64) : zE := .inl (.inl (D.2.1 4, 1, .inr (.inr (.inr (.inl (fun _ => x))))))
section
variable {D : zD} {X : zX} {own : String} {cc : ByteArray} {nL : Nat} {ret : Option FieldType} {hh : zHh} {rm : Room} {A : Nat → Prop} {P : Option Value → Heap → Prop} {Ex : String → Nat → Heap → Prop} {nm : String} {k n pc q : Nat} {I : Heap → Prop} {L : List (Option Value)} {st : List Value} {w mm : zMp} {a : Nat}
theorem z_i2lR (hX : zF D X own cc nL ret hh rm A P Ex nm) {x : Int32} (d : decode cc pc = .ok (.i2l, 1)) (hq : pc + 1 = q) (kk : zG X k n I q (L) (.long x.toInt64 :: st)) : zG X k n I pc L (.int x :: st) := by
  subst hq
  obtain ⟨p, l, e, R, s, m, args, below, meth, c, Q, A⟩ := X
  obtain ⟨hx, hb, hr, hlocks, hml, hown, hts, rfl, rfl, rfl, htab, hK, hlt, hnm⟩ := hX
  intro H locs ls hI hS hL
  exact lv_i2l hx hb d rfl (kk H locs ls hI hS hL)
theorem zc_last1 (hX : zF D X own cc nL ret hh rm A P Ex nm) {x y : Int64} (d : decode cc pc = .ok (.lastore, 1)) (hm : mm a = some (eJ1 D y)) (hq : pc + 1 = q) (kk : zG X k n (cI D A w (upm mm a (eJ1 D x))) q L st) : zG X k n (cI D A w mm) pc L (.long x :: zI 0 :: .ref a :: st) := by
  subst hq
  obtain ⟨p, l, e, R, s, m, args, below, meth, c, Q, A⟩ := X
  obtain ⟨hx, hb, hr2, hlocks, hml, hown, hts, rfl, rfl, rfl, htab, hK, hlt, hnm⟩ := hX
  intro H locs ls hI hS hL
  have hc : H[a]? = some (vp_cell (D.2.1 3) (1, .inr (.inl (fun _ => y)))) := hI.at (Or.inr hm)
  have hzr : zR 0 := by decide
  refine W.last hx hb hc ((hK.k1.2 3 _ rfl).1 1 (fun _ => .long y)) (fun q => by cases q) (by show ¬ (_ ∨ (arrV _ _ _).slots.size ≤ _); rw [arrV_size]; exact zI_in hzr (Int.le_refl 0) (show (0 : Int) < ((1 : Nat) : Int) by decide)) rfl rfl d fun H1 e z1 oq => ?_
  refine kk H1 _ ls (hI.put hm ?_ z1 oq) (hS.put z1 oq (hI.own hm)) hL
  show H1[a]? = some (vp_cell _ _)
  rw [e, zI_nat hzr, vp_cell_l, vp_cell_l, arrV_store]
  refine congrArg some (arrV_congr (D.2.1 3) (fun j hj => ?_))
  have : j = 0 := by omega
  subst this
  rfl
theorem zc_dast1 (hX : zF D X own cc nL ret hh rm A P Ex nm) {x y : UInt64} (d : decode cc pc = .ok (.dastore, 1)) (hm : mm a = some (eD1 D y)) (hq : pc + 1 = q) (kk : zG X k n (cI D A w (upm mm a (eD1 D x))) q L st) : zG X k n (cI D A w mm) pc L (.double x :: zI 0 :: .ref a :: st) := by
  subst hq
  obtain ⟨p, l, e, R, s, m, args, below, meth, c, Q, A⟩ := X
  obtain ⟨hx, hb, hr2, hlocks, hml, hown, hts, rfl, rfl, rfl, htab, hK, hlt, hnm⟩ := hX
  intro H locs ls hI hS hL
  have hc : H[a]? = some (vp_cell (D.2.1 4) (1, .inr (.inr (.inr (.inl (fun _ => y)))))) := hI.at (Or.inr hm)
  have hzr : zR 0 := by decide
  refine W.dast hx hb hc ((hK.k1.2 4 _ rfl).1 1 (fun _ => .double y)) (fun q => by cases q) (by show ¬ (_ ∨ (arrV _ _ _).slots.size ≤ _); rw [arrV_size]; exact zI_in hzr (Int.le_refl 0) (show (0 : Int) < ((1 : Nat) : Int) by decide)) rfl rfl d fun H1 e z1 oq => ?_
  refine kk H1 _ ls (hI.put hm ?_ z1 oq) (hS.put z1 oq (hI.own hm)) hL
  show H1[a]? = some (vp_cell _ _)
  rw [e, zI_nat hzr]
  show some ((arrV (D.2.1 4) 1 (fun _ => Value.double y)).setSlot _ _) = some (arrV (D.2.1 4) 1 (fun _ => Value.double x))
  rw [arrV_store]
  refine congrArg some (arrV_congr (D.2.1 4) (fun j hj => ?_))
  have : j = 0 := by omega
  subst this
  rfl
end
section
variable {D : zD} {w m m2 : zMp} {K : Nat → Prop} {M : Int → Int} {ps : List (Int → Int)} {sv : Option (Int → Int)} {rp : Option (Int × Int × Int × Int)} {s : zS} {cs : Option (List zCn)} {b : Nat}
/-- m and m2 differ in K alone -/
def zKp (K : Nat → Prop) (m m2 : zMp) : Prop := ∀ c, ¬ K c → m2 c = m c
theorem zKp.up {a : Nat} {x : zE} (h : K a) : zKp K m (upm m a x) := fun c hc => upm_ne _ _ (fun e => hc (by rw [e]; exact h))
theorem kLog.kp {a : Nat} (h : kLog D w m K a M) (hp : zKp K m m2) : kLog D w m2 K a M := by
  obtain ⟨h0, ll, ta, col, tc, mc, ls, tf, h1, h2, h3, h4, h5, ⟨n, f, h6, h7⟩, h8, h9⟩ := h
  exact ⟨h0, ll, ta, col, tc, mc, ls, tf, h1, h2, h3, h4, h5, ⟨n, f, (hp _ h8).trans h6, (hp _ h9).trans h7⟩, h8, h9⟩
theorem zX1.kp (h : zX1 D w m K b M ps sv rp s cs) (hp : zKp K m m2) : zX1 D w m2 K b M ps sv rp s cs := by
  obtain ⟨lg, hl, ia, sa, ra, ca, p1, p2, ⟨mc, xs, p3, p4, p5, p6⟩, p7, p8, ⟨⟨f, p9, p10⟩, p11⟩, p12, p13, p14, p15⟩ := h
  refine ⟨lg, hl, ia, sa, ra, ca, (hp _ p13).trans p1, p2.kp hp, ⟨mc, xs, (hp _ p14).trans p3, p4, p5, fun i M hi => ?_⟩, ?_, ?_, ⟨⟨f, (hp _ p15).trans p9, p10⟩, p11⟩, p12, p13, p14, p15⟩
  · obtain ⟨a, q1, q2⟩ := p6 i M hi
    exact ⟨a, q1, q2.kp hp⟩
  · rcases p7 with q | ⟨M1, a, q1, q2, q3⟩
    · exact Or.inl q
    · exact Or.inr ⟨M1, a, q1, q2, q3.kp hp⟩
  · rcases p8 with q | ⟨c, d, c2, d2, e, e2, q1, q2, q3, q4, q5, q6⟩
    · exact Or.inl q
    · exact Or.inr ⟨c, d, c2, d2, e, e2, q1, q2, (hp _ q5).trans q3, (hp _ q6).trans q4, q5, q6⟩
/-- what a helper of the law leaves: it answers i, if φ; the state; the out array -/
def lSt (D : zD) (w m : zMp) (K : Nat → Prop) (b a : Nat) (i : Int) (φ : Prop) (J : Int64 → Prop) (M : Int → Int) (ps : List (Int → Int)) (sv : Option (Int → Int)) (rp : Option (Int × Int × Int × Int)) (s : zS) (cs : Option (List zCn)) (x : zMp × zMp × Int) : Prop := x.2.2 = i ∧ φ ∧ zLe w x.1 ∧ (∀ c, K c → c ≠ a → x.2.1 c = m c) ∧ zX1 D x.1 x.2.1 K b M ps sv rp s cs ∧ ∃ j, x.2.1 a = some (eJ1 D j) ∧ J j
theorem lSt.no {w2 : zMp} {a : Nat} {i : Int} {φ : Prop} {j : Int64} {J : Int64 → Prop} (hφ : φ) (hw : zLe w w2) (hf : zFr K m m2) (hb : zX1 D w2 m2 K b M ps sv rp s cs) (ha : K a) (hj : m a = some (eJ1 D j)) (hJ : ∀ j, J j) : lSt D w m K b a i φ J M ps sv rp s cs (w2, m2, i) :=
  ⟨rfl, hφ, hw, fun c hc _ => hf c hc, hb, j, (hf a ha).trans hj, hJ j⟩
theorem lSt.ok {w2 : zMp} {a : Nat} {φ : Prop} {j : Int64} (hφ : φ) (hw : zLe w w2) (hf : zFr K m m2) (hb : zX1 D w2 m2 K b M ps sv rp s cs) (ha : K a) : lSt D w m K b a 0 φ (fun z => z = j) M ps sv rp s cs (w2, upm m2 a (eJ1 D j), 0) :=
  ⟨rfl, hφ, hw, fun c hc hca => (upm_ne _ _ hca).trans (hf c hc), hb.kp (zKp.up ha), j, upm_same _ _ _, rfl⟩
/-- .. with the double array -/
def lStD (D : zD) (w m : zMp) (K : Nat → Prop) (b a : Nat) (i : Int) (φ : Prop) (J : UInt64 → Prop) (M : Int → Int) (ps : List (Int → Int)) (sv : Option (Int → Int)) (rp : Option (Int × Int × Int × Int)) (s : zS) (cs : Option (List zCn)) (x : zMp × zMp × Int) : Prop := x.2.2 = i ∧ φ ∧ zLe w x.1 ∧ (∀ c, K c → c ≠ a → x.2.1 c = m c) ∧ zX1 D x.1 x.2.1 K b M ps sv rp s cs ∧ ∃ j, x.2.1 a = some (eD1 D j) ∧ J j
theorem lStD.no {w2 : zMp} {a : Nat} {i : Int} {φ : Prop} {j : UInt64} {J : UInt64 → Prop} (hφ : φ) (hw : zLe w w2) (hf : zFr K m m2) (hb : zX1 D w2 m2 K b M ps sv rp s cs) (ha : K a) (hj : m a = some (eD1 D j)) (hJ : ∀ j, J j) : lStD D w m K b a i φ J M ps sv rp s cs (w2, m2, i) :=
  ⟨rfl, hφ, hw, fun c hc _ => hf c hc, hb, j, (hf a ha).trans hj, hJ j⟩
theorem lStD.ok {w2 : zMp} {a : Nat} {φ : Prop} {j : UInt64} (hφ : φ) (hw : zLe w w2) (hf : zFr K m m2) (hb : zX1 D w2 m2 K b M ps sv rp s cs) (ha : K a) : lStD D w m K b a 0 φ (fun z => z = j) M ps sv rp s cs (w2, upm m2 a (eD1 D j), 0) :=
  ⟨rfl, hφ, hw, fun c hc hca => (upm_ne _ _ hca).trans (hf c hc), hb.kp (zKp.up ha), j, upm_same _ _ _, rfl⟩
end

