/-! THE LAW'S STEPS, in plain words: what a helper leaves and what the reference answers agree, and all holds again -/
set_option maxRecDepth 100000
/-- cells that aren't the compactor's: the reference's and the out arrays -/
def lK (r aO aD : Nat) : Nat → Prop := fun c => rA r c ∨ c = aO ∨ c = aD
/-- what holds at the head of the law's loop -/
def lI (D : zD) (r aO aD b : Nat) (w m : zMp) (F : zTF) (G : zTG) (s : zS) (cs : Option (List zCn)) : Prop :=
  zX1 D w m (lK r aO aD) b (G 0) (psG F G) (svG F G) (rpG F G) s cs ∧ qInv F G s cs ∧ rM D r F G m = m ∧ ((∃ j, m aO = some (eJ1 D j)) ∧ ∃ d, m aD = some (eD1 D d)) ∧ ¬ rA r aO ∧ ¬ rA r aD ∧ aD ≠ aO
/-- a helper's and the reference's answer agree, and all holds again -/
def lR (D : zD) (r aO aD b : Nat) (F2 : zTF) (G2 : zTG) (V : Int64) (u : zMp × zMp × Int) : Prop :=
  (∃ s2 cs2, lI D r aO aD b u.1 (rM D r F2 G2 u.2.1) F2 G2 s2 cs2) ∧ u.2.2 = F2 6 ∧ (u.2.2 = 0 → u.2.1 aO = some (eJ1 D V)) ∧ (0 ≤ u.2.2 ∧ u.2.2 ≤ 3)
/-- .. of the double array -/
def lRD (D : zD) (r aO aD b : Nat) (F2 : zTF) (G2 : zTG) (V : UInt64) (u : zMp × zMp × Int) : Prop :=
  (∃ s2 cs2, lI D r aO aD b u.1 (rM D r F2 G2 u.2.1) F2 G2 s2 cs2) ∧ u.2.2 = F2 6 ∧ (u.2.2 = 0 → u.2.1 aD = some (eD1 D V)) ∧ (0 ≤ u.2.2 ∧ u.2.2 ≤ 3)
theorem psE.rf {ps : List (Int → Int)} : psE ps ps := ⟨rfl, fun i M M2 h1 h2 => by
  rw [h1] at h2
  cases h2
  exact zEqB.rf _⟩
theorem psE.tr {a b c : List (Int → Int)} (h : psE a b) (g : psE b c) : psE a c := ⟨g.1.trans h.1, fun i M M2 h1 h2 => by
  have hl : i < b.length := by rw [h.1]; exact (List.getElem?_eq_some_iff.mp h1).1
  exact (h.2 i _ _ h1 (List.getElem?_eq_getElem hl)).trans (g.2 i _ _ (List.getElem?_eq_getElem hl) h2)⟩
theorem svE.rf (sv : Option (Int → Int)) : svE sv sv := by
  cases sv with
  | none => exact Or.inl ⟨rfl, rfl⟩
  | some M => exact Or.inr ⟨M, M, rfl, rfl, zEqB.rf _⟩
theorem psA_e {ps : List (Int → Int)} {M M2 : Int → Int} (e : zEqB M M2) : psE (psA ps M) (psA ps M2) := by
  unfold psA
  generalize (if ps.length = 10 then ps.drop 1 else ps) = l
  refine ⟨by rw [List.length_append, List.length_append]; rfl, fun i N N2 h1 h2 => ?_⟩
  by_cases q : i < l.length
  · rw [List.getElem?_append_left q] at h1 h2
    rw [h1] at h2
    cases h2
    exact zEqB.rf _
  · rw [List.getElem?_append_right (by omega)] at h1 h2
    cases hk : i - l.length with
    | zero =>
      rw [hk] at h1 h2
      have h1 : some M = some N := h1
      have h2 : some M2 = some N2 := h2
      cases h1
      cases h2
      exact e
    | succ k =>
      rw [hk] at h1
      have h1 : (none : Option (Int → Int)) = some N := h1
      cases h1
theorem zX1.ok1 {D : zD} {w m : zMp} {K : Nat → Prop} {b : Nat} {M : Int → Int} {ps : List (Int → Int)} {sv : Option (Int → Int)} {rp : Option (Int × Int × Int × Int)} {s : zS} {cs : Option (List zCn)} (h : zX1 D w m K b M ps sv rp s cs) : zOk M ∧ (∀ M9 ∈ ps, zOk M9) ∧ ∀ M9, sv = some M9 → zOk M9 := by
  obtain ⟨lg, hl, ia, sa, ra, ca, p1, p2, ⟨mc, xs, p3, p4, p5, p6⟩, p7, -⟩ := h
  refine ⟨p2.1, fun M9 hM => ?_, fun M9 e => ?_⟩
  · obtain ⟨i, hi, e⟩ := List.mem_iff_getElem.mp hM
    obtain ⟨a, -, q⟩ := p6 i M9 (by rw [← e]; exact List.getElem?_eq_getElem hi)
    exact q.1
  · rcases p7 with ⟨q, -⟩ | ⟨M1, a, q, -, q3⟩
    · rw [q] at e; cases e
    · rw [q] at e
      cases e
      exact q3.1
section LI
variable {D : zD} {r aO aD b : Nat} {w m w2 m2 : zMp} {F F2 : zTF} {G G2 : zTG} {s s2 : zS} {cs cs2 : Option (List zCn)} {u : zMp × zMp × Int} {M N : Int → Int} {ps : List (Int → Int)} {sv : Option (Int → Int)} {rp : Option (Int × Int × Int × Int)} {V J0 : Int64}
theorem lI.hk (h : lI D r aO aD b w m F G s cs) : zHk (lK r aO aD) m := by
  obtain ⟨-, -, h3, ⟨⟨j, h4⟩, d, h5⟩, -⟩ := h
  intro c hc
  rcases hc with q | q | q
  · rw [← h3]
    rcases rM_cases q with rfl | ⟨j2, hj, rfl⟩
    · rw [rM_b]; exact fun e => by cases e
    · rw [rM_j hj]; exact fun e => by cases e
  · rw [q, h4]; exact fun e => by cases e
  · rw [q, h5]; exact fun e => by cases e
theorem lK_aO : lK r aO aD aO := Or.inr (Or.inl rfl)
theorem lK_aD : lK r aO aD aD := Or.inr (Or.inr rfl)
/-- what a helper leaves: the reference is yet where it was -/
theorem lI.hold {a : Nat} (h : lI D r aO aD b w m F G s cs) (ha : ¬ rA r a) (hf : ∀ c, lK r aO aD c → c ≠ a → m2 c = m c) : rM D r F G m2 = m2 := by
  funext c
  by_cases q : rA r c
  · have hc : c ≠ a := fun e => ha (by rw [← e]; exact q)
    have e := congrFun h.2.2.1 c
    rw [hf c (Or.inl q) hc, ← e]
    rcases rM_cases q with rfl | ⟨j2, hj, rfl⟩
    · rw [rM_b, rM_b]
    · rw [rM_j hj, rM_j hj]
  · exact rM_o q
theorem lI.mk (h : lI D r aO aD b w m F G s cs) (hb : zX1 D w2 m2 (lK r aO aD) b M ps sv rp s2 cs2) (hO : ∃ j, m2 aO = some (eJ1 D j)) (hD : ∃ d, m2 aD = some (eD1 D d)) (hM : zEqB M (G2 0)) (hp : psE ps (psG F2 G2)) (hs : svE sv (svG F2 G2)) (hr : rp = rpG F2 G2) (hq : qInv F2 G2 s2 cs2) : lI D r aO aD b w2 (rM D r F2 G2 m2) F2 G2 s2 cs2 := by
  obtain ⟨-, -, -, -, n1, n2, n3⟩ := h
  subst hr
  refine ⟨(hb.eqB hM hp hs).kp (fun c hc => rM_o (fun q => hc (Or.inl q))), hq, rM_rM, ⟨?_, ?_⟩, n1, n2, n3⟩
  · rw [rM_o n1]; exact hO
  · rw [rM_o n2]; exact hD
theorem lI.fD {a : Nat} (h : lI D r aO aD b w m F G s cs) (ha : a = aO) (hf : ∀ c, lK r aO aD c → c ≠ a → m2 c = m c) : ∃ d, m2 aD = some (eD1 D d) := by
  obtain ⟨-, -, -, ⟨-, d, h5⟩, -, -, n3⟩ := h
  exact ⟨d, (hf aD lK_aD (by rw [ha]; exact n3)).trans h5⟩
theorem lR.of {i : Int} {φ : Prop} {J : Int64 → Prop} (h : lI D r aO aD b w m F G s cs) (hx : lSt D w m (lK r aO aD) b aO i φ J M ps sv rp s2 cs2 u) (hM : zEqB M (G2 0)) (hp : psE ps (psG F2 G2)) (hs : svE sv (svG F2 G2)) (hr : rp = rpG F2 G2) (hq : qInv F2 G2 s2 cs2) (hi : F2 6 = i) (h3 : 0 ≤ i ∧ i ≤ 3) (hJ : i = 0 → ∀ j, J j → j = V) : lR D r aO aD b F2 G2 V u := by
  obtain ⟨e, -, -, hf, hb, j, hj, hjJ⟩ := hx
  exact ⟨⟨s2, cs2, h.mk hb ⟨j, hj⟩ (h.fD rfl hf) hM hp hs hr hq⟩, by rw [e, hi], fun z => by rw [hj, hJ (e.symm.trans z) j hjJ], by rw [e]; exact h3⟩
theorem lR.ask {i : Int} {φ : Prop} {J : Int64 → Prop} (h : lI D r aO aD b w m F G s cs) (hx : lSt D w m (lK r aO aD) b aO i φ J (G 0) (psG F G) (svG F G) (rpG F G) s cs u) (hF : ∀ j, j ≠ 6 → j ≠ 15 → j ≠ 17 → F2 j = F j) (hG : ∀ j, j ≠ 2 → j ≠ 10 → j ≠ 11 → G2 j = G j) (hi : F2 6 = i) (h3 : 0 ≤ i ∧ i ≤ 3) (hJ : i = 0 → ∀ j, J j → j = V) : lR D r aO aD b F2 G2 V u := by
  obtain ⟨q1, q2, q3, q4, q5⟩ := h.2.1.cg hF hG
  exact lR.of h hx (by rw [q5]; exact zEqB.rf _) (by rw [q2]; exact psE.rf) (by rw [q3]; exact svE.rf _) q4.symm q1 hi h3 hJ
abbrev lA (D : zD) (r aO aD b : Nat) (w m : zMp) (F : zTF) (G : zTG) (s : zS) (cs : Option (List zCn)) (i : Int) (φ : Prop) (J : Int64 → Prop) (u : zMp × zMp × Int) : Prop := lSt D w m (lK r aO aD) b aO i φ J (G 0) (psG F G) (svG F G) (rpG F G) s cs u
theorem l10 {P : Prop} : (1 : Int) = 0 → P := fun e => absurd e (by decide)
theorem l20 {P : Prop} : (2 : Int) = 0 → P := fun e => absurd e (by decide)
theorem l30 {P : Prop} : (3 : Int) = 0 → P := fun e => absurd e (by decide)
theorem lR.ask2 {p : Int} (h : lI D r aO aD b w m F G s cs) (hx : lA D r aO aD b w m F G s cs 0 (p = 0) (fun u8 => u8 = J0) u ∨ lA D r aO aD b w m F G s cs 1 (p = 1) (fun _ => True) u) (h6 : F2 6 = p) (hF : ∀ j, j ≠ 6 → j ≠ 15 → j ≠ 17 → F2 j = F j) (hG : ∀ j, j ≠ 2 → j ≠ 10 → j ≠ 11 → G2 j = G j) : lR D r aO aD b F2 G2 J0 u := by
  rcases hx with hx | hx
  · exact lR.ask h hx hF hG (h6.trans hx.2.1) (by decide) (fun _ j hj => hj)
  · exact lR.ask h hx hF hG (h6.trans hx.2.1) (by decide) l10
theorem lR.ask3 {p : Int} (h : lI D r aO aD b w m F G s cs) (hx : lA D r aO aD b w m F G s cs 0 (p = 0) (fun u8 => u8 = J0) u ∨ lA D r aO aD b w m F G s cs 1 (p = 1) (fun _ => True) u ∨ lA D r aO aD b w m F G s cs 2 (p = 2) (fun _ => True) u) (h6 : F2 6 = p) (hF : ∀ j, j ≠ 6 → j ≠ 15 → j ≠ 17 → F2 j = F j) (hG : ∀ j, j ≠ 2 → j ≠ 10 → j ≠ 11 → G2 j = G j) : lR D r aO aD b F2 G2 J0 u := by
  rcases hx with hx | hx | hx
  · exact lR.ask h hx hF hG (h6.trans hx.2.1) (by decide) (fun _ j hj => hj)
  · exact lR.ask h hx hF hG (h6.trans hx.2.1) (by decide) l10
  · exact lR.ask h hx hF hG (h6.trans hx.2.1) (by decide) l20
theorem lR.ask4 {p : Int} (h : lI D r aO aD b w m F G s cs) (hx : lA D r aO aD b w m F G s cs 0 (p = 0) (fun u8 => u8 = J0) u ∨ lA D r aO aD b w m F G s cs 1 (p = 1) (fun _ => True) u ∨ lA D r aO aD b w m F G s cs 2 (p = 2) (fun _ => True) u ∨ lA D r aO aD b w m F G s cs 3 (p = 3) (fun _ => True) u) (h6 : F2 6 = p) (hF : ∀ j, j ≠ 6 → j ≠ 15 → j ≠ 17 → F2 j = F j) (hG : ∀ j, j ≠ 2 → j ≠ 10 → j ≠ 11 → G2 j = G j) : lR D r aO aD b F2 G2 J0 u := by
  rcases hx with hx | hx | hx | hx
  · exact lR.ask h hx hF hG (h6.trans hx.2.1) (by decide) (fun _ j hj => hj)
  · exact lR.ask h hx hF hG (h6.trans hx.2.1) (by decide) l10
  · exact lR.ask h hx hF hG (h6.trans hx.2.1) (by decide) l20
  · exact lR.ask h hx hF hG (h6.trans hx.2.1) (by decide) l30
/-- the ratio, a double -/
theorem lRD.ask {J9 : UInt64} (h : lI D r aO aD b w m F G s cs) (hx : lStD D w m (lK r aO aD) b aD 0 (G 0 0 ≠ 0) (fun u8 => u8 = J9) (G 0) (psG F G) (svG F G) (rpG F G) s cs u ∨ lStD D w m (lK r aO aD) b aD 1 (G 0 0 = 0) (fun _ => True) (G 0) (psG F G) (svG F G) (rpG F G) s cs u) (h6 : F2 6 = if G 0 0 = 0 then 1 else 0) (hF : ∀ j, j ≠ 6 → j ≠ 15 → j ≠ 17 → F2 j = F j) (hG : ∀ j, j ≠ 2 → j ≠ 10 → j ≠ 11 → G2 j = G j) : lRD D r aO aD b F2 G2 J9 u := by
  obtain ⟨q1, q2, q3, q4, q5⟩ := h.2.1.cg hF hG
  have key : ∀ {i : Int} {φ : Prop} {J : UInt64 → Prop}, lStD D w m (lK r aO aD) b aD i φ J (G 0) (psG F G) (svG F G) (rpG F G) s cs u → F2 6 = i → 0 ≤ i ∧ i ≤ 3 → (i = 0 → ∀ j, J j → j = J9) → lRD D r aO aD b F2 G2 J9 u := by
    intro i φ J hx hi h3 hJ
    obtain ⟨e, -, -, hf, hb, j, hj, hjJ⟩ := hx
    obtain ⟨j0, hj0⟩ := h.2.2.2.1.1
    have n3 := h.2.2.2.2.2.2
    exact ⟨⟨s, cs, h.mk hb ⟨j0, (hf aO lK_aO (Ne.symm n3)).trans hj0⟩ ⟨j, hj⟩ (by rw [q5]; exact zEqB.rf _) (by rw [q2]; exact psE.rf) (by rw [q3]; exact svE.rf _) q4.symm q1⟩, by rw [e, hi], fun z => by rw [hj, hJ (e.symm.trans z) j hjJ], by rw [e]; exact h3⟩
  rcases hx with hx | hx
  · exact key hx (by rw [h6, if_neg hx.2.1]) (by decide) (fun _ j hj => hj)
  · exact key hx (by rw [h6, if_pos hx.2.1]) (by decide) l10
/-- the row, the text fed or what is laid of it changed, the past not -/
theorem qInv.row (h : qInv F G s cs) (hF : ∀ j, j ≠ 6 → j ≠ 13 → j ≠ 17 → F2 j = F j) (hG : ∀ j, j ≠ 0 → j ≠ 2 → j ≠ 4 → j ≠ 5 → j ≠ 6 → j ≠ 11 → G2 j = G j) (hw : zWg G2) (hB : zBuf F2 G2 s2) : qInv F2 G2 s2 cs ∧ psG F2 G2 = psG F G ∧ svG F2 G2 = svG F G ∧ rpG F2 G2 = rpG F G := by
  have f (j : Nat) (h1 : j ≠ 6 := by decide) (h3 : j ≠ 13 := by decide) (h4 : j ≠ 17 := by decide) := hF j h1 h3 h4
  have g (j : Nat) (h0 : j ≠ 0 := by decide) (h1 : j ≠ 2 := by decide) (h2 : j ≠ 4 := by decide) (h3 : j ≠ 5 := by decide) (h4 : j ≠ 6 := by decide) (h7 : j ≠ 11 := by decide) : G2 j = G j := hG j h0 h1 h2 h3 h4 h7
  obtain ⟨h1, h2, h3, -, c5, h6, h7⟩ := h
  refine ⟨⟨hw, by rw [f 5, f 3, f 10, f 19]; exact h2, by rw [g 9]; exact h3, hB, c5.cg (f 19) (f 20) (g 12) (g 13), ?_, by rw [g 14]; exact h7⟩, ?_, ?_, ?_⟩
  · unfold zCds at h6 ⊢
    rw [f 20, g 12, g 13]
    exact h6
  · unfold psG pastM
    rw [f 5, g 3]
  · unfold svG
    rw [f 3, g 1]
  · unfold rpG
    rw [f 10, g 7, g 8]
/-- a log in place of the old one, its lines among the old one's -/
theorem lI.chg (h : lI D r aO aD b w m F G s cs) (hN : zOk N) (h5 : F2 5 = keepC F + 1) (hF : ∀ j, j ≠ 5 → j ≠ 6 → j ≠ 17 → F2 j = F j) (hG : ∀ j, j ≠ 0 → j ≠ 2 → j ≠ 11 → G2 j = keepG F G j) (h0 : G2 0 = N) (ht : ∀ l : Int, 0 ≤ l → l < N 0 → l < G 0 0 ∧ tx N l = tx (G 0) l) : qInv F2 G2 s cs ∧ psE (psA (psG F G) (G 0)) (psG F2 G2) ∧ svG F2 G2 = svG F G ∧ rpG F2 G2 = rpG F G := by
  have g (j : Nat) (h1 : j ≠ 0 := by decide) (h2 : j ≠ 2 := by decide) (h3 : j ≠ 11 := by decide) (h4 : j ≠ 3 := by decide) : G2 j = G j := (hG j h1 h2 h3).trans (keepG_j F G h4)
  obtain ⟨hok, hps, -⟩ := h.1.ok1
  have hq := h.2.1
  refine hq.chg hok hps h5 (fun j a b _ d => hF j a b d) (fun j a b _ _ _ d => hG j a b d) (zWg_iff.mpr ⟨by rw [h0]; exact hN, fun l l0 l1 => ?_⟩) (hq.2.2.2.1.cg (hF 13 (by decide) (by decide) (by decide)) (g 9))
  rw [h0] at l1
  obtain ⟨t1, t2⟩ := ht l l0 l1
  exact zTks.cg (g 4) (g 5) (g 6) (by rw [h0]; exact t2) ((zWg_iff.mp hq.1).2 l l0 t1)
theorem lR.chg {φ : Prop} (h : lI D r aO aD b w m F G s cs) (hx : lSt D w m (lK r aO aD) b aO 0 φ (fun u8 => u8 = V) N (psA (psG F G) (G 0)) (svG F G) (rpG F G) s cs u) (h6 : F2 6 = 0) (h5 : F2 5 = keepC F + 1) (hF : ∀ j, j ≠ 5 → j ≠ 6 → j ≠ 17 → F2 j = F j) (hG : ∀ j, j ≠ 0 → j ≠ 2 → j ≠ 11 → G2 j = keepG F G j) (h0 : G2 0 = N) (ht : ∀ l : Int, 0 ≤ l → l < N 0 → l < G 0 0 ∧ tx N l = tx (G 0) l) : lR D r aO aD b F2 G2 V u := by
  obtain ⟨q1, q2, q3, q4⟩ := h.chg hx.2.2.2.2.1.ok1.1 h5 hF hG h0 ht
  exact lR.of h hx (by rw [h0]; exact zEqB.rf _) q2 (by rw [q3]; exact svE.rf _) q4.symm q1 h6 (by decide) (fun _ j hj => hj)
theorem lR.rep {φ : Prop} {c0 d0 c1 d1 : Int} (h : lI D r aO aD b w m F G s cs) (hx : lSt D w m (lK r aO aD) b aO 3 φ (fun _ => True) (G 0) (psG F G) (svG F G) (some (c0, d0, c1, d1)) s2 cs u) (h6 : F2 6 = 3) (hF : ∀ j, j ≠ 6 → j ≠ 10 → j ≠ 13 → j ≠ 17 → F2 j = F j) (h10 : F2 10 = 1) (hG : ∀ j, j ≠ 0 → j ≠ 2 → j ≠ 4 → j ≠ 5 → j ≠ 6 → j ≠ 7 → j ≠ 8 → j ≠ 11 → G2 j = G j) (hr : G2 7 0 = c0 ∧ G2 8 0 = d0 ∧ G2 7 1 = c1 ∧ G2 8 1 = d1) (hM : zEqB (G 0) (G2 0)) (hw : zWg G2) (hB : zBuf F2 G2 s2) : lR D r aO aD b F2 G2 V u := by
  obtain ⟨q1, q2, q3, q4⟩ := h.2.1.rep hF h10 hG hr hw hB
  exact lR.of h hx hM (by rw [q2]; exact psE.rf) (by rw [q3]; exact svE.rf _) q4.symm q1 h6 (by decide) l30
theorem repG_j {c0 d0 c1 d1 : Int} {j : Nat} (h7 : j ≠ 7) (h8 : j ≠ 8) : repG G c0 d0 c1 d1 j = G j := by
  unfold repG
  rw [upG_nj _ _ _ h8, upG_nj _ _ _ h7, upG_nj _ _ _ h8, upG_nj _ _ _ h7]
theorem repG_r {c0 d0 c1 d1 : Int} : repG G c0 d0 c1 d1 7 0 = c0 ∧ repG G c0 d0 c1 d1 8 0 = d0 ∧ repG G c0 d0 c1 d1 7 1 = c1 ∧ repG G c0 d0 c1 d1 8 1 = d1 := by
  unfold repG
  refine ⟨?_, ?_, ?_, upG_same _ _ _ _⟩
  · rw [upG_nj _ _ _ (by decide), upG_ni _ _ _ (by decide), upG_nj _ _ _ (by decide), upG_same]
  · rw [upG_ni _ _ _ (by decide), upG_nj _ _ _ (by decide), upG_same]
  · rw [upG_nj _ _ _ (by decide), upG_same]
theorem zBuf_nil (h : F2 13 = 0) : zBuf F2 G2 [] := ⟨h, by decide, fun i a b => absurd b (by show ¬ i < ((0 : Nat) : Int); omega)⟩
end LI

