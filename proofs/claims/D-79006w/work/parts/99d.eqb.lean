/-! ROWS ALIKE, as far as a row goes: the compactor's state moved from one to the other -/
set_option maxRecDepth 100000
/-- rows alike where they count, and below 1964 -/
def zEqB (M M2 : Int → Int) : Prop := M2 0 = M 0 ∧ M2 1 = M 1 ∧ (∀ l : Int, 0 ≤ l → l < M 0 → M2 (2 + l) = M (2 + l) ∧ M2 (43 + l) = M (43 + l) ∧ ∀ i : Int, 0 ≤ i → i < M (2 + l) → M2 (84 + 40 * l + i) = M (84 + 40 * l + i)) ∧ ∀ i : Int, 1724 ≤ i → i < 1964 → M2 i = M i
theorem zEqB.rf (M : Int → Int) : zEqB M M := ⟨rfl, rfl, fun _ _ _ => ⟨rfl, rfl, fun _ _ _ => rfl⟩, fun _ _ _ => rfl⟩
theorem zEqB.symm {M M2 : Int → Int} (h : zEqB M M2) : zEqB M2 M :=
  ⟨h.1.symm, h.2.1.symm, fun l l0 l1 => by
    have h1 := h.2.2.1 l l0 (by rw [← h.1]; exact l1)
    exact ⟨h1.1.symm, h1.2.1.symm, fun i i0 i1 => (h1.2.2 i i0 (by rw [← h1.1]; exact i1)).symm⟩, fun i hi hj => (h.2.2.2 i hi hj).symm⟩
theorem zEqB.trans {M M2 M3 : Int → Int} (h : zEqB M M2) (g : zEqB M2 M3) : zEqB M M3 :=
  ⟨g.1.trans h.1, g.2.1.trans h.2.1, fun l l0 l1 => by
    have h1 := h.2.2.1 l l0 l1
    have h2 := g.2.2.1 l l0 (by rw [h.1]; exact l1)
    exact ⟨h2.1.trans h1.1, h2.2.1.trans h1.2.1, fun i i0 i1 => (h2.2.2 i i0 (by rw [h1.1]; exact i1)).trans (h1.2.2 i i0 i1)⟩, fun i hi hj => (g.2.2.2 i hi hj).trans (h.2.2.2 i hi hj)⟩
theorem zEqv.B {M M2 : Int → Int} (h : zEqv M M2) : zEqB M M2 := ⟨h.1, h.2.1, h.2.2.1, fun i hi _ => h.2.2.2 i hi⟩
/-- rows that are the same below 1964 -/
theorem zEqB.of {M M2 : Int → Int} (h0 : 0 ≤ M 0 ∧ M 0 ≤ 40) (hl : ∀ l : Int, 0 ≤ l → l < M 0 → M (2 + l) ≤ 40) (h : ∀ i : Int, 0 ≤ i → i < 1964 → M2 i = M i) : zEqB M M2 :=
  ⟨h 0 (by decide) (by decide), h 1 (by decide) (by decide), fun l l0 l1 => ⟨h _ (by omega) (by omega), h _ (by omega) (by omega), fun i i0 i1 => h _ (by omega) (by have := hl l l0 l1; omega)⟩, fun i hi hj => h i (by omega) hj⟩
theorem zEqB.eX {M M2 : Int → Int} (h : zEqB M M2) {l : Int} (l0 : 0 ≤ l) (l1 : l < M 0) : tx M2 l = tx M l := by
  have h1 := h.2.2.1 l l0 l1
  exact tx_congr h1.1 h1.2.2
theorem zEqB.eR {M M2 : Int → Int} (h : zEqB M M2) (t : Int) : rws M2 t = rws M t := by
  unfold rws
  rw [h.1]
  refine rF_congr (fun i hi => ?_)
  unfold ofP
  rw [(h.2.2.1 i (by omega) (by omega)).2.1]
theorem zEqB.eL {M M2 : Int → Int} (h : zEqB M M2) (t r : Int) : lnO M2 t r = lnO M t r := by
  unfold lnO
  rw [h.eR]
theorem zEqB.eF {M M2 : Int → Int} (h : zEqB M M2) (t : Int) : fst M2 t = fst M t := h.eL t 0
theorem zEqB.eT {M M2 : Int → Int} (h : zEqB M M2) (t : Int) : isT M2 t = isT M t := by
  unfold isT
  rw [h.eF]
theorem zEqB.ok {M M2 : Int → Int} (h : zEqB M M2) (g : zOk M) : zOk M2 := by
  refine ⟨by rw [h.1, h.2.1]; exact g.1, fun l l0 l1 => ?_, fun t k t0 t1 k0 k1 => ?_, fun l l0 l1 => ?_⟩
  · rw [h.1] at l1
    have h1 := h.2.2.1 l l0 l1
    have g1 := g.2.1 l l0 l1
    exact ⟨zRaw.of h1.1 h1.2.2 g1.1, by rw [h1.2.1]; exact g1.2⟩
  · have e : slt M2 t k = slt M t k := h.2.2.2 _ (by omega) (by omega)
    rw [e]
    exact g.2.2.1 t k t0 t1 k0 k1
  · rw [h.1] at l1
    have h1 := h.2.2.1 l l0 l1
    have g1 := g.2.2.2 l l0 l1
    have gf := g.f l0 l1
    have hfo := fst_of l0 l1 rfl
    have hfr := fst_rng hfo
    have et := h.eX l0 l1
    have et2 := h.eX hfo hfr.1
    refine ⟨by rw [h1.2.1, h.eF, et, et2]; exact g1.1, fun k k0 k1 hs => ?_⟩
    have gn : nTl M l = nT (tx M l) := rfl
    unfold nTl at k1
    rw [et] at k1
    have e : slt M2 (M2 (43 + l)) k = slt M (M (43 + l)) k := by rw [h1.2.1]; exact h.2.2.2 _ (by omega) (by omega)
    rw [e] at hs
    have g2 := g1.2 k k0 k1 hs
    unfold tkl at g2 ⊢
    rw [h1.2.1, h.eF, et, et2]
    exact g2
section EQB
variable {w m : zMp} {D : zD} {K : Nat → Prop} {M M2 : Int → Int}
theorem wLines.eqB {ls : List Nat} (h : wLines w ls (M 0).toNat (tx M)) (e : zEqB M M2) : wLines w ls (M2 0).toNat (tx M2) := by
  rw [e.1]
  refine ⟨h.1, fun i hi => ?_⟩
  obtain ⟨a, h1, h2⟩ := h.2 i hi
  exact ⟨a, h1, by rw [e.eX (by omega) (by omega)]; exact h2⟩
theorem wTs.eqB {tf : Nat → Option Nat} (h : wTs w tf M) (hok : zOk M) (e : zEqB M M2) : wTs w tf M2 := fun t ht => by
  rcases h t ht with ⟨p1, p2⟩ | ⟨p1, z, p2, p3⟩
  · exact Or.inl ⟨by rw [e.eT]; exact p1, p2⟩
  · refine Or.inr ⟨by rw [e.eT]; exact p1, z, p2, ?_⟩
    have rt := isT_row hok p1
    have hfu := hok.f rt.1 rt.2.1
    unfold wTm
    have en : nTl M2 (fst M t) = nTl M (fst M t) := by unfold nTl; rw [e.eX rt.1 rt.2.1]
    rw [e.eF, e.eX rt.1 rt.2.1, en, e.eR]
    refine p3.congr rfl (fun k hk => ?_) (fun k hk => ?_) rfl
    · exact (e.2.2.2 _ (by omega) (by omega)).symm
    · unfold tkl
      rw [e.eX rt.1 rt.2.1]
theorem kLog.eqB {a : Nat} (h : kLog D w m K a M) (e : zEqB M M2) : kLog D w m K a M2 := by
  obtain ⟨h0, ll, ta, col, tc, mc, ls, tf, h1, h2, h3, h4, h5, h6⟩ := h
  exact ⟨e.ok h0, ll, ta, col, tc, mc, ls, tf, by rw [e.2.1]; exact h1, h2, h3.eqB e, h4, h5.eqB h0 e, h6⟩
/-- two histories, alike row by row -/
def psE (ps ps2 : List (Int → Int)) : Prop := ps2.length = ps.length ∧ ∀ (i : Nat) (M M2 : Int → Int), ps[i]? = some M → ps2[i]? = some M2 → zEqB M M2
def svE (sv sv2 : Option (Int → Int)) : Prop := (sv = none ∧ sv2 = none) ∨ ∃ M M2, sv = some M ∧ sv2 = some M2 ∧ zEqB M M2
theorem zX1.eqB {b : Nat} {ps ps2 : List (Int → Int)} {sv sv2 : Option (Int → Int)} {rp : Option (Int × Int × Int × Int)} {s : zS} {cs : Option (List zCn)} (h : zX1 D w m K b M ps sv rp s cs) (e : zEqB M M2) (hp : psE ps ps2) (hs : svE sv sv2) : zX1 D w m K b M2 ps2 sv2 rp s cs := by
  obtain ⟨lg, hl, ia, sa, ra, ca, p1, p2, ⟨mc, xs, p3, p4, p5, p6⟩, p7, p8⟩ := h
  refine ⟨lg, hl, ia, sa, ra, ca, p1, p2.eqB e, ⟨mc, xs, p3, p4.trans hp.1.symm, by rw [hp.1]; exact p5, fun i M9 hi => ?_⟩, ?_, p8⟩
  · have hlt : i < ps2.length := (List.getElem?_eq_some_iff.mp hi).1
    have hlt2 : i < ps.length := by rw [← hp.1]; exact hlt
    obtain ⟨a, q1, q2⟩ := p6 i _ (List.getElem?_eq_getElem hlt2)
    exact ⟨a, q1, q2.eqB (hp.2 i _ _ (List.getElem?_eq_getElem hlt2) hi)⟩
  · rcases hs with ⟨rfl, rfl⟩ | ⟨N, N2, rfl, rfl, q⟩
    · rcases p7 with z | ⟨M1, a, q1, -⟩
      · exact Or.inl z
      · cases q1
    · rcases p7 with ⟨z, -⟩ | ⟨M1, a, q1, q2, q3⟩
      · cases z
      · cases q1
        exact Or.inr ⟨N2, a, rfl, q2, q3.eqB q⟩
end EQB

