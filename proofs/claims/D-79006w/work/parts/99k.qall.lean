/-! THE TWO SIDES JOINED: all conditions read -/
set_option maxRecDepth 100000
/-- the i-th condition is c, as laid -/
def rqL (s : zS) (C : Int → Int) (i : Nat) (c : zCn) : Prop := ∃ p : Int, 0 ≤ p ∧ (cdR s 4 p).1 = some c ∧ rqC s p C (7 * (i : Int))
theorem rqL.cg {s : zS} {C C2 : Int → Int} {i : Nat} {c : zCn} (h : rqL s C i c) (e : ∀ k : Int, 7 * (i : Int) ≤ k → k < 7 * (i : Int) + 7 → C2 k = C k) : rqL s C2 i c := by
  obtain ⟨p, h0, h1, h2, h3, h4, h5, h6⟩ := h
  refine ⟨p, h0, h1, ?_, ?_, fun z => ?_, fun z => ⟨?_, ?_⟩, fun z y => ⟨?_, ?_, ?_⟩⟩
  · rw [e _ (by omega) (by omega)]; exact h2
  · rw [e _ (by omega) (by omega)]; exact h3
  · rw [e _ (by omega) (by omega)]; exact h4 z
  · rw [e _ (by omega) (by omega)]; exact (h5 z).1
  · rw [e _ (by omega) (by omega)]; exact (h5 z).2
  · rw [e _ (by omega) (by omega)]; exact (h6 z y).1
  · rw [e _ (by omega) (by omega)]; exact (h6 z y).2.1
  · rw [e _ (by omega) (by omega)]; exact (h6 z y).2.2
theorem rqG_lo {F : zTF} {G : zTG} {s : zS} {i : Int} (hi : i < 7 * F 23) : rqG F G s 14 i = G 14 i := by
  have u : ∀ (G : zTG) (i j x : Int), i ≠ j → upG G 14 j x 14 i = G 14 i := fun G i j x h => upG_ni G 14 x h
  have e0 : rq0 F G s 14 i = G 14 i := by
    unfold rq0
    rw [u _ _ _ _ (by omega), u _ _ _ _ (by omega)]
  unfold rqG
  split
  · split
    · rw [u _ _ _ _ (by omega), e0]
    · split
      · rw [u _ _ _ _ (by omega), u _ _ _ _ (by omega), e0]
      · unfold rcG
        split
        · exact e0
        · split
          · rw [u _ _ _ _ (by omega), e0]
          · rw [u _ _ _ _ (by omega), u _ _ _ _ (by omega), u _ _ _ _ (by omega), e0]
  · exact e0

