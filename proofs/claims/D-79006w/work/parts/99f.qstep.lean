/-! THE TWO SIDES JOINED: the steps that change them -/
set_option maxRecDepth 100000
theorem qInv.feed {F : zTF} {G : zTG} {s : zS} {cs : Option (List zCn)} {c : Int} (h : qInv F G s cs) (hc : 0 ≤ c ∧ c < 65536) (hs : s.length < 60) : qInv (upF (upF F 6 0) 13 (F 13 + 1)) (upG G 9 (F 13) c) (s ++ [c]) cs ∧ psG (upF (upF F 6 0) 13 (F 13 + 1)) (upG G 9 (F 13) c) = psG F G ∧ svG (upF (upF F 6 0) 13 (F 13 + 1)) (upG G 9 (F 13) c) = svG F G ∧ rpG (upF (upF F 6 0) 13 (F 13 + 1)) (upG G 9 (F 13) c) = rpG F G ∧ upG G 9 (F 13) c 0 = G 0 := by
  have f (j : Nat) (h1 : j ≠ 6 := by decide) (h2 : j ≠ 13 := by decide) : upF (upF F 6 0) 13 (F 13 + 1) j = F j := by rw [upF_ne _ _ h2, upF_ne _ _ h1]
  have g (j : Nat) (h1 : j ≠ 9 := by decide) : upG G 9 (F 13) c j = G j := upG_nj _ _ _ h1
  have hcr : zR c := ⟨by omega, by omega⟩
  obtain ⟨h1, h2, h3, ⟨b1, b2, b3⟩, h5, h6, h7⟩ := h
  have hl : ((s ++ [c]).length : Int) = s.length + 1 := by rw [List.length_append]; rfl
  refine ⟨⟨h1.sc (g 0) (g 4) (g 5) (g 6), by rw [f 5, f 3, f 10, f 19]; exact h2, fun i i0 i1 => ?_, ⟨?_, by omega, fun i i0 i1 => ?_⟩, h5.cg (f 19) (f 20) (g 12) (g 13), ?_, by rw [g 14]; exact h7⟩, ?_, ?_, ?_, g 0⟩
  · by_cases q : i = F 13
    · rw [q, upG_same]; exact hcr
    · rw [upG_ni _ _ _ q]; exact h3 i i0 i1
  · rw [upF_same, b1, hl]
  · by_cases q : i = F 13
    · have e : cT (s ++ [c]) i = c := by
        rw [q, b1]
        unfold cT
        rw [Int.toNat_natCast, List.getD_eq_getElem?_getD, List.getElem?_append_right (Nat.le_refl _), Nat.sub_self]
        rfl
      rw [e, q, upG_same]
      exact ⟨rfl, hcr⟩
    · have hi : i.toNat < s.length := by omega
      have e : cT (s ++ [c]) i = cT s i := by
        unfold cT
        rw [List.getD_eq_getElem?_getD, List.getD_eq_getElem?_getD, List.getElem?_append_left hi]
      rw [e, upG_ni _ _ _ q]
      exact b3 i i0 (by omega)
  · unfold zCds at h6 ⊢
    rw [f 20, g 12, g 13]
    exact h6
  · unfold psG pastM
    rw [f 5, g 3]
  · unfold svG
    rw [f 3, g 1]
  · unfold rpG
    rw [f 10, g 7, g 8]
/-- a row put in place of the log's, the old one kept -/
theorem qInv.chg {F F2 : zTF} {G G2 : zTG} {s s2 : zS} {cs : Option (List zCn)} (h : qInv F G s cs) (hok : zOk (G 0)) (hps : ∀ M ∈ psG F G, zOk M) (h5 : F2 5 = keepC F + 1) (hF : ∀ j, j ≠ 5 → j ≠ 6 → j ≠ 13 → j ≠ 17 → F2 j = F j) (hG : ∀ j, j ≠ 0 → j ≠ 2 → j ≠ 4 → j ≠ 5 → j ≠ 6 → j ≠ 11 → G2 j = keepG F G j) (hw : zWg G2) (hB : zBuf F2 G2 s2) : qInv F2 G2 s2 cs ∧ psE (psA (psG F G) (G 0)) (psG F2 G2) ∧ svG F2 G2 = svG F G ∧ rpG F2 G2 = rpG F G := by
  have f (j : Nat) (h1 : j ≠ 5 := by decide) (h2 : j ≠ 6 := by decide) (h3 : j ≠ 13 := by decide) (h4 : j ≠ 17 := by decide) := hF j h1 h2 h3 h4
  have g (j : Nat) (h0 : j ≠ 0 := by decide) (h1 : j ≠ 2 := by decide) (h2 : j ≠ 4 := by decide) (h3 : j ≠ 5 := by decide) (h4 : j ≠ 6 := by decide) (h5 : j ≠ 11 := by decide) (h6 : j ≠ 3 := by decide) : G2 j = G j := (hG j h0 h1 h2 h3 h4 h5).trans (keepG_j F G h6)
  obtain ⟨h1, h2, h3, -, c5, h6, h7⟩ := h
  have hkc : keepC F = if F 5 = 10 then 9 else F 5 := rfl
  refine ⟨⟨hw, ⟨by rw [h5]; split at hkc <;> omega, by rw [f 3, f 10, f 19]; exact h2.2⟩, by rw [g 9]; exact h3, hB, c5.cg (f 19) (f 20) (g 12) (g 13), ?_, by rw [g 14]; exact h7⟩, psG_keep h2.1 h5 (hG 3 (by decide) (by decide) (by decide) (by decide) (by decide) (by decide)) hok hps, ?_, ?_⟩
  · unfold zCds at h6 ⊢
    rw [f 20, g 12, g 13]
    exact h6
  · unfold svG
    rw [f 3, g 1]
  · unfold rpG
    rw [f 10, g 7, g 8]
theorem rwM_b {F : zTF} {G : zTG} {s : zS} (h : zBuf F G s) (M : Int → Int) : rwM M (G 9) (F 13) = rwS M s := by
  obtain ⟨h1, h2, h3⟩ := h
  funext i
  unfold rwS rwM
  rw [h1]
  by_cases q1 : i = 2 + M 0
  · rw [if_pos q1, if_pos q1]
  · rw [if_neg q1, if_neg q1]
    by_cases q2 : 84 + 40 * M 0 ≤ i ∧ i < 84 + 40 * M 0 + s.length
    · rw [if_pos q2, if_pos q2, (h3 _ (by omega) (by omega)).1]
    · rw [if_neg q2, if_neg q2]
theorem addC_b {F : zTF} {G : zTG} {s : zS} (h : zBuf F G s) (M : Int → Int) : addC M (G 9) (F 13) = adC M s := by
  have e : addOk (G 9) (F 13) (F 13).toNat = ltB s := by
    obtain ⟨h1, h2, h3⟩ := h
    unfold ltB addOk
    rw [h1, Int.toNat_natCast]
    congr 1
    refine allI_congr (fun i hi => ?_)
    rw [(h3 i (by omega) (by omega)).1]
  unfold addC adC
  rw [e, rwM_b h]

