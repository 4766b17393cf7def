/-! THE TWO SIDES JOINED: a refusal, undo, save, restore, a text's end -/
set_option maxRecDepth 100000
theorem qInv.rep {F F2 : zTF} {G G2 : zTG} {s s2 : zS} {cs : Option (List zCn)} {c0 d0 c1 d1 : Int} (h : qInv F G s cs) (hF : ∀ j, j ≠ 6 → j ≠ 10 → j ≠ 13 → j ≠ 17 → F2 j = F j) (h10 : F2 10 = 1) (hG : ∀ j, j ≠ 0 → j ≠ 2 → j ≠ 4 → j ≠ 5 → j ≠ 6 → j ≠ 7 → j ≠ 8 → j ≠ 11 → G2 j = G j) (hr : G2 7 0 = c0 ∧ G2 8 0 = d0 ∧ G2 7 1 = c1 ∧ G2 8 1 = d1) (hw : zWg G2) (hB : zBuf F2 G2 s2) : qInv F2 G2 s2 cs ∧ psG F2 G2 = psG F G ∧ svG F2 G2 = svG F G ∧ rpG F2 G2 = some (c0, d0, c1, d1) := by
  have f (j : Nat) (h1 : j ≠ 6 := by decide) (h2 : j ≠ 10 := by decide) (h3 : j ≠ 13 := by decide) (h4 : j ≠ 17 := by decide) := hF j h1 h2 h3 h4
  have g (j : Nat) (h0 : j ≠ 0 := by decide) (h1 : j ≠ 2 := by decide) (h2 : j ≠ 4 := by decide) (h3 : j ≠ 5 := by decide) (h4 : j ≠ 6 := by decide) (h5 : j ≠ 7 := by decide) (h6 : j ≠ 8 := by decide) (h7 : j ≠ 11 := by decide) : G2 j = G j := hG j h0 h1 h2 h3 h4 h5 h6 h7
  obtain ⟨h1, h2, h3, -, c5, h6, h7⟩ := h
  refine ⟨⟨hw, ⟨by rw [f 5]; exact h2.1, by rw [f 3]; exact h2.2.1, by rw [h10]; decide, by rw [f 19]; exact h2.2.2.2⟩, by rw [g 9]; exact h3, hB, c5.cg (f 19) (f 20) (g 12) (g 13), ?_, by rw [g 14]; exact h7⟩, ?_, ?_, ?_⟩
  · unfold zCds at h6 ⊢
    rw [f 20, g 12, g 13]
    exact h6
  · unfold psG pastM
    rw [f 5, g 3]
  · unfold svG
    rw [f 3, g 1]
  · unfold rpG
    rw [h10, if_neg (by decide), hr.1, hr.2.1, hr.2.2.1, hr.2.2.2]
/-- the history's length set (undo, restore), the row put in its place -/
theorem qInv.len {F F2 : zTF} {G G2 : zTG} {s : zS} {cs : Option (List zCn)} (h : qInv F G s cs) (h5 : 0 ≤ F2 5 ∧ F2 5 ≤ 10) (hF : ∀ j, j ≠ 5 → j ≠ 6 → F2 j = F j) (hG : ∀ j, j ≠ 0 → j ≠ 4 → j ≠ 5 → j ≠ 6 → G2 j = G j) (hw : zWg G2) : qInv F2 G2 s cs ∧ psG F2 G2 = (List.range (F2 5).toNat).map (fun (j : Nat) => pastM G (j : Int)) ∧ svG F2 G2 = svG F G ∧ rpG F2 G2 = rpG F G := by
  have f (j : Nat) (h1 : j ≠ 5 := by decide) (h2 : j ≠ 6 := by decide) := hF j h1 h2
  have g (j : Nat) (h0 : j ≠ 0 := by decide) (h1 : j ≠ 4 := by decide) (h2 : j ≠ 5 := by decide) (h3 : j ≠ 6 := by decide) : G2 j = G j := hG j h0 h1 h2 h3
  obtain ⟨h1, h2, h3, h4, c5, h6, h7⟩ := h
  refine ⟨⟨hw, ⟨h5, by rw [f 3, f 10, f 19]; exact h2.2⟩, by rw [g 9]; exact h3, h4.cg (f 13) (g 9), c5.cg (f 19) (f 20) (g 12) (g 13), ?_, by rw [g 14]; exact h7⟩, ?_, ?_, ?_⟩
  · unfold zCds at h6 ⊢
    rw [f 20, g 12, g 13]
    exact h6
  · unfold psG pastM
    rw [g 3]
  · unfold svG
    rw [f 3, g 1]
  · unfold rpG
    rw [f 10, g 7, g 8]
theorem psG_last {F F2 : zTF} {G : zTG} (h : 0 ≤ F 5 ∧ F 5 ≤ 10) (h0 : F 5 ≠ 0) (h2 : F2 5 = F 5 - 1) : psG F G = (List.range (F2 5).toNat).map (fun (j : Nat) => pastM G (j : Int)) ++ [pastM G (F 5 - 1)] := by
  unfold psG
  rw [show (F 5).toNat = (F2 5).toNat + 1 by omega, List.range_succ, List.map_append]
  refine congrArg (_ ++ ·) ?_
  show [pastM G (((F2 5).toNat : Nat) : Int)] = _
  rw [show (((F2 5).toNat : Nat) : Int) = F 5 - 1 by omega]
theorem psG_nil {F : zTF} {G : zTG} (h : F 5 = 0) : psG F G = [] := by
  unfold psG
  rw [h]
  rfl
theorem psG_not {F : zTF} {G : zTG} (h : 0 ≤ F 5 ∧ F 5 ≤ 10) (h0 : F 5 ≠ 0) : psG F G ≠ [] := fun q => by
  have := congrArg List.length q
  rw [psG_len] at this
  have : (F 5).toNat = 0 := this
  omega
theorem qInv.save {F : zTF} {G : zTG} {s : zS} {cs : Option (List zCn)} (h : qInv F G s cs) : qInv (upF (upF F 6 0) 3 1) (setG G 1 (G 0)) s cs ∧ psG (upF (upF F 6 0) 3 1) (setG G 1 (G 0)) = psG F G ∧ svG (upF (upF F 6 0) 3 1) (setG G 1 (G 0)) = some (G 0) ∧ rpG (upF (upF F 6 0) 3 1) (setG G 1 (G 0)) = rpG F G ∧ setG G 1 (G 0) 0 = G 0 := by
  have f (j : Nat) (h1 : j ≠ 6 := by decide) (h2 : j ≠ 3 := by decide) : upF (upF F 6 0) 3 1 j = F j := by rw [upF_ne _ _ h2, upF_ne _ _ h1]
  have g (j : Nat) (h1 : j ≠ 1 := by decide) : setG G 1 (G 0) j = G j := setG_ne _ _ h1
  obtain ⟨h1, h2, h3, h4, h5, h6, h7⟩ := h
  refine ⟨⟨h1.sc (g 0) (g 4) (g 5) (g 6), ⟨by rw [f 5]; exact h2.1, by rw [upF_same]; decide, by rw [f 10, f 19]; exact h2.2.2⟩, by rw [g 9]; exact h3, h4.cg (f 13) (g 9), h5.cg (f 19) (f 20) (g 12) (g 13), ?_, by rw [g 14]; exact h7⟩, ?_, ?_, ?_, g 0⟩
  · unfold zCds at h6 ⊢
    rw [f 20, g 12, g 13]
    exact h6
  · unfold psG pastM
    rw [f 5, g 3]
  · unfold svG
    rw [upF_same, if_neg (by decide), setG_same]
  · unfold rpG
    rw [f 10, g 7, g 8]
/-- the report, asked -/
theorem opRep_rp {F : zTF} {G : zTG} (lv w : Int) : opRep F G lv w = match rpL (rpG F G) lv with
  | none => (1, 0)
  | some q => if ¬ (0 ≤ w ∧ w ≤ 1) then (2, 0) else (0, if w = 0 then q.1 else q.2) := by
  unfold opRep rpL rpG
  by_cases h10 : F 10 = 0
  · rw [if_pos h10, if_pos (fun q => q.1 h10)]
  · rw [if_neg h10]
    dsimp only
    by_cases q0 : lv < 0
    · rw [if_pos q0, if_pos (by omega)]
    · rw [if_neg q0]
      by_cases q1 : lv = 0
      · subst q1
        rw [if_pos rfl, if_neg (by omega)]
      · rw [if_neg q1]
        by_cases q2 : lv = 1
        · subst q2
          rw [if_pos rfl, if_neg (by omega)]
        · rw [if_neg q2, if_pos (by omega)]

