/-! THE TWO SIDES JOINED: what holds between the reference's fields and arrays and the compactor's state -/
set_option maxRecDepth 100000
/-- the reference's history, as rows -/
def psG (F : zTF) (G : zTG) : List (Int → Int) := (List.range (F 5).toNat).map (fun (j : Nat) => pastM G (j : Int))
theorem psG_at {F : zTF} {G : zTG} {i : Nat} (h : i < (F 5).toNat) : (psG F G)[i]? = some (pastM G (i : Int)) := by
  unfold psG
  rw [List.getElem?_map, List.getElem?_range h]
  rfl
theorem psG_len {F : zTF} {G : zTG} : (psG F G).length = (F 5).toNat := by
  unfold psG
  rw [List.length_map, List.length_range]
def svG (F : zTF) (G : zTG) : Option (Int → Int) := if F 3 = 0 then none else some (G 1)
def rpG (F : zTF) (G : zTG) : Option (Int × Int × Int × Int) := if F 10 = 0 then none else some (G 7 0, G 8 0, G 7 1, G 8 1)
/-- the conditions, by what they say of any row's line -/
def csG (F : zTF) (G : zTG) (cs : Option (List zCn)) : Prop := match cs with
  | none => F 19 = 0
  | some cl => F 19 = 1 ∧ F 20 = cl.length ∧ ∀ (i : Nat) (c : zCn), cl[i]? = some c → ∀ (M : Int → Int) (l : Int), cnB M l c = fuI M (G 12) (G 13) l i
def qInv (F : zTF) (G : zTG) (s : zS) (cs : Option (List zCn)) : Prop :=
  zWg G ∧ ((0 ≤ F 5 ∧ F 5 ≤ 10) ∧ (0 ≤ F 3 ∧ F 3 ≤ 1) ∧ (0 ≤ F 10 ∧ F 10 ≤ 1) ∧ (0 ≤ F 19 ∧ F 19 ≤ 1)) ∧ (∀ i : Int, 0 ≤ i → i < 60 → zR (G 9 i)) ∧ zBuf F G s ∧ csG F G cs ∧ zCds F G ∧ ∀ i : Int, 0 ≤ i → i < 420 → zR (G 14 i)
theorem csG.cg {F F2 : zTF} {G G2 : zTG} {cs : Option (List zCn)} (h : csG F G cs) (h1 : F2 19 = F 19) (h2 : F2 20 = F 20) (h3 : G2 12 = G 12) (h4 : G2 13 = G 13) : csG F2 G2 cs := by
  unfold csG at h ⊢
  cases cs with
  | none => exact h1.trans h
  | some cl => rw [h3, h4]; exact ⟨h1.trans h.1, h2.trans h.2.1, h.2.2⟩
/-- what asks alone changes nothing of it -/
theorem qInv.cg {F F2 : zTF} {G G2 : zTG} {s : zS} {cs : Option (List zCn)} (h : qInv F G s cs) (hF : ∀ j, j ≠ 6 → j ≠ 15 → j ≠ 17 → F2 j = F j) (hG : ∀ j, j ≠ 2 → j ≠ 10 → j ≠ 11 → G2 j = G j) : qInv F2 G2 s cs ∧ psG F2 G2 = psG F G ∧ svG F2 G2 = svG F G ∧ rpG F2 G2 = rpG F G ∧ G2 0 = G 0 := by
  have f (j : Nat) (h1 : j ≠ 6 := by decide) (h2 : j ≠ 15 := by decide) (h3 : j ≠ 17 := by decide) := hF j h1 h2 h3
  have g (j : Nat) (h1 : j ≠ 2 := by decide) (h2 : j ≠ 10 := by decide) (h3 : j ≠ 11 := by decide) := hG j h1 h2 h3
  obtain ⟨h1, h2, h3, h4, h5, h6, h7⟩ := h
  refine ⟨⟨h1.sc (g 0) (g 4) (g 5) (g 6), by rw [f 5, f 3, f 10, f 19]; exact h2, by rw [g 9]; exact h3, h4.cg (f 13) (g 9), h5.cg (f 19) (f 20) (g 12) (g 13), ?_, by rw [g 14]; exact h7⟩, ?_, ?_, ?_, g 0⟩
  · unfold zCds at h6 ⊢
    rw [f 20, g 12, g 13]
    exact h6
  · unfold psG pastM
    rw [f 5, g 3]
  · unfold svG
    rw [f 3, g 1]
  · unfold rpG
    rw [f 10, g 7, g 8]
/-- one more row of history -/
theorem psG_keep {F F2 : zTF} {G G2 : zTG} (h5 : 0 ≤ F 5 ∧ F 5 ≤ 10) (hF : F2 5 = keepC F + 1) (hG : G2 3 = keepG F G 3) (hok : zOk (G 0)) (hps : ∀ M ∈ psG F G, zOk M) : psE (psA (psG F G) (G 0)) (psG F2 G2) := by
  have hb : ∀ {M : Int → Int}, zOk M → ∀ l : Int, 0 ≤ l → l < M 0 → M (2 + l) ≤ 40 := fun hM l l0 l1 => (hM.f l0 l1).2.2.1
  have hm : ∀ {M : Int → Int}, zOk M → 0 ≤ M 0 ∧ M 0 ≤ 40 := fun hM => ⟨hM.1.1, hM.1.2.1⟩
  have hkc : keepC F = if F 5 = 10 then 9 else F 5 := rfl
  have hn : (F2 5).toNat = (keepC F).toNat + 1 := by rw [hF]; split at hkc <;> omega
  have hk : 0 ≤ keepC F ∧ keepC F ≤ 9 := by split at hkc <;> omega
  have hlen : (if (psG F G).length = 10 then (psG F G).drop 1 else psG F G).length = (keepC F).toNat := by
    rw [psG_len]
    by_cases q : F 5 = 10
    · rw [if_pos (by omega), List.length_drop, psG_len, hkc, if_pos q, q]
      rfl
    · rw [if_neg (by omega), psG_len, hkc, if_neg q]
  refine ⟨by rw [psG_len, hn]; unfold psA; rw [List.length_append, hlen]; rfl, fun i M M2 h1 h2 => ?_⟩
  have hi : i < (F2 5).toNat := by
    have := (List.getElem?_eq_some_iff.mp h2).1
    rwa [psG_len] at this
  rw [psG_at hi] at h2
  cases h2
  by_cases hlast : i = (keepC F).toNat
  · subst hlast
    have e : M = G 0 := by
      unfold psA at h1
      rw [List.getElem?_append_right (by rw [hlen]; exact Nat.le_refl _), hlen, Nat.sub_self] at h1
      exact (Option.some.inj h1).symm
    subst e
    refine zEqB.of (hm hok) (hb hok) (fun x x0 x1 => ?_)
    show G2 3 (1964 * (((keepC F).toNat : Nat) : Int) + x) = G 0 x
    rw [hG, show (((keepC F).toNat : Nat) : Int) = keepC F by omega]
    unfold keepG
    rw [if_pos ⟨rfl, by omega, by omega⟩]
    congr 1
    omega
  · have hlt : i < (keepC F).toNat := by omega
    have hs : (if F 5 = 10 then pastM G ((i : Int) + 1) else pastM G (i : Int)) = M := by
      unfold psA at h1
      rw [List.getElem?_append_left (by rw [hlen]; exact hlt)] at h1
      by_cases q : F 5 = 10
      · rw [if_pos (by rw [psG_len]; omega), List.getElem?_drop, psG_at (by rw [hkc, if_pos q] at hlt; omega)] at h1
        rw [if_pos q]
        have h1 := Option.some.inj h1
        rw [← h1]
        congr 1
        omega
      · rw [if_neg (by rw [psG_len]; omega), psG_at (by rw [hkc, if_neg q] at hlt; omega)] at h1
        rw [if_neg q]
        exact Option.some.inj h1
    have hMok : zOk M := by
      by_cases q : F 5 = 10
      · rw [if_pos q] at hs
        rw [← hs]
        refine hps _ (List.mem_of_getElem? (i := i + 1) ?_)
        rw [psG_at (by rw [hkc, if_pos q] at hlt; omega)]
        rfl
      · rw [if_neg q] at hs
        rw [← hs]
        exact hps _ (List.mem_of_getElem? (psG_at (by rw [hkc, if_neg q] at hlt; omega)))
    refine zEqB.of (hm hMok) (hb hMok) (fun x x0 x1 => ?_)
    rw [← hs]
    show G2 3 (1964 * (i : Int) + x) = _
    rw [hG]
    unfold keepG
    rw [if_neg (by omega)]
    by_cases q : F 5 = 10
    · rw [if_pos q]
      rw [hkc, if_pos q] at hlt
      rw [if_pos ⟨rfl, q, by omega, by omega⟩]
      show G 3 _ = G 3 _
      congr 1
      omega
    · rw [if_neg q, if_neg (fun z => q z.2.1)]
      rfl
theorem qInv_0 : qInv (fun _ => 0) (upG G00 0 1 50) [] none ∧ psG (fun _ => 0) (upG G00 0 1 50) = [] ∧ svG (fun _ => 0) (upG G00 0 1 50) = none ∧ rpG (fun _ => 0) (upG G00 0 1 50) = none ∧ upG G00 0 1 50 0 = M00 := by
  have e0 : upG G00 0 1 50 0 = M00 := by
    funext i
    unfold upG M00 G00
    by_cases q : i = 1
    · rw [if_pos ⟨rfl, q⟩, if_pos q]
    · rw [if_neg (fun z => q z.2), if_neg q]
  have ej : ∀ j : Nat, j ≠ 0 → upG G00 0 1 50 j = fun _ => 0 := fun j hj => upG_nj _ _ _ hj
  refine ⟨⟨zWg_iff.mpr ⟨by rw [e0]; exact M00_ok, fun l q1 q2 => ?_⟩, by decide, fun i _ _ => ?_, ⟨rfl, by decide, fun i q1 q2 => ?_⟩, rfl, ⟨by decide, fun i q1 q2 => ?_, fun i _ _ => ?_⟩, fun i _ _ => ?_⟩, rfl, rfl, rfl, e0⟩
  · rw [e0] at q2
    exact absurd q2 (by rw [show M00 0 = 0 from rfl]; omega)
  · rw [ej 9 (by decide)]; show zR 0; decide
  · exact absurd q2 (by show ¬ i < ((0 : Nat) : Int); omega)
  · exact absurd q2 (by show ¬ i < 0; omega)
  · rw [ej 13 (by decide)]; show zR 0; decide
  · rw [ej 14 (by decide)]; show zR 0; decide

