/-! THE TWO SIDES JOINED: what a condition read says -/
set_option maxRecDepth 100000
theorem cnN_par (r : Bool) (n : Nat) : cnN r n = decide (r = decide ((n : Int) % 2 = 0)) := by
  induction n with
  | zero => cases r <;> rfl
  | succ n ih =>
    show (!cnN r n) = _
    rw [ih]
    by_cases q : (n : Int) % 2 = 0
    · rw [decide_eq_true q, decide_eq_false (show ¬ ((n + 1 : Nat) : Int) % 2 = 0 by omega)]
      cases r <;> rfl
    · rw [decide_eq_false q, decide_eq_true (show ((n + 1 : Nat) : Int) % 2 = 0 by omega)]
      cases r <;> rfl
/-- seven cells of a condition, as the reference has laid it -/
def rqC (s : zS) (p : Int) (C : Int → Int) (c : Int) : Prop := C c = exc s p 4 ∧ C (c + 1) = hr s (rqP s p) ∧ (hr s (rqP s p) = 35 → C (c + 4) = nuV s (rqP s p + 1)) ∧ (hr s (rqP s p) = 36 → C (c + 5) = rqP s p + 1 ∧ C (c + 6) = wdP s (rqP s p + 1)) ∧ (hr s (rqP s p) = 37 → rcK s (rqP s p + 1) = 2 → C (c + 2) = hr s (rqP s p + 1) - 48 ∧ C (c + 3) = hr s (rqP s p + 1 + 1) ∧ C (c + 4) = nuV s (rqP s p + 1 + 2))
theorem rqG_C {F : zTF} {G : zTG} {s : zS} (hB : rqB s (F 25)) : rqC s (F 25) (rqG F G s 14) (7 * F 23) := by
  have u : ∀ (G : zTG) (i j x : Int), i ≠ j → upG G 14 j x 14 i = G 14 i := fun G i j x h => upG_ni G 14 x h
  have e0 : rq0 F G s 14 (7 * F 23) = exc s (F 25) 4 := by
    unfold rq0
    rw [u _ _ _ _ (by omega), upG_same]
  have e1 : rq0 F G s 14 (7 * F 23 + 1) = hr s (rqP s (F 25)) := by
    unfold rq0
    rw [upG_same]
  have e25 : rq1 F s 25 = rqP s (F 25) + 1 := by unfold rq1; rw [upF_same]
  unfold rqC rqG
  rw [if_pos hB]
  by_cases h1 : hr s (rqP s (F 25)) = 35
  · rw [if_pos h1, u _ _ _ _ (by omega), u _ _ _ _ (by omega), upG_same]
    exact ⟨e0, e1, fun _ => rfl, fun z => absurd (h1.symm.trans z) (by decide), fun z => absurd (h1.symm.trans z) (by decide)⟩
  · rw [if_neg h1]
    by_cases h2 : hr s (rqP s (F 25)) = 36
    · rw [if_pos h2, u _ _ _ _ (by omega), u _ _ _ _ (by omega), u _ _ _ _ (by omega), u _ _ _ _ (by omega), upG_same]
      refine ⟨e0, e1, fun z => absurd z h1, fun _ => ⟨?_, rfl⟩, fun z => absurd (h2.symm.trans z) (by decide)⟩
      rw [u _ _ _ _ (by omega), upG_same]
    · rw [if_neg h2]
      have h3 : hr s (rqP s (F 25)) = 37 := by rcases hB with z | z | z <;> first | exact absurd z h1 | exact absurd z h2 | exact z
      unfold rcG
      rw [e25]
      by_cases k0 : rcK s (rqP s (F 25) + 1) = 0
      · rw [if_pos k0]
        exact ⟨e0, e1, fun z => absurd z h1, fun z => absurd z h2, fun _ z => absurd (k0.symm.trans z) (by decide)⟩
      · rw [if_neg k0]
        by_cases k1 : rcK s (rqP s (F 25) + 1) = 1
        · rw [if_pos k1, u _ _ _ _ (by omega), u _ _ _ _ (by omega)]
          exact ⟨e0, e1, fun z => absurd z h1, fun z => absurd z h2, fun _ z => absurd (k1.symm.trans z) (by decide)⟩
        · rw [if_neg k1]
          refine ⟨?_, ?_, fun z => absurd z h1, fun z => absurd z h2, fun _ _ => ⟨?_, ?_, ?_⟩⟩
          · rw [u _ _ _ _ (by omega), u _ _ _ _ (by omega), u _ _ _ _ (by omega)]; exact e0
          · rw [u _ _ _ _ (by omega), u _ _ _ _ (by omega), u _ _ _ _ (by omega)]; exact e1
          · rw [u _ _ _ _ (by omega), u _ _ _ _ (by omega), upG_same]
          · rw [u _ _ _ _ (by omega), upG_same]
          · rw [upG_same]
theorem wdQ_S {s : zS} {C Q : Int → Int} {c p : Int} (h0 : 0 ≤ p) (h1 : p ≤ s.length) (h5 : C (c + 5) = p) (h6 : C (c + 6) = wdP s p) (hQ : ∀ i : Int, 0 ≤ i → i < s.length → Q i = cT s i) : wdQ C Q c = wdSc s p := by
  have hle := wdNc_le h0 h1
  have hl := wdSc_len h0 h1
  have hn : (C (c + 6) - C (c + 5)).toNat = wdNc s p := by
    rw [h5, h6, ← wdPc_eq]
    unfold wdPc
    omega
  unfold wdQ
  rw [hn]
  refine List.ext_getElem (by rw [List.length_map, List.length_range, hl]) (fun i i1 i2 => ?_)
  rw [List.getElem_map, List.getElem_range, h5]
  have hi : i < wdNc s p := by rwa [hl] at i2
  rw [hQ _ (by omega) (by omega)]
  have e := wdSc_cT h0 h1 hi
  rw [← e]
  unfold cT
  rw [Int.toNat_natCast, List.getD_eq_getElem?_getD, List.getElem?_eq_getElem i2]
  rfl
/-- a condition read says what the reference's cells say -/
theorem cnB_fu {s : zS} {p : Int} {c : zCn} {C Q : Int → Int} {x : Int} (h0 : 0 ≤ p) (hc : (cdR s 4 p).1 = some c) (hC : rqC s p C (7 * x)) (hQ : ∀ i : Int, 0 ≤ i → i < s.length → Q i = cT s i) (M : Int → Int) (l : Int) : cnB M l c = fuI M C Q l x := by
  rw [cdR_exc] at hc
  obtain ⟨q, hq⟩ : ∃ q, q = rqP s p := ⟨_, rfl⟩
  have hq2 : p + (exc s p 4 : Int) = q := hq.symm
  rw [hq2] at hc
  have hq0 : 0 ≤ q := by omega
  obtain ⟨c0, hc0, hce⟩ := Option.map_eq_some_iff.mp hc
  unfold rqC at hC
  rw [← hq] at hC
  obtain ⟨a0, a1, a35, a36, a37⟩ := hC
  generalize exc s p 4 = n at hce a0 hq2
  subst hce
  unfold cdB at hc0
  have fin : c0.1 = 0 → cnR M l c0.2 = fuR M C Q l (7 * x) → cnB M l (c0.1 + n, c0.2) = fuI M C Q l x := by
    intro e1 e2
    unfold cnB fuI
    show cnN (cnR M l c0.2) (c0.1 + n) = _
    rw [e1, Nat.zero_add, cnN_par, e2, a0]
  by_cases h1 : hr s q = 35
  · rw [if_pos h1] at hc0
    by_cases z : nuN s (q + 1) = 0
    · rw [if_pos z] at hc0; cases hc0
    · rw [if_neg z] at hc0
      cases hc0
      refine fin rfl ?_
      unfold cnR fuR
      rw [a1, h1, if_pos rfl, if_pos rfl, a35 h1]
  · rw [if_neg h1] at hc0
    by_cases h2 : hr s q = 36
    · rw [if_pos h2] at hc0
      by_cases z : wdNc s (q + 1) = 0
      · rw [if_pos z] at hc0; cases hc0
      · rw [if_neg z] at hc0
        cases hc0
        refine fin rfl ?_
        have hin : q < (s.length : Int) := hr_in (by rw [h2]; decide)
        unfold cnR fuR
        dsimp only
        rw [a1, h2, if_neg (by decide), if_pos rfl, if_neg (by decide), if_pos rfl, wdQ_S (by omega) (by omega) (a36 h2).1 (a36 h2).2 hQ]
    · rw [if_neg h2] at hc0
      by_cases h3 : hr s q = 37
      · rw [if_pos h3] at hc0
        by_cases z : rcK s (q + 1) = 2 ∧ nuN s (q + 1 + 2) ≠ 0
        · rw [if_pos z] at hc0
          cases hc0
          refine fin rfl ?_
          obtain ⟨b2, b3, b4⟩ := a37 h3 z.1
          unfold cnR fuR
          dsimp only
          rw [a1, h3, if_neg (by decide), if_neg (by decide), if_neg (by decide), if_neg (by decide), b2, b3, b4]
        · rw [if_neg z] at hc0; cases hc0
      · rw [if_neg h3] at hc0; cases hc0

