/-! THE TWO SIDES JOINED: a condition read -/
set_option maxRecDepth 100000
theorem exc_front {s : zS} {p : Int} (h : hr s p = 33) : ∀ m : Nat, exc s p (m + 1) = exc s (p + 1) m + 1 := by
  intro m
  induction m with
  | zero =>
    exact exc_s (m := 0) rfl (by rw [show p + ((0 : Nat) : Int) = p by omega]; exact h)
  | succ m ih =>
    rw [exc, ih]
    rw [show exc s (p + 1) (m + 1) = if exc s (p + 1) m = m ∧ hr s (p + 1 + (m : Int)) = 33 then m + 1 else exc s (p + 1) m from rfl]
    rw [show p + ((m + 1 : Nat) : Int) = p + 1 + (m : Int) by omega]
    by_cases q : exc s (p + 1) m = m ∧ hr s (p + 1 + (m : Int)) = 33
    · rw [if_pos ⟨by omega, q.2⟩, if_pos q]
    · rw [if_neg (fun z => q ⟨by omega, z.2⟩), if_neg q]
theorem cdR_exc (s : zS) : ∀ (a : Nat) (p : Int), cdR s a p = ((cdB s (p + exc s p a)).1.map (fun c => (c.1 + exc s p a, c.2)), (cdB s (p + exc s p a)).2) := by
  intro a
  induction a with
  | zero =>
    intro p
    show cdB s p = _
    rw [show exc s p 0 = 0 from rfl, show p + ((0 : Nat) : Int) = p by omega]
    obtain ⟨x, y⟩ := cdB s p
    cases x <;> rfl
  | succ a ih =>
    intro p
    by_cases h : hr s p = 33
    · rw [cdR_33 h, ih (p + 1), exc_front h, show p + ((exc s (p + 1) a + 1 : Nat) : Int) = p + 1 + (exc s (p + 1) a : Int) by omega]
      obtain ⟨x, y⟩ := cdB s (p + 1 + (exc s (p + 1) a : Int))
      cases x <;> rfl
    · rw [cdR_ne h, exc_stop (m := 0) rfl (by rw [show p + ((0 : Nat) : Int) = p by omega]; exact h) (Nat.zero_le _), show p + ((0 : Nat) : Int) = p by omega]
      obtain ⟨x, y⟩ := cdB s p
      cases x <;> rfl
/-- where a reading ends, and whether it ends well -/
theorem cdB_rq (F : zTF) (s : zS) : (cdB s (rqP s (F 25))).2 = rqF F s 25 ∧ ((cdB s (rqP s (F 25))).1 = none ↔ rqF F s 26 ≠ 0) := by
  obtain ⟨q, hq⟩ : ∃ q, q = rqP s (F 25) := ⟨_, rfl⟩
  have e25 : rq1 F s 25 = q + 1 := by unfold rq1; rw [upF_same, hq]
  unfold rqF rqB cdB
  rw [← hq]
  by_cases h1 : hr s q = 35
  · rw [if_pos h1, if_pos (Or.inl h1), if_pos h1, upF_ne _ _ (by decide), upF_ne _ _ (by decide), upF_same, upF_ne _ _ (by decide), upF_same]
    by_cases z : nuN s (q + 1) = 0
    · rw [if_pos z, decide_eq_true z]; exact ⟨rfl, fun _ => by decide, fun _ => rfl⟩
    · rw [if_neg z, decide_eq_false z]; exact ⟨rfl, fun e => (by cases e), fun e => absurd rfl e⟩
  · rw [if_neg h1]
    by_cases h2 : hr s q = 36
    · rw [if_pos h2, if_pos (Or.inr (Or.inl h2)), if_neg h1, if_pos h2, upF_ne _ _ (by decide), upF_ne _ _ (by decide), upF_same, upF_ne _ _ (by decide), upF_same, wdPc_eq, wdNc_eq]
      by_cases z : wdN s (q + 1) = 0
      · rw [if_pos z, decide_eq_true z]; exact ⟨rfl, fun _ => by decide, fun _ => rfl⟩
      · rw [if_neg z, decide_eq_false z]; exact ⟨rfl, fun e => (by cases e), fun e => absurd rfl e⟩
    · rw [if_neg h2]
      by_cases h3 : hr s q = 37
      · rw [if_pos h3, if_pos (Or.inr (Or.inr h3)), if_neg h1, if_neg h2, upF_ne _ _ (by decide), upF_ne _ _ (by decide)]
        unfold rcF cmP
        rw [e25]
        by_cases k0 : rcK s (q + 1) = 0
        · rw [if_pos k0, if_pos k0, if_neg (by omega), upF_ne _ _ (by decide), upF_same, e25]
          exact ⟨rfl, fun _ => by decide, fun _ => rfl⟩
        · by_cases k1 : rcK s (q + 1) = 1
          · rw [if_neg k0, if_pos k1, if_neg k0, if_pos k1, if_neg (by omega), upF_ne _ _ (by decide), upF_same, upF_same]
            exact ⟨rfl, fun _ => by decide, fun _ => rfl⟩
          · have k2 : rcK s (q + 1) = 2 := by
              unfold rcK at k0 k1 ⊢
              by_cases z1 : isDig (hr s (q + 1)) = false
              · rw [if_pos z1] at k0; exact absurd rfl k0
              · rw [if_neg z1] at k1 ⊢
                by_cases z2 : hr s (q + 1 + 1) = 60 ∨ hr s (q + 1 + 1) = 61 ∨ hr s (q + 1 + 1) = 62
                · rw [if_pos z2]
                · rw [if_neg z2] at k1; exact absurd rfl k1
            rw [if_neg k0, if_neg k1, if_neg k0, if_neg k1, upF_ne _ _ (by decide), upF_same, upF_same]
            by_cases z : nuN s (q + 1 + 2) = 0
            · rw [if_neg (fun y => y.2 z), decide_eq_true z]; exact ⟨rfl, fun _ => by decide, fun _ => rfl⟩
            · rw [if_pos ⟨k2, z⟩, decide_eq_false z]; exact ⟨rfl, fun e => (by cases e), fun e => absurd rfl e⟩
      · rw [if_neg h3, if_neg (by omega), upF_ne _ _ (by decide), upF_same, upF_same]
        exact ⟨rfl, fun _ => by decide, fun _ => rfl⟩
theorem cdR_rq (F : zTF) (s : zS) : (cdR s 4 (F 25)).2 = rqF F s 25 ∧ ((cdR s 4 (F 25)).1 = none ↔ rqF F s 26 ≠ 0) := by
  have h := cdB_rq F s
  rw [cdR_exc]
  exact ⟨h.1, by rw [Option.map_eq_none_iff]; exact h.2⟩

