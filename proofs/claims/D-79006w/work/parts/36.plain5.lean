/-! PLAIN LAWS: what reading a condition changes -/
set_option maxRecDepth 100000
theorem nuP_rng (s : zS) (p : Int) : p ≤ nuP s p ∧ nuP s p ≤ p + 7 := by
  have h1 := dgc_le s (p + ngI s p) 6
  have h2 : 0 ≤ ngI s p ∧ ngI s p ≤ 1 := by unfold ngI; split <;> omega
  have h3 : nuN s p = dgc s (p + ngI s p) 6 := rfl
  unfold nuP
  omega
theorem wdP_rng (s : zS) (p : Int) : p ≤ wdP s p ∧ wdP s p ≤ p + 60 := by
  have h1 := wdc_le s p 60
  have h3 : wdN s p = wdc s p 60 := rfl
  unfold wdP
  omega
theorem rqP_rng (s : zS) (p : Int) : p ≤ rqP s p ∧ rqP s p ≤ p + 4 := by
  have h1 := exc_le s p 4
  unfold rqP
  omega
theorem rcF_f (F : zTF) (s : zS) : (∀ k : Nat, k ≠ 25 → k ≠ 26 → rcF F s k = F k) ∧ (rcF F s 26 = 0 ∨ rcF F s 26 = 1) ∧ F 25 ≤ rcF F s 25 ∧ rcF F s 25 ≤ F 25 + 9 := by
  have h1 := nuP_rng s (F 25 + 2)
  have h2 : bi (decide (nuN s (F 25 + 2) = 0)) = 0 ∨ bi (decide (nuN s (F 25 + 2) = 0)) = 1 := by
    have := bi_range (decide (nuN s (F 25 + 2) = 0))
    omega
  unfold rcF
  split
  · exact ⟨fun k a c => upF_ne _ _ c, Or.inr (upF_same _ _ _), by rw [upF_ne _ _ (by decide)]; omega, by rw [upF_ne _ _ (by decide)]; omega⟩
  · split
    · exact ⟨fun k a c => by rw [upF_ne _ _ c, upF_ne _ _ a], Or.inr (upF_same _ _ _), by rw [upF_ne _ _ (by decide), upF_same]; omega, by rw [upF_ne _ _ (by decide), upF_same]; omega⟩
    · exact ⟨fun k a c => by rw [upF_ne _ _ c, upF_ne _ _ a], by rw [upF_same]; exact h2, by rw [upF_ne _ _ (by decide), upF_same]; omega, by rw [upF_ne _ _ (by decide), upF_same]; omega⟩
theorem rq1_f (F : zTF) (s : zS) : (∀ k : Nat, k ≠ 25 → k ≠ 26 → rq1 F s k = F k) ∧ rq1 F s 25 = rqP s (F 25) + 1 :=
  ⟨fun k a c => by unfold rq1; rw [upF_ne _ _ a, upF_ne _ _ c, upF_ne _ _ a], upF_same _ _ _⟩
theorem rqF_f (F : zTF) (s : zS) : (∀ k : Nat, k ≠ 23 → k ≠ 25 → k ≠ 26 → rqF F s k = F k) ∧ (rqF F s 26 = 0 ∨ rqF F s 26 = 1) ∧ (F 25 ≤ rqF F s 25 ∧ rqF F s 25 ≤ F 25 + 65) ∧ (rqF F s 26 = 0 → F 25 + 1 ≤ rqF F s 25 ∧ rqF F s 23 = F 23 + 1) ∧ F 23 ≤ rqF F s 23 ∧ rqF F s 23 ≤ F 23 + 1 := by
  have h0 := rqP_rng s (F 25)
  have h1 := nuP_rng s (rqP s (F 25) + 1)
  have h2 := wdP_rng s (rqP s (F 25) + 1)
  obtain ⟨r1, r2⟩ := rq1_f F s
  obtain ⟨c1, c2, c3, c4⟩ := rcF_f (rq1 F s) s
  have hb : ∀ x : Bool, bi x = 0 ∨ bi x = 1 := fun x => by have := bi_range x; omega
  unfold rqF
  split
  · have e : ∀ Y : zTF, (∀ k : Nat, k ≠ 25 → k ≠ 26 → Y k = F k) → (Y 26 = 0 ∨ Y 26 = 1) → F 25 + 1 ≤ Y 25 → Y 25 ≤ F 25 + 65 → (∀ k : Nat, k ≠ 23 → k ≠ 25 → k ≠ 26 → upF Y 23 (F 23 + 1) k = F k) ∧ (upF Y 23 (F 23 + 1) 26 = 0 ∨ upF Y 23 (F 23 + 1) 26 = 1) ∧ (F 25 ≤ upF Y 23 (F 23 + 1) 25 ∧ upF Y 23 (F 23 + 1) 25 ≤ F 25 + 65) ∧ (upF Y 23 (F 23 + 1) 26 = 0 → F 25 + 1 ≤ upF Y 23 (F 23 + 1) 25 ∧ upF Y 23 (F 23 + 1) 23 = F 23 + 1) ∧ F 23 ≤ upF Y 23 (F 23 + 1) 23 ∧ upF Y 23 (F 23 + 1) 23 ≤ F 23 + 1 := by
      intro Y y1 y2 y3 y4
      rw [upF_ne Y (F 23 + 1) (by decide : (26 : Nat) ≠ 23), upF_ne Y (F 23 + 1) (by decide : (25 : Nat) ≠ 23), upF_same]
      exact ⟨fun k a c d => by rw [upF_ne _ _ a]; exact y1 k c d, y2, ⟨by omega, y4⟩, fun _ => ⟨y3, rfl⟩, by omega, by omega⟩
    split
    · exact e _ (fun k a c => by rw [upF_ne _ _ c, upF_ne _ _ a]; exact r1 k a c) (by rw [upF_same]; exact hb _) (by rw [upF_ne _ _ (by decide), upF_same]; omega) (by rw [upF_ne _ _ (by decide), upF_same]; omega)
    · split
      · exact e _ (fun k a c => by rw [upF_ne _ _ c, upF_ne _ _ a]; exact r1 k a c) (by rw [upF_same]; exact hb _) (by rw [upF_ne _ _ (by decide), upF_same]; omega) (by rw [upF_ne _ _ (by decide), upF_same]; omega)
      · exact e _ (fun k a c => (c1 k a c).trans (r1 k a c)) c2 (by omega) (by omega)
  · rw [upF_same, upF_ne _ _ (by decide : (25 : Nat) ≠ 26), upF_same, upF_ne _ _ (by decide : (23 : Nat) ≠ 26), upF_ne _ _ (by decide : (23 : Nat) ≠ 25)]
    exact ⟨fun k a c d => by rw [upF_ne _ _ d, upF_ne _ _ c], Or.inr rfl, ⟨by omega, by omega⟩, fun q => absurd q (by decide), by omega, by omega⟩
theorem upG_at (G : zTG) (j : Nat) (i z i2 : Int) : upG G j i z j i2 = if i2 = i then z else G j i2 := by
  by_cases h : i2 = i
  · rw [if_pos h, h, upG_same]
  · rw [if_neg h, upG_ni _ _ _ h]
/-- the greatest number of n digits -/
def bnd : Nat → Int
  | 0 => 0
  | n + 1 => 10 * bnd n + 9
theorem numI_bnd {f : Int → Int} {n : Nat} (h : ∀ i : Nat, i < n → 48 ≤ f i ∧ f i ≤ 57) : 0 ≤ numI f n ∧ numI f n ≤ bnd n := by
  induction n with
  | zero => exact ⟨Int.le_refl _, Int.le_refl _⟩
  | succ n ih =>
    have h1 := ih (fun i hi => h i (by omega))
    have h2 := h n (by omega)
    rw [numI, bnd]
    omega
theorem bnd_6 {n : Nat} (h : n ≤ 6) : bnd n ≤ 999999 := by
  match n, h with
  | 0, _ => decide
  | 1, _ => decide
  | 2, _ => decide
  | 3, _ => decide
  | 4, _ => decide
  | 5, _ => decide
  | 6, _ => decide
theorem dgc_dig (s : zS) (p : Int) : ∀ m i : Nat, i < dgc s p m → isDig (hr s (p + i)) = true := by
  intro m
  induction m with
  | zero => intro i hi; exact absurd hi (Nat.not_lt_zero _)
  | succ m ih =>
    intro i hi
    rw [dgc] at hi
    split at hi
    · rename_i h
      by_cases e : i = m
      · rw [e]; exact h.2
      · exact ih i (by omega)
    · exact ih i hi
theorem nuV_R (s : zS) (p : Int) : zR (nuV s p) := by
  have h1 : ∀ i : Nat, i < nuN s p → 48 ≤ hr s (p + ngI s p + i) ∧ hr s (p + ngI s p + i) ≤ 57 := fun i hi => by
    have := dgc_dig s (p + ngI s p) 6 i hi
    unfold isDig at this
    simp only [Bool.and_eq_true, decide_eq_true_eq] at this
    exact this
  have h2 := numI_bnd (f := fun i => hr s (p + ngI s p + i)) h1
  have h3 := bnd_6 (dgc_le s (p + ngI s p) 6)
  have h4 : bnd (nuN s p) ≤ 999999 := h3
  have h5 : nuA s p = numI (fun i => hr s (p + ngI s p + i)) (nuN s p) := rfl
  unfold nuV
  split
  · exact ⟨by omega, by omega⟩
  · exact ⟨by omega, by omega⟩
theorem wdc_len (s : zS) (p : Int) : ∀ m : Nat, wdc s p m = 0 ∨ p + wdc s p m ≤ s.length := by
  intro m
  induction m with
  | zero => exact Or.inl rfl
  | succ m ih =>
    rw [wdc]
    split
    · rename_i h
      refine Or.inr ?_
      have h2 : p + m < (s.length : Int) := hr_in (fun q => by rw [q] at h; exact absurd h.2 (by decide))
      omega
    · exact ih
/-- what one condition's reading leaves in its row -/
theorem rqG_ok {F : zTF} {G : zTG} {s : zS} (h : zBuf F G s) (h0 : 0 ≤ F 25 ∧ F 25 ≤ 60) (h23 : 0 ≤ F 23 ∧ F 23 ≤ 58) (h14 : ∀ i : Int, 0 ≤ i → i < 420 → zR (G 14 i)) : (∀ i : Int, 0 ≤ i → i < 420 → zR (rqG F G s 14 i)) ∧ (∀ i : Int, i < 7 * F 23 → rqG F G s 14 i = G 14 i) ∧ zCd (rqG F G s 14) (7 * F 23) := by
  have h60 := h.2.1
  have hP := rqP_rng s (F 25)
  have hx := exc_le s (F 25) 4
  have hR := hr_R h (p := rqP s (F 25)) (by omega)
  have hV := nuV_R s
  have hW := wdP_rng s (rqP s (F 25) + 1)
  have hWl := wdc_len s (rqP s (F 25) + 1) 60
  have hWd : wdP s (rqP s (F 25) + 1) = rqP s (F 25) + 1 + wdc s (rqP s (F 25) + 1) 60 := rfl
  have hz : ∀ x : Int, -1000 ≤ x → x ≤ 1000 → zR x := fun x a b => ⟨by omega, by omega⟩
  have e0 : ∀ i : Int, rq0 F G s 14 i = if i = 7 * F 23 + 1 then hr s (rqP s (F 25)) else if i = 7 * F 23 then (exc s (F 25) 4 : Int) else G 14 i := fun i => by unfold rq0; rw [upG_at, upG_at]
  have z0 : ∀ i : Int, 0 ≤ i → i < 420 → zR (rq0 F G s 14 i) := fun i a b => by
    rw [e0]
    split
    · exact hR
    · split
      · exact hz _ (by omega) (by omega)
      · exact h14 i a b
  have l0 : ∀ i : Int, i < 7 * F 23 → rq0 F G s 14 i = G 14 i := fun i a => by rw [e0, if_neg (by omega), if_neg (by omega)]
  have a0 : rq0 F G s 14 (7 * F 23) = (exc s (F 25) 4 : Int) := by rw [e0, if_neg (by omega), if_pos rfl]
  have a1 : rq0 F G s 14 (7 * F 23 + 1) = hr s (rqP s (F 25)) := by rw [e0, if_pos rfl]
  unfold rqG
  split
  · rename_i hb
    split
    · rename_i h35
      refine ⟨fun i a b => ?_, fun i a => ?_, ?_⟩
      · rw [upG_at]
        split
        · exact hV _
        · exact z0 i a b
      · rw [upG_at, if_neg (by omega)]; exact l0 i a
      · unfold zCd
        simp only [upG_at, if_true]
        repeat rw [if_neg (by omega)]
        rw [a0, a1]
        refine ⟨⟨by omega, by omega⟩, hR, z0 _ (by omega) (by omega), z0 _ (by omega) (by omega), hV _, fun q => ?_⟩
        rw [h35] at q
        exact absurd q (by decide)
    · rename_i h35
      split
      · rename_i h36
        have hin := hr_in (s := s) (p := rqP s (F 25)) (by rw [h36]; decide)
        refine ⟨fun i a b => ?_, fun i a => ?_, ?_⟩
        · rw [upG_at]
          split
          · exact hz _ (by omega) (by omega)
          · rw [upG_at]
            split
            · exact hz _ (by omega) (by omega)
            · exact z0 i a b
        · rw [upG_at, if_neg (by omega), upG_at, if_neg (by omega)]; exact l0 i a
        · unfold zCd
          simp only [upG_at, if_true]
          repeat rw [if_neg (by omega)]
          rw [a0, a1]
          exact ⟨⟨by omega, by omega⟩, hR, z0 _ (by omega) (by omega), z0 _ (by omega) (by omega), z0 _ (by omega) (by omega), fun _ => ⟨by omega, by omega, by omega⟩⟩
      · rename_i h36
        have h37 : hr s (rqP s (F 25)) = 37 := by rcases hb with q | q | q; exact absurd q h35; exact absurd q h36; exact q
        obtain ⟨r1, r2⟩ := rq1_f F s
        have hR1 := hr_R h (p := rq1 F s 25) (by omega)
        have hR2 := hr_R h (p := rq1 F s 25 + 1) (by omega)
        have dig : isDig (hr s (rq1 F s 25)) = true → zR (hr s (rq1 F s 25) - 48) := fun q => by
          unfold isDig at q
          simp only [Bool.and_eq_true, decide_eq_true_eq] at q
          exact hz _ (by omega) (by omega)
        have hk : rcK s (rq1 F s 25) ≠ 0 → isDig (hr s (rq1 F s 25)) = true := fun q => by
          unfold rcK at q
          split at q
          · exact absurd rfl q
          · rename_i q2; simpa using q2
        have n36 : hr s (rqP s (F 25)) = 36 → False := h36
        unfold rcG
        split
        · exact ⟨z0, l0, by unfold zCd; rw [a0, a1]; exact ⟨⟨by omega, by omega⟩, hR, z0 _ (by omega) (by omega), z0 _ (by omega) (by omega), z0 _ (by omega) (by omega), fun q => (n36 q).elim⟩⟩
        · rename_i k0
          have hd := dig (hk k0)
          split
          · refine ⟨fun i a b => ?_, fun i a => ?_, ?_⟩
            · rw [upG_at]
              split
              · exact hd
              · exact z0 i a b
            · rw [upG_at, if_neg (by omega)]; exact l0 i a
            · unfold zCd
              simp only [upG_at, if_true]
              repeat rw [if_neg (by omega)]
              rw [a0, a1]
              exact ⟨⟨by omega, by omega⟩, hR, hd, z0 _ (by omega) (by omega), z0 _ (by omega) (by omega), fun q => (n36 q).elim⟩
          · refine ⟨fun i a b => ?_, fun i a => ?_, ?_⟩
            · rw [upG_at]
              split
              · exact hV _
              · rw [upG_at]
                split
                · exact hR2
                · rw [upG_at]
                  split
                  · exact hd
                  · exact z0 i a b
            · rw [upG_at, if_neg (by omega), upG_at, if_neg (by omega), upG_at, if_neg (by omega)]; exact l0 i a
            · have g : ∀ i : Int, upG (upG (upG (rq0 F G s) 14 (7 * F 23 + 2) (hr s (rq1 F s 25) - 48)) 14 (7 * F 23 + 3) (hr s (rq1 F s 25 + 1))) 14 (7 * F 23 + 4) (nuV s (rq1 F s 25 + 2)) 14 i = if i = 7 * F 23 + 4 then nuV s (rq1 F s 25 + 2) else if i = 7 * F 23 + 3 then hr s (rq1 F s 25 + 1) else if i = 7 * F 23 + 2 then hr s (rq1 F s 25) - 48 else rq0 F G s 14 i := fun i => by rw [upG_at, upG_at, upG_at]
              unfold zCd
              rw [g, g, g, g, g]
              rw [if_neg (by omega), if_neg (by omega), if_neg (by omega), a0]
              rw [if_neg (by omega), if_neg (by omega), if_neg (by omega), a1]
              rw [if_neg (by omega), if_neg (by omega), if_pos rfl]
              rw [if_neg (by omega), if_pos rfl, if_pos rfl]
              exact ⟨⟨by omega, by omega⟩, hR, hd, hR2, hV _, fun q => (n36 q).elim⟩
  · exact ⟨z0, l0, by unfold zCd; rw [a0, a1]; exact ⟨⟨by omega, by omega⟩, hR, z0 _ (by omega) (by omega), z0 _ (by omega) (by omega), z0 _ (by omega) (by omega), fun q => absurd (Or.inr (Or.inl q)) (by assumption)⟩⟩

