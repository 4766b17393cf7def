/-! THE REFERENCE IN THE CLASS'S WORLD: its sixteen cells as items; its contracts, framed -/
set_option maxRecDepth 100000
def rA (b : Nat) : Nat → Prop := fun q => b ≤ q ∧ q < b + 16
/-- m with the reference at b -/
def rM (D : zD) (b : Nat) (F : zTF) (G : zTG) (m : zMp) : zMp := fun a => if a = b then some (eO ciX4 (twFs b F)) else if b < a ∧ a < b + 16 then some (.inl (twAe D G (a - b - 1))) else m a
section RM
variable {D : zD} {A : Nat → Prop} {w m : zMp} {b : Nat} {F F2 : zTF} {G G2 : zTG} {H H1 : Heap}
theorem rM_b : rM D b F G m b = some (eO ciX4 (twFs b F)) := if_pos rfl
theorem rM_j {j : Nat} (hj : j < 15) : rM D b F G m (b + 1 + j) = some (.inl (twAe D G j)) := by
  unfold rM
  rw [if_neg (by omega), if_pos ⟨by omega, by omega⟩, show b + 1 + j - b - 1 = j by omega]
theorem rM_o {a : Nat} (h : ¬ rA b a) : rM D b F G m a = m a := by
  unfold rA at h
  unfold rM
  rw [if_neg (by omega), if_neg (by omega)]
theorem rM_cases {a : Nat} (h : rA b a) : a = b ∨ ∃ j, j < 15 ∧ a = b + 1 + j := by
  by_cases q : a = b
  · exact Or.inl q
  · obtain ⟨h1, h2⟩ := h
    exact Or.inr ⟨a - b - 1, by omega, by omega⟩
theorem rM_rM : rM D b F2 G2 (rM D b F G m) = rM D b F2 G2 m := by
  funext a
  by_cases h : rA b a
  · rcases rM_cases h with rfl | ⟨j, hj, rfl⟩
    · rw [rM_b, rM_b]
    · rw [rM_j hj, rM_j hj]
  · rw [rM_o h, rM_o h, rM_o h]
theorem twW_D : va_D (rA b) (twW D b F G) := by
  refine ⟨fun i j p q hi hj hpq => ?_, fun k q hk => ?_⟩
  · rcases twW_cases hi with ⟨rfl, rfl⟩ | ⟨i2, h1, rfl, rfl⟩ <;> rcases twW_cases hj with ⟨rfl, rfl⟩ | ⟨j2, h2, rfl, rfl⟩
    · rfl
    · exact absurd hpq (by show ¬ b = b + 1 + j2; omega)
    · exact absurd hpq (by show ¬ b + 1 + i2 = b; omega)
    · have : b + 1 + i2 = b + 1 + j2 := hpq
      omega
  · rcases twW_cases hk with ⟨rfl, rfl⟩ | ⟨j, h1, rfl, rfl⟩
    · exact ⟨Nat.le_refl _, by show b < b + 16; omega⟩
    · exact ⟨by show b ≤ b + 1 + j; omega, by show b + 1 + j < b + 16; omega⟩
theorem cI.tw (h : cI D A w (rM D b F G m) H) : twI D (rA b) b F G H := by
  refine ⟨fun k q hk => ?_, twW_D⟩
  rcases twW_cases hk with ⟨rfl, rfl⟩ | ⟨j, h1, rfl, rfl⟩
  · obtain ⟨B, -, h2⟩ := h.it (Or.inr rM_b)
    exact zAt.va (show zAt D b (.inr (ciX4, twFs b F)) H from h2)
  · obtain ⟨B, -, h2⟩ := h.it (Or.inr (rM_j h1))
    exact zAt.va (show zAt D (b + 1 + j) (twAe D G j) H from h2)
/-- the reference has moved on; all else as it was -/
theorem cI.ref (h : cI D A w (rM D b F G m) H) (hs : H.size ≤ H1.size) (hq : ∀ q : Nat, q < H.size → ¬ rA b q → H1[q]? = H[q]?) (ht : twI D (rA b) b F2 G2 H1) (hmon : ∀ cell, H[b]? = some cell → ∃ sl, H1[b]? = some { cell with slots := sl }) : cI D A w (rM D b F2 G2 m) H1 := by
  have h0 := h
  obtain ⟨⟨hb, he⟩, hA, hx, ow, h1, h2⟩ := h
  have hz : ∀ a, rM D b F2 G2 m a = none ↔ rM D b F G m a = none := by
    intro a
    by_cases q : rA b a
    · rcases rM_cases q with rfl | ⟨j, hj, rfl⟩
      · rw [rM_b, rM_b]; exact ⟨fun e => (by cases e), fun e => (by cases e)⟩
      · rw [rM_j hj, rM_j hj]; exact ⟨fun e => (by cases e), fun e => (by cases e)⟩
    · rw [rM_o q, rM_o q]
  have hown : ∀ a, rA b a → ow a = a ∧ A a := by
    intro a q
    rcases rM_cases q with rfl | ⟨j, hj, rfl⟩
    · exact (h2 _ _ rM_b).1
    · exact (h2 _ _ (rM_j hj)).1
  refine ⟨⟨hb, fun a mc xs hm => ?_⟩, fun q hq2 => hA q (Nat.le_trans hs hq2), fun a => (hx a).imp id (fun q => (hz a).mpr q), ow, fun a it hw => ?_, fun a it hm => ?_⟩
  · by_cases q : rA b a
    · refine he a mc xs (hm.imp id (fun hm => ?_))
      rcases rM_cases q with rfl | ⟨j, hj, rfl⟩
      · rw [rM_b] at hm; cases hm
      · rw [rM_j hj] at hm; cases hm
    · rw [rM_o q] at hm
      refine he a mc xs ?_
      rw [rM_o q]
      exact hm
  · refine (h1 a it hw).to (fun q hq2 hB => ⟨hq q hq2 (fun hr => ?_), hB⟩)
    obtain ⟨o1, o2⟩ := hown q hr
    rcases hB with hB | hB
    · have e : q = a := o1.symm.trans hB
      subst e
      have := h0.m_of hw
      rcases rM_cases hr with rfl | ⟨j, hj, rfl⟩
      · rw [rM_b] at this; cases this
      · rw [rM_j hj] at this; cases this
    · exact hB o2
  · by_cases hr : rA b a
    · obtain ⟨o1, o2⟩ := hown a hr
      rcases rM_cases hr with rfl | ⟨j, hj, rfl⟩
      · rw [rM_b] at hm
        cases hm
        refine ⟨⟨o1, o2⟩, ?_⟩
        have g := ht.1 0 _ twW_0
        obtain ⟨r, g1, cell, g2, g3, g4, g5⟩ := g
        obtain ⟨-, r0, cell0, k1, k2, k3, k4, k5, k6⟩ := h2 _ _ rM_b
        obtain ⟨sl, hsl⟩ := hmon cell0 k2
        have hc : cell = { cell0 with slots := sl } := Option.some.inj (g2.symm.trans hsl)
        exact ⟨r, cell, g1, g2, g3, g4, by rw [hc]; exact k5, g5⟩
      · rw [rM_j hj] at hm
        cases hm
        exact ⟨⟨o1, o2⟩, ht.1 (j + 1) _ (twW_at hj)⟩
    · rw [rM_o hr] at hm
      refine (h2 a it (by rw [rM_o hr]; exact hm)).to (fun q hq2 hB => ⟨hq q hq2 (fun hr2 => ?_), hB⟩)
      obtain ⟨o1, -⟩ := hown q hr2
      have e : q = a := o1.symm.trans hB.1
      subst e
      exact hr hr2
/-- a contract of the reference's, in the class's world -/
theorem zC_ref {y : MethodName} {cc : ByteArray} {nL : Nat} {ret : Option FieldType} {rm : Room} {As : List Value} {v : Value} (hsub : ∀ q, rA b q → A q) (hc : zC D y cc nL ret none rm (rA b) As (twI D (rA b) b F G) (zPd v (twI D (rA b) b F2 G2)) zNo) : zC D y cc nL ret none rm A As (cI D A w (rM D b F G m)) (zPd v (cI D A w (rM D b F2 G2 m))) zNo := by
  intro l hl p e ha hch hck s m9 args below hf happ hP _
  obtain ⟨rfl, hI, hK⟩ := hP
  obtain ⟨n, o, k1, k2, k3, k4⟩ := hc l hl p e ha hch hck s m9 _ below hf happ ⟨rfl, hI.tw, hK.narrow hsub⟩ trivial
  refine ⟨n, o, k1, k2, k3, ?_⟩
  rcases k4 with ⟨⟨⟨v9, ho, hv, ht⟩, hF⟩, L, hfe, hL⟩ | ⟨q, -, E, ce, L, hx, -⟩
  · refine Or.inl ⟨⟨⟨v9, ho, hv, hI.ref hF.1 hF.2 ht (fun cell hcell => ?_)⟩, hF.1, fun q h1 h2 => hF.2 q h1 (fun hr => h2 (hsub q hr))⟩, L, hfe, fun q hq => hsub _ (hL q hq)⟩
    obtain ⟨-, -, hsame⟩ := hfe
    obtain ⟨c', x1, x2, -⟩ := hsame.2.2.2.2.2 b cell hcell
    exact ⟨c'.slots, x2 ▸ x1⟩
  · exact absurd hx.1 (fun q => q)
end RM

