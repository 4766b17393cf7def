/-! THE TWO SIDES JOINED: hits -/
set_option maxRecDepth 100000
section QH
variable {F : zTF} {G : zTG} {cl : List zCn}
theorem hbB_ht (h : csG F G (some cl)) (M : Int → Int) (l e : Int) : hbB M cl l e = htI M (G 12) (G 13) l e (F 20).toNat := by
  obtain ⟨-, h2, h3⟩ := h
  unfold hbB htI
  rw [h2, Int.toNat_natCast]
  refine allI_congr (fun i hi => ?_)
  have e1 : cnA M cl l (i : Int) = fuI M (G 12) (G 13) l i := by
    unfold cnA
    rw [Int.toNat_natCast, List.getElem?_eq_getElem hi]
    exact h3 i _ (List.getElem?_eq_getElem hi) M l
  rw [e1]
theorem hiE_hi (h : csG F G (some cl)) : hiE (G 0) cl (-1) = hiI (G 0) (G 12) (G 13) (F 20).toNat := by
  unfold hiE hiI
  congr 1
  funext l
  rw [hbB_ht h]
theorem ht_x {f : Int → Bool} {n : Nat} {x : Int} (h0 : 0 ≤ x) (h1 : x < n) : allI (fun i => decide (i = -1) || f i) n = (allI (fun i => decide (i = x) || f i) n && f x) := by
  rw [Bool.eq_iff_iff, Bool.and_eq_true, allI_iff, allI_iff]
  constructor
  · intro h
    have hf : ∀ i : Nat, i < n → f i = true := fun i hi => by
      have := h i hi
      rw [decide_eq_false (by omega), Bool.false_or] at this
      exact this
    refine ⟨fun i hi => by rw [hf i hi, Bool.or_true], ?_⟩
    have := hf x.toNat (by omega)
    rw [show ((x.toNat : Nat) : Int) = x by omega] at this
    exact this
  · rintro ⟨h, hx⟩ i hi
    have := h i hi
    by_cases q : (i : Int) = x
    · rw [q, hx, Bool.or_true]
    · rw [decide_eq_false q, Bool.false_or] at this
      rw [this, Bool.or_true]
theorem sumI_dif {a b c : Int → Int} (h : ∀ i : Int, a i = b i - c i) : ∀ n : Nat, sumI a n = sumI b n - sumI c n := by
  intro n
  induction n with
  | zero => rfl
  | succ n ih =>
    show sumI a n + a n = (sumI b n + b n) - (sumI c n + c n)
    rw [ih, h]
    omega
theorem opExc_hb (h : csG F G (some cl)) {x : Int} : opExc F G x = if 0 ≤ x ∧ x ≤ (cl.length : Int) - 1 then (0, hiE (G 0) cl x - hiE (G 0) cl (-1)) else (1, 0) := by
  have h19 := h.1
  have h20 := h.2.1
  unfold opExc
  by_cases q : 0 ≤ x ∧ x ≤ (cl.length : Int) - 1
  · rw [if_pos ⟨by omega, by omega, by omega⟩, if_pos q]
    refine congrArg (Prod.mk _) ?_
    unfold hiE
    refine sumI_dif (fun l => ?_) _
    rw [hbB_ht h, hbB_ht h]
    have e := ht_x (f := fun i => fuI (G 0) (G 12) (G 13) l i) (n := (F 20).toNat) (x := x) q.1 (by omega)
    have e2 : htI (G 0) (G 12) (G 13) l (-1) (F 20).toNat = (htI (G 0) (G 12) (G 13) l x (F 20).toNat && fuI (G 0) (G 12) (G 13) l x) := e
    rw [e2]
    cases htI (G 0) (G 12) (G 13) l x (F 20).toNat <;> cases fuI (G 0) (G 12) (G 13) l x <;> rfl
  · rw [if_neg (by omega), if_neg q]
theorem opHit_hb (h : csG F G (some cl)) {x : Int} : opHit F G x = if 0 ≤ x ∧ x < hiE (G 0) cl (-1) then (0, hitV (G 0) cl x) else (2, 0) := by
  have h19 := h.1
  unfold opHit
  rw [if_neg (by omega), ← hiE_hi h]
  by_cases q : 0 ≤ x ∧ x < hiE (G 0) cl (-1)
  · rw [if_neg (by omega), if_pos q]
    refine congrArg (Prod.mk _) ?_
    unfold hitV
    have e : (fun l => hbB (G 0) cl l (-1)) = hiP F G := by
      funext l
      rw [hbB_ht h]
      rfl
    rw [e]
  · rw [if_pos (by omega), if_neg q]
theorem opHit_no (h : csG F G none) (x : Int) : opHit F G x = (1, 0) ∧ opExc F G x = (1, 0) := by
  have h9 : F 19 = 0 := h
  unfold opHit opExc
  exact ⟨if_pos h9, if_neg (fun q => q.1 h9)⟩
end QH

