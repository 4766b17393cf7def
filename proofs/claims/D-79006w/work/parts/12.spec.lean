/-! PLAIN NUMBERS AND TEXTS: what both sides compute, with no program in sight -/
def sumI (f : Int → Int) : Nat → Int
  | 0 => 0
  | n + 1 => sumI f n + f n
def allI (p : Int → Bool) : Nat → Bool
  | 0 => true
  | n + 1 => allI p n && p n
/-- the numbers under n for which p holds, ascending -/
def rF (p : Int → Bool) : Nat → List Int
  | 0 => []
  | n + 1 => if p n then rF p n ++ [(n : Int)] else rF p n
theorem sumI_congr {f g : Int → Int} {n : Nat} (h : ∀ i : Nat, i < n → f i = g i) : sumI f n = sumI g n := by
  induction n with
  | zero => rfl
  | succ n ih => rw [sumI, sumI, ih (fun i hi => h i (by omega)), h n (by omega)]
theorem allI_congr {p q : Int → Bool} {n : Nat} (h : ∀ i : Nat, i < n → p i = q i) : allI p n = allI q n := by
  induction n with
  | zero => rfl
  | succ n ih => rw [allI, allI, ih (fun i hi => h i (by omega)), h n (by omega)]
theorem allI_iff {p : Int → Bool} {n : Nat} : allI p n = true ↔ ∀ i : Nat, i < n → p i = true := by
  induction n with
  | zero => simp [allI]
  | succ n ih =>
    rw [allI, Bool.and_eq_true, ih]
    constructor
    · rintro ⟨h1, h2⟩ i hi
      by_cases h : i = n
      · rw [h]; exact h2
      · exact h1 i (by omega)
    · intro h
      exact ⟨fun i hi => h i (by omega), h n (by omega)⟩
theorem sumI_range {f : Int → Int} {n : Nat} {lo hi : Int} (h : ∀ i : Nat, i < n → lo ≤ f i ∧ f i ≤ hi) : lo * n ≤ sumI f n ∧ sumI f n ≤ hi * n := by
  induction n with
  | zero => simp [sumI]
  | succ n ih =>
    have h1 := ih (fun i hi => h i (by omega))
    have h2 := h n (by omega)
    rw [sumI, show ((n + 1 : Nat) : Int) = (n : Int) + 1 by omega, Int.mul_add, Int.mul_add]
    omega
theorem rF_congr {p q : Int → Bool} {n : Nat} (h : ∀ i : Nat, i < n → p i = q i) : rF p n = rF q n := by
  induction n with
  | zero => rfl
  | succ n ih => rw [rF, rF, ih (fun i hi => h i (by omega)), h n (by omega)]
theorem rF_len {p : Int → Bool} {n : Nat} : ((rF p n).length : Int) = sumI (fun i => bi (p i)) n := by
  induction n with
  | zero => rfl
  | succ n ih =>
    rw [rF, sumI, ← ih]
    cases hp : p n with
    | true => simp [bi]
    | false => simp [bi]
theorem rF_le {p : Int → Bool} {n : Nat} : (rF p n).length ≤ n := by
  induction n with
  | zero => exact Nat.le_refl _
  | succ n ih =>
    rw [rF]
    split
    · rw [List.length_append, List.length_singleton]; omega
    · omega
theorem rF_mem {p : Int → Bool} {n : Nat} {x : Int} : x ∈ rF p n ↔ 0 ≤ x ∧ x < n ∧ p x = true := by
  induction n with
  | zero => simp [rF]; omega
  | succ n ih =>
    rw [rF]
    by_cases hp : p n = true
    · rw [if_pos hp, List.mem_append, ih, List.mem_singleton]
      constructor
      · rintro (h | rfl)
        · exact ⟨h.1, by omega, h.2.2⟩
        · exact ⟨by omega, by omega, hp⟩
      · rintro ⟨h1, h2, h3⟩
        by_cases hx : x = n
        · exact Or.inr hx
        · exact Or.inl ⟨h1, by omega, h3⟩
    · rw [if_neg hp, ih]
      constructor
      · rintro h; exact ⟨h.1, by omega, h.2.2⟩
      · rintro ⟨h1, h2, h3⟩
        by_cases hx : x = n
        · rw [hx] at h3; exact absurd h3 hp
        · exact ⟨h1, by omega, h3⟩
theorem rF_pre {p : Int → Bool} {l n : Nat} (h : l ≤ n) : ∃ t, rF p n = rF p l ++ t := by
  induction n with
  | zero => exact ⟨[], by rw [show l = 0 by omega, List.append_nil]⟩
  | succ n ih =>
    by_cases hl : l = n + 1
    · exact ⟨[], by rw [hl, List.append_nil]⟩
    · obtain ⟨t, ht⟩ := ih (by omega)
      rw [rF, ht]
      split
      · exact ⟨t ++ [(n : Int)], by rw [List.append_assoc]⟩
      · exact ⟨t, rfl⟩
theorem rF_at {p : Int → Bool} {l n : Nat} (h : l < n) (hp : p l = true) : (rF p n)[(rF p l).length]? = some (l : Int) := by
  obtain ⟨t, ht⟩ := rF_pre (p := p) (show l + 1 ≤ n by omega)
  rw [ht, rF, if_pos hp, List.append_assoc, List.getElem?_append_right (Nat.le_refl _), Nat.sub_self]
  rfl
/-- the place of a number among those for which p holds -/
theorem rF_get {p : Int → Bool} {n k : Nat} {x : Int} (h : (rF p n)[k]? = some x) : ∃ l : Nat, x = l ∧ l < n ∧ p l = true ∧ (rF p l).length = k := by
  induction n with
  | zero => simp [rF] at h
  | succ n ih =>
    rw [rF] at h
    by_cases hp : p n = true
    · rw [if_pos hp] at h
      by_cases hk : k < (rF p n).length
      · rw [List.getElem?_append_left hk] at h
        obtain ⟨l, h1, h2, h3, h4⟩ := ih h
        exact ⟨l, h1, by omega, h3, h4⟩
      · rw [List.getElem?_append_right (by omega)] at h
        have hz := (List.getElem?_eq_some_iff.mp h).1
        rw [List.length_singleton] at hz
        rw [show k - (rF p n).length = 0 by omega] at h
        cases h
        exact ⟨n, rfl, by omega, hp, by omega⟩
    · rw [if_neg hp] at h
      obtain ⟨l, h1, h2, h3, h4⟩ := ih h
      exact ⟨l, h1, by omega, h3, h4⟩
/-! texts: lists of characters -/
abbrev zS : Type := List Int
/-- the character at a place -/
def cT (s : zS) (i : Int) : Int := s.getD i.toNat 0
/-- the tokens' places: from i on, inside a token that began at b or not -/
def tkGo : Int → zS → Option Int → List (Int × Int)
  | _, [], none => []
  | i, [], some b => [(b, i)]
  | i, c :: s, none => if c = 32 then tkGo (i + 1) s none else tkGo (i + 1) s (some i)
  | i, c :: s, some b => if c = 32 then (b, i) :: tkGo (i + 1) s none else tkGo (i + 1) s (some b)
def tkp (s : zS) : List (Int × Int) := tkGo 0 s none
def nT (s : zS) : Int := (tkp s).length
def fT (s : zS) (k : Int) : Int := ((tkp s).getD k.toNat (0, 0)).1
def eT (s : zS) (k : Int) : Int := ((tkp s).getD k.toNat (0, 0)).2
def wT (s : zS) (k : Int) : Int := eT s k - fT s k
/-- a token's text -/
def tok (s : zS) (k : Int) : zS := (s.drop (fT s k).toNat).take (wT s k).toNat
/-- a gap; the one behind the last token, too -/
def gp (s : zS) (g : Int) : Int := (if g = nT s then (s.length : Int) else fT s g) - (if g = 0 then 0 else eT s (g - 1))
def isDig (c : Int) : Bool := decide (48 ≤ c) && decide (c ≤ 57)
def isLet (c : Int) : Bool := (decide (97 ≤ c) && decide (c ≤ 122)) || (decide (65 ≤ c) && decide (c ≤ 90))
/-- 1 behind a minus sign -/
def neg1 (w : zS) : Int := if cT w 0 = 45 then 1 else 0
def isNum (w : zS) : Bool :=
  (decide (1 ≤ (w.length : Int) - neg1 w) && decide ((w.length : Int) - neg1 w ≤ 9)) && allI (fun i => isDig (cT w (neg1 w + i))) (w.length - (neg1 w).toNat) && !(decide (cT w (neg1 w) = 48) && !(decide ((w.length : Int) - neg1 w = 1) && decide (neg1 w = 0)))
def isWrd (w : zS) : Bool := allI (fun i => isLet (cT w i)) w.length
/-- a token's kind: 2 a number, 1 a word, 0 else -/
def typ (w : zS) : Int := if isNum w then 2 else if isWrd w then 1 else 0
/-- the number that the digits from a place on write -/
def numI (f : Int → Int) : Nat → Int
  | 0 => 0
  | n + 1 => 10 * numI f n + f n - 48
def absNum (w : zS) : Int := numI (fun i => cT w (neg1 w + i)) (w.length - (neg1 w).toNat)
def num (w : zS) : Int := if cT w 0 = 45 then -absNum w else absNum w
theorem cT_drop (s : zS) (a i : Int) (ha : 0 ≤ a) (hi : 0 ≤ i) : cT (s.drop a.toNat) i = cT s (a + i) := by
  unfold cT
  rw [List.getD_eq_getElem?_getD, List.getD_eq_getElem?_getD, List.getElem?_drop, show (a + i).toNat = a.toNat + i.toNat by omega]
theorem cT_take (s : zS) (n : Nat) (i : Int) (h : i < n) (hi : 0 ≤ i) : cT (s.take n) i = cT s i := by
  unfold cT
  rw [List.getD_eq_getElem?_getD, List.getD_eq_getElem?_getD, List.getElem?_take, if_pos (by omega)]
theorem cT_cons0 (c : Int) (s : zS) : cT (c :: s) 0 = c := rfl
theorem cT_at {s : zS} {i : Int} {c : Int} {t : zS} (h : s.drop i.toNat = c :: t) (hi : 0 ≤ i) : cT s i = c := by
  have h1 := cT_drop s i 0 hi (Int.le_refl 0)
  rw [h, cT_cons0, Int.add_zero] at h1
  exact h1.symm
theorem drop_cons {s : zS} {i : Int} (hi : 0 ≤ i) (hl : i < (s.length : Int)) : s.drop i.toNat = cT s i :: s.drop (i + 1).toNat := by
  have h1 : i.toNat < s.length := by omega
  rw [List.drop_eq_getElem_cons h1, show (i + 1).toNat = i.toNat + 1 by omega]
  unfold cT
  rw [List.getD_eq_getElem?_getD, List.getElem?_eq_getElem h1]
  rfl
theorem drop_end {s : zS} {i : Int} (hl : (s.length : Int) ≤ i) : s.drop i.toNat = [] := List.drop_eq_nil_of_le (by omega)
/-- places are in order: a token isn't empty, and lies in the text -/
theorem tkGo_ok : ∀ (s : zS) (i : Int) (o : Option Int) (lo : Int), lo ≤ i → (∀ b, o = some b → lo ≤ b ∧ b < i) → ∀ (k : Nat) (q : Int × Int), (tkGo i s o)[k]? = some q → lo ≤ q.1 ∧ q.1 < q.2 ∧ q.2 ≤ i + s.length := by
  intro s
  induction s with
  | nil =>
    intro i o lo hlo ho k q hk
    cases o with
    | none => simp [tkGo] at hk
    | some b =>
      rw [tkGo] at hk
      have hz := (List.getElem?_eq_some_iff.mp hk).1
      rw [List.length_singleton] at hz
      rw [show k = 0 by omega] at hk
      cases hk
      have := ho b rfl
      simp only [List.length_nil]
      omega
  | cons c s ih =>
    intro i o lo hlo ho k q hk
    have hlen : ((c :: s).length : Int) = s.length + 1 := by rw [List.length_cons]; omega
    cases o with
    | none =>
      rw [tkGo] at hk
      split at hk
      · have := ih (i + 1) none lo (by omega) (fun b hb => by cases hb) k q hk
        omega
      · have := ih (i + 1) (some i) lo (by omega) (fun b hb => by cases hb; omega) k q hk
        omega
    | some b =>
      have hb := ho b rfl
      rw [tkGo] at hk
      split at hk
      · cases k with
        | zero => cases hk; simp only; omega
        | succ k =>
          have := ih (i + 1) none lo (by omega) (fun b hb => by cases hb) k q (by simpa using hk)
          omega
      · have := ih (i + 1) (some b) lo (by omega) (fun b2 hb2 => by cases hb2; omega) k q hk
        omega
/-- how many: two places a token, but at the end -/
theorem tkGo_many : ∀ (s : zS) (i : Int) (o : Option Int), 2 * ((tkGo i s o).length : Int) ≤ s.length + 1 + (match o with | none => 0 | some _ => 1) := by
  intro s
  induction s with
  | nil =>
    intro i o
    cases o with
    | none => simp [tkGo]
    | some b => simp [tkGo]
  | cons c s ih =>
    intro i o
    have hlen : ((c :: s).length : Int) = s.length + 1 := by rw [List.length_cons]; omega
    cases o with
    | none =>
      rw [tkGo]
      split
      · have := ih (i + 1) none; simp only at this ⊢; omega
      · have := ih (i + 1) (some i); simp only at this ⊢; omega
    | some b =>
      rw [tkGo]
      split
      · have := ih (i + 1) none; rw [List.length_cons]; simp only at this ⊢; omega
      · have := ih (i + 1) (some b); simp only at this ⊢; omega
theorem nT_range (s : zS) : 0 ≤ nT s ∧ 2 * nT s ≤ s.length + 1 := by
  have := tkGo_many s 0 none
  unfold nT tkp
  simp only at this
  omega
theorem tk_get {s : zS} {k : Int} (h0 : 0 ≤ k) (h1 : k < nT s) : (tkp s)[k.toNat]? = some (fT s k, eT s k) := by
  have hl : k.toNat < (tkp s).length := by unfold nT at h1; omega
  unfold fT eT
  rw [List.getD_eq_getElem?_getD, List.getElem?_eq_getElem hl]
  rfl
theorem tk_ok {s : zS} {k : Int} (h0 : 0 ≤ k) (h1 : k < nT s) : 0 ≤ fT s k ∧ fT s k < eT s k ∧ eT s k ≤ s.length := by
  have := tkGo_ok s 0 none 0 (Int.le_refl 0) (fun b hb => by cases hb) k.toNat _ (tk_get h0 h1)
  simp only at this
  omega
theorem tok_len {s : zS} {k : Int} (h0 : 0 ≤ k) (h1 : k < nT s) : ((tok s k).length : Int) = wT s k := by
  have := tk_ok h0 h1
  unfold tok wT
  rw [List.length_take, List.length_drop]
  omega
theorem tok_cT {s : zS} {k i : Int} (h0 : 0 ≤ k) (h1 : k < nT s) (hi : 0 ≤ i) (hw : i < wT s k) : cT (tok s k) i = cT s (fT s k + i) := by
  have := tk_ok h0 h1
  unfold tok
  rw [cT_take _ _ _ (by omega) hi, cT_drop _ _ _ (by omega) hi]
theorem zS_ext {s t : zS} (hl : (s.length : Int) = t.length) (h : ∀ i : Nat, (i : Int) < s.length → cT s i = cT t i) : s = t := by
  refine List.ext_getElem? fun i => ?_
  by_cases hi : i < s.length
  · have h1 := h i (by omega)
    unfold cT at h1
    rw [List.getD_eq_getElem?_getD, List.getD_eq_getElem?_getD, show ((i : Int)).toNat = i by omega, List.getElem?_eq_getElem hi, List.getElem?_eq_getElem (by omega)] at h1
    rw [List.getElem?_eq_getElem hi, List.getElem?_eq_getElem (by omega)]
    exact congrArg some h1
  · rw [List.getElem?_eq_none (by omega), List.getElem?_eq_none (by omega)]
/-- two tokens are alike: as wide, with the same characters -/
theorem tok_eq {s t : zS} {k u : Int} (h0 : 0 ≤ k) (h1 : k < nT s) (g0 : 0 ≤ u) (g1 : u < nT t) : tok s k = tok t u ↔ wT s k = wT t u ∧ ∀ i : Int, 0 ≤ i → i < wT s k → cT s (fT s k + i) = cT t (fT t u + i) := by
  have l1 := tok_len h0 h1
  have l2 := tok_len g0 g1
  constructor
  · intro h
    have hw : wT s k = wT t u := by rw [← l1, ← l2, h]
    exact ⟨hw, fun i hi hlt => by rw [← tok_cT h0 h1 hi hlt, ← tok_cT g0 g1 hi (by omega), h]⟩
  · rintro ⟨hw, hc⟩
    refine zS_ext (by omega) (fun i hi => ?_)
    rw [tok_cT h0 h1 (by omega) (by omega), tok_cT g0 g1 (by omega) (by omega)]
    exact hc i (by omega) (by omega)
theorem typ_range (w : zS) : 0 ≤ typ w ∧ typ w ≤ 2 := by
  unfold typ
  split
  · omega
  · split <;> omega

