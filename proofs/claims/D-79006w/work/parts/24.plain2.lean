/-! PLAIN LAWS: splitting a template -/
set_option maxRecDepth 100000
/-- as zOk, but that fixed slots needn't be the lines' -/
def zOkw (M : Int → Int) : Prop := (0 ≤ M 0 ∧ M 0 ≤ 40 ∧ 0 ≤ M 1 ∧ M 1 ≤ 100) ∧ (∀ l : Int, 0 ≤ l → l < M 0 → zRaw (fun _ => M) l ∧ 0 ≤ M (43 + l) ∧ M (43 + l) ≤ 11) ∧ (∀ t k : Int, 0 ≤ t → t ≤ 11 → 0 ≤ k → k < 20 → -1 ≤ slt M t k ∧ slt M t k ≤ 2) ∧ ∀ l : Int, 0 ≤ l → l < M 0 → gapsL (tx M l) = gapsL (tx M (fst M (M (43 + l))))
def zCons (M : Int → Int) (t : Int) : Prop := ∀ l : Int, 0 ≤ l → l < M 0 → M (43 + l) = t → ∀ k : Int, 0 ≤ k → k < nTl M l → slt M t k = -1 → tkl M l k = tkl M (fst M t) k
theorem zOk_w {M : Int → Int} : zOk M ↔ zOkw M ∧ ∀ t : Int, zCons M t := by
  constructor
  · rintro ⟨h1, h2, h3, h4⟩
    exact ⟨⟨h1, h2, h3, fun l l0 l1 => (h4 l l0 l1).1⟩, fun t l l0 l1 ht k k0 k1 hs => by subst ht; exact (h4 l l0 l1).2 k k0 k1 hs⟩
  · rintro ⟨⟨h1, h2, h3, h4⟩, h5⟩
    exact ⟨h1, h2, h3, fun l l0 l1 => ⟨h4 l l0 l1, fun k k0 k1 hs => h5 _ l l0 l1 rfl k k0 k1 hs⟩⟩
theorem zOkw.f {M : Int → Int} {l : Int} (h : zOkw M) (h0 : 0 ≤ l) (h1 : l < M 0) : l < 40 ∧ 1 ≤ M (2 + l) ∧ M (2 + l) ≤ 40 ∧ ((tx M l).length : Int) = M (2 + l) ∧ 0 ≤ nTl M l ∧ nTl M l ≤ 20 ∧ 0 ≤ M (43 + l) ∧ M (43 + l) ≤ 11 := by
  have h2 := (h.2.1 l h0 h1)
  have h3 := h2.1.f
  exact ⟨h3.2.1, h3.2.2.1, h3.2.2.2.1, h3.2.2.2.2.1, h3.2.2.2.2.2.1, h3.2.2.2.2.2.2, h2.2⟩
theorem zOkw.n {M : Int → Int} {l t : Int} (h : zOkw M) (h0 : 0 ≤ l) (h1 : l < M 0) (ht : M (43 + l) = t) : nTl M l = nTl M (fst M t) := by
  rw [← ht]
  exact (gapsL_eq.mp (h.2.2.2 l h0 h1)).1
/-- the union of the rows under m, of a template anew -/
def anS (c : Int → zS) : Nat → Int
  | 0 => -1
  | m + 1 => if m = 0 then -1 else unionS (anS c m) (c 0) (-1) (c m)
theorem anS_rng (c : Int → zS) (m : Nat) : -1 ≤ anS c m ∧ anS c m ≤ 2 := by
  induction m with
  | zero => exact ⟨(by decide : (-1 : Int) ≤ -1), (by decide : (-1 : Int) ≤ 2)⟩
  | succ m ih =>
    rw [anS]
    split
    · decide
    · exact unionS_rng _ _ ih (by decide)
theorem anS_neg {c : Int → zS} {m : Nat} (h : anS c m = -1) : ∀ r : Nat, r < m → c r = c 0 := by
  induction m with
  | zero => intro r hr; omega
  | succ m ih =>
    intro r hr
    rw [anS] at h
    by_cases q : m = 0
    · rw [show r = 0 by omega]; rfl
    · rw [if_neg q, unionS_neg (anS_rng c m).1 (by decide)] at h
      by_cases q2 : r = m
      · rw [q2]; exact h.2.2.symm
      · exact ih h.1 r (by omega)
def anw (M : Int → Int) (t : Int) : Int → Int := fun k => anS (colT M t k) (nR M t).toNat
/-- a template's slots made anew out of its lines -/
def slM (M : Int → Int) (t : Int) : Int → Int := fun i => if 1724 + 20 * t ≤ i ∧ i < 1724 + 20 * t + nTl M (fst M t) then anw M t (i - (1724 + 20 * t)) else M i
section SL
variable {M : Int → Int} {t : Int}
theorem slM_lo (ht : 0 ≤ t) {i : Int} (h : i < 1724) : slM M t i = M i := if_neg (by omega)
theorem slM_fst (ht : 0 ≤ t) (h40 : M 0 ≤ 40) (u : Int) : fst (slM M t) u = fst M u := by
  unfold fst lnO rws
  rw [slM_lo ht (by omega)]
  congr 1
  refine rF_congr (fun i hi => ?_)
  unfold ofP
  rw [slM_lo ht (by omega)]
theorem slM_tx (ht : 0 ≤ t) {l : Int} (h0 : 0 ≤ l) (h1 : l < 40) (h2 : M (2 + l) ≤ 40) : tx (slM M t) l = tx M l :=
  tx_congr (slM_lo ht (by omega)) (fun i i0 i1 => slM_lo ht (by omega))
theorem slM_in (k : Int) (h0 : 0 ≤ k) (h1 : k < nTl M (fst M t)) : slt (slM M t) t k = anw M t k := by
  unfold slt
  show (if _ then _ else _) = _
  rw [if_pos (by omega), show 1724 + 20 * t + k - (1724 + 20 * t) = k by omega]
theorem slM_out {u k : Int} (hn : nTl M (fst M t) ≤ 20) (h0 : 0 ≤ k) (h1 : k < 20) (hne : u ≠ t ∨ nTl M (fst M t) ≤ k) : slt (slM M t) u k = slt M u k := by
  unfold slt
  show (if _ then _ else _) = _
  rw [if_neg (by omega)]
theorem slM_ok (h : zOkw M) (ht : isT M t = true) : zOkw (slM M t) ∧ zCons (slM M t) t ∧ ∀ u : Int, u ≠ t → zCons M u → zCons (slM M t) u := by
  have it := isT_iff.mp ht
  have rt := fst_rng it.2.2
  have ft := h.f it.2.2 rt.1
  have e0 : slM M t 0 = M 0 := slM_lo it.1 (by omega)
  have hm := h.1
  have etx : ∀ l : Int, 0 ≤ l → l < M 0 → tx (slM M t) l = tx M l := fun l l0 l1 => by
    have hf := h.f l0 l1
    exact slM_tx it.1 l0 hf.1 hf.2.2.1
  have etk : ∀ l k : Int, 0 ≤ l → l < M 0 → tkl (slM M t) l k = tkl M l k := fun l k l0 l1 => by unfold tkl; rw [etx l l0 l1]
  have en : ∀ l : Int, 0 ≤ l → l < M 0 → nTl (slM M t) l = nTl M l := fun l l0 l1 => by unfold nTl; rw [etx l l0 l1]
  have eo : ∀ l : Int, 0 ≤ l → l < M 0 → slM M t (43 + l) = M (43 + l) := fun l l0 l1 => slM_lo it.1 (by omega)
  have ef : ∀ u : Int, fst (slM M t) u = fst M u := slM_fst it.1 hm.2.1
  refine ⟨⟨?_, fun l l0 l1 => ?_, fun u k u0 u1 k0 k1 => ?_, fun l l0 l1 => ?_⟩, fun l l0 l1 hl k k0 k1 hs => ?_, fun u hu hc l l0 l1 hl k k0 k1 hs => ?_⟩
  · rw [e0, slM_lo it.1 (by omega : (1 : Int) < 1724)]
    exact hm
  · rw [e0] at l1
    rw [eo l l0 l1]
    have hf := h.f l0 l1
    exact ⟨zRaw.of (slM_lo it.1 (by omega)) (fun i i0 i1 => slM_lo it.1 (by omega)) (h.2.1 l l0 l1).1, (h.2.1 l l0 l1).2⟩
  · by_cases q : u = t ∧ k < nTl M (fst M t)
    · rw [q.1, slM_in k k0 q.2]
      exact anS_rng _ _
    · rw [slM_out ft.2.2.2.2.2.1 k0 k1 (by omega)]
      exact h.2.2.1 u k u0 u1 k0 k1
  · rw [e0] at l1
    have hfo := fst_of l0 l1 rfl
    have hfr := fst_rng hfo
    rw [eo l l0 l1, ef, etx l l0 l1, etx _ hfo hfr.1]
    exact h.2.2.2 l l0 l1
  · rw [e0] at l1
    rw [eo l l0 l1] at hl
    rw [en l l0 l1] at k1
    have nl := h.n l0 l1 hl
    rw [slM_in k k0 (by omega)] at hs
    rw [ef, etk l k l0 l1, etk _ k it.2.2 rt.1]
    obtain ⟨r, hr⟩ := List.getElem?_of_mem (rws_of l0 l1 hl)
    have hrl : r < (rws M t).length := (List.getElem?_eq_some_iff.mp hr).1
    have h9 := anS_neg hs r (by unfold nR; omega)
    have e9 : lnO M t (r : Int) = l := by
      unfold lnO
      rw [List.getD_eq_getElem?_getD, show ((r : Int)).toNat = r by omega, hr]
      rfl
    unfold colT at h9
    rw [e9] at h9
    exact h9
  · rw [e0] at l1
    rw [eo l l0 l1] at hl
    rw [en l l0 l1] at k1
    have hf := h.f l0 l1
    rw [slM_out ft.2.2.2.2.2.1 k0 (by omega) (Or.inl hu)] at hs
    have hfo := fst_of l0 l1 hl
    have hfr := fst_rng hfo
    rw [ef, etk l k l0 l1, etk _ k hfo hfr.1]
    exact hc l l0 l1 hl k k0 k1 hs
end SL
/-- the lines of template t whose token k is the first's go to nx -/
def spO (M : Int → Int) (t k nx : Int) : Int → Int := fun i => if 43 ≤ i ∧ i < 43 + M 0 ∧ M i = t then (if tkl M (fst M t) k = tkl M (i - 43) k then nx else t) else M i
section SP
variable {M : Int → Int} {t k nx : Int}
theorem spO_lo {i : Int} (h40 : M 0 ≤ 40) (h : i < 43 ∨ 84 ≤ i) : spO M t k nx i = M i := if_neg (by omega)
theorem spO_of {l : Int} (h0 : 0 ≤ l) (h1 : l < M 0) : spO M t k nx (43 + l) = if M (43 + l) = t then (if tkl M (fst M t) k = tkl M l k then nx else t) else M (43 + l) := by
  unfold spO
  by_cases q : M (43 + l) = t
  · rw [if_pos ⟨by omega, by omega, q⟩, if_pos q, show 43 + l - 43 = l by omega]
  · rw [if_neg (fun z => q z.2.2), if_neg q]
theorem spO_fo (h40 : M 0 ≤ 40) {u : Int} (h1 : u ≠ t) (h2 : u ≠ nx) : fst (spO M t k nx) u = fst M u := by
  have e0 : spO M t k nx 0 = M 0 := spO_lo h40 (by omega)
  by_cases q : 0 ≤ fst M u
  · have h3 := fst_rng q
    refine fst_eq q (by rw [e0]; exact h3.1) (by rw [spO_of q h3.1, if_neg (by omega)]; exact h3.2.1) (fun j j0 j1 => ?_)
    rw [spO_of j0 (by omega)]
    have := fst_min j0 j1
    split
    · split <;> omega
    · exact this
  · have h3 := fst_ge (M := M) (t := u)
    rw [show fst M u = -1 by omega]
    refine fst_none (fun l l0 l1 => ?_)
    rw [e0] at l1
    rw [spO_of l0 l1]
    have := fst_no (M := M) (t := u) (by omega) l0 l1
    split
    · split <;> omega
    · exact this
theorem spO_fn (h40 : M 0 ≤ 40) (ht : 0 ≤ fst M t) (hnx : fst M nx < 0) (hne : nx ≠ t) : fst (spO M t k nx) nx = fst M t := by
  have e0 : spO M t k nx 0 = M 0 := spO_lo h40 (by omega)
  have h3 := fst_rng ht
  refine fst_eq ht (by rw [e0]; exact h3.1) (by rw [spO_of ht h3.1, if_pos h3.2.1, if_pos rfl]) (fun j j0 j1 => ?_)
  rw [spO_of j0 (by omega), if_neg (fst_min j0 j1)]
  exact fst_no hnx j0 (by omega)
/-- .. if there's another token, it stays -/
theorem spO_ft (h40 : M 0 ≤ 40) (hne : nx ≠ t) {l : Int} (l0 : 0 ≤ l) (l1 : l < M 0) (hl : M (43 + l) = t) (hd : tkl M (fst M t) k ≠ tkl M l k) : 0 ≤ fst (spO M t k nx) t := by
  have e0 : spO M t k nx 0 = M 0 := spO_lo h40 (by omega)
  exact fst_of l0 (by rw [e0]; exact l1) (by rw [spO_of l0 l1, if_pos hl, if_neg hd])
theorem spO_was (h40 : M 0 ≤ 40) (hnx : fst M nx < 0) {l : Int} (l0 : 0 ≤ l) (l1 : l < M 0) (h : spO M t k nx (43 + l) = t ∨ spO M t k nx (43 + l) = nx) : M (43 + l) = t := by
  rw [spO_of l0 l1] at h
  have := fst_no hnx l0 l1
  by_cases q : M (43 + l) = t
  · exact q
  · rw [if_neg q] at h
    omega
theorem spO_ok (h : zOk M) (ht : isT M t = true) (hx : isT M nx = false) (hx0 : 0 ≤ nx ∧ nx ≤ 11) {l9 : Int} (l90 : 0 ≤ l9) (l91 : l9 < M 0) (hl9 : M (43 + l9) = t) (hd9 : tkl M (fst M t) k ≠ tkl M l9 k) :
    zOkw (spO M t k nx) ∧ isT (spO M t k nx) t = true ∧ isT (spO M t k nx) nx = true ∧ ∀ u : Int, u ≠ t → u ≠ nx → zCons (spO M t k nx) u := by
  have it := isT_iff.mp ht
  have hnx : fst M nx < 0 := by
    rw [← Bool.not_eq_true, isT_iff] at hx
    omega
  have hne : nx ≠ t := fun q => by rw [q, ht] at hx; cases hx
  have hm := h.1
  have e0 : spO M t k nx 0 = M 0 := spO_lo hm.2.1 (by omega)
  have etx : ∀ l : Int, 0 ≤ l → l < M 0 → tx (spO M t k nx) l = tx M l := fun l l0 l1 => by
    have hf := h.f l0 l1
    exact tx_congr (spO_lo hm.2.1 (by omega)) (fun i i0 i1 => spO_lo hm.2.1 (by omega))
  have etk : ∀ l k2 : Int, 0 ≤ l → l < M 0 → tkl (spO M t k nx) l k2 = tkl M l k2 := fun l k2 l0 l1 => by unfold tkl; rw [etx l l0 l1]
  have en : ∀ l : Int, 0 ≤ l → l < M 0 → nTl (spO M t k nx) l = nTl M l := fun l l0 l1 => by unfold nTl; rw [etx l l0 l1]
  have rt := fst_rng it.2.2
  have f1 : 0 ≤ fst (spO M t k nx) t := spO_ft hm.2.1 hne l90 l91 hl9 hd9
  have f2 : fst (spO M t k nx) nx = fst M t := spO_fn hm.2.1 it.2.2 hnx hne
  have g1 := fst_rng f1
  rw [e0] at g1
  refine ⟨⟨?_, fun l l0 l1 => ?_, fun u k2 u0 u1 k0 k1 => ?_, fun l l0 l1 => ?_⟩, isT_iff.mpr ⟨it.1, it.2.1, f1⟩, isT_iff.mpr ⟨hx0.1, hx0.2, by rw [f2]; exact it.2.2⟩, fun u h1 h2 l l0 l1 hl k2 k0 k1 hs => ?_⟩
  · rw [e0, spO_lo hm.2.1 (by omega : (1 : Int) < 43 ∨ _)]
    exact hm
  · rw [e0] at l1
    have hf := h.f l0 l1
    refine ⟨zRaw.of (spO_lo hm.2.1 (by omega)) (fun i i0 i1 => spO_lo hm.2.1 (by omega)) (h.2.1 l l0 l1).1, ?_⟩
    rw [spO_of l0 l1]
    split
    · split <;> omega
    · omega
  · rw [show slt (spO M t k nx) u k2 = slt M u k2 from spO_lo hm.2.1 (by omega)]
    exact h.2.2.1 u k2 u0 u1 k0 k1
  · rw [e0] at l1
    have hfo : 0 ≤ fst (spO M t k nx) (spO M t k nx (43 + l)) := fst_of l0 (by rw [e0]; exact l1) rfl
    have hfr := fst_rng hfo
    rw [e0] at hfr
    rw [etx l l0 l1, etx _ hfo hfr.1]
    by_cases q : spO M t k nx (43 + l) = t ∨ spO M t k nx (43 + l) = nx
    · have w1 := spO_was hm.2.1 hnx l0 l1 q
      have w2 := spO_was hm.2.1 hnx hfo hfr.1 (by rw [hfr.2.1]; exact q)
      have a1 := (h.2.2.2 l l0 l1).1
      have a2 := (h.2.2.2 _ hfo hfr.1).1
      rw [w1] at a1
      rw [w2] at a2
      exact a1.trans a2.symm
    · have q1 : spO M t k nx (43 + l) = M (43 + l) := by
        rw [spO_of l0 l1] at q ⊢
        by_cases z : M (43 + l) = t
        · rw [if_pos z] at q
          split at q <;> omega
        · rw [if_neg z]
      rw [q1] at q ⊢
      rw [spO_fo hm.2.1 (fun z => q (Or.inl z)) (fun z => q (Or.inr z))]
      exact (h.2.2.2 l l0 l1).1
  · rw [e0] at l1
    rw [en l l0 l1] at k1
    have hf := h.f l0 l1
    have q1 : M (43 + l) = u := by
      rw [spO_of l0 l1] at hl
      by_cases z : M (43 + l) = t
      · rw [if_pos z] at hl
        split at hl <;> omega
      · rw [if_neg z] at hl
        exact hl
    rw [show slt (spO M t k nx) u k2 = slt M u k2 from spO_lo hm.2.1 (by omega)] at hs
    have hfo := fst_of l0 l1 q1
    have hfr := fst_rng hfo
    rw [spO_fo hm.2.1 h1 h2, etk l k2 l0 l1, etk _ k2 hfo hfr.1, ← q1]
    exact (h.2.2.2 l l0 l1).2 k2 k0 k1 (by rw [q1]; exact hs)
end SP
/-- a template split by a token -/
def splM (M : Int → Int) (t k nx : Int) : Int → Int := slM (slM (spO M t k nx) t) nx
theorem splM_ok {M : Int → Int} {t k nx : Int} (h : zOk M) (ht : isT M t = true) (hx : isT M nx = false) (hx0 : 0 ≤ nx ∧ nx ≤ 11) {l9 : Int} (l90 : 0 ≤ l9) (l91 : l9 < M 0) (hl9 : M (43 + l9) = t) (hd9 : tkl M (fst M t) k ≠ tkl M l9 k) : zOk (splM M t k nx) := by
  obtain ⟨a1, a2, a3, a4⟩ := spO_ok h ht hx hx0 l90 l91 hl9 hd9
  have it := isT_iff.mp ht
  have hne : nx ≠ t := fun q => by rw [q, ht] at hx; cases hx
  obtain ⟨b1, b2, b3⟩ := slM_ok a1 a2
  have a5 : isT (slM (spO M t k nx) t) nx = true := by
    have i3 := isT_iff.mp a3
    exact isT_iff.mpr ⟨hx0.1, hx0.2, by rw [slM_fst it.1 a1.1.2.1]; exact i3.2.2⟩
  obtain ⟨c1, c2, c3⟩ := slM_ok b1 a5
  refine zOk_w.mpr ⟨c1, fun u => ?_⟩
  by_cases q : u = nx
  · rw [q]; exact c2
  · refine c3 u q ?_
    by_cases q2 : u = t
    · rw [q2]; exact b2
    · exact b3 u q2 (a4 u q2 q)
theorem leastI_le (p : Int → Bool) (n : Nat) : leastI p n ≤ n := by
  induction n with
  | zero => exact Nat.le_refl _
  | succ n ih =>
    rw [leastI]
    split
    · omega
    · split <;> omega
theorem leastI_at {p : Int → Bool} {n : Nat} (h : leastI p n < n) : p (leastI p n : Int) = true := by
  induction n with
  | zero => omega
  | succ n ih =>
    rw [leastI] at h ⊢
    by_cases q : leastI p n < n
    · rw [if_pos q]; exact ih q
    · rw [if_neg q] at h ⊢
      by_cases q2 : p n = true
      · rw [if_pos q2]; exact q2
      · rw [if_neg q2] at h; omega
theorem leastI_none {p : Int → Bool} {n : Nat} (h : leastI p n = n) : ∀ j : Nat, j < n → p j = false := by
  induction n with
  | zero => intro j hj; omega
  | succ n ih =>
    intro j hj
    rw [leastI] at h
    by_cases q : leastI p n < n
    · rw [if_pos q] at h; omega
    · rw [if_neg q] at h
      have e := leastI_le p n
      by_cases q2 : p n = true
      · rw [if_pos q2] at h; omega
      · by_cases q3 : j = n
        · rw [q3]; simpa using q2
        · exact ih (by omega) j (by omega)
/-- there is a free number, unless all are in use -/
theorem lfree_ok {M : Int → Int} (h : nTpl M ≠ 12) : 0 ≤ lfree M ∧ lfree M ≤ 11 ∧ isT M (lfree M) = false := by
  have h1 := leastI_le (fun t => !isT M t) 12
  by_cases q : leastI (fun t => !isT M t) 12 < 12
  · have h2 := leastI_at q
    unfold lfree
    refine ⟨by omega, by omega, by simpa using h2⟩
  · have h2 := leastI_none (p := fun t => !isT M t) (n := 12) (by omega)
    exfalso
    refine h ?_
    unfold nTpl
    rw [show sumI (fun t => bi (isT M t)) 12 = sumI (fun _ => 1) 12 from sumI_congr (fun i hi => by have := h2 i hi; simp only [Bool.not_eq_false'] at this; rw [this]; rfl)]
    decide
theorem lfree_12 {M : Int → Int} (h : nTpl M = 12) : lfree M = 12 := by
  unfold lfree
  have h1 := leastI_le (fun t => !isT M t) 12
  by_cases q : leastI (fun t => !isT M t) 12 < 12
  · exfalso
    have h2 := leastI_at q
    simp only [Bool.not_eq_true'] at h2
    have h3 := sumI_lt (f := fun _ => (1 : Int)) (g := fun t => bi (isT M t)) (n := 12) (fun i _ => (bi_range _).2) (leastI (fun t => !isT M t) 12) q (by rw [h2, bi_f]; decide)
    have e1 : sumI (fun _ => (1 : Int)) 12 = 12 := by decide
    unfold nTpl at h
    omega
  · omega
/-- a column of more than one run: a row whose token isn't the first's -/
theorem runI_1 {n : Nat} {c : Int → zS} (hn : 1 ≤ n) : runI n c false = 1 ↔ ∀ r : Nat, r < n → c r = c 0 := by
  have key : ∀ m : Nat, 1 ≤ m → 1 ≤ runI m c false ∧ (runI m c false = 1 ↔ ∀ r : Nat, r < m → c r = c 0) := by
    intro m
    induction m with
    | zero => intro h; omega
    | succ m ih =>
      intro _
      by_cases hm : m = 0
      · subst hm
        have e1 : runI 1 c false = 1 := by
          show (0 : Int) + (if beg c ((0 : Nat) : Int) then (if false = true then ((c ((0 : Nat) : Int)).length : Int) + 2 else 1) else 0) = 1
          unfold beg
          simp
        show 1 ≤ runI 1 c false ∧ (runI 1 c false = 1 ↔ ∀ r : Nat, r < 1 → c r = c 0)
        refine ⟨by omega, ⟨fun _ r hr => by rw [show r = 0 by omega]; rfl, fun _ => e1⟩⟩
      · have h1 := ih (by omega)
        have e1 : runI (m + 1) c false = runI m c false + (if beg c m then 1 else 0) := rfl
        have e2 : beg c m = !decide (c ((m : Int) - 1) = c m) := by unfold beg; rw [decide_eq_false (by omega), Bool.false_or]
        rw [e1, e2]
        by_cases q : c ((m : Int) - 1) = c m
        · rw [decide_eq_true q]
          simp only [Bool.not_true, Bool.false_eq_true, if_false, Int.add_zero]
          refine ⟨h1.1, h1.2.trans ⟨fun z r hr => ?_, fun z r hr => z r (by omega)⟩⟩
          by_cases q2 : r = m
          · rw [q2, ← q]
            have := z (m - 1) (by omega)
            rwa [show ((m - 1 : Nat) : Int) = (m : Int) - 1 by omega] at this
          · exact z r (by omega)
        · rw [decide_eq_false q]
          simp only [Bool.not_false, if_true]
          refine ⟨by omega, ⟨fun z => by omega, fun z => ?_⟩⟩
          have z1 := z (m - 1) (by omega)
          rw [show ((m - 1 : Nat) : Int) = (m : Int) - 1 by omega] at z1
          exact absurd (z1.trans (z m (by omega)).symm) q
  exact (key n hn).2

