/-! PLAIN LAWS: a log's row of numbers, and what becomes of it -/
set_option maxRecDepth 100000
theorem fst_min {M : Int → Int} {t j : Int} (h0 : 0 ≤ j) (hj : j < fst M t) : M (43 + j) ≠ t := by
  intro q
  have h1 := fst_rng (M := M) (t := t) (by omega)
  have h2 := lnO_get (M := M) (t := t) (r := 0) (Int.le_refl 0) (by omega)
  obtain ⟨l, e1, e2, e3, e4⟩ := rF_get h2
  have e5 : fst M t = l := e1
  have e6 : j ∈ rF (ofP M t) l := rF_mem.mpr ⟨h0, by omega, decide_eq_true q⟩
  rw [List.length_eq_zero_iff.mp e4] at e6
  cases e6
theorem fst_eq {M : Int → Int} {t l : Int} (h0 : 0 ≤ l) (h1 : l < M 0) (ht : M (43 + l) = t) (hm : ∀ j : Int, 0 ≤ j → j < l → M (43 + j) ≠ t) : fst M t = l := by
  have h2 := fst_of h0 h1 ht
  have h3 := fst_rng h2
  rcases Int.lt_trichotomy (fst M t) l with q | q | q
  · exact absurd h3.2.1 (hm _ h2 q)
  · exact q
  · exact absurd ht (fst_min h0 q)
theorem fst_none {M : Int → Int} {t : Int} (h : ∀ l : Int, 0 ≤ l → l < M 0 → M (43 + l) ≠ t) : fst M t = -1 := by
  have h1 := fst_ge (M := M) (t := t)
  by_cases q : 0 ≤ fst M t
  · have h2 := fst_rng q
    exact absurd h2.2.1 (h _ q h2.1)
  · omega
theorem fst_no {M : Int → Int} {t l : Int} (h : fst M t < 0) (h0 : 0 ≤ l) (h1 : l < M 0) : M (43 + l) ≠ t := fun q => by
  have := fst_of h0 h1 q
  omega
theorem unionS_neg {s s2 : Int} {u w : zS} (h : -1 ≤ s) (h2 : -1 ≤ s2) : unionS s u s2 w = -1 ↔ s = -1 ∧ s2 = -1 ∧ u = w := by
  have h3 := typ_range u
  constructor
  · intro q
    unfold unionS at q
    split at q
    · assumption
    · split at q
      · split at q <;> omega
      · omega
  · intro q
    exact if_pos q
/-- a row that is a log: its numbers in range, its templates' lines of one form -/
def zOk (M : Int → Int) : Prop := (0 ≤ M 0 ∧ M 0 ≤ 40 ∧ 0 ≤ M 1 ∧ M 1 ≤ 100) ∧ (∀ l : Int, 0 ≤ l → l < M 0 → zRaw (fun _ => M) l ∧ 0 ≤ M (43 + l) ∧ M (43 + l) ≤ 11) ∧ (∀ t k : Int, 0 ≤ t → t ≤ 11 → 0 ≤ k → k < 20 → -1 ≤ slt M t k ∧ slt M t k ≤ 2) ∧ zFx M
def zTka (G : zTG) : Prop := ∀ l : Int, 0 ≤ l → l < G 0 0 → zTks G l
theorem zWg_iff {G : zTG} : zWg G ↔ zOk (G 0) ∧ zTka G := by
  constructor
  · rintro ⟨⟨h1, h2, h3⟩, h4⟩
    exact ⟨⟨h1, fun l l0 l1 => ⟨(h2 l l0 l1).1.1, (h2 l l0 l1).2⟩, h3, h4⟩, fun l l0 l1 => (h2 l l0 l1).1.2⟩
  · rintro ⟨⟨h1, h2, h3, h4⟩, h5⟩
    exact ⟨⟨h1, fun l l0 l1 => ⟨⟨(h2 l l0 l1).1, h5 l l0 l1⟩, (h2 l l0 l1).2⟩, h3⟩, h4⟩
theorem zOk.raws {M : Int → Int} (h : zOk M) : zRaws M := ⟨⟨h.1.1, h.1.2.1⟩, fun l l0 l1 => (h.2.1 l l0 l1).1⟩
theorem zOk.f {M : Int → Int} {l : Int} (h : zOk M) (h0 : 0 ≤ l) (h1 : l < M 0) : l < 40 ∧ 1 ≤ M (2 + l) ∧ M (2 + l) ≤ 40 ∧ ((tx M l).length : Int) = M (2 + l) ∧ 0 ≤ nTl M l ∧ nTl M l ≤ 20 ∧ 0 ≤ M (43 + l) ∧ M (43 + l) ≤ 11 := by
  have h2 := (h.2.1 l h0 h1)
  have h3 := h2.1.f
  exact ⟨h3.2.1, h3.2.2.1, h3.2.2.2.1, h3.2.2.2.2.1, h3.2.2.2.2.2.1, h3.2.2.2.2.2.2, h2.2⟩
theorem zOk.n {M : Int → Int} {l t : Int} (h : zOk M) (h0 : 0 ≤ l) (h1 : l < M 0) (ht : M (43 + l) = t) : nTl M l = nTl M (fst M t) := by
  rw [← ht]
  exact (gapsL_eq.mp (h.2.2.2 l h0 h1).1).1
/-- .. whose texts are another's -/
theorem zRaw.of {M M2 : Int → Int} {l : Int} (hl : M2 (2 + l) = M (2 + l)) (hc : ∀ i : Int, 0 ≤ i → i < M (2 + l) → M2 (84 + 40 * l + i) = M (84 + 40 * l + i)) (h : zRaw (fun _ => M) l) : zRaw (fun _ => M2) l := by
  refine ⟨h.1, h.2.1, ?_, ?_, fun i i0 i1 => ?_⟩
  · show 1 ≤ M2 (2 + l)
    rw [hl]; exact h.2.2.1
  · show M2 (2 + l) ≤ 40
    rw [hl]; exact h.2.2.2.1
  · have i2 : i < M (2 + l) := by rw [← hl]; exact i1
    show 32 ≤ M2 (84 + 40 * l + i) ∧ M2 (84 + 40 * l + i) ≤ 126
    rw [hc i i0 i2]
    exact h.2.2.2.2 i i0 i2
/-- two templates made one -/
def mgM (M : Int → Int) (lo hi : Int) : Int → Int := fun i => if 1724 + 20 * lo ≤ i ∧ i < 1724 + 20 * lo + nTl M (fst M lo) then unionS (slt M lo (i - (1724 + 20 * lo))) (tkl M (fst M lo) (i - (1724 + 20 * lo))) (slt M hi (i - (1724 + 20 * lo))) (tkl M (fst M hi) (i - (1724 + 20 * lo))) else if 43 ≤ i ∧ i < 43 + M 0 then (if M i = hi then lo else M i) else M i
section MG
variable {M : Int → Int} {lo hi : Int}
theorem mgM_lo (h : zOk M) (hl : 0 ≤ lo) {i : Int} (hi2 : i < 43 ∨ (84 ≤ i ∧ i < 1724)) : mgM M lo hi i = M i := by
  have := h.1
  unfold mgM
  rw [if_neg (by omega), if_neg (by omega)]
theorem mgM_of (h : zOk M) (hl : 0 ≤ lo) {l : Int} (h0 : 0 ≤ l) (h1 : l < M 0) : mgM M lo hi (43 + l) = if M (43 + l) = hi then lo else M (43 + l) := by
  have := h.1
  unfold mgM
  rw [if_neg (by omega), if_pos (by omega)]
theorem mgM_sl (hk : zOk M) (hl : 0 ≤ lo) {k : Int} (h0 : 0 ≤ k) (h1 : k < nTl M (fst M lo)) : slt (mgM M lo hi) lo k = unionS (slt M lo k) (tkl M (fst M lo) k) (slt M hi k) (tkl M (fst M hi) k) := by
  unfold slt
  show (if _ then _ else _) = _
  rw [if_pos (by omega), show 1724 + 20 * lo + k - (1724 + 20 * lo) = k by omega]
  rfl
theorem mgM_so (h : zOk M) (hl : 0 ≤ lo) {t k : Int} (ht : 0 ≤ t) (h0 : 0 ≤ k) (h1 : k < 20) (hn : nTl M (fst M lo) ≤ 20) (hne : t ≠ lo ∨ nTl M (fst M lo) ≤ k) : slt (mgM M lo hi) t k = slt M t k := by
  have := h.1
  unfold slt
  show (if _ then _ else _) = _
  rw [if_neg (by omega), if_neg (by omega)]
theorem mgM_tx (h : zOk M) (hl : 0 ≤ lo) {l : Int} (h0 : 0 ≤ l) (h1 : l < M 0) : tx (mgM M lo hi) l = tx M l := by
  have hf := h.f h0 h1
  exact tx_congr (mgM_lo h hl (by omega)) (fun i i0 i1 => mgM_lo h hl (by omega))
theorem mgM_tk (h : zOk M) (hl : 0 ≤ lo) {l k : Int} (h0 : 0 ≤ l) (h1 : l < M 0) : tkl (mgM M lo hi) l k = tkl M l k := by
  unfold tkl
  rw [mgM_tx h hl h0 h1]
theorem mgM_n (h : zOk M) (hl : 0 ≤ lo) {l : Int} (h0 : 0 ≤ l) (h1 : l < M 0) : nTl (mgM M lo hi) l = nTl M l := by
  unfold nTl
  rw [mgM_tx h hl h0 h1]
theorem mgM_0 (h : zOk M) (hl : 0 ≤ lo) : mgM M lo hi 0 = M 0 := mgM_lo h hl (by omega)
/-- the first line of each template then -/
theorem mgM_fo (h : zOk M) (hl : 0 ≤ lo) {t : Int} (h1 : t ≠ lo) (h2 : t ≠ hi) : fst (mgM M lo hi) t = fst M t := by
  by_cases q : 0 ≤ fst M t
  · have h3 := fst_rng q
    refine fst_eq q (by rw [mgM_0 h hl]; exact h3.1) (by rw [mgM_of h hl q h3.1, if_neg (by rw [h3.2.1]; exact h2)]; exact h3.2.1) (fun j j0 j1 => ?_)
    rw [mgM_of h hl j0 (by omega)]
    have := fst_min j0 j1
    split <;> omega
  · have h3 := fst_ge (M := M) (t := t)
    rw [show fst M t = -1 by omega]
    refine fst_none (fun l l0 l1 => ?_)
    rw [mgM_0 h hl] at l1
    rw [mgM_of h hl l0 l1]
    have := fst_no (M := M) (t := t) (by omega) l0 l1
    split <;> omega
theorem mgM_fh (h : zOk M) (hl : 0 ≤ lo) (hne : lo ≠ hi) : fst (mgM M lo hi) hi = -1 := by
  refine fst_none (fun l l0 l1 => ?_)
  rw [mgM_0 h hl] at l1
  rw [mgM_of h hl l0 l1]
  split <;> omega
theorem mgM_fl (h : zOk M) (hl : 0 ≤ lo) (ha : 0 ≤ fst M lo) (hb : 0 ≤ fst M hi) : fst (mgM M lo hi) lo = min (fst M lo) (fst M hi) := by
  have h1 := fst_rng ha
  have h2 := fst_rng hb
  by_cases q : fst M lo ≤ fst M hi
  · rw [show min (fst M lo) (fst M hi) = fst M lo by omega]
    refine fst_eq ha (by rw [mgM_0 h hl]; exact h1.1) (by rw [mgM_of h hl ha h1.1]; split <;> omega) (fun j j0 j1 => ?_)
    rw [mgM_of h hl j0 (by omega)]
    have := fst_min j0 j1
    have := fst_min (M := M) (t := hi) j0 (by omega)
    split <;> omega
  · rw [show min (fst M lo) (fst M hi) = fst M hi by omega]
    refine fst_eq hb (by rw [mgM_0 h hl]; exact h2.1) (by rw [mgM_of h hl hb h2.1, if_pos h2.2.1]) (fun j j0 j1 => ?_)
    rw [mgM_of h hl j0 (by omega)]
    have := fst_min j0 j1
    have := fst_min (M := M) (t := lo) j0 (by omega)
    split <;> omega
theorem mgM_ok (h : zOk M) (ha : isT M lo = true) (hb : isT M hi = true) (hf : isFm M (fst M lo) (fst M hi) = true) : zOk (mgM M lo hi) := by
  have ia := isT_iff.mp ha
  have ib := isT_iff.mp hb
  have ra := fst_rng ia.2.2
  have rb := fst_rng ib.2.2
  have fa := h.f ia.2.2 ra.1
  have fb := h.f ib.2.2 rb.1
  have hg : gapsL (tx M (fst M lo)) = gapsL (tx M (fst M hi)) := of_decide_eq_true hf
  have hn : nTl M (fst M lo) = nTl M (fst M hi) := (gapsL_eq.mp hg).1
  have e0 : mgM M lo hi 0 = M 0 := mgM_0 h ia.1
  refine ⟨?_, fun l l0 l1 => ?_, fun t k t0 t1 k0 k1 => ?_, fun l l0 l1 => ?_⟩
  · rw [e0, mgM_lo h ia.1 (by omega : (1 : Int) < 43 ∨ _)]
    exact h.1
  · rw [e0] at l1
    have hfl := h.f l0 l1
    refine ⟨zRaw.of (mgM_lo h ia.1 (by omega)) (fun i i0 i1 => mgM_lo h ia.1 (by omega)) (h.2.1 l l0 l1).1, ?_⟩
    rw [mgM_of h ia.1 l0 l1]
    split <;> omega
  · by_cases q : t = lo ∧ k < nTl M (fst M lo)
    · obtain ⟨rfl, q2⟩ := q
      rw [mgM_sl h ia.1 k0 q2]
      exact unionS_rng _ _ (h.2.2.1 _ _ ia.1 ia.2.1 k0 k1) (h.2.2.1 _ _ ib.1 ib.2.1 k0 k1)
    · rw [mgM_so h ia.1 t0 k0 k1 (by omega) (by omega)]
      exact h.2.2.1 t k t0 t1 k0 k1
  · rw [e0] at l1
    have hfl := h.f l0 l1
    have hx := h.2.2.2 l l0 l1
    by_cases q : M (43 + l) = lo ∨ M (43 + l) = hi
    · have eo : mgM M lo hi (43 + l) = lo := by rw [mgM_of h ia.1 l0 l1]; split <;> omega
      have ef := mgM_fl h ia.1 ia.2.2 ib.2.2
      have gl : gapsL (tx M l) = gapsL (tx M (fst M lo)) := by
        rcases q with q | q
        · rw [q] at hx; exact hx.1
        · rw [q] at hx; exact hx.1.trans hg.symm
      have nl : nTl M l = nTl M (fst M lo) := (gapsL_eq.mp gl).1
      have hmin : min (fst M lo) (fst M hi) = fst M lo ∨ min (fst M lo) (fst M hi) = fst M hi := by omega
      rw [eo, ef, mgM_tx h ia.1 l0 l1]
      refine ⟨?_, fun k k0 k1 hs => ?_⟩
      · rcases hmin with z | z <;> rw [z, mgM_tx h ia.1 (by omega) (by omega)]
        · exact gl
        · exact gl.trans hg
      · rw [mgM_n h ia.1 l0 l1] at k1
        rw [mgM_sl h ia.1 k0 (by omega), unionS_neg (h.2.2.1 _ _ ia.1 ia.2.1 k0 (by omega)).1 (h.2.2.1 _ _ ib.1 ib.2.1 k0 (by omega)).1] at hs
        have tl : tkl M l k = tkl M (fst M lo) k := by
          rcases q with q | q
          · rw [q] at hx; exact hx.2 k k0 k1 hs.1
          · rw [q] at hx; exact (hx.2 k k0 k1 hs.2.1).trans hs.2.2.symm
        rw [mgM_tk h ia.1 l0 l1]
        rcases hmin with z | z <;> rw [z, mgM_tk h ia.1 (by omega) (by omega)]
        · exact tl
        · exact tl.trans hs.2.2
    · have eo : mgM M lo hi (43 + l) = M (43 + l) := by rw [mgM_of h ia.1 l0 l1, if_neg (by omega)]
      have ef := mgM_fo (lo := lo) (hi := hi) h ia.1 (t := M (43 + l)) (by omega) (by omega)
      have hff := fst_of l0 l1 rfl
      have hfr := fst_rng hff
      rw [eo, ef, mgM_tx h ia.1 l0 l1, mgM_tx h ia.1 hff hfr.1]
      refine ⟨hx.1, fun k k0 k1 hs => ?_⟩
      rw [mgM_n h ia.1 l0 l1] at k1
      rw [mgM_so h ia.1 (by omega) k0 (by omega) (by omega) (by omega)] at hs
      rw [mgM_tk h ia.1 l0 l1, mgM_tk h ia.1 hff hfr.1]
      exact hx.2 k k0 k1 hs
end MG

