/-! PLAIN LAWS: adding a line -/
set_option maxRecDepth 100000
/-- the best under n, the earlier if they're as good; or -1 -/
def bestI (p : Int → Bool) (f : Int → Int) : Nat → Int
  | 0 => -1
  | n + 1 => if p n = true ∧ (bestI p f n < 0 ∨ f (bestI p f n) < f n) then n else bestI p f n
theorem bestI_ok (p : Int → Bool) (f : Int → Int) (n : Nat) : -1 ≤ bestI p f n ∧ bestI p f n < n ∧ (0 ≤ bestI p f n → p (bestI p f n) = true) := by
  induction n with
  | zero => exact ⟨by show (-1 : Int) ≤ -1; omega, by show (-1 : Int) < 0; omega, fun h => absurd (show (0 : Int) ≤ -1 from h) (by decide)⟩
  | succ n ih =>
    rw [bestI]
    split
    · rename_i h
      exact ⟨by omega, by omega, fun _ => h.1⟩
    · exact ⟨ih.1, by omega, ih.2.2⟩
def mtP (M : Int → Int) (l : Int) : Int → Bool := fun t => isT M t && isMt M t l
def nrP (M : Int → Int) (l : Int) : Int → Bool := fun t => isT M t && (isFm M (fst M t) l && decide (M 1 * nTl M l ≤ 100 * fitI M t l))
/-- whose line it becomes -/
def takM (M : Int → Int) (l : Int) : Int := if 0 ≤ bestI (mtP M l) (fun t => fitI M t l) 12 then bestI (mtP M l) (fun t => fitI M t l) 12 else if 0 ≤ bestI (nrP M l) (fun t => fitI M t l) 12 then bestI (nrP M l) (fun t => fitI M t l) 12 else lfree M
theorem isMt_fm {M : Int → Int} {t l : Int} (h : isMt M t l = true) : isFm M (fst M t) l = true := by
  unfold isMt at h
  rw [Bool.and_eq_true] at h
  exact h.1
theorem lfree_rng (M : Int → Int) : 0 ≤ lfree M ∧ lfree M ≤ 12 := by
  have := leastI_le (fun t => !isT M t) 12
  unfold lfree
  omega
theorem lfree_no {M : Int → Int} (h : lfree M ≠ 12) : isT M (lfree M) = false :=
  (lfree_ok (fun q => h (lfree_12 q))).2.2
theorem takM_ok {M : Int → Int} {l : Int} : 0 ≤ takM M l ∧ takM M l ≤ 12 ∧ (takM M l ≠ 12 → (isT M (takM M l) = true ∧ isFm M (fst M (takM M l)) l = true) ∨ isT M (takM M l) = false) := by
  have h1 := bestI_ok (mtP M l) (fun t => fitI M t l) 12
  have h2 := bestI_ok (nrP M l) (fun t => fitI M t l) 12
  have h3 := lfree_rng M
  unfold takM
  by_cases q1 : 0 ≤ bestI (mtP M l) (fun t => fitI M t l) 12
  · rw [if_pos q1]
    have h4 := h1.2.2 q1
    unfold mtP at h4
    rw [Bool.and_eq_true] at h4
    exact ⟨q1, by omega, fun _ => Or.inl ⟨h4.1, isMt_fm h4.2⟩⟩
  · rw [if_neg q1]
    by_cases q2 : 0 ≤ bestI (nrP M l) (fun t => fitI M t l) 12
    · rw [if_pos q2]
      have h4 := h2.2.2 q2
      unfold nrP at h4
      rw [Bool.and_eq_true, Bool.and_eq_true] at h4
      exact ⟨q2, by omega, fun _ => Or.inl ⟨h4.1, h4.2.1⟩⟩
    · rw [if_neg q2]
      exact ⟨h3.1, h3.2, fun q => Or.inr (lfree_no q)⟩
/-- alike, but for what is not counted -/
def zEqv (M M2 : Int → Int) : Prop := M2 0 = M 0 ∧ M2 1 = M 1 ∧ (∀ l : Int, 0 ≤ l → l < M 0 → M2 (2 + l) = M (2 + l) ∧ M2 (43 + l) = M (43 + l) ∧ ∀ i : Int, 0 ≤ i → i < M (2 + l) → M2 (84 + 40 * l + i) = M (84 + 40 * l + i)) ∧ ∀ i : Int, 1724 ≤ i → M2 i = M i
theorem zEqv.rf (M : Int → Int) : zEqv M M := ⟨rfl, rfl, fun _ _ _ => ⟨rfl, rfl, fun _ _ _ => rfl⟩, fun _ _ => rfl⟩
theorem zEqv.symm {M M2 : Int → Int} (h : zEqv M M2) : zEqv M2 M :=
  ⟨h.1.symm, h.2.1.symm, fun l l0 l1 => by
    have h1 := h.2.2.1 l l0 (by rw [← h.1]; exact l1)
    exact ⟨h1.1.symm, h1.2.1.symm, fun i i0 i1 => (h1.2.2 i i0 (by rw [← h1.1]; exact i1)).symm⟩, fun i hi => (h.2.2.2 i hi).symm⟩
theorem zEqv.trans {M M2 M3 : Int → Int} (h : zEqv M M2) (g : zEqv M2 M3) : zEqv M M3 :=
  ⟨g.1.trans h.1, g.2.1.trans h.2.1, fun l l0 l1 => by
    have h1 := h.2.2.1 l l0 l1
    have h2 := g.2.2.1 l l0 (by rw [h.1]; exact l1)
    exact ⟨h2.1.trans h1.1, h2.2.1.trans h1.2.1, fun i i0 i1 => (h2.2.2 i i0 (by rw [h1.1]; exact i1)).trans (h1.2.2 i i0 i1)⟩, fun i hi => (g.2.2.2 i hi).trans (h.2.2.2 i hi)⟩
theorem zEqv.eX {M M2 : Int → Int} (h : zEqv M M2) {l : Int} (l0 : 0 ≤ l) (l1 : l < M 0) : tx M2 l = tx M l := by
  have h1 := h.2.2.1 l l0 l1
  exact tx_congr h1.1 h1.2.2
theorem zEqv.eR {M M2 : Int → Int} (h : zEqv M M2) (t : Int) : rws M2 t = rws M t := by
  unfold rws
  rw [h.1]
  refine rF_congr (fun i hi => ?_)
  unfold ofP
  rw [(h.2.2.1 i (by omega) (by omega)).2.1]
theorem zEqv.eL {M M2 : Int → Int} (h : zEqv M M2) (t r : Int) : lnO M2 t r = lnO M t r := by
  unfold lnO
  rw [h.eR]
theorem zEqv.eF {M M2 : Int → Int} (h : zEqv M M2) (t : Int) : fst M2 t = fst M t := h.eL t 0
theorem zEqv.eT {M M2 : Int → Int} (h : zEqv M M2) (t : Int) : isT M2 t = isT M t := by
  unfold isT
  rw [h.eF]
theorem zEqv.ok {M M2 : Int → Int} (h : zEqv M M2) (g : zOk M) : zOk M2 := by
  refine ⟨by rw [h.1, h.2.1]; exact g.1, fun l l0 l1 => ?_, fun t k t0 t1 k0 k1 => ?_, fun l l0 l1 => ?_⟩
  · rw [h.1] at l1
    have h1 := h.2.2.1 l l0 l1
    have g1 := g.2.1 l l0 l1
    exact ⟨zRaw.of h1.1 h1.2.2 g1.1, by rw [h1.2.1]; exact g1.2⟩
  · have e : slt M2 t k = slt M t k := h.2.2.2 _ (by omega)
    rw [e]
    exact g.2.2.1 t k t0 t1 k0 k1
  · rw [h.1] at l1
    have h1 := h.2.2.1 l l0 l1
    have g1 := g.2.2.2 l l0 l1
    have gf := g.f l0 l1
    have hfo := fst_of l0 l1 rfl
    have hfr := fst_rng hfo
    have et := h.eX l0 l1
    have et2 := h.eX hfo hfr.1
    refine ⟨by rw [h1.2.1, h.eF, et, et2]; exact g1.1, fun k k0 k1 hs => ?_⟩
    unfold nTl at k1
    rw [et] at k1
    have e : slt M2 (M2 (43 + l)) k = slt M (M (43 + l)) k := by rw [h1.2.1]; exact h.2.2.2 _ (by omega)
    rw [e] at hs
    have g2 := g1.2 k k0 k1 hs
    unfold tkl at g2 ⊢
    rw [h1.2.1, h.eF, et, et2]
    exact g2
/-- a text written behind the lines -/
def rwM (M : Int → Int) (B : Int → Int) (n : Int) : Int → Int := fun i => if i = 2 + M 0 then n else if 84 + 40 * M 0 ≤ i ∧ i < 84 + 40 * M 0 + n then B (i - (84 + 40 * M 0)) else M i
/-- .. and its length taken back -/
def rwJ (M : Int → Int) (B : Int → Int) (n : Int) : Int → Int := fun i => if i = 2 + M 0 then M i else rwM M B n i
theorem rwM_e {M B : Int → Int} {n : Int} (g : zOk M) (h0 : M 0 < 40) (hn : n ≤ 40) : zEqv M (rwM M B n) := by
  have hm := g.1
  refine ⟨?_, ?_, fun l l0 l1 => ⟨?_, ?_, fun i i0 i1 => ?_⟩, fun i hi => ?_⟩ <;> unfold rwM
  · rw [if_neg (by omega), if_neg (by omega)]
  · rw [if_neg (by omega), if_neg (by omega)]
  · rw [if_neg (by omega), if_neg (by omega)]
  · rw [if_neg (by omega), if_neg (by omega)]
  · have gf := g.f l0 l1
    rw [if_neg (by omega), if_neg (by omega)]
  · rw [if_neg (by omega), if_neg (by omega)]
theorem rwJ_e {M B : Int → Int} {n : Int} (g : zOk M) (h0 : M 0 < 40) (hn : n ≤ 40) : zEqv M (rwJ M B n) := by
  have h1 := rwM_e (B := B) (n := n) g h0 hn
  have hm := g.1
  have e : ∀ i : Int, i ≠ 2 + M 0 → rwJ M B n i = rwM M B n i := fun i hi => if_neg hi
  refine ⟨(e 0 (by omega)).trans h1.1, (e 1 (by omega)).trans h1.2.1, fun l l0 l1 => ?_, fun i hi => (e i (by omega)).trans (h1.2.2.2 i hi)⟩
  have h2 := h1.2.2.1 l l0 l1
  have gf := g.f l0 l1
  exact ⟨(e _ (by omega)).trans h2.1, (e _ (by omega)).trans h2.2.1, fun i i0 i1 => (e _ (by omega)).trans (h2.2.2 i i0 i1)⟩
/-- a text that a line may have -/
def txOk (B : Int → Int) (n : Int) : Prop := 1 ≤ n ∧ n ≤ 40 ∧ ∀ i : Int, 0 ≤ i → i < n → 32 ≤ B i ∧ B i ≤ 126
theorem rwM_raw {M B : Int → Int} {n : Int} (h0 : 0 ≤ M 0) (h1 : M 0 < 40) (hb : txOk B n) : zRaw (fun _ => rwM M B n) (M 0) := by
  have e : rwM M B n (2 + M 0) = n := if_pos rfl
  refine ⟨h0, h1, ?_, ?_, fun i i0 i1 => ?_⟩
  · show 1 ≤ rwM M B n (2 + M 0)
    rw [e]; exact hb.1
  · show rwM M B n (2 + M 0) ≤ 40
    rw [e]; exact hb.2.1
  · have i2 : i < n := by rw [← e]; exact i1
    show 32 ≤ rwM M B n (84 + 40 * M 0 + i) ∧ rwM M B n (84 + 40 * M 0 + i) ≤ 126
    have e2 : rwM M B n (84 + 40 * M 0 + i) = B i := by
      unfold rwM
      rw [if_neg (by omega), if_pos (by omega)]
      congr 1
      omega
    rw [e2]
    exact hb.2.2 i i0 i2
/-- line M 0 made template t's -/
def addM (M : Int → Int) (t : Int) : Int → Int := fun i => if i = 0 then M 0 + 1 else if i = 43 + M 0 then t else if isT M t = true then (if 1724 + 20 * t ≤ i ∧ i < 1724 + 20 * t + nTl M (M 0) then widS M t (M 0) (i - (1724 + 20 * t)) else M i) else if 1724 + 20 * t ≤ i ∧ i < 1744 + 20 * t then -1 else M i
section AD
variable {M : Int → Int} {t : Int}
theorem addM_0 : addM M t 0 = M 0 + 1 := if_pos rfl
theorem addM_lo (ht : 0 ≤ t) {i : Int} (hi : i < 1724) (h0 : i ≠ 0) (h1 : i ≠ 43 + M 0) : addM M t i = M i := by
  unfold addM
  rw [if_neg h0, if_neg h1]
  split
  · rw [if_neg (by omega)]
  · rw [if_neg (by omega)]
theorem addM_of (h0 : 0 ≤ M 0) : addM M t (43 + M 0) = t := by
  unfold addM
  rw [if_neg (by omega), if_pos rfl]
theorem addM_st (hm : 0 ≤ M 0 ∧ M 0 ≤ 40) (ht : 0 ≤ t) (hT : isT M t = true) {k : Int} (h0 : 0 ≤ k) (h1 : k < nTl M (M 0)) : slt (addM M t) t k = widS M t (M 0) k := by
  unfold slt addM
  rw [if_neg (by omega), if_neg (by omega), if_pos hT, if_pos (by omega), show 1724 + 20 * t + k - (1724 + 20 * t) = k by omega]
theorem addM_sf (hm : 0 ≤ M 0 ∧ M 0 ≤ 40) (ht : 0 ≤ t) (hT : isT M t = false) {k : Int} (h0 : 0 ≤ k) (h1 : k < 20) : slt (addM M t) t k = -1 := by
  unfold slt addM
  rw [if_neg (by omega), if_neg (by omega), if_neg (by rw [hT]; decide), if_pos (by omega)]
theorem addM_so (hm : 0 ≤ M 0 ∧ M 0 ≤ 40) (ht : 0 ≤ t) {u k : Int} (hu : 0 ≤ u) (hn : nTl M (M 0) ≤ 20) (h0 : 0 ≤ k) (h1 : k < 20) (hne : u ≠ t ∨ (isT M t = true ∧ nTl M (M 0) ≤ k)) : slt (addM M t) u k = slt M u k := by
  unfold slt addM
  rw [if_neg (by omega), if_neg (by omega)]
  split
  · rw [if_neg (by omega)]
  · rename_i h
    rw [if_neg (by
      rcases hne with q | q
      · omega
      · exact absurd q.1 h)]
theorem addM_ok (h : zOk M) (hr : zRaw (fun _ => M) (M 0)) (ht : 0 ≤ t ∧ t ≤ 11) (hf : (isT M t = true ∧ isFm M (fst M t) (M 0) = true) ∨ isT M t = false) : zOk (addM M t) := by
  have hm := h.1
  have hrf := hr.f
  have hr1 : M 0 < 40 := hr.2.1
  have hnl : 0 ≤ nTl M (M 0) ∧ nTl M (M 0) ≤ 20 := hrf.2.2.2.2.2
  have hlen : 1 ≤ M (2 + M 0) ∧ M (2 + M 0) ≤ 40 := ⟨hr.2.2.1, hr.2.2.2.1⟩
  have etx : ∀ l : Int, 0 ≤ l → l ≤ M 0 → tx (addM M t) l = tx M l := fun l l0 l1 => by
    by_cases q : l = M 0
    · subst q
      exact tx_congr (addM_lo ht.1 (by omega) (by omega) (by omega)) (fun i i0 i1 => addM_lo ht.1 (by omega) (by omega) (by omega))
    · have hfl := h.f l0 (by omega)
      exact tx_congr (addM_lo ht.1 (by omega) (by omega) (by omega)) (fun i i0 i1 => addM_lo ht.1 (by omega) (by omega) (by omega))
  have etk : ∀ l k : Int, 0 ≤ l → l ≤ M 0 → tkl (addM M t) l k = tkl M l k := fun l k l0 l1 => by unfold tkl; rw [etx l l0 l1]
  have en : ∀ l : Int, 0 ≤ l → l ≤ M 0 → nTl (addM M t) l = nTl M l := fun l l0 l1 => by unfold nTl; rw [etx l l0 l1]
  have eo : ∀ l : Int, 0 ≤ l → l < M 0 → addM M t (43 + l) = M (43 + l) := fun l l0 l1 => addM_lo ht.1 (by omega) (by omega) (by omega)
  have ef : ∀ u : Int, 0 ≤ fst M u → fst (addM M t) u = fst M u := fun u hu => by
    have h3 := fst_rng hu
    refine fst_eq hu (by rw [addM_0]; omega) (by rw [eo _ hu h3.1]; exact h3.2.1) (fun j j0 j1 => ?_)
    rw [eo j j0 (by omega)]
    exact fst_min j0 j1
  have efn : isT M t = false → fst (addM M t) t = M 0 := fun hT => by
    have hn : fst M t < 0 := by
      rw [← Bool.not_eq_true, isT_iff] at hT
      omega
    refine fst_eq hm.1 (by rw [addM_0]; omega) (addM_of hm.1) (fun j j0 j1 => ?_)
    rw [eo j j0 j1]
    exact fst_no hn j0 j1
  refine ⟨by rw [addM_0, addM_lo ht.1 (by omega) (by omega) (by omega)]; omega, fun l l0 l1 => ?_, fun u k u0 u1 k0 k1 => ?_, fun l l0 l1 => ?_⟩
  · rw [addM_0] at l1
    by_cases q : l = M 0
    · rw [q, addM_of hm.1]
      exact ⟨zRaw.of (addM_lo ht.1 (by omega) (by omega) (by omega)) (fun i i0 i1 => addM_lo ht.1 (by omega) (by omega) (by omega)) hr, ht⟩
    · have hfl := h.f l0 (by omega)
      rw [eo l l0 (by omega)]
      exact ⟨zRaw.of (addM_lo ht.1 (by omega) (by omega) (by omega)) (fun i i0 i1 => addM_lo ht.1 (by omega) (by omega) (by omega)) (h.2.1 l l0 (by omega)).1, (h.2.1 l l0 (by omega)).2⟩
  · by_cases q : u = t
    · subst q
      cases hT : isT M u with
      | true =>
        by_cases q2 : k < nTl M (M 0)
        · rw [addM_st ⟨hm.1, hm.2.1⟩ ht.1 hT k0 q2]
          exact unionS_rng _ _ (h.2.2.1 u k u0 u1 k0 k1) (by decide)
        · rw [addM_so ⟨hm.1, hm.2.1⟩ ht.1 u0 hnl.2 k0 k1 (Or.inr ⟨hT, by omega⟩)]
          exact h.2.2.1 u k u0 u1 k0 k1
      | false =>
        rw [addM_sf ⟨hm.1, hm.2.1⟩ ht.1 hT k0 k1]
        decide
    · rw [addM_so ⟨hm.1, hm.2.1⟩ ht.1 u0 hnl.2 k0 k1 (Or.inl q)]
      exact h.2.2.1 u k u0 u1 k0 k1
  · rw [addM_0] at l1
    by_cases q : l = M 0
    · subst q
      rw [addM_of hm.1]
      rcases hf with ⟨hT, hfm⟩ | hT
      · have it := isT_iff.mp hT
        have rt := fst_rng it.2.2
        rw [ef t it.2.2, etx _ hm.1 (Int.le_refl _), etx _ it.2.2 (by omega)]
        have hg : gapsL (tx M (fst M t)) = gapsL (tx M (M 0)) := of_decide_eq_true hfm
        refine ⟨hg.symm, fun k k0 k1 hs => ?_⟩
        rw [en _ hm.1 (Int.le_refl _)] at k1
        rw [addM_st ⟨hm.1, hm.2.1⟩ ht.1 hT k0 k1] at hs
        have h9 := (unionS_neg (h.2.2.1 t k ht.1 ht.2 k0 (by omega)).1 (by decide)).mp hs
        rw [etk _ k hm.1 (Int.le_refl _), etk _ k it.2.2 (by omega)]
        exact h9.2.2.symm
      · rw [efn hT]
        exact ⟨rfl, fun k k0 k1 hs => rfl⟩
    · have l2 : l < M 0 := by omega
      have hx := h.2.2.2 l l0 l2
      have hfl := h.f l0 l2
      have hfo := fst_of l0 l2 rfl
      have hfr := fst_rng hfo
      rw [eo l l0 l2, ef _ hfo, etx l l0 (by omega), etx _ hfo (by omega)]
      refine ⟨hx.1, fun k k0 k1 hs => ?_⟩
      rw [en l l0 (by omega)] at k1
      rw [etk l k l0 (by omega), etk _ k hfo (by omega)]
      refine hx.2 k k0 k1 ?_
      by_cases q2 : M (43 + l) = t
      · have hT : isT M t = true := isT_iff.mpr ⟨ht.1, ht.2, by rw [← q2]; exact hfo⟩
        have hfm : isFm M (fst M t) (M 0) = true := by
          rcases hf with z | z
          · exact z.2
          · rw [hT] at z; cases z
        have n1 := isFm_n hfm
        have n2 := h.n l0 l2 q2
        rw [q2] at hs ⊢
        rw [addM_st ⟨hm.1, hm.2.1⟩ ht.1 hT k0 (by omega)] at hs
        exact ((unionS_neg (h.2.2.1 t k ht.1 ht.2 k0 (by omega)).1 (by decide)).mp hs).1
      · rw [addM_so ⟨hm.1, hm.2.1⟩ ht.1 (by omega) hnl.2 k0 (by omega) (Or.inl q2)] at hs
        exact hs
end AD

