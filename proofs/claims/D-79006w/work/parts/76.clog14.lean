/-! THE CLASS: a template split: the row that comes of it -/
set_option maxRecDepth 100000
theorem anS_congr {c d : Int → zS} {m : Nat} (h : ∀ r : Nat, r < m → c r = d r) : anS c m = anS d m := by
  induction m with
  | zero => rfl
  | succ m ih =>
    rw [anS, anS]
    by_cases q : m = 0
    · rw [if_pos q, if_pos q]
    · rw [if_neg q, if_neg q, ih (fun r hr => h r (by omega)), h m (by omega), show c 0 = d 0 from h 0 (by omega)]
theorem slM_rws {M : Int → Int} {t : Int} (ht : 0 ≤ t) (h40 : M 0 ≤ 40) (u : Int) : rws (slM M t) u = rws M u := by
  unfold rws
  rw [slM_lo ht (by omega)]
  refine rF_congr (fun i hi => ?_)
  unfold ofP
  rw [slM_lo ht (by omega)]
theorem gtD_mem {R : List Int} {r : Nat} (hr : r < R.length) : R.getD ((r : Int)).toNat (-1) ∈ R := by
  rw [Int.toNat_natCast, List.getD_eq_getElem?_getD, List.getElem?_eq_getElem hr]
  exact List.getElem_mem hr
theorem slM_an {M : Int → Int} {T : Int → zS} {u k : Int} (h0 : 0 ≤ k) (h1 : k < nTl M (fst M u)) (hT : ∀ l ∈ rws M u, tx M l = T l) : slt (slM M u) u k = anS (cR T (rws M u) k) (rws M u).length := by
  rw [slM_in k h0 h1]
  unfold anw
  rw [show (nR M u).toNat = (rws M u).length by unfold nR; omega]
  refine anS_congr (fun r hr => ?_)
  unfold colT cR tkl
  have e : lnO M u (r : Int) = (rws M u).getD ((r : Int)).toNat (-1) := rfl
  rw [e, hT _ (gtD_mem hr)]
def gonL (M : Int → Int) (t k : Int) : List Int := (rws M t).filter (fun q => decide (tkl M (fst M t) k = tkl M q k))
def lefL (M : Int → Int) (t k : Int) : List Int := (rws M t).filter (fun q => !decide (tkl M (fst M t) k = tkl M q k))
section SPL
variable {M : Int → Int} {t k nx : Int}
theorem spO_mem (h : zOk M) {u r : Int} : r ∈ rws (spO M t k nx) u ↔ 0 ≤ r ∧ r < (M 0).toNat ∧ (if M (43 + r) = t then (if tkl M (fst M t) k = tkl M r k then nx else t) else M (43 + r)) = u := by
  have hM := h.1
  rw [rws_mem, spO_lo hM.2.1 (by omega : (0 : Int) < 43 ∨ _)]
  constructor
  · rintro ⟨h0, h1, h2⟩
    rw [spO_of h0 (by omega)] at h2
    exact ⟨h0, h1, h2⟩
  · rintro ⟨h0, h1, h2⟩
    rw [← spO_of h0 (by omega)] at h2
    exact ⟨h0, h1, h2⟩
theorem spO_rn (h : zOk M) (ht : isT M t = true) (hx : isT M nx = false) (hx0 : 0 ≤ nx ∧ nx ≤ 11) : rws (spO M t k nx) nx = gonL M t k := by
  have hne : nx ≠ t := fun q => by rw [q, ht] at hx; cases hx
  refine asc_eq (rF_asc _ _) ((rF_asc _ _).filter _) (fun z => ?_)
  unfold gonL
  rw [spO_mem h, List.mem_filter, rws_mem, decide_eq_true_iff]
  constructor
  · rintro ⟨h0, h1, h2⟩
    by_cases q : M (43 + z) = t
    · rw [if_pos q] at h2
      by_cases q2 : tkl M (fst M t) k = tkl M z k
      · exact ⟨⟨h0, h1, q⟩, q2⟩
      · rw [if_neg q2] at h2; omega
    · rw [if_neg q] at h2
      rw [isT_mem hx0 (rws_mem.mpr ⟨h0, h1, h2⟩)] at hx
      cases hx
  · rintro ⟨⟨h0, h1, h2⟩, h3⟩
    exact ⟨h0, h1, by rw [if_pos h2, if_pos h3]⟩
theorem spO_rt (h : zOk M) (ht : isT M t = true) (hx : isT M nx = false) : rws (spO M t k nx) t = lefL M t k := by
  have hne : nx ≠ t := fun q => by rw [q, ht] at hx; cases hx
  refine asc_eq (rF_asc _ _) ((rF_asc _ _).filter _) (fun z => ?_)
  unfold lefL
  rw [spO_mem h, List.mem_filter, rws_mem, Bool.not_eq_true', decide_eq_false_iff_not]
  constructor
  · rintro ⟨h0, h1, h2⟩
    by_cases q : M (43 + z) = t
    · rw [if_pos q] at h2
      by_cases q2 : tkl M (fst M t) k = tkl M z k
      · rw [if_pos q2] at h2; omega
      · exact ⟨⟨h0, h1, q⟩, q2⟩
    · rw [if_neg q] at h2
      exact absurd h2 q
  · rintro ⟨⟨h0, h1, h2⟩, h3⟩
    exact ⟨h0, h1, by rw [if_pos h2, if_neg h3]⟩
theorem spO_ro (h : zOk M) {u : Int} (h1 : u ≠ t) (h2 : u ≠ nx) : rws (spO M t k nx) u = rws M u := by
  refine asc_eq (rF_asc _ _) (rF_asc _ _) (fun z => ?_)
  rw [spO_mem h, rws_mem]
  constructor
  · rintro ⟨g0, g1, g2⟩
    by_cases q : M (43 + z) = t
    · rw [if_pos q] at g2
      split at g2
      · exact absurd g2.symm h2
      · exact absurd g2.symm h1
    · rw [if_neg q] at g2
      exact ⟨g0, g1, g2⟩
  · rintro ⟨g0, g1, g2⟩
    exact ⟨g0, g1, by rw [if_neg (by omega)]; exact g2⟩
theorem fst_rws (M : Int → Int) (u : Int) : fst M u = (rws M u).getD 0 (-1) := rfl
theorem gtD0 {R : List Int} (h : R ≠ []) : R.getD 0 (-1) ∈ R := by
  cases R with
  | nil => exact absurd rfl h
  | cons a R => exact List.mem_cons_self
theorem splM_ts {w : zMp} {x y : Nat} {tf : Nat → Option Nat} (h : zOk M) (ht : isT M t = true) (hx : isT M nx = false) (hx0 : 0 ≤ nx ∧ nx ≤ 11) (hk : 0 ≤ k ∧ k < nTl M (fst M t)) {l9 : Int} (hl9 : l9 ∈ rws M t) (hd9 : tkl M (fst M t) k ≠ tkl M l9 k) (hts : wTs w tf M)
    (h1 : wTpl w x (gapsL (tx M ((gonL M t k).getD 0 (-1)))) (nT (tx M ((gonL M t k).getD 0 (-1)))).toNat (fun k2 => anS (cR (tx M) (gonL M t k) k2) (gonL M t k).length) (fun k2 => tok (tx M ((gonL M t k).getD 0 (-1))) k2) (gonL M t k))
    (h2 : wTpl w y (gapsL (tx M ((lefL M t k).getD 0 (-1)))) (nT (tx M ((lefL M t k).getD 0 (-1)))).toNat (fun k2 => anS (cR (tx M) (lefL M t k) k2) (lefL M t k).length) (fun k2 => tok (tx M ((lefL M t k).getD 0 (-1))) k2) (lefL M t k)) : wTs w (va_up (va_up tf nx.toNat (some x)) t.toNat (some y)) (splM M t k nx) := by
  have hM := h.1
  have rt := isT_row h ht
  have hne : nx ≠ t := fun q => by rw [q, ht] at hx; cases hx
  have hl := rws_mem.mp hl9
  obtain ⟨a1, a2, a3, a4⟩ := spO_ok (k := k) h ht hx hx0 hl.1 (by omega) hl.2.2 hd9
  obtain ⟨b1, b2, b3⟩ := slM_ok a1 a2
  have o0 : spO M t k nx 0 = M 0 := spO_lo hM.2.1 (by omega)
  have s0 : slM (spO M t k nx) t 0 = M 0 := by rw [slM_lo rt.2.2.2.1 (by omega)]; exact o0
  have r1 : ∀ u : Int, rws (slM (spO M t k nx) t) u = rws (spO M t k nx) u := slM_rws rt.2.2.2.1 (by omega)
  have r2 : ∀ u : Int, rws (splM M t k nx) u = rws (spO M t k nx) u := fun u => (slM_rws hx0.1 (by omega) u).trans (r1 u)
  have f1 : ∀ u : Int, fst (slM (spO M t k nx) t) u = fst (spO M t k nx) u := fun u => by rw [fst_rws, fst_rws, r1]
  have f2 : ∀ u : Int, fst (splM M t k nx) u = fst (spO M t k nx) u := fun u => by rw [fst_rws, fst_rws, r2]
  have tO : ∀ l : Int, 0 ≤ l → l < M 0 → tx (spO M t k nx) l = tx M l := fun l l0 l1 => tx_congr (spO_lo hM.2.1 (by omega)) (fun i i0 i1 => spO_lo hM.2.1 (by omega))
  have tS : ∀ l : Int, 0 ≤ l → l < M 0 → tx (slM (spO M t k nx) t) l = tx M l := fun l l0 l1 => by
    have hf := a1.f l0 (by omega)
    rw [slM_tx rt.2.2.2.1 l0 hf.1 hf.2.2.1, tO l l0 l1]
  have tF : ∀ l : Int, 0 ≤ l → l < M 0 → tx (splM M t k nx) l = tx M l := fun l l0 l1 => by
    have hf := b1.f l0 (by omega)
    have e : tx (splM M t k nx) l = tx (slM (spO M t k nx) t) l := slM_tx hx0.1 l0 hf.1 hf.2.2.1
    rw [e, tS l l0 l1]
  have hrn := spO_rn (k := k) h ht hx hx0
  have hrt := spO_rt (k := k) h ht hx
  have i2 := isT_iff.mp a2
  have i3 := isT_iff.mp a3
  have gr : ∀ {u : Int}, 0 ≤ fst (spO M t k nx) u → fst (spO M t k nx) u < M 0 := fun {u} hu => by
    have := (fst_rng hu).1
    omega
  have nF : ∀ l : Int, 0 ≤ l → l < M 0 → nTl (slM (spO M t k nx) t) l = nT (tx M l) := fun l l0 l1 => by unfold nTl; rw [tS l l0 l1]
  have nO : ∀ l : Int, 0 ≤ l → l < M 0 → nTl (spO M t k nx) l = nT (tx M l) := fun l l0 l1 => by unfold nTl; rw [tO l l0 l1]
  have n20 : ∀ l : Int, 0 ≤ l → l < M 0 → nT (tx M l) ≤ 20 := fun l l0 l1 => (h.f l0 l1).2.2.2.2.2.1
  have hTt : isT (splM M t k nx) t = true := isT_iff.mpr ⟨i2.1, i2.2.1, by rw [f2]; exact i2.2.2⟩
  have hTn : isT (splM M t k nx) nx = true := isT_iff.mpr ⟨i3.1, i3.2.1, by rw [f2]; exact i3.2.2⟩
  intro u hu
  by_cases e1 : (u : Int) = t
  · have q1 : u = t.toNat := by omega
    refine Or.inr ⟨by rw [e1]; exact hTt, y, by rw [va_upT, if_pos q1], ?_⟩
    rw [e1]
    have ef : fst (splM M t k nx) t = (lefL M t k).getD 0 (-1) := by rw [f2, fst_rws, hrt]
    have ef2 : fst (spO M t k nx) t = (lefL M t k).getD 0 (-1) := by rw [fst_rws, hrt]
    have g0 : 0 ≤ (lefL M t k).getD 0 (-1) := by rw [← ef2]; exact i2.2.2
    have g1 : (lefL M t k).getD 0 (-1) < M 0 := by rw [← ef2]; exact gr i2.2.2
    unfold wTm
    rw [ef, tF _ g0 g1]
    have en : nTl (splM M t k nx) ((lefL M t k).getD 0 (-1)) = nT (tx M ((lefL M t k).getD 0 (-1))) := by unfold nTl; rw [tF _ g0 g1]
    rw [en]
    refine h2.congr rfl (fun j hj => ?_) (fun j hj => ?_) (by rw [r2, hrt])
    · have hn := n20 _ g0 g1
      have e3 : slt (splM M t k nx) t (j : Int) = slt (slM (spO M t k nx) t) t j := slM_out (by rw [f1]; have := n20 _ i3.2.2 (gr i3.2.2); rw [nF _ i3.2.2 (gr i3.2.2)]; exact this) (by omega) (by omega) (Or.inl hne.symm)
      show anS _ _ = slt (splM M t k nx) t (j : Int)
      rw [e3, slM_an (T := tx M) (by omega) (by rw [ef2, nO _ g0 g1]; omega) (fun l hl2 => by have := (spO_mem h).mp hl2; exact tO l this.1 (by omega)), hrt]
    · show tok _ _ = tkl _ _ _
      unfold tkl
      rw [tF _ g0 g1]
  · by_cases e2 : (u : Int) = nx
    · have q1 : u = nx.toNat := by omega
      have q2 : u ≠ t.toNat := by omega
      refine Or.inr ⟨by rw [e2]; exact hTn, x, by rw [va_upT, if_neg q2, va_upT, if_pos q1], ?_⟩
      rw [e2]
      have ef : fst (splM M t k nx) nx = (gonL M t k).getD 0 (-1) := by rw [f2, fst_rws, hrn]
      have ef2 : fst (slM (spO M t k nx) t) nx = (gonL M t k).getD 0 (-1) := by rw [f1, fst_rws, hrn]
      have g0 : 0 ≤ (gonL M t k).getD 0 (-1) := by rw [← ef2, f1]; exact i3.2.2
      have g1 : (gonL M t k).getD 0 (-1) < M 0 := by rw [← ef2, f1]; exact gr i3.2.2
      unfold wTm
      rw [ef, tF _ g0 g1]
      have en : nTl (splM M t k nx) ((gonL M t k).getD 0 (-1)) = nT (tx M ((gonL M t k).getD 0 (-1))) := by unfold nTl; rw [tF _ g0 g1]
      rw [en]
      refine h1.congr rfl (fun j hj => ?_) (fun j hj => ?_) (by rw [r2, hrn])
      · show anS _ _ = slt (slM (slM (spO M t k nx) t) nx) nx (j : Int)
        rw [slM_an (T := tx M) (by omega) (by rw [ef2, nF _ g0 g1]; omega) (fun l hl2 => by rw [r1] at hl2; have := (spO_mem h).mp hl2; exact tS l this.1 (by omega)), r1, hrn]
      · show tok _ _ = tkl _ _ _
        unfold tkl
        rw [tF _ g0 g1]
    · have hrr : rws (splM M t k nx) u = rws M u := (r2 _).trans (spO_ro h e1 e2)
      have hfo : fst (splM M t k nx) u = fst M u := by rw [fst_rws, fst_rws, hrr]
      have hiT : isT (splM M t k nx) u = isT M u := by
        unfold isT
        rw [hfo]
      have q1 : u ≠ nx.toNat := by omega
      have q2 : u ≠ t.toNat := by omega
      rcases hts u hu with ⟨p1, p2⟩ | ⟨p1, z, p2, p3⟩
      · exact Or.inl ⟨by rw [hiT]; exact p1, by rw [va_upT, if_neg q2, va_upT, if_neg q1]; exact p2⟩
      · refine Or.inr ⟨by rw [hiT]; exact p1, z, by rw [va_upT, if_neg q2, va_upT, if_neg q1]; exact p2, ?_⟩
        have ru := isT_row h p1
        have hn := n20 _ ru.1 ru.2.1
        unfold wTm
        have en : nTl (splM M t k nx) (fst M u) = nTl M (fst M u) := by unfold nTl; rw [tF _ ru.1 ru.2.1]
        rw [hfo, tF _ ru.1 ru.2.1, en, hrr]
        refine p3.congr rfl (fun j hj => ?_) (fun j hj => ?_) rfl
        · have hj2 : (j : Int) < nT (tx M (fst M u)) := by unfold nTl at hj; omega
          have d1 : slt (splM M t k nx) u (j : Int) = slt (slM (spO M t k nx) t) u j := slM_out (by rw [f1]; have := n20 _ i3.2.2 (gr i3.2.2); rw [nF _ i3.2.2 (gr i3.2.2)]; exact this) (by omega) (by omega) (Or.inl e2)
          have d2 : slt (slM (spO M t k nx) t) u (j : Int) = slt (spO M t k nx) u j := slM_out (by have := n20 _ i2.2.2 (gr i2.2.2); rw [nO _ i2.2.2 (gr i2.2.2)]; exact this) (by omega) (by omega) (Or.inl e1)
          have d3 : slt (spO M t k nx) u (j : Int) = slt M u j := spO_lo hM.2.1 (by omega)
          show slt M u j = slt (splM M t k nx) u j
          rw [d1, d2, d3]
        · show tkl M _ _ = tkl _ _ _
          unfold tkl
          rw [tF _ ru.1 ru.2.1]
end SPL
/-- a row whose token isn't the first's -/
theorem fst0 {c : Int → zS} {r : Nat} : fstI c (r : Int) = 0 ↔ c 0 = c r := by
  constructor
  · intro h
    by_cases q : r = 0
    · rw [q]; rfl
    · unfold fstI at h
      have e : leastI (fun i => decide (c i = c (r : Int))) ((r : Int)).toNat = 0 := by omega
      have h2 := leastI_at (p := fun i => decide (c i = c (r : Int))) (n := ((r : Int)).toNat) (by omega)
      rw [e] at h2
      exact of_decide_eq_true h2
  · intro h
    exact fstI_eq (n := 0) (by omega) (fun j hj => absurd hj (Nat.not_lt_zero j)) h
theorem dff_1 {n : Nat} {c : Int → zS} (hn : 1 ≤ n) : (2 ≤ dffI n c ∨ ∀ r : Nat, r < n → c 0 = c r) ∧ ((∀ r : Nat, r < n → c 0 = c r) → dffI n c < 2) ∧ 1 ≤ dffI n c ∧ dffI n c ≤ n := by
  have key : ∀ m : Nat, 1 ≤ m → (1 ≤ dffI m c ∧ dffI m c ≤ m) ∧ ((∀ r : Nat, r < m → c 0 = c r) → dffI m c = 1) ∧ (2 ≤ dffI m c ∨ ∀ r : Nat, r < m → c 0 = c r) := by
    intro m
    induction m with
    | zero => intro h; omega
    | succ m ih =>
      intro _
      have e1 : dffI (m + 1) c = dffI m c + bi (decide (fstI c m = m)) := rfl
      have hb := bi_range (decide (fstI c m = m))
      by_cases hm : m = 0
      · subst hm
        have e2 : fstI c ((0 : Nat) : Int) = ((0 : Nat) : Int) := (fst0 (c := c) (r := 0)).mpr rfl
        have e3 : dffI 0 c = 0 := rfl
        rw [e1, e3, decide_eq_true e2]
        exact ⟨⟨by decide, by decide⟩, fun _ => rfl, Or.inr (fun r hr => by rw [show r = 0 by omega]; rfl)⟩
      · obtain ⟨h1, h2, h3⟩ := ih (by omega)
        rw [e1]
        refine ⟨by omega, fun z => ?_, ?_⟩
        · have e4 := (fst0 (c := c) (r := m)).mpr (z m (by omega))
          rw [h2 (fun r hr => z r (by omega)), e4, decide_eq_false (by omega)]
          rfl
        · rcases h3 with h3 | h3
          · exact Or.inl (by omega)
          · by_cases q : c 0 = c m
            · exact Or.inr (fun r hr => by
                by_cases q2 : r = m
                · rw [q2]; exact q
                · exact h3 r (by omega))
            · left
              have e5 : fstI c (m : Int) = m := fstI_eq (n := m) (by omega) (fun j hj => by rw [← h3 j hj]; exact q) rfl
              rw [decide_eq_true e5]
              have : bi true = 1 := rfl
              omega
  obtain ⟨h1, h2, h3⟩ := key n hn
  exact ⟨h3, fun z => by have := h2 z; omega, h1⟩

