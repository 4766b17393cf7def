/-! THE CLASS: two templates merged: the row that comes of it -/
set_option maxRecDepth 100000
theorem wSlot.u {w : zMp} {a : Nat} {v : Int} {u u2 : zS} (h : wSlot w a v u) (hu : v = -1 → u = u2) : wSlot w a v u2 := by
  rcases h with ⟨h0, t, h1, h2⟩ | h
  · rw [← hu h0]
    exact Or.inl ⟨h0, t, h1, h2⟩
  · exact Or.inr h
theorem wSlots.u {w : zMp} {ss : List Nat} {n : Nat} {sv sv2 : Int → Int} {su su2 : Int → zS} (h : wSlots w ss n sv su) (h1 : ∀ k : Nat, k < n → sv k = sv2 k) (h2 : ∀ k : Nat, k < n → sv k = -1 → su k = su2 k) : wSlots w ss n sv2 su2 := ⟨h.1, fun k hk => by
  obtain ⟨a, g1, g2⟩ := h.2 k hk
  refine ⟨a, g1, ?_⟩
  rw [← h1 k hk]
  exact g2.u (h2 k hk)⟩
theorem wTpl.u {w : zMp} {a : Nat} {g g2 : List Int} {n n2 : Nat} {sv sv2 : Int → Int} {su su2 : Int → zS} {rows rows2 : List Int} (h : wTpl w a g n sv su rows) (hg : g = g2) (hn : n = n2) (h1 : ∀ k : Nat, k < n → sv k = sv2 k) (h2 : ∀ k : Nat, k < n → sv k = -1 → su k = su2 k) (hr : rows = rows2) : wTpl w a g2 n2 sv2 su2 rows2 := by
  subst hg
  subst hr
  subst hn
  obtain ⟨h0, gl, sl, rl, mc, mc2, mc3, gs, ss, rs, g1, g2, g3, g4, g5, g6, g7⟩ := h
  exact ⟨h0, gl, sl, rl, mc, mc2, mc3, gs, ss, rs, g1, g2, g3, g4, g5.u h1 h2, g6, g7⟩
section MG
variable {M : Int → Int} {lo hi : Int}
theorem mgM_mem (h : zOk M) (hl : 0 ≤ lo) {t r : Int} : r ∈ rws (mgM M lo hi) t ↔ 0 ≤ r ∧ r < (M 0).toNat ∧ (if M (43 + r) = hi then lo else M (43 + r)) = t := by
  rw [rws_mem, mgM_0 h hl]
  constructor
  · rintro ⟨h0, h1, h2⟩
    rw [mgM_of h hl h0 (by omega)] at h2
    exact ⟨h0, h1, h2⟩
  · rintro ⟨h0, h1, h2⟩
    exact ⟨h0, h1, by rw [mgM_of h hl h0 (by omega)]; exact h2⟩
theorem mgM_rlo (h : zOk M) (hl : 0 ≤ lo) (hne : lo ≠ hi) {C : List Int} (hC : asc C) (hm : ∀ q, q ∈ C ↔ q ∈ rws M lo ∨ q ∈ rws M hi) : rws (mgM M lo hi) lo = C := by
  refine asc_eq (rF_asc _ _) hC (fun z => ?_)
  rw [hm z, mgM_mem h hl, rws_mem, rws_mem]
  constructor
  · rintro ⟨h0, h1, h2⟩
    by_cases q : M (43 + z) = hi
    · exact Or.inr ⟨h0, h1, q⟩
    · rw [if_neg q] at h2
      exact Or.inl ⟨h0, h1, h2⟩
  · rintro (⟨h0, h1, h2⟩ | ⟨h0, h1, h2⟩)
    · exact ⟨h0, h1, by rw [if_neg (by omega)]; exact h2⟩
    · exact ⟨h0, h1, if_pos h2⟩
theorem mgM_rot (h : zOk M) (hl : 0 ≤ lo) {t : Int} (h1 : t ≠ lo) (h2 : t ≠ hi) : rws (mgM M lo hi) t = rws M t := by
  refine asc_eq (rF_asc _ _) (rF_asc _ _) (fun z => ?_)
  rw [mgM_mem h hl, rws_mem]
  constructor
  · rintro ⟨g0, g1, g2⟩
    by_cases q : M (43 + z) = hi
    · rw [if_pos q] at g2; exact absurd g2.symm h1
    · rw [if_neg q] at g2; exact ⟨g0, g1, g2⟩
  · rintro ⟨g0, g1, g2⟩
    exact ⟨g0, g1, by rw [if_neg (by omega)]; exact g2⟩
theorem isT_row {t : Int} (h : zOk M) (hT : isT M t = true) : 0 ≤ fst M t ∧ fst M t < M 0 ∧ M (43 + fst M t) = t ∧ 0 ≤ t ∧ t ≤ 11 := by
  have h1 := rws_mem.mp (isT_fst hT)
  have i1 := isT_iff.mp hT
  have := h.1
  exact ⟨h1.1, by omega, h1.2.2, i1.1, i1.2.1⟩
theorem mgM_tm {w : zMp} {x : Nat} (h : zOk M) (ha : isT M lo = true) (hb : isT M hi = true) (hne : lo ≠ hi) (hf : isFm M (fst M lo) (fst M hi) = true) {C : List Int} (hC : asc C) (hm : ∀ q, q ∈ C ↔ q ∈ rws M lo ∨ q ∈ rws M hi) (hx : wTpl w x (gapsL (tx M (fst M lo))) (nTl M (fst M lo)).toNat (fun k => unionS (slt M lo k) (tkl M (fst M lo) k) (slt M hi k) (tkl M (fst M hi) k)) (fun k => tkl M (fst M lo) k) C) : wTm w x (mgM M lo hi) lo := by
  have ra := isT_row h ha
  have rb := isT_row h hb
  have hl : 0 ≤ lo := ra.2.2.2.1
  have hfl := mgM_fl (lo := lo) (hi := hi) h hl ra.1 rb.1
  have hgf : gapsL (tx M (fst M lo)) = gapsL (tx M (fst M hi)) := of_decide_eq_true hf
  obtain ⟨f, hff⟩ : ∃ f : Int, f = min (fst M lo) (fst M hi) := ⟨_, rfl⟩
  have hfc : f = fst M lo ∨ f = fst M hi := by omega
  have hf0 : 0 ≤ f ∧ f < M 0 := by omega
  have hgs : gapsL (tx M f) = gapsL (tx M (fst M lo)) := by
    rcases hfc with q | q
    · rw [q]
    · rw [q]; exact hgf.symm
  have hnt : nTl M f = nTl M (fst M lo) := (gapsL_eq.mp hgs).1
  have hn20 := (h.f ra.1 ra.2.1).2.2.2.2
  unfold wTm
  rw [hfl, ← hff, mgM_tx h hl hf0.1 hf0.2, hgs, mgM_n h hl hf0.1 hf0.2, hnt, mgM_rlo h hl hne hC hm]
  refine hx.u rfl rfl (fun k hk => ?_) (fun k hk hk2 => ?_) rfl
  · exact (mgM_sl h hl (by omega) (by omega)).symm
  · have s1 := h.2.2.1 lo k hl ra.2.2.2.2 (by omega) (by omega)
    have s2 := h.2.2.1 hi k rb.2.2.2.1 rb.2.2.2.2 (by omega) (by omega)
    have h3 := (unionS_neg s1.1 s2.1).mp hk2
    show tkl M (fst M lo) (k : Int) = tkl (mgM M lo hi) f (k : Int)
    rw [mgM_tk h hl hf0.1 hf0.2]
    rcases hfc with q | q
    · rw [q]
    · rw [q]; exact h3.2.2
theorem mgM_ts {w : zMp} {x : Nat} {tf : Nat → Option Nat} (h : zOk M) (ha : isT M lo = true) (hb : isT M hi = true) (hne : lo ≠ hi) (hts : wTs w tf M) (hx : wTm w x (mgM M lo hi) lo) : wTs w (va_up (va_up tf lo.toNat (some x)) hi.toNat none) (mgM M lo hi) := by
  have ra := isT_row h ha
  have rb := isT_row h hb
  have hl : 0 ≤ lo := ra.2.2.2.1
  have fh := mgM_fh (hi := hi) h hl hne
  have hn20 := (h.f ra.1 ra.2.1).2.2.2.2
  intro t ht
  by_cases e1 : (t : Int) = hi
  · refine Or.inl ⟨?_, by simp [va_up, show t = hi.toNat by omega]⟩
    rw [e1, ← Bool.not_eq_true, isT_iff]
    omega
  · by_cases e2 : (t : Int) = lo
    · refine Or.inr ⟨?_, x, ?_, by rw [e2]; exact hx⟩
      · rw [e2, isT_iff]
        have := mgM_fl (lo := lo) (hi := hi) h hl ra.1 rb.1
        omega
      · have q1 : t = lo.toNat := by omega
        have q2 : t ≠ hi.toNat := by omega
        simp [va_up, q2, q1]
        omega
    · have hfo := mgM_fo (lo := lo) (hi := hi) h hl e2 e1
      have hiT : isT (mgM M lo hi) t = isT M t := by
        unfold isT
        rw [hfo]
      have q1 : t ≠ lo.toNat := by omega
      have q2 : t ≠ hi.toNat := by omega
      rcases hts t ht with ⟨g1, g2⟩ | ⟨g1, y, g2, g3⟩
      · exact Or.inl ⟨by rw [hiT]; exact g1, by simp [va_up, q1, q2, g2]⟩
      · refine Or.inr ⟨by rw [hiT]; exact g1, y, by simp [va_up, q1, q2, g2], ?_⟩
        have rt := isT_row h g1
        have ht20 := (h.f rt.1 rt.2.1).2.2.2.2
        unfold wTm
        rw [hfo, mgM_tx h hl rt.1 rt.2.1, mgM_n h hl rt.1 rt.2.1, mgM_rot h hl e2 e1]
        refine wTpl.u g3 rfl rfl (fun k hk => ?_) (fun k hk _ => ?_) rfl
        · exact (mgM_so h hl (by omega) (by omega) (by omega) (by omega) (Or.inl e2)).symm
        · exact (mgM_tk h hl rt.1 rt.2.1).symm
end MG

