/-! PLAIN LAWS: a line added: what the class makes of it is the row's -/
set_option maxRecDepth 100000
section ADS
variable {M : Int → Int} {t : Int}
theorem adM_tx (h : zOk M) (hr : zRaw (fun _ => M) (M 0)) (ht : 0 ≤ t) {l : Int} (l0 : 0 ≤ l) (l1 : l ≤ M 0) : tx (addM M t) l = tx M l := by
  have hm := h.1
  have hr1 : M 0 < 40 := hr.2.1
  have hlen : 1 ≤ M (2 + M 0) ∧ M (2 + M 0) ≤ 40 := ⟨hr.2.2.1, hr.2.2.2.1⟩
  by_cases q : l = M 0
  · subst q
    exact tx_congr (addM_lo ht (by omega) (by omega) (by omega)) (fun i i0 i1 => addM_lo ht (by omega) (by omega) (by omega))
  · have hfl := h.f l0 (by omega)
    exact tx_congr (addM_lo ht (by omega) (by omega) (by omega)) (fun i i0 i1 => addM_lo ht (by omega) (by omega) (by omega))
theorem addM_mem (h : zOk M) (hr : zRaw (fun _ => M) (M 0)) (ht : 0 ≤ t) {u r : Int} : r ∈ rws (addM M t) u ↔ (r ∈ rws M u) ∨ (r = M 0 ∧ t = u) := by
  have hm := h.1
  have hr1 : M 0 < 40 := hr.2.1
  rw [rws_mem, rws_mem, addM_0]
  constructor
  · rintro ⟨h0, h1, h2⟩
    by_cases q : r = M 0
    · rw [q, addM_of hm.1] at h2
      exact Or.inr ⟨q, h2⟩
    · rw [addM_lo ht (by omega) (by omega) (by omega)] at h2
      exact Or.inl ⟨h0, by omega, h2⟩
  · rintro (⟨h0, h1, h2⟩ | ⟨h0, h1⟩)
    · exact ⟨h0, by omega, by rw [addM_lo ht (by omega) (by omega) (by omega)]; exact h2⟩
    · rw [h0]
      exact ⟨hm.1, by omega, by rw [addM_of hm.1]; exact h1⟩
theorem addM_rt (h : zOk M) (hr : zRaw (fun _ => M) (M 0)) (ht : 0 ≤ t) : rws (addM M t) t = rws M t ++ [M 0] := by
  have hm := h.1
  refine asc_eq (rF_asc _ _) ?_ (fun z => ?_)
  · refine List.pairwise_append.mpr ⟨rF_asc _ _, List.pairwise_singleton _ _, fun a ha c hc => ?_⟩
    rw [List.mem_singleton] at hc
    have := rws_mem.mp ha
    omega
  · rw [addM_mem h hr ht, List.mem_append, List.mem_singleton]
    exact ⟨fun q => q.imp id And.left, fun q => q.imp id (fun z => ⟨z, rfl⟩)⟩
theorem addM_ro (h : zOk M) (hr : zRaw (fun _ => M) (M 0)) (ht : 0 ≤ t) {u : Int} (hu : u ≠ t) : rws (addM M t) u = rws M u := by
  refine asc_eq (rF_asc _ _) (rF_asc _ _) (fun z => ?_)
  rw [addM_mem h hr ht]
  exact ⟨fun q => q.resolve_right (fun z => hu z.2.symm), fun q => Or.inl q⟩
theorem addM_ts {w : zMp} {x : Nat} {tf : Nat → Option Nat} (h : zOk M) (hr : zRaw (fun _ => M) (M 0)) (ht : 0 ≤ t ∧ t ≤ 11) (hts : wTs w tf M)
    (hx : (isT M t = true ∧ isFm M (fst M t) (M 0) = true ∧ wTpl w x (gapsL (tx M (fst M t))) (nTl M (fst M t)).toNat (fun k => unionS (slt M t k) (tkl M (fst M t) k) (-1) (tok (tx M (M 0)) k)) (fun k => tkl M (fst M t) k) (rws M t ++ [M 0])) ∨ (isT M t = false ∧ wTpl w x (gapsL (tx M (M 0))) (nT (tx M (M 0))).toNat (fun _ => -1) (fun k => tok (tx M (M 0)) k) [M 0])) : wTs w (va_up tf t.toNat (some x)) (addM M t) := by
  have hm := h.1
  have hr1 : M 0 < 40 := hr.2.1
  have hrf := hr.f
  have hnl : 0 ≤ nTl M (M 0) ∧ nTl M (M 0) ≤ 20 := hrf.2.2.2.2.2
  have hm2 : 0 ≤ M 0 ∧ M 0 ≤ 40 := ⟨hm.1, hm.2.1⟩
  have hT2 : isT (addM M t) t = true := isT_mem ⟨ht.1, ht.2⟩ (r := M 0) (by rw [addM_rt h hr ht.1]; exact List.mem_append_right _ List.mem_cons_self)
  intro u hu
  by_cases e1 : (u : Int) = t
  · have q1 : u = t.toNat := by omega
    refine Or.inr ⟨by rw [e1]; exact hT2, x, by rw [va_upT, if_pos q1], ?_⟩
    rw [e1]
    unfold wTm
    rcases hx with ⟨hT, hfm, hx⟩ | ⟨hT, hx⟩
    · have rt := isT_row h hT
      have hnn := isFm_n hfm
      have hne : rws M t ≠ [] := fun q => by have := isT_fst hT; rw [q] at this; cases this
      have ef : fst (addM M t) t = fst M t := by
        rw [fst_rws, fst_rws, addM_rt h hr ht.1]
        cases q : rws M t with
        | nil => exact absurd q hne
        | cons a as => rfl
      have et := adM_tx (t := t) h hr ht.1 rt.1 (by omega)
      have en : nTl (addM M t) (fst M t) = nTl M (fst M t) := by unfold nTl; rw [et]
      rw [ef, et, en, addM_rt h hr ht.1]
      refine hx.congr rfl (fun k hk => ?_) (fun k hk => ?_) rfl
      · rw [addM_st hm2 ht.1 hT (by omega) (by omega)]
        rfl
      · unfold tkl
        rw [et]
    · have hnil : rws M t = [] := by
        cases q : rws M t with
        | nil => rfl
        | cons a as =>
          rw [isT_mem ⟨ht.1, ht.2⟩ (r := a) (by rw [q]; exact List.mem_cons_self)] at hT
          cases hT
      have er : rws (addM M t) t = [M 0] := by rw [addM_rt h hr ht.1, hnil]; rfl
      have ef : fst (addM M t) t = M 0 := by rw [fst_rws, er]; rfl
      have et := adM_tx (t := t) h hr ht.1 hm.1 (Int.le_refl _)
      have en : nTl (addM M t) (M 0) = nT (tx M (M 0)) := by unfold nTl; rw [et]
      have en2 : nTl M (M 0) = nT (tx M (M 0)) := rfl
      rw [ef, et, en, er]
      refine hx.congr rfl (fun k hk => ?_) (fun k hk => ?_) rfl
      · rw [addM_sf hm2 ht.1 hT (by omega) (by omega)]
      · unfold tkl
        rw [et]
  · have q2 : u ≠ t.toNat := by omega
    have hrr := addM_ro (u := (u : Int)) h hr ht.1 e1
    have hfo : fst (addM M t) u = fst M u := by rw [fst_rws, fst_rws, hrr]
    have hiT : isT (addM M t) u = isT M u := by
      unfold isT
      rw [hfo]
    rcases hts u hu with ⟨p1, p2⟩ | ⟨p1, z, p2, p3⟩
    · exact Or.inl ⟨by rw [hiT]; exact p1, by rw [va_upT, if_neg q2]; exact p2⟩
    · refine Or.inr ⟨by rw [hiT]; exact p1, z, by rw [va_upT, if_neg q2]; exact p2, ?_⟩
      have ru := isT_row h p1
      have n5 := nT_range (tx M (fst M u))
      have hfu := h.f ru.1 ru.2.1
      have et := adM_tx (t := t) h hr ht.1 ru.1 (by omega)
      unfold wTm
      have en : nTl (addM M t) (fst M u) = nTl M (fst M u) := by unfold nTl; rw [et]
      rw [hfo, et, en, hrr]
      refine p3.congr rfl (fun j hj => ?_) (fun j hj => ?_) rfl
      · exact (addM_so hm2 ht.1 (by omega) hnl.2 (by omega) (by omega) (Or.inl e1)).symm
      · unfold tkl
        rw [et]
theorem addM_ln {w : zMp} {ls : List Nat} {y : Nat} (h : zOk M) (hr : zRaw (fun _ => M) (M 0)) (ht : 0 ≤ t) (hl : wLines w ls (M 0).toNat (tx M)) (hy : wLine w y (tx M (M 0))) : wLines w (ls ++ [y]) (addM M t 0).toNat (tx (addM M t)) := by
  have hm := h.1
  have h1 := hl.snoc (a := y) (by rw [show (((M 0).toNat : Nat) : Int) = M 0 by omega]; exact hy)
  rw [addM_0, show (M 0 + 1).toNat = (M 0).toNat + 1 by omega]
  refine ⟨h1.1, fun i hi => ?_⟩
  obtain ⟨a, h2, h3⟩ := h1.2 i hi
  exact ⟨a, h2, by rw [adM_tx h hr ht (by omega) (by omega)]; exact h3⟩
end ADS
section EQV
variable {w m : zMp} {D : zD} {K : Nat → Prop} {M M2 : Int → Int}
theorem wLines.eqv {ls : List Nat} (h : wLines w ls (M 0).toNat (tx M)) (e : zEqv M M2) : wLines w ls (M2 0).toNat (tx M2) := by
  rw [e.1]
  refine ⟨h.1, fun i hi => ?_⟩
  obtain ⟨a, h1, h2⟩ := h.2 i hi
  exact ⟨a, h1, by rw [e.eX (by omega) (by omega)]; exact h2⟩
theorem wTs.eqv {tf : Nat → Option Nat} (h : wTs w tf M) (hok : zOk M) (e : zEqv M M2) : wTs w tf M2 := fun t ht => by
  rcases h t ht with ⟨p1, p2⟩ | ⟨p1, z, p2, p3⟩
  · exact Or.inl ⟨by rw [e.eT]; exact p1, p2⟩
  · refine Or.inr ⟨by rw [e.eT]; exact p1, z, p2, ?_⟩
    have rt := isT_row hok p1
    unfold wTm
    have en : nTl M2 (fst M t) = nTl M (fst M t) := by unfold nTl; rw [e.eX rt.1 rt.2.1]
    rw [e.eF, e.eX rt.1 rt.2.1, en, e.eR]
    refine p3.congr rfl (fun k hk => ?_) (fun k hk => ?_) rfl
    · exact (e.2.2.2 _ (by omega)).symm
    · unfold tkl
      rw [e.eX rt.1 rt.2.1]
theorem kLog.eqv {a : Nat} (h : kLog D w m K a M) (e : zEqv M M2) : kLog D w m K a M2 := by
  obtain ⟨h0, ll, ta, col, tc, mc, ls, tf, h1, h2, h3, h4, h5, h6⟩ := h
  exact ⟨e.ok h0, ll, ta, col, tc, mc, ls, tf, by rw [e.2.1]; exact h1, h2, h3.eqv e, h4, h5.eqv h0 e, h6⟩
end EQV
/-- a text that may be a line -/
def ltB (s : zS) : Bool := addOk (fun i => cT s i) (s.length : Int) s.length
theorem ltB_iff {s : zS} : ltB s = true ↔ lnS s := by
  unfold ltB
  have h := addOk_iff (B := fun i => cT s i) (n := (s.length : Int))
  rw [Int.toNat_natCast] at h
  rw [h]
  constructor
  · rintro ⟨h1, h2, h3⟩
    refine ⟨by omega, by omega, fun c hc => ?_⟩
    obtain ⟨i, hi⟩ := List.getElem?_of_mem hc
    have hil : i < s.length := (List.getElem?_eq_some_iff.mp hi).1
    have e : cT s (i : Int) = c := by unfold cT; rw [Int.toNat_natCast, List.getD_eq_getElem?_getD, hi]; rfl
    rw [← e]
    exact h3 i (by omega) (by omega)
  · rintro ⟨h1, h2, h3⟩
    exact ⟨by omega, by omega, fun i i0 i1 => h3 _ (cT_mem i0 i1)⟩
/-- the row with a text behind its lines -/
def rwS (M : Int → Int) (s : zS) : Int → Int := rwM M (fun i => cT s i) s.length
theorem rwS_tx {M : Int → Int} {s : zS} (h0 : 0 ≤ M 0) : tx (rwS M s) (M 0) = s := by
  have e : rwS M s (2 + M 0) = s.length := if_pos rfl
  unfold tx
  rw [e, Int.toNat_natCast]
  refine List.ext_getElem? (fun i => ?_)
  rw [List.getElem?_map]
  by_cases q : i < s.length
  · rw [List.getElem?_range q]
    have e2 : rwS M s (84 + 40 * M 0 + (i : Int)) = cT s i := by
      unfold rwS rwM
      rw [if_neg (by omega), if_pos (by omega)]
      show cT s _ = _
      congr 1
      omega
    have e3 : s[i]? = some (cT s i) := cT_get (i := (i : Int)) (by omega) (by omega)
    rw [Option.map_some, e2, e3]
  · rw [List.getElem?_eq_none (by rw [List.length_range]; omega), List.getElem?_eq_none (by omega)]
    rfl
theorem rwS_raw {M : Int → Int} {s : zS} (h0 : 0 ≤ M 0) (h1 : M 0 < 40) (hs : lnS s) : zRaw (fun _ => rwS M s) (M 0) := by
  refine rwM_raw h0 h1 ?_
  have h := (addOk_iff (B := fun i => cT s i) (n := (s.length : Int))).mp (by rw [Int.toNat_natCast]; exact ltB_iff.mpr hs)
  exact h
theorem rwS_e {M : Int → Int} {s : zS} (g : zOk M) (h0 : M 0 < 40) (hs : lnS s) : zEqv M (rwS M s) := rwM_e g h0 (by have := hs.2.1; omega)

