/-! THE CLASS: Line -/
set_option maxRecDepth 100000
/-! where tokens stand -/
def okL (T : zS) : Int → List (Int × Int) → Prop
  | a, [] => ∀ j : Int, a ≤ j → j < T.length → cT T j = 32
  | a, q :: L => (a ≤ q.1 ∧ q.1 < q.2 ∧ q.2 ≤ (T.length : Int)) ∧ (∀ j : Int, a ≤ j → j < q.1 → cT T j = 32) ∧ (∀ j : Int, q.1 ≤ j → j < q.2 → cT T j ≠ 32) ∧ (q.2 = (T.length : Int) ∨ cT T q.2 = 32) ∧ okL T q.2 L
theorem okL_ext {T : zS} {i : Int} {L : List (Int × Int)} (h : okL T (i + 1) L) (hc : cT T i = 32) : okL T i L := by
  cases L with
  | nil =>
    intro j h0 h1
    by_cases e : j = i
    · rw [e]; exact hc
    · exact h j (by omega) h1
  | cons q L =>
    obtain ⟨h1, h2, h3⟩ := h
    refine ⟨⟨by omega, h1.2⟩, fun j h0 h4 => ?_, h3⟩
    by_cases e : j = i
    · rw [e]; exact hc
    · exact h2 j (by omega) h4
theorem tkGo_okL (T : zS) : ∀ (s : zS) (i : Int), 0 ≤ i → T.drop i.toNat = s → i + s.length = (T.length : Int) → okL T i (tkGo i s none) ∧ ∀ b : Int, b < i → (∀ j : Int, b ≤ j → j < i → cT T j ≠ 32) → ∀ a : Int, a ≤ b → (∀ j : Int, a ≤ j → j < b → cT T j = 32) → okL T a (tkGo i s (some b)) := by
  intro s
  induction s with
  | nil =>
    intro i h0 hd hl
    have hl : i = (T.length : Int) := by simpa using hl
    refine ⟨fun j h1 h2 => absurd h1 (by omega), fun b hb hn a hab hs => ?_⟩
    exact ⟨⟨hab, hb, by omega⟩, hs, hn, Or.inl hl, fun j h1 h2 => absurd h1 (by show ¬ i ≤ j; omega)⟩
  | cons c s ih =>
    intro i h0 hd hl
    have hc : cT T i = c := cT_at hd h0
    have hd2 : T.drop (i + 1).toNat = s := by
      have : (i + 1).toNat = i.toNat + 1 := by omega
      rw [this, ← List.drop_drop, hd]
      rfl
    have hl2 : i + 1 + s.length = (T.length : Int) := by
      rw [List.length_cons] at hl
      push_cast at hl
      omega
    obtain ⟨h1, h2⟩ := ih (i + 1) (by omega) hd2 hl2
    refine ⟨?_, fun b hb hn a hab hs => ?_⟩
    · show okL T i (if c = 32 then tkGo (i + 1) s none else tkGo (i + 1) s (some i))
      split
      · rename_i e
        exact okL_ext h1 (by rw [hc]; exact e)
      · rename_i e
        exact h2 i (by omega) (fun j k1 k2 => by rw [show j = i by omega, hc]; exact e) i (Int.le_refl _) (fun j k1 k2 => absurd k1 (by omega))
    · show okL T a (if c = 32 then (b, i) :: tkGo (i + 1) s none else tkGo (i + 1) s (some b))
      split
      · rename_i e
        exact ⟨⟨hab, hb, by show i ≤ _; omega⟩, hs, hn, Or.inr (by show cT T i = 32; rw [hc]; exact e), okL_ext h1 (by rw [hc]; exact e)⟩
      · rename_i e
        refine h2 b (by omega) (fun j k1 k2 => ?_) a hab hs
        by_cases e2 : j = i
        · rw [e2, hc]; exact e
        · exact hn j k1 (by omega)
theorem okL_drop {T : zS} : ∀ (k : Nat) (L : List (Int × Int)) (a : Int), okL T a L → k ≤ L.length → okL T (if k = 0 then a else (L.getD (k - 1) (0, 0)).2) (L.drop k) := by
  intro k
  induction k with
  | zero => intro L a h _; exact h
  | succ k ih =>
    intro L a h hk
    cases L with
    | nil => exact absurd hk (Nat.not_succ_le_zero k)
    | cons q L =>
      have h2 := ih L q.2 h.2.2.2.2 (Nat.le_of_succ_le_succ hk)
      rw [if_neg (by omega)]
      show okL T ((q :: L).getD k (0, 0)).2 (L.drop k)
      by_cases e : k = 0
      · subst e
        exact h2
      · rw [if_neg e] at h2
        have : (q :: L).getD k (0, 0) = L.getD (k - 1) (0, 0) := by
          obtain ⟨u, rfl⟩ : ∃ u, k = u + 1 := ⟨k - 1, by omega⟩
          rfl
        rw [this]
        exact h2
/-- behind a token; before a token -/
def pE (s : zS) (k : Int) : Int := if k = 0 then 0 else eT s (k - 1)
def nE (s : zS) (k : Int) : Int := if k = nT s then (s.length : Int) else fT s k
theorem gp_eq (s : zS) (k : Int) : gp s k = nE s k - pE s k := rfl
theorem tk_okL {s : zS} {k : Int} (h0 : 0 ≤ k) (h1 : k ≤ nT s) : okL s (pE s k) ((tkp s).drop k.toNat) := by
  have h := okL_drop k.toNat (tkp s) 0 ((tkGo_okL s s 0 (Int.le_refl 0) rfl (by simp)).1) (by unfold nT at h1; omega)
  unfold pE
  by_cases e : k = 0
  · rw [if_pos e]
    rw [if_pos (by omega)] at h
    exact h
  · rw [if_neg e]
    rw [if_neg (by omega)] at h
    have e2 : eT s (k - 1) = ((tkp s).getD (k.toNat - 1) (0, 0)).2 := by
      unfold eT
      rw [show (k - 1).toNat = k.toNat - 1 by omega]
    rw [e2]
    exact h
theorem tk_cons {s : zS} {k : Int} (h0 : 0 ≤ k) (h1 : k < nT s) : ∃ L, (tkp s).drop k.toNat = (fT s k, eT s k) :: L := by
  have hl : k.toNat < (tkp s).length := by unfold nT at h1; omega
  have h := tk_get h0 h1
  rw [List.getElem?_eq_getElem hl] at h
  exact ⟨_, by rw [List.drop_eq_getElem_cons hl, Option.some.inj h]⟩
/-- a gap -/
theorem tk_gap {s : zS} {k : Int} (h0 : 0 ≤ k) (h1 : k ≤ nT s) : (0 ≤ pE s k ∧ pE s k ≤ nE s k ∧ nE s k ≤ s.length) ∧ (∀ j : Int, pE s k ≤ j → j < nE s k → cT s j = 32) ∧ (k = nT s ∨ (nE s k < s.length ∧ cT s (nE s k) ≠ 32)) := by
  have h := tk_okL h0 h1
  have hp : 0 ≤ pE s k ∧ pE s k ≤ s.length := by
    unfold pE
    split
    · exact ⟨Int.le_refl _, by omega⟩
    · have := tk_ok (s := s) (k := k - 1) (by omega) (by omega)
      exact ⟨by omega, by omega⟩
  by_cases e : k = nT s
  · have hd : (tkp s).drop k.toNat = [] := List.drop_eq_nil_of_le (by rw [e]; unfold nT; omega)
    rw [hd] at h
    have hn : nE s k = s.length := if_pos e
    rw [hn]
    exact ⟨⟨hp.1, hp.2, Int.le_refl _⟩, h, Or.inl e⟩
  · obtain ⟨L, hL⟩ := tk_cons h0 (show k < nT s by omega)
    rw [hL] at h
    obtain ⟨g1, g2, g3, g4, g5⟩ := h
    have hn : nE s k = fT s k := if_neg e
    rw [hn]
    simp only at g1 g2 g3 g4
    exact ⟨⟨hp.1, g1.1, by omega⟩, g2, Or.inr ⟨by omega, g3 _ (Int.le_refl _) g1.2.1⟩⟩
/-- a token -/
theorem tk_in {s : zS} {k : Int} (h0 : 0 ≤ k) (h1 : k < nT s) : (∀ j : Int, fT s k ≤ j → j < eT s k → cT s j ≠ 32) ∧ (eT s k = s.length ∨ cT s (eT s k) = 32) := by
  have h := tk_okL h0 (Int.le_of_lt h1)
  obtain ⟨L, hL⟩ := tk_cons h0 h1
  rw [hL] at h
  obtain ⟨g1, g2, g3, g4, g5⟩ := h
  exact ⟨g3, g4⟩
/-- a text that a line may have -/
def lnS (s : zS) : Prop := 1 ≤ s.length ∧ s.length ≤ 40 ∧ ∀ c ∈ s, 32 ≤ c ∧ c ≤ 126
theorem lnS.ch {s : zS} (h : lnS s) : zCh s := ⟨by have := h.2.1; omega, fun c hc => by have := h.2.2 c hc; omega⟩
theorem lnS.tk {s : zS} (h : lnS s) {k : Int} (h0 : 0 ≤ k) (h1 : k < nT s) : tkS (tok s k) := by
  have hl := tok_len h0 h1
  have hk := tk_ok h0 h1
  have hw : wT s k = eT s k - fT s k := rfl
  refine ⟨⟨by have := h.2.1; omega, fun c hc => ?_⟩, by omega, by have := h.2.1; omega⟩
  exact h.ch.2 c (List.mem_of_mem_drop (List.mem_of_mem_take hc))
theorem zElO_I (k : Int) : zElO (eI k) = true := by
  show zAsg ciJ18 "java/lang/Object" = true
  decide +kernel
theorem zElO_6 (fs : List Value) : zElO (eO ciX6 fs) = true := by
  show zAsg ciX6 "java/lang/Object" = true
  decide +kernel
theorem zElO_5 (fs : List Value) : zElO (eO ciX5 fs) = true := by
  show zAsg ciX5 "java/lang/Object" = true
  decide +kernel
theorem zElO_8 (fs : List Value) : zElO (eO ciX8 fs) = true := by
  show zAsg ciX8 "java/lang/Object" = true
  decide +kernel
theorem zElO_2 (fs : List Value) : zElO (eO ciX2 fs) = true := by
  show zAsg ciX2 "java/lang/Object" = true
  decide +kernel
theorem gapsL_at {s : zS} {g : Nat} (h : (g : Int) ≤ nT s) : (gapsL s)[g]? = some (gp s g) := by
  unfold gapsL
  rw [List.getElem?_map, List.getElem?_range (by omega)]
  rfl
theorem gapsL_len (s : zS) : ((gapsL s).length : Int) = nT s + 1 := by
  unfold gapsL
  rw [List.length_map, List.length_range]
  have := nT_range s
  omega
/-- some tokens of a line -/
def wToks (w : zMp) (ts : List Nat) (s : zS) (n : Nat) : Prop := ts.length = n ∧ ∀ k : Nat, k < n → ∃ a, ts[k]? = some a ∧ wTok w a (tok s k)
theorem wToks.le {w w2 : zMp} {ts : List Nat} {s : zS} {n : Nat} (h : wToks w ts s n) (hl : zLe w w2) : wToks w2 ts s n := ⟨h.1, fun k hk => by
  obtain ⟨a, h1, h2⟩ := h.2 k hk
  exact ⟨a, h1, h2.le hl⟩⟩
theorem wToks.snoc {w : zMp} {ts : List Nat} {s : zS} {n a : Nat} (h : wToks w ts s n) (ha : wTok w a (tok s n)) : wToks w (ts ++ [a]) s (n + 1) := by
  refine ⟨by rw [List.length_append, h.1]; rfl, fun k hk => ?_⟩
  by_cases e : k = n
  · subst e
    exact ⟨a, by rw [List.getElem?_append_right (by rw [h.1]; exact Nat.le_refl _), h.1, Nat.sub_self]; rfl, ha⟩
  · obtain ⟨x, h1, h2⟩ := h.2 k (by omega)
    exact ⟨x, by rw [List.getElem?_append_left (by rw [h.1]; omega)]; exact h1, h2⟩
theorem zInts.snoc {w : zMp} {xs : List Nat} {ks : List Int} {a : Nat} {k : Int} (h : zInts w xs ks) (ha : w a = some (eI k)) (hz : zR k) : zInts w (xs ++ [a]) (ks ++ [k]) := by
  refine ⟨by rw [List.length_append, List.length_append, h.1]; rfl, fun i z hi => ?_⟩
  by_cases e : i = ks.length
  · subst e
    rw [List.getElem?_append_right (Nat.le_refl _), Nat.sub_self] at hi
    cases hi
    exact ⟨hz, a, by rw [List.getElem?_append_right (by rw [h.1]; exact Nat.le_refl _), h.1, Nat.sub_self]; rfl, ha⟩
  · have hl := (List.getElem?_eq_some_iff.mp hi).1
    rw [List.length_append] at hl
    have hl : i < ks.length + 1 := hl
    rw [List.getElem?_append_left (by omega)] at hi
    obtain ⟨g1, x, g2, g3⟩ := h.2 i z hi
    exact ⟨g1, x, by rw [List.getElem?_append_left (by rw [h.1]; omega)]; exact g2, g3⟩
theorem zInts.nil (w : zMp) : zInts w [] [] := ⟨rfl, fun i k h => by cases h⟩
/-- a line of text s -/
def wLine (w : zMp) (a : Nat) (s : zS) : Prop := lnS s ∧ ∃ (t tl gl : Nat) (mc mc2 : Int) (ts gs : List Nat), w a = some (eO ciX5 [.ref t, .ref tl, .ref gl]) ∧ w t = some (eS s) ∧ w tl = some (eL mc ts) ∧ wToks w ts s (nT s).toNat ∧ w gl = some (eL mc2 gs) ∧ zInts w gs (gapsL s)
theorem wLine.le {w w2 : zMp} {a : Nat} {s : zS} (h : wLine w a s) (hl : zLe w w2) : wLine w2 a s := by
  obtain ⟨h0, t, tl, gl, mc, mc2, ts, gs, h1, h2, h3, h4, h5, h6⟩ := h
  exact ⟨h0, t, tl, gl, mc, mc2, ts, gs, hl _ _ h1, hl _ _ h2, hl _ _ h3, h4.le hl, hl _ _ h5, h6.le hl⟩
/-- the gaps up to the k-th -/
def gpN (s : zS) (k : Nat) : List Int := (List.range k).map (fun g : Nat => gp s (g : Int))
theorem gpN_succ (s : zS) (k : Nat) : gpN s (k + 1) = gpN s k ++ [gp s (k : Int)] := by
  unfold gpN
  rw [List.range_succ, List.map_append]
  rfl
theorem gpN_len (s : zS) (k : Nat) : (gpN s k).length = k := by
  unfold gpN
  rw [List.length_map, List.length_range]
abbrev rmX5_length : Room := { frames := 2, cells := 0, slots := 0, locals := 40 }
set_option maxHeartbeats 4000000 in
theorem c_X5_length (D : zD) (A : Nat → Prop) {w m : zMp} {b : Nat} {s : zS} (hb : wLine w b s) : zC D yX5_length cX5_length 1 (some .int) none rmX5_length A [.ref b] (cI D A w m) (zPd (zI s.length) (cI D A w m)) (zNo) := by
  refine zC_start (L := [some (.ref b)]) (by decide) (Nat.le_of_ble_eq_true rfl) rfl (fun X hX => ?_)
  obtain ⟨hs, t, tl, gl, mc, mc2, ts, gs, h1, h2, h3, h4, h5, h6⟩ := hb
  refine z_aload_n (i := 0) (q := 1) hX dX5_length_0 rfl rfl rfl ?_
  refine zr_get (C := RX5) (T := TX5) (N := 3) (q := 4) hX ciX5 0 rfl (by decide) in_X5 dX5_length_1 q1396 (Or.inl rfl) (fun H h => cI.rd h (by first | assumption | exact Or.inl (by assumption) | exact Or.inr (by first | assumption | exact upm_same _ _ _ | exact (upm_ne _ _ (by first | assumption | exact Ne.symm (by assumption) | omega | exact ne_mp (m := m) (by assumption) (by assumption) | exact Ne.symm (ne_mp (m := m) (by assumption) (by assumption)) | exact ne_mp (m := w) (by assumption) (by assumption) | exact Ne.symm (ne_mp (m := w) (by assumption) (by assumption)))).trans (by first | assumption | exact upm_same _ _ _ | exact (upm_ne _ _ (by first | assumption | exact Ne.symm (by assumption) | omega | exact ne_mp (m := m) (by assumption) (by assumption) | exact Ne.symm (ne_mp (m := m) (by assumption) (by assumption)) | exact ne_mp (m := w) (by assumption) (by assumption) | exact Ne.symm (ne_mp (m := w) (by assumption) (by assumption)))).trans (by first | assumption | exact upm_same _ _ _ | exact (upm_ne _ _ (by first | assumption | exact Ne.symm (by assumption) | omega | exact ne_mp (m := m) (by assumption) (by assumption) | exact Ne.symm (ne_mp (m := m) (by assumption) (by assumption)) | exact ne_mp (m := w) (by assumption) (by assumption) | exact Ne.symm (ne_mp (m := w) (by assumption) (by assumption)))).trans (by first | assumption | exact upm_same _ _ _))))) rfl (by decide) rfl) rfl ?_
  refine z_V (ci := ciJ13) (T := TJ13) (N := 4) (na := 0) hX dX5_length_4 (c_J13_length D A (by first | assumption | exact Or.inl (by assumption) | exact Or.inr (by first | assumption | exact upm_same _ _ _ | exact (upm_ne _ _ (by first | assumption | exact Ne.symm (by assumption) | omega | exact ne_mp (m := m) (by assumption) (by assumption) | exact Ne.symm (ne_mp (m := m) (by assumption) (by assumption)) | exact ne_mp (m := w) (by assumption) (by assumption) | exact Ne.symm (ne_mp (m := w) (by assumption) (by assumption)))).trans (by first | assumption | exact upm_same _ _ _ | exact (upm_ne _ _ (by first | assumption | exact Ne.symm (by assumption) | omega | exact ne_mp (m := m) (by assumption) (by assumption) | exact Ne.symm (ne_mp (m := m) (by assumption) (by assumption)) | exact ne_mp (m := w) (by assumption) (by assumption) | exact Ne.symm (ne_mp (m := w) (by assumption) (by assumption)))).trans (by first | assumption | exact upm_same _ _ _ | exact (upm_ne _ _ (by first | assumption | exact Ne.symm (by assumption) | omega | exact ne_mp (m := m) (by assumption) (by assumption) | exact Ne.symm (ne_mp (m := m) (by assumption) (by assumption)) | exact ne_mp (m := w) (by assumption) (by assumption) | exact Ne.symm (ne_mp (m := w) (by assumption) (by assumption)))).trans (by first | assumption | exact upm_same _ _ _)))))) rfl q1335 q538 q539 q116 q540 (by decide +kernel) ⟨Nat.le_of_ble_eq_true rfl, Nat.le_of_ble_eq_true rfl⟩ rfl rfl (Nat.le_of_ble_eq_true rfl) rfl (by first | exact Nat.le_of_ble_eq_true rfl | (show _ + 0 ≤ 0; omega)) (by first | exact Nat.le_of_ble_eq_true rfl | (show _ + 0 ≤ 0; omega)) (fun H h => ⟨h, cI.obE h (by first | assumption | exact Or.inl (by assumption) | exact Or.inr (by first | assumption | exact upm_same _ _ _ | exact (upm_ne _ _ (by first | assumption | exact Ne.symm (by assumption) | omega | exact ne_mp (m := m) (by assumption) (by assumption) | exact Ne.symm (ne_mp (m := m) (by assumption) (by assumption)) | exact ne_mp (m := w) (by assumption) (by assumption) | exact Ne.symm (ne_mp (m := w) (by assumption) (by assumption)))).trans (by first | assumption | exact upm_same _ _ _ | exact (upm_ne _ _ (by first | assumption | exact Ne.symm (by assumption) | omega | exact ne_mp (m := m) (by assumption) (by assumption) | exact Ne.symm (ne_mp (m := m) (by assumption) (by assumption)) | exact ne_mp (m := w) (by assumption) (by assumption) | exact Ne.symm (ne_mp (m := w) (by assumption) (by assumption)))).trans (by first | assumption | exact upm_same _ _ _ | exact (upm_ne _ _ (by first | assumption | exact Ne.symm (by assumption) | omega | exact ne_mp (m := m) (by assumption) (by assumption) | exact Ne.symm (ne_mp (m := m) (by assumption) (by assumption)) | exact ne_mp (m := w) (by assumption) (by assumption) | exact Ne.symm (ne_mp (m := w) (by assumption) (by assumption)))).trans (by first | assumption | exact upm_same _ _ _))))) rfl⟩) (fun E a => zT.no) (zPd.out ?_)
  show zG X (_ + 0) (_ + 0) _ 7 _ _
  exact z_iret hX dX5_length_7 (by first | exact Nat.le_of_ble_eq_true rfl | (show (_ : Nat) ≤ 0; omega)) (by first | exact Nat.le_of_ble_eq_true rfl | (show (_ : Nat) ≤ 0; omega)) rfl (fun H h => ⟨rfl, h⟩)
abbrev rmX5_hasToken : Room := { frames := 3, cells := 0, slots := 0, locals := 64 }
set_option maxHeartbeats 4000000 in
theorem c_X5_hasToken (D : zD) (A : Nat → Prop) {w m : zMp} {b : Nat} {s u : zS} {y : Nat} (hb : wLine w b s) (hy : w y = some (eS u)) : zC D yX5_hasToken cX5_hasToken 4 (some .boolean) none rmX5_hasToken A [.ref b, .ref y] (cI D A w m) (zPd (zI (bi (anyI (fun k => decide (tok s k = u)) (nT s).toNat))) (cI D A w m)) (zNo) := by
  refine zC_start (L := [some (.ref b), some (.ref y), none, none]) (by decide) (Nat.le_of_ble_eq_true rfl) rfl (fun X hX => ?_)
  obtain ⟨hs, t, tl, gl, mc, mc2, ts, gs, h1, h2, h3, h4, h5, h6⟩ := hb
  have hnT := nT_range s
  have hl := hs.2.1
  have K : ∀ n : Nat, n ≤ (nT s).toNat → ∀ (v : Bool) (p : Int), v = anyI (fun k => decide (tok s k = u)) n → p = n → zG X 0 0 (cI D A w m) 4 [some (.ref b), some (.ref (y)), some (zI (bi (v))), some (zI (p))] [] := by
    refine z_up (fun n hn ih v p ev ep => ?_)
    subst ep
    refine z_iload_n (i := 3) (q := 5) hX dX5_hasToken_4 rfl rfl rfl ?_
    refine z_aload_n (i := 0) (q := 6) hX dX5_hasToken_5 rfl rfl rfl ?_
    refine zr_get (C := RX5) (T := TX5) (N := 3) (q := 9) hX ciX5 1 rfl (by decide) in_X5 dX5_hasToken_6 q1397 (Or.inl rfl) (fun H h => cI.rd h (by first | assumption | exact Or.inl (by assumption) | exact Or.inr (by first | assumption | exact upm_same _ _ _ | exact (upm_ne _ _ (by first | assumption | exact Ne.symm (by assumption) | omega | exact ne_mp (m := m) (by assumption) (by assumption) | exact Ne.symm (ne_mp (m := m) (by assumption) (by assumption)) | exact ne_mp (m := w) (by assumption) (by assumption) | exact Ne.symm (ne_mp (m := w) (by assumption) (by assumption)))).trans (by first | assumption | exact upm_same _ _ _ | exact (upm_ne _ _ (by first | assumption | exact Ne.symm (by assumption) | omega | exact ne_mp (m := m) (by assumption) (by assumption) | exact Ne.symm (ne_mp (m := m) (by assumption) (by assumption)) | exact ne_mp (m := w) (by assumption) (by assumption) | exact Ne.symm (ne_mp (m := w) (by assumption) (by assumption)))).trans (by first | assumption | exact upm_same _ _ _ | exact (upm_ne _ _ (by first | assumption | exact Ne.symm (by assumption) | omega | exact ne_mp (m := m) (by assumption) (by assumption) | exact Ne.symm (ne_mp (m := m) (by assumption) (by assumption)) | exact ne_mp (m := w) (by assumption) (by assumption) | exact Ne.symm (ne_mp (m := w) (by assumption) (by assumption)))).trans (by first | assumption | exact upm_same _ _ _))))) rfl (by decide) rfl) rfl ?_
    refine z_V (ci := ciJ2) (T := TJ2) (N := 3) (na := 0) hX dX5_hasToken_9 (c_J2_size D A (Or.inl h3)) rfl q1264 q467 q468 q101 q469 (by decide +kernel) ⟨Nat.le_of_ble_eq_true rfl, Nat.le_of_ble_eq_true rfl⟩ rfl rfl (Nat.le_of_ble_eq_true rfl) rfl (by first | exact Nat.le_of_ble_eq_true rfl | (show _ + 0 ≤ 0; omega)) (by first | exact Nat.le_of_ble_eq_true rfl | (show _ + 0 ≤ 0; omega)) (fun H h => ⟨h, h.obL (Or.inl h3)⟩) (fun E a => zT.no) (zPd.out ?_)
    show zG X (_ + 0) (_ + 0) _ 12 _ _
    refine z_icmp_ge (q := 15) (t := 42) hX dX5_hasToken_12 (by decide) ⟨by omega, by omega⟩ ⟨by have := h4.1; omega, by have := h4.1; omega⟩ rfl (fun h12 => ?_) (fun h12 => ?_)
    · refine z_iload_n (i := 2) (q := 43) hX dX5_hasToken_42 rfl rfl rfl ?_
      exact z_zretB hX dX5_hasToken_43 (by first | exact Nat.le_of_ble_eq_true rfl | (show (_ : Nat) ≤ 0; omega)) (by first | exact Nat.le_of_ble_eq_true rfl | (show (_ : Nat) ≤ 0; omega)) rfl (fun H h => ⟨congrArg (fun z => some (zI z)) ((by have := h4.1; rw [ev, show n = (nT s).toNat by omega])), h⟩)
    · have hlt : n < (nT s).toNat := by have := h4.1; omega
      obtain ⟨a, g1, g2, t2, g3, g4⟩ := h4.2 n hlt
      refine z_iload_n (i := 2) (q := 16) hX dX5_hasToken_15 rfl rfl rfl ?_
      refine z_aload_n (i := 0) (q := 17) hX dX5_hasToken_16 rfl rfl rfl ?_
      refine zr_get (C := RX5) (T := TX5) (N := 3) (q := 20) hX ciX5 1 rfl (by decide) in_X5 dX5_hasToken_17 q1397 (Or.inl rfl) (fun H h => cI.rd h (by first | assumption | exact Or.inl (by assumption) | exact Or.inr (by first | assumption | exact upm_same _ _ _ | exact (upm_ne _ _ (by first | assumption | exact Ne.symm (by assumption) | omega | exact ne_mp (m := m) (by assumption) (by assumption) | exact Ne.symm (ne_mp (m := m) (by assumption) (by assumption)) | exact ne_mp (m := w) (by assumption) (by assumption) | exact Ne.symm (ne_mp (m := w) (by assumption) (by assumption)))).trans (by first | assumption | exact upm_same _ _ _ | exact (upm_ne _ _ (by first | assumption | exact Ne.symm (by assumption) | omega | exact ne_mp (m := m) (by assumption) (by assumption) | exact Ne.symm (ne_mp (m := m) (by assumption) (by assumption)) | exact ne_mp (m := w) (by assumption) (by assumption) | exact Ne.symm (ne_mp (m := w) (by assumption) (by assumption)))).trans (by first | assumption | exact upm_same _ _ _ | exact (upm_ne _ _ (by first | assumption | exact Ne.symm (by assumption) | omega | exact ne_mp (m := m) (by assumption) (by assumption) | exact Ne.symm (ne_mp (m := m) (by assumption) (by assumption)) | exact ne_mp (m := w) (by assumption) (by assumption) | exact Ne.symm (ne_mp (m := w) (by assumption) (by assumption)))).trans (by first | assumption | exact upm_same _ _ _))))) rfl (by decide) rfl) rfl ?_
      refine z_iload_n (i := 3) (q := 21) hX dX5_hasToken_20 rfl rfl rfl ?_
      refine z_V (ci := ciJ2) (T := TJ2) (N := 3) (na := 1) hX dX5_hasToken_21 (c_J2_get D A (Or.inl h3) (by omega) (by rw [Int.toNat_natCast]; exact g1) (by have := h4.1; omega)) rfl q1265 q471 q472 q101 q473 (by decide +kernel) ⟨Nat.le_of_ble_eq_true rfl, Nat.le_of_ble_eq_true rfl⟩ rfl rfl (Nat.le_of_ble_eq_true rfl) rfl (by first | exact Nat.le_of_ble_eq_true rfl | (show _ + 0 ≤ 0; omega)) (by first | exact Nat.le_of_ble_eq_true rfl | (show _ + 0 ≤ 0; omega)) (fun H h => ⟨h, h.obL (Or.inl h3)⟩) (fun E a => zT.no) (zPd.out ?_)
      show zG X (_ + 0) (_ + 0) _ 24 _ _
      refine zr_cast (q := 27) (C := RX6) (T := TX6) (N := 2) hX ciX6 rfl dX5_hasToken_24 q1266 (fun H h => cI.obE h (by first | assumption | exact Or.inl (by assumption) | exact Or.inr (by first | assumption | exact upm_same _ _ _ | exact (upm_ne _ _ (by first | assumption | exact Ne.symm (by assumption) | omega | exact ne_mp (m := m) (by assumption) (by assumption) | exact Ne.symm (ne_mp (m := m) (by assumption) (by assumption)) | exact ne_mp (m := w) (by assumption) (by assumption) | exact Ne.symm (ne_mp (m := w) (by assumption) (by assumption)))).trans (by first | assumption | exact upm_same _ _ _ | exact (upm_ne _ _ (by first | assumption | exact Ne.symm (by assumption) | omega | exact ne_mp (m := m) (by assumption) (by assumption) | exact Ne.symm (ne_mp (m := m) (by assumption) (by assumption)) | exact ne_mp (m := w) (by assumption) (by assumption) | exact Ne.symm (ne_mp (m := w) (by assumption) (by assumption)))).trans (by first | assumption | exact upm_same _ _ _ | exact (upm_ne _ _ (by first | assumption | exact Ne.symm (by assumption) | omega | exact ne_mp (m := m) (by assumption) (by assumption) | exact Ne.symm (ne_mp (m := m) (by assumption) (by assumption)) | exact ne_mp (m := w) (by assumption) (by assumption) | exact Ne.symm (ne_mp (m := w) (by assumption) (by assumption)))).trans (by first | assumption | exact upm_same _ _ _))))) rfl) rfl ?_
      refine zr_getN (C := RX6) (T := TX6) (N := 2) (q := 30) hX ciX6 0 rfl (by decide) in_X6 dX5_hasToken_27 (zNF_at 22 rfl) (fun H h => cI.rd h (by first | assumption | exact Or.inl (by assumption) | exact Or.inr (by first | assumption | exact upm_same _ _ _ | exact (upm_ne _ _ (by first | assumption | exact Ne.symm (by assumption) | omega | exact ne_mp (m := m) (by assumption) (by assumption) | exact Ne.symm (ne_mp (m := m) (by assumption) (by assumption)) | exact ne_mp (m := w) (by assumption) (by assumption) | exact Ne.symm (ne_mp (m := w) (by assumption) (by assumption)))).trans (by first | assumption | exact upm_same _ _ _ | exact (upm_ne _ _ (by first | assumption | exact Ne.symm (by assumption) | omega | exact ne_mp (m := m) (by assumption) (by assumption) | exact Ne.symm (ne_mp (m := m) (by assumption) (by assumption)) | exact ne_mp (m := w) (by assumption) (by assumption) | exact Ne.symm (ne_mp (m := w) (by assumption) (by assumption)))).trans (by first | assumption | exact upm_same _ _ _ | exact (upm_ne _ _ (by first | assumption | exact Ne.symm (by assumption) | omega | exact ne_mp (m := m) (by assumption) (by assumption) | exact Ne.symm (ne_mp (m := m) (by assumption) (by assumption)) | exact ne_mp (m := w) (by assumption) (by assumption) | exact Ne.symm (ne_mp (m := w) (by assumption) (by assumption)))).trans (by first | assumption | exact upm_same _ _ _))))) rfl (by decide) rfl) rfl ?_
      refine z_aload_n (i := 1) (q := 31) hX dX5_hasToken_30 rfl rfl rfl ?_
      refine z_V (ci := ciJ13) (T := TJ13) (N := 4) (na := 1) hX dX5_hasToken_31 (c_J13_equals D A (by first | assumption | omega | decide) (by first | assumption | omega | decide)) rfl q1267 q597 q598 q116 q599 (by decide +kernel) ⟨Nat.le_of_ble_eq_true rfl, Nat.le_of_ble_eq_true rfl⟩ rfl rfl (Nat.le_of_ble_eq_true rfl) rfl (by first | exact Nat.le_of_ble_eq_true rfl | (show _ + 0 ≤ 0; omega)) (by first | exact Nat.le_of_ble_eq_true rfl | (show _ + 0 ≤ 0; omega)) (fun H h => ⟨h, cI.obE h (by first | assumption | exact Or.inl (by assumption) | exact Or.inr (by first | assumption | exact upm_same _ _ _ | exact (upm_ne _ _ (by first | assumption | exact Ne.symm (by assumption) | omega | exact ne_mp (m := m) (by assumption) (by assumption) | exact Ne.symm (ne_mp (m := m) (by assumption) (by assumption)) | exact ne_mp (m := w) (by assumption) (by assumption) | exact Ne.symm (ne_mp (m := w) (by assumption) (by assumption)))).trans (by first | assumption | exact upm_same _ _ _ | exact (upm_ne _ _ (by first | assumption | exact Ne.symm (by assumption) | omega | exact ne_mp (m := m) (by assumption) (by assumption) | exact Ne.symm (ne_mp (m := m) (by assumption) (by assumption)) | exact ne_mp (m := w) (by assumption) (by assumption) | exact Ne.symm (ne_mp (m := w) (by assumption) (by assumption)))).trans (by first | assumption | exact upm_same _ _ _ | exact (upm_ne _ _ (by first | assumption | exact Ne.symm (by assumption) | omega | exact ne_mp (m := m) (by assumption) (by assumption) | exact Ne.symm (ne_mp (m := m) (by assumption) (by assumption)) | exact ne_mp (m := w) (by assumption) (by assumption) | exact Ne.symm (ne_mp (m := w) (by assumption) (by assumption)))).trans (by first | assumption | exact upm_same _ _ _))))) rfl⟩) (fun E a => zT.no) (zPd.out ?_)
      show zG X (_ + 0) (_ + 0) _ 34 _ _
      refine z_ior (q := 35) hX dX5_hasToken_34 (bi_ior _ _) rfl ?_
      refine z_istore_n (i := 2) (q := 36) hX dX5_hasToken_35 rfl (Nat.le_of_ble_eq_true rfl) rfl rfl ?_
      refine z_iinc (q := 39) hX dX5_hasToken_36 rfl (Nat.le_of_ble_eq_true rfl) rfl rfl ?_
      refine z_goto (t := 4) hX dX5_hasToken_39 (by decide) ?_
      exact ih hlt _ _ (by rw [ev]; rfl) rfl
  refine z_iconst (q := 1) hX dX5_hasToken_0 rfl ?_
  refine z_istore_n (i := 2) (q := 2) hX dX5_hasToken_1 rfl (Nat.le_of_ble_eq_true rfl) rfl rfl ?_
  refine z_iconst (q := 3) hX dX5_hasToken_2 rfl ?_
  refine z_istore_n (i := 3) (q := 4) hX dX5_hasToken_3 rfl (Nat.le_of_ble_eq_true rfl) rfl rfl ?_
  exact K 0 (Nat.zero_le _) false 0 rfl rfl
abbrev rmX5_gapFrom : Room := { frames := 7, cells := 1, slots := 61, locals := 171 }
set_option maxHeartbeats 4000000 in
theorem c_X5_gapFrom (D : zD) (A : Nat → Prop) {w m : zMp} {b : Nat} {s : zS} {t tl gl : Nat} {mc : Int} {gs : List Nat} {p e : Int} (hb : m b = some (eO ciX5 [.ref t, .ref tl, .ref gl])) (ht : w t = some (eS s)) (hg : m gl = some (eL mc gs)) (hlen : gs.length ≤ 40) (hpe : 0 ≤ p ∧ p ≤ e ∧ e ≤ s.length ∧ s.length ≤ 40) (hsp : ∀ j : Int, p ≤ j → j < e → cT s j = 32) (hen : e = s.length ∨ cT s e ≠ 32) (hs : zCh s) : zC D yX5_gapFrom cX5_gapFrom 4 (some .int) none rmX5_gapFrom A [.ref b, zI (p)] (cI D A w m) (zPd (zI e) (cI D A w (upm m gl (eL (mc + 1) (gs ++ [zIv D (e - p)]))))) (zNo) := by
  refine zC_start (L := [some (.ref b), some (zI (p)), none, none]) (by decide) (Nat.le_of_ble_eq_true rfl) rfl (fun X hX => ?_)
  refine zG.know (fun H h => h.iv (k := e - p) (by omega) (by omega)) (fun hiv => ?_)
  have K : ∀ n : Nat, n ≤ (e - p).toNat → ∀ (q : Int), q = p + n → zG X 0 0 (cI D A w m) 2 [some (.ref b), some (zI (p)), some (zI (q)), none] [] := by
    refine z_up (fun n hn ih q eq => ?_)
    subst eq
    refine z_iload_n (i := 2) (q := 3) hX dX5_gapFrom_2 rfl rfl rfl ?_
    refine z_aload_n (i := 0) (q := 4) hX dX5_gapFrom_3 rfl rfl rfl ?_
    refine zr_get (C := RX5) (T := TX5) (N := 3) (q := 7) hX ciX5 0 rfl (by decide) in_X5 dX5_gapFrom_4 q1396 (Or.inl rfl) (fun H h => cI.rd h (by first | assumption | exact Or.inl (by assumption) | exact Or.inr (by first | assumption | exact upm_same _ _ _ | exact (upm_ne _ _ (by first | assumption | exact Ne.symm (by assumption) | omega | exact ne_mp (m := m) (by assumption) (by assumption) | exact Ne.symm (ne_mp (m := m) (by assumption) (by assumption)) | exact ne_mp (m := w) (by assumption) (by assumption) | exact Ne.symm (ne_mp (m := w) (by assumption) (by assumption)))).trans (by first | assumption | exact upm_same _ _ _ | exact (upm_ne _ _ (by first | assumption | exact Ne.symm (by assumption) | omega | exact ne_mp (m := m) (by assumption) (by assumption) | exact Ne.symm (ne_mp (m := m) (by assumption) (by assumption)) | exact ne_mp (m := w) (by assumption) (by assumption) | exact Ne.symm (ne_mp (m := w) (by assumption) (by assumption)))).trans (by first | assumption | exact upm_same _ _ _ | exact (upm_ne _ _ (by first | assumption | exact Ne.symm (by assumption) | omega | exact ne_mp (m := m) (by assumption) (by assumption) | exact Ne.symm (ne_mp (m := m) (by assumption) (by assumption)) | exact ne_mp (m := w) (by assumption) (by assumption) | exact Ne.symm (ne_mp (m := w) (by assumption) (by assumption)))).trans (by first | assumption | exact upm_same _ _ _))))) rfl (by decide) rfl) rfl ?_
    refine z_V (ci := ciJ13) (T := TJ13) (N := 4) (na := 0) hX dX5_gapFrom_7 (c_J13_length D A (by first | assumption | exact Or.inl (by assumption) | exact Or.inr (by first | assumption | exact upm_same _ _ _ | exact (upm_ne _ _ (by first | assumption | exact Ne.symm (by assumption) | omega | exact ne_mp (m := m) (by assumption) (by assumption) | exact Ne.symm (ne_mp (m := m) (by assumption) (by assumption)) | exact ne_mp (m := w) (by assumption) (by assumption) | exact Ne.symm (ne_mp (m := w) (by assumption) (by assumption)))).trans (by first | assumption | exact upm_same _ _ _ | exact (upm_ne _ _ (by first | assumption | exact Ne.symm (by assumption) | omega | exact ne_mp (m := m) (by assumption) (by assumption) | exact Ne.symm (ne_mp (m := m) (by assumption) (by assumption)) | exact ne_mp (m := w) (by assumption) (by assumption) | exact Ne.symm (ne_mp (m := w) (by assumption) (by assumption)))).trans (by first | assumption | exact upm_same _ _ _ | exact (upm_ne _ _ (by first | assumption | exact Ne.symm (by assumption) | omega | exact ne_mp (m := m) (by assumption) (by assumption) | exact Ne.symm (ne_mp (m := m) (by assumption) (by assumption)) | exact ne_mp (m := w) (by assumption) (by assumption) | exact Ne.symm (ne_mp (m := w) (by assumption) (by assumption)))).trans (by first | assumption | exact upm_same _ _ _)))))) rfl q1335 q538 q539 q116 q540 (by decide +kernel) ⟨Nat.le_of_ble_eq_true rfl, Nat.le_of_ble_eq_true rfl⟩ rfl rfl (Nat.le_of_ble_eq_true rfl) rfl (by first | exact Nat.le_of_ble_eq_true rfl | (show _ + 0 ≤ 1; omega)) (by first | exact Nat.le_of_ble_eq_true rfl | (show _ + 0 ≤ 61; omega)) (fun H h => ⟨h, cI.obE h (by first | assumption | exact Or.inl (by assumption) | exact Or.inr (by first | assumption | exact upm_same _ _ _ | exact (upm_ne _ _ (by first | assumption | exact Ne.symm (by assumption) | omega | exact ne_mp (m := m) (by assumption) (by assumption) | exact Ne.symm (ne_mp (m := m) (by assumption) (by assumption)) | exact ne_mp (m := w) (by assumption) (by assumption) | exact Ne.symm (ne_mp (m := w) (by assumption) (by assumption)))).trans (by first | assumption | exact upm_same _ _ _ | exact (upm_ne _ _ (by first | assumption | exact Ne.symm (by assumption) | omega | exact ne_mp (m := m) (by assumption) (by assumption) | exact Ne.symm (ne_mp (m := m) (by assumption) (by assumption)) | exact ne_mp (m := w) (by assumption) (by assumption) | exact Ne.symm (ne_mp (m := w) (by assumption) (by assumption)))).trans (by first | assumption | exact upm_same _ _ _ | exact (upm_ne _ _ (by first | assumption | exact Ne.symm (by assumption) | omega | exact ne_mp (m := m) (by assumption) (by assumption) | exact Ne.symm (ne_mp (m := m) (by assumption) (by assumption)) | exact ne_mp (m := w) (by assumption) (by assumption) | exact Ne.symm (ne_mp (m := w) (by assumption) (by assumption)))).trans (by first | assumption | exact upm_same _ _ _))))) rfl⟩) (fun E a => zT.no) (zPd.out ?_)
    show zG X (_ + 0) (_ + 0) _ 10 _ _
    refine z_icmp_ge (q := 13) (t := 32) hX dX5_gapFrom_10 (by decide) ⟨by omega, by omega⟩ ⟨by omega, by omega⟩ rfl (fun h10 => ?_) (fun h10 => ?_)
    · have hq : p + (n : Int) = e := by omega
      rw [hq]
      refine z_aload_n (i := 0) (q := 33) hX dX5_gapFrom_32 rfl rfl rfl ?_
      refine zr_get (C := RX5) (T := TX5) (N := 3) (q := 36) hX ciX5 2 rfl (by decide) in_X5 dX5_gapFrom_33 q1403 (Or.inl rfl) (fun H h => cI.rd h (by first | assumption | exact Or.inl (by assumption) | exact Or.inr (by first | assumption | exact upm_same _ _ _ | exact (upm_ne _ _ (by first | assumption | exact Ne.symm (by assumption) | omega | exact ne_mp (m := m) (by assumption) (by assumption) | exact Ne.symm (ne_mp (m := m) (by assumption) (by assumption)) | exact ne_mp (m := w) (by assumption) (by assumption) | exact Ne.symm (ne_mp (m := w) (by assumption) (by assumption)))).trans (by first | assumption | exact upm_same _ _ _ | exact (upm_ne _ _ (by first | assumption | exact Ne.symm (by assumption) | omega | exact ne_mp (m := m) (by assumption) (by assumption) | exact Ne.symm (ne_mp (m := m) (by assumption) (by assumption)) | exact ne_mp (m := w) (by assumption) (by assumption) | exact Ne.symm (ne_mp (m := w) (by assumption) (by assumption)))).trans (by first | assumption | exact upm_same _ _ _ | exact (upm_ne _ _ (by first | assumption | exact Ne.symm (by assumption) | omega | exact ne_mp (m := m) (by assumption) (by assumption) | exact Ne.symm (ne_mp (m := m) (by assumption) (by assumption)) | exact ne_mp (m := w) (by assumption) (by assumption) | exact Ne.symm (ne_mp (m := w) (by assumption) (by assumption)))).trans (by first | assumption | exact upm_same _ _ _))))) rfl (by decide) rfl) rfl ?_
      refine z_iload_n (i := 2) (q := 37) hX dX5_gapFrom_36 rfl rfl rfl ?_
      refine z_iload_n (i := 1) (q := 38) hX dX5_gapFrom_37 rfl rfl rfl ?_
      refine z_isub (q := 39) hX dX5_gapFrom_38 rfl ?_
      refine z_S (na := 1) hX dX5_gapFrom_39 (c_J18_valueOf D A (by omega)) q1337 q1177 q121 q1178 (by decide +kernel) ⟨Nat.le_of_ble_eq_true rfl, Nat.le_of_ble_eq_true rfl⟩ rfl rfl (Nat.le_of_ble_eq_true rfl) rfl (by first | exact Nat.le_of_ble_eq_true rfl | (show _ + 0 ≤ 1; omega)) (by first | exact Nat.le_of_ble_eq_true rfl | (show _ + 0 ≤ 61; omega)) (fun H h => h) (fun E a => zT.no) (zPd.out ?_)
      show zG X (_ + 0) (_ + 0) _ 42 _ _
      refine z_V (ci := ciJ2) (T := TJ2) (N := 3) (na := 1) hX dX5_gapFrom_42 (c_J2_add D A hg hlen hiv (zElO_I _)) rfl q1338 q379 q380 q101 q381 (by decide +kernel) ⟨Nat.le_of_ble_eq_true rfl, Nat.le_of_ble_eq_true rfl⟩ rfl rfl (Nat.le_of_ble_eq_true rfl) rfl (by first | exact Nat.le_of_ble_eq_true rfl | (show _ + 1 ≤ 1; omega)) (by first | exact Nat.le_of_ble_eq_true rfl | (show _ + 61 ≤ 61; omega)) (fun H h => ⟨h, h.obL (Or.inr hg)⟩) (fun E a => zT.no) (zPd.out ?_)
      show zG X (_ + 1) (_ + 61) _ 45 _ _
      refine z_istore_n (i := 3) (q := 46) hX dX5_gapFrom_45 rfl (Nat.le_of_ble_eq_true rfl) rfl rfl ?_
      refine z_iload_n (i := 2) (q := 47) hX dX5_gapFrom_46 rfl rfl rfl ?_
      exact z_iret hX dX5_gapFrom_47 (by first | exact Nat.le_of_ble_eq_true rfl | (show (_ : Nat) ≤ 1; omega)) (by first | exact Nat.le_of_ble_eq_true rfl | (show (_ : Nat) ≤ 61; omega)) rfl (fun H h => ⟨rfl, h⟩)
    · have hc := hs.2 _ (cT_mem (s := s) (i := p + n) (by omega) (by omega))
      refine z_aload_n (i := 0) (q := 14) hX dX5_gapFrom_13 rfl rfl rfl ?_
      refine zr_get (C := RX5) (T := TX5) (N := 3) (q := 17) hX ciX5 0 rfl (by decide) in_X5 dX5_gapFrom_14 q1396 (Or.inl rfl) (fun H h => cI.rd h (by first | assumption | exact Or.inl (by assumption) | exact Or.inr (by first | assumption | exact upm_same _ _ _ | exact (upm_ne _ _ (by first | assumption | exact Ne.symm (by assumption) | omega | exact ne_mp (m := m) (by assumption) (by assumption) | exact Ne.symm (ne_mp (m := m) (by assumption) (by assumption)) | exact ne_mp (m := w) (by assumption) (by assumption) | exact Ne.symm (ne_mp (m := w) (by assumption) (by assumption)))).trans (by first | assumption | exact upm_same _ _ _ | exact (upm_ne _ _ (by first | assumption | exact Ne.symm (by assumption) | omega | exact ne_mp (m := m) (by assumption) (by assumption) | exact Ne.symm (ne_mp (m := m) (by assumption) (by assumption)) | exact ne_mp (m := w) (by assumption) (by assumption) | exact Ne.symm (ne_mp (m := w) (by assumption) (by assumption)))).trans (by first | assumption | exact upm_same _ _ _ | exact (upm_ne _ _ (by first | assumption | exact Ne.symm (by assumption) | omega | exact ne_mp (m := m) (by assumption) (by assumption) | exact Ne.symm (ne_mp (m := m) (by assumption) (by assumption)) | exact ne_mp (m := w) (by assumption) (by assumption) | exact Ne.symm (ne_mp (m := w) (by assumption) (by assumption)))).trans (by first | assumption | exact upm_same _ _ _))))) rfl (by decide) rfl) rfl ?_
      refine z_iload_n (i := 2) (q := 18) hX dX5_gapFrom_17 rfl rfl rfl ?_
      refine z_V (ci := ciJ13) (T := TJ13) (N := 4) (na := 1) hX dX5_gapFrom_18 (c_J13_charAt D A (by first | assumption | exact Or.inl (by assumption) | exact Or.inr (by first | assumption | exact upm_same _ _ _ | exact (upm_ne _ _ (by first | assumption | exact Ne.symm (by assumption) | omega | exact ne_mp (m := m) (by assumption) (by assumption) | exact Ne.symm (ne_mp (m := m) (by assumption) (by assumption)) | exact ne_mp (m := w) (by assumption) (by assumption) | exact Ne.symm (ne_mp (m := w) (by assumption) (by assumption)))).trans (by first | assumption | exact upm_same _ _ _ | exact (upm_ne _ _ (by first | assumption | exact Ne.symm (by assumption) | omega | exact ne_mp (m := m) (by assumption) (by assumption) | exact Ne.symm (ne_mp (m := m) (by assumption) (by assumption)) | exact ne_mp (m := w) (by assumption) (by assumption) | exact Ne.symm (ne_mp (m := w) (by assumption) (by assumption)))).trans (by first | assumption | exact upm_same _ _ _ | exact (upm_ne _ _ (by first | assumption | exact Ne.symm (by assumption) | omega | exact ne_mp (m := m) (by assumption) (by assumption) | exact Ne.symm (ne_mp (m := m) (by assumption) (by assumption)) | exact ne_mp (m := w) (by assumption) (by assumption) | exact Ne.symm (ne_mp (m := w) (by assumption) (by assumption)))).trans (by first | assumption | exact upm_same _ _ _))))) (by first | assumption | omega | decide)) rfl q1336 q613 q614 q116 q615 (by decide +kernel) ⟨Nat.le_of_ble_eq_true rfl, Nat.le_of_ble_eq_true rfl⟩ rfl rfl (Nat.le_of_ble_eq_true rfl) rfl (by first | exact Nat.le_of_ble_eq_true rfl | (show _ + 0 ≤ 1; omega)) (by first | exact Nat.le_of_ble_eq_true rfl | (show _ + 0 ≤ 61; omega)) (fun H h => ⟨h, cI.obE h (by first | assumption | exact Or.inl (by assumption) | exact Or.inr (by first | assumption | exact upm_same _ _ _ | exact (upm_ne _ _ (by first | assumption | exact Ne.symm (by assumption) | omega | exact ne_mp (m := m) (by assumption) (by assumption) | exact Ne.symm (ne_mp (m := m) (by assumption) (by assumption)) | exact ne_mp (m := w) (by assumption) (by assumption) | exact Ne.symm (ne_mp (m := w) (by assumption) (by assumption)))).trans (by first | assumption | exact upm_same _ _ _ | exact (upm_ne _ _ (by first | assumption | exact Ne.symm (by assumption) | omega | exact ne_mp (m := m) (by assumption) (by assumption) | exact Ne.symm (ne_mp (m := m) (by assumption) (by assumption)) | exact ne_mp (m := w) (by assumption) (by assumption) | exact Ne.symm (ne_mp (m := w) (by assumption) (by assumption)))).trans (by first | assumption | exact upm_same _ _ _ | exact (upm_ne _ _ (by first | assumption | exact Ne.symm (by assumption) | omega | exact ne_mp (m := m) (by assumption) (by assumption) | exact Ne.symm (ne_mp (m := m) (by assumption) (by assumption)) | exact ne_mp (m := w) (by assumption) (by assumption) | exact Ne.symm (ne_mp (m := w) (by assumption) (by assumption)))).trans (by first | assumption | exact upm_same _ _ _))))) rfl⟩) (fun E a => zT.no) (zPd.out ?_)
      show zG X (_ + 0) (_ + 0) _ 21 _ _
      refine z_bipush (q := 23) hX dX5_gapFrom_21 (by decide) rfl ?_
      refine z_icmp_ne (q := 26) (t := 32) hX dX5_gapFrom_23 (by decide) ⟨by omega, by omega⟩ (by decide) rfl (fun h23 => ?_) (fun h23 => ?_)
      · have hq : p + (n : Int) = e := by
          rcases Int.lt_or_le (p + (n : Int)) e with q | q
          · exact absurd (hsp _ (by omega) q) h23
          · omega
        rw [hq]
        refine z_aload_n (i := 0) (q := 33) hX dX5_gapFrom_32 rfl rfl rfl ?_
        refine zr_get (C := RX5) (T := TX5) (N := 3) (q := 36) hX ciX5 2 rfl (by decide) in_X5 dX5_gapFrom_33 q1403 (Or.inl rfl) (fun H h => cI.rd h (by first | assumption | exact Or.inl (by assumption) | exact Or.inr (by first | assumption | exact upm_same _ _ _ | exact (upm_ne _ _ (by first | assumption | exact Ne.symm (by assumption) | omega | exact ne_mp (m := m) (by assumption) (by assumption) | exact Ne.symm (ne_mp (m := m) (by assumption) (by assumption)) | exact ne_mp (m := w) (by assumption) (by assumption) | exact Ne.symm (ne_mp (m := w) (by assumption) (by assumption)))).trans (by first | assumption | exact upm_same _ _ _ | exact (upm_ne _ _ (by first | assumption | exact Ne.symm (by assumption) | omega | exact ne_mp (m := m) (by assumption) (by assumption) | exact Ne.symm (ne_mp (m := m) (by assumption) (by assumption)) | exact ne_mp (m := w) (by assumption) (by assumption) | exact Ne.symm (ne_mp (m := w) (by assumption) (by assumption)))).trans (by first | assumption | exact upm_same _ _ _ | exact (upm_ne _ _ (by first | assumption | exact Ne.symm (by assumption) | omega | exact ne_mp (m := m) (by assumption) (by assumption) | exact Ne.symm (ne_mp (m := m) (by assumption) (by assumption)) | exact ne_mp (m := w) (by assumption) (by assumption) | exact Ne.symm (ne_mp (m := w) (by assumption) (by assumption)))).trans (by first | assumption | exact upm_same _ _ _))))) rfl (by decide) rfl) rfl ?_
        refine z_iload_n (i := 2) (q := 37) hX dX5_gapFrom_36 rfl rfl rfl ?_
        refine z_iload_n (i := 1) (q := 38) hX dX5_gapFrom_37 rfl rfl rfl ?_
        refine z_isub (q := 39) hX dX5_gapFrom_38 rfl ?_
        refine z_S (na := 1) hX dX5_gapFrom_39 (c_J18_valueOf D A (by omega)) q1337 q1177 q121 q1178 (by decide +kernel) ⟨Nat.le_of_ble_eq_true rfl, Nat.le_of_ble_eq_true rfl⟩ rfl rfl (Nat.le_of_ble_eq_true rfl) rfl (by first | exact Nat.le_of_ble_eq_true rfl | (show _ + 0 ≤ 1; omega)) (by first | exact Nat.le_of_ble_eq_true rfl | (show _ + 0 ≤ 61; omega)) (fun H h => h) (fun E a => zT.no) (zPd.out ?_)
        show zG X (_ + 0) (_ + 0) _ 42 _ _
        refine z_V (ci := ciJ2) (T := TJ2) (N := 3) (na := 1) hX dX5_gapFrom_42 (c_J2_add D A hg hlen hiv (zElO_I _)) rfl q1338 q379 q380 q101 q381 (by decide +kernel) ⟨Nat.le_of_ble_eq_true rfl, Nat.le_of_ble_eq_true rfl⟩ rfl rfl (Nat.le_of_ble_eq_true rfl) rfl (by first | exact Nat.le_of_ble_eq_true rfl | (show _ + 1 ≤ 1; omega)) (by first | exact Nat.le_of_ble_eq_true rfl | (show _ + 61 ≤ 61; omega)) (fun H h => ⟨h, h.obL (Or.inr hg)⟩) (fun E a => zT.no) (zPd.out ?_)
        show zG X (_ + 1) (_ + 61) _ 45 _ _
        refine z_istore_n (i := 3) (q := 46) hX dX5_gapFrom_45 rfl (Nat.le_of_ble_eq_true rfl) rfl rfl ?_
        refine z_iload_n (i := 2) (q := 47) hX dX5_gapFrom_46 rfl rfl rfl ?_
        exact z_iret hX dX5_gapFrom_47 (by first | exact Nat.le_of_ble_eq_true rfl | (show (_ : Nat) ≤ 1; omega)) (by first | exact Nat.le_of_ble_eq_true rfl | (show (_ : Nat) ≤ 61; omega)) rfl (fun H h => ⟨rfl, h⟩)
      · refine z_iinc (q := 29) hX dX5_gapFrom_26 rfl (Nat.le_of_ble_eq_true rfl) rfl rfl ?_
        refine z_goto (t := 2) hX dX5_gapFrom_29 (by decide) ?_
        have hlt : p + (n : Int) < e := by
          rcases Int.lt_or_le (p + (n : Int)) e with q | q
          · exact q
          · have hq : p + (n : Int) = e := by omega
            rcases hen with z | z
            · exact absurd (z ▸ hq ▸ h10) (by omega)
            · exact absurd (hq ▸ (Decidable.not_not.mp h23)) z
        exact ih (by omega) _ (by omega)
  refine z_iload_n (i := 1) (q := 1) hX dX5_gapFrom_0 rfl rfl rfl ?_
  refine z_istore_n (i := 2) (q := 2) hX dX5_gapFrom_1 rfl (Nat.le_of_ble_eq_true rfl) rfl rfl ?_
  exact K 0 (Nat.zero_le _) p (by omega)
