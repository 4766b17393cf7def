/-! THE CLASS: Reader: next, takes, need, isDigit, number, word -/
set_option maxRecDepth 100000
/-- a text that is fed -/
def rOk (s : zS) : Prop := s.length ≤ 60 ∧ ∀ c ∈ s, 0 ≤ c ∧ c ≤ 65535
theorem rOk.c {s : zS} (h : rOk s) {i : Int} (h0 : 0 ≤ i) (h1 : i < s.length) : 0 ≤ cT s i ∧ cT s i ≤ 65535 := h.2 _ (cT_mem h0 h1)
theorem rOk.hR {s : zS} (h : rOk s) {p : Int} (h0 : 0 ≤ p) : -1 ≤ hr s p ∧ hr s p ≤ 65535 := by
  unfold hr
  split
  · have := h.c h0 (by assumption)
    omega
  · omega
/-- the character at a place, or 0 -/
def nx (s : zS) (p : Int) : Int := if p < s.length then cT s p else 0
theorem rOk.nX {s : zS} (h : rOk s) {p : Int} (h0 : 0 ≤ p) : 0 ≤ nx s p ∧ nx s p ≤ 65535 := by
  unfold nx
  split
  · exact h.c h0 (by assumption)
  · omega
theorem nx_hr {s : zS} {p : Int} (h : p < s.length) : nx s p = hr s p := by
  unfold nx hr
  rw [if_pos h, if_pos h]
theorem nx_dig {s : zS} {p : Int} : isDig (nx s p) = isDig (hr s p) := by
  unfold nx hr
  split
  · rfl
  · rfl
/-- a reader at place p of the text s that its outer object has -/
def rdr (D : zD) (m : zMp) (b o ia : Nat) (p : Int) (s : zS) : Prop := m b = some (eO ciX10 [zI p, .ref o]) ∧ (∃ lg sv hl rp cd : Value, m o = some (eO ciX1 [lg, sv, hl, rp, .ref ia, zI s.length, cd])) ∧ (∃ f : Nat → Int32, m ia = some (eC (aN D 1 60 f)) ∧ ∀ j : Nat, j < s.length → f j = Int32.ofInt (cT s j)) ∧ rOk s ∧ (0 ≤ p ∧ p ≤ s.length)
def rdM (m : zMp) (b o : Nat) (q : Int) : zMp := upm m b (eO ciX10 [zI q, .ref o])
theorem rdM_M {m : zMp} {b o : Nat} {p q : Int} : rdM (rdM m b o p) b o q = rdM m b o q := upm_upm _ _ _ _
theorem rdr.self {D : zD} {m : zMp} {b o ia : Nat} {p : Int} {s : zS} (h : rdr D m b o ia p s) : rdM m b o p = m := upm_self h.1
theorem rdr.ob {D : zD} {m : zMp} {b o ia : Nat} {p : Int} {s : zS} (h : rdr D m b o ia p s) : o ≠ b ∧ ia ≠ b := by
  obtain ⟨h1, ⟨lg, sv, hl, rp, cd, h2⟩, ⟨f, h3, h4⟩, h5⟩ := h
  refine ⟨fun e => ?_, fun e => ?_⟩
  · rw [e, h1] at h2
    injection h2 with h2
    injection h2 with h2
    injection h2 with h2
    injection h2 with h2
    exact absurd h2 (by decide)
  · rw [e, h1] at h3
    cases h3
theorem rdr.up {D : zD} {m : zMp} {b o ia : Nat} {p q : Int} {s : zS} (h : rdr D m b o ia p s) (h0 : 0 ≤ q) (h1 : q ≤ s.length) : rdr D (rdM m b o q) b o ia q s := by
  have hne := h.ob
  obtain ⟨g1, ⟨lg, sv, hl, rp, cd, g2⟩, ⟨f, g3, g4⟩, g5, g6⟩ := h
  exact ⟨upm_same _ _ _, ⟨lg, sv, hl, rp, cd, (upm_ne _ _ hne.1).trans g2⟩, ⟨f, (upm_ne _ _ hne.2).trans g3, g4⟩, g5, h0, h1⟩
/-- .. beside a cell made new -/
theorem rdr.new {D : zD} {m : zMp} {b o ia a : Nat} {p : Int} {s : zS} {x : zE} (h : rdr D m b o ia p s) (ha : m a = none) : rdr D (upm m a x) b o ia p s := by
  obtain ⟨g1, ⟨lg, sv, hl, rp, cd, g2⟩, ⟨f, g3, g4⟩, g5⟩ := h
  have k : ∀ {c : Nat} {y : zE}, m c = some y → upm m a x c = some y := fun {c y} hc => (upm_ne _ _ (Ne.symm (ne_mp ha hc))).trans hc
  exact ⟨k g1, ⟨lg, sv, hl, rp, cd, k g2⟩, ⟨f, k g3, g4⟩, g5⟩
/-- a text's exception thrown, if φ -/
def xTx (D : zD) (A : Nat → Prop) (w m : zMp) (φ : Prop) (q : Int) : String → Nat → Heap → Prop := zXs "LogCompactor$TextException" (fun e H => φ ∧ (w e = none ∧ m e = none) ∧ cI D A w (upm m e (eT13 q)) H)
theorem hr_ge {s : zS} {p : Int} (h : ¬ p < s.length) : hr s p = -1 := if_neg h
theorem nuN_le (s : zS) (p : Int) : nuN s p ≤ 6 := dgc_le _ _ _
theorem ngI_cs (s : zS) (p : Int) : (hr s p = 45 ∧ ngI s p = 1) ∨ (hr s p ≠ 45 ∧ ngI s p = 0) := by
  unfold ngI
  by_cases q : hr s p = 45
  · rw [if_pos q]; exact Or.inl ⟨q, rfl⟩
  · rw [if_neg q]; exact Or.inr ⟨q, rfl⟩
theorem isDig_iff {c : Int} : isDig c = true ↔ 48 ≤ c ∧ c ≤ 57 := by
  unfold isDig
  simp
theorem isDig_lt {s : zS} {p : Int} (h : isDig (hr s p) = true) : p < s.length := hr_in (fun q => by rw [q] at h; exact absurd h (by decide))
/-- the word at a place -/
def wdS (s : zS) (p : Int) : zS := (s.drop p.toNat).take (wdN s p)
theorem isW_iff {c : Int} : isW c = true ↔ (33 ≤ c ∧ c ≤ 126) ∧ c ≠ 38 := by
  unfold isW
  simp
theorem wdc_in {s : zS} {p : Int} : ∀ m : Nat, ∀ i : Nat, i < wdc s p m → isW (hr s (p + i)) = true := by
  intro m
  induction m with
  | zero => intro i hi; exact absurd hi (Nat.not_lt_zero i)
  | succ m ih =>
    intro i hi
    rw [wdc] at hi
    split at hi
    · rename_i h
      by_cases q : i = m
      · rw [q]; exact h.2
      · exact ih i (by omega)
    · exact ih i hi
theorem wdN_le {s : zS} {p : Int} (h0 : 0 ≤ p) (h1 : p ≤ s.length) : p + wdN s p ≤ s.length := by
  rcases wdc_len s p 60 with h | h
  · unfold wdN; rw [h]; omega
  · exact h
theorem wdS_len {s : zS} {p : Int} (h0 : 0 ≤ p) (h1 : p ≤ s.length) : (wdS s p).length = wdN s p := by
  have := wdN_le h0 h1
  unfold wdS
  rw [List.length_take, List.length_drop]
  omega
theorem wdS_cT {s : zS} {p : Int} {j : Nat} (h0 : 0 ≤ p) (h1 : p ≤ s.length) (hj : j < wdN s p) : cT (wdS s p) (j : Int) = cT s (p + j) := by
  unfold wdS
  rw [cT_take _ _ _ (by omega) (by omega), cT_drop _ _ _ h0 (by omega)]
theorem wdS_ch {s : zS} {p : Int} (h0 : 0 ≤ p) (h1 : p ≤ s.length) (h60 : s.length ≤ 60) : zCh (wdS s p) := by
  have hl := wdS_len h0 h1
  have hle := wdN_le h0 h1
  refine ⟨by omega, fun c hc => ?_⟩
  obtain ⟨i, hi⟩ := List.getElem?_of_mem hc
  have hil : i < (wdS s p).length := (List.getElem?_eq_some_iff.mp hi).1
  have e : cT (wdS s p) (i : Int) = c := by unfold cT; rw [Int.toNat_natCast, List.getD_eq_getElem?_getD, hi]; rfl
  have h2 := isW_iff.mp (wdc_in (s := s) (p := p) 60 i (by rw [hl] at hil; exact hil))
  rw [← e, wdS_cT h0 h1 (by omega)]
  unfold hr at h2
  rw [if_pos (by omega)] at h2
  omega
/-- .. told so that it isn't computed -/
noncomputable def wdNc (s : zS) (p : Int) : Nat := Classical.choose (⟨wdN s p, rfl⟩ : ∃ n : Nat, n = wdN s p)
theorem wdNc_eq (s : zS) (p : Int) : wdNc s p = wdN s p := Classical.choose_spec (⟨wdN s p, rfl⟩ : ∃ n : Nat, n = wdN s p)
noncomputable def wdPc (s : zS) (p : Int) : Int := p + wdNc s p
noncomputable def wdSc (s : zS) (p : Int) : zS := (s.drop p.toNat).take (wdNc s p)
theorem wdPc_eq (s : zS) (p : Int) : wdPc s p = wdP s p := by unfold wdPc wdP; rw [wdNc_eq]
theorem wdSc_eq (s : zS) (p : Int) : wdSc s p = wdS s p := by unfold wdSc wdS; rw [wdNc_eq]
theorem wdNc_st {s : zS} {p : Int} (i : Nat) (hi : i ≤ 60) (h1 : wdc s p i = i) (h2 : isW (hr s (p + (i : Int))) = false) : i = wdNc s p := (wdc_stop h1 h2 hi).symm.trans (wdNc_eq s p).symm
theorem wdNc_le {s : zS} {p : Int} (h0 : 0 ≤ p) (h1 : p ≤ s.length) : p + wdNc s p ≤ s.length := by rw [wdNc_eq]; exact wdN_le h0 h1
theorem wdSc_len {s : zS} {p : Int} (h0 : 0 ≤ p) (h1 : p ≤ s.length) : (wdSc s p).length = wdNc s p := by rw [wdSc_eq, wdNc_eq]; exact wdS_len h0 h1
theorem wdSc_cT {s : zS} {p : Int} {j : Nat} (h0 : 0 ≤ p) (h1 : p ≤ s.length) (hj : j < wdNc s p) : cT (wdSc s p) (j : Int) = cT s (p + j) := by rw [wdNc_eq] at hj; rw [wdSc_eq]; exact wdS_cT h0 h1 hj
theorem wdSc_ch {s : zS} {p : Int} (h0 : 0 ≤ p) (h1 : p ≤ s.length) (h60 : s.length ≤ 60) : zCh (wdSc s p) := by rw [wdSc_eq]; exact wdS_ch h0 h1 h60
abbrev rmX10_init : Room := { frames := 1, cells := 0, slots := 0, locals := 20 }
set_option maxHeartbeats 4000000 in
theorem c_X10_init (D : zD) (A : Nat → Prop) {w m : zMp} {b : Nat} {o : Nat} (hm : m b = some (eO ciX10 [zI 0, .null])) : zC D yX10_init cX10_init 2 none none rmX10_init A [.ref b, .ref o] (cI D A w m) (zPv (cI D A w (upm m b (eO ciX10 [zI 0, .ref o])))) (zNo) := by
  refine zC_start (L := [some (.ref b), some (.ref o)]) (by decide) (Nat.le_of_ble_eq_true rfl) rfl (fun X hX => ?_)
  refine z_aload_n (i := 0) (q := 1) hX dX10_init_0 rfl rfl rfl ?_
  refine z_aload_n (i := 1) (q := 2) hX dX10_init_1 rfl rfl rfl ?_
  refine zc_putF (C := RX10) (T := TX10) (N := 2) (q := 5) hX ciX10 1 rfl (by decide) in_X10 tyX10_ok nmX10 dX10_init_2 q1015 rfl rfl rfl (by first | assumption | exact upm_same _ _ _ | exact (upm_ne _ _ (by first | assumption | exact Ne.symm (by assumption) | omega | exact ne_mp (m := m) (by assumption) (by assumption) | exact Ne.symm (ne_mp (m := m) (by assumption) (by assumption)) | exact ne_mp (m := w) (by assumption) (by assumption) | exact Ne.symm (ne_mp (m := w) (by assumption) (by assumption)))).trans (by first | assumption | exact upm_same _ _ _ | exact (upm_ne _ _ (by first | assumption | exact Ne.symm (by assumption) | omega | exact ne_mp (m := m) (by assumption) (by assumption) | exact Ne.symm (ne_mp (m := m) (by assumption) (by assumption)) | exact ne_mp (m := w) (by assumption) (by assumption) | exact Ne.symm (ne_mp (m := w) (by assumption) (by assumption)))).trans (by first | assumption | exact upm_same _ _ _ | exact (upm_ne _ _ (by first | assumption | exact Ne.symm (by assumption) | omega | exact ne_mp (m := m) (by assumption) (by assumption) | exact Ne.symm (ne_mp (m := m) (by assumption) (by assumption)) | exact ne_mp (m := w) (by assumption) (by assumption) | exact Ne.symm (ne_mp (m := w) (by assumption) (by assumption)))).trans (by first | assumption | exact upm_same _ _ _)))) (Nat.le_of_ble_eq_true rfl) rfl rfl rfl rfl ?_
  refine z_aload_n (i := 0) (q := 6) hX dX10_init_5 rfl rfl rfl ?_
  refine z_objInit (q := 9) hX dX10_init_6 q1013 q147 q148 (Nat.le_of_ble_eq_true rfl) rfl ⟨Nat.le_of_ble_eq_true rfl, Nat.le_of_ble_eq_true rfl⟩ rfl ?_
  exact z_vret hX dX10_init_9 (by first | exact Nat.le_of_ble_eq_true rfl | (show (_ : Nat) ≤ 0; omega)) (by first | exact Nat.le_of_ble_eq_true rfl | (show (_ : Nat) ≤ 0; omega)) rfl (fun H h => ⟨rfl, h⟩)
abbrev rmX10_next : Room := { frames := 0, cells := 0, slots := 0, locals := 0 }
set_option maxHeartbeats 4000000 in
theorem c_X10_next (D : zD) (A : Nat → Prop) {w m : zMp} {b : Nat} {o ia : Nat} {p : Int} {s : zS} (hb : rdr D m b o ia p s) : zC D yX10_next cX10_next 1 (some .int) none rmX10_next A [.ref b] (cI D A w m) (zPd (zI (nx s p)) (cI D A w m)) (zNo) := by
  refine zC_start (L := [some (.ref b)]) (by decide) (Nat.le_of_ble_eq_true rfl) rfl (fun X hX => ?_)
  obtain ⟨h1, ⟨lg, sv, hl, rp, cd, h2⟩, ⟨f, h3, h4⟩, h5, h6⟩ := hb
  have h60 := h5.1
  refine z_aload_n (i := 0) (q := 1) hX dX10_next_0 rfl rfl rfl ?_
  refine zr_get (C := RX10) (T := TX10) (N := 2) (q := 4) hX ciX10 0 rfl (by decide) in_X10 dX10_next_1 q1014 (Or.inl rfl) (fun H h => cI.rd h (by first | assumption | exact Or.inl (by assumption) | exact Or.inr (by first | assumption | exact upm_same _ _ _ | exact (upm_ne _ _ (by first | assumption | exact Ne.symm (by assumption) | omega | exact ne_mp (m := m) (by assumption) (by assumption) | exact Ne.symm (ne_mp (m := m) (by assumption) (by assumption)) | exact ne_mp (m := w) (by assumption) (by assumption) | exact Ne.symm (ne_mp (m := w) (by assumption) (by assumption)))).trans (by first | assumption | exact upm_same _ _ _ | exact (upm_ne _ _ (by first | assumption | exact Ne.symm (by assumption) | omega | exact ne_mp (m := m) (by assumption) (by assumption) | exact Ne.symm (ne_mp (m := m) (by assumption) (by assumption)) | exact ne_mp (m := w) (by assumption) (by assumption) | exact Ne.symm (ne_mp (m := w) (by assumption) (by assumption)))).trans (by first | assumption | exact upm_same _ _ _ | exact (upm_ne _ _ (by first | assumption | exact Ne.symm (by assumption) | omega | exact ne_mp (m := m) (by assumption) (by assumption) | exact Ne.symm (ne_mp (m := m) (by assumption) (by assumption)) | exact ne_mp (m := w) (by assumption) (by assumption) | exact Ne.symm (ne_mp (m := w) (by assumption) (by assumption)))).trans (by first | assumption | exact upm_same _ _ _))))) rfl (by decide) rfl) rfl ?_
  refine z_aload_n (i := 0) (q := 5) hX dX10_next_4 rfl rfl rfl ?_
  refine zr_get (C := RX10) (T := TX10) (N := 2) (q := 8) hX ciX10 1 rfl (by decide) in_X10 dX10_next_5 q1015 (Or.inl rfl) (fun H h => cI.rd h (by first | assumption | exact Or.inl (by assumption) | exact Or.inr (by first | assumption | exact upm_same _ _ _ | exact (upm_ne _ _ (by first | assumption | exact Ne.symm (by assumption) | omega | exact ne_mp (m := m) (by assumption) (by assumption) | exact Ne.symm (ne_mp (m := m) (by assumption) (by assumption)) | exact ne_mp (m := w) (by assumption) (by assumption) | exact Ne.symm (ne_mp (m := w) (by assumption) (by assumption)))).trans (by first | assumption | exact upm_same _ _ _ | exact (upm_ne _ _ (by first | assumption | exact Ne.symm (by assumption) | omega | exact ne_mp (m := m) (by assumption) (by assumption) | exact Ne.symm (ne_mp (m := m) (by assumption) (by assumption)) | exact ne_mp (m := w) (by assumption) (by assumption) | exact Ne.symm (ne_mp (m := w) (by assumption) (by assumption)))).trans (by first | assumption | exact upm_same _ _ _ | exact (upm_ne _ _ (by first | assumption | exact Ne.symm (by assumption) | omega | exact ne_mp (m := m) (by assumption) (by assumption) | exact Ne.symm (ne_mp (m := m) (by assumption) (by assumption)) | exact ne_mp (m := w) (by assumption) (by assumption) | exact Ne.symm (ne_mp (m := w) (by assumption) (by assumption)))).trans (by first | assumption | exact upm_same _ _ _))))) rfl (by decide) rfl) rfl ?_
  refine zr_getN (C := RX1) (T := TX1) (N := 7) (q := 11) hX ciX1 5 rfl (by decide) in_X1 dX10_next_8 (zNF_at 29 rfl) (fun H h => cI.rd h (by first | assumption | exact Or.inl (by assumption) | exact Or.inr (by first | assumption | exact upm_same _ _ _ | exact (upm_ne _ _ (by first | assumption | exact Ne.symm (by assumption) | omega | exact ne_mp (m := m) (by assumption) (by assumption) | exact Ne.symm (ne_mp (m := m) (by assumption) (by assumption)) | exact ne_mp (m := w) (by assumption) (by assumption) | exact Ne.symm (ne_mp (m := w) (by assumption) (by assumption)))).trans (by first | assumption | exact upm_same _ _ _ | exact (upm_ne _ _ (by first | assumption | exact Ne.symm (by assumption) | omega | exact ne_mp (m := m) (by assumption) (by assumption) | exact Ne.symm (ne_mp (m := m) (by assumption) (by assumption)) | exact ne_mp (m := w) (by assumption) (by assumption) | exact Ne.symm (ne_mp (m := w) (by assumption) (by assumption)))).trans (by first | assumption | exact upm_same _ _ _ | exact (upm_ne _ _ (by first | assumption | exact Ne.symm (by assumption) | omega | exact ne_mp (m := m) (by assumption) (by assumption) | exact Ne.symm (ne_mp (m := m) (by assumption) (by assumption)) | exact ne_mp (m := w) (by assumption) (by assumption) | exact Ne.symm (ne_mp (m := w) (by assumption) (by assumption)))).trans (by first | assumption | exact upm_same _ _ _))))) rfl (by decide) rfl) rfl ?_
  refine z_icmp_ge (q := 14) (t := 29) hX dX10_next_11 (by decide) ⟨by omega, by omega⟩ ⟨by omega, by omega⟩ rfl (fun h11 => ?_) (fun h11 => ?_)
  · refine z_iconst (q := 30) hX dX10_next_29 rfl ?_
    exact z_iret hX dX10_next_30 (by first | exact Nat.le_of_ble_eq_true rfl | (show (_ : Nat) ≤ 0; omega)) (by first | exact Nat.le_of_ble_eq_true rfl | (show (_ : Nat) ≤ 0; omega)) rfl (fun H h => ⟨congrArg (fun z => some (zI z)) ((by unfold nx; rw [if_neg (by omega)])), h⟩)
  · refine z_aload_n (i := 0) (q := 15) hX dX10_next_14 rfl rfl rfl ?_
    refine zr_get (C := RX10) (T := TX10) (N := 2) (q := 18) hX ciX10 1 rfl (by decide) in_X10 dX10_next_15 q1015 (Or.inl rfl) (fun H h => cI.rd h (by first | assumption | exact Or.inl (by assumption) | exact Or.inr (by first | assumption | exact upm_same _ _ _ | exact (upm_ne _ _ (by first | assumption | exact Ne.symm (by assumption) | omega | exact ne_mp (m := m) (by assumption) (by assumption) | exact Ne.symm (ne_mp (m := m) (by assumption) (by assumption)) | exact ne_mp (m := w) (by assumption) (by assumption) | exact Ne.symm (ne_mp (m := w) (by assumption) (by assumption)))).trans (by first | assumption | exact upm_same _ _ _ | exact (upm_ne _ _ (by first | assumption | exact Ne.symm (by assumption) | omega | exact ne_mp (m := m) (by assumption) (by assumption) | exact Ne.symm (ne_mp (m := m) (by assumption) (by assumption)) | exact ne_mp (m := w) (by assumption) (by assumption) | exact Ne.symm (ne_mp (m := w) (by assumption) (by assumption)))).trans (by first | assumption | exact upm_same _ _ _ | exact (upm_ne _ _ (by first | assumption | exact Ne.symm (by assumption) | omega | exact ne_mp (m := m) (by assumption) (by assumption) | exact Ne.symm (ne_mp (m := m) (by assumption) (by assumption)) | exact ne_mp (m := w) (by assumption) (by assumption) | exact Ne.symm (ne_mp (m := w) (by assumption) (by assumption)))).trans (by first | assumption | exact upm_same _ _ _))))) rfl (by decide) rfl) rfl ?_
    refine zr_getN (C := RX1) (T := TX1) (N := 7) (q := 21) hX ciX1 4 rfl (by decide) in_X1 dX10_next_18 (zNF_at 30 rfl) (fun H h => cI.rd h (by first | assumption | exact Or.inl (by assumption) | exact Or.inr (by first | assumption | exact upm_same _ _ _ | exact (upm_ne _ _ (by first | assumption | exact Ne.symm (by assumption) | omega | exact ne_mp (m := m) (by assumption) (by assumption) | exact Ne.symm (ne_mp (m := m) (by assumption) (by assumption)) | exact ne_mp (m := w) (by assumption) (by assumption) | exact Ne.symm (ne_mp (m := w) (by assumption) (by assumption)))).trans (by first | assumption | exact upm_same _ _ _ | exact (upm_ne _ _ (by first | assumption | exact Ne.symm (by assumption) | omega | exact ne_mp (m := m) (by assumption) (by assumption) | exact Ne.symm (ne_mp (m := m) (by assumption) (by assumption)) | exact ne_mp (m := w) (by assumption) (by assumption) | exact Ne.symm (ne_mp (m := w) (by assumption) (by assumption)))).trans (by first | assumption | exact upm_same _ _ _ | exact (upm_ne _ _ (by first | assumption | exact Ne.symm (by assumption) | omega | exact ne_mp (m := m) (by assumption) (by assumption) | exact Ne.symm (ne_mp (m := m) (by assumption) (by assumption)) | exact ne_mp (m := w) (by assumption) (by assumption) | exact Ne.symm (ne_mp (m := w) (by assumption) (by assumption)))).trans (by first | assumption | exact upm_same _ _ _))))) rfl (by decide) rfl) rfl ?_
    refine z_aload_n (i := 0) (q := 22) hX dX10_next_21 rfl rfl rfl ?_
    refine zr_get (C := RX10) (T := TX10) (N := 2) (q := 25) hX ciX10 0 rfl (by decide) in_X10 dX10_next_22 q1014 (Or.inl rfl) (fun H h => cI.rd h (by first | assumption | exact Or.inl (by assumption) | exact Or.inr (by first | assumption | exact upm_same _ _ _ | exact (upm_ne _ _ (by first | assumption | exact Ne.symm (by assumption) | omega | exact ne_mp (m := m) (by assumption) (by assumption) | exact Ne.symm (ne_mp (m := m) (by assumption) (by assumption)) | exact ne_mp (m := w) (by assumption) (by assumption) | exact Ne.symm (ne_mp (m := w) (by assumption) (by assumption)))).trans (by first | assumption | exact upm_same _ _ _ | exact (upm_ne _ _ (by first | assumption | exact Ne.symm (by assumption) | omega | exact ne_mp (m := m) (by assumption) (by assumption) | exact Ne.symm (ne_mp (m := m) (by assumption) (by assumption)) | exact ne_mp (m := w) (by assumption) (by assumption) | exact Ne.symm (ne_mp (m := w) (by assumption) (by assumption)))).trans (by first | assumption | exact upm_same _ _ _ | exact (upm_ne _ _ (by first | assumption | exact Ne.symm (by assumption) | omega | exact ne_mp (m := m) (by assumption) (by assumption) | exact Ne.symm (ne_mp (m := m) (by assumption) (by assumption)) | exact ne_mp (m := w) (by assumption) (by assumption) | exact Ne.symm (ne_mp (m := w) (by assumption) (by assumption)))).trans (by first | assumption | exact upm_same _ _ _))))) rfl (by decide) rfl) rfl ?_
    refine zr_cald (q := 26) hX dX10_next_25 (fun H h => (cI.at h (by first | assumption | exact Or.inl (by assumption) | exact Or.inr (by first | assumption | exact upm_same _ _ _ | exact (upm_ne _ _ (by first | assumption | exact Ne.symm (by assumption) | omega | exact ne_mp (m := m) (by assumption) (by assumption) | exact Ne.symm (ne_mp (m := m) (by assumption) (by assumption)) | exact ne_mp (m := w) (by assumption) (by assumption) | exact Ne.symm (ne_mp (m := w) (by assumption) (by assumption)))).trans (by first | assumption | exact upm_same _ _ _ | exact (upm_ne _ _ (by first | assumption | exact Ne.symm (by assumption) | omega | exact ne_mp (m := m) (by assumption) (by assumption) | exact Ne.symm (ne_mp (m := m) (by assumption) (by assumption)) | exact ne_mp (m := w) (by assumption) (by assumption) | exact Ne.symm (ne_mp (m := w) (by assumption) (by assumption)))).trans (by first | assumption | exact upm_same _ _ _ | exact (upm_ne _ _ (by first | assumption | exact Ne.symm (by assumption) | omega | exact ne_mp (m := m) (by assumption) (by assumption) | exact Ne.symm (ne_mp (m := m) (by assumption) (by assumption)) | exact ne_mp (m := w) (by assumption) (by assumption) | exact Ne.symm (ne_mp (m := w) (by assumption) (by assumption)))).trans (by first | assumption | exact upm_same _ _ _)))))).raN) ⟨by omega, by omega⟩ (by first | decide | omega) rfl ?_
    refine zG.top (v2 := zI (cT s p)) (by show Value.int (f p.toNat) = _; rw [h4 _ (by omega), show ((p.toNat : Nat) : Int) = p by omega]) ?_
    refine z_goto (t := 30) hX dX10_next_26 (by decide) ?_
    exact z_iret hX dX10_next_30 (by first | exact Nat.le_of_ble_eq_true rfl | (show (_ : Nat) ≤ 0; omega)) (by first | exact Nat.le_of_ble_eq_true rfl | (show (_ : Nat) ≤ 0; omega)) rfl (fun H h => ⟨congrArg (fun z => some (zI z)) ((by unfold nx; rw [if_pos (by omega)])), h⟩)
abbrev rmX10_takes : Room := { frames := 1, cells := 0, slots := 0, locals := 20 }
set_option maxHeartbeats 4000000 in
theorem c_X10_takes (D : zD) (A : Nat → Prop) {w m : zMp} {b : Nat} {o ia : Nat} {p c : Int} {s : zS} (hb : rdr D m b o ia p s) (hc : 1 ≤ c ∧ c ≤ 127) : zC D yX10_takes cX10_takes 3 (some .boolean) none rmX10_takes A [.ref b, zI (c)] (cI D A w m) (zPd (zI (bi (decide (hr s p = c)))) (cI D A w (rdM m b o (if hr s p = c then p + 1 else p)))) (zNo) := by
  refine zC_start (L := [some (.ref b), some (zI (c)), none]) (by decide) (Nat.le_of_ble_eq_true rfl) rfl (fun X hX => ?_)
  have hb0 := hb
  obtain ⟨h1, ⟨lg, sv, hl, rp, cd, h2⟩, ⟨f, h3, h4⟩, h5, h6⟩ := hb
  have h60 := h5.1
  have hnx := h5.nX h6.1
  refine z_aload_n (i := 0) (q := 1) hX dX10_takes_0 rfl rfl rfl ?_
  refine zr_get (C := RX10) (T := TX10) (N := 2) (q := 4) hX ciX10 0 rfl (by decide) in_X10 dX10_takes_1 q1014 (Or.inl rfl) (fun H h => cI.rd h (by first | assumption | exact Or.inl (by assumption) | exact Or.inr (by first | assumption | exact upm_same _ _ _ | exact (upm_ne _ _ (by first | assumption | exact Ne.symm (by assumption) | omega | exact ne_mp (m := m) (by assumption) (by assumption) | exact Ne.symm (ne_mp (m := m) (by assumption) (by assumption)) | exact ne_mp (m := w) (by assumption) (by assumption) | exact Ne.symm (ne_mp (m := w) (by assumption) (by assumption)))).trans (by first | assumption | exact upm_same _ _ _ | exact (upm_ne _ _ (by first | assumption | exact Ne.symm (by assumption) | omega | exact ne_mp (m := m) (by assumption) (by assumption) | exact Ne.symm (ne_mp (m := m) (by assumption) (by assumption)) | exact ne_mp (m := w) (by assumption) (by assumption) | exact Ne.symm (ne_mp (m := w) (by assumption) (by assumption)))).trans (by first | assumption | exact upm_same _ _ _ | exact (upm_ne _ _ (by first | assumption | exact Ne.symm (by assumption) | omega | exact ne_mp (m := m) (by assumption) (by assumption) | exact Ne.symm (ne_mp (m := m) (by assumption) (by assumption)) | exact ne_mp (m := w) (by assumption) (by assumption) | exact Ne.symm (ne_mp (m := w) (by assumption) (by assumption)))).trans (by first | assumption | exact upm_same _ _ _))))) rfl (by decide) rfl) rfl ?_
  refine z_aload_n (i := 0) (q := 5) hX dX10_takes_4 rfl rfl rfl ?_
  refine zr_get (C := RX10) (T := TX10) (N := 2) (q := 8) hX ciX10 1 rfl (by decide) in_X10 dX10_takes_5 q1015 (Or.inl rfl) (fun H h => cI.rd h (by first | assumption | exact Or.inl (by assumption) | exact Or.inr (by first | assumption | exact upm_same _ _ _ | exact (upm_ne _ _ (by first | assumption | exact Ne.symm (by assumption) | omega | exact ne_mp (m := m) (by assumption) (by assumption) | exact Ne.symm (ne_mp (m := m) (by assumption) (by assumption)) | exact ne_mp (m := w) (by assumption) (by assumption) | exact Ne.symm (ne_mp (m := w) (by assumption) (by assumption)))).trans (by first | assumption | exact upm_same _ _ _ | exact (upm_ne _ _ (by first | assumption | exact Ne.symm (by assumption) | omega | exact ne_mp (m := m) (by assumption) (by assumption) | exact Ne.symm (ne_mp (m := m) (by assumption) (by assumption)) | exact ne_mp (m := w) (by assumption) (by assumption) | exact Ne.symm (ne_mp (m := w) (by assumption) (by assumption)))).trans (by first | assumption | exact upm_same _ _ _ | exact (upm_ne _ _ (by first | assumption | exact Ne.symm (by assumption) | omega | exact ne_mp (m := m) (by assumption) (by assumption) | exact Ne.symm (ne_mp (m := m) (by assumption) (by assumption)) | exact ne_mp (m := w) (by assumption) (by assumption) | exact Ne.symm (ne_mp (m := w) (by assumption) (by assumption)))).trans (by first | assumption | exact upm_same _ _ _))))) rfl (by decide) rfl) rfl ?_
  refine zr_getN (C := RX1) (T := TX1) (N := 7) (q := 11) hX ciX1 5 rfl (by decide) in_X1 dX10_takes_8 (zNF_at 29 rfl) (fun H h => cI.rd h (by first | assumption | exact Or.inl (by assumption) | exact Or.inr (by first | assumption | exact upm_same _ _ _ | exact (upm_ne _ _ (by first | assumption | exact Ne.symm (by assumption) | omega | exact ne_mp (m := m) (by assumption) (by assumption) | exact Ne.symm (ne_mp (m := m) (by assumption) (by assumption)) | exact ne_mp (m := w) (by assumption) (by assumption) | exact Ne.symm (ne_mp (m := w) (by assumption) (by assumption)))).trans (by first | assumption | exact upm_same _ _ _ | exact (upm_ne _ _ (by first | assumption | exact Ne.symm (by assumption) | omega | exact ne_mp (m := m) (by assumption) (by assumption) | exact Ne.symm (ne_mp (m := m) (by assumption) (by assumption)) | exact ne_mp (m := w) (by assumption) (by assumption) | exact Ne.symm (ne_mp (m := w) (by assumption) (by assumption)))).trans (by first | assumption | exact upm_same _ _ _ | exact (upm_ne _ _ (by first | assumption | exact Ne.symm (by assumption) | omega | exact ne_mp (m := m) (by assumption) (by assumption) | exact Ne.symm (ne_mp (m := m) (by assumption) (by assumption)) | exact ne_mp (m := w) (by assumption) (by assumption) | exact Ne.symm (ne_mp (m := w) (by assumption) (by assumption)))).trans (by first | assumption | exact upm_same _ _ _))))) rfl (by decide) rfl) rfl ?_
  refine z_icmp_ge (q := 14) (t := 26) hX dX10_takes_11 (by decide) ⟨by omega, by omega⟩ ⟨by omega, by omega⟩ rfl (fun h11 => ?_) (fun h11 => ?_)
  · have e9 : hr s p ≠ c := by rw [hr_ge (by omega)]; omega
    refine z_iconst (q := 27) hX dX10_takes_26 rfl ?_
    refine z_istore_n (i := 2) (q := 28) hX dX10_takes_27 rfl (Nat.le_of_ble_eq_true rfl) rfl rfl ?_
    refine z_aload_n (i := 0) (q := 29) hX dX10_takes_28 rfl rfl rfl ?_
    refine z_dup (q := 30) hX dX10_takes_29 rfl rfl ?_
    refine zr_get (C := RX10) (T := TX10) (N := 2) (q := 33) hX ciX10 0 rfl (by decide) in_X10 dX10_takes_30 q1014 (Or.inl rfl) (fun H h => cI.rd h (by first | assumption | exact Or.inl (by assumption) | exact Or.inr (by first | assumption | exact upm_same _ _ _ | exact (upm_ne _ _ (by first | assumption | exact Ne.symm (by assumption) | omega | exact ne_mp (m := m) (by assumption) (by assumption) | exact Ne.symm (ne_mp (m := m) (by assumption) (by assumption)) | exact ne_mp (m := w) (by assumption) (by assumption) | exact Ne.symm (ne_mp (m := w) (by assumption) (by assumption)))).trans (by first | assumption | exact upm_same _ _ _ | exact (upm_ne _ _ (by first | assumption | exact Ne.symm (by assumption) | omega | exact ne_mp (m := m) (by assumption) (by assumption) | exact Ne.symm (ne_mp (m := m) (by assumption) (by assumption)) | exact ne_mp (m := w) (by assumption) (by assumption) | exact Ne.symm (ne_mp (m := w) (by assumption) (by assumption)))).trans (by first | assumption | exact upm_same _ _ _ | exact (upm_ne _ _ (by first | assumption | exact Ne.symm (by assumption) | omega | exact ne_mp (m := m) (by assumption) (by assumption) | exact Ne.symm (ne_mp (m := m) (by assumption) (by assumption)) | exact ne_mp (m := w) (by assumption) (by assumption) | exact Ne.symm (ne_mp (m := w) (by assumption) (by assumption)))).trans (by first | assumption | exact upm_same _ _ _))))) rfl (by decide) rfl) rfl ?_
    refine z_iload_n (i := 2) (q := 34) hX dX10_takes_33 rfl rfl rfl ?_
    refine z_if_eq (q := 37) (t := 41) hX dX10_takes_34 (by decide) (by omega) rfl (fun h34 => ?_) (fun h34 => ?_)
    · refine z_iconst (q := 42) hX dX10_takes_41 rfl ?_
      refine z_iadd (q := 43) hX dX10_takes_42 rfl ?_
      refine zc_put (C := RX10) (T := TX10) (N := 2) (q := 46) hX ciX10 0 rfl (by decide) in_X10 tyX10_ok nmX10 dX10_takes_43 q1014 (Or.inl rfl) rfl (by first | assumption | exact upm_same _ _ _ | exact (upm_ne _ _ (by first | assumption | exact Ne.symm (by assumption) | omega | exact ne_mp (m := m) (by assumption) (by assumption) | exact Ne.symm (ne_mp (m := m) (by assumption) (by assumption)) | exact ne_mp (m := w) (by assumption) (by assumption) | exact Ne.symm (ne_mp (m := w) (by assumption) (by assumption)))).trans (by first | assumption | exact upm_same _ _ _ | exact (upm_ne _ _ (by first | assumption | exact Ne.symm (by assumption) | omega | exact ne_mp (m := m) (by assumption) (by assumption) | exact Ne.symm (ne_mp (m := m) (by assumption) (by assumption)) | exact ne_mp (m := w) (by assumption) (by assumption) | exact Ne.symm (ne_mp (m := w) (by assumption) (by assumption)))).trans (by first | assumption | exact upm_same _ _ _ | exact (upm_ne _ _ (by first | assumption | exact Ne.symm (by assumption) | omega | exact ne_mp (m := m) (by assumption) (by assumption) | exact Ne.symm (ne_mp (m := m) (by assumption) (by assumption)) | exact ne_mp (m := w) (by assumption) (by assumption) | exact Ne.symm (ne_mp (m := w) (by assumption) (by assumption)))).trans (by first | assumption | exact upm_same _ _ _)))) (Nat.le_of_ble_eq_true rfl) rfl rfl rfl rfl ?_
      refine z_iload_n (i := 2) (q := 47) hX dX10_takes_46 rfl rfl rfl ?_
      exact z_zret hX dX10_takes_47 (by first | exact Nat.le_of_ble_eq_true rfl | (show (_ : Nat) ≤ 0; omega)) (by first | exact Nat.le_of_ble_eq_true rfl | (show (_ : Nat) ≤ 0; omega)) rfl (by first | decide | omega) (fun H h => ⟨by rw [decide_eq_false e9]; rfl, by rw [if_neg e9]; simp only [Int.add_zero] at h; exact h⟩)
    · exact absurd h34 (by decide)
  · have e8 : nx s p = hr s p := nx_hr (by omega)
    refine z_aload_n (i := 0) (q := 15) hX dX10_takes_14 rfl rfl rfl ?_
    refine z_V (ci := ciX10) (T := TX10) (N := 2) (na := 0) hX dX10_takes_15 (c_X10_next D A hb0) rfl q1035 q1037 qs18 q134 q1038 (by decide +kernel) ⟨Nat.le_of_ble_eq_true rfl, Nat.le_of_ble_eq_true rfl⟩ rfl rfl (Nat.le_of_ble_eq_true rfl) rfl (by first | exact Nat.le_of_ble_eq_true rfl | (show _ + 0 ≤ 0; omega)) (by first | exact Nat.le_of_ble_eq_true rfl | (show _ + 0 ≤ 0; omega)) (fun H h => ⟨h, h.obE (Or.inr h1) rfl⟩) (fun E a => zT.no) (zPd.out ?_)
    show zG X (_ + 0) (_ + 0) _ 18 _ _
    refine z_iload_n (i := 1) (q := 19) hX dX10_takes_18 rfl rfl rfl ?_
    refine z_icmp_ne (q := 22) (t := 26) hX dX10_takes_19 (by decide) ⟨by omega, by omega⟩ ⟨by omega, by omega⟩ rfl (fun h19 => ?_) (fun h19 => ?_)
    · refine z_iconst (q := 27) hX dX10_takes_26 rfl ?_
      refine z_istore_n (i := 2) (q := 28) hX dX10_takes_27 rfl (Nat.le_of_ble_eq_true rfl) rfl rfl ?_
      refine z_aload_n (i := 0) (q := 29) hX dX10_takes_28 rfl rfl rfl ?_
      refine z_dup (q := 30) hX dX10_takes_29 rfl rfl ?_
      refine zr_get (C := RX10) (T := TX10) (N := 2) (q := 33) hX ciX10 0 rfl (by decide) in_X10 dX10_takes_30 q1014 (Or.inl rfl) (fun H h => cI.rd h (by first | assumption | exact Or.inl (by assumption) | exact Or.inr (by first | assumption | exact upm_same _ _ _ | exact (upm_ne _ _ (by first | assumption | exact Ne.symm (by assumption) | omega | exact ne_mp (m := m) (by assumption) (by assumption) | exact Ne.symm (ne_mp (m := m) (by assumption) (by assumption)) | exact ne_mp (m := w) (by assumption) (by assumption) | exact Ne.symm (ne_mp (m := w) (by assumption) (by assumption)))).trans (by first | assumption | exact upm_same _ _ _ | exact (upm_ne _ _ (by first | assumption | exact Ne.symm (by assumption) | omega | exact ne_mp (m := m) (by assumption) (by assumption) | exact Ne.symm (ne_mp (m := m) (by assumption) (by assumption)) | exact ne_mp (m := w) (by assumption) (by assumption) | exact Ne.symm (ne_mp (m := w) (by assumption) (by assumption)))).trans (by first | assumption | exact upm_same _ _ _ | exact (upm_ne _ _ (by first | assumption | exact Ne.symm (by assumption) | omega | exact ne_mp (m := m) (by assumption) (by assumption) | exact Ne.symm (ne_mp (m := m) (by assumption) (by assumption)) | exact ne_mp (m := w) (by assumption) (by assumption) | exact Ne.symm (ne_mp (m := w) (by assumption) (by assumption)))).trans (by first | assumption | exact upm_same _ _ _))))) rfl (by decide) rfl) rfl ?_
      refine z_iload_n (i := 2) (q := 34) hX dX10_takes_33 rfl rfl rfl ?_
      refine z_if_eq (q := 37) (t := 41) hX dX10_takes_34 (by decide) (by omega) rfl (fun h34 => ?_) (fun h34 => ?_)
      · refine z_iconst (q := 42) hX dX10_takes_41 rfl ?_
        refine z_iadd (q := 43) hX dX10_takes_42 rfl ?_
        refine zc_put (C := RX10) (T := TX10) (N := 2) (q := 46) hX ciX10 0 rfl (by decide) in_X10 tyX10_ok nmX10 dX10_takes_43 q1014 (Or.inl rfl) rfl (by first | assumption | exact upm_same _ _ _ | exact (upm_ne _ _ (by first | assumption | exact Ne.symm (by assumption) | omega | exact ne_mp (m := m) (by assumption) (by assumption) | exact Ne.symm (ne_mp (m := m) (by assumption) (by assumption)) | exact ne_mp (m := w) (by assumption) (by assumption) | exact Ne.symm (ne_mp (m := w) (by assumption) (by assumption)))).trans (by first | assumption | exact upm_same _ _ _ | exact (upm_ne _ _ (by first | assumption | exact Ne.symm (by assumption) | omega | exact ne_mp (m := m) (by assumption) (by assumption) | exact Ne.symm (ne_mp (m := m) (by assumption) (by assumption)) | exact ne_mp (m := w) (by assumption) (by assumption) | exact Ne.symm (ne_mp (m := w) (by assumption) (by assumption)))).trans (by first | assumption | exact upm_same _ _ _ | exact (upm_ne _ _ (by first | assumption | exact Ne.symm (by assumption) | omega | exact ne_mp (m := m) (by assumption) (by assumption) | exact Ne.symm (ne_mp (m := m) (by assumption) (by assumption)) | exact ne_mp (m := w) (by assumption) (by assumption) | exact Ne.symm (ne_mp (m := w) (by assumption) (by assumption)))).trans (by first | assumption | exact upm_same _ _ _)))) (Nat.le_of_ble_eq_true rfl) rfl rfl rfl rfl ?_
        refine z_iload_n (i := 2) (q := 47) hX dX10_takes_46 rfl rfl rfl ?_
        exact z_zret hX dX10_takes_47 (by first | exact Nat.le_of_ble_eq_true rfl | (show (_ : Nat) ≤ 0; omega)) (by first | exact Nat.le_of_ble_eq_true rfl | (show (_ : Nat) ≤ 0; omega)) rfl (by first | decide | omega) (fun H h => ⟨by rw [decide_eq_false (by omega)]; rfl, by rw [if_neg (by omega)]; simp only [Int.add_zero] at h; exact h⟩)
      · exact absurd h34 (by decide)
    · refine z_iconst (q := 23) hX dX10_takes_22 rfl ?_
      refine z_goto (t := 27) hX dX10_takes_23 (by decide) ?_
      refine z_istore_n (i := 2) (q := 28) hX dX10_takes_27 rfl (Nat.le_of_ble_eq_true rfl) rfl rfl ?_
      refine z_aload_n (i := 0) (q := 29) hX dX10_takes_28 rfl rfl rfl ?_
      refine z_dup (q := 30) hX dX10_takes_29 rfl rfl ?_
      refine zr_get (C := RX10) (T := TX10) (N := 2) (q := 33) hX ciX10 0 rfl (by decide) in_X10 dX10_takes_30 q1014 (Or.inl rfl) (fun H h => cI.rd h (by first | assumption | exact Or.inl (by assumption) | exact Or.inr (by first | assumption | exact upm_same _ _ _ | exact (upm_ne _ _ (by first | assumption | exact Ne.symm (by assumption) | omega | exact ne_mp (m := m) (by assumption) (by assumption) | exact Ne.symm (ne_mp (m := m) (by assumption) (by assumption)) | exact ne_mp (m := w) (by assumption) (by assumption) | exact Ne.symm (ne_mp (m := w) (by assumption) (by assumption)))).trans (by first | assumption | exact upm_same _ _ _ | exact (upm_ne _ _ (by first | assumption | exact Ne.symm (by assumption) | omega | exact ne_mp (m := m) (by assumption) (by assumption) | exact Ne.symm (ne_mp (m := m) (by assumption) (by assumption)) | exact ne_mp (m := w) (by assumption) (by assumption) | exact Ne.symm (ne_mp (m := w) (by assumption) (by assumption)))).trans (by first | assumption | exact upm_same _ _ _ | exact (upm_ne _ _ (by first | assumption | exact Ne.symm (by assumption) | omega | exact ne_mp (m := m) (by assumption) (by assumption) | exact Ne.symm (ne_mp (m := m) (by assumption) (by assumption)) | exact ne_mp (m := w) (by assumption) (by assumption) | exact Ne.symm (ne_mp (m := w) (by assumption) (by assumption)))).trans (by first | assumption | exact upm_same _ _ _))))) rfl (by decide) rfl) rfl ?_
      refine z_iload_n (i := 2) (q := 34) hX dX10_takes_33 rfl rfl rfl ?_
      refine z_if_eq (q := 37) (t := 41) hX dX10_takes_34 (by decide) (by omega) rfl (fun h34 => ?_) (fun h34 => ?_)
      · exact absurd h34 (by decide)
      · refine z_iconst (q := 38) hX dX10_takes_37 rfl ?_
        refine z_goto (t := 42) hX dX10_takes_38 (by decide) ?_
        refine z_iadd (q := 43) hX dX10_takes_42 rfl ?_
        refine zc_put (C := RX10) (T := TX10) (N := 2) (q := 46) hX ciX10 0 rfl (by decide) in_X10 tyX10_ok nmX10 dX10_takes_43 q1014 (Or.inl rfl) rfl (by first | assumption | exact upm_same _ _ _ | exact (upm_ne _ _ (by first | assumption | exact Ne.symm (by assumption) | omega | exact ne_mp (m := m) (by assumption) (by assumption) | exact Ne.symm (ne_mp (m := m) (by assumption) (by assumption)) | exact ne_mp (m := w) (by assumption) (by assumption) | exact Ne.symm (ne_mp (m := w) (by assumption) (by assumption)))).trans (by first | assumption | exact upm_same _ _ _ | exact (upm_ne _ _ (by first | assumption | exact Ne.symm (by assumption) | omega | exact ne_mp (m := m) (by assumption) (by assumption) | exact Ne.symm (ne_mp (m := m) (by assumption) (by assumption)) | exact ne_mp (m := w) (by assumption) (by assumption) | exact Ne.symm (ne_mp (m := w) (by assumption) (by assumption)))).trans (by first | assumption | exact upm_same _ _ _ | exact (upm_ne _ _ (by first | assumption | exact Ne.symm (by assumption) | omega | exact ne_mp (m := m) (by assumption) (by assumption) | exact Ne.symm (ne_mp (m := m) (by assumption) (by assumption)) | exact ne_mp (m := w) (by assumption) (by assumption) | exact Ne.symm (ne_mp (m := w) (by assumption) (by assumption)))).trans (by first | assumption | exact upm_same _ _ _)))) (Nat.le_of_ble_eq_true rfl) rfl rfl rfl rfl ?_
        refine z_iload_n (i := 2) (q := 47) hX dX10_takes_46 rfl rfl rfl ?_
        exact z_zret hX dX10_takes_47 (by first | exact Nat.le_of_ble_eq_true rfl | (show (_ : Nat) ≤ 0; omega)) (by first | exact Nat.le_of_ble_eq_true rfl | (show (_ : Nat) ≤ 0; omega)) rfl (by first | decide | omega) (fun H h => ⟨by rw [decide_eq_true (by omega)]; rfl, by rw [if_pos (by omega)]; exact h⟩)
abbrev rmX10_isDigit : Room := { frames := 1, cells := 0, slots := 0, locals := 22 }
set_option maxHeartbeats 4000000 in
theorem c_X10_isDigit (D : zD) (A : Nat → Prop) {w m : zMp} {b : Nat} {o ia : Nat} {p : Int} {s : zS} (hb : rdr D m b o ia p s) : zC D yX10_isDigit cX10_isDigit 1 (some .boolean) none rmX10_isDigit A [.ref b] (cI D A w m) (zPd (zI (bi (isDig (hr s p)))) (cI D A w m)) (zNo) := by
  refine zC_start (L := [some (.ref b)]) (by decide) (Nat.le_of_ble_eq_true rfl) rfl (fun X hX => ?_)
  have h1 := hb.1
  have hnx := hb.2.2.2.1.nX hb.2.2.2.2.1
  refine z_aload_n (i := 0) (q := 1) hX dX10_isDigit_0 rfl rfl rfl ?_
  refine z_V (ci := ciX10) (T := TX10) (N := 2) (na := 0) hX dX10_isDigit_1 (c_X10_next D A hb) rfl q1035 q1037 qs18 q134 q1038 (by decide +kernel) ⟨Nat.le_of_ble_eq_true rfl, Nat.le_of_ble_eq_true rfl⟩ rfl rfl (Nat.le_of_ble_eq_true rfl) rfl (by first | exact Nat.le_of_ble_eq_true rfl | (show _ + 0 ≤ 0; omega)) (by first | exact Nat.le_of_ble_eq_true rfl | (show _ + 0 ≤ 0; omega)) (fun H h => ⟨h, h.obE (Or.inr h1) rfl⟩) (fun E a => zT.no) (zPd.out ?_)
  show zG X (_ + 0) (_ + 0) _ 4 _ _
  refine z_bipush (q := 6) hX dX10_isDigit_4 (by decide) rfl ?_
  refine z_bipush (q := 8) hX dX10_isDigit_6 (by decide) rfl ?_
  refine z_SN (na := 3) hX dX10_isDigit_8 (c_X1_inRange D A ⟨by omega, by omega⟩ (by decide) (by decide)) (zNM_at 4 rfl) q1050 q97 q1051 (by decide +kernel) ⟨Nat.le_of_ble_eq_true rfl, Nat.le_of_ble_eq_true rfl⟩ rfl rfl (Nat.le_of_ble_eq_true rfl) rfl (by first | exact Nat.le_of_ble_eq_true rfl | (show _ + 0 ≤ 0; omega)) (by first | exact Nat.le_of_ble_eq_true rfl | (show _ + 0 ≤ 0; omega)) (fun H h => h) (fun E a => zT.no) (zPd.out ?_)
  show zG X (_ + 0) (_ + 0) _ 11 _ _
  exact z_zretB hX dX10_isDigit_11 (by first | exact Nat.le_of_ble_eq_true rfl | (show (_ : Nat) ≤ 0; omega)) (by first | exact Nat.le_of_ble_eq_true rfl | (show (_ : Nat) ≤ 0; omega)) rfl (fun H h => ⟨congrArg (fun z => some (zI z)) ((by rw [← nx_dig]; rfl)), h⟩)
abbrev rmX10_need : Room := { frames := 4, cells := 1, slots := 7, locals := 89 }
set_option maxHeartbeats 4000000 in
theorem c_X10_need (D : zD) (A : Nat → Prop) {w m : zMp} {b : Nat} {o ia : Nat} {p : Int} {s : zS} {c : Bool} (hb : rdr D m b o ia p s) : zC D yX10_need cX10_need 2 none none rmX10_need A [.ref b, zI (bi (c))] (cI D A w m) (zPe (fun (x : Unit) => none) (fun _ => c = true) (fun _ => cI D A w m)) (xTx D A w m (c = false) p) := by
  refine zC_start (L := [some (.ref b), some (zI (bi (c)))]) (by decide) (Nat.le_of_ble_eq_true rfl) rfl (fun X hX => ?_)
  obtain ⟨hm1, ⟨lg, sv, hl, rp, cd, h2⟩, ⟨f, h3, h4⟩, h5, h6⟩ := hb
  have h60 := h5.1
  refine z_iload_n (i := 1) (q := 1) hX dX10_need_0 rfl rfl rfl ?_
  refine z_ifB_ne (q := 4) (t := 16) hX dX10_need_1 (by decide) rfl (fun h1 => ?_) (fun h1 => ?_)
  · exact z_vret hX dX10_need_16 (by first | exact Nat.le_of_ble_eq_true rfl | (show (_ : Nat) ≤ 1; omega)) (by first | exact Nat.le_of_ble_eq_true rfl | (show (_ : Nat) ≤ 7; omega)) rfl (fun H h => ⟨(), rfl, h1, h⟩)
  · have h1x : c = false := h1
    refine zc_new (q := 7) (fs := [.null, .null, .null, .null, .null, zI 0, zI 0]) (C := RX13) (T := TX13) (N := 7) hX ciX13 rfl in_X13 tyX13_ok dX10_need_4 q1056 q1057 q137 (fun j hj => by match j, hj with | 0, _ => rfl | 1, _ => rfl | 2, _ => rfl | 3, _ => rfl | 4, _ => rfl | 5, _ => rfl | 6, _ => rfl | (_ + 7), h => exact absurd h (by omega)) (by first | exact Nat.le_of_ble_eq_true rfl | (show _ + 1 ≤ 1; omega)) (by first | exact Nat.le_of_ble_eq_true rfl | (show _ + 7 ≤ 7; omega)) rfl (fun a4 ha4 hb4 => ?_)
    have n4 := hb4
    try simp only [upm_none] at n4
    repeat (have := And.left n4; replace n4 := And.right n4)
    refine z_dup (q := 8) hX dX10_need_7 rfl rfl ?_
    refine z_aload_n (i := 0) (q := 9) hX dX10_need_8 rfl rfl rfl ?_
    refine zr_get (C := RX10) (T := TX10) (N := 2) (q := 12) hX ciX10 0 rfl (by decide) in_X10 dX10_need_9 q1014 (Or.inl rfl) (fun H h => cI.rd h (Or.inr ((upm_ne _ _ (Ne.symm (ne_mp hb4 hm1))).trans hm1)) rfl (by decide) rfl) rfl ?_
    refine z_C (na := 1) hX dX10_need_12 (c_X13_init D A (upm_same _ _ _)) q1065 q1066 q137 q1067 rfl (by decide +kernel) ⟨Nat.le_of_ble_eq_true rfl, Nat.le_of_ble_eq_true rfl⟩ rfl rfl (Nat.le_of_ble_eq_true rfl) rfl (by first | exact Nat.le_of_ble_eq_true rfl | (show _ + 0 ≤ 1; omega)) (by first | exact Nat.le_of_ble_eq_true rfl | (show _ + 0 ≤ 7; omega)) (fun H h => h) (fun E a => zT.no) (zPv.out ?_)
    show zG X (_ + 0) (_ + 0) _ 15 _ _
    refine z_athrow hX ciX13 rfl dX10_need_15 (fun H h => (h.at (Or.inr (upm_same _ _ _))).th) ?_
    exact zT.out hX (by decide) (by first | exact Nat.le_of_ble_eq_true rfl | (show (_ : Nat) ≤ 1; omega)) (by first | exact Nat.le_of_ble_eq_true rfl | (show (_ : Nat) ≤ 7; omega)) (fun H h => ⟨rfl, h1x, ⟨ha4, hb4⟩, by simp only [upm_upm] at h; exact h⟩)
abbrev rmX10_number : Room := { frames := 5, cells := 1, slots := 7, locals := 110 }
set_option maxHeartbeats 4000000 in
theorem c_X10_number (D : zD) (A : Nat → Prop) {w m : zMp} {b : Nat} {o ia : Nat} {p : Int} {s : zS} (hb : rdr D m b o ia p s) : zC D yX10_number cX10_number 4 (some .int) none rmX10_number A [.ref b] (cI D A w m) (zPe (fun (x : Unit) => some (zI (nuV s p))) (fun _ => nuN s p ≠ 0) (fun _ => cI D A w (rdM m b o (nuP s p)))) (xTx D A w (rdM m b o (nuP s p)) (nuN s p = 0) (nuP s p)) := by
  refine zC_start (L := [some (.ref b), none, none, none]) (by decide) (Nat.le_of_ble_eq_true rfl) rfl (fun X hX => ?_)
  have hb0 := hb
  obtain ⟨h1, ⟨lg, sv, hl, rp, cd, h2⟩, ⟨f, h3, h4⟩, h5, h6⟩ := hb
  have h60 := h5.1
  obtain ⟨N9, hN9⟩ : ∃ N9 : Nat, N9 = nuN s p := ⟨_, rfl⟩
  obtain ⟨P9, hP9⟩ : ∃ P9 : Int, P9 = nuP s p := ⟨_, rfl⟩
  obtain ⟨V9, hV9⟩ : ∃ V9 : Int, V9 = nuV s p := ⟨_, rfl⟩
  rw [← hN9, ← hP9, ← hV9] at hX
  have hP8 : P9 = p + ngI s p + N9 := by rw [hP9, hN9]; rfl
  have hV8 : ∀ v : Int, v = numI (fun j => hr s (p + ngI s p + j)) N9 → V9 = if hr s p = 45 then -v else v := fun v hv => by rw [hV9, hv, hN9]; rfl
  have hst8 : ∀ i : Nat, i ≤ 6 → dgc s (p + ngI s p) i = i → isDig (hr s (p + ngI s p + (i : Int))) = false → i = N9 := fun i hi h1 h2 => by rw [hN9]; exact (dgc_stop h1 h2 hi).symm
  have hen8 : ∀ i : Nat, i = 6 → dgc s (p + ngI s p) i = i → i = N9 := fun i hi h1 => by rw [hN9]; unfold nuN; rw [← hi]; exact h1.symm
  clear hN9 hP9 hV9
  have hng := ngI_cs s p
  have hpl : p + ngI s p ≤ s.length := by
    rcases hng with ⟨q1, q2⟩ | ⟨q1, q2⟩
    · have := hr_in (s := s) (p := p) (by omega)
      omega
    · omega
  have e1 : (if hr s p = 45 then p + 1 else p) = p + ngI s p := by
    rcases hng with ⟨q1, q2⟩ | ⟨q1, q2⟩
    · rw [if_pos q1, q2]
    · rw [if_neg q1, q2, Int.add_zero]
  have K61 : ∀ (i : Nat) (v x3 : Int), i = N9 → i ≠ 0 → v = numI (fun j => hr s (p + ngI s p + j)) i → zG X 1 7 (cI D A w (rdM m b o (p + ngI s p + (i : Int)))) 61 [some (.ref b), some (zI (bi (decide (hr s p = 45)))), some (zI v), some (zI x3)] [] := by
    intro i v x3 hi hi0 hv
    have eA := hV8 v (by rw [← hi]; exact hv)
    have eP : p + ngI s p + (i : Int) = P9 := by omega
    rw [eP]
    refine z_iload_n (i := 1) (q := 62) hX dX10_number_61 rfl rfl rfl ?_
    refine z_ifB_eq (q := 65) (t := 70) hX dX10_number_62 (by decide) rfl (fun h62 => ?_) (fun h62 => ?_)
    · refine z_iload_n (i := 2) (q := 71) hX dX10_number_70 rfl rfl rfl ?_
      exact z_iret hX dX10_number_71 (by first | exact Nat.le_of_ble_eq_true rfl | (show (_ : Nat) ≤ 1; omega)) (by first | exact Nat.le_of_ble_eq_true rfl | (show (_ : Nat) ≤ 7; omega)) rfl (fun H h => ⟨(), by rw [eA, if_neg (of_decide_eq_false h62)], by omega, h⟩)
    · refine z_iload_n (i := 2) (q := 66) hX dX10_number_65 rfl rfl rfl ?_
      refine z_ineg (q := 67) hX dX10_number_66 rfl ?_
      refine z_goto (t := 71) hX dX10_number_67 (by decide) ?_
      exact z_iret hX dX10_number_71 (by first | exact Nat.le_of_ble_eq_true rfl | (show (_ : Nat) ≤ 1; omega)) (by first | exact Nat.le_of_ble_eq_true rfl | (show (_ : Nat) ≤ 7; omega)) rfl (fun H h => ⟨(), by rw [eA, if_pos (of_decide_eq_true h62)], by omega, h⟩)
  have K19 : ∀ i : Nat, i ≤ 6 → dgc s (p + ngI s p) i = i → (i = 0 → isDig (hr s (p + ngI s p)) = true) → p + ngI s p + i ≤ s.length → ∀ (v q : Int), q = i → v = numI (fun j => hr s (p + ngI s p + j)) i → zG X 1 7 (cI D A w (rdM m b o (p + ngI s p + (i : Int)))) 19 [some (.ref b), some (zI (bi (decide (hr s p = 45)))), some (zI v), some (zI q)] [] := by
    refine z_up (fun i hi ih hd hd0 hil v q eq ev => ?_)
    subst eq
    have hb1 := hb0.up (q := p + ngI s p + (i : Int)) (by omega) hil
    have hb2 := hb1.1
    by_cases hi6 : i < 6
    · cases hdg : isDig (hr s (p + ngI s p + (i : Int))) with
      | false =>
        have hi0 : i ≠ 0 := fun q => by
          have := hd0 q
          rw [q, show p + ngI s p + ((0 : Nat) : Int) = p + ngI s p from Int.add_zero _, this] at hdg
          cases hdg
        have hn : i = N9 := hst8 i hi hd hdg
        refine z_iload_n (i := 3) (q := 20) hX dX10_number_19 rfl rfl rfl ?_
        refine z_bipush (q := 22) hX dX10_number_20 (by decide) rfl ?_
        refine z_icmp_ge (q := 25) (t := 61) hX dX10_number_22 (by decide) ⟨by omega, by omega⟩ (by decide) rfl (fun h22 => ?_) (fun h22 => ?_)
        · exact absurd h22 (by omega)
        · refine z_aload_n (i := 0) (q := 26) hX dX10_number_25 rfl rfl rfl ?_
          refine z_V (ci := ciX10) (T := TX10) (N := 2) (na := 0) hX dX10_number_26 (c_X10_isDigit D A hb1) rfl q1045 q1047 qs20 q134 q1048 (by decide +kernel) ⟨Nat.le_of_ble_eq_true rfl, Nat.le_of_ble_eq_true rfl⟩ rfl rfl (Nat.le_of_ble_eq_true rfl) rfl (by first | exact Nat.le_of_ble_eq_true rfl | (show _ + 0 ≤ 1; omega)) (by first | exact Nat.le_of_ble_eq_true rfl | (show _ + 0 ≤ 7; omega)) (fun H h => ⟨h, h.obE (Or.inr hb2) rfl⟩) (fun E a => zT.no) (zPd.out ?_)
          show zG X (_ + 0) (_ + 0) _ 29 _ _
          refine z_ifB_eq (q := 32) (t := 61) hX dX10_number_29 (by decide) rfl (fun h29 => ?_) (fun h29 => ?_)
          · exact K61 i _ _ hn hi0 ev
          · exact absurd h29 (by rw [hdg]; decide)
      | true =>
        have hlt := isDig_lt hdg
        have hc9 := isDig_iff.mp hdg
        have hst : numI (fun j => hr s (p + ngI s p + j)) (i + 1) = 10 * numI (fun j => hr s (p + ngI s p + j)) i + hr s (p + ngI s p + (i : Int)) - 48 := rfl
        refine z_iload_n (i := 3) (q := 20) hX dX10_number_19 rfl rfl rfl ?_
        refine z_bipush (q := 22) hX dX10_number_20 (by decide) rfl ?_
        refine z_icmp_ge (q := 25) (t := 61) hX dX10_number_22 (by decide) ⟨by omega, by omega⟩ (by decide) rfl (fun h22 => ?_) (fun h22 => ?_)
        · exact absurd h22 (by omega)
        · refine z_aload_n (i := 0) (q := 26) hX dX10_number_25 rfl rfl rfl ?_
          refine z_V (ci := ciX10) (T := TX10) (N := 2) (na := 0) hX dX10_number_26 (c_X10_isDigit D A hb1) rfl q1045 q1047 qs20 q134 q1048 (by decide +kernel) ⟨Nat.le_of_ble_eq_true rfl, Nat.le_of_ble_eq_true rfl⟩ rfl rfl (Nat.le_of_ble_eq_true rfl) rfl (by first | exact Nat.le_of_ble_eq_true rfl | (show _ + 0 ≤ 1; omega)) (by first | exact Nat.le_of_ble_eq_true rfl | (show _ + 0 ≤ 7; omega)) (fun H h => ⟨h, h.obE (Or.inr hb2) rfl⟩) (fun E a => zT.no) (zPd.out ?_)
          show zG X (_ + 0) (_ + 0) _ 29 _ _
          refine z_ifB_eq (q := 32) (t := 61) hX dX10_number_29 (by decide) rfl (fun h29 => ?_) (fun h29 => ?_)
          · exact absurd h29 (by rw [hdg]; decide)
          · refine z_bipush (q := 34) hX dX10_number_32 (by decide) rfl ?_
            refine z_iload_n (i := 2) (q := 35) hX dX10_number_34 rfl rfl rfl ?_
            refine z_imul (q := 36) hX dX10_number_35 rfl ?_
            refine z_aload_n (i := 0) (q := 37) hX dX10_number_36 rfl rfl rfl ?_
            refine z_V (ci := ciX10) (T := TX10) (N := 2) (na := 0) hX dX10_number_37 (c_X10_next D A hb1) rfl q1035 q1037 qs18 q134 q1038 (by decide +kernel) ⟨Nat.le_of_ble_eq_true rfl, Nat.le_of_ble_eq_true rfl⟩ rfl rfl (Nat.le_of_ble_eq_true rfl) rfl (by first | exact Nat.le_of_ble_eq_true rfl | (show _ + 0 ≤ 1; omega)) (by first | exact Nat.le_of_ble_eq_true rfl | (show _ + 0 ≤ 7; omega)) (fun H h => ⟨h, h.obE (Or.inr hb2) rfl⟩) (fun E a => zT.no) (zPd.out ?_)
            show zG X (_ + 0) (_ + 0) _ 40 _ _
            refine z_iadd (q := 41) hX dX10_number_40 rfl ?_
            refine z_bipush (q := 43) hX dX10_number_41 (by decide) rfl ?_
            refine z_isub (q := 44) hX dX10_number_43 rfl ?_
            refine z_istore_n (i := 2) (q := 45) hX dX10_number_44 rfl (Nat.le_of_ble_eq_true rfl) rfl rfl ?_
            refine z_aload_n (i := 0) (q := 46) hX dX10_number_45 rfl rfl rfl ?_
            refine z_dup (q := 47) hX dX10_number_46 rfl rfl ?_
            refine zr_get (C := RX10) (T := TX10) (N := 2) (q := 50) hX ciX10 0 rfl (by decide) in_X10 dX10_number_47 q1014 (Or.inl rfl) (fun H h => cI.rd h (by first | assumption | exact Or.inl (by assumption) | exact Or.inr (by first | assumption | exact upm_same _ _ _ | exact (upm_ne _ _ (by first | assumption | exact Ne.symm (by assumption) | omega | exact ne_mp (m := m) (by assumption) (by assumption) | exact Ne.symm (ne_mp (m := m) (by assumption) (by assumption)) | exact ne_mp (m := w) (by assumption) (by assumption) | exact Ne.symm (ne_mp (m := w) (by assumption) (by assumption)))).trans (by first | assumption | exact upm_same _ _ _ | exact (upm_ne _ _ (by first | assumption | exact Ne.symm (by assumption) | omega | exact ne_mp (m := m) (by assumption) (by assumption) | exact Ne.symm (ne_mp (m := m) (by assumption) (by assumption)) | exact ne_mp (m := w) (by assumption) (by assumption) | exact Ne.symm (ne_mp (m := w) (by assumption) (by assumption)))).trans (by first | assumption | exact upm_same _ _ _ | exact (upm_ne _ _ (by first | assumption | exact Ne.symm (by assumption) | omega | exact ne_mp (m := m) (by assumption) (by assumption) | exact Ne.symm (ne_mp (m := m) (by assumption) (by assumption)) | exact ne_mp (m := w) (by assumption) (by assumption) | exact Ne.symm (ne_mp (m := w) (by assumption) (by assumption)))).trans (by first | assumption | exact upm_same _ _ _))))) rfl (by decide) rfl) rfl ?_
            refine z_iconst (q := 51) hX dX10_number_50 rfl ?_
            refine z_iadd (q := 52) hX dX10_number_51 rfl ?_
            refine zc_put (C := RX10) (T := TX10) (N := 2) (q := 55) hX ciX10 0 rfl (by decide) in_X10 tyX10_ok nmX10 dX10_number_52 q1014 (Or.inl rfl) rfl (by first | assumption | exact upm_same _ _ _ | exact (upm_ne _ _ (by first | assumption | exact Ne.symm (by assumption) | omega | exact ne_mp (m := m) (by assumption) (by assumption) | exact Ne.symm (ne_mp (m := m) (by assumption) (by assumption)) | exact ne_mp (m := w) (by assumption) (by assumption) | exact Ne.symm (ne_mp (m := w) (by assumption) (by assumption)))).trans (by first | assumption | exact upm_same _ _ _ | exact (upm_ne _ _ (by first | assumption | exact Ne.symm (by assumption) | omega | exact ne_mp (m := m) (by assumption) (by assumption) | exact Ne.symm (ne_mp (m := m) (by assumption) (by assumption)) | exact ne_mp (m := w) (by assumption) (by assumption) | exact Ne.symm (ne_mp (m := w) (by assumption) (by assumption)))).trans (by first | assumption | exact upm_same _ _ _ | exact (upm_ne _ _ (by first | assumption | exact Ne.symm (by assumption) | omega | exact ne_mp (m := m) (by assumption) (by assumption) | exact Ne.symm (ne_mp (m := m) (by assumption) (by assumption)) | exact ne_mp (m := w) (by assumption) (by assumption) | exact Ne.symm (ne_mp (m := w) (by assumption) (by assumption)))).trans (by first | assumption | exact upm_same _ _ _)))) (Nat.le_of_ble_eq_true rfl) rfl rfl rfl rfl ?_
            refine z_iinc (q := 58) hX dX10_number_55 rfl (Nat.le_of_ble_eq_true rfl) rfl rfl ?_
            refine z_goto (t := 19) hX dX10_number_58 (by decide) ?_
            refine zG.mono (ih hi6 (dgc_s hd hdg) (fun q => absurd q (by omega)) (by omega) _ _ rfl (by rw [hst, nx_hr hlt, ev])) (fun H h => ?_)
            simp only [rdM, upm_upm] at h
            have e9 : p + ngI s p + ((i + 1 : Nat) : Int) = p + ngI s p + (i : Int) + 1 := by omega
            rw [e9]
            exact h
    · have hi6' : i = 6 := by omega
      have hn : i = N9 := hen8 i hi6' hd
      refine z_iload_n (i := 3) (q := 20) hX dX10_number_19 rfl rfl rfl ?_
      refine z_bipush (q := 22) hX dX10_number_20 (by decide) rfl ?_
      refine z_icmp_ge (q := 25) (t := 61) hX dX10_number_22 (by decide) ⟨by omega, by omega⟩ (by decide) rfl (fun h22 => ?_) (fun h22 => ?_)
      · exact K61 i _ _ hn (by omega) ev
      · exact absurd (by omega) h22
  have hb1 := hb0.up (q := p + ngI s p) (by omega) hpl
  have hb2 := hb1.1
  refine z_aload_n (i := 0) (q := 1) hX dX10_number_0 rfl rfl rfl ?_
  refine z_bipush (q := 3) hX dX10_number_1 (by decide) rfl ?_
  refine z_V (ci := ciX10) (T := TX10) (N := 2) (na := 1) hX dX10_number_3 (c_X10_takes D A hb0 (by decide)) rfl q1031 q1033 qs17 q134 q1034 (by decide +kernel) ⟨Nat.le_of_ble_eq_true rfl, Nat.le_of_ble_eq_true rfl⟩ rfl rfl (Nat.le_of_ble_eq_true rfl) rfl (by first | exact Nat.le_of_ble_eq_true rfl | (show _ + 0 ≤ 1; omega)) (by first | exact Nat.le_of_ble_eq_true rfl | (show _ + 0 ≤ 7; omega)) (fun H h => ⟨h, h.obE (Or.inr h1) rfl⟩) (fun E a => zT.no) (zPd.out ?_)
  show zG X (_ + 0) (_ + 0) _ 6 _ _
  rw [e1]
  refine z_istore_n (i := 1) (q := 7) hX dX10_number_6 rfl (Nat.le_of_ble_eq_true rfl) rfl rfl ?_
  refine z_aload_n (i := 0) (q := 8) hX dX10_number_7 rfl rfl rfl ?_
  refine z_aload_n (i := 0) (q := 9) hX dX10_number_8 rfl rfl rfl ?_
  refine z_V (ci := ciX10) (T := TX10) (N := 2) (na := 0) hX dX10_number_9 (c_X10_isDigit D A hb1) rfl q1045 q1047 qs20 q134 q1048 (by decide +kernel) ⟨Nat.le_of_ble_eq_true rfl, Nat.le_of_ble_eq_true rfl⟩ rfl rfl (Nat.le_of_ble_eq_true rfl) rfl (by first | exact Nat.le_of_ble_eq_true rfl | (show _ + 0 ≤ 1; omega)) (by first | exact Nat.le_of_ble_eq_true rfl | (show _ + 0 ≤ 7; omega)) (fun H h => ⟨h, h.obE (Or.inr hb2) rfl⟩) (fun E a => zT.no) (zPd.out ?_)
  show zG X (_ + 0) (_ + 0) _ 12 _ _
  refine z_V (ci := ciX10) (T := TX10) (N := 2) (na := 1) hX dX10_number_12 (c_X10_need D A hb1) rfl q1052 q1054 qs21 q134 q1055 (by decide +kernel) ⟨Nat.le_of_ble_eq_true rfl, Nat.le_of_ble_eq_true rfl⟩ rfl rfl (Nat.le_of_ble_eq_true rfl) rfl (by first | exact Nat.le_of_ble_eq_true rfl | (show _ + 1 ≤ 1; omega)) (by first | exact Nat.le_of_ble_eq_true rfl | (show _ + 7 ≤ 7; omega)) (fun H h => ⟨h, h.obE (Or.inr hb2) rfl⟩) (zXs.out (fun e12 => ?_)) (zPe.out (fun x12 hx12 => ?_))
  · refine zT.ax (fun hx12 => ?_)
    have hn0 : N9 = 0 := (hst8 0 (by omega) rfl (by rw [show p + ngI s p + ((0 : Nat) : Int) = p + ngI s p from Int.add_zero _]; exact hx12)).symm
    have eP : P9 = p + ngI s p := by rw [hP8, hn0]; exact Int.add_zero _
    exact zT.out hX (by decide) (by first | exact Nat.le_of_ble_eq_true rfl | (show (_ : Nat) ≤ 1; omega)) (by first | exact Nat.le_of_ble_eq_true rfl | (show (_ : Nat) ≤ 7; omega)) (fun H h => ⟨rfl, hn0, by rw [eP]; exact h⟩)
  show zG X (_ + 1) (_ + 7) _ 15 _ _
  refine z_iconst (q := 16) hX dX10_number_15 rfl ?_
  refine z_istore_n (i := 2) (q := 17) hX dX10_number_16 rfl (Nat.le_of_ble_eq_true rfl) rfl rfl ?_
  refine z_iconst (q := 18) hX dX10_number_17 rfl ?_
  refine z_istore_n (i := 3) (q := 19) hX dX10_number_18 rfl (Nat.le_of_ble_eq_true rfl) rfl rfl ?_
  have e0 : p + ngI s p + ((0 : Nat) : Int) = p + ngI s p := Int.add_zero _
  have k9 := K19 0 (by omega) rfl (fun _ => hx12) (by rw [e0]; exact hpl) 0 0 rfl rfl
  rw [e0] at k9
  exact k9
abbrev rmX10_word : Room := { frames := 5, cells := 4, slots := 114, locals := 121 }
set_option maxHeartbeats 4000000 in
theorem c_X10_word (D : zD) (A : Nat → Prop) {w m : zMp} {b : Nat} {o ia : Nat} {p : Int} {s : zS} (hb : rdr D m b o ia p s) : zC D yX10_word cX10_word 2 (some (.object "java/lang/String")) none rmX10_word A [.ref b] (cI D A w m) (zPe (fun (x : Nat × zMp) => some (.ref x.1)) (fun x => wdNc s p ≠ 0 ∧ zNs w (wdSc s p) x) (fun x => cI D A x.2 (rdM m b o (wdPc s p)))) (xTx D A w (rdM m b o (wdPc s p)) (wdNc s p = 0) (wdPc s p)) := by
  refine zC_start (L := [some (.ref b), none]) (by decide) (Nat.le_of_ble_eq_true rfl) rfl (fun X hX => ?_)
  have hb0 := hb
  obtain ⟨p, rfl⟩ : ∃ z : Nat, p = (z : Int) := ⟨p.toNat, by have := hb.2.2.2.2.1; omega⟩
  obtain ⟨h1, ⟨lg, sv, hl, rp, cd, h2⟩, ⟨f, h3, h4⟩, h5, h6⟩ := hb
  have h60 := h5.1
  have hwl := wdSc_len (s := s) h6.1 h6.2
  have hwc := wdSc_ch h6.1 h6.2 h60
  have hwn := wdNc_le (s := s) h6.1 h6.2
  have hct : ∀ j : Nat, j < wdNc s (p : Int) → cT (wdSc s (p : Int)) (j : Int) = cT s ((p : Int) + j) := fun j hj => wdSc_cT h6.1 h6.2 hj
  have hst8 := wdNc_st (s := s) (p := (p : Int))
  have hP8 : wdPc s (p : Int) = (p : Int) + wdNc s (p : Int) := rfl
  obtain ⟨W9, hW9⟩ : ∃ W9 : Nat, W9 = wdNc s (p : Int) := ⟨_, rfl⟩
  obtain ⟨P9, hP9⟩ : ∃ P9 : Int, P9 = wdPc s (p : Int) := ⟨_, rfl⟩
  obtain ⟨S9, hS9⟩ : ∃ S9 : zS, S9 = wdSc s (p : Int) := ⟨_, rfl⟩
  rw [← hP9, ← hW9] at hP8
  rw [← hW9] at hst8 hct hwl hwn
  rw [← hS9] at hct hwl hwc
  rw [← hW9, ← hP9, ← hS9] at hX
  clear hW9 hP9 hS9
  have K55 : ∀ i : Nat, i = W9 → zG X 0 0 (cI D A w (rdM m b o ((p : Int) + (i : Int)))) 55 [some (.ref b), some (zI (p : Int))] [] := by
    intro i hi
    have hb1 := hb0.up (q := (p : Int) + (i : Int)) (by omega) (by omega)
    have hb10 := hb1
    obtain ⟨g1, ⟨lg, sv, hl, rp, cd, g2⟩, ⟨f, g3, g4⟩, g5, g6⟩ := hb1
    have eP : P9 = (p : Int) + (i : Int) := by omega
    rw [eP] at hX
    by_cases hi0 : i = 0
    · have hz9 : True := trivial
      refine z_aload_n (i := 0) (q := 56) hX dX10_word_55 rfl rfl rfl ?_
      refine z_aload_n (i := 0) (q := 57) hX dX10_word_56 rfl rfl rfl ?_
      refine zr_get (C := RX10) (T := TX10) (N := 2) (q := 60) hX ciX10 0 rfl (by decide) in_X10 dX10_word_57 q1014 (Or.inl rfl) (fun H h => cI.rd h (by first | assumption | exact Or.inl (by assumption) | exact Or.inr (by first | assumption | exact upm_same _ _ _ | exact (upm_ne _ _ (by first | assumption | exact Ne.symm (by assumption) | omega | exact ne_mp (m := m) (by assumption) (by assumption) | exact Ne.symm (ne_mp (m := m) (by assumption) (by assumption)) | exact ne_mp (m := w) (by assumption) (by assumption) | exact Ne.symm (ne_mp (m := w) (by assumption) (by assumption)))).trans (by first | assumption | exact upm_same _ _ _ | exact (upm_ne _ _ (by first | assumption | exact Ne.symm (by assumption) | omega | exact ne_mp (m := m) (by assumption) (by assumption) | exact Ne.symm (ne_mp (m := m) (by assumption) (by assumption)) | exact ne_mp (m := w) (by assumption) (by assumption) | exact Ne.symm (ne_mp (m := w) (by assumption) (by assumption)))).trans (by first | assumption | exact upm_same _ _ _ | exact (upm_ne _ _ (by first | assumption | exact Ne.symm (by assumption) | omega | exact ne_mp (m := m) (by assumption) (by assumption) | exact Ne.symm (ne_mp (m := m) (by assumption) (by assumption)) | exact ne_mp (m := w) (by assumption) (by assumption) | exact Ne.symm (ne_mp (m := w) (by assumption) (by assumption)))).trans (by first | assumption | exact upm_same _ _ _))))) rfl (by decide) rfl) rfl ?_
      refine z_iload_n (i := 1) (q := 61) hX dX10_word_60 rfl rfl rfl ?_
      refine z_icmp_le (q := 64) (t := 68) hX dX10_word_61 (by decide) ⟨by omega, by omega⟩ ⟨by omega, by omega⟩ rfl (fun h61 => ?_) (fun h61 => ?_)
      · refine z_iconst (q := 69) hX dX10_word_68 rfl ?_
        refine z_V (ci := ciX10) (T := TX10) (N := 2) (na := 1) hX dX10_word_69 (c_X10_need D A (c := false) hb10) rfl q1052 q1054 qs21 q134 q1055 (by decide +kernel) ⟨Nat.le_of_ble_eq_true rfl, Nat.le_of_ble_eq_true rfl⟩ rfl rfl (Nat.le_of_ble_eq_true rfl) rfl (by first | exact Nat.le_of_ble_eq_true rfl | (show _ + 1 ≤ 4; omega)) (by first | exact Nat.le_of_ble_eq_true rfl | (show _ + 7 ≤ 114; omega)) (fun H h => ⟨h, h.obE (Or.inr g1) rfl⟩) (zXs.out (fun e69 => ?_)) (zPe.out (fun x69 hx69 => ?_))
        · refine zT.ax (fun hx69 => ?_)
          exact zT.out hX (by decide) (by first | exact Nat.le_of_ble_eq_true rfl | (show (_ : Nat) ≤ 4; omega)) (by first | exact Nat.le_of_ble_eq_true rfl | (show (_ : Nat) ≤ 114; omega)) (fun H h => ⟨rfl, by omega, h⟩)
        show zG X (_ + 1) (_ + 7) _ 72 _ _
        cases hx69
      · exact absurd h61 (by omega)
    · have hz9 : True := trivial
      refine z_aload_n (i := 0) (q := 56) hX dX10_word_55 rfl rfl rfl ?_
      refine z_aload_n (i := 0) (q := 57) hX dX10_word_56 rfl rfl rfl ?_
      refine zr_get (C := RX10) (T := TX10) (N := 2) (q := 60) hX ciX10 0 rfl (by decide) in_X10 dX10_word_57 q1014 (Or.inl rfl) (fun H h => cI.rd h (by first | assumption | exact Or.inl (by assumption) | exact Or.inr (by first | assumption | exact upm_same _ _ _ | exact (upm_ne _ _ (by first | assumption | exact Ne.symm (by assumption) | omega | exact ne_mp (m := m) (by assumption) (by assumption) | exact Ne.symm (ne_mp (m := m) (by assumption) (by assumption)) | exact ne_mp (m := w) (by assumption) (by assumption) | exact Ne.symm (ne_mp (m := w) (by assumption) (by assumption)))).trans (by first | assumption | exact upm_same _ _ _ | exact (upm_ne _ _ (by first | assumption | exact Ne.symm (by assumption) | omega | exact ne_mp (m := m) (by assumption) (by assumption) | exact Ne.symm (ne_mp (m := m) (by assumption) (by assumption)) | exact ne_mp (m := w) (by assumption) (by assumption) | exact Ne.symm (ne_mp (m := w) (by assumption) (by assumption)))).trans (by first | assumption | exact upm_same _ _ _ | exact (upm_ne _ _ (by first | assumption | exact Ne.symm (by assumption) | omega | exact ne_mp (m := m) (by assumption) (by assumption) | exact Ne.symm (ne_mp (m := m) (by assumption) (by assumption)) | exact ne_mp (m := w) (by assumption) (by assumption) | exact Ne.symm (ne_mp (m := w) (by assumption) (by assumption)))).trans (by first | assumption | exact upm_same _ _ _))))) rfl (by decide) rfl) rfl ?_
      refine z_iload_n (i := 1) (q := 61) hX dX10_word_60 rfl rfl rfl ?_
      refine z_icmp_le (q := 64) (t := 68) hX dX10_word_61 (by decide) ⟨by omega, by omega⟩ ⟨by omega, by omega⟩ rfl (fun h61 => ?_) (fun h61 => ?_)
      · exact absurd h61 (by omega)
      · refine z_iconst (q := 65) hX dX10_word_64 rfl ?_
        refine z_goto (t := 69) hX dX10_word_65 (by decide) ?_
        refine z_V (ci := ciX10) (T := TX10) (N := 2) (na := 1) hX dX10_word_69 (c_X10_need D A (c := true) hb10) rfl q1052 q1054 qs21 q134 q1055 (by decide +kernel) ⟨Nat.le_of_ble_eq_true rfl, Nat.le_of_ble_eq_true rfl⟩ rfl rfl (Nat.le_of_ble_eq_true rfl) rfl (by first | exact Nat.le_of_ble_eq_true rfl | (show _ + 1 ≤ 4; omega)) (by first | exact Nat.le_of_ble_eq_true rfl | (show _ + 7 ≤ 114; omega)) (fun H h => ⟨h, h.obE (Or.inr g1) rfl⟩) (zXs.out (fun e69 => ?_)) (zPe.out (fun x69 hx69 => ?_))
        · refine zT.ax (fun hx69 => ?_)
          cases hx69
        show zG X (_ + 1) (_ + 7) _ 72 _ _
        refine z_aload_n (i := 0) (q := 73) hX dX10_word_72 rfl rfl rfl ?_
        refine zr_get (C := RX10) (T := TX10) (N := 2) (q := 76) hX ciX10 1 rfl (by decide) in_X10 dX10_word_73 q1015 (Or.inl rfl) (fun H h => cI.rd h (by first | assumption | exact Or.inl (by assumption) | exact Or.inr (by first | assumption | exact upm_same _ _ _ | exact (upm_ne _ _ (by first | assumption | exact Ne.symm (by assumption) | omega | exact ne_mp (m := m) (by assumption) (by assumption) | exact Ne.symm (ne_mp (m := m) (by assumption) (by assumption)) | exact ne_mp (m := w) (by assumption) (by assumption) | exact Ne.symm (ne_mp (m := w) (by assumption) (by assumption)))).trans (by first | assumption | exact upm_same _ _ _ | exact (upm_ne _ _ (by first | assumption | exact Ne.symm (by assumption) | omega | exact ne_mp (m := m) (by assumption) (by assumption) | exact Ne.symm (ne_mp (m := m) (by assumption) (by assumption)) | exact ne_mp (m := w) (by assumption) (by assumption) | exact Ne.symm (ne_mp (m := w) (by assumption) (by assumption)))).trans (by first | assumption | exact upm_same _ _ _ | exact (upm_ne _ _ (by first | assumption | exact Ne.symm (by assumption) | omega | exact ne_mp (m := m) (by assumption) (by assumption) | exact Ne.symm (ne_mp (m := m) (by assumption) (by assumption)) | exact ne_mp (m := w) (by assumption) (by assumption) | exact Ne.symm (ne_mp (m := w) (by assumption) (by assumption)))).trans (by first | assumption | exact upm_same _ _ _))))) rfl (by decide) rfl) rfl ?_
        refine zr_getN (C := RX1) (T := TX1) (N := 7) (q := 79) hX ciX1 4 rfl (by decide) in_X1 dX10_word_76 (zNF_at 30 rfl) (fun H h => cI.rd h (by first | assumption | exact Or.inl (by assumption) | exact Or.inr (by first | assumption | exact upm_same _ _ _ | exact (upm_ne _ _ (by first | assumption | exact Ne.symm (by assumption) | omega | exact ne_mp (m := m) (by assumption) (by assumption) | exact Ne.symm (ne_mp (m := m) (by assumption) (by assumption)) | exact ne_mp (m := w) (by assumption) (by assumption) | exact Ne.symm (ne_mp (m := w) (by assumption) (by assumption)))).trans (by first | assumption | exact upm_same _ _ _ | exact (upm_ne _ _ (by first | assumption | exact Ne.symm (by assumption) | omega | exact ne_mp (m := m) (by assumption) (by assumption) | exact Ne.symm (ne_mp (m := m) (by assumption) (by assumption)) | exact ne_mp (m := w) (by assumption) (by assumption) | exact Ne.symm (ne_mp (m := w) (by assumption) (by assumption)))).trans (by first | assumption | exact upm_same _ _ _ | exact (upm_ne _ _ (by first | assumption | exact Ne.symm (by assumption) | omega | exact ne_mp (m := m) (by assumption) (by assumption) | exact Ne.symm (ne_mp (m := m) (by assumption) (by assumption)) | exact ne_mp (m := w) (by assumption) (by assumption) | exact Ne.symm (ne_mp (m := w) (by assumption) (by assumption)))).trans (by first | assumption | exact upm_same _ _ _))))) rfl (by decide) rfl) rfl ?_
        refine z_iload_n (i := 1) (q := 80) hX dX10_word_79 rfl rfl rfl ?_
        refine z_aload_n (i := 0) (q := 81) hX dX10_word_80 rfl rfl rfl ?_
        refine zr_get (C := RX10) (T := TX10) (N := 2) (q := 84) hX ciX10 0 rfl (by decide) in_X10 dX10_word_81 q1014 (Or.inl rfl) (fun H h => cI.rd h (by first | assumption | exact Or.inl (by assumption) | exact Or.inr (by first | assumption | exact upm_same _ _ _ | exact (upm_ne _ _ (by first | assumption | exact Ne.symm (by assumption) | omega | exact ne_mp (m := m) (by assumption) (by assumption) | exact Ne.symm (ne_mp (m := m) (by assumption) (by assumption)) | exact ne_mp (m := w) (by assumption) (by assumption) | exact Ne.symm (ne_mp (m := w) (by assumption) (by assumption)))).trans (by first | assumption | exact upm_same _ _ _ | exact (upm_ne _ _ (by first | assumption | exact Ne.symm (by assumption) | omega | exact ne_mp (m := m) (by assumption) (by assumption) | exact Ne.symm (ne_mp (m := m) (by assumption) (by assumption)) | exact ne_mp (m := w) (by assumption) (by assumption) | exact Ne.symm (ne_mp (m := w) (by assumption) (by assumption)))).trans (by first | assumption | exact upm_same _ _ _ | exact (upm_ne _ _ (by first | assumption | exact Ne.symm (by assumption) | omega | exact ne_mp (m := m) (by assumption) (by assumption) | exact Ne.symm (ne_mp (m := m) (by assumption) (by assumption)) | exact ne_mp (m := w) (by assumption) (by assumption) | exact Ne.symm (ne_mp (m := w) (by assumption) (by assumption)))).trans (by first | assumption | exact upm_same _ _ _))))) rfl (by decide) rfl) rfl ?_
        refine z_iload_n (i := 1) (q := 85) hX dX10_word_84 rfl rfl rfl ?_
        refine z_isub (q := 86) hX dX10_word_85 rfl ?_
        refine zG.top (v2 := zI (i : Int)) (by rw [show (p : Int) + (i : Int) - (p : Int) = (i : Int) by omega]) ?_
        refine z_S (na := 3) hX dX10_word_86 (c_J13_valueOf D A (s := S9) g3 (by omega) hwc (fun j hj => by rw [g4 _ (by omega), hct _ (by omega), show ((p + j : Nat) : Int) = (p : Int) + (j : Int) by omega]) (by omega) (by decide) (by omega)) q1092 q1093 q116 q1094 (by decide +kernel) ⟨Nat.le_of_ble_eq_true rfl, Nat.le_of_ble_eq_true rfl⟩ rfl rfl (Nat.le_of_ble_eq_true rfl) rfl (by first | exact Nat.le_of_ble_eq_true rfl | (show _ + 2 ≤ 4; omega)) (by first | exact Nat.le_of_ble_eq_true rfl | (show _ + 100 ≤ 114; omega)) (fun H h => h) (fun E a => zT.no) (zPe.out (fun x86 hx86 => ?_))
        show zG X (_ + 2) (_ + 100) _ 89 _ _
        exact z_aret hX dX10_word_89 (by first | exact Nat.le_of_ble_eq_true rfl | (show (_ : Nat) ≤ 4; omega)) (by first | exact Nat.le_of_ble_eq_true rfl | (show (_ : Nat) ≤ 114; omega)) rfl (by first | exact Or.inl ⟨_, rfl⟩ | exact Or.inr ⟨_, rfl⟩) (by first | exact Or.inl rfl | exact Or.inr ⟨_, rfl⟩) (fun H h => ⟨x86, rfl, ⟨by omega, hx86⟩, h⟩)
  have K5 : ∀ i : Nat, i ≤ 60 → wdc s p i = i → (p : Int) + i ≤ s.length → zG X 0 0 (cI D A w (rdM m b o ((p : Int) + (i : Int)))) 5 [some (.ref b), some (zI (p : Int))] [] := by
    refine z_up (fun i hi ih hd hil => ?_)
    have hb1 := hb0.up (q := (p : Int) + (i : Int)) (by omega) hil
    have hb10 := hb1
    obtain ⟨g1, ⟨lg, sv, hl, rp, cd, g2⟩, ⟨f, g3, g4⟩, g5, g6⟩ := hb1
    have hnx := g5.nX g6.1
    by_cases hlt : (p : Int) + (i : Int) < s.length
    · have enx := nx_hr hlt
      cases hw9 : isW (hr s ((p : Int) + (i : Int))) with
      | true =>
        have hw8 := isW_iff.mp hw9
        refine z_aload_n (i := 0) (q := 6) hX dX10_word_5 rfl rfl rfl ?_
        refine zr_get (C := RX10) (T := TX10) (N := 2) (q := 9) hX ciX10 0 rfl (by decide) in_X10 dX10_word_6 q1014 (Or.inl rfl) (fun H h => cI.rd h (by first | assumption | exact Or.inl (by assumption) | exact Or.inr (by first | assumption | exact upm_same _ _ _ | exact (upm_ne _ _ (by first | assumption | exact Ne.symm (by assumption) | omega | exact ne_mp (m := m) (by assumption) (by assumption) | exact Ne.symm (ne_mp (m := m) (by assumption) (by assumption)) | exact ne_mp (m := w) (by assumption) (by assumption) | exact Ne.symm (ne_mp (m := w) (by assumption) (by assumption)))).trans (by first | assumption | exact upm_same _ _ _ | exact (upm_ne _ _ (by first | assumption | exact Ne.symm (by assumption) | omega | exact ne_mp (m := m) (by assumption) (by assumption) | exact Ne.symm (ne_mp (m := m) (by assumption) (by assumption)) | exact ne_mp (m := w) (by assumption) (by assumption) | exact Ne.symm (ne_mp (m := w) (by assumption) (by assumption)))).trans (by first | assumption | exact upm_same _ _ _ | exact (upm_ne _ _ (by first | assumption | exact Ne.symm (by assumption) | omega | exact ne_mp (m := m) (by assumption) (by assumption) | exact Ne.symm (ne_mp (m := m) (by assumption) (by assumption)) | exact ne_mp (m := w) (by assumption) (by assumption) | exact Ne.symm (ne_mp (m := w) (by assumption) (by assumption)))).trans (by first | assumption | exact upm_same _ _ _))))) rfl (by decide) rfl) rfl ?_
        refine z_aload_n (i := 0) (q := 10) hX dX10_word_9 rfl rfl rfl ?_
        refine zr_get (C := RX10) (T := TX10) (N := 2) (q := 13) hX ciX10 1 rfl (by decide) in_X10 dX10_word_10 q1015 (Or.inl rfl) (fun H h => cI.rd h (by first | assumption | exact Or.inl (by assumption) | exact Or.inr (by first | assumption | exact upm_same _ _ _ | exact (upm_ne _ _ (by first | assumption | exact Ne.symm (by assumption) | omega | exact ne_mp (m := m) (by assumption) (by assumption) | exact Ne.symm (ne_mp (m := m) (by assumption) (by assumption)) | exact ne_mp (m := w) (by assumption) (by assumption) | exact Ne.symm (ne_mp (m := w) (by assumption) (by assumption)))).trans (by first | assumption | exact upm_same _ _ _ | exact (upm_ne _ _ (by first | assumption | exact Ne.symm (by assumption) | omega | exact ne_mp (m := m) (by assumption) (by assumption) | exact Ne.symm (ne_mp (m := m) (by assumption) (by assumption)) | exact ne_mp (m := w) (by assumption) (by assumption) | exact Ne.symm (ne_mp (m := w) (by assumption) (by assumption)))).trans (by first | assumption | exact upm_same _ _ _ | exact (upm_ne _ _ (by first | assumption | exact Ne.symm (by assumption) | omega | exact ne_mp (m := m) (by assumption) (by assumption) | exact Ne.symm (ne_mp (m := m) (by assumption) (by assumption)) | exact ne_mp (m := w) (by assumption) (by assumption) | exact Ne.symm (ne_mp (m := w) (by assumption) (by assumption)))).trans (by first | assumption | exact upm_same _ _ _))))) rfl (by decide) rfl) rfl ?_
        refine zr_getN (C := RX1) (T := TX1) (N := 7) (q := 16) hX ciX1 5 rfl (by decide) in_X1 dX10_word_13 (zNF_at 29 rfl) (fun H h => cI.rd h (by first | assumption | exact Or.inl (by assumption) | exact Or.inr (by first | assumption | exact upm_same _ _ _ | exact (upm_ne _ _ (by first | assumption | exact Ne.symm (by assumption) | omega | exact ne_mp (m := m) (by assumption) (by assumption) | exact Ne.symm (ne_mp (m := m) (by assumption) (by assumption)) | exact ne_mp (m := w) (by assumption) (by assumption) | exact Ne.symm (ne_mp (m := w) (by assumption) (by assumption)))).trans (by first | assumption | exact upm_same _ _ _ | exact (upm_ne _ _ (by first | assumption | exact Ne.symm (by assumption) | omega | exact ne_mp (m := m) (by assumption) (by assumption) | exact Ne.symm (ne_mp (m := m) (by assumption) (by assumption)) | exact ne_mp (m := w) (by assumption) (by assumption) | exact Ne.symm (ne_mp (m := w) (by assumption) (by assumption)))).trans (by first | assumption | exact upm_same _ _ _ | exact (upm_ne _ _ (by first | assumption | exact Ne.symm (by assumption) | omega | exact ne_mp (m := m) (by assumption) (by assumption) | exact Ne.symm (ne_mp (m := m) (by assumption) (by assumption)) | exact ne_mp (m := w) (by assumption) (by assumption) | exact Ne.symm (ne_mp (m := w) (by assumption) (by assumption)))).trans (by first | assumption | exact upm_same _ _ _))))) rfl (by decide) rfl) rfl ?_
        refine z_icmp_ge (q := 19) (t := 55) hX dX10_word_16 (by decide) ⟨by omega, by omega⟩ ⟨by omega, by omega⟩ rfl (fun h16 => ?_) (fun h16 => ?_)
        · exact absurd h16 (by omega)
        · refine z_aload_n (i := 0) (q := 20) hX dX10_word_19 rfl rfl rfl ?_
          refine z_V (ci := ciX10) (T := TX10) (N := 2) (na := 0) hX dX10_word_20 (c_X10_next D A hb10) rfl q1035 q1037 qs18 q134 q1038 (by decide +kernel) ⟨Nat.le_of_ble_eq_true rfl, Nat.le_of_ble_eq_true rfl⟩ rfl rfl (Nat.le_of_ble_eq_true rfl) rfl (by first | exact Nat.le_of_ble_eq_true rfl | (show _ + 0 ≤ 4; omega)) (by first | exact Nat.le_of_ble_eq_true rfl | (show _ + 0 ≤ 114; omega)) (fun H h => ⟨h, h.obE (Or.inr g1) rfl⟩) (fun E a => zT.no) (zPd.out ?_)
          show zG X (_ + 0) (_ + 0) _ 23 _ _
          refine z_bipush (q := 25) hX dX10_word_23 (by decide) rfl ?_
          refine z_bipush (q := 27) hX dX10_word_25 (by decide) rfl ?_
          refine z_SN (na := 3) hX dX10_word_27 (c_X1_inRange D A ⟨by omega, by omega⟩ (by decide) (by decide)) (zNM_at 4 rfl) q1050 q97 q1051 (by decide +kernel) ⟨Nat.le_of_ble_eq_true rfl, Nat.le_of_ble_eq_true rfl⟩ rfl rfl (Nat.le_of_ble_eq_true rfl) rfl (by first | exact Nat.le_of_ble_eq_true rfl | (show _ + 0 ≤ 4; omega)) (by first | exact Nat.le_of_ble_eq_true rfl | (show _ + 0 ≤ 114; omega)) (fun H h => h) (fun E a => zT.no) (zPd.out ?_)
          show zG X (_ + 0) (_ + 0) _ 30 _ _
          refine z_ifB_eq (q := 33) (t := 55) hX dX10_word_30 (by decide) rfl (fun h30 => ?_) (fun h30 => ?_)
          · rw [enx, decide_eq_true hw8.1.1, decide_eq_true hw8.1.2] at h30
            cases h30
          · refine z_aload_n (i := 0) (q := 34) hX dX10_word_33 rfl rfl rfl ?_
            refine z_V (ci := ciX10) (T := TX10) (N := 2) (na := 0) hX dX10_word_34 (c_X10_next D A hb10) rfl q1035 q1037 qs18 q134 q1038 (by decide +kernel) ⟨Nat.le_of_ble_eq_true rfl, Nat.le_of_ble_eq_true rfl⟩ rfl rfl (Nat.le_of_ble_eq_true rfl) rfl (by first | exact Nat.le_of_ble_eq_true rfl | (show _ + 0 ≤ 4; omega)) (by first | exact Nat.le_of_ble_eq_true rfl | (show _ + 0 ≤ 114; omega)) (fun H h => ⟨h, h.obE (Or.inr g1) rfl⟩) (fun E a => zT.no) (zPd.out ?_)
            show zG X (_ + 0) (_ + 0) _ 37 _ _
            refine z_bipush (q := 39) hX dX10_word_37 (by decide) rfl ?_
            refine z_icmp_eq (q := 42) (t := 55) hX dX10_word_39 (by decide) ⟨by omega, by omega⟩ (by decide) rfl (fun h39 => ?_) (fun h39 => ?_)
            · exact absurd h39 (by omega)
            · refine z_aload_n (i := 0) (q := 43) hX dX10_word_42 rfl rfl rfl ?_
              refine z_dup (q := 44) hX dX10_word_43 rfl rfl ?_
              refine zr_get (C := RX10) (T := TX10) (N := 2) (q := 47) hX ciX10 0 rfl (by decide) in_X10 dX10_word_44 q1014 (Or.inl rfl) (fun H h => cI.rd h (by first | assumption | exact Or.inl (by assumption) | exact Or.inr (by first | assumption | exact upm_same _ _ _ | exact (upm_ne _ _ (by first | assumption | exact Ne.symm (by assumption) | omega | exact ne_mp (m := m) (by assumption) (by assumption) | exact Ne.symm (ne_mp (m := m) (by assumption) (by assumption)) | exact ne_mp (m := w) (by assumption) (by assumption) | exact Ne.symm (ne_mp (m := w) (by assumption) (by assumption)))).trans (by first | assumption | exact upm_same _ _ _ | exact (upm_ne _ _ (by first | assumption | exact Ne.symm (by assumption) | omega | exact ne_mp (m := m) (by assumption) (by assumption) | exact Ne.symm (ne_mp (m := m) (by assumption) (by assumption)) | exact ne_mp (m := w) (by assumption) (by assumption) | exact Ne.symm (ne_mp (m := w) (by assumption) (by assumption)))).trans (by first | assumption | exact upm_same _ _ _ | exact (upm_ne _ _ (by first | assumption | exact Ne.symm (by assumption) | omega | exact ne_mp (m := m) (by assumption) (by assumption) | exact Ne.symm (ne_mp (m := m) (by assumption) (by assumption)) | exact ne_mp (m := w) (by assumption) (by assumption) | exact Ne.symm (ne_mp (m := w) (by assumption) (by assumption)))).trans (by first | assumption | exact upm_same _ _ _))))) rfl (by decide) rfl) rfl ?_
              refine z_iconst (q := 48) hX dX10_word_47 rfl ?_
              refine z_iadd (q := 49) hX dX10_word_48 rfl ?_
              refine zc_put (C := RX10) (T := TX10) (N := 2) (q := 52) hX ciX10 0 rfl (by decide) in_X10 tyX10_ok nmX10 dX10_word_49 q1014 (Or.inl rfl) rfl (by first | assumption | exact upm_same _ _ _ | exact (upm_ne _ _ (by first | assumption | exact Ne.symm (by assumption) | omega | exact ne_mp (m := m) (by assumption) (by assumption) | exact Ne.symm (ne_mp (m := m) (by assumption) (by assumption)) | exact ne_mp (m := w) (by assumption) (by assumption) | exact Ne.symm (ne_mp (m := w) (by assumption) (by assumption)))).trans (by first | assumption | exact upm_same _ _ _ | exact (upm_ne _ _ (by first | assumption | exact Ne.symm (by assumption) | omega | exact ne_mp (m := m) (by assumption) (by assumption) | exact Ne.symm (ne_mp (m := m) (by assumption) (by assumption)) | exact ne_mp (m := w) (by assumption) (by assumption) | exact Ne.symm (ne_mp (m := w) (by assumption) (by assumption)))).trans (by first | assumption | exact upm_same _ _ _ | exact (upm_ne _ _ (by first | assumption | exact Ne.symm (by assumption) | omega | exact ne_mp (m := m) (by assumption) (by assumption) | exact Ne.symm (ne_mp (m := m) (by assumption) (by assumption)) | exact ne_mp (m := w) (by assumption) (by assumption) | exact Ne.symm (ne_mp (m := w) (by assumption) (by assumption)))).trans (by first | assumption | exact upm_same _ _ _)))) (Nat.le_of_ble_eq_true rfl) rfl rfl rfl rfl ?_
              refine z_goto (t := 5) hX dX10_word_52 (by decide) ?_
              refine zG.mono (ih (by omega) (wdc_s hd hw9) (by omega)) (fun H h => ?_)
              simp only [rdM, upm_upm] at h
              have e9 : (p : Int) + ((i + 1 : Nat) : Int) = (p : Int) + (i : Int) + 1 := by omega
              rw [e9]
              exact h
      | false =>
        have hn : i = W9 := hst8 i hi hd hw9
        refine z_aload_n (i := 0) (q := 6) hX dX10_word_5 rfl rfl rfl ?_
        refine zr_get (C := RX10) (T := TX10) (N := 2) (q := 9) hX ciX10 0 rfl (by decide) in_X10 dX10_word_6 q1014 (Or.inl rfl) (fun H h => cI.rd h (by first | assumption | exact Or.inl (by assumption) | exact Or.inr (by first | assumption | exact upm_same _ _ _ | exact (upm_ne _ _ (by first | assumption | exact Ne.symm (by assumption) | omega | exact ne_mp (m := m) (by assumption) (by assumption) | exact Ne.symm (ne_mp (m := m) (by assumption) (by assumption)) | exact ne_mp (m := w) (by assumption) (by assumption) | exact Ne.symm (ne_mp (m := w) (by assumption) (by assumption)))).trans (by first | assumption | exact upm_same _ _ _ | exact (upm_ne _ _ (by first | assumption | exact Ne.symm (by assumption) | omega | exact ne_mp (m := m) (by assumption) (by assumption) | exact Ne.symm (ne_mp (m := m) (by assumption) (by assumption)) | exact ne_mp (m := w) (by assumption) (by assumption) | exact Ne.symm (ne_mp (m := w) (by assumption) (by assumption)))).trans (by first | assumption | exact upm_same _ _ _ | exact (upm_ne _ _ (by first | assumption | exact Ne.symm (by assumption) | omega | exact ne_mp (m := m) (by assumption) (by assumption) | exact Ne.symm (ne_mp (m := m) (by assumption) (by assumption)) | exact ne_mp (m := w) (by assumption) (by assumption) | exact Ne.symm (ne_mp (m := w) (by assumption) (by assumption)))).trans (by first | assumption | exact upm_same _ _ _))))) rfl (by decide) rfl) rfl ?_
        refine z_aload_n (i := 0) (q := 10) hX dX10_word_9 rfl rfl rfl ?_
        refine zr_get (C := RX10) (T := TX10) (N := 2) (q := 13) hX ciX10 1 rfl (by decide) in_X10 dX10_word_10 q1015 (Or.inl rfl) (fun H h => cI.rd h (by first | assumption | exact Or.inl (by assumption) | exact Or.inr (by first | assumption | exact upm_same _ _ _ | exact (upm_ne _ _ (by first | assumption | exact Ne.symm (by assumption) | omega | exact ne_mp (m := m) (by assumption) (by assumption) | exact Ne.symm (ne_mp (m := m) (by assumption) (by assumption)) | exact ne_mp (m := w) (by assumption) (by assumption) | exact Ne.symm (ne_mp (m := w) (by assumption) (by assumption)))).trans (by first | assumption | exact upm_same _ _ _ | exact (upm_ne _ _ (by first | assumption | exact Ne.symm (by assumption) | omega | exact ne_mp (m := m) (by assumption) (by assumption) | exact Ne.symm (ne_mp (m := m) (by assumption) (by assumption)) | exact ne_mp (m := w) (by assumption) (by assumption) | exact Ne.symm (ne_mp (m := w) (by assumption) (by assumption)))).trans (by first | assumption | exact upm_same _ _ _ | exact (upm_ne _ _ (by first | assumption | exact Ne.symm (by assumption) | omega | exact ne_mp (m := m) (by assumption) (by assumption) | exact Ne.symm (ne_mp (m := m) (by assumption) (by assumption)) | exact ne_mp (m := w) (by assumption) (by assumption) | exact Ne.symm (ne_mp (m := w) (by assumption) (by assumption)))).trans (by first | assumption | exact upm_same _ _ _))))) rfl (by decide) rfl) rfl ?_
        refine zr_getN (C := RX1) (T := TX1) (N := 7) (q := 16) hX ciX1 5 rfl (by decide) in_X1 dX10_word_13 (zNF_at 29 rfl) (fun H h => cI.rd h (by first | assumption | exact Or.inl (by assumption) | exact Or.inr (by first | assumption | exact upm_same _ _ _ | exact (upm_ne _ _ (by first | assumption | exact Ne.symm (by assumption) | omega | exact ne_mp (m := m) (by assumption) (by assumption) | exact Ne.symm (ne_mp (m := m) (by assumption) (by assumption)) | exact ne_mp (m := w) (by assumption) (by assumption) | exact Ne.symm (ne_mp (m := w) (by assumption) (by assumption)))).trans (by first | assumption | exact upm_same _ _ _ | exact (upm_ne _ _ (by first | assumption | exact Ne.symm (by assumption) | omega | exact ne_mp (m := m) (by assumption) (by assumption) | exact Ne.symm (ne_mp (m := m) (by assumption) (by assumption)) | exact ne_mp (m := w) (by assumption) (by assumption) | exact Ne.symm (ne_mp (m := w) (by assumption) (by assumption)))).trans (by first | assumption | exact upm_same _ _ _ | exact (upm_ne _ _ (by first | assumption | exact Ne.symm (by assumption) | omega | exact ne_mp (m := m) (by assumption) (by assumption) | exact Ne.symm (ne_mp (m := m) (by assumption) (by assumption)) | exact ne_mp (m := w) (by assumption) (by assumption) | exact Ne.symm (ne_mp (m := w) (by assumption) (by assumption)))).trans (by first | assumption | exact upm_same _ _ _))))) rfl (by decide) rfl) rfl ?_
        refine z_icmp_ge (q := 19) (t := 55) hX dX10_word_16 (by decide) ⟨by omega, by omega⟩ ⟨by omega, by omega⟩ rfl (fun h16 => ?_) (fun h16 => ?_)
        · exact absurd h16 (by omega)
        · refine z_aload_n (i := 0) (q := 20) hX dX10_word_19 rfl rfl rfl ?_
          refine z_V (ci := ciX10) (T := TX10) (N := 2) (na := 0) hX dX10_word_20 (c_X10_next D A hb10) rfl q1035 q1037 qs18 q134 q1038 (by decide +kernel) ⟨Nat.le_of_ble_eq_true rfl, Nat.le_of_ble_eq_true rfl⟩ rfl rfl (Nat.le_of_ble_eq_true rfl) rfl (by first | exact Nat.le_of_ble_eq_true rfl | (show _ + 0 ≤ 4; omega)) (by first | exact Nat.le_of_ble_eq_true rfl | (show _ + 0 ≤ 114; omega)) (fun H h => ⟨h, h.obE (Or.inr g1) rfl⟩) (fun E a => zT.no) (zPd.out ?_)
          show zG X (_ + 0) (_ + 0) _ 23 _ _
          refine z_bipush (q := 25) hX dX10_word_23 (by decide) rfl ?_
          refine z_bipush (q := 27) hX dX10_word_25 (by decide) rfl ?_
          refine z_SN (na := 3) hX dX10_word_27 (c_X1_inRange D A ⟨by omega, by omega⟩ (by decide) (by decide)) (zNM_at 4 rfl) q1050 q97 q1051 (by decide +kernel) ⟨Nat.le_of_ble_eq_true rfl, Nat.le_of_ble_eq_true rfl⟩ rfl rfl (Nat.le_of_ble_eq_true rfl) rfl (by first | exact Nat.le_of_ble_eq_true rfl | (show _ + 0 ≤ 4; omega)) (by first | exact Nat.le_of_ble_eq_true rfl | (show _ + 0 ≤ 114; omega)) (fun H h => h) (fun E a => zT.no) (zPd.out ?_)
          show zG X (_ + 0) (_ + 0) _ 30 _ _
          refine z_ifB_eq (q := 33) (t := 55) hX dX10_word_30 (by decide) rfl (fun h30 => ?_) (fun h30 => ?_)
          · exact K55 i hn
          · refine z_aload_n (i := 0) (q := 34) hX dX10_word_33 rfl rfl rfl ?_
            refine z_V (ci := ciX10) (T := TX10) (N := 2) (na := 0) hX dX10_word_34 (c_X10_next D A hb10) rfl q1035 q1037 qs18 q134 q1038 (by decide +kernel) ⟨Nat.le_of_ble_eq_true rfl, Nat.le_of_ble_eq_true rfl⟩ rfl rfl (Nat.le_of_ble_eq_true rfl) rfl (by first | exact Nat.le_of_ble_eq_true rfl | (show _ + 0 ≤ 4; omega)) (by first | exact Nat.le_of_ble_eq_true rfl | (show _ + 0 ≤ 114; omega)) (fun H h => ⟨h, h.obE (Or.inr g1) rfl⟩) (fun E a => zT.no) (zPd.out ?_)
            show zG X (_ + 0) (_ + 0) _ 37 _ _
            refine z_bipush (q := 39) hX dX10_word_37 (by decide) rfl ?_
            refine z_icmp_eq (q := 42) (t := 55) hX dX10_word_39 (by decide) ⟨by omega, by omega⟩ (by decide) rfl (fun h39 => ?_) (fun h39 => ?_)
            · exact K55 i hn
            · rw [Bool.and_eq_true, decide_eq_true_iff, decide_eq_true_iff] at h30
              have := (isW_iff (c := hr s ((p : Int) + (i : Int)))).mpr ⟨by omega, by omega⟩
              rw [hw9] at this
              cases this
    · have hn : i = W9 := by
        refine hst8 i hi hd ?_
        rw [hr_ge (by omega)]
        rfl
      refine z_aload_n (i := 0) (q := 6) hX dX10_word_5 rfl rfl rfl ?_
      refine zr_get (C := RX10) (T := TX10) (N := 2) (q := 9) hX ciX10 0 rfl (by decide) in_X10 dX10_word_6 q1014 (Or.inl rfl) (fun H h => cI.rd h (by first | assumption | exact Or.inl (by assumption) | exact Or.inr (by first | assumption | exact upm_same _ _ _ | exact (upm_ne _ _ (by first | assumption | exact Ne.symm (by assumption) | omega | exact ne_mp (m := m) (by assumption) (by assumption) | exact Ne.symm (ne_mp (m := m) (by assumption) (by assumption)) | exact ne_mp (m := w) (by assumption) (by assumption) | exact Ne.symm (ne_mp (m := w) (by assumption) (by assumption)))).trans (by first | assumption | exact upm_same _ _ _ | exact (upm_ne _ _ (by first | assumption | exact Ne.symm (by assumption) | omega | exact ne_mp (m := m) (by assumption) (by assumption) | exact Ne.symm (ne_mp (m := m) (by assumption) (by assumption)) | exact ne_mp (m := w) (by assumption) (by assumption) | exact Ne.symm (ne_mp (m := w) (by assumption) (by assumption)))).trans (by first | assumption | exact upm_same _ _ _ | exact (upm_ne _ _ (by first | assumption | exact Ne.symm (by assumption) | omega | exact ne_mp (m := m) (by assumption) (by assumption) | exact Ne.symm (ne_mp (m := m) (by assumption) (by assumption)) | exact ne_mp (m := w) (by assumption) (by assumption) | exact Ne.symm (ne_mp (m := w) (by assumption) (by assumption)))).trans (by first | assumption | exact upm_same _ _ _))))) rfl (by decide) rfl) rfl ?_
      refine z_aload_n (i := 0) (q := 10) hX dX10_word_9 rfl rfl rfl ?_
      refine zr_get (C := RX10) (T := TX10) (N := 2) (q := 13) hX ciX10 1 rfl (by decide) in_X10 dX10_word_10 q1015 (Or.inl rfl) (fun H h => cI.rd h (by first | assumption | exact Or.inl (by assumption) | exact Or.inr (by first | assumption | exact upm_same _ _ _ | exact (upm_ne _ _ (by first | assumption | exact Ne.symm (by assumption) | omega | exact ne_mp (m := m) (by assumption) (by assumption) | exact Ne.symm (ne_mp (m := m) (by assumption) (by assumption)) | exact ne_mp (m := w) (by assumption) (by assumption) | exact Ne.symm (ne_mp (m := w) (by assumption) (by assumption)))).trans (by first | assumption | exact upm_same _ _ _ | exact (upm_ne _ _ (by first | assumption | exact Ne.symm (by assumption) | omega | exact ne_mp (m := m) (by assumption) (by assumption) | exact Ne.symm (ne_mp (m := m) (by assumption) (by assumption)) | exact ne_mp (m := w) (by assumption) (by assumption) | exact Ne.symm (ne_mp (m := w) (by assumption) (by assumption)))).trans (by first | assumption | exact upm_same _ _ _ | exact (upm_ne _ _ (by first | assumption | exact Ne.symm (by assumption) | omega | exact ne_mp (m := m) (by assumption) (by assumption) | exact Ne.symm (ne_mp (m := m) (by assumption) (by assumption)) | exact ne_mp (m := w) (by assumption) (by assumption) | exact Ne.symm (ne_mp (m := w) (by assumption) (by assumption)))).trans (by first | assumption | exact upm_same _ _ _))))) rfl (by decide) rfl) rfl ?_
      refine zr_getN (C := RX1) (T := TX1) (N := 7) (q := 16) hX ciX1 5 rfl (by decide) in_X1 dX10_word_13 (zNF_at 29 rfl) (fun H h => cI.rd h (by first | assumption | exact Or.inl (by assumption) | exact Or.inr (by first | assumption | exact upm_same _ _ _ | exact (upm_ne _ _ (by first | assumption | exact Ne.symm (by assumption) | omega | exact ne_mp (m := m) (by assumption) (by assumption) | exact Ne.symm (ne_mp (m := m) (by assumption) (by assumption)) | exact ne_mp (m := w) (by assumption) (by assumption) | exact Ne.symm (ne_mp (m := w) (by assumption) (by assumption)))).trans (by first | assumption | exact upm_same _ _ _ | exact (upm_ne _ _ (by first | assumption | exact Ne.symm (by assumption) | omega | exact ne_mp (m := m) (by assumption) (by assumption) | exact Ne.symm (ne_mp (m := m) (by assumption) (by assumption)) | exact ne_mp (m := w) (by assumption) (by assumption) | exact Ne.symm (ne_mp (m := w) (by assumption) (by assumption)))).trans (by first | assumption | exact upm_same _ _ _ | exact (upm_ne _ _ (by first | assumption | exact Ne.symm (by assumption) | omega | exact ne_mp (m := m) (by assumption) (by assumption) | exact Ne.symm (ne_mp (m := m) (by assumption) (by assumption)) | exact ne_mp (m := w) (by assumption) (by assumption) | exact Ne.symm (ne_mp (m := w) (by assumption) (by assumption)))).trans (by first | assumption | exact upm_same _ _ _))))) rfl (by decide) rfl) rfl ?_
      refine z_icmp_ge (q := 19) (t := 55) hX dX10_word_16 (by decide) ⟨by omega, by omega⟩ ⟨by omega, by omega⟩ rfl (fun h16 => ?_) (fun h16 => ?_)
      · exact K55 i hn
      · exact absurd h16 (by omega)
  refine z_aload_n (i := 0) (q := 1) hX dX10_word_0 rfl rfl rfl ?_
  refine zr_get (C := RX10) (T := TX10) (N := 2) (q := 4) hX ciX10 0 rfl (by decide) in_X10 dX10_word_1 q1014 (Or.inl rfl) (fun H h => cI.rd h (by first | assumption | exact Or.inl (by assumption) | exact Or.inr (by first | assumption | exact upm_same _ _ _ | exact (upm_ne _ _ (by first | assumption | exact Ne.symm (by assumption) | omega | exact ne_mp (m := m) (by assumption) (by assumption) | exact Ne.symm (ne_mp (m := m) (by assumption) (by assumption)) | exact ne_mp (m := w) (by assumption) (by assumption) | exact Ne.symm (ne_mp (m := w) (by assumption) (by assumption)))).trans (by first | assumption | exact upm_same _ _ _ | exact (upm_ne _ _ (by first | assumption | exact Ne.symm (by assumption) | omega | exact ne_mp (m := m) (by assumption) (by assumption) | exact Ne.symm (ne_mp (m := m) (by assumption) (by assumption)) | exact ne_mp (m := w) (by assumption) (by assumption) | exact Ne.symm (ne_mp (m := w) (by assumption) (by assumption)))).trans (by first | assumption | exact upm_same _ _ _ | exact (upm_ne _ _ (by first | assumption | exact Ne.symm (by assumption) | omega | exact ne_mp (m := m) (by assumption) (by assumption) | exact Ne.symm (ne_mp (m := m) (by assumption) (by assumption)) | exact ne_mp (m := w) (by assumption) (by assumption) | exact Ne.symm (ne_mp (m := w) (by assumption) (by assumption)))).trans (by first | assumption | exact upm_same _ _ _))))) rfl (by decide) rfl) rfl ?_
  refine z_istore_n (i := 1) (q := 5) hX dX10_word_4 rfl (Nat.le_of_ble_eq_true rfl) rfl rfl ?_
  have k9 := K5 0 (by omega) rfl (by omega)
  rw [show (p : Int) + ((0 : Nat) : Int) = (p : Int) from Int.add_zero _, hb0.self] at k9
  exact k9
