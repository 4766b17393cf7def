/-! THE CLASS: conditions made; Reader: comparison, condition, all -/
set_option maxRecDepth 100000
theorem ch_fitc {z : Int} (hz : 0 ≤ z ∧ z < 128) : fits .char (zI z) = true := ch_all (φ := fun z => fits .char (zI z) = true) (by decide +kernel) hz
/-- a condition read: how many signs ahead, its kind, column, comparison, number, word -/
abbrev zCn : Type := Nat × Int × Int × Int × Int × zS
def cmP (s : zS) (p : Int) : Int := if rcK s p = 0 then p else if rcK s p = 1 then p + 1 else nuP s (p + 2)
/-- a condition without a sign ahead, and where it ends or fails -/
noncomputable def cdB (s : zS) (p : Int) : Option zCn × Int :=
  if hr s p = 35 then (if nuN s (p + 1) = 0 then none else some (0, 35, 0, 0, nuV s (p + 1), []), nuP s (p + 1))
  else if hr s p = 36 then (if wdNc s (p + 1) = 0 then none else some (0, 36, 0, 0, 0, wdSc s (p + 1)), wdPc s (p + 1))
  else if hr s p = 37 then (if rcK s (p + 1) = 2 ∧ nuN s (p + 1 + 2) ≠ 0 then some (0, 37, hr s (p + 1) - 48, hr s (p + 1 + 1), nuV s (p + 1 + 2), []) else none, cmP s (p + 1))
  else (none, p)
noncomputable def cdR (s : zS) : Nat → Int → Option zCn × Int
  | 0, p => cdB s p
  | a + 1, p => if hr s p = 33 then ((cdR s a (p + 1)).1.map (fun c => (c.1 + 1, c.2)), (cdR s a (p + 1)).2) else cdB s p
theorem cdR_33 {s : zS} {p : Int} {a : Nat} (h : hr s p = 33) : cdR s (a + 1) p = ((cdR s a (p + 1)).1.map (fun c => (c.1 + 1, c.2)), (cdR s a (p + 1)).2) := if_pos h
theorem cdR_ne {s : zS} {p : Int} {a : Nat} (h : hr s p ≠ 33) : cdR s a p = cdB s p := by
  cases a with
  | zero => rfl
  | succ a => exact if_neg h
theorem cdR_35 {s : zS} {p : Int} {a : Nat} (h : hr s p = 35) : cdR s a p = (if nuN s (p + 1) = 0 then none else some (0, 35, 0, 0, nuV s (p + 1), []), nuP s (p + 1)) := by
  rw [cdR_ne (by omega)]
  exact if_pos h
theorem cdR_36 {s : zS} {p : Int} {a : Nat} (h : hr s p = 36) : cdR s a p = (if wdNc s (p + 1) = 0 then none else some (0, 36, 0, 0, 0, wdSc s (p + 1)), wdPc s (p + 1)) := by
  rw [cdR_ne (by omega)]
  exact (if_neg (by omega)).trans (if_pos h)
theorem cdR_37 {s : zS} {p : Int} {a : Nat} (h : hr s p = 37) : cdR s a p = (if rcK s (p + 1) = 2 ∧ nuN s (p + 1 + 2) ≠ 0 then some (0, 37, hr s (p + 1) - 48, hr s (p + 1 + 1), nuV s (p + 1 + 2), []) else none, cmP s (p + 1)) := by
  rw [cdR_ne (by omega)]
  exact (if_neg (by omega)).trans ((if_neg (by omega)).trans (if_pos h))
theorem cdB_no {s : zS} {p : Int} (h1 : hr s p ≠ 35) (h2 : hr s p ≠ 36) (h3 : hr s p ≠ 37) : cdB s p = (none, p) := (if_neg h1).trans ((if_neg h2).trans (if_neg h3))
theorem cdR_no {s : zS} {p : Int} {a : Nat} (h1 : hr s p ≠ 35) (h2 : hr s p ≠ 36) (h3 : hr s p ≠ 37) (h4 : hr s p ≠ 33) : cdR s a p = (none, p) := by
  rw [cdR_ne h4]
  exact cdB_no h1 h2 h3
def wCn0 (w : zMp) (a : Nat) (c : Int × Int × Int × Int × zS) : Prop := (c.1 = 35 ∧ w a = some (eO ciX12 [zI c.2.2.2.1]) ∧ zR c.2.2.2.1) ∨ (c.1 = 36 ∧ ∃ y, w a = some (eO ciX14 [.ref y]) ∧ w y = some (eS c.2.2.2.2)) ∨ (c.1 = 37 ∧ w a = some (eO ciX15 [zI c.2.1, zI c.2.2.1, zI c.2.2.2.1]) ∧ (0 ≤ c.2.1 ∧ c.2.1 ≤ 9) ∧ (c.2.2.1 = 60 ∨ c.2.2.1 = 61 ∨ c.2.2.1 = 62) ∧ zR c.2.2.2.1)
def wCnN (w : zMp) (c : Int × Int × Int × Int × zS) : Nat → Nat → Prop
  | 0, a => wCn0 w a c
  | n + 1, a => ∃ i, w a = some (eO ciX16 [.ref i]) ∧ wCnN w c n i
/-- the condition at an address -/
def wCn (w : zMp) (a : Nat) (c : zCn) : Prop := wCnN w c.2 c.1 a
theorem wCn0.le {w w2 : zMp} {a : Nat} {c : Int × Int × Int × Int × zS} (h : wCn0 w a c) (hl : zLe w w2) : wCn0 w2 a c := by
  rcases h with ⟨h1, h2, h3⟩ | ⟨h1, y, h2, h3⟩ | ⟨h1, h2, h3⟩
  · exact Or.inl ⟨h1, hl _ _ h2, h3⟩
  · exact Or.inr (Or.inl ⟨h1, y, hl _ _ h2, hl _ _ h3⟩)
  · exact Or.inr (Or.inr ⟨h1, hl _ _ h2, h3⟩)
theorem wCnN.le {w w2 : zMp} {c : Int × Int × Int × Int × zS} (hl : zLe w w2) : ∀ {n a : Nat}, wCnN w c n a → wCnN w2 c n a := by
  intro n
  induction n with
  | zero => intro a h; exact wCn0.le h hl
  | succ n ih => intro a h; obtain ⟨i, h1, h2⟩ := h; exact ⟨i, hl _ _ h1, ih h2⟩
theorem wCn.le {w w2 : zMp} {a : Nat} {c : zCn} (h : wCn w a c) (hl : zLe w w2) : wCn w2 a c := wCnN.le hl h
theorem wCn.el {w : zMp} {a : Nat} {c : zCn} (h : wCn w a c) : ∃ it, w a = some it ∧ zElO it = true := by
  obtain ⟨n, c⟩ := c
  cases n with
  | zero =>
    rcases h with ⟨h1, h2, h3⟩ | ⟨h1, y, h2, h3⟩ | ⟨h1, h2, h3⟩
    · exact ⟨_, h2, by show zAsg ciX12 "java/lang/Object" = true; decide +kernel⟩
    · exact ⟨_, h2, by show zAsg ciX14 "java/lang/Object" = true; decide +kernel⟩
    · exact ⟨_, h2, by show zAsg ciX15 "java/lang/Object" = true; decide +kernel⟩
  | succ n =>
    obtain ⟨i, h1, h2⟩ := h
    exact ⟨_, h1, by show zAsg ciX16 "java/lang/Object" = true; decide +kernel⟩
theorem rdM_dl {m : zMp} {a b o : Nat} {p q : Int} {x : zE} (hab : a ≠ b) (ha : m a = none) : dlm (rdM (upm (rdM m b o p) a x) b o q) a = rdM m b o q := by
  unfold rdM
  rw [dlm_upm_ne _ _ hab, dlm_upm _ _ ((upm_ne _ _ hab).trans ha), upm_upm]
theorem rdM_dlE {m : zMp} {a b o e : Nat} {p q : Int} {x y : zE} (hab : a ≠ b) (ha : m a = none) (hae : a ≠ e) : dlm (upm (rdM (upm (rdM m b o p) a x) b o q) e y) a = upm (rdM m b o q) e y := by
  rw [dlm_upm_ne _ _ hae, rdM_dl hab ha]
theorem rdM_n {m : zMp} {a b o : Nat} {p : Int} (h : rdM m b o p a = none) : a ≠ b ∧ m a = none := upm_none.mp h
theorem rdM_nx {m : zMp} {a b o e : Nat} {p q : Int} {x : zE} (h : rdM (upm (rdM m b o p) a x) b o q e = none) : a ≠ e ∧ rdM m b o q e = none := by
  have h1 := upm_none.mp h
  have h2 := upm_none.mp h1.2
  have h3 := upm_none.mp h2.2
  exact ⟨Ne.symm h2.1, (upm_ne _ _ h1.1).trans h3.2⟩
theorem nuP_le {s : zS} {p : Int} (h0 : 0 ≤ p) (h1 : p ≤ s.length) : p ≤ nuP s p ∧ nuP s p ≤ s.length := by
  have hng := ngI_cs s p
  refine ⟨by unfold nuP; omega, ?_⟩
  by_cases q : nuN s p = 0
  · unfold nuP
    rw [q]
    rcases hng with ⟨q1, q2⟩ | ⟨q1, q2⟩
    · have := hr_in (s := s) (p := p) (by omega)
      omega
    · omega
  · have h2 := dgc_dig s (p + ngI s p) 6 (nuN s p - 1) (by show nuN s p - 1 < nuN s p; omega)
    have h3 := isDig_lt h2
    unfold nuP
    omega
theorem wdPc_le {s : zS} {p : Int} (h0 : 0 ≤ p) (h1 : p ≤ s.length) : p ≤ wdPc s p ∧ wdPc s p ≤ s.length := by
  have := wdNc_le h0 h1
  unfold wdPc
  omega
theorem rcK_cs (s : zS) (p : Int) : (isDig (hr s p) = false ∧ rcK s p = 0) ∨ (isDig (hr s p) = true ∧ (hr s (p + 1) = 60 ∨ hr s (p + 1) = 61 ∨ hr s (p + 1) = 62) ∧ rcK s p = 2) ∨ (isDig (hr s p) = true ∧ ¬ (hr s (p + 1) = 60 ∨ hr s (p + 1) = 61 ∨ hr s (p + 1) = 62) ∧ rcK s p = 1) := by
  unfold rcK
  cases q : isDig (hr s p) with
  | false => exact Or.inl ⟨rfl, if_pos rfl⟩
  | true =>
    right
    by_cases q2 : hr s (p + 1) = 60 ∨ hr s (p + 1) = 61 ∨ hr s (p + 1) = 62
    · exact Or.inl ⟨rfl, q2, by rw [if_neg (by decide), if_pos q2]⟩
    · exact Or.inr ⟨rfl, q2, by rw [if_neg (by decide), if_neg q2]⟩
theorem cmp_ok {s : zS} {p : Int} (h : rcK s p = 2) : (0 ≤ hr s p - 48 ∧ hr s p - 48 ≤ 9) ∧ (hr s (p + 1) = 60 ∨ hr s (p + 1) = 61 ∨ hr s (p + 1) = 62) := by
  rcases rcK_cs s p with ⟨z1, z2⟩ | ⟨z1, z2, z3⟩ | ⟨z1, z2, z3⟩
  · omega
  · have := isDig_iff.mp z1
    exact ⟨by omega, z2⟩
  · omega
theorem cmP_le {s : zS} {p : Int} (h0 : 0 ≤ p) (h1 : p ≤ s.length) : p ≤ cmP s p ∧ cmP s p ≤ s.length := by
  unfold cmP
  rcases rcK_cs s p with ⟨q1, q2⟩ | ⟨q1, q3, q2⟩ | ⟨q1, q3, q2⟩
  · rw [if_pos q2]; omega
  · have := isDig_lt q1
    have := hr_in (s := s) (p := p + 1) (by omega)
    have := nuP_le (s := s) (p := p + 2) (by omega) (by omega)
    rw [if_neg (by omega), if_neg (by omega)]
    omega
  · have := isDig_lt q1
    rw [if_neg (by omega), if_pos q2]
    omega
theorem cdB_le {s : zS} {p : Int} (h0 : 0 ≤ p) (h1 : p ≤ s.length) : (p ≤ (cdB s p).2 ∧ (cdB s p).2 ≤ s.length) ∧ ((cdB s p).1 ≠ none → p + 1 ≤ (cdB s p).2) := by
  unfold cdB
  by_cases q1 : hr s p = 35
  · rw [if_pos q1]
    have := hr_in (s := s) (p := p) (by omega)
    have := nuP_le (s := s) (p := p + 1) (by omega) (by omega)
    exact ⟨⟨by show p ≤ nuP _ _; omega, by show nuP _ _ ≤ _; omega⟩, fun _ => by show p + 1 ≤ nuP _ _; omega⟩
  · rw [if_neg q1]
    by_cases q2 : hr s p = 36
    · rw [if_pos q2]
      have := hr_in (s := s) (p := p) (by omega)
      have := wdPc_le (s := s) (p := p + 1) (by omega) (by omega)
      exact ⟨⟨by show p ≤ wdPc _ _; omega, by show wdPc _ _ ≤ _; omega⟩, fun _ => by show p + 1 ≤ wdPc _ _; omega⟩
    · rw [if_neg q2]
      by_cases q3 : hr s p = 37
      · rw [if_pos q3]
        have := hr_in (s := s) (p := p) (by omega)
        have := cmP_le (s := s) (p := p + 1) (by omega) (by omega)
        exact ⟨⟨by show p ≤ cmP _ _; omega, by show cmP _ _ ≤ _; omega⟩, fun _ => by show p + 1 ≤ cmP _ _; omega⟩
      · rw [if_neg q3]
        exact ⟨⟨by show p ≤ p; omega, by show p ≤ _; omega⟩, fun h => absurd rfl h⟩
theorem cdR_le {s : zS} : ∀ (a : Nat) {p : Int}, 0 ≤ p → p ≤ s.length → (p ≤ (cdR s a p).2 ∧ (cdR s a p).2 ≤ s.length) ∧ ((cdR s a p).1 ≠ none → p + 1 ≤ (cdR s a p).2) := by
  intro a
  induction a with
  | zero => intro p h0 h1; exact cdB_le h0 h1
  | succ a ih =>
    intro p h0 h1
    by_cases q : hr s p = 33
    · have := hr_in (s := s) (p := p) (by omega)
      have h2 := ih (p := p + 1) (by omega) (by omega)
      rw [cdR_33 q]
      exact ⟨⟨by show p ≤ (cdR s a (p + 1)).2; omega, h2.1.2⟩, fun _ => by show p + 1 ≤ (cdR s a (p + 1)).2; omega⟩
    · rw [cdR_ne q]
      exact cdB_le h0 h1
/-- all conditions -/
noncomputable def alR (s : zS) : Nat → Int → List zCn → Option (List zCn) × Int
  | 0, p, _ => (none, p)
  | f + 1, p, cs => match (cdR s 4 p).1 with
    | none => (none, (cdR s 4 p).2)
    | some c => if hr s (cdR s 4 p).2 = 38 then alR s f ((cdR s 4 p).2 + 1) (cs ++ [c]) else (if (cdR s 4 p).2 = s.length then some (cs ++ [c]) else none, (cdR s 4 p).2)
theorem alR_no {s : zS} {f : Nat} {p : Int} {cs : List zCn} (h : (cdR s 4 p).1 = none) : alR s (f + 1) p cs = (none, (cdR s 4 p).2) := by
  rw [alR, h]
theorem alR_so {s : zS} {f : Nat} {p : Int} {cs : List zCn} {c : zCn} (h : (cdR s 4 p).1 = some c) : alR s (f + 1) p cs = if hr s (cdR s 4 p).2 = 38 then alR s f ((cdR s 4 p).2 + 1) (cs ++ [c]) else (if (cdR s 4 p).2 = s.length then some (cs ++ [c]) else none, (cdR s 4 p).2) := by
  rw [alR, h]
def wCns (w : zMp) (xs : List Nat) (cs : List zCn) : Prop := xs.length = cs.length ∧ ∀ (i : Nat) (c : zCn), cs[i]? = some c → ∃ a, xs[i]? = some a ∧ wCn w a c
theorem wCns.le {w w2 : zMp} {xs : List Nat} {cs : List zCn} (h : wCns w xs cs) (hl : zLe w w2) : wCns w2 xs cs := ⟨h.1, fun i c hc => by
  obtain ⟨a, h1, h2⟩ := h.2 i c hc
  exact ⟨a, h1, h2.le hl⟩⟩
theorem wCns.snoc {w : zMp} {xs : List Nat} {cs : List zCn} {a : Nat} {c : zCn} (h : wCns w xs cs) (ha : wCn w a c) : wCns w (xs ++ [a]) (cs ++ [c]) := by
  refine ⟨by rw [List.length_append, List.length_append, h.1]; rfl, fun i c2 hc => ?_⟩
  by_cases q : i < cs.length
  · rw [List.getElem?_append_left q] at hc
    obtain ⟨a2, h1, h2⟩ := h.2 i c2 hc
    exact ⟨a2, by rw [List.getElem?_append_left (by rw [h.1]; exact q)]; exact h1, h2⟩
  · rw [List.getElem?_append_right (by omega)] at hc
    by_cases q2 : i - cs.length = 0
    · rw [q2] at hc
      cases hc
      exact ⟨a, by rw [List.getElem?_append_right (by rw [h.1]; omega), h.1, q2]; rfl, ha⟩
    · rw [List.getElem?_eq_none (by show 1 ≤ _; omega)] at hc
      cases hc
abbrev rmX11_init : Room := { frames := 1, cells := 0, slots := 0, locals := 20 }
set_option maxHeartbeats 4000000 in
theorem c_X11_init (D : zD) (A : Nat → Prop) {I : Heap → Prop} {b : Nat}  : zC D yX11_init cX11_init 1 none none rmX11_init A [.ref b] (I) (zPv I) (zNo) := by
  refine zC_start (L := [some (.ref b)]) (by decide) (Nat.le_of_ble_eq_true rfl) rfl (fun X hX => ?_)
  refine z_aload_n (i := 0) (q := 1) hX dX11_init_0 rfl rfl rfl ?_
  refine z_objInit (q := 4) hX dX11_init_1 q1081 q147 q148 (Nat.le_of_ble_eq_true rfl) rfl ⟨Nat.le_of_ble_eq_true rfl, Nat.le_of_ble_eq_true rfl⟩ rfl ?_
  exact z_vret hX dX11_init_4 (by first | exact Nat.le_of_ble_eq_true rfl | (show (_ : Nat) ≤ 0; omega)) (by first | exact Nat.le_of_ble_eq_true rfl | (show (_ : Nat) ≤ 0; omega)) rfl (fun H h => ⟨rfl, h⟩)
abbrev rmX12_init : Room := { frames := 2, cells := 0, slots := 0, locals := 40 }
set_option maxHeartbeats 4000000 in
theorem c_X12_init (D : zD) (A : Nat → Prop) {w m : zMp} {b : Nat} {v : Int} {v0 : Value} (hm : m b = some (eO ciX12 [v0])) : zC D yX12_init cX12_init 2 none none rmX12_init A [.ref b, zI (v)] (cI D A w m) (zPv (cI D A (upm w b (eO ciX12 [zI v])) (dlm m b))) (zNo) := by
  refine zC_start (L := [some (.ref b), some (zI (v))]) (by decide) (Nat.le_of_ble_eq_true rfl) rfl (fun X hX => ?_)
  refine z_aload_n (i := 0) (q := 1) hX dX12_init_0 rfl rfl rfl ?_
  refine z_CN (na := 0) hX dX12_init_1 (c_X11_init D A) (zNM_at 5 rfl) q1079 q135 q1080 rfl (by decide +kernel) ⟨Nat.le_of_ble_eq_true rfl, Nat.le_of_ble_eq_true rfl⟩ rfl rfl (Nat.le_of_ble_eq_true rfl) rfl (by first | exact Nat.le_of_ble_eq_true rfl | (show _ + 0 ≤ 0; omega)) (by first | exact Nat.le_of_ble_eq_true rfl | (show _ + 0 ≤ 0; omega)) (fun H h => h) (fun E a => zT.no) (zPv.out ?_)
  show zG X (_ + 0) (_ + 0) _ 4 _ _
  refine z_aload_n (i := 0) (q := 5) hX dX12_init_4 rfl rfl rfl ?_
  refine z_iload_n (i := 1) (q := 6) hX dX12_init_5 rfl rfl rfl ?_
  refine zc_putF (C := RX12) (T := TX12) (N := 1) (q := 9) hX ciX12 0 rfl (by decide) in_X12 tyX12_ok nmX12 dX12_init_6 q1082 rfl rfl rfl (by first | assumption | exact upm_same _ _ _ | exact (upm_ne _ _ (by first | assumption | exact Ne.symm (by assumption) | omega | exact ne_mp (m := m) (by assumption) (by assumption) | exact Ne.symm (ne_mp (m := m) (by assumption) (by assumption)) | exact ne_mp (m := w) (by assumption) (by assumption) | exact Ne.symm (ne_mp (m := w) (by assumption) (by assumption)))).trans (by first | assumption | exact upm_same _ _ _ | exact (upm_ne _ _ (by first | assumption | exact Ne.symm (by assumption) | omega | exact ne_mp (m := m) (by assumption) (by assumption) | exact Ne.symm (ne_mp (m := m) (by assumption) (by assumption)) | exact ne_mp (m := w) (by assumption) (by assumption) | exact Ne.symm (ne_mp (m := w) (by assumption) (by assumption)))).trans (by first | assumption | exact upm_same _ _ _ | exact (upm_ne _ _ (by first | assumption | exact Ne.symm (by assumption) | omega | exact ne_mp (m := m) (by assumption) (by assumption) | exact Ne.symm (ne_mp (m := m) (by assumption) (by assumption)) | exact ne_mp (m := w) (by assumption) (by assumption) | exact Ne.symm (ne_mp (m := w) (by assumption) (by assumption)))).trans (by first | assumption | exact upm_same _ _ _)))) (Nat.le_of_ble_eq_true rfl) rfl rfl rfl rfl ?_
  exact z_vret hX dX12_init_9 (by first | exact Nat.le_of_ble_eq_true rfl | (show (_ : Nat) ≤ 0; omega)) (by first | exact Nat.le_of_ble_eq_true rfl | (show (_ : Nat) ≤ 0; omega)) rfl (fun H h => ⟨rfl, by have h2 := h.frz (upm_same _ _ _); simp only [upm_upm, dlm_ups] at h2; exact h2⟩)
abbrev rmX14_init : Room := { frames := 2, cells := 0, slots := 0, locals := 40 }
set_option maxHeartbeats 4000000 in
theorem c_X14_init (D : zD) (A : Nat → Prop) {w m : zMp} {b : Nat} {y : Nat} {v0 : Value} (hm : m b = some (eO ciX14 [v0])) : zC D yX14_init cX14_init 2 none none rmX14_init A [.ref b, .ref y] (cI D A w m) (zPv (cI D A (upm w b (eO ciX14 [.ref y])) (dlm m b))) (zNo) := by
  refine zC_start (L := [some (.ref b), some (.ref y)]) (by decide) (Nat.le_of_ble_eq_true rfl) rfl (fun X hX => ?_)
  refine z_aload_n (i := 0) (q := 1) hX dX14_init_0 rfl rfl rfl ?_
  refine z_CN (na := 0) hX dX14_init_1 (c_X11_init D A) (zNM_at 7 rfl) q1079 q135 q1080 rfl (by decide +kernel) ⟨Nat.le_of_ble_eq_true rfl, Nat.le_of_ble_eq_true rfl⟩ rfl rfl (Nat.le_of_ble_eq_true rfl) rfl (by first | exact Nat.le_of_ble_eq_true rfl | (show _ + 0 ≤ 0; omega)) (by first | exact Nat.le_of_ble_eq_true rfl | (show _ + 0 ≤ 0; omega)) (fun H h => h) (fun E a => zT.no) (zPv.out ?_)
  show zG X (_ + 0) (_ + 0) _ 4 _ _
  refine z_aload_n (i := 0) (q := 5) hX dX14_init_4 rfl rfl rfl ?_
  refine z_aload_n (i := 1) (q := 6) hX dX14_init_5 rfl rfl rfl ?_
  refine zc_putF (C := RX14) (T := TX14) (N := 1) (q := 9) hX ciX14 0 rfl (by decide) in_X14 tyX14_ok nmX14 dX14_init_6 q1121 rfl rfl rfl (by first | assumption | exact upm_same _ _ _ | exact (upm_ne _ _ (by first | assumption | exact Ne.symm (by assumption) | omega | exact ne_mp (m := m) (by assumption) (by assumption) | exact Ne.symm (ne_mp (m := m) (by assumption) (by assumption)) | exact ne_mp (m := w) (by assumption) (by assumption) | exact Ne.symm (ne_mp (m := w) (by assumption) (by assumption)))).trans (by first | assumption | exact upm_same _ _ _ | exact (upm_ne _ _ (by first | assumption | exact Ne.symm (by assumption) | omega | exact ne_mp (m := m) (by assumption) (by assumption) | exact Ne.symm (ne_mp (m := m) (by assumption) (by assumption)) | exact ne_mp (m := w) (by assumption) (by assumption) | exact Ne.symm (ne_mp (m := w) (by assumption) (by assumption)))).trans (by first | assumption | exact upm_same _ _ _ | exact (upm_ne _ _ (by first | assumption | exact Ne.symm (by assumption) | omega | exact ne_mp (m := m) (by assumption) (by assumption) | exact Ne.symm (ne_mp (m := m) (by assumption) (by assumption)) | exact ne_mp (m := w) (by assumption) (by assumption) | exact Ne.symm (ne_mp (m := w) (by assumption) (by assumption)))).trans (by first | assumption | exact upm_same _ _ _)))) (Nat.le_of_ble_eq_true rfl) rfl rfl rfl rfl ?_
  exact z_vret hX dX14_init_9 (by first | exact Nat.le_of_ble_eq_true rfl | (show (_ : Nat) ≤ 0; omega)) (by first | exact Nat.le_of_ble_eq_true rfl | (show (_ : Nat) ≤ 0; omega)) rfl (fun H h => ⟨rfl, by have h2 := h.frz (upm_same _ _ _); simp only [upm_upm, dlm_ups] at h2; exact h2⟩)
abbrev rmX15_init : Room := { frames := 2, cells := 0, slots := 0, locals := 40 }
set_option maxHeartbeats 4000000 in
theorem c_X15_init (D : zD) (A : Nat → Prop) {w m : zMp} {b : Nat} {c y z : Int} {v0 v1 v2 : Value} (hm : m b = some (eO ciX15 [v0, v1, v2])) (hy : 0 ≤ y ∧ y < 128) : zC D yX15_init cX15_init 4 none none rmX15_init A [.ref b, zI (c), zI (y), zI (z)] (cI D A w m) (zPv (cI D A (upm w b (eO ciX15 [zI c, zI y, zI z])) (dlm m b))) (zNo) := by
  refine zC_start (L := [some (.ref b), some (zI (c)), some (zI (y)), some (zI (z))]) (by decide) (Nat.le_of_ble_eq_true rfl) rfl (fun X hX => ?_)
  refine z_aload_n (i := 0) (q := 1) hX dX15_init_0 rfl rfl rfl ?_
  refine z_CN (na := 0) hX dX15_init_1 (c_X11_init D A) (zNM_at 1 rfl) q1079 q135 q1080 rfl (by decide +kernel) ⟨Nat.le_of_ble_eq_true rfl, Nat.le_of_ble_eq_true rfl⟩ rfl rfl (Nat.le_of_ble_eq_true rfl) rfl (by first | exact Nat.le_of_ble_eq_true rfl | (show _ + 0 ≤ 0; omega)) (by first | exact Nat.le_of_ble_eq_true rfl | (show _ + 0 ≤ 0; omega)) (fun H h => h) (fun E a => zT.no) (zPv.out ?_)
  show zG X (_ + 0) (_ + 0) _ 4 _ _
  refine z_aload_n (i := 0) (q := 5) hX dX15_init_4 rfl rfl rfl ?_
  refine z_iload_n (i := 1) (q := 6) hX dX15_init_5 rfl rfl rfl ?_
  refine zc_putF (C := RX15) (T := TX15) (N := 3) (q := 9) hX ciX15 0 rfl (by decide) in_X15 tyX15_ok nmX15 dX15_init_6 q1135 rfl rfl rfl (by first | assumption | exact upm_same _ _ _ | exact (upm_ne _ _ (by first | assumption | exact Ne.symm (by assumption) | omega | exact ne_mp (m := m) (by assumption) (by assumption) | exact Ne.symm (ne_mp (m := m) (by assumption) (by assumption)) | exact ne_mp (m := w) (by assumption) (by assumption) | exact Ne.symm (ne_mp (m := w) (by assumption) (by assumption)))).trans (by first | assumption | exact upm_same _ _ _ | exact (upm_ne _ _ (by first | assumption | exact Ne.symm (by assumption) | omega | exact ne_mp (m := m) (by assumption) (by assumption) | exact Ne.symm (ne_mp (m := m) (by assumption) (by assumption)) | exact ne_mp (m := w) (by assumption) (by assumption) | exact Ne.symm (ne_mp (m := w) (by assumption) (by assumption)))).trans (by first | assumption | exact upm_same _ _ _ | exact (upm_ne _ _ (by first | assumption | exact Ne.symm (by assumption) | omega | exact ne_mp (m := m) (by assumption) (by assumption) | exact Ne.symm (ne_mp (m := m) (by assumption) (by assumption)) | exact ne_mp (m := w) (by assumption) (by assumption) | exact Ne.symm (ne_mp (m := w) (by assumption) (by assumption)))).trans (by first | assumption | exact upm_same _ _ _)))) (Nat.le_of_ble_eq_true rfl) rfl rfl rfl rfl ?_
  refine z_aload_n (i := 0) (q := 10) hX dX15_init_9 rfl rfl rfl ?_
  refine z_iload_n (i := 2) (q := 11) hX dX15_init_10 rfl rfl rfl ?_
  refine zc_putF (C := RX15) (T := TX15) (N := 3) (q := 14) hX ciX15 1 rfl (by decide) in_X15 tyX15_ok nmX15 dX15_init_11 q1136 rfl rfl rfl (by first | assumption | exact upm_same _ _ _ | exact (upm_ne _ _ (by first | assumption | exact Ne.symm (by assumption) | omega | exact ne_mp (m := m) (by assumption) (by assumption) | exact Ne.symm (ne_mp (m := m) (by assumption) (by assumption)) | exact ne_mp (m := w) (by assumption) (by assumption) | exact Ne.symm (ne_mp (m := w) (by assumption) (by assumption)))).trans (by first | assumption | exact upm_same _ _ _ | exact (upm_ne _ _ (by first | assumption | exact Ne.symm (by assumption) | omega | exact ne_mp (m := m) (by assumption) (by assumption) | exact Ne.symm (ne_mp (m := m) (by assumption) (by assumption)) | exact ne_mp (m := w) (by assumption) (by assumption) | exact Ne.symm (ne_mp (m := w) (by assumption) (by assumption)))).trans (by first | assumption | exact upm_same _ _ _ | exact (upm_ne _ _ (by first | assumption | exact Ne.symm (by assumption) | omega | exact ne_mp (m := m) (by assumption) (by assumption) | exact Ne.symm (ne_mp (m := m) (by assumption) (by assumption)) | exact ne_mp (m := w) (by assumption) (by assumption) | exact Ne.symm (ne_mp (m := w) (by assumption) (by assumption)))).trans (by first | assumption | exact upm_same _ _ _)))) (Nat.le_of_ble_eq_true rfl) rfl (ch_nar hy) (ch_fitc hy) rfl ?_
  refine z_aload_n (i := 0) (q := 15) hX dX15_init_14 rfl rfl rfl ?_
  refine z_iload_n (i := 3) (q := 16) hX dX15_init_15 rfl rfl rfl ?_
  refine zc_putF (C := RX15) (T := TX15) (N := 3) (q := 19) hX ciX15 2 rfl (by decide) in_X15 tyX15_ok nmX15 dX15_init_16 q1137 rfl rfl rfl (by first | assumption | exact upm_same _ _ _ | exact (upm_ne _ _ (by first | assumption | exact Ne.symm (by assumption) | omega | exact ne_mp (m := m) (by assumption) (by assumption) | exact Ne.symm (ne_mp (m := m) (by assumption) (by assumption)) | exact ne_mp (m := w) (by assumption) (by assumption) | exact Ne.symm (ne_mp (m := w) (by assumption) (by assumption)))).trans (by first | assumption | exact upm_same _ _ _ | exact (upm_ne _ _ (by first | assumption | exact Ne.symm (by assumption) | omega | exact ne_mp (m := m) (by assumption) (by assumption) | exact Ne.symm (ne_mp (m := m) (by assumption) (by assumption)) | exact ne_mp (m := w) (by assumption) (by assumption) | exact Ne.symm (ne_mp (m := w) (by assumption) (by assumption)))).trans (by first | assumption | exact upm_same _ _ _ | exact (upm_ne _ _ (by first | assumption | exact Ne.symm (by assumption) | omega | exact ne_mp (m := m) (by assumption) (by assumption) | exact Ne.symm (ne_mp (m := m) (by assumption) (by assumption)) | exact ne_mp (m := w) (by assumption) (by assumption) | exact Ne.symm (ne_mp (m := w) (by assumption) (by assumption)))).trans (by first | assumption | exact upm_same _ _ _)))) (Nat.le_of_ble_eq_true rfl) rfl rfl rfl rfl ?_
  exact z_vret hX dX15_init_19 (by first | exact Nat.le_of_ble_eq_true rfl | (show (_ : Nat) ≤ 0; omega)) (by first | exact Nat.le_of_ble_eq_true rfl | (show (_ : Nat) ≤ 0; omega)) rfl (fun H h => ⟨rfl, by have h2 := h.frz (upm_same _ _ _); simp only [upm_upm, dlm_ups] at h2; exact h2⟩)
abbrev rmX16_init : Room := { frames := 2, cells := 0, slots := 0, locals := 40 }
set_option maxHeartbeats 4000000 in
theorem c_X16_init (D : zD) (A : Nat → Prop) {w m : zMp} {b : Nat} {y : Nat} {v0 : Value} (hm : m b = some (eO ciX16 [v0])) : zC D yX16_init cX16_init 2 none none rmX16_init A [.ref b, .ref y] (cI D A w m) (zPv (cI D A (upm w b (eO ciX16 [.ref y])) (dlm m b))) (zNo) := by
  refine zC_start (L := [some (.ref b), some (.ref y)]) (by decide) (Nat.le_of_ble_eq_true rfl) rfl (fun X hX => ?_)
  refine z_aload_n (i := 0) (q := 1) hX dX16_init_0 rfl rfl rfl ?_
  refine z_CN (na := 0) hX dX16_init_1 (c_X11_init D A) (zNM_at 3 rfl) q1079 q135 q1080 rfl (by decide +kernel) ⟨Nat.le_of_ble_eq_true rfl, Nat.le_of_ble_eq_true rfl⟩ rfl rfl (Nat.le_of_ble_eq_true rfl) rfl (by first | exact Nat.le_of_ble_eq_true rfl | (show _ + 0 ≤ 0; omega)) (by first | exact Nat.le_of_ble_eq_true rfl | (show _ + 0 ≤ 0; omega)) (fun H h => h) (fun E a => zT.no) (zPv.out ?_)
  show zG X (_ + 0) (_ + 0) _ 4 _ _
  refine z_aload_n (i := 0) (q := 5) hX dX16_init_4 rfl rfl rfl ?_
  refine z_aload_n (i := 1) (q := 6) hX dX16_init_5 rfl rfl rfl ?_
  refine zc_putF (C := RX16) (T := TX16) (N := 1) (q := 9) hX ciX16 0 rfl (by decide) in_X16 tyX16_ok nmX16 dX16_init_6 q1151 rfl rfl rfl (by first | assumption | exact upm_same _ _ _ | exact (upm_ne _ _ (by first | assumption | exact Ne.symm (by assumption) | omega | exact ne_mp (m := m) (by assumption) (by assumption) | exact Ne.symm (ne_mp (m := m) (by assumption) (by assumption)) | exact ne_mp (m := w) (by assumption) (by assumption) | exact Ne.symm (ne_mp (m := w) (by assumption) (by assumption)))).trans (by first | assumption | exact upm_same _ _ _ | exact (upm_ne _ _ (by first | assumption | exact Ne.symm (by assumption) | omega | exact ne_mp (m := m) (by assumption) (by assumption) | exact Ne.symm (ne_mp (m := m) (by assumption) (by assumption)) | exact ne_mp (m := w) (by assumption) (by assumption) | exact Ne.symm (ne_mp (m := w) (by assumption) (by assumption)))).trans (by first | assumption | exact upm_same _ _ _ | exact (upm_ne _ _ (by first | assumption | exact Ne.symm (by assumption) | omega | exact ne_mp (m := m) (by assumption) (by assumption) | exact Ne.symm (ne_mp (m := m) (by assumption) (by assumption)) | exact ne_mp (m := w) (by assumption) (by assumption) | exact Ne.symm (ne_mp (m := w) (by assumption) (by assumption)))).trans (by first | assumption | exact upm_same _ _ _)))) (Nat.le_of_ble_eq_true rfl) rfl rfl rfl rfl ?_
  exact z_vret hX dX16_init_9 (by first | exact Nat.le_of_ble_eq_true rfl | (show (_ : Nat) ≤ 0; omega)) (by first | exact Nat.le_of_ble_eq_true rfl | (show (_ : Nat) ≤ 0; omega)) rfl (fun H h => ⟨rfl, by have h2 := h.frz (upm_same _ _ _); simp only [upm_upm, dlm_ups] at h2; exact h2⟩)
abbrev rmX10_comparison : Room := { frames := 6, cells := 9, slots := 59, locals := 133 }
set_option maxHeartbeats 4000000 in
theorem c_X10_comparison (D : zD) (A : Nat → Prop) {w m : zMp} {b : Nat} {o ia : Nat} {p : Int} {s : zS} (hb : rdr D m b o ia p s) : zC D yX10_comparison cX10_comparison 3 (some (.object "LogCompactor$ColumnCondition")) none rmX10_comparison A [.ref b] (cI D A w m) (zPe (fun (x : Nat) => some (.ref x)) (fun x => (rcK s p = 2 ∧ nuN s (p + 2) ≠ 0) ∧ w x = none) (fun x => cI D A (upm w x (eO ciX15 [zI (hr s p - 48), zI (hr s (p + 1)), zI (nuV s (p + 2))])) (rdM m b o (cmP s p)))) (xTx D A w (rdM m b o (cmP s p)) (¬ (rcK s p = 2 ∧ nuN s (p + 2) ≠ 0)) (cmP s p)) := by
  refine zC_start (L := [some (.ref b), none, none]) (by decide) (Nat.le_of_ble_eq_true rfl) rfl (fun X hX => ?_)
  have hb0 := hb
  obtain ⟨h1, -, -, h5, h6⟩ := hb
  have h60 := h5.1
  have hcs := rcK_cs s p
  cases hdg : isDig (hr s p) with
  | false =>
    have e0 : rcK s p = 0 := by unfold rcK; rw [hdg]; rfl
    have eP : cmP s p = p := if_pos e0
    rw [eP, hb0.self] at hX
    refine z_aload_n (i := 0) (q := 1) hX dX10_comparison_0 rfl rfl rfl ?_
    refine z_aload_n (i := 0) (q := 2) hX dX10_comparison_1 rfl rfl rfl ?_
    refine z_V (ci := ciX10) (T := TX10) (N := 2) (na := 0) hX dX10_comparison_2 (c_X10_isDigit D A hb0) rfl q1045 q1047 qs20 q134 q1048 (by decide +kernel) ⟨Nat.le_of_ble_eq_true rfl, Nat.le_of_ble_eq_true rfl⟩ rfl rfl (Nat.le_of_ble_eq_true rfl) rfl (by first | exact Nat.le_of_ble_eq_true rfl | (show _ + 0 ≤ 9; omega)) (by first | exact Nat.le_of_ble_eq_true rfl | (show _ + 0 ≤ 59; omega)) (fun H h => ⟨h, h.obE (Or.inr h1) rfl⟩) (fun E a => zT.no) (zPd.out ?_)
    show zG X (_ + 0) (_ + 0) _ 5 _ _
    rw [hdg]
    refine z_V (ci := ciX10) (T := TX10) (N := 2) (na := 1) hX dX10_comparison_5 (c_X10_need D A (c := false) hb0) rfl q1052 q1054 qs21 q134 q1055 (by decide +kernel) ⟨Nat.le_of_ble_eq_true rfl, Nat.le_of_ble_eq_true rfl⟩ rfl rfl (Nat.le_of_ble_eq_true rfl) rfl (by first | exact Nat.le_of_ble_eq_true rfl | (show _ + 1 ≤ 9; omega)) (by first | exact Nat.le_of_ble_eq_true rfl | (show _ + 7 ≤ 59; omega)) (fun H h => ⟨h, h.obE (Or.inr h1) rfl⟩) (zXs.out (fun e5 => ?_)) (zPe.out (fun x5 hx5 => ?_))
    · refine zT.ax (fun hx5 => ?_)
      exact zT.out hX (by decide) (by first | exact Nat.le_of_ble_eq_true rfl | (show (_ : Nat) ≤ 9; omega)) (by first | exact Nat.le_of_ble_eq_true rfl | (show (_ : Nat) ≤ 59; omega)) (fun H h => ⟨rfl, fun q => by omega, h⟩)
    show zG X (_ + 1) (_ + 7) _ 8 _ _
    cases hx5
  | true =>
    have hlt := isDig_lt hdg
    have hb1 := hb0.up (q := p + 1) (by omega) (by omega)
    have hnx := nx_hr hlt
    by_cases hs : hr s (p + 1) = 60 ∨ hr s (p + 1) = 61 ∨ hr s (p + 1) = 62
    · have e2 : rcK s p = 2 := by
        rcases hcs with ⟨z, -⟩ | ⟨-, -, z⟩ | ⟨-, z, -⟩
        · rw [hdg] at z; cases z
        · exact z
        · exact absurd hs z
      have eP : cmP s p = nuP s (p + 2) := (if_neg (by omega)).trans (if_neg (by omega))
      have hlt2 := hr_in (s := s) (p := p + 1) (by omega)
      have hb2 := hb0.up (q := p + 2) (by omega) (by omega)
      have hb20 := hb2.1
      rw [eP] at hX
      have K78 : ∀ y : Int, (y = 60 ∨ y = 61 ∨ y = 62) → hr s (p + 1) = y → ∀ kc ns : Nat, kc ≤ 1 → ns ≤ 7 → zG X kc ns (cI D A w (rdM m b o (p + 2))) 78 [some (.ref b), some (zI (hr s p - 48)), some (zI y)] [zI 1, .ref b] := by
        intro y hy ey kc ns hkc hns
        have hy2 : 0 ≤ y ∧ y < 128 := by omega
        refine z_V (ci := ciX10) (T := TX10) (N := 2) (na := 1) hX dX10_comparison_78 (c_X10_need D A (c := true) hb2) rfl q1052 q1054 qs21 q134 q1055 (by decide +kernel) ⟨Nat.le_of_ble_eq_true rfl, Nat.le_of_ble_eq_true rfl⟩ rfl rfl (Nat.le_of_ble_eq_true rfl) rfl (by first | exact Nat.le_of_ble_eq_true rfl | (show _ + 1 ≤ 9; omega)) (by first | exact Nat.le_of_ble_eq_true rfl | (show _ + 7 ≤ 59; omega)) (fun H h => ⟨h, h.obE (Or.inr hb20) rfl⟩) (zXs.out (fun e78 => ?_)) (zPe.out (fun x78 hx78 => ?_))
        · refine zT.ax (fun hx78 => ?_)
          cases hx78
        show zG X (_ + 1) (_ + 7) _ 81 _ _
        refine zc_new (q := 84) (fs := [zI 0, zI 0, zI 0]) (C := RX15) (T := TX15) (N := 3) hX ciX15 rfl in_X15 tyX15_ok dX10_comparison_81 q1129 q1130 q139 (fun j hj => by match j, hj with | 0, _ => rfl | 1, _ => rfl | 2, _ => rfl | (_ + 3), h => exact absurd h (by omega)) (by first | exact Nat.le_of_ble_eq_true rfl | (show _ + 1 ≤ 9; omega)) (by first | exact Nat.le_of_ble_eq_true rfl | (show _ + 3 ≤ 59; omega)) rfl (fun a81 ha81 hb81 => ?_)
        have n81 := hb81
        try simp only [upm_none] at n81
        repeat (have := And.left n81; replace n81 := And.right n81)
        have hbn := hb2.new (x := eO ciX15 [zI 0, zI 0, zI 0]) hb81
        have hbn0 := hbn.1
        have n81x := rdM_n hb81
        refine z_dup (q := 85) hX dX10_comparison_84 rfl rfl ?_
        refine z_iload_n (i := 1) (q := 86) hX dX10_comparison_85 rfl rfl rfl ?_
        refine z_iload_n (i := 2) (q := 87) hX dX10_comparison_86 rfl rfl rfl ?_
        refine z_aload_n (i := 0) (q := 88) hX dX10_comparison_87 rfl rfl rfl ?_
        refine z_V (ci := ciX10) (T := TX10) (N := 2) (na := 0) hX dX10_comparison_88 (c_X10_number D A hbn) rfl q1041 q1043 qs19 q134 q1044 (by decide +kernel) ⟨Nat.le_of_ble_eq_true rfl, Nat.le_of_ble_eq_true rfl⟩ rfl rfl (Nat.le_of_ble_eq_true rfl) rfl (by first | exact Nat.le_of_ble_eq_true rfl | (show _ + 1 ≤ 9; omega)) (by first | exact Nat.le_of_ble_eq_true rfl | (show _ + 7 ≤ 59; omega)) (fun H h => ⟨h, h.obE (Or.inr hbn0) rfl⟩) (zXs.out (fun e88 => ?_)) (zPe.out (fun x88 hx88 => ?_))
        · refine zT.ax (fun hx88 => zT.ax (fun hy88 => ?_))
          show zT X (_ + 1) (_ + 7) _ _ _ _ _
          have hz := rdM_nx hy88.2
          exact zT.out hX (by decide) (by first | exact Nat.le_of_ble_eq_true rfl | (show (_ : Nat) ≤ 9; omega)) (by first | exact Nat.le_of_ble_eq_true rfl | (show (_ : Nat) ≤ 59; omega)) (fun H h => ⟨rfl, fun q => q.2 hx88, ⟨hy88.1, hz.2⟩, by have h2 := h.del a81; rw [rdM_dlE n81x.1 n81x.2 hz.1] at h2; exact h2⟩)
        show zG X (_ + 1) (_ + 7) _ 91 _ _
        refine z_C (na := 3) hX dX10_comparison_91 (c_X15_init D A ((upm_ne _ _ n81x.1).trans (upm_same _ _ _)) hy2) q1131 q1132 q139 q1133 rfl (by decide +kernel) ⟨Nat.le_of_ble_eq_true rfl, Nat.le_of_ble_eq_true rfl⟩ rfl rfl (Nat.le_of_ble_eq_true rfl) rfl (by first | exact Nat.le_of_ble_eq_true rfl | (show _ + 0 ≤ 9; omega)) (by first | exact Nat.le_of_ble_eq_true rfl | (show _ + 0 ≤ 59; omega)) (fun H h => h) (fun E a => zT.no) (zPv.out ?_)
        show zG X (_ + 0) (_ + 0) _ 94 _ _
        exact z_aret hX dX10_comparison_94 (by first | exact Nat.le_of_ble_eq_true rfl | (show (_ : Nat) ≤ 9; omega)) (by first | exact Nat.le_of_ble_eq_true rfl | (show (_ : Nat) ≤ 59; omega)) rfl (by first | exact Or.inl ⟨_, rfl⟩ | exact Or.inr ⟨_, rfl⟩) (by first | exact Or.inl rfl | exact Or.inr ⟨_, rfl⟩) (fun H h => ⟨a81, rfl, ⟨⟨e2, hx88⟩, ha81⟩, by rw [ey]; exact h.eqv (fun c => congrFun (rdM_dl n81x.1 n81x.2).symm c)⟩)
      rcases hs with q | q | q
      · have hz9 : True := trivial
        refine z_aload_n (i := 0) (q := 1) hX dX10_comparison_0 rfl rfl rfl ?_
        refine z_aload_n (i := 0) (q := 2) hX dX10_comparison_1 rfl rfl rfl ?_
        refine z_V (ci := ciX10) (T := TX10) (N := 2) (na := 0) hX dX10_comparison_2 (c_X10_isDigit D A hb0) rfl q1045 q1047 qs20 q134 q1048 (by decide +kernel) ⟨Nat.le_of_ble_eq_true rfl, Nat.le_of_ble_eq_true rfl⟩ rfl rfl (Nat.le_of_ble_eq_true rfl) rfl (by first | exact Nat.le_of_ble_eq_true rfl | (show _ + 0 ≤ 9; omega)) (by first | exact Nat.le_of_ble_eq_true rfl | (show _ + 0 ≤ 59; omega)) (fun H h => ⟨h, h.obE (Or.inr h1) rfl⟩) (fun E a => zT.no) (zPd.out ?_)
        show zG X (_ + 0) (_ + 0) _ 5 _ _
        rw [hdg]
        refine z_V (ci := ciX10) (T := TX10) (N := 2) (na := 1) hX dX10_comparison_5 (c_X10_need D A (c := true) hb0) rfl q1052 q1054 qs21 q134 q1055 (by decide +kernel) ⟨Nat.le_of_ble_eq_true rfl, Nat.le_of_ble_eq_true rfl⟩ rfl rfl (Nat.le_of_ble_eq_true rfl) rfl (by first | exact Nat.le_of_ble_eq_true rfl | (show _ + 1 ≤ 9; omega)) (by first | exact Nat.le_of_ble_eq_true rfl | (show _ + 7 ≤ 59; omega)) (fun H h => ⟨h, h.obE (Or.inr h1) rfl⟩) (zXs.out (fun e5 => ?_)) (zPe.out (fun x5 hx5 => ?_))
        · refine zT.ax (fun hx5 => ?_)
          cases hx5
        show zG X (_ + 1) (_ + 7) _ 8 _ _
        refine z_aload_n (i := 0) (q := 9) hX dX10_comparison_8 rfl rfl rfl ?_
        refine z_V (ci := ciX10) (T := TX10) (N := 2) (na := 0) hX dX10_comparison_9 (c_X10_next D A hb0) rfl q1035 q1037 qs18 q134 q1038 (by decide +kernel) ⟨Nat.le_of_ble_eq_true rfl, Nat.le_of_ble_eq_true rfl⟩ rfl rfl (Nat.le_of_ble_eq_true rfl) rfl (by first | exact Nat.le_of_ble_eq_true rfl | (show _ + 0 ≤ 9; omega)) (by first | exact Nat.le_of_ble_eq_true rfl | (show _ + 0 ≤ 59; omega)) (fun H h => ⟨h, h.obE (Or.inr h1) rfl⟩) (fun E a => zT.no) (zPd.out ?_)
        show zG X (_ + 0) (_ + 0) _ 12 _ _
        rw [hnx]
        refine z_bipush (q := 14) hX dX10_comparison_12 (by decide) rfl ?_
        refine z_isub (q := 15) hX dX10_comparison_14 rfl ?_
        refine z_istore_n (i := 1) (q := 16) hX dX10_comparison_15 rfl (Nat.le_of_ble_eq_true rfl) rfl rfl ?_
        refine z_aload_n (i := 0) (q := 17) hX dX10_comparison_16 rfl rfl rfl ?_
        refine z_dup (q := 18) hX dX10_comparison_17 rfl rfl ?_
        refine zr_get (C := RX10) (T := TX10) (N := 2) (q := 21) hX ciX10 0 rfl (by decide) in_X10 dX10_comparison_18 q1014 (Or.inl rfl) (fun H h => cI.rd h (by first | assumption | exact Or.inl (by assumption) | exact Or.inr (by first | assumption | exact upm_same _ _ _ | exact (upm_ne _ _ (by first | assumption | exact Ne.symm (by assumption) | omega | exact ne_mp (m := m) (by assumption) (by assumption) | exact Ne.symm (ne_mp (m := m) (by assumption) (by assumption)) | exact ne_mp (m := w) (by assumption) (by assumption) | exact Ne.symm (ne_mp (m := w) (by assumption) (by assumption)))).trans (by first | assumption | exact upm_same _ _ _ | exact (upm_ne _ _ (by first | assumption | exact Ne.symm (by assumption) | omega | exact ne_mp (m := m) (by assumption) (by assumption) | exact Ne.symm (ne_mp (m := m) (by assumption) (by assumption)) | exact ne_mp (m := w) (by assumption) (by assumption) | exact Ne.symm (ne_mp (m := w) (by assumption) (by assumption)))).trans (by first | assumption | exact upm_same _ _ _ | exact (upm_ne _ _ (by first | assumption | exact Ne.symm (by assumption) | omega | exact ne_mp (m := m) (by assumption) (by assumption) | exact Ne.symm (ne_mp (m := m) (by assumption) (by assumption)) | exact ne_mp (m := w) (by assumption) (by assumption) | exact Ne.symm (ne_mp (m := w) (by assumption) (by assumption)))).trans (by first | assumption | exact upm_same _ _ _))))) rfl (by decide) rfl) rfl ?_
        refine z_iconst (q := 22) hX dX10_comparison_21 rfl ?_
        refine z_iadd (q := 23) hX dX10_comparison_22 rfl ?_
        refine zc_put (C := RX10) (T := TX10) (N := 2) (q := 26) hX ciX10 0 rfl (by decide) in_X10 tyX10_ok nmX10 dX10_comparison_23 q1014 (Or.inl rfl) rfl (by first | assumption | exact upm_same _ _ _ | exact (upm_ne _ _ (by first | assumption | exact Ne.symm (by assumption) | omega | exact ne_mp (m := m) (by assumption) (by assumption) | exact Ne.symm (ne_mp (m := m) (by assumption) (by assumption)) | exact ne_mp (m := w) (by assumption) (by assumption) | exact Ne.symm (ne_mp (m := w) (by assumption) (by assumption)))).trans (by first | assumption | exact upm_same _ _ _ | exact (upm_ne _ _ (by first | assumption | exact Ne.symm (by assumption) | omega | exact ne_mp (m := m) (by assumption) (by assumption) | exact Ne.symm (ne_mp (m := m) (by assumption) (by assumption)) | exact ne_mp (m := w) (by assumption) (by assumption) | exact Ne.symm (ne_mp (m := w) (by assumption) (by assumption)))).trans (by first | assumption | exact upm_same _ _ _ | exact (upm_ne _ _ (by first | assumption | exact Ne.symm (by assumption) | omega | exact ne_mp (m := m) (by assumption) (by assumption) | exact Ne.symm (ne_mp (m := m) (by assumption) (by assumption)) | exact ne_mp (m := w) (by assumption) (by assumption) | exact Ne.symm (ne_mp (m := w) (by assumption) (by assumption)))).trans (by first | assumption | exact upm_same _ _ _)))) (Nat.le_of_ble_eq_true rfl) rfl rfl rfl rfl ?_
        show zG X _ _ (cI D A w (rdM m b o (p + 1))) 26 _ _
        refine z_aload_n (i := 0) (q := 27) hX dX10_comparison_26 rfl rfl rfl ?_
        refine z_bipush (q := 29) hX dX10_comparison_27 (by decide) rfl ?_
        refine z_V (ci := ciX10) (T := TX10) (N := 2) (na := 1) hX dX10_comparison_29 (c_X10_takes D A hb1 (by decide)) rfl q1031 q1033 qs17 q134 q1034 (by decide +kernel) ⟨Nat.le_of_ble_eq_true rfl, Nat.le_of_ble_eq_true rfl⟩ rfl rfl (Nat.le_of_ble_eq_true rfl) rfl (by first | exact Nat.le_of_ble_eq_true rfl | (show _ + 0 ≤ 9; omega)) (by first | exact Nat.le_of_ble_eq_true rfl | (show _ + 0 ≤ 59; omega)) (fun H h => ⟨h, h.obE (Or.inr hb1.1) rfl⟩) (fun E a => zT.no) (zPd.out ?_)
        show zG X (_ + 0) (_ + 0) _ 32 _ _
        rw [decide_eq_true q, if_pos q, rdM_M, show p + 1 + 1 = p + 2 by omega]
        refine z_ifB_eq (q := 35) (t := 40) hX dX10_comparison_32 (by decide) rfl (fun h32 => ?_) (fun h32 => ?_)
        · exact absurd h32 (by decide)
        · refine z_bipush (q := 37) hX dX10_comparison_35 (by decide) rfl ?_
          refine z_goto (t := 56) hX dX10_comparison_37 (by decide) ?_
          refine z_istore_n (i := 2) (q := 57) hX dX10_comparison_56 rfl (Nat.le_of_ble_eq_true rfl) rfl rfl ?_
          refine z_aload_n (i := 0) (q := 58) hX dX10_comparison_57 rfl rfl rfl ?_
          refine z_iload_n (i := 2) (q := 59) hX dX10_comparison_58 rfl rfl rfl ?_
          refine z_bipush (q := 61) hX dX10_comparison_59 (by decide) rfl ?_
          refine z_icmp_ne (q := 64) (t := 73) hX dX10_comparison_61 (by decide) (by omega) (by omega) rfl (fun h61 => ?_) (fun h61 => ?_)
          · refine z_iconst (q := 74) hX dX10_comparison_73 rfl ?_
            refine z_goto (t := 78) hX dX10_comparison_74 (by decide) ?_
            exact K78 60 (by omega) q _ _ (by omega) (by omega)
          · exact absurd h61 (by decide)
      · have hz9 : True := trivial
        refine z_aload_n (i := 0) (q := 1) hX dX10_comparison_0 rfl rfl rfl ?_
        refine z_aload_n (i := 0) (q := 2) hX dX10_comparison_1 rfl rfl rfl ?_
        refine z_V (ci := ciX10) (T := TX10) (N := 2) (na := 0) hX dX10_comparison_2 (c_X10_isDigit D A hb0) rfl q1045 q1047 qs20 q134 q1048 (by decide +kernel) ⟨Nat.le_of_ble_eq_true rfl, Nat.le_of_ble_eq_true rfl⟩ rfl rfl (Nat.le_of_ble_eq_true rfl) rfl (by first | exact Nat.le_of_ble_eq_true rfl | (show _ + 0 ≤ 9; omega)) (by first | exact Nat.le_of_ble_eq_true rfl | (show _ + 0 ≤ 59; omega)) (fun H h => ⟨h, h.obE (Or.inr h1) rfl⟩) (fun E a => zT.no) (zPd.out ?_)
        show zG X (_ + 0) (_ + 0) _ 5 _ _
        rw [hdg]
        refine z_V (ci := ciX10) (T := TX10) (N := 2) (na := 1) hX dX10_comparison_5 (c_X10_need D A (c := true) hb0) rfl q1052 q1054 qs21 q134 q1055 (by decide +kernel) ⟨Nat.le_of_ble_eq_true rfl, Nat.le_of_ble_eq_true rfl⟩ rfl rfl (Nat.le_of_ble_eq_true rfl) rfl (by first | exact Nat.le_of_ble_eq_true rfl | (show _ + 1 ≤ 9; omega)) (by first | exact Nat.le_of_ble_eq_true rfl | (show _ + 7 ≤ 59; omega)) (fun H h => ⟨h, h.obE (Or.inr h1) rfl⟩) (zXs.out (fun e5 => ?_)) (zPe.out (fun x5 hx5 => ?_))
        · refine zT.ax (fun hx5 => ?_)
          cases hx5
        show zG X (_ + 1) (_ + 7) _ 8 _ _
        refine z_aload_n (i := 0) (q := 9) hX dX10_comparison_8 rfl rfl rfl ?_
        refine z_V (ci := ciX10) (T := TX10) (N := 2) (na := 0) hX dX10_comparison_9 (c_X10_next D A hb0) rfl q1035 q1037 qs18 q134 q1038 (by decide +kernel) ⟨Nat.le_of_ble_eq_true rfl, Nat.le_of_ble_eq_true rfl⟩ rfl rfl (Nat.le_of_ble_eq_true rfl) rfl (by first | exact Nat.le_of_ble_eq_true rfl | (show _ + 0 ≤ 9; omega)) (by first | exact Nat.le_of_ble_eq_true rfl | (show _ + 0 ≤ 59; omega)) (fun H h => ⟨h, h.obE (Or.inr h1) rfl⟩) (fun E a => zT.no) (zPd.out ?_)
        show zG X (_ + 0) (_ + 0) _ 12 _ _
        rw [hnx]
        refine z_bipush (q := 14) hX dX10_comparison_12 (by decide) rfl ?_
        refine z_isub (q := 15) hX dX10_comparison_14 rfl ?_
        refine z_istore_n (i := 1) (q := 16) hX dX10_comparison_15 rfl (Nat.le_of_ble_eq_true rfl) rfl rfl ?_
        refine z_aload_n (i := 0) (q := 17) hX dX10_comparison_16 rfl rfl rfl ?_
        refine z_dup (q := 18) hX dX10_comparison_17 rfl rfl ?_
        refine zr_get (C := RX10) (T := TX10) (N := 2) (q := 21) hX ciX10 0 rfl (by decide) in_X10 dX10_comparison_18 q1014 (Or.inl rfl) (fun H h => cI.rd h (by first | assumption | exact Or.inl (by assumption) | exact Or.inr (by first | assumption | exact upm_same _ _ _ | exact (upm_ne _ _ (by first | assumption | exact Ne.symm (by assumption) | omega | exact ne_mp (m := m) (by assumption) (by assumption) | exact Ne.symm (ne_mp (m := m) (by assumption) (by assumption)) | exact ne_mp (m := w) (by assumption) (by assumption) | exact Ne.symm (ne_mp (m := w) (by assumption) (by assumption)))).trans (by first | assumption | exact upm_same _ _ _ | exact (upm_ne _ _ (by first | assumption | exact Ne.symm (by assumption) | omega | exact ne_mp (m := m) (by assumption) (by assumption) | exact Ne.symm (ne_mp (m := m) (by assumption) (by assumption)) | exact ne_mp (m := w) (by assumption) (by assumption) | exact Ne.symm (ne_mp (m := w) (by assumption) (by assumption)))).trans (by first | assumption | exact upm_same _ _ _ | exact (upm_ne _ _ (by first | assumption | exact Ne.symm (by assumption) | omega | exact ne_mp (m := m) (by assumption) (by assumption) | exact Ne.symm (ne_mp (m := m) (by assumption) (by assumption)) | exact ne_mp (m := w) (by assumption) (by assumption) | exact Ne.symm (ne_mp (m := w) (by assumption) (by assumption)))).trans (by first | assumption | exact upm_same _ _ _))))) rfl (by decide) rfl) rfl ?_
        refine z_iconst (q := 22) hX dX10_comparison_21 rfl ?_
        refine z_iadd (q := 23) hX dX10_comparison_22 rfl ?_
        refine zc_put (C := RX10) (T := TX10) (N := 2) (q := 26) hX ciX10 0 rfl (by decide) in_X10 tyX10_ok nmX10 dX10_comparison_23 q1014 (Or.inl rfl) rfl (by first | assumption | exact upm_same _ _ _ | exact (upm_ne _ _ (by first | assumption | exact Ne.symm (by assumption) | omega | exact ne_mp (m := m) (by assumption) (by assumption) | exact Ne.symm (ne_mp (m := m) (by assumption) (by assumption)) | exact ne_mp (m := w) (by assumption) (by assumption) | exact Ne.symm (ne_mp (m := w) (by assumption) (by assumption)))).trans (by first | assumption | exact upm_same _ _ _ | exact (upm_ne _ _ (by first | assumption | exact Ne.symm (by assumption) | omega | exact ne_mp (m := m) (by assumption) (by assumption) | exact Ne.symm (ne_mp (m := m) (by assumption) (by assumption)) | exact ne_mp (m := w) (by assumption) (by assumption) | exact Ne.symm (ne_mp (m := w) (by assumption) (by assumption)))).trans (by first | assumption | exact upm_same _ _ _ | exact (upm_ne _ _ (by first | assumption | exact Ne.symm (by assumption) | omega | exact ne_mp (m := m) (by assumption) (by assumption) | exact Ne.symm (ne_mp (m := m) (by assumption) (by assumption)) | exact ne_mp (m := w) (by assumption) (by assumption) | exact Ne.symm (ne_mp (m := w) (by assumption) (by assumption)))).trans (by first | assumption | exact upm_same _ _ _)))) (Nat.le_of_ble_eq_true rfl) rfl rfl rfl rfl ?_
        show zG X _ _ (cI D A w (rdM m b o (p + 1))) 26 _ _
        refine z_aload_n (i := 0) (q := 27) hX dX10_comparison_26 rfl rfl rfl ?_
        refine z_bipush (q := 29) hX dX10_comparison_27 (by decide) rfl ?_
        refine z_V (ci := ciX10) (T := TX10) (N := 2) (na := 1) hX dX10_comparison_29 (c_X10_takes D A hb1 (by decide)) rfl q1031 q1033 qs17 q134 q1034 (by decide +kernel) ⟨Nat.le_of_ble_eq_true rfl, Nat.le_of_ble_eq_true rfl⟩ rfl rfl (Nat.le_of_ble_eq_true rfl) rfl (by first | exact Nat.le_of_ble_eq_true rfl | (show _ + 0 ≤ 9; omega)) (by first | exact Nat.le_of_ble_eq_true rfl | (show _ + 0 ≤ 59; omega)) (fun H h => ⟨h, h.obE (Or.inr hb1.1) rfl⟩) (fun E a => zT.no) (zPd.out ?_)
        show zG X (_ + 0) (_ + 0) _ 32 _ _
        rw [decide_eq_false (show ¬ hr s (p + 1) = 60 by omega), if_neg (show ¬ hr s (p + 1) = 60 by omega), rdM_M]
        refine z_ifB_eq (q := 35) (t := 40) hX dX10_comparison_32 (by decide) rfl (fun h32 => ?_) (fun h32 => ?_)
        · refine z_aload_n (i := 0) (q := 41) hX dX10_comparison_40 rfl rfl rfl ?_
          refine z_bipush (q := 43) hX dX10_comparison_41 (by decide) rfl ?_
          refine z_V (ci := ciX10) (T := TX10) (N := 2) (na := 1) hX dX10_comparison_43 (c_X10_takes D A hb1 (by decide)) rfl q1031 q1033 qs17 q134 q1034 (by decide +kernel) ⟨Nat.le_of_ble_eq_true rfl, Nat.le_of_ble_eq_true rfl⟩ rfl rfl (Nat.le_of_ble_eq_true rfl) rfl (by first | exact Nat.le_of_ble_eq_true rfl | (show _ + 0 ≤ 9; omega)) (by first | exact Nat.le_of_ble_eq_true rfl | (show _ + 0 ≤ 59; omega)) (fun H h => ⟨h, h.obE (Or.inr hb1.1) rfl⟩) (fun E a => zT.no) (zPd.out ?_)
          show zG X (_ + 0) (_ + 0) _ 46 _ _
          rw [decide_eq_true q, if_pos q, rdM_M, show p + 1 + 1 = p + 2 by omega]
          refine z_ifB_eq (q := 49) (t := 54) hX dX10_comparison_46 (by decide) rfl (fun h46 => ?_) (fun h46 => ?_)
          · exact absurd h46 (by decide)
          · refine z_bipush (q := 51) hX dX10_comparison_49 (by decide) rfl ?_
            refine z_goto (t := 56) hX dX10_comparison_51 (by decide) ?_
            refine z_istore_n (i := 2) (q := 57) hX dX10_comparison_56 rfl (Nat.le_of_ble_eq_true rfl) rfl rfl ?_
            refine z_aload_n (i := 0) (q := 58) hX dX10_comparison_57 rfl rfl rfl ?_
            refine z_iload_n (i := 2) (q := 59) hX dX10_comparison_58 rfl rfl rfl ?_
            refine z_bipush (q := 61) hX dX10_comparison_59 (by decide) rfl ?_
            refine z_icmp_ne (q := 64) (t := 73) hX dX10_comparison_61 (by decide) (by omega) (by omega) rfl (fun h61 => ?_) (fun h61 => ?_)
            · refine z_iconst (q := 74) hX dX10_comparison_73 rfl ?_
              refine z_goto (t := 78) hX dX10_comparison_74 (by decide) ?_
              exact K78 61 (by omega) q _ _ (by omega) (by omega)
            · exact absurd h61 (by decide)
        · exact absurd h32 (by decide)
      · have hz9 : True := trivial
        refine z_aload_n (i := 0) (q := 1) hX dX10_comparison_0 rfl rfl rfl ?_
        refine z_aload_n (i := 0) (q := 2) hX dX10_comparison_1 rfl rfl rfl ?_
        refine z_V (ci := ciX10) (T := TX10) (N := 2) (na := 0) hX dX10_comparison_2 (c_X10_isDigit D A hb0) rfl q1045 q1047 qs20 q134 q1048 (by decide +kernel) ⟨Nat.le_of_ble_eq_true rfl, Nat.le_of_ble_eq_true rfl⟩ rfl rfl (Nat.le_of_ble_eq_true rfl) rfl (by first | exact Nat.le_of_ble_eq_true rfl | (show _ + 0 ≤ 9; omega)) (by first | exact Nat.le_of_ble_eq_true rfl | (show _ + 0 ≤ 59; omega)) (fun H h => ⟨h, h.obE (Or.inr h1) rfl⟩) (fun E a => zT.no) (zPd.out ?_)
        show zG X (_ + 0) (_ + 0) _ 5 _ _
        rw [hdg]
        refine z_V (ci := ciX10) (T := TX10) (N := 2) (na := 1) hX dX10_comparison_5 (c_X10_need D A (c := true) hb0) rfl q1052 q1054 qs21 q134 q1055 (by decide +kernel) ⟨Nat.le_of_ble_eq_true rfl, Nat.le_of_ble_eq_true rfl⟩ rfl rfl (Nat.le_of_ble_eq_true rfl) rfl (by first | exact Nat.le_of_ble_eq_true rfl | (show _ + 1 ≤ 9; omega)) (by first | exact Nat.le_of_ble_eq_true rfl | (show _ + 7 ≤ 59; omega)) (fun H h => ⟨h, h.obE (Or.inr h1) rfl⟩) (zXs.out (fun e5 => ?_)) (zPe.out (fun x5 hx5 => ?_))
        · refine zT.ax (fun hx5 => ?_)
          cases hx5
        show zG X (_ + 1) (_ + 7) _ 8 _ _
        refine z_aload_n (i := 0) (q := 9) hX dX10_comparison_8 rfl rfl rfl ?_
        refine z_V (ci := ciX10) (T := TX10) (N := 2) (na := 0) hX dX10_comparison_9 (c_X10_next D A hb0) rfl q1035 q1037 qs18 q134 q1038 (by decide +kernel) ⟨Nat.le_of_ble_eq_true rfl, Nat.le_of_ble_eq_true rfl⟩ rfl rfl (Nat.le_of_ble_eq_true rfl) rfl (by first | exact Nat.le_of_ble_eq_true rfl | (show _ + 0 ≤ 9; omega)) (by first | exact Nat.le_of_ble_eq_true rfl | (show _ + 0 ≤ 59; omega)) (fun H h => ⟨h, h.obE (Or.inr h1) rfl⟩) (fun E a => zT.no) (zPd.out ?_)
        show zG X (_ + 0) (_ + 0) _ 12 _ _
        rw [hnx]
        refine z_bipush (q := 14) hX dX10_comparison_12 (by decide) rfl ?_
        refine z_isub (q := 15) hX dX10_comparison_14 rfl ?_
        refine z_istore_n (i := 1) (q := 16) hX dX10_comparison_15 rfl (Nat.le_of_ble_eq_true rfl) rfl rfl ?_
        refine z_aload_n (i := 0) (q := 17) hX dX10_comparison_16 rfl rfl rfl ?_
        refine z_dup (q := 18) hX dX10_comparison_17 rfl rfl ?_
        refine zr_get (C := RX10) (T := TX10) (N := 2) (q := 21) hX ciX10 0 rfl (by decide) in_X10 dX10_comparison_18 q1014 (Or.inl rfl) (fun H h => cI.rd h (by first | assumption | exact Or.inl (by assumption) | exact Or.inr (by first | assumption | exact upm_same _ _ _ | exact (upm_ne _ _ (by first | assumption | exact Ne.symm (by assumption) | omega | exact ne_mp (m := m) (by assumption) (by assumption) | exact Ne.symm (ne_mp (m := m) (by assumption) (by assumption)) | exact ne_mp (m := w) (by assumption) (by assumption) | exact Ne.symm (ne_mp (m := w) (by assumption) (by assumption)))).trans (by first | assumption | exact upm_same _ _ _ | exact (upm_ne _ _ (by first | assumption | exact Ne.symm (by assumption) | omega | exact ne_mp (m := m) (by assumption) (by assumption) | exact Ne.symm (ne_mp (m := m) (by assumption) (by assumption)) | exact ne_mp (m := w) (by assumption) (by assumption) | exact Ne.symm (ne_mp (m := w) (by assumption) (by assumption)))).trans (by first | assumption | exact upm_same _ _ _ | exact (upm_ne _ _ (by first | assumption | exact Ne.symm (by assumption) | omega | exact ne_mp (m := m) (by assumption) (by assumption) | exact Ne.symm (ne_mp (m := m) (by assumption) (by assumption)) | exact ne_mp (m := w) (by assumption) (by assumption) | exact Ne.symm (ne_mp (m := w) (by assumption) (by assumption)))).trans (by first | assumption | exact upm_same _ _ _))))) rfl (by decide) rfl) rfl ?_
        refine z_iconst (q := 22) hX dX10_comparison_21 rfl ?_
        refine z_iadd (q := 23) hX dX10_comparison_22 rfl ?_
        refine zc_put (C := RX10) (T := TX10) (N := 2) (q := 26) hX ciX10 0 rfl (by decide) in_X10 tyX10_ok nmX10 dX10_comparison_23 q1014 (Or.inl rfl) rfl (by first | assumption | exact upm_same _ _ _ | exact (upm_ne _ _ (by first | assumption | exact Ne.symm (by assumption) | omega | exact ne_mp (m := m) (by assumption) (by assumption) | exact Ne.symm (ne_mp (m := m) (by assumption) (by assumption)) | exact ne_mp (m := w) (by assumption) (by assumption) | exact Ne.symm (ne_mp (m := w) (by assumption) (by assumption)))).trans (by first | assumption | exact upm_same _ _ _ | exact (upm_ne _ _ (by first | assumption | exact Ne.symm (by assumption) | omega | exact ne_mp (m := m) (by assumption) (by assumption) | exact Ne.symm (ne_mp (m := m) (by assumption) (by assumption)) | exact ne_mp (m := w) (by assumption) (by assumption) | exact Ne.symm (ne_mp (m := w) (by assumption) (by assumption)))).trans (by first | assumption | exact upm_same _ _ _ | exact (upm_ne _ _ (by first | assumption | exact Ne.symm (by assumption) | omega | exact ne_mp (m := m) (by assumption) (by assumption) | exact Ne.symm (ne_mp (m := m) (by assumption) (by assumption)) | exact ne_mp (m := w) (by assumption) (by assumption) | exact Ne.symm (ne_mp (m := w) (by assumption) (by assumption)))).trans (by first | assumption | exact upm_same _ _ _)))) (Nat.le_of_ble_eq_true rfl) rfl rfl rfl rfl ?_
        show zG X _ _ (cI D A w (rdM m b o (p + 1))) 26 _ _
        refine z_aload_n (i := 0) (q := 27) hX dX10_comparison_26 rfl rfl rfl ?_
        refine z_bipush (q := 29) hX dX10_comparison_27 (by decide) rfl ?_
        refine z_V (ci := ciX10) (T := TX10) (N := 2) (na := 1) hX dX10_comparison_29 (c_X10_takes D A hb1 (by decide)) rfl q1031 q1033 qs17 q134 q1034 (by decide +kernel) ⟨Nat.le_of_ble_eq_true rfl, Nat.le_of_ble_eq_true rfl⟩ rfl rfl (Nat.le_of_ble_eq_true rfl) rfl (by first | exact Nat.le_of_ble_eq_true rfl | (show _ + 0 ≤ 9; omega)) (by first | exact Nat.le_of_ble_eq_true rfl | (show _ + 0 ≤ 59; omega)) (fun H h => ⟨h, h.obE (Or.inr hb1.1) rfl⟩) (fun E a => zT.no) (zPd.out ?_)
        show zG X (_ + 0) (_ + 0) _ 32 _ _
        rw [decide_eq_false (show ¬ hr s (p + 1) = 60 by omega), if_neg (show ¬ hr s (p + 1) = 60 by omega), rdM_M]
        refine z_ifB_eq (q := 35) (t := 40) hX dX10_comparison_32 (by decide) rfl (fun h32 => ?_) (fun h32 => ?_)
        · refine z_aload_n (i := 0) (q := 41) hX dX10_comparison_40 rfl rfl rfl ?_
          refine z_bipush (q := 43) hX dX10_comparison_41 (by decide) rfl ?_
          refine z_V (ci := ciX10) (T := TX10) (N := 2) (na := 1) hX dX10_comparison_43 (c_X10_takes D A hb1 (by decide)) rfl q1031 q1033 qs17 q134 q1034 (by decide +kernel) ⟨Nat.le_of_ble_eq_true rfl, Nat.le_of_ble_eq_true rfl⟩ rfl rfl (Nat.le_of_ble_eq_true rfl) rfl (by first | exact Nat.le_of_ble_eq_true rfl | (show _ + 0 ≤ 9; omega)) (by first | exact Nat.le_of_ble_eq_true rfl | (show _ + 0 ≤ 59; omega)) (fun H h => ⟨h, h.obE (Or.inr hb1.1) rfl⟩) (fun E a => zT.no) (zPd.out ?_)
          show zG X (_ + 0) (_ + 0) _ 46 _ _
          rw [decide_eq_false (show ¬ hr s (p + 1) = 61 by omega), if_neg (show ¬ hr s (p + 1) = 61 by omega), rdM_M]
          refine z_ifB_eq (q := 49) (t := 54) hX dX10_comparison_46 (by decide) rfl (fun h46 => ?_) (fun h46 => ?_)
          · refine z_bipush (q := 56) hX dX10_comparison_54 (by decide) rfl ?_
            refine z_istore_n (i := 2) (q := 57) hX dX10_comparison_56 rfl (Nat.le_of_ble_eq_true rfl) rfl rfl ?_
            refine z_aload_n (i := 0) (q := 58) hX dX10_comparison_57 rfl rfl rfl ?_
            refine z_iload_n (i := 2) (q := 59) hX dX10_comparison_58 rfl rfl rfl ?_
            refine z_bipush (q := 61) hX dX10_comparison_59 (by decide) rfl ?_
            refine z_icmp_ne (q := 64) (t := 73) hX dX10_comparison_61 (by decide) (by omega) (by omega) rfl (fun h61 => ?_) (fun h61 => ?_)
            · exact absurd h61 (by decide)
            · refine z_aload_n (i := 0) (q := 65) hX dX10_comparison_64 rfl rfl rfl ?_
              refine z_bipush (q := 67) hX dX10_comparison_65 (by decide) rfl ?_
              refine z_V (ci := ciX10) (T := TX10) (N := 2) (na := 1) hX dX10_comparison_67 (c_X10_takes D A hb1 (by decide)) rfl q1031 q1033 qs17 q134 q1034 (by decide +kernel) ⟨Nat.le_of_ble_eq_true rfl, Nat.le_of_ble_eq_true rfl⟩ rfl rfl (Nat.le_of_ble_eq_true rfl) rfl (by first | exact Nat.le_of_ble_eq_true rfl | (show _ + 0 ≤ 9; omega)) (by first | exact Nat.le_of_ble_eq_true rfl | (show _ + 0 ≤ 59; omega)) (fun H h => ⟨h, h.obE (Or.inr hb1.1) rfl⟩) (fun E a => zT.no) (zPd.out ?_)
              show zG X (_ + 0) (_ + 0) _ 70 _ _
              rw [decide_eq_true q, if_pos q, rdM_M, show p + 1 + 1 = p + 2 by omega]
              refine z_ifB_eq (q := 73) (t := 77) hX dX10_comparison_70 (by decide) rfl (fun h70 => ?_) (fun h70 => ?_)
              · exact absurd h70 (by decide)
              · refine z_iconst (q := 74) hX dX10_comparison_73 rfl ?_
                refine z_goto (t := 78) hX dX10_comparison_74 (by decide) ?_
                exact K78 62 (by omega) q _ _ (by omega) (by omega)
          · exact absurd h46 (by decide)
        · exact absurd h32 (by decide)
    · have e1 : rcK s p = 1 := by
        rcases hcs with ⟨z, -⟩ | ⟨-, z, -⟩ | ⟨-, -, z⟩
        · rw [hdg] at z; cases z
        · exact absurd z hs
        · exact z
      have eP : cmP s p = p + 1 := (if_neg (by omega)).trans (if_pos e1)
      rw [eP] at hX
      refine z_aload_n (i := 0) (q := 1) hX dX10_comparison_0 rfl rfl rfl ?_
      refine z_aload_n (i := 0) (q := 2) hX dX10_comparison_1 rfl rfl rfl ?_
      refine z_V (ci := ciX10) (T := TX10) (N := 2) (na := 0) hX dX10_comparison_2 (c_X10_isDigit D A hb0) rfl q1045 q1047 qs20 q134 q1048 (by decide +kernel) ⟨Nat.le_of_ble_eq_true rfl, Nat.le_of_ble_eq_true rfl⟩ rfl rfl (Nat.le_of_ble_eq_true rfl) rfl (by first | exact Nat.le_of_ble_eq_true rfl | (show _ + 0 ≤ 9; omega)) (by first | exact Nat.le_of_ble_eq_true rfl | (show _ + 0 ≤ 59; omega)) (fun H h => ⟨h, h.obE (Or.inr h1) rfl⟩) (fun E a => zT.no) (zPd.out ?_)
      show zG X (_ + 0) (_ + 0) _ 5 _ _
      rw [hdg]
      refine z_V (ci := ciX10) (T := TX10) (N := 2) (na := 1) hX dX10_comparison_5 (c_X10_need D A (c := true) hb0) rfl q1052 q1054 qs21 q134 q1055 (by decide +kernel) ⟨Nat.le_of_ble_eq_true rfl, Nat.le_of_ble_eq_true rfl⟩ rfl rfl (Nat.le_of_ble_eq_true rfl) rfl (by first | exact Nat.le_of_ble_eq_true rfl | (show _ + 1 ≤ 9; omega)) (by first | exact Nat.le_of_ble_eq_true rfl | (show _ + 7 ≤ 59; omega)) (fun H h => ⟨h, h.obE (Or.inr h1) rfl⟩) (zXs.out (fun e5 => ?_)) (zPe.out (fun x5 hx5 => ?_))
      · refine zT.ax (fun hx5 => ?_)
        cases hx5
      show zG X (_ + 1) (_ + 7) _ 8 _ _
      refine z_aload_n (i := 0) (q := 9) hX dX10_comparison_8 rfl rfl rfl ?_
      refine z_V (ci := ciX10) (T := TX10) (N := 2) (na := 0) hX dX10_comparison_9 (c_X10_next D A hb0) rfl q1035 q1037 qs18 q134 q1038 (by decide +kernel) ⟨Nat.le_of_ble_eq_true rfl, Nat.le_of_ble_eq_true rfl⟩ rfl rfl (Nat.le_of_ble_eq_true rfl) rfl (by first | exact Nat.le_of_ble_eq_true rfl | (show _ + 0 ≤ 9; omega)) (by first | exact Nat.le_of_ble_eq_true rfl | (show _ + 0 ≤ 59; omega)) (fun H h => ⟨h, h.obE (Or.inr h1) rfl⟩) (fun E a => zT.no) (zPd.out ?_)
      show zG X (_ + 0) (_ + 0) _ 12 _ _
      rw [hnx]
      refine z_bipush (q := 14) hX dX10_comparison_12 (by decide) rfl ?_
      refine z_isub (q := 15) hX dX10_comparison_14 rfl ?_
      refine z_istore_n (i := 1) (q := 16) hX dX10_comparison_15 rfl (Nat.le_of_ble_eq_true rfl) rfl rfl ?_
      refine z_aload_n (i := 0) (q := 17) hX dX10_comparison_16 rfl rfl rfl ?_
      refine z_dup (q := 18) hX dX10_comparison_17 rfl rfl ?_
      refine zr_get (C := RX10) (T := TX10) (N := 2) (q := 21) hX ciX10 0 rfl (by decide) in_X10 dX10_comparison_18 q1014 (Or.inl rfl) (fun H h => cI.rd h (by first | assumption | exact Or.inl (by assumption) | exact Or.inr (by first | assumption | exact upm_same _ _ _ | exact (upm_ne _ _ (by first | assumption | exact Ne.symm (by assumption) | omega | exact ne_mp (m := m) (by assumption) (by assumption) | exact Ne.symm (ne_mp (m := m) (by assumption) (by assumption)) | exact ne_mp (m := w) (by assumption) (by assumption) | exact Ne.symm (ne_mp (m := w) (by assumption) (by assumption)))).trans (by first | assumption | exact upm_same _ _ _ | exact (upm_ne _ _ (by first | assumption | exact Ne.symm (by assumption) | omega | exact ne_mp (m := m) (by assumption) (by assumption) | exact Ne.symm (ne_mp (m := m) (by assumption) (by assumption)) | exact ne_mp (m := w) (by assumption) (by assumption) | exact Ne.symm (ne_mp (m := w) (by assumption) (by assumption)))).trans (by first | assumption | exact upm_same _ _ _ | exact (upm_ne _ _ (by first | assumption | exact Ne.symm (by assumption) | omega | exact ne_mp (m := m) (by assumption) (by assumption) | exact Ne.symm (ne_mp (m := m) (by assumption) (by assumption)) | exact ne_mp (m := w) (by assumption) (by assumption) | exact Ne.symm (ne_mp (m := w) (by assumption) (by assumption)))).trans (by first | assumption | exact upm_same _ _ _))))) rfl (by decide) rfl) rfl ?_
      refine z_iconst (q := 22) hX dX10_comparison_21 rfl ?_
      refine z_iadd (q := 23) hX dX10_comparison_22 rfl ?_
      refine zc_put (C := RX10) (T := TX10) (N := 2) (q := 26) hX ciX10 0 rfl (by decide) in_X10 tyX10_ok nmX10 dX10_comparison_23 q1014 (Or.inl rfl) rfl (by first | assumption | exact upm_same _ _ _ | exact (upm_ne _ _ (by first | assumption | exact Ne.symm (by assumption) | omega | exact ne_mp (m := m) (by assumption) (by assumption) | exact Ne.symm (ne_mp (m := m) (by assumption) (by assumption)) | exact ne_mp (m := w) (by assumption) (by assumption) | exact Ne.symm (ne_mp (m := w) (by assumption) (by assumption)))).trans (by first | assumption | exact upm_same _ _ _ | exact (upm_ne _ _ (by first | assumption | exact Ne.symm (by assumption) | omega | exact ne_mp (m := m) (by assumption) (by assumption) | exact Ne.symm (ne_mp (m := m) (by assumption) (by assumption)) | exact ne_mp (m := w) (by assumption) (by assumption) | exact Ne.symm (ne_mp (m := w) (by assumption) (by assumption)))).trans (by first | assumption | exact upm_same _ _ _ | exact (upm_ne _ _ (by first | assumption | exact Ne.symm (by assumption) | omega | exact ne_mp (m := m) (by assumption) (by assumption) | exact Ne.symm (ne_mp (m := m) (by assumption) (by assumption)) | exact ne_mp (m := w) (by assumption) (by assumption) | exact Ne.symm (ne_mp (m := w) (by assumption) (by assumption)))).trans (by first | assumption | exact upm_same _ _ _)))) (Nat.le_of_ble_eq_true rfl) rfl rfl rfl rfl ?_
      show zG X _ _ (cI D A w (rdM m b o (p + 1))) 26 _ _
      refine z_aload_n (i := 0) (q := 27) hX dX10_comparison_26 rfl rfl rfl ?_
      refine z_bipush (q := 29) hX dX10_comparison_27 (by decide) rfl ?_
      refine z_V (ci := ciX10) (T := TX10) (N := 2) (na := 1) hX dX10_comparison_29 (c_X10_takes D A hb1 (by decide)) rfl q1031 q1033 qs17 q134 q1034 (by decide +kernel) ⟨Nat.le_of_ble_eq_true rfl, Nat.le_of_ble_eq_true rfl⟩ rfl rfl (Nat.le_of_ble_eq_true rfl) rfl (by first | exact Nat.le_of_ble_eq_true rfl | (show _ + 0 ≤ 9; omega)) (by first | exact Nat.le_of_ble_eq_true rfl | (show _ + 0 ≤ 59; omega)) (fun H h => ⟨h, h.obE (Or.inr hb1.1) rfl⟩) (fun E a => zT.no) (zPd.out ?_)
      show zG X (_ + 0) (_ + 0) _ 32 _ _
      rw [decide_eq_false (show ¬ hr s (p + 1) = 60 by omega), if_neg (show ¬ hr s (p + 1) = 60 by omega), rdM_M]
      refine z_ifB_eq (q := 35) (t := 40) hX dX10_comparison_32 (by decide) rfl (fun h32 => ?_) (fun h32 => ?_)
      · refine z_aload_n (i := 0) (q := 41) hX dX10_comparison_40 rfl rfl rfl ?_
        refine z_bipush (q := 43) hX dX10_comparison_41 (by decide) rfl ?_
        refine z_V (ci := ciX10) (T := TX10) (N := 2) (na := 1) hX dX10_comparison_43 (c_X10_takes D A hb1 (by decide)) rfl q1031 q1033 qs17 q134 q1034 (by decide +kernel) ⟨Nat.le_of_ble_eq_true rfl, Nat.le_of_ble_eq_true rfl⟩ rfl rfl (Nat.le_of_ble_eq_true rfl) rfl (by first | exact Nat.le_of_ble_eq_true rfl | (show _ + 0 ≤ 9; omega)) (by first | exact Nat.le_of_ble_eq_true rfl | (show _ + 0 ≤ 59; omega)) (fun H h => ⟨h, h.obE (Or.inr hb1.1) rfl⟩) (fun E a => zT.no) (zPd.out ?_)
        show zG X (_ + 0) (_ + 0) _ 46 _ _
        rw [decide_eq_false (show ¬ hr s (p + 1) = 61 by omega), if_neg (show ¬ hr s (p + 1) = 61 by omega), rdM_M]
        refine z_ifB_eq (q := 49) (t := 54) hX dX10_comparison_46 (by decide) rfl (fun h46 => ?_) (fun h46 => ?_)
        · refine z_bipush (q := 56) hX dX10_comparison_54 (by decide) rfl ?_
          refine z_istore_n (i := 2) (q := 57) hX dX10_comparison_56 rfl (Nat.le_of_ble_eq_true rfl) rfl rfl ?_
          refine z_aload_n (i := 0) (q := 58) hX dX10_comparison_57 rfl rfl rfl ?_
          refine z_iload_n (i := 2) (q := 59) hX dX10_comparison_58 rfl rfl rfl ?_
          refine z_bipush (q := 61) hX dX10_comparison_59 (by decide) rfl ?_
          refine z_icmp_ne (q := 64) (t := 73) hX dX10_comparison_61 (by decide) (by omega) (by omega) rfl (fun h61 => ?_) (fun h61 => ?_)
          · exact absurd h61 (by decide)
          · refine z_aload_n (i := 0) (q := 65) hX dX10_comparison_64 rfl rfl rfl ?_
            refine z_bipush (q := 67) hX dX10_comparison_65 (by decide) rfl ?_
            refine z_V (ci := ciX10) (T := TX10) (N := 2) (na := 1) hX dX10_comparison_67 (c_X10_takes D A hb1 (by decide)) rfl q1031 q1033 qs17 q134 q1034 (by decide +kernel) ⟨Nat.le_of_ble_eq_true rfl, Nat.le_of_ble_eq_true rfl⟩ rfl rfl (Nat.le_of_ble_eq_true rfl) rfl (by first | exact Nat.le_of_ble_eq_true rfl | (show _ + 0 ≤ 9; omega)) (by first | exact Nat.le_of_ble_eq_true rfl | (show _ + 0 ≤ 59; omega)) (fun H h => ⟨h, h.obE (Or.inr hb1.1) rfl⟩) (fun E a => zT.no) (zPd.out ?_)
            show zG X (_ + 0) (_ + 0) _ 70 _ _
            rw [decide_eq_false (show ¬ hr s (p + 1) = 62 by omega), if_neg (show ¬ hr s (p + 1) = 62 by omega), rdM_M]
            refine z_ifB_eq (q := 73) (t := 77) hX dX10_comparison_70 (by decide) rfl (fun h70 => ?_) (fun h70 => ?_)
            · refine z_iconst (q := 78) hX dX10_comparison_77 rfl ?_
              refine z_V (ci := ciX10) (T := TX10) (N := 2) (na := 1) hX dX10_comparison_78 (c_X10_need D A (c := false) hb1) rfl q1052 q1054 qs21 q134 q1055 (by decide +kernel) ⟨Nat.le_of_ble_eq_true rfl, Nat.le_of_ble_eq_true rfl⟩ rfl rfl (Nat.le_of_ble_eq_true rfl) rfl (by first | exact Nat.le_of_ble_eq_true rfl | (show _ + 1 ≤ 9; omega)) (by first | exact Nat.le_of_ble_eq_true rfl | (show _ + 7 ≤ 59; omega)) (fun H h => ⟨h, h.obE (Or.inr hb1.1) rfl⟩) (zXs.out (fun e78 => ?_)) (zPe.out (fun x78 hx78 => ?_))
              · refine zT.ax (fun hx78 => ?_)
                exact zT.out hX (by decide) (by first | exact Nat.le_of_ble_eq_true rfl | (show (_ : Nat) ≤ 9; omega)) (by first | exact Nat.le_of_ble_eq_true rfl | (show (_ : Nat) ≤ 59; omega)) (fun H h => ⟨rfl, fun q => by omega, h⟩)
              show zG X (_ + 1) (_ + 7) _ 81 _ _
              cases hx78
            · exact absurd h70 (by decide)
        · exact absurd h46 (by decide)
      · exact absurd h32 (by decide)
