/-! THE CLASS: Template, made -/
set_option maxRecDepth 100000
/-- ascending -/
abbrev asc (xs : List Int) : Prop := xs.Pairwise (fun a b => a < b)
theorem asc_eq : ∀ {xs ys : List Int}, asc xs → asc ys → (∀ z, z ∈ xs ↔ z ∈ ys) → xs = ys
  | [], [], _, _, _ => rfl
  | [], y :: ys, _, _, h => by have := (h y).mpr List.mem_cons_self; cases this
  | x :: xs, [], _, _, h => by have := (h x).mp List.mem_cons_self; cases this
  | x :: xs, y :: ys, hx, hy, h => by
    rw [asc, List.pairwise_cons] at hx hy
    have e : x = y := by
      rcases List.mem_cons.mp ((h x).mp List.mem_cons_self) with q | q
      · exact q
      · rcases List.mem_cons.mp ((h y).mpr List.mem_cons_self) with q2 | q2
        · exact q2.symm
        · have := hy.1 x q
          have := hx.1 y q2
          omega
    subst e
    have e2 : xs = ys := asc_eq hx.2 hy.2 (fun z => by
      constructor
      · intro hz
        rcases List.mem_cons.mp ((h z).mp (List.mem_cons_of_mem _ hz)) with q | q
        · have := hx.1 z hz; omega
        · exact q
      · intro hz
        rcases List.mem_cons.mp ((h z).mpr (List.mem_cons_of_mem _ hz)) with q | q
        · have := hy.1 z hz; omega
        · exact q)
    rw [e2]
theorem rF_asc (p : Int → Bool) : ∀ n : Nat, asc (rF p n) := by
  intro n
  induction n with
  | zero => exact List.Pairwise.nil
  | succ n ih =>
    show asc (if p n then rF p n ++ [(n : Int)] else rF p n)
    split
    · rw [asc, List.pairwise_append]
      refine ⟨ih, List.pairwise_singleton _ _, fun a ha b hb => ?_⟩
      rw [List.mem_singleton] at hb
      have := rF_mem.mp ha
      omega
    · exact ih
def insI (xs : List Int) (p : Nat) (x : Int) : List Int := xs.take p ++ x :: xs.drop p
theorem insI_mem {xs : List Int} {p : Nat} {x z : Int} : z ∈ insI xs p x ↔ z ∈ xs ∨ z = x := by
  unfold insI
  constructor
  · intro h
    rcases List.mem_append.mp h with h | h
    · exact Or.inl (List.mem_of_mem_take h)
    · rcases List.mem_cons.mp h with h | h
      · exact Or.inr h
      · exact Or.inl (List.mem_of_mem_drop h)
  · intro h
    rcases h with h | h
    · rw [← List.take_append_drop p xs] at h
      rcases List.mem_append.mp h with h | h
      · exact List.mem_append.mpr (Or.inl h)
      · exact List.mem_append.mpr (Or.inr (List.mem_cons_of_mem _ h))
    · rw [h]
      exact List.mem_append.mpr (Or.inr List.mem_cons_self)
theorem insI_len {xs : List Int} {p : Nat} {x : Int} (h : p ≤ xs.length) : (insI xs p x).length = xs.length + 1 := by
  unfold insI
  rw [List.length_append, List.length_cons, List.length_take, List.length_drop]
  omega
theorem insI_asc {xs : List Int} {p : Nat} {x : Int} (h : asc xs) (hx : x ∉ xs) (hg : ∀ j : Nat, p ≤ j → j < xs.length → x < xs.getD j 0) (hp : p = 0 ∨ (p ≤ xs.length ∧ xs.getD (p - 1) 0 ≤ x)) : asc (insI xs p x) := by
  have hs : asc (xs.take p ++ xs.drop p) := by rw [List.take_append_drop]; exact h
  rw [asc, List.pairwise_append] at hs
  unfold insI
  rw [asc, List.pairwise_append, List.pairwise_cons]
  have hd : ∀ z ∈ xs.drop p, x < z := fun z hz => by
    obtain ⟨j, hj⟩ := List.getElem?_of_mem hz
    rw [List.getElem?_drop] at hj
    have hl := (List.getElem?_eq_some_iff.mp hj).1
    have := hg (p + j) (by omega) hl
    rw [List.getD_eq_getElem?_getD, hj] at this
    exact this
  have ht : ∀ z ∈ xs.take p, z < x := fun z hz => by
    rcases hp with hp | ⟨hp, hq⟩
    · subst hp
      rw [List.take_zero] at hz
      cases hz
    · obtain ⟨j, hj⟩ := List.getElem?_of_mem hz
      have hl := (List.getElem?_eq_some_iff.mp hj).1
      rw [List.length_take] at hl
      have hjp : j < p := by omega
      rw [List.getElem?_take_of_lt hjp] at hj
      have hne : z ≠ x := fun e => hx (e ▸ List.mem_of_getElem? hj)
      have hle : z ≤ xs.getD (p - 1) 0 := by
        by_cases e : j = p - 1
        · subst e
          rw [List.getD_eq_getElem?_getD, hj]
          exact Int.le_refl _
        · have h2 := (List.pairwise_iff_getElem.mp h) j (p - 1) (by omega) (by omega) (by omega)
          rw [List.getD_eq_getElem?_getD, List.getElem?_eq_getElem (by omega)]
          have h3 := (List.getElem?_eq_some_iff.mp hj).2
          rw [h3] at h2
          exact Int.le_of_lt h2
      omega
  refine ⟨hs.1, ⟨hd, hs.2.1⟩, fun a ha b hb => ?_⟩
  rcases List.mem_cons.mp hb with hb | hb
  · rw [hb]; exact ht a ha
  · exact hs.2.2 a ha b hb
theorem zInts.ins {w : zMp} {xs : List Nat} {ks : List Int} {a p : Nat} {k : Int} (h : zInts w xs ks) (ha : w a = some (eI k)) (hz : zR k) (hp : p ≤ ks.length) : zInts w (insL xs p a) (insI ks p k) := by
  have hl := h.1
  refine ⟨by rw [insL_len (by omega), insI_len hp, hl], fun i z hi => ?_⟩
  unfold insI at hi
  unfold insL
  by_cases h1 : i < p
  · rw [List.getElem?_append_left (by rw [List.length_take]; omega), List.getElem?_take_of_lt h1] at hi
    rw [List.getElem?_append_left (by rw [List.length_take]; omega), List.getElem?_take_of_lt h1]
    exact h.2 i z hi
  · rw [List.getElem?_append_right (by rw [List.length_take]; omega), List.length_take, Nat.min_eq_left hp] at hi
    rw [List.getElem?_append_right (by rw [List.length_take]; omega), List.length_take, Nat.min_eq_left (by omega)]
    by_cases h2 : i = p
    · subst h2
      rw [Nat.sub_self] at hi ⊢
      cases hi
      exact ⟨hz, a, rfl, ha⟩
    · obtain ⟨u, hu⟩ : ∃ u, i - p = u + 1 := ⟨i - p - 1, by omega⟩
      rw [hu, List.getElem?_cons_succ, List.getElem?_drop] at hi ⊢
      exact h.2 _ z hi
theorem zInts.mem {w : zMp} {xs : List Nat} {ks : List Int} (h : zInts w xs ks) : ∀ x ∈ xs, ∃ k, w x = some (eI k) := fun x hx => by
  obtain ⟨i, hi⟩ := List.getElem?_of_mem hx
  have hl := (List.getElem?_eq_some_iff.mp hi).1
  obtain ⟨-, a, g1, g2⟩ := h.at (i := i) (by rw [← h.1]; exact hl)
  cases hi.symm.trans g1
  exact ⟨_, g2⟩
/-- a template that is being made -/
def oTpl (M m : zMp) (a gl sl rl : Nat) (mc2 mc3 : Int) (ss rs : List Nat) : Prop := (M a = some (eO ciX7 [.ref gl, .ref sl, .ref rl]) ∧ M sl = some (eL mc2 ss) ∧ M rl = some (eL mc3 rs)) ∧ (∀ c, c ≠ a → c ≠ sl → c ≠ rl → M c = m c) ∧ (sl ≠ a ∧ rl ≠ a ∧ rl ≠ sl) ∧ m a = none ∧ m sl = none ∧ m rl = none
theorem oTpl.sl {M m : zMp} {a gl sl rl : Nat} {mc2 mc3 mc4 : Int} {ss rs ss2 : List Nat} (h : oTpl M m a gl sl rl mc2 mc3 ss rs) : oTpl (upm M sl (eL mc4 ss2)) m a gl sl rl mc4 mc3 ss2 rs := by
  obtain ⟨⟨h1, h2, h3⟩, h4, ⟨h5, h6, h7⟩, h8⟩ := h
  exact ⟨⟨(upm_ne _ _ h5.symm).trans h1, upm_same _ _ _, (upm_ne _ _ h7).trans h3⟩, fun c c1 c2 c3 => (upm_ne _ _ c2).trans (h4 c c1 c2 c3), ⟨h5, h6, h7⟩, h8⟩
theorem oTpl.rl {M m : zMp} {a gl sl rl : Nat} {mc2 mc3 mc4 : Int} {ss rs rs2 : List Nat} (h : oTpl M m a gl sl rl mc2 mc3 ss rs) : oTpl (upm M rl (eL mc4 rs2)) m a gl sl rl mc2 mc4 ss rs2 := by
  obtain ⟨⟨h1, h2, h3⟩, h4, ⟨h5, h6, h7⟩, h8⟩ := h
  exact ⟨⟨(upm_ne _ _ h6.symm).trans h1, (upm_ne _ _ h7.symm).trans h2, upm_same _ _ _⟩, fun c c1 c2 c3 => (upm_ne _ _ c3).trans (h4 c c1 c2 c3), ⟨h5, h6, h7⟩, h8⟩
/-- .. and is made -/
theorem oTpl.frz {D : zD} {A : Nat → Prop} {w M m : zMp} {a gl sl rl : Nat} {mc2 mc3 mc : Int} {ss rs gs : List Nat} {H : Heap} {g rows : List Int} {n : Nat} {sv : Int → Int} {su : Int → zS} (h : oTpl M m a gl sl rl mc2 mc3 ss rs) (hI : cI D A w M H) (hg : w gl = some (eL mc gs)) (hgs : zInts w gs g) (hss : wSlots w ss n sv su) (hrs : zInts w rs rows) (hb : g.length = n + 1 ∧ n ≤ 20 ∧ rows.length ≤ 40) : (zLe w (upm (upm (upm w sl (eL mc2 ss)) rl (eL mc3 rs)) a (eO ciX7 [.ref gl, .ref sl, .ref rl])) ∧ wTpl (upm (upm (upm w sl (eL mc2 ss)) rl (eL mc3 rs)) a (eO ciX7 [.ref gl, .ref sl, .ref rl])) a g n sv su rows) ∧ cI D A (upm (upm (upm w sl (eL mc2 ss)) rl (eL mc3 rs)) a (eO ciX7 [.ref gl, .ref sl, .ref rl])) m H := by
  obtain ⟨⟨h1, h2, h3⟩, h4, ⟨h5, h6, h7⟩, h8, h9, h10⟩ := h
  have n1 := hI.w_of h2
  have n2 := hI.w_of h3
  have n3 := hI.w_of h1
  have hle : zLe w (upm (upm (upm w sl (eL mc2 ss)) rl (eL mc3 rs)) a (eO ciX7 [.ref gl, .ref sl, .ref rl])) := (zLe.up n1).tr ((zLe.up ((upm_ne _ _ h7).trans n2)).tr (zLe.up ((upm_ne _ _ h6.symm).trans ((upm_ne _ _ h5.symm).trans n3))))
  refine ⟨⟨hle, hb, gl, sl, rl, mc, mc2, mc3, gs, ss, rs, upm_same _ _ _, hle _ _ hg, hgs.le hle, (upm_ne _ _ h5).trans ((upm_ne _ _ h7.symm).trans (upm_same _ _ _)), hss.le hle, (upm_ne _ _ h6).trans (upm_same _ _ _), hrs.le hle⟩, (((hI.frz h2).frz ((dlm_ne _ h7).trans h3)).frz ((dlm_ne _ h6.symm).trans ((dlm_ne _ h5.symm).trans h1))).eqv (fun c => ?_)⟩
  by_cases c1 : c = a
  · rw [c1, dlm_same, h8]
  · rw [dlm_ne _ c1]
    by_cases c2 : c = rl
    · rw [c2, dlm_same, h10]
    · rw [dlm_ne _ c2]
      by_cases c3 : c = sl
      · rw [c3, dlm_same, h9]
      · rw [dlm_ne _ c3, h4 c c1 c3 c2]
theorem oTpl.new {m : zMp} {a gl sl rl : Nat} {e : zE} (h1 : m a = none) (h2 : upm m a e sl = none) (h3 : upm m a e rl = none) (h4 : rl ≠ sl) : oTpl (upm (upm (upm (upm m a e) sl (eL 0 [])) rl (eL 0 [])) a (eO ciX7 [.ref gl, .ref sl, .ref rl])) m a gl sl rl 0 0 [] [] := by
  rw [upm_none] at h2 h3
  exact ⟨⟨upm_same _ _ _, (upm_ne _ _ h2.1).trans ((upm_ne _ _ h4.symm).trans (upm_same _ _ _)), (upm_ne _ _ h3.1).trans (upm_same _ _ _)⟩, fun c c1 c2 c3 => by simp [upm, c1, c2, c3], ⟨h2.1, h3.1, h4⟩, h1, h2.2, h3.2⟩
abbrev rmX7_init : Room := { frames := 4, cells := 2, slots := 6, locals := 80 }
set_option maxHeartbeats 4000000 in
theorem c_X7_init (D : zD) (A : Nat → Prop) {w m : zMp} {b : Nat} {gl : Nat} (hm : m b = some (eO ciX7 [.null, .null, .null])) : zC D yX7_init cX7_init 2 none none rmX7_init A [.ref b, .ref gl] (cI D A w m) (zPe (fun (x : Nat × Nat) => none) (fun x => m x.1 = none ∧ m x.2 = none ∧ x.2 ≠ x.1) (fun x => cI D A w (upm (upm (upm m x.1 (eL 0 [])) x.2 (eL 0 [])) b (eO ciX7 [.ref gl, .ref x.1, .ref x.2])))) (zNo) := by
  refine zC_start (L := [some (.ref b), some (.ref gl)]) (by decide) (Nat.le_of_ble_eq_true rfl) rfl (fun X hX => ?_)
  refine z_aload_n (i := 0) (q := 1) hX dX7_init_0 rfl rfl rfl ?_
  refine z_objInit (q := 4) hX dX7_init_1 q683 q147 q148 (Nat.le_of_ble_eq_true rfl) rfl ⟨Nat.le_of_ble_eq_true rfl, Nat.le_of_ble_eq_true rfl⟩ rfl ?_
  refine z_aload_n (i := 0) (q := 5) hX dX7_init_4 rfl rfl rfl ?_
  refine zc_new (q := 8) (fs := [zI 0, .null, zI 0]) (C := RJ2) (T := TJ2) (N := 3) hX ciJ2 rfl in_J2 tyJ2_ok dX7_init_5 q684 q156 q101 (fun j hj => by match j, hj with | 0, _ => rfl | 1, _ => rfl | 2, _ => rfl | (_ + 3), h => exact absurd h (by omega)) (by first | exact Nat.le_of_ble_eq_true rfl | (show _ + 1 ≤ 2; omega)) (by first | exact Nat.le_of_ble_eq_true rfl | (show _ + 3 ≤ 6; omega)) rfl (fun a5 ha5 hb5 => ?_)
  have n5 := hb5
  try simp only [upm_none] at n5
  repeat (have := And.left n5; replace n5 := And.right n5)
  refine z_dup (q := 9) hX dX7_init_8 rfl rfl ?_
  refine z_C (na := 0) hX dX7_init_9 (c_J2_init D A (by first | assumption | exact upm_same _ _ _ | exact (upm_ne _ _ (by first | assumption | exact Ne.symm (by assumption) | omega | exact ne_mp (m := m) (by assumption) (by assumption) | exact Ne.symm (ne_mp (m := m) (by assumption) (by assumption)) | exact ne_mp (m := w) (by assumption) (by assumption) | exact Ne.symm (ne_mp (m := w) (by assumption) (by assumption)))).trans (by first | assumption | exact upm_same _ _ _ | exact (upm_ne _ _ (by first | assumption | exact Ne.symm (by assumption) | omega | exact ne_mp (m := m) (by assumption) (by assumption) | exact Ne.symm (ne_mp (m := m) (by assumption) (by assumption)) | exact ne_mp (m := w) (by assumption) (by assumption) | exact Ne.symm (ne_mp (m := w) (by assumption) (by assumption)))).trans (by first | assumption | exact upm_same _ _ _ | exact (upm_ne _ _ (by first | assumption | exact Ne.symm (by assumption) | omega | exact ne_mp (m := m) (by assumption) (by assumption) | exact Ne.symm (ne_mp (m := m) (by assumption) (by assumption)) | exact ne_mp (m := w) (by assumption) (by assumption) | exact Ne.symm (ne_mp (m := w) (by assumption) (by assumption)))).trans (by first | assumption | exact upm_same _ _ _))))) q685 q158 q101 q159 rfl (by decide +kernel) ⟨Nat.le_of_ble_eq_true rfl, Nat.le_of_ble_eq_true rfl⟩ rfl rfl (Nat.le_of_ble_eq_true rfl) rfl (by first | exact Nat.le_of_ble_eq_true rfl | (show _ + 0 ≤ 2; omega)) (by first | exact Nat.le_of_ble_eq_true rfl | (show _ + 0 ≤ 6; omega)) (fun H h => h) (fun E a => zT.no) (zPv.out ?_)
  show zG X (_ + 0) (_ + 0) _ 12 _ _
  refine zc_putF (C := RX7) (T := TX7) (N := 3) (q := 15) hX ciX7 1 rfl (by decide) in_X7 tyX7_ok nmX7 dX7_init_12 q689 rfl rfl rfl (by first | assumption | exact upm_same _ _ _ | exact (upm_ne _ _ (by first | assumption | exact Ne.symm (by assumption) | omega | exact ne_mp (m := m) (by assumption) (by assumption) | exact Ne.symm (ne_mp (m := m) (by assumption) (by assumption)) | exact ne_mp (m := w) (by assumption) (by assumption) | exact Ne.symm (ne_mp (m := w) (by assumption) (by assumption)))).trans (by first | assumption | exact upm_same _ _ _ | exact (upm_ne _ _ (by first | assumption | exact Ne.symm (by assumption) | omega | exact ne_mp (m := m) (by assumption) (by assumption) | exact Ne.symm (ne_mp (m := m) (by assumption) (by assumption)) | exact ne_mp (m := w) (by assumption) (by assumption) | exact Ne.symm (ne_mp (m := w) (by assumption) (by assumption)))).trans (by first | assumption | exact upm_same _ _ _ | exact (upm_ne _ _ (by first | assumption | exact Ne.symm (by assumption) | omega | exact ne_mp (m := m) (by assumption) (by assumption) | exact Ne.symm (ne_mp (m := m) (by assumption) (by assumption)) | exact ne_mp (m := w) (by assumption) (by assumption) | exact Ne.symm (ne_mp (m := w) (by assumption) (by assumption)))).trans (by first | assumption | exact upm_same _ _ _)))) (Nat.le_of_ble_eq_true rfl) rfl rfl rfl rfl ?_
  refine z_aload_n (i := 0) (q := 16) hX dX7_init_15 rfl rfl rfl ?_
  refine zc_new (q := 19) (fs := [zI 0, .null, zI 0]) (C := RJ2) (T := TJ2) (N := 3) hX ciJ2 rfl in_J2 tyJ2_ok dX7_init_16 q684 q156 q101 (fun j hj => by match j, hj with | 0, _ => rfl | 1, _ => rfl | 2, _ => rfl | (_ + 3), h => exact absurd h (by omega)) (by first | exact Nat.le_of_ble_eq_true rfl | (show _ + 1 ≤ 2; omega)) (by first | exact Nat.le_of_ble_eq_true rfl | (show _ + 3 ≤ 6; omega)) rfl (fun a16 ha16 hb16 => ?_)
  have n16 := hb16
  try simp only [upm_none] at n16
  repeat (have := And.left n16; replace n16 := And.right n16)
  refine z_dup (q := 20) hX dX7_init_19 rfl rfl ?_
  refine z_C (na := 0) hX dX7_init_20 (c_J2_init D A (by first | assumption | exact upm_same _ _ _ | exact (upm_ne _ _ (by first | assumption | exact Ne.symm (by assumption) | omega | exact ne_mp (m := m) (by assumption) (by assumption) | exact Ne.symm (ne_mp (m := m) (by assumption) (by assumption)) | exact ne_mp (m := w) (by assumption) (by assumption) | exact Ne.symm (ne_mp (m := w) (by assumption) (by assumption)))).trans (by first | assumption | exact upm_same _ _ _ | exact (upm_ne _ _ (by first | assumption | exact Ne.symm (by assumption) | omega | exact ne_mp (m := m) (by assumption) (by assumption) | exact Ne.symm (ne_mp (m := m) (by assumption) (by assumption)) | exact ne_mp (m := w) (by assumption) (by assumption) | exact Ne.symm (ne_mp (m := w) (by assumption) (by assumption)))).trans (by first | assumption | exact upm_same _ _ _ | exact (upm_ne _ _ (by first | assumption | exact Ne.symm (by assumption) | omega | exact ne_mp (m := m) (by assumption) (by assumption) | exact Ne.symm (ne_mp (m := m) (by assumption) (by assumption)) | exact ne_mp (m := w) (by assumption) (by assumption) | exact Ne.symm (ne_mp (m := w) (by assumption) (by assumption)))).trans (by first | assumption | exact upm_same _ _ _))))) q685 q158 q101 q159 rfl (by decide +kernel) ⟨Nat.le_of_ble_eq_true rfl, Nat.le_of_ble_eq_true rfl⟩ rfl rfl (Nat.le_of_ble_eq_true rfl) rfl (by first | exact Nat.le_of_ble_eq_true rfl | (show _ + 0 ≤ 2; omega)) (by first | exact Nat.le_of_ble_eq_true rfl | (show _ + 0 ≤ 6; omega)) (fun H h => h) (fun E a => zT.no) (zPv.out ?_)
  show zG X (_ + 0) (_ + 0) _ 23 _ _
  refine zc_putF (C := RX7) (T := TX7) (N := 3) (q := 26) hX ciX7 2 rfl (by decide) in_X7 tyX7_ok nmX7 dX7_init_23 q692 rfl rfl rfl (by first | assumption | exact upm_same _ _ _ | exact (upm_ne _ _ (by first | assumption | exact Ne.symm (by assumption) | omega | exact ne_mp (m := m) (by assumption) (by assumption) | exact Ne.symm (ne_mp (m := m) (by assumption) (by assumption)) | exact ne_mp (m := w) (by assumption) (by assumption) | exact Ne.symm (ne_mp (m := w) (by assumption) (by assumption)))).trans (by first | assumption | exact upm_same _ _ _ | exact (upm_ne _ _ (by first | assumption | exact Ne.symm (by assumption) | omega | exact ne_mp (m := m) (by assumption) (by assumption) | exact Ne.symm (ne_mp (m := m) (by assumption) (by assumption)) | exact ne_mp (m := w) (by assumption) (by assumption) | exact Ne.symm (ne_mp (m := w) (by assumption) (by assumption)))).trans (by first | assumption | exact upm_same _ _ _ | exact (upm_ne _ _ (by first | assumption | exact Ne.symm (by assumption) | omega | exact ne_mp (m := m) (by assumption) (by assumption) | exact Ne.symm (ne_mp (m := m) (by assumption) (by assumption)) | exact ne_mp (m := w) (by assumption) (by assumption) | exact Ne.symm (ne_mp (m := w) (by assumption) (by assumption)))).trans (by first | assumption | exact upm_same _ _ _)))) (Nat.le_of_ble_eq_true rfl) rfl rfl rfl rfl ?_
  refine z_aload_n (i := 0) (q := 27) hX dX7_init_26 rfl rfl rfl ?_
  refine z_aload_n (i := 1) (q := 28) hX dX7_init_27 rfl rfl rfl ?_
  refine zc_putF (C := RX7) (T := TX7) (N := 3) (q := 31) hX ciX7 0 rfl (by decide) in_X7 tyX7_ok nmX7 dX7_init_28 q686 rfl rfl rfl (by first | assumption | exact upm_same _ _ _ | exact (upm_ne _ _ (by first | assumption | exact Ne.symm (by assumption) | omega | exact ne_mp (m := m) (by assumption) (by assumption) | exact Ne.symm (ne_mp (m := m) (by assumption) (by assumption)) | exact ne_mp (m := w) (by assumption) (by assumption) | exact Ne.symm (ne_mp (m := w) (by assumption) (by assumption)))).trans (by first | assumption | exact upm_same _ _ _ | exact (upm_ne _ _ (by first | assumption | exact Ne.symm (by assumption) | omega | exact ne_mp (m := m) (by assumption) (by assumption) | exact Ne.symm (ne_mp (m := m) (by assumption) (by assumption)) | exact ne_mp (m := w) (by assumption) (by assumption) | exact Ne.symm (ne_mp (m := w) (by assumption) (by assumption)))).trans (by first | assumption | exact upm_same _ _ _ | exact (upm_ne _ _ (by first | assumption | exact Ne.symm (by assumption) | omega | exact ne_mp (m := m) (by assumption) (by assumption) | exact Ne.symm (ne_mp (m := m) (by assumption) (by assumption)) | exact ne_mp (m := w) (by assumption) (by assumption) | exact Ne.symm (ne_mp (m := w) (by assumption) (by assumption)))).trans (by first | assumption | exact upm_same _ _ _)))) (Nat.le_of_ble_eq_true rfl) rfl rfl rfl rfl ?_
  have q1 : a5 ≠ b := ne_mp hb5 hm
  have q2 : a16 ≠ b := by omega
  have q3 : a16 ≠ a5 := by omega
  exact z_vret hX dX7_init_31 (by first | exact Nat.le_of_ble_eq_true rfl | (show (_ : Nat) ≤ 2; omega)) (by first | exact Nat.le_of_ble_eq_true rfl | (show (_ : Nat) ≤ 6; omega)) rfl (fun H h => ⟨(a5, a16), rfl, ⟨hb5, n16, q3⟩, h.eqv (fun c => by by_cases c1 : c = b <;> by_cases c2 : c = a5 <;> by_cases c3 : c = a16 <;> simp [upm, c1, c2, c3, q1, q2, q3, q1.symm, q2.symm, q3.symm])⟩)
abbrev rmX7_addRows : Room := { frames := 6, cells := 40, slots := 2440, locals := 151 }
set_option maxHeartbeats 4000000 in
theorem c_X7_addRows (D : zD) (A : Nat → Prop) {w m : zMp} {b : Nat} {gl sl rl y : Nat} {mc mc4 : Int} {rs ys : List Nat} {R S : List Int} (hb : m b = some (eO ciX7 [.ref gl, .ref sl, .ref rl])) (hr : m rl = some (eL mc rs)) (hR : zInts w rs R) (hy : w y = some (eL mc4 ys)) (hS : zInts w ys S) (hRa : asc R) (hSa : asc S) (hd : ∀ z ∈ S, z ∉ R) (hl : R.length + S.length ≤ 40) : zC D yX7_addRows cX7_addRows 4 none none rmX7_addRows A [.ref b, .ref y] (cI D A w m) (zPe (fun (x : Int × List Nat × List Int) => none) (fun x => zInts w x.2.1 x.2.2 ∧ asc x.2.2 ∧ (∀ z, z ∈ x.2.2 ↔ z ∈ R ∨ z ∈ S) ∧ x.2.2.length = R.length + S.length) (fun x => cI D A w (upm m rl (eL x.1 x.2.1)))) (zNo) := by
  refine zC_start (L := [some (.ref b), some (.ref y), none, none]) (by decide) (Nat.le_of_ble_eq_true rfl) rfl (fun X hX => ?_)
  have l2 := hS.1
  have hbr : b ≠ rl := fun e => by rw [e, hr] at hb; cases hb
  have K : ∀ i : Nat, i ≤ S.length → ∀ (kc ns : Nat), kc ≤ i → ns ≤ 61 * i → ∀ (M : zMp) (mc1 : Int) (cs : List Nat) (C : List Int) (p : Int) (v3 : Option Value), M = upm m rl (eL mc1 cs) → zInts w cs C → asc C → (∀ z, z ∈ C ↔ z ∈ R ∨ z ∈ S.take i) → C.length = R.length + i → p = i → zG X kc ns (cI D A w M) 2 [some (.ref b), some (.ref y), some (zI p), v3] [] := by
    refine z_up (fun i hi ih kc ns hkc hns M mc1 cs C p v3 hM hC hCa hCm hCl ep => ?_)
    subst ep
    have hMr : M rl = some (eL mc1 cs) := by rw [hM]; exact upm_same _ _ _
    have hMb : M b = some (eO ciX7 [.ref gl, .ref sl, .ref rl]) := by rw [hM]; exact (upm_ne _ _ hbr).trans hb
    have l3 := hC.1
    by_cases hiS : i < S.length
    · obtain ⟨z1, a1, q1, q2⟩ := hS.at hiS
      obtain ⟨x, hx⟩ : ∃ x : Int, x = S.getD i 0 := ⟨_, rfl⟩
      rw [← hx] at z1 q2
      have hSi : S[i]? = some x := by rw [hx, List.getD_eq_getElem?_getD, List.getElem?_eq_getElem hiS]; rfl
      have htk : ∀ z, z ∈ S.take (i + 1) ↔ z ∈ S.take i ∨ z = x := fun z => by
        rw [List.take_add_one, hSi, List.mem_append]
        show _ ∨ z ∈ [x] ↔ _
        rw [List.mem_singleton]
      have hxC : x ∉ C := fun q => by
        rcases (hCm x).mp q with q | q
        · exact hd x (List.mem_of_getElem? hSi) q
        · obtain ⟨j, hj⟩ := List.getElem?_of_mem q
          have hjl := (List.getElem?_eq_some_iff.mp hj).1
          rw [List.length_take] at hjl
          rw [List.getElem?_take_of_lt (by omega)] at hj
          have h3 := (List.pairwise_iff_getElem.mp hSa) j i (by omega) hiS (by omega)
          rw [(List.getElem?_eq_some_iff.mp hj).2, (List.getElem?_eq_some_iff.mp hSi).2] at h3
          omega
      have K58 : ∀ p : Nat, p ≤ C.length → (∀ j : Nat, p ≤ j → j < C.length → x < C.getD j 0) → (p = 0 ∨ (p ≤ C.length ∧ C.getD (p - 1) 0 ≤ x)) → zG X kc ns (cI D A w M) 58 [some (.ref b), some (.ref y), some (zI (i : Int)), some (zI (p : Int))] [] := by
        intro p hp hg hc
        refine z_aload_n (i := 0) (q := 59) hX dX7_addRows_58 rfl rfl rfl ?_
        refine zr_get (C := RX7) (T := TX7) (N := 3) (q := 62) hX ciX7 2 rfl (by decide) in_X7 dX7_addRows_59 q692 (Or.inl rfl) (fun H h => cI.rd h (by first | assumption | exact Or.inl (by assumption) | exact Or.inr (by first | assumption | exact upm_same _ _ _ | exact (upm_ne _ _ (by first | assumption | exact Ne.symm (by assumption) | omega | exact ne_mp (m := m) (by assumption) (by assumption) | exact Ne.symm (ne_mp (m := m) (by assumption) (by assumption)) | exact ne_mp (m := w) (by assumption) (by assumption) | exact Ne.symm (ne_mp (m := w) (by assumption) (by assumption)))).trans (by first | assumption | exact upm_same _ _ _ | exact (upm_ne _ _ (by first | assumption | exact Ne.symm (by assumption) | omega | exact ne_mp (m := m) (by assumption) (by assumption) | exact Ne.symm (ne_mp (m := m) (by assumption) (by assumption)) | exact ne_mp (m := w) (by assumption) (by assumption) | exact Ne.symm (ne_mp (m := w) (by assumption) (by assumption)))).trans (by first | assumption | exact upm_same _ _ _ | exact (upm_ne _ _ (by first | assumption | exact Ne.symm (by assumption) | omega | exact ne_mp (m := m) (by assumption) (by assumption) | exact Ne.symm (ne_mp (m := m) (by assumption) (by assumption)) | exact ne_mp (m := w) (by assumption) (by assumption) | exact Ne.symm (ne_mp (m := w) (by assumption) (by assumption)))).trans (by first | assumption | exact upm_same _ _ _))))) rfl (by decide) rfl) rfl ?_
        refine z_iload_n (i := 3) (q := 63) hX dX7_addRows_62 rfl rfl rfl ?_
        refine z_aload_n (i := 1) (q := 64) hX dX7_addRows_63 rfl rfl rfl ?_
        refine z_iload_n (i := 2) (q := 65) hX dX7_addRows_64 rfl rfl rfl ?_
        refine z_V (ci := ciJ2) (T := TJ2) (N := 3) (na := 1) hX dX7_addRows_65 (c_J2_get D A (Or.inl hy) (by omega) (by rw [Int.toNat_natCast]; exact q1) (by omega)) rfl q470 q471 q472 q101 q473 (by decide +kernel) ⟨Nat.le_of_ble_eq_true rfl, Nat.le_of_ble_eq_true rfl⟩ rfl rfl (Nat.le_of_ble_eq_true rfl) rfl (by first | exact Nat.le_of_ble_eq_true rfl | (show _ + 0 ≤ 40; omega)) (by first | exact Nat.le_of_ble_eq_true rfl | (show _ + 0 ≤ 2440; omega)) (fun H h => ⟨h, h.obL (Or.inl hy)⟩) (fun E a => zT.no) (zPd.out ?_)
        show zG X (_ + 0) (_ + 0) _ 68 _ _
        refine zr_cast (q := 71) (C := RJ18) (T := TJ18) (N := 1) hX ciJ18 rfl dX7_addRows_68 q484 (fun H h => cI.obE h (by first | assumption | exact Or.inl (by assumption) | exact Or.inr (by first | assumption | exact upm_same _ _ _ | exact (upm_ne _ _ (by first | assumption | exact Ne.symm (by assumption) | omega | exact ne_mp (m := m) (by assumption) (by assumption) | exact Ne.symm (ne_mp (m := m) (by assumption) (by assumption)) | exact ne_mp (m := w) (by assumption) (by assumption) | exact Ne.symm (ne_mp (m := w) (by assumption) (by assumption)))).trans (by first | assumption | exact upm_same _ _ _ | exact (upm_ne _ _ (by first | assumption | exact Ne.symm (by assumption) | omega | exact ne_mp (m := m) (by assumption) (by assumption) | exact Ne.symm (ne_mp (m := m) (by assumption) (by assumption)) | exact ne_mp (m := w) (by assumption) (by assumption) | exact Ne.symm (ne_mp (m := w) (by assumption) (by assumption)))).trans (by first | assumption | exact upm_same _ _ _ | exact (upm_ne _ _ (by first | assumption | exact Ne.symm (by assumption) | omega | exact ne_mp (m := m) (by assumption) (by assumption) | exact Ne.symm (ne_mp (m := m) (by assumption) (by assumption)) | exact ne_mp (m := w) (by assumption) (by assumption) | exact Ne.symm (ne_mp (m := w) (by assumption) (by assumption)))).trans (by first | assumption | exact upm_same _ _ _))))) rfl) rfl ?_
        refine z_V (ci := ciJ2) (T := TJ2) (N := 3) (na := 2) hX dX7_addRows_71 (c_J2_add_3 D A hMr (by omega) (by omega) q2 (zElO_I _)) rfl q728 q729 q730 q101 q731 (by decide +kernel) ⟨Nat.le_of_ble_eq_true rfl, Nat.le_of_ble_eq_true rfl⟩ rfl rfl (Nat.le_of_ble_eq_true rfl) rfl (by first | exact Nat.le_of_ble_eq_true rfl | (show _ + 1 ≤ 40; omega)) (by first | exact Nat.le_of_ble_eq_true rfl | (show _ + 61 ≤ 2440; omega)) (fun H h => ⟨h, h.obL (Or.inr hMr)⟩) (fun E a => zT.no) (zPv.out ?_)
        show zG X (_ + 1) (_ + 61) _ 74 _ _
        refine z_iinc (q := 77) hX dX7_addRows_74 rfl (Nat.le_of_ble_eq_true rfl) rfl rfl ?_
        refine z_goto (t := 2) hX dX7_addRows_77 (by decide) ?_
        refine ih hiS _ _ (by omega) (by omega) _ (mc1 + 1) (insL cs p a1) (insI C p x) _ _ (by rw [hM, upm_upm]) (hC.ins q2 z1 hp) (insI_asc hCa hxC hg hc) (fun z => ?_) (by rw [insI_len hp]; omega) rfl
        rw [insI_mem, htk, hCm]
        constructor
        · rintro ((q | q) | q)
          · exact Or.inl q
          · exact Or.inr (Or.inl q)
          · exact Or.inr (Or.inr q)
        · rintro (q | (q | q))
          · exact Or.inl (Or.inl q)
          · exact Or.inl (Or.inr q)
          · exact Or.inr q
      have K18 : ∀ p : Nat, p ≤ C.length → (∀ j : Nat, p ≤ j → j < C.length → x < C.getD j 0) → zG X kc ns (cI D A w M) 18 [some (.ref b), some (.ref y), some (zI (i : Int)), some (zI (p : Int))] [] := by
        intro p
        induction p with
        | zero =>
          intro hp hg
          refine z_iload_n (i := 3) (q := 19) hX dX7_addRows_18 rfl rfl rfl ?_
          refine z_if_le (q := 22) (t := 58) hX dX7_addRows_19 (by decide) (by decide) rfl (fun h19 => ?_) (fun h19 => ?_)
          · exact K58 0 hp hg (Or.inl rfl)
          · exact absurd (Int.le_refl _) h19
        | succ p ih2 =>
          intro hp hg
          obtain ⟨z3, a3, q3, q4⟩ := hC.at (show p < C.length by omega)
          refine z_iload_n (i := 3) (q := 19) hX dX7_addRows_18 rfl rfl rfl ?_
          refine z_if_le (q := 22) (t := 58) hX dX7_addRows_19 (by decide) ⟨by omega, by omega⟩ rfl (fun h19 => ?_) (fun h19 => ?_)
          · exact absurd h19 (by omega)
          · refine z_aload_n (i := 0) (q := 23) hX dX7_addRows_22 rfl rfl rfl ?_
            refine zr_get (C := RX7) (T := TX7) (N := 3) (q := 26) hX ciX7 2 rfl (by decide) in_X7 dX7_addRows_23 q692 (Or.inl rfl) (fun H h => cI.rd h (by first | assumption | exact Or.inl (by assumption) | exact Or.inr (by first | assumption | exact upm_same _ _ _ | exact (upm_ne _ _ (by first | assumption | exact Ne.symm (by assumption) | omega | exact ne_mp (m := m) (by assumption) (by assumption) | exact Ne.symm (ne_mp (m := m) (by assumption) (by assumption)) | exact ne_mp (m := w) (by assumption) (by assumption) | exact Ne.symm (ne_mp (m := w) (by assumption) (by assumption)))).trans (by first | assumption | exact upm_same _ _ _ | exact (upm_ne _ _ (by first | assumption | exact Ne.symm (by assumption) | omega | exact ne_mp (m := m) (by assumption) (by assumption) | exact Ne.symm (ne_mp (m := m) (by assumption) (by assumption)) | exact ne_mp (m := w) (by assumption) (by assumption) | exact Ne.symm (ne_mp (m := w) (by assumption) (by assumption)))).trans (by first | assumption | exact upm_same _ _ _ | exact (upm_ne _ _ (by first | assumption | exact Ne.symm (by assumption) | omega | exact ne_mp (m := m) (by assumption) (by assumption) | exact Ne.symm (ne_mp (m := m) (by assumption) (by assumption)) | exact ne_mp (m := w) (by assumption) (by assumption) | exact Ne.symm (ne_mp (m := w) (by assumption) (by assumption)))).trans (by first | assumption | exact upm_same _ _ _))))) rfl (by decide) rfl) rfl ?_
            refine z_iload_n (i := 3) (q := 27) hX dX7_addRows_26 rfl rfl rfl ?_
            refine z_iconst (q := 28) hX dX7_addRows_27 rfl ?_
            refine z_isub (q := 29) hX dX7_addRows_28 rfl ?_
            rw [show ((p + 1 : Nat) : Int) - 1 = (p : Int) by omega]
            refine z_V (ci := ciJ2) (T := TJ2) (N := 3) (na := 1) hX dX7_addRows_29 (c_J2_get D A (Or.inr hMr) (by omega) (by rw [Int.toNat_natCast]; exact q3) (by omega)) rfl q470 q471 q472 q101 q473 (by decide +kernel) ⟨Nat.le_of_ble_eq_true rfl, Nat.le_of_ble_eq_true rfl⟩ rfl rfl (Nat.le_of_ble_eq_true rfl) rfl (by first | exact Nat.le_of_ble_eq_true rfl | (show _ + 0 ≤ 40; omega)) (by first | exact Nat.le_of_ble_eq_true rfl | (show _ + 0 ≤ 2440; omega)) (fun H h => ⟨h, h.obL (Or.inr hMr)⟩) (fun E a => zT.no) (zPd.out ?_)
            show zG X (_ + 0) (_ + 0) _ 32 _ _
            refine zr_cast (q := 35) (C := RJ18) (T := TJ18) (N := 1) hX ciJ18 rfl dX7_addRows_32 q484 (fun H h => cI.obE h (by first | assumption | exact Or.inl (by assumption) | exact Or.inr (by first | assumption | exact upm_same _ _ _ | exact (upm_ne _ _ (by first | assumption | exact Ne.symm (by assumption) | omega | exact ne_mp (m := m) (by assumption) (by assumption) | exact Ne.symm (ne_mp (m := m) (by assumption) (by assumption)) | exact ne_mp (m := w) (by assumption) (by assumption) | exact Ne.symm (ne_mp (m := w) (by assumption) (by assumption)))).trans (by first | assumption | exact upm_same _ _ _ | exact (upm_ne _ _ (by first | assumption | exact Ne.symm (by assumption) | omega | exact ne_mp (m := m) (by assumption) (by assumption) | exact Ne.symm (ne_mp (m := m) (by assumption) (by assumption)) | exact ne_mp (m := w) (by assumption) (by assumption) | exact Ne.symm (ne_mp (m := w) (by assumption) (by assumption)))).trans (by first | assumption | exact upm_same _ _ _ | exact (upm_ne _ _ (by first | assumption | exact Ne.symm (by assumption) | omega | exact ne_mp (m := m) (by assumption) (by assumption) | exact Ne.symm (ne_mp (m := m) (by assumption) (by assumption)) | exact ne_mp (m := w) (by assumption) (by assumption) | exact Ne.symm (ne_mp (m := w) (by assumption) (by assumption)))).trans (by first | assumption | exact upm_same _ _ _))))) rfl) rfl ?_
            refine z_V (ci := ciJ18) (T := TJ18) (N := 1) (na := 0) hX dX7_addRows_35 (c_J18_intValue D A (fun H h => h) (Or.inl q4)) rfl q485 q486 q487 q121 q488 (by decide +kernel) ⟨Nat.le_of_ble_eq_true rfl, Nat.le_of_ble_eq_true rfl⟩ rfl rfl (Nat.le_of_ble_eq_true rfl) rfl (by first | exact Nat.le_of_ble_eq_true rfl | (show _ + 0 ≤ 40; omega)) (by first | exact Nat.le_of_ble_eq_true rfl | (show _ + 0 ≤ 2440; omega)) (fun H h => ⟨h, h.obE (Or.inl q4) rfl⟩) (fun E a => zT.no) (zPd.out ?_)
            show zG X (_ + 0) (_ + 0) _ 38 _ _
            refine z_aload_n (i := 1) (q := 39) hX dX7_addRows_38 rfl rfl rfl ?_
            refine z_iload_n (i := 2) (q := 40) hX dX7_addRows_39 rfl rfl rfl ?_
            refine z_V (ci := ciJ2) (T := TJ2) (N := 3) (na := 1) hX dX7_addRows_40 (c_J2_get D A (Or.inl hy) (by omega) (by rw [Int.toNat_natCast]; exact q1) (by omega)) rfl q470 q471 q472 q101 q473 (by decide +kernel) ⟨Nat.le_of_ble_eq_true rfl, Nat.le_of_ble_eq_true rfl⟩ rfl rfl (Nat.le_of_ble_eq_true rfl) rfl (by first | exact Nat.le_of_ble_eq_true rfl | (show _ + 0 ≤ 40; omega)) (by first | exact Nat.le_of_ble_eq_true rfl | (show _ + 0 ≤ 2440; omega)) (fun H h => ⟨h, h.obL (Or.inl hy)⟩) (fun E a => zT.no) (zPd.out ?_)
            show zG X (_ + 0) (_ + 0) _ 43 _ _
            refine zr_cast (q := 46) (C := RJ18) (T := TJ18) (N := 1) hX ciJ18 rfl dX7_addRows_43 q484 (fun H h => cI.obE h (by first | assumption | exact Or.inl (by assumption) | exact Or.inr (by first | assumption | exact upm_same _ _ _ | exact (upm_ne _ _ (by first | assumption | exact Ne.symm (by assumption) | omega | exact ne_mp (m := m) (by assumption) (by assumption) | exact Ne.symm (ne_mp (m := m) (by assumption) (by assumption)) | exact ne_mp (m := w) (by assumption) (by assumption) | exact Ne.symm (ne_mp (m := w) (by assumption) (by assumption)))).trans (by first | assumption | exact upm_same _ _ _ | exact (upm_ne _ _ (by first | assumption | exact Ne.symm (by assumption) | omega | exact ne_mp (m := m) (by assumption) (by assumption) | exact Ne.symm (ne_mp (m := m) (by assumption) (by assumption)) | exact ne_mp (m := w) (by assumption) (by assumption) | exact Ne.symm (ne_mp (m := w) (by assumption) (by assumption)))).trans (by first | assumption | exact upm_same _ _ _ | exact (upm_ne _ _ (by first | assumption | exact Ne.symm (by assumption) | omega | exact ne_mp (m := m) (by assumption) (by assumption) | exact Ne.symm (ne_mp (m := m) (by assumption) (by assumption)) | exact ne_mp (m := w) (by assumption) (by assumption) | exact Ne.symm (ne_mp (m := w) (by assumption) (by assumption)))).trans (by first | assumption | exact upm_same _ _ _))))) rfl) rfl ?_
            refine z_V (ci := ciJ18) (T := TJ18) (N := 1) (na := 0) hX dX7_addRows_46 (c_J18_intValue D A (fun H h => h) (Or.inl q2)) rfl q485 q486 q487 q121 q488 (by decide +kernel) ⟨Nat.le_of_ble_eq_true rfl, Nat.le_of_ble_eq_true rfl⟩ rfl rfl (Nat.le_of_ble_eq_true rfl) rfl (by first | exact Nat.le_of_ble_eq_true rfl | (show _ + 0 ≤ 40; omega)) (by first | exact Nat.le_of_ble_eq_true rfl | (show _ + 0 ≤ 2440; omega)) (fun H h => ⟨h, h.obE (Or.inl q2) rfl⟩) (fun E a => zT.no) (zPd.out ?_)
            show zG X (_ + 0) (_ + 0) _ 49 _ _
            refine z_icmp_le (q := 52) (t := 58) hX dX7_addRows_49 (by decide) z3 z1 rfl (fun h49 => ?_) (fun h49 => ?_)
            · exact K58 (p + 1) hp hg (Or.inr ⟨hp, h49⟩)
            · refine z_iinc (q := 55) hX dX7_addRows_52 rfl (Nat.le_of_ble_eq_true rfl) rfl rfl ?_
              refine z_goto (t := 18) hX dX7_addRows_55 (by decide) ?_
              rw [show ((p + 1 : Nat) : Int) + -1 = (p : Int) by omega]
              refine ih2 (by omega) (fun j h1 h2 => ?_)
              by_cases e : j = p
              · rw [e]; omega
              · exact hg j (by omega) h2
      refine z_iload_n (i := 2) (q := 3) hX dX7_addRows_2 rfl rfl rfl ?_
      refine z_aload_n (i := 1) (q := 4) hX dX7_addRows_3 rfl rfl rfl ?_
      refine z_V (ci := ciJ2) (T := TJ2) (N := 3) (na := 0) hX dX7_addRows_4 (c_J2_size D A (Or.inl hy)) rfl q466 q467 q468 q101 q469 (by decide +kernel) ⟨Nat.le_of_ble_eq_true rfl, Nat.le_of_ble_eq_true rfl⟩ rfl rfl (Nat.le_of_ble_eq_true rfl) rfl (by first | exact Nat.le_of_ble_eq_true rfl | (show _ + 0 ≤ 40; omega)) (by first | exact Nat.le_of_ble_eq_true rfl | (show _ + 0 ≤ 2440; omega)) (fun H h => ⟨h, h.obL (Or.inl hy)⟩) (fun E a => zT.no) (zPd.out ?_)
      show zG X (_ + 0) (_ + 0) _ 7 _ _
      refine z_icmp_ge (q := 10) (t := 80) hX dX7_addRows_7 (by decide) ⟨by omega, by omega⟩ ⟨by omega, by omega⟩ rfl (fun h7 => ?_) (fun h7 => ?_)
      · exact absurd h7 (by omega)
      · refine z_aload_n (i := 0) (q := 11) hX dX7_addRows_10 rfl rfl rfl ?_
        refine zr_get (C := RX7) (T := TX7) (N := 3) (q := 14) hX ciX7 2 rfl (by decide) in_X7 dX7_addRows_11 q692 (Or.inl rfl) (fun H h => cI.rd h (by first | assumption | exact Or.inl (by assumption) | exact Or.inr (by first | assumption | exact upm_same _ _ _ | exact (upm_ne _ _ (by first | assumption | exact Ne.symm (by assumption) | omega | exact ne_mp (m := m) (by assumption) (by assumption) | exact Ne.symm (ne_mp (m := m) (by assumption) (by assumption)) | exact ne_mp (m := w) (by assumption) (by assumption) | exact Ne.symm (ne_mp (m := w) (by assumption) (by assumption)))).trans (by first | assumption | exact upm_same _ _ _ | exact (upm_ne _ _ (by first | assumption | exact Ne.symm (by assumption) | omega | exact ne_mp (m := m) (by assumption) (by assumption) | exact Ne.symm (ne_mp (m := m) (by assumption) (by assumption)) | exact ne_mp (m := w) (by assumption) (by assumption) | exact Ne.symm (ne_mp (m := w) (by assumption) (by assumption)))).trans (by first | assumption | exact upm_same _ _ _ | exact (upm_ne _ _ (by first | assumption | exact Ne.symm (by assumption) | omega | exact ne_mp (m := m) (by assumption) (by assumption) | exact Ne.symm (ne_mp (m := m) (by assumption) (by assumption)) | exact ne_mp (m := w) (by assumption) (by assumption) | exact Ne.symm (ne_mp (m := w) (by assumption) (by assumption)))).trans (by first | assumption | exact upm_same _ _ _))))) rfl (by decide) rfl) rfl ?_
        refine z_V (ci := ciJ2) (T := TJ2) (N := 3) (na := 0) hX dX7_addRows_14 (c_J2_size D A (Or.inr hMr)) rfl q466 q467 q468 q101 q469 (by decide +kernel) ⟨Nat.le_of_ble_eq_true rfl, Nat.le_of_ble_eq_true rfl⟩ rfl rfl (Nat.le_of_ble_eq_true rfl) rfl (by first | exact Nat.le_of_ble_eq_true rfl | (show _ + 0 ≤ 40; omega)) (by first | exact Nat.le_of_ble_eq_true rfl | (show _ + 0 ≤ 2440; omega)) (fun H h => ⟨h, h.obL (Or.inr hMr)⟩) (fun E a => zT.no) (zPd.out ?_)
        show zG X (_ + 0) (_ + 0) _ 17 _ _
        refine z_istore_n (i := 3) (q := 18) hX dX7_addRows_17 rfl (Nat.le_of_ble_eq_true rfl) rfl rfl ?_
        rw [show ((cs.length : Nat) : Int) = ((C.length : Nat) : Int) by omega]
        exact K18 C.length (Nat.le_refl _) (fun j h1 h2 => absurd h1 (by omega))
    · have hiN : i = S.length := by omega
      refine z_iload_n (i := 2) (q := 3) hX dX7_addRows_2 rfl rfl rfl ?_
      refine z_aload_n (i := 1) (q := 4) hX dX7_addRows_3 rfl rfl rfl ?_
      refine z_V (ci := ciJ2) (T := TJ2) (N := 3) (na := 0) hX dX7_addRows_4 (c_J2_size D A (Or.inl hy)) rfl q466 q467 q468 q101 q469 (by decide +kernel) ⟨Nat.le_of_ble_eq_true rfl, Nat.le_of_ble_eq_true rfl⟩ rfl rfl (Nat.le_of_ble_eq_true rfl) rfl (by first | exact Nat.le_of_ble_eq_true rfl | (show _ + 0 ≤ 40; omega)) (by first | exact Nat.le_of_ble_eq_true rfl | (show _ + 0 ≤ 2440; omega)) (fun H h => ⟨h, h.obL (Or.inl hy)⟩) (fun E a => zT.no) (zPd.out ?_)
      show zG X (_ + 0) (_ + 0) _ 7 _ _
      refine z_icmp_ge (q := 10) (t := 80) hX dX7_addRows_7 (by decide) ⟨by omega, by omega⟩ ⟨by omega, by omega⟩ rfl (fun h7 => ?_) (fun h7 => ?_)
      · exact z_vret hX dX7_addRows_80 (by first | exact Nat.le_of_ble_eq_true rfl | (show (_ : Nat) ≤ 40; omega)) (by first | exact Nat.le_of_ble_eq_true rfl | (show (_ : Nat) ≤ 2440; omega)) rfl (fun H h => ⟨(mc1, cs, C), rfl, ⟨hC, hCa, fun z => by rw [hCm z, hiN, List.take_length], by rw [hCl, hiN]⟩, by rw [hM] at h; exact h⟩)
      · exact absurd h7 (by omega)
  refine z_iconst (q := 1) hX dX7_addRows_0 rfl ?_
  refine z_istore_n (i := 2) (q := 2) hX dX7_addRows_1 rfl (Nat.le_of_ble_eq_true rfl) rfl rfl ?_
  exact zG.mono (K 0 (Nat.zero_le _) 0 0 (Nat.le_refl _) (Nat.le_refl _) _ mc rs R 0 _ rfl hR hRa (fun z => by rw [List.take_zero]; simp) rfl rfl) (fun H h => by rw [upm_self hr]; exact h)
