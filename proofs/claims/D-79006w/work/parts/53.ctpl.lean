/-! THE CLASS: Template, read -/
set_option maxRecDepth 100000
def wSlots (w : zMp) (ss : List Nat) (n : Nat) (sv : Int → Int) (su : Int → zS) : Prop := ss.length = n ∧ ∀ k : Nat, k < n → ∃ a, ss[k]? = some a ∧ wSlot w a (sv k) (su k)
theorem wSlots.le {w w2 : zMp} {ss : List Nat} {n : Nat} {sv : Int → Int} {su : Int → zS} (h : wSlots w ss n sv su) (hl : zLe w w2) : wSlots w2 ss n sv su := ⟨h.1, fun k hk => by
  obtain ⟨a, h1, h2⟩ := h.2 k hk
  exact ⟨a, h1, h2.le hl⟩⟩
theorem wSlots.snoc {w : zMp} {ss : List Nat} {n a : Nat} {sv : Int → Int} {su : Int → zS} (h : wSlots w ss n sv su) (ha : wSlot w a (sv n) (su n)) : wSlots w (ss ++ [a]) (n + 1) sv su := by
  refine ⟨by rw [List.length_append, h.1]; rfl, fun k hk => ?_⟩
  by_cases e : k = n
  · subst e
    exact ⟨a, by rw [List.getElem?_append_right (by rw [h.1]; exact Nat.le_refl _), h.1, Nat.sub_self]; rfl, ha⟩
  · obtain ⟨x, h1, h2⟩ := h.2 k (by omega)
    exact ⟨x, by rw [List.getElem?_append_left (by rw [h.1]; omega)]; exact h1, h2⟩
theorem wSlots.congr {w : zMp} {ss : List Nat} {n : Nat} {sv sv2 : Int → Int} {su su2 : Int → zS} (h : wSlots w ss n sv su) (h1 : ∀ k : Nat, k < n → sv k = sv2 k) (h2 : ∀ k : Nat, k < n → su k = su2 k) : wSlots w ss n sv2 su2 := ⟨h.1, fun k hk => by
  obtain ⟨a, g1, g2⟩ := h.2 k hk
  exact ⟨a, g1, by rw [← h1 k hk, ← h2 k hk]; exact g2⟩⟩
/-- a template: its gaps; its slots; its rows -/
def wTpl (w : zMp) (a : Nat) (g : List Int) (n : Nat) (sv : Int → Int) (su : Int → zS) (rows : List Int) : Prop := (g.length = n + 1 ∧ n ≤ 20 ∧ rows.length ≤ 40) ∧ ∃ (gl sl rl : Nat) (mc mc2 mc3 : Int) (gs ss rs : List Nat), w a = some (eO ciX7 [.ref gl, .ref sl, .ref rl]) ∧ w gl = some (eL mc gs) ∧ zInts w gs g ∧ w sl = some (eL mc2 ss) ∧ wSlots w ss n sv su ∧ w rl = some (eL mc3 rs) ∧ zInts w rs rows
theorem wTpl.le {w w2 : zMp} {a : Nat} {g : List Int} {n : Nat} {sv : Int → Int} {su : Int → zS} {rows : List Int} (h : wTpl w a g n sv su rows) (hl : zLe w w2) : wTpl w2 a g n sv su rows := by
  obtain ⟨h0, gl, sl, rl, mc, mc2, mc3, gs, ss, rs, h1, h2, h3, h4, h5, h6, h7⟩ := h
  exact ⟨h0, gl, sl, rl, mc, mc2, mc3, gs, ss, rs, hl _ _ h1, hl _ _ h2, h3.le hl, hl _ _ h4, h5.le hl, hl _ _ h6, h7.le hl⟩
theorem wTpl.congr {w : zMp} {a : Nat} {g g2 : List Int} {n : Nat} {sv sv2 : Int → Int} {su su2 : Int → zS} {rows rows2 : List Int} (h : wTpl w a g n sv su rows) (hg : g = g2) (h1 : ∀ k : Nat, k < n → sv k = sv2 k) (h2 : ∀ k : Nat, k < n → su k = su2 k) (hr : rows = rows2) : wTpl w a g2 n sv2 su2 rows2 := by
  subst hg
  subst hr
  obtain ⟨h0, gl, sl, rl, mc, mc2, mc3, gs, ss, rs, g1, g2, g3, g4, g5, g6, g7⟩ := h
  exact ⟨h0, gl, sl, rl, mc, mc2, mc3, gs, ss, rs, g1, g2, g3, g4, g5.congr h1 h2, g6, g7⟩
/-- a number of a list of numbers -/
theorem zInts.at {w : zMp} {xs : List Nat} {ks : List Int} (h : zInts w xs ks) {i : Nat} (hi : i < ks.length) : zR (ks.getD i 0) ∧ ∃ a, xs[i]? = some a ∧ w a = some (eI (ks.getD i 0)) := by
  have := h.2 i (ks.getD i 0) (by rw [List.getD_eq_getElem?_getD, List.getElem?_eq_getElem hi]; rfl)
  exact this
theorem lst_ext {xs ys : List Int} (hl : xs.length = ys.length) (h : ∀ i : Nat, i < xs.length → xs.getD i 0 = ys.getD i 0) : xs = ys := by
  apply List.ext_getElem? 
  intro i
  by_cases hi : i < xs.length
  · have := h i hi
    rw [List.getD_eq_getElem?_getD, List.getD_eq_getElem?_getD, List.getElem?_eq_getElem hi, List.getElem?_eq_getElem (by omega)] at this
    rw [List.getElem?_eq_getElem hi, List.getElem?_eq_getElem (by omega)]
    exact congrArg some this
  · rw [List.getElem?_eq_none (by omega), List.getElem?_eq_none (by omega)]
abbrev rmX7_isForm : Room := { frames := 3, cells := 0, slots := 0, locals := 64 }
set_option maxHeartbeats 4000000 in
theorem c_X7_isForm (D : zD) (A : Nat → Prop) {w m : zMp} {b : Nat} {g g2 : List Int} {n : Nat} {sv : Int → Int} {su : Int → zS} {rows : List Int} {y : Nat} {mc4 : Int} {gs2 : List Nat} (hb : wTpl w b g n sv su rows) (hy : w y = some (eL mc4 gs2)) (hg2 : zInts w gs2 g2) (hl2 : g2.length ≤ 40) : zC D yX7_isForm cX7_isForm 5 (some .boolean) none rmX7_isForm A [.ref b, .ref y] (cI D A w m) (zPd (zI (bi (decide (g = g2)))) (cI D A w m)) (zNo) := by
  refine zC_start (L := [some (.ref b), some (.ref y), none, none, none]) (by decide) (Nat.le_of_ble_eq_true rfl) rfl (fun X hX => ?_)
  obtain ⟨⟨k1, k2, k3⟩, gl, sl, rl, mc, mc2, mc3, gs, ss, rs, h1, h2, h3, h4, h5, h6, h7⟩ := hb
  have l1 := h3.1
  have l2 := hg2.1
  have K : ∀ i : Nat, i ≤ g.length → ∀ (v : Bool) (p : Int) (v4 : Option Value), (v = (decide (g.length = g2.length) && allI (fun j => decide (g.getD j.toNat 0 = g2.getD j.toNat 0)) i)) → p = i → zG X 0 0 (cI D A w m) 22 [some (.ref b), some (.ref y), some (zI (bi v)), some (zI p), v4] [] := by
    refine z_up (fun i hi ih v p v4 ev ep => ?_)
    subst ep
    refine z_iload_n (i := 3) (q := 23) hX dX7_isForm_22 rfl rfl rfl ?_
    refine z_aload_n (i := 0) (q := 24) hX dX7_isForm_23 rfl rfl rfl ?_
    refine zr_get (C := RX7) (T := TX7) (N := 3) (q := 27) hX ciX7 0 rfl (by decide) in_X7 dX7_isForm_24 q686 (Or.inl rfl) (fun H h => cI.rd h (by first | assumption | exact Or.inl (by assumption) | exact Or.inr (by first | assumption | exact upm_same _ _ _ | exact (upm_ne _ _ (by first | assumption | exact Ne.symm (by assumption) | omega | exact ne_mp (m := m) (by assumption) (by assumption) | exact Ne.symm (ne_mp (m := m) (by assumption) (by assumption)) | exact ne_mp (m := w) (by assumption) (by assumption) | exact Ne.symm (ne_mp (m := w) (by assumption) (by assumption)))).trans (by first | assumption | exact upm_same _ _ _ | exact (upm_ne _ _ (by first | assumption | exact Ne.symm (by assumption) | omega | exact ne_mp (m := m) (by assumption) (by assumption) | exact Ne.symm (ne_mp (m := m) (by assumption) (by assumption)) | exact ne_mp (m := w) (by assumption) (by assumption) | exact Ne.symm (ne_mp (m := w) (by assumption) (by assumption)))).trans (by first | assumption | exact upm_same _ _ _ | exact (upm_ne _ _ (by first | assumption | exact Ne.symm (by assumption) | omega | exact ne_mp (m := m) (by assumption) (by assumption) | exact Ne.symm (ne_mp (m := m) (by assumption) (by assumption)) | exact ne_mp (m := w) (by assumption) (by assumption) | exact Ne.symm (ne_mp (m := w) (by assumption) (by assumption)))).trans (by first | assumption | exact upm_same _ _ _))))) rfl (by decide) rfl) rfl ?_
    refine z_V (ci := ciJ2) (T := TJ2) (N := 3) (na := 0) hX dX7_isForm_27 (c_J2_size D A (Or.inl h2)) rfl q466 q467 q468 q101 q469 (by decide +kernel) ⟨Nat.le_of_ble_eq_true rfl, Nat.le_of_ble_eq_true rfl⟩ rfl rfl (Nat.le_of_ble_eq_true rfl) rfl (by first | exact Nat.le_of_ble_eq_true rfl | (show _ + 0 ≤ 0; omega)) (by first | exact Nat.le_of_ble_eq_true rfl | (show _ + 0 ≤ 0; omega)) (fun H h => ⟨h, h.obL (Or.inl h2)⟩) (fun E a => zT.no) (zPd.out ?_)
    show zG X (_ + 0) (_ + 0) _ 30 _ _
    refine z_icmp_ge (q := 33) (t := 81) hX dX7_isForm_30 (by decide) ⟨by omega, by omega⟩ ⟨by omega, by omega⟩ rfl (fun h30 => ?_) (fun h30 => ?_)
    · refine z_iload_n (i := 2) (q := 82) hX dX7_isForm_81 rfl rfl rfl ?_
      exact z_zretB hX dX7_isForm_82 (by first | exact Nat.le_of_ble_eq_true rfl | (show (_ : Nat) ≤ 0; omega)) (by first | exact Nat.le_of_ble_eq_true rfl | (show (_ : Nat) ≤ 0; omega)) rfl (fun H h => ⟨congrArg (fun z => some (zI z)) ((by
      have e : i = g.length := by omega
      subst e
      rw [ev]
      by_cases q : g = g2
      · subst q
        rw [decide_eq_true rfl, decide_eq_true rfl, Bool.true_and, allI_iff.mpr (fun j _ => decide_eq_true rfl)]
      · rw [decide_eq_false q]
        cases q2 : (decide (g.length = g2.length) && allI (fun j => decide (g.getD j.toNat 0 = g2.getD j.toNat 0)) g.length) with
        | false => rfl
        | true =>
          have q3 := (Bool.and_eq_true _ _).mp q2
          exact absurd (lst_ext (of_decide_eq_true q3.1) (fun j hj => of_decide_eq_true (allI_iff.mp q3.2 j hj))) q)), h⟩)
    · refine z_iload_n (i := 2) (q := 34) hX dX7_isForm_33 rfl rfl rfl ?_
      refine z_ifB_eq (q := 37) (t := 81) hX dX7_isForm_34 (by decide) rfl (fun h34 => ?_) (fun h34 => ?_)
      · refine z_iload_n (i := 2) (q := 82) hX dX7_isForm_81 rfl rfl rfl ?_
        exact z_zretB hX dX7_isForm_82 (by first | exact Nat.le_of_ble_eq_true rfl | (show (_ : Nat) ≤ 0; omega)) (by first | exact Nat.le_of_ble_eq_true rfl | (show (_ : Nat) ≤ 0; omega)) rfl (fun H h => ⟨congrArg (fun z => some (zI z)) ((by
        rw [h34] at ev
        rw [decide_eq_false (fun q => by
          subst q
          rw [decide_eq_true rfl, Bool.true_and, allI_iff.mpr (fun j _ => decide_eq_true rfl)] at ev
          cases ev), h34])), h⟩)
      · have hlen : g.length = g2.length := by
          rw [h34] at ev
          exact of_decide_eq_true ((Bool.and_eq_true _ _).mp ev.symm).1
        obtain ⟨z1, a1, q1, q2⟩ := h3.at (show i < g.length by omega)
        obtain ⟨z2, a2, q3, q4⟩ := hg2.at (show i < g2.length by omega)
        refine z_aload_n (i := 0) (q := 38) hX dX7_isForm_37 rfl rfl rfl ?_
        refine zr_get (C := RX7) (T := TX7) (N := 3) (q := 41) hX ciX7 0 rfl (by decide) in_X7 dX7_isForm_38 q686 (Or.inl rfl) (fun H h => cI.rd h (by first | assumption | exact Or.inl (by assumption) | exact Or.inr (by first | assumption | exact upm_same _ _ _ | exact (upm_ne _ _ (by first | assumption | exact Ne.symm (by assumption) | omega | exact ne_mp (m := m) (by assumption) (by assumption) | exact Ne.symm (ne_mp (m := m) (by assumption) (by assumption)) | exact ne_mp (m := w) (by assumption) (by assumption) | exact Ne.symm (ne_mp (m := w) (by assumption) (by assumption)))).trans (by first | assumption | exact upm_same _ _ _ | exact (upm_ne _ _ (by first | assumption | exact Ne.symm (by assumption) | omega | exact ne_mp (m := m) (by assumption) (by assumption) | exact Ne.symm (ne_mp (m := m) (by assumption) (by assumption)) | exact ne_mp (m := w) (by assumption) (by assumption) | exact Ne.symm (ne_mp (m := w) (by assumption) (by assumption)))).trans (by first | assumption | exact upm_same _ _ _ | exact (upm_ne _ _ (by first | assumption | exact Ne.symm (by assumption) | omega | exact ne_mp (m := m) (by assumption) (by assumption) | exact Ne.symm (ne_mp (m := m) (by assumption) (by assumption)) | exact ne_mp (m := w) (by assumption) (by assumption) | exact Ne.symm (ne_mp (m := w) (by assumption) (by assumption)))).trans (by first | assumption | exact upm_same _ _ _))))) rfl (by decide) rfl) rfl ?_
        refine z_iload_n (i := 3) (q := 42) hX dX7_isForm_41 rfl rfl rfl ?_
        refine z_V (ci := ciJ2) (T := TJ2) (N := 3) (na := 1) hX dX7_isForm_42 (c_J2_get D A (Or.inl h2) (by omega) (by rw [Int.toNat_natCast]; exact q1) (by omega)) rfl q470 q471 q472 q101 q473 (by decide +kernel) ⟨Nat.le_of_ble_eq_true rfl, Nat.le_of_ble_eq_true rfl⟩ rfl rfl (Nat.le_of_ble_eq_true rfl) rfl (by first | exact Nat.le_of_ble_eq_true rfl | (show _ + 0 ≤ 0; omega)) (by first | exact Nat.le_of_ble_eq_true rfl | (show _ + 0 ≤ 0; omega)) (fun H h => ⟨h, h.obL (Or.inl h2)⟩) (fun E a => zT.no) (zPd.out ?_)
        show zG X (_ + 0) (_ + 0) _ 45 _ _
        refine zr_cast (q := 48) (C := RJ18) (T := TJ18) (N := 1) hX ciJ18 rfl dX7_isForm_45 q484 (fun H h => cI.obE h (by first | assumption | exact Or.inl (by assumption) | exact Or.inr (by first | assumption | exact upm_same _ _ _ | exact (upm_ne _ _ (by first | assumption | exact Ne.symm (by assumption) | omega | exact ne_mp (m := m) (by assumption) (by assumption) | exact Ne.symm (ne_mp (m := m) (by assumption) (by assumption)) | exact ne_mp (m := w) (by assumption) (by assumption) | exact Ne.symm (ne_mp (m := w) (by assumption) (by assumption)))).trans (by first | assumption | exact upm_same _ _ _ | exact (upm_ne _ _ (by first | assumption | exact Ne.symm (by assumption) | omega | exact ne_mp (m := m) (by assumption) (by assumption) | exact Ne.symm (ne_mp (m := m) (by assumption) (by assumption)) | exact ne_mp (m := w) (by assumption) (by assumption) | exact Ne.symm (ne_mp (m := w) (by assumption) (by assumption)))).trans (by first | assumption | exact upm_same _ _ _ | exact (upm_ne _ _ (by first | assumption | exact Ne.symm (by assumption) | omega | exact ne_mp (m := m) (by assumption) (by assumption) | exact Ne.symm (ne_mp (m := m) (by assumption) (by assumption)) | exact ne_mp (m := w) (by assumption) (by assumption) | exact Ne.symm (ne_mp (m := w) (by assumption) (by assumption)))).trans (by first | assumption | exact upm_same _ _ _))))) rfl) rfl ?_
        refine z_V (ci := ciJ18) (T := TJ18) (N := 1) (na := 0) hX dX7_isForm_48 (c_J18_intValue D A (fun H h => h) (Or.inl q2)) rfl q485 q486 q487 q121 q488 (by decide +kernel) ⟨Nat.le_of_ble_eq_true rfl, Nat.le_of_ble_eq_true rfl⟩ rfl rfl (Nat.le_of_ble_eq_true rfl) rfl (by first | exact Nat.le_of_ble_eq_true rfl | (show _ + 0 ≤ 0; omega)) (by first | exact Nat.le_of_ble_eq_true rfl | (show _ + 0 ≤ 0; omega)) (fun H h => ⟨h, h.obE (Or.inl q2) rfl⟩) (fun E a => zT.no) (zPd.out ?_)
        show zG X (_ + 0) (_ + 0) _ 51 _ _
        refine z_istore (q := 53) hX dX7_isForm_51 (Nat.le_of_ble_eq_true rfl) rfl rfl ?_
        refine z_iload (q := 55) hX dX7_isForm_53 rfl rfl ?_
        refine z_aload_n (i := 1) (q := 56) hX dX7_isForm_55 rfl rfl rfl ?_
        refine z_iload_n (i := 3) (q := 57) hX dX7_isForm_56 rfl rfl rfl ?_
        refine z_V (ci := ciJ2) (T := TJ2) (N := 3) (na := 1) hX dX7_isForm_57 (c_J2_get D A (Or.inl hy) (by omega) (by rw [Int.toNat_natCast]; exact q3) (by omega)) rfl q470 q471 q472 q101 q473 (by decide +kernel) ⟨Nat.le_of_ble_eq_true rfl, Nat.le_of_ble_eq_true rfl⟩ rfl rfl (Nat.le_of_ble_eq_true rfl) rfl (by first | exact Nat.le_of_ble_eq_true rfl | (show _ + 0 ≤ 0; omega)) (by first | exact Nat.le_of_ble_eq_true rfl | (show _ + 0 ≤ 0; omega)) (fun H h => ⟨h, h.obL (Or.inl hy)⟩) (fun E a => zT.no) (zPd.out ?_)
        show zG X (_ + 0) (_ + 0) _ 60 _ _
        refine zr_cast (q := 63) (C := RJ18) (T := TJ18) (N := 1) hX ciJ18 rfl dX7_isForm_60 q484 (fun H h => cI.obE h (by first | assumption | exact Or.inl (by assumption) | exact Or.inr (by first | assumption | exact upm_same _ _ _ | exact (upm_ne _ _ (by first | assumption | exact Ne.symm (by assumption) | omega | exact ne_mp (m := m) (by assumption) (by assumption) | exact Ne.symm (ne_mp (m := m) (by assumption) (by assumption)) | exact ne_mp (m := w) (by assumption) (by assumption) | exact Ne.symm (ne_mp (m := w) (by assumption) (by assumption)))).trans (by first | assumption | exact upm_same _ _ _ | exact (upm_ne _ _ (by first | assumption | exact Ne.symm (by assumption) | omega | exact ne_mp (m := m) (by assumption) (by assumption) | exact Ne.symm (ne_mp (m := m) (by assumption) (by assumption)) | exact ne_mp (m := w) (by assumption) (by assumption) | exact Ne.symm (ne_mp (m := w) (by assumption) (by assumption)))).trans (by first | assumption | exact upm_same _ _ _ | exact (upm_ne _ _ (by first | assumption | exact Ne.symm (by assumption) | omega | exact ne_mp (m := m) (by assumption) (by assumption) | exact Ne.symm (ne_mp (m := m) (by assumption) (by assumption)) | exact ne_mp (m := w) (by assumption) (by assumption) | exact Ne.symm (ne_mp (m := w) (by assumption) (by assumption)))).trans (by first | assumption | exact upm_same _ _ _))))) rfl) rfl ?_
        refine z_V (ci := ciJ18) (T := TJ18) (N := 1) (na := 0) hX dX7_isForm_63 (c_J18_intValue D A (fun H h => h) (Or.inl q4)) rfl q485 q486 q487 q121 q488 (by decide +kernel) ⟨Nat.le_of_ble_eq_true rfl, Nat.le_of_ble_eq_true rfl⟩ rfl rfl (Nat.le_of_ble_eq_true rfl) rfl (by first | exact Nat.le_of_ble_eq_true rfl | (show _ + 0 ≤ 0; omega)) (by first | exact Nat.le_of_ble_eq_true rfl | (show _ + 0 ≤ 0; omega)) (fun H h => ⟨h, h.obE (Or.inl q4) rfl⟩) (fun E a => zT.no) (zPd.out ?_)
        show zG X (_ + 0) (_ + 0) _ 66 _ _
        refine z_icmp_ne (q := 69) (t := 73) hX dX7_isForm_66 (by decide) z1 z2 rfl (fun h66 => ?_) (fun h66 => ?_)
        · refine z_iconst (q := 74) hX dX7_isForm_73 rfl ?_
          refine z_istore_n (i := 2) (q := 75) hX dX7_isForm_74 rfl (Nat.le_of_ble_eq_true rfl) rfl rfl ?_
          refine z_iinc (q := 78) hX dX7_isForm_75 rfl (Nat.le_of_ble_eq_true rfl) rfl rfl ?_
          refine z_goto (t := 22) hX dX7_isForm_78 (by decide) ?_
          refine ih (by omega) false _ _ ?_ rfl
          show _ = (_ && (_ && decide (g.getD ((i : Int)).toNat 0 = g2.getD ((i : Int)).toNat 0)))
          rw [show ((i : Int)).toNat = i from rfl, decide_eq_false h66, Bool.and_false, Bool.and_false]
        · refine z_iconst (q := 70) hX dX7_isForm_69 rfl ?_
          refine z_goto (t := 74) hX dX7_isForm_70 (by decide) ?_
          refine z_istore_n (i := 2) (q := 75) hX dX7_isForm_74 rfl (Nat.le_of_ble_eq_true rfl) rfl rfl ?_
          refine z_iinc (q := 78) hX dX7_isForm_75 rfl (Nat.le_of_ble_eq_true rfl) rfl rfl ?_
          refine z_goto (t := 22) hX dX7_isForm_78 (by decide) ?_
          refine ih (by omega) true _ _ ?_ rfl
          rw [h34] at ev
          show _ = (_ && (_ && decide (g.getD ((i : Int)).toNat 0 = g2.getD ((i : Int)).toNat 0)))
          rw [show ((i : Int)).toNat = i from rfl, decide_eq_true (Decidable.not_not.mp h66), Bool.and_true, ← ev]
  refine z_aload_n (i := 0) (q := 1) hX dX7_isForm_0 rfl rfl rfl ?_
  refine zr_get (C := RX7) (T := TX7) (N := 3) (q := 4) hX ciX7 0 rfl (by decide) in_X7 dX7_isForm_1 q686 (Or.inl rfl) (fun H h => cI.rd h (by first | assumption | exact Or.inl (by assumption) | exact Or.inr (by first | assumption | exact upm_same _ _ _ | exact (upm_ne _ _ (by first | assumption | exact Ne.symm (by assumption) | omega | exact ne_mp (m := m) (by assumption) (by assumption) | exact Ne.symm (ne_mp (m := m) (by assumption) (by assumption)) | exact ne_mp (m := w) (by assumption) (by assumption) | exact Ne.symm (ne_mp (m := w) (by assumption) (by assumption)))).trans (by first | assumption | exact upm_same _ _ _ | exact (upm_ne _ _ (by first | assumption | exact Ne.symm (by assumption) | omega | exact ne_mp (m := m) (by assumption) (by assumption) | exact Ne.symm (ne_mp (m := m) (by assumption) (by assumption)) | exact ne_mp (m := w) (by assumption) (by assumption) | exact Ne.symm (ne_mp (m := w) (by assumption) (by assumption)))).trans (by first | assumption | exact upm_same _ _ _ | exact (upm_ne _ _ (by first | assumption | exact Ne.symm (by assumption) | omega | exact ne_mp (m := m) (by assumption) (by assumption) | exact Ne.symm (ne_mp (m := m) (by assumption) (by assumption)) | exact ne_mp (m := w) (by assumption) (by assumption) | exact Ne.symm (ne_mp (m := w) (by assumption) (by assumption)))).trans (by first | assumption | exact upm_same _ _ _))))) rfl (by decide) rfl) rfl ?_
  refine z_V (ci := ciJ2) (T := TJ2) (N := 3) (na := 0) hX dX7_isForm_4 (c_J2_size D A (Or.inl h2)) rfl q466 q467 q468 q101 q469 (by decide +kernel) ⟨Nat.le_of_ble_eq_true rfl, Nat.le_of_ble_eq_true rfl⟩ rfl rfl (Nat.le_of_ble_eq_true rfl) rfl (by first | exact Nat.le_of_ble_eq_true rfl | (show _ + 0 ≤ 0; omega)) (by first | exact Nat.le_of_ble_eq_true rfl | (show _ + 0 ≤ 0; omega)) (fun H h => ⟨h, h.obL (Or.inl h2)⟩) (fun E a => zT.no) (zPd.out ?_)
  show zG X (_ + 0) (_ + 0) _ 7 _ _
  refine z_aload_n (i := 1) (q := 8) hX dX7_isForm_7 rfl rfl rfl ?_
  refine z_V (ci := ciJ2) (T := TJ2) (N := 3) (na := 0) hX dX7_isForm_8 (c_J2_size D A (Or.inl hy)) rfl q466 q467 q468 q101 q469 (by decide +kernel) ⟨Nat.le_of_ble_eq_true rfl, Nat.le_of_ble_eq_true rfl⟩ rfl rfl (Nat.le_of_ble_eq_true rfl) rfl (by first | exact Nat.le_of_ble_eq_true rfl | (show _ + 0 ≤ 0; omega)) (by first | exact Nat.le_of_ble_eq_true rfl | (show _ + 0 ≤ 0; omega)) (fun H h => ⟨h, h.obL (Or.inl hy)⟩) (fun E a => zT.no) (zPd.out ?_)
  show zG X (_ + 0) (_ + 0) _ 11 _ _
  refine z_icmp_ne (q := 14) (t := 18) hX dX7_isForm_11 (by decide) ⟨by omega, by omega⟩ ⟨by omega, by omega⟩ rfl (fun h11 => ?_) (fun h11 => ?_)
  · refine z_iconst (q := 19) hX dX7_isForm_18 rfl ?_
    refine z_istore_n (i := 2) (q := 20) hX dX7_isForm_19 rfl (Nat.le_of_ble_eq_true rfl) rfl rfl ?_
    refine z_iconst (q := 21) hX dX7_isForm_20 rfl ?_
    refine z_istore_n (i := 3) (q := 22) hX dX7_isForm_21 rfl (Nat.le_of_ble_eq_true rfl) rfl rfl ?_
    exact K 0 (Nat.zero_le _) false 0 _ (by rw [decide_eq_false (by omega)]; rfl) rfl
  · refine z_iconst (q := 15) hX dX7_isForm_14 rfl ?_
    refine z_goto (t := 19) hX dX7_isForm_15 (by decide) ?_
    refine z_istore_n (i := 2) (q := 20) hX dX7_isForm_19 rfl (Nat.le_of_ble_eq_true rfl) rfl rfl ?_
    refine z_iconst (q := 21) hX dX7_isForm_20 rfl ?_
    refine z_istore_n (i := 3) (q := 22) hX dX7_isForm_21 rfl (Nat.le_of_ble_eq_true rfl) rfl rfl ?_
    exact K 0 (Nat.zero_le _) true 0 _ (by rw [decide_eq_true (by omega)]; rfl) rfl
abbrev rmX7_gapSum : Room := { frames := 3, cells := 0, slots := 0, locals := 64 }
set_option maxHeartbeats 4000000 in
theorem c_X7_gapSum (D : zD) (A : Nat → Prop) {w m : zMp} {b : Nat} {g : List Int} {n : Nat} {sv : Int → Int} {su : Int → zS} {rows : List Int} (hb : wTpl w b g n sv su rows) : zC D yX7_gapSum cX7_gapSum 3 (some .int) none rmX7_gapSum A [.ref b] (cI D A w m) (zPd (zI (sumI (fun j => g.getD j.toNat 0) g.length)) (cI D A w m)) (zNo) := by
  refine zC_start (L := [some (.ref b), none, none]) (by decide) (Nat.le_of_ble_eq_true rfl) rfl (fun X hX => ?_)
  obtain ⟨⟨k1, k2, k3⟩, gl, sl, rl, mc, mc2, mc3, gs, ss, rs, h1, h2, h3, h4, h5, h6, h7⟩ := hb
  have l1 := h3.1
  have K : ∀ i : Nat, i ≤ g.length → ∀ (v p : Int), v = sumI (fun j => g.getD j.toNat 0) i → p = i → zG X 0 0 (cI D A w m) 4 [some (.ref b), some (zI (v)), some (zI (p))] [] := by
    refine z_up (fun i hi ih v p ev ep => ?_)
    subst ep
    refine z_iload_n (i := 2) (q := 5) hX dX7_gapSum_4 rfl rfl rfl ?_
    refine z_aload_n (i := 0) (q := 6) hX dX7_gapSum_5 rfl rfl rfl ?_
    refine zr_get (C := RX7) (T := TX7) (N := 3) (q := 9) hX ciX7 0 rfl (by decide) in_X7 dX7_gapSum_6 q686 (Or.inl rfl) (fun H h => cI.rd h (by first | assumption | exact Or.inl (by assumption) | exact Or.inr (by first | assumption | exact upm_same _ _ _ | exact (upm_ne _ _ (by first | assumption | exact Ne.symm (by assumption) | omega | exact ne_mp (m := m) (by assumption) (by assumption) | exact Ne.symm (ne_mp (m := m) (by assumption) (by assumption)) | exact ne_mp (m := w) (by assumption) (by assumption) | exact Ne.symm (ne_mp (m := w) (by assumption) (by assumption)))).trans (by first | assumption | exact upm_same _ _ _ | exact (upm_ne _ _ (by first | assumption | exact Ne.symm (by assumption) | omega | exact ne_mp (m := m) (by assumption) (by assumption) | exact Ne.symm (ne_mp (m := m) (by assumption) (by assumption)) | exact ne_mp (m := w) (by assumption) (by assumption) | exact Ne.symm (ne_mp (m := w) (by assumption) (by assumption)))).trans (by first | assumption | exact upm_same _ _ _ | exact (upm_ne _ _ (by first | assumption | exact Ne.symm (by assumption) | omega | exact ne_mp (m := m) (by assumption) (by assumption) | exact Ne.symm (ne_mp (m := m) (by assumption) (by assumption)) | exact ne_mp (m := w) (by assumption) (by assumption) | exact Ne.symm (ne_mp (m := w) (by assumption) (by assumption)))).trans (by first | assumption | exact upm_same _ _ _))))) rfl (by decide) rfl) rfl ?_
    refine z_V (ci := ciJ2) (T := TJ2) (N := 3) (na := 0) hX dX7_gapSum_9 (c_J2_size D A (Or.inl h2)) rfl q466 q467 q468 q101 q469 (by decide +kernel) ⟨Nat.le_of_ble_eq_true rfl, Nat.le_of_ble_eq_true rfl⟩ rfl rfl (Nat.le_of_ble_eq_true rfl) rfl (by first | exact Nat.le_of_ble_eq_true rfl | (show _ + 0 ≤ 0; omega)) (by first | exact Nat.le_of_ble_eq_true rfl | (show _ + 0 ≤ 0; omega)) (fun H h => ⟨h, h.obL (Or.inl h2)⟩) (fun E a => zT.no) (zPd.out ?_)
    show zG X (_ + 0) (_ + 0) _ 12 _ _
    refine z_icmp_ge (q := 15) (t := 38) hX dX7_gapSum_12 (by decide) ⟨by omega, by omega⟩ ⟨by omega, by omega⟩ rfl (fun h12 => ?_) (fun h12 => ?_)
    · refine z_iload_n (i := 1) (q := 39) hX dX7_gapSum_38 rfl rfl rfl ?_
      exact z_iret hX dX7_gapSum_39 (by first | exact Nat.le_of_ble_eq_true rfl | (show (_ : Nat) ≤ 0; omega)) (by first | exact Nat.le_of_ble_eq_true rfl | (show (_ : Nat) ≤ 0; omega)) rfl (fun H h => ⟨congrArg (fun z => some (zI z)) ((by rw [ev, show i = g.length by omega])), h⟩)
    · obtain ⟨z1, a1, q1, q2⟩ := h3.at (show i < g.length by omega)
      refine z_iload_n (i := 1) (q := 16) hX dX7_gapSum_15 rfl rfl rfl ?_
      refine z_aload_n (i := 0) (q := 17) hX dX7_gapSum_16 rfl rfl rfl ?_
      refine zr_get (C := RX7) (T := TX7) (N := 3) (q := 20) hX ciX7 0 rfl (by decide) in_X7 dX7_gapSum_17 q686 (Or.inl rfl) (fun H h => cI.rd h (by first | assumption | exact Or.inl (by assumption) | exact Or.inr (by first | assumption | exact upm_same _ _ _ | exact (upm_ne _ _ (by first | assumption | exact Ne.symm (by assumption) | omega | exact ne_mp (m := m) (by assumption) (by assumption) | exact Ne.symm (ne_mp (m := m) (by assumption) (by assumption)) | exact ne_mp (m := w) (by assumption) (by assumption) | exact Ne.symm (ne_mp (m := w) (by assumption) (by assumption)))).trans (by first | assumption | exact upm_same _ _ _ | exact (upm_ne _ _ (by first | assumption | exact Ne.symm (by assumption) | omega | exact ne_mp (m := m) (by assumption) (by assumption) | exact Ne.symm (ne_mp (m := m) (by assumption) (by assumption)) | exact ne_mp (m := w) (by assumption) (by assumption) | exact Ne.symm (ne_mp (m := w) (by assumption) (by assumption)))).trans (by first | assumption | exact upm_same _ _ _ | exact (upm_ne _ _ (by first | assumption | exact Ne.symm (by assumption) | omega | exact ne_mp (m := m) (by assumption) (by assumption) | exact Ne.symm (ne_mp (m := m) (by assumption) (by assumption)) | exact ne_mp (m := w) (by assumption) (by assumption) | exact Ne.symm (ne_mp (m := w) (by assumption) (by assumption)))).trans (by first | assumption | exact upm_same _ _ _))))) rfl (by decide) rfl) rfl ?_
      refine z_iload_n (i := 2) (q := 21) hX dX7_gapSum_20 rfl rfl rfl ?_
      refine z_V (ci := ciJ2) (T := TJ2) (N := 3) (na := 1) hX dX7_gapSum_21 (c_J2_get D A (Or.inl h2) (by omega) (by rw [Int.toNat_natCast]; exact q1) (by omega)) rfl q470 q471 q472 q101 q473 (by decide +kernel) ⟨Nat.le_of_ble_eq_true rfl, Nat.le_of_ble_eq_true rfl⟩ rfl rfl (Nat.le_of_ble_eq_true rfl) rfl (by first | exact Nat.le_of_ble_eq_true rfl | (show _ + 0 ≤ 0; omega)) (by first | exact Nat.le_of_ble_eq_true rfl | (show _ + 0 ≤ 0; omega)) (fun H h => ⟨h, h.obL (Or.inl h2)⟩) (fun E a => zT.no) (zPd.out ?_)
      show zG X (_ + 0) (_ + 0) _ 24 _ _
      refine zr_cast (q := 27) (C := RJ18) (T := TJ18) (N := 1) hX ciJ18 rfl dX7_gapSum_24 q484 (fun H h => cI.obE h (by first | assumption | exact Or.inl (by assumption) | exact Or.inr (by first | assumption | exact upm_same _ _ _ | exact (upm_ne _ _ (by first | assumption | exact Ne.symm (by assumption) | omega | exact ne_mp (m := m) (by assumption) (by assumption) | exact Ne.symm (ne_mp (m := m) (by assumption) (by assumption)) | exact ne_mp (m := w) (by assumption) (by assumption) | exact Ne.symm (ne_mp (m := w) (by assumption) (by assumption)))).trans (by first | assumption | exact upm_same _ _ _ | exact (upm_ne _ _ (by first | assumption | exact Ne.symm (by assumption) | omega | exact ne_mp (m := m) (by assumption) (by assumption) | exact Ne.symm (ne_mp (m := m) (by assumption) (by assumption)) | exact ne_mp (m := w) (by assumption) (by assumption) | exact Ne.symm (ne_mp (m := w) (by assumption) (by assumption)))).trans (by first | assumption | exact upm_same _ _ _ | exact (upm_ne _ _ (by first | assumption | exact Ne.symm (by assumption) | omega | exact ne_mp (m := m) (by assumption) (by assumption) | exact Ne.symm (ne_mp (m := m) (by assumption) (by assumption)) | exact ne_mp (m := w) (by assumption) (by assumption) | exact Ne.symm (ne_mp (m := w) (by assumption) (by assumption)))).trans (by first | assumption | exact upm_same _ _ _))))) rfl) rfl ?_
      refine z_V (ci := ciJ18) (T := TJ18) (N := 1) (na := 0) hX dX7_gapSum_27 (c_J18_intValue D A (fun H h => h) (Or.inl q2)) rfl q485 q486 q487 q121 q488 (by decide +kernel) ⟨Nat.le_of_ble_eq_true rfl, Nat.le_of_ble_eq_true rfl⟩ rfl rfl (Nat.le_of_ble_eq_true rfl) rfl (by first | exact Nat.le_of_ble_eq_true rfl | (show _ + 0 ≤ 0; omega)) (by first | exact Nat.le_of_ble_eq_true rfl | (show _ + 0 ≤ 0; omega)) (fun H h => ⟨h, h.obE (Or.inl q2) rfl⟩) (fun E a => zT.no) (zPd.out ?_)
      show zG X (_ + 0) (_ + 0) _ 30 _ _
      refine z_iadd (q := 31) hX dX7_gapSum_30 rfl ?_
      refine z_istore_n (i := 1) (q := 32) hX dX7_gapSum_31 rfl (Nat.le_of_ble_eq_true rfl) rfl rfl ?_
      refine z_iinc (q := 35) hX dX7_gapSum_32 rfl (Nat.le_of_ble_eq_true rfl) rfl rfl ?_
      refine z_goto (t := 4) hX dX7_gapSum_35 (by decide) ?_
      exact ih (by omega) _ _ (by rw [ev]; rfl) rfl
  refine z_iconst (q := 1) hX dX7_gapSum_0 rfl ?_
  refine z_istore_n (i := 1) (q := 2) hX dX7_gapSum_1 rfl (Nat.le_of_ble_eq_true rfl) rfl rfl ?_
  refine z_iconst (q := 3) hX dX7_gapSum_2 rfl ?_
  refine z_istore_n (i := 2) (q := 4) hX dX7_gapSum_3 rfl (Nat.le_of_ble_eq_true rfl) rfl rfl ?_
  exact K 0 (Nat.zero_le _) 0 0 rfl rfl
abbrev rmX7_cost : Room := { frames := 4, cells := 0, slots := 0, locals := 86 }
set_option maxHeartbeats 4000000 in
theorem c_X7_cost (D : zD) (A : Nat → Prop) {w m : zMp} {b : Nat} {g : List Int} {n : Nat} {sv : Int → Int} {su : Int → zS} {rows : List Int} (hb : wTpl w b g n sv su rows) : zC D yX7_cost cX7_cost 3 (some .int) none rmX7_cost A [.ref b] (cI D A w m) (zPd (zI (sumI (fun j => g.getD j.toNat 0) g.length + sumI (fun k => if sv k = -1 then ((su k).length : Int) + 1 else 2) n)) (cI D A w m)) (zNo) := by
  refine zC_start (L := [some (.ref b), none, none]) (by decide) (Nat.le_of_ble_eq_true rfl) rfl (fun X hX => ?_)
  have hb2 := hb
  obtain ⟨⟨k1, k2, k3⟩, gl, sl, rl, mc, mc2, mc3, gs, ss, rs, h1, h2, h3, h4, h5, h6, h7⟩ := hb
  have l1 := h5.1
  have K : ∀ i : Nat, i ≤ n → ∀ (v p : Int), v = sumI (fun j => g.getD j.toNat 0) g.length + sumI (fun k => if sv k = -1 then ((su k).length : Int) + 1 else 2) i → p = i → zG X 0 0 (cI D A w m) 7 [some (.ref b), some (zI (v)), some (zI (p))] [] := by
    refine z_up (fun i hi ih v p ev ep => ?_)
    subst ep
    refine z_iload_n (i := 2) (q := 8) hX dX7_cost_7 rfl rfl rfl ?_
    refine z_aload_n (i := 0) (q := 9) hX dX7_cost_8 rfl rfl rfl ?_
    refine zr_get (C := RX7) (T := TX7) (N := 3) (q := 12) hX ciX7 1 rfl (by decide) in_X7 dX7_cost_9 q689 (Or.inl rfl) (fun H h => cI.rd h (by first | assumption | exact Or.inl (by assumption) | exact Or.inr (by first | assumption | exact upm_same _ _ _ | exact (upm_ne _ _ (by first | assumption | exact Ne.symm (by assumption) | omega | exact ne_mp (m := m) (by assumption) (by assumption) | exact Ne.symm (ne_mp (m := m) (by assumption) (by assumption)) | exact ne_mp (m := w) (by assumption) (by assumption) | exact Ne.symm (ne_mp (m := w) (by assumption) (by assumption)))).trans (by first | assumption | exact upm_same _ _ _ | exact (upm_ne _ _ (by first | assumption | exact Ne.symm (by assumption) | omega | exact ne_mp (m := m) (by assumption) (by assumption) | exact Ne.symm (ne_mp (m := m) (by assumption) (by assumption)) | exact ne_mp (m := w) (by assumption) (by assumption) | exact Ne.symm (ne_mp (m := w) (by assumption) (by assumption)))).trans (by first | assumption | exact upm_same _ _ _ | exact (upm_ne _ _ (by first | assumption | exact Ne.symm (by assumption) | omega | exact ne_mp (m := m) (by assumption) (by assumption) | exact Ne.symm (ne_mp (m := m) (by assumption) (by assumption)) | exact ne_mp (m := w) (by assumption) (by assumption) | exact Ne.symm (ne_mp (m := w) (by assumption) (by assumption)))).trans (by first | assumption | exact upm_same _ _ _))))) rfl (by decide) rfl) rfl ?_
    refine z_V (ci := ciJ2) (T := TJ2) (N := 3) (na := 0) hX dX7_cost_12 (c_J2_size D A (Or.inl h4)) rfl q466 q467 q468 q101 q469 (by decide +kernel) ⟨Nat.le_of_ble_eq_true rfl, Nat.le_of_ble_eq_true rfl⟩ rfl rfl (Nat.le_of_ble_eq_true rfl) rfl (by first | exact Nat.le_of_ble_eq_true rfl | (show _ + 0 ≤ 0; omega)) (by first | exact Nat.le_of_ble_eq_true rfl | (show _ + 0 ≤ 0; omega)) (fun H h => ⟨h, h.obL (Or.inl h4)⟩) (fun E a => zT.no) (zPd.out ?_)
    show zG X (_ + 0) (_ + 0) _ 15 _ _
    refine z_icmp_ge (q := 18) (t := 41) hX dX7_cost_15 (by decide) ⟨by omega, by omega⟩ ⟨by omega, by omega⟩ rfl (fun h15 => ?_) (fun h15 => ?_)
    · refine z_iload_n (i := 1) (q := 42) hX dX7_cost_41 rfl rfl rfl ?_
      exact z_iret hX dX7_cost_42 (by first | exact Nat.le_of_ble_eq_true rfl | (show (_ : Nat) ≤ 0; omega)) (by first | exact Nat.le_of_ble_eq_true rfl | (show (_ : Nat) ≤ 0; omega)) rfl (fun H h => ⟨congrArg (fun z => some (zI z)) ((by rw [ev, show i = n by omega])), h⟩)
    · obtain ⟨a1, q1, q2⟩ := h5.2 i (by omega)
      obtain ⟨fs, q3⟩ := q2.it
      refine z_iload_n (i := 1) (q := 19) hX dX7_cost_18 rfl rfl rfl ?_
      refine z_aload_n (i := 0) (q := 20) hX dX7_cost_19 rfl rfl rfl ?_
      refine zr_get (C := RX7) (T := TX7) (N := 3) (q := 23) hX ciX7 1 rfl (by decide) in_X7 dX7_cost_20 q689 (Or.inl rfl) (fun H h => cI.rd h (by first | assumption | exact Or.inl (by assumption) | exact Or.inr (by first | assumption | exact upm_same _ _ _ | exact (upm_ne _ _ (by first | assumption | exact Ne.symm (by assumption) | omega | exact ne_mp (m := m) (by assumption) (by assumption) | exact Ne.symm (ne_mp (m := m) (by assumption) (by assumption)) | exact ne_mp (m := w) (by assumption) (by assumption) | exact Ne.symm (ne_mp (m := w) (by assumption) (by assumption)))).trans (by first | assumption | exact upm_same _ _ _ | exact (upm_ne _ _ (by first | assumption | exact Ne.symm (by assumption) | omega | exact ne_mp (m := m) (by assumption) (by assumption) | exact Ne.symm (ne_mp (m := m) (by assumption) (by assumption)) | exact ne_mp (m := w) (by assumption) (by assumption) | exact Ne.symm (ne_mp (m := w) (by assumption) (by assumption)))).trans (by first | assumption | exact upm_same _ _ _ | exact (upm_ne _ _ (by first | assumption | exact Ne.symm (by assumption) | omega | exact ne_mp (m := m) (by assumption) (by assumption) | exact Ne.symm (ne_mp (m := m) (by assumption) (by assumption)) | exact ne_mp (m := w) (by assumption) (by assumption) | exact Ne.symm (ne_mp (m := w) (by assumption) (by assumption)))).trans (by first | assumption | exact upm_same _ _ _))))) rfl (by decide) rfl) rfl ?_
      refine z_iload_n (i := 2) (q := 24) hX dX7_cost_23 rfl rfl rfl ?_
      refine z_V (ci := ciJ2) (T := TJ2) (N := 3) (na := 1) hX dX7_cost_24 (c_J2_get D A (Or.inl h4) (by omega) (by rw [Int.toNat_natCast]; exact q1) (by omega)) rfl q470 q471 q472 q101 q473 (by decide +kernel) ⟨Nat.le_of_ble_eq_true rfl, Nat.le_of_ble_eq_true rfl⟩ rfl rfl (Nat.le_of_ble_eq_true rfl) rfl (by first | exact Nat.le_of_ble_eq_true rfl | (show _ + 0 ≤ 0; omega)) (by first | exact Nat.le_of_ble_eq_true rfl | (show _ + 0 ≤ 0; omega)) (fun H h => ⟨h, h.obL (Or.inl h4)⟩) (fun E a => zT.no) (zPd.out ?_)
      show zG X (_ + 0) (_ + 0) _ 27 _ _
      refine zr_cast (q := 30) (C := RX8) (T := TX8) (N := 2) hX ciX8 rfl dX7_cost_27 q532 (fun H h => cI.obE h (by first | assumption | exact Or.inl (by assumption) | exact Or.inr (by first | assumption | exact upm_same _ _ _ | exact (upm_ne _ _ (by first | assumption | exact Ne.symm (by assumption) | omega | exact ne_mp (m := m) (by assumption) (by assumption) | exact Ne.symm (ne_mp (m := m) (by assumption) (by assumption)) | exact ne_mp (m := w) (by assumption) (by assumption) | exact Ne.symm (ne_mp (m := w) (by assumption) (by assumption)))).trans (by first | assumption | exact upm_same _ _ _ | exact (upm_ne _ _ (by first | assumption | exact Ne.symm (by assumption) | omega | exact ne_mp (m := m) (by assumption) (by assumption) | exact Ne.symm (ne_mp (m := m) (by assumption) (by assumption)) | exact ne_mp (m := w) (by assumption) (by assumption) | exact Ne.symm (ne_mp (m := w) (by assumption) (by assumption)))).trans (by first | assumption | exact upm_same _ _ _ | exact (upm_ne _ _ (by first | assumption | exact Ne.symm (by assumption) | omega | exact ne_mp (m := m) (by assumption) (by assumption) | exact Ne.symm (ne_mp (m := m) (by assumption) (by assumption)) | exact ne_mp (m := w) (by assumption) (by assumption) | exact Ne.symm (ne_mp (m := w) (by assumption) (by assumption)))).trans (by first | assumption | exact upm_same _ _ _))))) rfl) rfl ?_
      refine z_V (ci := ciX8) (T := TX8) (N := 2) (na := 0) hX dX7_cost_30 (c_X8_cost D A q2) rfl q533 q534 q535 q128 q536 (by decide +kernel) ⟨Nat.le_of_ble_eq_true rfl, Nat.le_of_ble_eq_true rfl⟩ rfl rfl (Nat.le_of_ble_eq_true rfl) rfl (by first | exact Nat.le_of_ble_eq_true rfl | (show _ + 0 ≤ 0; omega)) (by first | exact Nat.le_of_ble_eq_true rfl | (show _ + 0 ≤ 0; omega)) (fun H h => ⟨h, h.obE (Or.inl q3) rfl⟩) (fun E a => zT.no) (zPd.out ?_)
      show zG X (_ + 0) (_ + 0) _ 33 _ _
      refine z_iadd (q := 34) hX dX7_cost_33 rfl ?_
      refine z_istore_n (i := 1) (q := 35) hX dX7_cost_34 rfl (Nat.le_of_ble_eq_true rfl) rfl rfl ?_
      refine z_iinc (q := 38) hX dX7_cost_35 rfl (Nat.le_of_ble_eq_true rfl) rfl rfl ?_
      refine z_goto (t := 7) hX dX7_cost_38 (by decide) ?_
      exact ih (by omega) _ _ (by rw [ev, Int.add_assoc]; rfl) rfl
  refine z_aload_n (i := 0) (q := 1) hX dX7_cost_0 rfl rfl rfl ?_
  refine z_V (ci := ciX7) (T := TX7) (N := 3) (na := 0) hX dX7_cost_1 (c_X7_gapSum D A hb2) rfl q528 q529 q530 q127 q531 (by decide +kernel) ⟨Nat.le_of_ble_eq_true rfl, Nat.le_of_ble_eq_true rfl⟩ rfl rfl (Nat.le_of_ble_eq_true rfl) rfl (by first | exact Nat.le_of_ble_eq_true rfl | (show _ + 0 ≤ 0; omega)) (by first | exact Nat.le_of_ble_eq_true rfl | (show _ + 0 ≤ 0; omega)) (fun H h => ⟨h, h.obE (Or.inl h1) rfl⟩) (fun E a => zT.no) (zPd.out ?_)
  show zG X (_ + 0) (_ + 0) _ 4 _ _
  refine z_istore_n (i := 1) (q := 5) hX dX7_cost_4 rfl (Nat.le_of_ble_eq_true rfl) rfl rfl ?_
  refine z_iconst (q := 6) hX dX7_cost_5 rfl ?_
  refine z_istore_n (i := 2) (q := 7) hX dX7_cost_6 rfl (Nat.le_of_ble_eq_true rfl) rfl rfl ?_
  exact K 0 (Nat.zero_le _) _ 0 (by show _ = _ + (0 : Int); rw [Int.add_zero]) rfl
abbrev rmX7_variables : Room := { frames := 3, cells := 0, slots := 0, locals := 64 }
set_option maxHeartbeats 4000000 in
theorem c_X7_variables (D : zD) (A : Nat → Prop) {w m : zMp} {b : Nat} {g : List Int} {n : Nat} {sv : Int → Int} {su : Int → zS} {rows : List Int} (hb : wTpl w b g n sv su rows) : zC D yX7_variables cX7_variables 3 (some .int) none rmX7_variables A [.ref b] (cI D A w m) (zPd (zI (sumI (fun k => bi (!decide (sv k = -1))) n)) (cI D A w m)) (zNo) := by
  refine zC_start (L := [some (.ref b), none, none]) (by decide) (Nat.le_of_ble_eq_true rfl) rfl (fun X hX => ?_)
  obtain ⟨⟨k1, k2, k3⟩, gl, sl, rl, mc, mc2, mc3, gs, ss, rs, h1, h2, h3, h4, h5, h6, h7⟩ := hb
  have l1 := h5.1
  have K : ∀ i : Nat, i ≤ n → ∀ (v p : Int), v = sumI (fun k => bi (!decide (sv k = -1))) i → p = i → zG X 0 0 (cI D A w m) 4 [some (.ref b), some (zI (v)), some (zI (p))] [] := by
    refine z_up (fun i hi ih v p ev ep => ?_)
    subst ep
    refine z_iload_n (i := 2) (q := 5) hX dX7_variables_4 rfl rfl rfl ?_
    refine z_aload_n (i := 0) (q := 6) hX dX7_variables_5 rfl rfl rfl ?_
    refine zr_get (C := RX7) (T := TX7) (N := 3) (q := 9) hX ciX7 1 rfl (by decide) in_X7 dX7_variables_6 q689 (Or.inl rfl) (fun H h => cI.rd h (by first | assumption | exact Or.inl (by assumption) | exact Or.inr (by first | assumption | exact upm_same _ _ _ | exact (upm_ne _ _ (by first | assumption | exact Ne.symm (by assumption) | omega | exact ne_mp (m := m) (by assumption) (by assumption) | exact Ne.symm (ne_mp (m := m) (by assumption) (by assumption)) | exact ne_mp (m := w) (by assumption) (by assumption) | exact Ne.symm (ne_mp (m := w) (by assumption) (by assumption)))).trans (by first | assumption | exact upm_same _ _ _ | exact (upm_ne _ _ (by first | assumption | exact Ne.symm (by assumption) | omega | exact ne_mp (m := m) (by assumption) (by assumption) | exact Ne.symm (ne_mp (m := m) (by assumption) (by assumption)) | exact ne_mp (m := w) (by assumption) (by assumption) | exact Ne.symm (ne_mp (m := w) (by assumption) (by assumption)))).trans (by first | assumption | exact upm_same _ _ _ | exact (upm_ne _ _ (by first | assumption | exact Ne.symm (by assumption) | omega | exact ne_mp (m := m) (by assumption) (by assumption) | exact Ne.symm (ne_mp (m := m) (by assumption) (by assumption)) | exact ne_mp (m := w) (by assumption) (by assumption) | exact Ne.symm (ne_mp (m := w) (by assumption) (by assumption)))).trans (by first | assumption | exact upm_same _ _ _))))) rfl (by decide) rfl) rfl ?_
    refine z_V (ci := ciJ2) (T := TJ2) (N := 3) (na := 0) hX dX7_variables_9 (c_J2_size D A (Or.inl h4)) rfl q466 q467 q468 q101 q469 (by decide +kernel) ⟨Nat.le_of_ble_eq_true rfl, Nat.le_of_ble_eq_true rfl⟩ rfl rfl (Nat.le_of_ble_eq_true rfl) rfl (by first | exact Nat.le_of_ble_eq_true rfl | (show _ + 0 ≤ 0; omega)) (by first | exact Nat.le_of_ble_eq_true rfl | (show _ + 0 ≤ 0; omega)) (fun H h => ⟨h, h.obL (Or.inl h4)⟩) (fun E a => zT.no) (zPd.out ?_)
    show zG X (_ + 0) (_ + 0) _ 12 _ _
    refine z_icmp_ge (q := 15) (t := 46) hX dX7_variables_12 (by decide) ⟨by omega, by omega⟩ ⟨by omega, by omega⟩ rfl (fun h12 => ?_) (fun h12 => ?_)
    · refine z_iload_n (i := 1) (q := 47) hX dX7_variables_46 rfl rfl rfl ?_
      exact z_iret hX dX7_variables_47 (by first | exact Nat.le_of_ble_eq_true rfl | (show (_ : Nat) ≤ 0; omega)) (by first | exact Nat.le_of_ble_eq_true rfl | (show (_ : Nat) ≤ 0; omega)) rfl (fun H h => ⟨congrArg (fun z => some (zI z)) ((by rw [ev, show i = n by omega])), h⟩)
    · obtain ⟨a1, q1, q2⟩ := h5.2 i (by omega)
      obtain ⟨fs, q3⟩ := q2.it
      refine z_iload_n (i := 1) (q := 16) hX dX7_variables_15 rfl rfl rfl ?_
      refine z_aload_n (i := 0) (q := 17) hX dX7_variables_16 rfl rfl rfl ?_
      refine zr_get (C := RX7) (T := TX7) (N := 3) (q := 20) hX ciX7 1 rfl (by decide) in_X7 dX7_variables_17 q689 (Or.inl rfl) (fun H h => cI.rd h (by first | assumption | exact Or.inl (by assumption) | exact Or.inr (by first | assumption | exact upm_same _ _ _ | exact (upm_ne _ _ (by first | assumption | exact Ne.symm (by assumption) | omega | exact ne_mp (m := m) (by assumption) (by assumption) | exact Ne.symm (ne_mp (m := m) (by assumption) (by assumption)) | exact ne_mp (m := w) (by assumption) (by assumption) | exact Ne.symm (ne_mp (m := w) (by assumption) (by assumption)))).trans (by first | assumption | exact upm_same _ _ _ | exact (upm_ne _ _ (by first | assumption | exact Ne.symm (by assumption) | omega | exact ne_mp (m := m) (by assumption) (by assumption) | exact Ne.symm (ne_mp (m := m) (by assumption) (by assumption)) | exact ne_mp (m := w) (by assumption) (by assumption) | exact Ne.symm (ne_mp (m := w) (by assumption) (by assumption)))).trans (by first | assumption | exact upm_same _ _ _ | exact (upm_ne _ _ (by first | assumption | exact Ne.symm (by assumption) | omega | exact ne_mp (m := m) (by assumption) (by assumption) | exact Ne.symm (ne_mp (m := m) (by assumption) (by assumption)) | exact ne_mp (m := w) (by assumption) (by assumption) | exact Ne.symm (ne_mp (m := w) (by assumption) (by assumption)))).trans (by first | assumption | exact upm_same _ _ _))))) rfl (by decide) rfl) rfl ?_
      refine z_iload_n (i := 2) (q := 21) hX dX7_variables_20 rfl rfl rfl ?_
      refine z_V (ci := ciJ2) (T := TJ2) (N := 3) (na := 1) hX dX7_variables_21 (c_J2_get D A (Or.inl h4) (by omega) (by rw [Int.toNat_natCast]; exact q1) (by omega)) rfl q470 q471 q472 q101 q473 (by decide +kernel) ⟨Nat.le_of_ble_eq_true rfl, Nat.le_of_ble_eq_true rfl⟩ rfl rfl (Nat.le_of_ble_eq_true rfl) rfl (by first | exact Nat.le_of_ble_eq_true rfl | (show _ + 0 ≤ 0; omega)) (by first | exact Nat.le_of_ble_eq_true rfl | (show _ + 0 ≤ 0; omega)) (fun H h => ⟨h, h.obL (Or.inl h4)⟩) (fun E a => zT.no) (zPd.out ?_)
      show zG X (_ + 0) (_ + 0) _ 24 _ _
      refine zr_cast (q := 27) (C := RX8) (T := TX8) (N := 2) hX ciX8 rfl dX7_variables_24 q532 (fun H h => cI.obE h (by first | assumption | exact Or.inl (by assumption) | exact Or.inr (by first | assumption | exact upm_same _ _ _ | exact (upm_ne _ _ (by first | assumption | exact Ne.symm (by assumption) | omega | exact ne_mp (m := m) (by assumption) (by assumption) | exact Ne.symm (ne_mp (m := m) (by assumption) (by assumption)) | exact ne_mp (m := w) (by assumption) (by assumption) | exact Ne.symm (ne_mp (m := w) (by assumption) (by assumption)))).trans (by first | assumption | exact upm_same _ _ _ | exact (upm_ne _ _ (by first | assumption | exact Ne.symm (by assumption) | omega | exact ne_mp (m := m) (by assumption) (by assumption) | exact Ne.symm (ne_mp (m := m) (by assumption) (by assumption)) | exact ne_mp (m := w) (by assumption) (by assumption) | exact Ne.symm (ne_mp (m := w) (by assumption) (by assumption)))).trans (by first | assumption | exact upm_same _ _ _ | exact (upm_ne _ _ (by first | assumption | exact Ne.symm (by assumption) | omega | exact ne_mp (m := m) (by assumption) (by assumption) | exact Ne.symm (ne_mp (m := m) (by assumption) (by assumption)) | exact ne_mp (m := w) (by assumption) (by assumption) | exact Ne.symm (ne_mp (m := w) (by assumption) (by assumption)))).trans (by first | assumption | exact upm_same _ _ _))))) rfl) rfl ?_
      refine z_V (ci := ciX8) (T := TX8) (N := 2) (na := 0) hX dX7_variables_27 (c_X8_isVariable D A q2) rfl q1244 q551 q552 q128 q553 (by decide +kernel) ⟨Nat.le_of_ble_eq_true rfl, Nat.le_of_ble_eq_true rfl⟩ rfl rfl (Nat.le_of_ble_eq_true rfl) rfl (by first | exact Nat.le_of_ble_eq_true rfl | (show _ + 0 ≤ 0; omega)) (by first | exact Nat.le_of_ble_eq_true rfl | (show _ + 0 ≤ 0; omega)) (fun H h => ⟨h, h.obE (Or.inl q3) rfl⟩) (fun E a => zT.no) (zPd.out ?_)
      show zG X (_ + 0) (_ + 0) _ 30 _ _
      refine z_ifB_eq (q := 33) (t := 37) hX dX7_variables_30 (by decide) rfl (fun h30 => ?_) (fun h30 => ?_)
      · refine z_iconst (q := 38) hX dX7_variables_37 rfl ?_
        refine z_iadd (q := 39) hX dX7_variables_38 rfl ?_
        refine z_istore_n (i := 1) (q := 40) hX dX7_variables_39 rfl (Nat.le_of_ble_eq_true rfl) rfl rfl ?_
        refine z_iinc (q := 43) hX dX7_variables_40 rfl (Nat.le_of_ble_eq_true rfl) rfl rfl ?_
        refine z_goto (t := 4) hX dX7_variables_43 (by decide) ?_
        exact ih (by omega) _ _ (by rw [ev]; show _ = _ + bi (!decide (sv (i : Int) = -1)); rw [h30]; rfl) rfl
      · refine z_iconst (q := 34) hX dX7_variables_33 rfl ?_
        refine z_goto (t := 38) hX dX7_variables_34 (by decide) ?_
        refine z_iadd (q := 39) hX dX7_variables_38 rfl ?_
        refine z_istore_n (i := 1) (q := 40) hX dX7_variables_39 rfl (Nat.le_of_ble_eq_true rfl) rfl rfl ?_
        refine z_iinc (q := 43) hX dX7_variables_40 rfl (Nat.le_of_ble_eq_true rfl) rfl rfl ?_
        refine z_goto (t := 4) hX dX7_variables_43 (by decide) ?_
        exact ih (by omega) _ _ (by rw [ev]; show _ = _ + bi (!decide (sv (i : Int) = -1)); rw [h30]; rfl) rfl
  refine z_iconst (q := 1) hX dX7_variables_0 rfl ?_
  refine z_istore_n (i := 1) (q := 2) hX dX7_variables_1 rfl (Nat.le_of_ble_eq_true rfl) rfl rfl ?_
  refine z_iconst (q := 3) hX dX7_variables_2 rfl ?_
  refine z_istore_n (i := 2) (q := 4) hX dX7_variables_3 rfl (Nat.le_of_ble_eq_true rfl) rfl rfl ?_
  exact K 0 (Nat.zero_le _) 0 0 rfl rfl
abbrev rmX7_matches : Room := { frames := 4, cells := 0, slots := 0, locals := 88 }
set_option maxHeartbeats 4000000 in
theorem c_X7_matches (D : zD) (A : Nat → Prop) {w m : zMp} {b : Nat} {g : List Int} {n : Nat} {sv : Int → Int} {su : Int → zS} {rows : List Int} {y : Nat} {s : zS} (hb : wTpl w b g n sv su rows) (hy : wLine w y s) : zC D yX7_matches cX7_matches 4 (some .boolean) none rmX7_matches A [.ref b, .ref y] (cI D A w m) (zPd (zI (bi (decide (g = gapsL s) && allI (fun k => mtI (sv k) (su k) (tok s k)) n))) (cI D A w m)) (zNo) := by
  refine zC_start (L := [some (.ref b), some (.ref y), none, none]) (by decide) (Nat.le_of_ble_eq_true rfl) rfl (fun X hX => ?_)
  have hb2 := hb
  obtain ⟨⟨k1, k2, k3⟩, gl, sl, rl, mc, mc2, mc3, gs, ss, rs, h1, h2, h3, h4, h5, h6, h7⟩ := hb
  obtain ⟨hs, t, tl, gl9, mc9, mc8, ts, gs9, y1, y2, y3, y4, y5, y6⟩ := hy
  have l1 := h5.1
  have l2 := gapsL_len s
  have l3 := nT_range s
  have l4 := hs.2.1
  have l5 := y4.1
  have K : ∀ i : Nat, i ≤ n → ∀ (v : Bool) (p : Int), v = (decide (g = gapsL s) && allI (fun k => mtI (sv k) (su k) (tok s k)) i) → p = i → zG X 0 0 (cI D A w m) 11 [some (.ref b), some (.ref (y)), some (zI (bi (v))), some (zI (p))] [] := by
    refine z_up (fun i hi ih v p ev ep => ?_)
    subst ep
    refine z_iload_n (i := 3) (q := 12) hX dX7_matches_11 rfl rfl rfl ?_
    refine z_aload_n (i := 0) (q := 13) hX dX7_matches_12 rfl rfl rfl ?_
    refine zr_get (C := RX7) (T := TX7) (N := 3) (q := 16) hX ciX7 1 rfl (by decide) in_X7 dX7_matches_13 q689 (Or.inl rfl) (fun H h => cI.rd h (by first | assumption | exact Or.inl (by assumption) | exact Or.inr (by first | assumption | exact upm_same _ _ _ | exact (upm_ne _ _ (by first | assumption | exact Ne.symm (by assumption) | omega | exact ne_mp (m := m) (by assumption) (by assumption) | exact Ne.symm (ne_mp (m := m) (by assumption) (by assumption)) | exact ne_mp (m := w) (by assumption) (by assumption) | exact Ne.symm (ne_mp (m := w) (by assumption) (by assumption)))).trans (by first | assumption | exact upm_same _ _ _ | exact (upm_ne _ _ (by first | assumption | exact Ne.symm (by assumption) | omega | exact ne_mp (m := m) (by assumption) (by assumption) | exact Ne.symm (ne_mp (m := m) (by assumption) (by assumption)) | exact ne_mp (m := w) (by assumption) (by assumption) | exact Ne.symm (ne_mp (m := w) (by assumption) (by assumption)))).trans (by first | assumption | exact upm_same _ _ _ | exact (upm_ne _ _ (by first | assumption | exact Ne.symm (by assumption) | omega | exact ne_mp (m := m) (by assumption) (by assumption) | exact Ne.symm (ne_mp (m := m) (by assumption) (by assumption)) | exact ne_mp (m := w) (by assumption) (by assumption) | exact Ne.symm (ne_mp (m := w) (by assumption) (by assumption)))).trans (by first | assumption | exact upm_same _ _ _))))) rfl (by decide) rfl) rfl ?_
    refine z_V (ci := ciJ2) (T := TJ2) (N := 3) (na := 0) hX dX7_matches_16 (c_J2_size D A (Or.inl h4)) rfl q466 q467 q468 q101 q469 (by decide +kernel) ⟨Nat.le_of_ble_eq_true rfl, Nat.le_of_ble_eq_true rfl⟩ rfl rfl (Nat.le_of_ble_eq_true rfl) rfl (by first | exact Nat.le_of_ble_eq_true rfl | (show _ + 0 ≤ 0; omega)) (by first | exact Nat.le_of_ble_eq_true rfl | (show _ + 0 ≤ 0; omega)) (fun H h => ⟨h, h.obL (Or.inl h4)⟩) (fun E a => zT.no) (zPd.out ?_)
    show zG X (_ + 0) (_ + 0) _ 19 _ _
    refine z_icmp_ge (q := 22) (t := 58) hX dX7_matches_19 (by decide) ⟨by omega, by omega⟩ ⟨by omega, by omega⟩ rfl (fun h19 => ?_) (fun h19 => ?_)
    · refine z_iload_n (i := 2) (q := 59) hX dX7_matches_58 rfl rfl rfl ?_
      exact z_zretB hX dX7_matches_59 (by first | exact Nat.le_of_ble_eq_true rfl | (show (_ : Nat) ≤ 0; omega)) (by first | exact Nat.le_of_ble_eq_true rfl | (show (_ : Nat) ≤ 0; omega)) rfl (fun H h => ⟨congrArg (fun z => some (zI z)) ((by rw [ev, show i = n by omega])), h⟩)
    · refine z_iload_n (i := 2) (q := 23) hX dX7_matches_22 rfl rfl rfl ?_
      refine z_ifB_eq (q := 26) (t := 58) hX dX7_matches_23 (by decide) rfl (fun h23 => ?_) (fun h23 => ?_)
      · refine z_iload_n (i := 2) (q := 59) hX dX7_matches_58 rfl rfl rfl ?_
        exact z_zretB hX dX7_matches_59 (by first | exact Nat.le_of_ble_eq_true rfl | (show (_ : Nat) ≤ 0; omega)) (by first | exact Nat.le_of_ble_eq_true rfl | (show (_ : Nat) ≤ 0; omega)) rfl (fun H h => ⟨congrArg (fun z => some (zI z)) ((by
        rw [h23] at ev
        rw [h23]
        cases q : (decide (g = gapsL s) && allI (fun k => mtI (sv k) (su k) (tok s k)) n) with
        | false => rfl
        | true =>
          have q2 := (Bool.and_eq_true _ _).mp q
          have q3 : allI (fun k => mtI (sv k) (su k) (tok s k)) i = true := allI_iff.mpr (fun j hj => allI_iff.mp q2.2 j (by omega))
          rw [q2.1, q3] at ev
          cases ev)), h⟩)
      · have hg : g = gapsL s := by
          rw [h23] at ev
          exact of_decide_eq_true ((Bool.and_eq_true _ _).mp ev.symm).1
        have hgl : ((gapsL s).length : Int) = (n : Int) + 1 := by rw [← hg]; omega
        obtain ⟨a1, q1, q2⟩ := h5.2 i (by omega)
        obtain ⟨fs, q3⟩ := q2.it
        obtain ⟨a2, q4, q5⟩ := y4.2 i (by omega)
        have q6 := q5
        obtain ⟨q7, t7, q8, q9⟩ := q6
        refine z_aload_n (i := 0) (q := 27) hX dX7_matches_26 rfl rfl rfl ?_
        refine zr_get (C := RX7) (T := TX7) (N := 3) (q := 30) hX ciX7 1 rfl (by decide) in_X7 dX7_matches_27 q689 (Or.inl rfl) (fun H h => cI.rd h (by first | assumption | exact Or.inl (by assumption) | exact Or.inr (by first | assumption | exact upm_same _ _ _ | exact (upm_ne _ _ (by first | assumption | exact Ne.symm (by assumption) | omega | exact ne_mp (m := m) (by assumption) (by assumption) | exact Ne.symm (ne_mp (m := m) (by assumption) (by assumption)) | exact ne_mp (m := w) (by assumption) (by assumption) | exact Ne.symm (ne_mp (m := w) (by assumption) (by assumption)))).trans (by first | assumption | exact upm_same _ _ _ | exact (upm_ne _ _ (by first | assumption | exact Ne.symm (by assumption) | omega | exact ne_mp (m := m) (by assumption) (by assumption) | exact Ne.symm (ne_mp (m := m) (by assumption) (by assumption)) | exact ne_mp (m := w) (by assumption) (by assumption) | exact Ne.symm (ne_mp (m := w) (by assumption) (by assumption)))).trans (by first | assumption | exact upm_same _ _ _ | exact (upm_ne _ _ (by first | assumption | exact Ne.symm (by assumption) | omega | exact ne_mp (m := m) (by assumption) (by assumption) | exact Ne.symm (ne_mp (m := m) (by assumption) (by assumption)) | exact ne_mp (m := w) (by assumption) (by assumption) | exact Ne.symm (ne_mp (m := w) (by assumption) (by assumption)))).trans (by first | assumption | exact upm_same _ _ _))))) rfl (by decide) rfl) rfl ?_
        refine z_iload_n (i := 3) (q := 31) hX dX7_matches_30 rfl rfl rfl ?_
        refine z_V (ci := ciJ2) (T := TJ2) (N := 3) (na := 1) hX dX7_matches_31 (c_J2_get D A (Or.inl h4) (by omega) (by rw [Int.toNat_natCast]; exact q1) (by omega)) rfl q470 q471 q472 q101 q473 (by decide +kernel) ⟨Nat.le_of_ble_eq_true rfl, Nat.le_of_ble_eq_true rfl⟩ rfl rfl (Nat.le_of_ble_eq_true rfl) rfl (by first | exact Nat.le_of_ble_eq_true rfl | (show _ + 0 ≤ 0; omega)) (by first | exact Nat.le_of_ble_eq_true rfl | (show _ + 0 ≤ 0; omega)) (fun H h => ⟨h, h.obL (Or.inl h4)⟩) (fun E a => zT.no) (zPd.out ?_)
        show zG X (_ + 0) (_ + 0) _ 34 _ _
        refine zr_cast (q := 37) (C := RX8) (T := TX8) (N := 2) hX ciX8 rfl dX7_matches_34 q532 (fun H h => cI.obE h (by first | assumption | exact Or.inl (by assumption) | exact Or.inr (by first | assumption | exact upm_same _ _ _ | exact (upm_ne _ _ (by first | assumption | exact Ne.symm (by assumption) | omega | exact ne_mp (m := m) (by assumption) (by assumption) | exact Ne.symm (ne_mp (m := m) (by assumption) (by assumption)) | exact ne_mp (m := w) (by assumption) (by assumption) | exact Ne.symm (ne_mp (m := w) (by assumption) (by assumption)))).trans (by first | assumption | exact upm_same _ _ _ | exact (upm_ne _ _ (by first | assumption | exact Ne.symm (by assumption) | omega | exact ne_mp (m := m) (by assumption) (by assumption) | exact Ne.symm (ne_mp (m := m) (by assumption) (by assumption)) | exact ne_mp (m := w) (by assumption) (by assumption) | exact Ne.symm (ne_mp (m := w) (by assumption) (by assumption)))).trans (by first | assumption | exact upm_same _ _ _ | exact (upm_ne _ _ (by first | assumption | exact Ne.symm (by assumption) | omega | exact ne_mp (m := m) (by assumption) (by assumption) | exact Ne.symm (ne_mp (m := m) (by assumption) (by assumption)) | exact ne_mp (m := w) (by assumption) (by assumption) | exact Ne.symm (ne_mp (m := w) (by assumption) (by assumption)))).trans (by first | assumption | exact upm_same _ _ _))))) rfl) rfl ?_
        refine z_aload_n (i := 1) (q := 38) hX dX7_matches_37 rfl rfl rfl ?_
        refine zr_getN (C := RX5) (T := TX5) (N := 3) (q := 41) hX ciX5 1 rfl (by decide) in_X5 dX7_matches_38 (zNF_at 34 rfl) (fun H h => cI.rd h (by first | assumption | exact Or.inl (by assumption) | exact Or.inr (by first | assumption | exact upm_same _ _ _ | exact (upm_ne _ _ (by first | assumption | exact Ne.symm (by assumption) | omega | exact ne_mp (m := m) (by assumption) (by assumption) | exact Ne.symm (ne_mp (m := m) (by assumption) (by assumption)) | exact ne_mp (m := w) (by assumption) (by assumption) | exact Ne.symm (ne_mp (m := w) (by assumption) (by assumption)))).trans (by first | assumption | exact upm_same _ _ _ | exact (upm_ne _ _ (by first | assumption | exact Ne.symm (by assumption) | omega | exact ne_mp (m := m) (by assumption) (by assumption) | exact Ne.symm (ne_mp (m := m) (by assumption) (by assumption)) | exact ne_mp (m := w) (by assumption) (by assumption) | exact Ne.symm (ne_mp (m := w) (by assumption) (by assumption)))).trans (by first | assumption | exact upm_same _ _ _ | exact (upm_ne _ _ (by first | assumption | exact Ne.symm (by assumption) | omega | exact ne_mp (m := m) (by assumption) (by assumption) | exact Ne.symm (ne_mp (m := m) (by assumption) (by assumption)) | exact ne_mp (m := w) (by assumption) (by assumption) | exact Ne.symm (ne_mp (m := w) (by assumption) (by assumption)))).trans (by first | assumption | exact upm_same _ _ _))))) rfl (by decide) rfl) rfl ?_
        refine z_iload_n (i := 3) (q := 42) hX dX7_matches_41 rfl rfl rfl ?_
        refine z_V (ci := ciJ2) (T := TJ2) (N := 3) (na := 1) hX dX7_matches_42 (c_J2_get D A (Or.inl y3) (by omega) (by rw [Int.toNat_natCast]; exact q4) (by omega)) rfl q470 q471 q472 q101 q473 (by decide +kernel) ⟨Nat.le_of_ble_eq_true rfl, Nat.le_of_ble_eq_true rfl⟩ rfl rfl (Nat.le_of_ble_eq_true rfl) rfl (by first | exact Nat.le_of_ble_eq_true rfl | (show _ + 0 ≤ 0; omega)) (by first | exact Nat.le_of_ble_eq_true rfl | (show _ + 0 ≤ 0; omega)) (fun H h => ⟨h, h.obL (Or.inl y3)⟩) (fun E a => zT.no) (zPd.out ?_)
        show zG X (_ + 0) (_ + 0) _ 45 _ _
        refine zr_cast (q := 48) (C := RX6) (T := TX6) (N := 2) hX ciX6 rfl dX7_matches_45 q1430 (fun H h => cI.obE h (by first | assumption | exact Or.inl (by assumption) | exact Or.inr (by first | assumption | exact upm_same _ _ _ | exact (upm_ne _ _ (by first | assumption | exact Ne.symm (by assumption) | omega | exact ne_mp (m := m) (by assumption) (by assumption) | exact Ne.symm (ne_mp (m := m) (by assumption) (by assumption)) | exact ne_mp (m := w) (by assumption) (by assumption) | exact Ne.symm (ne_mp (m := w) (by assumption) (by assumption)))).trans (by first | assumption | exact upm_same _ _ _ | exact (upm_ne _ _ (by first | assumption | exact Ne.symm (by assumption) | omega | exact ne_mp (m := m) (by assumption) (by assumption) | exact Ne.symm (ne_mp (m := m) (by assumption) (by assumption)) | exact ne_mp (m := w) (by assumption) (by assumption) | exact Ne.symm (ne_mp (m := w) (by assumption) (by assumption)))).trans (by first | assumption | exact upm_same _ _ _ | exact (upm_ne _ _ (by first | assumption | exact Ne.symm (by assumption) | omega | exact ne_mp (m := m) (by assumption) (by assumption) | exact Ne.symm (ne_mp (m := m) (by assumption) (by assumption)) | exact ne_mp (m := w) (by assumption) (by assumption) | exact Ne.symm (ne_mp (m := w) (by assumption) (by assumption)))).trans (by first | assumption | exact upm_same _ _ _))))) rfl) rfl ?_
        refine z_V (ci := ciX8) (T := TX8) (N := 2) (na := 1) hX dX7_matches_48 (c_X8_matches D A q2 q5) rfl q1431 q1432 q1433 q128 q1434 (by decide +kernel) ⟨Nat.le_of_ble_eq_true rfl, Nat.le_of_ble_eq_true rfl⟩ rfl rfl (Nat.le_of_ble_eq_true rfl) rfl (by first | exact Nat.le_of_ble_eq_true rfl | (show _ + 0 ≤ 0; omega)) (by first | exact Nat.le_of_ble_eq_true rfl | (show _ + 0 ≤ 0; omega)) (fun H h => ⟨h, h.obE (Or.inl q3) rfl⟩) (fun E a => zT.no) (zPd.out ?_)
        show zG X (_ + 0) (_ + 0) _ 51 _ _
        refine z_istore_n (i := 2) (q := 52) hX dX7_matches_51 rfl (Nat.le_of_ble_eq_true rfl) rfl rfl ?_
        refine z_iinc (q := 55) hX dX7_matches_52 rfl (Nat.le_of_ble_eq_true rfl) rfl rfl ?_
        refine z_goto (t := 11) hX dX7_matches_55 (by decide) ?_
        exact ih (by omega) _ _ (by rw [h23] at ev; show _ = (_ && (_ && mtI (sv (i : Int)) (su (i : Int)) (tok s (i : Int)))); rw [← Bool.and_assoc, ← ev, Bool.true_and]) rfl
  refine z_aload_n (i := 0) (q := 1) hX dX7_matches_0 rfl rfl rfl ?_
  refine z_aload_n (i := 1) (q := 2) hX dX7_matches_1 rfl rfl rfl ?_
  refine zr_getN (C := RX5) (T := TX5) (N := 3) (q := 5) hX ciX5 2 rfl (by decide) in_X5 dX7_matches_2 (zNF_at 33 rfl) (fun H h => cI.rd h (by first | assumption | exact Or.inl (by assumption) | exact Or.inr (by first | assumption | exact upm_same _ _ _ | exact (upm_ne _ _ (by first | assumption | exact Ne.symm (by assumption) | omega | exact ne_mp (m := m) (by assumption) (by assumption) | exact Ne.symm (ne_mp (m := m) (by assumption) (by assumption)) | exact ne_mp (m := w) (by assumption) (by assumption) | exact Ne.symm (ne_mp (m := w) (by assumption) (by assumption)))).trans (by first | assumption | exact upm_same _ _ _ | exact (upm_ne _ _ (by first | assumption | exact Ne.symm (by assumption) | omega | exact ne_mp (m := m) (by assumption) (by assumption) | exact Ne.symm (ne_mp (m := m) (by assumption) (by assumption)) | exact ne_mp (m := w) (by assumption) (by assumption) | exact Ne.symm (ne_mp (m := w) (by assumption) (by assumption)))).trans (by first | assumption | exact upm_same _ _ _ | exact (upm_ne _ _ (by first | assumption | exact Ne.symm (by assumption) | omega | exact ne_mp (m := m) (by assumption) (by assumption) | exact Ne.symm (ne_mp (m := m) (by assumption) (by assumption)) | exact ne_mp (m := w) (by assumption) (by assumption) | exact Ne.symm (ne_mp (m := w) (by assumption) (by assumption)))).trans (by first | assumption | exact upm_same _ _ _))))) rfl (by decide) rfl) rfl ?_
  refine z_V (ci := ciX7) (T := TX7) (N := 3) (na := 1) hX dX7_matches_5 (c_X7_isForm D A hb2 y5 y6 (by omega)) rfl q1429 q463 q464 q127 q465 (by decide +kernel) ⟨Nat.le_of_ble_eq_true rfl, Nat.le_of_ble_eq_true rfl⟩ rfl rfl (Nat.le_of_ble_eq_true rfl) rfl (by first | exact Nat.le_of_ble_eq_true rfl | (show _ + 0 ≤ 0; omega)) (by first | exact Nat.le_of_ble_eq_true rfl | (show _ + 0 ≤ 0; omega)) (fun H h => ⟨h, h.obE (Or.inl h1) rfl⟩) (fun E a => zT.no) (zPd.out ?_)
  show zG X (_ + 0) (_ + 0) _ 8 _ _
  refine z_istore_n (i := 2) (q := 9) hX dX7_matches_8 rfl (Nat.le_of_ble_eq_true rfl) rfl rfl ?_
  refine z_iconst (q := 10) hX dX7_matches_9 rfl ?_
  refine z_istore_n (i := 3) (q := 11) hX dX7_matches_10 rfl (Nat.le_of_ble_eq_true rfl) rfl rfl ?_
  exact K 0 (Nat.zero_le _) _ 0 (by show _ = (_ && true); rw [Bool.and_true]) rfl
abbrev rmX7_fit : Room := { frames := 4, cells := 0, slots := 0, locals := 86 }
set_option maxHeartbeats 4000000 in
theorem c_X7_fit (D : zD) (A : Nat → Prop) {w m : zMp} {b : Nat} {g : List Int} {n : Nat} {sv : Int → Int} {su : Int → zS} {rows : List Int} {y : Nat} {s : zS} (hb : wTpl w b g n sv su rows) (hy : wLine w y s) (hn : (n : Int) ≤ nT s) : zC D yX7_fit cX7_fit 4 (some .int) none rmX7_fit A [.ref b, .ref y] (cI D A w m) (zPd (zI (sumI (fun k => bi (decide (sv k = -1) && decide (su k = tok s k))) n)) (cI D A w m)) (zNo) := by
  refine zC_start (L := [some (.ref b), some (.ref y), none, none]) (by decide) (Nat.le_of_ble_eq_true rfl) rfl (fun X hX => ?_)
  obtain ⟨⟨k1, k2, k3⟩, gl, sl, rl, mc, mc2, mc3, gs, ss, rs, h1, h2, h3, h4, h5, h6, h7⟩ := hb
  obtain ⟨hs, t, tl, gl9, mc9, mc8, ts, gs9, y1, y2, y3, y4, y5, y6⟩ := hy
  have l1 := h5.1
  have l3 := nT_range s
  have l4 := hs.2.1
  have l5 := y4.1
  have K : ∀ i : Nat, i ≤ n → ∀ (v p : Int), v = sumI (fun k => bi (decide (sv k = -1) && decide (su k = tok s k))) i → p = i → zG X 0 0 (cI D A w m) 4 [some (.ref b), some (.ref (y)), some (zI (v)), some (zI (p))] [] := by
    refine z_up (fun i hi ih v p ev ep => ?_)
    subst ep
    refine z_iload_n (i := 3) (q := 5) hX dX7_fit_4 rfl rfl rfl ?_
    refine z_aload_n (i := 0) (q := 6) hX dX7_fit_5 rfl rfl rfl ?_
    refine zr_get (C := RX7) (T := TX7) (N := 3) (q := 9) hX ciX7 1 rfl (by decide) in_X7 dX7_fit_6 q689 (Or.inl rfl) (fun H h => cI.rd h (by first | assumption | exact Or.inl (by assumption) | exact Or.inr (by first | assumption | exact upm_same _ _ _ | exact (upm_ne _ _ (by first | assumption | exact Ne.symm (by assumption) | omega | exact ne_mp (m := m) (by assumption) (by assumption) | exact Ne.symm (ne_mp (m := m) (by assumption) (by assumption)) | exact ne_mp (m := w) (by assumption) (by assumption) | exact Ne.symm (ne_mp (m := w) (by assumption) (by assumption)))).trans (by first | assumption | exact upm_same _ _ _ | exact (upm_ne _ _ (by first | assumption | exact Ne.symm (by assumption) | omega | exact ne_mp (m := m) (by assumption) (by assumption) | exact Ne.symm (ne_mp (m := m) (by assumption) (by assumption)) | exact ne_mp (m := w) (by assumption) (by assumption) | exact Ne.symm (ne_mp (m := w) (by assumption) (by assumption)))).trans (by first | assumption | exact upm_same _ _ _ | exact (upm_ne _ _ (by first | assumption | exact Ne.symm (by assumption) | omega | exact ne_mp (m := m) (by assumption) (by assumption) | exact Ne.symm (ne_mp (m := m) (by assumption) (by assumption)) | exact ne_mp (m := w) (by assumption) (by assumption) | exact Ne.symm (ne_mp (m := w) (by assumption) (by assumption)))).trans (by first | assumption | exact upm_same _ _ _))))) rfl (by decide) rfl) rfl ?_
    refine z_V (ci := ciJ2) (T := TJ2) (N := 3) (na := 0) hX dX7_fit_9 (c_J2_size D A (Or.inl h4)) rfl q466 q467 q468 q101 q469 (by decide +kernel) ⟨Nat.le_of_ble_eq_true rfl, Nat.le_of_ble_eq_true rfl⟩ rfl rfl (Nat.le_of_ble_eq_true rfl) rfl (by first | exact Nat.le_of_ble_eq_true rfl | (show _ + 0 ≤ 0; omega)) (by first | exact Nat.le_of_ble_eq_true rfl | (show _ + 0 ≤ 0; omega)) (fun H h => ⟨h, h.obL (Or.inl h4)⟩) (fun E a => zT.no) (zPd.out ?_)
    show zG X (_ + 0) (_ + 0) _ 12 _ _
    refine z_icmp_ge (q := 15) (t := 57) hX dX7_fit_12 (by decide) ⟨by omega, by omega⟩ ⟨by omega, by omega⟩ rfl (fun h12 => ?_) (fun h12 => ?_)
    · refine z_iload_n (i := 2) (q := 58) hX dX7_fit_57 rfl rfl rfl ?_
      exact z_iret hX dX7_fit_58 (by first | exact Nat.le_of_ble_eq_true rfl | (show (_ : Nat) ≤ 0; omega)) (by first | exact Nat.le_of_ble_eq_true rfl | (show (_ : Nat) ≤ 0; omega)) rfl (fun H h => ⟨congrArg (fun z => some (zI z)) ((by rw [ev, show i = n by omega])), h⟩)
    · obtain ⟨a1, q1, q2⟩ := h5.2 i (by omega)
      obtain ⟨fs, q3⟩ := q2.it
      obtain ⟨a2, q4, q5⟩ := y4.2 i (by omega)
      have q6 := q5
      obtain ⟨q7, t7, q8, q9⟩ := q6
      refine z_iload_n (i := 2) (q := 16) hX dX7_fit_15 rfl rfl rfl ?_
      refine z_aload_n (i := 0) (q := 17) hX dX7_fit_16 rfl rfl rfl ?_
      refine zr_get (C := RX7) (T := TX7) (N := 3) (q := 20) hX ciX7 1 rfl (by decide) in_X7 dX7_fit_17 q689 (Or.inl rfl) (fun H h => cI.rd h (by first | assumption | exact Or.inl (by assumption) | exact Or.inr (by first | assumption | exact upm_same _ _ _ | exact (upm_ne _ _ (by first | assumption | exact Ne.symm (by assumption) | omega | exact ne_mp (m := m) (by assumption) (by assumption) | exact Ne.symm (ne_mp (m := m) (by assumption) (by assumption)) | exact ne_mp (m := w) (by assumption) (by assumption) | exact Ne.symm (ne_mp (m := w) (by assumption) (by assumption)))).trans (by first | assumption | exact upm_same _ _ _ | exact (upm_ne _ _ (by first | assumption | exact Ne.symm (by assumption) | omega | exact ne_mp (m := m) (by assumption) (by assumption) | exact Ne.symm (ne_mp (m := m) (by assumption) (by assumption)) | exact ne_mp (m := w) (by assumption) (by assumption) | exact Ne.symm (ne_mp (m := w) (by assumption) (by assumption)))).trans (by first | assumption | exact upm_same _ _ _ | exact (upm_ne _ _ (by first | assumption | exact Ne.symm (by assumption) | omega | exact ne_mp (m := m) (by assumption) (by assumption) | exact Ne.symm (ne_mp (m := m) (by assumption) (by assumption)) | exact ne_mp (m := w) (by assumption) (by assumption) | exact Ne.symm (ne_mp (m := w) (by assumption) (by assumption)))).trans (by first | assumption | exact upm_same _ _ _))))) rfl (by decide) rfl) rfl ?_
      refine z_iload_n (i := 3) (q := 21) hX dX7_fit_20 rfl rfl rfl ?_
      refine z_V (ci := ciJ2) (T := TJ2) (N := 3) (na := 1) hX dX7_fit_21 (c_J2_get D A (Or.inl h4) (by omega) (by rw [Int.toNat_natCast]; exact q1) (by omega)) rfl q470 q471 q472 q101 q473 (by decide +kernel) ⟨Nat.le_of_ble_eq_true rfl, Nat.le_of_ble_eq_true rfl⟩ rfl rfl (Nat.le_of_ble_eq_true rfl) rfl (by first | exact Nat.le_of_ble_eq_true rfl | (show _ + 0 ≤ 0; omega)) (by first | exact Nat.le_of_ble_eq_true rfl | (show _ + 0 ≤ 0; omega)) (fun H h => ⟨h, h.obL (Or.inl h4)⟩) (fun E a => zT.no) (zPd.out ?_)
      show zG X (_ + 0) (_ + 0) _ 24 _ _
      refine zr_cast (q := 27) (C := RX8) (T := TX8) (N := 2) hX ciX8 rfl dX7_fit_24 q532 (fun H h => cI.obE h (by first | assumption | exact Or.inl (by assumption) | exact Or.inr (by first | assumption | exact upm_same _ _ _ | exact (upm_ne _ _ (by first | assumption | exact Ne.symm (by assumption) | omega | exact ne_mp (m := m) (by assumption) (by assumption) | exact Ne.symm (ne_mp (m := m) (by assumption) (by assumption)) | exact ne_mp (m := w) (by assumption) (by assumption) | exact Ne.symm (ne_mp (m := w) (by assumption) (by assumption)))).trans (by first | assumption | exact upm_same _ _ _ | exact (upm_ne _ _ (by first | assumption | exact Ne.symm (by assumption) | omega | exact ne_mp (m := m) (by assumption) (by assumption) | exact Ne.symm (ne_mp (m := m) (by assumption) (by assumption)) | exact ne_mp (m := w) (by assumption) (by assumption) | exact Ne.symm (ne_mp (m := w) (by assumption) (by assumption)))).trans (by first | assumption | exact upm_same _ _ _ | exact (upm_ne _ _ (by first | assumption | exact Ne.symm (by assumption) | omega | exact ne_mp (m := m) (by assumption) (by assumption) | exact Ne.symm (ne_mp (m := m) (by assumption) (by assumption)) | exact ne_mp (m := w) (by assumption) (by assumption) | exact Ne.symm (ne_mp (m := w) (by assumption) (by assumption)))).trans (by first | assumption | exact upm_same _ _ _))))) rfl) rfl ?_
      refine z_aload_n (i := 1) (q := 28) hX dX7_fit_27 rfl rfl rfl ?_
      refine zr_getN (C := RX5) (T := TX5) (N := 3) (q := 31) hX ciX5 1 rfl (by decide) in_X5 dX7_fit_28 (zNF_at 34 rfl) (fun H h => cI.rd h (by first | assumption | exact Or.inl (by assumption) | exact Or.inr (by first | assumption | exact upm_same _ _ _ | exact (upm_ne _ _ (by first | assumption | exact Ne.symm (by assumption) | omega | exact ne_mp (m := m) (by assumption) (by assumption) | exact Ne.symm (ne_mp (m := m) (by assumption) (by assumption)) | exact ne_mp (m := w) (by assumption) (by assumption) | exact Ne.symm (ne_mp (m := w) (by assumption) (by assumption)))).trans (by first | assumption | exact upm_same _ _ _ | exact (upm_ne _ _ (by first | assumption | exact Ne.symm (by assumption) | omega | exact ne_mp (m := m) (by assumption) (by assumption) | exact Ne.symm (ne_mp (m := m) (by assumption) (by assumption)) | exact ne_mp (m := w) (by assumption) (by assumption) | exact Ne.symm (ne_mp (m := w) (by assumption) (by assumption)))).trans (by first | assumption | exact upm_same _ _ _ | exact (upm_ne _ _ (by first | assumption | exact Ne.symm (by assumption) | omega | exact ne_mp (m := m) (by assumption) (by assumption) | exact Ne.symm (ne_mp (m := m) (by assumption) (by assumption)) | exact ne_mp (m := w) (by assumption) (by assumption) | exact Ne.symm (ne_mp (m := w) (by assumption) (by assumption)))).trans (by first | assumption | exact upm_same _ _ _))))) rfl (by decide) rfl) rfl ?_
      refine z_iload_n (i := 3) (q := 32) hX dX7_fit_31 rfl rfl rfl ?_
      refine z_V (ci := ciJ2) (T := TJ2) (N := 3) (na := 1) hX dX7_fit_32 (c_J2_get D A (Or.inl y3) (by omega) (by rw [Int.toNat_natCast]; exact q4) (by omega)) rfl q470 q471 q472 q101 q473 (by decide +kernel) ⟨Nat.le_of_ble_eq_true rfl, Nat.le_of_ble_eq_true rfl⟩ rfl rfl (Nat.le_of_ble_eq_true rfl) rfl (by first | exact Nat.le_of_ble_eq_true rfl | (show _ + 0 ≤ 0; omega)) (by first | exact Nat.le_of_ble_eq_true rfl | (show _ + 0 ≤ 0; omega)) (fun H h => ⟨h, h.obL (Or.inl y3)⟩) (fun E a => zT.no) (zPd.out ?_)
      show zG X (_ + 0) (_ + 0) _ 35 _ _
      refine zr_cast (q := 38) (C := RX6) (T := TX6) (N := 2) hX ciX6 rfl dX7_fit_35 q1430 (fun H h => cI.obE h (by first | assumption | exact Or.inl (by assumption) | exact Or.inr (by first | assumption | exact upm_same _ _ _ | exact (upm_ne _ _ (by first | assumption | exact Ne.symm (by assumption) | omega | exact ne_mp (m := m) (by assumption) (by assumption) | exact Ne.symm (ne_mp (m := m) (by assumption) (by assumption)) | exact ne_mp (m := w) (by assumption) (by assumption) | exact Ne.symm (ne_mp (m := w) (by assumption) (by assumption)))).trans (by first | assumption | exact upm_same _ _ _ | exact (upm_ne _ _ (by first | assumption | exact Ne.symm (by assumption) | omega | exact ne_mp (m := m) (by assumption) (by assumption) | exact Ne.symm (ne_mp (m := m) (by assumption) (by assumption)) | exact ne_mp (m := w) (by assumption) (by assumption) | exact Ne.symm (ne_mp (m := w) (by assumption) (by assumption)))).trans (by first | assumption | exact upm_same _ _ _ | exact (upm_ne _ _ (by first | assumption | exact Ne.symm (by assumption) | omega | exact ne_mp (m := m) (by assumption) (by assumption) | exact Ne.symm (ne_mp (m := m) (by assumption) (by assumption)) | exact ne_mp (m := w) (by assumption) (by assumption) | exact Ne.symm (ne_mp (m := w) (by assumption) (by assumption)))).trans (by first | assumption | exact upm_same _ _ _))))) rfl) rfl ?_
      refine z_V (ci := ciX8) (T := TX8) (N := 2) (na := 1) hX dX7_fit_38 (c_X8_isFixed D A q2 q5) rfl q1439 q658 q659 q128 q660 (by decide +kernel) ⟨Nat.le_of_ble_eq_true rfl, Nat.le_of_ble_eq_true rfl⟩ rfl rfl (Nat.le_of_ble_eq_true rfl) rfl (by first | exact Nat.le_of_ble_eq_true rfl | (show _ + 0 ≤ 0; omega)) (by first | exact Nat.le_of_ble_eq_true rfl | (show _ + 0 ≤ 0; omega)) (fun H h => ⟨h, h.obE (Or.inl q3) rfl⟩) (fun E a => zT.no) (zPd.out ?_)
      show zG X (_ + 0) (_ + 0) _ 41 _ _
      refine z_ifB_eq (q := 44) (t := 48) hX dX7_fit_41 (by decide) rfl (fun h41 => ?_) (fun h41 => ?_)
      · refine z_iconst (q := 49) hX dX7_fit_48 rfl ?_
        refine z_iadd (q := 50) hX dX7_fit_49 rfl ?_
        refine z_istore_n (i := 2) (q := 51) hX dX7_fit_50 rfl (Nat.le_of_ble_eq_true rfl) rfl rfl ?_
        refine z_iinc (q := 54) hX dX7_fit_51 rfl (Nat.le_of_ble_eq_true rfl) rfl rfl ?_
        refine z_goto (t := 4) hX dX7_fit_54 (by decide) ?_
        exact ih (by omega) _ _ (by rw [ev]; show _ = _ + bi (decide (sv (i : Int) = -1) && decide (su (i : Int) = tok s (i : Int))); rw [h41]; rfl) rfl
      · refine z_iconst (q := 45) hX dX7_fit_44 rfl ?_
        refine z_goto (t := 49) hX dX7_fit_45 (by decide) ?_
        refine z_iadd (q := 50) hX dX7_fit_49 rfl ?_
        refine z_istore_n (i := 2) (q := 51) hX dX7_fit_50 rfl (Nat.le_of_ble_eq_true rfl) rfl rfl ?_
        refine z_iinc (q := 54) hX dX7_fit_51 rfl (Nat.le_of_ble_eq_true rfl) rfl rfl ?_
        refine z_goto (t := 4) hX dX7_fit_54 (by decide) ?_
        exact ih (by omega) _ _ (by rw [ev]; show _ = _ + bi (decide (sv (i : Int) = -1) && decide (su (i : Int) = tok s (i : Int))); rw [h41]; rfl) rfl
  refine z_iconst (q := 1) hX dX7_fit_0 rfl ?_
  refine z_istore_n (i := 2) (q := 2) hX dX7_fit_1 rfl (Nat.le_of_ble_eq_true rfl) rfl rfl ?_
  refine z_iconst (q := 3) hX dX7_fit_2 rfl ?_
  refine z_istore_n (i := 3) (q := 4) hX dX7_fit_3 rfl (Nat.le_of_ble_eq_true rfl) rfl rfl ?_
  exact K 0 (Nat.zero_le _) 0 0 rfl rfl
/-- the token of a column, or -1 -/
def tkOf (n : Nat) (sv : Int → Int) (c : Int) : Int := if c < 0 then -1 else (rF (fun k => !decide (sv k = -1)) n).getD c.toNat (-1)
theorem tkOf_at {n i : Nat} {sv : Int → Int} (hi : i < n) (hv : sv i ≠ -1) : tkOf n sv ((rF (fun k => !decide (sv k = -1)) i).length : Nat) = i := by
  unfold tkOf
  rw [if_neg (by omega), Int.toNat_natCast, List.getD_eq_getElem?_getD, rF_at hi (by simp [hv])]
  rfl
theorem tkOf_no {n : Nat} {sv : Int → Int} {c : Int} (h0 : 0 ≤ c) (h : ((rF (fun k => !decide (sv k = -1)) n).length : Int) ≤ c) : tkOf n sv c = -1 := by
  unfold tkOf
  rw [if_neg (by omega), List.getD_eq_getElem?_getD, List.getElem?_eq_none (by omega)]
  rfl
abbrev rmX7_tokenOf : Room := { frames := 3, cells := 0, slots := 0, locals := 64 }
set_option maxHeartbeats 4000000 in
theorem c_X7_tokenOf (D : zD) (A : Nat → Prop) {w m : zMp} {b : Nat} {g : List Int} {n : Nat} {sv : Int → Int} {su : Int → zS} {rows : List Int} {c : Int} (hb : wTpl w b g n sv su rows) (hc : 0 ≤ c ∧ c ≤ 1000) : zC D yX7_tokenOf cX7_tokenOf 4 (some .int) none rmX7_tokenOf A [.ref b, zI (c)] (cI D A w m) (zPd (zI (tkOf n sv c)) (cI D A w m)) (zNo) := by
  refine zC_start (L := [some (.ref b), some (zI (c)), none, none]) (by decide) (Nat.le_of_ble_eq_true rfl) rfl (fun X hX => ?_)
  obtain ⟨⟨k1, k2, k3⟩, gl, sl, rl, mc, mc2, mc3, gs, ss, rs, h1, h2, h3, h4, h5, h6, h7⟩ := hb
  have l1 := h5.1
  obtain ⟨p, hp⟩ : ∃ p : Int → Bool, p = fun k => !decide (sv k = -1) := ⟨_, rfl⟩
  have K : ∀ i : Nat, i ≤ n → ∀ (v q : Int), v = c - ((rF p i).length : Int) → 0 ≤ v → q = i → zG X 0 0 (cI D A w m) 4 [some (.ref b), some (zI (c)), some (zI (v)), some (zI (q))] [] := by
    refine z_up (fun i hi ih v q ev hv eq => ?_)
    subst eq
    refine z_iload_n (i := 3) (q := 5) hX dX7_tokenOf_4 rfl rfl rfl ?_
    refine z_aload_n (i := 0) (q := 6) hX dX7_tokenOf_5 rfl rfl rfl ?_
    refine zr_get (C := RX7) (T := TX7) (N := 3) (q := 9) hX ciX7 1 rfl (by decide) in_X7 dX7_tokenOf_6 q689 (Or.inl rfl) (fun H h => cI.rd h (by first | assumption | exact Or.inl (by assumption) | exact Or.inr (by first | assumption | exact upm_same _ _ _ | exact (upm_ne _ _ (by first | assumption | exact Ne.symm (by assumption) | omega | exact ne_mp (m := m) (by assumption) (by assumption) | exact Ne.symm (ne_mp (m := m) (by assumption) (by assumption)) | exact ne_mp (m := w) (by assumption) (by assumption) | exact Ne.symm (ne_mp (m := w) (by assumption) (by assumption)))).trans (by first | assumption | exact upm_same _ _ _ | exact (upm_ne _ _ (by first | assumption | exact Ne.symm (by assumption) | omega | exact ne_mp (m := m) (by assumption) (by assumption) | exact Ne.symm (ne_mp (m := m) (by assumption) (by assumption)) | exact ne_mp (m := w) (by assumption) (by assumption) | exact Ne.symm (ne_mp (m := w) (by assumption) (by assumption)))).trans (by first | assumption | exact upm_same _ _ _ | exact (upm_ne _ _ (by first | assumption | exact Ne.symm (by assumption) | omega | exact ne_mp (m := m) (by assumption) (by assumption) | exact Ne.symm (ne_mp (m := m) (by assumption) (by assumption)) | exact ne_mp (m := w) (by assumption) (by assumption) | exact Ne.symm (ne_mp (m := w) (by assumption) (by assumption)))).trans (by first | assumption | exact upm_same _ _ _))))) rfl (by decide) rfl) rfl ?_
    refine z_V (ci := ciJ2) (T := TJ2) (N := 3) (na := 0) hX dX7_tokenOf_9 (c_J2_size D A (Or.inl h4)) rfl q466 q467 q468 q101 q469 (by decide +kernel) ⟨Nat.le_of_ble_eq_true rfl, Nat.le_of_ble_eq_true rfl⟩ rfl rfl (Nat.le_of_ble_eq_true rfl) rfl (by first | exact Nat.le_of_ble_eq_true rfl | (show _ + 0 ≤ 0; omega)) (by first | exact Nat.le_of_ble_eq_true rfl | (show _ + 0 ≤ 0; omega)) (fun H h => ⟨h, h.obL (Or.inl h4)⟩) (fun E a => zT.no) (zPd.out ?_)
    show zG X (_ + 0) (_ + 0) _ 12 _ _
    refine z_icmp_ge (q := 15) (t := 47) hX dX7_tokenOf_12 (by decide) ⟨by omega, by omega⟩ ⟨by omega, by omega⟩ rfl (fun h12 => ?_) (fun h12 => ?_)
    · refine z_iconst (q := 48) hX dX7_tokenOf_47 rfl ?_
      exact z_iret hX dX7_tokenOf_48 (by first | exact Nat.le_of_ble_eq_true rfl | (show (_ : Nat) ≤ 0; omega)) (by first | exact Nat.le_of_ble_eq_true rfl | (show (_ : Nat) ≤ 0; omega)) rfl (fun H h => ⟨congrArg (fun z => some (zI z)) ((by rw [tkOf_no hc.1 (by rw [← hp, ← show i = n by omega]; omega)])), h⟩)
    · obtain ⟨a1, q1, q2⟩ := h5.2 i (by omega)
      obtain ⟨fs, q3⟩ := q2.it
      have hs : rF p (i + 1) = if p i then rF p i ++ [(i : Int)] else rF p i := rfl
      refine z_aload_n (i := 0) (q := 16) hX dX7_tokenOf_15 rfl rfl rfl ?_
      refine zr_get (C := RX7) (T := TX7) (N := 3) (q := 19) hX ciX7 1 rfl (by decide) in_X7 dX7_tokenOf_16 q689 (Or.inl rfl) (fun H h => cI.rd h (by first | assumption | exact Or.inl (by assumption) | exact Or.inr (by first | assumption | exact upm_same _ _ _ | exact (upm_ne _ _ (by first | assumption | exact Ne.symm (by assumption) | omega | exact ne_mp (m := m) (by assumption) (by assumption) | exact Ne.symm (ne_mp (m := m) (by assumption) (by assumption)) | exact ne_mp (m := w) (by assumption) (by assumption) | exact Ne.symm (ne_mp (m := w) (by assumption) (by assumption)))).trans (by first | assumption | exact upm_same _ _ _ | exact (upm_ne _ _ (by first | assumption | exact Ne.symm (by assumption) | omega | exact ne_mp (m := m) (by assumption) (by assumption) | exact Ne.symm (ne_mp (m := m) (by assumption) (by assumption)) | exact ne_mp (m := w) (by assumption) (by assumption) | exact Ne.symm (ne_mp (m := w) (by assumption) (by assumption)))).trans (by first | assumption | exact upm_same _ _ _ | exact (upm_ne _ _ (by first | assumption | exact Ne.symm (by assumption) | omega | exact ne_mp (m := m) (by assumption) (by assumption) | exact Ne.symm (ne_mp (m := m) (by assumption) (by assumption)) | exact ne_mp (m := w) (by assumption) (by assumption) | exact Ne.symm (ne_mp (m := w) (by assumption) (by assumption)))).trans (by first | assumption | exact upm_same _ _ _))))) rfl (by decide) rfl) rfl ?_
      refine z_iload_n (i := 3) (q := 20) hX dX7_tokenOf_19 rfl rfl rfl ?_
      refine z_V (ci := ciJ2) (T := TJ2) (N := 3) (na := 1) hX dX7_tokenOf_20 (c_J2_get D A (Or.inl h4) (by omega) (by rw [Int.toNat_natCast]; exact q1) (by omega)) rfl q470 q471 q472 q101 q473 (by decide +kernel) ⟨Nat.le_of_ble_eq_true rfl, Nat.le_of_ble_eq_true rfl⟩ rfl rfl (Nat.le_of_ble_eq_true rfl) rfl (by first | exact Nat.le_of_ble_eq_true rfl | (show _ + 0 ≤ 0; omega)) (by first | exact Nat.le_of_ble_eq_true rfl | (show _ + 0 ≤ 0; omega)) (fun H h => ⟨h, h.obL (Or.inl h4)⟩) (fun E a => zT.no) (zPd.out ?_)
      show zG X (_ + 0) (_ + 0) _ 23 _ _
      refine zr_cast (q := 26) (C := RX8) (T := TX8) (N := 2) hX ciX8 rfl dX7_tokenOf_23 q532 (fun H h => cI.obE h (by first | assumption | exact Or.inl (by assumption) | exact Or.inr (by first | assumption | exact upm_same _ _ _ | exact (upm_ne _ _ (by first | assumption | exact Ne.symm (by assumption) | omega | exact ne_mp (m := m) (by assumption) (by assumption) | exact Ne.symm (ne_mp (m := m) (by assumption) (by assumption)) | exact ne_mp (m := w) (by assumption) (by assumption) | exact Ne.symm (ne_mp (m := w) (by assumption) (by assumption)))).trans (by first | assumption | exact upm_same _ _ _ | exact (upm_ne _ _ (by first | assumption | exact Ne.symm (by assumption) | omega | exact ne_mp (m := m) (by assumption) (by assumption) | exact Ne.symm (ne_mp (m := m) (by assumption) (by assumption)) | exact ne_mp (m := w) (by assumption) (by assumption) | exact Ne.symm (ne_mp (m := w) (by assumption) (by assumption)))).trans (by first | assumption | exact upm_same _ _ _ | exact (upm_ne _ _ (by first | assumption | exact Ne.symm (by assumption) | omega | exact ne_mp (m := m) (by assumption) (by assumption) | exact Ne.symm (ne_mp (m := m) (by assumption) (by assumption)) | exact ne_mp (m := w) (by assumption) (by assumption) | exact Ne.symm (ne_mp (m := w) (by assumption) (by assumption)))).trans (by first | assumption | exact upm_same _ _ _))))) rfl) rfl ?_
      refine z_V (ci := ciX8) (T := TX8) (N := 2) (na := 0) hX dX7_tokenOf_26 (c_X8_isVariable D A q2) rfl q1244 q551 q552 q128 q553 (by decide +kernel) ⟨Nat.le_of_ble_eq_true rfl, Nat.le_of_ble_eq_true rfl⟩ rfl rfl (Nat.le_of_ble_eq_true rfl) rfl (by first | exact Nat.le_of_ble_eq_true rfl | (show _ + 0 ≤ 0; omega)) (by first | exact Nat.le_of_ble_eq_true rfl | (show _ + 0 ≤ 0; omega)) (fun H h => ⟨h, h.obE (Or.inl q3) rfl⟩) (fun E a => zT.no) (zPd.out ?_)
      show zG X (_ + 0) (_ + 0) _ 29 _ _
      refine z_ifB_eq (q := 32) (t := 41) hX dX7_tokenOf_29 (by decide) rfl (fun h29 => ?_) (fun h29 => ?_)
      · refine z_iinc (q := 44) hX dX7_tokenOf_41 rfl (Nat.le_of_ble_eq_true rfl) rfl rfl ?_
        refine z_goto (t := 4) hX dX7_tokenOf_44 (by decide) ?_
        have hpi : p (i : Int) = false := by rw [hp]; exact h29
        rw [hpi] at hs
        exact ih (by omega) _ _ (by rw [hs]; exact ev) hv rfl
      · refine z_iload_n (i := 2) (q := 33) hX dX7_tokenOf_32 rfl rfl rfl ?_
        refine z_if_ne (q := 36) (t := 38) hX dX7_tokenOf_33 (by decide) ⟨by omega, by omega⟩ rfl (fun h33 => ?_) (fun h33 => ?_)
        · refine z_iinc (q := 41) hX dX7_tokenOf_38 rfl (Nat.le_of_ble_eq_true rfl) rfl rfl ?_
          refine z_iinc (q := 44) hX dX7_tokenOf_41 rfl (Nat.le_of_ble_eq_true rfl) rfl rfl ?_
          refine z_goto (t := 4) hX dX7_tokenOf_44 (by decide) ?_
          have hpi : p (i : Int) = true := by rw [hp]; exact h29
          rw [hpi] at hs
          exact ih (by omega) _ _ (by rw [hs, if_pos rfl, List.length_append]; show _ = c - (((rF p i).length + 1 : Nat) : Int); omega) (by omega) rfl
        · refine z_iload_n (i := 3) (q := 37) hX dX7_tokenOf_36 rfl rfl rfl ?_
          exact z_iret hX dX7_tokenOf_37 (by first | exact Nat.le_of_ble_eq_true rfl | (show (_ : Nat) ≤ 0; omega)) (by first | exact Nat.le_of_ble_eq_true rfl | (show (_ : Nat) ≤ 0; omega)) rfl (fun H h => ⟨congrArg (fun z => some (zI z)) ((by
          have hpi : sv (i : Int) ≠ -1 := by simpa using h29
          have e := tkOf_at (n := n) (i := i) (sv := sv) (by omega) hpi
          rw [← hp] at e
          rw [← e]
          congr 1
          omega)), h⟩)
  refine z_iload_n (i := 1) (q := 1) hX dX7_tokenOf_0 rfl rfl rfl ?_
  refine z_istore_n (i := 2) (q := 2) hX dX7_tokenOf_1 rfl (Nat.le_of_ble_eq_true rfl) rfl rfl ?_
  refine z_iconst (q := 3) hX dX7_tokenOf_2 rfl ?_
  refine z_istore_n (i := 3) (q := 4) hX dX7_tokenOf_3 rfl (Nat.le_of_ble_eq_true rfl) rfl rfl ?_
  exact K 0 (Nat.zero_le _) c 0 (by show c = c - 0; omega) hc.1 rfl
