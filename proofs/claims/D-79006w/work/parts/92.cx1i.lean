/-! THE CLASS: the compactor: undo, save, restore; conditions of a query -/
set_option maxRecDepth 100000
theorem kHs.ls {D : zD} {w m : zMp} {K : Nat → Prop} {qs : List (Int → Int)} {M9 : Int → Int} {xs : List Nat} (h : kHs D w m K (qs ++ [M9]) xs) : xs.length = qs.length + 1 ∧ (∃ a, xs[qs.length]? = some a ∧ kLog D w m K a M9) ∧ kHs D w m K qs (xs.eraseIdx qs.length) := by
  have h1 := h.1
  have h2 := h.2.1
  rw [List.length_append] at h1 h2
  have h1 : xs.length = qs.length + 1 := h1
  have h2 : qs.length + 1 ≤ 10 := h2
  refine ⟨h1, h.2.2 qs.length M9 (by rw [List.getElem?_append_right (Nat.le_refl _), Nat.sub_self]; rfl), ?_, by omega, fun i M hi => ?_⟩
  · rw [List.length_eraseIdx, if_pos (by omega)]
    omega
  · have hil : i < qs.length := (List.getElem?_eq_some_iff.mp hi).1
    obtain ⟨a, k1, k2⟩ := h.2.2 i M (by rw [List.getElem?_append_left hil]; exact hi)
    exact ⟨a, by rw [List.getElem?_eraseIdx, if_pos hil]; exact k1, k2⟩
def cnA (M : Int → Int) (cl : List zCn) (l : Int) : Int → Bool := fun i => match cl[i.toNat]? with
  | some c => cnB M l c
  | none => false
/-- does a line fulfil all conditions but e? -/
def hbB (M : Int → Int) (cl : List zCn) (l e : Int) : Bool := allI (fun i => decide (i = e) || cnA M cl l i) cl.length
def hiE (M : Int → Int) (cl : List zCn) (e : Int) : Int := sumI (fun l => bi (hbB M cl l e)) (M 0).toNat
theorem hiE_rng (M : Int → Int) (cl : List zCn) (e : Int) : 0 ≤ hiE M cl e ∧ hiE M cl e ≤ (M 0).toNat := by
  have := cnt_rng (fun l => hbB M cl l e) (M 0).toNat
  exact this
abbrev rmX1_undo_ok : Room := { frames := 7, cells := 1, slots := 6, locals := 120 }
set_option maxHeartbeats 4000000 in
theorem c_X1_undo_ok (D : zD) (A : Nat → Prop) {w m : zMp} {b : Nat} {K : Nat → Prop} {M : Int → Int} {ps : List (Int → Int)} {sv : Option (Int → Int)} {rp : Option (Int × Int × Int × Int)} {s : zS} {cs : Option (List zCn)} {qs : List (Int → Int)} {M9 : Int → Int} (hb : zX1 D w m K b M ps sv rp s cs) (hK : zHk K m) (hp : ps = qs ++ [M9]) : zC D yX1_undo cX1_undo 1 (some .int) none rmX1_undo_ok A [.ref b] (cI D A w m) (zPe (fun (x : zMp × zMp) => some (zI (qs.length : Int))) (fun x => pSt D w m K b True M9 qs sv rp s cs x) (fun x => cI D A x.1 x.2)) (zNo) := by
  refine zC_start (L := [some (.ref b)]) (by decide) (Nat.le_of_ble_eq_true rfl) rfl (fun X hX => ?_)
  subst hp
  obtain ⟨lg, hl1, ia, sa, ra, ca, p1, p2, ⟨mc, xs, p3, p4⟩, p5, p6, ⟨⟨f, p7, p7b⟩, p7c⟩, p8, p9, p10, p11⟩ := hb
  obtain ⟨k1, ⟨a9, k2, k3⟩, k4⟩ := p4.ls
  have k5 := k4.2.1
  obtain ⟨fl, k6⟩ := k3.it
  have hne : xs.isEmpty = false := by cases xs with | nil => exact absurd k1 (by show ¬ (0 = _); omega) | cons z zs => rfl
  have hbl : b ≠ hl1 := fun e => by rw [e, p3] at p1; cases p1
  have hil : ia ≠ hl1 := fun e => by rw [e, p3] at p7; cases p7
  have hib : ia ≠ b := fun e => by rw [e, p1] at p7; cases p7
  have hel : (xs.eraseIdx qs.length).length = qs.length := by have := k4.1; exact this
  refine z_aload_n (i := 0) (q := 1) hX dX1_undo_0 rfl rfl rfl ?_
  refine zr_get (C := RX1) (T := TX1) (N := 7) (q := 4) hX ciX1 2 rfl (by decide) in_X1 dX1_undo_1 q226 (Or.inl rfl) (fun H h => cI.rd h (by first | assumption | exact Or.inl (by assumption) | exact Or.inr (by first | assumption | exact upm_same _ _ _ | exact (upm_ne _ _ (by first | assumption | exact Ne.symm (by assumption) | omega | exact ne_mp (m := m) (by assumption) (by assumption) | exact Ne.symm (ne_mp (m := m) (by assumption) (by assumption)) | exact ne_mp (m := w) (by assumption) (by assumption) | exact Ne.symm (ne_mp (m := w) (by assumption) (by assumption)))).trans (by first | assumption | exact upm_same _ _ _ | exact (upm_ne _ _ (by first | assumption | exact Ne.symm (by assumption) | omega | exact ne_mp (m := m) (by assumption) (by assumption) | exact Ne.symm (ne_mp (m := m) (by assumption) (by assumption)) | exact ne_mp (m := w) (by assumption) (by assumption) | exact Ne.symm (ne_mp (m := w) (by assumption) (by assumption)))).trans (by first | assumption | exact upm_same _ _ _ | exact (upm_ne _ _ (by first | assumption | exact Ne.symm (by assumption) | omega | exact ne_mp (m := m) (by assumption) (by assumption) | exact Ne.symm (ne_mp (m := m) (by assumption) (by assumption)) | exact ne_mp (m := w) (by assumption) (by assumption) | exact Ne.symm (ne_mp (m := w) (by assumption) (by assumption)))).trans (by first | assumption | exact upm_same _ _ _))))) rfl (by decide) rfl) rfl ?_
  refine z_V (ci := ciJ2) (T := TJ2) (N := 3) (na := 0) hX dX1_undo_4 (c_J2_isEmpty D A (Or.inr p3) (by omega)) rfl q1787 q1608 q1609 q101 q1610 (by decide +kernel) ⟨Nat.le_of_ble_eq_true rfl, Nat.le_of_ble_eq_true rfl⟩ rfl rfl (Nat.le_of_ble_eq_true rfl) rfl (by first | exact Nat.le_of_ble_eq_true rfl | (show _ + 0 ≤ 1; omega)) (by first | exact Nat.le_of_ble_eq_true rfl | (show _ + 0 ≤ 6; omega)) (fun H h => ⟨h, h.obL (Or.inr p3)⟩) (fun E a => zT.no) (zPd.out ?_)
  show zG X (_ + 0) (_ + 0) _ 7 _ _
  rw [hne]
  refine z_ifB_ne (q := 10) (t := 14) hX dX1_undo_7 (by decide) rfl (fun h7 => ?_) (fun h7 => ?_)
  · cases h7
  · refine z_iconst (q := 11) hX dX1_undo_10 rfl ?_
    refine z_goto (t := 15) hX dX1_undo_11 (by decide) ?_
    refine zG.top (v2 := zI (bi true)) rfl ?_
    refine z_S (na := 1) hX dX1_undo_15 (c_X1_checkState D A (c := true)) q1282 q1283 q97 q1284 (by decide +kernel) ⟨Nat.le_of_ble_eq_true rfl, Nat.le_of_ble_eq_true rfl⟩ rfl rfl (Nat.le_of_ble_eq_true rfl) rfl (by first | exact Nat.le_of_ble_eq_true rfl | (show _ + 1 ≤ 1; omega)) (by first | exact Nat.le_of_ble_eq_true rfl | (show _ + 6 ≤ 6; omega)) (fun H h => h) (zXs.out (fun e15 => ?_)) (zPe.out (fun x15 hx15 => ?_))
    · refine zT.ax (fun hx15 => ?_)
      cases hx15
    show zG X (_ + 1) (_ + 6) _ 18 _ _
    refine z_aload_n (i := 0) (q := 19) hX dX1_undo_18 rfl rfl rfl ?_
    refine z_aload_n (i := 0) (q := 20) hX dX1_undo_19 rfl rfl rfl ?_
    refine zr_get (C := RX1) (T := TX1) (N := 7) (q := 23) hX ciX1 2 rfl (by decide) in_X1 dX1_undo_20 q226 (Or.inl rfl) (fun H h => cI.rd h (by first | assumption | exact Or.inl (by assumption) | exact Or.inr (by first | assumption | exact upm_same _ _ _ | exact (upm_ne _ _ (by first | assumption | exact Ne.symm (by assumption) | omega | exact ne_mp (m := m) (by assumption) (by assumption) | exact Ne.symm (ne_mp (m := m) (by assumption) (by assumption)) | exact ne_mp (m := w) (by assumption) (by assumption) | exact Ne.symm (ne_mp (m := w) (by assumption) (by assumption)))).trans (by first | assumption | exact upm_same _ _ _ | exact (upm_ne _ _ (by first | assumption | exact Ne.symm (by assumption) | omega | exact ne_mp (m := m) (by assumption) (by assumption) | exact Ne.symm (ne_mp (m := m) (by assumption) (by assumption)) | exact ne_mp (m := w) (by assumption) (by assumption) | exact Ne.symm (ne_mp (m := w) (by assumption) (by assumption)))).trans (by first | assumption | exact upm_same _ _ _ | exact (upm_ne _ _ (by first | assumption | exact Ne.symm (by assumption) | omega | exact ne_mp (m := m) (by assumption) (by assumption) | exact Ne.symm (ne_mp (m := m) (by assumption) (by assumption)) | exact ne_mp (m := w) (by assumption) (by assumption) | exact Ne.symm (ne_mp (m := w) (by assumption) (by assumption)))).trans (by first | assumption | exact upm_same _ _ _))))) rfl (by decide) rfl) rfl ?_
    refine z_aload_n (i := 0) (q := 24) hX dX1_undo_23 rfl rfl rfl ?_
    refine zr_get (C := RX1) (T := TX1) (N := 7) (q := 27) hX ciX1 2 rfl (by decide) in_X1 dX1_undo_24 q226 (Or.inl rfl) (fun H h => cI.rd h (by first | assumption | exact Or.inl (by assumption) | exact Or.inr (by first | assumption | exact upm_same _ _ _ | exact (upm_ne _ _ (by first | assumption | exact Ne.symm (by assumption) | omega | exact ne_mp (m := m) (by assumption) (by assumption) | exact Ne.symm (ne_mp (m := m) (by assumption) (by assumption)) | exact ne_mp (m := w) (by assumption) (by assumption) | exact Ne.symm (ne_mp (m := w) (by assumption) (by assumption)))).trans (by first | assumption | exact upm_same _ _ _ | exact (upm_ne _ _ (by first | assumption | exact Ne.symm (by assumption) | omega | exact ne_mp (m := m) (by assumption) (by assumption) | exact Ne.symm (ne_mp (m := m) (by assumption) (by assumption)) | exact ne_mp (m := w) (by assumption) (by assumption) | exact Ne.symm (ne_mp (m := w) (by assumption) (by assumption)))).trans (by first | assumption | exact upm_same _ _ _ | exact (upm_ne _ _ (by first | assumption | exact Ne.symm (by assumption) | omega | exact ne_mp (m := m) (by assumption) (by assumption) | exact Ne.symm (ne_mp (m := m) (by assumption) (by assumption)) | exact ne_mp (m := w) (by assumption) (by assumption) | exact Ne.symm (ne_mp (m := w) (by assumption) (by assumption)))).trans (by first | assumption | exact upm_same _ _ _))))) rfl (by decide) rfl) rfl ?_
    refine z_V (ci := ciJ2) (T := TJ2) (N := 3) (na := 0) hX dX1_undo_27 (c_J2_size D A (Or.inr p3)) rfl q993 q467 q468 q101 q469 (by decide +kernel) ⟨Nat.le_of_ble_eq_true rfl, Nat.le_of_ble_eq_true rfl⟩ rfl rfl (Nat.le_of_ble_eq_true rfl) rfl (by first | exact Nat.le_of_ble_eq_true rfl | (show _ + 0 ≤ 1; omega)) (by first | exact Nat.le_of_ble_eq_true rfl | (show _ + 0 ≤ 6; omega)) (fun H h => ⟨h, h.obL (Or.inr p3)⟩) (fun E a => zT.no) (zPd.out ?_)
    show zG X (_ + 0) (_ + 0) _ 30 _ _
    refine z_iconst (q := 31) hX dX1_undo_30 rfl ?_
    refine z_isub (q := 32) hX dX1_undo_31 rfl ?_
    refine zG.top (v2 := zI (qs.length : Int)) (by rw [k1]; congr 1; omega) ?_
    refine z_V (ci := ciJ2) (T := TJ2) (N := 3) (na := 1) hX dX1_undo_32 (c_J2_remove D A p3 (by omega) k2) rfl q994 q995 q996 q101 q997 (by decide +kernel) ⟨Nat.le_of_ble_eq_true rfl, Nat.le_of_ble_eq_true rfl⟩ rfl rfl (Nat.le_of_ble_eq_true rfl) rfl (by first | exact Nat.le_of_ble_eq_true rfl | (show _ + 0 ≤ 1; omega)) (by first | exact Nat.le_of_ble_eq_true rfl | (show _ + 0 ≤ 6; omega)) (fun H h => ⟨h, h.obL (Or.inr p3)⟩) (fun E a => zT.no) (zPd.out ?_)
    show zG X (_ + 0) (_ + 0) _ 35 _ _
    refine zr_cast (q := 38) (C := RX2) (T := TX2) (N := 4) hX ciX2 rfl dX1_undo_35 q149 (fun H h => cI.obE h (Or.inl k6) rfl) rfl ?_
    refine zc_put (C := RX1) (T := TX1) (N := 7) (q := 41) hX ciX1 0 rfl (by decide) in_X1 tyX1_ok nmX1 dX1_undo_38 q224 (Or.inl rfl) rfl ((upm_ne _ _ hbl).trans p1) (Nat.le_of_ble_eq_true rfl) rfl rfl rfl rfl ?_
    refine z_aload_n (i := 0) (q := 42) hX dX1_undo_41 rfl rfl rfl ?_
    refine zr_get (C := RX1) (T := TX1) (N := 7) (q := 45) hX ciX1 2 rfl (by decide) in_X1 dX1_undo_42 q226 (Or.inl rfl) (fun H h => cI.rd h (Or.inr (upm_same _ _ _)) rfl (by decide) rfl) rfl ?_
    refine z_V (ci := ciJ2) (T := TJ2) (N := 3) (na := 0) hX dX1_undo_45 (c_J2_size D A (Or.inr ((upm_ne _ _ (Ne.symm hbl)).trans (upm_same _ _ _)))) rfl q993 q467 q468 q101 q469 (by decide +kernel) ⟨Nat.le_of_ble_eq_true rfl, Nat.le_of_ble_eq_true rfl⟩ rfl rfl (Nat.le_of_ble_eq_true rfl) rfl (by first | exact Nat.le_of_ble_eq_true rfl | (show _ + 0 ≤ 1; omega)) (by first | exact Nat.le_of_ble_eq_true rfl | (show _ + 0 ≤ 6; omega)) (fun H h => ⟨h, h.obL (Or.inr ((upm_ne _ _ (Ne.symm hbl)).trans (upm_same _ _ _)))⟩) (fun E a => zT.no) (zPd.out ?_)
    show zG X (_ + 0) (_ + 0) _ 48 _ _
    rw [hel]
    exact z_iret hX dX1_undo_48 (by first | exact Nat.le_of_ble_eq_true rfl | (show (_ : Nat) ≤ 1; omega)) (by first | exact Nat.le_of_ble_eq_true rfl | (show (_ : Nat) ≤ 6; omega)) rfl (fun H h => by
    have c1 := upL_cg (D := D) (y := eL (mc + 1) (xs.eraseIdx qs.length)) p3
    have hm1 : upm m hl1 (eL (mc + 1) (xs.eraseIdx qs.length)) b = some (eO ciX1 [.ref lg, va_rf sa, .ref hl1, va_rf ra, .ref ia, zI s.length, va_rf ca]) := (upm_ne _ _ hbl).trans p1
    have c2 := zX1.cg (D := D) (w := w) (ci := 0) (y := eO ciX1 [.ref a9, va_rf sa, .ref hl1, va_rf ra, .ref ia, zI s.length, va_rf ca]) hm1
    exact ⟨(w, _), rfl, ⟨trivial, zLe.rf, (zFr.up p10).tr (zFr.up p9), a9, hl1, ia, sa, ra, ca, upm_same _ _ _, (k3.of c1.1).of c2.1, ⟨_, _, (upm_ne _ _ (Ne.symm hbl)).trans (upm_same _ _ _), (k4.of c1.1).of c2.1⟩, (p5.of c1.1).of c2.1, (p6.of c1.2).of c2.2, ⟨⟨f, (upm_ne _ _ hib).trans ((upm_ne _ _ hil).trans p7), p7b⟩, p7c⟩, p8, p9, p10, p11⟩, h⟩)
abbrev rmX1_undo_no : Room := { frames := 7, cells := 1, slots := 6, locals := 120 }
set_option maxHeartbeats 4000000 in
theorem c_X1_undo_no (D : zD) (A : Nat → Prop) {w m : zMp} {b : Nat} {K : Nat → Prop} {M : Int → Int} {ps : List (Int → Int)} {sv : Option (Int → Int)} {rp : Option (Int × Int × Int × Int)} {s : zS} {cs : Option (List zCn)} (hb : zX1 D w m K b M ps sv rp s cs) (hK : zHk K m) (hp : ps = []) : zC D yX1_undo cX1_undo 1 (some .int) none rmX1_undo_no A [.ref b] (cI D A w m) (zPe (fun (x : zMp × zMp) => none) (fun x => False) (fun x => cI D A x.1 x.2)) (xSt D A w m K b "java/lang/IllegalStateException" ciJ6 True M ps sv rp s cs) := by
  refine zC_start (L := [some (.ref b)]) (by decide) (Nat.le_of_ble_eq_true rfl) rfl (fun X hX => ?_)
  have hz0 := hb
  obtain ⟨lg, hl1, ia, sa, ra, ca, p1, p2, ⟨mc, xs, p3, p4⟩, -⟩ := hb
  have hxs : xs = [] := List.length_eq_zero_iff.mp (by rw [p4.1, hp]; rfl)
  refine z_aload_n (i := 0) (q := 1) hX dX1_undo_0 rfl rfl rfl ?_
  refine zr_get (C := RX1) (T := TX1) (N := 7) (q := 4) hX ciX1 2 rfl (by decide) in_X1 dX1_undo_1 q226 (Or.inl rfl) (fun H h => cI.rd h (by first | assumption | exact Or.inl (by assumption) | exact Or.inr (by first | assumption | exact upm_same _ _ _ | exact (upm_ne _ _ (by first | assumption | exact Ne.symm (by assumption) | omega | exact ne_mp (m := m) (by assumption) (by assumption) | exact Ne.symm (ne_mp (m := m) (by assumption) (by assumption)) | exact ne_mp (m := w) (by assumption) (by assumption) | exact Ne.symm (ne_mp (m := w) (by assumption) (by assumption)))).trans (by first | assumption | exact upm_same _ _ _ | exact (upm_ne _ _ (by first | assumption | exact Ne.symm (by assumption) | omega | exact ne_mp (m := m) (by assumption) (by assumption) | exact Ne.symm (ne_mp (m := m) (by assumption) (by assumption)) | exact ne_mp (m := w) (by assumption) (by assumption) | exact Ne.symm (ne_mp (m := w) (by assumption) (by assumption)))).trans (by first | assumption | exact upm_same _ _ _ | exact (upm_ne _ _ (by first | assumption | exact Ne.symm (by assumption) | omega | exact ne_mp (m := m) (by assumption) (by assumption) | exact Ne.symm (ne_mp (m := m) (by assumption) (by assumption)) | exact ne_mp (m := w) (by assumption) (by assumption) | exact Ne.symm (ne_mp (m := w) (by assumption) (by assumption)))).trans (by first | assumption | exact upm_same _ _ _))))) rfl (by decide) rfl) rfl ?_
  refine z_V (ci := ciJ2) (T := TJ2) (N := 3) (na := 0) hX dX1_undo_4 (c_J2_isEmpty D A (Or.inr p3) (by rw [hxs]; exact Nat.zero_le _)) rfl q1787 q1608 q1609 q101 q1610 (by decide +kernel) ⟨Nat.le_of_ble_eq_true rfl, Nat.le_of_ble_eq_true rfl⟩ rfl rfl (Nat.le_of_ble_eq_true rfl) rfl (by first | exact Nat.le_of_ble_eq_true rfl | (show _ + 0 ≤ 1; omega)) (by first | exact Nat.le_of_ble_eq_true rfl | (show _ + 0 ≤ 6; omega)) (fun H h => ⟨h, h.obL (Or.inr p3)⟩) (fun E a => zT.no) (zPd.out ?_)
  show zG X (_ + 0) (_ + 0) _ 7 _ _
  rw [hxs]
  refine z_ifB_ne (q := 10) (t := 14) hX dX1_undo_7 (by decide) rfl (fun h7 => ?_) (fun h7 => ?_)
  · refine z_iconst (q := 15) hX dX1_undo_14 rfl ?_
    refine zG.top (v2 := zI (bi false)) rfl ?_
    refine z_S (na := 1) hX dX1_undo_15 (c_X1_checkState D A (c := false)) q1282 q1283 q97 q1284 (by decide +kernel) ⟨Nat.le_of_ble_eq_true rfl, Nat.le_of_ble_eq_true rfl⟩ rfl rfl (Nat.le_of_ble_eq_true rfl) rfl (by first | exact Nat.le_of_ble_eq_true rfl | (show _ + 1 ≤ 1; omega)) (by first | exact Nat.le_of_ble_eq_true rfl | (show _ + 6 ≤ 6; omega)) (fun H h => h) (zXs.out (fun e15 => ?_)) (zPe.out (fun x15 hx15 => ?_))
    · refine zT.ax (fun hx15 => ?_)
      exact zT.out hX (by decide) (by first | exact Nat.le_of_ble_eq_true rfl | (show (_ : Nat) ≤ 1; omega)) (by first | exact Nat.le_of_ble_eq_true rfl | (show (_ : Nat) ≤ 6; omega)) (fun H h => xSt0 hK hz0 trivial h)
    show zG X (_ + 1) (_ + 6) _ 18 _ _
    cases hx15
  · cases h7
abbrev rmX1_save : Room := { frames := 8, cells := 51, slots := 2604, locals := 195 }
set_option maxHeartbeats 4000000 in
theorem c_X1_save (D : zD) (A : Nat → Prop) {w m : zMp} {b : Nat} {K : Nat → Prop} {M : Int → Int} {ps : List (Int → Int)} {sv : Option (Int → Int)} {rp : Option (Int × Int × Int × Int)} {s : zS} {cs : Option (List zCn)} (hb : zX1 D w m K b M ps sv rp s cs) (hK : zHk K m) : zC D yX1_save cX1_save 1 (some .int) none rmX1_save A [.ref b] (cI D A w m) (zPe (fun (x : zMp × zMp) => some (zI (M 0))) (fun x => pSt D w m K b True M ps (some M) rp s cs x) (fun x => cI D A x.1 x.2)) (zNo) := by
  refine zC_start (L := [some (.ref b)]) (by decide) (Nat.le_of_ble_eq_true rfl) rfl (fun X hX => ?_)
  obtain ⟨lg, hl1, ia, sa, ra, ca, hbf⟩ := hb
  have hbf : zX1b D w m K b lg hl1 ia sa ra ca M ps sv rp s cs := hbf
  have hbf0 := hbf
  obtain ⟨p1, ⟨hok, ll, ta, col, tc, mc, ls, tf, g1, g2, g3, g4, g5, g6, g7⟩, -, -, -, -, -, hkb, -⟩ := hbf
  have hM := hok.1
  have l1 := g3.1
  refine z_aload_n (i := 0) (q := 1) hX dX1_save_0 rfl rfl rfl ?_
  refine zc_new (q := 4) (fs := [.null, .null, zI 0, .null]) (C := RX2) (T := TX2) (N := 4) hX ciX2 rfl in_X2 tyX2_ok dX1_save_1 q149 q150 q98 (fun j hj => by match j, hj with | 0, _ => rfl | 1, _ => rfl | 2, _ => rfl | 3, _ => rfl | (_ + 4), h => exact absurd h (by omega)) (by first | exact Nat.le_of_ble_eq_true rfl | (show _ + 1 ≤ 51; omega)) (by first | exact Nat.le_of_ble_eq_true rfl | (show _ + 4 ≤ 2604; omega)) rfl (fun a1 ha1 hb1 => ?_)
  have n1 := hb1
  try simp only [upm_none] at n1
  repeat (have := And.left n1; replace n1 := And.right n1)
  refine z_dup (q := 5) hX dX1_save_4 rfl rfl ?_
  refine z_aload_n (i := 0) (q := 6) hX dX1_save_5 rfl rfl rfl ?_
  refine zr_get (C := RX1) (T := TX1) (N := 7) (q := 9) hX ciX1 0 rfl (by decide) in_X1 dX1_save_6 q224 (Or.inl rfl) (fun H h => cI.rd h (Or.inr ((upm_ne _ _ (Ne.symm (ne_mp hb1 p1))).trans p1)) rfl (by decide) rfl) rfl ?_
  refine z_C (na := 1) hX dX1_save_9 (c_X2_init_2 D A (M := M) (upm_same _ _ _) g1 g2 g4 hok g3 g5) q258 q259 q98 q260 rfl (by decide +kernel) ⟨Nat.le_of_ble_eq_true rfl, Nat.le_of_ble_eq_true rfl⟩ rfl rfl (Nat.le_of_ble_eq_true rfl) rfl (by first | exact Nat.le_of_ble_eq_true rfl | (show _ + 50 ≤ 51; omega)) (by first | exact Nat.le_of_ble_eq_true rfl | (show _ + 2600 ≤ 2604; omega)) (fun H h => h) (fun E a => zT.no) (zPe.out (fun x9 hx9 => ?_))
  show zG X (_ + 50) (_ + 2600) _ 12 _ _
  obtain ⟨n1, n2, n3, n4, n5, n6, n7, n8, n9⟩ := nlog (D := D) hK hb1 hx9.1
  rw [n1]
  have hts5 : wTs w x9.2.2 M := fun t ht => by rw [hx9.2 t ht]; exact g5 t ht
  refine zG.frzL n2 n7 (fun w2 hw2 q1 q2 q3 => ?_)
  have hkl : kLog D w2 (nMR D m x9.1) K a1 M := ⟨hok, x9.1.1, x9.1.2.1, x9.1.2.2.1, x9.1.2.2.2, x9.2.1, ls, x9.2.2, q1, q2, g3.le hw2, q3, hts5.le hw2, n6, n8⟩
  have hb7 := hbf0.le hw2 n4
  have hb8 := hb7
  obtain ⟨u1, u2, u3, u4, u5, u6, u7, -⟩ := hb8
  have hfin := hb7.put (sa2 := some a1) (sv2 := some M) u2 (Or.inr ⟨M, a1, rfl, rfl, hkl⟩) u5 u7
  refine zc_put (C := RX1) (T := TX1) (N := 7) (q := 15) hX ciX1 1 rfl (by decide) in_X1 tyX1_ok nmX1 dX1_save_12 q225 (Or.inl rfl) rfl u1 (Nat.le_of_ble_eq_true rfl) rfl rfl rfl rfl ?_
  refine z_aload_n (i := 0) (q := 16) hX dX1_save_15 rfl rfl rfl ?_
  refine zr_get (C := RX1) (T := TX1) (N := 7) (q := 19) hX ciX1 0 rfl (by decide) in_X1 dX1_save_16 q224 (Or.inl rfl) (fun H h => cI.rd h (Or.inr (upm_same _ _ _)) rfl (by decide) rfl) rfl ?_
  refine zr_getN (C := RX2) (T := TX2) (N := 4) (q := 22) hX ciX2 0 rfl (by decide) in_X2 dX1_save_19 (zNF_at 1 rfl) (fun H h => cI.rd h (Or.inl (hw2 _ _ g1)) rfl (by decide) rfl) rfl ?_
  refine z_V (ci := ciJ2) (T := TJ2) (N := 3) (na := 0) hX dX1_save_22 (c_J2_size D A (Or.inl (hw2 _ _ g2))) rfl q993 q467 q468 q101 q469 (by decide +kernel) ⟨Nat.le_of_ble_eq_true rfl, Nat.le_of_ble_eq_true rfl⟩ rfl rfl (Nat.le_of_ble_eq_true rfl) rfl (by first | exact Nat.le_of_ble_eq_true rfl | (show _ + 0 ≤ 51; omega)) (by first | exact Nat.le_of_ble_eq_true rfl | (show _ + 0 ≤ 2604; omega)) (fun H h => ⟨h, h.obL (Or.inl (hw2 _ _ g2))⟩) (fun E a => zT.no) (zPd.out ?_)
  show zG X (_ + 0) (_ + 0) _ 25 _ _
  exact z_iret hX dX1_save_25 (by first | exact Nat.le_of_ble_eq_true rfl | (show (_ : Nat) ≤ 51; omega)) (by first | exact Nat.le_of_ble_eq_true rfl | (show (_ : Nat) ≤ 2604; omega)) rfl (fun H h => ⟨(w2, _), by rw [l1, show (((M 0).toNat : Nat) : Int) = M 0 by omega], ⟨trivial, hw2, n5.tr (zFr.up hkb), hfin.x⟩, h⟩)
abbrev rmX1_restore_ok : Room := { frames := 8, cells := 52, slots := 2610, locals := 195 }
set_option maxHeartbeats 4000000 in
theorem c_X1_restore_ok (D : zD) (A : Nat → Prop) {w m : zMp} {b : Nat} {K : Nat → Prop} {M : Int → Int} {ps : List (Int → Int)} {sv : Option (Int → Int)} {rp : Option (Int × Int × Int × Int)} {s : zS} {cs : Option (List zCn)} {M9 : Int → Int} (hb : zX1 D w m K b M ps sv rp s cs) (hK : zHk K m) (hs : sv = some M9) : zC D yX1_restore cX1_restore 1 (some .int) none rmX1_restore_ok A [.ref b] (cI D A w m) (zPe (fun (x : zMp × zMp) => some (zI (M9 0))) (fun x => pSt D w m K b True M9 [] sv rp s cs x) (fun x => cI D A x.1 x.2)) (zNo) := by
  refine zC_start (L := [some (.ref b)]) (by decide) (Nat.le_of_ble_eq_true rfl) rfl (fun X hX => ?_)
  obtain ⟨lg, hl1, ia, sa, ra, ca, hbf⟩ := hb
  have hbf : zX1b D w m K b lg hl1 ia sa ra ca M ps sv rp s cs := hbf
  have hbf0 := hbf
  obtain ⟨p1, p2, ⟨mch, xs, p3, p4⟩, p5, p6, ⟨⟨f, p7, p7b⟩, p7c⟩, p8, hkb, hkl1, hkia⟩ := hbf
  have hxl := p4.1
  have hxl2 := p4.2.1
  rcases p5 with ⟨e, -⟩ | ⟨M8, a8, e, e2, k8⟩
  · rw [hs] at e; cases e
  rw [hs] at e
  cases e
  subst e2
  obtain ⟨hok, ll, ta, col, tc, mc, ls, tf, g1, g2, g3, g4, g5, g6, g7⟩ := k8
  have hM := hok.1
  have l1 := g3.1
  have hbl : b ≠ hl1 := fun e => by rw [e, p3] at p1; cases p1
  have hil : ia ≠ hl1 := fun e => by rw [e, p3] at p7; cases p7
  have hib : ia ≠ b := fun e => by rw [e, p1] at p7; cases p7
  refine z_aload_n (i := 0) (q := 1) hX dX1_restore_0 rfl rfl rfl ?_
  refine zr_get (C := RX1) (T := TX1) (N := 7) (q := 4) hX ciX1 1 rfl (by decide) in_X1 dX1_restore_1 q225 (Or.inl rfl) (fun H h => cI.rd h (by first | assumption | exact Or.inl (by assumption) | exact Or.inr (by first | assumption | exact upm_same _ _ _ | exact (upm_ne _ _ (by first | assumption | exact Ne.symm (by assumption) | omega | exact ne_mp (m := m) (by assumption) (by assumption) | exact Ne.symm (ne_mp (m := m) (by assumption) (by assumption)) | exact ne_mp (m := w) (by assumption) (by assumption) | exact Ne.symm (ne_mp (m := w) (by assumption) (by assumption)))).trans (by first | assumption | exact upm_same _ _ _ | exact (upm_ne _ _ (by first | assumption | exact Ne.symm (by assumption) | omega | exact ne_mp (m := m) (by assumption) (by assumption) | exact Ne.symm (ne_mp (m := m) (by assumption) (by assumption)) | exact ne_mp (m := w) (by assumption) (by assumption) | exact Ne.symm (ne_mp (m := w) (by assumption) (by assumption)))).trans (by first | assumption | exact upm_same _ _ _ | exact (upm_ne _ _ (by first | assumption | exact Ne.symm (by assumption) | omega | exact ne_mp (m := m) (by assumption) (by assumption) | exact Ne.symm (ne_mp (m := m) (by assumption) (by assumption)) | exact ne_mp (m := w) (by assumption) (by assumption) | exact Ne.symm (ne_mp (m := w) (by assumption) (by assumption)))).trans (by first | assumption | exact upm_same _ _ _))))) rfl (by decide) rfl) rfl ?_
  refine zG.top (v2 := .ref a8) rfl ?_
  refine z_ifnull (q := 7) hX dX1_restore_4 rfl ?_
  refine z_iconst (q := 8) hX dX1_restore_7 rfl ?_
  refine z_goto (t := 12) hX dX1_restore_8 (by decide) ?_
  refine zG.top (v2 := zI (bi true)) rfl ?_
  refine z_S (na := 1) hX dX1_restore_12 (c_X1_checkState D A (c := true)) q1282 q1283 q97 q1284 (by decide +kernel) ⟨Nat.le_of_ble_eq_true rfl, Nat.le_of_ble_eq_true rfl⟩ rfl rfl (Nat.le_of_ble_eq_true rfl) rfl (by first | exact Nat.le_of_ble_eq_true rfl | (show _ + 1 ≤ 52; omega)) (by first | exact Nat.le_of_ble_eq_true rfl | (show _ + 6 ≤ 2610; omega)) (fun H h => h) (zXs.out (fun e12 => ?_)) (zPe.out (fun x12 hx12 => ?_))
  · refine zT.ax (fun hx12 => ?_)
    cases hx12
  show zG X (_ + 1) (_ + 6) _ 15 _ _
  refine z_aload_n (i := 0) (q := 16) hX dX1_restore_15 rfl rfl rfl ?_
  refine zc_new (q := 19) (fs := [.null, .null, zI 0, .null]) (C := RX2) (T := TX2) (N := 4) hX ciX2 rfl in_X2 tyX2_ok dX1_restore_16 q149 q150 q98 (fun j hj => by match j, hj with | 0, _ => rfl | 1, _ => rfl | 2, _ => rfl | 3, _ => rfl | (_ + 4), h => exact absurd h (by omega)) (by first | exact Nat.le_of_ble_eq_true rfl | (show _ + 1 ≤ 52; omega)) (by first | exact Nat.le_of_ble_eq_true rfl | (show _ + 4 ≤ 2610; omega)) rfl (fun a16 ha16 hb16 => ?_)
  have n16 := hb16
  try simp only [upm_none] at n16
  repeat (have := And.left n16; replace n16 := And.right n16)
  refine z_dup (q := 20) hX dX1_restore_19 rfl rfl ?_
  refine z_aload_n (i := 0) (q := 21) hX dX1_restore_20 rfl rfl rfl ?_
  refine zr_get (C := RX1) (T := TX1) (N := 7) (q := 24) hX ciX1 1 rfl (by decide) in_X1 dX1_restore_21 q225 (Or.inl rfl) (fun H h => cI.rd h (Or.inr ((upm_ne _ _ (Ne.symm (ne_mp hb16 p1))).trans p1)) rfl (by decide) rfl) rfl ?_
  refine zG.top (v2 := .ref a8) rfl ?_
  refine z_C (na := 1) hX dX1_restore_24 (c_X2_init_2 D A (M := M9) (upm_same _ _ _) g1 g2 g4 hok g3 g5) q258 q259 q98 q260 rfl (by decide +kernel) ⟨Nat.le_of_ble_eq_true rfl, Nat.le_of_ble_eq_true rfl⟩ rfl rfl (Nat.le_of_ble_eq_true rfl) rfl (by first | exact Nat.le_of_ble_eq_true rfl | (show _ + 50 ≤ 52; omega)) (by first | exact Nat.le_of_ble_eq_true rfl | (show _ + 2600 ≤ 2610; omega)) (fun H h => h) (fun E a => zT.no) (zPe.out (fun x24 hx24 => ?_))
  show zG X (_ + 50) (_ + 2600) _ 27 _ _
  obtain ⟨n1, n2, n3, n4, n5, n6, n7, n8, n9⟩ := nlog (D := D) hK hb16 hx24.1
  rw [n1]
  have hts5 : wTs w x24.2.2 M9 := fun t ht => by rw [hx24.2 t ht]; exact g5 t ht
  refine zG.frzL n2 n7 (fun w2 hw2 q1 q2 q3 => ?_)
  have hkl : kLog D w2 (nMR D m x24.1) K a16 M9 := ⟨hok, x24.1.1, x24.1.2.1, x24.1.2.2.1, x24.1.2.2.2, x24.2.1, ls, x24.2.2, q1, q2, g3.le hw2, q3, hts5.le hw2, n6, n8⟩
  have hb7 := hbf0.le hw2 n4
  have hb8 := hb7
  obtain ⟨u1, u2, u3, u4, u5, u6, u7, -⟩ := hb8
  have hfin := hb7.put hkl u4 u5 u7
  have hf3 := (upm_ne (nMR D m x24.1) (eO ciX1 [.ref a16, va_rf (some a8), .ref hl1, va_rf ra, .ref ia, zI s.length, va_rf ca]) (Ne.symm hbl)).trans (n4 _ _ p3)
  refine zc_put (C := RX1) (T := TX1) (N := 7) (q := 30) hX ciX1 0 rfl (by decide) in_X1 tyX1_ok nmX1 dX1_restore_27 q224 (Or.inl rfl) rfl u1 (Nat.le_of_ble_eq_true rfl) rfl rfl rfl rfl ?_
  refine z_aload_n (i := 0) (q := 31) hX dX1_restore_30 rfl rfl rfl ?_
  refine zr_get (C := RX1) (T := TX1) (N := 7) (q := 34) hX ciX1 2 rfl (by decide) in_X1 dX1_restore_31 q226 (Or.inl rfl) (fun H h => cI.rd h (Or.inr (upm_same _ _ _)) rfl (by decide) rfl) rfl ?_
  refine z_V (ci := ciJ2) (T := TJ2) (N := 3) (na := 0) hX dX1_restore_34 (c_J2_clear D A hf3 (by omega)) rfl q1854 q1855 q1856 q101 q1857 (by decide +kernel) ⟨Nat.le_of_ble_eq_true rfl, Nat.le_of_ble_eq_true rfl⟩ rfl rfl (Nat.le_of_ble_eq_true rfl) rfl (by first | exact Nat.le_of_ble_eq_true rfl | (show _ + 0 ≤ 52; omega)) (by first | exact Nat.le_of_ble_eq_true rfl | (show _ + 0 ≤ 2610; omega)) (fun H h => ⟨h, h.obL (Or.inr hf3)⟩) (fun E a => zT.no) (zPv.out ?_)
  show zG X (_ + 0) (_ + 0) _ 37 _ _
  refine z_aload_n (i := 0) (q := 38) hX dX1_restore_37 rfl rfl rfl ?_
  refine zr_get (C := RX1) (T := TX1) (N := 7) (q := 41) hX ciX1 0 rfl (by decide) in_X1 dX1_restore_38 q224 (Or.inl rfl) (fun H h => cI.rd h (Or.inr ((upm_ne _ _ hbl).trans (upm_same _ _ _))) rfl (by decide) rfl) rfl ?_
  refine zr_getN (C := RX2) (T := TX2) (N := 4) (q := 44) hX ciX2 0 rfl (by decide) in_X2 dX1_restore_41 (zNF_at 1 rfl) (fun H h => cI.rd h (Or.inl q1) rfl (by decide) rfl) rfl ?_
  refine z_V (ci := ciJ2) (T := TJ2) (N := 3) (na := 0) hX dX1_restore_44 (c_J2_size D A (Or.inl q2)) rfl q993 q467 q468 q101 q469 (by decide +kernel) ⟨Nat.le_of_ble_eq_true rfl, Nat.le_of_ble_eq_true rfl⟩ rfl rfl (Nat.le_of_ble_eq_true rfl) rfl (by first | exact Nat.le_of_ble_eq_true rfl | (show _ + 0 ≤ 52; omega)) (by first | exact Nat.le_of_ble_eq_true rfl | (show _ + 0 ≤ 2610; omega)) (fun H h => ⟨h, h.obL (Or.inl q2)⟩) (fun E a => zT.no) (zPd.out ?_)
  show zG X (_ + 0) (_ + 0) _ 47 _ _
  exact z_iret hX dX1_restore_47 (by first | exact Nat.le_of_ble_eq_true rfl | (show (_ : Nat) ≤ 52; omega)) (by first | exact Nat.le_of_ble_eq_true rfl | (show (_ : Nat) ≤ 2610; omega)) rfl (fun H h => by
  obtain ⟨v1, v2, -, v4, v5, ⟨⟨f6, v6, v6b⟩, v6c⟩, v7, v8, v9, v10⟩ := hfin
  have c1 := upL_cg (D := D) (y := eL (mch + 1) []) hf3
  exact ⟨(w2, _), by rw [l1, show (((M9 0).toNat : Nat) : Int) = M9 0 by omega], ⟨trivial, hw2, (n5.tr (zFr.up hkb)).tr (zFr.up hkl1), a16, hl1, ia, some a8, ra, ca, (upm_ne _ _ hbl).trans v1, v2.of c1.1, ⟨_, [], upm_same _ _ _, rfl, by decide, fun i M hi => by cases hi⟩, v4.of c1.1, v5.of c1.2, ⟨⟨f6, (upm_ne _ _ hil).trans v6, v6b⟩, v6c⟩, v7, v8, v9, v10⟩, h⟩)
abbrev rmX1_restore_no : Room := { frames := 7, cells := 1, slots := 6, locals := 120 }
set_option maxHeartbeats 4000000 in
theorem c_X1_restore_no (D : zD) (A : Nat → Prop) {w m : zMp} {b : Nat} {K : Nat → Prop} {M : Int → Int} {ps : List (Int → Int)} {sv : Option (Int → Int)} {rp : Option (Int × Int × Int × Int)} {s : zS} {cs : Option (List zCn)} (hb : zX1 D w m K b M ps sv rp s cs) (hK : zHk K m) (hs : sv = none) : zC D yX1_restore cX1_restore 1 (some .int) none rmX1_restore_no A [.ref b] (cI D A w m) (zPe (fun (x : zMp × zMp) => none) (fun x => False) (fun x => cI D A x.1 x.2)) (xSt D A w m K b "java/lang/IllegalStateException" ciJ6 True M ps sv rp s cs) := by
  refine zC_start (L := [some (.ref b)]) (by decide) (Nat.le_of_ble_eq_true rfl) rfl (fun X hX => ?_)
  have hz0 := hb
  obtain ⟨lg, hl1, ia, sa, ra, ca, p1, p2, p3, p5, -⟩ := hb
  rcases p5 with ⟨e, e2⟩ | ⟨M8, a8, e, e2, k8⟩
  · subst e2
    refine z_aload_n (i := 0) (q := 1) hX dX1_restore_0 rfl rfl rfl ?_
    refine zr_get (C := RX1) (T := TX1) (N := 7) (q := 4) hX ciX1 1 rfl (by decide) in_X1 dX1_restore_1 q225 (Or.inl rfl) (fun H h => cI.rd h (by first | assumption | exact Or.inl (by assumption) | exact Or.inr (by first | assumption | exact upm_same _ _ _ | exact (upm_ne _ _ (by first | assumption | exact Ne.symm (by assumption) | omega | exact ne_mp (m := m) (by assumption) (by assumption) | exact Ne.symm (ne_mp (m := m) (by assumption) (by assumption)) | exact ne_mp (m := w) (by assumption) (by assumption) | exact Ne.symm (ne_mp (m := w) (by assumption) (by assumption)))).trans (by first | assumption | exact upm_same _ _ _ | exact (upm_ne _ _ (by first | assumption | exact Ne.symm (by assumption) | omega | exact ne_mp (m := m) (by assumption) (by assumption) | exact Ne.symm (ne_mp (m := m) (by assumption) (by assumption)) | exact ne_mp (m := w) (by assumption) (by assumption) | exact Ne.symm (ne_mp (m := w) (by assumption) (by assumption)))).trans (by first | assumption | exact upm_same _ _ _ | exact (upm_ne _ _ (by first | assumption | exact Ne.symm (by assumption) | omega | exact ne_mp (m := m) (by assumption) (by assumption) | exact Ne.symm (ne_mp (m := m) (by assumption) (by assumption)) | exact ne_mp (m := w) (by assumption) (by assumption) | exact Ne.symm (ne_mp (m := w) (by assumption) (by assumption)))).trans (by first | assumption | exact upm_same _ _ _))))) rfl (by decide) rfl) rfl ?_
    refine zG.top (v2 := .null) rfl ?_
    refine z_ifnullN (t := 11) hX dX1_restore_4 (by decide) ?_
    refine z_iconst (q := 12) hX dX1_restore_11 rfl ?_
    refine zG.top (v2 := zI (bi false)) rfl ?_
    refine z_S (na := 1) hX dX1_restore_12 (c_X1_checkState D A (c := false)) q1282 q1283 q97 q1284 (by decide +kernel) ⟨Nat.le_of_ble_eq_true rfl, Nat.le_of_ble_eq_true rfl⟩ rfl rfl (Nat.le_of_ble_eq_true rfl) rfl (by first | exact Nat.le_of_ble_eq_true rfl | (show _ + 1 ≤ 1; omega)) (by first | exact Nat.le_of_ble_eq_true rfl | (show _ + 6 ≤ 6; omega)) (fun H h => h) (zXs.out (fun e12 => ?_)) (zPe.out (fun x12 hx12 => ?_))
    · refine zT.ax (fun hx12 => ?_)
      exact zT.out hX (by decide) (by first | exact Nat.le_of_ble_eq_true rfl | (show (_ : Nat) ≤ 1; omega)) (by first | exact Nat.le_of_ble_eq_true rfl | (show (_ : Nat) ≤ 6; omega)) (fun H h => xSt0 hK hz0 trivial h)
    show zG X (_ + 1) (_ + 6) _ 15 _ _
    cases hx12
  · rw [hs] at e; cases e
abbrev rmX1_checkQuery : Room := { frames := 6, cells := 1, slots := 6, locals := 100 }
set_option maxHeartbeats 4000000 in
theorem c_X1_checkQuery (D : zD) (A : Nat → Prop) {w m : zMp} {b : Nat} {K : Nat → Prop} {M : Int → Int} {ps : List (Int → Int)} {sv : Option (Int → Int)} {rp : Option (Int × Int × Int × Int)} {s : zS} {cs : Option (List zCn)} (hb : zX1 D w m K b M ps sv rp s cs) : zC D yX1_checkQuery cX1_checkQuery 1 none none rmX1_checkQuery A [.ref b] (cI D A w m) (zPe (fun (x : Unit) => none) (fun _ => cs ≠ none) (fun _ => cI D A w m)) (xEx D A w m "java/util/NoSuchElementException" ciJ9 (cs = none)) := by
  refine zC_start (L := [some (.ref b)]) (by decide) (Nat.le_of_ble_eq_true rfl) rfl (fun X hX => ?_)
  obtain ⟨lg, hl1, ia, sa, ra, ca, p1, p2, p3, p5, p6, p7, p8, -⟩ := hb
  rcases p8 with ⟨e, e2⟩ | ⟨cl, a, mc, xs, e, e2, -⟩
  · subst e2
    refine z_aload_n (i := 0) (q := 1) hX dX1_checkQuery_0 rfl rfl rfl ?_
    refine zr_get (C := RX1) (T := TX1) (N := 7) (q := 4) hX ciX1 6 rfl (by decide) in_X1 dX1_checkQuery_1 q232 (Or.inl rfl) (fun H h => cI.rd h (by first | assumption | exact Or.inl (by assumption) | exact Or.inr (by first | assumption | exact upm_same _ _ _ | exact (upm_ne _ _ (by first | assumption | exact Ne.symm (by assumption) | omega | exact ne_mp (m := m) (by assumption) (by assumption) | exact Ne.symm (ne_mp (m := m) (by assumption) (by assumption)) | exact ne_mp (m := w) (by assumption) (by assumption) | exact Ne.symm (ne_mp (m := w) (by assumption) (by assumption)))).trans (by first | assumption | exact upm_same _ _ _ | exact (upm_ne _ _ (by first | assumption | exact Ne.symm (by assumption) | omega | exact ne_mp (m := m) (by assumption) (by assumption) | exact Ne.symm (ne_mp (m := m) (by assumption) (by assumption)) | exact ne_mp (m := w) (by assumption) (by assumption) | exact Ne.symm (ne_mp (m := w) (by assumption) (by assumption)))).trans (by first | assumption | exact upm_same _ _ _ | exact (upm_ne _ _ (by first | assumption | exact Ne.symm (by assumption) | omega | exact ne_mp (m := m) (by assumption) (by assumption) | exact Ne.symm (ne_mp (m := m) (by assumption) (by assumption)) | exact ne_mp (m := w) (by assumption) (by assumption) | exact Ne.symm (ne_mp (m := w) (by assumption) (by assumption)))).trans (by first | assumption | exact upm_same _ _ _))))) rfl (by decide) rfl) rfl ?_
    refine zG.top (v2 := .null) rfl ?_
    refine z_ifnonnullN (q := 7) hX dX1_checkQuery_4 rfl ?_
    refine zc_throw0 (q := 14) (names := ["java/lang/RuntimeException", "java/lang/Exception"]) hX ciJ9 (C := RJ9) (T := zT0) (N := 0) rfl (by decide +kernel) (by decide +kernel) q1756 q110 xa_X1_279 xg_X1_279 dX1_checkQuery_7 dX1_checkQuery_10 dX1_checkQuery_11 dX1_checkQuery_14 (Nat.le_of_ble_eq_true rfl) rfl (Nat.le_of_ble_eq_true rfl) (Nat.le_of_ble_eq_true rfl) (by first | exact Nat.le_of_ble_eq_true rfl | (show _ + 1 ≤ 1; omega)) (by first | exact Nat.le_of_ble_eq_true rfl | (show _ + 6 ≤ 6; omega)) rfl (fun e7 he7 hf7 => ?_)
    exact zT.out hX (by decide) (by first | exact Nat.le_of_ble_eq_true rfl | (show (_ : Nat) ≤ 1; omega)) (by first | exact Nat.le_of_ble_eq_true rfl | (show (_ : Nat) ≤ 6; omega)) (fun H h => xExI e ⟨⟨he7, hf7⟩, h⟩)
  · subst e2
    refine z_aload_n (i := 0) (q := 1) hX dX1_checkQuery_0 rfl rfl rfl ?_
    refine zr_get (C := RX1) (T := TX1) (N := 7) (q := 4) hX ciX1 6 rfl (by decide) in_X1 dX1_checkQuery_1 q232 (Or.inl rfl) (fun H h => cI.rd h (by first | assumption | exact Or.inl (by assumption) | exact Or.inr (by first | assumption | exact upm_same _ _ _ | exact (upm_ne _ _ (by first | assumption | exact Ne.symm (by assumption) | omega | exact ne_mp (m := m) (by assumption) (by assumption) | exact Ne.symm (ne_mp (m := m) (by assumption) (by assumption)) | exact ne_mp (m := w) (by assumption) (by assumption) | exact Ne.symm (ne_mp (m := w) (by assumption) (by assumption)))).trans (by first | assumption | exact upm_same _ _ _ | exact (upm_ne _ _ (by first | assumption | exact Ne.symm (by assumption) | omega | exact ne_mp (m := m) (by assumption) (by assumption) | exact Ne.symm (ne_mp (m := m) (by assumption) (by assumption)) | exact ne_mp (m := w) (by assumption) (by assumption) | exact Ne.symm (ne_mp (m := w) (by assumption) (by assumption)))).trans (by first | assumption | exact upm_same _ _ _ | exact (upm_ne _ _ (by first | assumption | exact Ne.symm (by assumption) | omega | exact ne_mp (m := m) (by assumption) (by assumption) | exact Ne.symm (ne_mp (m := m) (by assumption) (by assumption)) | exact ne_mp (m := w) (by assumption) (by assumption) | exact Ne.symm (ne_mp (m := w) (by assumption) (by assumption)))).trans (by first | assumption | exact upm_same _ _ _))))) rfl (by decide) rfl) rfl ?_
    refine zG.top (v2 := .ref a) rfl ?_
    refine z_ifnonnull (t := 15) hX dX1_checkQuery_4 (by decide) ?_
    exact z_vret hX dX1_checkQuery_15 (by first | exact Nat.le_of_ble_eq_true rfl | (show (_ : Nat) ≤ 1; omega)) (by first | exact Nat.le_of_ble_eq_true rfl | (show (_ : Nat) ≤ 6; omega)) rfl (fun H h => ⟨(), rfl, by rw [e]; exact fun q => (by cases q), h⟩)
abbrev rmX1_holdsBut : Room := { frames := 11, cells := 0, slots := 0, locals := 243 }
set_option maxHeartbeats 4000000 in
theorem c_X1_holdsBut (D : zD) (A : Nat → Prop) {w m : zMp} {b : Nat} {K : Nat → Prop} {M : Int → Int} {ps : List (Int → Int)} {sv : Option (Int → Int)} {rp : Option (Int × Int × Int × Int)} {s : zS} {cl : List zCn} {l e : Int} (hb : zX1 D w m K b M ps sv rp s (some cl)) (hl : 0 ≤ l ∧ l < M 0) (he : zR e) : zC D yX1_holdsBut cX1_holdsBut 5 (some .boolean) none rmX1_holdsBut A [.ref b, zI (l), zI (e)] (cI D A w m) (zPd (zI (bi (hbB M cl l e))) (cI D A w m)) (zNo) := by
  refine zC_start (L := [some (.ref b), some (zI (l)), some (zI (e)), none, none]) (by decide) (Nat.le_of_ble_eq_true rfl) rfl (fun X hX => ?_)
  obtain ⟨lg, hl1, ia, sa, ra, ca, p1, ⟨hok, ll, ta, col, tc, mc, ls, tf, g1, g2, g3, g4, g5, g6, g7⟩, p3, p5, p6, p7, p8, -⟩ := hb
  have hg : wLog D w m lg M ll ta col := ⟨hok, Or.inl g1, ⟨mc, ls, Or.inl g2, g3⟩, tf, Or.inl g4, g5⟩
  have hM := hok.1
  rcases p8 with ⟨e3, -⟩ | ⟨cl2, a, mc9, xs, e3, e4, k1, k2, k3⟩
  · cases e3
  cases e3
  subst e4
  have k20 := k2.1
  have k30' := k3.1
  have K5 : ∀ i : Nat, i ≤ cl.length → ∀ (v : Bool) (p : Int), v = allI (fun i => decide (i = e) || cnA M cl l i) i → p = i → zG X 0 0 (cI D A w m) 5 [some (.ref b), some (zI (l)), some (zI (e)), some (zI (bi (v))), some (zI (p))] [] := by
    refine z_up (fun i hi ih v p ev ep => ?_)
    subst ep
    have hst : allI (fun i => decide (i = e) || cnA M cl l i) (i + 1) = (allI (fun i => decide (i = e) || cnA M cl l i) i && (decide ((i : Int) = e) || cnA M cl l i)) := rfl
    by_cases hin : i < cl.length
    · have hci : cl[i]? = some cl[i] := List.getElem?_eq_getElem hin
      obtain ⟨x, q1, q2⟩ := k2.2 i _ hci
      have hA : cnA M cl l (i : Int) = cnB M l cl[i] := by unfold cnA; rw [Int.toNat_natCast, hci]
      have hn4 := k3.2 _ (List.getElem_mem hin)
      clear hci
      have k30 := k3.1
      generalize cl[i] = c at q2 hA hn4
      by_cases hie : (i : Int) = e
      · have hz9 : True := trivial
        refine z_iload (q := 7) hX dX1_holdsBut_5 rfl rfl ?_
        refine z_aload_n (i := 0) (q := 8) hX dX1_holdsBut_7 rfl rfl rfl ?_
        refine zr_get (C := RX1) (T := TX1) (N := 7) (q := 11) hX ciX1 6 rfl (by decide) in_X1 dX1_holdsBut_8 q232 (Or.inl rfl) (fun H h => cI.rd h (by first | assumption | exact Or.inl (by assumption) | exact Or.inr (by first | assumption | exact upm_same _ _ _ | exact (upm_ne _ _ (by first | assumption | exact Ne.symm (by assumption) | omega | exact ne_mp (m := m) (by assumption) (by assumption) | exact Ne.symm (ne_mp (m := m) (by assumption) (by assumption)) | exact ne_mp (m := w) (by assumption) (by assumption) | exact Ne.symm (ne_mp (m := w) (by assumption) (by assumption)))).trans (by first | assumption | exact upm_same _ _ _ | exact (upm_ne _ _ (by first | assumption | exact Ne.symm (by assumption) | omega | exact ne_mp (m := m) (by assumption) (by assumption) | exact Ne.symm (ne_mp (m := m) (by assumption) (by assumption)) | exact ne_mp (m := w) (by assumption) (by assumption) | exact Ne.symm (ne_mp (m := w) (by assumption) (by assumption)))).trans (by first | assumption | exact upm_same _ _ _ | exact (upm_ne _ _ (by first | assumption | exact Ne.symm (by assumption) | omega | exact ne_mp (m := m) (by assumption) (by assumption) | exact Ne.symm (ne_mp (m := m) (by assumption) (by assumption)) | exact ne_mp (m := w) (by assumption) (by assumption) | exact Ne.symm (ne_mp (m := w) (by assumption) (by assumption)))).trans (by first | assumption | exact upm_same _ _ _))))) rfl (by decide) rfl) rfl ?_
        refine zG.top (v2 := .ref a) rfl ?_
        refine z_V (ci := ciJ2) (T := TJ2) (N := 3) (na := 0) hX dX1_holdsBut_11 (c_J2_size D A (Or.inl k1)) rfl q993 q467 q468 q101 q469 (by decide +kernel) ⟨Nat.le_of_ble_eq_true rfl, Nat.le_of_ble_eq_true rfl⟩ rfl rfl (Nat.le_of_ble_eq_true rfl) rfl (by first | exact Nat.le_of_ble_eq_true rfl | (show _ + 0 ≤ 0; omega)) (by first | exact Nat.le_of_ble_eq_true rfl | (show _ + 0 ≤ 0; omega)) (fun H h => ⟨h, h.obL (Or.inl k1)⟩) (fun E a => zT.no) (zPd.out ?_)
        show zG X (_ + 0) (_ + 0) _ 14 _ _
        refine z_icmp_ge (q := 17) (t := 60) hX dX1_holdsBut_14 (by decide) ⟨by omega, by omega⟩ ⟨by omega, by omega⟩ rfl (fun h14 => ?_) (fun h14 => ?_)
        · exact absurd h14 (by omega)
        · refine z_iload_n (i := 3) (q := 18) hX dX1_holdsBut_17 rfl rfl rfl ?_
          refine z_iload (q := 20) hX dX1_holdsBut_18 rfl rfl ?_
          refine z_iload_n (i := 2) (q := 21) hX dX1_holdsBut_20 rfl rfl rfl ?_
          refine z_icmp_eq (q := 24) (t := 47) hX dX1_holdsBut_21 (by decide) ⟨by omega, by omega⟩ he rfl (fun h21 => ?_) (fun h21 => ?_)
          · refine z_iconst (q := 48) hX dX1_holdsBut_47 rfl ?_
            refine z_goto (t := 52) hX dX1_holdsBut_48 (by decide) ?_
            refine zG.top (v2 := zI (bi true)) rfl ?_
            refine z_iand (q := 53) hX dX1_holdsBut_52 (bi_iand _ _) rfl ?_
            refine z_istore_n (i := 3) (q := 54) hX dX1_holdsBut_53 rfl (Nat.le_of_ble_eq_true rfl) rfl rfl ?_
            refine z_iinc (q := 57) hX dX1_holdsBut_54 rfl (Nat.le_of_ble_eq_true rfl) rfl rfl ?_
            refine z_goto (t := 5) hX dX1_holdsBut_57 (by decide) ?_
            exact ih hin _ _ (by rw [hst, decide_eq_true hie, Bool.true_or, ev]) rfl
          · exact absurd hie h21
      · have hdec : (decide ((i : Int) = e) || cnA M cl l i) = cnB M l c := by rw [decide_eq_false hie, Bool.false_or, hA]
        obtain ⟨n, c0⟩ := c
        match n, q2, hdec, hn4 with
        | 0, q2, hdec, hn4 =>
          rcases q2 with ⟨r1, hw9, r3⟩ | ⟨r1, y, hw9, r3⟩ | ⟨r1, hw9, r3, r4, r5⟩
          · have hv9 : cnB M l (0, c0) = decide (M (43 + l) = c0.2.2.2.1) := if_pos r1
            refine z_iload (q := 7) hX dX1_holdsBut_5 rfl rfl ?_
            refine z_aload_n (i := 0) (q := 8) hX dX1_holdsBut_7 rfl rfl rfl ?_
            refine zr_get (C := RX1) (T := TX1) (N := 7) (q := 11) hX ciX1 6 rfl (by decide) in_X1 dX1_holdsBut_8 q232 (Or.inl rfl) (fun H h => cI.rd h (by first | assumption | exact Or.inl (by assumption) | exact Or.inr (by first | assumption | exact upm_same _ _ _ | exact (upm_ne _ _ (by first | assumption | exact Ne.symm (by assumption) | omega | exact ne_mp (m := m) (by assumption) (by assumption) | exact Ne.symm (ne_mp (m := m) (by assumption) (by assumption)) | exact ne_mp (m := w) (by assumption) (by assumption) | exact Ne.symm (ne_mp (m := w) (by assumption) (by assumption)))).trans (by first | assumption | exact upm_same _ _ _ | exact (upm_ne _ _ (by first | assumption | exact Ne.symm (by assumption) | omega | exact ne_mp (m := m) (by assumption) (by assumption) | exact Ne.symm (ne_mp (m := m) (by assumption) (by assumption)) | exact ne_mp (m := w) (by assumption) (by assumption) | exact Ne.symm (ne_mp (m := w) (by assumption) (by assumption)))).trans (by first | assumption | exact upm_same _ _ _ | exact (upm_ne _ _ (by first | assumption | exact Ne.symm (by assumption) | omega | exact ne_mp (m := m) (by assumption) (by assumption) | exact Ne.symm (ne_mp (m := m) (by assumption) (by assumption)) | exact ne_mp (m := w) (by assumption) (by assumption) | exact Ne.symm (ne_mp (m := w) (by assumption) (by assumption)))).trans (by first | assumption | exact upm_same _ _ _))))) rfl (by decide) rfl) rfl ?_
            refine zG.top (v2 := .ref a) rfl ?_
            refine z_V (ci := ciJ2) (T := TJ2) (N := 3) (na := 0) hX dX1_holdsBut_11 (c_J2_size D A (Or.inl k1)) rfl q993 q467 q468 q101 q469 (by decide +kernel) ⟨Nat.le_of_ble_eq_true rfl, Nat.le_of_ble_eq_true rfl⟩ rfl rfl (Nat.le_of_ble_eq_true rfl) rfl (by first | exact Nat.le_of_ble_eq_true rfl | (show _ + 0 ≤ 0; omega)) (by first | exact Nat.le_of_ble_eq_true rfl | (show _ + 0 ≤ 0; omega)) (fun H h => ⟨h, h.obL (Or.inl k1)⟩) (fun E a => zT.no) (zPd.out ?_)
            show zG X (_ + 0) (_ + 0) _ 14 _ _
            refine z_icmp_ge (q := 17) (t := 60) hX dX1_holdsBut_14 (by decide) ⟨by omega, by omega⟩ ⟨by omega, by omega⟩ rfl (fun h14 => ?_) (fun h14 => ?_)
            · exact absurd h14 (by omega)
            · refine z_iload_n (i := 3) (q := 18) hX dX1_holdsBut_17 rfl rfl rfl ?_
              refine z_iload (q := 20) hX dX1_holdsBut_18 rfl rfl ?_
              refine z_iload_n (i := 2) (q := 21) hX dX1_holdsBut_20 rfl rfl rfl ?_
              refine z_icmp_eq (q := 24) (t := 47) hX dX1_holdsBut_21 (by decide) ⟨by omega, by omega⟩ he rfl (fun h21 => ?_) (fun h21 => ?_)
              · exact absurd h21 hie
              · refine z_aload_n (i := 0) (q := 25) hX dX1_holdsBut_24 rfl rfl rfl ?_
                refine zr_get (C := RX1) (T := TX1) (N := 7) (q := 28) hX ciX1 6 rfl (by decide) in_X1 dX1_holdsBut_25 q232 (Or.inl rfl) (fun H h => cI.rd h (by first | assumption | exact Or.inl (by assumption) | exact Or.inr (by first | assumption | exact upm_same _ _ _ | exact (upm_ne _ _ (by first | assumption | exact Ne.symm (by assumption) | omega | exact ne_mp (m := m) (by assumption) (by assumption) | exact Ne.symm (ne_mp (m := m) (by assumption) (by assumption)) | exact ne_mp (m := w) (by assumption) (by assumption) | exact Ne.symm (ne_mp (m := w) (by assumption) (by assumption)))).trans (by first | assumption | exact upm_same _ _ _ | exact (upm_ne _ _ (by first | assumption | exact Ne.symm (by assumption) | omega | exact ne_mp (m := m) (by assumption) (by assumption) | exact Ne.symm (ne_mp (m := m) (by assumption) (by assumption)) | exact ne_mp (m := w) (by assumption) (by assumption) | exact Ne.symm (ne_mp (m := w) (by assumption) (by assumption)))).trans (by first | assumption | exact upm_same _ _ _ | exact (upm_ne _ _ (by first | assumption | exact Ne.symm (by assumption) | omega | exact ne_mp (m := m) (by assumption) (by assumption) | exact Ne.symm (ne_mp (m := m) (by assumption) (by assumption)) | exact ne_mp (m := w) (by assumption) (by assumption) | exact Ne.symm (ne_mp (m := w) (by assumption) (by assumption)))).trans (by first | assumption | exact upm_same _ _ _))))) rfl (by decide) rfl) rfl ?_
                refine zG.top (v2 := .ref a) rfl ?_
                refine z_iload (q := 30) hX dX1_holdsBut_28 rfl rfl ?_
                refine z_V (ci := ciJ2) (T := TJ2) (N := 3) (na := 1) hX dX1_holdsBut_30 (c_J2_get D A (Or.inl k1) (by omega) (by rw [Int.toNat_natCast]; exact q1) (by omega)) rfl q1164 q471 q472 q101 q473 (by decide +kernel) ⟨Nat.le_of_ble_eq_true rfl, Nat.le_of_ble_eq_true rfl⟩ rfl rfl (Nat.le_of_ble_eq_true rfl) rfl (by first | exact Nat.le_of_ble_eq_true rfl | (show _ + 0 ≤ 0; omega)) (by first | exact Nat.le_of_ble_eq_true rfl | (show _ + 0 ≤ 0; omega)) (fun H h => ⟨h, h.obL (Or.inl k1)⟩) (fun E a => zT.no) (zPd.out ?_)
                show zG X (_ + 0) (_ + 0) _ 33 _ _
                refine zr_castY (q := 36) (C := RX12) (T := TX12) (N := 1) hX ciX12 rfl dX1_holdsBut_33 q1165 (zCs_at 13 rfl) (fun H h => cI.obE h (Or.inl hw9) rfl) rfl ?_
                refine z_aload_n (i := 0) (q := 37) hX dX1_holdsBut_36 rfl rfl rfl ?_
                refine zr_get (C := RX1) (T := TX1) (N := 7) (q := 40) hX ciX1 0 rfl (by decide) in_X1 dX1_holdsBut_37 q224 (Or.inl rfl) (fun H h => cI.rd h (by first | assumption | exact Or.inl (by assumption) | exact Or.inr (by first | assumption | exact upm_same _ _ _ | exact (upm_ne _ _ (by first | assumption | exact Ne.symm (by assumption) | omega | exact ne_mp (m := m) (by assumption) (by assumption) | exact Ne.symm (ne_mp (m := m) (by assumption) (by assumption)) | exact ne_mp (m := w) (by assumption) (by assumption) | exact Ne.symm (ne_mp (m := w) (by assumption) (by assumption)))).trans (by first | assumption | exact upm_same _ _ _ | exact (upm_ne _ _ (by first | assumption | exact Ne.symm (by assumption) | omega | exact ne_mp (m := m) (by assumption) (by assumption) | exact Ne.symm (ne_mp (m := m) (by assumption) (by assumption)) | exact ne_mp (m := w) (by assumption) (by assumption) | exact Ne.symm (ne_mp (m := w) (by assumption) (by assumption)))).trans (by first | assumption | exact upm_same _ _ _ | exact (upm_ne _ _ (by first | assumption | exact Ne.symm (by assumption) | omega | exact ne_mp (m := m) (by assumption) (by assumption) | exact Ne.symm (ne_mp (m := m) (by assumption) (by assumption)) | exact ne_mp (m := w) (by assumption) (by assumption) | exact Ne.symm (ne_mp (m := w) (by assumption) (by assumption)))).trans (by first | assumption | exact upm_same _ _ _))))) rfl (by decide) rfl) rfl ?_
                refine z_iload_n (i := 1) (q := 41) hX dX1_holdsBut_40 rfl rfl rfl ?_
                refine z_VU (x := ⟨"LogCompactor$Condition", "holds", "(LLogCompactor$Log;I)Z"⟩) (owner := "LogCompactor$Condition") (ci := ciX12) (C := RX12) (T := TX12) (N := 1) (na := 2) hX dX1_holdsBut_41 (c_X12_holds D A hw9 r3 hg hl) rfl q1166 q1168 q1268 q1253 q136 q1254 (Or.inr (zDs_at 0 rfl)) (by decide +kernel) ⟨Nat.le_of_ble_eq_true rfl, Nat.le_of_ble_eq_true rfl⟩ rfl rfl (Nat.le_of_ble_eq_true rfl) rfl (by first | exact Nat.le_of_ble_eq_true rfl | (show _ + 0 ≤ 0; omega)) (by first | exact Nat.le_of_ble_eq_true rfl | (show _ + 0 ≤ 0; omega)) (fun H h => ⟨h, h.obE (Or.inl hw9) rfl⟩) (fun E a => zT.no) (zPd.out ?_)
                show zG X (_ + 0) (_ + 0) _ 44 _ _
                refine z_ifB_eq (q := 47) (t := 51) hX dX1_holdsBut_44 (by decide) rfl (fun h44 => ?_) (fun h44 => ?_)
                · refine z_iconst (q := 52) hX dX1_holdsBut_51 rfl ?_
                  refine zG.top (v2 := zI (bi false)) rfl ?_
                  refine z_iand (q := 53) hX dX1_holdsBut_52 (bi_iand _ _) rfl ?_
                  refine z_istore_n (i := 3) (q := 54) hX dX1_holdsBut_53 rfl (Nat.le_of_ble_eq_true rfl) rfl rfl ?_
                  refine z_iinc (q := 57) hX dX1_holdsBut_54 rfl (Nat.le_of_ble_eq_true rfl) rfl rfl ?_
                  refine z_goto (t := 5) hX dX1_holdsBut_57 (by decide) ?_
                  exact ih hin _ _ (by rw [hst, hdec, hv9, h44, ev]) rfl
                · refine z_iconst (q := 48) hX dX1_holdsBut_47 rfl ?_
                  refine z_goto (t := 52) hX dX1_holdsBut_48 (by decide) ?_
                  refine zG.top (v2 := zI (bi true)) rfl ?_
                  refine z_iand (q := 53) hX dX1_holdsBut_52 (bi_iand _ _) rfl ?_
                  refine z_istore_n (i := 3) (q := 54) hX dX1_holdsBut_53 rfl (Nat.le_of_ble_eq_true rfl) rfl rfl ?_
                  refine z_iinc (q := 57) hX dX1_holdsBut_54 rfl (Nat.le_of_ble_eq_true rfl) rfl rfl ?_
                  refine z_goto (t := 5) hX dX1_holdsBut_57 (by decide) ?_
                  exact ih hin _ _ (by rw [hst, hdec, hv9, h44, ev]) rfl
          · have hv9 : cnB M l (0, c0) = hwI M l c0.2.2.2.2 := (if_neg (show ¬ c0.1 = 35 from fun q => by have r1z : c0.1 = _ := r1; omega)).trans (if_pos r1)
            refine z_iload (q := 7) hX dX1_holdsBut_5 rfl rfl ?_
            refine z_aload_n (i := 0) (q := 8) hX dX1_holdsBut_7 rfl rfl rfl ?_
            refine zr_get (C := RX1) (T := TX1) (N := 7) (q := 11) hX ciX1 6 rfl (by decide) in_X1 dX1_holdsBut_8 q232 (Or.inl rfl) (fun H h => cI.rd h (by first | assumption | exact Or.inl (by assumption) | exact Or.inr (by first | assumption | exact upm_same _ _ _ | exact (upm_ne _ _ (by first | assumption | exact Ne.symm (by assumption) | omega | exact ne_mp (m := m) (by assumption) (by assumption) | exact Ne.symm (ne_mp (m := m) (by assumption) (by assumption)) | exact ne_mp (m := w) (by assumption) (by assumption) | exact Ne.symm (ne_mp (m := w) (by assumption) (by assumption)))).trans (by first | assumption | exact upm_same _ _ _ | exact (upm_ne _ _ (by first | assumption | exact Ne.symm (by assumption) | omega | exact ne_mp (m := m) (by assumption) (by assumption) | exact Ne.symm (ne_mp (m := m) (by assumption) (by assumption)) | exact ne_mp (m := w) (by assumption) (by assumption) | exact Ne.symm (ne_mp (m := w) (by assumption) (by assumption)))).trans (by first | assumption | exact upm_same _ _ _ | exact (upm_ne _ _ (by first | assumption | exact Ne.symm (by assumption) | omega | exact ne_mp (m := m) (by assumption) (by assumption) | exact Ne.symm (ne_mp (m := m) (by assumption) (by assumption)) | exact ne_mp (m := w) (by assumption) (by assumption) | exact Ne.symm (ne_mp (m := w) (by assumption) (by assumption)))).trans (by first | assumption | exact upm_same _ _ _))))) rfl (by decide) rfl) rfl ?_
            refine zG.top (v2 := .ref a) rfl ?_
            refine z_V (ci := ciJ2) (T := TJ2) (N := 3) (na := 0) hX dX1_holdsBut_11 (c_J2_size D A (Or.inl k1)) rfl q993 q467 q468 q101 q469 (by decide +kernel) ⟨Nat.le_of_ble_eq_true rfl, Nat.le_of_ble_eq_true rfl⟩ rfl rfl (Nat.le_of_ble_eq_true rfl) rfl (by first | exact Nat.le_of_ble_eq_true rfl | (show _ + 0 ≤ 0; omega)) (by first | exact Nat.le_of_ble_eq_true rfl | (show _ + 0 ≤ 0; omega)) (fun H h => ⟨h, h.obL (Or.inl k1)⟩) (fun E a => zT.no) (zPd.out ?_)
            show zG X (_ + 0) (_ + 0) _ 14 _ _
            refine z_icmp_ge (q := 17) (t := 60) hX dX1_holdsBut_14 (by decide) ⟨by omega, by omega⟩ ⟨by omega, by omega⟩ rfl (fun h14 => ?_) (fun h14 => ?_)
            · exact absurd h14 (by omega)
            · refine z_iload_n (i := 3) (q := 18) hX dX1_holdsBut_17 rfl rfl rfl ?_
              refine z_iload (q := 20) hX dX1_holdsBut_18 rfl rfl ?_
              refine z_iload_n (i := 2) (q := 21) hX dX1_holdsBut_20 rfl rfl rfl ?_
              refine z_icmp_eq (q := 24) (t := 47) hX dX1_holdsBut_21 (by decide) ⟨by omega, by omega⟩ he rfl (fun h21 => ?_) (fun h21 => ?_)
              · exact absurd h21 hie
              · refine z_aload_n (i := 0) (q := 25) hX dX1_holdsBut_24 rfl rfl rfl ?_
                refine zr_get (C := RX1) (T := TX1) (N := 7) (q := 28) hX ciX1 6 rfl (by decide) in_X1 dX1_holdsBut_25 q232 (Or.inl rfl) (fun H h => cI.rd h (by first | assumption | exact Or.inl (by assumption) | exact Or.inr (by first | assumption | exact upm_same _ _ _ | exact (upm_ne _ _ (by first | assumption | exact Ne.symm (by assumption) | omega | exact ne_mp (m := m) (by assumption) (by assumption) | exact Ne.symm (ne_mp (m := m) (by assumption) (by assumption)) | exact ne_mp (m := w) (by assumption) (by assumption) | exact Ne.symm (ne_mp (m := w) (by assumption) (by assumption)))).trans (by first | assumption | exact upm_same _ _ _ | exact (upm_ne _ _ (by first | assumption | exact Ne.symm (by assumption) | omega | exact ne_mp (m := m) (by assumption) (by assumption) | exact Ne.symm (ne_mp (m := m) (by assumption) (by assumption)) | exact ne_mp (m := w) (by assumption) (by assumption) | exact Ne.symm (ne_mp (m := w) (by assumption) (by assumption)))).trans (by first | assumption | exact upm_same _ _ _ | exact (upm_ne _ _ (by first | assumption | exact Ne.symm (by assumption) | omega | exact ne_mp (m := m) (by assumption) (by assumption) | exact Ne.symm (ne_mp (m := m) (by assumption) (by assumption)) | exact ne_mp (m := w) (by assumption) (by assumption) | exact Ne.symm (ne_mp (m := w) (by assumption) (by assumption)))).trans (by first | assumption | exact upm_same _ _ _))))) rfl (by decide) rfl) rfl ?_
                refine zG.top (v2 := .ref a) rfl ?_
                refine z_iload (q := 30) hX dX1_holdsBut_28 rfl rfl ?_
                refine z_V (ci := ciJ2) (T := TJ2) (N := 3) (na := 1) hX dX1_holdsBut_30 (c_J2_get D A (Or.inl k1) (by omega) (by rw [Int.toNat_natCast]; exact q1) (by omega)) rfl q1164 q471 q472 q101 q473 (by decide +kernel) ⟨Nat.le_of_ble_eq_true rfl, Nat.le_of_ble_eq_true rfl⟩ rfl rfl (Nat.le_of_ble_eq_true rfl) rfl (by first | exact Nat.le_of_ble_eq_true rfl | (show _ + 0 ≤ 0; omega)) (by first | exact Nat.le_of_ble_eq_true rfl | (show _ + 0 ≤ 0; omega)) (fun H h => ⟨h, h.obL (Or.inl k1)⟩) (fun E a => zT.no) (zPd.out ?_)
                show zG X (_ + 0) (_ + 0) _ 33 _ _
                refine zr_castY (q := 36) (C := RX14) (T := TX14) (N := 1) hX ciX14 rfl dX1_holdsBut_33 q1165 (zCs_at 18 rfl) (fun H h => cI.obE h (Or.inl hw9) rfl) rfl ?_
                refine z_aload_n (i := 0) (q := 37) hX dX1_holdsBut_36 rfl rfl rfl ?_
                refine zr_get (C := RX1) (T := TX1) (N := 7) (q := 40) hX ciX1 0 rfl (by decide) in_X1 dX1_holdsBut_37 q224 (Or.inl rfl) (fun H h => cI.rd h (by first | assumption | exact Or.inl (by assumption) | exact Or.inr (by first | assumption | exact upm_same _ _ _ | exact (upm_ne _ _ (by first | assumption | exact Ne.symm (by assumption) | omega | exact ne_mp (m := m) (by assumption) (by assumption) | exact Ne.symm (ne_mp (m := m) (by assumption) (by assumption)) | exact ne_mp (m := w) (by assumption) (by assumption) | exact Ne.symm (ne_mp (m := w) (by assumption) (by assumption)))).trans (by first | assumption | exact upm_same _ _ _ | exact (upm_ne _ _ (by first | assumption | exact Ne.symm (by assumption) | omega | exact ne_mp (m := m) (by assumption) (by assumption) | exact Ne.symm (ne_mp (m := m) (by assumption) (by assumption)) | exact ne_mp (m := w) (by assumption) (by assumption) | exact Ne.symm (ne_mp (m := w) (by assumption) (by assumption)))).trans (by first | assumption | exact upm_same _ _ _ | exact (upm_ne _ _ (by first | assumption | exact Ne.symm (by assumption) | omega | exact ne_mp (m := m) (by assumption) (by assumption) | exact Ne.symm (ne_mp (m := m) (by assumption) (by assumption)) | exact ne_mp (m := w) (by assumption) (by assumption) | exact Ne.symm (ne_mp (m := w) (by assumption) (by assumption)))).trans (by first | assumption | exact upm_same _ _ _))))) rfl (by decide) rfl) rfl ?_
                refine z_iload_n (i := 1) (q := 41) hX dX1_holdsBut_40 rfl rfl rfl ?_
                refine z_VU (x := ⟨"LogCompactor$Condition", "holds", "(LLogCompactor$Log;I)Z"⟩) (owner := "LogCompactor$Condition") (ci := ciX14) (C := RX14) (T := TX14) (N := 1) (na := 2) hX dX1_holdsBut_41 (c_X14_holds D A hw9 r3 hg hl) rfl q1166 q1168 q1269 q1256 q138 q1257 (Or.inr (zDs_at 0 rfl)) (by decide +kernel) ⟨Nat.le_of_ble_eq_true rfl, Nat.le_of_ble_eq_true rfl⟩ rfl rfl (Nat.le_of_ble_eq_true rfl) rfl (by first | exact Nat.le_of_ble_eq_true rfl | (show _ + 0 ≤ 0; omega)) (by first | exact Nat.le_of_ble_eq_true rfl | (show _ + 0 ≤ 0; omega)) (fun H h => ⟨h, h.obE (Or.inl hw9) rfl⟩) (fun E a => zT.no) (zPd.out ?_)
                show zG X (_ + 0) (_ + 0) _ 44 _ _
                refine z_ifB_eq (q := 47) (t := 51) hX dX1_holdsBut_44 (by decide) rfl (fun h44 => ?_) (fun h44 => ?_)
                · refine z_iconst (q := 52) hX dX1_holdsBut_51 rfl ?_
                  refine zG.top (v2 := zI (bi false)) rfl ?_
                  refine z_iand (q := 53) hX dX1_holdsBut_52 (bi_iand _ _) rfl ?_
                  refine z_istore_n (i := 3) (q := 54) hX dX1_holdsBut_53 rfl (Nat.le_of_ble_eq_true rfl) rfl rfl ?_
                  refine z_iinc (q := 57) hX dX1_holdsBut_54 rfl (Nat.le_of_ble_eq_true rfl) rfl rfl ?_
                  refine z_goto (t := 5) hX dX1_holdsBut_57 (by decide) ?_
                  exact ih hin _ _ (by rw [hst, hdec, hv9, h44, ev]) rfl
                · refine z_iconst (q := 48) hX dX1_holdsBut_47 rfl ?_
                  refine z_goto (t := 52) hX dX1_holdsBut_48 (by decide) ?_
                  refine zG.top (v2 := zI (bi true)) rfl ?_
                  refine z_iand (q := 53) hX dX1_holdsBut_52 (bi_iand _ _) rfl ?_
                  refine z_istore_n (i := 3) (q := 54) hX dX1_holdsBut_53 rfl (Nat.le_of_ble_eq_true rfl) rfl rfl ?_
                  refine z_iinc (q := 57) hX dX1_holdsBut_54 rfl (Nat.le_of_ble_eq_true rfl) rfl rfl ?_
                  refine z_goto (t := 5) hX dX1_holdsBut_57 (by decide) ?_
                  exact ih hin _ _ (by rw [hst, hdec, hv9, h44, ev]) rfl
          · have hv9 : cnB M l (0, c0) = cwB M l c0.2.1 c0.2.2.1 c0.2.2.2.1 := (if_neg (show ¬ c0.1 = 35 from fun q => by have r1z : c0.1 = _ := r1; omega)).trans (if_neg (show ¬ c0.1 = 36 from fun q => by have r1z : c0.1 = _ := r1; omega))
            refine z_iload (q := 7) hX dX1_holdsBut_5 rfl rfl ?_
            refine z_aload_n (i := 0) (q := 8) hX dX1_holdsBut_7 rfl rfl rfl ?_
            refine zr_get (C := RX1) (T := TX1) (N := 7) (q := 11) hX ciX1 6 rfl (by decide) in_X1 dX1_holdsBut_8 q232 (Or.inl rfl) (fun H h => cI.rd h (by first | assumption | exact Or.inl (by assumption) | exact Or.inr (by first | assumption | exact upm_same _ _ _ | exact (upm_ne _ _ (by first | assumption | exact Ne.symm (by assumption) | omega | exact ne_mp (m := m) (by assumption) (by assumption) | exact Ne.symm (ne_mp (m := m) (by assumption) (by assumption)) | exact ne_mp (m := w) (by assumption) (by assumption) | exact Ne.symm (ne_mp (m := w) (by assumption) (by assumption)))).trans (by first | assumption | exact upm_same _ _ _ | exact (upm_ne _ _ (by first | assumption | exact Ne.symm (by assumption) | omega | exact ne_mp (m := m) (by assumption) (by assumption) | exact Ne.symm (ne_mp (m := m) (by assumption) (by assumption)) | exact ne_mp (m := w) (by assumption) (by assumption) | exact Ne.symm (ne_mp (m := w) (by assumption) (by assumption)))).trans (by first | assumption | exact upm_same _ _ _ | exact (upm_ne _ _ (by first | assumption | exact Ne.symm (by assumption) | omega | exact ne_mp (m := m) (by assumption) (by assumption) | exact Ne.symm (ne_mp (m := m) (by assumption) (by assumption)) | exact ne_mp (m := w) (by assumption) (by assumption) | exact Ne.symm (ne_mp (m := w) (by assumption) (by assumption)))).trans (by first | assumption | exact upm_same _ _ _))))) rfl (by decide) rfl) rfl ?_
            refine zG.top (v2 := .ref a) rfl ?_
            refine z_V (ci := ciJ2) (T := TJ2) (N := 3) (na := 0) hX dX1_holdsBut_11 (c_J2_size D A (Or.inl k1)) rfl q993 q467 q468 q101 q469 (by decide +kernel) ⟨Nat.le_of_ble_eq_true rfl, Nat.le_of_ble_eq_true rfl⟩ rfl rfl (Nat.le_of_ble_eq_true rfl) rfl (by first | exact Nat.le_of_ble_eq_true rfl | (show _ + 0 ≤ 0; omega)) (by first | exact Nat.le_of_ble_eq_true rfl | (show _ + 0 ≤ 0; omega)) (fun H h => ⟨h, h.obL (Or.inl k1)⟩) (fun E a => zT.no) (zPd.out ?_)
            show zG X (_ + 0) (_ + 0) _ 14 _ _
            refine z_icmp_ge (q := 17) (t := 60) hX dX1_holdsBut_14 (by decide) ⟨by omega, by omega⟩ ⟨by omega, by omega⟩ rfl (fun h14 => ?_) (fun h14 => ?_)
            · exact absurd h14 (by omega)
            · refine z_iload_n (i := 3) (q := 18) hX dX1_holdsBut_17 rfl rfl rfl ?_
              refine z_iload (q := 20) hX dX1_holdsBut_18 rfl rfl ?_
              refine z_iload_n (i := 2) (q := 21) hX dX1_holdsBut_20 rfl rfl rfl ?_
              refine z_icmp_eq (q := 24) (t := 47) hX dX1_holdsBut_21 (by decide) ⟨by omega, by omega⟩ he rfl (fun h21 => ?_) (fun h21 => ?_)
              · exact absurd h21 hie
              · refine z_aload_n (i := 0) (q := 25) hX dX1_holdsBut_24 rfl rfl rfl ?_
                refine zr_get (C := RX1) (T := TX1) (N := 7) (q := 28) hX ciX1 6 rfl (by decide) in_X1 dX1_holdsBut_25 q232 (Or.inl rfl) (fun H h => cI.rd h (by first | assumption | exact Or.inl (by assumption) | exact Or.inr (by first | assumption | exact upm_same _ _ _ | exact (upm_ne _ _ (by first | assumption | exact Ne.symm (by assumption) | omega | exact ne_mp (m := m) (by assumption) (by assumption) | exact Ne.symm (ne_mp (m := m) (by assumption) (by assumption)) | exact ne_mp (m := w) (by assumption) (by assumption) | exact Ne.symm (ne_mp (m := w) (by assumption) (by assumption)))).trans (by first | assumption | exact upm_same _ _ _ | exact (upm_ne _ _ (by first | assumption | exact Ne.symm (by assumption) | omega | exact ne_mp (m := m) (by assumption) (by assumption) | exact Ne.symm (ne_mp (m := m) (by assumption) (by assumption)) | exact ne_mp (m := w) (by assumption) (by assumption) | exact Ne.symm (ne_mp (m := w) (by assumption) (by assumption)))).trans (by first | assumption | exact upm_same _ _ _ | exact (upm_ne _ _ (by first | assumption | exact Ne.symm (by assumption) | omega | exact ne_mp (m := m) (by assumption) (by assumption) | exact Ne.symm (ne_mp (m := m) (by assumption) (by assumption)) | exact ne_mp (m := w) (by assumption) (by assumption) | exact Ne.symm (ne_mp (m := w) (by assumption) (by assumption)))).trans (by first | assumption | exact upm_same _ _ _))))) rfl (by decide) rfl) rfl ?_
                refine zG.top (v2 := .ref a) rfl ?_
                refine z_iload (q := 30) hX dX1_holdsBut_28 rfl rfl ?_
                refine z_V (ci := ciJ2) (T := TJ2) (N := 3) (na := 1) hX dX1_holdsBut_30 (c_J2_get D A (Or.inl k1) (by omega) (by rw [Int.toNat_natCast]; exact q1) (by omega)) rfl q1164 q471 q472 q101 q473 (by decide +kernel) ⟨Nat.le_of_ble_eq_true rfl, Nat.le_of_ble_eq_true rfl⟩ rfl rfl (Nat.le_of_ble_eq_true rfl) rfl (by first | exact Nat.le_of_ble_eq_true rfl | (show _ + 0 ≤ 0; omega)) (by first | exact Nat.le_of_ble_eq_true rfl | (show _ + 0 ≤ 0; omega)) (fun H h => ⟨h, h.obL (Or.inl k1)⟩) (fun E a => zT.no) (zPd.out ?_)
                show zG X (_ + 0) (_ + 0) _ 33 _ _
                refine zr_castY (q := 36) (C := RX15) (T := TX15) (N := 3) hX ciX15 rfl dX1_holdsBut_33 q1165 (zCs_at 2 rfl) (fun H h => cI.obE h (Or.inl hw9) rfl) rfl ?_
                refine z_aload_n (i := 0) (q := 37) hX dX1_holdsBut_36 rfl rfl rfl ?_
                refine zr_get (C := RX1) (T := TX1) (N := 7) (q := 40) hX ciX1 0 rfl (by decide) in_X1 dX1_holdsBut_37 q224 (Or.inl rfl) (fun H h => cI.rd h (by first | assumption | exact Or.inl (by assumption) | exact Or.inr (by first | assumption | exact upm_same _ _ _ | exact (upm_ne _ _ (by first | assumption | exact Ne.symm (by assumption) | omega | exact ne_mp (m := m) (by assumption) (by assumption) | exact Ne.symm (ne_mp (m := m) (by assumption) (by assumption)) | exact ne_mp (m := w) (by assumption) (by assumption) | exact Ne.symm (ne_mp (m := w) (by assumption) (by assumption)))).trans (by first | assumption | exact upm_same _ _ _ | exact (upm_ne _ _ (by first | assumption | exact Ne.symm (by assumption) | omega | exact ne_mp (m := m) (by assumption) (by assumption) | exact Ne.symm (ne_mp (m := m) (by assumption) (by assumption)) | exact ne_mp (m := w) (by assumption) (by assumption) | exact Ne.symm (ne_mp (m := w) (by assumption) (by assumption)))).trans (by first | assumption | exact upm_same _ _ _ | exact (upm_ne _ _ (by first | assumption | exact Ne.symm (by assumption) | omega | exact ne_mp (m := m) (by assumption) (by assumption) | exact Ne.symm (ne_mp (m := m) (by assumption) (by assumption)) | exact ne_mp (m := w) (by assumption) (by assumption) | exact Ne.symm (ne_mp (m := w) (by assumption) (by assumption)))).trans (by first | assumption | exact upm_same _ _ _))))) rfl (by decide) rfl) rfl ?_
                refine z_iload_n (i := 1) (q := 41) hX dX1_holdsBut_40 rfl rfl rfl ?_
                refine z_VU (x := ⟨"LogCompactor$Condition", "holds", "(LLogCompactor$Log;I)Z"⟩) (owner := "LogCompactor$Condition") (ci := ciX15) (C := RX15) (T := TX15) (N := 3) (na := 2) hX dX1_holdsBut_41 (c_X15_holds D A hw9 r3 r4 r5 hg hl) rfl q1166 q1168 q1169 q1170 q139 q1171 (Or.inr (zDs_at 0 rfl)) (by decide +kernel) ⟨Nat.le_of_ble_eq_true rfl, Nat.le_of_ble_eq_true rfl⟩ rfl rfl (Nat.le_of_ble_eq_true rfl) rfl (by first | exact Nat.le_of_ble_eq_true rfl | (show _ + 0 ≤ 0; omega)) (by first | exact Nat.le_of_ble_eq_true rfl | (show _ + 0 ≤ 0; omega)) (fun H h => ⟨h, h.obE (Or.inl hw9) rfl⟩) (fun E a => zT.no) (zPd.out ?_)
                show zG X (_ + 0) (_ + 0) _ 44 _ _
                refine z_ifB_eq (q := 47) (t := 51) hX dX1_holdsBut_44 (by decide) rfl (fun h44 => ?_) (fun h44 => ?_)
                · refine z_iconst (q := 52) hX dX1_holdsBut_51 rfl ?_
                  refine zG.top (v2 := zI (bi false)) rfl ?_
                  refine z_iand (q := 53) hX dX1_holdsBut_52 (bi_iand _ _) rfl ?_
                  refine z_istore_n (i := 3) (q := 54) hX dX1_holdsBut_53 rfl (Nat.le_of_ble_eq_true rfl) rfl rfl ?_
                  refine z_iinc (q := 57) hX dX1_holdsBut_54 rfl (Nat.le_of_ble_eq_true rfl) rfl rfl ?_
                  refine z_goto (t := 5) hX dX1_holdsBut_57 (by decide) ?_
                  exact ih hin _ _ (by rw [hst, hdec, hv9, h44, ev]) rfl
                · refine z_iconst (q := 48) hX dX1_holdsBut_47 rfl ?_
                  refine z_goto (t := 52) hX dX1_holdsBut_48 (by decide) ?_
                  refine zG.top (v2 := zI (bi true)) rfl ?_
                  refine z_iand (q := 53) hX dX1_holdsBut_52 (bi_iand _ _) rfl ?_
                  refine z_istore_n (i := 3) (q := 54) hX dX1_holdsBut_53 rfl (Nat.le_of_ble_eq_true rfl) rfl rfl ?_
                  refine z_iinc (q := 57) hX dX1_holdsBut_54 rfl (Nat.le_of_ble_eq_true rfl) rfl rfl ?_
                  refine z_goto (t := 5) hX dX1_holdsBut_57 (by decide) ?_
                  exact ih hin _ _ (by rw [hst, hdec, hv9, h44, ev]) rfl
        | 1, q2, hdec, hn4 =>
          have q20 := q2
          obtain ⟨i9, hw9, -⟩ := q20
          have hv9 : cnB M l (1, c0) = cnN (cnR M l c0) 1 := rfl
          refine z_iload (q := 7) hX dX1_holdsBut_5 rfl rfl ?_
          refine z_aload_n (i := 0) (q := 8) hX dX1_holdsBut_7 rfl rfl rfl ?_
          refine zr_get (C := RX1) (T := TX1) (N := 7) (q := 11) hX ciX1 6 rfl (by decide) in_X1 dX1_holdsBut_8 q232 (Or.inl rfl) (fun H h => cI.rd h (by first | assumption | exact Or.inl (by assumption) | exact Or.inr (by first | assumption | exact upm_same _ _ _ | exact (upm_ne _ _ (by first | assumption | exact Ne.symm (by assumption) | omega | exact ne_mp (m := m) (by assumption) (by assumption) | exact Ne.symm (ne_mp (m := m) (by assumption) (by assumption)) | exact ne_mp (m := w) (by assumption) (by assumption) | exact Ne.symm (ne_mp (m := w) (by assumption) (by assumption)))).trans (by first | assumption | exact upm_same _ _ _ | exact (upm_ne _ _ (by first | assumption | exact Ne.symm (by assumption) | omega | exact ne_mp (m := m) (by assumption) (by assumption) | exact Ne.symm (ne_mp (m := m) (by assumption) (by assumption)) | exact ne_mp (m := w) (by assumption) (by assumption) | exact Ne.symm (ne_mp (m := w) (by assumption) (by assumption)))).trans (by first | assumption | exact upm_same _ _ _ | exact (upm_ne _ _ (by first | assumption | exact Ne.symm (by assumption) | omega | exact ne_mp (m := m) (by assumption) (by assumption) | exact Ne.symm (ne_mp (m := m) (by assumption) (by assumption)) | exact ne_mp (m := w) (by assumption) (by assumption) | exact Ne.symm (ne_mp (m := w) (by assumption) (by assumption)))).trans (by first | assumption | exact upm_same _ _ _))))) rfl (by decide) rfl) rfl ?_
          refine zG.top (v2 := .ref a) rfl ?_
          refine z_V (ci := ciJ2) (T := TJ2) (N := 3) (na := 0) hX dX1_holdsBut_11 (c_J2_size D A (Or.inl k1)) rfl q993 q467 q468 q101 q469 (by decide +kernel) ⟨Nat.le_of_ble_eq_true rfl, Nat.le_of_ble_eq_true rfl⟩ rfl rfl (Nat.le_of_ble_eq_true rfl) rfl (by first | exact Nat.le_of_ble_eq_true rfl | (show _ + 0 ≤ 0; omega)) (by first | exact Nat.le_of_ble_eq_true rfl | (show _ + 0 ≤ 0; omega)) (fun H h => ⟨h, h.obL (Or.inl k1)⟩) (fun E a => zT.no) (zPd.out ?_)
          show zG X (_ + 0) (_ + 0) _ 14 _ _
          refine z_icmp_ge (q := 17) (t := 60) hX dX1_holdsBut_14 (by decide) ⟨by omega, by omega⟩ ⟨by omega, by omega⟩ rfl (fun h14 => ?_) (fun h14 => ?_)
          · exact absurd h14 (by omega)
          · refine z_iload_n (i := 3) (q := 18) hX dX1_holdsBut_17 rfl rfl rfl ?_
            refine z_iload (q := 20) hX dX1_holdsBut_18 rfl rfl ?_
            refine z_iload_n (i := 2) (q := 21) hX dX1_holdsBut_20 rfl rfl rfl ?_
            refine z_icmp_eq (q := 24) (t := 47) hX dX1_holdsBut_21 (by decide) ⟨by omega, by omega⟩ he rfl (fun h21 => ?_) (fun h21 => ?_)
            · exact absurd h21 hie
            · refine z_aload_n (i := 0) (q := 25) hX dX1_holdsBut_24 rfl rfl rfl ?_
              refine zr_get (C := RX1) (T := TX1) (N := 7) (q := 28) hX ciX1 6 rfl (by decide) in_X1 dX1_holdsBut_25 q232 (Or.inl rfl) (fun H h => cI.rd h (by first | assumption | exact Or.inl (by assumption) | exact Or.inr (by first | assumption | exact upm_same _ _ _ | exact (upm_ne _ _ (by first | assumption | exact Ne.symm (by assumption) | omega | exact ne_mp (m := m) (by assumption) (by assumption) | exact Ne.symm (ne_mp (m := m) (by assumption) (by assumption)) | exact ne_mp (m := w) (by assumption) (by assumption) | exact Ne.symm (ne_mp (m := w) (by assumption) (by assumption)))).trans (by first | assumption | exact upm_same _ _ _ | exact (upm_ne _ _ (by first | assumption | exact Ne.symm (by assumption) | omega | exact ne_mp (m := m) (by assumption) (by assumption) | exact Ne.symm (ne_mp (m := m) (by assumption) (by assumption)) | exact ne_mp (m := w) (by assumption) (by assumption) | exact Ne.symm (ne_mp (m := w) (by assumption) (by assumption)))).trans (by first | assumption | exact upm_same _ _ _ | exact (upm_ne _ _ (by first | assumption | exact Ne.symm (by assumption) | omega | exact ne_mp (m := m) (by assumption) (by assumption) | exact Ne.symm (ne_mp (m := m) (by assumption) (by assumption)) | exact ne_mp (m := w) (by assumption) (by assumption) | exact Ne.symm (ne_mp (m := w) (by assumption) (by assumption)))).trans (by first | assumption | exact upm_same _ _ _))))) rfl (by decide) rfl) rfl ?_
              refine zG.top (v2 := .ref a) rfl ?_
              refine z_iload (q := 30) hX dX1_holdsBut_28 rfl rfl ?_
              refine z_V (ci := ciJ2) (T := TJ2) (N := 3) (na := 1) hX dX1_holdsBut_30 (c_J2_get D A (Or.inl k1) (by omega) (by rw [Int.toNat_natCast]; exact q1) (by omega)) rfl q1164 q471 q472 q101 q473 (by decide +kernel) ⟨Nat.le_of_ble_eq_true rfl, Nat.le_of_ble_eq_true rfl⟩ rfl rfl (Nat.le_of_ble_eq_true rfl) rfl (by first | exact Nat.le_of_ble_eq_true rfl | (show _ + 0 ≤ 0; omega)) (by first | exact Nat.le_of_ble_eq_true rfl | (show _ + 0 ≤ 0; omega)) (fun H h => ⟨h, h.obL (Or.inl k1)⟩) (fun E a => zT.no) (zPd.out ?_)
              show zG X (_ + 0) (_ + 0) _ 33 _ _
              refine zr_castY (q := 36) (C := RX16) (T := TX16) (N := 1) hX ciX16 rfl dX1_holdsBut_33 q1165 (zCs_at 6 rfl) (fun H h => cI.obE h (Or.inl hw9) rfl) rfl ?_
              refine z_aload_n (i := 0) (q := 37) hX dX1_holdsBut_36 rfl rfl rfl ?_
              refine zr_get (C := RX1) (T := TX1) (N := 7) (q := 40) hX ciX1 0 rfl (by decide) in_X1 dX1_holdsBut_37 q224 (Or.inl rfl) (fun H h => cI.rd h (by first | assumption | exact Or.inl (by assumption) | exact Or.inr (by first | assumption | exact upm_same _ _ _ | exact (upm_ne _ _ (by first | assumption | exact Ne.symm (by assumption) | omega | exact ne_mp (m := m) (by assumption) (by assumption) | exact Ne.symm (ne_mp (m := m) (by assumption) (by assumption)) | exact ne_mp (m := w) (by assumption) (by assumption) | exact Ne.symm (ne_mp (m := w) (by assumption) (by assumption)))).trans (by first | assumption | exact upm_same _ _ _ | exact (upm_ne _ _ (by first | assumption | exact Ne.symm (by assumption) | omega | exact ne_mp (m := m) (by assumption) (by assumption) | exact Ne.symm (ne_mp (m := m) (by assumption) (by assumption)) | exact ne_mp (m := w) (by assumption) (by assumption) | exact Ne.symm (ne_mp (m := w) (by assumption) (by assumption)))).trans (by first | assumption | exact upm_same _ _ _ | exact (upm_ne _ _ (by first | assumption | exact Ne.symm (by assumption) | omega | exact ne_mp (m := m) (by assumption) (by assumption) | exact Ne.symm (ne_mp (m := m) (by assumption) (by assumption)) | exact ne_mp (m := w) (by assumption) (by assumption) | exact Ne.symm (ne_mp (m := w) (by assumption) (by assumption)))).trans (by first | assumption | exact upm_same _ _ _))))) rfl (by decide) rfl) rfl ?_
              refine z_iload_n (i := 1) (q := 41) hX dX1_holdsBut_40 rfl rfl rfl ?_
              refine z_VU (x := ⟨"LogCompactor$Condition", "holds", "(LLogCompactor$Log;I)Z"⟩) (owner := "LogCompactor$Condition") (ci := ciX16) (C := RX16) (T := TX16) (N := 1) (na := 2) hX dX1_holdsBut_41 (c_X16_holds_1 D A q2 hg hl) rfl q1166 q1168 q1249 q1250 q140 q1251 (Or.inr (zDs_at 0 rfl)) (by decide +kernel) ⟨Nat.le_of_ble_eq_true rfl, Nat.le_of_ble_eq_true rfl⟩ rfl rfl (Nat.le_of_ble_eq_true rfl) rfl (by first | exact Nat.le_of_ble_eq_true rfl | (show _ + 0 ≤ 0; omega)) (by first | exact Nat.le_of_ble_eq_true rfl | (show _ + 0 ≤ 0; omega)) (fun H h => ⟨h, h.obE (Or.inl hw9) rfl⟩) (fun E a => zT.no) (zPd.out ?_)
              show zG X (_ + 0) (_ + 0) _ 44 _ _
              refine z_ifB_eq (q := 47) (t := 51) hX dX1_holdsBut_44 (by decide) rfl (fun h44 => ?_) (fun h44 => ?_)
              · refine z_iconst (q := 52) hX dX1_holdsBut_51 rfl ?_
                refine zG.top (v2 := zI (bi false)) rfl ?_
                refine z_iand (q := 53) hX dX1_holdsBut_52 (bi_iand _ _) rfl ?_
                refine z_istore_n (i := 3) (q := 54) hX dX1_holdsBut_53 rfl (Nat.le_of_ble_eq_true rfl) rfl rfl ?_
                refine z_iinc (q := 57) hX dX1_holdsBut_54 rfl (Nat.le_of_ble_eq_true rfl) rfl rfl ?_
                refine z_goto (t := 5) hX dX1_holdsBut_57 (by decide) ?_
                exact ih hin _ _ (by rw [hst, hdec, hv9, h44, ev]) rfl
              · refine z_iconst (q := 48) hX dX1_holdsBut_47 rfl ?_
                refine z_goto (t := 52) hX dX1_holdsBut_48 (by decide) ?_
                refine zG.top (v2 := zI (bi true)) rfl ?_
                refine z_iand (q := 53) hX dX1_holdsBut_52 (bi_iand _ _) rfl ?_
                refine z_istore_n (i := 3) (q := 54) hX dX1_holdsBut_53 rfl (Nat.le_of_ble_eq_true rfl) rfl rfl ?_
                refine z_iinc (q := 57) hX dX1_holdsBut_54 rfl (Nat.le_of_ble_eq_true rfl) rfl rfl ?_
                refine z_goto (t := 5) hX dX1_holdsBut_57 (by decide) ?_
                exact ih hin _ _ (by rw [hst, hdec, hv9, h44, ev]) rfl
        | 2, q2, hdec, hn4 =>
          have q20 := q2
          obtain ⟨i9, hw9, -⟩ := q20
          have hv9 : cnB M l (2, c0) = cnN (cnR M l c0) 2 := rfl
          refine z_iload (q := 7) hX dX1_holdsBut_5 rfl rfl ?_
          refine z_aload_n (i := 0) (q := 8) hX dX1_holdsBut_7 rfl rfl rfl ?_
          refine zr_get (C := RX1) (T := TX1) (N := 7) (q := 11) hX ciX1 6 rfl (by decide) in_X1 dX1_holdsBut_8 q232 (Or.inl rfl) (fun H h => cI.rd h (by first | assumption | exact Or.inl (by assumption) | exact Or.inr (by first | assumption | exact upm_same _ _ _ | exact (upm_ne _ _ (by first | assumption | exact Ne.symm (by assumption) | omega | exact ne_mp (m := m) (by assumption) (by assumption) | exact Ne.symm (ne_mp (m := m) (by assumption) (by assumption)) | exact ne_mp (m := w) (by assumption) (by assumption) | exact Ne.symm (ne_mp (m := w) (by assumption) (by assumption)))).trans (by first | assumption | exact upm_same _ _ _ | exact (upm_ne _ _ (by first | assumption | exact Ne.symm (by assumption) | omega | exact ne_mp (m := m) (by assumption) (by assumption) | exact Ne.symm (ne_mp (m := m) (by assumption) (by assumption)) | exact ne_mp (m := w) (by assumption) (by assumption) | exact Ne.symm (ne_mp (m := w) (by assumption) (by assumption)))).trans (by first | assumption | exact upm_same _ _ _ | exact (upm_ne _ _ (by first | assumption | exact Ne.symm (by assumption) | omega | exact ne_mp (m := m) (by assumption) (by assumption) | exact Ne.symm (ne_mp (m := m) (by assumption) (by assumption)) | exact ne_mp (m := w) (by assumption) (by assumption) | exact Ne.symm (ne_mp (m := w) (by assumption) (by assumption)))).trans (by first | assumption | exact upm_same _ _ _))))) rfl (by decide) rfl) rfl ?_
          refine zG.top (v2 := .ref a) rfl ?_
          refine z_V (ci := ciJ2) (T := TJ2) (N := 3) (na := 0) hX dX1_holdsBut_11 (c_J2_size D A (Or.inl k1)) rfl q993 q467 q468 q101 q469 (by decide +kernel) ⟨Nat.le_of_ble_eq_true rfl, Nat.le_of_ble_eq_true rfl⟩ rfl rfl (Nat.le_of_ble_eq_true rfl) rfl (by first | exact Nat.le_of_ble_eq_true rfl | (show _ + 0 ≤ 0; omega)) (by first | exact Nat.le_of_ble_eq_true rfl | (show _ + 0 ≤ 0; omega)) (fun H h => ⟨h, h.obL (Or.inl k1)⟩) (fun E a => zT.no) (zPd.out ?_)
          show zG X (_ + 0) (_ + 0) _ 14 _ _
          refine z_icmp_ge (q := 17) (t := 60) hX dX1_holdsBut_14 (by decide) ⟨by omega, by omega⟩ ⟨by omega, by omega⟩ rfl (fun h14 => ?_) (fun h14 => ?_)
          · exact absurd h14 (by omega)
          · refine z_iload_n (i := 3) (q := 18) hX dX1_holdsBut_17 rfl rfl rfl ?_
            refine z_iload (q := 20) hX dX1_holdsBut_18 rfl rfl ?_
            refine z_iload_n (i := 2) (q := 21) hX dX1_holdsBut_20 rfl rfl rfl ?_
            refine z_icmp_eq (q := 24) (t := 47) hX dX1_holdsBut_21 (by decide) ⟨by omega, by omega⟩ he rfl (fun h21 => ?_) (fun h21 => ?_)
            · exact absurd h21 hie
            · refine z_aload_n (i := 0) (q := 25) hX dX1_holdsBut_24 rfl rfl rfl ?_
              refine zr_get (C := RX1) (T := TX1) (N := 7) (q := 28) hX ciX1 6 rfl (by decide) in_X1 dX1_holdsBut_25 q232 (Or.inl rfl) (fun H h => cI.rd h (by first | assumption | exact Or.inl (by assumption) | exact Or.inr (by first | assumption | exact upm_same _ _ _ | exact (upm_ne _ _ (by first | assumption | exact Ne.symm (by assumption) | omega | exact ne_mp (m := m) (by assumption) (by assumption) | exact Ne.symm (ne_mp (m := m) (by assumption) (by assumption)) | exact ne_mp (m := w) (by assumption) (by assumption) | exact Ne.symm (ne_mp (m := w) (by assumption) (by assumption)))).trans (by first | assumption | exact upm_same _ _ _ | exact (upm_ne _ _ (by first | assumption | exact Ne.symm (by assumption) | omega | exact ne_mp (m := m) (by assumption) (by assumption) | exact Ne.symm (ne_mp (m := m) (by assumption) (by assumption)) | exact ne_mp (m := w) (by assumption) (by assumption) | exact Ne.symm (ne_mp (m := w) (by assumption) (by assumption)))).trans (by first | assumption | exact upm_same _ _ _ | exact (upm_ne _ _ (by first | assumption | exact Ne.symm (by assumption) | omega | exact ne_mp (m := m) (by assumption) (by assumption) | exact Ne.symm (ne_mp (m := m) (by assumption) (by assumption)) | exact ne_mp (m := w) (by assumption) (by assumption) | exact Ne.symm (ne_mp (m := w) (by assumption) (by assumption)))).trans (by first | assumption | exact upm_same _ _ _))))) rfl (by decide) rfl) rfl ?_
              refine zG.top (v2 := .ref a) rfl ?_
              refine z_iload (q := 30) hX dX1_holdsBut_28 rfl rfl ?_
              refine z_V (ci := ciJ2) (T := TJ2) (N := 3) (na := 1) hX dX1_holdsBut_30 (c_J2_get D A (Or.inl k1) (by omega) (by rw [Int.toNat_natCast]; exact q1) (by omega)) rfl q1164 q471 q472 q101 q473 (by decide +kernel) ⟨Nat.le_of_ble_eq_true rfl, Nat.le_of_ble_eq_true rfl⟩ rfl rfl (Nat.le_of_ble_eq_true rfl) rfl (by first | exact Nat.le_of_ble_eq_true rfl | (show _ + 0 ≤ 0; omega)) (by first | exact Nat.le_of_ble_eq_true rfl | (show _ + 0 ≤ 0; omega)) (fun H h => ⟨h, h.obL (Or.inl k1)⟩) (fun E a => zT.no) (zPd.out ?_)
              show zG X (_ + 0) (_ + 0) _ 33 _ _
              refine zr_castY (q := 36) (C := RX16) (T := TX16) (N := 1) hX ciX16 rfl dX1_holdsBut_33 q1165 (zCs_at 6 rfl) (fun H h => cI.obE h (Or.inl hw9) rfl) rfl ?_
              refine z_aload_n (i := 0) (q := 37) hX dX1_holdsBut_36 rfl rfl rfl ?_
              refine zr_get (C := RX1) (T := TX1) (N := 7) (q := 40) hX ciX1 0 rfl (by decide) in_X1 dX1_holdsBut_37 q224 (Or.inl rfl) (fun H h => cI.rd h (by first | assumption | exact Or.inl (by assumption) | exact Or.inr (by first | assumption | exact upm_same _ _ _ | exact (upm_ne _ _ (by first | assumption | exact Ne.symm (by assumption) | omega | exact ne_mp (m := m) (by assumption) (by assumption) | exact Ne.symm (ne_mp (m := m) (by assumption) (by assumption)) | exact ne_mp (m := w) (by assumption) (by assumption) | exact Ne.symm (ne_mp (m := w) (by assumption) (by assumption)))).trans (by first | assumption | exact upm_same _ _ _ | exact (upm_ne _ _ (by first | assumption | exact Ne.symm (by assumption) | omega | exact ne_mp (m := m) (by assumption) (by assumption) | exact Ne.symm (ne_mp (m := m) (by assumption) (by assumption)) | exact ne_mp (m := w) (by assumption) (by assumption) | exact Ne.symm (ne_mp (m := w) (by assumption) (by assumption)))).trans (by first | assumption | exact upm_same _ _ _ | exact (upm_ne _ _ (by first | assumption | exact Ne.symm (by assumption) | omega | exact ne_mp (m := m) (by assumption) (by assumption) | exact Ne.symm (ne_mp (m := m) (by assumption) (by assumption)) | exact ne_mp (m := w) (by assumption) (by assumption) | exact Ne.symm (ne_mp (m := w) (by assumption) (by assumption)))).trans (by first | assumption | exact upm_same _ _ _))))) rfl (by decide) rfl) rfl ?_
              refine z_iload_n (i := 1) (q := 41) hX dX1_holdsBut_40 rfl rfl rfl ?_
              refine z_VU (x := ⟨"LogCompactor$Condition", "holds", "(LLogCompactor$Log;I)Z"⟩) (owner := "LogCompactor$Condition") (ci := ciX16) (C := RX16) (T := TX16) (N := 1) (na := 2) hX dX1_holdsBut_41 (c_X16_holds_2 D A q2 hg hl) rfl q1166 q1168 q1249 q1250 q140 q1251 (Or.inr (zDs_at 0 rfl)) (by decide +kernel) ⟨Nat.le_of_ble_eq_true rfl, Nat.le_of_ble_eq_true rfl⟩ rfl rfl (Nat.le_of_ble_eq_true rfl) rfl (by first | exact Nat.le_of_ble_eq_true rfl | (show _ + 0 ≤ 0; omega)) (by first | exact Nat.le_of_ble_eq_true rfl | (show _ + 0 ≤ 0; omega)) (fun H h => ⟨h, h.obE (Or.inl hw9) rfl⟩) (fun E a => zT.no) (zPd.out ?_)
              show zG X (_ + 0) (_ + 0) _ 44 _ _
              refine z_ifB_eq (q := 47) (t := 51) hX dX1_holdsBut_44 (by decide) rfl (fun h44 => ?_) (fun h44 => ?_)
              · refine z_iconst (q := 52) hX dX1_holdsBut_51 rfl ?_
                refine zG.top (v2 := zI (bi false)) rfl ?_
                refine z_iand (q := 53) hX dX1_holdsBut_52 (bi_iand _ _) rfl ?_
                refine z_istore_n (i := 3) (q := 54) hX dX1_holdsBut_53 rfl (Nat.le_of_ble_eq_true rfl) rfl rfl ?_
                refine z_iinc (q := 57) hX dX1_holdsBut_54 rfl (Nat.le_of_ble_eq_true rfl) rfl rfl ?_
                refine z_goto (t := 5) hX dX1_holdsBut_57 (by decide) ?_
                exact ih hin _ _ (by rw [hst, hdec, hv9, h44, ev]) rfl
              · refine z_iconst (q := 48) hX dX1_holdsBut_47 rfl ?_
                refine z_goto (t := 52) hX dX1_holdsBut_48 (by decide) ?_
                refine zG.top (v2 := zI (bi true)) rfl ?_
                refine z_iand (q := 53) hX dX1_holdsBut_52 (bi_iand _ _) rfl ?_
                refine z_istore_n (i := 3) (q := 54) hX dX1_holdsBut_53 rfl (Nat.le_of_ble_eq_true rfl) rfl rfl ?_
                refine z_iinc (q := 57) hX dX1_holdsBut_54 rfl (Nat.le_of_ble_eq_true rfl) rfl rfl ?_
                refine z_goto (t := 5) hX dX1_holdsBut_57 (by decide) ?_
                exact ih hin _ _ (by rw [hst, hdec, hv9, h44, ev]) rfl
        | 3, q2, hdec, hn4 =>
          have q20 := q2
          obtain ⟨i9, hw9, -⟩ := q20
          have hv9 : cnB M l (3, c0) = cnN (cnR M l c0) 3 := rfl
          refine z_iload (q := 7) hX dX1_holdsBut_5 rfl rfl ?_
          refine z_aload_n (i := 0) (q := 8) hX dX1_holdsBut_7 rfl rfl rfl ?_
          refine zr_get (C := RX1) (T := TX1) (N := 7) (q := 11) hX ciX1 6 rfl (by decide) in_X1 dX1_holdsBut_8 q232 (Or.inl rfl) (fun H h => cI.rd h (by first | assumption | exact Or.inl (by assumption) | exact Or.inr (by first | assumption | exact upm_same _ _ _ | exact (upm_ne _ _ (by first | assumption | exact Ne.symm (by assumption) | omega | exact ne_mp (m := m) (by assumption) (by assumption) | exact Ne.symm (ne_mp (m := m) (by assumption) (by assumption)) | exact ne_mp (m := w) (by assumption) (by assumption) | exact Ne.symm (ne_mp (m := w) (by assumption) (by assumption)))).trans (by first | assumption | exact upm_same _ _ _ | exact (upm_ne _ _ (by first | assumption | exact Ne.symm (by assumption) | omega | exact ne_mp (m := m) (by assumption) (by assumption) | exact Ne.symm (ne_mp (m := m) (by assumption) (by assumption)) | exact ne_mp (m := w) (by assumption) (by assumption) | exact Ne.symm (ne_mp (m := w) (by assumption) (by assumption)))).trans (by first | assumption | exact upm_same _ _ _ | exact (upm_ne _ _ (by first | assumption | exact Ne.symm (by assumption) | omega | exact ne_mp (m := m) (by assumption) (by assumption) | exact Ne.symm (ne_mp (m := m) (by assumption) (by assumption)) | exact ne_mp (m := w) (by assumption) (by assumption) | exact Ne.symm (ne_mp (m := w) (by assumption) (by assumption)))).trans (by first | assumption | exact upm_same _ _ _))))) rfl (by decide) rfl) rfl ?_
          refine zG.top (v2 := .ref a) rfl ?_
          refine z_V (ci := ciJ2) (T := TJ2) (N := 3) (na := 0) hX dX1_holdsBut_11 (c_J2_size D A (Or.inl k1)) rfl q993 q467 q468 q101 q469 (by decide +kernel) ⟨Nat.le_of_ble_eq_true rfl, Nat.le_of_ble_eq_true rfl⟩ rfl rfl (Nat.le_of_ble_eq_true rfl) rfl (by first | exact Nat.le_of_ble_eq_true rfl | (show _ + 0 ≤ 0; omega)) (by first | exact Nat.le_of_ble_eq_true rfl | (show _ + 0 ≤ 0; omega)) (fun H h => ⟨h, h.obL (Or.inl k1)⟩) (fun E a => zT.no) (zPd.out ?_)
          show zG X (_ + 0) (_ + 0) _ 14 _ _
          refine z_icmp_ge (q := 17) (t := 60) hX dX1_holdsBut_14 (by decide) ⟨by omega, by omega⟩ ⟨by omega, by omega⟩ rfl (fun h14 => ?_) (fun h14 => ?_)
          · exact absurd h14 (by omega)
          · refine z_iload_n (i := 3) (q := 18) hX dX1_holdsBut_17 rfl rfl rfl ?_
            refine z_iload (q := 20) hX dX1_holdsBut_18 rfl rfl ?_
            refine z_iload_n (i := 2) (q := 21) hX dX1_holdsBut_20 rfl rfl rfl ?_
            refine z_icmp_eq (q := 24) (t := 47) hX dX1_holdsBut_21 (by decide) ⟨by omega, by omega⟩ he rfl (fun h21 => ?_) (fun h21 => ?_)
            · exact absurd h21 hie
            · refine z_aload_n (i := 0) (q := 25) hX dX1_holdsBut_24 rfl rfl rfl ?_
              refine zr_get (C := RX1) (T := TX1) (N := 7) (q := 28) hX ciX1 6 rfl (by decide) in_X1 dX1_holdsBut_25 q232 (Or.inl rfl) (fun H h => cI.rd h (by first | assumption | exact Or.inl (by assumption) | exact Or.inr (by first | assumption | exact upm_same _ _ _ | exact (upm_ne _ _ (by first | assumption | exact Ne.symm (by assumption) | omega | exact ne_mp (m := m) (by assumption) (by assumption) | exact Ne.symm (ne_mp (m := m) (by assumption) (by assumption)) | exact ne_mp (m := w) (by assumption) (by assumption) | exact Ne.symm (ne_mp (m := w) (by assumption) (by assumption)))).trans (by first | assumption | exact upm_same _ _ _ | exact (upm_ne _ _ (by first | assumption | exact Ne.symm (by assumption) | omega | exact ne_mp (m := m) (by assumption) (by assumption) | exact Ne.symm (ne_mp (m := m) (by assumption) (by assumption)) | exact ne_mp (m := w) (by assumption) (by assumption) | exact Ne.symm (ne_mp (m := w) (by assumption) (by assumption)))).trans (by first | assumption | exact upm_same _ _ _ | exact (upm_ne _ _ (by first | assumption | exact Ne.symm (by assumption) | omega | exact ne_mp (m := m) (by assumption) (by assumption) | exact Ne.symm (ne_mp (m := m) (by assumption) (by assumption)) | exact ne_mp (m := w) (by assumption) (by assumption) | exact Ne.symm (ne_mp (m := w) (by assumption) (by assumption)))).trans (by first | assumption | exact upm_same _ _ _))))) rfl (by decide) rfl) rfl ?_
              refine zG.top (v2 := .ref a) rfl ?_
              refine z_iload (q := 30) hX dX1_holdsBut_28 rfl rfl ?_
              refine z_V (ci := ciJ2) (T := TJ2) (N := 3) (na := 1) hX dX1_holdsBut_30 (c_J2_get D A (Or.inl k1) (by omega) (by rw [Int.toNat_natCast]; exact q1) (by omega)) rfl q1164 q471 q472 q101 q473 (by decide +kernel) ⟨Nat.le_of_ble_eq_true rfl, Nat.le_of_ble_eq_true rfl⟩ rfl rfl (Nat.le_of_ble_eq_true rfl) rfl (by first | exact Nat.le_of_ble_eq_true rfl | (show _ + 0 ≤ 0; omega)) (by first | exact Nat.le_of_ble_eq_true rfl | (show _ + 0 ≤ 0; omega)) (fun H h => ⟨h, h.obL (Or.inl k1)⟩) (fun E a => zT.no) (zPd.out ?_)
              show zG X (_ + 0) (_ + 0) _ 33 _ _
              refine zr_castY (q := 36) (C := RX16) (T := TX16) (N := 1) hX ciX16 rfl dX1_holdsBut_33 q1165 (zCs_at 6 rfl) (fun H h => cI.obE h (Or.inl hw9) rfl) rfl ?_
              refine z_aload_n (i := 0) (q := 37) hX dX1_holdsBut_36 rfl rfl rfl ?_
              refine zr_get (C := RX1) (T := TX1) (N := 7) (q := 40) hX ciX1 0 rfl (by decide) in_X1 dX1_holdsBut_37 q224 (Or.inl rfl) (fun H h => cI.rd h (by first | assumption | exact Or.inl (by assumption) | exact Or.inr (by first | assumption | exact upm_same _ _ _ | exact (upm_ne _ _ (by first | assumption | exact Ne.symm (by assumption) | omega | exact ne_mp (m := m) (by assumption) (by assumption) | exact Ne.symm (ne_mp (m := m) (by assumption) (by assumption)) | exact ne_mp (m := w) (by assumption) (by assumption) | exact Ne.symm (ne_mp (m := w) (by assumption) (by assumption)))).trans (by first | assumption | exact upm_same _ _ _ | exact (upm_ne _ _ (by first | assumption | exact Ne.symm (by assumption) | omega | exact ne_mp (m := m) (by assumption) (by assumption) | exact Ne.symm (ne_mp (m := m) (by assumption) (by assumption)) | exact ne_mp (m := w) (by assumption) (by assumption) | exact Ne.symm (ne_mp (m := w) (by assumption) (by assumption)))).trans (by first | assumption | exact upm_same _ _ _ | exact (upm_ne _ _ (by first | assumption | exact Ne.symm (by assumption) | omega | exact ne_mp (m := m) (by assumption) (by assumption) | exact Ne.symm (ne_mp (m := m) (by assumption) (by assumption)) | exact ne_mp (m := w) (by assumption) (by assumption) | exact Ne.symm (ne_mp (m := w) (by assumption) (by assumption)))).trans (by first | assumption | exact upm_same _ _ _))))) rfl (by decide) rfl) rfl ?_
              refine z_iload_n (i := 1) (q := 41) hX dX1_holdsBut_40 rfl rfl rfl ?_
              refine z_VU (x := ⟨"LogCompactor$Condition", "holds", "(LLogCompactor$Log;I)Z"⟩) (owner := "LogCompactor$Condition") (ci := ciX16) (C := RX16) (T := TX16) (N := 1) (na := 2) hX dX1_holdsBut_41 (c_X16_holds_3 D A q2 hg hl) rfl q1166 q1168 q1249 q1250 q140 q1251 (Or.inr (zDs_at 0 rfl)) (by decide +kernel) ⟨Nat.le_of_ble_eq_true rfl, Nat.le_of_ble_eq_true rfl⟩ rfl rfl (Nat.le_of_ble_eq_true rfl) rfl (by first | exact Nat.le_of_ble_eq_true rfl | (show _ + 0 ≤ 0; omega)) (by first | exact Nat.le_of_ble_eq_true rfl | (show _ + 0 ≤ 0; omega)) (fun H h => ⟨h, h.obE (Or.inl hw9) rfl⟩) (fun E a => zT.no) (zPd.out ?_)
              show zG X (_ + 0) (_ + 0) _ 44 _ _
              refine z_ifB_eq (q := 47) (t := 51) hX dX1_holdsBut_44 (by decide) rfl (fun h44 => ?_) (fun h44 => ?_)
              · refine z_iconst (q := 52) hX dX1_holdsBut_51 rfl ?_
                refine zG.top (v2 := zI (bi false)) rfl ?_
                refine z_iand (q := 53) hX dX1_holdsBut_52 (bi_iand _ _) rfl ?_
                refine z_istore_n (i := 3) (q := 54) hX dX1_holdsBut_53 rfl (Nat.le_of_ble_eq_true rfl) rfl rfl ?_
                refine z_iinc (q := 57) hX dX1_holdsBut_54 rfl (Nat.le_of_ble_eq_true rfl) rfl rfl ?_
                refine z_goto (t := 5) hX dX1_holdsBut_57 (by decide) ?_
                exact ih hin _ _ (by rw [hst, hdec, hv9, h44, ev]) rfl
              · refine z_iconst (q := 48) hX dX1_holdsBut_47 rfl ?_
                refine z_goto (t := 52) hX dX1_holdsBut_48 (by decide) ?_
                refine zG.top (v2 := zI (bi true)) rfl ?_
                refine z_iand (q := 53) hX dX1_holdsBut_52 (bi_iand _ _) rfl ?_
                refine z_istore_n (i := 3) (q := 54) hX dX1_holdsBut_53 rfl (Nat.le_of_ble_eq_true rfl) rfl rfl ?_
                refine z_iinc (q := 57) hX dX1_holdsBut_54 rfl (Nat.le_of_ble_eq_true rfl) rfl rfl ?_
                refine z_goto (t := 5) hX dX1_holdsBut_57 (by decide) ?_
                exact ih hin _ _ (by rw [hst, hdec, hv9, h44, ev]) rfl
        | 4, q2, hdec, hn4 =>
          have q20 := q2
          obtain ⟨i9, hw9, -⟩ := q20
          have hv9 : cnB M l (4, c0) = cnN (cnR M l c0) 4 := rfl
          refine z_iload (q := 7) hX dX1_holdsBut_5 rfl rfl ?_
          refine z_aload_n (i := 0) (q := 8) hX dX1_holdsBut_7 rfl rfl rfl ?_
          refine zr_get (C := RX1) (T := TX1) (N := 7) (q := 11) hX ciX1 6 rfl (by decide) in_X1 dX1_holdsBut_8 q232 (Or.inl rfl) (fun H h => cI.rd h (by first | assumption | exact Or.inl (by assumption) | exact Or.inr (by first | assumption | exact upm_same _ _ _ | exact (upm_ne _ _ (by first | assumption | exact Ne.symm (by assumption) | omega | exact ne_mp (m := m) (by assumption) (by assumption) | exact Ne.symm (ne_mp (m := m) (by assumption) (by assumption)) | exact ne_mp (m := w) (by assumption) (by assumption) | exact Ne.symm (ne_mp (m := w) (by assumption) (by assumption)))).trans (by first | assumption | exact upm_same _ _ _ | exact (upm_ne _ _ (by first | assumption | exact Ne.symm (by assumption) | omega | exact ne_mp (m := m) (by assumption) (by assumption) | exact Ne.symm (ne_mp (m := m) (by assumption) (by assumption)) | exact ne_mp (m := w) (by assumption) (by assumption) | exact Ne.symm (ne_mp (m := w) (by assumption) (by assumption)))).trans (by first | assumption | exact upm_same _ _ _ | exact (upm_ne _ _ (by first | assumption | exact Ne.symm (by assumption) | omega | exact ne_mp (m := m) (by assumption) (by assumption) | exact Ne.symm (ne_mp (m := m) (by assumption) (by assumption)) | exact ne_mp (m := w) (by assumption) (by assumption) | exact Ne.symm (ne_mp (m := w) (by assumption) (by assumption)))).trans (by first | assumption | exact upm_same _ _ _))))) rfl (by decide) rfl) rfl ?_
          refine zG.top (v2 := .ref a) rfl ?_
          refine z_V (ci := ciJ2) (T := TJ2) (N := 3) (na := 0) hX dX1_holdsBut_11 (c_J2_size D A (Or.inl k1)) rfl q993 q467 q468 q101 q469 (by decide +kernel) ⟨Nat.le_of_ble_eq_true rfl, Nat.le_of_ble_eq_true rfl⟩ rfl rfl (Nat.le_of_ble_eq_true rfl) rfl (by first | exact Nat.le_of_ble_eq_true rfl | (show _ + 0 ≤ 0; omega)) (by first | exact Nat.le_of_ble_eq_true rfl | (show _ + 0 ≤ 0; omega)) (fun H h => ⟨h, h.obL (Or.inl k1)⟩) (fun E a => zT.no) (zPd.out ?_)
          show zG X (_ + 0) (_ + 0) _ 14 _ _
          refine z_icmp_ge (q := 17) (t := 60) hX dX1_holdsBut_14 (by decide) ⟨by omega, by omega⟩ ⟨by omega, by omega⟩ rfl (fun h14 => ?_) (fun h14 => ?_)
          · exact absurd h14 (by omega)
          · refine z_iload_n (i := 3) (q := 18) hX dX1_holdsBut_17 rfl rfl rfl ?_
            refine z_iload (q := 20) hX dX1_holdsBut_18 rfl rfl ?_
            refine z_iload_n (i := 2) (q := 21) hX dX1_holdsBut_20 rfl rfl rfl ?_
            refine z_icmp_eq (q := 24) (t := 47) hX dX1_holdsBut_21 (by decide) ⟨by omega, by omega⟩ he rfl (fun h21 => ?_) (fun h21 => ?_)
            · exact absurd h21 hie
            · refine z_aload_n (i := 0) (q := 25) hX dX1_holdsBut_24 rfl rfl rfl ?_
              refine zr_get (C := RX1) (T := TX1) (N := 7) (q := 28) hX ciX1 6 rfl (by decide) in_X1 dX1_holdsBut_25 q232 (Or.inl rfl) (fun H h => cI.rd h (by first | assumption | exact Or.inl (by assumption) | exact Or.inr (by first | assumption | exact upm_same _ _ _ | exact (upm_ne _ _ (by first | assumption | exact Ne.symm (by assumption) | omega | exact ne_mp (m := m) (by assumption) (by assumption) | exact Ne.symm (ne_mp (m := m) (by assumption) (by assumption)) | exact ne_mp (m := w) (by assumption) (by assumption) | exact Ne.symm (ne_mp (m := w) (by assumption) (by assumption)))).trans (by first | assumption | exact upm_same _ _ _ | exact (upm_ne _ _ (by first | assumption | exact Ne.symm (by assumption) | omega | exact ne_mp (m := m) (by assumption) (by assumption) | exact Ne.symm (ne_mp (m := m) (by assumption) (by assumption)) | exact ne_mp (m := w) (by assumption) (by assumption) | exact Ne.symm (ne_mp (m := w) (by assumption) (by assumption)))).trans (by first | assumption | exact upm_same _ _ _ | exact (upm_ne _ _ (by first | assumption | exact Ne.symm (by assumption) | omega | exact ne_mp (m := m) (by assumption) (by assumption) | exact Ne.symm (ne_mp (m := m) (by assumption) (by assumption)) | exact ne_mp (m := w) (by assumption) (by assumption) | exact Ne.symm (ne_mp (m := w) (by assumption) (by assumption)))).trans (by first | assumption | exact upm_same _ _ _))))) rfl (by decide) rfl) rfl ?_
              refine zG.top (v2 := .ref a) rfl ?_
              refine z_iload (q := 30) hX dX1_holdsBut_28 rfl rfl ?_
              refine z_V (ci := ciJ2) (T := TJ2) (N := 3) (na := 1) hX dX1_holdsBut_30 (c_J2_get D A (Or.inl k1) (by omega) (by rw [Int.toNat_natCast]; exact q1) (by omega)) rfl q1164 q471 q472 q101 q473 (by decide +kernel) ⟨Nat.le_of_ble_eq_true rfl, Nat.le_of_ble_eq_true rfl⟩ rfl rfl (Nat.le_of_ble_eq_true rfl) rfl (by first | exact Nat.le_of_ble_eq_true rfl | (show _ + 0 ≤ 0; omega)) (by first | exact Nat.le_of_ble_eq_true rfl | (show _ + 0 ≤ 0; omega)) (fun H h => ⟨h, h.obL (Or.inl k1)⟩) (fun E a => zT.no) (zPd.out ?_)
              show zG X (_ + 0) (_ + 0) _ 33 _ _
              refine zr_castY (q := 36) (C := RX16) (T := TX16) (N := 1) hX ciX16 rfl dX1_holdsBut_33 q1165 (zCs_at 6 rfl) (fun H h => cI.obE h (Or.inl hw9) rfl) rfl ?_
              refine z_aload_n (i := 0) (q := 37) hX dX1_holdsBut_36 rfl rfl rfl ?_
              refine zr_get (C := RX1) (T := TX1) (N := 7) (q := 40) hX ciX1 0 rfl (by decide) in_X1 dX1_holdsBut_37 q224 (Or.inl rfl) (fun H h => cI.rd h (by first | assumption | exact Or.inl (by assumption) | exact Or.inr (by first | assumption | exact upm_same _ _ _ | exact (upm_ne _ _ (by first | assumption | exact Ne.symm (by assumption) | omega | exact ne_mp (m := m) (by assumption) (by assumption) | exact Ne.symm (ne_mp (m := m) (by assumption) (by assumption)) | exact ne_mp (m := w) (by assumption) (by assumption) | exact Ne.symm (ne_mp (m := w) (by assumption) (by assumption)))).trans (by first | assumption | exact upm_same _ _ _ | exact (upm_ne _ _ (by first | assumption | exact Ne.symm (by assumption) | omega | exact ne_mp (m := m) (by assumption) (by assumption) | exact Ne.symm (ne_mp (m := m) (by assumption) (by assumption)) | exact ne_mp (m := w) (by assumption) (by assumption) | exact Ne.symm (ne_mp (m := w) (by assumption) (by assumption)))).trans (by first | assumption | exact upm_same _ _ _ | exact (upm_ne _ _ (by first | assumption | exact Ne.symm (by assumption) | omega | exact ne_mp (m := m) (by assumption) (by assumption) | exact Ne.symm (ne_mp (m := m) (by assumption) (by assumption)) | exact ne_mp (m := w) (by assumption) (by assumption) | exact Ne.symm (ne_mp (m := w) (by assumption) (by assumption)))).trans (by first | assumption | exact upm_same _ _ _))))) rfl (by decide) rfl) rfl ?_
              refine z_iload_n (i := 1) (q := 41) hX dX1_holdsBut_40 rfl rfl rfl ?_
              refine z_VU (x := ⟨"LogCompactor$Condition", "holds", "(LLogCompactor$Log;I)Z"⟩) (owner := "LogCompactor$Condition") (ci := ciX16) (C := RX16) (T := TX16) (N := 1) (na := 2) hX dX1_holdsBut_41 (c_X16_holds_4 D A q2 hg hl) rfl q1166 q1168 q1249 q1250 q140 q1251 (Or.inr (zDs_at 0 rfl)) (by decide +kernel) ⟨Nat.le_of_ble_eq_true rfl, Nat.le_of_ble_eq_true rfl⟩ rfl rfl (Nat.le_of_ble_eq_true rfl) rfl (by first | exact Nat.le_of_ble_eq_true rfl | (show _ + 0 ≤ 0; omega)) (by first | exact Nat.le_of_ble_eq_true rfl | (show _ + 0 ≤ 0; omega)) (fun H h => ⟨h, h.obE (Or.inl hw9) rfl⟩) (fun E a => zT.no) (zPd.out ?_)
              show zG X (_ + 0) (_ + 0) _ 44 _ _
              refine z_ifB_eq (q := 47) (t := 51) hX dX1_holdsBut_44 (by decide) rfl (fun h44 => ?_) (fun h44 => ?_)
              · refine z_iconst (q := 52) hX dX1_holdsBut_51 rfl ?_
                refine zG.top (v2 := zI (bi false)) rfl ?_
                refine z_iand (q := 53) hX dX1_holdsBut_52 (bi_iand _ _) rfl ?_
                refine z_istore_n (i := 3) (q := 54) hX dX1_holdsBut_53 rfl (Nat.le_of_ble_eq_true rfl) rfl rfl ?_
                refine z_iinc (q := 57) hX dX1_holdsBut_54 rfl (Nat.le_of_ble_eq_true rfl) rfl rfl ?_
                refine z_goto (t := 5) hX dX1_holdsBut_57 (by decide) ?_
                exact ih hin _ _ (by rw [hst, hdec, hv9, h44, ev]) rfl
              · refine z_iconst (q := 48) hX dX1_holdsBut_47 rfl ?_
                refine z_goto (t := 52) hX dX1_holdsBut_48 (by decide) ?_
                refine zG.top (v2 := zI (bi true)) rfl ?_
                refine z_iand (q := 53) hX dX1_holdsBut_52 (bi_iand _ _) rfl ?_
                refine z_istore_n (i := 3) (q := 54) hX dX1_holdsBut_53 rfl (Nat.le_of_ble_eq_true rfl) rfl rfl ?_
                refine z_iinc (q := 57) hX dX1_holdsBut_54 rfl (Nat.le_of_ble_eq_true rfl) rfl rfl ?_
                refine z_goto (t := 5) hX dX1_holdsBut_57 (by decide) ?_
                exact ih hin _ _ (by rw [hst, hdec, hv9, h44, ev]) rfl
        | n + 5, q2, hdec, hn4 => exact absurd hn4 (by show ¬ n + 5 ≤ 4; omega)
    · have hiN : i = cl.length := by omega
      refine z_iload (q := 7) hX dX1_holdsBut_5 rfl rfl ?_
      refine z_aload_n (i := 0) (q := 8) hX dX1_holdsBut_7 rfl rfl rfl ?_
      refine zr_get (C := RX1) (T := TX1) (N := 7) (q := 11) hX ciX1 6 rfl (by decide) in_X1 dX1_holdsBut_8 q232 (Or.inl rfl) (fun H h => cI.rd h (by first | assumption | exact Or.inl (by assumption) | exact Or.inr (by first | assumption | exact upm_same _ _ _ | exact (upm_ne _ _ (by first | assumption | exact Ne.symm (by assumption) | omega | exact ne_mp (m := m) (by assumption) (by assumption) | exact Ne.symm (ne_mp (m := m) (by assumption) (by assumption)) | exact ne_mp (m := w) (by assumption) (by assumption) | exact Ne.symm (ne_mp (m := w) (by assumption) (by assumption)))).trans (by first | assumption | exact upm_same _ _ _ | exact (upm_ne _ _ (by first | assumption | exact Ne.symm (by assumption) | omega | exact ne_mp (m := m) (by assumption) (by assumption) | exact Ne.symm (ne_mp (m := m) (by assumption) (by assumption)) | exact ne_mp (m := w) (by assumption) (by assumption) | exact Ne.symm (ne_mp (m := w) (by assumption) (by assumption)))).trans (by first | assumption | exact upm_same _ _ _ | exact (upm_ne _ _ (by first | assumption | exact Ne.symm (by assumption) | omega | exact ne_mp (m := m) (by assumption) (by assumption) | exact Ne.symm (ne_mp (m := m) (by assumption) (by assumption)) | exact ne_mp (m := w) (by assumption) (by assumption) | exact Ne.symm (ne_mp (m := w) (by assumption) (by assumption)))).trans (by first | assumption | exact upm_same _ _ _))))) rfl (by decide) rfl) rfl ?_
      refine zG.top (v2 := .ref a) rfl ?_
      refine z_V (ci := ciJ2) (T := TJ2) (N := 3) (na := 0) hX dX1_holdsBut_11 (c_J2_size D A (Or.inl k1)) rfl q993 q467 q468 q101 q469 (by decide +kernel) ⟨Nat.le_of_ble_eq_true rfl, Nat.le_of_ble_eq_true rfl⟩ rfl rfl (Nat.le_of_ble_eq_true rfl) rfl (by first | exact Nat.le_of_ble_eq_true rfl | (show _ + 0 ≤ 0; omega)) (by first | exact Nat.le_of_ble_eq_true rfl | (show _ + 0 ≤ 0; omega)) (fun H h => ⟨h, h.obL (Or.inl k1)⟩) (fun E a => zT.no) (zPd.out ?_)
      show zG X (_ + 0) (_ + 0) _ 14 _ _
      refine z_icmp_ge (q := 17) (t := 60) hX dX1_holdsBut_14 (by decide) ⟨by omega, by omega⟩ ⟨by omega, by omega⟩ rfl (fun h14 => ?_) (fun h14 => ?_)
      · refine z_iload_n (i := 3) (q := 61) hX dX1_holdsBut_60 rfl rfl rfl ?_
        exact z_zretB hX dX1_holdsBut_61 (by first | exact Nat.le_of_ble_eq_true rfl | (show (_ : Nat) ≤ 0; omega)) (by first | exact Nat.le_of_ble_eq_true rfl | (show (_ : Nat) ≤ 0; omega)) rfl (fun H h => ⟨by rw [ev, hiN]; rfl, h⟩)
      · exact absurd h14 (by omega)
  refine z_iconst (q := 1) hX dX1_holdsBut_0 rfl ?_
  refine z_istore_n (i := 3) (q := 2) hX dX1_holdsBut_1 rfl (Nat.le_of_ble_eq_true rfl) rfl rfl ?_
  refine z_iconst (q := 3) hX dX1_holdsBut_2 rfl ?_
  refine z_istore (q := 5) hX dX1_holdsBut_3 (Nat.le_of_ble_eq_true rfl) rfl rfl ?_
  exact K5 0 (Nat.zero_le _) true _ rfl rfl
