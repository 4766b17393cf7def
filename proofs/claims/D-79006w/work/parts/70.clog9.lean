/-! THE CLASS: Log.add -/
set_option maxRecDepth 100000
abbrev rmX2_add_no : Room := { frames := 7, cells := 2, slots := 16, locals := 158 }
set_option maxHeartbeats 4000000 in
theorem c_X2_add_no (D : zD) (A : Nat → Prop) {w m : zMp} {b : Nat} {M : Int → Int} {ll ta col y : Nat} (hb : wLog D w m b M ll ta col) (hy : wLine w y (tx M (M 0))) (hb1 : ∀ n : Nat, n = 12 → bestI (takP M (M 0) false) (fun t => fitI M t (M 0)) n = -1) (hb2 : ∀ n : Nat, n = 12 → bestI (takP M (M 0) true) (fun t => fitI M t (M 0)) n = -1) (hf : ∀ j : Nat, j < 12 → isT M j = true) : zC D yX2_add cX2_add 6 (some .int) (some [(65, 70, 73, 61)]) rmX2_add_no A [.ref b, .ref y] (cI D A w m) (zPe (fun (z : Nat) => none) (fun _ => False) (fun _ => cI D A w m)) (xRc D A w m 1 (M 0) 11 12) := by
  refine zC_startH (L := [some (.ref b), some (.ref y), none, none, none, none]) (by decide) (Nat.le_of_ble_eq_true rfl) rfl (fun X hX => ?_)
  have hb0 := hb
  obtain ⟨hok, h1, ⟨mc, ls, h2, h3⟩, tf, h4, hts⟩ := hb
  have hM := hok.1
  have l1 := h3.1
  refine z_aload_n (i := 0) (q := 1) hX dX2_add_0 rfl rfl rfl ?_
  refine zr_get (C := RX2) (T := TX2) (N := 4) (q := 4) hX ciX2 0 rfl (by decide) in_X2 dX2_add_1 q203 (Or.inl rfl) (fun H h => cI.rd h (by first | assumption | exact Or.inl (by assumption) | exact Or.inr (by first | assumption | exact upm_same _ _ _ | exact (upm_ne _ _ (by first | assumption | exact Ne.symm (by assumption) | omega | exact ne_mp (m := m) (by assumption) (by assumption) | exact Ne.symm (ne_mp (m := m) (by assumption) (by assumption)) | exact ne_mp (m := w) (by assumption) (by assumption) | exact Ne.symm (ne_mp (m := w) (by assumption) (by assumption)))).trans (by first | assumption | exact upm_same _ _ _ | exact (upm_ne _ _ (by first | assumption | exact Ne.symm (by assumption) | omega | exact ne_mp (m := m) (by assumption) (by assumption) | exact Ne.symm (ne_mp (m := m) (by assumption) (by assumption)) | exact ne_mp (m := w) (by assumption) (by assumption) | exact Ne.symm (ne_mp (m := w) (by assumption) (by assumption)))).trans (by first | assumption | exact upm_same _ _ _ | exact (upm_ne _ _ (by first | assumption | exact Ne.symm (by assumption) | omega | exact ne_mp (m := m) (by assumption) (by assumption) | exact Ne.symm (ne_mp (m := m) (by assumption) (by assumption)) | exact ne_mp (m := w) (by assumption) (by assumption) | exact Ne.symm (ne_mp (m := w) (by assumption) (by assumption)))).trans (by first | assumption | exact upm_same _ _ _))))) rfl (by decide) rfl) rfl ?_
  refine z_V (ci := ciJ2) (T := TJ2) (N := 3) (na := 0) hX dX2_add_4 (c_J2_size D A h2) rfl q547 q467 q468 q101 q469 (by decide +kernel) ⟨Nat.le_of_ble_eq_true rfl, Nat.le_of_ble_eq_true rfl⟩ rfl rfl (Nat.le_of_ble_eq_true rfl) rfl (by first | exact Nat.le_of_ble_eq_true rfl | (show _ + 0 ≤ 2; omega)) (by first | exact Nat.le_of_ble_eq_true rfl | (show _ + 0 ≤ 16; omega)) (fun H h => ⟨h, h.obL h2⟩) (fun E a => zT.no) (zPd.out ?_)
  show zG X (_ + 0) (_ + 0) _ 7 _ _
  rw [show ((ls.length : Nat) : Int) = M 0 by omega]
  refine z_istore_n (i := 2) (q := 8) hX dX2_add_7 rfl (Nat.le_of_ble_eq_true rfl) rfl rfl ?_
  refine z_aload_n (i := 0) (q := 9) hX dX2_add_8 rfl rfl rfl ?_
  refine z_aload_n (i := 1) (q := 10) hX dX2_add_9 rfl rfl rfl ?_
  refine z_iconst (q := 11) hX dX2_add_10 rfl ?_
  refine z_V (ci := ciX2) (T := TX2) (N := 4) (na := 2) hX dX2_add_11 (c_X2_best D A (wid := false) hb0 hy hb1) rfl q1417 q1419 qs28 q98 q1420 (by decide +kernel) ⟨Nat.le_of_ble_eq_true rfl, Nat.le_of_ble_eq_true rfl⟩ rfl rfl (Nat.le_of_ble_eq_true rfl) rfl (by first | exact Nat.le_of_ble_eq_true rfl | (show _ + 0 ≤ 2; omega)) (by first | exact Nat.le_of_ble_eq_true rfl | (show _ + 0 ≤ 16; omega)) (fun H h => ⟨h, h.obE h1 rfl⟩) (fun E a => zT.no) (zPd.out ?_)
  show zG X (_ + 0) (_ + 0) _ 14 _ _
  refine z_istore_n (i := 3) (q := 15) hX dX2_add_14 rfl (Nat.le_of_ble_eq_true rfl) rfl rfl ?_
  refine z_iload_n (i := 3) (q := 16) hX dX2_add_15 rfl rfl rfl ?_
  refine z_iconst (q := 17) hX dX2_add_16 rfl ?_
  refine z_icmp_ne (q := 20) (t := 29) hX dX2_add_17 (by decide) (by decide) (by decide) rfl (fun h17 => ?_) (fun h17 => ?_)
  · exact absurd rfl h17
  · refine z_aload_n (i := 0) (q := 21) hX dX2_add_20 rfl rfl rfl ?_
    refine z_aload_n (i := 1) (q := 22) hX dX2_add_21 rfl rfl rfl ?_
    refine z_iconst (q := 23) hX dX2_add_22 rfl ?_
    refine z_V (ci := ciX2) (T := TX2) (N := 4) (na := 2) hX dX2_add_23 (c_X2_best D A (wid := true) hb0 hy hb2) rfl q1417 q1419 qs28 q98 q1420 (by decide +kernel) ⟨Nat.le_of_ble_eq_true rfl, Nat.le_of_ble_eq_true rfl⟩ rfl rfl (Nat.le_of_ble_eq_true rfl) rfl (by first | exact Nat.le_of_ble_eq_true rfl | (show _ + 0 ≤ 2; omega)) (by first | exact Nat.le_of_ble_eq_true rfl | (show _ + 0 ≤ 16; omega)) (fun H h => ⟨h, h.obE h1 rfl⟩) (fun E a => zT.no) (zPd.out ?_)
    show zG X (_ + 0) (_ + 0) _ 26 _ _
    refine z_goto (t := 30) hX dX2_add_26 (by decide) ?_
    refine z_istore_n (i := 3) (q := 31) hX dX2_add_30 rfl (Nat.le_of_ble_eq_true rfl) rfl rfl ?_
    refine z_iload_n (i := 3) (q := 32) hX dX2_add_31 rfl rfl rfl ?_
    refine z_iconst (q := 33) hX dX2_add_32 rfl ?_
    refine z_icmp_eq (q := 36) (t := 65) hX dX2_add_33 (by decide) (by decide) (by decide) rfl (fun h33 => ?_) (fun h33 => ?_)
    · refine z_aload_n (i := 0) (q := 66) hX dX2_add_65 rfl rfl rfl ?_
      refine z_V (ci := ciX2) (T := TX2) (N := 4) (na := 0) hX dX2_add_66 (c_X2_free_no D A hb0 hf) rfl q1448 q1450 qs30 q98 q1451 (by decide +kernel) ⟨Nat.le_of_ble_eq_true rfl, Nat.le_of_ble_eq_true rfl⟩ rfl rfl (Nat.le_of_ble_eq_true rfl) rfl (by first | exact Nat.le_of_ble_eq_true rfl | (show _ + 1 ≤ 2; omega)) (by first | exact Nat.le_of_ble_eq_true rfl | (show _ + 8 ≤ 16; omega)) (fun H h => ⟨h, h.obE h1 rfl⟩) (zXs.out (fun e66 => ?_)) (zPe.out (fun x66 hx66 => ?_))
      · refine zT.ax (fun hx66 => ?_)
        refine zT.catch hX [] _ [] rfl (fun z hz => by cases hz) (by decide) (by decide) q461 (zCs_at 9 rfl) rfl ?_
        refine z_astore (q := 75) hX dX2_add_73 (Nat.le_of_ble_eq_true rfl) rfl rfl ?_
        refine zc_new (q := 78) (fs := [.null, .null, .null, .null, .null, zI 0, zI 0, zI 0]) (C := RX9) (T := TX9) (N := 8) hX ciX9 rfl in_X9 tyX9_ok dX2_add_75 q461 q495 q130 (fun j hj => by match j, hj with | 0, _ => rfl | 1, _ => rfl | 2, _ => rfl | 3, _ => rfl | 4, _ => rfl | 5, _ => rfl | 6, _ => rfl | 7, _ => rfl | (_ + 8), h => exact absurd h (by omega)) (by first | exact Nat.le_of_ble_eq_true rfl | (show _ + 1 ≤ 2; omega)) (by first | exact Nat.le_of_ble_eq_true rfl | (show _ + 8 ≤ 16; omega)) rfl (fun a75 ha75 hb75 => ?_)
        have n75 := hb75
        try simp only [upm_none] at n75
        repeat (have := And.left n75; replace n75 := And.right n75)
        have n75x : a75 ≠ e66 := by omega
        refine z_dup (q := 79) hX dX2_add_78 rfl rfl ?_
        refine z_iconst (q := 80) hX dX2_add_79 rfl ?_
        refine z_iload_n (i := 2) (q := 81) hX dX2_add_80 rfl rfl rfl ?_
        refine z_aload (q := 83) hX dX2_add_81 rfl rfl ?_
        refine z_C (na := 3) hX dX2_add_83 (c_X9_init_2 D A (upm_same _ _ _)) q986 q987 q130 q988 rfl (by decide +kernel) ⟨Nat.le_of_ble_eq_true rfl, Nat.le_of_ble_eq_true rfl⟩ rfl rfl (Nat.le_of_ble_eq_true rfl) rfl (by first | exact Nat.le_of_ble_eq_true rfl | (show _ + 0 ≤ 2; omega)) (by first | exact Nat.le_of_ble_eq_true rfl | (show _ + 0 ≤ 16; omega)) (fun H h => h) (fun E a => zT.no) (zPv.out ?_)
        show zG X (_ + 0) (_ + 0) _ 86 _ _
        refine z_athrow hX ciX9 rfl dX2_add_86 (fun H h => (h.at (Or.inr (upm_same _ _ _))).th) ?_
        exact zT.out hX (by decide) (by first | exact Nat.le_of_ble_eq_true rfl | (show (_ : Nat) ≤ 2; omega)) (by first | exact Nat.le_of_ble_eq_true rfl | (show (_ : Nat) ≤ 16; omega)) (fun H h => ⟨rfl, e66, ⟨Ne.symm n75x, n75, hx66.2⟩, by simp only [upm_upm] at h; exact h⟩)
      show zG X (_ + 1) (_ + 8) _ 69 _ _
      exact hx66.elim
    · exact absurd rfl h33
abbrev rmX2_add_take : Room := { frames := 8, cells := 160, slots := 5200, locals := 199 }
set_option maxHeartbeats 4000000 in
theorem c_X2_add_take (D : zD) (A : Nat → Prop) {w m : zMp} {b : Nat} {M : Int → Int} {mR : zMp} {ll ta col y : Nat} {mc t v1 : Int} {ls : List Nat} {tf : Nat → Option Nat} (hm : m = logM D mR b ll ta col (M 1) mc ls tf) (hd : lgD b ll ta) (hok : zOk M) (hls : wLines w ls (M 0).toNat (tx M)) (hts : wTs w tf M) (hy : wLine w y (tx M (M 0))) (h39 : M 0 ≤ 39) (hb1 : ∀ n : Nat, n = 12 → bestI (takP M (M 0) false) (fun t => fitI M t (M 0)) n = v1) (hb2 : v1 = -1 → ∀ n : Nat, n = 12 → bestI (takP M (M 0) true) (fun t => fitI M t (M 0)) n = t) (ht : v1 ≠ -1 → v1 = t) (hT : isT M t = true) (hf : isFm M (fst M t) (M 0) = true) : zC D yX2_add cX2_add 6 (some .int) (some [(65, 70, 73, 61)]) rmX2_add_take A [.ref b, .ref y] (cI D A w m) (zPe (fun (z : Nat × zMp) => some (zI t)) (fun z => zLe w z.2 ∧ wTpl z.2 z.1 (gapsL (tx M (fst M t))) (nTl M (fst M t)).toNat (fun k => unionS (slt M t k) (tkl M (fst M t) k) (-1) (tok (tx M (M 0)) k)) (fun k => tkl M (fst M t) k) (rws M t ++ [M 0])) (fun z => cI D A z.2 (logM D mR b ll ta col (M 1) (mc + 1) (ls ++ [y]) (va_up tf t.toNat (some z.1))))) (zNo) := by
  refine zC_startH (L := [some (.ref b), some (.ref y), none, none, none, none]) (by decide) (Nat.le_of_ble_eq_true rfl) rfl (fun X hX => ?_)
  subst hm
  have hb0 : wLog D w (logM D mR b ll ta col (M 1) mc ls tf) b M ll ta col := ⟨hok, Or.inr logM_b, ⟨mc, ls, Or.inr (logM_ll hd), hls⟩, tf, Or.inr (logM_ta hd), hts⟩
  have hM := hok.1
  have l1 := hls.1
  obtain ⟨x, e1, e2, e3, e4⟩ := hts.get hT
  obtain ⟨gl, sl, rl, e5⟩ := e2.it
  obtain ⟨fs, y1⟩ := hy.it
  have hnn := isFm_n hf
  have n2 := nT_range (tx M (M 0))
  have hrl : (rws M t).length ≤ 39 := by
    have : (rws M t).length ≤ (M 0).toNat := rF_le
    omega
  have K30 : zG X 0 0 (cI D A w (logM D mR b ll ta col (M 1) mc ls tf)) 30 [some (.ref b), some (.ref y), some (zI (M 0)), some (zI v1), none, none] [zI t] := by
    refine z_istore_n (i := 3) (q := 31) hX dX2_add_30 rfl (Nat.le_of_ble_eq_true rfl) rfl rfl ?_
    refine z_iload_n (i := 3) (q := 32) hX dX2_add_31 rfl rfl rfl ?_
    refine z_iconst (q := 33) hX dX2_add_32 rfl ?_
    refine z_icmp_eq (q := 36) (t := 65) hX dX2_add_33 (by decide) ⟨by omega, by omega⟩ (by decide) rfl (fun h33 => ?_) (fun h33 => ?_)
    · exact absurd h33 (by omega)
    · refine z_aload_n (i := 0) (q := 37) hX dX2_add_36 rfl rfl rfl ?_
      refine zr_get (C := RX2) (T := TX2) (N := 4) (q := 40) hX ciX2 1 rfl (by decide) in_X2 dX2_add_37 q207 (Or.inl rfl) (fun H h => cI.rd h (Or.inr logM_b) rfl (by decide) rfl) rfl ?_
      refine z_iload_n (i := 3) (q := 41) hX dX2_add_40 rfl rfl rfl ?_
      refine z_aload_n (i := 0) (q := 42) hX dX2_add_41 rfl rfl rfl ?_
      refine zr_get (C := RX2) (T := TX2) (N := 4) (q := 45) hX ciX2 1 rfl (by decide) in_X2 dX2_add_42 q207 (Or.inl rfl) (fun H h => cI.rd h (Or.inr logM_b) rfl (by decide) rfl) rfl ?_
      refine z_iload_n (i := 3) (q := 46) hX dX2_add_45 rfl rfl rfl ?_
      refine zr_aald (q := 47) hX 7 rfl dX2_add_46 (fun H h => (h.at (Or.inr (logM_ta hd))).raQ) ⟨by omega, by omega⟩ (by first | decide | omega) rfl ?_
      refine zG.top (v2 := .ref x) (by show va_rf (tf (t).toNat) = _; rw [e1]; rfl) ?_
      refine z_aload_n (i := 1) (q := 48) hX dX2_add_47 rfl rfl rfl ?_
      refine z_iload_n (i := 2) (q := 49) hX dX2_add_48 rfl rfl rfl ?_
      refine z_V (ci := ciX7) (T := TX7) (N := 3) (na := 2) hX dX2_add_49 (c_X7_with D A e2 hy (by have : nTl M (M 0) = nT (tx M (M 0)) := rfl; omega) (rF_asc _ _) ⟨by omega, by omega⟩ hrl) rfl q1440 q1441 q1442 q127 q1443 (by decide +kernel) ⟨Nat.le_of_ble_eq_true rfl, Nat.le_of_ble_eq_true rfl⟩ rfl rfl (Nat.le_of_ble_eq_true rfl) rfl (by first | exact Nat.le_of_ble_eq_true rfl | (show _ + 150 ≤ 160; omega)) (by first | exact Nat.le_of_ble_eq_true rfl | (show _ + 5000 ≤ 5200; omega)) (fun H h => ⟨h, h.obE (Or.inl e5) rfl⟩) (fun E a => zT.no) (zPe.out (fun x49 hx49 => ?_))
      show zG X (_ + 150) (_ + 5000) _ 52 _ _
      obtain ⟨j1, j2⟩ := hx49
      obtain ⟨gl2, sl2, rl2, j5⟩ : ∃ gl sl rl, x49.2 x49.1 = some (eO ciX7 [.ref gl, .ref sl, .ref rl]) := by
        obtain ⟨-, gl, sl, rl, mc4, mc2, mc3, gs, ss, rs, h1, -⟩ := j2
        exact ⟨gl, sl, rl, h1⟩
      refine zc_aast (q := 53) hX 7 ciX7 rfl dX2_add_52 (logM_ta hd) (fun H h => h.obE (Or.inl j5) rfl) (by decide +kernel) ⟨by omega, by omega⟩ (by first | decide | omega) rfl ?_
      rw [logM_setT hd]
      refine z_aload_n (i := 0) (q := 54) hX dX2_add_53 rfl rfl rfl ?_
      refine zr_get (C := RX2) (T := TX2) (N := 4) (q := 57) hX ciX2 0 rfl (by decide) in_X2 dX2_add_54 q203 (Or.inl rfl) (fun H h => cI.rd h (Or.inr logM_b) rfl (by decide) rfl) rfl ?_
      refine z_aload_n (i := 1) (q := 58) hX dX2_add_57 rfl rfl rfl ?_
      refine z_V (ci := ciJ2) (T := TJ2) (N := 3) (na := 1) hX dX2_add_58 (c_J2_add D A (logM_ll hd) (by omega) (j1 _ _ y1) (zElO_5 _)) rfl q378 q379 q380 q101 q381 (by decide +kernel) ⟨Nat.le_of_ble_eq_true rfl, Nat.le_of_ble_eq_true rfl⟩ rfl rfl (Nat.le_of_ble_eq_true rfl) rfl (by first | exact Nat.le_of_ble_eq_true rfl | (show _ + 1 ≤ 160; omega)) (by first | exact Nat.le_of_ble_eq_true rfl | (show _ + 61 ≤ 5200; omega)) (fun H h => ⟨h, h.obL (Or.inr (logM_ll hd))⟩) (fun E a => zT.no) (zPd.out ?_)
      show zG X (_ + 1) (_ + 61) _ 61 _ _
      refine z_istore (q := 63) hX dX2_add_61 (Nat.le_of_ble_eq_true rfl) rfl rfl ?_
      refine z_iload_n (i := 3) (q := 64) hX dX2_add_63 rfl rfl rfl ?_
      exact z_iret hX dX2_add_64 (by first | exact Nat.le_of_ble_eq_true rfl | (show (_ : Nat) ≤ 160; omega)) (by first | exact Nat.le_of_ble_eq_true rfl | (show (_ : Nat) ≤ 5200; omega)) rfl (fun H h => ⟨x49, rfl, ⟨j1, j2⟩, by rw [logM_setL hd] at h; exact h⟩)
  by_cases hv : v1 = -1
  · have hb2' := hb2 hv
    subst hv
    refine z_aload_n (i := 0) (q := 1) hX dX2_add_0 rfl rfl rfl ?_
    refine zr_get (C := RX2) (T := TX2) (N := 4) (q := 4) hX ciX2 0 rfl (by decide) in_X2 dX2_add_1 q203 (Or.inl rfl) (fun H h => cI.rd h (Or.inr logM_b) rfl (by decide) rfl) rfl ?_
    refine z_V (ci := ciJ2) (T := TJ2) (N := 3) (na := 0) hX dX2_add_4 (c_J2_size D A (Or.inr (logM_ll hd))) rfl q547 q467 q468 q101 q469 (by decide +kernel) ⟨Nat.le_of_ble_eq_true rfl, Nat.le_of_ble_eq_true rfl⟩ rfl rfl (Nat.le_of_ble_eq_true rfl) rfl (by first | exact Nat.le_of_ble_eq_true rfl | (show _ + 0 ≤ 160; omega)) (by first | exact Nat.le_of_ble_eq_true rfl | (show _ + 0 ≤ 5200; omega)) (fun H h => ⟨h, h.obL (Or.inr (logM_ll hd))⟩) (fun E a => zT.no) (zPd.out ?_)
    show zG X (_ + 0) (_ + 0) _ 7 _ _
    rw [show ((ls.length : Nat) : Int) = M 0 by omega]
    refine z_istore_n (i := 2) (q := 8) hX dX2_add_7 rfl (Nat.le_of_ble_eq_true rfl) rfl rfl ?_
    refine z_aload_n (i := 0) (q := 9) hX dX2_add_8 rfl rfl rfl ?_
    refine z_aload_n (i := 1) (q := 10) hX dX2_add_9 rfl rfl rfl ?_
    refine z_iconst (q := 11) hX dX2_add_10 rfl ?_
    refine z_V (ci := ciX2) (T := TX2) (N := 4) (na := 2) hX dX2_add_11 (c_X2_best D A (wid := false) hb0 hy hb1) rfl q1417 q1419 qs28 q98 q1420 (by decide +kernel) ⟨Nat.le_of_ble_eq_true rfl, Nat.le_of_ble_eq_true rfl⟩ rfl rfl (Nat.le_of_ble_eq_true rfl) rfl (by first | exact Nat.le_of_ble_eq_true rfl | (show _ + 0 ≤ 160; omega)) (by first | exact Nat.le_of_ble_eq_true rfl | (show _ + 0 ≤ 5200; omega)) (fun H h => ⟨h, h.obE (Or.inr logM_b) rfl⟩) (fun E a => zT.no) (zPd.out ?_)
    show zG X (_ + 0) (_ + 0) _ 14 _ _
    refine z_istore_n (i := 3) (q := 15) hX dX2_add_14 rfl (Nat.le_of_ble_eq_true rfl) rfl rfl ?_
    refine z_iload_n (i := 3) (q := 16) hX dX2_add_15 rfl rfl rfl ?_
    refine z_iconst (q := 17) hX dX2_add_16 rfl ?_
    refine z_icmp_ne (q := 20) (t := 29) hX dX2_add_17 (by decide) (by decide) (by decide) rfl (fun h17 => ?_) (fun h17 => ?_)
    · exact absurd rfl h17
    · refine z_aload_n (i := 0) (q := 21) hX dX2_add_20 rfl rfl rfl ?_
      refine z_aload_n (i := 1) (q := 22) hX dX2_add_21 rfl rfl rfl ?_
      refine z_iconst (q := 23) hX dX2_add_22 rfl ?_
      refine z_V (ci := ciX2) (T := TX2) (N := 4) (na := 2) hX dX2_add_23 (c_X2_best D A (wid := true) hb0 hy hb2') rfl q1417 q1419 qs28 q98 q1420 (by decide +kernel) ⟨Nat.le_of_ble_eq_true rfl, Nat.le_of_ble_eq_true rfl⟩ rfl rfl (Nat.le_of_ble_eq_true rfl) rfl (by first | exact Nat.le_of_ble_eq_true rfl | (show _ + 0 ≤ 160; omega)) (by first | exact Nat.le_of_ble_eq_true rfl | (show _ + 0 ≤ 5200; omega)) (fun H h => ⟨h, h.obE (Or.inr logM_b) rfl⟩) (fun E a => zT.no) (zPd.out ?_)
      show zG X (_ + 0) (_ + 0) _ 26 _ _
      refine z_goto (t := 30) hX dX2_add_26 (by decide) ?_
      exact K30
  · have hvt := ht hv
    refine z_aload_n (i := 0) (q := 1) hX dX2_add_0 rfl rfl rfl ?_
    refine zr_get (C := RX2) (T := TX2) (N := 4) (q := 4) hX ciX2 0 rfl (by decide) in_X2 dX2_add_1 q203 (Or.inl rfl) (fun H h => cI.rd h (Or.inr logM_b) rfl (by decide) rfl) rfl ?_
    refine z_V (ci := ciJ2) (T := TJ2) (N := 3) (na := 0) hX dX2_add_4 (c_J2_size D A (Or.inr (logM_ll hd))) rfl q547 q467 q468 q101 q469 (by decide +kernel) ⟨Nat.le_of_ble_eq_true rfl, Nat.le_of_ble_eq_true rfl⟩ rfl rfl (Nat.le_of_ble_eq_true rfl) rfl (by first | exact Nat.le_of_ble_eq_true rfl | (show _ + 0 ≤ 160; omega)) (by first | exact Nat.le_of_ble_eq_true rfl | (show _ + 0 ≤ 5200; omega)) (fun H h => ⟨h, h.obL (Or.inr (logM_ll hd))⟩) (fun E a => zT.no) (zPd.out ?_)
    show zG X (_ + 0) (_ + 0) _ 7 _ _
    rw [show ((ls.length : Nat) : Int) = M 0 by omega]
    refine z_istore_n (i := 2) (q := 8) hX dX2_add_7 rfl (Nat.le_of_ble_eq_true rfl) rfl rfl ?_
    refine z_aload_n (i := 0) (q := 9) hX dX2_add_8 rfl rfl rfl ?_
    refine z_aload_n (i := 1) (q := 10) hX dX2_add_9 rfl rfl rfl ?_
    refine z_iconst (q := 11) hX dX2_add_10 rfl ?_
    refine z_V (ci := ciX2) (T := TX2) (N := 4) (na := 2) hX dX2_add_11 (c_X2_best D A (wid := false) hb0 hy hb1) rfl q1417 q1419 qs28 q98 q1420 (by decide +kernel) ⟨Nat.le_of_ble_eq_true rfl, Nat.le_of_ble_eq_true rfl⟩ rfl rfl (Nat.le_of_ble_eq_true rfl) rfl (by first | exact Nat.le_of_ble_eq_true rfl | (show _ + 0 ≤ 160; omega)) (by first | exact Nat.le_of_ble_eq_true rfl | (show _ + 0 ≤ 5200; omega)) (fun H h => ⟨h, h.obE (Or.inr logM_b) rfl⟩) (fun E a => zT.no) (zPd.out ?_)
    show zG X (_ + 0) (_ + 0) _ 14 _ _
    refine z_istore_n (i := 3) (q := 15) hX dX2_add_14 rfl (Nat.le_of_ble_eq_true rfl) rfl rfl ?_
    refine z_iload_n (i := 3) (q := 16) hX dX2_add_15 rfl rfl rfl ?_
    refine z_iconst (q := 17) hX dX2_add_16 rfl ?_
    refine z_icmp_ne (q := 20) (t := 29) hX dX2_add_17 (by decide) ⟨by omega, by omega⟩ (by decide) rfl (fun h17 => ?_) (fun h17 => ?_)
    · refine z_iload_n (i := 3) (q := 30) hX dX2_add_29 rfl rfl rfl ?_
      refine zG.top (v2 := zI t) (by rw [hvt]) ?_
      exact K30
    · exact absurd h17 (by omega)
