/-! THE CLASS: Log.add, of a new template -/
set_option maxRecDepth 100000
theorem wLines.snoc {w : zMp} {ls : List Nat} {N a : Nat} {T : Int → zS} (h : wLines w ls N T) (ha : wLine w a (T N)) : wLines w (ls ++ [a]) (N + 1) T := by
  refine ⟨by rw [List.length_append, h.1]; rfl, fun k hk => ?_⟩
  by_cases e : k = N
  · subst e
    exact ⟨a, by rw [List.getElem?_append_right (by rw [h.1]; exact Nat.le_refl _), h.1, Nat.sub_self]; rfl, ha⟩
  · obtain ⟨x, h1, h2⟩ := h.2 k (by omega)
    exact ⟨x, by rw [List.getElem?_append_left (by rw [h.1]; omega)]; exact h1, h2⟩
abbrev rmX2_add_new : Room := { frames := 9, cells := 1810, slots := 8200, locals := 219 }
set_option maxHeartbeats 4000000 in
theorem c_X2_add_new (D : zD) (A : Nat → Prop) {w m : zMp} {b : Nat} {M : Int → Int} {mR : zMp} {ll ta col y : Nat} {mc v : Int} {ls : List Nat} {tf : Nat → Option Nat} (hm : m = logM D mR b ll ta col (M 1) mc ls tf) (hd : lgD b ll ta) (hok : zOk M) (hls : wLines w ls (M 0).toNat (tx M)) (hts : wTs w tf M) (hy : wLine w y (tx M (M 0))) (h39 : M 0 ≤ 39) (hb1 : ∀ n : Nat, n = 12 → bestI (takP M (M 0) false) (fun t => fitI M t (M 0)) n = -1) (hb2 : ∀ n : Nat, n = 12 → bestI (takP M (M 0) true) (fun t => fitI M t (M 0)) n = -1) (hv : ∀ i : Nat, i < 12 → (∀ j : Nat, j < i → isT M j = true) → isT M i = false → v = i) (hn : ∃ i : Nat, i < 12 ∧ isT M i = false) (hvr : 0 ≤ v ∧ v ≤ 11) : zC D yX2_add cX2_add 6 (some .int) (some [(65, 70, 73, 61)]) rmX2_add_new A [.ref b, .ref y] (cI D A w m) (zPe (fun (z : Nat × zMp) => some (zI v)) (fun z => zLe w z.2 ∧ wTpl z.2 z.1 (gapsL (tx M (M 0))) (nT (tx M (M 0))).toNat (fun _ => -1) (fun k => tok (tx M (M 0)) k) [M 0]) (fun z => cI D A z.2 (logM D mR b ll ta col (M 1) (mc + 1) (ls ++ [y]) (va_up tf v.toNat (some z.1))))) (zNo) := by
  refine zC_startH (L := [some (.ref b), some (.ref y), none, none, none, none]) (by decide) (Nat.le_of_ble_eq_true rfl) rfl (fun X hX => ?_)
  subst hm
  have hb0 : wLog D w (logM D mR b ll ta col (M 1) mc ls tf) b M ll ta col := ⟨hok, Or.inr logM_b, ⟨mc, ls, Or.inr (logM_ll hd), hls⟩, tf, Or.inr (logM_ta hd), hts⟩
  have hM := hok.1
  have l1 := hls.1
  obtain ⟨fs, y1⟩ := hy.it
  refine zG.know (fun H h => h.iv (k := M 0) (by omega) (by omega)) (fun hiv => ?_)
  refine z_aload_n (i := 0) (q := 1) hX dX2_add_0 rfl rfl rfl ?_
  refine zr_get (C := RX2) (T := TX2) (N := 4) (q := 4) hX ciX2 0 rfl (by decide) in_X2 dX2_add_1 q203 (Or.inl rfl) (fun H h => cI.rd h (Or.inr logM_b) rfl (by decide) rfl) rfl ?_
  refine z_V (ci := ciJ2) (T := TJ2) (N := 3) (na := 0) hX dX2_add_4 (c_J2_size D A (Or.inr (logM_ll hd))) rfl q547 q467 q468 q101 q469 (by decide +kernel) ⟨Nat.le_of_ble_eq_true rfl, Nat.le_of_ble_eq_true rfl⟩ rfl rfl (Nat.le_of_ble_eq_true rfl) rfl (by first | exact Nat.le_of_ble_eq_true rfl | (show _ + 0 ≤ 1810; omega)) (by first | exact Nat.le_of_ble_eq_true rfl | (show _ + 0 ≤ 8200; omega)) (fun H h => ⟨h, h.obL (Or.inr (logM_ll hd))⟩) (fun E a => zT.no) (zPd.out ?_)
  show zG X (_ + 0) (_ + 0) _ 7 _ _
  rw [show ((ls.length : Nat) : Int) = M 0 by omega]
  refine z_istore_n (i := 2) (q := 8) hX dX2_add_7 rfl (Nat.le_of_ble_eq_true rfl) rfl rfl ?_
  refine z_aload_n (i := 0) (q := 9) hX dX2_add_8 rfl rfl rfl ?_
  refine z_aload_n (i := 1) (q := 10) hX dX2_add_9 rfl rfl rfl ?_
  refine z_iconst (q := 11) hX dX2_add_10 rfl ?_
  refine z_V (ci := ciX2) (T := TX2) (N := 4) (na := 2) hX dX2_add_11 (c_X2_best D A (wid := false) hb0 hy hb1) rfl q1417 q1419 qs28 q98 q1420 (by decide +kernel) ⟨Nat.le_of_ble_eq_true rfl, Nat.le_of_ble_eq_true rfl⟩ rfl rfl (Nat.le_of_ble_eq_true rfl) rfl (by first | exact Nat.le_of_ble_eq_true rfl | (show _ + 0 ≤ 1810; omega)) (by first | exact Nat.le_of_ble_eq_true rfl | (show _ + 0 ≤ 8200; omega)) (fun H h => ⟨h, h.obE (Or.inr logM_b) rfl⟩) (fun E a => zT.no) (zPd.out ?_)
  show zG X (_ + 0) (_ + 0) _ 14 _ _
  refine z_istore_n (i := 3) (q := 15) hX dX2_add_14 rfl (Nat.le_of_ble_eq_true rfl) rfl rfl ?_
  refine z_iload_n (i := 3) (q := 16) hX dX2_add_15 rfl rfl rfl ?_
  refine z_iconst (q := 17) hX dX2_add_16 rfl ?_
  refine z_icmp_ne (q := 20) (t := 29) hX dX2_add_17 (by decide) (by decide) (by decide) rfl (fun h17 => ?_) (fun h17 => ?_)
  · exact absurd rfl h17
  · refine z_aload_n (i := 0) (q := 21) hX dX2_add_20 rfl rfl rfl ?_
    refine z_aload_n (i := 1) (q := 22) hX dX2_add_21 rfl rfl rfl ?_
    refine z_iconst (q := 23) hX dX2_add_22 rfl ?_
    refine z_V (ci := ciX2) (T := TX2) (N := 4) (na := 2) hX dX2_add_23 (c_X2_best D A (wid := true) hb0 hy hb2) rfl q1417 q1419 qs28 q98 q1420 (by decide +kernel) ⟨Nat.le_of_ble_eq_true rfl, Nat.le_of_ble_eq_true rfl⟩ rfl rfl (Nat.le_of_ble_eq_true rfl) rfl (by first | exact Nat.le_of_ble_eq_true rfl | (show _ + 0 ≤ 1810; omega)) (by first | exact Nat.le_of_ble_eq_true rfl | (show _ + 0 ≤ 8200; omega)) (fun H h => ⟨h, h.obE (Or.inr logM_b) rfl⟩) (fun E a => zT.no) (zPd.out ?_)
    show zG X (_ + 0) (_ + 0) _ 26 _ _
    refine z_goto (t := 30) hX dX2_add_26 (by decide) ?_
    refine z_istore_n (i := 3) (q := 31) hX dX2_add_30 rfl (Nat.le_of_ble_eq_true rfl) rfl rfl ?_
    refine z_iload_n (i := 3) (q := 32) hX dX2_add_31 rfl rfl rfl ?_
    refine z_iconst (q := 33) hX dX2_add_32 rfl ?_
    refine z_icmp_eq (q := 36) (t := 65) hX dX2_add_33 (by decide) (by decide) (by decide) rfl (fun h33 => ?_) (fun h33 => ?_)
    · refine z_aload_n (i := 0) (q := 66) hX dX2_add_65 rfl rfl rfl ?_
      refine z_V (ci := ciX2) (T := TX2) (N := 4) (na := 0) hX dX2_add_66 (c_X2_free_ok D A hb0 hv hn) rfl q1448 q1450 qs30 q98 q1451 (by decide +kernel) ⟨Nat.le_of_ble_eq_true rfl, Nat.le_of_ble_eq_true rfl⟩ rfl rfl (Nat.le_of_ble_eq_true rfl) rfl (by first | exact Nat.le_of_ble_eq_true rfl | (show _ + 0 ≤ 1810; omega)) (by first | exact Nat.le_of_ble_eq_true rfl | (show _ + 0 ≤ 8200; omega)) (fun H h => ⟨h, h.obE (Or.inr logM_b) rfl⟩) (fun E a => zT.no) (zPd.out ?_)
      show zG X (_ + 0) (_ + 0) _ 69 _ _
      refine z_istore_n (i := 3) (q := 70) hX dX2_add_69 rfl (Nat.le_of_ble_eq_true rfl) rfl rfl ?_
      refine z_goto (t := 87) hX dX2_add_70 (by decide) ?_
      refine z_aload_n (i := 0) (q := 88) hX dX2_add_87 rfl rfl rfl ?_
      refine zr_get (C := RX2) (T := TX2) (N := 4) (q := 91) hX ciX2 0 rfl (by decide) in_X2 dX2_add_88 q203 (Or.inl rfl) (fun H h => cI.rd h (Or.inr logM_b) rfl (by decide) rfl) rfl ?_
      refine z_aload_n (i := 1) (q := 92) hX dX2_add_91 rfl rfl rfl ?_
      refine z_V (ci := ciJ2) (T := TJ2) (N := 3) (na := 1) hX dX2_add_92 (c_J2_add D A (logM_ll hd) (by omega) y1 (zElO_5 _)) rfl q378 q379 q380 q101 q381 (by decide +kernel) ⟨Nat.le_of_ble_eq_true rfl, Nat.le_of_ble_eq_true rfl⟩ rfl rfl (Nat.le_of_ble_eq_true rfl) rfl (by first | exact Nat.le_of_ble_eq_true rfl | (show _ + 1 ≤ 1810; omega)) (by first | exact Nat.le_of_ble_eq_true rfl | (show _ + 61 ≤ 8200; omega)) (fun H h => ⟨h, h.obL (Or.inr (logM_ll hd))⟩) (fun E a => zT.no) (zPd.out ?_)
      show zG X (_ + 1) (_ + 61) _ 95 _ _
      rw [logM_setL hd]
      refine z_istore (q := 97) hX dX2_add_95 (Nat.le_of_ble_eq_true rfl) rfl rfl ?_
      refine zc_new (q := 100) (fs := [zI 0, .null, zI 0]) (C := RJ2) (T := TJ2) (N := 3) hX ciJ2 rfl in_J2 tyJ2_ok dX2_add_97 q155 q156 q101 (fun j hj => by match j, hj with | 0, _ => rfl | 1, _ => rfl | 2, _ => rfl | (_ + 3), h => exact absurd h (by omega)) (by first | exact Nat.le_of_ble_eq_true rfl | (show _ + 1 ≤ 1810; omega)) (by first | exact Nat.le_of_ble_eq_true rfl | (show _ + 3 ≤ 8200; omega)) rfl (fun a97 ha97 hb97 => ?_)
      have n97 := hb97
      try simp only [upm_none] at n97
      repeat (have := And.left n97; replace n97 := And.right n97)
      refine z_dup (q := 101) hX dX2_add_100 rfl rfl ?_
      refine z_C (na := 0) hX dX2_add_101 (c_J2_init D A (by first | assumption | exact upm_same _ _ _ | exact (upm_ne _ _ (by first | assumption | exact Ne.symm (by assumption) | omega | exact ne_mp (m := m) (by assumption) (by assumption) | exact Ne.symm (ne_mp (m := m) (by assumption) (by assumption)) | exact ne_mp (m := w) (by assumption) (by assumption) | exact Ne.symm (ne_mp (m := w) (by assumption) (by assumption)))).trans (by first | assumption | exact upm_same _ _ _ | exact (upm_ne _ _ (by first | assumption | exact Ne.symm (by assumption) | omega | exact ne_mp (m := m) (by assumption) (by assumption) | exact Ne.symm (ne_mp (m := m) (by assumption) (by assumption)) | exact ne_mp (m := w) (by assumption) (by assumption) | exact Ne.symm (ne_mp (m := w) (by assumption) (by assumption)))).trans (by first | assumption | exact upm_same _ _ _ | exact (upm_ne _ _ (by first | assumption | exact Ne.symm (by assumption) | omega | exact ne_mp (m := m) (by assumption) (by assumption) | exact Ne.symm (ne_mp (m := m) (by assumption) (by assumption)) | exact ne_mp (m := w) (by assumption) (by assumption) | exact Ne.symm (ne_mp (m := w) (by assumption) (by assumption)))).trans (by first | assumption | exact upm_same _ _ _))))) q157 q158 q101 q159 rfl (by decide +kernel) ⟨Nat.le_of_ble_eq_true rfl, Nat.le_of_ble_eq_true rfl⟩ rfl rfl (Nat.le_of_ble_eq_true rfl) rfl (by first | exact Nat.le_of_ble_eq_true rfl | (show _ + 0 ≤ 1810; omega)) (by first | exact Nat.le_of_ble_eq_true rfl | (show _ + 0 ≤ 8200; omega)) (fun H h => h) (fun E a => zT.no) (zPv.out ?_)
      show zG X (_ + 0) (_ + 0) _ 104 _ _
      have i1 : a97 ≠ b := ne_mp hb97 logM_b
      have i2 : a97 ≠ ll := ne_mp hb97 (logM_ll hd)
      have i3 : a97 ≠ ta := ne_mp hb97 (logM_ta hd)
      rw [upm_upm]
      refine z_astore (q := 106) hX dX2_add_104 (Nat.le_of_ble_eq_true rfl) rfl rfl ?_
      refine z_aload (q := 108) hX dX2_add_106 rfl rfl ?_
      refine z_iload_n (i := 2) (q := 109) hX dX2_add_108 rfl rfl rfl ?_
      refine z_S (na := 1) hX dX2_add_109 (c_J18_valueOf D A (by omega)) q1176 q1177 q121 q1178 (by decide +kernel) ⟨Nat.le_of_ble_eq_true rfl, Nat.le_of_ble_eq_true rfl⟩ rfl rfl (Nat.le_of_ble_eq_true rfl) rfl (by first | exact Nat.le_of_ble_eq_true rfl | (show _ + 0 ≤ 1810; omega)) (by first | exact Nat.le_of_ble_eq_true rfl | (show _ + 0 ≤ 8200; omega)) (fun H h => h) (fun E a => zT.no) (zPd.out ?_)
      show zG X (_ + 0) (_ + 0) _ 112 _ _
      refine z_V (ci := ciJ2) (T := TJ2) (N := 3) (na := 1) hX dX2_add_112 (c_J2_add D A (xs := []) (upm_same _ _ _) (Nat.zero_le _) hiv (zElO_I _)) rfl q378 q379 q380 q101 q381 (by decide +kernel) ⟨Nat.le_of_ble_eq_true rfl, Nat.le_of_ble_eq_true rfl⟩ rfl rfl (Nat.le_of_ble_eq_true rfl) rfl (by first | exact Nat.le_of_ble_eq_true rfl | (show _ + 1 ≤ 1810; omega)) (by first | exact Nat.le_of_ble_eq_true rfl | (show _ + 61 ≤ 8200; omega)) (fun H h => ⟨h, h.obL (Or.inr (upm_same _ _ _))⟩) (fun E a => zT.no) (zPd.out ?_)
      show zG X (_ + 1) (_ + 61) _ 115 _ _
      rw [upm_upm]
      refine zc_frz a97 (upm_same _ _ _) ?_
      rw [dlm_upm _ _ hb97]
      have hle : zLe w (upm w a97 (eL (0 + 1) ([] ++ [zIv D (M 0)]))) := zLe.up ha97
      have hlsn := (hls.le hle).snoc (a := y) (by rw [show (((M 0).toNat : Nat) : Int) = M 0 by omega]; exact hy.le hle)
      refine z_istore (q := 117) hX dX2_add_115 (Nat.le_of_ble_eq_true rfl) rfl rfl ?_
      refine z_aload_n (i := 0) (q := 118) hX dX2_add_117 rfl rfl rfl ?_
      refine zr_get (C := RX2) (T := TX2) (N := 4) (q := 121) hX ciX2 1 rfl (by decide) in_X2 dX2_add_118 q207 (Or.inl rfl) (fun H h => cI.rd h (Or.inr logM_b) rfl (by decide) rfl) rfl ?_
      refine z_iload_n (i := 3) (q := 122) hX dX2_add_121 rfl rfl rfl ?_
      refine z_aload_n (i := 0) (q := 123) hX dX2_add_122 rfl rfl rfl ?_
      refine zr_get (C := RX2) (T := TX2) (N := 4) (q := 126) hX ciX2 0 rfl (by decide) in_X2 dX2_add_123 q203 (Or.inl rfl) (fun H h => cI.rd h (Or.inr logM_b) rfl (by decide) rfl) rfl ?_
      refine z_aload (q := 128) hX dX2_add_126 rfl rfl ?_
      refine z_S (na := 2) hX dX2_add_128 (c_X7_of D A (R := [M 0]) (Or.inr (logM_ll hd)) hlsn (upm_same _ _ _) ((zInts.nil _).snoc (hle _ _ hiv) ⟨by omega, by omega⟩) (Nat.le_refl _) (by omega) (by show 1 ≤ 40; omega) (fun r hr => by rw [List.mem_singleton] at hr; omega) (fun r hr => by rw [List.mem_singleton] at hr; rw [hr]; rfl)) q1452 q1453 q127 q1454 (by decide +kernel) ⟨Nat.le_of_ble_eq_true rfl, Nat.le_of_ble_eq_true rfl⟩ rfl rfl (Nat.le_of_ble_eq_true rfl) rfl (by first | exact Nat.le_of_ble_eq_true rfl | (show _ + 1800 ≤ 1810; omega)) (by first | exact Nat.le_of_ble_eq_true rfl | (show _ + 8000 ≤ 8200; omega)) (fun H h => h) (fun E a => zT.no) (zPe.out (fun x128 hx128 => ?_))
      show zG X (_ + 1800) (_ + 8000) _ 131 _ _
      obtain ⟨j1, j2⟩ := hx128
      have j2 : wTpl x128.2 x128.1 (gapsL (tx M (M 0))) (nT (tx M (M 0))).toNat (fun _ => -1) (fun k => tok (tx M (M 0)) k) [M 0] := j2
      obtain ⟨gl2, sl2, rl2, j5⟩ : ∃ gl sl rl, x128.2 x128.1 = some (eO ciX7 [.ref gl, .ref sl, .ref rl]) := by
        obtain ⟨-, gl, sl, rl, mc4, mc2, mc3, gs, ss, rs, h1, -⟩ := id j2
        exact ⟨gl, sl, rl, h1⟩
      refine zc_aast (q := 132) hX 7 ciX7 rfl dX2_add_131 (logM_ta hd) (fun H h => h.obE (Or.inl j5) rfl) (by decide +kernel) ⟨by omega, by omega⟩ (by first | decide | omega) rfl ?_
      rw [logM_setT hd]
      refine z_iload_n (i := 3) (q := 133) hX dX2_add_132 rfl rfl rfl ?_
      exact z_iret hX dX2_add_133 (by first | exact Nat.le_of_ble_eq_true rfl | (show (_ : Nat) ≤ 1810; omega)) (by first | exact Nat.le_of_ble_eq_true rfl | (show (_ : Nat) ≤ 8200; omega)) rfl (fun H h => ⟨x128, rfl, ⟨hle.tr j1, j2⟩, h⟩)
    · exact absurd rfl h33
