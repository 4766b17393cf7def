/-! THE CLASS: the compactor: split, compact -/
set_option maxRecDepth 100000
theorem splM_low {M : Int → Int} {t k nx i : Int} (ht : 0 ≤ t) (hx : 0 ≤ nx) (h40 : M 0 ≤ 40) (hi : i < 43 ∨ (84 ≤ i ∧ i < 1724)) : splM M t k nx i = M i := by
  have e : splM M t k nx i = slM (spO M t k nx) t i := slM_lo hx (by omega)
  rw [e, slM_lo ht (by omega)]
  exact spO_lo h40 (by omega)
theorem splM_ln {w : zMp} {M : Int → Int} {t k nx : Int} {ls : List Nat} (hok : zOk M) (ht : 0 ≤ t) (hx : 0 ≤ nx) (h : wLines w ls (M 0).toNat (tx M)) : wLines w ls (splM M t k nx 0).toNat (tx (splM M t k nx)) := by
  have hM := hok.1
  rw [splM_low ht hx hM.2.1 (by omega)]
  refine ⟨h.1, fun i hi => ?_⟩
  obtain ⟨a, h1, h2⟩ := h.2 i hi
  have hf := hok.f (l := (i : Int)) (by omega) (by omega)
  have e : tx (splM M t k nx) (i : Int) = tx M (i : Int) := tx_congr (splM_low ht hx hM.2.1 (by omega)) (fun j j0 j1 => splM_low ht hx hM.2.1 (by omega))
  exact ⟨a, h1, by rw [e]; exact h2⟩
theorem lfree_v {M : Int → Int} : ∀ i : Nat, i < 12 → (∀ j : Nat, j < i → isT M j = true) → isT M i = false → lfree M = i := fun i hi h1 h2 => lfree_at hi h1 h2
abbrev rmX1_split : Room := { frames := 10, cells := 3800, slots := 23000, locals := 248 }
set_option maxHeartbeats 4000000 in
theorem c_X1_split (D : zD) (A : Nat → Prop) {w m : zMp} {b : Nat} {K : Nat → Prop} {M : Int → Int} {ps : List (Int → Int)} {sv : Option (Int → Int)} {rp : Option (Int × Int × Int × Int)} {s : zS} {cs : Option (List zCn)} {t c : Int} (hb : zX1 D w m K b M ps sv rp s cs) (hK : zHk K m) (ht : zR t) (hc : zR c) : zC D yX1_split cX1_split 6 (some .int) (some [(34, 64, 65, 123)]) rmX1_split A [.ref b, zI (t), zI (c)] (cI D A w m) (zPe (fun (z : zMp × zMp) => some (zI (lfree M))) (fun z => pSt D w m K b (splC M t c = 0) (splM M t (tokO M t c) (lfree M)) (psA ps M) sv rp s cs z) (fun z => cI D A z.1 z.2)) (zXo (xSt D A w m K b "java/lang/IndexOutOfBoundsException" ciJ22 (splC M t c = 1) M ps sv rp s cs) (zXo (xSt D A w m K b "java/lang/IllegalStateException" ciJ6 (splC M t c = 2) M ps sv rp s cs) (xSt D A w m K b "java/lang/UnsupportedOperationException" ciJ23 (splC M t c = 3) M ps sv (some (3, t, 13, c)) s cs))) := by
  refine zC_startH (L := [some (.ref b), some (zI (t)), some (zI (c)), none, none, none]) (by decide) (Nat.le_of_ble_eq_true rfl) rfl (fun X hX => ?_)
  have hb0 := hb
  obtain ⟨lg, hl1, ia, sa, ra, ca, hbf⟩ := hb
  have hbf : zX1b D w m K b lg hl1 ia sa ra ca M ps sv rp s cs := hbf
  have hbf0 := hbf
  obtain ⟨h1, ⟨hok, ll, ta, col, tc, mc, ls, tf, g1, g2, g3, g4, g5, g6, g7⟩, -⟩ := hbf
  have hg : wLog D w m lg M ll ta col := ⟨hok, Or.inl g1, ⟨mc, ls, Or.inl g2, g3⟩, tf, Or.inl g4, g5⟩
  have hM := hok.1
  have l1 := g3.1
  have hvr := varsL_rng M t
  have n5 := nT_range (tx M (fst M t))
  have n6 : nTl M (fst M t) = nT (tx M (fst M t)) := rfl
  have hnt := nTpl_le M
  have hnt0 : 0 ≤ nTpl M := (cnt_rng (fun t => isT M t) 12).1
  obtain ⟨fr, hfr⟩ : ∃ fr, fr = lfree M := ⟨_, rfl⟩
  have hfv : ∀ i : Nat, i < 12 → (∀ j : Nat, j < i → isT M j = true) → isT M i = false → fr = i := by rw [hfr]; exact lfree_v
  have hfo : nTpl M ≠ 12 → 0 ≤ fr ∧ fr ≤ 11 ∧ isT M fr = false := by rw [hfr]; exact lfree_ok
  rw [← hfr] at hX
  clear hfr
  refine z_aload_n (i := 0) (q := 1) hX dX1_split_0 rfl rfl rfl ?_
  refine z_iload_n (i := 1) (q := 2) hX dX1_split_1 rfl rfl rfl ?_
  refine z_V (ci := ciX1) (T := TX1) (N := 7) (na := 1) hX dX1_split_2 (c_X1_at D A hb0 ht) rfl q1625 q1627 qs35 q97 q1628 (by decide +kernel) ⟨Nat.le_of_ble_eq_true rfl, Nat.le_of_ble_eq_true rfl⟩ rfl rfl (Nat.le_of_ble_eq_true rfl) rfl (by first | exact Nat.le_of_ble_eq_true rfl | (show _ + 4 ≤ 3800; omega)) (by first | exact Nat.le_of_ble_eq_true rfl | (show _ + 24 ≤ 23000; omega)) (fun H h => ⟨h, h.obE (Or.inr h1) rfl⟩) (zXs.out (fun e2 => ?_)) (zPe.out (fun x2 hx2 => ?_))
  · refine zT.ax (fun hx2 => ?_)
    exact zT.out hX (by decide) (by first | exact Nat.le_of_ble_eq_true rfl | (show (_ : Nat) ≤ 3800; omega)) (by first | exact Nat.le_of_ble_eq_true rfl | (show (_ : Nat) ≤ 23000; omega)) (fun H h => Or.inl (xSt0 hK hb0 (by unfold splC isC; rw [hx2, Bool.false_and, if_pos rfl]) h))
  show zG X (_ + 4) (_ + 24) _ 5 _ _
  obtain ⟨hT, e2⟩ := hx2
  obtain ⟨gl, sl, rl, y1⟩ := e2.it
  have rt := isT_row hok hT
  have hln := txL_len hok rt.1 rt.2.1
  have hlr := (tx_lns hok rt.1 rt.2.1).2.1
  refine z_astore_n (i := 3) (q := 6) hX dX1_split_5 rfl (Nat.le_of_ble_eq_true rfl) rfl rfl ?_
  refine z_iload_n (i := 2) (q := 7) hX dX1_split_6 rfl rfl rfl ?_
  refine z_aload_n (i := 3) (q := 8) hX dX1_split_7 rfl rfl rfl ?_
  refine z_V (ci := ciX7) (T := TX7) (N := 3) (na := 0) hX dX1_split_8 (c_X7_variables D A e2) rfl q1494 q1495 q1496 q127 q1497 (by decide +kernel) ⟨Nat.le_of_ble_eq_true rfl, Nat.le_of_ble_eq_true rfl⟩ rfl rfl (Nat.le_of_ble_eq_true rfl) rfl (by first | exact Nat.le_of_ble_eq_true rfl | (show _ + 0 ≤ 3800; omega)) (by first | exact Nat.le_of_ble_eq_true rfl | (show _ + 0 ≤ 23000; omega)) (fun H h => ⟨h, h.obE (Or.inl y1) rfl⟩) (fun E a => zT.no) (zPd.out ?_)
  show zG X (_ + 0) (_ + 0) _ 11 _ _
  refine zG.top (v2 := zI (varsI M t)) rfl ?_
  refine z_S (na := 2) hX dX1_split_11 (c_X1_checkIndex D A hc ⟨by omega, by omega⟩) q1537 q1538 q97 q1539 (by decide +kernel) ⟨Nat.le_of_ble_eq_true rfl, Nat.le_of_ble_eq_true rfl⟩ rfl rfl (Nat.le_of_ble_eq_true rfl) rfl (by first | exact Nat.le_of_ble_eq_true rfl | (show _ + 1 ≤ 3800; omega)) (by first | exact Nat.le_of_ble_eq_true rfl | (show _ + 6 ≤ 23000; omega)) (fun H h => h) (zXs.out (fun e11 => ?_)) (zPe.out (fun x11 hx11 => ?_))
  · refine zT.ax (fun hx11 => ?_)
    exact zT.out hX (by decide) (by first | exact Nat.le_of_ble_eq_true rfl | (show (_ : Nat) ≤ 3800; omega)) (by first | exact Nat.le_of_ble_eq_true rfl | (show (_ : Nat) ≤ 23000; omega)) (fun H h => Or.inl (xSt0 hK hb0 (by unfold splC; rw [if_pos (by rw [← Bool.not_eq_true, isC_iff]; exact fun q => hx11 q.2)]) h))
  show zG X (_ + 1) (_ + 6) _ 14 _ _
  have hC : isC M t c = true := isC_iff.mpr ⟨hT, hx11⟩
  have hto := tokO_rng hx11.1 hx11.2
  refine z_aload_n (i := 0) (q := 15) hX dX1_split_14 rfl rfl rfl ?_
  refine zr_get (C := RX1) (T := TX1) (N := 7) (q := 18) hX ciX1 0 rfl (by decide) in_X1 dX1_split_15 q224 (Or.inl rfl) (fun H h => cI.rd h (by first | assumption | exact Or.inl (by assumption) | exact Or.inr (by first | assumption | exact upm_same _ _ _ | exact (upm_ne _ _ (by first | assumption | exact Ne.symm (by assumption) | omega | exact ne_mp (m := m) (by assumption) (by assumption) | exact Ne.symm (ne_mp (m := m) (by assumption) (by assumption)) | exact ne_mp (m := w) (by assumption) (by assumption) | exact Ne.symm (ne_mp (m := w) (by assumption) (by assumption)))).trans (by first | assumption | exact upm_same _ _ _ | exact (upm_ne _ _ (by first | assumption | exact Ne.symm (by assumption) | omega | exact ne_mp (m := m) (by assumption) (by assumption) | exact Ne.symm (ne_mp (m := m) (by assumption) (by assumption)) | exact ne_mp (m := w) (by assumption) (by assumption) | exact Ne.symm (ne_mp (m := w) (by assumption) (by assumption)))).trans (by first | assumption | exact upm_same _ _ _ | exact (upm_ne _ _ (by first | assumption | exact Ne.symm (by assumption) | omega | exact ne_mp (m := m) (by assumption) (by assumption) | exact Ne.symm (ne_mp (m := m) (by assumption) (by assumption)) | exact ne_mp (m := w) (by assumption) (by assumption) | exact Ne.symm (ne_mp (m := w) (by assumption) (by assumption)))).trans (by first | assumption | exact upm_same _ _ _))))) rfl (by decide) rfl) rfl ?_
  refine z_V (ci := ciX2) (T := TX2) (N := 4) (na := 0) hX dX1_split_18 (c_X2_count D A hg) rfl q1486 q1487 q1488 q98 q1489 (by decide +kernel) ⟨Nat.le_of_ble_eq_true rfl, Nat.le_of_ble_eq_true rfl⟩ rfl rfl (Nat.le_of_ble_eq_true rfl) rfl (by first | exact Nat.le_of_ble_eq_true rfl | (show _ + 0 ≤ 3800; omega)) (by first | exact Nat.le_of_ble_eq_true rfl | (show _ + 0 ≤ 23000; omega)) (fun H h => ⟨h, h.obE (Or.inl g1) rfl⟩) (fun E a => zT.no) (zPd.out ?_)
  show zG X (_ + 0) (_ + 0) _ 21 _ _
  refine z_bipush (q := 23) hX dX1_split_21 (by decide) rfl ?_
  refine z_icmp_ge (q := 26) (t := 30) hX dX1_split_23 (by decide) ⟨by omega, by omega⟩ (by decide) rfl (fun h23 => ?_) (fun h23 => ?_)
  · have h12 : nTpl M = 12 := by omega
    refine z_iconst (q := 31) hX dX1_split_30 rfl ?_
    refine zG.top (v2 := zI (bi false)) rfl ?_
    refine z_S (na := 1) hX dX1_split_31 (c_X1_checkState D A (c := false)) q1282 q1283 q97 q1284 (by decide +kernel) ⟨Nat.le_of_ble_eq_true rfl, Nat.le_of_ble_eq_true rfl⟩ rfl rfl (Nat.le_of_ble_eq_true rfl) rfl (by first | exact Nat.le_of_ble_eq_true rfl | (show _ + 1 ≤ 3800; omega)) (by first | exact Nat.le_of_ble_eq_true rfl | (show _ + 6 ≤ 23000; omega)) (fun H h => h) (zXs.out (fun e31 => ?_)) (zPe.out (fun x31 hx31 => ?_))
    · refine zT.ax (fun hx31 => ?_)
      exact zT.out hX (by decide) (by first | exact Nat.le_of_ble_eq_true rfl | (show (_ : Nat) ≤ 3800; omega)) (by first | exact Nat.le_of_ble_eq_true rfl | (show (_ : Nat) ≤ 23000; omega)) (fun H h => Or.inr (Or.inl (xSt0 hK hb0 (by unfold splC; rw [if_neg (by rw [hC]; decide), if_pos h12]) h)))
    show zG X (_ + 1) (_ + 6) _ 34 _ _
    cases hx31
  · have h12 : nTpl M ≠ 12 := by omega
    have hfo9 := hfo h12
    refine z_iconst (q := 27) hX dX1_split_26 rfl ?_
    refine z_goto (t := 31) hX dX1_split_27 (by decide) ?_
    refine zG.top (v2 := zI (bi true)) rfl ?_
    refine z_S (na := 1) hX dX1_split_31 (c_X1_checkState D A (c := true)) q1282 q1283 q97 q1284 (by decide +kernel) ⟨Nat.le_of_ble_eq_true rfl, Nat.le_of_ble_eq_true rfl⟩ rfl rfl (Nat.le_of_ble_eq_true rfl) rfl (by first | exact Nat.le_of_ble_eq_true rfl | (show _ + 1 ≤ 3800; omega)) (by first | exact Nat.le_of_ble_eq_true rfl | (show _ + 6 ≤ 23000; omega)) (fun H h => h) (zXs.out (fun e31 => ?_)) (zPe.out (fun x31 hx31 => ?_))
    · refine zT.ax (fun hx31 => ?_)
      cases hx31
    show zG X (_ + 1) (_ + 6) _ 34 _ _
    refine zc_new (q := 37) (fs := [.null, .null, zI 0, .null]) (C := RX2) (T := TX2) (N := 4) hX ciX2 rfl in_X2 tyX2_ok dX1_split_34 q149 q150 q98 (fun j hj => by match j, hj with | 0, _ => rfl | 1, _ => rfl | 2, _ => rfl | 3, _ => rfl | (_ + 4), h => exact absurd h (by omega)) (by first | exact Nat.le_of_ble_eq_true rfl | (show _ + 1 ≤ 3800; omega)) (by first | exact Nat.le_of_ble_eq_true rfl | (show _ + 4 ≤ 23000; omega)) rfl (fun a34 ha34 hb34 => ?_)
    have n34 := hb34
    try simp only [upm_none] at n34
    repeat (have := And.left n34; replace n34 := And.right n34)
    refine z_dup (q := 38) hX dX1_split_37 rfl rfl ?_
    refine z_aload_n (i := 0) (q := 39) hX dX1_split_38 rfl rfl rfl ?_
    refine zr_get (C := RX1) (T := TX1) (N := 7) (q := 42) hX ciX1 0 rfl (by decide) in_X1 dX1_split_39 q224 (Or.inl rfl) (fun H h => cI.rd h (Or.inr ((upm_ne _ _ (Ne.symm (ne_mp hb34 h1))).trans h1)) rfl (by decide) rfl) rfl ?_
    refine z_C (na := 1) hX dX1_split_42 (c_X2_init_2 D A (M := M) (upm_same _ _ _) g1 g2 g4 hok g3 g5) q258 q259 q98 q260 rfl (by decide +kernel) ⟨Nat.le_of_ble_eq_true rfl, Nat.le_of_ble_eq_true rfl⟩ rfl rfl (Nat.le_of_ble_eq_true rfl) rfl (by first | exact Nat.le_of_ble_eq_true rfl | (show _ + 50 ≤ 3800; omega)) (by first | exact Nat.le_of_ble_eq_true rfl | (show _ + 2600 ≤ 23000; omega)) (fun H h => h) (fun E a => zT.no) (zPe.out (fun x42 hx42 => ?_))
    show zG X (_ + 50) (_ + 2600) _ 45 _ _
    obtain ⟨n1, n2, n3, n4, n5', n6', n7, n8, n9⟩ := nlog (D := D) hK hb34 hx42.1
    rw [n1]
    have hts5 : wTs w x42.2.2 M := fun t ht => by rw [hx42.2 t ht]; exact g5 t ht
    have hR1 := (isT_rows hT).1
    have hdc := dff_1 (c := cR (tx M) (rws M t) (tokO M t c)) hR1
    have hru := runI_1 (n := (rws M t).length) (c := cR (tx M) (rws M t) (tokO M t c)) hR1
    have hrn : (nR M t).toNat = (rws M t).length := by unfold nR; omega
    have hec : colT M t (tokO M t c) = cR (tx M) (rws M t) (tokO M t c) := rfl
    refine z_astore (q := 47) hX dX1_split_45 (Nat.le_of_ble_eq_true rfl) rfl rfl ?_
    by_cases hdf : dffI (rws M t).length (cR (tx M) (rws M t) (tokO M t c)) < 2
    · have hc3 : splC M t c = 3 := by
        unfold splC
        rw [if_neg (by rw [hC]; decide), if_neg h12, hrn, hec, if_pos (hru.mpr (fun r hr => by
          rcases hdc.1 with q | q
          · omega
          · exact (q r hr).symm))]
      refine z_aload (q := 49) hX dX1_split_47 rfl rfl ?_
      refine z_iload_n (i := 1) (q := 50) hX dX1_split_49 rfl rfl rfl ?_
      refine z_iload_n (i := 2) (q := 51) hX dX1_split_50 rfl rfl rfl ?_
      refine z_VW (ci := ciX2) (T := TX2) (N := 4) (na := 2) hX dX1_split_51 (c_X2_split_no D A (M := M) (mR := nMR D m x42.1) (k := tokO M t c) rfl n2 hok g3 hts5 hT ⟨by omega, by omega⟩ tkOf_eq ⟨hto.1, hto.2.1⟩ hdf) rfl q1687 q1688 q1689 q98 q1690 (by decide +kernel) ⟨Nat.le_of_ble_eq_true rfl, Nat.le_of_ble_eq_true rfl⟩ rfl rfl (Nat.le_of_ble_eq_true rfl) rfl (by first | exact Nat.le_of_ble_eq_true rfl | (show _ + 4 ≤ 3800; omega)) (by first | exact Nat.le_of_ble_eq_true rfl | (show _ + 58 ≤ 23000; omega)) (fun H h => ⟨h, h.obE (Or.inr logM_b) rfl⟩) (zXs.out (fun e51 => ?_)) (zPe.out (fun x51 hx51 => ?_))
      · refine zT.ex (fun e2' => zT.ax (fun he2 => ?_))
        refine zT.catch hX [] _ [] rfl (fun z hz => by cases hz) (by decide) (by decide) q257 (zCs_at 9 rfl) rfl ?_
        have hK1 := (hK.fr n5').fr (zFr_logM (D := D) (th := M 1) (col := x42.1.2.2.1) (mc := x42.2.1) (ls := ls) (tf := x42.2.2) (hK.fr n5') n7)
        obtain ⟨w1, w2, w3, w4⟩ := twoUp (x := eR none 13 c) (y := eR (some e2') 3 t) hK1 he2.1 he2.2.1 he2.2.2
        have hbx := (hbf0.le (zLe.rf (w := w)) (n4.tr (mLe_logM (D := D) (th := M 1) (col := x42.1.2.2.1) (mc := x42.2.1) (ls := ls) (tf := x42.2.2) n2 n7))).le (zLe.rf (w := w)) w1
        have hrx := hbx.rep (e := e51) (e2 := e2') (upm_same _ _ _) ((upm_ne _ _ he2.1).trans (upm_same _ _ _)) w3 w4
        have hb1x := hbx.1
        refine z_astore (q := 67) hX dX1_split_65 (Nat.le_of_ble_eq_true rfl) rfl rfl ?_
        refine z_aload_n (i := 0) (q := 68) hX dX1_split_67 rfl rfl rfl ?_
        refine z_aload (q := 70) hX dX1_split_68 rfl rfl ?_
        refine zc_put (C := RX1) (T := TX1) (N := 7) (q := 73) hX ciX1 3 rfl (by decide) in_X1 tyX1_ok nmX1 dX1_split_70 q227 (Or.inl rfl) rfl hb1x (Nat.le_of_ble_eq_true rfl) rfl rfl rfl rfl ?_
        refine zc_throw0 (q := 80) (names := ["java/lang/RuntimeException", "java/lang/Exception"]) hX ciJ23 (C := RJ23) (T := zT0) (N := 0) rfl (by decide +kernel) (by decide +kernel) q1464 q131 xa_X1_131 xg_X1_131 dX1_split_73 dX1_split_76 dX1_split_77 dX1_split_80 (Nat.le_of_ble_eq_true rfl) rfl (Nat.le_of_ble_eq_true rfl) (Nat.le_of_ble_eq_true rfl) (by first | exact Nat.le_of_ble_eq_true rfl | (show _ + 1 ≤ 3800; omega)) (by first | exact Nat.le_of_ble_eq_true rfl | (show _ + 6 ≤ 23000; omega)) rfl (fun e73 he73 hf73 => ?_)
        exact zT.out hX (by decide) (by first | exact Nat.le_of_ble_eq_true rfl | (show (_ : Nat) ≤ 3800; omega)) (by first | exact Nat.le_of_ble_eq_true rfl | (show (_ : Nat) ≤ 23000; omega)) (fun H h => Or.inr (Or.inr (xSt_tr (zLe.rf (w := w)) (((n5'.tr (zFr_logM (hK.fr n5') n7)).tr w2).tr (zFr.up hbx.2.2.2.2.2.2.2.1)) (xSt0 (((hK1.fr w2)).fr (zFr.up hbx.2.2.2.2.2.2.2.1)) hrx hc3 ⟨⟨he73, hf73⟩, h⟩))))
      show zG X (_ + 4) (_ + 58) _ 54 _ _
      exact hx51.elim
    · have hc0 : splC M t c = 0 := by
        unfold splC
        rw [if_neg (by rw [hC]; decide), if_neg h12, hrn, hec, if_neg (fun q => hdf (hdc.2.1 (fun r hr => ((hru.mp q) r hr).symm)))]
      refine z_aload (q := 49) hX dX1_split_47 rfl rfl ?_
      refine z_iload_n (i := 1) (q := 50) hX dX1_split_49 rfl rfl rfl ?_
      refine z_iload_n (i := 2) (q := 51) hX dX1_split_50 rfl rfl rfl ?_
      refine z_VW (ci := ciX2) (T := TX2) (N := 4) (na := 2) hX dX1_split_51 (c_X2_split_ok D A (M := M) (mR := nMR D m x42.1) (k := tokO M t c) (nx := fr) rfl n2 hok g3 hts5 hT ⟨by omega, by omega⟩ tkOf_eq ⟨hto.1, hto.2.1⟩ hfv hfo9.2.2 ⟨hfo9.1, hfo9.2.1⟩ (by omega)) rfl q1687 q1688 q1689 q98 q1690 (by decide +kernel) ⟨Nat.le_of_ble_eq_true rfl, Nat.le_of_ble_eq_true rfl⟩ rfl rfl (Nat.le_of_ble_eq_true rfl) rfl (by first | exact Nat.le_of_ble_eq_true rfl | (show _ + 3700 ≤ 3800; omega)) (by first | exact Nat.le_of_ble_eq_true rfl | (show _ + 19000 ≤ 23000; omega)) (fun H h => ⟨h, h.obE (Or.inr logM_b) rfl⟩) (fun E a => zT.no) (zPe.out (fun x51 hx51 => ?_))
      show zG X (_ + 3700) (_ + 19000) _ 54 _ _
      refine z_istore (q := 56) hX dX1_split_54 (Nat.le_of_ble_eq_true rfl) rfl rfl ?_
      refine z_aload_n (i := 0) (q := 57) hX dX1_split_56 rfl rfl rfl ?_
      refine z_aload (q := 59) hX dX1_split_57 rfl rfl ?_
      obtain ⟨j1, j2⟩ := hx51
      refine zG.frzL n2 n7 (fun w2 hw2 p1 p2 p3 => ?_)
      obtain ⟨r9, hr9, hd9⟩ : ∃ r : Nat, r < (rws M t).length ∧ cR (tx M) (rws M t) (tokO M t c) 0 ≠ cR (tx M) (rws M t) (tokO M t c) r := by
        refine Classical.byContradiction (fun q => ?_)
        have := hdc.2.1 (fun r hr => Classical.byContradiction (fun q2 => q ⟨r, hr, q2⟩))
        omega
      have hl9 : (rws M t).getD ((r9 : Int)).toNat (-1) ∈ rws M t := gtD_mem hr9
      have hl8 := rws_mem.mp hl9
      have hok2 := splM_ok hok hT hfo9.2.2 ⟨hfo9.1, hfo9.2.1⟩ hl8.1 (by omega) hl8.2.2 hd9
      have hkl : kLog D w2 (nMR D m x42.1) K a34 (splM M t (tokO M t c) fr) := ⟨hok2, x42.1.1, x42.1.2.1, x42.1.2.2.1, x42.1.2.2.2, x42.2.1, ls, _, by rw [p1, splM_low rt.2.2.2.1 hfo9.1 hM.2.1 (by omega)], p2, splM_ln hok rt.2.2.2.1 hfo9.1 ((g3.le j1).le hw2), p3, j2.le hw2, n6', n8⟩
      have hb7 := hb0.le (j1.tr hw2) n4
      refine z_V (ci := ciX1) (T := TX1) (N := 7) (na := 1) hX dX1_split_59 (c_X1_change D A hb7 (hK.fr n5') hkl) rfl q989 q991 qs14 q97 q992 (by decide +kernel) ⟨Nat.le_of_ble_eq_true rfl, Nat.le_of_ble_eq_true rfl⟩ rfl rfl (Nat.le_of_ble_eq_true rfl) rfl (by first | exact Nat.le_of_ble_eq_true rfl | (show _ + 1 ≤ 3800; omega)) (by first | exact Nat.le_of_ble_eq_true rfl | (show _ + 61 ≤ 23000; omega)) (fun H h => ⟨h, h.obE (Or.inr (n4 _ _ h1)) rfl⟩) (fun E a => zT.no) (zPe.out (fun x59 hx59 => ?_))
      show zG X (_ + 1) (_ + 61) _ 62 _ _
      refine z_iload (q := 64) hX dX1_split_62 rfl rfl ?_
      exact z_iret hX dX1_split_64 (by first | exact Nat.le_of_ble_eq_true rfl | (show (_ : Nat) ≤ 3800; omega)) (by first | exact Nat.le_of_ble_eq_true rfl | (show (_ : Nat) ≤ 23000; omega)) rfl (fun H h => ⟨(w2, x59), rfl, ⟨hc0, j1.tr hw2, n5'.tr hx59.1, hx59.2⟩, h⟩)
theorem nlog2 {D : zD} {m : zMp} {K : Nat → Prop} {a : Nat} {e : zE} {x : Nat × Nat × Nat × Nat} (hK : zHk K m) (hma : m a = none) (hx : lgF (upm m a e) a x) (n : Int) (f : Nat → Option Nat) : mLe m (cM D m x.2.2.1 x.2.2.2 n f) ∧ zFr K m (cM D m x.2.2.1 x.2.2.2 n f) ∧ cH D (cM D m x.2.2.1 x.2.2.2 n f) x.2.2.1 x.2.2.2 ∧ (cM D m x.2.2.1 x.2.2.2 n f a = none ∧ cM D m x.2.2.1 x.2.2.2 n f x.1 = none ∧ cM D m x.2.2.1 x.2.2.2 n f x.2.1 = none) ∧ (x.2.2.1 ≠ x.2.2.2 ∧ ¬ K x.2.2.1 ∧ ¬ K x.2.2.2) := by
  obtain ⟨hd, ⟨h1, h2, h3, h4⟩, c1, c2, c3, c4, c5, c6, c7⟩ := hx
  have k1 := (upm_none.mp h1).2
  have k2 := (upm_none.mp h2).2
  have k3 := (upm_none.mp h3).2
  have k4 := (upm_none.mp h4).2
  exact ⟨(mLe.up k3).tr (mLe.up ((upm_ne _ _ (Ne.symm c1)).trans k4)), zFr.sc (hK.no k3) (hK.no k4), ⟨n, f, cM_col c1, cM_tc⟩, ⟨(cM_ot (Ne.symm c2) (Ne.symm c5)).trans hma, (cM_ot (Ne.symm c3) (Ne.symm c6)).trans k1, (cM_ot (Ne.symm c4) (Ne.symm c7)).trans k2⟩, c1, hK.no k3, hK.no k4⟩
theorem cmpI_no {f : Nat} {M : Int → Int} (h : (scP M 144).2.1 < 0) : cmpI f M = (0, M) := by
  cases f with
  | zero => rfl
  | succ f => exact if_neg (by omega)
theorem cmpI_yes {f : Nat} {M : Int → Int} (h : 0 ≤ (scP M 144).2.1) : cmpI (f + 1) M = ((cmpI f (mgM M (scP M 144).2.1 (scP M 144).2.2)).1 + 1, (cmpI f (mgM M (scP M 144).2.1 (scP M 144).2.2)).2) := if_pos h
abbrev rmX1_compact : Room := { frames := 13, cells := 2000, slots := 90000, locals := 296 }
set_option maxHeartbeats 4000000 in
theorem c_X1_compact (D : zD) (A : Nat → Prop) {w m : zMp} {b : Nat} {K : Nat → Prop} {M : Int → Int} {ps : List (Int → Int)} {sv : Option (Int → Int)} {rp : Option (Int × Int × Int × Int)} {s : zS} {cs : Option (List zCn)} (hb : zX1 D w m K b M ps sv rp s cs) (hK : zHk K m) : zC D yX1_compact cX1_compact 4 (some .int) (some [(14, 27, 30, 123)]) rmX1_compact A [.ref b] (cI D A w m) (zPe (fun (z : zMp × zMp) => some (zI (cmpI 12 M).1)) (fun z => pSt D w m K b True (cmpI 12 M).2 (psA ps M) sv rp s cs z) (fun z => cI D A z.1 z.2)) (zNo) := by
  refine zC_startH (L := [some (.ref b), none, none, none]) (by decide) (Nat.le_of_ble_eq_true rfl) rfl (fun X hX => ?_)
  have hz0 := hb
  obtain ⟨lg, hl1, ia, sa, ra, ca, h1, ⟨hok, ll, ta, col, tc, mc, ls, tf, g1, g2, g3, g4, g5, g6, g7⟩, -⟩ := hb
  have hM := hok.1
  have l1 := g3.1
  obtain ⟨N, hN⟩ : ∃ N, N = cmpI 12 M := ⟨_, rfl⟩
  rw [← hN] at hX
  have K14 : ∀ (a : Nat) (e : zE) (x : Nat × Nat × Nat × Nat) (mc1 : Int), m a = none → lgF (upm m a e) a x → lgD a x.1 x.2.1 → lgC a x.1 x.2.1 x.2.2.1 x.2.2.2 → ∀ (f : Nat) (M1 : Int → Int) (w1 : zMp) (tf1 : Nat → Option Nat) (n1 : Int) (f1 : Nat → Option Nat) (v : Int) (kc ns : Nat) (v3 : Option Value), nTpl M1 ≤ f → (cmpI f M1).1 + v = N.1 → (cmpI f M1).2 = N.2 → zOk M1 → zLe w w1 → wTs w1 tf1 M1 → wLines w1 ls (M1 0).toNat (tx M1) → kc + 150 * f ≤ 1890 → ns + 6600 * f ≤ 82000 → zG X kc ns (cI D A w1 (logM D (cM D m x.2.2.1 x.2.2.2 n1 f1) a x.1 x.2.1 x.2.2.1 (M1 1) mc1 ls tf1)) 14 [some (.ref b), some (.ref a), some (zI v), v3] [] := by
    intro a e x mc1 hma hx hd hdc f
    induction f with
    | zero =>
      intro M1 w1 tf1 n1 f1 v kc ns v3 hnt e1 e2 hok1 hle hts hln hkc hns
      obtain ⟨u1, u2, u3, u4, u5, u6, u7⟩ := nlog2 (D := D) hK hma hx n1 f1
      have hno0 : (scP M1 144).2.1 < 0 := by
        rcases (scP_ok M1 144 (by omega)).2 with z | z
        · rw [z]; decide
        · have := nTpl_pos (mayP_iff.mp z.2.1).2.1
          omega
      have hno : ∀ n : Nat, n = 144 → (scP M1 n).2.1 < 0 := fun n hn => by rw [hn]; exact hno0
      rw [cmpI_no hno0] at e1 e2
      have e1 : (0 : Int) + v = N.1 := e1
      have e2 : M1 = N.2 := e2
      refine z_aload_n (i := 1) (q := 15) hX dX1_compact_14 rfl rfl rfl ?_
      refine z_V (ci := ciX2) (T := TX2) (N := 4) (na := 0) hX dX1_compact_15 (c_X2_compactOnce_no D A (M := M1) (mR := cM D m x.2.2.1 x.2.2.2 n1 f1) rfl hd hdc u3 hok1 hln hts hno) rfl q453 q454 q455 q98 q456 (by decide +kernel) ⟨Nat.le_of_ble_eq_true rfl, Nat.le_of_ble_eq_true rfl⟩ rfl rfl (Nat.le_of_ble_eq_true rfl) rfl (by first | exact Nat.le_of_ble_eq_true rfl | (show _ + 0 ≤ 2000; omega)) (by first | exact Nat.le_of_ble_eq_true rfl | (show _ + 0 ≤ 90000; omega)) (fun H h => ⟨h, h.obE (Or.inr logM_b) rfl⟩) (fun E a => zT.no) (zPe.out (fun x15 hx15 => ?_))
      show zG X (_ + 0) (_ + 0) _ 18 _ _
      refine z_if_eq (q := 21) (t := 27) hX dX1_compact_18 (by decide) (by decide) rfl (fun h18 => ?_) (fun h18 => ?_)
      · refine z_goto (t := 36) hX dX1_compact_27 (by decide) ?_
        refine z_aload_n (i := 0) (q := 37) hX dX1_compact_36 rfl rfl rfl ?_
        refine z_aload_n (i := 1) (q := 38) hX dX1_compact_37 rfl rfl rfl ?_
        rw [cM_cM u5]
        obtain ⟨v1, v2, v4, v5, v6, v7, v8⟩ := nlog2 (D := D) hK hma hx x15.1 x15.2
        refine zG.frzL hd v5 (fun w2 hw2 p1 p2 p3 => ?_)
        have hkl : kLog D w2 (cM D m x.2.2.1 x.2.2.2 x15.1 x15.2) K a M1 := ⟨hok1, x.1, x.2.1, x.2.2.1, x.2.2.2, mc1, ls, tf1, p1, p2, hln.le hw2, p3, hts.le hw2, v4, u6, u7⟩
        have hb7 := hz0.le (hle.tr hw2) v1
        refine z_V (ci := ciX1) (T := TX1) (N := 7) (na := 1) hX dX1_compact_38 (c_X1_change D A hb7 (hK.fr v2) hkl) rfl q989 q991 qs14 q97 q992 (by decide +kernel) ⟨Nat.le_of_ble_eq_true rfl, Nat.le_of_ble_eq_true rfl⟩ rfl rfl (Nat.le_of_ble_eq_true rfl) rfl (by first | exact Nat.le_of_ble_eq_true rfl | (show _ + 1 ≤ 2000; omega)) (by first | exact Nat.le_of_ble_eq_true rfl | (show _ + 61 ≤ 90000; omega)) (fun H h => ⟨h, h.obE (Or.inr (v1 _ _ h1)) rfl⟩) (fun E a => zT.no) (zPe.out (fun x38 hx38 => ?_))
        show zG X (_ + 1) (_ + 61) _ 41 _ _
        refine z_iload_n (i := 2) (q := 42) hX dX1_compact_41 rfl rfl rfl ?_
        exact z_iret hX dX1_compact_42 (by first | exact Nat.le_of_ble_eq_true rfl | (show (_ : Nat) ≤ 2000; omega)) (by first | exact Nat.le_of_ble_eq_true rfl | (show (_ : Nat) ≤ 90000; omega)) rfl (fun H h => ⟨(w2, x38), by rw [← e1, Int.zero_add], ⟨trivial, hle.tr hw2, v2.tr hx38.1, by rw [← e2]; exact hx38.2⟩, h⟩)
      · exact absurd rfl h18
    | succ f ih =>
      intro M1 w1 tf1 n1 f1 v kc ns v3 hnt e1 e2 hok1 hle hts hln hkc hns
      obtain ⟨u1, u2, u3, u4, u5, u6, u7⟩ := nlog2 (D := D) hK hma hx n1 f1
      by_cases hno0 : (scP M1 144).2.1 < 0
      · have hno : ∀ n : Nat, n = 144 → (scP M1 n).2.1 < 0 := fun n hn => by rw [hn]; exact hno0
        rw [cmpI_no hno0] at e1 e2
        have e1 : (0 : Int) + v = N.1 := e1
        have e2 : M1 = N.2 := e2
        refine z_aload_n (i := 1) (q := 15) hX dX1_compact_14 rfl rfl rfl ?_
        refine z_V (ci := ciX2) (T := TX2) (N := 4) (na := 0) hX dX1_compact_15 (c_X2_compactOnce_no D A (M := M1) (mR := cM D m x.2.2.1 x.2.2.2 n1 f1) rfl hd hdc u3 hok1 hln hts hno) rfl q453 q454 q455 q98 q456 (by decide +kernel) ⟨Nat.le_of_ble_eq_true rfl, Nat.le_of_ble_eq_true rfl⟩ rfl rfl (Nat.le_of_ble_eq_true rfl) rfl (by first | exact Nat.le_of_ble_eq_true rfl | (show _ + 0 ≤ 2000; omega)) (by first | exact Nat.le_of_ble_eq_true rfl | (show _ + 0 ≤ 90000; omega)) (fun H h => ⟨h, h.obE (Or.inr logM_b) rfl⟩) (fun E a => zT.no) (zPe.out (fun x15 hx15 => ?_))
        show zG X (_ + 0) (_ + 0) _ 18 _ _
        refine z_if_eq (q := 21) (t := 27) hX dX1_compact_18 (by decide) (by decide) rfl (fun h18 => ?_) (fun h18 => ?_)
        · refine z_goto (t := 36) hX dX1_compact_27 (by decide) ?_
          refine z_aload_n (i := 0) (q := 37) hX dX1_compact_36 rfl rfl rfl ?_
          refine z_aload_n (i := 1) (q := 38) hX dX1_compact_37 rfl rfl rfl ?_
          rw [cM_cM u5]
          obtain ⟨v1, v2, v4, v5, v6, v7, v8⟩ := nlog2 (D := D) hK hma hx x15.1 x15.2
          refine zG.frzL hd v5 (fun w2 hw2 p1 p2 p3 => ?_)
          have hkl : kLog D w2 (cM D m x.2.2.1 x.2.2.2 x15.1 x15.2) K a M1 := ⟨hok1, x.1, x.2.1, x.2.2.1, x.2.2.2, mc1, ls, tf1, p1, p2, hln.le hw2, p3, hts.le hw2, v4, u6, u7⟩
          have hb7 := hz0.le (hle.tr hw2) v1
          refine z_V (ci := ciX1) (T := TX1) (N := 7) (na := 1) hX dX1_compact_38 (c_X1_change D A hb7 (hK.fr v2) hkl) rfl q989 q991 qs14 q97 q992 (by decide +kernel) ⟨Nat.le_of_ble_eq_true rfl, Nat.le_of_ble_eq_true rfl⟩ rfl rfl (Nat.le_of_ble_eq_true rfl) rfl (by first | exact Nat.le_of_ble_eq_true rfl | (show _ + 1 ≤ 2000; omega)) (by first | exact Nat.le_of_ble_eq_true rfl | (show _ + 61 ≤ 90000; omega)) (fun H h => ⟨h, h.obE (Or.inr (v1 _ _ h1)) rfl⟩) (fun E a => zT.no) (zPe.out (fun x38 hx38 => ?_))
          show zG X (_ + 1) (_ + 61) _ 41 _ _
          refine z_iload_n (i := 2) (q := 42) hX dX1_compact_41 rfl rfl rfl ?_
          exact z_iret hX dX1_compact_42 (by first | exact Nat.le_of_ble_eq_true rfl | (show (_ : Nat) ≤ 2000; omega)) (by first | exact Nat.le_of_ble_eq_true rfl | (show (_ : Nat) ≤ 90000; omega)) rfl (fun H h => ⟨(w2, x38), by rw [← e1, Int.zero_add], ⟨trivial, hle.tr hw2, v2.tr hx38.1, by rw [← e2]; exact hx38.2⟩, h⟩)
        · exact absurd rfl h18
      · have hy0 : 0 ≤ (scP M1 144).2.1 := by omega
        obtain ⟨lo, hlo⟩ : ∃ lo, lo = (scP M1 144).2.1 := ⟨_, rfl⟩
        obtain ⟨hi, hhi⟩ : ∃ hi, hi = (scP M1 144).2.2 := ⟨_, rfl⟩
        have hyes : ∀ n : Nat, n = 144 → 0 ≤ (scP M1 n).2.1 ∧ (scP M1 n).2.1 = lo ∧ (scP M1 n).2.2 = hi := fun n hn => by rw [hn]; exact ⟨hy0, hlo.symm, hhi.symm⟩
        rw [cmpI_yes hy0, ← hlo, ← hhi] at e1 e2
        have e1 : (cmpI f (mgM M1 lo hi)).1 + 1 + v = N.1 := e1
        have e2 : (cmpI f (mgM M1 lo hi)).2 = N.2 := e2
        have hmay : mayP M1 lo hi = true := by
          rcases (scP_ok M1 144 (by omega)).2 with z | z
          · rw [z] at hy0; exact absurd (show (0 : Int) ≤ -1 from hy0) (by decide)
          · rw [hlo, hhi]; exact z.2.1
        have hm2 := mayP_iff.mp hmay
        have hl0 : 0 ≤ lo := by rw [hlo]; exact hy0
        have hls := mgM_less hok1 hm2.2.1 hm2.2.2.1 (by omega)
        have hok2 := mgM_ok hok1 hm2.2.1 hm2.2.2.1 hm2.2.2.2
        have hth : mgM M1 lo hi 1 = M1 1 := mgM_1 hok1 hl0
        clear hlo hhi
        refine z_aload_n (i := 1) (q := 15) hX dX1_compact_14 rfl rfl rfl ?_
        refine z_V (ci := ciX2) (T := TX2) (N := 4) (na := 0) hX dX1_compact_15 (c_X2_compactOnce_yes D A (M := M1) (mR := cM D m x.2.2.1 x.2.2.2 n1 f1) rfl hd hdc u3 hok1 hln hts hyes) rfl q453 q454 q455 q98 q456 (by decide +kernel) ⟨Nat.le_of_ble_eq_true rfl, Nat.le_of_ble_eq_true rfl⟩ rfl rfl (Nat.le_of_ble_eq_true rfl) rfl (by first | exact Nat.le_of_ble_eq_true rfl | (show _ + 150 ≤ 2000; omega)) (by first | exact Nat.le_of_ble_eq_true rfl | (show _ + 6600 ≤ 90000; omega)) (fun H h => ⟨h, h.obE (Or.inr logM_b) rfl⟩) (fun E a => zT.no) (zPe.out (fun x15 hx15 => ?_))
        show zG X (_ + 150) (_ + 6600) _ 18 _ _
        refine z_if_eq (q := 21) (t := 27) hX dX1_compact_18 (by decide) (by decide) rfl (fun h18 => ?_) (fun h18 => ?_)
        · exact absurd h18 (by decide)
        · refine z_iinc (q := 24) hX dX1_compact_21 rfl (Nat.le_of_ble_eq_true rfl) rfl rfl ?_
          refine z_goto (t := 14) hX dX1_compact_24 (by decide) ?_
          rw [cM_cM u5, ← hth]
          exact ih (mgM M1 lo hi) x15.2.1 x15.2.2 x15.1.1 x15.1.2 _ _ _ _ (by omega) (by omega) e2 hok2 (hle.tr hx15.1) hx15.2 (mgM_ln hok1 hl0 (hln.le hx15.1)) (by omega) (by omega)
  refine zc_new (q := 3) (fs := [.null, .null, zI 0, .null]) (C := RX2) (T := TX2) (N := 4) hX ciX2 rfl in_X2 tyX2_ok dX1_compact_0 q149 q150 q98 (fun j hj => by match j, hj with | 0, _ => rfl | 1, _ => rfl | 2, _ => rfl | 3, _ => rfl | (_ + 4), h => exact absurd h (by omega)) (by first | exact Nat.le_of_ble_eq_true rfl | (show _ + 1 ≤ 2000; omega)) (by first | exact Nat.le_of_ble_eq_true rfl | (show _ + 4 ≤ 90000; omega)) rfl (fun a0 ha0 hb0 => ?_)
  have n0 := hb0
  try simp only [upm_none] at n0
  repeat (have := And.left n0; replace n0 := And.right n0)
  refine z_dup (q := 4) hX dX1_compact_3 rfl rfl ?_
  refine z_aload_n (i := 0) (q := 5) hX dX1_compact_4 rfl rfl rfl ?_
  refine zr_get (C := RX1) (T := TX1) (N := 7) (q := 8) hX ciX1 0 rfl (by decide) in_X1 dX1_compact_5 q224 (Or.inl rfl) (fun H h => cI.rd h (Or.inr ((upm_ne _ _ (Ne.symm (ne_mp hb0 h1))).trans h1)) rfl (by decide) rfl) rfl ?_
  refine z_C (na := 1) hX dX1_compact_8 (c_X2_init_2 D A (M := M) (upm_same _ _ _) g1 g2 g4 hok g3 g5) q258 q259 q98 q260 rfl (by decide +kernel) ⟨Nat.le_of_ble_eq_true rfl, Nat.le_of_ble_eq_true rfl⟩ rfl rfl (Nat.le_of_ble_eq_true rfl) rfl (by first | exact Nat.le_of_ble_eq_true rfl | (show _ + 50 ≤ 2000; omega)) (by first | exact Nat.le_of_ble_eq_true rfl | (show _ + 2600 ≤ 90000; omega)) (fun H h => h) (fun E a => zT.no) (zPe.out (fun x8 hx8 => ?_))
  show zG X (_ + 50) (_ + 2600) _ 11 _ _
  obtain ⟨n1, n2, n3, -⟩ := nlog (D := D) hK hb0 hx8.1
  rw [n1]
  have hts5 : wTs w x8.2.2 M := fun t ht => by rw [hx8.2 t ht]; exact g5 t ht
  refine z_astore_n (i := 1) (q := 12) hX dX1_compact_11 rfl (Nat.le_of_ble_eq_true rfl) rfl rfl ?_
  refine z_iconst (q := 13) hX dX1_compact_12 rfl ?_
  refine z_istore_n (i := 2) (q := 14) hX dX1_compact_13 rfl (Nat.le_of_ble_eq_true rfl) rfl rfl ?_
  exact K14 a0 _ x8.1 x8.2.1 hb0 hx8.1 n2 n3 12 M w x8.2.2 0 (fun _ => none) 0 _ _ _ (nTpl_le M) (by rw [hN]; omega) (by rw [hN]) hok zLe.rf hts5 g3 (by omega) (by omega)
