/-! THE CLASS: the compactor: merge, gain, split, compact -/
set_option maxRecDepth 100000
/-- the compactor, its fields named -/
def zX1b (D : zD) (w m : zMp) (K : Nat → Prop) (b lg hl ia : Nat) (sa ra ca : Option Nat) (M : Int → Int) (ps : List (Int → Int)) (sv : Option (Int → Int)) (rp : Option (Int × Int × Int × Int)) (s : zS) (cs : Option (List zCn)) : Prop :=
  m b = some (eO ciX1 [.ref lg, va_rf sa, .ref hl, va_rf ra, .ref ia, zI s.length, va_rf ca]) ∧ kLog D w m K lg M ∧ (∃ mc xs, m hl = some (eL mc xs) ∧ kHs D w m K ps xs) ∧ kSv D w m K sv sa ∧ kRp m K rp ra ∧ kIn D m ia s ∧ kCs w cs ca ∧ ¬ K b ∧ ¬ K hl ∧ ¬ K ia
section ZB
variable {D : zD} {w w2 m m2 : zMp} {K : Nat → Prop} {b lg hl ia : Nat} {sa ra ca : Option Nat} {M : Int → Int} {ps : List (Int → Int)} {sv : Option (Int → Int)} {rp : Option (Int × Int × Int × Int)} {s : zS} {cs : Option (List zCn)}
theorem zX1b.x (h : zX1b D w m K b lg hl ia sa ra ca M ps sv rp s cs) : zX1 D w m K b M ps sv rp s cs := ⟨lg, hl, ia, sa, ra, ca, h⟩
theorem zX1b.le (h : zX1b D w m K b lg hl ia sa ra ca M ps sv rp s cs) (hw : zLe w w2) (hm : mLe m m2) : zX1b D w2 m2 K b lg hl ia sa ra ca M ps sv rp s cs := by
  obtain ⟨h1, h2, ⟨mc, xs, h3, h4⟩, h5, h6, h7, h8, h9⟩ := h
  exact ⟨hm _ _ h1, h2.le hw hm, ⟨mc, xs, hm _ _ h3, h4.le hw hm⟩, h5.le hw hm, h6.le hm, h7.le hm, h8.le hw, h9⟩
/-- .. its object put anew, but for the list and the text -/
theorem zX1b.put {lg2 : Nat} {sa2 ra2 ca2 : Option Nat} {M2 : Int → Int} {sv2 : Option (Int → Int)} {rp2 : Option (Int × Int × Int × Int)} {cs2 : Option (List zCn)} (h : zX1b D w m K b lg hl ia sa ra ca M ps sv rp s cs) (h1 : kLog D w m K lg2 M2) (h2 : kSv D w m K sv2 sa2) (h3 : kRp m K rp2 ra2) (h4 : kCs w cs2 ca2) : zX1b D w (upm m b (eO ciX1 [.ref lg2, va_rf sa2, .ref hl, va_rf ra2, .ref ia, zI s.length, va_rf ca2])) K b lg2 hl ia sa2 ra2 ca2 M2 ps sv2 rp2 s cs2 := by
  obtain ⟨g1, g2, ⟨mc, xs, g3, g4⟩, g5, g6, ⟨⟨f, g7, g7b⟩, g7c⟩, g8, g9, g10, g11⟩ := h
  have hhl : hl ≠ b := fun e => by rw [e, g1] at g3; cases g3
  have hib : ia ≠ b := fun e => by rw [e, g1] at g7; cases g7
  have c2 := zX1.cg (D := D) (w := w) (ci := 0) (y := eO ciX1 [.ref lg2, va_rf sa2, .ref hl, va_rf ra2, .ref ia, zI s.length, va_rf ca2]) g1
  exact ⟨upm_same _ _ _, h1.of c2.1, ⟨mc, xs, (upm_ne _ _ hhl).trans g3, g4.of c2.1⟩, h2.of c2.1, h3.of c2.2, ⟨⟨f, (upm_ne _ _ hib).trans g7, g7b⟩, g7c⟩, h4, g9, g10, g11⟩
/-- a refusal noted -/
theorem zX1b.rep {e e2 : Nat} {c d c2 d2 : Int} (h : zX1b D w m K b lg hl ia sa ra ca M ps sv rp s cs) (h1 : m e = some (eR (some e2) c d)) (h2 : m e2 = some (eR none c2 d2)) (k1 : ¬ K e) (k2 : ¬ K e2) : zX1 D w (upm m b (eO ciX1 [.ref lg, va_rf sa, .ref hl, .ref e, .ref ia, zI s.length, va_rf ca])) K b M ps sv (some (c, d, c2, d2)) s cs := by
  have h9 := h
  obtain ⟨g1, g2, g3, g5, g6, g7, g8, g9⟩ := h9
  exact (h.put (ra2 := some e) g2 g5 (Or.inr ⟨c, d, c2, d2, e, e2, rfl, rfl, h1, h2, k1, k2⟩) g8).x
end ZB
theorem isFm_mm {M : Int → Int} {x y : Int} : isFm M (fst M (min x y)) (fst M (max x y)) = isFm M (fst M x) (fst M y) := by
  rcases Int.le_total x y with q | q
  · rw [Int.min_eq_left q, Int.max_eq_right q]
  · rw [Int.min_eq_right q, Int.max_eq_left q]
    unfold isFm
    exact decide_eq_decide.mpr ⟨fun h => h.symm, fun h => h.symm⟩
theorem isT_mm {M : Int → Int} {x y : Int} (hx : isT M x = true) (hy : isT M y = true) : isT M (min x y) = true ∧ isT M (max x y) = true := by
  rcases Int.le_total x y with q | q
  · rw [Int.min_eq_left q, Int.max_eq_right q]; exact ⟨hx, hy⟩
  · rw [Int.min_eq_right q, Int.max_eq_left q]; exact ⟨hy, hx⟩
theorem mgM_ln {w : zMp} {M : Int → Int} {lo hi : Int} {ls : List Nat} (hok : zOk M) (hl : 0 ≤ lo) (h : wLines w ls (M 0).toNat (tx M)) : wLines w ls (mgM M lo hi 0).toNat (tx (mgM M lo hi)) := by
  have hM := hok.1
  rw [mgM_0 hok hl]
  refine ⟨h.1, fun i hi => ?_⟩
  obtain ⟨a, h1, h2⟩ := h.2 i hi
  exact ⟨a, h1, by rw [mgM_tx hok hl (by omega) (by omega)]; exact h2⟩
theorem mgM_1 {M : Int → Int} {lo hi : Int} (hok : zOk M) (hl : 0 ≤ lo) : mgM M lo hi 1 = M 1 := mgM_lo hok hl (by omega)
/-- what is thrown stands beside a log -/
theorem twoUp {K : Nat → Prop} {m : zMp} {e e2 : Nat} {x y : zE} (hK : zHk K m) (h1 : e2 ≠ e) (h2 : m e = none) (h3 : m e2 = none) : mLe m (upm (upm m e2 x) e y) ∧ zFr K m (upm (upm m e2 x) e y) ∧ (¬ K e ∧ ¬ K e2) := ⟨(mLe.up h3).tr (mLe.up ((upm_ne _ _ (Ne.symm h1)).trans h2)), (zFr.up (hK.no h3)).tr (zFr.up (hK.no h2)), hK.no h2, hK.no h3⟩
abbrev rmX1_merge : Room := { frames := 10, cells := 220, slots := 9600, locals := 245 }
set_option maxHeartbeats 4000000 in
theorem c_X1_merge (D : zD) (A : Nat → Prop) {w m : zMp} {b : Nat} {K : Nat → Prop} {M : Int → Int} {ps : List (Int → Int)} {sv : Option (Int → Int)} {rp : Option (Int × Int × Int × Int)} {s : zS} {cs : Option (List zCn)} {x y : Int} (hb : zX1 D w m K b M ps sv rp s cs) (hK : zHk K m) (hx : zR x) (hy : zR y) : zC D yX1_merge cX1_merge 5 (some .int) (some [(6, 44, 45, 123)]) rmX1_merge A [.ref b, zI (x), zI (y)] (cI D A w m) (zPe (fun (z : zMp × zMp) => some (zI (varsI (mgM M (min x y) (max x y)) (min x y)))) (fun z => pSt D w m K b (mrgC M x y = 0) (mgM M (min x y) (max x y)) (psA ps M) sv rp s cs z) (fun z => cI D A z.1 z.2)) (zXo (xSt D A w m K b "java/lang/IndexOutOfBoundsException" ciJ22 (mrgC M x y = 1) M ps sv rp s cs) (zXo (xSt D A w m K b "java/lang/IllegalArgumentException" ciJ7 (mrgC M x y = 2) M ps sv rp s cs) (xSt D A w m K b "java/lang/UnsupportedOperationException" ciJ23 (mrgC M x y = 3) M ps sv (some (2, max x y, 12, min x y)) s cs))) := by
  refine zC_startH (L := [some (.ref b), some (zI (x)), some (zI (y)), none, none]) (by decide) (Nat.le_of_ble_eq_true rfl) rfl (fun X hX => ?_)
  have hb0 := hb
  obtain ⟨lg, hl1, ia, sa, ra, ca, hbf⟩ := hb
  have hbf : zX1b D w m K b lg hl1 ia sa ra ca M ps sv rp s cs := hbf
  have hbf0 := hbf
  obtain ⟨h1, ⟨hok, ll, ta, col, tc, mc, ls, tf, g1, g2, g3, g4, g5, g6, g7⟩, -⟩ := hbf
  have hM := hok.1
  have l1 := g3.1
  refine z_aload_n (i := 0) (q := 1) hX dX1_merge_0 rfl rfl rfl ?_
  refine z_iload_n (i := 1) (q := 2) hX dX1_merge_1 rfl rfl rfl ?_
  refine z_iload_n (i := 2) (q := 3) hX dX1_merge_2 rfl rfl rfl ?_
  refine z_V (ci := ciX1) (T := TX1) (N := 7) (na := 2) hX dX1_merge_3 (c_X1_checkPair D A hb0 hx hy) rfl q1675 q1677 qs36 q97 q1678 (by decide +kernel) ⟨Nat.le_of_ble_eq_true rfl, Nat.le_of_ble_eq_true rfl⟩ rfl rfl (Nat.le_of_ble_eq_true rfl) rfl (by first | exact Nat.le_of_ble_eq_true rfl | (show _ + 10 ≤ 220; omega)) (by first | exact Nat.le_of_ble_eq_true rfl | (show _ + 60 ≤ 9600; omega)) (fun H h => ⟨h, h.obE (Or.inr h1) rfl⟩) ?_ (zPe.out (fun x3 hx3 => ?_))
  · refine zXo.out (zXs.out (fun e3 => ?_)) (zXs.out (fun e3 => ?_))
    · refine zT.ax (fun hx3 => ?_)
      exact zT.out hX (by decide) (by first | exact Nat.le_of_ble_eq_true rfl | (show (_ : Nat) ≤ 220; omega)) (by first | exact Nat.le_of_ble_eq_true rfl | (show (_ : Nat) ≤ 9600; omega)) (fun H h => Or.inl (xSt0 hK hb0 (by unfold mrgC; rw [if_neg hx3]) h))
    · refine zT.ax (fun hx3 => ?_)
      exact zT.out hX (by decide) (by first | exact Nat.le_of_ble_eq_true rfl | (show (_ : Nat) ≤ 220; omega)) (by first | exact Nat.le_of_ble_eq_true rfl | (show (_ : Nat) ≤ 9600; omega)) (fun H h => Or.inr (Or.inl (xSt0 hK hb0 (by unfold mrgC; rw [if_pos hx3.1, if_pos hx3.2]) h)))
  show zG X (_ + 10) (_ + 60) _ 6 _ _
  obtain ⟨⟨hTx, hTy⟩, hne⟩ := hx3
  refine zc_new (q := 9) (fs := [.null, .null, zI 0, .null]) (C := RX2) (T := TX2) (N := 4) hX ciX2 rfl in_X2 tyX2_ok dX1_merge_6 q149 q150 q98 (fun j hj => by match j, hj with | 0, _ => rfl | 1, _ => rfl | 2, _ => rfl | 3, _ => rfl | (_ + 4), h => exact absurd h (by omega)) (by first | exact Nat.le_of_ble_eq_true rfl | (show _ + 1 ≤ 220; omega)) (by first | exact Nat.le_of_ble_eq_true rfl | (show _ + 4 ≤ 9600; omega)) rfl (fun a6 ha6 hb6 => ?_)
  have n6 := hb6
  try simp only [upm_none] at n6
  repeat (have := And.left n6; replace n6 := And.right n6)
  refine z_dup (q := 10) hX dX1_merge_9 rfl rfl ?_
  refine z_aload_n (i := 0) (q := 11) hX dX1_merge_10 rfl rfl rfl ?_
  refine zr_get (C := RX1) (T := TX1) (N := 7) (q := 14) hX ciX1 0 rfl (by decide) in_X1 dX1_merge_11 q224 (Or.inl rfl) (fun H h => cI.rd h (Or.inr ((upm_ne _ _ (Ne.symm (ne_mp hb6 h1))).trans h1)) rfl (by decide) rfl) rfl ?_
  refine z_C (na := 1) hX dX1_merge_14 (c_X2_init_2 D A (M := M) (upm_same _ _ _) g1 g2 g4 hok g3 g5) q258 q259 q98 q260 rfl (by decide +kernel) ⟨Nat.le_of_ble_eq_true rfl, Nat.le_of_ble_eq_true rfl⟩ rfl rfl (Nat.le_of_ble_eq_true rfl) rfl (by first | exact Nat.le_of_ble_eq_true rfl | (show _ + 50 ≤ 220; omega)) (by first | exact Nat.le_of_ble_eq_true rfl | (show _ + 2600 ≤ 9600; omega)) (fun H h => h) (fun E a => zT.no) (zPe.out (fun x14 hx14 => ?_))
  show zG X (_ + 50) (_ + 2600) _ 17 _ _
  obtain ⟨n1, n2, n3, n4, n5, n6, n7, n8, n9⟩ := nlog (D := D) hK hb6 hx14.1
  rw [n1]
  have hts5 : wTs w x14.2.2 M := fun t ht => by rw [hx14.2 t ht]; exact g5 t ht
  have hmm := isT_mm hTx hTy
  have rlo := isT_row hok hmm.1
  have rhi := isT_row hok hmm.2
  refine z_astore_n (i := 3) (q := 18) hX dX1_merge_17 rfl (Nat.le_of_ble_eq_true rfl) rfl rfl ?_
  by_cases hf : isFm M (fst M (min x y)) (fst M (max x y)) = true
  · have hc0 : mrgC M x y = 0 := by unfold mrgC; rw [if_pos ⟨hTx, hTy⟩, if_neg hne, if_pos hf]
    refine z_aload_n (i := 3) (q := 19) hX dX1_merge_18 rfl rfl rfl ?_
    refine z_iload_n (i := 1) (q := 20) hX dX1_merge_19 rfl rfl rfl ?_
    refine z_iload_n (i := 2) (q := 21) hX dX1_merge_20 rfl rfl rfl ?_
    refine z_VW (ci := ciX2) (T := TX2) (N := 4) (na := 2) hX dX1_merge_21 (c_X2_merge_ok D A (M := M) (mR := nMR D m x14.1) rfl n2 hok g3 hts5 hTx hTy hne hf) rfl q1679 q668 q669 q98 q670 (by decide +kernel) ⟨Nat.le_of_ble_eq_true rfl, Nat.le_of_ble_eq_true rfl⟩ rfl rfl (Nat.le_of_ble_eq_true rfl) rfl (by first | exact Nat.le_of_ble_eq_true rfl | (show _ + 150 ≤ 220; omega)) (by first | exact Nat.le_of_ble_eq_true rfl | (show _ + 6600 ≤ 9600; omega)) (fun H h => ⟨h, h.obE (Or.inr logM_b) rfl⟩) (fun E a => zT.no) (zPe.out (fun x21 hx21 => ?_))
    show zG X (_ + 150) (_ + 6600) _ 24 _ _
    refine z_istore (q := 26) hX dX1_merge_24 (Nat.le_of_ble_eq_true rfl) rfl rfl ?_
    refine z_aload_n (i := 0) (q := 27) hX dX1_merge_26 rfl rfl rfl ?_
    refine z_aload_n (i := 3) (q := 28) hX dX1_merge_27 rfl rfl rfl ?_
    obtain ⟨j1, j2, j3, j4⟩ := hx21
    refine zG.frzL n2 n7 (fun w2 hw2 p1 p2 p3 => ?_)
    have hok2 := mgM_ok hok hmm.1 hmm.2 hf
    have hkl : kLog D w2 (nMR D m x14.1) K a6 (mgM M (min x y) (max x y)) := ⟨hok2, x14.1.1, x14.1.2.1, x14.1.2.2.1, x14.1.2.2.2, x14.2.1, ls, _, by rw [p1, mgM_1 hok rlo.2.2.2.1], p2, mgM_ln hok rlo.2.2.2.1 ((g3.le j1).le hw2), p3, (mgM_ts hok hmm.1 hmm.2 (by omega) (hts5.le j1) (mgM_tm hok hmm.1 hmm.2 (by omega) hf j3 j4 j2)).le hw2, n6, n8⟩
    have hb7 := hb0.le (j1.tr hw2) n4
    refine z_V (ci := ciX1) (T := TX1) (N := 7) (na := 1) hX dX1_merge_28 (c_X1_change D A hb7 (hK.fr n5) hkl) rfl q989 q991 qs14 q97 q992 (by decide +kernel) ⟨Nat.le_of_ble_eq_true rfl, Nat.le_of_ble_eq_true rfl⟩ rfl rfl (Nat.le_of_ble_eq_true rfl) rfl (by first | exact Nat.le_of_ble_eq_true rfl | (show _ + 1 ≤ 220; omega)) (by first | exact Nat.le_of_ble_eq_true rfl | (show _ + 61 ≤ 9600; omega)) (fun H h => ⟨h, h.obE (Or.inr (n4 _ _ h1)) rfl⟩) (fun E a => zT.no) (zPe.out (fun x28 hx28 => ?_))
    show zG X (_ + 1) (_ + 61) _ 31 _ _
    have hT2 : isT (mgM M (min x y) (max x y)) (min x y) = true := by
      have := mgM_fl (lo := min x y) (hi := max x y) hok rlo.2.2.2.1 rlo.1 rhi.1
      exact isT_iff.mpr ⟨rlo.2.2.2.1, rlo.2.2.2.2, by omega⟩
    have hb8 := hx28.2
    obtain ⟨lg2, hl2, ia2, sa2, ra2, ca2, u1, ⟨uok, ull, uta, ucol, utc, umc, uls, utf, u2, u3, u4, u5, u6, u7⟩, -⟩ := hb8
    obtain ⟨xt, v1, v2, v3, v4⟩ := u6.get hT2
    obtain ⟨gl, sl, rl, v5⟩ := v2.it
    refine z_aload_n (i := 0) (q := 32) hX dX1_merge_31 rfl rfl rfl ?_
    refine zr_get (C := RX1) (T := TX1) (N := 7) (q := 35) hX ciX1 0 rfl (by decide) in_X1 dX1_merge_32 q224 (Or.inl rfl) (fun H h => cI.rd h (by first | assumption | exact Or.inl (by assumption) | exact Or.inr (by first | assumption | exact upm_same _ _ _ | exact (upm_ne _ _ (by first | assumption | exact Ne.symm (by assumption) | omega | exact ne_mp (m := m) (by assumption) (by assumption) | exact Ne.symm (ne_mp (m := m) (by assumption) (by assumption)) | exact ne_mp (m := w) (by assumption) (by assumption) | exact Ne.symm (ne_mp (m := w) (by assumption) (by assumption)))).trans (by first | assumption | exact upm_same _ _ _ | exact (upm_ne _ _ (by first | assumption | exact Ne.symm (by assumption) | omega | exact ne_mp (m := m) (by assumption) (by assumption) | exact Ne.symm (ne_mp (m := m) (by assumption) (by assumption)) | exact ne_mp (m := w) (by assumption) (by assumption) | exact Ne.symm (ne_mp (m := w) (by assumption) (by assumption)))).trans (by first | assumption | exact upm_same _ _ _ | exact (upm_ne _ _ (by first | assumption | exact Ne.symm (by assumption) | omega | exact ne_mp (m := m) (by assumption) (by assumption) | exact Ne.symm (ne_mp (m := m) (by assumption) (by assumption)) | exact ne_mp (m := w) (by assumption) (by assumption) | exact Ne.symm (ne_mp (m := w) (by assumption) (by assumption)))).trans (by first | assumption | exact upm_same _ _ _))))) rfl (by decide) rfl) rfl ?_
    refine zr_getN (C := RX2) (T := TX2) (N := 4) (q := 38) hX ciX2 1 rfl (by decide) in_X2 dX1_merge_35 (zNF_at 0 rfl) (fun H h => cI.rd h (by first | assumption | exact Or.inl (by assumption) | exact Or.inr (by first | assumption | exact upm_same _ _ _ | exact (upm_ne _ _ (by first | assumption | exact Ne.symm (by assumption) | omega | exact ne_mp (m := m) (by assumption) (by assumption) | exact Ne.symm (ne_mp (m := m) (by assumption) (by assumption)) | exact ne_mp (m := w) (by assumption) (by assumption) | exact Ne.symm (ne_mp (m := w) (by assumption) (by assumption)))).trans (by first | assumption | exact upm_same _ _ _ | exact (upm_ne _ _ (by first | assumption | exact Ne.symm (by assumption) | omega | exact ne_mp (m := m) (by assumption) (by assumption) | exact Ne.symm (ne_mp (m := m) (by assumption) (by assumption)) | exact ne_mp (m := w) (by assumption) (by assumption) | exact Ne.symm (ne_mp (m := w) (by assumption) (by assumption)))).trans (by first | assumption | exact upm_same _ _ _ | exact (upm_ne _ _ (by first | assumption | exact Ne.symm (by assumption) | omega | exact ne_mp (m := m) (by assumption) (by assumption) | exact Ne.symm (ne_mp (m := m) (by assumption) (by assumption)) | exact ne_mp (m := w) (by assumption) (by assumption) | exact Ne.symm (ne_mp (m := w) (by assumption) (by assumption)))).trans (by first | assumption | exact upm_same _ _ _))))) rfl (by decide) rfl) rfl ?_
    refine z_iload (q := 40) hX dX1_merge_38 rfl rfl ?_
    refine zr_aald (q := 41) hX 7 rfl dX1_merge_40 (fun H h => (cI.at h (by first | assumption | exact Or.inl (by assumption) | exact Or.inr (by first | assumption | exact upm_same _ _ _ | exact (upm_ne _ _ (by first | assumption | exact Ne.symm (by assumption) | omega | exact ne_mp (m := m) (by assumption) (by assumption) | exact Ne.symm (ne_mp (m := m) (by assumption) (by assumption)) | exact ne_mp (m := w) (by assumption) (by assumption) | exact Ne.symm (ne_mp (m := w) (by assumption) (by assumption)))).trans (by first | assumption | exact upm_same _ _ _ | exact (upm_ne _ _ (by first | assumption | exact Ne.symm (by assumption) | omega | exact ne_mp (m := m) (by assumption) (by assumption) | exact Ne.symm (ne_mp (m := m) (by assumption) (by assumption)) | exact ne_mp (m := w) (by assumption) (by assumption) | exact Ne.symm (ne_mp (m := w) (by assumption) (by assumption)))).trans (by first | assumption | exact upm_same _ _ _ | exact (upm_ne _ _ (by first | assumption | exact Ne.symm (by assumption) | omega | exact ne_mp (m := m) (by assumption) (by assumption) | exact Ne.symm (ne_mp (m := m) (by assumption) (by assumption)) | exact ne_mp (m := w) (by assumption) (by assumption) | exact Ne.symm (ne_mp (m := w) (by assumption) (by assumption)))).trans (by first | assumption | exact upm_same _ _ _)))))).raQ) ⟨by omega, by omega⟩ (by first | decide | omega) rfl ?_
    refine zG.top (v2 := .ref xt) (by show va_rf (utf (min x y).toNat) = _; rw [v1]; rfl) ?_
    refine z_V (ci := ciX7) (T := TX7) (N := 3) (na := 0) hX dX1_merge_41 (c_X7_variables D A v2) rfl q1494 q1495 q1496 q127 q1497 (by decide +kernel) ⟨Nat.le_of_ble_eq_true rfl, Nat.le_of_ble_eq_true rfl⟩ rfl rfl (Nat.le_of_ble_eq_true rfl) rfl (by first | exact Nat.le_of_ble_eq_true rfl | (show _ + 0 ≤ 220; omega)) (by first | exact Nat.le_of_ble_eq_true rfl | (show _ + 0 ≤ 9600; omega)) (fun H h => ⟨h, h.obE (Or.inl v5) rfl⟩) (fun E a => zT.no) (zPd.out ?_)
    show zG X (_ + 0) (_ + 0) _ 44 _ _
    exact z_iret hX dX1_merge_44 (by first | exact Nat.le_of_ble_eq_true rfl | (show (_ : Nat) ≤ 220; omega)) (by first | exact Nat.le_of_ble_eq_true rfl | (show (_ : Nat) ≤ 9600; omega)) rfl (fun H h => ⟨(w2, x28), rfl, ⟨hc0, j1.tr hw2, n5.tr hx28.1, hx28.2⟩, h⟩)
  · have hc3 : mrgC M x y = 3 := by unfold mrgC; rw [if_pos ⟨hTx, hTy⟩, if_neg hne, if_neg hf]
    have hf9 : isFm M (fst M (min x y)) (fst M (max x y)) = false := by rw [← Bool.not_eq_true]; exact hf
    have hwl : wLog D w (logM D (nMR D m x14.1) a6 x14.1.1 x14.1.2.1 x14.1.2.2.1 (M 1) x14.2.1 ls x14.2.2) a6 M x14.1.1 x14.1.2.1 x14.1.2.2.1 := ⟨hok, Or.inr logM_b, ⟨_, ls, Or.inr (logM_ll n2), g3⟩, _, Or.inr (logM_ta n2), hts5⟩
    refine z_aload_n (i := 3) (q := 19) hX dX1_merge_18 rfl rfl rfl ?_
    refine z_iload_n (i := 1) (q := 20) hX dX1_merge_19 rfl rfl rfl ?_
    refine z_iload_n (i := 2) (q := 21) hX dX1_merge_20 rfl rfl rfl ?_
    refine z_VW (ci := ciX2) (T := TX2) (N := 4) (na := 2) hX dX1_merge_21 (c_X2_merge_no D A hwl hTx hTy hf9) rfl q1679 q668 q669 q98 q670 (by decide +kernel) ⟨Nat.le_of_ble_eq_true rfl, Nat.le_of_ble_eq_true rfl⟩ rfl rfl (Nat.le_of_ble_eq_true rfl) rfl (by first | exact Nat.le_of_ble_eq_true rfl | (show _ + 2 ≤ 220; omega)) (by first | exact Nat.le_of_ble_eq_true rfl | (show _ + 16 ≤ 9600; omega)) (fun H h => ⟨h, h.obE (Or.inr logM_b) rfl⟩) (zXs.out (fun e21 => ?_)) (zPe.out (fun x21 hx21 => ?_))
    · refine zT.ex (fun e2 => zT.ax (fun he2 => ?_))
      refine zT.catch hX [] _ [] rfl (fun z hz => by cases hz) (by decide) (by decide) q257 (zCs_at 9 rfl) rfl ?_
      have hK1 := (hK.fr n5).fr (zFr_logM (D := D) (th := M 1) (col := x14.1.2.2.1) (mc := x14.2.1) (ls := ls) (tf := x14.2.2) (hK.fr n5) n7)
      obtain ⟨w1, w2, w3, w4⟩ := twoUp (x := eR none 12 (min x y)) (y := eR (some e2) 2 (max x y)) hK1 he2.1 he2.2.1 he2.2.2
      have hbx := (hbf0.le (zLe.rf (w := w)) (n4.tr (mLe_logM (D := D) (th := M 1) (col := x14.1.2.2.1) (mc := x14.2.1) (ls := ls) (tf := x14.2.2) n2 n7))).le (zLe.rf (w := w)) w1
      have hrx := hbx.rep (e := e21) (e2 := e2) (upm_same _ _ _) ((upm_ne _ _ he2.1).trans (upm_same _ _ _)) w3 w4
      have hb1x := hbx.1
      refine z_astore_n (i := 3) (q := 46) hX dX1_merge_45 rfl (Nat.le_of_ble_eq_true rfl) rfl rfl ?_
      refine z_aload_n (i := 0) (q := 47) hX dX1_merge_46 rfl rfl rfl ?_
      refine z_aload_n (i := 3) (q := 48) hX dX1_merge_47 rfl rfl rfl ?_
      refine zc_put (C := RX1) (T := TX1) (N := 7) (q := 51) hX ciX1 3 rfl (by decide) in_X1 tyX1_ok nmX1 dX1_merge_48 q227 (Or.inl rfl) rfl (by first | assumption | exact upm_same _ _ _ | exact (upm_ne _ _ (by first | assumption | exact Ne.symm (by assumption) | omega | exact ne_mp (m := m) (by assumption) (by assumption) | exact Ne.symm (ne_mp (m := m) (by assumption) (by assumption)) | exact ne_mp (m := w) (by assumption) (by assumption) | exact Ne.symm (ne_mp (m := w) (by assumption) (by assumption)))).trans (by first | assumption | exact upm_same _ _ _ | exact (upm_ne _ _ (by first | assumption | exact Ne.symm (by assumption) | omega | exact ne_mp (m := m) (by assumption) (by assumption) | exact Ne.symm (ne_mp (m := m) (by assumption) (by assumption)) | exact ne_mp (m := w) (by assumption) (by assumption) | exact Ne.symm (ne_mp (m := w) (by assumption) (by assumption)))).trans (by first | assumption | exact upm_same _ _ _ | exact (upm_ne _ _ (by first | assumption | exact Ne.symm (by assumption) | omega | exact ne_mp (m := m) (by assumption) (by assumption) | exact Ne.symm (ne_mp (m := m) (by assumption) (by assumption)) | exact ne_mp (m := w) (by assumption) (by assumption) | exact Ne.symm (ne_mp (m := w) (by assumption) (by assumption)))).trans (by first | assumption | exact upm_same _ _ _)))) (Nat.le_of_ble_eq_true rfl) rfl rfl rfl rfl ?_
      refine zc_throw0 (q := 58) (names := ["java/lang/RuntimeException", "java/lang/Exception"]) hX ciJ23 (C := RJ23) (T := zT0) (N := 0) rfl (by decide +kernel) (by decide +kernel) q1464 q131 xa_X1_131 xg_X1_131 dX1_merge_51 dX1_merge_54 dX1_merge_55 dX1_merge_58 (Nat.le_of_ble_eq_true rfl) rfl (Nat.le_of_ble_eq_true rfl) (Nat.le_of_ble_eq_true rfl) (by first | exact Nat.le_of_ble_eq_true rfl | (show _ + 1 ≤ 220; omega)) (by first | exact Nat.le_of_ble_eq_true rfl | (show _ + 6 ≤ 9600; omega)) rfl (fun e51 he51 hf51 => ?_)
      exact zT.out hX (by decide) (by first | exact Nat.le_of_ble_eq_true rfl | (show (_ : Nat) ≤ 220; omega)) (by first | exact Nat.le_of_ble_eq_true rfl | (show (_ : Nat) ≤ 9600; omega)) (fun H h => Or.inr (Or.inr (xSt_tr (zLe.rf (w := w)) (((n5.tr (zFr_logM (hK.fr n5) n7)).tr w2).tr (zFr.up hbx.2.2.2.2.2.2.2.1)) (xSt0 (((hK1.fr w2)).fr (zFr.up hbx.2.2.2.2.2.2.2.1)) hrx hc3 ⟨⟨he51, hf51⟩, h⟩))))
    show zG X (_ + 2) (_ + 16) _ 24 _ _
    exact hx21.elim
abbrev rmX1_gain : Room := { frames := 11, cells := 12, slots := 74, locals := 246 }
set_option maxHeartbeats 4000000 in
theorem c_X1_gain (D : zD) (A : Nat → Prop) {w m : zMp} {b : Nat} {K : Nat → Prop} {M : Int → Int} {ps : List (Int → Int)} {sv : Option (Int → Int)} {rp : Option (Int × Int × Int × Int)} {s : zS} {cs : Option (List zCn)} {x y : Int} (hb : zX1 D w m K b M ps sv rp s cs) (hK : zHk K m) (hx : zR x) (hy : zR y) : zC D yX1_gain cX1_gain 4 (some .int) (some [(6, 15, 16, 123)]) rmX1_gain A [.ref b, zI (x), zI (y)] (cI D A w m) (zPe (fun (z : zMp × zMp) => some (zI (opGain M x y).2)) (fun z => pSt D w m K b ((opGain M x y).1 = 0) M ps sv rp s cs z) (fun z => cI D A z.1 z.2)) (zXo (xSt D A w m K b "java/lang/IndexOutOfBoundsException" ciJ22 ((opGain M x y).1 = 1) M ps sv rp s cs) (zXo (xSt D A w m K b "java/lang/IllegalArgumentException" ciJ7 ((opGain M x y).1 = 2) M ps sv rp s cs) (xSt D A w m K b "java/lang/UnsupportedOperationException" ciJ23 ((opGain M x y).1 = 3) M ps sv rp s cs))) := by
  refine zC_startH (L := [some (.ref b), some (zI (x)), some (zI (y)), none]) (by decide) (Nat.le_of_ble_eq_true rfl) rfl (fun X hX => ?_)
  have hb0 := hb
  obtain ⟨lg, hl1, ia, sa, ra, ca, h1, ⟨hok, ll, ta, col, tc, mc, ls, tf, g1, g2, g3, g4, g5, g6, g7⟩, -⟩ := hb
  have hg : wLog D w m lg M ll ta col := ⟨hok, Or.inl g1, ⟨mc, ls, Or.inl g2, g3⟩, tf, Or.inl g4, g5⟩
  have hM := hok.1
  have l1 := g3.1
  refine z_aload_n (i := 0) (q := 1) hX dX1_gain_0 rfl rfl rfl ?_
  refine z_iload_n (i := 1) (q := 2) hX dX1_gain_1 rfl rfl rfl ?_
  refine z_iload_n (i := 2) (q := 3) hX dX1_gain_2 rfl rfl rfl ?_
  refine z_V (ci := ciX1) (T := TX1) (N := 7) (na := 2) hX dX1_gain_3 (c_X1_checkPair D A hb0 hx hy) rfl q1675 q1677 qs36 q97 q1678 (by decide +kernel) ⟨Nat.le_of_ble_eq_true rfl, Nat.le_of_ble_eq_true rfl⟩ rfl rfl (Nat.le_of_ble_eq_true rfl) rfl (by first | exact Nat.le_of_ble_eq_true rfl | (show _ + 10 ≤ 12; omega)) (by first | exact Nat.le_of_ble_eq_true rfl | (show _ + 60 ≤ 74; omega)) (fun H h => ⟨h, h.obE (Or.inr h1) rfl⟩) ?_ (zPe.out (fun x3 hx3 => ?_))
  · refine zXo.out (zXs.out (fun e3 => ?_)) (zXs.out (fun e3 => ?_))
    · refine zT.ax (fun hx3 => ?_)
      exact zT.out hX (by decide) (by first | exact Nat.le_of_ble_eq_true rfl | (show (_ : Nat) ≤ 12; omega)) (by first | exact Nat.le_of_ble_eq_true rfl | (show (_ : Nat) ≤ 74; omega)) (fun H h => Or.inl (xSt0 hK hb0 (by show gainC M x y = 1; unfold gainC; rw [if_neg hx3]) h))
    · refine zT.ax (fun hx3 => ?_)
      exact zT.out hX (by decide) (by first | exact Nat.le_of_ble_eq_true rfl | (show (_ : Nat) ≤ 12; omega)) (by first | exact Nat.le_of_ble_eq_true rfl | (show (_ : Nat) ≤ 74; omega)) (fun H h => Or.inr (Or.inl (xSt0 hK hb0 (by show gainC M x y = 2; unfold gainC; rw [if_pos hx3.1, if_pos hx3.2]) h)))
  show zG X (_ + 10) (_ + 60) _ 6 _ _
  obtain ⟨⟨hTx, hTy⟩, hne⟩ := hx3
  have hmm := isT_mm hTx hTy
  refine z_aload_n (i := 0) (q := 7) hX dX1_gain_6 rfl rfl rfl ?_
  by_cases hf : isFm M (fst M (min x y)) (fst M (max x y)) = true
  · have hc0 : gainC M x y = 0 := by unfold gainC; rw [if_pos ⟨hTx, hTy⟩, if_neg hne, ← isFm_mm, if_pos hf]
    have hop : opGain M x y = (0, gainM M (min x y) (max x y)) := by unfold opGain; rw [hc0, if_pos rfl]
    refine zr_get (C := RX1) (T := TX1) (N := 7) (q := 10) hX ciX1 0 rfl (by decide) in_X1 dX1_gain_7 q224 (Or.inl rfl) (fun H h => cI.rd h (by first | assumption | exact Or.inl (by assumption) | exact Or.inr (by first | assumption | exact upm_same _ _ _ | exact (upm_ne _ _ (by first | assumption | exact Ne.symm (by assumption) | omega | exact ne_mp (m := m) (by assumption) (by assumption) | exact Ne.symm (ne_mp (m := m) (by assumption) (by assumption)) | exact ne_mp (m := w) (by assumption) (by assumption) | exact Ne.symm (ne_mp (m := w) (by assumption) (by assumption)))).trans (by first | assumption | exact upm_same _ _ _ | exact (upm_ne _ _ (by first | assumption | exact Ne.symm (by assumption) | omega | exact ne_mp (m := m) (by assumption) (by assumption) | exact Ne.symm (ne_mp (m := m) (by assumption) (by assumption)) | exact ne_mp (m := w) (by assumption) (by assumption) | exact Ne.symm (ne_mp (m := w) (by assumption) (by assumption)))).trans (by first | assumption | exact upm_same _ _ _ | exact (upm_ne _ _ (by first | assumption | exact Ne.symm (by assumption) | omega | exact ne_mp (m := m) (by assumption) (by assumption) | exact Ne.symm (ne_mp (m := m) (by assumption) (by assumption)) | exact ne_mp (m := w) (by assumption) (by assumption) | exact Ne.symm (ne_mp (m := w) (by assumption) (by assumption)))).trans (by first | assumption | exact upm_same _ _ _))))) rfl (by decide) rfl) rfl ?_
    refine z_iload_n (i := 1) (q := 11) hX dX1_gain_10 rfl rfl rfl ?_
    refine z_iload_n (i := 2) (q := 12) hX dX1_gain_11 rfl rfl rfl ?_
    refine z_V (ci := ciX2) (T := TX2) (N := 4) (na := 2) hX dX1_gain_12 (c_X2_gain_ok D A hg g6 hTx hTy hne hf) rfl q1709 q490 q491 q98 q492 (by decide +kernel) ⟨Nat.le_of_ble_eq_true rfl, Nat.le_of_ble_eq_true rfl⟩ rfl rfl (Nat.le_of_ble_eq_true rfl) rfl (by first | exact Nat.le_of_ble_eq_true rfl | (show _ + 0 ≤ 12; omega)) (by first | exact Nat.le_of_ble_eq_true rfl | (show _ + 0 ≤ 74; omega)) (fun H h => ⟨h, h.obE (Or.inl g1) rfl⟩) (fun E a => zT.no) (zPe.out (fun x12 hx12 => ?_))
    show zG X (_ + 0) (_ + 0) _ 15 _ _
    rw [← gain_eq hok hmm.1 hmm.2 (by omega) hf]
    exact z_iret hX dX1_gain_15 (by first | exact Nat.le_of_ble_eq_true rfl | (show (_ : Nat) ≤ 12; omega)) (by first | exact Nat.le_of_ble_eq_true rfl | (show (_ : Nat) ≤ 74; omega)) rfl (fun H h => ⟨(w, cM D m col tc x12.1 x12.2), by rw [hop], ⟨by rw [hop], zLe.rf, zFr.sc g7.1 g7.2, hb0.sc g6⟩, h⟩)
  · have hc3 : gainC M x y = 3 := by unfold gainC; rw [if_pos ⟨hTx, hTy⟩, if_neg hne, ← isFm_mm, if_neg hf]
    have hf9 : isFm M (fst M (min x y)) (fst M (max x y)) = false := by rw [← Bool.not_eq_true]; exact hf
    refine zr_get (C := RX1) (T := TX1) (N := 7) (q := 10) hX ciX1 0 rfl (by decide) in_X1 dX1_gain_7 q224 (Or.inl rfl) (fun H h => cI.rd h (by first | assumption | exact Or.inl (by assumption) | exact Or.inr (by first | assumption | exact upm_same _ _ _ | exact (upm_ne _ _ (by first | assumption | exact Ne.symm (by assumption) | omega | exact ne_mp (m := m) (by assumption) (by assumption) | exact Ne.symm (ne_mp (m := m) (by assumption) (by assumption)) | exact ne_mp (m := w) (by assumption) (by assumption) | exact Ne.symm (ne_mp (m := w) (by assumption) (by assumption)))).trans (by first | assumption | exact upm_same _ _ _ | exact (upm_ne _ _ (by first | assumption | exact Ne.symm (by assumption) | omega | exact ne_mp (m := m) (by assumption) (by assumption) | exact Ne.symm (ne_mp (m := m) (by assumption) (by assumption)) | exact ne_mp (m := w) (by assumption) (by assumption) | exact Ne.symm (ne_mp (m := w) (by assumption) (by assumption)))).trans (by first | assumption | exact upm_same _ _ _ | exact (upm_ne _ _ (by first | assumption | exact Ne.symm (by assumption) | omega | exact ne_mp (m := m) (by assumption) (by assumption) | exact Ne.symm (ne_mp (m := m) (by assumption) (by assumption)) | exact ne_mp (m := w) (by assumption) (by assumption) | exact Ne.symm (ne_mp (m := w) (by assumption) (by assumption)))).trans (by first | assumption | exact upm_same _ _ _))))) rfl (by decide) rfl) rfl ?_
    refine z_iload_n (i := 1) (q := 11) hX dX1_gain_10 rfl rfl rfl ?_
    refine z_iload_n (i := 2) (q := 12) hX dX1_gain_11 rfl rfl rfl ?_
    refine z_V (ci := ciX2) (T := TX2) (N := 4) (na := 2) hX dX1_gain_12 (c_X2_gain_no D A hg hTx hTy hf9) rfl q1709 q490 q491 q98 q492 (by decide +kernel) ⟨Nat.le_of_ble_eq_true rfl, Nat.le_of_ble_eq_true rfl⟩ rfl rfl (Nat.le_of_ble_eq_true rfl) rfl (by first | exact Nat.le_of_ble_eq_true rfl | (show _ + 1 ≤ 12; omega)) (by first | exact Nat.le_of_ble_eq_true rfl | (show _ + 8 ≤ 74; omega)) (fun H h => ⟨h, h.obE (Or.inl g1) rfl⟩) (zXs.out (fun e12 => ?_)) (zPe.out (fun x12 hx12 => ?_))
    · refine zT.ax (fun he2 => ?_)
      refine zT.catch hX [] _ [] rfl (fun z hz => by cases hz) (by decide) (by decide) q257 (zCs_at 9 rfl) rfl ?_
      have hbx := hb0.le (zLe.rf (w := w)) (mLe.up (x := eR none 12 (min x y)) he2.2)
      have hKx := zFr.up (m := m) (x := eR none 12 (min x y)) (hK.no he2.2)
      refine z_astore_n (i := 3) (q := 17) hX dX1_gain_16 rfl (Nat.le_of_ble_eq_true rfl) rfl rfl ?_
      refine zc_throw0 (q := 24) (names := ["java/lang/RuntimeException", "java/lang/Exception"]) hX ciJ23 (C := RJ23) (T := zT0) (N := 0) rfl (by decide +kernel) (by decide +kernel) q1464 q131 xa_X1_131 xg_X1_131 dX1_gain_17 dX1_gain_20 dX1_gain_21 dX1_gain_24 (Nat.le_of_ble_eq_true rfl) rfl (Nat.le_of_ble_eq_true rfl) (Nat.le_of_ble_eq_true rfl) (by first | exact Nat.le_of_ble_eq_true rfl | (show _ + 1 ≤ 12; omega)) (by first | exact Nat.le_of_ble_eq_true rfl | (show _ + 6 ≤ 74; omega)) rfl (fun e17 he17 hf17 => ?_)
      exact zT.out hX (by decide) (by first | exact Nat.le_of_ble_eq_true rfl | (show (_ : Nat) ≤ 12; omega)) (by first | exact Nat.le_of_ble_eq_true rfl | (show (_ : Nat) ≤ 74; omega)) (fun H h => Or.inr (Or.inr (xSt_tr zLe.rf hKx (xSt0 (hK.fr hKx) hbx hc3 ⟨⟨he17, hf17⟩, h⟩))))
    show zG X (_ + 1) (_ + 8) _ 15 _ _
    exact hx12.elim
