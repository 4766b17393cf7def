/-! THE CLASS: the compactor: add -/
set_option maxRecDepth 100000
theorem cI.thX {D : zD} {A : Nat → Prop} {w m : zMp} {H : Heap} {a ci : Nat} (h : cI D A w m H) (hm : m a = some (eX ci)) : zTh D ci a H := by
  obtain ⟨B, -, h1⟩ := h.it (Or.inr hm)
  exact h1
theorem zX1b.clr {D : zD} {w m : zMp} {K : Nat → Prop} {b lg hl ia : Nat} {sa ra ca : Option Nat} {M : Int → Int} {ps : List (Int → Int)} {sv : Option (Int → Int)} {rp : Option (Int × Int × Int × Int)} {s : zS} {cs : Option (List zCn)} (h : zX1b D w m K b lg hl ia sa ra ca M ps sv rp s cs) : zX1 D w (upm m b (eO ciX1 [.ref lg, va_rf sa, .ref hl, va_rf ra, .ref ia, zI 0, va_rf ca])) K b M ps sv rp [] cs := by
  obtain ⟨g1, g2, ⟨mc, xs, g3, g4⟩, g5, g6, ⟨⟨f, g7, g7b⟩, g7c⟩, g8, g9, g10, g11⟩ := h
  have hhl : hl ≠ b := fun e => by rw [e, g1] at g3; cases g3
  have hib : ia ≠ b := fun e => by rw [e, g1] at g7; cases g7
  have c2 := zX1.cg (D := D) (w := w) (ci := 0) (y := eO ciX1 [.ref lg, va_rf sa, .ref hl, va_rf ra, .ref ia, zI 0, va_rf ca]) g1
  exact ⟨lg, hl, ia, sa, ra, ca, upm_same _ _ _, g2.of c2.1, ⟨mc, xs, (upm_ne _ _ hhl).trans g3, g4.of c2.1⟩, g5.of c2.1, g6.of c2.2, ⟨⟨f, (upm_ne _ _ hib).trans g7, fun j hj => absurd hj (Nat.not_lt_zero j)⟩, by decide, fun c hc => by cases hc⟩, g8, g9, g10, g11⟩
theorem zX1.rpc {D : zD} {w m : zMp} {K : Nat → Prop} {b : Nat} {M : Int → Int} {ps : List (Int → Int)} {sv : Option (Int → Int)} {rp rp2 : Option (Int × Int × Int × Int)} {s : zS} {cs : Option (List zCn)} (h : zX1 D w m K b M ps sv rp s cs) (e : rp = rp2) : zX1 D w m K b M ps sv rp2 s cs := by
  rw [← e]
  exact h
/-- whose line it becomes: the class's way -/
theorem tak_cs (M : Int → Int) (l : Int) : ∃ v1 v2 fr : Int, (∀ n : Nat, n = 12 → bestI (takP M l false) (fun t => fitI M t l) n = v1) ∧ (∀ n : Nat, n = 12 → bestI (takP M l true) (fun t => fitI M t l) n = v2) ∧ (takM M l = if 0 ≤ v1 then v1 else if 0 ≤ v2 then v2 else fr) ∧ (-1 ≤ v1 ∧ v1 ≤ 11 ∧ (0 ≤ v1 → isT M v1 = true ∧ isFm M (fst M v1) l = true)) ∧ (-1 ≤ v2 ∧ v2 ≤ 11 ∧ (0 ≤ v2 → isT M v2 = true ∧ isFm M (fst M v2) l = true)) ∧ (∀ i : Nat, i < 12 → (∀ j : Nat, j < i → isT M j = true) → isT M i = false → fr = i) ∧ (0 ≤ fr ∧ fr ≤ 12) ∧ (fr ≠ 12 → isT M fr = false) ∧ (fr = 12 → ∀ j : Nat, j < 12 → isT M j = true) := by
  refine ⟨bestI (takP M l false) (fun t => fitI M t l) 12, bestI (takP M l true) (fun t => fitI M t l) 12, lfree M, fun n hn => by rw [hn], fun n hn => by rw [hn], rfl, ?_, ?_, fun i hi h1 h2 => lfree_at hi h1 h2, lfree_rng M, lfree_no, lfree_full⟩
  · have h := bestI_ok (takP M l false) (fun t => fitI M t l) 12
    generalize bestI (takP M l false) (fun t => fitI M t l) 12 = v at h ⊢
    refine ⟨h.1, by omega, fun q => ?_⟩
    have h2 := h.2.2 q
    rw [takP_eq, Bool.and_eq_true] at h2
    exact ⟨h2.1, ctP_fm h2.2⟩
  · have h := bestI_ok (takP M l true) (fun t => fitI M t l) 12
    generalize bestI (takP M l true) (fun t => fitI M t l) 12 = v at h ⊢
    refine ⟨h.1, by omega, fun q => ?_⟩
    have h2 := h.2.2 q
    rw [takP_eq, Bool.and_eq_true] at h2
    exact ⟨h2.1, ctP_fm h2.2⟩
def adC (M : Int → Int) (s : zS) : Int := if ltB s = false then 1 else if M 0 = 40 then 2 else if takM (rwS M s) (M 0) = 12 then 3 else 0
abbrev rmX1_isLineText : Room := { frames := 1, cells := 0, slots := 0, locals := 22 }
set_option maxHeartbeats 4000000 in
theorem c_X1_isLineText (D : zD) (A : Nat → Prop) {w m : zMp} {b : Nat} {K : Nat → Prop} {M : Int → Int} {ps : List (Int → Int)} {sv : Option (Int → Int)} {rp : Option (Int × Int × Int × Int)} {s : zS} {cs : Option (List zCn)} (hb : zX1 D w m K b M ps sv rp s cs) : zC D yX1_isLineText cX1_isLineText 3 (some .boolean) none rmX1_isLineText A [.ref b] (cI D A w m) (zPd (zI (bi (ltB s))) (cI D A w m)) (zNo) := by
  refine zC_start (L := [some (.ref b), none, none]) (by decide) (Nat.le_of_ble_eq_true rfl) rfl (fun X hX => ?_)
  obtain ⟨lg, hl1, ia, sa, ra, ca, h1, h2, -, h5, h6, ⟨⟨f, h7, h7b⟩, h7c⟩, -⟩ := hb
  have h60 := h7c.1
  have K13 : ∀ i : Nat, i ≤ s.length → ∀ (v : Bool) (p : Int), v = ((decide (1 ≤ (s.length : Int)) && decide ((s.length : Int) ≤ 40)) && allI (fun i => decide (32 ≤ cT s i) && decide (cT s i ≤ 126)) i) → p = i → zG X 0 0 (cI D A w m) 13 [some (.ref b), some (zI (bi (v))), some (zI (p))] [] := by
    refine z_up (fun i hi ih v p ev ep => ?_)
    subst ep
    by_cases hin : i < s.length
    · have hc := h7c.c (i := (i : Int)) (by omega) (by omega)
      have hst : allI (fun i => decide (32 ≤ cT s i) && decide (cT s i ≤ 126)) (i + 1) = (allI (fun i => decide (32 ≤ cT s i) && decide (cT s i ≤ 126)) i && (decide (32 ≤ cT s (i : Int)) && decide (cT s (i : Int) ≤ 126))) := rfl
      refine z_iload_n (i := 2) (q := 14) hX dX1_isLineText_13 rfl rfl rfl ?_
      refine z_aload_n (i := 0) (q := 15) hX dX1_isLineText_14 rfl rfl rfl ?_
      refine zr_get (C := RX1) (T := TX1) (N := 7) (q := 18) hX ciX1 5 rfl (by decide) in_X1 dX1_isLineText_15 q231 (Or.inl rfl) (fun H h => cI.rd h (by first | assumption | exact Or.inl (by assumption) | exact Or.inr (by first | assumption | exact upm_same _ _ _ | exact (upm_ne _ _ (by first | assumption | exact Ne.symm (by assumption) | omega | exact ne_mp (m := m) (by assumption) (by assumption) | exact Ne.symm (ne_mp (m := m) (by assumption) (by assumption)) | exact ne_mp (m := w) (by assumption) (by assumption) | exact Ne.symm (ne_mp (m := w) (by assumption) (by assumption)))).trans (by first | assumption | exact upm_same _ _ _ | exact (upm_ne _ _ (by first | assumption | exact Ne.symm (by assumption) | omega | exact ne_mp (m := m) (by assumption) (by assumption) | exact Ne.symm (ne_mp (m := m) (by assumption) (by assumption)) | exact ne_mp (m := w) (by assumption) (by assumption) | exact Ne.symm (ne_mp (m := w) (by assumption) (by assumption)))).trans (by first | assumption | exact upm_same _ _ _ | exact (upm_ne _ _ (by first | assumption | exact Ne.symm (by assumption) | omega | exact ne_mp (m := m) (by assumption) (by assumption) | exact Ne.symm (ne_mp (m := m) (by assumption) (by assumption)) | exact ne_mp (m := w) (by assumption) (by assumption) | exact Ne.symm (ne_mp (m := w) (by assumption) (by assumption)))).trans (by first | assumption | exact upm_same _ _ _))))) rfl (by decide) rfl) rfl ?_
      refine z_icmp_ge (q := 21) (t := 43) hX dX1_isLineText_18 (by decide) ⟨by omega, by omega⟩ ⟨by omega, by omega⟩ rfl (fun h18 => ?_) (fun h18 => ?_)
      · exact absurd h18 (by omega)
      · refine z_iload_n (i := 1) (q := 22) hX dX1_isLineText_21 rfl rfl rfl ?_
        refine z_aload_n (i := 0) (q := 23) hX dX1_isLineText_22 rfl rfl rfl ?_
        refine zr_get (C := RX1) (T := TX1) (N := 7) (q := 26) hX ciX1 4 rfl (by decide) in_X1 dX1_isLineText_23 q229 (Or.inl rfl) (fun H h => cI.rd h (by first | assumption | exact Or.inl (by assumption) | exact Or.inr (by first | assumption | exact upm_same _ _ _ | exact (upm_ne _ _ (by first | assumption | exact Ne.symm (by assumption) | omega | exact ne_mp (m := m) (by assumption) (by assumption) | exact Ne.symm (ne_mp (m := m) (by assumption) (by assumption)) | exact ne_mp (m := w) (by assumption) (by assumption) | exact Ne.symm (ne_mp (m := w) (by assumption) (by assumption)))).trans (by first | assumption | exact upm_same _ _ _ | exact (upm_ne _ _ (by first | assumption | exact Ne.symm (by assumption) | omega | exact ne_mp (m := m) (by assumption) (by assumption) | exact Ne.symm (ne_mp (m := m) (by assumption) (by assumption)) | exact ne_mp (m := w) (by assumption) (by assumption) | exact Ne.symm (ne_mp (m := w) (by assumption) (by assumption)))).trans (by first | assumption | exact upm_same _ _ _ | exact (upm_ne _ _ (by first | assumption | exact Ne.symm (by assumption) | omega | exact ne_mp (m := m) (by assumption) (by assumption) | exact Ne.symm (ne_mp (m := m) (by assumption) (by assumption)) | exact ne_mp (m := w) (by assumption) (by assumption) | exact Ne.symm (ne_mp (m := w) (by assumption) (by assumption)))).trans (by first | assumption | exact upm_same _ _ _))))) rfl (by decide) rfl) rfl ?_
        refine z_iload_n (i := 2) (q := 27) hX dX1_isLineText_26 rfl rfl rfl ?_
        refine zr_cald (q := 28) hX dX1_isLineText_27 (fun H h => (cI.at h (by first | assumption | exact Or.inl (by assumption) | exact Or.inr (by first | assumption | exact upm_same _ _ _ | exact (upm_ne _ _ (by first | assumption | exact Ne.symm (by assumption) | omega | exact ne_mp (m := m) (by assumption) (by assumption) | exact Ne.symm (ne_mp (m := m) (by assumption) (by assumption)) | exact ne_mp (m := w) (by assumption) (by assumption) | exact Ne.symm (ne_mp (m := w) (by assumption) (by assumption)))).trans (by first | assumption | exact upm_same _ _ _ | exact (upm_ne _ _ (by first | assumption | exact Ne.symm (by assumption) | omega | exact ne_mp (m := m) (by assumption) (by assumption) | exact Ne.symm (ne_mp (m := m) (by assumption) (by assumption)) | exact ne_mp (m := w) (by assumption) (by assumption) | exact Ne.symm (ne_mp (m := w) (by assumption) (by assumption)))).trans (by first | assumption | exact upm_same _ _ _ | exact (upm_ne _ _ (by first | assumption | exact Ne.symm (by assumption) | omega | exact ne_mp (m := m) (by assumption) (by assumption) | exact Ne.symm (ne_mp (m := m) (by assumption) (by assumption)) | exact ne_mp (m := w) (by assumption) (by assumption) | exact Ne.symm (ne_mp (m := w) (by assumption) (by assumption)))).trans (by first | assumption | exact upm_same _ _ _)))))).raN) ⟨by omega, by omega⟩ (by first | decide | omega) rfl ?_
        refine zG.top (v2 := zI (cT s (i : Int))) (by show Value.int (f ((i : Int)).toNat) = _; rw [Int.toNat_natCast, h7b _ hin]) ?_
        refine z_bipush (q := 30) hX dX1_isLineText_28 (by decide) rfl ?_
        refine z_bipush (q := 32) hX dX1_isLineText_30 (by decide) rfl ?_
        refine z_S (na := 3) hX dX1_isLineText_32 (c_X1_inRange D A ⟨by omega, by omega⟩ (by decide) (by decide)) q1313 q1050 q97 q1051 (by decide +kernel) ⟨Nat.le_of_ble_eq_true rfl, Nat.le_of_ble_eq_true rfl⟩ rfl rfl (Nat.le_of_ble_eq_true rfl) rfl (by first | exact Nat.le_of_ble_eq_true rfl | (show _ + 0 ≤ 0; omega)) (by first | exact Nat.le_of_ble_eq_true rfl | (show _ + 0 ≤ 0; omega)) (fun H h => h) (fun E a => zT.no) (zPd.out ?_)
        show zG X (_ + 0) (_ + 0) _ 35 _ _
        refine z_iand (q := 36) hX dX1_isLineText_35 (bi_iand _ _) rfl ?_
        refine z_istore_n (i := 1) (q := 37) hX dX1_isLineText_36 rfl (Nat.le_of_ble_eq_true rfl) rfl rfl ?_
        refine z_iinc (q := 40) hX dX1_isLineText_37 rfl (Nat.le_of_ble_eq_true rfl) rfl rfl ?_
        refine z_goto (t := 13) hX dX1_isLineText_40 (by decide) ?_
        exact ih hin _ _ (by rw [hst, ev, Bool.and_assoc]) rfl
    · have hiN : i = s.length := by omega
      refine z_iload_n (i := 2) (q := 14) hX dX1_isLineText_13 rfl rfl rfl ?_
      refine z_aload_n (i := 0) (q := 15) hX dX1_isLineText_14 rfl rfl rfl ?_
      refine zr_get (C := RX1) (T := TX1) (N := 7) (q := 18) hX ciX1 5 rfl (by decide) in_X1 dX1_isLineText_15 q231 (Or.inl rfl) (fun H h => cI.rd h (by first | assumption | exact Or.inl (by assumption) | exact Or.inr (by first | assumption | exact upm_same _ _ _ | exact (upm_ne _ _ (by first | assumption | exact Ne.symm (by assumption) | omega | exact ne_mp (m := m) (by assumption) (by assumption) | exact Ne.symm (ne_mp (m := m) (by assumption) (by assumption)) | exact ne_mp (m := w) (by assumption) (by assumption) | exact Ne.symm (ne_mp (m := w) (by assumption) (by assumption)))).trans (by first | assumption | exact upm_same _ _ _ | exact (upm_ne _ _ (by first | assumption | exact Ne.symm (by assumption) | omega | exact ne_mp (m := m) (by assumption) (by assumption) | exact Ne.symm (ne_mp (m := m) (by assumption) (by assumption)) | exact ne_mp (m := w) (by assumption) (by assumption) | exact Ne.symm (ne_mp (m := w) (by assumption) (by assumption)))).trans (by first | assumption | exact upm_same _ _ _ | exact (upm_ne _ _ (by first | assumption | exact Ne.symm (by assumption) | omega | exact ne_mp (m := m) (by assumption) (by assumption) | exact Ne.symm (ne_mp (m := m) (by assumption) (by assumption)) | exact ne_mp (m := w) (by assumption) (by assumption) | exact Ne.symm (ne_mp (m := w) (by assumption) (by assumption)))).trans (by first | assumption | exact upm_same _ _ _))))) rfl (by decide) rfl) rfl ?_
      refine z_icmp_ge (q := 21) (t := 43) hX dX1_isLineText_18 (by decide) ⟨by omega, by omega⟩ ⟨by omega, by omega⟩ rfl (fun h18 => ?_) (fun h18 => ?_)
      · refine z_iload_n (i := 1) (q := 44) hX dX1_isLineText_43 rfl rfl rfl ?_
        exact z_zretB hX dX1_isLineText_44 (by first | exact Nat.le_of_ble_eq_true rfl | (show (_ : Nat) ≤ 0; omega)) (by first | exact Nat.le_of_ble_eq_true rfl | (show (_ : Nat) ≤ 0; omega)) rfl (fun H h => ⟨by rw [ev, hiN]; rfl, h⟩)
      · exact absurd h18 (by omega)
  refine z_aload_n (i := 0) (q := 1) hX dX1_isLineText_0 rfl rfl rfl ?_
  refine zr_get (C := RX1) (T := TX1) (N := 7) (q := 4) hX ciX1 5 rfl (by decide) in_X1 dX1_isLineText_1 q231 (Or.inl rfl) (fun H h => cI.rd h (by first | assumption | exact Or.inl (by assumption) | exact Or.inr (by first | assumption | exact upm_same _ _ _ | exact (upm_ne _ _ (by first | assumption | exact Ne.symm (by assumption) | omega | exact ne_mp (m := m) (by assumption) (by assumption) | exact Ne.symm (ne_mp (m := m) (by assumption) (by assumption)) | exact ne_mp (m := w) (by assumption) (by assumption) | exact Ne.symm (ne_mp (m := w) (by assumption) (by assumption)))).trans (by first | assumption | exact upm_same _ _ _ | exact (upm_ne _ _ (by first | assumption | exact Ne.symm (by assumption) | omega | exact ne_mp (m := m) (by assumption) (by assumption) | exact Ne.symm (ne_mp (m := m) (by assumption) (by assumption)) | exact ne_mp (m := w) (by assumption) (by assumption) | exact Ne.symm (ne_mp (m := w) (by assumption) (by assumption)))).trans (by first | assumption | exact upm_same _ _ _ | exact (upm_ne _ _ (by first | assumption | exact Ne.symm (by assumption) | omega | exact ne_mp (m := m) (by assumption) (by assumption) | exact Ne.symm (ne_mp (m := m) (by assumption) (by assumption)) | exact ne_mp (m := w) (by assumption) (by assumption) | exact Ne.symm (ne_mp (m := w) (by assumption) (by assumption)))).trans (by first | assumption | exact upm_same _ _ _))))) rfl (by decide) rfl) rfl ?_
  refine z_iconst (q := 5) hX dX1_isLineText_4 rfl ?_
  refine z_bipush (q := 7) hX dX1_isLineText_5 (by decide) rfl ?_
  refine z_S (na := 3) hX dX1_isLineText_7 (c_X1_inRange D A ⟨by omega, by omega⟩ (by decide) (by decide)) q1313 q1050 q97 q1051 (by decide +kernel) ⟨Nat.le_of_ble_eq_true rfl, Nat.le_of_ble_eq_true rfl⟩ rfl rfl (Nat.le_of_ble_eq_true rfl) rfl (by first | exact Nat.le_of_ble_eq_true rfl | (show _ + 0 ≤ 0; omega)) (by first | exact Nat.le_of_ble_eq_true rfl | (show _ + 0 ≤ 0; omega)) (fun H h => h) (fun E a => zT.no) (zPd.out ?_)
  show zG X (_ + 0) (_ + 0) _ 10 _ _
  refine z_istore_n (i := 1) (q := 11) hX dX1_isLineText_10 rfl (Nat.le_of_ble_eq_true rfl) rfl rfl ?_
  refine z_iconst (q := 12) hX dX1_isLineText_11 rfl ?_
  refine z_istore_n (i := 2) (q := 13) hX dX1_isLineText_12 rfl (Nat.le_of_ble_eq_true rfl) rfl rfl ?_
  exact K13 0 (Nat.zero_le _) _ _ (by show _ = ((decide (1 ≤ (s.length : Int)) && decide ((s.length : Int) ≤ 40)) && true); rw [Bool.and_true]) rfl
abbrev rmX1_add : Room := { frames := 10, cells := 2200, slots := 20000, locals := 244 }
set_option maxHeartbeats 4000000 in
theorem c_X1_add (D : zD) (A : Nat → Prop) {w m : zMp} {b : Nat} {K : Nat → Prop} {M : Int → Int} {ps : List (Int → Int)} {sv : Option (Int → Int)} {rp : Option (Int × Int × Int × Int)} {s : zS} {cs : Option (List zCn)} (hb : zX1 D w m K b M ps sv rp s cs) (hK : zHk K m) : zC D yX1_add cX1_add 5 (some .int) (some [(0, 73, 80, 123), (0, 73, 94, 0), (80, 96, 94, 0)]) rmX1_add A [.ref b] (cI D A w m) (zPe (fun (z : zMp × zMp) => some (zI (takM (rwS M s) (M 0)))) (fun z => pSt D w m K b (adC M s = 0) (addM (rwS M s) (takM (rwS M s) (M 0))) (psA ps M) sv rp [] cs z) (fun z => cI D A z.1 z.2)) (zXo (xSt D A w m K b "java/lang/IllegalArgumentException" ciJ7 (adC M s = 1) M ps sv rp [] cs) (zXo (xSt D A w m K b "java/lang/IllegalStateException" ciJ6 (adC M s = 2) M ps sv rp [] cs) (xSt D A w m K b "java/lang/UnsupportedOperationException" ciJ23 (adC M s = 3) M ps sv (some (1, M 0, 11, 12)) [] cs))) := by
  refine zC_startH (L := [some (.ref b), none, none, none, none]) (by decide) (Nat.le_of_ble_eq_true rfl) rfl (fun X hX => ?_)
  have hz0 := hb
  obtain ⟨lg, hl1, ia, sa, ra, ca, hbf⟩ := hb
  have hbf : zX1b D w m K b lg hl1 ia sa ra ca M ps sv rp s cs := hbf
  have hbf0 := hbf
  obtain ⟨h1, ⟨hok, ll, ta, col, tc, mc, ls, tf, g1, g2, g3, g4, g5, g6, g7⟩, -, -, -, ⟨⟨f, h7, h7b⟩, h7c⟩, -, hkb, -⟩ := hbf
  have hM := hok.1
  have l1 := g3.1
  have h60 := h7c.1
  obtain ⟨tk, htk⟩ : ∃ tk, tk = takM (rwS M s) (M 0) := ⟨_, rfl⟩
  have had : adC M s = if ltB s = false then 1 else if M 0 = 40 then 2 else if tk = 12 then 3 else 0 := by rw [htk]; rfl
  rw [← htk] at hX
  refine z_aload_n (i := 0) (q := 1) hX dX1_add_0 rfl rfl rfl ?_
  refine z_V (ci := ciX1) (T := TX1) (N := 7) (na := 0) hX dX1_add_1 (c_X1_isLineText D A hz0) rfl q1309 q1311 qs26 q97 q1312 (by decide +kernel) ⟨Nat.le_of_ble_eq_true rfl, Nat.le_of_ble_eq_true rfl⟩ rfl rfl (Nat.le_of_ble_eq_true rfl) rfl (by first | exact Nat.le_of_ble_eq_true rfl | (show _ + 0 ≤ 2200; omega)) (by first | exact Nat.le_of_ble_eq_true rfl | (show _ + 0 ≤ 20000; omega)) (fun H h => ⟨h, h.obE (Or.inr h1) rfl⟩) (fun E a => zT.no) (zPd.out ?_)
  show zG X (_ + 0) (_ + 0) _ 4 _ _
  refine z_S (na := 1) hX dX1_add_4 (c_X1_checkArgument D A) q1314 q1315 q97 q1316 (by decide +kernel) ⟨Nat.le_of_ble_eq_true rfl, Nat.le_of_ble_eq_true rfl⟩ rfl rfl (Nat.le_of_ble_eq_true rfl) rfl (by first | exact Nat.le_of_ble_eq_true rfl | (show _ + 1 ≤ 2200; omega)) (by first | exact Nat.le_of_ble_eq_true rfl | (show _ + 6 ≤ 20000; omega)) (fun H h => h) (zXs.out (fun e4 => ?_)) (zPe.out (fun x4 hx4 => ?_))
  · refine zT.ax (fun hx4 => zT.ax (fun hy4 => ?_))
    refine zT.catchAll hX [_] _ [_] rfl (fun z hz => by rw [List.mem_singleton] at hz; subst hz; exact Or.inr ⟨by decide, _, q257, List.mem_of_getElem? (i := 9) rfl⟩) (by decide) rfl rfl ?_
    have hm4 : upm m e4 (eX ciJ7) b = some (eO ciX1 [.ref lg, va_rf sa, .ref hl1, va_rf ra, .ref ia, zI s.length, va_rf ca]) := (mLe.up hy4.2) _ _ h1
    have hbx := hbf0.le (zLe.rf (w := w)) (mLe.up (x := eX ciJ7) hy4.2)
    have hbe : e4 ≠ b := ne_mp hy4.2 h1
    refine z_astore (q := 96) hX dX1_add_94 (Nat.le_of_ble_eq_true rfl) rfl rfl ?_
    refine z_aload_n (i := 0) (q := 97) hX dX1_add_96 rfl rfl rfl ?_
    refine z_iconst (q := 98) hX dX1_add_97 rfl ?_
    refine zc_put (C := RX1) (T := TX1) (N := 7) (q := 101) hX ciX1 5 rfl (by decide) in_X1 tyX1_ok nmX1 dX1_add_98 q231 (Or.inl rfl) rfl hm4 (Nat.le_of_ble_eq_true rfl) rfl rfl rfl rfl ?_
    refine z_aload (q := 103) hX dX1_add_101 rfl rfl ?_
    refine z_athrow hX ciJ7 rfl dX1_add_103 (fun H h => h.thX ((upm_ne _ _ hbe).trans (upm_same _ _ _))) ?_
    exact zT.out hX (by decide) (by first | exact Nat.le_of_ble_eq_true rfl | (show (_ : Nat) ≤ 2200; omega)) (by first | exact Nat.le_of_ble_eq_true rfl | (show (_ : Nat) ≤ 20000; omega)) (fun H h => Or.inl ⟨rfl, by rw [had, if_pos hx4], w, _, zLe.rf, (zFr.up (hK.no hy4.2)).tr (zFr.up hkb), hbx.clr, h⟩)
  show zG X (_ + 1) (_ + 6) _ 7 _ _
  refine z_aload_n (i := 0) (q := 8) hX dX1_add_7 rfl rfl rfl ?_
  have hlt : ltB s = true := hx4
  have hls := ltB_iff.mp hlt
  have hl40 := hls.2.1
  refine zr_get (C := RX1) (T := TX1) (N := 7) (q := 11) hX ciX1 0 rfl (by decide) in_X1 dX1_add_8 q224 (Or.inl rfl) (fun H h => cI.rd h (by first | assumption | exact Or.inl (by assumption) | exact Or.inr (by first | assumption | exact upm_same _ _ _ | exact (upm_ne _ _ (by first | assumption | exact Ne.symm (by assumption) | omega | exact ne_mp (m := m) (by assumption) (by assumption) | exact Ne.symm (ne_mp (m := m) (by assumption) (by assumption)) | exact ne_mp (m := w) (by assumption) (by assumption) | exact Ne.symm (ne_mp (m := w) (by assumption) (by assumption)))).trans (by first | assumption | exact upm_same _ _ _ | exact (upm_ne _ _ (by first | assumption | exact Ne.symm (by assumption) | omega | exact ne_mp (m := m) (by assumption) (by assumption) | exact Ne.symm (ne_mp (m := m) (by assumption) (by assumption)) | exact ne_mp (m := w) (by assumption) (by assumption) | exact Ne.symm (ne_mp (m := w) (by assumption) (by assumption)))).trans (by first | assumption | exact upm_same _ _ _ | exact (upm_ne _ _ (by first | assumption | exact Ne.symm (by assumption) | omega | exact ne_mp (m := m) (by assumption) (by assumption) | exact Ne.symm (ne_mp (m := m) (by assumption) (by assumption)) | exact ne_mp (m := w) (by assumption) (by assumption) | exact Ne.symm (ne_mp (m := w) (by assumption) (by assumption)))).trans (by first | assumption | exact upm_same _ _ _))))) rfl (by decide) rfl) rfl ?_
  refine zr_getN (C := RX2) (T := TX2) (N := 4) (q := 14) hX ciX2 0 rfl (by decide) in_X2 dX1_add_11 (zNF_at 1 rfl) (fun H h => cI.rd h (by first | assumption | exact Or.inl (by assumption) | exact Or.inr (by first | assumption | exact upm_same _ _ _ | exact (upm_ne _ _ (by first | assumption | exact Ne.symm (by assumption) | omega | exact ne_mp (m := m) (by assumption) (by assumption) | exact Ne.symm (ne_mp (m := m) (by assumption) (by assumption)) | exact ne_mp (m := w) (by assumption) (by assumption) | exact Ne.symm (ne_mp (m := w) (by assumption) (by assumption)))).trans (by first | assumption | exact upm_same _ _ _ | exact (upm_ne _ _ (by first | assumption | exact Ne.symm (by assumption) | omega | exact ne_mp (m := m) (by assumption) (by assumption) | exact Ne.symm (ne_mp (m := m) (by assumption) (by assumption)) | exact ne_mp (m := w) (by assumption) (by assumption) | exact Ne.symm (ne_mp (m := w) (by assumption) (by assumption)))).trans (by first | assumption | exact upm_same _ _ _ | exact (upm_ne _ _ (by first | assumption | exact Ne.symm (by assumption) | omega | exact ne_mp (m := m) (by assumption) (by assumption) | exact Ne.symm (ne_mp (m := m) (by assumption) (by assumption)) | exact ne_mp (m := w) (by assumption) (by assumption) | exact Ne.symm (ne_mp (m := w) (by assumption) (by assumption)))).trans (by first | assumption | exact upm_same _ _ _))))) rfl (by decide) rfl) rfl ?_
  refine z_V (ci := ciJ2) (T := TJ2) (N := 3) (na := 0) hX dX1_add_14 (c_J2_size D A (Or.inl g2)) rfl q993 q467 q468 q101 q469 (by decide +kernel) ⟨Nat.le_of_ble_eq_true rfl, Nat.le_of_ble_eq_true rfl⟩ rfl rfl (Nat.le_of_ble_eq_true rfl) rfl (by first | exact Nat.le_of_ble_eq_true rfl | (show _ + 0 ≤ 2200; omega)) (by first | exact Nat.le_of_ble_eq_true rfl | (show _ + 0 ≤ 20000; omega)) (fun H h => ⟨h, h.obL (Or.inl g2)⟩) (fun E a => zT.no) (zPd.out ?_)
  show zG X (_ + 0) (_ + 0) _ 17 _ _
  rw [show ((ls.length : Nat) : Int) = M 0 by omega]
  refine z_bipush (q := 19) hX dX1_add_17 (by decide) rfl ?_
  refine z_icmp_ge (q := 22) (t := 26) hX dX1_add_19 (by decide) ⟨by omega, by omega⟩ (by decide) rfl (fun h19 => ?_) (fun h19 => ?_)
  · have hf40 : M 0 = 40 := by omega
    refine z_iconst (q := 27) hX dX1_add_26 rfl ?_
    refine zG.top (v2 := zI (bi false)) rfl ?_
    refine z_S (na := 1) hX dX1_add_27 (c_X1_checkState D A (c := false)) q1282 q1283 q97 q1284 (by decide +kernel) ⟨Nat.le_of_ble_eq_true rfl, Nat.le_of_ble_eq_true rfl⟩ rfl rfl (Nat.le_of_ble_eq_true rfl) rfl (by first | exact Nat.le_of_ble_eq_true rfl | (show _ + 1 ≤ 2200; omega)) (by first | exact Nat.le_of_ble_eq_true rfl | (show _ + 6 ≤ 20000; omega)) (fun H h => h) (zXs.out (fun e27 => ?_)) (zPe.out (fun x27 hx27 => ?_))
    · refine zT.ax (fun hx27 => zT.ax (fun hy27 => ?_))
      refine zT.catchAll hX [_] _ [_] rfl (fun z hz => by rw [List.mem_singleton] at hz; subst hz; exact Or.inr ⟨by decide, _, q257, List.mem_of_getElem? (i := 10) rfl⟩) (by decide) rfl rfl ?_
      have hm27 : upm m e27 (eX ciJ6) b = some (eO ciX1 [.ref lg, va_rf sa, .ref hl1, va_rf ra, .ref ia, zI s.length, va_rf ca]) := (mLe.up hy27.2) _ _ h1
      have hbx := hbf0.le (zLe.rf (w := w)) (mLe.up (x := eX ciJ6) hy27.2)
      have hbe : e27 ≠ b := ne_mp hy27.2 h1
      refine z_astore (q := 96) hX dX1_add_94 (Nat.le_of_ble_eq_true rfl) rfl rfl ?_
      refine z_aload_n (i := 0) (q := 97) hX dX1_add_96 rfl rfl rfl ?_
      refine z_iconst (q := 98) hX dX1_add_97 rfl ?_
      refine zc_put (C := RX1) (T := TX1) (N := 7) (q := 101) hX ciX1 5 rfl (by decide) in_X1 tyX1_ok nmX1 dX1_add_98 q231 (Or.inl rfl) rfl hm27 (Nat.le_of_ble_eq_true rfl) rfl rfl rfl rfl ?_
      refine z_aload (q := 103) hX dX1_add_101 rfl rfl ?_
      refine z_athrow hX ciJ6 rfl dX1_add_103 (fun H h => h.thX ((upm_ne _ _ hbe).trans (upm_same _ _ _))) ?_
      exact zT.out hX (by decide) (by first | exact Nat.le_of_ble_eq_true rfl | (show (_ : Nat) ≤ 2200; omega)) (by first | exact Nat.le_of_ble_eq_true rfl | (show (_ : Nat) ≤ 20000; omega)) (fun H h => Or.inr (Or.inl ⟨rfl, by rw [had, if_neg (by rw [hlt]; decide), if_pos hf40], w, _, zLe.rf, (zFr.up (hK.no hy27.2)).tr (zFr.up hkb), hbx.clr, h⟩))
    show zG X (_ + 1) (_ + 6) _ 30 _ _
    cases hx27
  · have hf40 : M 0 < 40 := by omega
    refine z_iconst (q := 23) hX dX1_add_22 rfl ?_
    refine z_goto (t := 27) hX dX1_add_23 (by decide) ?_
    refine zG.top (v2 := zI (bi true)) rfl ?_
    refine z_S (na := 1) hX dX1_add_27 (c_X1_checkState D A (c := true)) q1282 q1283 q97 q1284 (by decide +kernel) ⟨Nat.le_of_ble_eq_true rfl, Nat.le_of_ble_eq_true rfl⟩ rfl rfl (Nat.le_of_ble_eq_true rfl) rfl (by first | exact Nat.le_of_ble_eq_true rfl | (show _ + 1 ≤ 2200; omega)) (by first | exact Nat.le_of_ble_eq_true rfl | (show _ + 6 ≤ 20000; omega)) (fun H h => h) (zXs.out (fun e27 => ?_)) (zPe.out (fun x27 hx27 => ?_))
    · refine zT.ax (fun hx27 => ?_)
      cases hx27
    show zG X (_ + 1) (_ + 6) _ 30 _ _
    refine zc_new (q := 33) (fs := [.null, .null, zI 0, .null]) (C := RX2) (T := TX2) (N := 4) hX ciX2 rfl in_X2 tyX2_ok dX1_add_30 q149 q150 q98 (fun j hj => by match j, hj with | 0, _ => rfl | 1, _ => rfl | 2, _ => rfl | 3, _ => rfl | (_ + 4), h => exact absurd h (by omega)) (by first | exact Nat.le_of_ble_eq_true rfl | (show _ + 1 ≤ 2200; omega)) (by first | exact Nat.le_of_ble_eq_true rfl | (show _ + 4 ≤ 20000; omega)) rfl (fun a30 ha30 hb30 => ?_)
    have n30 := hb30
    try simp only [upm_none] at n30
    repeat (have := And.left n30; replace n30 := And.right n30)
    refine z_dup (q := 34) hX dX1_add_33 rfl rfl ?_
    refine z_aload_n (i := 0) (q := 35) hX dX1_add_34 rfl rfl rfl ?_
    refine zr_get (C := RX1) (T := TX1) (N := 7) (q := 38) hX ciX1 0 rfl (by decide) in_X1 dX1_add_35 q224 (Or.inl rfl) (fun H h => cI.rd h (Or.inr ((upm_ne _ _ (Ne.symm (ne_mp hb30 h1))).trans h1)) rfl (by decide) rfl) rfl ?_
    refine z_C (na := 1) hX dX1_add_38 (c_X2_init_2 D A (M := M) (upm_same _ _ _) g1 g2 g4 hok g3 g5) q258 q259 q98 q260 rfl (by decide +kernel) ⟨Nat.le_of_ble_eq_true rfl, Nat.le_of_ble_eq_true rfl⟩ rfl rfl (Nat.le_of_ble_eq_true rfl) rfl (by first | exact Nat.le_of_ble_eq_true rfl | (show _ + 50 ≤ 2200; omega)) (by first | exact Nat.le_of_ble_eq_true rfl | (show _ + 2600 ≤ 20000; omega)) (fun H h => h) (fun E a => zT.no) (zPe.out (fun x38 hx38 => ?_))
    show zG X (_ + 50) (_ + 2600) _ 41 _ _
    obtain ⟨n1, n2, n3, n4, n5, n6, n7, n8, n9⟩ := nlog (D := D) hK hb30 hx38.1
    rw [n1]
    have hts5 : wTs w x38.2.2 M := fun t ht => by rw [hx38.2 t ht]; exact g5 t ht
    obtain ⟨LM, hLM⟩ : ∃ LM, LM = logM D (nMR D m x38.1) a30 x38.1.1 x38.1.2.1 x38.1.2.2.1 (M 1) x38.2.1 ls x38.2.2 := ⟨_, rfl⟩
    have hle := n4.tr (mLe_logM (D := D) (th := M 1) (col := x38.1.2.2.1) (mc := x38.2.1) (ls := ls) (tf := x38.2.2) n2 n7)
    have hmf := n5.tr (zFr_logM (D := D) (th := M 1) (col := x38.1.2.2.1) (mc := x38.2.1) (ls := ls) (tf := x38.2.2) (hK.fr n5) n7)
    rw [← hLM] at hle hmf
    have hLM0 : logM D (nMR D m x38.1) a30 x38.1.1 x38.1.2.1 x38.1.2.2.1 (M 1) x38.2.1 ls x38.2.2 = LM := hLM.symm
    have e99 : cM D m x38.1.2.2.1 x38.1.2.2.2 0 (fun _ => none) = nMR D m x38.1 := rfl
    rw [e99, hLM0]
    -- the row with the text
    have eE := rwS_e (s := s) hok hf40 hls
    have htx0 := rwS_tx (M := M) (s := s) hM.1
    have hrw0 := rwS_raw (M := M) (s := s) hM.1 hf40 hls
    obtain ⟨Mw, hMw⟩ : ∃ Mw, Mw = rwS M s := ⟨_, rfl⟩
    rw [← hMw] at eE htx0 hrw0 htk hX
    clear hMw
    have e0 := eE.1
    have e1 := eE.2.1
    rw [← e0] at htx0 hrw0 htk
    have hokw := eE.ok hok
    have hlsw := g3.eqv eE
    have htsw := hts5.eqv hok eE
    obtain ⟨v1, v2, fr, t1, t2, t3, t4, t5, t6, t7, t8, t9⟩ := tak_cs Mw (Mw 0)
    rw [← htk] at t3
    clear htk
    refine z_astore_n (i := 1) (q := 42) hX dX1_add_41 rfl (Nat.le_of_ble_eq_true rfl) rfl rfl ?_
    refine z_aload_n (i := 1) (q := 43) hX dX1_add_42 rfl rfl rfl ?_
    refine zc_new (q := 46) (fs := [.null, .null, .null]) (C := RX5) (T := TX5) (N := 3) hX ciX5 rfl in_X5 tyX5_ok dX1_add_43 q1322 q1323 q115 (fun j hj => by match j, hj with | 0, _ => rfl | 1, _ => rfl | 2, _ => rfl | (_ + 3), h => exact absurd h (by omega)) (by first | exact Nat.le_of_ble_eq_true rfl | (show _ + 1 ≤ 2200; omega)) (by first | exact Nat.le_of_ble_eq_true rfl | (show _ + 3 ≤ 20000; omega)) rfl (fun a43 ha43 hb43 => ?_)
    have n43 := hb43
    try simp only [upm_none] at n43
    repeat (have := And.left n43; replace n43 := And.right n43)
    refine z_dup (q := 47) hX dX1_add_46 rfl rfl ?_
    refine z_aload_n (i := 0) (q := 48) hX dX1_add_47 rfl rfl rfl ?_
    refine zr_get (C := RX1) (T := TX1) (N := 7) (q := 51) hX ciX1 4 rfl (by decide) in_X1 dX1_add_48 q229 (Or.inl rfl) (fun H h => cI.rd h (Or.inr ((upm_ne _ _ (Ne.symm (ne_mp hb43 (hle _ _ h1)))).trans (hle _ _ h1))) rfl (by decide) rfl) rfl ?_
    refine z_iconst (q := 52) hX dX1_add_51 rfl ?_
    refine z_aload_n (i := 0) (q := 53) hX dX1_add_52 rfl rfl rfl ?_
    refine zr_get (C := RX1) (T := TX1) (N := 7) (q := 56) hX ciX1 5 rfl (by decide) in_X1 dX1_add_53 q231 (Or.inl rfl) (fun H h => cI.rd h (Or.inr ((upm_ne _ _ (Ne.symm (ne_mp hb43 (hle _ _ h1)))).trans (hle _ _ h1))) rfl (by decide) rfl) rfl ?_
    refine z_S (na := 3) hX dX1_add_56 (c_J13_valueOf D A (a := 0) (s := s) (mLe.up hb43 _ _ (hle _ _ h7)) rfl hls.ch (fun j hj => by rw [Nat.zero_add]; exact h7b j hj) (by omega) (by decide) (by have := hls.1; omega)) q1324 q1093 q116 q1094 (by decide +kernel) ⟨Nat.le_of_ble_eq_true rfl, Nat.le_of_ble_eq_true rfl⟩ rfl rfl (Nat.le_of_ble_eq_true rfl) rfl (by first | exact Nat.le_of_ble_eq_true rfl | (show _ + 2 ≤ 2200; omega)) (by first | exact Nat.le_of_ble_eq_true rfl | (show _ + 100 ≤ 20000; omega)) (fun H h => h) (fun E a => zT.no) (zPe.out (fun x56 hx56 => ?_))
    show zG X (_ + 2) (_ + 100) _ 59 _ _
    have hx56' := hx56
    refine z_C (na := 1) hX dX1_add_59 (c_X5_init D A (upm_same _ _ _) hx56.2 hls) q1325 q1326 q115 q1327 rfl (by decide +kernel) ⟨Nat.le_of_ble_eq_true rfl, Nat.le_of_ble_eq_true rfl⟩ rfl rfl (Nat.le_of_ble_eq_true rfl) rfl (by first | exact Nat.le_of_ble_eq_true rfl | (show _ + 200 ≤ 2200; omega)) (by first | exact Nat.le_of_ble_eq_true rfl | (show _ + 7000 ≤ 20000; omega)) (fun H h => h) (fun E a => zT.no) (zPe.out (fun x59 hx59 => ?_))
    show zG X (_ + 200) (_ + 7000) _ 62 _ _
    obtain ⟨y1, y2⟩ := hx59
    have hle59 := hx56.1.tr y1
    rw [dlm_upm _ _ hb43, ← hLM0]
    have hyw : wLine x59 a43 (tx Mw (Mw 0)) := by rw [htx0]; exact y2
    have hmw : logM D (nMR D m x38.1) a30 x38.1.1 x38.1.2.1 x38.1.2.2.1 (M 1) x38.2.1 ls x38.2.2 = logM D (nMR D m x38.1) a30 x38.1.1 x38.1.2.1 x38.1.2.2.1 (Mw 1) x38.2.1 ls x38.2.2 := by rw [e1]
    rw [hmw]
    have hwl : wLog D x59 (logM D (nMR D m x38.1) a30 x38.1.1 x38.1.2.1 x38.1.2.2.1 (Mw 1) x38.2.1 ls x38.2.2) a30 Mw x38.1.1 x38.1.2.1 x38.1.2.2.1 := ⟨hokw, Or.inr logM_b, ⟨_, ls, Or.inr (logM_ll n2), hlsw.le hle59⟩, _, Or.inr (logM_ta n2), htsw.le hle59⟩
    by_cases c1 : 0 ≤ v1
    · have htk1 : tk = v1 := by rw [t3, if_pos c1]
      have hT := (t4.2.2 c1)
      skip
      refine z_VW (ci := ciX2) (T := TX2) (N := 4) (na := 1) hX dX1_add_62 (c_X2_add_take D A (M := Mw) (mR := nMR D m x38.1) (t := v1) (v1 := v1) rfl n2 hokw (hlsw.le hle59) (htsw.le hle59) hyw (by omega) t1 (fun q => absurd q (by omega)) (fun _ => rfl) hT.1 hT.2) rfl q1413 q1414 q1415 q98 q1416 (by decide +kernel) ⟨Nat.le_of_ble_eq_true rfl, Nat.le_of_ble_eq_true rfl⟩ rfl rfl (Nat.le_of_ble_eq_true rfl) rfl (by first | exact Nat.le_of_ble_eq_true rfl | (show _ + 160 ≤ 2200; omega)) (by first | exact Nat.le_of_ble_eq_true rfl | (show _ + 5200 ≤ 20000; omega)) (fun H h => ⟨h, h.obE (Or.inr logM_b) rfl⟩) (fun E a => zT.no) (zPe.out (fun x62 hx62 => ?_))
      show zG X (_ + 160) (_ + 5200) _ 65 _ _
      refine z_istore_n (i := 2) (q := 66) hX dX1_add_65 rfl (Nat.le_of_ble_eq_true rfl) rfl rfl ?_
      refine z_aload_n (i := 0) (q := 67) hX dX1_add_66 rfl rfl rfl ?_
      refine z_aload_n (i := 1) (q := 68) hX dX1_add_67 rfl rfl rfl ?_
      obtain ⟨j1, j2⟩ := hx62
      refine zG.frzL n2 n7 (fun w2 hw2 p1 p2 p3 => ?_)
      have hc0 : adC M s = 0 := by rw [had, if_neg (by rw [hlt]; decide), if_neg (by omega), if_neg (by omega)]
      have hkl : kLog D w2 (nMR D m x38.1) K a30 (addM Mw v1) := ⟨addM_ok hokw hrw0 ⟨c1, t4.2.1⟩ (Or.inl hT), x38.1.1, x38.1.2.1, x38.1.2.2.1, x38.1.2.2.2, x38.2.1 + 1, ls ++ [a43], _, by rw [p1, addM_lo c1 (by omega) (by omega) (by omega)], p2, addM_ln hokw hrw0 c1 ((hlsw.le hle59).le (j1.tr hw2)) (hyw.le (j1.tr hw2)), p3, (addM_ts hokw hrw0 ⟨c1, t4.2.1⟩ ((htsw.le hle59).le j1) (Or.inl ⟨hT.1, hT.2, j2⟩)).le hw2, n6, n8⟩
      have hb7 := hz0.le ((hle59.tr j1).tr hw2) n4
      have hwz := (hle59.tr j1).tr hw2
      refine z_V (ci := ciX1) (T := TX1) (N := 7) (na := 1) hX dX1_add_68 (c_X1_change D A hb7 (hK.fr n5) hkl) rfl q989 q991 qs14 q97 q992 (by decide +kernel) ⟨Nat.le_of_ble_eq_true rfl, Nat.le_of_ble_eq_true rfl⟩ rfl rfl (Nat.le_of_ble_eq_true rfl) rfl (by first | exact Nat.le_of_ble_eq_true rfl | (show _ + 1 ≤ 2200; omega)) (by first | exact Nat.le_of_ble_eq_true rfl | (show _ + 61 ≤ 20000; omega)) (fun H h => ⟨h, h.obE (Or.inr (n4 _ _ h1)) rfl⟩) (fun E a => zT.no) (zPe.out (fun x68 hx68 => ?_))
      show zG X (_ + 1) (_ + 61) _ 71 _ _
      obtain ⟨q1, lg2, hl2, ia2, sa2, ra2, ca2, hbg⟩ := hx68
      have hbg : zX1b D w2 x68 K b lg2 hl2 ia2 sa2 ra2 ca2 _ (psA ps M) sv rp s cs := hbg
      have hbg1 := hbg.1
      rw [← htk1] at hbg
      refine z_iload_n (i := 2) (q := 72) hX dX1_add_71 rfl rfl rfl ?_
      refine z_istore_n (i := 3) (q := 73) hX dX1_add_72 rfl (Nat.le_of_ble_eq_true rfl) rfl rfl ?_
      refine z_aload_n (i := 0) (q := 74) hX dX1_add_73 rfl rfl rfl ?_
      refine z_iconst (q := 75) hX dX1_add_74 rfl ?_
      refine zc_put (C := RX1) (T := TX1) (N := 7) (q := 78) hX ciX1 5 rfl (by decide) in_X1 tyX1_ok nmX1 dX1_add_75 q231 (Or.inl rfl) rfl hbg1 (Nat.le_of_ble_eq_true rfl) rfl rfl rfl rfl ?_
      refine z_iload_n (i := 3) (q := 79) hX dX1_add_78 rfl rfl rfl ?_
      exact z_iret hX dX1_add_79 (by first | exact Nat.le_of_ble_eq_true rfl | (show (_ : Nat) ≤ 2200; omega)) (by first | exact Nat.le_of_ble_eq_true rfl | (show (_ : Nat) ≤ 20000; omega)) rfl (fun H h => ⟨(w2, _), by rw [htk1], ⟨hc0, hwz, (n5.tr q1).tr (zFr.up hkb), hbg.clr⟩, h⟩)
    by_cases c2 : 0 ≤ v2
    · have htk1 : tk = v2 := by rw [t3, if_neg c1, if_pos c2]
      have hv1 : v1 = -1 := by omega
      have hT := (t5.2.2 c2)
      skip
      refine z_VW (ci := ciX2) (T := TX2) (N := 4) (na := 1) hX dX1_add_62 (c_X2_add_take D A (M := Mw) (mR := nMR D m x38.1) (t := v2) (v1 := v1) rfl n2 hokw (hlsw.le hle59) (htsw.le hle59) hyw (by omega) t1 (fun _ => t2) (fun q => absurd hv1 q) hT.1 hT.2) rfl q1413 q1414 q1415 q98 q1416 (by decide +kernel) ⟨Nat.le_of_ble_eq_true rfl, Nat.le_of_ble_eq_true rfl⟩ rfl rfl (Nat.le_of_ble_eq_true rfl) rfl (by first | exact Nat.le_of_ble_eq_true rfl | (show _ + 160 ≤ 2200; omega)) (by first | exact Nat.le_of_ble_eq_true rfl | (show _ + 5200 ≤ 20000; omega)) (fun H h => ⟨h, h.obE (Or.inr logM_b) rfl⟩) (fun E a => zT.no) (zPe.out (fun x62 hx62 => ?_))
      show zG X (_ + 160) (_ + 5200) _ 65 _ _
      refine z_istore_n (i := 2) (q := 66) hX dX1_add_65 rfl (Nat.le_of_ble_eq_true rfl) rfl rfl ?_
      refine z_aload_n (i := 0) (q := 67) hX dX1_add_66 rfl rfl rfl ?_
      refine z_aload_n (i := 1) (q := 68) hX dX1_add_67 rfl rfl rfl ?_
      obtain ⟨j1, j2⟩ := hx62
      refine zG.frzL n2 n7 (fun w2 hw2 p1 p2 p3 => ?_)
      have hc0 : adC M s = 0 := by rw [had, if_neg (by rw [hlt]; decide), if_neg (by omega), if_neg (by omega)]
      have hkl : kLog D w2 (nMR D m x38.1) K a30 (addM Mw v2) := ⟨addM_ok hokw hrw0 ⟨c2, t5.2.1⟩ (Or.inl hT), x38.1.1, x38.1.2.1, x38.1.2.2.1, x38.1.2.2.2, x38.2.1 + 1, ls ++ [a43], _, by rw [p1, addM_lo c2 (by omega) (by omega) (by omega)], p2, addM_ln hokw hrw0 c2 ((hlsw.le hle59).le (j1.tr hw2)) (hyw.le (j1.tr hw2)), p3, (addM_ts hokw hrw0 ⟨c2, t5.2.1⟩ ((htsw.le hle59).le j1) (Or.inl ⟨hT.1, hT.2, j2⟩)).le hw2, n6, n8⟩
      have hb7 := hz0.le ((hle59.tr j1).tr hw2) n4
      have hwz := (hle59.tr j1).tr hw2
      refine z_V (ci := ciX1) (T := TX1) (N := 7) (na := 1) hX dX1_add_68 (c_X1_change D A hb7 (hK.fr n5) hkl) rfl q989 q991 qs14 q97 q992 (by decide +kernel) ⟨Nat.le_of_ble_eq_true rfl, Nat.le_of_ble_eq_true rfl⟩ rfl rfl (Nat.le_of_ble_eq_true rfl) rfl (by first | exact Nat.le_of_ble_eq_true rfl | (show _ + 1 ≤ 2200; omega)) (by first | exact Nat.le_of_ble_eq_true rfl | (show _ + 61 ≤ 20000; omega)) (fun H h => ⟨h, h.obE (Or.inr (n4 _ _ h1)) rfl⟩) (fun E a => zT.no) (zPe.out (fun x68 hx68 => ?_))
      show zG X (_ + 1) (_ + 61) _ 71 _ _
      obtain ⟨q1, lg2, hl2, ia2, sa2, ra2, ca2, hbg⟩ := hx68
      have hbg : zX1b D w2 x68 K b lg2 hl2 ia2 sa2 ra2 ca2 _ (psA ps M) sv rp s cs := hbg
      have hbg1 := hbg.1
      rw [← htk1] at hbg
      refine z_iload_n (i := 2) (q := 72) hX dX1_add_71 rfl rfl rfl ?_
      refine z_istore_n (i := 3) (q := 73) hX dX1_add_72 rfl (Nat.le_of_ble_eq_true rfl) rfl rfl ?_
      refine z_aload_n (i := 0) (q := 74) hX dX1_add_73 rfl rfl rfl ?_
      refine z_iconst (q := 75) hX dX1_add_74 rfl ?_
      refine zc_put (C := RX1) (T := TX1) (N := 7) (q := 78) hX ciX1 5 rfl (by decide) in_X1 tyX1_ok nmX1 dX1_add_75 q231 (Or.inl rfl) rfl hbg1 (Nat.le_of_ble_eq_true rfl) rfl rfl rfl rfl ?_
      refine z_iload_n (i := 3) (q := 79) hX dX1_add_78 rfl rfl rfl ?_
      exact z_iret hX dX1_add_79 (by first | exact Nat.le_of_ble_eq_true rfl | (show (_ : Nat) ≤ 2200; omega)) (by first | exact Nat.le_of_ble_eq_true rfl | (show (_ : Nat) ≤ 20000; omega)) rfl (fun H h => ⟨(w2, _), by rw [htk1], ⟨hc0, hwz, (n5.tr q1).tr (zFr.up hkb), hbg.clr⟩, h⟩)
    have htk1 : tk = fr := by rw [t3, if_neg c1, if_neg c2]
    have hv1 : v1 = -1 := by omega
    have hv2 : v2 = -1 := by omega
    subst hv1
    subst hv2
    by_cases c3 : fr = 12
    · have hc3 : adC M s = 3 := by rw [had, if_neg (by rw [hlt]; decide), if_neg (by omega), if_pos (by omega)]
      skip
      refine z_VW (ci := ciX2) (T := TX2) (N := 4) (na := 1) hX dX1_add_62 (c_X2_add_no D A hwl hyw t1 t2 (t9 c3)) rfl q1413 q1414 q1415 q98 q1416 (by decide +kernel) ⟨Nat.le_of_ble_eq_true rfl, Nat.le_of_ble_eq_true rfl⟩ rfl rfl (Nat.le_of_ble_eq_true rfl) rfl (by first | exact Nat.le_of_ble_eq_true rfl | (show _ + 2 ≤ 2200; omega)) (by first | exact Nat.le_of_ble_eq_true rfl | (show _ + 16 ≤ 20000; omega)) (fun H h => ⟨h, h.obE (Or.inr logM_b) rfl⟩) (zXs.out (fun e62 => ?_)) (zPe.out (fun x62 hx62 => ?_))
      · refine zT.ex (fun e2 => zT.ax (fun he2 => ?_))
        refine zT.catch hX [] _ [_, _] rfl (fun z hz => by cases hz) (by decide) (by decide) q257 (zCs_at 9 rfl) rfl ?_
        have hK1 := hK.fr hmf
        rw [hLM, ← e1] at hle hmf hK1
        obtain ⟨w1, w2, w3, w4⟩ := twoUp (x := eR none 11 12) (y := eR (some e2) 1 (Mw 0)) hK1 he2.1 he2.2.1 he2.2.2
        have hbx := (hbf0.le hle59 hle).le (zLe.rf (w := x59)) w1
        have hb1x := hbx.1
        have hrx := hbx.rep (e := e62) (e2 := e2) (upm_same _ _ _) ((upm_ne _ _ he2.1).trans (upm_same _ _ _)) w3 w4
        refine z_astore_n (i := 1) (q := 81) hX dX1_add_80 rfl (Nat.le_of_ble_eq_true rfl) rfl rfl ?_
        refine z_aload_n (i := 0) (q := 82) hX dX1_add_81 rfl rfl rfl ?_
        refine z_aload_n (i := 1) (q := 83) hX dX1_add_82 rfl rfl rfl ?_
        refine zc_put (C := RX1) (T := TX1) (N := 7) (q := 86) hX ciX1 3 rfl (by decide) in_X1 tyX1_ok nmX1 dX1_add_83 q227 (Or.inl rfl) rfl hb1x (Nat.le_of_ble_eq_true rfl) rfl rfl rfl rfl ?_
        refine zc_throw0 (q := 93) (names := ["java/lang/RuntimeException", "java/lang/Exception"]) hX ciJ23 (C := RJ23) (T := zT0) (N := 0) rfl (by decide +kernel) (by decide +kernel) q1464 q131 xa_X1_131 xg_X1_131 dX1_add_86 dX1_add_89 dX1_add_90 dX1_add_93 (Nat.le_of_ble_eq_true rfl) rfl (Nat.le_of_ble_eq_true rfl) (Nat.le_of_ble_eq_true rfl) (by first | exact Nat.le_of_ble_eq_true rfl | (show _ + 1 ≤ 2200; omega)) (by first | exact Nat.le_of_ble_eq_true rfl | (show _ + 6 ≤ 20000; omega)) rfl (fun e86 he86 hf86 => ?_)
        refine zT.catchAll hX [_, _] _ [] rfl (fun z hz => by simp only [List.mem_cons, List.not_mem_nil, or_false] at hz; rcases hz with rfl | rfl <;> exact Or.inl (by decide)) (by decide) rfl rfl ?_
        obtain ⟨lg3, hl3, ia3, sa3, ra3, ca3, hbh⟩ := hrx
        have hbh : zX1b D x59 _ K b lg3 hl3 ia3 sa3 ra3 ca3 M ps sv (some (1, Mw 0, 11, 12)) s cs := hbh
        have hbi := hbh.le (zLe.rf (w := x59)) (mLe.up (x := eX ciJ23) hf86)
        have hbi1 := hbi.1
        have hbe : e86 ≠ b := ne_mp hf86 hbh.1
        refine z_astore (q := 96) hX dX1_add_94 (Nat.le_of_ble_eq_true rfl) rfl rfl ?_
        refine z_aload_n (i := 0) (q := 97) hX dX1_add_96 rfl rfl rfl ?_
        refine z_iconst (q := 98) hX dX1_add_97 rfl ?_
        refine zc_put (C := RX1) (T := TX1) (N := 7) (q := 101) hX ciX1 5 rfl (by decide) in_X1 tyX1_ok nmX1 dX1_add_98 q231 (Or.inl rfl) rfl hbi1 (Nat.le_of_ble_eq_true rfl) rfl rfl rfl rfl ?_
        refine z_aload (q := 103) hX dX1_add_101 rfl rfl ?_
        refine z_athrow hX ciJ23 rfl dX1_add_103 (fun H h => h.thX ((upm_ne _ _ hbe).trans (upm_same _ _ _))) ?_
        exact zT.out hX (by decide) (by first | exact Nat.le_of_ble_eq_true rfl | (show (_ : Nat) ≤ 2200; omega)) (by first | exact Nat.le_of_ble_eq_true rfl | (show (_ : Nat) ≤ 20000; omega)) (fun H h => Or.inr (Or.inr ⟨rfl, hc3, x59, _, hle59, (((hmf.tr w2).tr (zFr.up hkb)).tr (zFr.up (((hK1.fr w2).fr (zFr.up hkb)).no hf86))).tr (zFr.up hkb), hbi.clr.rpc (by rw [e0]), h⟩))
      show zG X (_ + 2) (_ + 16) _ 65 _ _
      exact hx62.elim
    have hc0 : adC M s = 0 := by rw [had, if_neg (by rw [hlt]; decide), if_neg (by omega), if_neg (by omega)]
    have hfr := t8 c3
    refine z_VW (ci := ciX2) (T := TX2) (N := 4) (na := 1) hX dX1_add_62 (c_X2_add_new D A (M := Mw) (mR := nMR D m x38.1) (v := fr) rfl n2 hokw (hlsw.le hle59) (htsw.le hle59) hyw (by omega) t1 t2 t6 ⟨fr.toNat, by omega, by rw [show ((fr.toNat : Nat) : Int) = fr by omega]; exact hfr⟩ (by omega)) rfl q1413 q1414 q1415 q98 q1416 (by decide +kernel) ⟨Nat.le_of_ble_eq_true rfl, Nat.le_of_ble_eq_true rfl⟩ rfl rfl (Nat.le_of_ble_eq_true rfl) rfl (by first | exact Nat.le_of_ble_eq_true rfl | (show _ + 1810 ≤ 2200; omega)) (by first | exact Nat.le_of_ble_eq_true rfl | (show _ + 8200 ≤ 20000; omega)) (fun H h => ⟨h, h.obE (Or.inr logM_b) rfl⟩) (fun E a => zT.no) (zPe.out (fun x62 hx62 => ?_))
    show zG X (_ + 1810) (_ + 8200) _ 65 _ _
    refine z_istore_n (i := 2) (q := 66) hX dX1_add_65 rfl (Nat.le_of_ble_eq_true rfl) rfl rfl ?_
    refine z_aload_n (i := 0) (q := 67) hX dX1_add_66 rfl rfl rfl ?_
    refine z_aload_n (i := 1) (q := 68) hX dX1_add_67 rfl rfl rfl ?_
    obtain ⟨j1, j2⟩ := hx62
    refine zG.frzL n2 n7 (fun w2 hw2 p1 p2 p3 => ?_)
    have hfr0 : 0 ≤ fr ∧ fr ≤ 11 := by omega
    have hkl : kLog D w2 (nMR D m x38.1) K a30 (addM Mw fr) := ⟨addM_ok hokw hrw0 hfr0 (Or.inr hfr), x38.1.1, x38.1.2.1, x38.1.2.2.1, x38.1.2.2.2, x38.2.1 + 1, ls ++ [a43], _, by rw [p1, addM_lo hfr0.1 (by omega) (by omega) (by omega)], p2, addM_ln hokw hrw0 hfr0.1 ((hlsw.le hle59).le (j1.tr hw2)) (hyw.le (j1.tr hw2)), p3, (addM_ts hokw hrw0 hfr0 ((htsw.le hle59).le j1) (Or.inr ⟨hfr, j2⟩)).le hw2, n6, n8⟩
    have hb7 := hz0.le ((hle59.tr j1).tr hw2) n4
    have hwz := (hle59.tr j1).tr hw2
    refine z_V (ci := ciX1) (T := TX1) (N := 7) (na := 1) hX dX1_add_68 (c_X1_change D A hb7 (hK.fr n5) hkl) rfl q989 q991 qs14 q97 q992 (by decide +kernel) ⟨Nat.le_of_ble_eq_true rfl, Nat.le_of_ble_eq_true rfl⟩ rfl rfl (Nat.le_of_ble_eq_true rfl) rfl (by first | exact Nat.le_of_ble_eq_true rfl | (show _ + 1 ≤ 2200; omega)) (by first | exact Nat.le_of_ble_eq_true rfl | (show _ + 61 ≤ 20000; omega)) (fun H h => ⟨h, h.obE (Or.inr (n4 _ _ h1)) rfl⟩) (fun E a => zT.no) (zPe.out (fun x68 hx68 => ?_))
    show zG X (_ + 1) (_ + 61) _ 71 _ _
    obtain ⟨q1, lg2, hl2, ia2, sa2, ra2, ca2, hbg⟩ := hx68
    have hbg : zX1b D w2 x68 K b lg2 hl2 ia2 sa2 ra2 ca2 _ (psA ps M) sv rp s cs := hbg
    have hbg1 := hbg.1
    rw [← htk1] at hbg
    refine z_iload_n (i := 2) (q := 72) hX dX1_add_71 rfl rfl rfl ?_
    refine z_istore_n (i := 3) (q := 73) hX dX1_add_72 rfl (Nat.le_of_ble_eq_true rfl) rfl rfl ?_
    refine z_aload_n (i := 0) (q := 74) hX dX1_add_73 rfl rfl rfl ?_
    refine z_iconst (q := 75) hX dX1_add_74 rfl ?_
    refine zc_put (C := RX1) (T := TX1) (N := 7) (q := 78) hX ciX1 5 rfl (by decide) in_X1 tyX1_ok nmX1 dX1_add_75 q231 (Or.inl rfl) rfl hbg1 (Nat.le_of_ble_eq_true rfl) rfl rfl rfl rfl ?_
    refine z_iload_n (i := 3) (q := 79) hX dX1_add_78 rfl rfl rfl ?_
    exact z_iret hX dX1_add_79 (by first | exact Nat.le_of_ble_eq_true rfl | (show (_ : Nat) ≤ 2200; omega)) (by first | exact Nat.le_of_ble_eq_true rfl | (show (_ : Nat) ≤ 20000; omega)) rfl (fun H h => ⟨(w2, _), by rw [htk1], ⟨hc0, hwz, (n5.tr q1).tr (zFr.up hkb), hbg.clr⟩, h⟩)
