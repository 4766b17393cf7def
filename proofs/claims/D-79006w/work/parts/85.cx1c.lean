/-! THE CLASS: the compactor's answers about counts and columns -/
set_option maxRecDepth 100000
theorem varsL_rng (M : Int → Int) (t : Int) : 0 ≤ varsI M t ∧ varsI M t ≤ (nTl M (fst M t)).toNat := by
  have h1 := vaL_len M t
  have h2 : (vaL M t).length ≤ (nTl M (fst M t)).toNat := rF_le
  omega
theorem chrI_rM {M : Int → Int} (h : zOk M) : M 0 ≤ chrI M ∧ chrI M ≤ 1600 := by
  have hM := h.1
  have h1 := sumI_range (f := fun l => M (2 + l)) (n := (M 0).toNat) (lo := 1) (hi := 40) (fun i hi => by
    have := ((h.2.1 i (by omega) (by omega)).1).f
    exact ⟨this.2.2.1, this.2.2.2.1⟩)
  unfold chrI
  omega
theorem pCol {D : zD} {w m : zMp} {K : Nat → Prop} {b a t : Nat} {n : Int} {f : Nat → Option Nat} {M : Int → Int} {ps : List (Int → Int)} {sv : Option (Int → Int)} {rp : Option (Int × Int × Int × Int)} {s : zS} {cs : Option (List zCn)} (hK : zHk K m) (hb : zX1 D w m K b M ps sv rp s cs) (h : m a = none ∧ m t = none ∧ t ≠ a) : zFr K m (cM D m a t n f) ∧ zX1 D w (cM D m a t n f) K b M ps sv rp s cs ∧ zHk K (cM D m a t n f) := by
  have h1 : zFr K m (cM D m a t n f) := zFr.sc (hK.no h.1) (hK.no h.2.1)
  exact ⟨h1, hb.le zLe.rf ((mLe.up h.1).tr (mLe.up ((upm_ne _ _ h.2.2).trans h.2.1))), hK.fr h1⟩
theorem pColW {D : zD} {w m : zMp} {a t n : Nat} {f : Nat → Option Nat} {c : Int → zS} (h : t ≠ a) (hn : n ≤ 40) (hf : ∀ i : Nat, i < n → ∃ y, f i = some y ∧ wTok w y (c i)) : wCol D w (cM D m a t n f) a t n f c := ⟨cM_col (Ne.symm h), cM_tc, hn, hf⟩
theorem rws_40 {M : Int → Int} (h : zOk M) (t : Int) : (rws M t).length ≤ 40 := by
  have hM := h.1
  have : (rws M t).length ≤ (M 0).toNat := rF_le
  omega
abbrev rmX1_columns : Room := { frames := 4, cells := 0, slots := 0, locals := 86 }
set_option maxHeartbeats 4000000 in
theorem c_X1_columns (D : zD) (A : Nat → Prop) {w m : zMp} {b : Nat} {K : Nat → Prop} {M : Int → Int} {ps : List (Int → Int)} {sv : Option (Int → Int)} {rp : Option (Int × Int × Int × Int)} {s : zS} {cs : Option (List zCn)} (hb : zX1 D w m K b M ps sv rp s cs) : zC D yX1_columns cX1_columns 6 (some .int) none rmX1_columns A [.ref b] (cI D A w m) (zPd (zI (colsM M)) (cI D A w m)) (zNo) := by
  refine zC_start (L := [some (.ref b), none, none, none, none, none]) (by decide) (Nat.le_of_ble_eq_true rfl) rfl (fun X hX => ?_)
  have hb0 := hb
  obtain ⟨lg, hl1, ia, sa, ra, ca, h1, ⟨hok, ll, ta, col, tc, mc, ls, tf, g1, g2, g3, g4, g5, g6, g7⟩, -⟩ := hb
  have hg : wLog D w m lg M ll ta col := ⟨hok, Or.inl g1, ⟨mc, ls, Or.inl g2, g3⟩, tf, Or.inl g4, g5⟩
  have hM := hok.1
  have l1 := g3.1
  have K16 : ∀ i : Nat, i ≤ 12 → ∀ (v p : Int) (v5 : Option Value), v = sumI (fun t => if isT M t then varsI M t else 0) i → p = i → zG X 0 0 (cI D A w m) 16 [some (.ref b), some (zI v), some (.ref ta), some (zI 12), some (zI p), v5] [] := by
    refine z_up (fun i hi ih v p v5 ev ep => ?_)
    subst ep
    have hs : sumI (fun t => if isT M t then varsI M t else 0) (i + 1) = sumI (fun t => if isT M t then varsI M t else 0) i + (if isT M i then varsI M i else 0) := rfl
    by_cases hin : i < 12
    · rcases g5 i hin with ⟨q1, q2⟩ | ⟨q1, x, q2, q3⟩
      · have hz9 : True := trivial
        refine z_iload (q := 18) hX dX1_columns_16 rfl rfl ?_
        refine z_iload_n (i := 3) (q := 19) hX dX1_columns_18 rfl rfl rfl ?_
        refine z_icmp_ge (q := 22) (t := 51) hX dX1_columns_19 (by decide) ⟨by omega, by omega⟩ (by decide) rfl (fun h19 => ?_) (fun h19 => ?_)
        · exact absurd h19 (by omega)
        · refine z_aload_n (i := 2) (q := 23) hX dX1_columns_22 rfl rfl rfl ?_
          refine z_iload (q := 25) hX dX1_columns_23 rfl rfl ?_
          refine zr_aald (q := 26) hX 7 rfl dX1_columns_25 (fun H h => (cI.at h (by first | assumption | exact Or.inl (by assumption) | exact Or.inr (by first | assumption | exact upm_same _ _ _ | exact (upm_ne _ _ (by first | assumption | exact Ne.symm (by assumption) | omega | exact ne_mp (m := m) (by assumption) (by assumption) | exact Ne.symm (ne_mp (m := m) (by assumption) (by assumption)) | exact ne_mp (m := w) (by assumption) (by assumption) | exact Ne.symm (ne_mp (m := w) (by assumption) (by assumption)))).trans (by first | assumption | exact upm_same _ _ _ | exact (upm_ne _ _ (by first | assumption | exact Ne.symm (by assumption) | omega | exact ne_mp (m := m) (by assumption) (by assumption) | exact Ne.symm (ne_mp (m := m) (by assumption) (by assumption)) | exact ne_mp (m := w) (by assumption) (by assumption) | exact Ne.symm (ne_mp (m := w) (by assumption) (by assumption)))).trans (by first | assumption | exact upm_same _ _ _ | exact (upm_ne _ _ (by first | assumption | exact Ne.symm (by assumption) | omega | exact ne_mp (m := m) (by assumption) (by assumption) | exact Ne.symm (ne_mp (m := m) (by assumption) (by assumption)) | exact ne_mp (m := w) (by assumption) (by assumption) | exact Ne.symm (ne_mp (m := w) (by assumption) (by assumption)))).trans (by first | assumption | exact upm_same _ _ _)))))).raQ) ⟨by omega, by omega⟩ (by first | decide | omega) rfl ?_
          refine zG.top (v2 := .null) (by show va_rf (tf ((i : Int)).toNat) = _; rw [Int.toNat_natCast, q2]; rfl) ?_
          refine z_astoreN (q := 28) hX dX1_columns_26 (Nat.le_of_ble_eq_true rfl) rfl rfl ?_
          refine z_iload_n (i := 1) (q := 29) hX dX1_columns_28 rfl rfl rfl ?_
          refine z_aloadN (q := 31) hX dX1_columns_29 rfl rfl ?_
          refine z_ifnonnullN (q := 34) hX dX1_columns_31 rfl ?_
          refine z_iconst (q := 35) hX dX1_columns_34 rfl ?_
          refine z_goto (t := 43) hX dX1_columns_35 (by decide) ?_
          refine z_iadd (q := 44) hX dX1_columns_43 rfl ?_
          refine z_istore_n (i := 1) (q := 45) hX dX1_columns_44 rfl (Nat.le_of_ble_eq_true rfl) rfl rfl ?_
          refine z_iinc (q := 48) hX dX1_columns_45 rfl (Nat.le_of_ble_eq_true rfl) rfl rfl ?_
          refine z_goto (t := 16) hX dX1_columns_48 (by decide) ?_
          exact ih hin _ _ _ (by rw [hs, q1, if_neg (by decide), ev]) rfl
      · obtain ⟨gl, sl, rl, q4⟩ := q3.it
        refine z_iload (q := 18) hX dX1_columns_16 rfl rfl ?_
        refine z_iload_n (i := 3) (q := 19) hX dX1_columns_18 rfl rfl rfl ?_
        refine z_icmp_ge (q := 22) (t := 51) hX dX1_columns_19 (by decide) ⟨by omega, by omega⟩ (by decide) rfl (fun h19 => ?_) (fun h19 => ?_)
        · exact absurd h19 (by omega)
        · refine z_aload_n (i := 2) (q := 23) hX dX1_columns_22 rfl rfl rfl ?_
          refine z_iload (q := 25) hX dX1_columns_23 rfl rfl ?_
          refine zr_aald (q := 26) hX 7 rfl dX1_columns_25 (fun H h => (cI.at h (by first | assumption | exact Or.inl (by assumption) | exact Or.inr (by first | assumption | exact upm_same _ _ _ | exact (upm_ne _ _ (by first | assumption | exact Ne.symm (by assumption) | omega | exact ne_mp (m := m) (by assumption) (by assumption) | exact Ne.symm (ne_mp (m := m) (by assumption) (by assumption)) | exact ne_mp (m := w) (by assumption) (by assumption) | exact Ne.symm (ne_mp (m := w) (by assumption) (by assumption)))).trans (by first | assumption | exact upm_same _ _ _ | exact (upm_ne _ _ (by first | assumption | exact Ne.symm (by assumption) | omega | exact ne_mp (m := m) (by assumption) (by assumption) | exact Ne.symm (ne_mp (m := m) (by assumption) (by assumption)) | exact ne_mp (m := w) (by assumption) (by assumption) | exact Ne.symm (ne_mp (m := w) (by assumption) (by assumption)))).trans (by first | assumption | exact upm_same _ _ _ | exact (upm_ne _ _ (by first | assumption | exact Ne.symm (by assumption) | omega | exact ne_mp (m := m) (by assumption) (by assumption) | exact Ne.symm (ne_mp (m := m) (by assumption) (by assumption)) | exact ne_mp (m := w) (by assumption) (by assumption) | exact Ne.symm (ne_mp (m := w) (by assumption) (by assumption)))).trans (by first | assumption | exact upm_same _ _ _)))))).raQ) ⟨by omega, by omega⟩ (by first | decide | omega) rfl ?_
          refine zG.top (v2 := .ref x) (by show va_rf (tf ((i : Int)).toNat) = _; rw [Int.toNat_natCast, q2]; rfl) ?_
          refine z_astore (q := 28) hX dX1_columns_26 (Nat.le_of_ble_eq_true rfl) rfl rfl ?_
          refine z_iload_n (i := 1) (q := 29) hX dX1_columns_28 rfl rfl rfl ?_
          refine z_aload (q := 31) hX dX1_columns_29 rfl rfl ?_
          refine z_ifnonnull (t := 38) hX dX1_columns_31 (by decide) ?_
          refine z_aload (q := 40) hX dX1_columns_38 rfl rfl ?_
          refine z_V (ci := ciX7) (T := TX7) (N := 3) (na := 0) hX dX1_columns_40 (c_X7_variables D A q3) rfl q1494 q1495 q1496 q127 q1497 (by decide +kernel) ⟨Nat.le_of_ble_eq_true rfl, Nat.le_of_ble_eq_true rfl⟩ rfl rfl (Nat.le_of_ble_eq_true rfl) rfl (by first | exact Nat.le_of_ble_eq_true rfl | (show _ + 0 ≤ 0; omega)) (by first | exact Nat.le_of_ble_eq_true rfl | (show _ + 0 ≤ 0; omega)) (fun H h => ⟨h, h.obE (Or.inl q4) rfl⟩) (fun E a => zT.no) (zPd.out ?_)
          show zG X (_ + 0) (_ + 0) _ 43 _ _
          refine z_iadd (q := 44) hX dX1_columns_43 rfl ?_
          refine z_istore_n (i := 1) (q := 45) hX dX1_columns_44 rfl (Nat.le_of_ble_eq_true rfl) rfl rfl ?_
          refine z_iinc (q := 48) hX dX1_columns_45 rfl (Nat.le_of_ble_eq_true rfl) rfl rfl ?_
          refine z_goto (t := 16) hX dX1_columns_48 (by decide) ?_
          exact ih hin _ _ _ (by rw [hs, q1, if_pos rfl, ev]; rfl) rfl
    · have hiN : i = 12 := by omega
      subst hiN
      refine z_iload (q := 18) hX dX1_columns_16 rfl rfl ?_
      refine z_iload_n (i := 3) (q := 19) hX dX1_columns_18 rfl rfl rfl ?_
      refine z_icmp_ge (q := 22) (t := 51) hX dX1_columns_19 (by decide) (by decide) (by decide) rfl (fun h19 => ?_) (fun h19 => ?_)
      · refine z_iload_n (i := 1) (q := 52) hX dX1_columns_51 rfl rfl rfl ?_
        exact z_iret hX dX1_columns_52 (by first | exact Nat.le_of_ble_eq_true rfl | (show (_ : Nat) ≤ 0; omega)) (by first | exact Nat.le_of_ble_eq_true rfl | (show (_ : Nat) ≤ 0; omega)) rfl (fun H h => ⟨congrArg (fun z => some (zI z)) ((by rw [ev]; rfl)), h⟩)
      · exact absurd (by decide) h19
  refine z_iconst (q := 1) hX dX1_columns_0 rfl ?_
  refine z_istore_n (i := 1) (q := 2) hX dX1_columns_1 rfl (Nat.le_of_ble_eq_true rfl) rfl rfl ?_
  refine z_aload_n (i := 0) (q := 3) hX dX1_columns_2 rfl rfl rfl ?_
  refine zr_get (C := RX1) (T := TX1) (N := 7) (q := 6) hX ciX1 0 rfl (by decide) in_X1 dX1_columns_3 q224 (Or.inl rfl) (fun H h => cI.rd h (by first | assumption | exact Or.inl (by assumption) | exact Or.inr (by first | assumption | exact upm_same _ _ _ | exact (upm_ne _ _ (by first | assumption | exact Ne.symm (by assumption) | omega | exact ne_mp (m := m) (by assumption) (by assumption) | exact Ne.symm (ne_mp (m := m) (by assumption) (by assumption)) | exact ne_mp (m := w) (by assumption) (by assumption) | exact Ne.symm (ne_mp (m := w) (by assumption) (by assumption)))).trans (by first | assumption | exact upm_same _ _ _ | exact (upm_ne _ _ (by first | assumption | exact Ne.symm (by assumption) | omega | exact ne_mp (m := m) (by assumption) (by assumption) | exact Ne.symm (ne_mp (m := m) (by assumption) (by assumption)) | exact ne_mp (m := w) (by assumption) (by assumption) | exact Ne.symm (ne_mp (m := w) (by assumption) (by assumption)))).trans (by first | assumption | exact upm_same _ _ _ | exact (upm_ne _ _ (by first | assumption | exact Ne.symm (by assumption) | omega | exact ne_mp (m := m) (by assumption) (by assumption) | exact Ne.symm (ne_mp (m := m) (by assumption) (by assumption)) | exact ne_mp (m := w) (by assumption) (by assumption) | exact Ne.symm (ne_mp (m := w) (by assumption) (by assumption)))).trans (by first | assumption | exact upm_same _ _ _))))) rfl (by decide) rfl) rfl ?_
  refine zr_getN (C := RX2) (T := TX2) (N := 4) (q := 9) hX ciX2 1 rfl (by decide) in_X2 dX1_columns_6 (zNF_at 0 rfl) (fun H h => cI.rd h (by first | assumption | exact Or.inl (by assumption) | exact Or.inr (by first | assumption | exact upm_same _ _ _ | exact (upm_ne _ _ (by first | assumption | exact Ne.symm (by assumption) | omega | exact ne_mp (m := m) (by assumption) (by assumption) | exact Ne.symm (ne_mp (m := m) (by assumption) (by assumption)) | exact ne_mp (m := w) (by assumption) (by assumption) | exact Ne.symm (ne_mp (m := w) (by assumption) (by assumption)))).trans (by first | assumption | exact upm_same _ _ _ | exact (upm_ne _ _ (by first | assumption | exact Ne.symm (by assumption) | omega | exact ne_mp (m := m) (by assumption) (by assumption) | exact Ne.symm (ne_mp (m := m) (by assumption) (by assumption)) | exact ne_mp (m := w) (by assumption) (by assumption) | exact Ne.symm (ne_mp (m := w) (by assumption) (by assumption)))).trans (by first | assumption | exact upm_same _ _ _ | exact (upm_ne _ _ (by first | assumption | exact Ne.symm (by assumption) | omega | exact ne_mp (m := m) (by assumption) (by assumption) | exact Ne.symm (ne_mp (m := m) (by assumption) (by assumption)) | exact ne_mp (m := w) (by assumption) (by assumption) | exact Ne.symm (ne_mp (m := w) (by assumption) (by assumption)))).trans (by first | assumption | exact upm_same _ _ _))))) rfl (by decide) rfl) rfl ?_
  refine z_astore_n (i := 2) (q := 10) hX dX1_columns_9 rfl (Nat.le_of_ble_eq_true rfl) rfl rfl ?_
  refine z_aload_n (i := 2) (q := 11) hX dX1_columns_10 rfl rfl rfl ?_
  refine zr_alen (q := 12) hX 7 rfl dX1_columns_11 (fun H h => (cI.at h (by first | assumption | exact Or.inl (by assumption) | exact Or.inr (by first | assumption | exact upm_same _ _ _ | exact (upm_ne _ _ (by first | assumption | exact Ne.symm (by assumption) | omega | exact ne_mp (m := m) (by assumption) (by assumption) | exact Ne.symm (ne_mp (m := m) (by assumption) (by assumption)) | exact ne_mp (m := w) (by assumption) (by assumption) | exact Ne.symm (ne_mp (m := w) (by assumption) (by assumption)))).trans (by first | assumption | exact upm_same _ _ _ | exact (upm_ne _ _ (by first | assumption | exact Ne.symm (by assumption) | omega | exact ne_mp (m := m) (by assumption) (by assumption) | exact Ne.symm (ne_mp (m := m) (by assumption) (by assumption)) | exact ne_mp (m := w) (by assumption) (by assumption) | exact Ne.symm (ne_mp (m := w) (by assumption) (by assumption)))).trans (by first | assumption | exact upm_same _ _ _ | exact (upm_ne _ _ (by first | assumption | exact Ne.symm (by assumption) | omega | exact ne_mp (m := m) (by assumption) (by assumption) | exact Ne.symm (ne_mp (m := m) (by assumption) (by assumption)) | exact ne_mp (m := w) (by assumption) (by assumption) | exact Ne.symm (ne_mp (m := w) (by assumption) (by assumption)))).trans (by first | assumption | exact upm_same _ _ _)))))).raQ) rfl ?_
  refine z_istore_n (i := 3) (q := 13) hX dX1_columns_12 rfl (Nat.le_of_ble_eq_true rfl) rfl rfl ?_
  refine z_iconst (q := 14) hX dX1_columns_13 rfl ?_
  refine z_istore (q := 16) hX dX1_columns_14 (Nat.le_of_ble_eq_true rfl) rfl rfl ?_
  exact K16 0 (Nat.zero_le _) _ _ _ rfl rfl
abbrev rmX1_count : Room := { frames := 11, cells := 2, slots := 10, locals := 244 }
set_option maxHeartbeats 4000000 in
theorem c_X1_count (D : zD) (A : Nat → Prop) {w m : zMp} {b : Nat} {K : Nat → Prop} {M : Int → Int} {ps : List (Int → Int)} {sv : Option (Int → Int)} {rp : Option (Int × Int × Int × Int)} {s : zS} {cs : Option (List zCn)} {v : Int} (hb : zX1 D w m K b M ps sv rp s cs) (hK : zHk K m) (hv : zR v) : zC D yX1_count cX1_count 2 (some .int) none rmX1_count A [.ref b, zI (v)] (cI D A w m) (zPe (fun (x : zMp × zMp) => some (zI (opCount M v).2)) (fun x => pSt D w m K b ((opCount M v).1 = 0) M ps sv rp s cs x) (fun x => cI D A x.1 x.2)) (xSt D A w m K b "java/lang/IllegalArgumentException" ciJ7 ((opCount M v).1 = 1) M ps sv rp s cs) := by
  refine zC_start (L := [some (.ref b), some (zI (v))]) (by decide) (Nat.le_of_ble_eq_true rfl) rfl (fun X hX => ?_)
  have hb0 := hb
  obtain ⟨lg, hl1, ia, sa, ra, ca, h1, ⟨hok, ll, ta, col, tc, mc, ls, tf, g1, g2, g3, g4, g5, g6, g7⟩, -⟩ := hb
  have hg : wLog D w m lg M ll ta col := ⟨hok, Or.inl g1, ⟨mc, ls, Or.inl g2, g3⟩, tf, Or.inl g4, g5⟩
  have hM := hok.1
  have l1 := g3.1
  refine z_iload_n (i := 1) (q := 1) hX dX1_count_0 rfl rfl rfl ?_
  refine z_iconst (q := 2) hX dX1_count_1 rfl ?_
  refine z_iconst (q := 3) hX dX1_count_2 rfl ?_
  refine z_S (na := 3) hX dX1_count_3 (c_X1_inRange D A hv (by decide) (by decide)) q1313 q1050 q97 q1051 (by decide +kernel) ⟨Nat.le_of_ble_eq_true rfl, Nat.le_of_ble_eq_true rfl⟩ rfl rfl (Nat.le_of_ble_eq_true rfl) rfl (by first | exact Nat.le_of_ble_eq_true rfl | (show _ + 0 ≤ 2; omega)) (by first | exact Nat.le_of_ble_eq_true rfl | (show _ + 0 ≤ 10; omega)) (fun H h => h) (fun E a => zT.no) (zPd.out ?_)
  show zG X (_ + 0) (_ + 0) _ 6 _ _
  rw [and_dec]
  refine z_S (na := 1) hX dX1_count_6 (c_X1_checkArgument D A) q1314 q1315 q97 q1316 (by decide +kernel) ⟨Nat.le_of_ble_eq_true rfl, Nat.le_of_ble_eq_true rfl⟩ rfl rfl (Nat.le_of_ble_eq_true rfl) rfl (by first | exact Nat.le_of_ble_eq_true rfl | (show _ + 1 ≤ 2; omega)) (by first | exact Nat.le_of_ble_eq_true rfl | (show _ + 6 ≤ 10; omega)) (fun H h => h) (zXs.out (fun e6 => ?_)) (zPe.out (fun x6 hx6 => ?_))
  · refine zT.ax (fun hx6 => ?_)
    exact zT.out hX (by decide) (by first | exact Nat.le_of_ble_eq_true rfl | (show (_ : Nat) ≤ 2; omega)) (by first | exact Nat.le_of_ble_eq_true rfl | (show (_ : Nat) ≤ 10; omega)) (fun H h => xSt0 hK hb0 (by unfold opCount; rw [if_neg (of_decide_eq_false hx6)]) h)
  show zG X (_ + 1) (_ + 6) _ 9 _ _
  have hop : opCount M v = (0, if v = 0 then M 0 else if v = 1 then nTpl M else if v = 2 then colsM M else if v = 3 then chrI M else cosA M) := by
    unfold opCount
    rw [if_pos (of_decide_eq_true hx6)]
  have hx6x := of_decide_eq_true hx6
  refine z_iload_n (i := 1) (q := 10) hX dX1_count_9 rfl rfl rfl ?_
  by_cases s10_0 : v = 0
  · refine z_tableIn (t := 40) hX dX1_count_10 (by omega) (by omega) (by omega) (by rw [s10_0]; rfl) (by decide) ?_
    refine z_aload_n (i := 0) (q := 41) hX dX1_count_40 rfl rfl rfl ?_
    refine zr_get (C := RX1) (T := TX1) (N := 7) (q := 44) hX ciX1 0 rfl (by decide) in_X1 dX1_count_41 q224 (Or.inl rfl) (fun H h => cI.rd h (by first | assumption | exact Or.inl (by assumption) | exact Or.inr (by first | assumption | exact upm_same _ _ _ | exact (upm_ne _ _ (by first | assumption | exact Ne.symm (by assumption) | omega | exact ne_mp (m := m) (by assumption) (by assumption) | exact Ne.symm (ne_mp (m := m) (by assumption) (by assumption)) | exact ne_mp (m := w) (by assumption) (by assumption) | exact Ne.symm (ne_mp (m := w) (by assumption) (by assumption)))).trans (by first | assumption | exact upm_same _ _ _ | exact (upm_ne _ _ (by first | assumption | exact Ne.symm (by assumption) | omega | exact ne_mp (m := m) (by assumption) (by assumption) | exact Ne.symm (ne_mp (m := m) (by assumption) (by assumption)) | exact ne_mp (m := w) (by assumption) (by assumption) | exact Ne.symm (ne_mp (m := w) (by assumption) (by assumption)))).trans (by first | assumption | exact upm_same _ _ _ | exact (upm_ne _ _ (by first | assumption | exact Ne.symm (by assumption) | omega | exact ne_mp (m := m) (by assumption) (by assumption) | exact Ne.symm (ne_mp (m := m) (by assumption) (by assumption)) | exact ne_mp (m := w) (by assumption) (by assumption) | exact Ne.symm (ne_mp (m := w) (by assumption) (by assumption)))).trans (by first | assumption | exact upm_same _ _ _))))) rfl (by decide) rfl) rfl ?_
    refine zr_getN (C := RX2) (T := TX2) (N := 4) (q := 47) hX ciX2 0 rfl (by decide) in_X2 dX1_count_44 (zNF_at 1 rfl) (fun H h => cI.rd h (by first | assumption | exact Or.inl (by assumption) | exact Or.inr (by first | assumption | exact upm_same _ _ _ | exact (upm_ne _ _ (by first | assumption | exact Ne.symm (by assumption) | omega | exact ne_mp (m := m) (by assumption) (by assumption) | exact Ne.symm (ne_mp (m := m) (by assumption) (by assumption)) | exact ne_mp (m := w) (by assumption) (by assumption) | exact Ne.symm (ne_mp (m := w) (by assumption) (by assumption)))).trans (by first | assumption | exact upm_same _ _ _ | exact (upm_ne _ _ (by first | assumption | exact Ne.symm (by assumption) | omega | exact ne_mp (m := m) (by assumption) (by assumption) | exact Ne.symm (ne_mp (m := m) (by assumption) (by assumption)) | exact ne_mp (m := w) (by assumption) (by assumption) | exact Ne.symm (ne_mp (m := w) (by assumption) (by assumption)))).trans (by first | assumption | exact upm_same _ _ _ | exact (upm_ne _ _ (by first | assumption | exact Ne.symm (by assumption) | omega | exact ne_mp (m := m) (by assumption) (by assumption) | exact Ne.symm (ne_mp (m := m) (by assumption) (by assumption)) | exact ne_mp (m := w) (by assumption) (by assumption) | exact Ne.symm (ne_mp (m := w) (by assumption) (by assumption)))).trans (by first | assumption | exact upm_same _ _ _))))) rfl (by decide) rfl) rfl ?_
    refine z_V (ci := ciJ2) (T := TJ2) (N := 3) (na := 0) hX dX1_count_47 (c_J2_size D A (Or.inl g2)) rfl q993 q467 q468 q101 q469 (by decide +kernel) ⟨Nat.le_of_ble_eq_true rfl, Nat.le_of_ble_eq_true rfl⟩ rfl rfl (Nat.le_of_ble_eq_true rfl) rfl (by first | exact Nat.le_of_ble_eq_true rfl | (show _ + 0 ≤ 2; omega)) (by first | exact Nat.le_of_ble_eq_true rfl | (show _ + 0 ≤ 10; omega)) (fun H h => ⟨h, h.obL (Or.inl g2)⟩) (fun E a => zT.no) (zPd.out ?_)
    show zG X (_ + 0) (_ + 0) _ 50 _ _
    exact z_iret hX dX1_count_50 (by first | exact Nat.le_of_ble_eq_true rfl | (show (_ : Nat) ≤ 2; omega)) (by first | exact Nat.le_of_ble_eq_true rfl | (show (_ : Nat) ≤ 10; omega)) rfl (fun H h => ⟨(w, m), by rw [hop, s10_0, l1, show (((M 0).toNat : Nat) : Int) = M 0 by omega]; rfl, pSt0 (by rw [hop]) hb0, h⟩)
  by_cases s10_1 : v = 1
  · refine z_tableIn (t := 51) hX dX1_count_10 (by omega) (by omega) (by omega) (by rw [s10_1]; rfl) (by decide) ?_
    refine z_aload_n (i := 0) (q := 52) hX dX1_count_51 rfl rfl rfl ?_
    refine zr_get (C := RX1) (T := TX1) (N := 7) (q := 55) hX ciX1 0 rfl (by decide) in_X1 dX1_count_52 q224 (Or.inl rfl) (fun H h => cI.rd h (by first | assumption | exact Or.inl (by assumption) | exact Or.inr (by first | assumption | exact upm_same _ _ _ | exact (upm_ne _ _ (by first | assumption | exact Ne.symm (by assumption) | omega | exact ne_mp (m := m) (by assumption) (by assumption) | exact Ne.symm (ne_mp (m := m) (by assumption) (by assumption)) | exact ne_mp (m := w) (by assumption) (by assumption) | exact Ne.symm (ne_mp (m := w) (by assumption) (by assumption)))).trans (by first | assumption | exact upm_same _ _ _ | exact (upm_ne _ _ (by first | assumption | exact Ne.symm (by assumption) | omega | exact ne_mp (m := m) (by assumption) (by assumption) | exact Ne.symm (ne_mp (m := m) (by assumption) (by assumption)) | exact ne_mp (m := w) (by assumption) (by assumption) | exact Ne.symm (ne_mp (m := w) (by assumption) (by assumption)))).trans (by first | assumption | exact upm_same _ _ _ | exact (upm_ne _ _ (by first | assumption | exact Ne.symm (by assumption) | omega | exact ne_mp (m := m) (by assumption) (by assumption) | exact Ne.symm (ne_mp (m := m) (by assumption) (by assumption)) | exact ne_mp (m := w) (by assumption) (by assumption) | exact Ne.symm (ne_mp (m := w) (by assumption) (by assumption)))).trans (by first | assumption | exact upm_same _ _ _))))) rfl (by decide) rfl) rfl ?_
    refine z_V (ci := ciX2) (T := TX2) (N := 4) (na := 0) hX dX1_count_55 (c_X2_count D A hg) rfl q1486 q1487 q1488 q98 q1489 (by decide +kernel) ⟨Nat.le_of_ble_eq_true rfl, Nat.le_of_ble_eq_true rfl⟩ rfl rfl (Nat.le_of_ble_eq_true rfl) rfl (by first | exact Nat.le_of_ble_eq_true rfl | (show _ + 0 ≤ 2; omega)) (by first | exact Nat.le_of_ble_eq_true rfl | (show _ + 0 ≤ 10; omega)) (fun H h => ⟨h, h.obE (Or.inl g1) rfl⟩) (fun E a => zT.no) (zPd.out ?_)
    show zG X (_ + 0) (_ + 0) _ 58 _ _
    exact z_iret hX dX1_count_58 (by first | exact Nat.le_of_ble_eq_true rfl | (show (_ : Nat) ≤ 2; omega)) (by first | exact Nat.le_of_ble_eq_true rfl | (show (_ : Nat) ≤ 10; omega)) rfl (fun H h => ⟨(w, m), by rw [hop, s10_1]; rfl, pSt0 (by rw [hop]) hb0, h⟩)
  by_cases s10_2 : v = 2
  · refine z_tableIn (t := 59) hX dX1_count_10 (by omega) (by omega) (by omega) (by rw [s10_2]; rfl) (by decide) ?_
    refine z_aload_n (i := 0) (q := 60) hX dX1_count_59 rfl rfl rfl ?_
    refine z_V (ci := ciX1) (T := TX1) (N := 7) (na := 0) hX dX1_count_60 (c_X1_columns D A hb0) rfl q1490 q1492 qs32 q97 q1493 (by decide +kernel) ⟨Nat.le_of_ble_eq_true rfl, Nat.le_of_ble_eq_true rfl⟩ rfl rfl (Nat.le_of_ble_eq_true rfl) rfl (by first | exact Nat.le_of_ble_eq_true rfl | (show _ + 0 ≤ 2; omega)) (by first | exact Nat.le_of_ble_eq_true rfl | (show _ + 0 ≤ 10; omega)) (fun H h => ⟨h, h.obE (Or.inr h1) rfl⟩) (fun E a => zT.no) (zPd.out ?_)
    show zG X (_ + 0) (_ + 0) _ 63 _ _
    exact z_iret hX dX1_count_63 (by first | exact Nat.le_of_ble_eq_true rfl | (show (_ : Nat) ≤ 2; omega)) (by first | exact Nat.le_of_ble_eq_true rfl | (show (_ : Nat) ≤ 10; omega)) rfl (fun H h => ⟨(w, m), by rw [hop, s10_2]; rfl, pSt0 (by rw [hop]) hb0, h⟩)
  by_cases s10_3 : v = 3
  · refine z_tableIn (t := 64) hX dX1_count_10 (by omega) (by omega) (by omega) (by rw [s10_3]; rfl) (by decide) ?_
    refine z_aload_n (i := 0) (q := 65) hX dX1_count_64 rfl rfl rfl ?_
    refine zr_get (C := RX1) (T := TX1) (N := 7) (q := 68) hX ciX1 0 rfl (by decide) in_X1 dX1_count_65 q224 (Or.inl rfl) (fun H h => cI.rd h (by first | assumption | exact Or.inl (by assumption) | exact Or.inr (by first | assumption | exact upm_same _ _ _ | exact (upm_ne _ _ (by first | assumption | exact Ne.symm (by assumption) | omega | exact ne_mp (m := m) (by assumption) (by assumption) | exact Ne.symm (ne_mp (m := m) (by assumption) (by assumption)) | exact ne_mp (m := w) (by assumption) (by assumption) | exact Ne.symm (ne_mp (m := w) (by assumption) (by assumption)))).trans (by first | assumption | exact upm_same _ _ _ | exact (upm_ne _ _ (by first | assumption | exact Ne.symm (by assumption) | omega | exact ne_mp (m := m) (by assumption) (by assumption) | exact Ne.symm (ne_mp (m := m) (by assumption) (by assumption)) | exact ne_mp (m := w) (by assumption) (by assumption) | exact Ne.symm (ne_mp (m := w) (by assumption) (by assumption)))).trans (by first | assumption | exact upm_same _ _ _ | exact (upm_ne _ _ (by first | assumption | exact Ne.symm (by assumption) | omega | exact ne_mp (m := m) (by assumption) (by assumption) | exact Ne.symm (ne_mp (m := m) (by assumption) (by assumption)) | exact ne_mp (m := w) (by assumption) (by assumption) | exact Ne.symm (ne_mp (m := w) (by assumption) (by assumption)))).trans (by first | assumption | exact upm_same _ _ _))))) rfl (by decide) rfl) rfl ?_
    refine z_V (ci := ciX2) (T := TX2) (N := 4) (na := 0) hX dX1_count_68 (c_X2_characters D A hg ⟨mc, ls, g2⟩) rfl q1498 q1499 q1500 q98 q1501 (by decide +kernel) ⟨Nat.le_of_ble_eq_true rfl, Nat.le_of_ble_eq_true rfl⟩ rfl rfl (Nat.le_of_ble_eq_true rfl) rfl (by first | exact Nat.le_of_ble_eq_true rfl | (show _ + 1 ≤ 2; omega)) (by first | exact Nat.le_of_ble_eq_true rfl | (show _ + 4 ≤ 10; omega)) (fun H h => ⟨h, h.obE (Or.inl g1) rfl⟩) (fun E a => zT.no) (zPe.out (fun x68 hx68 => ?_))
    show zG X (_ + 1) (_ + 4) _ 71 _ _
    exact z_iret hX dX1_count_71 (by first | exact Nat.le_of_ble_eq_true rfl | (show (_ : Nat) ≤ 2; omega)) (by first | exact Nat.le_of_ble_eq_true rfl | (show (_ : Nat) ≤ 10; omega)) rfl (fun H h => ⟨(w, m), by rw [hop, s10_3]; rfl, pSt0 (by rw [hop]) hb0, h⟩)
  refine z_tableOut (t := 72) hX dX1_count_10 (by omega) (by omega) (by decide) ?_
  refine z_aload_n (i := 0) (q := 73) hX dX1_count_72 rfl rfl rfl ?_
  refine zr_get (C := RX1) (T := TX1) (N := 7) (q := 76) hX ciX1 0 rfl (by decide) in_X1 dX1_count_73 q224 (Or.inl rfl) (fun H h => cI.rd h (by first | assumption | exact Or.inl (by assumption) | exact Or.inr (by first | assumption | exact upm_same _ _ _ | exact (upm_ne _ _ (by first | assumption | exact Ne.symm (by assumption) | omega | exact ne_mp (m := m) (by assumption) (by assumption) | exact Ne.symm (ne_mp (m := m) (by assumption) (by assumption)) | exact ne_mp (m := w) (by assumption) (by assumption) | exact Ne.symm (ne_mp (m := w) (by assumption) (by assumption)))).trans (by first | assumption | exact upm_same _ _ _ | exact (upm_ne _ _ (by first | assumption | exact Ne.symm (by assumption) | omega | exact ne_mp (m := m) (by assumption) (by assumption) | exact Ne.symm (ne_mp (m := m) (by assumption) (by assumption)) | exact ne_mp (m := w) (by assumption) (by assumption) | exact Ne.symm (ne_mp (m := w) (by assumption) (by assumption)))).trans (by first | assumption | exact upm_same _ _ _ | exact (upm_ne _ _ (by first | assumption | exact Ne.symm (by assumption) | omega | exact ne_mp (m := m) (by assumption) (by assumption) | exact Ne.symm (ne_mp (m := m) (by assumption) (by assumption)) | exact ne_mp (m := w) (by assumption) (by assumption) | exact Ne.symm (ne_mp (m := w) (by assumption) (by assumption)))).trans (by first | assumption | exact upm_same _ _ _))))) rfl (by decide) rfl) rfl ?_
  refine z_V (ci := ciX2) (T := TX2) (N := 4) (na := 0) hX dX1_count_76 (c_X2_cost D A hg g6) rfl q1506 q1507 q1508 q98 q1509 (by decide +kernel) ⟨Nat.le_of_ble_eq_true rfl, Nat.le_of_ble_eq_true rfl⟩ rfl rfl (Nat.le_of_ble_eq_true rfl) rfl (by first | exact Nat.le_of_ble_eq_true rfl | (show _ + 0 ≤ 2; omega)) (by first | exact Nat.le_of_ble_eq_true rfl | (show _ + 0 ≤ 10; omega)) (fun H h => ⟨h, h.obE (Or.inl g1) rfl⟩) (fun E a => zT.no) (zPe.out (fun x76 hx76 => ?_))
  show zG X (_ + 0) (_ + 0) _ 79 _ _
  exact z_iret hX dX1_count_79 (by first | exact Nat.le_of_ble_eq_true rfl | (show (_ : Nat) ≤ 2; omega)) (by first | exact Nat.le_of_ble_eq_true rfl | (show (_ : Nat) ≤ 10; omega)) rfl (fun H h => ⟨(w, cM D m col tc x76.1 x76.2), by rw [hop, if_neg s10_0, if_neg s10_1, if_neg s10_2, if_neg s10_3], ⟨by rw [hop], zLe.rf, zFr.sc g7.1 g7.2, hb0.sc g6⟩, h⟩)
abbrev rmX1_columnAt : Room := { frames := 8, cells := 7, slots := 72, locals := 142 }
set_option maxHeartbeats 4000000 in
theorem c_X1_columnAt (D : zD) (A : Nat → Prop) {w m : zMp} {b : Nat} {K : Nat → Prop} {M : Int → Int} {ps : List (Int → Int)} {sv : Option (Int → Int)} {rp : Option (Int × Int × Int × Int)} {s : zS} {cs : Option (List zCn)} {t c : Int} (hb : zX1 D w m K b M ps sv rp s cs) (ht : zR t) (hc : zR c) : zC D yX1_columnAt cX1_columnAt 4 (some (.object "LogCompactor$Column")) none rmX1_columnAt A [.ref b, zI (t), zI (c)] (cI D A w m) (zPe (fun (x : Nat × Nat × (Nat → Option Nat)) => some (.ref x.1)) (fun x => isC M t c = true ∧ (m x.1 = none ∧ m x.2.1 = none ∧ x.2.1 ≠ x.1) ∧ ∀ i : Nat, i < (rws M t).length → ∃ y, x.2.2 i = some y ∧ wTok w y (cR (tx M) (rws M t) (tokO M t c) i)) (fun x => cI D A w (cM D m x.1 x.2.1 (rws M t).length x.2.2))) (xEx D A w m "java/lang/IndexOutOfBoundsException" ciJ22 (isC M t c = false)) := by
  refine zC_start (L := [some (.ref b), some (zI (t)), some (zI (c)), none]) (by decide) (Nat.le_of_ble_eq_true rfl) rfl (fun X hX => ?_)
  have hb0 := hb
  obtain ⟨lg, hl1, ia, sa, ra, ca, h1, ⟨hok, ll, ta, col, tc, mc, ls, tf, g1, g2, g3, g4, g5, g6, g7⟩, -⟩ := hb
  have hg : wLog D w m lg M ll ta col := ⟨hok, Or.inl g1, ⟨mc, ls, Or.inl g2, g3⟩, tf, Or.inl g4, g5⟩
  have hM := hok.1
  have l1 := g3.1
  have hvr := varsL_rng M t
  have n5 := nT_range (tx M (fst M t))
  have n6 : nTl M (fst M t) = nT (tx M (fst M t)) := rfl
  refine z_aload_n (i := 0) (q := 1) hX dX1_columnAt_0 rfl rfl rfl ?_
  refine z_iload_n (i := 1) (q := 2) hX dX1_columnAt_1 rfl rfl rfl ?_
  refine z_V (ci := ciX1) (T := TX1) (N := 7) (na := 1) hX dX1_columnAt_2 (c_X1_at D A hb0 ht) rfl q1625 q1627 qs35 q97 q1628 (by decide +kernel) ⟨Nat.le_of_ble_eq_true rfl, Nat.le_of_ble_eq_true rfl⟩ rfl rfl (Nat.le_of_ble_eq_true rfl) rfl (by first | exact Nat.le_of_ble_eq_true rfl | (show _ + 4 ≤ 7; omega)) (by first | exact Nat.le_of_ble_eq_true rfl | (show _ + 24 ≤ 72; omega)) (fun H h => ⟨h, h.obE (Or.inr h1) rfl⟩) (zXs.out (fun e2 => ?_)) (zPe.out (fun x2 hx2 => ?_))
  · refine zT.ax (fun hx2 => ?_)
    exact zT.out hX (by decide) (by first | exact Nat.le_of_ble_eq_true rfl | (show (_ : Nat) ≤ 7; omega)) (by first | exact Nat.le_of_ble_eq_true rfl | (show (_ : Nat) ≤ 72; omega)) (fun H h => ⟨rfl, by unfold isC; rw [hx2]; rfl, h⟩)
  show zG X (_ + 4) (_ + 24) _ 5 _ _
  obtain ⟨hT, e2⟩ := hx2
  obtain ⟨gl, sl, rl, y1⟩ := e2.it
  have rt := isT_row hok hT
  have hln := txL_len hok rt.1 rt.2.1
  have hlr := (tx_lns hok rt.1 rt.2.1).2.1
  refine z_astore_n (i := 3) (q := 6) hX dX1_columnAt_5 rfl (Nat.le_of_ble_eq_true rfl) rfl rfl ?_
  refine z_iload_n (i := 2) (q := 7) hX dX1_columnAt_6 rfl rfl rfl ?_
  refine z_aload_n (i := 3) (q := 8) hX dX1_columnAt_7 rfl rfl rfl ?_
  refine z_V (ci := ciX7) (T := TX7) (N := 3) (na := 0) hX dX1_columnAt_8 (c_X7_variables D A e2) rfl q1494 q1495 q1496 q127 q1497 (by decide +kernel) ⟨Nat.le_of_ble_eq_true rfl, Nat.le_of_ble_eq_true rfl⟩ rfl rfl (Nat.le_of_ble_eq_true rfl) rfl (by first | exact Nat.le_of_ble_eq_true rfl | (show _ + 0 ≤ 7; omega)) (by first | exact Nat.le_of_ble_eq_true rfl | (show _ + 0 ≤ 72; omega)) (fun H h => ⟨h, h.obE (Or.inl y1) rfl⟩) (fun E a => zT.no) (zPd.out ?_)
  show zG X (_ + 0) (_ + 0) _ 11 _ _
  refine zG.top (v2 := zI (varsI M t)) rfl ?_
  refine z_S (na := 2) hX dX1_columnAt_11 (c_X1_checkIndex D A hc ⟨by omega, by omega⟩) q1537 q1538 q97 q1539 (by decide +kernel) ⟨Nat.le_of_ble_eq_true rfl, Nat.le_of_ble_eq_true rfl⟩ rfl rfl (Nat.le_of_ble_eq_true rfl) rfl (by first | exact Nat.le_of_ble_eq_true rfl | (show _ + 1 ≤ 7; omega)) (by first | exact Nat.le_of_ble_eq_true rfl | (show _ + 6 ≤ 72; omega)) (fun H h => h) (zXs.out (fun e11 => ?_)) (zPe.out (fun x11 hx11 => ?_))
  · refine zT.ax (fun hx11 => ?_)
    exact zT.out hX (by decide) (by first | exact Nat.le_of_ble_eq_true rfl | (show (_ : Nat) ≤ 7; omega)) (by first | exact Nat.le_of_ble_eq_true rfl | (show (_ : Nat) ≤ 72; omega)) (fun H h => ⟨rfl, by rw [← Bool.not_eq_true, isC_iff]; exact fun q => hx11 q.2, h⟩)
  show zG X (_ + 1) (_ + 6) _ 14 _ _
  have hto := tokO_rng hx11.1 hx11.2
  refine zc_new (q := 17) (fs := [.null, zI 0]) (C := RX3) (T := TX3) (N := 2) hX ciX3 rfl in_X3 tyX3_ok dX1_columnAt_14 q1571 q187 q102 (fun j hj => by match j, hj with | 0, _ => rfl | 1, _ => rfl | (_ + 2), h => exact absurd h (by omega)) (by first | exact Nat.le_of_ble_eq_true rfl | (show _ + 1 ≤ 7; omega)) (by first | exact Nat.le_of_ble_eq_true rfl | (show _ + 2 ≤ 72; omega)) rfl (fun a14 ha14 hb14 => ?_)
  have n14 := hb14
  try simp only [upm_none] at n14
  repeat (have := And.left n14; replace n14 := And.right n14)
  refine z_dup (q := 18) hX dX1_columnAt_17 rfl rfl ?_
  refine z_aload_n (i := 0) (q := 19) hX dX1_columnAt_18 rfl rfl rfl ?_
  refine zr_get (C := RX1) (T := TX1) (N := 7) (q := 22) hX ciX1 0 rfl (by decide) in_X1 dX1_columnAt_19 q224 (Or.inl rfl) (fun H h => cI.rd h (Or.inr ((upm_ne _ _ (Ne.symm (ne_mp hb14 h1))).trans h1)) rfl (by decide) rfl) rfl ?_
  refine zr_getN (C := RX2) (T := TX2) (N := 4) (q := 25) hX ciX2 0 rfl (by decide) in_X2 dX1_columnAt_22 (zNF_at 1 rfl) (fun H h => cI.rd h (by first | assumption | exact Or.inl (by assumption) | exact Or.inr (by first | assumption | exact upm_same _ _ _ | exact (upm_ne _ _ (by first | assumption | exact Ne.symm (by assumption) | omega | exact ne_mp (m := m) (by assumption) (by assumption) | exact Ne.symm (ne_mp (m := m) (by assumption) (by assumption)) | exact ne_mp (m := w) (by assumption) (by assumption) | exact Ne.symm (ne_mp (m := w) (by assumption) (by assumption)))).trans (by first | assumption | exact upm_same _ _ _ | exact (upm_ne _ _ (by first | assumption | exact Ne.symm (by assumption) | omega | exact ne_mp (m := m) (by assumption) (by assumption) | exact Ne.symm (ne_mp (m := m) (by assumption) (by assumption)) | exact ne_mp (m := w) (by assumption) (by assumption) | exact Ne.symm (ne_mp (m := w) (by assumption) (by assumption)))).trans (by first | assumption | exact upm_same _ _ _ | exact (upm_ne _ _ (by first | assumption | exact Ne.symm (by assumption) | omega | exact ne_mp (m := m) (by assumption) (by assumption) | exact Ne.symm (ne_mp (m := m) (by assumption) (by assumption)) | exact ne_mp (m := w) (by assumption) (by assumption) | exact Ne.symm (ne_mp (m := w) (by assumption) (by assumption)))).trans (by first | assumption | exact upm_same _ _ _))))) rfl (by decide) rfl) rfl ?_
  refine z_aload_n (i := 3) (q := 26) hX dX1_columnAt_25 rfl rfl rfl ?_
  refine z_aload_n (i := 3) (q := 27) hX dX1_columnAt_26 rfl rfl rfl ?_
  refine z_iload_n (i := 2) (q := 28) hX dX1_columnAt_27 rfl rfl rfl ?_
  refine z_V (ci := ciX7) (T := TX7) (N := 3) (na := 1) hX dX1_columnAt_28 (c_X7_tokenOf D A e2 ⟨by omega, by omega⟩) rfl q1721 q1241 q1242 q127 q1243 (by decide +kernel) ⟨Nat.le_of_ble_eq_true rfl, Nat.le_of_ble_eq_true rfl⟩ rfl rfl (Nat.le_of_ble_eq_true rfl) rfl (by first | exact Nat.le_of_ble_eq_true rfl | (show _ + 0 ≤ 7; omega)) (by first | exact Nat.le_of_ble_eq_true rfl | (show _ + 0 ≤ 72; omega)) (fun H h => ⟨h, h.obE (Or.inl y1) rfl⟩) (fun E a => zT.no) (zPd.out ?_)
  show zG X (_ + 0) (_ + 0) _ 31 _ _
  rw [tkOf_eq]
  refine z_C (na := 3) hX dX1_columnAt_31 (c_X3_init_2 D A (v0 := 0) (upm_same _ _ _) (Or.inl g2) g3 (by omega) e2 (e2.rows hok hto.2.1) hto.1) q1572 q1573 q102 q1574 rfl (by decide +kernel) ⟨Nat.le_of_ble_eq_true rfl, Nat.le_of_ble_eq_true rfl⟩ rfl rfl (Nat.le_of_ble_eq_true rfl) rfl (by first | exact Nat.le_of_ble_eq_true rfl | (show _ + 1 ≤ 7; omega)) (by first | exact Nat.le_of_ble_eq_true rfl | (show _ + 40 ≤ 72; omega)) (fun H h => h) (fun E a => zT.no) (zPe.out (fun x31 hx31 => ?_))
  show zG X (_ + 1) (_ + 40) _ 34 _ _
  exact z_aret hX dX1_columnAt_34 (by first | exact Nat.le_of_ble_eq_true rfl | (show (_ : Nat) ≤ 7; omega)) (by first | exact Nat.le_of_ble_eq_true rfl | (show (_ : Nat) ≤ 72; omega)) rfl (by first | exact Or.inl ⟨_, rfl⟩ | exact Or.inr ⟨_, rfl⟩) (by first | exact Or.inl rfl | exact Or.inr ⟨_, rfl⟩) (fun H h => ⟨(a14, x31.1, x31.2), rfl, ⟨isC_iff.mpr ⟨hT, hx11⟩, ⟨hb14, (upm_none.mp hx31.1.1).2, hx31.1.2.2⟩, hx31.2⟩, by rw [upm_upm] at h; exact h⟩)
abbrev rmX1_column : Room := { frames := 9, cells := 12, slots := 102, locals := 196 }
set_option maxHeartbeats 4000000 in
theorem c_X1_column (D : zD) (A : Nat → Prop) {w m : zMp} {b : Nat} {K : Nat → Prop} {M : Int → Int} {ps : List (Int → Int)} {sv : Option (Int → Int)} {rp : Option (Int × Int × Int × Int)} {s : zS} {cs : Option (List zCn)} {t c v : Int} (hb : zX1 D w m K b M ps sv rp s cs) (hK : zHk K m) (ht : zR t) (hc : zR c) (hv : zR v) : zC D yX1_column cX1_column 5 (some .int) none rmX1_column A [.ref b, zI (t), zI (c), zI (v)] (cI D A w m) (zPe (fun (x : zMp × zMp) => some (zI (opCol M t c v).2)) (fun x => pSt D w m K b ((opCol M t c v).1 = 0) M ps sv rp s cs x) (fun x => cI D A x.1 x.2)) (zXo (xSt D A w m K b "java/lang/IndexOutOfBoundsException" ciJ22 ((opCol M t c v).1 = 1) M ps sv rp s cs) (xSt D A w m K b "java/lang/IllegalArgumentException" ciJ7 ((opCol M t c v).1 = 2) M ps sv rp s cs)) := by
  refine zC_start (L := [some (.ref b), some (zI (t)), some (zI (c)), some (zI (v)), none]) (by decide) (Nat.le_of_ble_eq_true rfl) rfl (fun X hX => ?_)
  have hb0 := hb
  obtain ⟨lg, hl1, ia, sa, ra, ca, h1, ⟨hok, ll, ta, col, tc, mc, ls, tf, g1, g2, g3, g4, g5, g6, g7⟩, -⟩ := hb
  have hg : wLog D w m lg M ll ta col := ⟨hok, Or.inl g1, ⟨mc, ls, Or.inl g2, g3⟩, tf, Or.inl g4, g5⟩
  have hM := hok.1
  have l1 := g3.1
  have h40 := rws_40 hok t
  refine z_aload_n (i := 0) (q := 1) hX dX1_column_0 rfl rfl rfl ?_
  refine z_iload_n (i := 1) (q := 2) hX dX1_column_1 rfl rfl rfl ?_
  refine z_iload_n (i := 2) (q := 3) hX dX1_column_2 rfl rfl rfl ?_
  refine z_V (ci := ciX1) (T := TX1) (N := 7) (na := 2) hX dX1_column_3 (c_X1_columnAt D A hb0 ht hc) rfl q1717 q1719 qs37 q97 q1720 (by decide +kernel) ⟨Nat.le_of_ble_eq_true rfl, Nat.le_of_ble_eq_true rfl⟩ rfl rfl (Nat.le_of_ble_eq_true rfl) rfl (by first | exact Nat.le_of_ble_eq_true rfl | (show _ + 7 ≤ 12; omega)) (by first | exact Nat.le_of_ble_eq_true rfl | (show _ + 72 ≤ 102; omega)) (fun H h => ⟨h, h.obE (Or.inr h1) rfl⟩) (zXs.out (fun e3 => ?_)) (zPe.out (fun x3 hx3 => ?_))
  · refine zT.ax (fun hx3 => ?_)
    exact zT.out hX (by decide) (by first | exact Nat.le_of_ble_eq_true rfl | (show (_ : Nat) ≤ 12; omega)) (by first | exact Nat.le_of_ble_eq_true rfl | (show (_ : Nat) ≤ 102; omega)) (fun H h => Or.inl (xSt0 hK hb0 (by unfold opCol; rw [if_pos hx3]) h))
  show zG X (_ + 7) (_ + 72) _ 6 _ _
  obtain ⟨hC, hfr, hfc⟩ := hx3
  have hCi := isC_iff.mp hC
  obtain ⟨hf3, hb3, hK3⟩ := pCol (n := (rws M t).length) (f := x3.2.2) hK hb0 hfr
  have hcol := pColW (D := D) (m := m) hfr.2.2 h40 hfc
  have hb31 := hb3
  obtain ⟨lg3, hl3, ia3, sa3, ra3, ca3, h13, -⟩ := hb31
  refine z_astore (q := 8) hX dX1_column_6 (Nat.le_of_ble_eq_true rfl) rfl rfl ?_
  refine z_iload_n (i := 3) (q := 9) hX dX1_column_8 rfl rfl rfl ?_
  refine z_iconst (q := 10) hX dX1_column_9 rfl ?_
  refine z_iconst (q := 11) hX dX1_column_10 rfl ?_
  refine z_S (na := 3) hX dX1_column_11 (c_X1_inRange D A hv (by decide) (by decide)) q1313 q1050 q97 q1051 (by decide +kernel) ⟨Nat.le_of_ble_eq_true rfl, Nat.le_of_ble_eq_true rfl⟩ rfl rfl (Nat.le_of_ble_eq_true rfl) rfl (by first | exact Nat.le_of_ble_eq_true rfl | (show _ + 0 ≤ 12; omega)) (by first | exact Nat.le_of_ble_eq_true rfl | (show _ + 0 ≤ 102; omega)) (fun H h => h) (fun E a => zT.no) (zPd.out ?_)
  show zG X (_ + 0) (_ + 0) _ 14 _ _
  rw [and_dec]
  refine z_S (na := 1) hX dX1_column_14 (c_X1_checkArgument D A) q1314 q1315 q97 q1316 (by decide +kernel) ⟨Nat.le_of_ble_eq_true rfl, Nat.le_of_ble_eq_true rfl⟩ rfl rfl (Nat.le_of_ble_eq_true rfl) rfl (by first | exact Nat.le_of_ble_eq_true rfl | (show _ + 1 ≤ 12; omega)) (by first | exact Nat.le_of_ble_eq_true rfl | (show _ + 6 ≤ 102; omega)) (fun H h => h) (zXs.out (fun e14 => ?_)) (zPe.out (fun x14 hx14 => ?_))
  · refine zT.ax (fun hx14 => ?_)
    exact zT.out hX (by decide) (by first | exact Nat.le_of_ble_eq_true rfl | (show (_ : Nat) ≤ 12; omega)) (by first | exact Nat.le_of_ble_eq_true rfl | (show (_ : Nat) ≤ 102; omega)) (fun H h => Or.inr (xSt_tr zLe.rf hf3 (xSt0 hK3 hb3 (by unfold opCol; rw [if_neg (by rw [hC]; decide), if_pos (of_decide_eq_false hx14)]) h)))
  show zG X (_ + 1) (_ + 6) _ 17 _ _
  have hx14x := of_decide_eq_true hx14
  have hop : opCol M t c v = (0, if v = 0 then tokO M t c else if v = 1 then dffI (nR M t).toNat (colT M t (tokO M t c)) else if v = 2 then runI (nR M t).toNat (colT M t (tokO M t c)) false else if v = 3 then wayM M t (tokO M t c) else cosM M t (tokO M t c) (wayM M t (tokO M t c))) := by
    unfold opCol
    rw [if_neg (by rw [hC]; decide), if_neg (fun q => q hx14x)]
  refine z_iload_n (i := 3) (q := 18) hX dX1_column_17 rfl rfl rfl ?_
  by_cases s18_0 : v = 0
  · refine z_tableIn (t := 48) hX dX1_column_18 (by omega) (by omega) (by omega) (by rw [s18_0]; rfl) (by decide) ?_
    refine z_aload_n (i := 0) (q := 49) hX dX1_column_48 rfl rfl rfl ?_
    refine z_iload_n (i := 1) (q := 50) hX dX1_column_49 rfl rfl rfl ?_
    refine z_V (ci := ciX1) (T := TX1) (N := 7) (na := 1) hX dX1_column_50 (c_X1_at D A hb3 ht) rfl q1625 q1627 qs35 q97 q1628 (by decide +kernel) ⟨Nat.le_of_ble_eq_true rfl, Nat.le_of_ble_eq_true rfl⟩ rfl rfl (Nat.le_of_ble_eq_true rfl) rfl (by first | exact Nat.le_of_ble_eq_true rfl | (show _ + 4 ≤ 12; omega)) (by first | exact Nat.le_of_ble_eq_true rfl | (show _ + 24 ≤ 102; omega)) (fun H h => ⟨h, h.obE (Or.inr h13) rfl⟩) (zXs.out (fun e50 => ?_)) (zPe.out (fun x50 hx50 => ?_))
    · refine zT.ax (fun hx50 => ?_)
      rw [hCi.1] at hx50
      cases hx50
    show zG X (_ + 4) (_ + 24) _ 53 _ _
    obtain ⟨gl, sl, rl, y1⟩ := hx50.2.it
    have hvr := varsL_rng M t
    have n5 := nT_range (tx M (fst M t))
    have n6 : nTl M (fst M t) = nT (tx M (fst M t)) := rfl
    have rt := isT_row hok hCi.1
    have hln := txL_len hok rt.1 rt.2.1
    have hlr := (tx_lns hok rt.1 rt.2.1).2.1
    refine z_iload_n (i := 2) (q := 54) hX dX1_column_53 rfl rfl rfl ?_
    refine z_V (ci := ciX7) (T := TX7) (N := 3) (na := 1) hX dX1_column_54 (c_X7_tokenOf D A hx50.2 ⟨by omega, by omega⟩) rfl q1721 q1241 q1242 q127 q1243 (by decide +kernel) ⟨Nat.le_of_ble_eq_true rfl, Nat.le_of_ble_eq_true rfl⟩ rfl rfl (Nat.le_of_ble_eq_true rfl) rfl (by first | exact Nat.le_of_ble_eq_true rfl | (show _ + 0 ≤ 12; omega)) (by first | exact Nat.le_of_ble_eq_true rfl | (show _ + 0 ≤ 102; omega)) (fun H h => ⟨h, h.obE (Or.inl y1) rfl⟩) (fun E a => zT.no) (zPd.out ?_)
    show zG X (_ + 0) (_ + 0) _ 57 _ _
    rw [tkOf_eq]
    exact z_iret hX dX1_column_57 (by first | exact Nat.le_of_ble_eq_true rfl | (show (_ : Nat) ≤ 12; omega)) (by first | exact Nat.le_of_ble_eq_true rfl | (show (_ : Nat) ≤ 102; omega)) rfl (fun H h => ⟨(w, _), by rw [hop, s18_0]; rfl, ⟨by rw [hop], zLe.rf, hf3, hb3⟩, h⟩)
  by_cases s18_1 : v = 1
  · refine z_tableIn (t := 58) hX dX1_column_18 (by omega) (by omega) (by omega) (by rw [s18_1]; rfl) (by decide) ?_
    refine z_aload (q := 60) hX dX1_column_58 rfl rfl ?_
    refine z_V (ci := ciX3) (T := TX3) (N := 2) (na := 0) hX dX1_column_60 (c_X3_different D A hcol) rfl q1722 q1697 q1698 q102 q1699 (by decide +kernel) ⟨Nat.le_of_ble_eq_true rfl, Nat.le_of_ble_eq_true rfl⟩ rfl rfl (Nat.le_of_ble_eq_true rfl) rfl (by first | exact Nat.le_of_ble_eq_true rfl | (show _ + 0 ≤ 12; omega)) (by first | exact Nat.le_of_ble_eq_true rfl | (show _ + 0 ≤ 102; omega)) (fun H h => ⟨h, h.obE (Or.inr hcol.1) rfl⟩) (fun E a => zT.no) (zPd.out ?_)
    show zG X (_ + 0) (_ + 0) _ 63 _ _
    exact z_iret hX dX1_column_63 (by first | exact Nat.le_of_ble_eq_true rfl | (show (_ : Nat) ≤ 12; omega)) (by first | exact Nat.le_of_ble_eq_true rfl | (show (_ : Nat) ≤ 102; omega)) rfl (fun H h => ⟨(w, _), by rw [hop, s18_1]; rfl, ⟨by rw [hop], zLe.rf, hf3, hb3⟩, h⟩)
  by_cases s18_2 : v = 2
  · refine z_tableIn (t := 64) hX dX1_column_18 (by omega) (by omega) (by omega) (by rw [s18_2]; rfl) (by decide) ?_
    refine z_aload (q := 66) hX dX1_column_64 rfl rfl ?_
    refine z_V (ci := ciX3) (T := TX3) (N := 2) (na := 0) hX dX1_column_66 (c_X3_runs D A hcol) rfl q1723 q1724 q1725 q102 q1726 (by decide +kernel) ⟨Nat.le_of_ble_eq_true rfl, Nat.le_of_ble_eq_true rfl⟩ rfl rfl (Nat.le_of_ble_eq_true rfl) rfl (by first | exact Nat.le_of_ble_eq_true rfl | (show _ + 0 ≤ 12; omega)) (by first | exact Nat.le_of_ble_eq_true rfl | (show _ + 0 ≤ 102; omega)) (fun H h => ⟨h, h.obE (Or.inr hcol.1) rfl⟩) (fun E a => zT.no) (zPd.out ?_)
    show zG X (_ + 0) (_ + 0) _ 69 _ _
    exact z_iret hX dX1_column_69 (by first | exact Nat.le_of_ble_eq_true rfl | (show (_ : Nat) ≤ 12; omega)) (by first | exact Nat.le_of_ble_eq_true rfl | (show (_ : Nat) ≤ 102; omega)) rfl (fun H h => ⟨(w, _), by rw [hop, s18_2]; rfl, ⟨by rw [hop], zLe.rf, hf3, hb3⟩, h⟩)
  by_cases s18_3 : v = 3
  · refine z_tableIn (t := 70) hX dX1_column_18 (by omega) (by omega) (by omega) (by rw [s18_3]; rfl) (by decide) ?_
    refine z_aload (q := 72) hX dX1_column_70 rfl rfl ?_
    refine z_V (ci := ciX3) (T := TX3) (N := 2) (na := 0) hX dX1_column_72 (c_X3_bestWay D A hcol) rfl q1727 q568 q569 q102 q570 (by decide +kernel) ⟨Nat.le_of_ble_eq_true rfl, Nat.le_of_ble_eq_true rfl⟩ rfl rfl (Nat.le_of_ble_eq_true rfl) rfl (by first | exact Nat.le_of_ble_eq_true rfl | (show _ + 0 ≤ 12; omega)) (by first | exact Nat.le_of_ble_eq_true rfl | (show _ + 0 ≤ 102; omega)) (fun H h => ⟨h, h.obE (Or.inr hcol.1) rfl⟩) (fun E a => zT.no) (zPd.out ?_)
    show zG X (_ + 0) (_ + 0) _ 75 _ _
    rw [wayM_eq]
    exact z_iret hX dX1_column_75 (by first | exact Nat.le_of_ble_eq_true rfl | (show (_ : Nat) ≤ 12; omega)) (by first | exact Nat.le_of_ble_eq_true rfl | (show (_ : Nat) ≤ 102; omega)) rfl (fun H h => ⟨(w, _), by rw [hop, s18_3]; rfl, ⟨by rw [hop], zLe.rf, hf3, hb3⟩, h⟩)
  refine z_tableOut (t := 76) hX dX1_column_18 (by omega) (by omega) (by decide) ?_
  refine z_aload (q := 78) hX dX1_column_76 rfl rfl ?_
  refine z_V (ci := ciX3) (T := TX3) (N := 2) (na := 0) hX dX1_column_78 (c_X3_leastCost D A hcol) rfl q1728 q564 q565 q102 q566 (by decide +kernel) ⟨Nat.le_of_ble_eq_true rfl, Nat.le_of_ble_eq_true rfl⟩ rfl rfl (Nat.le_of_ble_eq_true rfl) rfl (by first | exact Nat.le_of_ble_eq_true rfl | (show _ + 0 ≤ 12; omega)) (by first | exact Nat.le_of_ble_eq_true rfl | (show _ + 0 ≤ 102; omega)) (fun H h => ⟨h, h.obE (Or.inr hcol.1) rfl⟩) (fun E a => zT.no) (zPd.out ?_)
  show zG X (_ + 0) (_ + 0) _ 81 _ _
  rw [wayM_eq, cosM_eq]
  exact z_iret hX dX1_column_81 (by first | exact Nat.le_of_ble_eq_true rfl | (show (_ : Nat) ≤ 12; omega)) (by first | exact Nat.le_of_ble_eq_true rfl | (show (_ : Nat) ≤ 102; omega)) rfl (fun H h => ⟨(w, _), by rw [hop, if_neg s18_0, if_neg s18_1, if_neg s18_2, if_neg s18_3], ⟨by rw [hop], zLe.rf, hf3, hb3⟩, h⟩)
abbrev rmX1_cost : Room := { frames := 9, cells := 8, slots := 78, locals := 165 }
set_option maxHeartbeats 4000000 in
theorem c_X1_cost (D : zD) (A : Nat → Prop) {w m : zMp} {b : Nat} {K : Nat → Prop} {M : Int → Int} {ps : List (Int → Int)} {sv : Option (Int → Int)} {rp : Option (Int × Int × Int × Int)} {s : zS} {cs : Option (List zCn)} {t c v : Int} (hb : zX1 D w m K b M ps sv rp s cs) (hK : zHk K m) (ht : zR t) (hc : zR c) (hv : zR v) : zC D yX1_cost cX1_cost 5 (some .int) none rmX1_cost A [.ref b, zI (t), zI (c), zI (v)] (cI D A w m) (zPe (fun (x : zMp × zMp) => some (zI (opCost M t c v).2)) (fun x => pSt D w m K b ((opCost M t c v).1 = 0) M ps sv rp s cs x) (fun x => cI D A x.1 x.2)) (zXo (xSt D A w m K b "java/lang/IndexOutOfBoundsException" ciJ22 ((opCost M t c v).1 = 1) M ps sv rp s cs) (xSt D A w m K b "java/lang/IllegalArgumentException" ciJ7 ((opCost M t c v).1 = 2) M ps sv rp s cs)) := by
  refine zC_start (L := [some (.ref b), some (zI (t)), some (zI (c)), some (zI (v)), none]) (by decide) (Nat.le_of_ble_eq_true rfl) rfl (fun X hX => ?_)
  have hb0 := hb
  obtain ⟨lg, hl1, ia, sa, ra, ca, h1, ⟨hok, ll, ta, col, tc, mc, ls, tf, g1, g2, g3, g4, g5, g6, g7⟩, -⟩ := hb
  have hg : wLog D w m lg M ll ta col := ⟨hok, Or.inl g1, ⟨mc, ls, Or.inl g2, g3⟩, tf, Or.inl g4, g5⟩
  have hM := hok.1
  have l1 := g3.1
  have h40 := rws_40 hok t
  refine z_aload_n (i := 0) (q := 1) hX dX1_cost_0 rfl rfl rfl ?_
  refine z_iload_n (i := 1) (q := 2) hX dX1_cost_1 rfl rfl rfl ?_
  refine z_iload_n (i := 2) (q := 3) hX dX1_cost_2 rfl rfl rfl ?_
  refine z_V (ci := ciX1) (T := TX1) (N := 7) (na := 2) hX dX1_cost_3 (c_X1_columnAt D A hb0 ht hc) rfl q1717 q1719 qs37 q97 q1720 (by decide +kernel) ⟨Nat.le_of_ble_eq_true rfl, Nat.le_of_ble_eq_true rfl⟩ rfl rfl (Nat.le_of_ble_eq_true rfl) rfl (by first | exact Nat.le_of_ble_eq_true rfl | (show _ + 7 ≤ 8; omega)) (by first | exact Nat.le_of_ble_eq_true rfl | (show _ + 72 ≤ 78; omega)) (fun H h => ⟨h, h.obE (Or.inr h1) rfl⟩) (zXs.out (fun e3 => ?_)) (zPe.out (fun x3 hx3 => ?_))
  · refine zT.ax (fun hx3 => ?_)
    exact zT.out hX (by decide) (by first | exact Nat.le_of_ble_eq_true rfl | (show (_ : Nat) ≤ 8; omega)) (by first | exact Nat.le_of_ble_eq_true rfl | (show (_ : Nat) ≤ 78; omega)) (fun H h => Or.inl (xSt0 hK hb0 (by unfold opCost; rw [if_pos hx3]) h))
  show zG X (_ + 7) (_ + 72) _ 6 _ _
  obtain ⟨hC, hfr, hfc⟩ := hx3
  obtain ⟨hf3, hb3, hK3⟩ := pCol (n := (rws M t).length) (f := x3.2.2) hK hb0 hfr
  have hcol := pColW (D := D) (m := m) hfr.2.2 h40 hfc
  refine z_astore (q := 8) hX dX1_cost_6 (Nat.le_of_ble_eq_true rfl) rfl rfl ?_
  refine z_iload_n (i := 3) (q := 9) hX dX1_cost_8 rfl rfl rfl ?_
  refine z_iconst (q := 10) hX dX1_cost_9 rfl ?_
  refine z_iconst (q := 11) hX dX1_cost_10 rfl ?_
  refine z_S (na := 3) hX dX1_cost_11 (c_X1_inRange D A hv (by decide) (by decide)) q1313 q1050 q97 q1051 (by decide +kernel) ⟨Nat.le_of_ble_eq_true rfl, Nat.le_of_ble_eq_true rfl⟩ rfl rfl (Nat.le_of_ble_eq_true rfl) rfl (by first | exact Nat.le_of_ble_eq_true rfl | (show _ + 0 ≤ 8; omega)) (by first | exact Nat.le_of_ble_eq_true rfl | (show _ + 0 ≤ 78; omega)) (fun H h => h) (fun E a => zT.no) (zPd.out ?_)
  show zG X (_ + 0) (_ + 0) _ 14 _ _
  rw [and_dec]
  refine z_S (na := 1) hX dX1_cost_14 (c_X1_checkArgument D A) q1314 q1315 q97 q1316 (by decide +kernel) ⟨Nat.le_of_ble_eq_true rfl, Nat.le_of_ble_eq_true rfl⟩ rfl rfl (Nat.le_of_ble_eq_true rfl) rfl (by first | exact Nat.le_of_ble_eq_true rfl | (show _ + 1 ≤ 8; omega)) (by first | exact Nat.le_of_ble_eq_true rfl | (show _ + 6 ≤ 78; omega)) (fun H h => h) (zXs.out (fun e14 => ?_)) (zPe.out (fun x14 hx14 => ?_))
  · refine zT.ax (fun hx14 => ?_)
    exact zT.out hX (by decide) (by first | exact Nat.le_of_ble_eq_true rfl | (show (_ : Nat) ≤ 8; omega)) (by first | exact Nat.le_of_ble_eq_true rfl | (show (_ : Nat) ≤ 78; omega)) (fun H h => Or.inr (xSt_tr zLe.rf hf3 (xSt0 hK3 hb3 (by unfold opCost; rw [if_neg (by rw [hC]; decide), if_pos (of_decide_eq_false hx14)]) h)))
  show zG X (_ + 1) (_ + 6) _ 17 _ _
  have hx14x := of_decide_eq_true hx14
  have hop : opCost M t c v = (0, cosM M t (tokO M t c) v) := by
    unfold opCost
    rw [if_neg (by rw [hC]; decide), if_neg (fun q => q hx14x)]
  refine z_aload (q := 19) hX dX1_cost_17 rfl rfl ?_
  refine z_iload_n (i := 3) (q := 20) hX dX1_cost_19 rfl rfl rfl ?_
  refine z_V (ci := ciX3) (T := TX3) (N := 2) (na := 1) hX dX1_cost_20 (c_X3_cost D A hcol hx14x) rfl q1736 q572 q573 q102 q574 (by decide +kernel) ⟨Nat.le_of_ble_eq_true rfl, Nat.le_of_ble_eq_true rfl⟩ rfl rfl (Nat.le_of_ble_eq_true rfl) rfl (by first | exact Nat.le_of_ble_eq_true rfl | (show _ + 0 ≤ 8; omega)) (by first | exact Nat.le_of_ble_eq_true rfl | (show _ + 0 ≤ 78; omega)) (fun H h => ⟨h, h.obE (Or.inr hcol.1) rfl⟩) (fun E a => zT.no) (zPd.out ?_)
  show zG X (_ + 0) (_ + 0) _ 23 _ _
  rw [cosM_eq]
  exact z_iret hX dX1_cost_23 (by first | exact Nat.le_of_ble_eq_true rfl | (show (_ : Nat) ≤ 8; omega)) (by first | exact Nat.le_of_ble_eq_true rfl | (show (_ : Nat) ≤ 78; omega)) rfl (fun H h => ⟨(w, _), by rw [hop], ⟨by rw [hop], zLe.rf, hf3, hb3⟩, h⟩)
abbrev rmX1_code : Room := { frames := 9, cells := 8, slots := 78, locals := 165 }
set_option maxHeartbeats 4000000 in
theorem c_X1_code (D : zD) (A : Nat → Prop) {w m : zMp} {b : Nat} {K : Nat → Prop} {M : Int → Int} {ps : List (Int → Int)} {sv : Option (Int → Int)} {rp : Option (Int × Int × Int × Int)} {s : zS} {cs : Option (List zCn)} {t c r : Int} (hb : zX1 D w m K b M ps sv rp s cs) (hK : zHk K m) (ht : zR t) (hc : zR c) (hr : zR r) : zC D yX1_code cX1_code 5 (some .int) none rmX1_code A [.ref b, zI (t), zI (c), zI (r)] (cI D A w m) (zPe (fun (x : zMp × zMp) => some (zI (opCode M t c r).2)) (fun x => pSt D w m K b ((opCode M t c r).1 = 0) M ps sv rp s cs x) (fun x => cI D A x.1 x.2)) (xSt D A w m K b "java/lang/IndexOutOfBoundsException" ciJ22 ((opCode M t c r).1 = 1) M ps sv rp s cs) := by
  refine zC_start (L := [some (.ref b), some (zI (t)), some (zI (c)), some (zI (r)), none]) (by decide) (Nat.le_of_ble_eq_true rfl) rfl (fun X hX => ?_)
  have hb0 := hb
  obtain ⟨lg, hl1, ia, sa, ra, ca, h1, ⟨hok, ll, ta, col, tc, mc, ls, tf, g1, g2, g3, g4, g5, g6, g7⟩, -⟩ := hb
  have hg : wLog D w m lg M ll ta col := ⟨hok, Or.inl g1, ⟨mc, ls, Or.inl g2, g3⟩, tf, Or.inl g4, g5⟩
  have hM := hok.1
  have l1 := g3.1
  have h40 := rws_40 hok t
  refine z_aload_n (i := 0) (q := 1) hX dX1_code_0 rfl rfl rfl ?_
  refine z_iload_n (i := 1) (q := 2) hX dX1_code_1 rfl rfl rfl ?_
  refine z_iload_n (i := 2) (q := 3) hX dX1_code_2 rfl rfl rfl ?_
  refine z_V (ci := ciX1) (T := TX1) (N := 7) (na := 2) hX dX1_code_3 (c_X1_columnAt D A hb0 ht hc) rfl q1717 q1719 qs37 q97 q1720 (by decide +kernel) ⟨Nat.le_of_ble_eq_true rfl, Nat.le_of_ble_eq_true rfl⟩ rfl rfl (Nat.le_of_ble_eq_true rfl) rfl (by first | exact Nat.le_of_ble_eq_true rfl | (show _ + 7 ≤ 8; omega)) (by first | exact Nat.le_of_ble_eq_true rfl | (show _ + 72 ≤ 78; omega)) (fun H h => ⟨h, h.obE (Or.inr h1) rfl⟩) (zXs.out (fun e3 => ?_)) (zPe.out (fun x3 hx3 => ?_))
  · refine zT.ax (fun hx3 => ?_)
    exact zT.out hX (by decide) (by first | exact Nat.le_of_ble_eq_true rfl | (show (_ : Nat) ≤ 8; omega)) (by first | exact Nat.le_of_ble_eq_true rfl | (show (_ : Nat) ≤ 78; omega)) (fun H h => xSt0 hK hb0 (by unfold opCode; rw [if_neg (fun q => by rw [hx3] at q; cases q.1)]) h)
  show zG X (_ + 7) (_ + 72) _ 6 _ _
  obtain ⟨hC, hfr, hfc⟩ := hx3
  obtain ⟨hf3, hb3, hK3⟩ := pCol (n := (rws M t).length) (f := x3.2.2) hK hb0 hfr
  have hcol := pColW (D := D) (m := m) hfr.2.2 h40 hfc
  refine z_astore (q := 8) hX dX1_code_6 (Nat.le_of_ble_eq_true rfl) rfl rfl ?_
  refine z_iload_n (i := 3) (q := 9) hX dX1_code_8 rfl rfl rfl ?_
  refine z_aload (q := 11) hX dX1_code_9 rfl rfl ?_
  refine zr_getN (C := RX3) (T := TX3) (N := 2) (q := 14) hX ciX3 1 rfl (by decide) in_X3 dX1_code_11 (zNF_at 11 rfl) (fun H h => cI.rd h (Or.inr hcol.1) rfl (by decide) rfl) rfl ?_
  refine z_S (na := 2) hX dX1_code_14 (c_X1_checkIndex D A hr ⟨by omega, by omega⟩) q1537 q1538 q97 q1539 (by decide +kernel) ⟨Nat.le_of_ble_eq_true rfl, Nat.le_of_ble_eq_true rfl⟩ rfl rfl (Nat.le_of_ble_eq_true rfl) rfl (by first | exact Nat.le_of_ble_eq_true rfl | (show _ + 1 ≤ 8; omega)) (by first | exact Nat.le_of_ble_eq_true rfl | (show _ + 6 ≤ 78; omega)) (fun H h => h) (zXs.out (fun e14 => ?_)) (zPe.out (fun x14 hx14 => ?_))
  · refine zT.ax (fun hx14 => ?_)
    exact zT.out hX (by decide) (by first | exact Nat.le_of_ble_eq_true rfl | (show (_ : Nat) ≤ 8; omega)) (by first | exact Nat.le_of_ble_eq_true rfl | (show (_ : Nat) ≤ 78; omega)) (fun H h => xSt_tr zLe.rf hf3 (xSt0 hK3 hb3 (by unfold opCode nR; rw [if_neg (fun q => hx14 ⟨q.2.1, by omega⟩)]) h))
  show zG X (_ + 1) (_ + 6) _ 17 _ _
  have hop : opCode M t c r = (0, dffI (fstI (colT M t (tokO M t c)) r).toNat (colT M t (tokO M t c))) := by
    unfold opCode nR
    rw [if_pos ⟨hC, hx14.1, by omega⟩]
  obtain ⟨r9, e9⟩ : ∃ r9 : Nat, r = (r9 : Int) := ⟨r.toNat, by omega⟩
  subst e9
  refine z_aload (q := 19) hX dX1_code_17 rfl rfl ?_
  refine z_iload_n (i := 3) (q := 20) hX dX1_code_19 rfl rfl rfl ?_
  refine z_V (ci := ciX3) (T := TX3) (N := 2) (na := 1) hX dX1_code_20 (c_X3_code D A hcol (by omega)) rfl q1744 q1745 q1746 q102 q1747 (by decide +kernel) ⟨Nat.le_of_ble_eq_true rfl, Nat.le_of_ble_eq_true rfl⟩ rfl rfl (Nat.le_of_ble_eq_true rfl) rfl (by first | exact Nat.le_of_ble_eq_true rfl | (show _ + 0 ≤ 8; omega)) (by first | exact Nat.le_of_ble_eq_true rfl | (show _ + 0 ≤ 78; omega)) (fun H h => ⟨h, h.obE (Or.inr hcol.1) rfl⟩) (fun E a => zT.no) (zPd.out ?_)
  show zG X (_ + 0) (_ + 0) _ 23 _ _
  exact z_iret hX dX1_code_23 (by first | exact Nat.le_of_ble_eq_true rfl | (show (_ : Nat) ≤ 8; omega)) (by first | exact Nat.le_of_ble_eq_true rfl | (show (_ : Nat) ≤ 78; omega)) rfl (fun H h => ⟨(w, _), by rw [hop]; rfl, ⟨by rw [hop], zLe.rf, hf3, hb3⟩, h⟩)
abbrev rmX1_value : Room := { frames := 9, cells := 9, slots := 84, locals := 165 }
set_option maxHeartbeats 4000000 in
theorem c_X1_value (D : zD) (A : Nat → Prop) {w m : zMp} {b : Nat} {K : Nat → Prop} {M : Int → Int} {ps : List (Int → Int)} {sv : Option (Int → Int)} {rp : Option (Int × Int × Int × Int)} {s : zS} {cs : Option (List zCn)} {t c r : Int} (hb : zX1 D w m K b M ps sv rp s cs) (hK : zHk K m) (ht : zR t) (hc : zR c) (hr : zR r) : zC D yX1_value cX1_value 5 (some .int) none rmX1_value A [.ref b, zI (t), zI (c), zI (r)] (cI D A w m) (zPe (fun (x : zMp × zMp) => some (zI (opVal M t c r).2)) (fun x => pSt D w m K b ((opVal M t c r).1 = 0) M ps sv rp s cs x) (fun x => cI D A x.1 x.2)) (zXo (xSt D A w m K b "java/lang/IndexOutOfBoundsException" ciJ22 ((opVal M t c r).1 = 1) M ps sv rp s cs) (xSt D A w m K b "java/util/NoSuchElementException" ciJ9 ((opVal M t c r).1 = 2) M ps sv rp s cs)) := by
  refine zC_start (L := [some (.ref b), some (zI (t)), some (zI (c)), some (zI (r)), none]) (by decide) (Nat.le_of_ble_eq_true rfl) rfl (fun X hX => ?_)
  have hb0 := hb
  obtain ⟨lg, hl1, ia, sa, ra, ca, h1, ⟨hok, ll, ta, col, tc, mc, ls, tf, g1, g2, g3, g4, g5, g6, g7⟩, -⟩ := hb
  have hg : wLog D w m lg M ll ta col := ⟨hok, Or.inl g1, ⟨mc, ls, Or.inl g2, g3⟩, tf, Or.inl g4, g5⟩
  have hM := hok.1
  have l1 := g3.1
  have h40 := rws_40 hok t
  refine z_aload_n (i := 0) (q := 1) hX dX1_value_0 rfl rfl rfl ?_
  refine z_iload_n (i := 1) (q := 2) hX dX1_value_1 rfl rfl rfl ?_
  refine z_iload_n (i := 2) (q := 3) hX dX1_value_2 rfl rfl rfl ?_
  refine z_V (ci := ciX1) (T := TX1) (N := 7) (na := 2) hX dX1_value_3 (c_X1_columnAt D A hb0 ht hc) rfl q1717 q1719 qs37 q97 q1720 (by decide +kernel) ⟨Nat.le_of_ble_eq_true rfl, Nat.le_of_ble_eq_true rfl⟩ rfl rfl (Nat.le_of_ble_eq_true rfl) rfl (by first | exact Nat.le_of_ble_eq_true rfl | (show _ + 7 ≤ 9; omega)) (by first | exact Nat.le_of_ble_eq_true rfl | (show _ + 72 ≤ 84; omega)) (fun H h => ⟨h, h.obE (Or.inr h1) rfl⟩) (zXs.out (fun e3 => ?_)) (zPe.out (fun x3 hx3 => ?_))
  · refine zT.ax (fun hx3 => ?_)
    exact zT.out hX (by decide) (by first | exact Nat.le_of_ble_eq_true rfl | (show (_ : Nat) ≤ 9; omega)) (by first | exact Nat.le_of_ble_eq_true rfl | (show (_ : Nat) ≤ 84; omega)) (fun H h => Or.inl (xSt0 hK hb0 (by unfold opVal; rw [if_neg (fun q => by rw [hx3] at q; cases q.1)]) h))
  show zG X (_ + 7) (_ + 72) _ 6 _ _
  obtain ⟨hC, hfr, hfc⟩ := hx3
  obtain ⟨hf3, hb3, hK3⟩ := pCol (n := (rws M t).length) (f := x3.2.2) hK hb0 hfr
  have hcol := pColW (D := D) (m := m) hfr.2.2 h40 hfc
  refine z_astore (q := 8) hX dX1_value_6 (Nat.le_of_ble_eq_true rfl) rfl rfl ?_
  refine z_iload_n (i := 3) (q := 9) hX dX1_value_8 rfl rfl rfl ?_
  refine z_aload (q := 11) hX dX1_value_9 rfl rfl ?_
  refine zr_getN (C := RX3) (T := TX3) (N := 2) (q := 14) hX ciX3 1 rfl (by decide) in_X3 dX1_value_11 (zNF_at 11 rfl) (fun H h => cI.rd h (Or.inr hcol.1) rfl (by decide) rfl) rfl ?_
  refine z_S (na := 2) hX dX1_value_14 (c_X1_checkIndex D A hr ⟨by omega, by omega⟩) q1537 q1538 q97 q1539 (by decide +kernel) ⟨Nat.le_of_ble_eq_true rfl, Nat.le_of_ble_eq_true rfl⟩ rfl rfl (Nat.le_of_ble_eq_true rfl) rfl (by first | exact Nat.le_of_ble_eq_true rfl | (show _ + 1 ≤ 9; omega)) (by first | exact Nat.le_of_ble_eq_true rfl | (show _ + 6 ≤ 84; omega)) (fun H h => h) (zXs.out (fun e14 => ?_)) (zPe.out (fun x14 hx14 => ?_))
  · refine zT.ax (fun hx14 => ?_)
    exact zT.out hX (by decide) (by first | exact Nat.le_of_ble_eq_true rfl | (show (_ : Nat) ≤ 9; omega)) (by first | exact Nat.le_of_ble_eq_true rfl | (show (_ : Nat) ≤ 84; omega)) (fun H h => Or.inl (xSt_tr zLe.rf hf3 (xSt0 hK3 hb3 (by unfold opVal nR; rw [if_neg (fun q => hx14 ⟨q.2.1, by omega⟩)]) h)))
  show zG X (_ + 1) (_ + 6) _ 17 _ _
  obtain ⟨y, q1, q2⟩ := hfc r.toNat (by omega)
  rw [show ((r.toNat : Nat) : Int) = r by omega] at q2
  have q20 := q2
  obtain ⟨hts, t8, q3, q4⟩ := q2
  have htr := typ_zR (cR (tx M) (rws M t) (tokO M t c) r)
  have hop : opVal M t c r = (if typ (cR (tx M) (rws M t) (tokO M t c) r) = 2 then (0, num (cR (tx M) (rws M t) (tokO M t c) r)) else (2, 0)) := by
    unfold opVal nR
    rw [if_pos ⟨hC, hx14.1, by omega⟩]
    rfl
  refine z_aload (q := 19) hX dX1_value_17 rfl rfl ?_
  refine zr_getN (C := RX3) (T := TX3) (N := 2) (q := 22) hX ciX3 0 rfl (by decide) in_X3 dX1_value_19 (zNF_at 5 rfl) (fun H h => cI.rd h (Or.inr hcol.1) rfl (by decide) rfl) rfl ?_
  refine z_iload_n (i := 3) (q := 23) hX dX1_value_22 rfl rfl rfl ?_
  refine zr_aald (q := 24) hX 6 rfl dX1_value_23 (fun H h => (h.at (Or.inr cM_tc)).raQ) ⟨by omega, by omega⟩ (by first | decide | omega) rfl ?_
  refine zG.top (v2 := .ref y) (by show va_rf (x3.2.2 r.toNat) = _; rw [q1]; rfl) ?_
  refine zr_getN (C := RX6) (T := TX6) (N := 2) (q := 27) hX ciX6 1 rfl (by decide) in_X6 dX1_value_24 (zNF_at 12 rfl) (fun H h => cI.rd h (by first | assumption | exact Or.inl (by assumption) | exact Or.inr (by first | assumption | exact upm_same _ _ _ | exact (upm_ne _ _ (by first | assumption | exact Ne.symm (by assumption) | omega | exact ne_mp (m := m) (by assumption) (by assumption) | exact Ne.symm (ne_mp (m := m) (by assumption) (by assumption)) | exact ne_mp (m := w) (by assumption) (by assumption) | exact Ne.symm (ne_mp (m := w) (by assumption) (by assumption)))).trans (by first | assumption | exact upm_same _ _ _ | exact (upm_ne _ _ (by first | assumption | exact Ne.symm (by assumption) | omega | exact ne_mp (m := m) (by assumption) (by assumption) | exact Ne.symm (ne_mp (m := m) (by assumption) (by assumption)) | exact ne_mp (m := w) (by assumption) (by assumption) | exact Ne.symm (ne_mp (m := w) (by assumption) (by assumption)))).trans (by first | assumption | exact upm_same _ _ _ | exact (upm_ne _ _ (by first | assumption | exact Ne.symm (by assumption) | omega | exact ne_mp (m := m) (by assumption) (by assumption) | exact Ne.symm (ne_mp (m := m) (by assumption) (by assumption)) | exact ne_mp (m := w) (by assumption) (by assumption) | exact Ne.symm (ne_mp (m := w) (by assumption) (by assumption)))).trans (by first | assumption | exact upm_same _ _ _))))) rfl (by decide) rfl) rfl ?_
  refine z_iconst (q := 28) hX dX1_value_27 rfl ?_
  refine z_icmp_eq (q := 31) (t := 39) hX dX1_value_28 (by decide) htr (by decide) rfl (fun h28 => ?_) (fun h28 => ?_)
  · refine z_aload (q := 41) hX dX1_value_39 rfl rfl ?_
    refine zr_getN (C := RX3) (T := TX3) (N := 2) (q := 44) hX ciX3 0 rfl (by decide) in_X3 dX1_value_41 (zNF_at 5 rfl) (fun H h => cI.rd h (Or.inr hcol.1) rfl (by decide) rfl) rfl ?_
    refine z_iload_n (i := 3) (q := 45) hX dX1_value_44 rfl rfl rfl ?_
    refine zr_aald (q := 46) hX 6 rfl dX1_value_45 (fun H h => (h.at (Or.inr cM_tc)).raQ) ⟨by omega, by omega⟩ (by first | decide | omega) rfl ?_
    refine zG.top (v2 := .ref y) (by show va_rf (x3.2.2 r.toNat) = _; rw [q1]; rfl) ?_
    refine z_V (ci := ciX6) (T := TX6) (N := 2) (na := 0) hX dX1_value_46 (c_X6_number D A q20) rfl q1758 q609 q610 q123 q611 (by decide +kernel) ⟨Nat.le_of_ble_eq_true rfl, Nat.le_of_ble_eq_true rfl⟩ rfl rfl (Nat.le_of_ble_eq_true rfl) rfl (by first | exact Nat.le_of_ble_eq_true rfl | (show _ + 0 ≤ 9; omega)) (by first | exact Nat.le_of_ble_eq_true rfl | (show _ + 0 ≤ 84; omega)) (fun H h => ⟨h, h.obE (Or.inl q3) rfl⟩) (fun E a => zT.no) (zPd.out ?_)
    show zG X (_ + 0) (_ + 0) _ 49 _ _
    exact z_iret hX dX1_value_49 (by first | exact Nat.le_of_ble_eq_true rfl | (show (_ : Nat) ≤ 9; omega)) (by first | exact Nat.le_of_ble_eq_true rfl | (show (_ : Nat) ≤ 84; omega)) rfl (fun H h => ⟨(w, _), by rw [hop, if_pos h28], ⟨by rw [hop, if_pos h28], zLe.rf, hf3, hb3⟩, h⟩)
  · refine zc_throw0 (q := 38) (names := ["java/lang/RuntimeException", "java/lang/Exception"]) hX ciJ9 (C := RJ9) (T := zT0) (N := 0) rfl (by decide +kernel) (by decide +kernel) q1756 q110 xa_X1_279 xg_X1_279 dX1_value_31 dX1_value_34 dX1_value_35 dX1_value_38 (Nat.le_of_ble_eq_true rfl) rfl (Nat.le_of_ble_eq_true rfl) (Nat.le_of_ble_eq_true rfl) (by first | exact Nat.le_of_ble_eq_true rfl | (show _ + 1 ≤ 9; omega)) (by first | exact Nat.le_of_ble_eq_true rfl | (show _ + 6 ≤ 84; omega)) rfl (fun e31 he31 hf31 => ?_)
    exact zT.out hX (by decide) (by first | exact Nat.le_of_ble_eq_true rfl | (show (_ : Nat) ≤ 9; omega)) (by first | exact Nat.le_of_ble_eq_true rfl | (show (_ : Nat) ≤ 84; omega)) (fun H h => Or.inr (xSt_tr zLe.rf hf3 (xSt0 hK3 hb3 (by rw [hop, if_neg h28]) ⟨⟨he31, hf31⟩, h⟩)))
