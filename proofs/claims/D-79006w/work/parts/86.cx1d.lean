/-! THE CLASS: the compactor: sum, ratio, feed; what is changed -/
set_option maxRecDepth 100000
theorem rOk.snoc {s : zS} {c : Int} (h : rOk s) (hl : s.length < 60) (hc : 0 ≤ c ∧ c ≤ 65535) : rOk (s ++ [c]) := by
  refine ⟨by rw [List.length_append]; show s.length + 1 ≤ 60; omega, fun x hx => ?_⟩
  rcases List.mem_append.mp hx with q | q
  · exact h.2 x q
  · rw [List.mem_singleton] at q
    rw [q]
    exact hc
theorem cT_app {s : zS} {c : Int} {j : Nat} (h : j < s.length) : cT (s ++ [c]) (j : Int) = cT s j := by
  unfold cT
  rw [Int.toNat_natCast, List.getD_eq_getElem?_getD, List.getD_eq_getElem?_getD, List.getElem?_append_left h]
theorem cT_end {s : zS} {c : Int} : cT (s ++ [c]) (s.length : Int) = c := by
  unfold cT
  rw [Int.toNat_natCast, List.getD_eq_getElem?_getD, List.getElem?_append_right (Nat.le_refl _), Nat.sub_self]
  rfl
/-- all but K and three addresses of m unchanged -/
theorem kLog.of {D : zD} {w m m2 : zMp} {K : Nat → Prop} {a : Nat} {M : Int → Int} (h : kLog D w m K a M) (hc : ∀ c t n f, m c = some (eO ciX3 [.ref t, n]) → m t = some (eC (aQ D 6 40 f)) → m2 c = m c ∧ m2 t = m t) : kLog D w m2 K a M := by
  obtain ⟨h0, ll, ta, col, tc, mc, ls, tf, h1, h2, h3, h4, h5, ⟨n, f, h6, h6b⟩, h7⟩ := h
  obtain ⟨k1, k2⟩ := hc col tc _ f h6 h6b
  exact ⟨h0, ll, ta, col, tc, mc, ls, tf, h1, h2, h3, h4, h5, ⟨n, f, k1.trans h6, k2.trans h6b⟩, h7⟩
theorem kHs.of {D : zD} {w m m2 : zMp} {K : Nat → Prop} {ps : List (Int → Int)} {xs : List Nat} (h : kHs D w m K ps xs) (hc : ∀ c t n f, m c = some (eO ciX3 [.ref t, n]) → m t = some (eC (aQ D 6 40 f)) → m2 c = m c ∧ m2 t = m t) : kHs D w m2 K ps xs := ⟨h.1, h.2.1, fun i M hi => by
  obtain ⟨a, h1, h2⟩ := h.2.2 i M hi
  exact ⟨a, h1, h2.of hc⟩⟩
theorem kSv.of {D : zD} {w m m2 : zMp} {K : Nat → Prop} {sv : Option (Int → Int)} {sa : Option Nat} (h : kSv D w m K sv sa) (hc : ∀ c t n f, m c = some (eO ciX3 [.ref t, n]) → m t = some (eC (aQ D 6 40 f)) → m2 c = m c ∧ m2 t = m t) : kSv D w m2 K sv sa := by
  rcases h with h | ⟨M, a, h1, h2, h3⟩
  · exact Or.inl h
  · exact Or.inr ⟨M, a, h1, h2, h3.of hc⟩
theorem kRp.of {m m2 : zMp} {K : Nat → Prop} {rp : Option (Int × Int × Int × Int)} {ra : Option Nat} (h : kRp m K rp ra) (hc : ∀ e v c d, m e = some (eR v c d) → m2 e = m e) : kRp m2 K rp ra := by
  rcases h with h | ⟨c, d, c2, d2, e, e2, h1, h2, h3, h4, h5⟩
  · exact Or.inl h
  · exact Or.inr ⟨c, d, c2, d2, e, e2, h1, h2, (hc _ _ _ _ h3).trans h3, (hc _ _ _ _ h4).trans h4, h5⟩
theorem eO_ci {ci c2 : Nat} {fs f2 : List Value} (h : some (eO ci fs) = some (eO c2 f2)) : ci = c2 ∧ fs = f2 := by
  injection h with h
  injection h with h
  injection h with h
  injection h with h1 h2
  exact ⟨h1, h2⟩
/-- the compactor's own object put anew -/
theorem zX1.cg {D : zD} {w m : zMp} {b ci : Nat} {v0 : List Value} {y : zE} (h1 : m b = some (eO ciX1 v0)) : (∀ c t n (f : Nat → Option Nat), m c = some (eO ciX3 [.ref t, n]) → m t = some (eC (aQ D 6 40 f)) → upm m b y c = m c ∧ upm m b y t = m t) ∧ (∀ e v c d, m e = some (eR v c d) → upm m b y e = m e) := by
  refine ⟨fun c t n f h2 h3 => ⟨upm_ne _ _ (fun e => ?_), upm_ne _ _ (fun e => ?_)⟩, fun e v c d h2 => upm_ne _ _ (fun q => ?_)⟩
  · rw [e, h1] at h2; exact absurd (eO_ci h2).1 (by decide)
  · rw [e, h1] at h3; cases h3
  · rw [q, h1] at h2; exact absurd (eO_ci h2).1 (by decide)
/-- .. and a list, too -/
theorem upL_cg {D : zD} {m : zMp} {hl : Nat} {mc : Int} {xs : List Nat} {y : zE} (h1 : m hl = some (eL mc xs)) : (∀ c t n (f : Nat → Option Nat), m c = some (eO ciX3 [.ref t, n]) → m t = some (eC (aQ D 6 40 f)) → upm m hl y c = m c ∧ upm m hl y t = m t) ∧ (∀ e v c d, m e = some (eR v c d) → upm m hl y e = m e) := by
  refine ⟨fun c t n f h2 h3 => ⟨upm_ne _ _ (fun e => ?_), upm_ne _ _ (fun e => ?_)⟩, fun e v c d h2 => upm_ne _ _ (fun q => ?_)⟩
  · rw [e, h1] at h2; cases h2
  · rw [e, h1] at h3; cases h3
  · rw [q, h1] at h2; cases h2
theorem upN_cg {D : zD} {m : zMp} {ia N : Nat} {f0 : Nat → Int32} {y : zE} (h1 : m ia = some (eC (aN D 1 N f0))) : (∀ c t n (f : Nat → Option Nat), m c = some (eO ciX3 [.ref t, n]) → m t = some (eC (aQ D 6 40 f)) → upm m ia y c = m c ∧ upm m ia y t = m t) ∧ (∀ e v c d, m e = some (eR v c d) → upm m ia y e = m e) := by
  refine ⟨fun c t n f h2 h3 => ⟨upm_ne _ _ (fun e => ?_), upm_ne _ _ (fun e => ?_)⟩, fun e v c d h2 => upm_ne _ _ (fun q => ?_)⟩
  · rw [e, h1] at h2; cases h2
  · rw [e, h1] at h3
    injection h3 with h3
    injection h3 with h3
    injection h3 with h3
    injection h3 with h3 h9
    injection h9 with h9 h8
    cases h8
  · rw [q, h1] at h2; cases h2
abbrev rmX1_sum : Room := { frames := 9, cells := 7, slots := 72, locals := 165 }
set_option maxHeartbeats 4000000 in
theorem c_X1_sum (D : zD) (A : Nat → Prop) {w m : zMp} {b : Nat} {K : Nat → Prop} {M : Int → Int} {ps : List (Int → Int)} {sv : Option (Int → Int)} {rp : Option (Int × Int × Int × Int)} {s : zS} {cs : Option (List zCn)} {t c : Int} (hb : zX1 D w m K b M ps sv rp s cs) (hK : zHk K m) (ht : zR t) (hc : zR c) : zC D yX1_sum cX1_sum 7 (some .long) none rmX1_sum A [.ref b, zI (t), zI (c)] (cI D A w m) (zPe (fun (x : zMp × zMp) => some (zJ (opSum M t c).2)) (fun x => pSt D w m K b ((opSum M t c).1 = 0) M ps sv rp s cs x) (fun x => cI D A x.1 x.2)) (xSt D A w m K b "java/lang/IndexOutOfBoundsException" ciJ22 ((opSum M t c).1 = 1) M ps sv rp s cs) := by
  refine zC_start (L := [some (.ref b), some (zI (t)), some (zI (c)), none, none, none, none]) (by decide) (Nat.le_of_ble_eq_true rfl) rfl (fun X hX => ?_)
  have hb0 := hb
  obtain ⟨lg, hl1, ia, sa, ra, ca, h1, ⟨hok, ll, ta, col, tc, mc, ls, tf, g1, g2, g3, g4, g5, g6, g7⟩, -⟩ := hb
  have hg : wLog D w m lg M ll ta col := ⟨hok, Or.inl g1, ⟨mc, ls, Or.inl g2, g3⟩, tf, Or.inl g4, g5⟩
  have hM := hok.1
  have l1 := g3.1
  have h40 := rws_40 hok t
  have K13 : ∀ (a ta9 : Nat) (f : Nat → Option Nat), (m a = none ∧ m ta9 = none ∧ ta9 ≠ a) → isC M t c = true → (∀ i : Nat, i < (rws M t).length → ∃ y, f i = some y ∧ wTok w y (cR (tx M) (rws M t) (tokO M t c) i)) → ∀ i : Nat, i ≤ (rws M t).length → ∀ (v p : Int), v = sumI (fun r => if typ (colT M t (tokO M t c) r) = 2 then num (colT M t (tokO M t c) r) else 0) i → p = i → zG X 7 72 (cI D A w (cM D m a ta9 (rws M t).length f)) 13 [some (.ref b), some (zI t), some (zI c), some (.ref a), some (zJ v), none, some (zI p)] [] := by
    intro a ta9 f hfr hC hfc
    obtain ⟨hf3, hb3, hK3⟩ := pCol (n := (rws M t).length) (f := f) hK hb0 hfr
    have hcol := pColW (D := D) (m := m) hfr.2.2 h40 hfc
    have hop : opSum M t c = (0, sumI (fun r => if typ (colT M t (tokO M t c) r) = 2 then num (colT M t (tokO M t c) r) else 0) (nR M t).toNat) := if_pos hC
    refine z_up (fun i hi ih v p ev ep => ?_)
    subst ep
    by_cases hin : i < (rws M t).length
    · obtain ⟨y, q1, q2⟩ := hfc i hin
      have q20 := q2
      obtain ⟨hts, t8, q3, q4⟩ := q2
      have htr := typ_zR (cR (tx M) (rws M t) (tokO M t c) i)
      have hs : sumI (fun r => if typ (colT M t (tokO M t c) r) = 2 then num (colT M t (tokO M t c) r) else 0) (i + 1) = sumI (fun r => if typ (colT M t (tokO M t c) r) = 2 then num (colT M t (tokO M t c) r) else 0) i + (if typ (cR (tx M) (rws M t) (tokO M t c) i) = 2 then num (cR (tx M) (rws M t) (tokO M t c) i) else 0) := rfl
      refine z_iload (q := 15) hX dX1_sum_13 rfl rfl ?_
      refine z_aload_n (i := 3) (q := 16) hX dX1_sum_15 rfl rfl rfl ?_
      refine zr_getN (C := RX3) (T := TX3) (N := 2) (q := 19) hX ciX3 1 rfl (by decide) in_X3 dX1_sum_16 (zNF_at 11 rfl) (fun H h => cI.rd h (Or.inr hcol.1) rfl (by decide) rfl) rfl ?_
      refine z_icmp_ge (q := 22) (t := 62) hX dX1_sum_19 (by decide) ⟨by omega, by omega⟩ ⟨by omega, by omega⟩ rfl (fun h19 => ?_) (fun h19 => ?_)
      · exact absurd h19 (by omega)
      · refine z_lload (q := 24) hX dX1_sum_22 rfl rfl ?_
        refine z_aload_n (i := 3) (q := 25) hX dX1_sum_24 rfl rfl rfl ?_
        refine zr_getN (C := RX3) (T := TX3) (N := 2) (q := 28) hX ciX3 0 rfl (by decide) in_X3 dX1_sum_25 (zNF_at 5 rfl) (fun H h => cI.rd h (Or.inr hcol.1) rfl (by decide) rfl) rfl ?_
        refine z_iload (q := 30) hX dX1_sum_28 rfl rfl ?_
        refine zr_aald (q := 31) hX 6 rfl dX1_sum_30 (fun H h => (h.at (Or.inr cM_tc)).raQ) ⟨by omega, by omega⟩ (by first | decide | omega) rfl ?_
        refine zG.top (v2 := .ref y) (by show va_rf (f ((i : Int)).toNat) = _; rw [Int.toNat_natCast, q1]; rfl) ?_
        refine zr_getN (C := RX6) (T := TX6) (N := 2) (q := 34) hX ciX6 1 rfl (by decide) in_X6 dX1_sum_31 (zNF_at 12 rfl) (fun H h => cI.rd h (by first | assumption | exact Or.inl (by assumption) | exact Or.inr (by first | assumption | exact upm_same _ _ _ | exact (upm_ne _ _ (by first | assumption | exact Ne.symm (by assumption) | omega | exact ne_mp (m := m) (by assumption) (by assumption) | exact Ne.symm (ne_mp (m := m) (by assumption) (by assumption)) | exact ne_mp (m := w) (by assumption) (by assumption) | exact Ne.symm (ne_mp (m := w) (by assumption) (by assumption)))).trans (by first | assumption | exact upm_same _ _ _ | exact (upm_ne _ _ (by first | assumption | exact Ne.symm (by assumption) | omega | exact ne_mp (m := m) (by assumption) (by assumption) | exact Ne.symm (ne_mp (m := m) (by assumption) (by assumption)) | exact ne_mp (m := w) (by assumption) (by assumption) | exact Ne.symm (ne_mp (m := w) (by assumption) (by assumption)))).trans (by first | assumption | exact upm_same _ _ _ | exact (upm_ne _ _ (by first | assumption | exact Ne.symm (by assumption) | omega | exact ne_mp (m := m) (by assumption) (by assumption) | exact Ne.symm (ne_mp (m := m) (by assumption) (by assumption)) | exact ne_mp (m := w) (by assumption) (by assumption) | exact Ne.symm (ne_mp (m := w) (by assumption) (by assumption)))).trans (by first | assumption | exact upm_same _ _ _))))) rfl (by decide) rfl) rfl ?_
        refine z_iconst (q := 35) hX dX1_sum_34 rfl ?_
        refine z_icmp_ne (q := 38) (t := 52) hX dX1_sum_35 (by decide) htr (by decide) rfl (fun h35 => ?_) (fun h35 => ?_)
        · have hne : ¬ typ (cR (tx M) (rws M t) (tokO M t c) i) = 2 := h35
          refine z_lconst (z := 0) (q := 53) hX dX1_sum_52 (by decide) rfl ?_
          refine z_ladd (q := 54) hX dX1_sum_53 rfl ?_
          refine z_lstore (q := 56) hX dX1_sum_54 (Nat.le_of_ble_eq_true rfl) rfl rfl ?_
          refine z_iinc (q := 59) hX dX1_sum_56 rfl (Nat.le_of_ble_eq_true rfl) rfl rfl ?_
          refine z_goto (t := 13) hX dX1_sum_59 (by decide) ?_
          exact ih hin _ _ (by rw [hs, if_neg hne, ev]) rfl
        · have he : typ (cR (tx M) (rws M t) (tokO M t c) i) = 2 := Decidable.not_not.mp h35
          have hnr := num_rng he
          refine z_aload_n (i := 3) (q := 39) hX dX1_sum_38 rfl rfl rfl ?_
          refine zr_getN (C := RX3) (T := TX3) (N := 2) (q := 42) hX ciX3 0 rfl (by decide) in_X3 dX1_sum_39 (zNF_at 5 rfl) (fun H h => cI.rd h (Or.inr hcol.1) rfl (by decide) rfl) rfl ?_
          refine z_iload (q := 44) hX dX1_sum_42 rfl rfl ?_
          refine zr_aald (q := 45) hX 6 rfl dX1_sum_44 (fun H h => (h.at (Or.inr cM_tc)).raQ) ⟨by omega, by omega⟩ (by first | decide | omega) rfl ?_
          refine zG.top (v2 := .ref y) (by show va_rf (f ((i : Int)).toNat) = _; rw [Int.toNat_natCast, q1]; rfl) ?_
          refine z_V (ci := ciX6) (T := TX6) (N := 2) (na := 0) hX dX1_sum_45 (c_X6_number D A q20) rfl q1758 q609 q610 q123 q611 (by decide +kernel) ⟨Nat.le_of_ble_eq_true rfl, Nat.le_of_ble_eq_true rfl⟩ rfl rfl (Nat.le_of_ble_eq_true rfl) rfl (by first | exact Nat.le_of_ble_eq_true rfl | (show _ + 0 ≤ 7; omega)) (by first | exact Nat.le_of_ble_eq_true rfl | (show _ + 0 ≤ 72; omega)) (fun H h => ⟨h, h.obE (Or.inl q3) rfl⟩) (fun E a => zT.no) (zPd.out ?_)
          show zG X (_ + 0) (_ + 0) _ 48 _ _
          refine z_i2l (q := 49) hX dX1_sum_48 ⟨by omega, by omega⟩ rfl ?_
          refine z_goto (t := 53) hX dX1_sum_49 (by decide) ?_
          refine z_ladd (q := 54) hX dX1_sum_53 rfl ?_
          refine z_lstore (q := 56) hX dX1_sum_54 (Nat.le_of_ble_eq_true rfl) rfl rfl ?_
          refine z_iinc (q := 59) hX dX1_sum_56 rfl (Nat.le_of_ble_eq_true rfl) rfl rfl ?_
          refine z_goto (t := 13) hX dX1_sum_59 (by decide) ?_
          exact ih hin _ _ (by rw [hs, if_pos he, ev]) rfl
    · have hiN : i = (rws M t).length := by omega
      refine z_iload (q := 15) hX dX1_sum_13 rfl rfl ?_
      refine z_aload_n (i := 3) (q := 16) hX dX1_sum_15 rfl rfl rfl ?_
      refine zr_getN (C := RX3) (T := TX3) (N := 2) (q := 19) hX ciX3 1 rfl (by decide) in_X3 dX1_sum_16 (zNF_at 11 rfl) (fun H h => cI.rd h (Or.inr hcol.1) rfl (by decide) rfl) rfl ?_
      refine z_icmp_ge (q := 22) (t := 62) hX dX1_sum_19 (by decide) ⟨by omega, by omega⟩ ⟨by omega, by omega⟩ rfl (fun h19 => ?_) (fun h19 => ?_)
      · refine z_lload (q := 64) hX dX1_sum_62 rfl rfl ?_
        exact z_lret hX dX1_sum_64 (by first | exact Nat.le_of_ble_eq_true rfl | (show (_ : Nat) ≤ 7; omega)) (by first | exact Nat.le_of_ble_eq_true rfl | (show (_ : Nat) ≤ 72; omega)) rfl (fun H h => ⟨(w, _), by rw [hop, ev, hiN]; rfl, ⟨by rw [hop], zLe.rf, hf3, hb3⟩, h⟩)
      · exact absurd h19 (by omega)
  refine z_aload_n (i := 0) (q := 1) hX dX1_sum_0 rfl rfl rfl ?_
  refine z_iload_n (i := 1) (q := 2) hX dX1_sum_1 rfl rfl rfl ?_
  refine z_iload_n (i := 2) (q := 3) hX dX1_sum_2 rfl rfl rfl ?_
  refine z_V (ci := ciX1) (T := TX1) (N := 7) (na := 2) hX dX1_sum_3 (c_X1_columnAt D A hb0 ht hc) rfl q1717 q1719 qs37 q97 q1720 (by decide +kernel) ⟨Nat.le_of_ble_eq_true rfl, Nat.le_of_ble_eq_true rfl⟩ rfl rfl (Nat.le_of_ble_eq_true rfl) rfl (by first | exact Nat.le_of_ble_eq_true rfl | (show _ + 7 ≤ 7; omega)) (by first | exact Nat.le_of_ble_eq_true rfl | (show _ + 72 ≤ 72; omega)) (fun H h => ⟨h, h.obE (Or.inr h1) rfl⟩) (zXs.out (fun e3 => ?_)) (zPe.out (fun x3 hx3 => ?_))
  · refine zT.ax (fun hx3 => ?_)
    exact zT.out hX (by decide) (by first | exact Nat.le_of_ble_eq_true rfl | (show (_ : Nat) ≤ 7; omega)) (by first | exact Nat.le_of_ble_eq_true rfl | (show (_ : Nat) ≤ 72; omega)) (fun H h => xSt0 hK hb0 (by unfold opSum; rw [if_neg (by rw [hx3]; decide)]) h)
  show zG X (_ + 7) (_ + 72) _ 6 _ _
  refine z_astore_n (i := 3) (q := 7) hX dX1_sum_6 rfl (Nat.le_of_ble_eq_true rfl) rfl rfl ?_
  refine z_lconst (z := 0) (q := 8) hX dX1_sum_7 (by decide) rfl ?_
  refine z_lstore (q := 10) hX dX1_sum_8 (Nat.le_of_ble_eq_true rfl) rfl rfl ?_
  refine z_iconst (q := 11) hX dX1_sum_10 rfl ?_
  refine z_istore (q := 13) hX dX1_sum_11 (Nat.le_of_ble_eq_true rfl) rfl rfl ?_
  exact K13 x3.1 x3.2.1 x3.2.2 hx3.2.1 hx3.1 hx3.2.2 0 (Nat.zero_le _) _ _ rfl rfl
abbrev rmX1_ratio : Room := { frames := 11, cells := 2, slots := 10, locals := 244 }
set_option maxHeartbeats 4000000 in
theorem c_X1_ratio (D : zD) (A : Nat → Prop) {w m : zMp} {b : Nat} {K : Nat → Prop} {M : Int → Int} {ps : List (Int → Int)} {sv : Option (Int → Int)} {rp : Option (Int × Int × Int × Int)} {s : zS} {cs : Option (List zCn)} (hb : zX1 D w m K b M ps sv rp s cs) (hK : zHk K m) : zC D yX1_ratio cX1_ratio 1 (some .double) none rmX1_ratio A [.ref b] (cI D A w m) (zPe (fun (x : zMp × zMp) => some (.double (opRat M))) (fun x => pSt D w m K b (M 0 ≠ 0) M ps sv rp s cs x) (fun x => cI D A x.1 x.2)) (xSt D A w m K b "java/lang/ArithmeticException" ciJ25 (M 0 = 0) M ps sv rp s cs) := by
  refine zC_start (L := [some (.ref b)]) (by decide) (Nat.le_of_ble_eq_true rfl) rfl (fun X hX => ?_)
  have hb0 := hb
  obtain ⟨lg, hl1, ia, sa, ra, ca, h1, ⟨hok, ll, ta, col, tc, mc, ls, tf, g1, g2, g3, g4, g5, g6, g7⟩, -⟩ := hb
  have hg : wLog D w m lg M ll ta col := ⟨hok, Or.inl g1, ⟨mc, ls, Or.inl g2, g3⟩, tf, Or.inl g4, g5⟩
  have hM := hok.1
  have l1 := g3.1
  have hcr := chrI_rM hok
  refine z_aload_n (i := 0) (q := 1) hX dX1_ratio_0 rfl rfl rfl ?_
  refine zr_get (C := RX1) (T := TX1) (N := 7) (q := 4) hX ciX1 0 rfl (by decide) in_X1 dX1_ratio_1 q224 (Or.inl rfl) (fun H h => cI.rd h (by first | assumption | exact Or.inl (by assumption) | exact Or.inr (by first | assumption | exact upm_same _ _ _ | exact (upm_ne _ _ (by first | assumption | exact Ne.symm (by assumption) | omega | exact ne_mp (m := m) (by assumption) (by assumption) | exact Ne.symm (ne_mp (m := m) (by assumption) (by assumption)) | exact ne_mp (m := w) (by assumption) (by assumption) | exact Ne.symm (ne_mp (m := w) (by assumption) (by assumption)))).trans (by first | assumption | exact upm_same _ _ _ | exact (upm_ne _ _ (by first | assumption | exact Ne.symm (by assumption) | omega | exact ne_mp (m := m) (by assumption) (by assumption) | exact Ne.symm (ne_mp (m := m) (by assumption) (by assumption)) | exact ne_mp (m := w) (by assumption) (by assumption) | exact Ne.symm (ne_mp (m := w) (by assumption) (by assumption)))).trans (by first | assumption | exact upm_same _ _ _ | exact (upm_ne _ _ (by first | assumption | exact Ne.symm (by assumption) | omega | exact ne_mp (m := m) (by assumption) (by assumption) | exact Ne.symm (ne_mp (m := m) (by assumption) (by assumption)) | exact ne_mp (m := w) (by assumption) (by assumption) | exact Ne.symm (ne_mp (m := w) (by assumption) (by assumption)))).trans (by first | assumption | exact upm_same _ _ _))))) rfl (by decide) rfl) rfl ?_
  refine zr_getN (C := RX2) (T := TX2) (N := 4) (q := 7) hX ciX2 0 rfl (by decide) in_X2 dX1_ratio_4 (zNF_at 1 rfl) (fun H h => cI.rd h (by first | assumption | exact Or.inl (by assumption) | exact Or.inr (by first | assumption | exact upm_same _ _ _ | exact (upm_ne _ _ (by first | assumption | exact Ne.symm (by assumption) | omega | exact ne_mp (m := m) (by assumption) (by assumption) | exact Ne.symm (ne_mp (m := m) (by assumption) (by assumption)) | exact ne_mp (m := w) (by assumption) (by assumption) | exact Ne.symm (ne_mp (m := w) (by assumption) (by assumption)))).trans (by first | assumption | exact upm_same _ _ _ | exact (upm_ne _ _ (by first | assumption | exact Ne.symm (by assumption) | omega | exact ne_mp (m := m) (by assumption) (by assumption) | exact Ne.symm (ne_mp (m := m) (by assumption) (by assumption)) | exact ne_mp (m := w) (by assumption) (by assumption) | exact Ne.symm (ne_mp (m := w) (by assumption) (by assumption)))).trans (by first | assumption | exact upm_same _ _ _ | exact (upm_ne _ _ (by first | assumption | exact Ne.symm (by assumption) | omega | exact ne_mp (m := m) (by assumption) (by assumption) | exact Ne.symm (ne_mp (m := m) (by assumption) (by assumption)) | exact ne_mp (m := w) (by assumption) (by assumption) | exact Ne.symm (ne_mp (m := w) (by assumption) (by assumption)))).trans (by first | assumption | exact upm_same _ _ _))))) rfl (by decide) rfl) rfl ?_
  refine z_V (ci := ciJ2) (T := TJ2) (N := 3) (na := 0) hX dX1_ratio_7 (c_J2_isEmpty D A (Or.inl g2) (by omega)) rfl q1787 q1608 q1609 q101 q1610 (by decide +kernel) ⟨Nat.le_of_ble_eq_true rfl, Nat.le_of_ble_eq_true rfl⟩ rfl rfl (Nat.le_of_ble_eq_true rfl) rfl (by first | exact Nat.le_of_ble_eq_true rfl | (show _ + 0 ≤ 2; omega)) (by first | exact Nat.le_of_ble_eq_true rfl | (show _ + 0 ≤ 10; omega)) (fun H h => ⟨h, h.obL (Or.inl g2)⟩) (fun E a => zT.no) (zPd.out ?_)
  show zG X (_ + 0) (_ + 0) _ 10 _ _
  refine z_ifB_eq (q := 13) (t := 21) hX dX1_ratio_10 (by decide) rfl (fun h10 => ?_) (fun h10 => ?_)
  · have h0 : M 0 ≠ 0 := fun q => by
      have : ls = [] := List.length_eq_zero_iff.mp (by omega)
      rw [this] at h10
      cases h10
    have hop : opRat M = FP.ddiv (FP.i2d (Int32.ofInt (chrI M))) (FP.i2d (Int32.ofInt (cosA M))) := if_neg h0
    have hn := ddiv_n (c := chrI M) (a := cosA M) ⟨by omega, by omega⟩ (by omega)
    refine z_aload_n (i := 0) (q := 22) hX dX1_ratio_21 rfl rfl rfl ?_
    refine zr_get (C := RX1) (T := TX1) (N := 7) (q := 25) hX ciX1 0 rfl (by decide) in_X1 dX1_ratio_22 q224 (Or.inl rfl) (fun H h => cI.rd h (by first | assumption | exact Or.inl (by assumption) | exact Or.inr (by first | assumption | exact upm_same _ _ _ | exact (upm_ne _ _ (by first | assumption | exact Ne.symm (by assumption) | omega | exact ne_mp (m := m) (by assumption) (by assumption) | exact Ne.symm (ne_mp (m := m) (by assumption) (by assumption)) | exact ne_mp (m := w) (by assumption) (by assumption) | exact Ne.symm (ne_mp (m := w) (by assumption) (by assumption)))).trans (by first | assumption | exact upm_same _ _ _ | exact (upm_ne _ _ (by first | assumption | exact Ne.symm (by assumption) | omega | exact ne_mp (m := m) (by assumption) (by assumption) | exact Ne.symm (ne_mp (m := m) (by assumption) (by assumption)) | exact ne_mp (m := w) (by assumption) (by assumption) | exact Ne.symm (ne_mp (m := w) (by assumption) (by assumption)))).trans (by first | assumption | exact upm_same _ _ _ | exact (upm_ne _ _ (by first | assumption | exact Ne.symm (by assumption) | omega | exact ne_mp (m := m) (by assumption) (by assumption) | exact Ne.symm (ne_mp (m := m) (by assumption) (by assumption)) | exact ne_mp (m := w) (by assumption) (by assumption) | exact Ne.symm (ne_mp (m := w) (by assumption) (by assumption)))).trans (by first | assumption | exact upm_same _ _ _))))) rfl (by decide) rfl) rfl ?_
    refine z_V (ci := ciX2) (T := TX2) (N := 4) (na := 0) hX dX1_ratio_25 (c_X2_characters D A hg ⟨mc, ls, g2⟩) rfl q1498 q1499 q1500 q98 q1501 (by decide +kernel) ⟨Nat.le_of_ble_eq_true rfl, Nat.le_of_ble_eq_true rfl⟩ rfl rfl (Nat.le_of_ble_eq_true rfl) rfl (by first | exact Nat.le_of_ble_eq_true rfl | (show _ + 1 ≤ 2; omega)) (by first | exact Nat.le_of_ble_eq_true rfl | (show _ + 4 ≤ 10; omega)) (fun H h => ⟨h, h.obE (Or.inl g1) rfl⟩) (fun E a => zT.no) (zPe.out (fun x25 hx25 => ?_))
    show zG X (_ + 1) (_ + 4) _ 28 _ _
    refine z_i2d (q := 29) hX dX1_ratio_28 rfl ?_
    refine z_aload_n (i := 0) (q := 30) hX dX1_ratio_29 rfl rfl rfl ?_
    refine zr_get (C := RX1) (T := TX1) (N := 7) (q := 33) hX ciX1 0 rfl (by decide) in_X1 dX1_ratio_30 q224 (Or.inl rfl) (fun H h => cI.rd h (by first | assumption | exact Or.inl (by assumption) | exact Or.inr (by first | assumption | exact upm_same _ _ _ | exact (upm_ne _ _ (by first | assumption | exact Ne.symm (by assumption) | omega | exact ne_mp (m := m) (by assumption) (by assumption) | exact Ne.symm (ne_mp (m := m) (by assumption) (by assumption)) | exact ne_mp (m := w) (by assumption) (by assumption) | exact Ne.symm (ne_mp (m := w) (by assumption) (by assumption)))).trans (by first | assumption | exact upm_same _ _ _ | exact (upm_ne _ _ (by first | assumption | exact Ne.symm (by assumption) | omega | exact ne_mp (m := m) (by assumption) (by assumption) | exact Ne.symm (ne_mp (m := m) (by assumption) (by assumption)) | exact ne_mp (m := w) (by assumption) (by assumption) | exact Ne.symm (ne_mp (m := w) (by assumption) (by assumption)))).trans (by first | assumption | exact upm_same _ _ _ | exact (upm_ne _ _ (by first | assumption | exact Ne.symm (by assumption) | omega | exact ne_mp (m := m) (by assumption) (by assumption) | exact Ne.symm (ne_mp (m := m) (by assumption) (by assumption)) | exact ne_mp (m := w) (by assumption) (by assumption) | exact Ne.symm (ne_mp (m := w) (by assumption) (by assumption)))).trans (by first | assumption | exact upm_same _ _ _))))) rfl (by decide) rfl) rfl ?_
    refine z_V (ci := ciX2) (T := TX2) (N := 4) (na := 0) hX dX1_ratio_33 (c_X2_cost D A hg g6) rfl q1506 q1507 q1508 q98 q1509 (by decide +kernel) ⟨Nat.le_of_ble_eq_true rfl, Nat.le_of_ble_eq_true rfl⟩ rfl rfl (Nat.le_of_ble_eq_true rfl) rfl (by first | exact Nat.le_of_ble_eq_true rfl | (show _ + 0 ≤ 2; omega)) (by first | exact Nat.le_of_ble_eq_true rfl | (show _ + 0 ≤ 10; omega)) (fun H h => ⟨h, h.obE (Or.inl g1) rfl⟩) (fun E a => zT.no) (zPe.out (fun x33 hx33 => ?_))
    show zG X (_ + 0) (_ + 0) _ 36 _ _
    refine z_i2d (q := 37) hX dX1_ratio_36 rfl ?_
    refine z_ddiv (q := 38) hX dX1_ratio_37 hn rfl ?_
    exact z_dret hX dX1_ratio_38 (by first | exact Nat.le_of_ble_eq_true rfl | (show (_ : Nat) ≤ 2; omega)) (by first | exact Nat.le_of_ble_eq_true rfl | (show (_ : Nat) ≤ 10; omega)) rfl (fun H h => ⟨(w, cM D m col tc x33.1 x33.2), by rw [hop], ⟨h0, zLe.rf, zFr.sc g7.1 g7.2, hb0.sc g6⟩, h⟩)
  · have h0 : M 0 = 0 := by
      have : ls = [] := List.isEmpty_iff.mp h10
      rw [this, List.length_nil] at l1
      omega
    refine zc_throw0 (q := 20) (names := ["java/lang/RuntimeException", "java/lang/Exception"]) hX ciJ25 (C := RJ25) (T := zT0) (N := 0) rfl (by decide +kernel) (by decide +kernel) q1788 q133 xa_X1_288 xg_X1_288 dX1_ratio_13 dX1_ratio_16 dX1_ratio_17 dX1_ratio_20 (Nat.le_of_ble_eq_true rfl) rfl (Nat.le_of_ble_eq_true rfl) (Nat.le_of_ble_eq_true rfl) (by first | exact Nat.le_of_ble_eq_true rfl | (show _ + 1 ≤ 2; omega)) (by first | exact Nat.le_of_ble_eq_true rfl | (show _ + 6 ≤ 10; omega)) rfl (fun e13 he13 hf13 => ?_)
    exact zT.out hX (by decide) (by first | exact Nat.le_of_ble_eq_true rfl | (show (_ : Nat) ≤ 2; omega)) (by first | exact Nat.le_of_ble_eq_true rfl | (show (_ : Nat) ≤ 10; omega)) (fun H h => xSt0 hK hb0 h0 ⟨⟨he13, hf13⟩, h⟩)
abbrev rmX1_feed : Room := { frames := 7, cells := 2, slots := 12, locals := 120 }
set_option maxHeartbeats 4000000 in
theorem c_X1_feed (D : zD) (A : Nat → Prop) {w m : zMp} {b : Nat} {K : Nat → Prop} {M : Int → Int} {ps : List (Int → Int)} {sv : Option (Int → Int)} {rp : Option (Int × Int × Int × Int)} {s : zS} {cs : Option (List zCn)} {c : Int} (hb : zX1 D w m K b M ps sv rp s cs) (hK : zHk K m) (hc : 0 ≤ c ∧ c < 65536) : zC D yX1_feed cX1_feed 2 (some .int) none rmX1_feed A [.ref b, zI (c)] (cI D A w m) (zPe (fun (x : zMp × zMp) => some (zI ((s.length : Int) + 1))) (fun x => pSt D w m K b (s.length < 60) M ps sv rp (s ++ [c]) cs x) (fun x => cI D A x.1 x.2)) (xSt D A w m K b "java/lang/IllegalStateException" ciJ6 (s.length = 60) M ps sv rp s cs) := by
  refine zC_start (L := [some (.ref b), some (zI (c))]) (by decide) (Nat.le_of_ble_eq_true rfl) rfl (fun X hX => ?_)
  have hb0 := hb
  obtain ⟨lg, hl1, ia, sa, ra, ca, p1, p2, ⟨mc, xs, p3, p4⟩, p5, p6, ⟨⟨f, p7, p7b⟩, p7c⟩, p8, p9, p10, p11⟩ := hb
  have h60 := p7c.1
  have hbi : b ≠ ia := fun e => by rw [e, p7] at p1; cases p1
  by_cases hlt : s.length < 60
  · have hz9 : True := trivial
    refine z_aload_n (i := 0) (q := 1) hX dX1_feed_0 rfl rfl rfl ?_
    refine zr_get (C := RX1) (T := TX1) (N := 7) (q := 4) hX ciX1 5 rfl (by decide) in_X1 dX1_feed_1 q231 (Or.inl rfl) (fun H h => cI.rd h (by first | assumption | exact Or.inl (by assumption) | exact Or.inr (by first | assumption | exact upm_same _ _ _ | exact (upm_ne _ _ (by first | assumption | exact Ne.symm (by assumption) | omega | exact ne_mp (m := m) (by assumption) (by assumption) | exact Ne.symm (ne_mp (m := m) (by assumption) (by assumption)) | exact ne_mp (m := w) (by assumption) (by assumption) | exact Ne.symm (ne_mp (m := w) (by assumption) (by assumption)))).trans (by first | assumption | exact upm_same _ _ _ | exact (upm_ne _ _ (by first | assumption | exact Ne.symm (by assumption) | omega | exact ne_mp (m := m) (by assumption) (by assumption) | exact Ne.symm (ne_mp (m := m) (by assumption) (by assumption)) | exact ne_mp (m := w) (by assumption) (by assumption) | exact Ne.symm (ne_mp (m := w) (by assumption) (by assumption)))).trans (by first | assumption | exact upm_same _ _ _ | exact (upm_ne _ _ (by first | assumption | exact Ne.symm (by assumption) | omega | exact ne_mp (m := m) (by assumption) (by assumption) | exact Ne.symm (ne_mp (m := m) (by assumption) (by assumption)) | exact ne_mp (m := w) (by assumption) (by assumption) | exact Ne.symm (ne_mp (m := w) (by assumption) (by assumption)))).trans (by first | assumption | exact upm_same _ _ _))))) rfl (by decide) rfl) rfl ?_
    refine z_bipush (q := 6) hX dX1_feed_4 (by decide) rfl ?_
    refine z_icmp_ge (q := 9) (t := 13) hX dX1_feed_6 (by decide) ⟨by omega, by omega⟩ (by decide) rfl (fun h6 => ?_) (fun h6 => ?_)
    · exact absurd h6 (by omega)
    · refine z_iconst (q := 10) hX dX1_feed_9 rfl ?_
      refine z_goto (t := 14) hX dX1_feed_10 (by decide) ?_
      refine zG.top (v2 := zI (bi true)) rfl ?_
      refine z_S (na := 1) hX dX1_feed_14 (c_X1_checkState D A (c := true)) q1282 q1283 q97 q1284 (by decide +kernel) ⟨Nat.le_of_ble_eq_true rfl, Nat.le_of_ble_eq_true rfl⟩ rfl rfl (Nat.le_of_ble_eq_true rfl) rfl (by first | exact Nat.le_of_ble_eq_true rfl | (show _ + 1 ≤ 2; omega)) (by first | exact Nat.le_of_ble_eq_true rfl | (show _ + 6 ≤ 12; omega)) (fun H h => h) (zXs.out (fun e14 => ?_)) (zPe.out (fun x14 hx14 => ?_))
      · refine zT.ax (fun hx14 => ?_)
        cases hx14
      show zG X (_ + 1) (_ + 6) _ 17 _ _
      refine z_aload_n (i := 0) (q := 18) hX dX1_feed_17 rfl rfl rfl ?_
      refine zr_get (C := RX1) (T := TX1) (N := 7) (q := 21) hX ciX1 4 rfl (by decide) in_X1 dX1_feed_18 q229 (Or.inl rfl) (fun H h => cI.rd h (by first | assumption | exact Or.inl (by assumption) | exact Or.inr (by first | assumption | exact upm_same _ _ _ | exact (upm_ne _ _ (by first | assumption | exact Ne.symm (by assumption) | omega | exact ne_mp (m := m) (by assumption) (by assumption) | exact Ne.symm (ne_mp (m := m) (by assumption) (by assumption)) | exact ne_mp (m := w) (by assumption) (by assumption) | exact Ne.symm (ne_mp (m := w) (by assumption) (by assumption)))).trans (by first | assumption | exact upm_same _ _ _ | exact (upm_ne _ _ (by first | assumption | exact Ne.symm (by assumption) | omega | exact ne_mp (m := m) (by assumption) (by assumption) | exact Ne.symm (ne_mp (m := m) (by assumption) (by assumption)) | exact ne_mp (m := w) (by assumption) (by assumption) | exact Ne.symm (ne_mp (m := w) (by assumption) (by assumption)))).trans (by first | assumption | exact upm_same _ _ _ | exact (upm_ne _ _ (by first | assumption | exact Ne.symm (by assumption) | omega | exact ne_mp (m := m) (by assumption) (by assumption) | exact Ne.symm (ne_mp (m := m) (by assumption) (by assumption)) | exact ne_mp (m := w) (by assumption) (by assumption) | exact Ne.symm (ne_mp (m := w) (by assumption) (by assumption)))).trans (by first | assumption | exact upm_same _ _ _))))) rfl (by decide) rfl) rfl ?_
      refine z_aload_n (i := 0) (q := 22) hX dX1_feed_21 rfl rfl rfl ?_
      refine zr_get (C := RX1) (T := TX1) (N := 7) (q := 25) hX ciX1 5 rfl (by decide) in_X1 dX1_feed_22 q231 (Or.inl rfl) (fun H h => cI.rd h (by first | assumption | exact Or.inl (by assumption) | exact Or.inr (by first | assumption | exact upm_same _ _ _ | exact (upm_ne _ _ (by first | assumption | exact Ne.symm (by assumption) | omega | exact ne_mp (m := m) (by assumption) (by assumption) | exact Ne.symm (ne_mp (m := m) (by assumption) (by assumption)) | exact ne_mp (m := w) (by assumption) (by assumption) | exact Ne.symm (ne_mp (m := w) (by assumption) (by assumption)))).trans (by first | assumption | exact upm_same _ _ _ | exact (upm_ne _ _ (by first | assumption | exact Ne.symm (by assumption) | omega | exact ne_mp (m := m) (by assumption) (by assumption) | exact Ne.symm (ne_mp (m := m) (by assumption) (by assumption)) | exact ne_mp (m := w) (by assumption) (by assumption) | exact Ne.symm (ne_mp (m := w) (by assumption) (by assumption)))).trans (by first | assumption | exact upm_same _ _ _ | exact (upm_ne _ _ (by first | assumption | exact Ne.symm (by assumption) | omega | exact ne_mp (m := m) (by assumption) (by assumption) | exact Ne.symm (ne_mp (m := m) (by assumption) (by assumption)) | exact ne_mp (m := w) (by assumption) (by assumption) | exact Ne.symm (ne_mp (m := w) (by assumption) (by assumption)))).trans (by first | assumption | exact upm_same _ _ _))))) rfl (by decide) rfl) rfl ?_
      refine z_iload_n (i := 1) (q := 26) hX dX1_feed_25 rfl rfl rfl ?_
      refine zc_cast (q := 27) hX dX1_feed_26 (by first | assumption | exact upm_same _ _ _ | exact (upm_ne _ _ (by first | assumption | exact Ne.symm (by assumption) | omega | exact ne_mp (m := m) (by assumption) (by assumption) | exact Ne.symm (ne_mp (m := m) (by assumption) (by assumption)) | exact ne_mp (m := w) (by assumption) (by assumption) | exact Ne.symm (ne_mp (m := w) (by assumption) (by assumption)))).trans (by first | assumption | exact upm_same _ _ _ | exact (upm_ne _ _ (by first | assumption | exact Ne.symm (by assumption) | omega | exact ne_mp (m := m) (by assumption) (by assumption) | exact Ne.symm (ne_mp (m := m) (by assumption) (by assumption)) | exact ne_mp (m := w) (by assumption) (by assumption) | exact Ne.symm (ne_mp (m := w) (by assumption) (by assumption)))).trans (by first | assumption | exact upm_same _ _ _ | exact (upm_ne _ _ (by first | assumption | exact Ne.symm (by assumption) | omega | exact ne_mp (m := m) (by assumption) (by assumption) | exact Ne.symm (ne_mp (m := m) (by assumption) (by assumption)) | exact ne_mp (m := w) (by assumption) (by assumption) | exact Ne.symm (ne_mp (m := w) (by assumption) (by assumption)))).trans (by first | assumption | exact upm_same _ _ _)))) ⟨by omega, by omega⟩ (by first | decide | omega) ⟨by omega, by omega⟩ rfl ?_
      refine z_aload_n (i := 0) (q := 28) hX dX1_feed_27 rfl rfl rfl ?_
      refine z_dup (q := 29) hX dX1_feed_28 rfl rfl ?_
      refine zr_get (C := RX1) (T := TX1) (N := 7) (q := 32) hX ciX1 5 rfl (by decide) in_X1 dX1_feed_29 q231 (Or.inl rfl) (fun H h => cI.rd h (Or.inr ((upm_ne _ _ hbi).trans p1)) rfl (by decide) rfl) rfl ?_
      refine z_iconst (q := 33) hX dX1_feed_32 rfl ?_
      refine z_iadd (q := 34) hX dX1_feed_33 rfl ?_
      refine zc_put (C := RX1) (T := TX1) (N := 7) (q := 37) hX ciX1 5 rfl (by decide) in_X1 tyX1_ok nmX1 dX1_feed_34 q231 (Or.inl rfl) rfl ((upm_ne _ _ hbi).trans p1) (Nat.le_of_ble_eq_true rfl) rfl rfl rfl rfl ?_
      refine z_aload_n (i := 0) (q := 38) hX dX1_feed_37 rfl rfl rfl ?_
      refine zr_get (C := RX1) (T := TX1) (N := 7) (q := 41) hX ciX1 5 rfl (by decide) in_X1 dX1_feed_38 q231 (Or.inl rfl) (fun H h => cI.rd h (Or.inr (upm_same _ _ _)) rfl (by decide) rfl) rfl ?_
      exact z_iret hX dX1_feed_41 (by first | exact Nat.le_of_ble_eq_true rfl | (show (_ : Nat) ≤ 2; omega)) (by first | exact Nat.le_of_ble_eq_true rfl | (show (_ : Nat) ≤ 12; omega)) rfl (fun H h => by
      have c1 := upN_cg (D := D) (y := eC (aN D 1 60 (upd f ((s.length : Int)).toNat (Int32.ofInt c)))) p7
      have hm1 : upm m ia (eC (aN D 1 60 (upd f ((s.length : Int)).toNat (Int32.ofInt c)))) b = some (eO ciX1 [.ref lg, va_rf sa, .ref hl1, va_rf ra, .ref ia, zI s.length, va_rf ca]) := (upm_ne _ _ hbi).trans p1
      have c2 := zX1.cg (D := D) (w := w) (ci := 0) (y := eO ciX1 [.ref lg, va_rf sa, .ref hl1, va_rf ra, .ref ia, zI ((s.length : Int) + 1), va_rf ca]) hm1
      have hhl : hl1 ≠ b ∧ hl1 ≠ ia := ⟨fun e => (by rw [e, p1] at p3; cases p3), fun e => (by rw [e, p7] at p3; cases p3)⟩
      refine ⟨(w, upm (upm m ia (eC (aN D 1 60 (upd f ((s.length : Int)).toNat (Int32.ofInt c))))) b (eO ciX1 [.ref lg, va_rf sa, .ref hl1, va_rf ra, .ref ia, zI ((s.length : Int) + 1), va_rf ca])), rfl, ⟨hlt, zLe.rf, (zFr.up p11).tr (zFr.up p9), ⟨lg, hl1, ia, sa, ra, ca, ?_, (p2.of c1.1).of c2.1, ⟨mc, xs, (upm_ne _ _ hhl.1).trans ((upm_ne _ _ hhl.2).trans p3), (p4.of c1.1).of c2.1⟩, (p5.of c1.1).of c2.1, (p6.of c1.2).of c2.2, ⟨⟨_, (upm_ne _ _ (Ne.symm hbi)).trans (upm_same _ _ _), fun j hj => ?_⟩, p7c.snoc hlt ⟨hc.1, by omega⟩⟩, p8, p9, p10, p11⟩⟩, h⟩
      · show upm _ b _ b = _
        rw [upm_same, List.length_append]
        rfl
      · rw [Int.toNat_natCast]
        by_cases q : j = s.length
        · rw [q, cT_end]
          simp [upd]
        · have hjl : j < s.length := by
            rw [List.length_append] at hj
            have : j < s.length + 1 := hj
            omega
          rw [cT_app hjl, ← p7b j hjl]
          simp [upd, q])
  · have h60e : s.length = 60 := by omega
    refine z_aload_n (i := 0) (q := 1) hX dX1_feed_0 rfl rfl rfl ?_
    refine zr_get (C := RX1) (T := TX1) (N := 7) (q := 4) hX ciX1 5 rfl (by decide) in_X1 dX1_feed_1 q231 (Or.inl rfl) (fun H h => cI.rd h (by first | assumption | exact Or.inl (by assumption) | exact Or.inr (by first | assumption | exact upm_same _ _ _ | exact (upm_ne _ _ (by first | assumption | exact Ne.symm (by assumption) | omega | exact ne_mp (m := m) (by assumption) (by assumption) | exact Ne.symm (ne_mp (m := m) (by assumption) (by assumption)) | exact ne_mp (m := w) (by assumption) (by assumption) | exact Ne.symm (ne_mp (m := w) (by assumption) (by assumption)))).trans (by first | assumption | exact upm_same _ _ _ | exact (upm_ne _ _ (by first | assumption | exact Ne.symm (by assumption) | omega | exact ne_mp (m := m) (by assumption) (by assumption) | exact Ne.symm (ne_mp (m := m) (by assumption) (by assumption)) | exact ne_mp (m := w) (by assumption) (by assumption) | exact Ne.symm (ne_mp (m := w) (by assumption) (by assumption)))).trans (by first | assumption | exact upm_same _ _ _ | exact (upm_ne _ _ (by first | assumption | exact Ne.symm (by assumption) | omega | exact ne_mp (m := m) (by assumption) (by assumption) | exact Ne.symm (ne_mp (m := m) (by assumption) (by assumption)) | exact ne_mp (m := w) (by assumption) (by assumption) | exact Ne.symm (ne_mp (m := w) (by assumption) (by assumption)))).trans (by first | assumption | exact upm_same _ _ _))))) rfl (by decide) rfl) rfl ?_
    refine z_bipush (q := 6) hX dX1_feed_4 (by decide) rfl ?_
    refine z_icmp_ge (q := 9) (t := 13) hX dX1_feed_6 (by decide) ⟨by omega, by omega⟩ (by decide) rfl (fun h6 => ?_) (fun h6 => ?_)
    · refine z_iconst (q := 14) hX dX1_feed_13 rfl ?_
      refine zG.top (v2 := zI (bi false)) rfl ?_
      refine z_S (na := 1) hX dX1_feed_14 (c_X1_checkState D A (c := false)) q1282 q1283 q97 q1284 (by decide +kernel) ⟨Nat.le_of_ble_eq_true rfl, Nat.le_of_ble_eq_true rfl⟩ rfl rfl (Nat.le_of_ble_eq_true rfl) rfl (by first | exact Nat.le_of_ble_eq_true rfl | (show _ + 1 ≤ 2; omega)) (by first | exact Nat.le_of_ble_eq_true rfl | (show _ + 6 ≤ 12; omega)) (fun H h => h) (zXs.out (fun e14 => ?_)) (zPe.out (fun x14 hx14 => ?_))
      · refine zT.ax (fun hx14 => ?_)
        exact zT.out hX (by decide) (by first | exact Nat.le_of_ble_eq_true rfl | (show (_ : Nat) ≤ 2; omega)) (by first | exact Nat.le_of_ble_eq_true rfl | (show (_ : Nat) ≤ 12; omega)) (fun H h => xSt0 hK hb0 h60e h)
      show zG X (_ + 1) (_ + 6) _ 17 _ _
      cases hx14
    · exact absurd (by omega) h6
