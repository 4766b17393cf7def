/-! THE CLASS: Log, costs -/
set_option maxRecDepth 100000
/-- the column scribbled on -/
def cM (D : zD) (m : zMp) (col tc : Nat) (n : Int) (f : Nat → Option Nat) : zMp := upm (upm m col (eO ciX3 [.ref tc, zI n])) tc (eC (aQ D 6 40 f))
/-- a column is there -/
def cH (D : zD) (m : zMp) (col tc : Nat) : Prop := ∃ (n : Int) (f : Nat → Option Nat), m col = some (eO ciX3 [.ref tc, zI n]) ∧ m tc = some (eC (aQ D 6 40 f))
theorem cH.ne {D : zD} {m : zMp} {col tc : Nat} (h : cH D m col tc) : col ≠ tc := by
  obtain ⟨n, f, h1, h2⟩ := h
  exact fun e => by rw [e, h2] at h1; cases h1
theorem cM_cM {D : zD} {m : zMp} {col tc : Nat} {n n2 : Int} {f f2 : Nat → Option Nat} (h : col ≠ tc) : cM D (cM D m col tc n f) col tc n2 f2 = cM D m col tc n2 f2 := by
  funext c
  unfold cM
  by_cases c1 : c = tc
  · rw [c1, upm_same, upm_same]
  · by_cases c2 : c = col
    · rw [c2, upm_ne _ _ h, upm_same, upm_ne _ _ h, upm_same]
    · rw [upm_ne _ _ c1, upm_ne _ _ c2, upm_ne _ _ c1, upm_ne _ _ c2, upm_ne _ _ c1, upm_ne _ _ c2]
theorem cM_self {D : zD} {m : zMp} {col tc : Nat} {n : Int} {f : Nat → Option Nat} (h1 : m col = some (eO ciX3 [.ref tc, zI n])) (h2 : m tc = some (eC (aQ D 6 40 f))) : cM D m col tc n f = m := by
  unfold cM
  rw [upm_self h1, upm_self h2]
theorem cM_col {D : zD} {m : zMp} {col tc : Nat} {n : Int} {f : Nat → Option Nat} (h : col ≠ tc) : cM D m col tc n f col = some (eO ciX3 [.ref tc, zI n]) := (upm_ne _ _ h).trans (upm_same _ _ _)
theorem cM_tc {D : zD} {m : zMp} {col tc : Nat} {n : Int} {f : Nat → Option Nat} : cM D m col tc n f tc = some (eC (aQ D 6 40 f)) := upm_same _ _ _
theorem cH.cM {D : zD} {m : zMp} {col tc : Nat} (h : cH D m col tc) (n : Int) (f : Nat → Option Nat) : cH D (cM D m col tc n f) col tc := ⟨n, f, cM_col h.ne, cM_tc⟩
theorem cM_ot {D : zD} {m : zMp} {col tc a : Nat} {n : Int} {f : Nat → Option Nat} (h1 : a ≠ col) (h2 : a ≠ tc) : cM D m col tc n f a = m a := (upm_ne _ _ h2).trans (upm_ne _ _ h1)
theorem cM_eO {D : zD} {w m : zMp} {col tc a ci : Nat} {n : Int} {f : Nat → Option Nat} {fs : List Value} (hc : cH D m col tc) (hci : ci ≠ ciX3) (h : iw w m a (eO ci fs)) : iw w (cM D m col tc n f) a (eO ci fs) := by
  obtain ⟨n0, f0, h1, h2⟩ := hc
  rcases h with h | h
  · exact Or.inl h
  · refine Or.inr ((cM_ot (fun e => ?_) (fun e => ?_)).trans h)
    · rw [e, h1] at h
      injection h with h
      injection h with h
      injection h with h
      injection h with h
      exact hci h.symm
    · rw [e, h2] at h
      cases h
theorem cM_eL {D : zD} {w m : zMp} {col tc a : Nat} {n mc : Int} {f : Nat → Option Nat} {xs : List Nat} (hc : cH D m col tc) (h : iw w m a (eL mc xs)) : iw w (cM D m col tc n f) a (eL mc xs) := by
  obtain ⟨n0, f0, h1, h2⟩ := hc
  rcases h with h | h
  · exact Or.inl h
  · refine Or.inr ((cM_ot (fun e => ?_) (fun e => ?_)).trans h)
    · rw [e, h1] at h; cases h
    · rw [e, h2] at h; cases h
theorem cM_aQ {D : zD} {w m : zMp} {col tc a : Nat} {n : Int} {f tf : Nat → Option Nat} (hc : cH D m col tc) (h : iw w m a (eC (aQ D 7 12 tf))) : iw w (cM D m col tc n f) a (eC (aQ D 7 12 tf)) := by
  obtain ⟨n0, f0, h1, h2⟩ := hc
  rcases h with h | h
  · exact Or.inl h
  · refine Or.inr ((cM_ot (fun e => ?_) (fun e => ?_)).trans h)
    · rw [e, h1] at h; cases h
    · rw [e, h2] at h
      injection h with h
      injection h with h
      injection h with h
      injection h with h h9
      injection h9 with h9
      exact absurd h9 (by decide)
theorem wLog.cM {D : zD} {w m : zMp} {a : Nat} {M : Int → Int} {ll ta col tc : Nat} (h : wLog D w m a M ll ta col) (hc : cH D m col tc) (n : Int) (f : Nat → Option Nat) : wLog D w (cM D m col tc n f) a M ll ta col := by
  obtain ⟨h0, h1, ⟨mc, ls, h2, h3⟩, tf, h4, h5⟩ := h
  exact ⟨h0, cM_eO hc (by decide) h1, ⟨mc, ls, cM_eL hc h2, h3⟩, tf, cM_aQ hc h4, h5⟩
theorem gapsL_getD {s : zS} {j : Nat} (h : (j : Int) ≤ nT s) : (gapsL s).getD j 0 = gp s j := by
  rw [List.getD_eq_getElem?_getD, gapsL_at h]
  rfl
theorem costT_eq {M : Int → Int} {t : Int} : sumI (fun j => (gapsL (tx M (fst M t))).getD j.toNat 0) (gapsL (tx M (fst M t))).length + sumI (fun k => if slt M t k = -1 then ((tkl M (fst M t) k).length : Int) + 1 else 2) (nTl M (fst M t)).toNat = costT M t := by
  have hl := gapsL_len (tx M (fst M t))
  have hn := nT_range (tx M (fst M t))
  have hn2 : nTl M (fst M t) = nT (tx M (fst M t)) := rfl
  unfold costT gapsS
  rw [show (gapsL (tx M (fst M t))).length = (nT (tx M (fst M t)) + 1).toNat by omega]
  congr 1
  · refine sumI_congr (fun i hi => ?_)
    rw [Int.toNat_natCast, gapsL_getD (by omega)]
  · refine sumI_congr (fun i hi => ?_)
    have := tok_len (s := tx M (fst M t)) (k := (i : Int)) (by omega) (by omega)
    have e : tkl M (fst M t) (i : Int) = tok (tx M (fst M t)) (i : Int) := rfl
    rw [e, this]
theorem cosM_eq {M : Int → Int} {t k way : Int} : cosI (rws M t).length (cR (tx M) (rws M t) k) way = cosM M t k way := by
  unfold cosM nR
  rw [Int.toNat_natCast]
  rfl
theorem wayM_eq {M : Int → Int} {t k : Int} : wayI (rws M t).length (cR (tx M) (rws M t) k) = wayM M t k := by
  unfold wayM nR
  rw [Int.toNat_natCast]
  rfl
/-- of a template's first slots -/
theorem wTm.rows {w : zMp} {x : Nat} {M : Int → Int} {t : Int} (h : wTm w x M t) (hok : zOk M) {k : Int} (hk : k < nTl M (fst M t)) : ∀ r ∈ rws M t, 0 ≤ r ∧ r < ((M 0).toNat : Int) ∧ k < nT (tx M r) := fun r hr => by
  have h1 := rws_mem.mp hr
  have h2 := (rws_n hok hr).1
  have h3 : nTl M r = nT (tx M r) := rfl
  exact ⟨h1.1, by omega, by omega⟩
abbrev rmX2_costOf : Room := { frames := 9, cells := 0, slots := 0, locals := 196 }
set_option maxHeartbeats 4000000 in
theorem c_X2_costOf (D : zD) (A : Nat → Prop) {w m : zMp} {b : Nat} {M : Int → Int} {ll ta col tc x : Nat} {t : Int} (hb : wLog D w m b M ll ta col) (hc : cH D m col tc) (hx : wTm w x M t) (ht : isT M t = true) : zC D yX2_costOf cX2_costOf 4 (some .int) none rmX2_costOf A [.ref b, .ref x] (cI D A w m) (zPe (fun (y : Int × (Nat → Option Nat)) => some (zI (cosTt M t))) (fun _ => True) (fun y => cI D A w (cM D m col tc y.1 y.2))) (zNo) := by
  refine zC_start (L := [some (.ref b), some (.ref x), none, none]) (by decide) (Nat.le_of_ble_eq_true rfl) rfl (fun X hX => ?_)
  have hne := hc.ne
  have hok := hb.1
  have hM := hok.1
  obtain ⟨n0, f0, hc1, hc2⟩ := id hc
  have hx0 := hx
  obtain ⟨⟨k1, k2, k3⟩, gl, sl, rl, mc4, mc2, mc3, gs, ss, rs, y1, y2, y3, y4, y5, y6, y7⟩ := hx
  have l1 := y5.1
  have hct : cosTt M t = costT M t + sumI (fun k => cosTk M t k) (nTl M (fst M t)).toNat := if_pos ht
  have K : ∀ i : Nat, i ≤ (nTl M (fst M t)).toNat → ∀ (v p : Int) (n1 : Int) (f1 : Nat → Option Nat), v = costT M t + sumI (fun k => cosTk M t k) i → p = i → zG X 0 0 (cI D A w (cM D m col tc n1 f1)) 7 [some (.ref b), some (.ref x), some (zI v), some (zI p)] [] := by
    refine z_up (fun i hi ih v p n1 f1 ev ep => ?_)
    subst ep
    have hb1 := hb.cM hc n1 f1
    have hc3 := hc.cM n1 f1
    obtain ⟨-, h1, ⟨mc, ls, h2, h3⟩, tf, h4, h5⟩ := hb1
    by_cases hin : i < (nTl M (fst M t)).toNat
    · obtain ⟨a1, q1, q2⟩ := y5.2 i hin
      obtain ⟨fs, q3⟩ := q2.it
      have hst : sumI (fun k => cosTk M t k) (i + 1) = sumI (fun k => cosTk M t k) i + cosTk M t i := rfl
      refine z_iload_n (i := 3) (q := 8) hX dX2_costOf_7 rfl rfl rfl ?_
      refine z_aload_n (i := 1) (q := 9) hX dX2_costOf_8 rfl rfl rfl ?_
      refine zr_getN (C := RX7) (T := TX7) (N := 3) (q := 12) hX ciX7 1 rfl (by decide) in_X7 dX2_costOf_9 (zNF_at 27 rfl) (fun H h => cI.rd h (by first | assumption | exact Or.inl (by assumption) | exact Or.inr (by first | assumption | exact upm_same _ _ _ | exact (upm_ne _ _ (by first | assumption | exact Ne.symm (by assumption) | omega | exact ne_mp (m := m) (by assumption) (by assumption) | exact Ne.symm (ne_mp (m := m) (by assumption) (by assumption)) | exact ne_mp (m := w) (by assumption) (by assumption) | exact Ne.symm (ne_mp (m := w) (by assumption) (by assumption)))).trans (by first | assumption | exact upm_same _ _ _ | exact (upm_ne _ _ (by first | assumption | exact Ne.symm (by assumption) | omega | exact ne_mp (m := m) (by assumption) (by assumption) | exact Ne.symm (ne_mp (m := m) (by assumption) (by assumption)) | exact ne_mp (m := w) (by assumption) (by assumption) | exact Ne.symm (ne_mp (m := w) (by assumption) (by assumption)))).trans (by first | assumption | exact upm_same _ _ _ | exact (upm_ne _ _ (by first | assumption | exact Ne.symm (by assumption) | omega | exact ne_mp (m := m) (by assumption) (by assumption) | exact Ne.symm (ne_mp (m := m) (by assumption) (by assumption)) | exact ne_mp (m := w) (by assumption) (by assumption) | exact Ne.symm (ne_mp (m := w) (by assumption) (by assumption)))).trans (by first | assumption | exact upm_same _ _ _))))) rfl (by decide) rfl) rfl ?_
      refine z_V (ci := ciJ2) (T := TJ2) (N := 3) (na := 0) hX dX2_costOf_12 (c_J2_size D A (Or.inl y4)) rfl q547 q467 q468 q101 q469 (by decide +kernel) ⟨Nat.le_of_ble_eq_true rfl, Nat.le_of_ble_eq_true rfl⟩ rfl rfl (Nat.le_of_ble_eq_true rfl) rfl (by first | exact Nat.le_of_ble_eq_true rfl | (show _ + 0 ≤ 0; omega)) (by first | exact Nat.le_of_ble_eq_true rfl | (show _ + 0 ≤ 0; omega)) (fun H h => ⟨h, h.obL (Or.inl y4)⟩) (fun E a => zT.no) (zPd.out ?_)
      show zG X (_ + 0) (_ + 0) _ 15 _ _
      refine z_icmp_ge (q := 18) (t := 64) hX dX2_costOf_15 (by decide) ⟨by omega, by omega⟩ ⟨by omega, by omega⟩ rfl (fun h15 => ?_) (fun h15 => ?_)
      · exact absurd h15 (by omega)
      · refine z_aload_n (i := 1) (q := 19) hX dX2_costOf_18 rfl rfl rfl ?_
        refine zr_getN (C := RX7) (T := TX7) (N := 3) (q := 22) hX ciX7 1 rfl (by decide) in_X7 dX2_costOf_19 (zNF_at 27 rfl) (fun H h => cI.rd h (by first | assumption | exact Or.inl (by assumption) | exact Or.inr (by first | assumption | exact upm_same _ _ _ | exact (upm_ne _ _ (by first | assumption | exact Ne.symm (by assumption) | omega | exact ne_mp (m := m) (by assumption) (by assumption) | exact Ne.symm (ne_mp (m := m) (by assumption) (by assumption)) | exact ne_mp (m := w) (by assumption) (by assumption) | exact Ne.symm (ne_mp (m := w) (by assumption) (by assumption)))).trans (by first | assumption | exact upm_same _ _ _ | exact (upm_ne _ _ (by first | assumption | exact Ne.symm (by assumption) | omega | exact ne_mp (m := m) (by assumption) (by assumption) | exact Ne.symm (ne_mp (m := m) (by assumption) (by assumption)) | exact ne_mp (m := w) (by assumption) (by assumption) | exact Ne.symm (ne_mp (m := w) (by assumption) (by assumption)))).trans (by first | assumption | exact upm_same _ _ _ | exact (upm_ne _ _ (by first | assumption | exact Ne.symm (by assumption) | omega | exact ne_mp (m := m) (by assumption) (by assumption) | exact Ne.symm (ne_mp (m := m) (by assumption) (by assumption)) | exact ne_mp (m := w) (by assumption) (by assumption) | exact Ne.symm (ne_mp (m := w) (by assumption) (by assumption)))).trans (by first | assumption | exact upm_same _ _ _))))) rfl (by decide) rfl) rfl ?_
        refine z_iload_n (i := 3) (q := 23) hX dX2_costOf_22 rfl rfl rfl ?_
        refine z_V (ci := ciJ2) (T := TJ2) (N := 3) (na := 1) hX dX2_costOf_23 (c_J2_get D A (Or.inl y4) (by omega) (by rw [Int.toNat_natCast]; exact q1) (by omega)) rfl q548 q471 q472 q101 q473 (by decide +kernel) ⟨Nat.le_of_ble_eq_true rfl, Nat.le_of_ble_eq_true rfl⟩ rfl rfl (Nat.le_of_ble_eq_true rfl) rfl (by first | exact Nat.le_of_ble_eq_true rfl | (show _ + 0 ≤ 0; omega)) (by first | exact Nat.le_of_ble_eq_true rfl | (show _ + 0 ≤ 0; omega)) (fun H h => ⟨h, h.obL (Or.inl y4)⟩) (fun E a => zT.no) (zPd.out ?_)
        show zG X (_ + 0) (_ + 0) _ 26 _ _
        refine zr_cast (q := 29) (C := RX8) (T := TX8) (N := 2) hX ciX8 rfl dX2_costOf_26 q549 (fun H h => cI.obE h (by first | assumption | exact Or.inl (by assumption) | exact Or.inr (by first | assumption | exact upm_same _ _ _ | exact (upm_ne _ _ (by first | assumption | exact Ne.symm (by assumption) | omega | exact ne_mp (m := m) (by assumption) (by assumption) | exact Ne.symm (ne_mp (m := m) (by assumption) (by assumption)) | exact ne_mp (m := w) (by assumption) (by assumption) | exact Ne.symm (ne_mp (m := w) (by assumption) (by assumption)))).trans (by first | assumption | exact upm_same _ _ _ | exact (upm_ne _ _ (by first | assumption | exact Ne.symm (by assumption) | omega | exact ne_mp (m := m) (by assumption) (by assumption) | exact Ne.symm (ne_mp (m := m) (by assumption) (by assumption)) | exact ne_mp (m := w) (by assumption) (by assumption) | exact Ne.symm (ne_mp (m := w) (by assumption) (by assumption)))).trans (by first | assumption | exact upm_same _ _ _ | exact (upm_ne _ _ (by first | assumption | exact Ne.symm (by assumption) | omega | exact ne_mp (m := m) (by assumption) (by assumption) | exact Ne.symm (ne_mp (m := m) (by assumption) (by assumption)) | exact ne_mp (m := w) (by assumption) (by assumption) | exact Ne.symm (ne_mp (m := w) (by assumption) (by assumption)))).trans (by first | assumption | exact upm_same _ _ _))))) rfl) rfl ?_
        refine z_V (ci := ciX8) (T := TX8) (N := 2) (na := 0) hX dX2_costOf_29 (c_X8_isVariable D A q2) rfl q550 q551 q552 q128 q553 (by decide +kernel) ⟨Nat.le_of_ble_eq_true rfl, Nat.le_of_ble_eq_true rfl⟩ rfl rfl (Nat.le_of_ble_eq_true rfl) rfl (by first | exact Nat.le_of_ble_eq_true rfl | (show _ + 0 ≤ 0; omega)) (by first | exact Nat.le_of_ble_eq_true rfl | (show _ + 0 ≤ 0; omega)) (fun H h => ⟨h, h.obE (Or.inl q3) rfl⟩) (fun E a => zT.no) (zPd.out ?_)
        show zG X (_ + 0) (_ + 0) _ 32 _ _
        refine z_ifB_eq (q := 35) (t := 58) hX dX2_costOf_32 (by decide) rfl (fun h32 => ?_) (fun h32 => ?_)
        · refine z_iinc (q := 61) hX dX2_costOf_58 rfl (Nat.le_of_ble_eq_true rfl) rfl rfl ?_
          refine z_goto (t := 7) hX dX2_costOf_61 (by decide) ?_
          refine ih hin _ _ _ _ ?_ rfl
          have hv : slt M t i = -1 := by simpa using h32
          have e9 : cosTk M t i = 0 := if_pos hv
          rw [hst, e9, Int.add_zero]
          exact ev
        · refine z_aload_n (i := 0) (q := 36) hX dX2_costOf_35 rfl rfl rfl ?_
          refine zr_get (C := RX2) (T := TX2) (N := 4) (q := 39) hX ciX2 3 rfl (by decide) in_X2 dX2_costOf_36 q212 (Or.inl rfl) (fun H h => cI.rd h (by first | assumption | exact Or.inl (by assumption) | exact Or.inr (by first | assumption | exact upm_same _ _ _ | exact (upm_ne _ _ (by first | assumption | exact Ne.symm (by assumption) | omega | exact ne_mp (m := m) (by assumption) (by assumption) | exact Ne.symm (ne_mp (m := m) (by assumption) (by assumption)) | exact ne_mp (m := w) (by assumption) (by assumption) | exact Ne.symm (ne_mp (m := w) (by assumption) (by assumption)))).trans (by first | assumption | exact upm_same _ _ _ | exact (upm_ne _ _ (by first | assumption | exact Ne.symm (by assumption) | omega | exact ne_mp (m := m) (by assumption) (by assumption) | exact Ne.symm (ne_mp (m := m) (by assumption) (by assumption)) | exact ne_mp (m := w) (by assumption) (by assumption) | exact Ne.symm (ne_mp (m := w) (by assumption) (by assumption)))).trans (by first | assumption | exact upm_same _ _ _ | exact (upm_ne _ _ (by first | assumption | exact Ne.symm (by assumption) | omega | exact ne_mp (m := m) (by assumption) (by assumption) | exact Ne.symm (ne_mp (m := m) (by assumption) (by assumption)) | exact ne_mp (m := w) (by assumption) (by assumption) | exact Ne.symm (ne_mp (m := w) (by assumption) (by assumption)))).trans (by first | assumption | exact upm_same _ _ _))))) rfl (by decide) rfl) rfl ?_
          refine z_aload_n (i := 0) (q := 40) hX dX2_costOf_39 rfl rfl rfl ?_
          refine zr_get (C := RX2) (T := TX2) (N := 4) (q := 43) hX ciX2 0 rfl (by decide) in_X2 dX2_costOf_40 q203 (Or.inl rfl) (fun H h => cI.rd h (by first | assumption | exact Or.inl (by assumption) | exact Or.inr (by first | assumption | exact upm_same _ _ _ | exact (upm_ne _ _ (by first | assumption | exact Ne.symm (by assumption) | omega | exact ne_mp (m := m) (by assumption) (by assumption) | exact Ne.symm (ne_mp (m := m) (by assumption) (by assumption)) | exact ne_mp (m := w) (by assumption) (by assumption) | exact Ne.symm (ne_mp (m := w) (by assumption) (by assumption)))).trans (by first | assumption | exact upm_same _ _ _ | exact (upm_ne _ _ (by first | assumption | exact Ne.symm (by assumption) | omega | exact ne_mp (m := m) (by assumption) (by assumption) | exact Ne.symm (ne_mp (m := m) (by assumption) (by assumption)) | exact ne_mp (m := w) (by assumption) (by assumption) | exact Ne.symm (ne_mp (m := w) (by assumption) (by assumption)))).trans (by first | assumption | exact upm_same _ _ _ | exact (upm_ne _ _ (by first | assumption | exact Ne.symm (by assumption) | omega | exact ne_mp (m := m) (by assumption) (by assumption) | exact Ne.symm (ne_mp (m := m) (by assumption) (by assumption)) | exact ne_mp (m := w) (by assumption) (by assumption) | exact Ne.symm (ne_mp (m := w) (by assumption) (by assumption)))).trans (by first | assumption | exact upm_same _ _ _))))) rfl (by decide) rfl) rfl ?_
          refine z_aload_n (i := 1) (q := 44) hX dX2_costOf_43 rfl rfl rfl ?_
          refine z_iload_n (i := 3) (q := 45) hX dX2_costOf_44 rfl rfl rfl ?_
          refine z_V (ci := ciX3) (T := TX3) (N := 2) (na := 3) hX dX2_costOf_45 (c_X3_fill D A (ta := tc) (L := ll) (T := tx M) (N := (M 0).toNat) (rows := rws M t) (k := (i : Int)) (cM_col hne) cM_tc h2 h3 (by omega) hx0 (hx0.rows hok (by omega)) (by omega)) rfl q554 q555 q556 q102 q557 (by decide +kernel) ⟨Nat.le_of_ble_eq_true rfl, Nat.le_of_ble_eq_true rfl⟩ rfl rfl (Nat.le_of_ble_eq_true rfl) rfl (by first | exact Nat.le_of_ble_eq_true rfl | (show _ + 0 ≤ 0; omega)) (by first | exact Nat.le_of_ble_eq_true rfl | (show _ + 0 ≤ 0; omega)) (fun H h => ⟨h, h.obE (Or.inr (cM_col hne)) rfl⟩) (fun E a => zT.no) (zPe.out (fun x45 hx45 => ?_))
          show zG X (_ + 0) (_ + 0) _ 48 _ _
          rw [show upm (upm (cM D m col tc n1 f1) col (eO ciX3 [.ref tc, zI ((rws M t).length : Nat)])) tc (eC (aQ D 6 40 x45)) = cM D m col tc ((rws M t).length : Nat) x45 from cM_cM (n := n1) (f := f1) hne]
          have hcol : wCol D w (cM D m col tc ((rws M t).length : Nat) x45) col tc (rws M t).length x45 (cR (tx M) (rws M t) i) := ⟨cM_col hne, cM_tc, k3, hx45⟩
          have h1' := (hb.cM hc ((rws M t).length : Nat) x45).2.1
          refine z_iload_n (i := 2) (q := 49) hX dX2_costOf_48 rfl rfl rfl ?_
          refine z_aload_n (i := 0) (q := 50) hX dX2_costOf_49 rfl rfl rfl ?_
          refine zr_get (C := RX2) (T := TX2) (N := 4) (q := 53) hX ciX2 3 rfl (by decide) in_X2 dX2_costOf_50 q212 (Or.inl rfl) (fun H h => cI.rd h h1' rfl (by decide) rfl) rfl ?_
          refine z_V (ci := ciX3) (T := TX3) (N := 2) (na := 0) hX dX2_costOf_53 (c_X3_leastCost D A hcol) rfl q563 q564 q565 q102 q566 (by decide +kernel) ⟨Nat.le_of_ble_eq_true rfl, Nat.le_of_ble_eq_true rfl⟩ rfl rfl (Nat.le_of_ble_eq_true rfl) rfl (by first | exact Nat.le_of_ble_eq_true rfl | (show _ + 0 ≤ 0; omega)) (by first | exact Nat.le_of_ble_eq_true rfl | (show _ + 0 ≤ 0; omega)) (fun H h => ⟨h, h.obE (Or.inr (cM_col hne)) rfl⟩) (fun E a => zT.no) (zPd.out ?_)
          show zG X (_ + 0) (_ + 0) _ 56 _ _
          refine z_iadd (q := 57) hX dX2_costOf_56 rfl ?_
          refine z_istore_n (i := 2) (q := 58) hX dX2_costOf_57 rfl (Nat.le_of_ble_eq_true rfl) rfl rfl ?_
          refine z_iinc (q := 61) hX dX2_costOf_58 rfl (Nat.le_of_ble_eq_true rfl) rfl rfl ?_
          refine z_goto (t := 7) hX dX2_costOf_61 (by decide) ?_
          refine ih hin _ _ _ _ ?_ rfl
          have hv : slt M t i ≠ -1 := by simpa using h32
          have e9 : cosTk M t i = cosM M t i (wayM M t i) := if_neg hv
          rw [hst, e9, ev, wayM_eq, cosM_eq, Int.add_assoc]
    · have hiN : i = (nTl M (fst M t)).toNat := by omega
      refine z_iload_n (i := 3) (q := 8) hX dX2_costOf_7 rfl rfl rfl ?_
      refine z_aload_n (i := 1) (q := 9) hX dX2_costOf_8 rfl rfl rfl ?_
      refine zr_getN (C := RX7) (T := TX7) (N := 3) (q := 12) hX ciX7 1 rfl (by decide) in_X7 dX2_costOf_9 (zNF_at 27 rfl) (fun H h => cI.rd h (by first | assumption | exact Or.inl (by assumption) | exact Or.inr (by first | assumption | exact upm_same _ _ _ | exact (upm_ne _ _ (by first | assumption | exact Ne.symm (by assumption) | omega | exact ne_mp (m := m) (by assumption) (by assumption) | exact Ne.symm (ne_mp (m := m) (by assumption) (by assumption)) | exact ne_mp (m := w) (by assumption) (by assumption) | exact Ne.symm (ne_mp (m := w) (by assumption) (by assumption)))).trans (by first | assumption | exact upm_same _ _ _ | exact (upm_ne _ _ (by first | assumption | exact Ne.symm (by assumption) | omega | exact ne_mp (m := m) (by assumption) (by assumption) | exact Ne.symm (ne_mp (m := m) (by assumption) (by assumption)) | exact ne_mp (m := w) (by assumption) (by assumption) | exact Ne.symm (ne_mp (m := w) (by assumption) (by assumption)))).trans (by first | assumption | exact upm_same _ _ _ | exact (upm_ne _ _ (by first | assumption | exact Ne.symm (by assumption) | omega | exact ne_mp (m := m) (by assumption) (by assumption) | exact Ne.symm (ne_mp (m := m) (by assumption) (by assumption)) | exact ne_mp (m := w) (by assumption) (by assumption) | exact Ne.symm (ne_mp (m := w) (by assumption) (by assumption)))).trans (by first | assumption | exact upm_same _ _ _))))) rfl (by decide) rfl) rfl ?_
      refine z_V (ci := ciJ2) (T := TJ2) (N := 3) (na := 0) hX dX2_costOf_12 (c_J2_size D A (Or.inl y4)) rfl q547 q467 q468 q101 q469 (by decide +kernel) ⟨Nat.le_of_ble_eq_true rfl, Nat.le_of_ble_eq_true rfl⟩ rfl rfl (Nat.le_of_ble_eq_true rfl) rfl (by first | exact Nat.le_of_ble_eq_true rfl | (show _ + 0 ≤ 0; omega)) (by first | exact Nat.le_of_ble_eq_true rfl | (show _ + 0 ≤ 0; omega)) (fun H h => ⟨h, h.obL (Or.inl y4)⟩) (fun E a => zT.no) (zPd.out ?_)
      show zG X (_ + 0) (_ + 0) _ 15 _ _
      refine z_icmp_ge (q := 18) (t := 64) hX dX2_costOf_15 (by decide) ⟨by omega, by omega⟩ ⟨by omega, by omega⟩ rfl (fun h15 => ?_) (fun h15 => ?_)
      · refine z_iload_n (i := 2) (q := 65) hX dX2_costOf_64 rfl rfl rfl ?_
        exact z_iret hX dX2_costOf_65 (by first | exact Nat.le_of_ble_eq_true rfl | (show (_ : Nat) ≤ 0; omega)) (by first | exact Nat.le_of_ble_eq_true rfl | (show (_ : Nat) ≤ 0; omega)) rfl (fun H h => ⟨(n1, f1), by rw [hct, ev, hiN], trivial, h⟩)
      · exact absurd (by omega) h15
  refine z_aload_n (i := 1) (q := 1) hX dX2_costOf_0 rfl rfl rfl ?_
  refine z_V (ci := ciX7) (T := TX7) (N := 3) (na := 0) hX dX2_costOf_1 (c_X7_cost D A hx0) rfl q524 q525 q526 q127 q527 (by decide +kernel) ⟨Nat.le_of_ble_eq_true rfl, Nat.le_of_ble_eq_true rfl⟩ rfl rfl (Nat.le_of_ble_eq_true rfl) rfl (by first | exact Nat.le_of_ble_eq_true rfl | (show _ + 0 ≤ 0; omega)) (by first | exact Nat.le_of_ble_eq_true rfl | (show _ + 0 ≤ 0; omega)) (fun H h => ⟨h, h.obE (Or.inl y1) rfl⟩) (fun E a => zT.no) (zPd.out ?_)
  show zG X (_ + 0) (_ + 0) _ 4 _ _
  refine z_istore_n (i := 2) (q := 5) hX dX2_costOf_4 rfl (Nat.le_of_ble_eq_true rfl) rfl rfl ?_
  refine z_iconst (q := 6) hX dX2_costOf_5 rfl ?_
  refine z_istore_n (i := 3) (q := 7) hX dX2_costOf_6 rfl (Nat.le_of_ble_eq_true rfl) rfl rfl ?_
  rw [costT_eq]
  refine zG.mono (K 0 (Nat.zero_le _) _ 0 n0 f0 (by show _ = _ + (0 : Int); rw [Int.add_zero]) rfl) (fun H h => by rw [cM_self hc1 hc2]; exact h)
