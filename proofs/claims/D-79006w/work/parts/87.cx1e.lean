/-! THE CLASS: the compactor changed: change, cut, setThreshold -/
set_option maxRecDepth 100000
/-- the rows before, with one more -/
def psA (ps : List (Int → Int)) (M : Int → Int) : List (Int → Int) := (if ps.length = 10 then ps.drop 1 else ps) ++ [M]
theorem kHs.sn {D : zD} {w m : zMp} {K : Nat → Prop} {ps : List (Int → Int)} {xs : List Nat} {a : Nat} {M : Int → Int} (h : kHs D w m K ps xs) (hl : ps.length ≤ 9) (ha : kLog D w m K a M) : kHs D w m K (ps ++ [M]) (xs ++ [a]) := by
  refine ⟨by rw [List.length_append, List.length_append, h.1]; rfl, by rw [List.length_append]; show ps.length + 1 ≤ 10; omega, fun i M2 hi => ?_⟩
  have h1 := h.1
  by_cases q : i < ps.length
  · rw [List.getElem?_append_left q] at hi
    obtain ⟨a2, k1, k2⟩ := h.2.2 i M2 hi
    exact ⟨a2, by rw [List.getElem?_append_left (by omega)]; exact k1, k2⟩
  · rw [List.getElem?_append_right (by omega)] at hi
    by_cases q2 : i - ps.length = 0
    · rw [q2] at hi
      cases hi
      exact ⟨a, by rw [List.getElem?_append_right (by omega), h1, q2]; rfl, ha⟩
    · rw [List.getElem?_eq_none (by show 1 ≤ _; omega)] at hi
      cases hi
theorem kHs.dr {D : zD} {w m : zMp} {K : Nat → Prop} {ps : List (Int → Int)} {xs : List Nat} (h : kHs D w m K ps xs) : kHs D w m K (ps.drop 1) (xs.eraseIdx 0) := by
  have h1 := h.1
  have e : xs.eraseIdx 0 = xs.drop 1 := by cases xs <;> rfl
  rw [e]
  refine ⟨by rw [List.length_drop, List.length_drop, h1], by rw [List.length_drop]; have := h.2.1; omega, fun i M hi => ?_⟩
  rw [List.getElem?_drop] at hi
  obtain ⟨a, k1, k2⟩ := h.2.2 _ M hi
  exact ⟨a, by rw [List.getElem?_drop]; exact k1, k2⟩
theorem kLog.it {D : zD} {w m : zMp} {K : Nat → Prop} {a : Nat} {M : Int → Int} (h : kLog D w m K a M) : ∃ fs, w a = some (eO ciX2 fs) := by
  obtain ⟨h0, ll, ta, col, tc, mc, ls, tf, h1, -⟩ := h
  exact ⟨_, h1⟩
section FRZ
variable {D : zD} {X : zX} {own : String} {cc : ByteArray} {nL : Nat} {ret : Option FieldType} {hh : zHh} {rm : Room} {A : Nat → Prop} {P : Option Value → Heap → Prop} {Ex : String → Nat → Heap → Prop} {nm : String} {k n : Nat} {pc : Nat} {L : List (Option Value)} {st : List Value} {w mR : zMp} {a ll ta col : Nat} {th mc : Int} {ls : List Nat} {tf : Nat → Option Nat}
/-- a new log, from now on never changed -/
theorem zG.frzL (hd : lgD a ll ta) (hR : mR a = none ∧ mR ll = none ∧ mR ta = none) (kk : ∀ w2, zLe w w2 → w2 a = some (eO ciX2 [.ref ll, .ref ta, zI th, .ref col]) → w2 ll = some (eL mc ls) → w2 ta = some (eC (aQ D 7 12 tf)) → zG X k n (cI D A w2 mR) pc L st) : zG X k n (cI D A w (logM D mR a ll ta col th mc ls tf)) pc L st := by
  refine zG.know (φ := w a = none ∧ w ll = none ∧ w ta = none) (fun H h => ⟨h.w_of logM_b, h.w_of (logM_ll hd), h.w_of (logM_ta hd)⟩) (fun hw => ?_)
  obtain ⟨q1, q2, q3⟩ := hw
  have hd0 := hd
  obtain ⟨d1, d2, d3⟩ := hd0
  have e1 : dlm (logM D mR a ll ta col th mc ls tf) a = upm (upm mR ll (eL mc ls)) ta (eC (aQ D 7 12 tf)) := dlm_upm _ _ ((upm_ne _ _ (Ne.symm d2)).trans ((upm_ne _ _ (Ne.symm d1)).trans hR.1))
  refine zc_frz a logM_b ?_
  rw [e1]
  refine zc_frz ta (upm_same _ _ _) ?_
  rw [dlm_upm _ _ ((upm_ne _ _ d3).trans hR.2.2)]
  refine zc_frz ll (upm_same _ _ _) ?_
  rw [dlm_upm _ _ hR.2.1]
  exact kk _ (((zLe.up q1).tr (zLe.up ((upm_ne _ _ d2).trans q3))).tr (zLe.up ((upm_ne _ _ (Ne.symm d3)).trans ((upm_ne _ _ d1).trans q2)))) ((upm_ne _ _ (Ne.symm d1)).trans ((upm_ne _ _ (Ne.symm d2)).trans (upm_same _ _ _))) (upm_same _ _ _) ((upm_ne _ _ d3).trans (upm_same _ _ _))
end FRZ
/-- what a log made new is beside -/
def nMR (D : zD) (m : zMp) (x : Nat × Nat × Nat × Nat) : zMp := cM D m x.2.2.1 x.2.2.2 0 (fun _ => none)
theorem nlog {D : zD} {m : zMp} {K : Nat → Prop} {a : Nat} {e : zE} {x : Nat × Nat × Nat × Nat} (hK : zHk K m) (hma : m a = none) (hx : lgF (upm m a e) a x) : dlm (upm m a e) a = m ∧ lgD a x.1 x.2.1 ∧ lgC a x.1 x.2.1 x.2.2.1 x.2.2.2 ∧ mLe m (nMR D m x) ∧ zFr K m (nMR D m x) ∧ cH D (nMR D m x) x.2.2.1 x.2.2.2 ∧ (nMR D m x a = none ∧ nMR D m x x.1 = none ∧ nMR D m x x.2.1 = none) ∧ (¬ K x.2.2.1 ∧ ¬ K x.2.2.2) ∧ (m x.1 = none ∧ m x.2.1 = none) := by
  obtain ⟨hd, ⟨h1, h2, h3, h4⟩, c1, c2, c3, c4, c5, c6, c7⟩ := hx
  have k1 := (upm_none.mp h1).2
  have k2 := (upm_none.mp h2).2
  have k3 := (upm_none.mp h3).2
  have k4 := (upm_none.mp h4).2
  have n3 := hK.no k3
  have n4 := hK.no k4
  exact ⟨dlm_upm _ _ hma, hd, ⟨⟨c2, c3, c4⟩, c5, c6, c7⟩, (mLe.up k3).tr (mLe.up ((upm_ne _ _ (Ne.symm c1)).trans k4)), zFr.sc n3 n4, ⟨0, _, cM_col c1, cM_tc⟩, ⟨(cM_ot (Ne.symm c2) (Ne.symm c5)).trans hma, (cM_ot (Ne.symm c3) (Ne.symm c6)).trans k1, (cM_ot (Ne.symm c4) (Ne.symm c7)).trans k2⟩, ⟨n3, n4⟩, k1, k2⟩
theorem mLe_logM {D : zD} {mR : zMp} {a ll ta col : Nat} {th mc : Int} {ls : List Nat} {tf : Nat → Option Nat} (hd : lgD a ll ta) (hR : mR a = none ∧ mR ll = none ∧ mR ta = none) : mLe mR (logM D mR a ll ta col th mc ls tf) := ((mLe.up hR.2.1).tr (mLe.up ((upm_ne _ _ hd.2.2).trans hR.2.2))).tr (mLe.up ((upm_ne _ _ (Ne.symm hd.2.1)).trans ((upm_ne _ _ (Ne.symm hd.1)).trans hR.1)))
theorem zFr_logM {D : zD} {K : Nat → Prop} {mR : zMp} {a ll ta col : Nat} {th mc : Int} {ls : List Nat} {tf : Nat → Option Nat} (hK : zHk K mR) (hR : mR a = none ∧ mR ll = none ∧ mR ta = none) : zFr K mR (logM D mR a ll ta col th mc ls tf) := ((zFr.up (hK.no hR.2.1)).tr (zFr.up (hK.no hR.2.2))).tr (zFr.up (hK.no hR.1))
section CU
variable {M : Int → Int} {l : Int}
theorem cutM_ok (h : zOk M) (h0 : 0 ≤ l) (h1 : l ≤ M 0) : zOk (cutM M l) := by
  have hM := h.1
  have e1 : cutM M l 1 = M 1 := cutM_ne (by decide)
  refine ⟨by rw [cutM_0, e1]; omega, fun j j0 j1 => ?_, fun t k t0 t1 k0 k1 => ?_, fun j j0 j1 => ?_⟩
  · rw [cutM_0] at j1
    have h2 := h.2.1 j j0 (by omega)
    exact ⟨zRaw.of (cutM_ne (by omega)) (fun i i0 i1 => cutM_ne (by omega)) h2.1, by rw [cutM_ne (by omega)]; exact h2.2⟩
  · have e : slt (cutM M l) t k = slt M t k := cutM_ne (by omega)
    rw [e]
    exact h.2.2.1 t k t0 t1 k0 k1
  · rw [cutM_0] at j1
    have h2 := h.2.1 j j0 (by omega)
    have e43 : cutM M l (43 + j) = M (43 + j) := cutM_ne (by omega)
    have hm : j ∈ rws (cutM M l) (M (43 + j)) := rws_mem.mpr ⟨j0, by rw [cutM_0]; omega, e43⟩
    have hT := isT_mem (M := cutM M l) ⟨h2.2.1, by omega⟩ hm
    have hf := cutM_fst h0 h1 hT
    have hf0 : 0 ≤ fst M (M (43 + j)) := by
      have := isT_fst hT
      rw [hf] at this
      exact (rws_mem.mp this).1
    have h3 := h.2.2.2 j j0 (by omega)
    refine ⟨by rw [e43, hf, cutM_tx j0, cutM_tx hf0]; exact h3.1, fun k k0 k1 hs => ?_⟩
    unfold nTl at k1
    rw [cutM_tx j0] at k1
    have e : slt (cutM M l) (cutM M l (43 + j)) k = slt M (M (43 + j)) k := by rw [e43]; exact cutM_ne (by omega)
    rw [e] at hs
    unfold tkl
    rw [e43, hf, cutM_tx j0, cutM_tx hf0]
    exact h3.2 k k0 k1 hs
end CU
/-- a row with another threshold -/
def thM (M : Int → Int) (v : Int) : Int → Int := fun i => if i = 1 then v else M i
section TH
variable {M : Int → Int} {v : Int}
theorem thM_ne {i : Int} (h : i ≠ 1) : thM M v i = M i := if_neg h
theorem thM_1 : thM M v 1 = v := if_pos rfl
theorem thM_tx {l : Int} (h : 0 ≤ l) : tx (thM M v) l = tx M l := tx_congr (thM_ne (by omega)) (fun i i0 i1 => thM_ne (by omega))
theorem thM_rws (t : Int) : rws (thM M v) t = rws M t := by
  unfold rws
  rw [thM_ne (by decide)]
  refine rF_congr (fun i hi => ?_)
  unfold ofP
  rw [thM_ne (by omega)]
theorem thM_fst (t : Int) : fst (thM M v) t = fst M t := by rw [fst_rws, fst_rws, thM_rws]
theorem thM_isT (t : Int) : isT (thM M v) t = isT M t := by
  unfold isT
  rw [thM_fst]
theorem thM_slt {t k : Int} (h0 : 0 ≤ t) (h1 : 0 ≤ k) : slt (thM M v) t k = slt M t k := thM_ne (by omega)
theorem thM_ok (h : zOk M) (hv : 0 ≤ v ∧ v ≤ 100) : zOk (thM M v) := by
  have hM := h.1
  have e0 : thM M v 0 = M 0 := thM_ne (by decide)
  refine ⟨by rw [e0, thM_1]; omega, fun j j0 j1 => ?_, fun t k t0 t1 k0 k1 => ?_, fun j j0 j1 => ?_⟩
  · rw [e0] at j1
    have h2 := h.2.1 j j0 j1
    exact ⟨zRaw.of (thM_ne (by omega)) (fun i i0 i1 => thM_ne (by omega)) h2.1, by rw [thM_ne (by omega)]; exact h2.2⟩
  · rw [thM_slt t0 k0]
    exact h.2.2.1 t k t0 t1 k0 k1
  · rw [e0] at j1
    have e43 : thM M v (43 + j) = M (43 + j) := thM_ne (by omega)
    have hfo := fst_of j0 j1 rfl
    have h3 := h.2.2.2 j j0 j1
    have h2 := h.2.1 j j0 j1
    refine ⟨by rw [e43, thM_fst, thM_tx j0, thM_tx hfo]; exact h3.1, fun k k0 k1 hs => ?_⟩
    unfold nTl at k1
    rw [thM_tx j0] at k1
    rw [e43, thM_slt h2.2.1 k0] at hs
    unfold tkl
    rw [e43, thM_fst, thM_tx j0, thM_tx hfo]
    exact h3.2 k k0 k1 hs
theorem thM_ts {w : zMp} {tf : Nat → Option Nat} (h : zOk M) (hts : wTs w tf M) : wTs w tf (thM M v) := fun t ht => by
  rcases hts t ht with ⟨p1, p2⟩ | ⟨p1, z, p2, p3⟩
  · exact Or.inl ⟨by rw [thM_isT]; exact p1, p2⟩
  · refine Or.inr ⟨by rw [thM_isT]; exact p1, z, p2, ?_⟩
    have rt := isT_row h p1
    have n5 := nT_range (tx M (fst M t))
    unfold wTm
    have en : nTl (thM M v) (fst M t) = nTl M (fst M t) := by unfold nTl; rw [thM_tx rt.1]
    rw [thM_fst, thM_tx rt.1, en, thM_rws]
    refine p3.congr rfl (fun k hk => (thM_slt (by omega) (by omega)).symm) (fun k hk => ?_) rfl
    unfold tkl
    rw [thM_tx rt.1]
theorem thM_ln {w : zMp} {ls : List Nat} (h : wLines w ls (M 0).toNat (tx M)) : wLines w ls (thM M v 0).toNat (tx (thM M v)) := by
  rw [thM_ne (by decide)]
  refine ⟨h.1, fun i hi => ?_⟩
  obtain ⟨a, h1, h2⟩ := h.2 i hi
  exact ⟨a, h1, by rw [thM_tx (by omega)]; exact h2⟩
end TH
abbrev rmX1_change : Room := { frames := 7, cells := 1, slots := 61, locals := 171 }
set_option maxHeartbeats 4000000 in
theorem c_X1_change (D : zD) (A : Nat → Prop) {w m : zMp} {b : Nat} {K : Nat → Prop} {M : Int → Int} {ps : List (Int → Int)} {sv : Option (Int → Int)} {rp : Option (Int × Int × Int × Int)} {s : zS} {cs : Option (List zCn)} {a : Nat} {M2 : Int → Int} (hb : zX1 D w m K b M ps sv rp s cs) (hK : zHk K m) (ha : kLog D w m K a M2) : zC D yX1_change cX1_change 3 none none rmX1_change A [.ref b, .ref a] (cI D A w m) (zPe (fun (m2 : zMp) => none) (fun m2 => zFr K m m2 ∧ zX1 D w m2 K b M2 (psA ps M) sv rp s cs) (fun m2 => cI D A w m2)) (zNo) := by
  refine zC_start (L := [some (.ref b), some (.ref a), none]) (by decide) (Nat.le_of_ble_eq_true rfl) rfl (fun X hX => ?_)
  obtain ⟨lg, hl1, ia, sa, ra, ca, h1, h2, ⟨mc, xs, h3, h4⟩, h5, h6, ⟨⟨f, h7, h7b⟩, h7c⟩, h8, h9, h10, h11⟩ := hb
  obtain ⟨fl, hlg⟩ := h2.it
  have hx1 := h4.1
  have hx2 := h4.2.1
  have hbl : b ≠ hl1 := fun e => by rw [e, h3] at h1; cases h1
  have hil : ia ≠ hl1 := fun e => by rw [e, h3] at h7; cases h7
  have hib : ia ≠ b := fun e => by rw [e, h1] at h7; cases h7
  have fin : ∀ (mc2 : Int) (ys : List Nat), kHs D w m K (psA ps M) ys → zFr K m (upm (upm m hl1 (eL mc2 ys)) b (eO ciX1 [.ref a, va_rf sa, .ref hl1, va_rf ra, .ref ia, zI s.length, va_rf ca])) ∧ zX1 D w (upm (upm m hl1 (eL mc2 ys)) b (eO ciX1 [.ref a, va_rf sa, .ref hl1, va_rf ra, .ref ia, zI s.length, va_rf ca])) K b M2 (psA ps M) sv rp s cs := by
    intro mc2 ys hys
    have c1 := upL_cg (D := D) (y := eL mc2 ys) h3
    have hm1 : upm m hl1 (eL mc2 ys) b = some (eO ciX1 [.ref lg, va_rf sa, .ref hl1, va_rf ra, .ref ia, zI s.length, va_rf ca]) := (upm_ne _ _ hbl).trans h1
    have c2 := zX1.cg (D := D) (w := w) (ci := 0) (y := eO ciX1 [.ref a, va_rf sa, .ref hl1, va_rf ra, .ref ia, zI s.length, va_rf ca]) hm1
    exact ⟨(zFr.up h10).tr (zFr.up h9), a, hl1, ia, sa, ra, ca, upm_same _ _ _, (ha.of c1.1).of c2.1, ⟨mc2, ys, (upm_ne _ _ (Ne.symm hbl)).trans (upm_same _ _ _), (hys.of c1.1).of c2.1⟩, (h5.of c1.1).of c2.1, (h6.of c1.2).of c2.2, ⟨⟨f, (upm_ne _ _ hib).trans ((upm_ne _ _ hil).trans h7), h7b⟩, h7c⟩, h8, h9, h10, h11⟩
  by_cases h10l : ps.length = 10
  · obtain ⟨x0, hx0⟩ : ∃ x0, xs[0]? = some x0 := ⟨_, List.getElem?_eq_getElem (by omega)⟩
    obtain ⟨M0, hM0⟩ : ∃ M0, ps[0]? = some M0 := ⟨_, List.getElem?_eq_getElem (by omega)⟩
    obtain ⟨x1, k1, k2⟩ := h4.2.2 0 M0 hM0
    have ex : x0 = x1 := Option.some.inj (hx0.symm.trans k1)
    subst ex
    obtain ⟨fl0, hlg0⟩ := k2.it
    have hys : kHs D w m K (psA ps M) (xs.eraseIdx 0 ++ [lg]) := by
      unfold psA
      rw [if_pos h10l]
      exact h4.dr.sn (by rw [List.length_drop]; omega) h2
    have hel : (xs.eraseIdx 0).length ≤ 40 := by rw [List.length_eraseIdx]; split <;> omega
    refine z_aload_n (i := 0) (q := 1) hX dX1_change_0 rfl rfl rfl ?_
    refine zr_get (C := RX1) (T := TX1) (N := 7) (q := 4) hX ciX1 2 rfl (by decide) in_X1 dX1_change_1 q226 (Or.inl rfl) (fun H h => cI.rd h (by first | assumption | exact Or.inl (by assumption) | exact Or.inr (by first | assumption | exact upm_same _ _ _ | exact (upm_ne _ _ (by first | assumption | exact Ne.symm (by assumption) | omega | exact ne_mp (m := m) (by assumption) (by assumption) | exact Ne.symm (ne_mp (m := m) (by assumption) (by assumption)) | exact ne_mp (m := w) (by assumption) (by assumption) | exact Ne.symm (ne_mp (m := w) (by assumption) (by assumption)))).trans (by first | assumption | exact upm_same _ _ _ | exact (upm_ne _ _ (by first | assumption | exact Ne.symm (by assumption) | omega | exact ne_mp (m := m) (by assumption) (by assumption) | exact Ne.symm (ne_mp (m := m) (by assumption) (by assumption)) | exact ne_mp (m := w) (by assumption) (by assumption) | exact Ne.symm (ne_mp (m := w) (by assumption) (by assumption)))).trans (by first | assumption | exact upm_same _ _ _ | exact (upm_ne _ _ (by first | assumption | exact Ne.symm (by assumption) | omega | exact ne_mp (m := m) (by assumption) (by assumption) | exact Ne.symm (ne_mp (m := m) (by assumption) (by assumption)) | exact ne_mp (m := w) (by assumption) (by assumption) | exact Ne.symm (ne_mp (m := w) (by assumption) (by assumption)))).trans (by first | assumption | exact upm_same _ _ _))))) rfl (by decide) rfl) rfl ?_
    refine z_V (ci := ciJ2) (T := TJ2) (N := 3) (na := 0) hX dX1_change_4 (c_J2_size D A (Or.inr h3)) rfl q993 q467 q468 q101 q469 (by decide +kernel) ⟨Nat.le_of_ble_eq_true rfl, Nat.le_of_ble_eq_true rfl⟩ rfl rfl (Nat.le_of_ble_eq_true rfl) rfl (by first | exact Nat.le_of_ble_eq_true rfl | (show _ + 0 ≤ 1; omega)) (by first | exact Nat.le_of_ble_eq_true rfl | (show _ + 0 ≤ 61; omega)) (fun H h => ⟨h, h.obL (Or.inr h3)⟩) (fun E a => zT.no) (zPd.out ?_)
    show zG X (_ + 0) (_ + 0) _ 7 _ _
    refine z_bipush (q := 9) hX dX1_change_7 (by decide) rfl ?_
    refine z_icmp_ne (q := 12) (t := 24) hX dX1_change_9 (by decide) ⟨by omega, by omega⟩ (by decide) rfl (fun h9 => ?_) (fun h9 => ?_)
    · exact absurd (by omega) h9
    · refine z_aload_n (i := 0) (q := 13) hX dX1_change_12 rfl rfl rfl ?_
      refine zr_get (C := RX1) (T := TX1) (N := 7) (q := 16) hX ciX1 2 rfl (by decide) in_X1 dX1_change_13 q226 (Or.inl rfl) (fun H h => cI.rd h (by first | assumption | exact Or.inl (by assumption) | exact Or.inr (by first | assumption | exact upm_same _ _ _ | exact (upm_ne _ _ (by first | assumption | exact Ne.symm (by assumption) | omega | exact ne_mp (m := m) (by assumption) (by assumption) | exact Ne.symm (ne_mp (m := m) (by assumption) (by assumption)) | exact ne_mp (m := w) (by assumption) (by assumption) | exact Ne.symm (ne_mp (m := w) (by assumption) (by assumption)))).trans (by first | assumption | exact upm_same _ _ _ | exact (upm_ne _ _ (by first | assumption | exact Ne.symm (by assumption) | omega | exact ne_mp (m := m) (by assumption) (by assumption) | exact Ne.symm (ne_mp (m := m) (by assumption) (by assumption)) | exact ne_mp (m := w) (by assumption) (by assumption) | exact Ne.symm (ne_mp (m := w) (by assumption) (by assumption)))).trans (by first | assumption | exact upm_same _ _ _ | exact (upm_ne _ _ (by first | assumption | exact Ne.symm (by assumption) | omega | exact ne_mp (m := m) (by assumption) (by assumption) | exact Ne.symm (ne_mp (m := m) (by assumption) (by assumption)) | exact ne_mp (m := w) (by assumption) (by assumption) | exact Ne.symm (ne_mp (m := w) (by assumption) (by assumption)))).trans (by first | assumption | exact upm_same _ _ _))))) rfl (by decide) rfl) rfl ?_
      refine z_iconst (q := 17) hX dX1_change_16 rfl ?_
      refine zG.top (v2 := zI ((0 : Nat) : Int)) rfl ?_
      refine z_V (ci := ciJ2) (T := TJ2) (N := 3) (na := 1) hX dX1_change_17 (c_J2_remove D A h3 (by omega) hx0) rfl q994 q995 q996 q101 q997 (by decide +kernel) ⟨Nat.le_of_ble_eq_true rfl, Nat.le_of_ble_eq_true rfl⟩ rfl rfl (Nat.le_of_ble_eq_true rfl) rfl (by first | exact Nat.le_of_ble_eq_true rfl | (show _ + 0 ≤ 1; omega)) (by first | exact Nat.le_of_ble_eq_true rfl | (show _ + 0 ≤ 61; omega)) (fun H h => ⟨h, h.obL (Or.inr h3)⟩) (fun E a => zT.no) (zPd.out ?_)
      show zG X (_ + 0) (_ + 0) _ 20 _ _
      refine zr_cast (q := 23) (C := RX2) (T := TX2) (N := 4) hX ciX2 rfl dX1_change_20 q149 (fun H h => cI.obE h (Or.inl hlg0) rfl) rfl ?_
      refine z_astore_n (i := 2) (q := 24) hX dX1_change_23 rfl (Nat.le_of_ble_eq_true rfl) rfl rfl ?_
      refine z_aload_n (i := 0) (q := 25) hX dX1_change_24 rfl rfl rfl ?_
      refine zr_get (C := RX1) (T := TX1) (N := 7) (q := 28) hX ciX1 2 rfl (by decide) in_X1 dX1_change_25 q226 (Or.inl rfl) (fun H h => cI.rd h (Or.inr ((upm_ne _ _ hbl).trans h1)) rfl (by decide) rfl) rfl ?_
      refine z_aload_n (i := 0) (q := 29) hX dX1_change_28 rfl rfl rfl ?_
      refine zr_get (C := RX1) (T := TX1) (N := 7) (q := 32) hX ciX1 0 rfl (by decide) in_X1 dX1_change_29 q224 (Or.inl rfl) (fun H h => cI.rd h (Or.inr ((upm_ne _ _ hbl).trans h1)) rfl (by decide) rfl) rfl ?_
      refine z_V (ci := ciJ2) (T := TJ2) (N := 3) (na := 1) hX dX1_change_32 (c_J2_add D A (upm_same _ _ _) hel hlg (zElO_2 _)) rfl q1002 q379 q380 q101 q381 (by decide +kernel) ⟨Nat.le_of_ble_eq_true rfl, Nat.le_of_ble_eq_true rfl⟩ rfl rfl (Nat.le_of_ble_eq_true rfl) rfl (by first | exact Nat.le_of_ble_eq_true rfl | (show _ + 1 ≤ 1; omega)) (by first | exact Nat.le_of_ble_eq_true rfl | (show _ + 61 ≤ 61; omega)) (fun H h => ⟨h, h.obL (Or.inr (upm_same _ _ _))⟩) (fun E a => zT.no) (zPd.out ?_)
      show zG X (_ + 1) (_ + 61) _ 35 _ _
      refine z_istore_n (i := 2) (q := 36) hX dX1_change_35 rfl (Nat.le_of_ble_eq_true rfl) rfl rfl ?_
      rw [upm_upm]
      refine z_aload_n (i := 0) (q := 37) hX dX1_change_36 rfl rfl rfl ?_
      refine z_aload_n (i := 1) (q := 38) hX dX1_change_37 rfl rfl rfl ?_
      refine zc_put (C := RX1) (T := TX1) (N := 7) (q := 41) hX ciX1 0 rfl (by decide) in_X1 tyX1_ok nmX1 dX1_change_38 q224 (Or.inl rfl) rfl ((upm_ne _ _ hbl).trans h1) (Nat.le_of_ble_eq_true rfl) rfl rfl rfl rfl ?_
      exact z_vret hX dX1_change_41 (by first | exact Nat.le_of_ble_eq_true rfl | (show (_ : Nat) ≤ 1; omega)) (by first | exact Nat.le_of_ble_eq_true rfl | (show (_ : Nat) ≤ 61; omega)) rfl (fun H h => ⟨_, rfl, fin _ _ hys, h⟩)
  · have hys : kHs D w m K (psA ps M) (xs ++ [lg]) := by
      unfold psA
      rw [if_neg h10l]
      exact h4.sn (by omega) h2
    refine z_aload_n (i := 0) (q := 1) hX dX1_change_0 rfl rfl rfl ?_
    refine zr_get (C := RX1) (T := TX1) (N := 7) (q := 4) hX ciX1 2 rfl (by decide) in_X1 dX1_change_1 q226 (Or.inl rfl) (fun H h => cI.rd h (by first | assumption | exact Or.inl (by assumption) | exact Or.inr (by first | assumption | exact upm_same _ _ _ | exact (upm_ne _ _ (by first | assumption | exact Ne.symm (by assumption) | omega | exact ne_mp (m := m) (by assumption) (by assumption) | exact Ne.symm (ne_mp (m := m) (by assumption) (by assumption)) | exact ne_mp (m := w) (by assumption) (by assumption) | exact Ne.symm (ne_mp (m := w) (by assumption) (by assumption)))).trans (by first | assumption | exact upm_same _ _ _ | exact (upm_ne _ _ (by first | assumption | exact Ne.symm (by assumption) | omega | exact ne_mp (m := m) (by assumption) (by assumption) | exact Ne.symm (ne_mp (m := m) (by assumption) (by assumption)) | exact ne_mp (m := w) (by assumption) (by assumption) | exact Ne.symm (ne_mp (m := w) (by assumption) (by assumption)))).trans (by first | assumption | exact upm_same _ _ _ | exact (upm_ne _ _ (by first | assumption | exact Ne.symm (by assumption) | omega | exact ne_mp (m := m) (by assumption) (by assumption) | exact Ne.symm (ne_mp (m := m) (by assumption) (by assumption)) | exact ne_mp (m := w) (by assumption) (by assumption) | exact Ne.symm (ne_mp (m := w) (by assumption) (by assumption)))).trans (by first | assumption | exact upm_same _ _ _))))) rfl (by decide) rfl) rfl ?_
    refine z_V (ci := ciJ2) (T := TJ2) (N := 3) (na := 0) hX dX1_change_4 (c_J2_size D A (Or.inr h3)) rfl q993 q467 q468 q101 q469 (by decide +kernel) ⟨Nat.le_of_ble_eq_true rfl, Nat.le_of_ble_eq_true rfl⟩ rfl rfl (Nat.le_of_ble_eq_true rfl) rfl (by first | exact Nat.le_of_ble_eq_true rfl | (show _ + 0 ≤ 1; omega)) (by first | exact Nat.le_of_ble_eq_true rfl | (show _ + 0 ≤ 61; omega)) (fun H h => ⟨h, h.obL (Or.inr h3)⟩) (fun E a => zT.no) (zPd.out ?_)
    show zG X (_ + 0) (_ + 0) _ 7 _ _
    refine z_bipush (q := 9) hX dX1_change_7 (by decide) rfl ?_
    refine z_icmp_ne (q := 12) (t := 24) hX dX1_change_9 (by decide) ⟨by omega, by omega⟩ (by decide) rfl (fun h9 => ?_) (fun h9 => ?_)
    · refine z_aload_n (i := 0) (q := 25) hX dX1_change_24 rfl rfl rfl ?_
      refine zr_get (C := RX1) (T := TX1) (N := 7) (q := 28) hX ciX1 2 rfl (by decide) in_X1 dX1_change_25 q226 (Or.inl rfl) (fun H h => cI.rd h (by first | assumption | exact Or.inl (by assumption) | exact Or.inr (by first | assumption | exact upm_same _ _ _ | exact (upm_ne _ _ (by first | assumption | exact Ne.symm (by assumption) | omega | exact ne_mp (m := m) (by assumption) (by assumption) | exact Ne.symm (ne_mp (m := m) (by assumption) (by assumption)) | exact ne_mp (m := w) (by assumption) (by assumption) | exact Ne.symm (ne_mp (m := w) (by assumption) (by assumption)))).trans (by first | assumption | exact upm_same _ _ _ | exact (upm_ne _ _ (by first | assumption | exact Ne.symm (by assumption) | omega | exact ne_mp (m := m) (by assumption) (by assumption) | exact Ne.symm (ne_mp (m := m) (by assumption) (by assumption)) | exact ne_mp (m := w) (by assumption) (by assumption) | exact Ne.symm (ne_mp (m := w) (by assumption) (by assumption)))).trans (by first | assumption | exact upm_same _ _ _ | exact (upm_ne _ _ (by first | assumption | exact Ne.symm (by assumption) | omega | exact ne_mp (m := m) (by assumption) (by assumption) | exact Ne.symm (ne_mp (m := m) (by assumption) (by assumption)) | exact ne_mp (m := w) (by assumption) (by assumption) | exact Ne.symm (ne_mp (m := w) (by assumption) (by assumption)))).trans (by first | assumption | exact upm_same _ _ _))))) rfl (by decide) rfl) rfl ?_
      refine z_aload_n (i := 0) (q := 29) hX dX1_change_28 rfl rfl rfl ?_
      refine zr_get (C := RX1) (T := TX1) (N := 7) (q := 32) hX ciX1 0 rfl (by decide) in_X1 dX1_change_29 q224 (Or.inl rfl) (fun H h => cI.rd h (by first | assumption | exact Or.inl (by assumption) | exact Or.inr (by first | assumption | exact upm_same _ _ _ | exact (upm_ne _ _ (by first | assumption | exact Ne.symm (by assumption) | omega | exact ne_mp (m := m) (by assumption) (by assumption) | exact Ne.symm (ne_mp (m := m) (by assumption) (by assumption)) | exact ne_mp (m := w) (by assumption) (by assumption) | exact Ne.symm (ne_mp (m := w) (by assumption) (by assumption)))).trans (by first | assumption | exact upm_same _ _ _ | exact (upm_ne _ _ (by first | assumption | exact Ne.symm (by assumption) | omega | exact ne_mp (m := m) (by assumption) (by assumption) | exact Ne.symm (ne_mp (m := m) (by assumption) (by assumption)) | exact ne_mp (m := w) (by assumption) (by assumption) | exact Ne.symm (ne_mp (m := w) (by assumption) (by assumption)))).trans (by first | assumption | exact upm_same _ _ _ | exact (upm_ne _ _ (by first | assumption | exact Ne.symm (by assumption) | omega | exact ne_mp (m := m) (by assumption) (by assumption) | exact Ne.symm (ne_mp (m := m) (by assumption) (by assumption)) | exact ne_mp (m := w) (by assumption) (by assumption) | exact Ne.symm (ne_mp (m := w) (by assumption) (by assumption)))).trans (by first | assumption | exact upm_same _ _ _))))) rfl (by decide) rfl) rfl ?_
      refine z_V (ci := ciJ2) (T := TJ2) (N := 3) (na := 1) hX dX1_change_32 (c_J2_add D A h3 (by omega) hlg (zElO_2 _)) rfl q1002 q379 q380 q101 q381 (by decide +kernel) ⟨Nat.le_of_ble_eq_true rfl, Nat.le_of_ble_eq_true rfl⟩ rfl rfl (Nat.le_of_ble_eq_true rfl) rfl (by first | exact Nat.le_of_ble_eq_true rfl | (show _ + 1 ≤ 1; omega)) (by first | exact Nat.le_of_ble_eq_true rfl | (show _ + 61 ≤ 61; omega)) (fun H h => ⟨h, h.obL (Or.inr h3)⟩) (fun E a => zT.no) (zPd.out ?_)
      show zG X (_ + 1) (_ + 61) _ 35 _ _
      refine z_istore_n (i := 2) (q := 36) hX dX1_change_35 rfl (Nat.le_of_ble_eq_true rfl) rfl rfl ?_
      refine z_aload_n (i := 0) (q := 37) hX dX1_change_36 rfl rfl rfl ?_
      refine z_aload_n (i := 1) (q := 38) hX dX1_change_37 rfl rfl rfl ?_
      refine zc_put (C := RX1) (T := TX1) (N := 7) (q := 41) hX ciX1 0 rfl (by decide) in_X1 tyX1_ok nmX1 dX1_change_38 q224 (Or.inl rfl) rfl ((upm_ne _ _ hbl).trans h1) (Nat.le_of_ble_eq_true rfl) rfl rfl rfl rfl ?_
      exact z_vret hX dX1_change_41 (by first | exact Nat.le_of_ble_eq_true rfl | (show (_ : Nat) ≤ 1; omega)) (by first | exact Nat.le_of_ble_eq_true rfl | (show (_ : Nat) ≤ 61; omega)) rfl (fun H h => ⟨_, rfl, fin _ _ hys, h⟩)
    · exact absurd (Decidable.not_not.mp h9) (by omega)
abbrev rmX1_cut : Room := { frames := 9, cells := 1353, slots := 52671, locals := 219 }
set_option maxHeartbeats 4000000 in
theorem c_X1_cut (D : zD) (A : Nat → Prop) {w m : zMp} {b : Nat} {K : Nat → Prop} {M : Int → Int} {ps : List (Int → Int)} {sv : Option (Int → Int)} {rp : Option (Int × Int × Int × Int)} {s : zS} {cs : Option (List zCn)} {l : Int} (hb : zX1 D w m K b M ps sv rp s cs) (hK : zHk K m) (hl : zR l) : zC D yX1_cut cX1_cut 4 (some .int) none rmX1_cut A [.ref b, zI (l)] (cI D A w m) (zPe (fun (x : zMp × zMp) => some (zI (M 0 - l))) (fun x => pSt D w m K b (0 ≤ l ∧ l < M 0) (cutM M l) (psA ps M) sv rp s cs x) (fun x => cI D A x.1 x.2)) (xSt D A w m K b "java/lang/IndexOutOfBoundsException" ciJ22 (¬ (0 ≤ l ∧ l < M 0)) M ps sv rp s cs) := by
  refine zC_start (L := [some (.ref b), some (zI (l)), none, none]) (by decide) (Nat.le_of_ble_eq_true rfl) rfl (fun X hX => ?_)
  have hb0 := hb
  obtain ⟨lg, hl1, ia, sa, ra, ca, h1, ⟨hok, ll, ta, col, tc, mc, ls, tf, g1, g2, g3, g4, g5, g6, g7⟩, -⟩ := hb
  have hg : wLog D w m lg M ll ta col := ⟨hok, Or.inl g1, ⟨mc, ls, Or.inl g2, g3⟩, tf, Or.inl g4, g5⟩
  have hM := hok.1
  have l1 := g3.1
  refine z_aload_n (i := 0) (q := 1) hX dX1_cut_0 rfl rfl rfl ?_
  refine z_iload_n (i := 1) (q := 2) hX dX1_cut_1 rfl rfl rfl ?_
  refine z_V (ci := ciX1) (T := TX1) (N := 7) (na := 1) hX dX1_cut_2 (c_X1_checkLine D A hb0 hl) rfl q1533 q1535 qs33 q97 q1536 (by decide +kernel) ⟨Nat.le_of_ble_eq_true rfl, Nat.le_of_ble_eq_true rfl⟩ rfl rfl (Nat.le_of_ble_eq_true rfl) rfl (by first | exact Nat.le_of_ble_eq_true rfl | (show _ + 1 ≤ 1353; omega)) (by first | exact Nat.le_of_ble_eq_true rfl | (show _ + 6 ≤ 52671; omega)) (fun H h => ⟨h, h.obE (Or.inr h1) rfl⟩) (zXs.out (fun e2 => ?_)) (zPe.out (fun x2 hx2 => ?_))
  · refine zT.ax (fun hx2 => ?_)
    exact zT.out hX (by decide) (by first | exact Nat.le_of_ble_eq_true rfl | (show (_ : Nat) ≤ 1353; omega)) (by first | exact Nat.le_of_ble_eq_true rfl | (show (_ : Nat) ≤ 52671; omega)) (fun H h => xSt0 hK hb0 hx2 h)
  show zG X (_ + 1) (_ + 6) _ 5 _ _
  refine zc_new (q := 8) (fs := [.null, .null, zI 0, .null]) (C := RX2) (T := TX2) (N := 4) hX ciX2 rfl in_X2 tyX2_ok dX1_cut_5 q149 q150 q98 (fun j hj => by match j, hj with | 0, _ => rfl | 1, _ => rfl | 2, _ => rfl | 3, _ => rfl | (_ + 4), h => exact absurd h (by omega)) (by first | exact Nat.le_of_ble_eq_true rfl | (show _ + 1 ≤ 1353; omega)) (by first | exact Nat.le_of_ble_eq_true rfl | (show _ + 4 ≤ 52671; omega)) rfl (fun a5 ha5 hb5 => ?_)
  have n5 := hb5
  try simp only [upm_none] at n5
  repeat (have := And.left n5; replace n5 := And.right n5)
  refine z_dup (q := 9) hX dX1_cut_8 rfl rfl ?_
  refine z_aload_n (i := 0) (q := 10) hX dX1_cut_9 rfl rfl rfl ?_
  refine zr_get (C := RX1) (T := TX1) (N := 7) (q := 13) hX ciX1 0 rfl (by decide) in_X1 dX1_cut_10 q224 (Or.inl rfl) (fun H h => cI.rd h (Or.inr ((upm_ne _ _ (Ne.symm (ne_mp hb5 h1))).trans h1)) rfl (by decide) rfl) rfl ?_
  refine z_C (na := 1) hX dX1_cut_13 (c_X2_init_2 D A (M := M) (upm_same _ _ _) g1 g2 g4 hok g3 g5) q258 q259 q98 q260 rfl (by decide +kernel) ⟨Nat.le_of_ble_eq_true rfl, Nat.le_of_ble_eq_true rfl⟩ rfl rfl (Nat.le_of_ble_eq_true rfl) rfl (by first | exact Nat.le_of_ble_eq_true rfl | (show _ + 50 ≤ 1353; omega)) (by first | exact Nat.le_of_ble_eq_true rfl | (show _ + 2600 ≤ 52671; omega)) (fun H h => h) (fun E a => zT.no) (zPe.out (fun x13 hx13 => ?_))
  show zG X (_ + 50) (_ + 2600) _ 16 _ _
  obtain ⟨n1, n2, n3, n4, n5, n6, n7, n8, n9⟩ := nlog (D := D) hK hb5 hx13.1
  rw [n1]
  have hts5 : wTs w x13.2.2 M := fun t ht => by rw [hx13.2 t ht]; exact g5 t ht
  have hb6 := hb0.le (w2 := w) zLe.rf n4
  obtain ⟨l9, e9⟩ : ∃ l9 : Nat, l = (l9 : Int) := ⟨l.toNat, by omega⟩
  subst e9
  refine z_astore_n (i := 2) (q := 17) hX dX1_cut_16 rfl (Nat.le_of_ble_eq_true rfl) rfl rfl ?_
  refine z_aload_n (i := 2) (q := 18) hX dX1_cut_17 rfl rfl rfl ?_
  refine z_iload_n (i := 1) (q := 19) hX dX1_cut_18 rfl rfl rfl ?_
  refine z_V (ci := ciX2) (T := TX2) (N := 4) (na := 1) hX dX1_cut_19 (c_X2_cut D A (M := M) (mR := nMR D m x13.1) rfl n2 hok g3 hts5 hx2.2) rfl q1598 q1599 q1600 q98 q1601 (by decide +kernel) ⟨Nat.le_of_ble_eq_true rfl, Nat.le_of_ble_eq_true rfl⟩ rfl rfl (Nat.le_of_ble_eq_true rfl) rfl (by first | exact Nat.le_of_ble_eq_true rfl | (show _ + 1300 ≤ 1353; omega)) (by first | exact Nat.le_of_ble_eq_true rfl | (show _ + 50000 ≤ 52671; omega)) (fun H h => ⟨h, h.obE (Or.inr logM_b) rfl⟩) (fun E a => zT.no) (zPe.out (fun x19 hx19 => ?_))
  show zG X (_ + 1300) (_ + 50000) _ 22 _ _
  refine z_istore_n (i := 3) (q := 23) hX dX1_cut_22 rfl (Nat.le_of_ble_eq_true rfl) rfl rfl ?_
  refine z_aload_n (i := 0) (q := 24) hX dX1_cut_23 rfl rfl rfl ?_
  refine z_aload_n (i := 2) (q := 25) hX dX1_cut_24 rfl rfl rfl ?_
  obtain ⟨j1, j2⟩ := hx19
  refine zG.frzL n2 n7 (fun w2 hw2 p1 p2 p3 => ?_)
  have hln : wLines w2 (ls.take l9) (cutM M l9 0).toNat (tx (cutM M l9)) := by
    have q := ((g3.le j1).le hw2).take (n := l9) (by omega)
    rw [cutM_0]
    refine ⟨q.1, fun i hi => ?_⟩
    obtain ⟨a, q1, q2⟩ := q.2 i hi
    exact ⟨a, q1, by rw [cutM_tx (by omega)]; exact q2⟩
  have hkl : kLog D w2 (nMR D m x13.1) K a5 (cutM M l9) := ⟨cutM_ok hok hx2.1 (by omega), x13.1.1, x13.1.2.1, x13.1.2.2.1, x13.1.2.2.2, x19.2.1, ls.take l9, x19.2.2, by rw [p1, cutM_ne (by decide)], p2, hln, p3, j2.le hw2, n6, n8⟩
  have hb7 := hb0.le (j1.tr hw2) n4
  refine z_V (ci := ciX1) (T := TX1) (N := 7) (na := 1) hX dX1_cut_25 (c_X1_change D A hb7 (hK.fr n5) hkl) rfl q989 q991 qs14 q97 q992 (by decide +kernel) ⟨Nat.le_of_ble_eq_true rfl, Nat.le_of_ble_eq_true rfl⟩ rfl rfl (Nat.le_of_ble_eq_true rfl) rfl (by first | exact Nat.le_of_ble_eq_true rfl | (show _ + 1 ≤ 1353; omega)) (by first | exact Nat.le_of_ble_eq_true rfl | (show _ + 61 ≤ 52671; omega)) (fun H h => ⟨h, h.obE (Or.inr (n4 _ _ h1)) rfl⟩) (fun E a => zT.no) (zPe.out (fun x25 hx25 => ?_))
  show zG X (_ + 1) (_ + 61) _ 28 _ _
  refine z_iload_n (i := 3) (q := 29) hX dX1_cut_28 rfl rfl rfl ?_
  exact z_iret hX dX1_cut_29 (by first | exact Nat.le_of_ble_eq_true rfl | (show (_ : Nat) ≤ 1353; omega)) (by first | exact Nat.le_of_ble_eq_true rfl | (show (_ : Nat) ≤ 52671; omega)) rfl (fun H h => ⟨(w2, x25), rfl, ⟨hx2, j1.tr hw2, n5.tr hx25.1, hx25.2⟩, h⟩)
abbrev rmX1_setThreshold : Room := { frames := 8, cells := 53, slots := 2671, locals := 195 }
set_option maxHeartbeats 4000000 in
theorem c_X1_setThreshold (D : zD) (A : Nat → Prop) {w m : zMp} {b : Nat} {K : Nat → Prop} {M : Int → Int} {ps : List (Int → Int)} {sv : Option (Int → Int)} {rp : Option (Int × Int × Int × Int)} {s : zS} {cs : Option (List zCn)} {v : Int} (hb : zX1 D w m K b M ps sv rp s cs) (hK : zHk K m) (hv : zR v) : zC D yX1_setThreshold cX1_setThreshold 4 (some .int) none rmX1_setThreshold A [.ref b, zI (v)] (cI D A w m) (zPe (fun (x : zMp × zMp) => some (zI (M 1))) (fun x => pSt D w m K b (0 ≤ v ∧ v ≤ 100) (thM M v) (psA ps M) sv rp s cs x) (fun x => cI D A x.1 x.2)) (xSt D A w m K b "java/lang/IllegalArgumentException" ciJ7 (¬ (0 ≤ v ∧ v ≤ 100)) M ps sv rp s cs) := by
  refine zC_start (L := [some (.ref b), some (zI (v)), none, none]) (by decide) (Nat.le_of_ble_eq_true rfl) rfl (fun X hX => ?_)
  have hb0 := hb
  obtain ⟨lg, hl1, ia, sa, ra, ca, h1, ⟨hok, ll, ta, col, tc, mc, ls, tf, g1, g2, g3, g4, g5, g6, g7⟩, -⟩ := hb
  have hg : wLog D w m lg M ll ta col := ⟨hok, Or.inl g1, ⟨mc, ls, Or.inl g2, g3⟩, tf, Or.inl g4, g5⟩
  have hM := hok.1
  have l1 := g3.1
  refine z_iload_n (i := 1) (q := 1) hX dX1_setThreshold_0 rfl rfl rfl ?_
  refine z_iconst (q := 2) hX dX1_setThreshold_1 rfl ?_
  refine z_bipush (q := 4) hX dX1_setThreshold_2 (by decide) rfl ?_
  refine z_S (na := 3) hX dX1_setThreshold_4 (c_X1_inRange D A hv (by decide) (by decide)) q1313 q1050 q97 q1051 (by decide +kernel) ⟨Nat.le_of_ble_eq_true rfl, Nat.le_of_ble_eq_true rfl⟩ rfl rfl (Nat.le_of_ble_eq_true rfl) rfl (by first | exact Nat.le_of_ble_eq_true rfl | (show _ + 0 ≤ 53; omega)) (by first | exact Nat.le_of_ble_eq_true rfl | (show _ + 0 ≤ 2671; omega)) (fun H h => h) (fun E a => zT.no) (zPd.out ?_)
  show zG X (_ + 0) (_ + 0) _ 7 _ _
  rw [and_dec]
  refine z_S (na := 1) hX dX1_setThreshold_7 (c_X1_checkArgument D A) q1314 q1315 q97 q1316 (by decide +kernel) ⟨Nat.le_of_ble_eq_true rfl, Nat.le_of_ble_eq_true rfl⟩ rfl rfl (Nat.le_of_ble_eq_true rfl) rfl (by first | exact Nat.le_of_ble_eq_true rfl | (show _ + 1 ≤ 53; omega)) (by first | exact Nat.le_of_ble_eq_true rfl | (show _ + 6 ≤ 2671; omega)) (fun H h => h) (zXs.out (fun e7 => ?_)) (zPe.out (fun x7 hx7 => ?_))
  · refine zT.ax (fun hx7 => ?_)
    exact zT.out hX (by decide) (by first | exact Nat.le_of_ble_eq_true rfl | (show (_ : Nat) ≤ 53; omega)) (by first | exact Nat.le_of_ble_eq_true rfl | (show (_ : Nat) ≤ 2671; omega)) (fun H h => xSt0 hK hb0 (of_decide_eq_false hx7) h)
  show zG X (_ + 1) (_ + 6) _ 10 _ _
  have hx7x := of_decide_eq_true hx7
  refine zc_new (q := 13) (fs := [.null, .null, zI 0, .null]) (C := RX2) (T := TX2) (N := 4) hX ciX2 rfl in_X2 tyX2_ok dX1_setThreshold_10 q149 q150 q98 (fun j hj => by match j, hj with | 0, _ => rfl | 1, _ => rfl | 2, _ => rfl | 3, _ => rfl | (_ + 4), h => exact absurd h (by omega)) (by first | exact Nat.le_of_ble_eq_true rfl | (show _ + 1 ≤ 53; omega)) (by first | exact Nat.le_of_ble_eq_true rfl | (show _ + 4 ≤ 2671; omega)) rfl (fun a10 ha10 hb10 => ?_)
  have n10 := hb10
  try simp only [upm_none] at n10
  repeat (have := And.left n10; replace n10 := And.right n10)
  refine z_dup (q := 14) hX dX1_setThreshold_13 rfl rfl ?_
  refine z_aload_n (i := 0) (q := 15) hX dX1_setThreshold_14 rfl rfl rfl ?_
  refine zr_get (C := RX1) (T := TX1) (N := 7) (q := 18) hX ciX1 0 rfl (by decide) in_X1 dX1_setThreshold_15 q224 (Or.inl rfl) (fun H h => cI.rd h (Or.inr ((upm_ne _ _ (Ne.symm (ne_mp hb10 h1))).trans h1)) rfl (by decide) rfl) rfl ?_
  refine z_C (na := 1) hX dX1_setThreshold_18 (c_X2_init_2 D A (M := M) (upm_same _ _ _) g1 g2 g4 hok g3 g5) q258 q259 q98 q260 rfl (by decide +kernel) ⟨Nat.le_of_ble_eq_true rfl, Nat.le_of_ble_eq_true rfl⟩ rfl rfl (Nat.le_of_ble_eq_true rfl) rfl (by first | exact Nat.le_of_ble_eq_true rfl | (show _ + 50 ≤ 53; omega)) (by first | exact Nat.le_of_ble_eq_true rfl | (show _ + 2600 ≤ 2671; omega)) (fun H h => h) (fun E a => zT.no) (zPe.out (fun x18 hx18 => ?_))
  show zG X (_ + 50) (_ + 2600) _ 21 _ _
  obtain ⟨n1, n2, n3, n4, n5, n6, n7, n8, n9⟩ := nlog (D := D) hK hb10 hx18.1
  rw [n1]
  have hts5 : wTs w x18.2.2 M := fun t ht => by rw [hx18.2 t ht]; exact g5 t ht
  refine z_astore_n (i := 2) (q := 22) hX dX1_setThreshold_21 rfl (Nat.le_of_ble_eq_true rfl) rfl rfl ?_
  refine z_aload_n (i := 2) (q := 23) hX dX1_setThreshold_22 rfl rfl rfl ?_
  refine zr_getN (C := RX2) (T := TX2) (N := 4) (q := 26) hX ciX2 2 rfl (by decide) in_X2 dX1_setThreshold_23 (zNF_at 9 rfl) (fun H h => cI.rd h (Or.inr logM_b) rfl (by decide) rfl) rfl ?_
  refine z_istore_n (i := 3) (q := 27) hX dX1_setThreshold_26 rfl (Nat.le_of_ble_eq_true rfl) rfl rfl ?_
  refine z_aload_n (i := 2) (q := 28) hX dX1_setThreshold_27 rfl rfl rfl ?_
  refine z_iload_n (i := 1) (q := 29) hX dX1_setThreshold_28 rfl rfl rfl ?_
  refine zc_putN (C := RX2) (T := TX2) (N := 4) (q := 32) hX ciX2 2 rfl (by decide) in_X2 tyX2_ok nmX2 dX1_setThreshold_29 (zNF_at 9 rfl) rfl logM_b (Nat.le_of_ble_eq_true rfl) rfl rfl rfl rfl ?_
  refine zG.mono (J := cI D A w (logM D (nMR D m x18.1) a10 x18.1.1 x18.1.2.1 x18.1.2.2.1 v x18.2.1 ls x18.2.2)) ?_ (fun H h => by rw [← logM_setH (th := M 1)]; exact h)
  refine z_aload_n (i := 0) (q := 33) hX dX1_setThreshold_32 rfl rfl rfl ?_
  refine z_aload_n (i := 2) (q := 34) hX dX1_setThreshold_33 rfl rfl rfl ?_
  refine zG.frzL n2 n7 (fun w2 hw2 p1 p2 p3 => ?_)
  have hkl : kLog D w2 (nMR D m x18.1) K a10 (thM M v) := ⟨thM_ok hok hx7x, x18.1.1, x18.1.2.1, x18.1.2.2.1, x18.1.2.2.2, x18.2.1, ls, x18.2.2, by rw [p1, thM_1], p2, thM_ln (g3.le hw2), p3, thM_ts hok (hts5.le hw2), n6, n8⟩
  have hb7 := hb0.le hw2 n4
  refine z_V (ci := ciX1) (T := TX1) (N := 7) (na := 1) hX dX1_setThreshold_34 (c_X1_change D A hb7 (hK.fr n5) hkl) rfl q989 q991 qs14 q97 q992 (by decide +kernel) ⟨Nat.le_of_ble_eq_true rfl, Nat.le_of_ble_eq_true rfl⟩ rfl rfl (Nat.le_of_ble_eq_true rfl) rfl (by first | exact Nat.le_of_ble_eq_true rfl | (show _ + 1 ≤ 53; omega)) (by first | exact Nat.le_of_ble_eq_true rfl | (show _ + 61 ≤ 2671; omega)) (fun H h => ⟨h, h.obE (Or.inr (n4 _ _ h1)) rfl⟩) (fun E a => zT.no) (zPe.out (fun x34 hx34 => ?_))
  show zG X (_ + 1) (_ + 61) _ 37 _ _
  refine z_iload_n (i := 3) (q := 38) hX dX1_setThreshold_37 rfl rfl rfl ?_
  exact z_iret hX dX1_setThreshold_38 (by first | exact Nat.le_of_ble_eq_true rfl | (show (_ : Nat) ≤ 53; omega)) (by first | exact Nat.le_of_ble_eq_true rfl | (show (_ : Nat) ≤ 2671; omega)) rfl (fun H h => ⟨(w2, x34), rfl, ⟨hx7x, hw2, n5.tr hx34.1, hx34.2⟩, h⟩)
