/-! THE CLASS: Log, costs of all, of two -/
set_option maxRecDepth 100000
/-- what two templates would cost as one -/
def cosB (M : Int → Int) (lo hi k : Int) : Int := if (slt M hi k = -1 ∧ slt M lo k = -1) ∧ tkl M (fst M lo) k = tkl M (fst M hi) k then ((tkl M (fst M lo) k).length : Int) + 1 else 2 + cosI (rws M lo ++ rws M hi).length (cR (tx M) (mgL (rws M lo) (rws M hi)) k) (wayI (rws M lo ++ rws M hi).length (cR (tx M) (mgL (rws M lo) (rws M hi)) k))
theorem cosB_no {M : Int → Int} {lo hi k : Int} (h : ¬ ((slt M hi k = -1 ∧ slt M lo k = -1) ∧ tkl M (fst M lo) k = tkl M (fst M hi) k)) : cosB M lo hi k = 2 + cosI (rws M lo ++ rws M hi).length (cR (tx M) (mgL (rws M lo) (rws M hi)) k) (wayI (rws M lo ++ rws M hi).length (cR (tx M) (mgL (rws M lo) (rws M hi)) k)) := if_neg h
theorem cosB_yes {M : Int → Int} {lo hi k : Int} (h : (slt M hi k = -1 ∧ slt M lo k = -1) ∧ tkl M (fst M lo) k = tkl M (fst M hi) k) : cosB M lo hi k = ((tkl M (fst M lo) k).length : Int) + 1 := if_pos h
def cosBt (M : Int → Int) (lo hi : Int) : Int := gapsS (tx M (fst M lo)) + sumI (fun k => cosB M lo hi k) (nTl M (fst M lo)).toNat
theorem rws_two {M : Int → Int} (h : zOk M) {lo hi : Int} (hne : lo ≠ hi) : (∀ z ∈ rws M hi, z ∉ rws M lo) ∧ (rws M lo).length + (rws M hi).length ≤ 40 := by
  have hd : ∀ z ∈ rws M hi, z ∉ rws M lo := fun z h1 h2 => hne ((rws_mem.mp h2).2.2.symm.trans (rws_mem.mp h1).2.2)
  refine ⟨hd, ?_⟩
  have h1 := mgL_len _ (rws M lo) (rws M hi) (Nat.le_refl _)
  have h2 := mgL_asc _ (rws M lo) (rws M hi) (Nat.le_refl _) (rF_asc _ _) (rF_asc _ _) hd
  have h3 : mgL (rws M lo) (rws M hi) = rF (fun z => ofP M lo z || ofP M hi z) (M 0).toNat := by
    refine asc_eq h2 (rF_asc _ _) (fun z => ?_)
    rw [mgL_mem _ _ _ (Nat.le_refl _)]
    unfold rws
    rw [rF_mem, rF_mem, rF_mem, Bool.or_eq_true]
    constructor
    · rintro (q | q)
      · exact ⟨q.1, q.2.1, Or.inl q.2.2⟩
      · exact ⟨q.1, q.2.1, Or.inr q.2.2⟩
    · rintro ⟨q1, q2, q3 | q3⟩
      · exact Or.inl ⟨q1, q2, q3⟩
      · exact Or.inr ⟨q1, q2, q3⟩
  have h4 : (rF (fun z => ofP M lo z || ofP M hi z) (M 0).toNat).length ≤ (M 0).toNat := rF_le
  rw [← h3] at h4
  have := h.1
  omega
theorem gapsS_eq {s : zS} : sumI (fun j => (gapsL s).getD j.toNat 0) (gapsL s).length = gapsS s := by
  have hl := gapsL_len s
  have hn := nT_range s
  unfold gapsS
  rw [show (gapsL s).length = (nT s + 1).toNat by omega]
  refine sumI_congr (fun i hi => ?_)
  rw [Int.toNat_natCast, gapsL_getD (by omega)]
abbrev rmX2_cost : Room := { frames := 10, cells := 0, slots := 0, locals := 219 }
set_option maxHeartbeats 4000000 in
theorem c_X2_cost (D : zD) (A : Nat → Prop) {w m : zMp} {b : Nat} {M : Int → Int} {ll ta col tc : Nat} (hb : wLog D w m b M ll ta col) (hc : cH D m col tc) : zC D yX2_cost cX2_cost 6 (some .int) none rmX2_cost A [.ref b] (cI D A w m) (zPe (fun (y : Int × (Nat → Option Nat)) => some (zI (cosA M))) (fun _ => True) (fun y => cI D A w (cM D m col tc y.1 y.2))) (zNo) := by
  refine zC_start (L := [some (.ref b), none, none, none, none, none]) (by decide) (Nat.le_of_ble_eq_true rfl) rfl (fun X hX => ?_)
  have hne := hc.ne
  have hok := hb.1
  have hM := hok.1
  obtain ⟨n0, f0, hc1, hc2⟩ := id hc
  have K : ∀ i : Nat, i ≤ 12 → ∀ (v p : Int) (v5 : Option Value) (n1 : Int) (f1 : Nat → Option Nat), v = M 0 + sumI (fun t => cosTt M t) i → p = i → zG X 0 0 (cI D A w (cM D m col tc n1 f1)) 19 [some (.ref b), some (zI v), some (.ref ta), some (zI 12), some (zI p), v5] [] := by
    refine z_up (fun i hi ih v p v5 n1 f1 ev ep => ?_)
    subst ep
    have hb1 := hb.cM hc n1 f1
    have hb2 := hb1
    have hc3 := hc.cM n1 f1
    obtain ⟨-, h1, ⟨mc, ls, h2, h3⟩, tf, h4, h5⟩ := hb1
    by_cases hin : i < 12
    · have hst : sumI (fun t => cosTt M t) (i + 1) = sumI (fun t => cosTt M t) i + cosTt M i := rfl
      rcases h5 i hin with ⟨q1, q2⟩ | ⟨q1, x, q2, q3⟩
      · have e9 : cosTt M i = 0 := if_neg (by rw [q1]; exact Bool.false_ne_true)
        refine z_iload (q := 21) hX dX2_cost_19 rfl rfl ?_
        refine z_iload_n (i := 3) (q := 22) hX dX2_cost_21 rfl rfl rfl ?_
        refine z_icmp_ge (q := 25) (t := 55) hX dX2_cost_22 (by decide) ⟨by omega, by omega⟩ (by decide) rfl (fun h22 => ?_) (fun h22 => ?_)
        · exact absurd h22 (by omega)
        · refine z_aload_n (i := 2) (q := 26) hX dX2_cost_25 rfl rfl rfl ?_
          refine z_iload (q := 28) hX dX2_cost_26 rfl rfl ?_
          refine zr_aald (q := 29) hX 7 rfl dX2_cost_28 (fun H h => (cI.at h (by first | assumption | exact Or.inl (by assumption) | exact Or.inr (by first | assumption | exact upm_same _ _ _ | exact (upm_ne _ _ (by first | assumption | exact Ne.symm (by assumption) | omega | exact ne_mp (m := m) (by assumption) (by assumption) | exact Ne.symm (ne_mp (m := m) (by assumption) (by assumption)) | exact ne_mp (m := w) (by assumption) (by assumption) | exact Ne.symm (ne_mp (m := w) (by assumption) (by assumption)))).trans (by first | assumption | exact upm_same _ _ _ | exact (upm_ne _ _ (by first | assumption | exact Ne.symm (by assumption) | omega | exact ne_mp (m := m) (by assumption) (by assumption) | exact Ne.symm (ne_mp (m := m) (by assumption) (by assumption)) | exact ne_mp (m := w) (by assumption) (by assumption) | exact Ne.symm (ne_mp (m := w) (by assumption) (by assumption)))).trans (by first | assumption | exact upm_same _ _ _ | exact (upm_ne _ _ (by first | assumption | exact Ne.symm (by assumption) | omega | exact ne_mp (m := m) (by assumption) (by assumption) | exact Ne.symm (ne_mp (m := m) (by assumption) (by assumption)) | exact ne_mp (m := w) (by assumption) (by assumption) | exact Ne.symm (ne_mp (m := w) (by assumption) (by assumption)))).trans (by first | assumption | exact upm_same _ _ _)))))).raQ) ⟨by omega, by omega⟩ (by first | decide | omega) rfl ?_
          refine zG.top (v2 := .null) (by show va_rf (tf ((i : Int)).toNat) = _; rw [Int.toNat_natCast, q2]; rfl) ?_
          refine z_astoreN (q := 31) hX dX2_cost_29 (Nat.le_of_ble_eq_true rfl) rfl rfl ?_
          refine z_iload_n (i := 1) (q := 32) hX dX2_cost_31 rfl rfl rfl ?_
          refine z_aloadN (q := 34) hX dX2_cost_32 rfl rfl ?_
          refine z_ifnonnullN (q := 37) hX dX2_cost_34 rfl ?_
          refine z_iconst (q := 38) hX dX2_cost_37 rfl ?_
          refine z_goto (t := 47) hX dX2_cost_38 (by decide) ?_
          refine z_iadd (q := 48) hX dX2_cost_47 rfl ?_
          refine z_istore_n (i := 1) (q := 49) hX dX2_cost_48 rfl (Nat.le_of_ble_eq_true rfl) rfl rfl ?_
          refine z_iinc (q := 52) hX dX2_cost_49 rfl (Nat.le_of_ble_eq_true rfl) rfl rfl ?_
          refine z_goto (t := 19) hX dX2_cost_52 (by decide) ?_
          exact ih hin _ _ _ _ _ (by rw [hst, e9, ev]; omega) rfl
      · obtain ⟨gl, sl, rl, q4⟩ := q3.it
        refine z_iload (q := 21) hX dX2_cost_19 rfl rfl ?_
        refine z_iload_n (i := 3) (q := 22) hX dX2_cost_21 rfl rfl rfl ?_
        refine z_icmp_ge (q := 25) (t := 55) hX dX2_cost_22 (by decide) ⟨by omega, by omega⟩ (by decide) rfl (fun h22 => ?_) (fun h22 => ?_)
        · exact absurd h22 (by omega)
        · refine z_aload_n (i := 2) (q := 26) hX dX2_cost_25 rfl rfl rfl ?_
          refine z_iload (q := 28) hX dX2_cost_26 rfl rfl ?_
          refine zr_aald (q := 29) hX 7 rfl dX2_cost_28 (fun H h => (cI.at h (by first | assumption | exact Or.inl (by assumption) | exact Or.inr (by first | assumption | exact upm_same _ _ _ | exact (upm_ne _ _ (by first | assumption | exact Ne.symm (by assumption) | omega | exact ne_mp (m := m) (by assumption) (by assumption) | exact Ne.symm (ne_mp (m := m) (by assumption) (by assumption)) | exact ne_mp (m := w) (by assumption) (by assumption) | exact Ne.symm (ne_mp (m := w) (by assumption) (by assumption)))).trans (by first | assumption | exact upm_same _ _ _ | exact (upm_ne _ _ (by first | assumption | exact Ne.symm (by assumption) | omega | exact ne_mp (m := m) (by assumption) (by assumption) | exact Ne.symm (ne_mp (m := m) (by assumption) (by assumption)) | exact ne_mp (m := w) (by assumption) (by assumption) | exact Ne.symm (ne_mp (m := w) (by assumption) (by assumption)))).trans (by first | assumption | exact upm_same _ _ _ | exact (upm_ne _ _ (by first | assumption | exact Ne.symm (by assumption) | omega | exact ne_mp (m := m) (by assumption) (by assumption) | exact Ne.symm (ne_mp (m := m) (by assumption) (by assumption)) | exact ne_mp (m := w) (by assumption) (by assumption) | exact Ne.symm (ne_mp (m := w) (by assumption) (by assumption)))).trans (by first | assumption | exact upm_same _ _ _)))))).raQ) ⟨by omega, by omega⟩ (by first | decide | omega) rfl ?_
          refine zG.top (v2 := .ref x) (by show va_rf (tf ((i : Int)).toNat) = _; rw [Int.toNat_natCast, q2]; rfl) ?_
          refine z_astore (q := 31) hX dX2_cost_29 (Nat.le_of_ble_eq_true rfl) rfl rfl ?_
          refine z_iload_n (i := 1) (q := 32) hX dX2_cost_31 rfl rfl rfl ?_
          refine z_aload (q := 34) hX dX2_cost_32 rfl rfl ?_
          refine z_ifnonnull (t := 41) hX dX2_cost_34 (by decide) ?_
          refine z_aload_n (i := 0) (q := 42) hX dX2_cost_41 rfl rfl rfl ?_
          refine z_aload (q := 44) hX dX2_cost_42 rfl rfl ?_
          refine z_V (ci := ciX2) (T := TX2) (N := 4) (na := 1) hX dX2_cost_44 (c_X2_costOf D A hb2 hc3 q3 q1) rfl q520 q521 q522 q98 q523 (by decide +kernel) ⟨Nat.le_of_ble_eq_true rfl, Nat.le_of_ble_eq_true rfl⟩ rfl rfl (Nat.le_of_ble_eq_true rfl) rfl (by first | exact Nat.le_of_ble_eq_true rfl | (show _ + 0 ≤ 0; omega)) (by first | exact Nat.le_of_ble_eq_true rfl | (show _ + 0 ≤ 0; omega)) (fun H h => ⟨h, h.obE h1 rfl⟩) (fun E a => zT.no) (zPe.out (fun x44 hx44 => ?_))
          show zG X (_ + 0) (_ + 0) _ 47 _ _
          rw [cM_cM (n := n1) (f := f1) hne]
          refine z_iadd (q := 48) hX dX2_cost_47 rfl ?_
          refine z_istore_n (i := 1) (q := 49) hX dX2_cost_48 rfl (Nat.le_of_ble_eq_true rfl) rfl rfl ?_
          refine z_iinc (q := 52) hX dX2_cost_49 rfl (Nat.le_of_ble_eq_true rfl) rfl rfl ?_
          refine z_goto (t := 19) hX dX2_cost_52 (by decide) ?_
          exact ih hin _ _ _ _ _ (by rw [hst, ev]; omega) rfl
    · have hiN : i = 12 := by omega
      subst hiN
      refine z_iload (q := 21) hX dX2_cost_19 rfl rfl ?_
      refine z_iload_n (i := 3) (q := 22) hX dX2_cost_21 rfl rfl rfl ?_
      refine z_icmp_ge (q := 25) (t := 55) hX dX2_cost_22 (by decide) (by decide) (by decide) rfl (fun h22 => ?_) (fun h22 => ?_)
      · refine z_iload_n (i := 1) (q := 56) hX dX2_cost_55 rfl rfl rfl ?_
        exact z_iret hX dX2_cost_56 (by first | exact Nat.le_of_ble_eq_true rfl | (show (_ : Nat) ≤ 0; omega)) (by first | exact Nat.le_of_ble_eq_true rfl | (show (_ : Nat) ≤ 0; omega)) rfl (fun H h => ⟨(n1, f1), by rw [ev]; rfl, trivial, h⟩)
      · exact absurd (by decide) h22
  obtain ⟨-, h1, ⟨mc, ls, h2, h3⟩, tf, h4, h5⟩ := hb
  have l1 := h3.1
  refine z_aload_n (i := 0) (q := 1) hX dX2_cost_0 rfl rfl rfl ?_
  refine zr_get (C := RX2) (T := TX2) (N := 4) (q := 4) hX ciX2 0 rfl (by decide) in_X2 dX2_cost_1 q203 (Or.inl rfl) (fun H h => cI.rd h (by first | assumption | exact Or.inl (by assumption) | exact Or.inr (by first | assumption | exact upm_same _ _ _ | exact (upm_ne _ _ (by first | assumption | exact Ne.symm (by assumption) | omega | exact ne_mp (m := m) (by assumption) (by assumption) | exact Ne.symm (ne_mp (m := m) (by assumption) (by assumption)) | exact ne_mp (m := w) (by assumption) (by assumption) | exact Ne.symm (ne_mp (m := w) (by assumption) (by assumption)))).trans (by first | assumption | exact upm_same _ _ _ | exact (upm_ne _ _ (by first | assumption | exact Ne.symm (by assumption) | omega | exact ne_mp (m := m) (by assumption) (by assumption) | exact Ne.symm (ne_mp (m := m) (by assumption) (by assumption)) | exact ne_mp (m := w) (by assumption) (by assumption) | exact Ne.symm (ne_mp (m := w) (by assumption) (by assumption)))).trans (by first | assumption | exact upm_same _ _ _ | exact (upm_ne _ _ (by first | assumption | exact Ne.symm (by assumption) | omega | exact ne_mp (m := m) (by assumption) (by assumption) | exact Ne.symm (ne_mp (m := m) (by assumption) (by assumption)) | exact ne_mp (m := w) (by assumption) (by assumption) | exact Ne.symm (ne_mp (m := w) (by assumption) (by assumption)))).trans (by first | assumption | exact upm_same _ _ _))))) rfl (by decide) rfl) rfl ?_
  refine z_V (ci := ciJ2) (T := TJ2) (N := 3) (na := 0) hX dX2_cost_4 (c_J2_size D A h2) rfl q547 q467 q468 q101 q469 (by decide +kernel) ⟨Nat.le_of_ble_eq_true rfl, Nat.le_of_ble_eq_true rfl⟩ rfl rfl (Nat.le_of_ble_eq_true rfl) rfl (by first | exact Nat.le_of_ble_eq_true rfl | (show _ + 0 ≤ 0; omega)) (by first | exact Nat.le_of_ble_eq_true rfl | (show _ + 0 ≤ 0; omega)) (fun H h => ⟨h, h.obL h2⟩) (fun E a => zT.no) (zPd.out ?_)
  show zG X (_ + 0) (_ + 0) _ 7 _ _
  refine z_istore_n (i := 1) (q := 8) hX dX2_cost_7 rfl (Nat.le_of_ble_eq_true rfl) rfl rfl ?_
  refine z_aload_n (i := 0) (q := 9) hX dX2_cost_8 rfl rfl rfl ?_
  refine zr_get (C := RX2) (T := TX2) (N := 4) (q := 12) hX ciX2 1 rfl (by decide) in_X2 dX2_cost_9 q207 (Or.inl rfl) (fun H h => cI.rd h (by first | assumption | exact Or.inl (by assumption) | exact Or.inr (by first | assumption | exact upm_same _ _ _ | exact (upm_ne _ _ (by first | assumption | exact Ne.symm (by assumption) | omega | exact ne_mp (m := m) (by assumption) (by assumption) | exact Ne.symm (ne_mp (m := m) (by assumption) (by assumption)) | exact ne_mp (m := w) (by assumption) (by assumption) | exact Ne.symm (ne_mp (m := w) (by assumption) (by assumption)))).trans (by first | assumption | exact upm_same _ _ _ | exact (upm_ne _ _ (by first | assumption | exact Ne.symm (by assumption) | omega | exact ne_mp (m := m) (by assumption) (by assumption) | exact Ne.symm (ne_mp (m := m) (by assumption) (by assumption)) | exact ne_mp (m := w) (by assumption) (by assumption) | exact Ne.symm (ne_mp (m := w) (by assumption) (by assumption)))).trans (by first | assumption | exact upm_same _ _ _ | exact (upm_ne _ _ (by first | assumption | exact Ne.symm (by assumption) | omega | exact ne_mp (m := m) (by assumption) (by assumption) | exact Ne.symm (ne_mp (m := m) (by assumption) (by assumption)) | exact ne_mp (m := w) (by assumption) (by assumption) | exact Ne.symm (ne_mp (m := w) (by assumption) (by assumption)))).trans (by first | assumption | exact upm_same _ _ _))))) rfl (by decide) rfl) rfl ?_
  refine z_astore_n (i := 2) (q := 13) hX dX2_cost_12 rfl (Nat.le_of_ble_eq_true rfl) rfl rfl ?_
  refine z_aload_n (i := 2) (q := 14) hX dX2_cost_13 rfl rfl rfl ?_
  refine zr_alen (q := 15) hX 7 rfl dX2_cost_14 (fun H h => (cI.at h (by first | assumption | exact Or.inl (by assumption) | exact Or.inr (by first | assumption | exact upm_same _ _ _ | exact (upm_ne _ _ (by first | assumption | exact Ne.symm (by assumption) | omega | exact ne_mp (m := m) (by assumption) (by assumption) | exact Ne.symm (ne_mp (m := m) (by assumption) (by assumption)) | exact ne_mp (m := w) (by assumption) (by assumption) | exact Ne.symm (ne_mp (m := w) (by assumption) (by assumption)))).trans (by first | assumption | exact upm_same _ _ _ | exact (upm_ne _ _ (by first | assumption | exact Ne.symm (by assumption) | omega | exact ne_mp (m := m) (by assumption) (by assumption) | exact Ne.symm (ne_mp (m := m) (by assumption) (by assumption)) | exact ne_mp (m := w) (by assumption) (by assumption) | exact Ne.symm (ne_mp (m := w) (by assumption) (by assumption)))).trans (by first | assumption | exact upm_same _ _ _ | exact (upm_ne _ _ (by first | assumption | exact Ne.symm (by assumption) | omega | exact ne_mp (m := m) (by assumption) (by assumption) | exact Ne.symm (ne_mp (m := m) (by assumption) (by assumption)) | exact ne_mp (m := w) (by assumption) (by assumption) | exact Ne.symm (ne_mp (m := w) (by assumption) (by assumption)))).trans (by first | assumption | exact upm_same _ _ _)))))).raQ) rfl ?_
  refine z_istore_n (i := 3) (q := 16) hX dX2_cost_15 rfl (Nat.le_of_ble_eq_true rfl) rfl rfl ?_
  refine z_iconst (q := 17) hX dX2_cost_16 rfl ?_
  refine z_istore (q := 19) hX dX2_cost_17 (Nat.le_of_ble_eq_true rfl) rfl rfl ?_
  exact zG.mono (K 0 (Nat.zero_le _) _ 0 _ n0 f0 (by show _ = M 0 + (0 : Int); omega) rfl) (fun H h => by rw [cM_self hc1 hc2]; exact h)
abbrev rmX2_costOfBoth : Room := { frames := 9, cells := 0, slots := 0, locals := 196 }
set_option maxHeartbeats 4000000 in
theorem c_X2_costOfBoth (D : zD) (A : Nat → Prop) {w m : zMp} {b : Nat} {M : Int → Int} {ll ta col tc x y : Nat} {lo hi : Int} (hb : wLog D w m b M ll ta col) (hc : cH D m col tc) (hx : wTm w x M lo) (hy : wTm w y M hi) (hne2 : lo ≠ hi) (hnn : nTl M (fst M lo) = nTl M (fst M hi)) : zC D yX2_costOfBoth cX2_costOfBoth 7 (some .int) none rmX2_costOfBoth A [.ref b, .ref x, .ref y] (cI D A w m) (zPe (fun (y : Int × (Nat → Option Nat)) => some (zI (cosBt M lo hi))) (fun _ => True) (fun y => cI D A w (cM D m col tc y.1 y.2))) (zNo) := by
  refine zC_start (L := [some (.ref b), some (.ref x), some (.ref y), none, none, none, none]) (by decide) (Nat.le_of_ble_eq_true rfl) rfl (fun X hX => ?_)
  have hne := hc.ne
  have hok := hb.1
  have hM := hok.1
  have htwo := rws_two hok hne2
  have hlen := mgL_len _ (rws M lo) (rws M hi) (Nat.le_refl _)
  have hapl : (rws M lo ++ rws M hi).length = (rws M lo).length + (rws M hi).length := List.length_append
  obtain ⟨n0, f0, hc1, hc2⟩ := id hc
  have hx0 := hx
  have hy0 := hy
  obtain ⟨⟨k1, k2, k3⟩, gl, sl, rl, mc4, mc2, mc3, gs, ss, rs, y1, y2, y3, y4, y5, y6, y7⟩ := hx
  obtain ⟨⟨j1, j2, j3⟩, gl9, sl9, rl9, mc9, mc8, mc7, gs9, ss9, rs9, z1, z2, z3, z4, z5, z6, z7⟩ := hy
  have l1 := y5.1
  have l2 := z5.1
  have K : ∀ i : Nat, i ≤ (nTl M (fst M lo)).toNat → ∀ (v p : Int) (v5 v6 : Option Value) (n1 : Int) (f1 : Nat → Option Nat), v = gapsS (tx M (fst M lo)) + sumI (fun k => cosB M lo hi k) i → p = i → zG X 0 0 (cI D A w (cM D m col tc n1 f1)) 8 [some (.ref b), some (.ref x), some (.ref y), some (zI v), some (zI p), v5, v6] [] := by
    refine z_up (fun i hi2 ih v p v5 v6 n1 f1 ev ep => ?_)
    subst ep
    have hb1 := hb.cM hc n1 f1
    have hc3 := hc.cM n1 f1
    obtain ⟨-, h1, ⟨mc, ls, h2, h3⟩, tf, h4, h5⟩ := hb1
    by_cases hin : i < (nTl M (fst M lo)).toNat
    · obtain ⟨a1, q1, q2⟩ := y5.2 i hin
      obtain ⟨fs, q3⟩ := q2.it
      obtain ⟨a2, q4, q5⟩ := z5.2 i (by omega)
      obtain ⟨fs2, q6⟩ := q5.it
      have hst : sumI (fun k => cosB M lo hi k) (i + 1) = sumI (fun k => cosB M lo hi k) i + cosB M lo hi i := rfl
      have K80 : ¬ ((slt M hi i = -1 ∧ slt M lo i = -1) ∧ tkl M (fst M lo) i = tkl M (fst M hi) i) → zG X 0 0 (cI D A w (cM D m col tc n1 f1)) 80 [some (.ref b), some (.ref x), some (.ref y), some (zI v), some (zI (i : Int)), some (.ref a1), some (.ref a2)] [] := by
        intro hno
        have e9 := cosB_no hno
        refine z_aload_n (i := 0) (q := 81) hX dX2_costOfBoth_80 rfl rfl rfl ?_
        refine zr_get (C := RX2) (T := TX2) (N := 4) (q := 84) hX ciX2 3 rfl (by decide) in_X2 dX2_costOfBoth_81 q212 (Or.inl rfl) (fun H h => cI.rd h (by first | assumption | exact Or.inl (by assumption) | exact Or.inr (by first | assumption | exact upm_same _ _ _ | exact (upm_ne _ _ (by first | assumption | exact Ne.symm (by assumption) | omega | exact ne_mp (m := m) (by assumption) (by assumption) | exact Ne.symm (ne_mp (m := m) (by assumption) (by assumption)) | exact ne_mp (m := w) (by assumption) (by assumption) | exact Ne.symm (ne_mp (m := w) (by assumption) (by assumption)))).trans (by first | assumption | exact upm_same _ _ _ | exact (upm_ne _ _ (by first | assumption | exact Ne.symm (by assumption) | omega | exact ne_mp (m := m) (by assumption) (by assumption) | exact Ne.symm (ne_mp (m := m) (by assumption) (by assumption)) | exact ne_mp (m := w) (by assumption) (by assumption) | exact Ne.symm (ne_mp (m := w) (by assumption) (by assumption)))).trans (by first | assumption | exact upm_same _ _ _ | exact (upm_ne _ _ (by first | assumption | exact Ne.symm (by assumption) | omega | exact ne_mp (m := m) (by assumption) (by assumption) | exact Ne.symm (ne_mp (m := m) (by assumption) (by assumption)) | exact ne_mp (m := w) (by assumption) (by assumption) | exact Ne.symm (ne_mp (m := w) (by assumption) (by assumption)))).trans (by first | assumption | exact upm_same _ _ _))))) rfl (by decide) rfl) rfl ?_
        refine z_aload_n (i := 0) (q := 85) hX dX2_costOfBoth_84 rfl rfl rfl ?_
        refine zr_get (C := RX2) (T := TX2) (N := 4) (q := 88) hX ciX2 0 rfl (by decide) in_X2 dX2_costOfBoth_85 q203 (Or.inl rfl) (fun H h => cI.rd h (by first | assumption | exact Or.inl (by assumption) | exact Or.inr (by first | assumption | exact upm_same _ _ _ | exact (upm_ne _ _ (by first | assumption | exact Ne.symm (by assumption) | omega | exact ne_mp (m := m) (by assumption) (by assumption) | exact Ne.symm (ne_mp (m := m) (by assumption) (by assumption)) | exact ne_mp (m := w) (by assumption) (by assumption) | exact Ne.symm (ne_mp (m := w) (by assumption) (by assumption)))).trans (by first | assumption | exact upm_same _ _ _ | exact (upm_ne _ _ (by first | assumption | exact Ne.symm (by assumption) | omega | exact ne_mp (m := m) (by assumption) (by assumption) | exact Ne.symm (ne_mp (m := m) (by assumption) (by assumption)) | exact ne_mp (m := w) (by assumption) (by assumption) | exact Ne.symm (ne_mp (m := w) (by assumption) (by assumption)))).trans (by first | assumption | exact upm_same _ _ _ | exact (upm_ne _ _ (by first | assumption | exact Ne.symm (by assumption) | omega | exact ne_mp (m := m) (by assumption) (by assumption) | exact Ne.symm (ne_mp (m := m) (by assumption) (by assumption)) | exact ne_mp (m := w) (by assumption) (by assumption) | exact Ne.symm (ne_mp (m := w) (by assumption) (by assumption)))).trans (by first | assumption | exact upm_same _ _ _))))) rfl (by decide) rfl) rfl ?_
        refine z_aload_n (i := 1) (q := 89) hX dX2_costOfBoth_88 rfl rfl rfl ?_
        refine z_aload_n (i := 2) (q := 90) hX dX2_costOfBoth_89 rfl rfl rfl ?_
        refine z_iload (q := 92) hX dX2_costOfBoth_90 rfl rfl ?_
        refine z_V (ci := ciX3) (T := TX3) (N := 2) (na := 4) hX dX2_costOfBoth_92 (c_X3_fillBoth D A (ta := tc) (L := ll) (T := tx M) (N := (M 0).toNat) (R := rws M lo) (S := rws M hi) (k := (i : Int)) (cM_col hne) cM_tc h2 h3 (by omega) hx0 hy0 (fun r hr => by rcases hr with hr | hr; exact hx0.rows hok (by omega) r hr; exact hy0.rows hok (by omega) r hr) (by omega) htwo.2) rfl q663 q664 q665 q102 q666 (by decide +kernel) ⟨Nat.le_of_ble_eq_true rfl, Nat.le_of_ble_eq_true rfl⟩ rfl rfl (Nat.le_of_ble_eq_true rfl) rfl (by first | exact Nat.le_of_ble_eq_true rfl | (show _ + 0 ≤ 0; omega)) (by first | exact Nat.le_of_ble_eq_true rfl | (show _ + 0 ≤ 0; omega)) (fun H h => ⟨h, h.obE (Or.inr (cM_col hne)) rfl⟩) (fun E a => zT.no) (zPe.out (fun x92 hx92 => ?_))
        show zG X (_ + 0) (_ + 0) _ 95 _ _
        rw [show upm (upm (cM D m col tc n1 f1) col (eO ciX3 [.ref tc, zI (((rws M lo).length + (rws M hi).length : Nat) : Int)])) tc (eC (aQ D 6 40 x92)) = cM D m col tc (((rws M lo).length + (rws M hi).length : Nat) : Int) x92 from cM_cM (n := n1) (f := f1) hne]
        have hcol : wCol D w (cM D m col tc (((rws M lo).length + (rws M hi).length : Nat) : Int) x92) col tc ((rws M lo).length + (rws M hi).length) x92 (cR (tx M) (mgL (rws M lo) (rws M hi)) i) := ⟨cM_col hne, cM_tc, htwo.2, hx92⟩
        have h1' := (hb.cM hc (((rws M lo).length + (rws M hi).length : Nat) : Int) x92).2.1
        refine z_iload_n (i := 3) (q := 96) hX dX2_costOfBoth_95 rfl rfl rfl ?_
        refine z_iconst (q := 97) hX dX2_costOfBoth_96 rfl ?_
        refine z_aload_n (i := 0) (q := 98) hX dX2_costOfBoth_97 rfl rfl rfl ?_
        refine zr_get (C := RX2) (T := TX2) (N := 4) (q := 101) hX ciX2 3 rfl (by decide) in_X2 dX2_costOfBoth_98 q212 (Or.inl rfl) (fun H h => cI.rd h h1' rfl (by decide) rfl) rfl ?_
        refine z_V (ci := ciX3) (T := TX3) (N := 2) (na := 0) hX dX2_costOfBoth_101 (c_X3_leastCost D A hcol) rfl q563 q564 q565 q102 q566 (by decide +kernel) ⟨Nat.le_of_ble_eq_true rfl, Nat.le_of_ble_eq_true rfl⟩ rfl rfl (Nat.le_of_ble_eq_true rfl) rfl (by first | exact Nat.le_of_ble_eq_true rfl | (show _ + 0 ≤ 0; omega)) (by first | exact Nat.le_of_ble_eq_true rfl | (show _ + 0 ≤ 0; omega)) (fun H h => ⟨h, h.obE (Or.inr (cM_col hne)) rfl⟩) (fun E a => zT.no) (zPd.out ?_)
        show zG X (_ + 0) (_ + 0) _ 104 _ _
        refine z_iadd (q := 105) hX dX2_costOfBoth_104 rfl ?_
        refine z_iadd (q := 106) hX dX2_costOfBoth_105 rfl ?_
        refine z_istore_n (i := 3) (q := 107) hX dX2_costOfBoth_106 rfl (Nat.le_of_ble_eq_true rfl) rfl rfl ?_
        refine z_iinc (q := 110) hX dX2_costOfBoth_107 rfl (Nat.le_of_ble_eq_true rfl) rfl rfl ?_
        refine z_goto (t := 8) hX dX2_costOfBoth_110 (by decide) ?_
        refine ih hin _ _ _ _ _ _ ?_ rfl
        rw [hst, e9, ev, hapl]
        omega
      rcases q5 with ⟨u0, t9, u1, u2⟩ | ⟨u0, u1⟩
      · have u0 : slt M hi i = -1 := u0
        have q5 : wSlot w a2 (slt M hi i) (tkl M (fst M hi) i) := Or.inl ⟨u0, t9, u1, u2⟩
        have u3 := u2
        obtain ⟨u4, u5, u6, u7⟩ := u3
        refine z_iload (q := 10) hX dX2_costOfBoth_8 rfl rfl ?_
        refine z_aload_n (i := 1) (q := 11) hX dX2_costOfBoth_10 rfl rfl rfl ?_
        refine zr_getN (C := RX7) (T := TX7) (N := 3) (q := 14) hX ciX7 1 rfl (by decide) in_X7 dX2_costOfBoth_11 (zNF_at 27 rfl) (fun H h => cI.rd h (by first | assumption | exact Or.inl (by assumption) | exact Or.inr (by first | assumption | exact upm_same _ _ _ | exact (upm_ne _ _ (by first | assumption | exact Ne.symm (by assumption) | omega | exact ne_mp (m := m) (by assumption) (by assumption) | exact Ne.symm (ne_mp (m := m) (by assumption) (by assumption)) | exact ne_mp (m := w) (by assumption) (by assumption) | exact Ne.symm (ne_mp (m := w) (by assumption) (by assumption)))).trans (by first | assumption | exact upm_same _ _ _ | exact (upm_ne _ _ (by first | assumption | exact Ne.symm (by assumption) | omega | exact ne_mp (m := m) (by assumption) (by assumption) | exact Ne.symm (ne_mp (m := m) (by assumption) (by assumption)) | exact ne_mp (m := w) (by assumption) (by assumption) | exact Ne.symm (ne_mp (m := w) (by assumption) (by assumption)))).trans (by first | assumption | exact upm_same _ _ _ | exact (upm_ne _ _ (by first | assumption | exact Ne.symm (by assumption) | omega | exact ne_mp (m := m) (by assumption) (by assumption) | exact Ne.symm (ne_mp (m := m) (by assumption) (by assumption)) | exact ne_mp (m := w) (by assumption) (by assumption) | exact Ne.symm (ne_mp (m := w) (by assumption) (by assumption)))).trans (by first | assumption | exact upm_same _ _ _))))) rfl (by decide) rfl) rfl ?_
        refine z_V (ci := ciJ2) (T := TJ2) (N := 3) (na := 0) hX dX2_costOfBoth_14 (c_J2_size D A (Or.inl y4)) rfl q547 q467 q468 q101 q469 (by decide +kernel) ⟨Nat.le_of_ble_eq_true rfl, Nat.le_of_ble_eq_true rfl⟩ rfl rfl (Nat.le_of_ble_eq_true rfl) rfl (by first | exact Nat.le_of_ble_eq_true rfl | (show _ + 0 ≤ 0; omega)) (by first | exact Nat.le_of_ble_eq_true rfl | (show _ + 0 ≤ 0; omega)) (fun H h => ⟨h, h.obL (Or.inl y4)⟩) (fun E a => zT.no) (zPd.out ?_)
        show zG X (_ + 0) (_ + 0) _ 17 _ _
        refine z_icmp_ge (q := 20) (t := 113) hX dX2_costOfBoth_17 (by decide) ⟨by omega, by omega⟩ ⟨by omega, by omega⟩ rfl (fun h17 => ?_) (fun h17 => ?_)
        · exact absurd h17 (by omega)
        · refine z_aload_n (i := 1) (q := 21) hX dX2_costOfBoth_20 rfl rfl rfl ?_
          refine zr_getN (C := RX7) (T := TX7) (N := 3) (q := 24) hX ciX7 1 rfl (by decide) in_X7 dX2_costOfBoth_21 (zNF_at 27 rfl) (fun H h => cI.rd h (by first | assumption | exact Or.inl (by assumption) | exact Or.inr (by first | assumption | exact upm_same _ _ _ | exact (upm_ne _ _ (by first | assumption | exact Ne.symm (by assumption) | omega | exact ne_mp (m := m) (by assumption) (by assumption) | exact Ne.symm (ne_mp (m := m) (by assumption) (by assumption)) | exact ne_mp (m := w) (by assumption) (by assumption) | exact Ne.symm (ne_mp (m := w) (by assumption) (by assumption)))).trans (by first | assumption | exact upm_same _ _ _ | exact (upm_ne _ _ (by first | assumption | exact Ne.symm (by assumption) | omega | exact ne_mp (m := m) (by assumption) (by assumption) | exact Ne.symm (ne_mp (m := m) (by assumption) (by assumption)) | exact ne_mp (m := w) (by assumption) (by assumption) | exact Ne.symm (ne_mp (m := w) (by assumption) (by assumption)))).trans (by first | assumption | exact upm_same _ _ _ | exact (upm_ne _ _ (by first | assumption | exact Ne.symm (by assumption) | omega | exact ne_mp (m := m) (by assumption) (by assumption) | exact Ne.symm (ne_mp (m := m) (by assumption) (by assumption)) | exact ne_mp (m := w) (by assumption) (by assumption) | exact Ne.symm (ne_mp (m := w) (by assumption) (by assumption)))).trans (by first | assumption | exact upm_same _ _ _))))) rfl (by decide) rfl) rfl ?_
          refine z_iload (q := 26) hX dX2_costOfBoth_24 rfl rfl ?_
          refine z_V (ci := ciJ2) (T := TJ2) (N := 3) (na := 1) hX dX2_costOfBoth_26 (c_J2_get D A (Or.inl y4) (by omega) (by rw [Int.toNat_natCast]; exact q1) (by omega)) rfl q548 q471 q472 q101 q473 (by decide +kernel) ⟨Nat.le_of_ble_eq_true rfl, Nat.le_of_ble_eq_true rfl⟩ rfl rfl (Nat.le_of_ble_eq_true rfl) rfl (by first | exact Nat.le_of_ble_eq_true rfl | (show _ + 0 ≤ 0; omega)) (by first | exact Nat.le_of_ble_eq_true rfl | (show _ + 0 ≤ 0; omega)) (fun H h => ⟨h, h.obL (Or.inl y4)⟩) (fun E a => zT.no) (zPd.out ?_)
          show zG X (_ + 0) (_ + 0) _ 29 _ _
          refine zr_cast (q := 32) (C := RX8) (T := TX8) (N := 2) hX ciX8 rfl dX2_costOfBoth_29 q549 (fun H h => cI.obE h (by first | assumption | exact Or.inl (by assumption) | exact Or.inr (by first | assumption | exact upm_same _ _ _ | exact (upm_ne _ _ (by first | assumption | exact Ne.symm (by assumption) | omega | exact ne_mp (m := m) (by assumption) (by assumption) | exact Ne.symm (ne_mp (m := m) (by assumption) (by assumption)) | exact ne_mp (m := w) (by assumption) (by assumption) | exact Ne.symm (ne_mp (m := w) (by assumption) (by assumption)))).trans (by first | assumption | exact upm_same _ _ _ | exact (upm_ne _ _ (by first | assumption | exact Ne.symm (by assumption) | omega | exact ne_mp (m := m) (by assumption) (by assumption) | exact Ne.symm (ne_mp (m := m) (by assumption) (by assumption)) | exact ne_mp (m := w) (by assumption) (by assumption) | exact Ne.symm (ne_mp (m := w) (by assumption) (by assumption)))).trans (by first | assumption | exact upm_same _ _ _ | exact (upm_ne _ _ (by first | assumption | exact Ne.symm (by assumption) | omega | exact ne_mp (m := m) (by assumption) (by assumption) | exact Ne.symm (ne_mp (m := m) (by assumption) (by assumption)) | exact ne_mp (m := w) (by assumption) (by assumption) | exact Ne.symm (ne_mp (m := w) (by assumption) (by assumption)))).trans (by first | assumption | exact upm_same _ _ _))))) rfl) rfl ?_
          refine z_astore (q := 34) hX dX2_costOfBoth_32 (Nat.le_of_ble_eq_true rfl) rfl rfl ?_
          refine z_aload_n (i := 2) (q := 35) hX dX2_costOfBoth_34 rfl rfl rfl ?_
          refine zr_getN (C := RX7) (T := TX7) (N := 3) (q := 38) hX ciX7 1 rfl (by decide) in_X7 dX2_costOfBoth_35 (zNF_at 27 rfl) (fun H h => cI.rd h (by first | assumption | exact Or.inl (by assumption) | exact Or.inr (by first | assumption | exact upm_same _ _ _ | exact (upm_ne _ _ (by first | assumption | exact Ne.symm (by assumption) | omega | exact ne_mp (m := m) (by assumption) (by assumption) | exact Ne.symm (ne_mp (m := m) (by assumption) (by assumption)) | exact ne_mp (m := w) (by assumption) (by assumption) | exact Ne.symm (ne_mp (m := w) (by assumption) (by assumption)))).trans (by first | assumption | exact upm_same _ _ _ | exact (upm_ne _ _ (by first | assumption | exact Ne.symm (by assumption) | omega | exact ne_mp (m := m) (by assumption) (by assumption) | exact Ne.symm (ne_mp (m := m) (by assumption) (by assumption)) | exact ne_mp (m := w) (by assumption) (by assumption) | exact Ne.symm (ne_mp (m := w) (by assumption) (by assumption)))).trans (by first | assumption | exact upm_same _ _ _ | exact (upm_ne _ _ (by first | assumption | exact Ne.symm (by assumption) | omega | exact ne_mp (m := m) (by assumption) (by assumption) | exact Ne.symm (ne_mp (m := m) (by assumption) (by assumption)) | exact ne_mp (m := w) (by assumption) (by assumption) | exact Ne.symm (ne_mp (m := w) (by assumption) (by assumption)))).trans (by first | assumption | exact upm_same _ _ _))))) rfl (by decide) rfl) rfl ?_
          refine z_iload (q := 40) hX dX2_costOfBoth_38 rfl rfl ?_
          refine z_V (ci := ciJ2) (T := TJ2) (N := 3) (na := 1) hX dX2_costOfBoth_40 (c_J2_get D A (Or.inl z4) (by omega) (by rw [Int.toNat_natCast]; exact q4) (by omega)) rfl q548 q471 q472 q101 q473 (by decide +kernel) ⟨Nat.le_of_ble_eq_true rfl, Nat.le_of_ble_eq_true rfl⟩ rfl rfl (Nat.le_of_ble_eq_true rfl) rfl (by first | exact Nat.le_of_ble_eq_true rfl | (show _ + 0 ≤ 0; omega)) (by first | exact Nat.le_of_ble_eq_true rfl | (show _ + 0 ≤ 0; omega)) (fun H h => ⟨h, h.obL (Or.inl z4)⟩) (fun E a => zT.no) (zPd.out ?_)
          show zG X (_ + 0) (_ + 0) _ 43 _ _
          refine zr_cast (q := 46) (C := RX8) (T := TX8) (N := 2) hX ciX8 rfl dX2_costOfBoth_43 q549 (fun H h => cI.obE h (by first | assumption | exact Or.inl (by assumption) | exact Or.inr (by first | assumption | exact upm_same _ _ _ | exact (upm_ne _ _ (by first | assumption | exact Ne.symm (by assumption) | omega | exact ne_mp (m := m) (by assumption) (by assumption) | exact Ne.symm (ne_mp (m := m) (by assumption) (by assumption)) | exact ne_mp (m := w) (by assumption) (by assumption) | exact Ne.symm (ne_mp (m := w) (by assumption) (by assumption)))).trans (by first | assumption | exact upm_same _ _ _ | exact (upm_ne _ _ (by first | assumption | exact Ne.symm (by assumption) | omega | exact ne_mp (m := m) (by assumption) (by assumption) | exact Ne.symm (ne_mp (m := m) (by assumption) (by assumption)) | exact ne_mp (m := w) (by assumption) (by assumption) | exact Ne.symm (ne_mp (m := w) (by assumption) (by assumption)))).trans (by first | assumption | exact upm_same _ _ _ | exact (upm_ne _ _ (by first | assumption | exact Ne.symm (by assumption) | omega | exact ne_mp (m := m) (by assumption) (by assumption) | exact Ne.symm (ne_mp (m := m) (by assumption) (by assumption)) | exact ne_mp (m := w) (by assumption) (by assumption) | exact Ne.symm (ne_mp (m := w) (by assumption) (by assumption)))).trans (by first | assumption | exact upm_same _ _ _))))) rfl) rfl ?_
          refine z_astore (q := 48) hX dX2_costOfBoth_46 (Nat.le_of_ble_eq_true rfl) rfl rfl ?_
          refine z_aload (q := 50) hX dX2_costOfBoth_48 rfl rfl ?_
          refine z_V (ci := ciX8) (T := TX8) (N := 2) (na := 0) hX dX2_costOfBoth_50 (c_X8_isVariable D A q5) rfl q550 q551 q552 q128 q553 (by decide +kernel) ⟨Nat.le_of_ble_eq_true rfl, Nat.le_of_ble_eq_true rfl⟩ rfl rfl (Nat.le_of_ble_eq_true rfl) rfl (by first | exact Nat.le_of_ble_eq_true rfl | (show _ + 0 ≤ 0; omega)) (by first | exact Nat.le_of_ble_eq_true rfl | (show _ + 0 ≤ 0; omega)) (fun H h => ⟨h, h.obE (Or.inl u1) rfl⟩) (fun E a => zT.no) (zPd.out ?_)
          show zG X (_ + 0) (_ + 0) _ 53 _ _
          refine z_ifB_ne (q := 56) (t := 80) hX dX2_costOfBoth_53 (by decide) rfl (fun h53 => ?_) (fun h53 => ?_)
          · rw [u0] at h53
            cases h53
          · refine z_aload (q := 58) hX dX2_costOfBoth_56 rfl rfl ?_
            refine z_aload (q := 60) hX dX2_costOfBoth_58 rfl rfl ?_
            refine zr_getN (C := RX8) (T := TX8) (N := 2) (q := 63) hX ciX8 0 rfl (by decide) in_X8 dX2_costOfBoth_60 (zNF_at 28 rfl) (fun H h => cI.rd h (Or.inl u1) rfl (by decide) rfl) rfl ?_
            refine z_V (ci := ciX8) (T := TX8) (N := 2) (na := 1) hX dX2_costOfBoth_63 (c_X8_isFixed D A q2 u2) rfl q657 q658 q659 q128 q660 (by decide +kernel) ⟨Nat.le_of_ble_eq_true rfl, Nat.le_of_ble_eq_true rfl⟩ rfl rfl (Nat.le_of_ble_eq_true rfl) rfl (by first | exact Nat.le_of_ble_eq_true rfl | (show _ + 0 ≤ 0; omega)) (by first | exact Nat.le_of_ble_eq_true rfl | (show _ + 0 ≤ 0; omega)) (fun H h => ⟨h, h.obE (Or.inl q3) rfl⟩) (fun E a => zT.no) (zPd.out ?_)
            show zG X (_ + 0) (_ + 0) _ 66 _ _
            refine z_ifB_eq (q := 69) (t := 80) hX dX2_costOfBoth_66 (by decide) rfl (fun h66 => ?_) (fun h66 => ?_)
            · refine K80 (fun hh => ?_)
              rw [decide_eq_true hh.1.2, decide_eq_true hh.2] at h66
              cases h66
            · refine z_iload_n (i := 3) (q := 70) hX dX2_costOfBoth_69 rfl rfl rfl ?_
              refine z_aload (q := 72) hX dX2_costOfBoth_70 rfl rfl ?_
              refine z_V (ci := ciX8) (T := TX8) (N := 2) (na := 0) hX dX2_costOfBoth_72 (c_X8_cost D A q2) rfl q662 q534 q535 q128 q536 (by decide +kernel) ⟨Nat.le_of_ble_eq_true rfl, Nat.le_of_ble_eq_true rfl⟩ rfl rfl (Nat.le_of_ble_eq_true rfl) rfl (by first | exact Nat.le_of_ble_eq_true rfl | (show _ + 0 ≤ 0; omega)) (by first | exact Nat.le_of_ble_eq_true rfl | (show _ + 0 ≤ 0; omega)) (fun H h => ⟨h, h.obE (Or.inl q3) rfl⟩) (fun E a => zT.no) (zPd.out ?_)
              show zG X (_ + 0) (_ + 0) _ 75 _ _
              refine z_iadd (q := 76) hX dX2_costOfBoth_75 rfl ?_
              refine z_istore_n (i := 3) (q := 77) hX dX2_costOfBoth_76 rfl (Nat.le_of_ble_eq_true rfl) rfl rfl ?_
              refine z_goto (t := 107) hX dX2_costOfBoth_77 (by decide) ?_
              refine z_iinc (q := 110) hX dX2_costOfBoth_107 rfl (Nat.le_of_ble_eq_true rfl) rfl rfl ?_
              have hh := (Bool.and_eq_true _ _).mp h66
              have hl1 : slt M lo i = -1 := of_decide_eq_true hh.1
              have e9 := cosB_yes ⟨⟨u0, hl1⟩, of_decide_eq_true hh.2⟩
              refine z_goto (t := 8) hX dX2_costOfBoth_110 (by decide) ?_
              refine ih hin _ _ _ _ _ _ ?_ rfl
              rw [hst, e9, ev, if_pos hl1]
              dsimp only
              omega
      · have u0 : 0 ≤ slt M hi i ∧ slt M hi i ≤ 2 := u0
        have q5 : wSlot w a2 (slt M hi i) (tkl M (fst M hi) i) := Or.inr ⟨u0, u1⟩
        refine z_iload (q := 10) hX dX2_costOfBoth_8 rfl rfl ?_
        refine z_aload_n (i := 1) (q := 11) hX dX2_costOfBoth_10 rfl rfl rfl ?_
        refine zr_getN (C := RX7) (T := TX7) (N := 3) (q := 14) hX ciX7 1 rfl (by decide) in_X7 dX2_costOfBoth_11 (zNF_at 27 rfl) (fun H h => cI.rd h (by first | assumption | exact Or.inl (by assumption) | exact Or.inr (by first | assumption | exact upm_same _ _ _ | exact (upm_ne _ _ (by first | assumption | exact Ne.symm (by assumption) | omega | exact ne_mp (m := m) (by assumption) (by assumption) | exact Ne.symm (ne_mp (m := m) (by assumption) (by assumption)) | exact ne_mp (m := w) (by assumption) (by assumption) | exact Ne.symm (ne_mp (m := w) (by assumption) (by assumption)))).trans (by first | assumption | exact upm_same _ _ _ | exact (upm_ne _ _ (by first | assumption | exact Ne.symm (by assumption) | omega | exact ne_mp (m := m) (by assumption) (by assumption) | exact Ne.symm (ne_mp (m := m) (by assumption) (by assumption)) | exact ne_mp (m := w) (by assumption) (by assumption) | exact Ne.symm (ne_mp (m := w) (by assumption) (by assumption)))).trans (by first | assumption | exact upm_same _ _ _ | exact (upm_ne _ _ (by first | assumption | exact Ne.symm (by assumption) | omega | exact ne_mp (m := m) (by assumption) (by assumption) | exact Ne.symm (ne_mp (m := m) (by assumption) (by assumption)) | exact ne_mp (m := w) (by assumption) (by assumption) | exact Ne.symm (ne_mp (m := w) (by assumption) (by assumption)))).trans (by first | assumption | exact upm_same _ _ _))))) rfl (by decide) rfl) rfl ?_
        refine z_V (ci := ciJ2) (T := TJ2) (N := 3) (na := 0) hX dX2_costOfBoth_14 (c_J2_size D A (Or.inl y4)) rfl q547 q467 q468 q101 q469 (by decide +kernel) ⟨Nat.le_of_ble_eq_true rfl, Nat.le_of_ble_eq_true rfl⟩ rfl rfl (Nat.le_of_ble_eq_true rfl) rfl (by first | exact Nat.le_of_ble_eq_true rfl | (show _ + 0 ≤ 0; omega)) (by first | exact Nat.le_of_ble_eq_true rfl | (show _ + 0 ≤ 0; omega)) (fun H h => ⟨h, h.obL (Or.inl y4)⟩) (fun E a => zT.no) (zPd.out ?_)
        show zG X (_ + 0) (_ + 0) _ 17 _ _
        refine z_icmp_ge (q := 20) (t := 113) hX dX2_costOfBoth_17 (by decide) ⟨by omega, by omega⟩ ⟨by omega, by omega⟩ rfl (fun h17 => ?_) (fun h17 => ?_)
        · exact absurd h17 (by omega)
        · refine z_aload_n (i := 1) (q := 21) hX dX2_costOfBoth_20 rfl rfl rfl ?_
          refine zr_getN (C := RX7) (T := TX7) (N := 3) (q := 24) hX ciX7 1 rfl (by decide) in_X7 dX2_costOfBoth_21 (zNF_at 27 rfl) (fun H h => cI.rd h (by first | assumption | exact Or.inl (by assumption) | exact Or.inr (by first | assumption | exact upm_same _ _ _ | exact (upm_ne _ _ (by first | assumption | exact Ne.symm (by assumption) | omega | exact ne_mp (m := m) (by assumption) (by assumption) | exact Ne.symm (ne_mp (m := m) (by assumption) (by assumption)) | exact ne_mp (m := w) (by assumption) (by assumption) | exact Ne.symm (ne_mp (m := w) (by assumption) (by assumption)))).trans (by first | assumption | exact upm_same _ _ _ | exact (upm_ne _ _ (by first | assumption | exact Ne.symm (by assumption) | omega | exact ne_mp (m := m) (by assumption) (by assumption) | exact Ne.symm (ne_mp (m := m) (by assumption) (by assumption)) | exact ne_mp (m := w) (by assumption) (by assumption) | exact Ne.symm (ne_mp (m := w) (by assumption) (by assumption)))).trans (by first | assumption | exact upm_same _ _ _ | exact (upm_ne _ _ (by first | assumption | exact Ne.symm (by assumption) | omega | exact ne_mp (m := m) (by assumption) (by assumption) | exact Ne.symm (ne_mp (m := m) (by assumption) (by assumption)) | exact ne_mp (m := w) (by assumption) (by assumption) | exact Ne.symm (ne_mp (m := w) (by assumption) (by assumption)))).trans (by first | assumption | exact upm_same _ _ _))))) rfl (by decide) rfl) rfl ?_
          refine z_iload (q := 26) hX dX2_costOfBoth_24 rfl rfl ?_
          refine z_V (ci := ciJ2) (T := TJ2) (N := 3) (na := 1) hX dX2_costOfBoth_26 (c_J2_get D A (Or.inl y4) (by omega) (by rw [Int.toNat_natCast]; exact q1) (by omega)) rfl q548 q471 q472 q101 q473 (by decide +kernel) ⟨Nat.le_of_ble_eq_true rfl, Nat.le_of_ble_eq_true rfl⟩ rfl rfl (Nat.le_of_ble_eq_true rfl) rfl (by first | exact Nat.le_of_ble_eq_true rfl | (show _ + 0 ≤ 0; omega)) (by first | exact Nat.le_of_ble_eq_true rfl | (show _ + 0 ≤ 0; omega)) (fun H h => ⟨h, h.obL (Or.inl y4)⟩) (fun E a => zT.no) (zPd.out ?_)
          show zG X (_ + 0) (_ + 0) _ 29 _ _
          refine zr_cast (q := 32) (C := RX8) (T := TX8) (N := 2) hX ciX8 rfl dX2_costOfBoth_29 q549 (fun H h => cI.obE h (by first | assumption | exact Or.inl (by assumption) | exact Or.inr (by first | assumption | exact upm_same _ _ _ | exact (upm_ne _ _ (by first | assumption | exact Ne.symm (by assumption) | omega | exact ne_mp (m := m) (by assumption) (by assumption) | exact Ne.symm (ne_mp (m := m) (by assumption) (by assumption)) | exact ne_mp (m := w) (by assumption) (by assumption) | exact Ne.symm (ne_mp (m := w) (by assumption) (by assumption)))).trans (by first | assumption | exact upm_same _ _ _ | exact (upm_ne _ _ (by first | assumption | exact Ne.symm (by assumption) | omega | exact ne_mp (m := m) (by assumption) (by assumption) | exact Ne.symm (ne_mp (m := m) (by assumption) (by assumption)) | exact ne_mp (m := w) (by assumption) (by assumption) | exact Ne.symm (ne_mp (m := w) (by assumption) (by assumption)))).trans (by first | assumption | exact upm_same _ _ _ | exact (upm_ne _ _ (by first | assumption | exact Ne.symm (by assumption) | omega | exact ne_mp (m := m) (by assumption) (by assumption) | exact Ne.symm (ne_mp (m := m) (by assumption) (by assumption)) | exact ne_mp (m := w) (by assumption) (by assumption) | exact Ne.symm (ne_mp (m := w) (by assumption) (by assumption)))).trans (by first | assumption | exact upm_same _ _ _))))) rfl) rfl ?_
          refine z_astore (q := 34) hX dX2_costOfBoth_32 (Nat.le_of_ble_eq_true rfl) rfl rfl ?_
          refine z_aload_n (i := 2) (q := 35) hX dX2_costOfBoth_34 rfl rfl rfl ?_
          refine zr_getN (C := RX7) (T := TX7) (N := 3) (q := 38) hX ciX7 1 rfl (by decide) in_X7 dX2_costOfBoth_35 (zNF_at 27 rfl) (fun H h => cI.rd h (by first | assumption | exact Or.inl (by assumption) | exact Or.inr (by first | assumption | exact upm_same _ _ _ | exact (upm_ne _ _ (by first | assumption | exact Ne.symm (by assumption) | omega | exact ne_mp (m := m) (by assumption) (by assumption) | exact Ne.symm (ne_mp (m := m) (by assumption) (by assumption)) | exact ne_mp (m := w) (by assumption) (by assumption) | exact Ne.symm (ne_mp (m := w) (by assumption) (by assumption)))).trans (by first | assumption | exact upm_same _ _ _ | exact (upm_ne _ _ (by first | assumption | exact Ne.symm (by assumption) | omega | exact ne_mp (m := m) (by assumption) (by assumption) | exact Ne.symm (ne_mp (m := m) (by assumption) (by assumption)) | exact ne_mp (m := w) (by assumption) (by assumption) | exact Ne.symm (ne_mp (m := w) (by assumption) (by assumption)))).trans (by first | assumption | exact upm_same _ _ _ | exact (upm_ne _ _ (by first | assumption | exact Ne.symm (by assumption) | omega | exact ne_mp (m := m) (by assumption) (by assumption) | exact Ne.symm (ne_mp (m := m) (by assumption) (by assumption)) | exact ne_mp (m := w) (by assumption) (by assumption) | exact Ne.symm (ne_mp (m := w) (by assumption) (by assumption)))).trans (by first | assumption | exact upm_same _ _ _))))) rfl (by decide) rfl) rfl ?_
          refine z_iload (q := 40) hX dX2_costOfBoth_38 rfl rfl ?_
          refine z_V (ci := ciJ2) (T := TJ2) (N := 3) (na := 1) hX dX2_costOfBoth_40 (c_J2_get D A (Or.inl z4) (by omega) (by rw [Int.toNat_natCast]; exact q4) (by omega)) rfl q548 q471 q472 q101 q473 (by decide +kernel) ⟨Nat.le_of_ble_eq_true rfl, Nat.le_of_ble_eq_true rfl⟩ rfl rfl (Nat.le_of_ble_eq_true rfl) rfl (by first | exact Nat.le_of_ble_eq_true rfl | (show _ + 0 ≤ 0; omega)) (by first | exact Nat.le_of_ble_eq_true rfl | (show _ + 0 ≤ 0; omega)) (fun H h => ⟨h, h.obL (Or.inl z4)⟩) (fun E a => zT.no) (zPd.out ?_)
          show zG X (_ + 0) (_ + 0) _ 43 _ _
          refine zr_cast (q := 46) (C := RX8) (T := TX8) (N := 2) hX ciX8 rfl dX2_costOfBoth_43 q549 (fun H h => cI.obE h (by first | assumption | exact Or.inl (by assumption) | exact Or.inr (by first | assumption | exact upm_same _ _ _ | exact (upm_ne _ _ (by first | assumption | exact Ne.symm (by assumption) | omega | exact ne_mp (m := m) (by assumption) (by assumption) | exact Ne.symm (ne_mp (m := m) (by assumption) (by assumption)) | exact ne_mp (m := w) (by assumption) (by assumption) | exact Ne.symm (ne_mp (m := w) (by assumption) (by assumption)))).trans (by first | assumption | exact upm_same _ _ _ | exact (upm_ne _ _ (by first | assumption | exact Ne.symm (by assumption) | omega | exact ne_mp (m := m) (by assumption) (by assumption) | exact Ne.symm (ne_mp (m := m) (by assumption) (by assumption)) | exact ne_mp (m := w) (by assumption) (by assumption) | exact Ne.symm (ne_mp (m := w) (by assumption) (by assumption)))).trans (by first | assumption | exact upm_same _ _ _ | exact (upm_ne _ _ (by first | assumption | exact Ne.symm (by assumption) | omega | exact ne_mp (m := m) (by assumption) (by assumption) | exact Ne.symm (ne_mp (m := m) (by assumption) (by assumption)) | exact ne_mp (m := w) (by assumption) (by assumption) | exact Ne.symm (ne_mp (m := w) (by assumption) (by assumption)))).trans (by first | assumption | exact upm_same _ _ _))))) rfl) rfl ?_
          refine z_astore (q := 48) hX dX2_costOfBoth_46 (Nat.le_of_ble_eq_true rfl) rfl rfl ?_
          refine z_aload (q := 50) hX dX2_costOfBoth_48 rfl rfl ?_
          refine z_V (ci := ciX8) (T := TX8) (N := 2) (na := 0) hX dX2_costOfBoth_50 (c_X8_isVariable D A q5) rfl q550 q551 q552 q128 q553 (by decide +kernel) ⟨Nat.le_of_ble_eq_true rfl, Nat.le_of_ble_eq_true rfl⟩ rfl rfl (Nat.le_of_ble_eq_true rfl) rfl (by first | exact Nat.le_of_ble_eq_true rfl | (show _ + 0 ≤ 0; omega)) (by first | exact Nat.le_of_ble_eq_true rfl | (show _ + 0 ≤ 0; omega)) (fun H h => ⟨h, h.obE (Or.inl u1) rfl⟩) (fun E a => zT.no) (zPd.out ?_)
          show zG X (_ + 0) (_ + 0) _ 53 _ _
          refine z_ifB_ne (q := 56) (t := 80) hX dX2_costOfBoth_53 (by decide) rfl (fun h53 => ?_) (fun h53 => ?_)
          · exact K80 (by omega)
          · rw [decide_eq_false (by omega)] at h53
            cases h53
    · have hiN : i = (nTl M (fst M lo)).toNat := by omega
      refine z_iload (q := 10) hX dX2_costOfBoth_8 rfl rfl ?_
      refine z_aload_n (i := 1) (q := 11) hX dX2_costOfBoth_10 rfl rfl rfl ?_
      refine zr_getN (C := RX7) (T := TX7) (N := 3) (q := 14) hX ciX7 1 rfl (by decide) in_X7 dX2_costOfBoth_11 (zNF_at 27 rfl) (fun H h => cI.rd h (by first | assumption | exact Or.inl (by assumption) | exact Or.inr (by first | assumption | exact upm_same _ _ _ | exact (upm_ne _ _ (by first | assumption | exact Ne.symm (by assumption) | omega | exact ne_mp (m := m) (by assumption) (by assumption) | exact Ne.symm (ne_mp (m := m) (by assumption) (by assumption)) | exact ne_mp (m := w) (by assumption) (by assumption) | exact Ne.symm (ne_mp (m := w) (by assumption) (by assumption)))).trans (by first | assumption | exact upm_same _ _ _ | exact (upm_ne _ _ (by first | assumption | exact Ne.symm (by assumption) | omega | exact ne_mp (m := m) (by assumption) (by assumption) | exact Ne.symm (ne_mp (m := m) (by assumption) (by assumption)) | exact ne_mp (m := w) (by assumption) (by assumption) | exact Ne.symm (ne_mp (m := w) (by assumption) (by assumption)))).trans (by first | assumption | exact upm_same _ _ _ | exact (upm_ne _ _ (by first | assumption | exact Ne.symm (by assumption) | omega | exact ne_mp (m := m) (by assumption) (by assumption) | exact Ne.symm (ne_mp (m := m) (by assumption) (by assumption)) | exact ne_mp (m := w) (by assumption) (by assumption) | exact Ne.symm (ne_mp (m := w) (by assumption) (by assumption)))).trans (by first | assumption | exact upm_same _ _ _))))) rfl (by decide) rfl) rfl ?_
      refine z_V (ci := ciJ2) (T := TJ2) (N := 3) (na := 0) hX dX2_costOfBoth_14 (c_J2_size D A (Or.inl y4)) rfl q547 q467 q468 q101 q469 (by decide +kernel) ⟨Nat.le_of_ble_eq_true rfl, Nat.le_of_ble_eq_true rfl⟩ rfl rfl (Nat.le_of_ble_eq_true rfl) rfl (by first | exact Nat.le_of_ble_eq_true rfl | (show _ + 0 ≤ 0; omega)) (by first | exact Nat.le_of_ble_eq_true rfl | (show _ + 0 ≤ 0; omega)) (fun H h => ⟨h, h.obL (Or.inl y4)⟩) (fun E a => zT.no) (zPd.out ?_)
      show zG X (_ + 0) (_ + 0) _ 17 _ _
      refine z_icmp_ge (q := 20) (t := 113) hX dX2_costOfBoth_17 (by decide) ⟨by omega, by omega⟩ ⟨by omega, by omega⟩ rfl (fun h17 => ?_) (fun h17 => ?_)
      · refine z_iload_n (i := 3) (q := 114) hX dX2_costOfBoth_113 rfl rfl rfl ?_
        exact z_iret hX dX2_costOfBoth_114 (by first | exact Nat.le_of_ble_eq_true rfl | (show (_ : Nat) ≤ 0; omega)) (by first | exact Nat.le_of_ble_eq_true rfl | (show (_ : Nat) ≤ 0; omega)) rfl (fun H h => ⟨(n1, f1), by rw [ev, hiN]; rfl, trivial, h⟩)
      · exact absurd (by omega) h17
  refine z_aload_n (i := 1) (q := 1) hX dX2_costOfBoth_0 rfl rfl rfl ?_
  refine z_V (ci := ciX7) (T := TX7) (N := 3) (na := 0) hX dX2_costOfBoth_1 (c_X7_gapSum D A hx0) rfl q656 q529 q530 q127 q531 (by decide +kernel) ⟨Nat.le_of_ble_eq_true rfl, Nat.le_of_ble_eq_true rfl⟩ rfl rfl (Nat.le_of_ble_eq_true rfl) rfl (by first | exact Nat.le_of_ble_eq_true rfl | (show _ + 0 ≤ 0; omega)) (by first | exact Nat.le_of_ble_eq_true rfl | (show _ + 0 ≤ 0; omega)) (fun H h => ⟨h, h.obE (Or.inl y1) rfl⟩) (fun E a => zT.no) (zPd.out ?_)
  show zG X (_ + 0) (_ + 0) _ 4 _ _
  refine z_istore_n (i := 3) (q := 5) hX dX2_costOfBoth_4 rfl (Nat.le_of_ble_eq_true rfl) rfl rfl ?_
  refine z_iconst (q := 6) hX dX2_costOfBoth_5 rfl ?_
  refine z_istore (q := 8) hX dX2_costOfBoth_6 (Nat.le_of_ble_eq_true rfl) rfl rfl ?_
  rw [gapsS_eq]
  refine zG.mono (K 0 (Nat.zero_le _) _ 0 _ _ n0 f0 (by show _ = _ + (0 : Int); rw [Int.add_zero]) rfl) (fun H h => by rw [cM_self hc1 hc2]; exact h)
/-- a template of a log -/
theorem wTs.get {w : zMp} {tf : Nat → Option Nat} {M : Int → Int} (h : wTs w tf M) {t : Int} (ht : isT M t = true) : ∃ x, tf t.toNat = some x ∧ wTm w x M t ∧ 0 ≤ t ∧ t ≤ 11 := by
  have h1 := ht
  unfold isT at h1
  have h2 := (Bool.and_eq_true _ _).mp ((Bool.and_eq_true _ _).mp h1).1
  have h3 := of_decide_eq_true h2.1
  have h4 := of_decide_eq_true h2.2
  rcases h t.toNat (by omega) with ⟨q1, q2⟩ | ⟨q1, x, q2, q3⟩
  · rw [show ((t.toNat : Nat) : Int) = t by omega, ht] at q1
    cases q1
  · rw [show ((t.toNat : Nat) : Int) = t by omega] at q3
    exact ⟨x, q2, q3, h3, h4⟩
def gnX : String := "LogCompactor$RefusedException"
/-- a refusal thrown -/
def xRf (D : zD) (A : Nat → Prop) (w m : zMp) (c d : Int) : String → Nat → Heap → Prop := zXs "LogCompactor$RefusedException" (fun e H => (w e = none ∧ m e = none) ∧ cI D A w (upm m e (eR none c d)) H)
abbrev rmX2_gain_ok : Room := { frames := 10, cells := 0, slots := 0, locals := 222 }
set_option maxHeartbeats 4000000 in
theorem c_X2_gain_ok (D : zD) (A : Nat → Prop) {w m : zMp} {b : Nat} {M : Int → Int} {ll ta col tc : Nat} {x y : Int} (hb : wLog D w m b M ll ta col) (hc : cH D m col tc) (hx : isT M x = true) (hy : isT M y = true) (hne2 : x ≠ y) (hf : isFm M (fst M (min x y)) (fst M (max x y)) = true) : zC D yX2_gain cX2_gain 5 (some .int) none rmX2_gain_ok A [.ref b, zI (x), zI (y)] (cI D A w m) (zPe (fun (z : Int × (Nat → Option Nat)) => some (zI (cosTt M (min x y) + cosTt M (max x y) - cosBt M (min x y) (max x y)))) (fun _ => True) (fun z => cI D A w (cM D m col tc z.1 z.2))) (zNo) := by
  refine zC_start (L := [some (.ref b), some (zI (x)), some (zI (y)), none, none]) (by decide) (Nat.le_of_ble_eq_true rfl) rfl (fun X hX => ?_)
  have hne := hc.ne
  have hb0 := hb
  have hok := hb.1
  obtain ⟨-, h1, ⟨mc, ls, h2, h3⟩, tf, h4, h5⟩ := hb
  obtain ⟨lo, hlo⟩ : ∃ lo : Int, lo = min x y := ⟨_, rfl⟩
  obtain ⟨hi, hhi⟩ : ∃ hi : Int, hi = max x y := ⟨_, rfl⟩
  have hlT : isT M lo = true := by rw [hlo]; rcases (show min x y = x ∨ min x y = y by omega) with q | q <;> rw [q] <;> assumption
  have hhT : isT M hi = true := by rw [hhi]; rcases (show max x y = x ∨ max x y = y by omega) with q | q <;> rw [q] <;> assumption
  rw [← hlo, ← hhi] at hf hX
  have hlh : lo ≠ hi := by omega
  obtain ⟨xl, e1, e2, e3, e4⟩ := h5.get hlT
  obtain ⟨xh, g1, g2, g3, g4⟩ := h5.get hhT
  have e20 := e2
  have g20 := g2
  have hxr := (h5.get hx).choose_spec.2.2
  have hyr := (h5.get hy).choose_spec.2.2
  have hgf : gapsL (tx M (fst M lo)) = gapsL (tx M (fst M hi)) := of_decide_eq_true hf
  have hnn := (gapsL_eq.mp hgf).1
  obtain ⟨⟨k1, k2, k3⟩, gl, sl, rl, mc4, mc2, mc3, gs, ss, rs, y1, y2, y3, y4, y5, y6, y7⟩ := e2
  obtain ⟨⟨j1, j2, j3⟩, gl9, sl9, rl9, mc9, mc8, mc7, gs9, ss9, rs9, z1, z2, z3, z4, z5, z6, z7⟩ := g2
  have n1 := gapsL_len (tx M (fst M hi))
  have n2 := nT_range (tx M (fst M hi))
  refine z_aload_n (i := 0) (q := 1) hX dX2_gain_0 rfl rfl rfl ?_
  refine zr_get (C := RX2) (T := TX2) (N := 4) (q := 4) hX ciX2 1 rfl (by decide) in_X2 dX2_gain_1 q207 (Or.inl rfl) (fun H h => cI.rd h (by first | assumption | exact Or.inl (by assumption) | exact Or.inr (by first | assumption | exact upm_same _ _ _ | exact (upm_ne _ _ (by first | assumption | exact Ne.symm (by assumption) | omega | exact ne_mp (m := m) (by assumption) (by assumption) | exact Ne.symm (ne_mp (m := m) (by assumption) (by assumption)) | exact ne_mp (m := w) (by assumption) (by assumption) | exact Ne.symm (ne_mp (m := w) (by assumption) (by assumption)))).trans (by first | assumption | exact upm_same _ _ _ | exact (upm_ne _ _ (by first | assumption | exact Ne.symm (by assumption) | omega | exact ne_mp (m := m) (by assumption) (by assumption) | exact Ne.symm (ne_mp (m := m) (by assumption) (by assumption)) | exact ne_mp (m := w) (by assumption) (by assumption) | exact Ne.symm (ne_mp (m := w) (by assumption) (by assumption)))).trans (by first | assumption | exact upm_same _ _ _ | exact (upm_ne _ _ (by first | assumption | exact Ne.symm (by assumption) | omega | exact ne_mp (m := m) (by assumption) (by assumption) | exact Ne.symm (ne_mp (m := m) (by assumption) (by assumption)) | exact ne_mp (m := w) (by assumption) (by assumption) | exact Ne.symm (ne_mp (m := w) (by assumption) (by assumption)))).trans (by first | assumption | exact upm_same _ _ _))))) rfl (by decide) rfl) rfl ?_
  refine z_iload_n (i := 1) (q := 5) hX dX2_gain_4 rfl rfl rfl ?_
  refine z_iload_n (i := 2) (q := 6) hX dX2_gain_5 rfl rfl rfl ?_
  refine z_mmin (q := 9) hX dX2_gain_6 ⟨by omega, by omega⟩ ⟨by omega, by omega⟩ q493 q445 q112 q446 (Nat.le_of_ble_eq_true rfl) rfl ⟨Nat.le_of_ble_eq_true rfl, Nat.le_of_ble_eq_true rfl⟩ (by first | exact Nat.le_of_ble_eq_true rfl | (show (_ : Nat) ≤ 0; omega)) (by first | exact Nat.le_of_ble_eq_true rfl | (show (_ : Nat) ≤ 0; omega)) rfl ?_
  rw [← hlo]
  refine zr_aald (q := 10) hX 7 rfl dX2_gain_9 (fun H h => (cI.at h (by first | assumption | exact Or.inl (by assumption) | exact Or.inr (by first | assumption | exact upm_same _ _ _ | exact (upm_ne _ _ (by first | assumption | exact Ne.symm (by assumption) | omega | exact ne_mp (m := m) (by assumption) (by assumption) | exact Ne.symm (ne_mp (m := m) (by assumption) (by assumption)) | exact ne_mp (m := w) (by assumption) (by assumption) | exact Ne.symm (ne_mp (m := w) (by assumption) (by assumption)))).trans (by first | assumption | exact upm_same _ _ _ | exact (upm_ne _ _ (by first | assumption | exact Ne.symm (by assumption) | omega | exact ne_mp (m := m) (by assumption) (by assumption) | exact Ne.symm (ne_mp (m := m) (by assumption) (by assumption)) | exact ne_mp (m := w) (by assumption) (by assumption) | exact Ne.symm (ne_mp (m := w) (by assumption) (by assumption)))).trans (by first | assumption | exact upm_same _ _ _ | exact (upm_ne _ _ (by first | assumption | exact Ne.symm (by assumption) | omega | exact ne_mp (m := m) (by assumption) (by assumption) | exact Ne.symm (ne_mp (m := m) (by assumption) (by assumption)) | exact ne_mp (m := w) (by assumption) (by assumption) | exact Ne.symm (ne_mp (m := w) (by assumption) (by assumption)))).trans (by first | assumption | exact upm_same _ _ _)))))).raQ) ⟨by omega, by omega⟩ (by first | decide | omega) rfl ?_
  refine zG.top (v2 := .ref xl) (by show va_rf (tf (lo).toNat) = _; rw [e1]; rfl) ?_
  refine z_astore_n (i := 3) (q := 11) hX dX2_gain_10 rfl (Nat.le_of_ble_eq_true rfl) rfl rfl ?_
  refine z_aload_n (i := 0) (q := 12) hX dX2_gain_11 rfl rfl rfl ?_
  refine zr_get (C := RX2) (T := TX2) (N := 4) (q := 15) hX ciX2 1 rfl (by decide) in_X2 dX2_gain_12 q207 (Or.inl rfl) (fun H h => cI.rd h (by first | assumption | exact Or.inl (by assumption) | exact Or.inr (by first | assumption | exact upm_same _ _ _ | exact (upm_ne _ _ (by first | assumption | exact Ne.symm (by assumption) | omega | exact ne_mp (m := m) (by assumption) (by assumption) | exact Ne.symm (ne_mp (m := m) (by assumption) (by assumption)) | exact ne_mp (m := w) (by assumption) (by assumption) | exact Ne.symm (ne_mp (m := w) (by assumption) (by assumption)))).trans (by first | assumption | exact upm_same _ _ _ | exact (upm_ne _ _ (by first | assumption | exact Ne.symm (by assumption) | omega | exact ne_mp (m := m) (by assumption) (by assumption) | exact Ne.symm (ne_mp (m := m) (by assumption) (by assumption)) | exact ne_mp (m := w) (by assumption) (by assumption) | exact Ne.symm (ne_mp (m := w) (by assumption) (by assumption)))).trans (by first | assumption | exact upm_same _ _ _ | exact (upm_ne _ _ (by first | assumption | exact Ne.symm (by assumption) | omega | exact ne_mp (m := m) (by assumption) (by assumption) | exact Ne.symm (ne_mp (m := m) (by assumption) (by assumption)) | exact ne_mp (m := w) (by assumption) (by assumption) | exact Ne.symm (ne_mp (m := w) (by assumption) (by assumption)))).trans (by first | assumption | exact upm_same _ _ _))))) rfl (by decide) rfl) rfl ?_
  refine z_iload_n (i := 1) (q := 16) hX dX2_gain_15 rfl rfl rfl ?_
  refine z_iload_n (i := 2) (q := 17) hX dX2_gain_16 rfl rfl rfl ?_
  refine z_mmax (q := 20) hX dX2_gain_17 ⟨by omega, by omega⟩ ⟨by omega, by omega⟩ q494 q398 q112 q399 (Nat.le_of_ble_eq_true rfl) rfl ⟨Nat.le_of_ble_eq_true rfl, Nat.le_of_ble_eq_true rfl⟩ (by first | exact Nat.le_of_ble_eq_true rfl | (show (_ : Nat) ≤ 0; omega)) (by first | exact Nat.le_of_ble_eq_true rfl | (show (_ : Nat) ≤ 0; omega)) rfl ?_
  rw [← hhi]
  refine zr_aald (q := 21) hX 7 rfl dX2_gain_20 (fun H h => (cI.at h (by first | assumption | exact Or.inl (by assumption) | exact Or.inr (by first | assumption | exact upm_same _ _ _ | exact (upm_ne _ _ (by first | assumption | exact Ne.symm (by assumption) | omega | exact ne_mp (m := m) (by assumption) (by assumption) | exact Ne.symm (ne_mp (m := m) (by assumption) (by assumption)) | exact ne_mp (m := w) (by assumption) (by assumption) | exact Ne.symm (ne_mp (m := w) (by assumption) (by assumption)))).trans (by first | assumption | exact upm_same _ _ _ | exact (upm_ne _ _ (by first | assumption | exact Ne.symm (by assumption) | omega | exact ne_mp (m := m) (by assumption) (by assumption) | exact Ne.symm (ne_mp (m := m) (by assumption) (by assumption)) | exact ne_mp (m := w) (by assumption) (by assumption) | exact Ne.symm (ne_mp (m := w) (by assumption) (by assumption)))).trans (by first | assumption | exact upm_same _ _ _ | exact (upm_ne _ _ (by first | assumption | exact Ne.symm (by assumption) | omega | exact ne_mp (m := m) (by assumption) (by assumption) | exact Ne.symm (ne_mp (m := m) (by assumption) (by assumption)) | exact ne_mp (m := w) (by assumption) (by assumption) | exact Ne.symm (ne_mp (m := w) (by assumption) (by assumption)))).trans (by first | assumption | exact upm_same _ _ _)))))).raQ) ⟨by omega, by omega⟩ (by first | decide | omega) rfl ?_
  refine zG.top (v2 := .ref xh) (by show va_rf (tf (hi).toNat) = _; rw [g1]; rfl) ?_
  refine z_astore (q := 23) hX dX2_gain_21 (Nat.le_of_ble_eq_true rfl) rfl rfl ?_
  refine z_aload_n (i := 3) (q := 24) hX dX2_gain_23 rfl rfl rfl ?_
  refine z_aload (q := 26) hX dX2_gain_24 rfl rfl ?_
  refine zr_getN (C := RX7) (T := TX7) (N := 3) (q := 29) hX ciX7 0 rfl (by decide) in_X7 dX2_gain_26 (zNF_at 25 rfl) (fun H h => cI.rd h (by first | assumption | exact Or.inl (by assumption) | exact Or.inr (by first | assumption | exact upm_same _ _ _ | exact (upm_ne _ _ (by first | assumption | exact Ne.symm (by assumption) | omega | exact ne_mp (m := m) (by assumption) (by assumption) | exact Ne.symm (ne_mp (m := m) (by assumption) (by assumption)) | exact ne_mp (m := w) (by assumption) (by assumption) | exact Ne.symm (ne_mp (m := w) (by assumption) (by assumption)))).trans (by first | assumption | exact upm_same _ _ _ | exact (upm_ne _ _ (by first | assumption | exact Ne.symm (by assumption) | omega | exact ne_mp (m := m) (by assumption) (by assumption) | exact Ne.symm (ne_mp (m := m) (by assumption) (by assumption)) | exact ne_mp (m := w) (by assumption) (by assumption) | exact Ne.symm (ne_mp (m := w) (by assumption) (by assumption)))).trans (by first | assumption | exact upm_same _ _ _ | exact (upm_ne _ _ (by first | assumption | exact Ne.symm (by assumption) | omega | exact ne_mp (m := m) (by assumption) (by assumption) | exact Ne.symm (ne_mp (m := m) (by assumption) (by assumption)) | exact ne_mp (m := w) (by assumption) (by assumption) | exact Ne.symm (ne_mp (m := w) (by assumption) (by assumption)))).trans (by first | assumption | exact upm_same _ _ _))))) rfl (by decide) rfl) rfl ?_
  refine z_V (ci := ciX7) (T := TX7) (N := 3) (na := 1) hX dX2_gain_29 (c_X7_isForm D A e20 z2 z3 (by omega)) rfl q462 q463 q464 q127 q465 (by decide +kernel) ⟨Nat.le_of_ble_eq_true rfl, Nat.le_of_ble_eq_true rfl⟩ rfl rfl (Nat.le_of_ble_eq_true rfl) rfl (by first | exact Nat.le_of_ble_eq_true rfl | (show _ + 0 ≤ 0; omega)) (by first | exact Nat.le_of_ble_eq_true rfl | (show _ + 0 ≤ 0; omega)) (fun H h => ⟨h, h.obE (Or.inl y1) rfl⟩) (fun E a => zT.no) (zPd.out ?_)
  show zG X (_ + 0) (_ + 0) _ 32 _ _
  refine z_ifB_ne (q := 35) (t := 50) hX dX2_gain_32 (by decide) rfl (fun h32 => ?_) (fun h32 => ?_)
  · refine z_aload_n (i := 0) (q := 51) hX dX2_gain_50 rfl rfl rfl ?_
    refine z_aload_n (i := 3) (q := 52) hX dX2_gain_51 rfl rfl rfl ?_
    refine z_V (ci := ciX2) (T := TX2) (N := 4) (na := 1) hX dX2_gain_52 (c_X2_costOf D A hb0 hc e20 hlT) rfl q520 q521 q522 q98 q523 (by decide +kernel) ⟨Nat.le_of_ble_eq_true rfl, Nat.le_of_ble_eq_true rfl⟩ rfl rfl (Nat.le_of_ble_eq_true rfl) rfl (by first | exact Nat.le_of_ble_eq_true rfl | (show _ + 0 ≤ 0; omega)) (by first | exact Nat.le_of_ble_eq_true rfl | (show _ + 0 ≤ 0; omega)) (fun H h => ⟨h, h.obE h1 rfl⟩) (fun E a => zT.no) (zPe.out (fun x52 hx52 => ?_))
    show zG X (_ + 0) (_ + 0) _ 55 _ _
    have hb1 := hb0.cM hc x52.1 x52.2
    have hc1 := hc.cM x52.1 x52.2
    have h11 := hb1.2.1
    refine z_aload_n (i := 0) (q := 56) hX dX2_gain_55 rfl rfl rfl ?_
    refine z_aload (q := 58) hX dX2_gain_56 rfl rfl ?_
    refine z_V (ci := ciX2) (T := TX2) (N := 4) (na := 1) hX dX2_gain_58 (c_X2_costOf D A hb1 hc1 g20 hhT) rfl q520 q521 q522 q98 q523 (by decide +kernel) ⟨Nat.le_of_ble_eq_true rfl, Nat.le_of_ble_eq_true rfl⟩ rfl rfl (Nat.le_of_ble_eq_true rfl) rfl (by first | exact Nat.le_of_ble_eq_true rfl | (show _ + 0 ≤ 0; omega)) (by first | exact Nat.le_of_ble_eq_true rfl | (show _ + 0 ≤ 0; omega)) (fun H h => ⟨h, h.obE h11 rfl⟩) (fun E a => zT.no) (zPe.out (fun x58 hx58 => ?_))
    show zG X (_ + 0) (_ + 0) _ 61 _ _
    rw [cM_cM (n := x52.1) (f := x52.2) hne]
    have hb2 := hb0.cM hc x58.1 x58.2
    have hc2 := hc.cM x58.1 x58.2
    have h12 := hb2.2.1
    refine z_iadd (q := 62) hX dX2_gain_61 rfl ?_
    refine z_aload_n (i := 0) (q := 63) hX dX2_gain_62 rfl rfl rfl ?_
    refine z_aload_n (i := 3) (q := 64) hX dX2_gain_63 rfl rfl rfl ?_
    refine z_aload (q := 66) hX dX2_gain_64 rfl rfl ?_
    refine z_V (ci := ciX2) (T := TX2) (N := 4) (na := 2) hX dX2_gain_66 (c_X2_costOfBoth D A hb2 hc2 e20 g20 hlh hnn) rfl q652 q654 qs10 q98 q655 (by decide +kernel) ⟨Nat.le_of_ble_eq_true rfl, Nat.le_of_ble_eq_true rfl⟩ rfl rfl (Nat.le_of_ble_eq_true rfl) rfl (by first | exact Nat.le_of_ble_eq_true rfl | (show _ + 0 ≤ 0; omega)) (by first | exact Nat.le_of_ble_eq_true rfl | (show _ + 0 ≤ 0; omega)) (fun H h => ⟨h, h.obE h12 rfl⟩) (fun E a => zT.no) (zPe.out (fun x66 hx66 => ?_))
    show zG X (_ + 0) (_ + 0) _ 69 _ _
    refine z_isub (q := 70) hX dX2_gain_69 rfl ?_
    exact z_iret hX dX2_gain_70 (by first | exact Nat.le_of_ble_eq_true rfl | (show (_ : Nat) ≤ 0; omega)) (by first | exact Nat.le_of_ble_eq_true rfl | (show (_ : Nat) ≤ 0; omega)) rfl (fun H h => ⟨x66, rfl, trivial, by rw [cM_cM (n := x58.1) (f := x58.2) hne] at h; exact h⟩)
  · rw [decide_eq_true hgf] at h32
    cases h32
abbrev rmX2_gain_no : Room := { frames := 4, cells := 1, slots := 8, locals := 90 }
set_option maxHeartbeats 4000000 in
theorem c_X2_gain_no (D : zD) (A : Nat → Prop) {w m : zMp} {b : Nat} {M : Int → Int} {ll ta col : Nat} {x y : Int} (hb : wLog D w m b M ll ta col) (hx : isT M x = true) (hy : isT M y = true) (hf : isFm M (fst M (min x y)) (fst M (max x y)) = false) : zC D yX2_gain cX2_gain 5 (some .int) none rmX2_gain_no A [.ref b, zI (x), zI (y)] (cI D A w m) (zPe (fun (z : Nat) => none) (fun _ => False) (fun _ => cI D A w m)) (xRf D A w m 12 (min x y)) := by
  refine zC_start (L := [some (.ref b), some (zI (x)), some (zI (y)), none, none]) (by decide) (Nat.le_of_ble_eq_true rfl) rfl (fun X hX => ?_)
  have hb0 := hb
  obtain ⟨-, h1, ⟨mc, ls, h2, h3⟩, tf, h4, h5⟩ := hb
  obtain ⟨lo, hlo⟩ : ∃ lo : Int, lo = min x y := ⟨_, rfl⟩
  obtain ⟨hi, hhi⟩ : ∃ hi : Int, hi = max x y := ⟨_, rfl⟩
  have hlT : isT M lo = true := by rw [hlo]; rcases (show min x y = x ∨ min x y = y by omega) with q | q <;> rw [q] <;> assumption
  have hhT : isT M hi = true := by rw [hhi]; rcases (show max x y = x ∨ max x y = y by omega) with q | q <;> rw [q] <;> assumption
  rw [← hlo] at hX
  rw [← hlo, ← hhi] at hf
  obtain ⟨xl, e1, e2, e3, e4⟩ := h5.get hlT
  obtain ⟨xh, g1, g2, g3, g4⟩ := h5.get hhT
  have e20 := e2
  have g20 := g2
  have hxr := (h5.get hx).choose_spec.2.2
  have hyr := (h5.get hy).choose_spec.2.2
  obtain ⟨⟨k1, k2, k3⟩, gl, sl, rl, mc4, mc2, mc3, gs, ss, rs, y1, y2, y3, y4, y5, y6, y7⟩ := e2
  obtain ⟨⟨j1, j2, j3⟩, gl9, sl9, rl9, mc9, mc8, mc7, gs9, ss9, rs9, z1, z2, z3, z4, z5, z6, z7⟩ := g2
  have n1 := gapsL_len (tx M (fst M hi))
  have n2 := nT_range (tx M (fst M hi))
  refine z_aload_n (i := 0) (q := 1) hX dX2_gain_0 rfl rfl rfl ?_
  refine zr_get (C := RX2) (T := TX2) (N := 4) (q := 4) hX ciX2 1 rfl (by decide) in_X2 dX2_gain_1 q207 (Or.inl rfl) (fun H h => cI.rd h (by first | assumption | exact Or.inl (by assumption) | exact Or.inr (by first | assumption | exact upm_same _ _ _ | exact (upm_ne _ _ (by first | assumption | exact Ne.symm (by assumption) | omega | exact ne_mp (m := m) (by assumption) (by assumption) | exact Ne.symm (ne_mp (m := m) (by assumption) (by assumption)) | exact ne_mp (m := w) (by assumption) (by assumption) | exact Ne.symm (ne_mp (m := w) (by assumption) (by assumption)))).trans (by first | assumption | exact upm_same _ _ _ | exact (upm_ne _ _ (by first | assumption | exact Ne.symm (by assumption) | omega | exact ne_mp (m := m) (by assumption) (by assumption) | exact Ne.symm (ne_mp (m := m) (by assumption) (by assumption)) | exact ne_mp (m := w) (by assumption) (by assumption) | exact Ne.symm (ne_mp (m := w) (by assumption) (by assumption)))).trans (by first | assumption | exact upm_same _ _ _ | exact (upm_ne _ _ (by first | assumption | exact Ne.symm (by assumption) | omega | exact ne_mp (m := m) (by assumption) (by assumption) | exact Ne.symm (ne_mp (m := m) (by assumption) (by assumption)) | exact ne_mp (m := w) (by assumption) (by assumption) | exact Ne.symm (ne_mp (m := w) (by assumption) (by assumption)))).trans (by first | assumption | exact upm_same _ _ _))))) rfl (by decide) rfl) rfl ?_
  refine z_iload_n (i := 1) (q := 5) hX dX2_gain_4 rfl rfl rfl ?_
  refine z_iload_n (i := 2) (q := 6) hX dX2_gain_5 rfl rfl rfl ?_
  refine z_mmin (q := 9) hX dX2_gain_6 ⟨by omega, by omega⟩ ⟨by omega, by omega⟩ q493 q445 q112 q446 (Nat.le_of_ble_eq_true rfl) rfl ⟨Nat.le_of_ble_eq_true rfl, Nat.le_of_ble_eq_true rfl⟩ (by first | exact Nat.le_of_ble_eq_true rfl | (show (_ : Nat) ≤ 1; omega)) (by first | exact Nat.le_of_ble_eq_true rfl | (show (_ : Nat) ≤ 8; omega)) rfl ?_
  rw [← hlo]
  refine zr_aald (q := 10) hX 7 rfl dX2_gain_9 (fun H h => (cI.at h (by first | assumption | exact Or.inl (by assumption) | exact Or.inr (by first | assumption | exact upm_same _ _ _ | exact (upm_ne _ _ (by first | assumption | exact Ne.symm (by assumption) | omega | exact ne_mp (m := m) (by assumption) (by assumption) | exact Ne.symm (ne_mp (m := m) (by assumption) (by assumption)) | exact ne_mp (m := w) (by assumption) (by assumption) | exact Ne.symm (ne_mp (m := w) (by assumption) (by assumption)))).trans (by first | assumption | exact upm_same _ _ _ | exact (upm_ne _ _ (by first | assumption | exact Ne.symm (by assumption) | omega | exact ne_mp (m := m) (by assumption) (by assumption) | exact Ne.symm (ne_mp (m := m) (by assumption) (by assumption)) | exact ne_mp (m := w) (by assumption) (by assumption) | exact Ne.symm (ne_mp (m := w) (by assumption) (by assumption)))).trans (by first | assumption | exact upm_same _ _ _ | exact (upm_ne _ _ (by first | assumption | exact Ne.symm (by assumption) | omega | exact ne_mp (m := m) (by assumption) (by assumption) | exact Ne.symm (ne_mp (m := m) (by assumption) (by assumption)) | exact ne_mp (m := w) (by assumption) (by assumption) | exact Ne.symm (ne_mp (m := w) (by assumption) (by assumption)))).trans (by first | assumption | exact upm_same _ _ _)))))).raQ) ⟨by omega, by omega⟩ (by first | decide | omega) rfl ?_
  refine zG.top (v2 := .ref xl) (by show va_rf (tf (lo).toNat) = _; rw [e1]; rfl) ?_
  refine z_astore_n (i := 3) (q := 11) hX dX2_gain_10 rfl (Nat.le_of_ble_eq_true rfl) rfl rfl ?_
  refine z_aload_n (i := 0) (q := 12) hX dX2_gain_11 rfl rfl rfl ?_
  refine zr_get (C := RX2) (T := TX2) (N := 4) (q := 15) hX ciX2 1 rfl (by decide) in_X2 dX2_gain_12 q207 (Or.inl rfl) (fun H h => cI.rd h (by first | assumption | exact Or.inl (by assumption) | exact Or.inr (by first | assumption | exact upm_same _ _ _ | exact (upm_ne _ _ (by first | assumption | exact Ne.symm (by assumption) | omega | exact ne_mp (m := m) (by assumption) (by assumption) | exact Ne.symm (ne_mp (m := m) (by assumption) (by assumption)) | exact ne_mp (m := w) (by assumption) (by assumption) | exact Ne.symm (ne_mp (m := w) (by assumption) (by assumption)))).trans (by first | assumption | exact upm_same _ _ _ | exact (upm_ne _ _ (by first | assumption | exact Ne.symm (by assumption) | omega | exact ne_mp (m := m) (by assumption) (by assumption) | exact Ne.symm (ne_mp (m := m) (by assumption) (by assumption)) | exact ne_mp (m := w) (by assumption) (by assumption) | exact Ne.symm (ne_mp (m := w) (by assumption) (by assumption)))).trans (by first | assumption | exact upm_same _ _ _ | exact (upm_ne _ _ (by first | assumption | exact Ne.symm (by assumption) | omega | exact ne_mp (m := m) (by assumption) (by assumption) | exact Ne.symm (ne_mp (m := m) (by assumption) (by assumption)) | exact ne_mp (m := w) (by assumption) (by assumption) | exact Ne.symm (ne_mp (m := w) (by assumption) (by assumption)))).trans (by first | assumption | exact upm_same _ _ _))))) rfl (by decide) rfl) rfl ?_
  refine z_iload_n (i := 1) (q := 16) hX dX2_gain_15 rfl rfl rfl ?_
  refine z_iload_n (i := 2) (q := 17) hX dX2_gain_16 rfl rfl rfl ?_
  refine z_mmax (q := 20) hX dX2_gain_17 ⟨by omega, by omega⟩ ⟨by omega, by omega⟩ q494 q398 q112 q399 (Nat.le_of_ble_eq_true rfl) rfl ⟨Nat.le_of_ble_eq_true rfl, Nat.le_of_ble_eq_true rfl⟩ (by first | exact Nat.le_of_ble_eq_true rfl | (show (_ : Nat) ≤ 1; omega)) (by first | exact Nat.le_of_ble_eq_true rfl | (show (_ : Nat) ≤ 8; omega)) rfl ?_
  rw [← hhi]
  refine zr_aald (q := 21) hX 7 rfl dX2_gain_20 (fun H h => (cI.at h (by first | assumption | exact Or.inl (by assumption) | exact Or.inr (by first | assumption | exact upm_same _ _ _ | exact (upm_ne _ _ (by first | assumption | exact Ne.symm (by assumption) | omega | exact ne_mp (m := m) (by assumption) (by assumption) | exact Ne.symm (ne_mp (m := m) (by assumption) (by assumption)) | exact ne_mp (m := w) (by assumption) (by assumption) | exact Ne.symm (ne_mp (m := w) (by assumption) (by assumption)))).trans (by first | assumption | exact upm_same _ _ _ | exact (upm_ne _ _ (by first | assumption | exact Ne.symm (by assumption) | omega | exact ne_mp (m := m) (by assumption) (by assumption) | exact Ne.symm (ne_mp (m := m) (by assumption) (by assumption)) | exact ne_mp (m := w) (by assumption) (by assumption) | exact Ne.symm (ne_mp (m := w) (by assumption) (by assumption)))).trans (by first | assumption | exact upm_same _ _ _ | exact (upm_ne _ _ (by first | assumption | exact Ne.symm (by assumption) | omega | exact ne_mp (m := m) (by assumption) (by assumption) | exact Ne.symm (ne_mp (m := m) (by assumption) (by assumption)) | exact ne_mp (m := w) (by assumption) (by assumption) | exact Ne.symm (ne_mp (m := w) (by assumption) (by assumption)))).trans (by first | assumption | exact upm_same _ _ _)))))).raQ) ⟨by omega, by omega⟩ (by first | decide | omega) rfl ?_
  refine zG.top (v2 := .ref xh) (by show va_rf (tf (hi).toNat) = _; rw [g1]; rfl) ?_
  refine z_astore (q := 23) hX dX2_gain_21 (Nat.le_of_ble_eq_true rfl) rfl rfl ?_
  refine z_aload_n (i := 3) (q := 24) hX dX2_gain_23 rfl rfl rfl ?_
  refine z_aload (q := 26) hX dX2_gain_24 rfl rfl ?_
  refine zr_getN (C := RX7) (T := TX7) (N := 3) (q := 29) hX ciX7 0 rfl (by decide) in_X7 dX2_gain_26 (zNF_at 25 rfl) (fun H h => cI.rd h (by first | assumption | exact Or.inl (by assumption) | exact Or.inr (by first | assumption | exact upm_same _ _ _ | exact (upm_ne _ _ (by first | assumption | exact Ne.symm (by assumption) | omega | exact ne_mp (m := m) (by assumption) (by assumption) | exact Ne.symm (ne_mp (m := m) (by assumption) (by assumption)) | exact ne_mp (m := w) (by assumption) (by assumption) | exact Ne.symm (ne_mp (m := w) (by assumption) (by assumption)))).trans (by first | assumption | exact upm_same _ _ _ | exact (upm_ne _ _ (by first | assumption | exact Ne.symm (by assumption) | omega | exact ne_mp (m := m) (by assumption) (by assumption) | exact Ne.symm (ne_mp (m := m) (by assumption) (by assumption)) | exact ne_mp (m := w) (by assumption) (by assumption) | exact Ne.symm (ne_mp (m := w) (by assumption) (by assumption)))).trans (by first | assumption | exact upm_same _ _ _ | exact (upm_ne _ _ (by first | assumption | exact Ne.symm (by assumption) | omega | exact ne_mp (m := m) (by assumption) (by assumption) | exact Ne.symm (ne_mp (m := m) (by assumption) (by assumption)) | exact ne_mp (m := w) (by assumption) (by assumption) | exact Ne.symm (ne_mp (m := w) (by assumption) (by assumption)))).trans (by first | assumption | exact upm_same _ _ _))))) rfl (by decide) rfl) rfl ?_
  refine z_V (ci := ciX7) (T := TX7) (N := 3) (na := 1) hX dX2_gain_29 (c_X7_isForm D A e20 z2 z3 (by omega)) rfl q462 q463 q464 q127 q465 (by decide +kernel) ⟨Nat.le_of_ble_eq_true rfl, Nat.le_of_ble_eq_true rfl⟩ rfl rfl (Nat.le_of_ble_eq_true rfl) rfl (by first | exact Nat.le_of_ble_eq_true rfl | (show _ + 0 ≤ 1; omega)) (by first | exact Nat.le_of_ble_eq_true rfl | (show _ + 0 ≤ 8; omega)) (fun H h => ⟨h, h.obE (Or.inl y1) rfl⟩) (fun E a => zT.no) (zPd.out ?_)
  show zG X (_ + 0) (_ + 0) _ 32 _ _
  refine z_ifB_ne (q := 35) (t := 50) hX dX2_gain_32 (by decide) rfl (fun h32 => ?_) (fun h32 => ?_)
  · have hf2 : decide (gapsL (tx M (fst M lo)) = gapsL (tx M (fst M hi))) = false := hf
    rw [hf2] at h32
    cases h32
  · refine zc_new (q := 38) (fs := [.null, .null, .null, .null, .null, zI 0, zI 0, zI 0]) (C := RX9) (T := TX9) (N := 8) hX ciX9 rfl in_X9 tyX9_ok dX2_gain_35 q461 q495 q130 (fun j hj => by match j, hj with | 0, _ => rfl | 1, _ => rfl | 2, _ => rfl | 3, _ => rfl | 4, _ => rfl | 5, _ => rfl | 6, _ => rfl | 7, _ => rfl | (_ + 8), h => exact absurd h (by omega)) (by first | exact Nat.le_of_ble_eq_true rfl | (show _ + 1 ≤ 1; omega)) (by first | exact Nat.le_of_ble_eq_true rfl | (show _ + 8 ≤ 8; omega)) rfl (fun a35 ha35 hb35 => ?_)
    have n35 := hb35
    try simp only [upm_none] at n35
    repeat (have := And.left n35; replace n35 := And.right n35)
    refine z_dup (q := 39) hX dX2_gain_38 rfl rfl ?_
    refine z_bipush (q := 41) hX dX2_gain_39 (by decide) rfl ?_
    refine z_iload_n (i := 1) (q := 42) hX dX2_gain_41 rfl rfl rfl ?_
    refine z_iload_n (i := 2) (q := 43) hX dX2_gain_42 rfl rfl rfl ?_
    refine z_mmin (q := 46) hX dX2_gain_43 ⟨by omega, by omega⟩ ⟨by omega, by omega⟩ q493 q445 q112 q446 (Nat.le_of_ble_eq_true rfl) rfl ⟨Nat.le_of_ble_eq_true rfl, Nat.le_of_ble_eq_true rfl⟩ (by first | exact Nat.le_of_ble_eq_true rfl | (show (_ : Nat) ≤ 1; omega)) (by first | exact Nat.le_of_ble_eq_true rfl | (show (_ : Nat) ≤ 8; omega)) rfl ?_
    rw [← hlo]
    refine z_C (na := 2) hX dX2_gain_46 (c_X9_init D A (upm_same _ _ _)) q503 q504 q130 q505 rfl (by decide +kernel) ⟨Nat.le_of_ble_eq_true rfl, Nat.le_of_ble_eq_true rfl⟩ rfl rfl (Nat.le_of_ble_eq_true rfl) rfl (by first | exact Nat.le_of_ble_eq_true rfl | (show _ + 0 ≤ 1; omega)) (by first | exact Nat.le_of_ble_eq_true rfl | (show _ + 0 ≤ 8; omega)) (fun H h => h) (fun E a => zT.no) (zPv.out ?_)
    show zG X (_ + 0) (_ + 0) _ 49 _ _
    refine z_athrow hX ciX9 rfl dX2_gain_49 (fun H h => (h.at (Or.inr (upm_same _ _ _))).th) ?_
    exact zT.out hX (by decide) (by first | exact Nat.le_of_ble_eq_true rfl | (show (_ : Nat) ≤ 1; omega)) (by first | exact Nat.le_of_ble_eq_true rfl | (show (_ : Nat) ≤ 8; omega)) (fun H h => ⟨rfl, ⟨ha35, hb35⟩, by simp only [upm_upm] at h; exact h⟩)
