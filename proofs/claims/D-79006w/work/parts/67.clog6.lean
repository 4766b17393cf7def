/-! THE CLASS: Log, made and copied -/
set_option maxRecDepth 100000
theorem zElO_3 (fs : List Value) : zElO (eO ciX3 fs) = true := by
  show zAsg ciX3 "java/lang/Object" = true
  decide +kernel
/-- the row of an empty log, of threshold 50 -/
def M00 : Int → Int := fun i => if i = 1 then 50 else 0
/-- a log that is being made: all of it in m -/
def oLog (D : zD) (w M0 m : zMp) (a : Nat) (M : Int → Int) (ll ta col : Nat) (mc : Int) (ls : List Nat) (tf : Nat → Option Nat) : Prop := M0 a = some (eO ciX2 [.ref ll, .ref ta, zI (M 1), .ref col]) ∧ M0 ll = some (eL mc ls) ∧ M0 ta = some (eC (aQ D 7 12 tf)) ∧ wLines w ls (M 0).toNat (tx M) ∧ wTs w tf M ∧ (ll ≠ a ∧ ta ≠ a ∧ ta ≠ ll) ∧ (m a = none ∧ m ll = none ∧ m ta = none) ∧ ∀ c, c ≠ a → c ≠ ll → c ≠ ta → M0 c = m c
theorem oLog.wl {D : zD} {w M0 m : zMp} {a : Nat} {M : Int → Int} {ll ta col : Nat} {mc : Int} {ls : List Nat} {tf : Nat → Option Nat} (h : oLog D w M0 m a M ll ta col mc ls tf) (hok : zOk M) : wLog D w M0 a M ll ta col := ⟨hok, Or.inr h.1, ⟨mc, ls, Or.inr h.2.1, h.2.2.2.1⟩, tf, Or.inr h.2.2.1, h.2.2.2.2.1⟩
abbrev rmX2_joined_ok : Room := { frames := 8, cells := 150, slots := 6600, locals := 198 }
set_option maxHeartbeats 4000000 in
theorem c_X2_joined_ok (D : zD) (A : Nat → Prop) {w m : zMp} {M : Int → Int} {x y : Nat} {lo hi : Int} (hx : wTm w x M lo) (hy : wTm w y M hi) (hok : zOk M) (hne : lo ≠ hi) (hf : isFm M (fst M lo) (fst M hi) = true) : zC D yX2_joined cX2_joined 3 (some (.object "LogCompactor$Template")) none rmX2_joined_ok A [.ref x, .ref y, zI (lo)] (cI D A w m) (zPe (fun (z : Nat × zMp × List Int) => some (.ref z.1)) (fun z => zLe w z.2.1 ∧ wTpl z.2.1 z.1 (gapsL (tx M (fst M lo))) (nTl M (fst M lo)).toNat (fun k => unionS (slt M lo k) (tkl M (fst M lo) k) (slt M hi k) (tkl M (fst M hi) k)) (fun k => tkl M (fst M lo) k) z.2.2 ∧ asc z.2.2 ∧ (∀ q, q ∈ z.2.2 ↔ q ∈ rws M lo ∨ q ∈ rws M hi)) (fun z => cI D A z.2.1 m)) (zNo) := by
  refine zC_start (L := [some (.ref x), some (.ref y), some (zI (lo))]) (by decide) (Nat.le_of_ble_eq_true rfl) rfl (fun X hX => ?_)
  have hx0 := hx
  have hy0 := hy
  have htwo := rws_two hok hne
  have hgf : gapsL (tx M (fst M lo)) = gapsL (tx M (fst M hi)) := of_decide_eq_true hf
  have hnn : nTl M (fst M lo) = nTl M (fst M hi) := (gapsL_eq.mp hgf).1
  obtain ⟨⟨k1, k2, k3⟩, gl, sl, rl, mc4, mc2, mc3, gs, ss, rs, y1, y2, y3, y4, y5, y6, y7⟩ := hx
  obtain ⟨⟨j1, j2, j3⟩, gl9, sl9, rl9, mc9, mc8, mc7, gs9, ss9, rs9, z1, z2, z3, z4, z5, z6, z7⟩ := hy
  refine z_aload_n (i := 0) (q := 1) hX dX2_joined_0 rfl rfl rfl ?_
  refine z_aload_n (i := 1) (q := 2) hX dX2_joined_1 rfl rfl rfl ?_
  refine zr_getN (C := RX7) (T := TX7) (N := 3) (q := 5) hX ciX7 0 rfl (by decide) in_X7 dX2_joined_2 (zNF_at 25 rfl) (fun H h => cI.rd h (by first | assumption | exact Or.inl (by assumption) | exact Or.inr (by first | assumption | exact upm_same _ _ _ | exact (upm_ne _ _ (by first | assumption | exact Ne.symm (by assumption) | omega | exact ne_mp (m := m) (by assumption) (by assumption) | exact Ne.symm (ne_mp (m := m) (by assumption) (by assumption)) | exact ne_mp (m := w) (by assumption) (by assumption) | exact Ne.symm (ne_mp (m := w) (by assumption) (by assumption)))).trans (by first | assumption | exact upm_same _ _ _ | exact (upm_ne _ _ (by first | assumption | exact Ne.symm (by assumption) | omega | exact ne_mp (m := m) (by assumption) (by assumption) | exact Ne.symm (ne_mp (m := m) (by assumption) (by assumption)) | exact ne_mp (m := w) (by assumption) (by assumption) | exact Ne.symm (ne_mp (m := w) (by assumption) (by assumption)))).trans (by first | assumption | exact upm_same _ _ _ | exact (upm_ne _ _ (by first | assumption | exact Ne.symm (by assumption) | omega | exact ne_mp (m := m) (by assumption) (by assumption) | exact Ne.symm (ne_mp (m := m) (by assumption) (by assumption)) | exact ne_mp (m := w) (by assumption) (by assumption) | exact Ne.symm (ne_mp (m := w) (by assumption) (by assumption)))).trans (by first | assumption | exact upm_same _ _ _))))) rfl (by decide) rfl) rfl ?_
  refine z_V (ci := ciX7) (T := TX7) (N := 3) (na := 1) hX dX2_joined_5 (c_X7_isForm D A hx0 z2 z3 (by omega)) rfl q462 q463 q464 q127 q465 (by decide +kernel) ⟨Nat.le_of_ble_eq_true rfl, Nat.le_of_ble_eq_true rfl⟩ rfl rfl (Nat.le_of_ble_eq_true rfl) rfl (by first | exact Nat.le_of_ble_eq_true rfl | (show _ + 0 ≤ 150; omega)) (by first | exact Nat.le_of_ble_eq_true rfl | (show _ + 0 ≤ 6600; omega)) (fun H h => ⟨h, h.obE (Or.inl y1) rfl⟩) (fun E a => zT.no) (zPd.out ?_)
  show zG X (_ + 0) (_ + 0) _ 8 _ _
  refine z_ifB_ne (q := 11) (t := 22) hX dX2_joined_8 (by decide) rfl (fun h8 => ?_) (fun h8 => ?_)
  · refine z_aload_n (i := 0) (q := 23) hX dX2_joined_22 rfl rfl rfl ?_
    refine z_aload_n (i := 1) (q := 24) hX dX2_joined_23 rfl rfl rfl ?_
    refine z_V (ci := ciX7) (T := TX7) (N := 3) (na := 1) hX dX2_joined_24 (c_X7_merged D A hx0 hy0 (by omega) (rF_asc _ _) (rF_asc _ _) htwo.1 htwo.2) rfl q674 q675 q676 q127 q677 (by decide +kernel) ⟨Nat.le_of_ble_eq_true rfl, Nat.le_of_ble_eq_true rfl⟩ rfl rfl (Nat.le_of_ble_eq_true rfl) rfl (by first | exact Nat.le_of_ble_eq_true rfl | (show _ + 150 ≤ 150; omega)) (by first | exact Nat.le_of_ble_eq_true rfl | (show _ + 6600 ≤ 6600; omega)) (fun H h => ⟨h, h.obE (Or.inl y1) rfl⟩) (fun E a => zT.no) (zPe.out (fun x24 hx24 => ?_))
    show zG X (_ + 150) (_ + 6600) _ 27 _ _
    exact z_aret hX dX2_joined_27 (by first | exact Nat.le_of_ble_eq_true rfl | (show (_ : Nat) ≤ 150; omega)) (by first | exact Nat.le_of_ble_eq_true rfl | (show (_ : Nat) ≤ 6600; omega)) rfl (by first | exact Or.inl ⟨_, rfl⟩ | exact Or.inr ⟨_, rfl⟩) (by first | exact Or.inl rfl | exact Or.inr ⟨_, rfl⟩) (fun H h => ⟨x24, rfl, hx24, h⟩)
  · rw [decide_eq_true hgf] at h8
    cases h8
abbrev rmX2_joined_no : Room := { frames := 4, cells := 1, slots := 8, locals := 90 }
set_option maxHeartbeats 4000000 in
theorem c_X2_joined_no (D : zD) (A : Nat → Prop) {w m : zMp} {M : Int → Int} {x y : Nat} {lo hi : Int} (hx : wTm w x M lo) (hy : wTm w y M hi) (hf : isFm M (fst M lo) (fst M hi) = false) : zC D yX2_joined cX2_joined 3 (some (.object "LogCompactor$Template")) none rmX2_joined_no A [.ref x, .ref y, zI (lo)] (cI D A w m) (zPe (fun (z : Nat) => none) (fun _ => False) (fun _ => cI D A w m)) (xRf D A w m 12 lo) := by
  refine zC_start (L := [some (.ref x), some (.ref y), some (zI (lo))]) (by decide) (Nat.le_of_ble_eq_true rfl) rfl (fun X hX => ?_)
  have hx0 := hx
  obtain ⟨⟨k1, k2, k3⟩, gl, sl, rl, mc4, mc2, mc3, gs, ss, rs, y1, y2, y3, y4, y5, y6, y7⟩ := hx
  obtain ⟨⟨j1, j2, j3⟩, gl9, sl9, rl9, mc9, mc8, mc7, gs9, ss9, rs9, z1, z2, z3, z4, z5, z6, z7⟩ := hy
  refine z_aload_n (i := 0) (q := 1) hX dX2_joined_0 rfl rfl rfl ?_
  refine z_aload_n (i := 1) (q := 2) hX dX2_joined_1 rfl rfl rfl ?_
  refine zr_getN (C := RX7) (T := TX7) (N := 3) (q := 5) hX ciX7 0 rfl (by decide) in_X7 dX2_joined_2 (zNF_at 25 rfl) (fun H h => cI.rd h (by first | assumption | exact Or.inl (by assumption) | exact Or.inr (by first | assumption | exact upm_same _ _ _ | exact (upm_ne _ _ (by first | assumption | exact Ne.symm (by assumption) | omega | exact ne_mp (m := m) (by assumption) (by assumption) | exact Ne.symm (ne_mp (m := m) (by assumption) (by assumption)) | exact ne_mp (m := w) (by assumption) (by assumption) | exact Ne.symm (ne_mp (m := w) (by assumption) (by assumption)))).trans (by first | assumption | exact upm_same _ _ _ | exact (upm_ne _ _ (by first | assumption | exact Ne.symm (by assumption) | omega | exact ne_mp (m := m) (by assumption) (by assumption) | exact Ne.symm (ne_mp (m := m) (by assumption) (by assumption)) | exact ne_mp (m := w) (by assumption) (by assumption) | exact Ne.symm (ne_mp (m := w) (by assumption) (by assumption)))).trans (by first | assumption | exact upm_same _ _ _ | exact (upm_ne _ _ (by first | assumption | exact Ne.symm (by assumption) | omega | exact ne_mp (m := m) (by assumption) (by assumption) | exact Ne.symm (ne_mp (m := m) (by assumption) (by assumption)) | exact ne_mp (m := w) (by assumption) (by assumption) | exact Ne.symm (ne_mp (m := w) (by assumption) (by assumption)))).trans (by first | assumption | exact upm_same _ _ _))))) rfl (by decide) rfl) rfl ?_
  refine z_V (ci := ciX7) (T := TX7) (N := 3) (na := 1) hX dX2_joined_5 (c_X7_isForm D A hx0 z2 z3 (by omega)) rfl q462 q463 q464 q127 q465 (by decide +kernel) ⟨Nat.le_of_ble_eq_true rfl, Nat.le_of_ble_eq_true rfl⟩ rfl rfl (Nat.le_of_ble_eq_true rfl) rfl (by first | exact Nat.le_of_ble_eq_true rfl | (show _ + 0 ≤ 1; omega)) (by first | exact Nat.le_of_ble_eq_true rfl | (show _ + 0 ≤ 8; omega)) (fun H h => ⟨h, h.obE (Or.inl y1) rfl⟩) (fun E a => zT.no) (zPd.out ?_)
  show zG X (_ + 0) (_ + 0) _ 8 _ _
  refine z_ifB_ne (q := 11) (t := 22) hX dX2_joined_8 (by decide) rfl (fun h8 => ?_) (fun h8 => ?_)
  · have hf2 : decide (gapsL (tx M (fst M lo)) = gapsL (tx M (fst M hi))) = false := hf
    rw [hf2] at h8
    cases h8
  · refine zc_new (q := 14) (fs := [.null, .null, .null, .null, .null, zI 0, zI 0, zI 0]) (C := RX9) (T := TX9) (N := 8) hX ciX9 rfl in_X9 tyX9_ok dX2_joined_11 q461 q495 q130 (fun j hj => by match j, hj with | 0, _ => rfl | 1, _ => rfl | 2, _ => rfl | 3, _ => rfl | 4, _ => rfl | 5, _ => rfl | 6, _ => rfl | 7, _ => rfl | (_ + 8), h => exact absurd h (by omega)) (by first | exact Nat.le_of_ble_eq_true rfl | (show _ + 1 ≤ 1; omega)) (by first | exact Nat.le_of_ble_eq_true rfl | (show _ + 8 ≤ 8; omega)) rfl (fun a11 ha11 hb11 => ?_)
    have n11 := hb11
    try simp only [upm_none] at n11
    repeat (have := And.left n11; replace n11 := And.right n11)
    refine z_dup (q := 15) hX dX2_joined_14 rfl rfl ?_
    refine z_bipush (q := 17) hX dX2_joined_15 (by decide) rfl ?_
    refine z_iload_n (i := 2) (q := 18) hX dX2_joined_17 rfl rfl rfl ?_
    refine z_C (na := 2) hX dX2_joined_18 (c_X9_init D A (upm_same _ _ _)) q503 q504 q130 q505 rfl (by decide +kernel) ⟨Nat.le_of_ble_eq_true rfl, Nat.le_of_ble_eq_true rfl⟩ rfl rfl (Nat.le_of_ble_eq_true rfl) rfl (by first | exact Nat.le_of_ble_eq_true rfl | (show _ + 0 ≤ 1; omega)) (by first | exact Nat.le_of_ble_eq_true rfl | (show _ + 0 ≤ 8; omega)) (fun H h => h) (fun E a => zT.no) (zPv.out ?_)
    show zG X (_ + 0) (_ + 0) _ 21 _ _
    refine z_athrow hX ciX9 rfl dX2_joined_21 (fun H h => (h.at (Or.inr (upm_same _ _ _))).th) ?_
    exact zT.out hX (by decide) (by first | exact Nat.le_of_ble_eq_true rfl | (show (_ : Nat) ≤ 1; omega)) (by first | exact Nat.le_of_ble_eq_true rfl | (show (_ : Nat) ≤ 8; omega)) (fun H h => ⟨rfl, ⟨ha11, hb11⟩, by simp only [upm_upm] at h; exact h⟩)
abbrev rmX2_checkDifferent_ok : Room := { frames := 6, cells := 0, slots := 0, locals := 130 }
set_option maxHeartbeats 4000000 in
theorem c_X2_checkDifferent_ok (D : zD) (A : Nat → Prop) {w m : zMp} {ta n : Nat} {x : Nat} {z : Int} {f : Nat → Option Nat} {c : Int → zS} (hc : wCol D w m x ta n f c) (hd : 2 ≤ dffI n c) (hd2 : dffI n c ≤ 40) : zC D yX2_checkDifferent cX2_checkDifferent 2 none none rmX2_checkDifferent_ok A [.ref x, zI (z)] (cI D A w m) (zPv (cI D A w m)) (zNo) := by
  refine zC_start (L := [some (.ref x), some (zI (z))]) (by decide) (Nat.le_of_ble_eq_true rfl) rfl (fun X hX => ?_)
  have h1 := hc.1
  refine z_aload_n (i := 0) (q := 1) hX dX2_checkDifferent_0 rfl rfl rfl ?_
  refine z_V (ci := ciX3) (T := TX3) (N := 2) (na := 0) hX dX2_checkDifferent_1 (c_X3_different D A hc) rfl q1696 q1697 q1698 q102 q1699 (by decide +kernel) ⟨Nat.le_of_ble_eq_true rfl, Nat.le_of_ble_eq_true rfl⟩ rfl rfl (Nat.le_of_ble_eq_true rfl) rfl (by first | exact Nat.le_of_ble_eq_true rfl | (show _ + 0 ≤ 0; omega)) (by first | exact Nat.le_of_ble_eq_true rfl | (show _ + 0 ≤ 0; omega)) (fun H h => ⟨h, cI.obE h (by first | assumption | exact Or.inl (by assumption) | exact Or.inr (by first | assumption | exact upm_same _ _ _ | exact (upm_ne _ _ (by first | assumption | exact Ne.symm (by assumption) | omega | exact ne_mp (m := m) (by assumption) (by assumption) | exact Ne.symm (ne_mp (m := m) (by assumption) (by assumption)) | exact ne_mp (m := w) (by assumption) (by assumption) | exact Ne.symm (ne_mp (m := w) (by assumption) (by assumption)))).trans (by first | assumption | exact upm_same _ _ _ | exact (upm_ne _ _ (by first | assumption | exact Ne.symm (by assumption) | omega | exact ne_mp (m := m) (by assumption) (by assumption) | exact Ne.symm (ne_mp (m := m) (by assumption) (by assumption)) | exact ne_mp (m := w) (by assumption) (by assumption) | exact Ne.symm (ne_mp (m := w) (by assumption) (by assumption)))).trans (by first | assumption | exact upm_same _ _ _ | exact (upm_ne _ _ (by first | assumption | exact Ne.symm (by assumption) | omega | exact ne_mp (m := m) (by assumption) (by assumption) | exact Ne.symm (ne_mp (m := m) (by assumption) (by assumption)) | exact ne_mp (m := w) (by assumption) (by assumption) | exact Ne.symm (ne_mp (m := w) (by assumption) (by assumption)))).trans (by first | assumption | exact upm_same _ _ _))))) rfl⟩) (fun E a => zT.no) (zPd.out ?_)
  show zG X (_ + 0) (_ + 0) _ 4 _ _
  refine z_iconst (q := 5) hX dX2_checkDifferent_4 rfl ?_
  refine z_icmp_ge (q := 8) (t := 19) hX dX2_checkDifferent_5 (by decide) ⟨by omega, by omega⟩ (by decide) rfl (fun h5 => ?_) (fun h5 => ?_)
  · exact z_vret hX dX2_checkDifferent_19 (by first | exact Nat.le_of_ble_eq_true rfl | (show (_ : Nat) ≤ 0; omega)) (by first | exact Nat.le_of_ble_eq_true rfl | (show (_ : Nat) ≤ 0; omega)) rfl (fun H h => ⟨rfl, h⟩)
  · exact absurd hd h5
abbrev rmX2_checkDifferent_no : Room := { frames := 6, cells := 1, slots := 8, locals := 130 }
set_option maxHeartbeats 4000000 in
theorem c_X2_checkDifferent_no (D : zD) (A : Nat → Prop) {w m : zMp} {ta n : Nat} {x : Nat} {z : Int} {f : Nat → Option Nat} {c : Int → zS} (hc : wCol D w m x ta n f c) (hd : dffI n c < 2) (hd2 : 0 ≤ dffI n c) : zC D yX2_checkDifferent cX2_checkDifferent 2 none none rmX2_checkDifferent_no A [.ref x, zI (z)] (cI D A w m) (zPe (fun (z : Nat) => none) (fun _ => False) (fun _ => cI D A w m)) (xRf D A w m 13 z) := by
  refine zC_start (L := [some (.ref x), some (zI (z))]) (by decide) (Nat.le_of_ble_eq_true rfl) rfl (fun X hX => ?_)
  have h1 := hc.1
  refine z_aload_n (i := 0) (q := 1) hX dX2_checkDifferent_0 rfl rfl rfl ?_
  refine z_V (ci := ciX3) (T := TX3) (N := 2) (na := 0) hX dX2_checkDifferent_1 (c_X3_different D A hc) rfl q1696 q1697 q1698 q102 q1699 (by decide +kernel) ⟨Nat.le_of_ble_eq_true rfl, Nat.le_of_ble_eq_true rfl⟩ rfl rfl (Nat.le_of_ble_eq_true rfl) rfl (by first | exact Nat.le_of_ble_eq_true rfl | (show _ + 0 ≤ 1; omega)) (by first | exact Nat.le_of_ble_eq_true rfl | (show _ + 0 ≤ 8; omega)) (fun H h => ⟨h, cI.obE h (by first | assumption | exact Or.inl (by assumption) | exact Or.inr (by first | assumption | exact upm_same _ _ _ | exact (upm_ne _ _ (by first | assumption | exact Ne.symm (by assumption) | omega | exact ne_mp (m := m) (by assumption) (by assumption) | exact Ne.symm (ne_mp (m := m) (by assumption) (by assumption)) | exact ne_mp (m := w) (by assumption) (by assumption) | exact Ne.symm (ne_mp (m := w) (by assumption) (by assumption)))).trans (by first | assumption | exact upm_same _ _ _ | exact (upm_ne _ _ (by first | assumption | exact Ne.symm (by assumption) | omega | exact ne_mp (m := m) (by assumption) (by assumption) | exact Ne.symm (ne_mp (m := m) (by assumption) (by assumption)) | exact ne_mp (m := w) (by assumption) (by assumption) | exact Ne.symm (ne_mp (m := w) (by assumption) (by assumption)))).trans (by first | assumption | exact upm_same _ _ _ | exact (upm_ne _ _ (by first | assumption | exact Ne.symm (by assumption) | omega | exact ne_mp (m := m) (by assumption) (by assumption) | exact Ne.symm (ne_mp (m := m) (by assumption) (by assumption)) | exact ne_mp (m := w) (by assumption) (by assumption) | exact Ne.symm (ne_mp (m := w) (by assumption) (by assumption)))).trans (by first | assumption | exact upm_same _ _ _))))) rfl⟩) (fun E a => zT.no) (zPd.out ?_)
  show zG X (_ + 0) (_ + 0) _ 4 _ _
  refine z_iconst (q := 5) hX dX2_checkDifferent_4 rfl ?_
  refine z_icmp_ge (q := 8) (t := 19) hX dX2_checkDifferent_5 (by decide) ⟨by omega, by omega⟩ (by decide) rfl (fun h5 => ?_) (fun h5 => ?_)
  · exact absurd h5 (by omega)
  · refine zc_new (q := 11) (fs := [.null, .null, .null, .null, .null, zI 0, zI 0, zI 0]) (C := RX9) (T := TX9) (N := 8) hX ciX9 rfl in_X9 tyX9_ok dX2_checkDifferent_8 q461 q495 q130 (fun j hj => by match j, hj with | 0, _ => rfl | 1, _ => rfl | 2, _ => rfl | 3, _ => rfl | 4, _ => rfl | 5, _ => rfl | 6, _ => rfl | 7, _ => rfl | (_ + 8), h => exact absurd h (by omega)) (by first | exact Nat.le_of_ble_eq_true rfl | (show _ + 1 ≤ 1; omega)) (by first | exact Nat.le_of_ble_eq_true rfl | (show _ + 8 ≤ 8; omega)) rfl (fun a8 ha8 hb8 => ?_)
    have n8 := hb8
    try simp only [upm_none] at n8
    repeat (have := And.left n8; replace n8 := And.right n8)
    refine z_dup (q := 12) hX dX2_checkDifferent_11 rfl rfl ?_
    refine z_bipush (q := 14) hX dX2_checkDifferent_12 (by decide) rfl ?_
    refine z_iload_n (i := 1) (q := 15) hX dX2_checkDifferent_14 rfl rfl rfl ?_
    refine z_C (na := 2) hX dX2_checkDifferent_15 (c_X9_init D A (upm_same _ _ _)) q503 q504 q130 q505 rfl (by decide +kernel) ⟨Nat.le_of_ble_eq_true rfl, Nat.le_of_ble_eq_true rfl⟩ rfl rfl (Nat.le_of_ble_eq_true rfl) rfl (by first | exact Nat.le_of_ble_eq_true rfl | (show _ + 0 ≤ 1; omega)) (by first | exact Nat.le_of_ble_eq_true rfl | (show _ + 0 ≤ 8; omega)) (fun H h => h) (fun E a => zT.no) (zPv.out ?_)
    show zG X (_ + 0) (_ + 0) _ 18 _ _
    refine z_athrow hX ciX9 rfl dX2_checkDifferent_18 (fun H h => (h.at (Or.inr (upm_same _ _ _))).th) ?_
    exact zT.out hX (by decide) (by first | exact Nat.le_of_ble_eq_true rfl | (show (_ : Nat) ≤ 1; omega)) (by first | exact Nat.le_of_ble_eq_true rfl | (show (_ : Nat) ≤ 8; omega)) (fun H h => ⟨rfl, ⟨ha8, hb8⟩, by simp only [upm_upm] at h; exact h⟩)
