/-! THE CLASS: RefusedException.at; the compactor: report -/
set_option maxRecDepth 100000
def rpA (b e2 : Nat) (v : Int) : Option Nat := if v ≤ 0 then some b else if v = 1 then some e2 else none
abbrev rmX9_at : Room := { frames := 1, cells := 0, slots := 0, locals := 20 }
set_option maxHeartbeats 4000000 in
theorem c_X9_at (D : zD) (A : Nat → Prop) {w m : zMp} {b : Nat} {e2 : Nat} {c d c2 d2 v : Int} (hm : m b = some (eR (some e2) c d)) (hm2 : m e2 = some (eR none c2 d2)) (hv : zR v) : zC D yX9_at cX9_at 4 (some (.object "LogCompactor$RefusedException")) none rmX9_at A [.ref b, zI (v)] (cI D A w m) (zPd (va_rf (rpA b e2 v)) (cI D A w m)) (zNo) := by
  refine zC_start (L := [some (.ref b), some (zI (v)), none, none]) (by decide) (Nat.le_of_ble_eq_true rfl) rfl (fun X hX => ?_)
  have hne : e2 ≠ b := fun q => by
    rw [q, hm] at hm2
    cases hm2
  have K24a : ∀ (y : Nat) (r : Option Nat) (c d p : Int), m y = some (eR r c d) → rpA b e2 v = some y → zG X 0 0 (cI D A w m) 24 [some (.ref b), some (zI (v)), some (.ref (y)), some (zI (p))] [] := by
    intro y r c d p hy hq
    have hq2 : va_rf (rpA b e2 v) = .ref y := by rw [hq]; rfl
    refine z_aload_n (i := 2) (q := 25) hX dX9_at_24 rfl rfl rfl ?_
    refine zr_inst (q := 28) (C := RX9) (T := TX9) (N := 8) hX ciX9 rfl dX9_at_25 q1835 (fun H h => cI.obE h (Or.inr hy) rfl) rfl ?_
    refine z_if_eq (q := 31) (t := 38) hX dX9_at_28 (by decide) (by omega) rfl (fun h28 => ?_) (fun h28 => ?_)
    · exact absurd h28 (by decide)
    · refine z_aload_n (i := 2) (q := 32) hX dX9_at_31 rfl rfl rfl ?_
      refine zr_cast (q := 35) (C := RX9) (T := TX9) (N := 8) hX ciX9 rfl dX9_at_32 q1835 (fun H h => cI.obE h (Or.inr hy) rfl) rfl ?_
      refine z_goto (t := 39) hX dX9_at_35 (by decide) ?_
      exact z_aret hX dX9_at_39 (by first | exact Nat.le_of_ble_eq_true rfl | (show (_ : Nat) ≤ 0; omega)) (by first | exact Nat.le_of_ble_eq_true rfl | (show (_ : Nat) ≤ 0; omega)) rfl (by first | exact Or.inl ⟨_, rfl⟩ | exact Or.inr ⟨_, rfl⟩) (by first | exact Or.inl rfl | exact Or.inr ⟨_, rfl⟩) (fun H h => ⟨hq2.symm ▸ rfl, h⟩)
  have K24n : ∀ p : Int, rpA b e2 v = none → zG X 0 0 (cI D A w m) 24 [some (.ref b), some (zI (v)), some (.null), some (zI (p))] [] := by
    intro p hq
    refine z_aload_nN (i := 2) (q := 25) hX dX9_at_24 rfl rfl rfl ?_
    refine zr_instN (q := 28) hX dX9_at_25 rfl ?_
    refine z_if_eq (q := 31) (t := 38) hX dX9_at_28 (by decide) (by omega) rfl (fun h28 => ?_) (fun h28 => ?_)
    · refine z_null (q := 39) hX dX9_at_38 rfl ?_
      exact z_aret hX dX9_at_39 (by first | exact Nat.le_of_ble_eq_true rfl | (show (_ : Nat) ≤ 0; omega)) (by first | exact Nat.le_of_ble_eq_true rfl | (show (_ : Nat) ≤ 0; omega)) rfl (by first | exact Or.inl ⟨_, rfl⟩ | exact Or.inr ⟨_, rfl⟩) (by first | exact Or.inl rfl | exact Or.inr ⟨_, rfl⟩) (fun H h => ⟨(by rw [hq]; rfl), h⟩)
    · exact absurd h28 (by decide)
  have K4n : ∀ p : Int, 0 ≤ p ∧ p ≤ 5 → rpA b e2 v = none → zG X 0 0 (cI D A w m) 4 [some (.ref b), some (zI (v)), some (.null), some (zI (p))] [] := by
    intro p hp hq
    refine z_iload_n (i := 3) (q := 5) hX dX9_at_4 rfl rfl rfl ?_
    refine z_iload_n (i := 1) (q := 6) hX dX9_at_5 rfl rfl rfl ?_
    refine z_icmp_ge (q := 9) (t := 24) hX dX9_at_6 (by decide) ⟨by omega, by omega⟩ hv rfl (fun h6 => ?_) (fun h6 => ?_)
    · exact K24n _ hq
    · refine z_aload_nN (i := 2) (q := 10) hX dX9_at_9 rfl rfl rfl ?_
      refine z_ifnullN (t := 24) hX dX9_at_10 (by decide) ?_
      exact K24n _ hq
  have K4b : 1 ≤ v → zG X 0 0 (cI D A w m) 4 [some (.ref b), some (zI (v)), some (.ref (e2)), some (zI (1))] [] := by
    intro hv1
    by_cases hv2 : v = 1
    · have hz9 : True := trivial
      refine z_iload_n (i := 3) (q := 5) hX dX9_at_4 rfl rfl rfl ?_
      refine z_iload_n (i := 1) (q := 6) hX dX9_at_5 rfl rfl rfl ?_
      refine z_icmp_ge (q := 9) (t := 24) hX dX9_at_6 (by decide) ⟨by decide, by decide⟩ hv rfl (fun h6 => ?_) (fun h6 => ?_)
      · exact K24a e2 none c2 d2 _ hm2 (by unfold rpA; rw [if_neg (by omega), if_pos hv2])
      · exact absurd h6 (by omega)
    · have hz9 : True := trivial
      refine z_iload_n (i := 3) (q := 5) hX dX9_at_4 rfl rfl rfl ?_
      refine z_iload_n (i := 1) (q := 6) hX dX9_at_5 rfl rfl rfl ?_
      refine z_icmp_ge (q := 9) (t := 24) hX dX9_at_6 (by decide) ⟨by decide, by decide⟩ hv rfl (fun h6 => ?_) (fun h6 => ?_)
      · exact absurd h6 (by omega)
      · refine z_aload_n (i := 2) (q := 10) hX dX9_at_9 rfl rfl rfl ?_
        refine z_ifnull (q := 13) hX dX9_at_10 rfl ?_
        refine z_aload_n (i := 2) (q := 14) hX dX9_at_13 rfl rfl rfl ?_
        refine z_VUs (q := 17) hX dX9_at_14 (gc_met D A hm2 (fun q => by cases q)) (ci := ciX9) rfl q1822 q1825 (by decide) rfl (by decide) rfl (by decide) (by decide) (fun H h => ⟨h, h.obE (Or.inr hm2) rfl⟩) rfl ?_
        refine zG.top (v2 := .null) rfl ?_
        refine z_astore_nN (i := 2) (q := 18) hX dX9_at_17 rfl (Nat.le_of_ble_eq_true rfl) rfl rfl ?_
        refine z_iinc (q := 21) hX dX9_at_18 rfl (Nat.le_of_ble_eq_true rfl) rfl rfl ?_
        refine z_goto (t := 4) hX dX9_at_21 (by decide) ?_
        exact K4n _ ⟨by decide, by decide⟩ (by unfold rpA; rw [if_neg (by omega), if_neg hv2])
  have K4a : zG X 0 0 (cI D A w m) 4 [some (.ref b), some (zI (v)), some (.ref (b)), some (zI (0))] [] := by
    by_cases hv1 : v ≤ 0
    · have hz9 : True := trivial
      refine z_iload_n (i := 3) (q := 5) hX dX9_at_4 rfl rfl rfl ?_
      refine z_iload_n (i := 1) (q := 6) hX dX9_at_5 rfl rfl rfl ?_
      refine z_icmp_ge (q := 9) (t := 24) hX dX9_at_6 (by decide) ⟨by decide, by decide⟩ hv rfl (fun h6 => ?_) (fun h6 => ?_)
      · exact K24a b (some e2) c d _ hm (by unfold rpA; rw [if_pos hv1])
      · exact absurd h6 (by omega)
    · have hz9 : True := trivial
      refine z_iload_n (i := 3) (q := 5) hX dX9_at_4 rfl rfl rfl ?_
      refine z_iload_n (i := 1) (q := 6) hX dX9_at_5 rfl rfl rfl ?_
      refine z_icmp_ge (q := 9) (t := 24) hX dX9_at_6 (by decide) ⟨by decide, by decide⟩ hv rfl (fun h6 => ?_) (fun h6 => ?_)
      · exact absurd h6 (by omega)
      · refine z_aload_n (i := 2) (q := 10) hX dX9_at_9 rfl rfl rfl ?_
        refine z_ifnull (q := 13) hX dX9_at_10 rfl ?_
        refine z_aload_n (i := 2) (q := 14) hX dX9_at_13 rfl rfl rfl ?_
        refine z_VUs (q := 17) hX dX9_at_14 (gc_met D A hm (fun q => hne (Option.some.inj q))) (ci := ciX9) rfl q1822 q1825 (by decide) rfl (by decide) rfl (by decide) (by decide) (fun H h => ⟨h, h.obE (Or.inr hm) rfl⟩) rfl ?_
        refine zG.top (v2 := .ref e2) rfl ?_
        refine z_astore_n (i := 2) (q := 18) hX dX9_at_17 rfl (Nat.le_of_ble_eq_true rfl) rfl rfl ?_
        refine z_iinc (q := 21) hX dX9_at_18 rfl (Nat.le_of_ble_eq_true rfl) rfl rfl ?_
        refine z_goto (t := 4) hX dX9_at_21 (by decide) ?_
        exact K4b (by omega)
  refine z_aload_n (i := 0) (q := 1) hX dX9_at_0 rfl rfl rfl ?_
  refine z_astore_n (i := 2) (q := 2) hX dX9_at_1 rfl (Nat.le_of_ble_eq_true rfl) rfl rfl ?_
  refine z_iconst (q := 3) hX dX9_at_2 rfl ?_
  refine z_istore_n (i := 3) (q := 4) hX dX9_at_3 rfl (Nat.le_of_ble_eq_true rfl) rfl rfl ?_
  exact K4a
/-- what a report says at a level -/
def rpL (rp : Option (Int × Int × Int × Int)) (v : Int) : Option (Int × Int) := match rp with
  | none => none
  | some q => if v < 0 then none else if v = 0 then some (q.1, q.2.1) else if v = 1 then some (q.2.2.1, q.2.2.2) else none
abbrev rmX1_report_no : Room := { frames := 6, cells := 3, slots := 18, locals := 100 }
set_option maxHeartbeats 4000000 in
theorem c_X1_report_no (D : zD) (A : Nat → Prop) {w m : zMp} {b : Nat} {K : Nat → Prop} {M : Int → Int} {ps : List (Int → Int)} {sv : Option (Int → Int)} {rp : Option (Int × Int × Int × Int)} {s : zS} {cs : Option (List zCn)} {v z : Int} (hb : zX1 D w m K b M ps sv rp s cs) (hK : zHk K m) (hv : zR v) (hz : zR z) (hn : rpL rp v = none) : zC D yX1_report cX1_report 4 (some .int) none rmX1_report_no A [.ref b, zI (v), zI (z)] (cI D A w m) (zPe (fun (x : zMp × zMp) => none) (fun x => False) (fun x => cI D A x.1 x.2)) (xSt D A w m K b "java/util/NoSuchElementException" ciJ9 True M ps sv rp s cs) := by
  refine zC_start (L := [some (.ref b), some (zI (v)), some (zI (z)), none]) (by decide) (Nat.le_of_ble_eq_true rfl) rfl (fun X hX => ?_)
  have hb0 := hb
  obtain ⟨lg, hl1, ia, sa, ra, ca, p1, p2, p3, p5, p6, p7, -⟩ := hb
  rcases p6 with ⟨e, e2⟩ | ⟨c, d, c2, d2, y, y2, e, e2, k1, k2, k3, k4⟩
  · subst e2
    refine z_aload_n (i := 0) (q := 1) hX dX1_report_0 rfl rfl rfl ?_
    refine zr_get (C := RX1) (T := TX1) (N := 7) (q := 4) hX ciX1 3 rfl (by decide) in_X1 dX1_report_1 q227 (Or.inl rfl) (fun H h => cI.rd h (by first | assumption | exact Or.inl (by assumption) | exact Or.inr (by first | assumption | exact upm_same _ _ _ | exact (upm_ne _ _ (by first | assumption | exact Ne.symm (by assumption) | omega | exact ne_mp (m := m) (by assumption) (by assumption) | exact Ne.symm (ne_mp (m := m) (by assumption) (by assumption)) | exact ne_mp (m := w) (by assumption) (by assumption) | exact Ne.symm (ne_mp (m := w) (by assumption) (by assumption)))).trans (by first | assumption | exact upm_same _ _ _ | exact (upm_ne _ _ (by first | assumption | exact Ne.symm (by assumption) | omega | exact ne_mp (m := m) (by assumption) (by assumption) | exact Ne.symm (ne_mp (m := m) (by assumption) (by assumption)) | exact ne_mp (m := w) (by assumption) (by assumption) | exact Ne.symm (ne_mp (m := w) (by assumption) (by assumption)))).trans (by first | assumption | exact upm_same _ _ _ | exact (upm_ne _ _ (by first | assumption | exact Ne.symm (by assumption) | omega | exact ne_mp (m := m) (by assumption) (by assumption) | exact Ne.symm (ne_mp (m := m) (by assumption) (by assumption)) | exact ne_mp (m := w) (by assumption) (by assumption) | exact Ne.symm (ne_mp (m := w) (by assumption) (by assumption)))).trans (by first | assumption | exact upm_same _ _ _))))) rfl (by decide) rfl) rfl ?_
    refine zG.top (v2 := .null) rfl ?_
    refine z_ifnullN (t := 11) hX dX1_report_4 (by decide) ?_
    refine z_null (q := 12) hX dX1_report_11 rfl ?_
    refine z_goto (t := 23) hX dX1_report_12 (by decide) ?_
    refine z_astore_nN (i := 3) (q := 24) hX dX1_report_23 rfl (Nat.le_of_ble_eq_true rfl) rfl rfl ?_
    refine z_aload_nN (i := 3) (q := 25) hX dX1_report_24 rfl rfl rfl ?_
    refine z_ifnonnullN (q := 28) hX dX1_report_25 rfl ?_
    refine zc_throw0 (q := 35) (names := ["java/lang/RuntimeException", "java/lang/Exception"]) hX ciJ9 (C := RJ9) (T := zT0) (N := 0) rfl (by decide +kernel) (by decide +kernel) q1756 q110 xa_X1_279 xg_X1_279 dX1_report_28 dX1_report_31 dX1_report_32 dX1_report_35 (Nat.le_of_ble_eq_true rfl) rfl (Nat.le_of_ble_eq_true rfl) (Nat.le_of_ble_eq_true rfl) (by first | exact Nat.le_of_ble_eq_true rfl | (show _ + 1 ≤ 3; omega)) (by first | exact Nat.le_of_ble_eq_true rfl | (show _ + 6 ≤ 18; omega)) rfl (fun e28 he28 hf28 => ?_)
    exact zT.out hX (by decide) (by first | exact Nat.le_of_ble_eq_true rfl | (show (_ : Nat) ≤ 3; omega)) (by first | exact Nat.le_of_ble_eq_true rfl | (show (_ : Nat) ≤ 18; omega)) (fun H h => xSt0 hK hb0 trivial ⟨⟨he28, hf28⟩, h⟩)
  · subst e2
    by_cases hv0 : v < 0
    · have hz9 : True := trivial
      refine z_aload_n (i := 0) (q := 1) hX dX1_report_0 rfl rfl rfl ?_
      refine zr_get (C := RX1) (T := TX1) (N := 7) (q := 4) hX ciX1 3 rfl (by decide) in_X1 dX1_report_1 q227 (Or.inl rfl) (fun H h => cI.rd h (by first | assumption | exact Or.inl (by assumption) | exact Or.inr (by first | assumption | exact upm_same _ _ _ | exact (upm_ne _ _ (by first | assumption | exact Ne.symm (by assumption) | omega | exact ne_mp (m := m) (by assumption) (by assumption) | exact Ne.symm (ne_mp (m := m) (by assumption) (by assumption)) | exact ne_mp (m := w) (by assumption) (by assumption) | exact Ne.symm (ne_mp (m := w) (by assumption) (by assumption)))).trans (by first | assumption | exact upm_same _ _ _ | exact (upm_ne _ _ (by first | assumption | exact Ne.symm (by assumption) | omega | exact ne_mp (m := m) (by assumption) (by assumption) | exact Ne.symm (ne_mp (m := m) (by assumption) (by assumption)) | exact ne_mp (m := w) (by assumption) (by assumption) | exact Ne.symm (ne_mp (m := w) (by assumption) (by assumption)))).trans (by first | assumption | exact upm_same _ _ _ | exact (upm_ne _ _ (by first | assumption | exact Ne.symm (by assumption) | omega | exact ne_mp (m := m) (by assumption) (by assumption) | exact Ne.symm (ne_mp (m := m) (by assumption) (by assumption)) | exact ne_mp (m := w) (by assumption) (by assumption) | exact Ne.symm (ne_mp (m := w) (by assumption) (by assumption)))).trans (by first | assumption | exact upm_same _ _ _))))) rfl (by decide) rfl) rfl ?_
      refine zG.top (v2 := .ref y) rfl ?_
      refine z_ifnull (q := 7) hX dX1_report_4 rfl ?_
      refine z_iload_n (i := 1) (q := 8) hX dX1_report_7 rfl rfl rfl ?_
      refine z_if_ge (q := 11) (t := 15) hX dX1_report_8 (by decide) hv rfl (fun h8 => ?_) (fun h8 => ?_)
      · exact absurd h8 (by omega)
      · refine z_null (q := 12) hX dX1_report_11 rfl ?_
        refine z_goto (t := 23) hX dX1_report_12 (by decide) ?_
        refine z_astore_nN (i := 3) (q := 24) hX dX1_report_23 rfl (Nat.le_of_ble_eq_true rfl) rfl rfl ?_
        refine z_aload_nN (i := 3) (q := 25) hX dX1_report_24 rfl rfl rfl ?_
        refine z_ifnonnullN (q := 28) hX dX1_report_25 rfl ?_
        refine zc_throw0 (q := 35) (names := ["java/lang/RuntimeException", "java/lang/Exception"]) hX ciJ9 (C := RJ9) (T := zT0) (N := 0) rfl (by decide +kernel) (by decide +kernel) q1756 q110 xa_X1_279 xg_X1_279 dX1_report_28 dX1_report_31 dX1_report_32 dX1_report_35 (Nat.le_of_ble_eq_true rfl) rfl (Nat.le_of_ble_eq_true rfl) (Nat.le_of_ble_eq_true rfl) (by first | exact Nat.le_of_ble_eq_true rfl | (show _ + 1 ≤ 3; omega)) (by first | exact Nat.le_of_ble_eq_true rfl | (show _ + 6 ≤ 18; omega)) rfl (fun e28 he28 hf28 => ?_)
        exact zT.out hX (by decide) (by first | exact Nat.le_of_ble_eq_true rfl | (show (_ : Nat) ≤ 3; omega)) (by first | exact Nat.le_of_ble_eq_true rfl | (show (_ : Nat) ≤ 18; omega)) (fun H h => xSt0 hK hb0 trivial ⟨⟨he28, hf28⟩, h⟩)
    · have hv2 : 2 ≤ v := by
        subst e
        unfold rpL at hn
        dsimp only at hn
        rw [if_neg hv0] at hn
        by_cases q0 : v = 0
        · rw [if_pos q0] at hn; cases hn
        · rw [if_neg q0] at hn
          by_cases q1 : v = 1
          · rw [if_pos q1] at hn; cases hn
          · omega
      refine z_aload_n (i := 0) (q := 1) hX dX1_report_0 rfl rfl rfl ?_
      refine zr_get (C := RX1) (T := TX1) (N := 7) (q := 4) hX ciX1 3 rfl (by decide) in_X1 dX1_report_1 q227 (Or.inl rfl) (fun H h => cI.rd h (by first | assumption | exact Or.inl (by assumption) | exact Or.inr (by first | assumption | exact upm_same _ _ _ | exact (upm_ne _ _ (by first | assumption | exact Ne.symm (by assumption) | omega | exact ne_mp (m := m) (by assumption) (by assumption) | exact Ne.symm (ne_mp (m := m) (by assumption) (by assumption)) | exact ne_mp (m := w) (by assumption) (by assumption) | exact Ne.symm (ne_mp (m := w) (by assumption) (by assumption)))).trans (by first | assumption | exact upm_same _ _ _ | exact (upm_ne _ _ (by first | assumption | exact Ne.symm (by assumption) | omega | exact ne_mp (m := m) (by assumption) (by assumption) | exact Ne.symm (ne_mp (m := m) (by assumption) (by assumption)) | exact ne_mp (m := w) (by assumption) (by assumption) | exact Ne.symm (ne_mp (m := w) (by assumption) (by assumption)))).trans (by first | assumption | exact upm_same _ _ _ | exact (upm_ne _ _ (by first | assumption | exact Ne.symm (by assumption) | omega | exact ne_mp (m := m) (by assumption) (by assumption) | exact Ne.symm (ne_mp (m := m) (by assumption) (by assumption)) | exact ne_mp (m := w) (by assumption) (by assumption) | exact Ne.symm (ne_mp (m := w) (by assumption) (by assumption)))).trans (by first | assumption | exact upm_same _ _ _))))) rfl (by decide) rfl) rfl ?_
      refine zG.top (v2 := .ref y) rfl ?_
      refine z_ifnull (q := 7) hX dX1_report_4 rfl ?_
      refine z_iload_n (i := 1) (q := 8) hX dX1_report_7 rfl rfl rfl ?_
      refine z_if_ge (q := 11) (t := 15) hX dX1_report_8 (by decide) hv rfl (fun h8 => ?_) (fun h8 => ?_)
      · refine z_aload_n (i := 0) (q := 16) hX dX1_report_15 rfl rfl rfl ?_
        refine zr_get (C := RX1) (T := TX1) (N := 7) (q := 19) hX ciX1 3 rfl (by decide) in_X1 dX1_report_16 q227 (Or.inl rfl) (fun H h => cI.rd h (by first | assumption | exact Or.inl (by assumption) | exact Or.inr (by first | assumption | exact upm_same _ _ _ | exact (upm_ne _ _ (by first | assumption | exact Ne.symm (by assumption) | omega | exact ne_mp (m := m) (by assumption) (by assumption) | exact Ne.symm (ne_mp (m := m) (by assumption) (by assumption)) | exact ne_mp (m := w) (by assumption) (by assumption) | exact Ne.symm (ne_mp (m := w) (by assumption) (by assumption)))).trans (by first | assumption | exact upm_same _ _ _ | exact (upm_ne _ _ (by first | assumption | exact Ne.symm (by assumption) | omega | exact ne_mp (m := m) (by assumption) (by assumption) | exact Ne.symm (ne_mp (m := m) (by assumption) (by assumption)) | exact ne_mp (m := w) (by assumption) (by assumption) | exact Ne.symm (ne_mp (m := w) (by assumption) (by assumption)))).trans (by first | assumption | exact upm_same _ _ _ | exact (upm_ne _ _ (by first | assumption | exact Ne.symm (by assumption) | omega | exact ne_mp (m := m) (by assumption) (by assumption) | exact Ne.symm (ne_mp (m := m) (by assumption) (by assumption)) | exact ne_mp (m := w) (by assumption) (by assumption) | exact Ne.symm (ne_mp (m := w) (by assumption) (by assumption)))).trans (by first | assumption | exact upm_same _ _ _))))) rfl (by decide) rfl) rfl ?_
        refine zG.top (v2 := .ref y) rfl ?_
        refine z_iload_n (i := 1) (q := 20) hX dX1_report_19 rfl rfl rfl ?_
        refine z_V (ci := ciX9) (T := TX9) (N := 8) (na := 1) hX dX1_report_20 (c_X9_at D A k1 k2 hv) rfl q1818 q1819 q1820 q130 q1821 (by decide +kernel) ⟨Nat.le_of_ble_eq_true rfl, Nat.le_of_ble_eq_true rfl⟩ rfl rfl (Nat.le_of_ble_eq_true rfl) rfl (by first | exact Nat.le_of_ble_eq_true rfl | (show _ + 0 ≤ 3; omega)) (by first | exact Nat.le_of_ble_eq_true rfl | (show _ + 0 ≤ 18; omega)) (fun H h => ⟨h, h.obE (Or.inr k1) rfl⟩) (fun E a => zT.no) (zPd.out ?_)
        show zG X (_ + 0) (_ + 0) _ 23 _ _
        rw [show rpA y y2 v = none by unfold rpA; rw [if_neg (by omega), if_neg (by omega)]]
        refine zG.top (v2 := .null) rfl ?_
        refine z_astore_nN (i := 3) (q := 24) hX dX1_report_23 rfl (Nat.le_of_ble_eq_true rfl) rfl rfl ?_
        refine z_aload_nN (i := 3) (q := 25) hX dX1_report_24 rfl rfl rfl ?_
        refine z_ifnonnullN (q := 28) hX dX1_report_25 rfl ?_
        refine zc_throw0 (q := 35) (names := ["java/lang/RuntimeException", "java/lang/Exception"]) hX ciJ9 (C := RJ9) (T := zT0) (N := 0) rfl (by decide +kernel) (by decide +kernel) q1756 q110 xa_X1_279 xg_X1_279 dX1_report_28 dX1_report_31 dX1_report_32 dX1_report_35 (Nat.le_of_ble_eq_true rfl) rfl (Nat.le_of_ble_eq_true rfl) (Nat.le_of_ble_eq_true rfl) (by first | exact Nat.le_of_ble_eq_true rfl | (show _ + 1 ≤ 3; omega)) (by first | exact Nat.le_of_ble_eq_true rfl | (show _ + 6 ≤ 18; omega)) rfl (fun e28 he28 hf28 => ?_)
        exact zT.out hX (by decide) (by first | exact Nat.le_of_ble_eq_true rfl | (show (_ : Nat) ≤ 3; omega)) (by first | exact Nat.le_of_ble_eq_true rfl | (show (_ : Nat) ≤ 18; omega)) (fun H h => xSt0 hK hb0 trivial ⟨⟨he28, hf28⟩, h⟩)
      · exact absurd h8 (by omega)
abbrev rmX1_report_ok : Room := { frames := 7, cells := 1, slots := 6, locals := 120 }
set_option maxHeartbeats 4000000 in
theorem c_X1_report_ok (D : zD) (A : Nat → Prop) {w m : zMp} {b : Nat} {K : Nat → Prop} {M : Int → Int} {ps : List (Int → Int)} {sv : Option (Int → Int)} {rp : Option (Int × Int × Int × Int)} {s : zS} {cs : Option (List zCn)} {v z c d : Int} (hb : zX1 D w m K b M ps sv rp s cs) (hK : zHk K m) (hv : zR v) (hz : zR z) (hn : rpL rp v = some (c, d)) : zC D yX1_report cX1_report 4 (some .int) none rmX1_report_ok A [.ref b, zI (v), zI (z)] (cI D A w m) (zPe (fun (x : zMp × zMp) => some (zI (if z = 0 then c else d))) (fun x => pSt D w m K b (0 ≤ z ∧ z ≤ 1) M ps sv rp s cs x) (fun x => cI D A x.1 x.2)) (xSt D A w m K b "java/lang/IllegalArgumentException" ciJ7 (¬ (0 ≤ z ∧ z ≤ 1)) M ps sv rp s cs) := by
  refine zC_start (L := [some (.ref b), some (zI (v)), some (zI (z)), none]) (by decide) (Nat.le_of_ble_eq_true rfl) rfl (fun X hX => ?_)
  have hb0 := hb
  obtain ⟨lg, hl1, ia, sa, ra, ca, p1, p2, p3, p5, p6, p7, -⟩ := hb
  rcases p6 with ⟨e, e2⟩ | ⟨c1, d1, c2, d2, y, y2, e, e2, k1, k2, k3, k4⟩
  · rw [e] at hn; cases hn
  · subst e2
    obtain ⟨hv0, y9, r9, hy9, hr9⟩ : 0 ≤ v ∧ ∃ (y9 : Nat) (r9 : Option Nat), m y9 = some (eR r9 c d) ∧ rpA y y2 v = some y9 := by
      subst e
      unfold rpL at hn
      dsimp only at hn
      by_cases hv0 : v < 0
      · rw [if_pos hv0] at hn; cases hn
      · rw [if_neg hv0] at hn
        by_cases q0 : v = 0
        · rw [if_pos q0] at hn
          cases hn
          exact ⟨by omega, y, some y2, k1, by unfold rpA; rw [if_pos (by omega)]⟩
        · rw [if_neg q0] at hn
          by_cases q1 : v = 1
          · rw [if_pos q1] at hn
            cases hn
            exact ⟨by omega, y2, none, k2, by unfold rpA; rw [if_neg (by omega), if_pos q1]⟩
          · rw [if_neg q1] at hn; cases hn
    refine z_aload_n (i := 0) (q := 1) hX dX1_report_0 rfl rfl rfl ?_
    refine zr_get (C := RX1) (T := TX1) (N := 7) (q := 4) hX ciX1 3 rfl (by decide) in_X1 dX1_report_1 q227 (Or.inl rfl) (fun H h => cI.rd h (by first | assumption | exact Or.inl (by assumption) | exact Or.inr (by first | assumption | exact upm_same _ _ _ | exact (upm_ne _ _ (by first | assumption | exact Ne.symm (by assumption) | omega | exact ne_mp (m := m) (by assumption) (by assumption) | exact Ne.symm (ne_mp (m := m) (by assumption) (by assumption)) | exact ne_mp (m := w) (by assumption) (by assumption) | exact Ne.symm (ne_mp (m := w) (by assumption) (by assumption)))).trans (by first | assumption | exact upm_same _ _ _ | exact (upm_ne _ _ (by first | assumption | exact Ne.symm (by assumption) | omega | exact ne_mp (m := m) (by assumption) (by assumption) | exact Ne.symm (ne_mp (m := m) (by assumption) (by assumption)) | exact ne_mp (m := w) (by assumption) (by assumption) | exact Ne.symm (ne_mp (m := w) (by assumption) (by assumption)))).trans (by first | assumption | exact upm_same _ _ _ | exact (upm_ne _ _ (by first | assumption | exact Ne.symm (by assumption) | omega | exact ne_mp (m := m) (by assumption) (by assumption) | exact Ne.symm (ne_mp (m := m) (by assumption) (by assumption)) | exact ne_mp (m := w) (by assumption) (by assumption) | exact Ne.symm (ne_mp (m := w) (by assumption) (by assumption)))).trans (by first | assumption | exact upm_same _ _ _))))) rfl (by decide) rfl) rfl ?_
    refine zG.top (v2 := .ref y) rfl ?_
    refine z_ifnull (q := 7) hX dX1_report_4 rfl ?_
    refine z_iload_n (i := 1) (q := 8) hX dX1_report_7 rfl rfl rfl ?_
    refine z_if_ge (q := 11) (t := 15) hX dX1_report_8 (by decide) hv rfl (fun h8 => ?_) (fun h8 => ?_)
    · refine z_aload_n (i := 0) (q := 16) hX dX1_report_15 rfl rfl rfl ?_
      refine zr_get (C := RX1) (T := TX1) (N := 7) (q := 19) hX ciX1 3 rfl (by decide) in_X1 dX1_report_16 q227 (Or.inl rfl) (fun H h => cI.rd h (by first | assumption | exact Or.inl (by assumption) | exact Or.inr (by first | assumption | exact upm_same _ _ _ | exact (upm_ne _ _ (by first | assumption | exact Ne.symm (by assumption) | omega | exact ne_mp (m := m) (by assumption) (by assumption) | exact Ne.symm (ne_mp (m := m) (by assumption) (by assumption)) | exact ne_mp (m := w) (by assumption) (by assumption) | exact Ne.symm (ne_mp (m := w) (by assumption) (by assumption)))).trans (by first | assumption | exact upm_same _ _ _ | exact (upm_ne _ _ (by first | assumption | exact Ne.symm (by assumption) | omega | exact ne_mp (m := m) (by assumption) (by assumption) | exact Ne.symm (ne_mp (m := m) (by assumption) (by assumption)) | exact ne_mp (m := w) (by assumption) (by assumption) | exact Ne.symm (ne_mp (m := w) (by assumption) (by assumption)))).trans (by first | assumption | exact upm_same _ _ _ | exact (upm_ne _ _ (by first | assumption | exact Ne.symm (by assumption) | omega | exact ne_mp (m := m) (by assumption) (by assumption) | exact Ne.symm (ne_mp (m := m) (by assumption) (by assumption)) | exact ne_mp (m := w) (by assumption) (by assumption) | exact Ne.symm (ne_mp (m := w) (by assumption) (by assumption)))).trans (by first | assumption | exact upm_same _ _ _))))) rfl (by decide) rfl) rfl ?_
      refine zG.top (v2 := .ref y) rfl ?_
      refine z_iload_n (i := 1) (q := 20) hX dX1_report_19 rfl rfl rfl ?_
      refine z_V (ci := ciX9) (T := TX9) (N := 8) (na := 1) hX dX1_report_20 (c_X9_at D A k1 k2 hv) rfl q1818 q1819 q1820 q130 q1821 (by decide +kernel) ⟨Nat.le_of_ble_eq_true rfl, Nat.le_of_ble_eq_true rfl⟩ rfl rfl (Nat.le_of_ble_eq_true rfl) rfl (by first | exact Nat.le_of_ble_eq_true rfl | (show _ + 0 ≤ 1; omega)) (by first | exact Nat.le_of_ble_eq_true rfl | (show _ + 0 ≤ 6; omega)) (fun H h => ⟨h, h.obE (Or.inr k1) rfl⟩) (fun E a => zT.no) (zPd.out ?_)
      show zG X (_ + 0) (_ + 0) _ 23 _ _
      rw [hr9]
      refine zG.top (v2 := .ref y9) rfl ?_
      refine z_astore_n (i := 3) (q := 24) hX dX1_report_23 rfl (Nat.le_of_ble_eq_true rfl) rfl rfl ?_
      refine z_aload_n (i := 3) (q := 25) hX dX1_report_24 rfl rfl rfl ?_
      refine z_ifnonnull (t := 36) hX dX1_report_25 (by decide) ?_
      refine z_iload_n (i := 2) (q := 37) hX dX1_report_36 rfl rfl rfl ?_
      refine z_iconst (q := 38) hX dX1_report_37 rfl ?_
      refine z_iconst (q := 39) hX dX1_report_38 rfl ?_
      refine z_S (na := 3) hX dX1_report_39 (c_X1_inRange D A hz (by decide) (by decide)) q1313 q1050 q97 q1051 (by decide +kernel) ⟨Nat.le_of_ble_eq_true rfl, Nat.le_of_ble_eq_true rfl⟩ rfl rfl (Nat.le_of_ble_eq_true rfl) rfl (by first | exact Nat.le_of_ble_eq_true rfl | (show _ + 0 ≤ 1; omega)) (by first | exact Nat.le_of_ble_eq_true rfl | (show _ + 0 ≤ 6; omega)) (fun H h => h) (fun E a => zT.no) (zPd.out ?_)
      show zG X (_ + 0) (_ + 0) _ 42 _ _
      rw [and_dec]
      refine z_S (na := 1) hX dX1_report_42 (c_X1_checkArgument D A) q1314 q1315 q97 q1316 (by decide +kernel) ⟨Nat.le_of_ble_eq_true rfl, Nat.le_of_ble_eq_true rfl⟩ rfl rfl (Nat.le_of_ble_eq_true rfl) rfl (by first | exact Nat.le_of_ble_eq_true rfl | (show _ + 1 ≤ 1; omega)) (by first | exact Nat.le_of_ble_eq_true rfl | (show _ + 6 ≤ 6; omega)) (fun H h => h) (zXs.out (fun e42 => ?_)) (zPe.out (fun x42 hx42 => ?_))
      · refine zT.ax (fun hx42 => ?_)
        exact zT.out hX (by decide) (by first | exact Nat.le_of_ble_eq_true rfl | (show (_ : Nat) ≤ 1; omega)) (by first | exact Nat.le_of_ble_eq_true rfl | (show (_ : Nat) ≤ 6; omega)) (fun H h => xSt0 hK hb0 (of_decide_eq_false hx42) h)
      show zG X (_ + 1) (_ + 6) _ 45 _ _
      refine z_aload_n (i := 3) (q := 46) hX dX1_report_45 rfl rfl rfl ?_
      refine z_iload_n (i := 2) (q := 47) hX dX1_report_46 rfl rfl rfl ?_
      refine z_V (ci := ciX9) (T := TX9) (N := 8) (na := 1) hX dX1_report_47 (c_X9_part D A hy9 (of_decide_eq_true hx42)) rfl q1836 q1837 q1838 q130 q1839 (by decide +kernel) ⟨Nat.le_of_ble_eq_true rfl, Nat.le_of_ble_eq_true rfl⟩ rfl rfl (Nat.le_of_ble_eq_true rfl) rfl (by first | exact Nat.le_of_ble_eq_true rfl | (show _ + 0 ≤ 1; omega)) (by first | exact Nat.le_of_ble_eq_true rfl | (show _ + 0 ≤ 6; omega)) (fun H h => ⟨h, h.obE (Or.inr hy9) rfl⟩) (fun E a => zT.no) (zPd.out ?_)
      show zG X (_ + 0) (_ + 0) _ 50 _ _
      exact z_iret hX dX1_report_50 (by first | exact Nat.le_of_ble_eq_true rfl | (show (_ : Nat) ≤ 1; omega)) (by first | exact Nat.le_of_ble_eq_true rfl | (show (_ : Nat) ≤ 6; omega)) rfl (fun H h => ⟨(w, m), rfl, pSt0 (of_decide_eq_true hx42) hb0, h⟩)
    · exact absurd h8 (by omega)
