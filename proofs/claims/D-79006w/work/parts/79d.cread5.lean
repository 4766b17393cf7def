/-! THE CLASS: Reader: condition, all -/
set_option maxRecDepth 100000
abbrev rmX10_all : Room := { frames := 12, cells := 3300, slots := 40000, locals := 260 }
set_option maxHeartbeats 4000000 in
theorem c_X10_all (D : zD) (A : Nat → Prop) {w m : zMp} {b : Nat} {o ia : Nat} {s : zS} (hb : rdr D m b o ia 0 s) : zC D yX10_all cX10_all 4 (some (.object "java/util/ArrayList")) none rmX10_all A [.ref b] (cI D A w m) (zPe (fun (x : Nat × zMp) => some (.ref x.1)) (fun x => zLe w x.2 ∧ ∃ (cs : List zCn) (mc : Int) (xs : List Nat), (alR s 61 0 []).1 = some cs ∧ x.2 x.1 = some (eL mc xs) ∧ wCns x.2 xs cs ∧ cs.length ≤ 30) (fun x => cI D A x.2 (rdM m b o (alR s 61 0 []).2))) (zXs "LogCompactor$TextException" (fun e H => ∃ w2, zLe w w2 ∧ (alR s 61 0 []).1 = none ∧ (w2 e = none ∧ rdM m b o (alR s 61 0 []).2 e = none) ∧ cI D A w2 (upm (rdM m b o (alR s 61 0 []).2) e (eT13 (alR s 61 0 []).2)) H)) := by
  refine zC_start (L := [some (.ref b), none, none, none]) (by decide) (Nat.le_of_ble_eq_true rfl) rfl (fun X hX => ?_)
  have hrd := hb
  obtain ⟨h1, -, -, h5, h6⟩ := hb
  have h60 := h5.1
  obtain ⟨R, hR⟩ : ∃ R, R = alR s 61 0 [] := ⟨_, rfl⟩
  rw [← hR] at hX
  have K10 : ∀ (f : Nat) (a : Nat) (p : Int) (cs : List zCn) (xs : List Nat) (mc : Int) (w1 : zMp) (kc ns : Nat) (v3 : Option Value), a ≠ b → m a = none → 0 ≤ p → p ≤ s.length → (s.length : Int) - p < f → 2 * (cs.length : Int) ≤ p → alR s f p cs = R → zLe w w1 → wCns w1 xs cs → kc ≤ 10 + 100 * cs.length → ns ≤ 100 + 1100 * cs.length → zG X kc ns (cI D A w1 (upm (rdM m b o p) a (eL mc xs))) 10 [some (.ref b), some (.ref a), some (zI 1), v3] [] := by
    intro f
    induction f with
    | zero => intro a p cs xs mc w1 kc ns v3 _ _ _ hp hlt; omega
    | succ f ih =>
      intro a p cs xs mc w1 kc ns v3 hab ha hp0 hp1 hlt h2 hal hle hcs hkc hns
      have hbp := hrd.up hp0 hp1
      have hbn := hbp.new (a := a) (x := eL mc xs) ((upm_ne _ _ hab).trans ha)
      have hbn0 := hbn.1
      have hxl := hcs.1
      refine z_iload_n (i := 2) (q := 11) hX dX10_all_10 rfl rfl rfl ?_
      refine z_if_eq (q := 14) (t := 34) hX dX10_all_11 (by decide) (by omega) rfl (fun h11 => ?_) (fun h11 => ?_)
      · exact absurd h11 (by decide)
      · refine z_aload_n (i := 1) (q := 15) hX dX10_all_14 rfl rfl rfl ?_
        refine z_aload_n (i := 0) (q := 16) hX dX10_all_15 rfl rfl rfl ?_
        refine z_iconst (q := 17) hX dX10_all_16 rfl ?_
        refine z_V (ci := ciX10) (T := TX10) (N := 2) (na := 1) hX dX10_all_17 (c_X10_condition_0 D A hbn) rfl q1027 q1029 qs16 q134 q1030 (by decide +kernel) ⟨Nat.le_of_ble_eq_true rfl, Nat.le_of_ble_eq_true rfl⟩ rfl rfl (Nat.le_of_ble_eq_true rfl) rfl (by first | exact Nat.le_of_ble_eq_true rfl | (show _ + 93 ≤ 3300; omega)) (by first | exact Nat.le_of_ble_eq_true rfl | (show _ + 977 ≤ 40000; omega)) (fun H h => ⟨h, h.obE (Or.inr hbn0) rfl⟩) (zXs.out (fun e17 => ?_)) (zPe.out (fun x17 hx17 => ?_))
        · refine zT.ax (fun hx17 => zT.ax (fun hy17 => ?_))
          show zT X (_ + 93) (_ + 977) _ _ _ _ _
          have hz := rdM_nx hy17.2
          refine zT.out hX (by decide) (by first | exact Nat.le_of_ble_eq_true rfl | (show (_ : Nat) ≤ 3300; omega)) (by first | exact Nat.le_of_ble_eq_true rfl | (show (_ : Nat) ≤ 40000; omega)) (fun H h => ⟨rfl, w1, hle, ?_⟩)
          rw [alR_no hx17] at hal
          rw [← hal]
          exact ⟨rfl, ⟨hy17.1, hz.2⟩, by have h2 := h.del a; rw [rdM_dlE hab ha hz.1] at h2; exact h2⟩
        show zG X (_ + 93) (_ + 977) _ 20 _ _
        obtain ⟨k1, c9, k2, k3⟩ := hx17
        obtain ⟨it, k4, k5⟩ := k3.el
        obtain ⟨q, hq⟩ : ∃ q, q = (cdR s 4 p).2 := ⟨_, rfl⟩
        have hq1 : p + 1 ≤ q := by rw [hq]; exact (cdR_le (s := s) 4 hp0 hp1).2 (by rw [k2]; exact fun z => by cases z)
        have hq2 : q ≤ s.length := by rw [hq]; exact (cdR_le (s := s) 4 hp0 hp1).1.2
        rw [alR_so k2, ← hq] at hal
        rw [← hq]
        clear hq
        have hma : rdM (upm (rdM m b o p) a (eL mc xs)) b o q a = some (eL mc xs) := (upm_ne _ _ hab).trans (upm_same _ _ _)
        have hew : ∀ y : zE, upm (rdM (upm (rdM m b o p) a (eL mc xs)) b o q) a y = upm (rdM m b o q) a y := fun y => by
          unfold rdM
          rw [upm_cm _ _ _ (Ne.symm hab), upm_upm, upm_cm _ _ _ hab, upm_upm]
        refine z_V (ci := ciJ2) (T := TJ2) (N := 3) (na := 1) hX dX10_all_20 (c_J2_add D A hma (by omega) k4 k5) rfl q1155 q379 q380 q101 q381 (by decide +kernel) ⟨Nat.le_of_ble_eq_true rfl, Nat.le_of_ble_eq_true rfl⟩ rfl rfl (Nat.le_of_ble_eq_true rfl) rfl (by first | exact Nat.le_of_ble_eq_true rfl | (show _ + 1 ≤ 3300; omega)) (by first | exact Nat.le_of_ble_eq_true rfl | (show _ + 61 ≤ 40000; omega)) (fun H h => ⟨h, h.obL (Or.inr hma)⟩) (fun E a => zT.no) (zPd.out ?_)
        show zG X (_ + 1) (_ + 61) _ 23 _ _
        rw [hew]
        have hbq := (hrd.up (q := q) (by omega) hq2).new (a := a) (x := eL (mc + 1) (xs ++ [x17.1])) ((upm_ne _ _ hab).trans ha)
        have hbq0 := hbq.1
        refine z_istore_n (i := 3) (q := 24) hX dX10_all_23 rfl (Nat.le_of_ble_eq_true rfl) rfl rfl ?_
        refine z_aload_n (i := 0) (q := 25) hX dX10_all_24 rfl rfl rfl ?_
        refine z_bipush (q := 27) hX dX10_all_25 (by decide) rfl ?_
        refine z_V (ci := ciX10) (T := TX10) (N := 2) (na := 1) hX dX10_all_27 (c_X10_takes D A hbq (by decide)) rfl q1031 q1033 qs17 q134 q1034 (by decide +kernel) ⟨Nat.le_of_ble_eq_true rfl, Nat.le_of_ble_eq_true rfl⟩ rfl rfl (Nat.le_of_ble_eq_true rfl) rfl (by first | exact Nat.le_of_ble_eq_true rfl | (show _ + 0 ≤ 3300; omega)) (by first | exact Nat.le_of_ble_eq_true rfl | (show _ + 0 ≤ 40000; omega)) (fun H h => ⟨h, h.obE (Or.inr hbq0) rfl⟩) (fun E a => zT.no) (zPd.out ?_)
        show zG X (_ + 0) (_ + 0) _ 30 _ _
        have hcs2 := (hcs.le k1).snoc k3
        by_cases q38 : hr s q = 38
        · rw [decide_eq_true q38, if_pos q38]
          rw [if_pos q38] at hal
          have hq3 := hr_in (s := s) (p := q) (by omega)
          have hew2 : rdM (upm (rdM m b o q) a (eL (mc + 1) (xs ++ [x17.1]))) b o (q + 1) = upm (rdM m b o (q + 1)) a (eL (mc + 1) (xs ++ [x17.1])) := by
            unfold rdM
            rw [upm_cm _ _ _ hab, upm_upm]
          rw [hew2]
          refine z_istore_n (i := 2) (q := 31) hX dX10_all_30 rfl (Nat.le_of_ble_eq_true rfl) rfl rfl ?_
          refine z_goto (t := 10) hX dX10_all_31 (by decide) ?_
          exact ih a (q + 1) (cs ++ [c9]) (xs ++ [x17.1]) (mc + 1) x17.2 _ _ _ hab ha (by omega) (by omega) (by omega) (by rw [List.length_append]; show 2 * ((cs.length + 1 : Nat) : Int) ≤ _; omega) hal (hle.tr k1) hcs2 (by rw [List.length_append]; show _ ≤ 10 + 100 * (cs.length + 1); omega) (by rw [List.length_append]; show _ ≤ 100 + 1100 * (cs.length + 1); omega)
        rw [decide_eq_false q38, if_neg q38, hbq.self]
        rw [if_neg q38] at hal
        have hbq3 := hbq
        obtain ⟨u1, ⟨lg, sv, hl, rp, cd, u2⟩, ⟨f9, u3, u4⟩, u5, u6⟩ := hbq3
        have haq : upm (rdM m b o q) a (eL (mc + 1) (xs ++ [x17.1])) a = some (eL (mc + 1) (xs ++ [x17.1])) := upm_same _ _ _
        refine z_istore_n (i := 2) (q := 31) hX dX10_all_30 rfl (Nat.le_of_ble_eq_true rfl) rfl rfl ?_
        refine z_goto (t := 10) hX dX10_all_31 (by decide) ?_
        refine z_iload_n (i := 2) (q := 11) hX dX10_all_10 rfl rfl rfl ?_
        refine z_ifB_eq (q := 14) (t := 34) hX dX10_all_11 (by decide) rfl (fun h11 => ?_) (fun h11 => ?_)
        · have hz9 : True := trivial
          refine z_aload_n (i := 0) (q := 35) hX dX10_all_34 rfl rfl rfl ?_
          refine z_aload_n (i := 0) (q := 36) hX dX10_all_35 rfl rfl rfl ?_
          refine zr_get (C := RX10) (T := TX10) (N := 2) (q := 39) hX ciX10 0 rfl (by decide) in_X10 dX10_all_36 q1014 (Or.inl rfl) (fun H h => cI.rd h (by first | assumption | exact Or.inl (by assumption) | exact Or.inr (by first | assumption | exact upm_same _ _ _ | exact (upm_ne _ _ (by first | assumption | exact Ne.symm (by assumption) | omega | exact ne_mp (m := m) (by assumption) (by assumption) | exact Ne.symm (ne_mp (m := m) (by assumption) (by assumption)) | exact ne_mp (m := w) (by assumption) (by assumption) | exact Ne.symm (ne_mp (m := w) (by assumption) (by assumption)))).trans (by first | assumption | exact upm_same _ _ _ | exact (upm_ne _ _ (by first | assumption | exact Ne.symm (by assumption) | omega | exact ne_mp (m := m) (by assumption) (by assumption) | exact Ne.symm (ne_mp (m := m) (by assumption) (by assumption)) | exact ne_mp (m := w) (by assumption) (by assumption) | exact Ne.symm (ne_mp (m := w) (by assumption) (by assumption)))).trans (by first | assumption | exact upm_same _ _ _ | exact (upm_ne _ _ (by first | assumption | exact Ne.symm (by assumption) | omega | exact ne_mp (m := m) (by assumption) (by assumption) | exact Ne.symm (ne_mp (m := m) (by assumption) (by assumption)) | exact ne_mp (m := w) (by assumption) (by assumption) | exact Ne.symm (ne_mp (m := w) (by assumption) (by assumption)))).trans (by first | assumption | exact upm_same _ _ _))))) rfl (by decide) rfl) rfl ?_
          refine z_aload_n (i := 0) (q := 40) hX dX10_all_39 rfl rfl rfl ?_
          refine zr_get (C := RX10) (T := TX10) (N := 2) (q := 43) hX ciX10 1 rfl (by decide) in_X10 dX10_all_40 q1015 (Or.inl rfl) (fun H h => cI.rd h (by first | assumption | exact Or.inl (by assumption) | exact Or.inr (by first | assumption | exact upm_same _ _ _ | exact (upm_ne _ _ (by first | assumption | exact Ne.symm (by assumption) | omega | exact ne_mp (m := m) (by assumption) (by assumption) | exact Ne.symm (ne_mp (m := m) (by assumption) (by assumption)) | exact ne_mp (m := w) (by assumption) (by assumption) | exact Ne.symm (ne_mp (m := w) (by assumption) (by assumption)))).trans (by first | assumption | exact upm_same _ _ _ | exact (upm_ne _ _ (by first | assumption | exact Ne.symm (by assumption) | omega | exact ne_mp (m := m) (by assumption) (by assumption) | exact Ne.symm (ne_mp (m := m) (by assumption) (by assumption)) | exact ne_mp (m := w) (by assumption) (by assumption) | exact Ne.symm (ne_mp (m := w) (by assumption) (by assumption)))).trans (by first | assumption | exact upm_same _ _ _ | exact (upm_ne _ _ (by first | assumption | exact Ne.symm (by assumption) | omega | exact ne_mp (m := m) (by assumption) (by assumption) | exact Ne.symm (ne_mp (m := m) (by assumption) (by assumption)) | exact ne_mp (m := w) (by assumption) (by assumption) | exact Ne.symm (ne_mp (m := w) (by assumption) (by assumption)))).trans (by first | assumption | exact upm_same _ _ _))))) rfl (by decide) rfl) rfl ?_
          refine zr_getN (C := RX1) (T := TX1) (N := 7) (q := 46) hX ciX1 5 rfl (by decide) in_X1 dX10_all_43 (zNF_at 29 rfl) (fun H h => cI.rd h (by first | assumption | exact Or.inl (by assumption) | exact Or.inr (by first | assumption | exact upm_same _ _ _ | exact (upm_ne _ _ (by first | assumption | exact Ne.symm (by assumption) | omega | exact ne_mp (m := m) (by assumption) (by assumption) | exact Ne.symm (ne_mp (m := m) (by assumption) (by assumption)) | exact ne_mp (m := w) (by assumption) (by assumption) | exact Ne.symm (ne_mp (m := w) (by assumption) (by assumption)))).trans (by first | assumption | exact upm_same _ _ _ | exact (upm_ne _ _ (by first | assumption | exact Ne.symm (by assumption) | omega | exact ne_mp (m := m) (by assumption) (by assumption) | exact Ne.symm (ne_mp (m := m) (by assumption) (by assumption)) | exact ne_mp (m := w) (by assumption) (by assumption) | exact Ne.symm (ne_mp (m := w) (by assumption) (by assumption)))).trans (by first | assumption | exact upm_same _ _ _ | exact (upm_ne _ _ (by first | assumption | exact Ne.symm (by assumption) | omega | exact ne_mp (m := m) (by assumption) (by assumption) | exact Ne.symm (ne_mp (m := m) (by assumption) (by assumption)) | exact ne_mp (m := w) (by assumption) (by assumption) | exact Ne.symm (ne_mp (m := w) (by assumption) (by assumption)))).trans (by first | assumption | exact upm_same _ _ _))))) rfl (by decide) rfl) rfl ?_
          refine z_icmp_ne (q := 49) (t := 53) hX dX10_all_46 (by decide) ⟨by omega, by omega⟩ ⟨by omega, by omega⟩ rfl (fun h46 => ?_) (fun h46 => ?_)
          · have hqe : ¬ q = s.length := h46
            rw [if_neg hqe] at hal
            refine z_iconst (q := 54) hX dX10_all_53 rfl ?_
            refine z_V (ci := ciX10) (T := TX10) (N := 2) (na := 1) hX dX10_all_54 (c_X10_need D A (c := false) hbq) rfl q1052 q1054 qs21 q134 q1055 (by decide +kernel) ⟨Nat.le_of_ble_eq_true rfl, Nat.le_of_ble_eq_true rfl⟩ rfl rfl (Nat.le_of_ble_eq_true rfl) rfl (by first | exact Nat.le_of_ble_eq_true rfl | (show _ + 1 ≤ 3300; omega)) (by first | exact Nat.le_of_ble_eq_true rfl | (show _ + 7 ≤ 40000; omega)) (fun H h => ⟨h, h.obE (Or.inr hbq0) rfl⟩) (zXs.out (fun e54 => ?_)) (zPe.out (fun x54 hx54 => ?_))
            · refine zT.ax (fun hx54 => zT.ax (fun hy54 => ?_))
              show zT X (_ + 1) (_ + 7) _ _ _ _ _
              have hz := upm_none.mp hy54.2
              refine zT.out hX (by decide) (by first | exact Nat.le_of_ble_eq_true rfl | (show (_ : Nat) ≤ 3300; omega)) (by first | exact Nat.le_of_ble_eq_true rfl | (show (_ : Nat) ≤ 40000; omega)) (fun H h => ⟨rfl, x17.2, hle.tr k1, ?_⟩)
              rw [← hal]
              refine ⟨rfl, ⟨hy54.1, hz.2⟩, ?_⟩
              have h2 := h.del a
              rw [dlm_upm_ne _ _ (Ne.symm hz.1), dlm_upm _ _ (show rdM m b o q a = none from (upm_ne _ _ hab).trans ha)] at h2
              exact h2
            show zG X (_ + 1) (_ + 7) _ 57 _ _
            cases hx54
          · have hqe : q = s.length := Decidable.not_not.mp h46
            rw [if_pos hqe] at hal
            refine z_iconst (q := 50) hX dX10_all_49 rfl ?_
            refine z_goto (t := 54) hX dX10_all_50 (by decide) ?_
            refine z_V (ci := ciX10) (T := TX10) (N := 2) (na := 1) hX dX10_all_54 (c_X10_need D A (c := true) hbq) rfl q1052 q1054 qs21 q134 q1055 (by decide +kernel) ⟨Nat.le_of_ble_eq_true rfl, Nat.le_of_ble_eq_true rfl⟩ rfl rfl (Nat.le_of_ble_eq_true rfl) rfl (by first | exact Nat.le_of_ble_eq_true rfl | (show _ + 1 ≤ 3300; omega)) (by first | exact Nat.le_of_ble_eq_true rfl | (show _ + 7 ≤ 40000; omega)) (fun H h => ⟨h, h.obE (Or.inr hbq0) rfl⟩) (zXs.out (fun e54 => ?_)) (zPe.out (fun x54 hx54 => ?_))
            · refine zT.ax (fun hx54 => ?_)
              cases hx54
            show zG X (_ + 1) (_ + 7) _ 57 _ _
            refine z_aload_n (i := 1) (q := 58) hX dX10_all_57 rfl rfl rfl ?_
            refine zG.know (fun H h => h.w_of haq) (fun hwa => ?_)
            refine zc_frz a haq ?_
            rw [dlm_upm _ _ (show rdM m b o q a = none from (upm_ne _ _ hab).trans ha)]
            exact z_aret hX dX10_all_58 (by first | exact Nat.le_of_ble_eq_true rfl | (show (_ : Nat) ≤ 3300; omega)) (by first | exact Nat.le_of_ble_eq_true rfl | (show (_ : Nat) ≤ 40000; omega)) rfl (by first | exact Or.inl ⟨_, rfl⟩ | exact Or.inr ⟨_, rfl⟩) (by first | exact Or.inl rfl | exact Or.inr ⟨_, rfl⟩) (fun H h => ⟨(a, upm x17.2 a (eL (mc + 1) (xs ++ [x17.1]))), rfl, ⟨(hle.tr k1).tr (zLe.up hwa), cs ++ [c9], mc + 1, xs ++ [x17.1], by rw [← hal], upm_same _ _ _, hcs2.le (zLe.up hwa), by rw [List.length_append]; show cs.length + 1 ≤ 30; omega⟩, by rw [← hal]; exact h⟩)
        · exact absurd h11 (by decide)
  refine zc_new (q := 3) (fs := [zI 0, .null, zI 0]) (C := RJ2) (T := TJ2) (N := 3) hX ciJ2 rfl in_J2 tyJ2_ok dX10_all_0 q1025 q156 q101 (fun j hj => by match j, hj with | 0, _ => rfl | 1, _ => rfl | 2, _ => rfl | (_ + 3), h => exact absurd h (by omega)) (by first | exact Nat.le_of_ble_eq_true rfl | (show _ + 1 ≤ 3300; omega)) (by first | exact Nat.le_of_ble_eq_true rfl | (show _ + 3 ≤ 40000; omega)) rfl (fun a0 ha0 hb0 => ?_)
  have n0 := hb0
  try simp only [upm_none] at n0
  repeat (have := And.left n0; replace n0 := And.right n0)
  refine z_dup (q := 4) hX dX10_all_3 rfl rfl ?_
  refine z_C (na := 0) hX dX10_all_4 (c_J2_init D A (by first | assumption | exact upm_same _ _ _ | exact (upm_ne _ _ (by first | assumption | exact Ne.symm (by assumption) | omega | exact ne_mp (m := m) (by assumption) (by assumption) | exact Ne.symm (ne_mp (m := m) (by assumption) (by assumption)) | exact ne_mp (m := w) (by assumption) (by assumption) | exact Ne.symm (ne_mp (m := w) (by assumption) (by assumption)))).trans (by first | assumption | exact upm_same _ _ _ | exact (upm_ne _ _ (by first | assumption | exact Ne.symm (by assumption) | omega | exact ne_mp (m := m) (by assumption) (by assumption) | exact Ne.symm (ne_mp (m := m) (by assumption) (by assumption)) | exact ne_mp (m := w) (by assumption) (by assumption) | exact Ne.symm (ne_mp (m := w) (by assumption) (by assumption)))).trans (by first | assumption | exact upm_same _ _ _ | exact (upm_ne _ _ (by first | assumption | exact Ne.symm (by assumption) | omega | exact ne_mp (m := m) (by assumption) (by assumption) | exact Ne.symm (ne_mp (m := m) (by assumption) (by assumption)) | exact ne_mp (m := w) (by assumption) (by assumption) | exact Ne.symm (ne_mp (m := w) (by assumption) (by assumption)))).trans (by first | assumption | exact upm_same _ _ _))))) q1026 q158 q101 q159 rfl (by decide +kernel) ⟨Nat.le_of_ble_eq_true rfl, Nat.le_of_ble_eq_true rfl⟩ rfl rfl (Nat.le_of_ble_eq_true rfl) rfl (by first | exact Nat.le_of_ble_eq_true rfl | (show _ + 0 ≤ 3300; omega)) (by first | exact Nat.le_of_ble_eq_true rfl | (show _ + 0 ≤ 40000; omega)) (fun H h => h) (fun E a => zT.no) (zPv.out ?_)
  show zG X (_ + 0) (_ + 0) _ 7 _ _
  rw [upm_upm]
  have n0x : a0 ≠ b := ne_mp hb0 h1
  refine z_astore_n (i := 1) (q := 8) hX dX10_all_7 rfl (Nat.le_of_ble_eq_true rfl) rfl rfl ?_
  refine z_iconst (q := 9) hX dX10_all_8 rfl ?_
  refine z_istore_n (i := 2) (q := 10) hX dX10_all_9 rfl (Nat.le_of_ble_eq_true rfl) rfl rfl ?_
  have k9 := K10 61 a0 0 [] [] 0 w 1 3 none n0x hb0 (Int.le_refl _) (by omega) (by omega) (by show (2 * (0 : Int)) ≤ 0; decide) hR.symm zLe.rf ⟨rfl, fun i c hc => by cases hc⟩ (by decide) (by decide)
  rw [hrd.self] at k9
  exact k9
