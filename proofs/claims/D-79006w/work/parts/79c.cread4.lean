/-! THE CLASS: Reader: condition, all -/
set_option maxRecDepth 100000
abbrev rmX10_condition_3 : Room := { frames := 8, cells := 36, slots := 386, locals := 176 }
set_option maxHeartbeats 4000000 in
theorem c_X10_condition_3 (D : zD) (A : Nat → Prop) {w m : zMp} {b : Nat} {o ia : Nat} {p : Int} {s : zS} (hb : rdr D m b o ia p s) : zC D yX10_condition cX10_condition 2 (some (.object "LogCompactor$Condition")) none rmX10_condition_3 A [.ref b, zI (3)] (cI D A w m) (zPe (fun (x : Nat × zMp) => some (.ref x.1)) (fun x => zLe w x.2 ∧ ∃ c, (cdR s 1 p).1 = some c ∧ wCn x.2 x.1 c) (fun x => cI D A x.2 (rdM m b o (cdR s 1 p).2))) (xTx D A w (rdM m b o (cdR s 1 p).2) ((cdR s 1 p).1 = none) (cdR s 1 p).2) := by
  refine zC_start (L := [some (.ref b), some (zI (3))]) (by decide) (Nat.le_of_ble_eq_true rfl) rfl (fun X hX => ?_)
  have hb0 := hb
  obtain ⟨h1, -, -, h5, h6⟩ := hb
  have h60 := h5.1
  have hlt1 : hr s p ≠ -1 → p + 1 ≤ s.length := fun q => by have := hr_in q; omega
  by_cases q35 : hr s p = 35
  · have hb1 := hb0.up (q := p + 1) (by omega) (hlt1 (by omega))
    rw [cdR_35 q35] at hX
    dsimp only at hX
    refine z_aload_n (i := 0) (q := 1) hX dX10_condition_0 rfl rfl rfl ?_
    refine z_bipush (q := 3) hX dX10_condition_1 (by decide) rfl ?_
    refine z_V (ci := ciX10) (T := TX10) (N := 2) (na := 1) hX dX10_condition_3 (c_X10_takes D A hb0 (by decide)) rfl q1031 q1033 qs17 q134 q1034 (by decide +kernel) ⟨Nat.le_of_ble_eq_true rfl, Nat.le_of_ble_eq_true rfl⟩ rfl rfl (Nat.le_of_ble_eq_true rfl) rfl (by first | exact Nat.le_of_ble_eq_true rfl | (show _ + 0 ≤ 36; omega)) (by first | exact Nat.le_of_ble_eq_true rfl | (show _ + 0 ≤ 386; omega)) (fun H h => ⟨h, h.obE (Or.inr h1) rfl⟩) (fun E a => zT.no) (zPd.out ?_)
    show zG X (_ + 0) (_ + 0) _ 6 _ _
    rw [decide_eq_true q35, if_pos q35]
    refine z_ifB_eq (q := 9) (t := 21) hX dX10_condition_6 (by decide) rfl (fun h6 => ?_) (fun h6 => ?_)
    · exact absurd h6 (by decide)
    · refine zc_new (q := 12) (fs := [zI 0]) (C := RX12) (T := TX12) (N := 1) hX ciX12 rfl in_X12 tyX12_ok dX10_condition_9 q1039 q1040 q136 (fun j hj => by match j, hj with | 0, _ => rfl | (_ + 1), h => exact absurd h (by omega)) (by first | exact Nat.le_of_ble_eq_true rfl | (show _ + 1 ≤ 36; omega)) (by first | exact Nat.le_of_ble_eq_true rfl | (show _ + 1 ≤ 386; omega)) rfl (fun a9 ha9 hb9 => ?_)
      have n9 := hb9
      try simp only [upm_none] at n9
      repeat (have := And.left n9; replace n9 := And.right n9)
      have hbn := hb1.new (x := eO ciX12 [zI 0]) hb9
      have hbn0 := hbn.1
      have n9x := rdM_n hb9
      refine z_dup (q := 13) hX dX10_condition_12 rfl rfl ?_
      refine z_aload_n (i := 0) (q := 14) hX dX10_condition_13 rfl rfl rfl ?_
      refine z_V (ci := ciX10) (T := TX10) (N := 2) (na := 0) hX dX10_condition_14 (c_X10_number D A hbn) rfl q1041 q1043 qs19 q134 q1044 (by decide +kernel) ⟨Nat.le_of_ble_eq_true rfl, Nat.le_of_ble_eq_true rfl⟩ rfl rfl (Nat.le_of_ble_eq_true rfl) rfl (by first | exact Nat.le_of_ble_eq_true rfl | (show _ + 1 ≤ 36; omega)) (by first | exact Nat.le_of_ble_eq_true rfl | (show _ + 7 ≤ 386; omega)) (fun H h => ⟨h, h.obE (Or.inr hbn0) rfl⟩) (zXs.out (fun e14 => ?_)) (zPe.out (fun x14 hx14 => ?_))
      · refine zT.ax (fun hx14 => zT.ax (fun hy14 => ?_))
        have hz := rdM_nx hy14.2
        exact zT.out hX (by decide) (by first | exact Nat.le_of_ble_eq_true rfl | (show (_ : Nat) ≤ 36; omega)) (by first | exact Nat.le_of_ble_eq_true rfl | (show (_ : Nat) ≤ 386; omega)) (fun H h => ⟨rfl, if_pos hx14, ⟨hy14.1, hz.2⟩, by have h2 := h.del a9; rw [rdM_dlE n9x.1 n9x.2 hz.1] at h2; exact h2⟩)
      show zG X (_ + 1) (_ + 7) _ 17 _ _
      refine z_C (na := 1) hX dX10_condition_17 (c_X12_init D A ((upm_ne _ _ n9x.1).trans (upm_same _ _ _))) q1075 q1076 q136 q1077 rfl (by decide +kernel) ⟨Nat.le_of_ble_eq_true rfl, Nat.le_of_ble_eq_true rfl⟩ rfl rfl (Nat.le_of_ble_eq_true rfl) rfl (by first | exact Nat.le_of_ble_eq_true rfl | (show _ + 0 ≤ 36; omega)) (by first | exact Nat.le_of_ble_eq_true rfl | (show _ + 0 ≤ 386; omega)) (fun H h => h) (fun E a => zT.no) (zPv.out ?_)
      show zG X (_ + 0) (_ + 0) _ 20 _ _
      exact z_aret hX dX10_condition_20 (by first | exact Nat.le_of_ble_eq_true rfl | (show (_ : Nat) ≤ 36; omega)) (by first | exact Nat.le_of_ble_eq_true rfl | (show (_ : Nat) ≤ 386; omega)) rfl (by first | exact Or.inl ⟨_, rfl⟩ | exact Or.inr ⟨_, rfl⟩) (by first | exact Or.inl rfl | exact Or.inr ⟨_, rfl⟩) (fun H h => ⟨(a9, upm w a9 (eO ciX12 [zI (nuV s (p + 1))])), rfl, ⟨zLe.up ha9, _, if_neg hx14, Or.inl ⟨rfl, upm_same _ _ _, nuV_R _ _⟩⟩, h.eqv (fun c => congrFun (rdM_dl n9x.1 n9x.2).symm c)⟩)
  · by_cases q36 : hr s p = 36
    · have hb1 := hb0.up (q := p + 1) (by omega) (hlt1 (by omega))
      rw [cdR_36 q36] at hX
      dsimp only at hX
      refine z_aload_n (i := 0) (q := 1) hX dX10_condition_0 rfl rfl rfl ?_
      refine z_bipush (q := 3) hX dX10_condition_1 (by decide) rfl ?_
      refine z_V (ci := ciX10) (T := TX10) (N := 2) (na := 1) hX dX10_condition_3 (c_X10_takes D A hb0 (by decide)) rfl q1031 q1033 qs17 q134 q1034 (by decide +kernel) ⟨Nat.le_of_ble_eq_true rfl, Nat.le_of_ble_eq_true rfl⟩ rfl rfl (Nat.le_of_ble_eq_true rfl) rfl (by first | exact Nat.le_of_ble_eq_true rfl | (show _ + 0 ≤ 36; omega)) (by first | exact Nat.le_of_ble_eq_true rfl | (show _ + 0 ≤ 386; omega)) (fun H h => ⟨h, h.obE (Or.inr h1) rfl⟩) (fun E a => zT.no) (zPd.out ?_)
      show zG X (_ + 0) (_ + 0) _ 6 _ _
      rw [decide_eq_false q35, if_neg q35, hb0.self]
      refine z_ifB_eq (q := 9) (t := 21) hX dX10_condition_6 (by decide) rfl (fun h6 => ?_) (fun h6 => ?_)
      · refine z_aload_n (i := 0) (q := 22) hX dX10_condition_21 rfl rfl rfl ?_
        refine z_bipush (q := 24) hX dX10_condition_22 (by decide) rfl ?_
        refine z_V (ci := ciX10) (T := TX10) (N := 2) (na := 1) hX dX10_condition_24 (c_X10_takes D A hb0 (by decide)) rfl q1031 q1033 qs17 q134 q1034 (by decide +kernel) ⟨Nat.le_of_ble_eq_true rfl, Nat.le_of_ble_eq_true rfl⟩ rfl rfl (Nat.le_of_ble_eq_true rfl) rfl (by first | exact Nat.le_of_ble_eq_true rfl | (show _ + 0 ≤ 36; omega)) (by first | exact Nat.le_of_ble_eq_true rfl | (show _ + 0 ≤ 386; omega)) (fun H h => ⟨h, h.obE (Or.inr h1) rfl⟩) (fun E a => zT.no) (zPd.out ?_)
        show zG X (_ + 0) (_ + 0) _ 27 _ _
        rw [decide_eq_true q36, if_pos q36]
        refine z_ifB_eq (q := 30) (t := 42) hX dX10_condition_27 (by decide) rfl (fun h27 => ?_) (fun h27 => ?_)
        · exact absurd h27 (by decide)
        · refine zc_new (q := 33) (fs := [.null]) (C := RX14) (T := TX14) (N := 1) hX ciX14 rfl in_X14 tyX14_ok dX10_condition_30 q1086 q1087 q138 (fun j hj => by match j, hj with | 0, _ => rfl | (_ + 1), h => exact absurd h (by omega)) (by first | exact Nat.le_of_ble_eq_true rfl | (show _ + 1 ≤ 36; omega)) (by first | exact Nat.le_of_ble_eq_true rfl | (show _ + 1 ≤ 386; omega)) rfl (fun a30 ha30 hb30 => ?_)
          have n30 := hb30
          try simp only [upm_none] at n30
          repeat (have := And.left n30; replace n30 := And.right n30)
          have hbn := hb1.new (x := eO ciX14 [.null]) hb30
          have hbn0 := hbn.1
          have n30x := rdM_n hb30
          refine z_dup (q := 34) hX dX10_condition_33 rfl rfl ?_
          refine z_aload_n (i := 0) (q := 35) hX dX10_condition_34 rfl rfl rfl ?_
          refine z_V (ci := ciX10) (T := TX10) (N := 2) (na := 0) hX dX10_condition_35 (c_X10_word D A hbn) rfl q1088 q1090 qs22 q134 q1091 (by decide +kernel) ⟨Nat.le_of_ble_eq_true rfl, Nat.le_of_ble_eq_true rfl⟩ rfl rfl (Nat.le_of_ble_eq_true rfl) rfl (by first | exact Nat.le_of_ble_eq_true rfl | (show _ + 4 ≤ 36; omega)) (by first | exact Nat.le_of_ble_eq_true rfl | (show _ + 114 ≤ 386; omega)) (fun H h => ⟨h, h.obE (Or.inr hbn0) rfl⟩) (zXs.out (fun e35 => ?_)) (zPe.out (fun x35 hx35 => ?_))
          · refine zT.ax (fun hx35 => zT.ax (fun hy35 => ?_))
            have hz := rdM_nx hy35.2
            exact zT.out hX (by decide) (by first | exact Nat.le_of_ble_eq_true rfl | (show (_ : Nat) ≤ 36; omega)) (by first | exact Nat.le_of_ble_eq_true rfl | (show (_ : Nat) ≤ 386; omega)) (fun H h => ⟨rfl, if_pos hx35, ⟨hy35.1, hz.2⟩, by have h2 := h.del a30; rw [rdM_dlE n30x.1 n30x.2 hz.1] at h2; exact h2⟩)
          show zG X (_ + 4) (_ + 114) _ 38 _ _
          obtain ⟨k1, k2, k3⟩ := hx35
          refine zG.know (fun H h => h.w_of (it := eO ciX14 [.null]) ((upm_ne _ _ n30x.1).trans (upm_same _ _ _))) (fun hw38 => ?_)
          refine z_C (na := 1) hX dX10_condition_38 (c_X14_init D A ((upm_ne _ _ n30x.1).trans (upm_same _ _ _))) q1117 q1118 q138 q1119 rfl (by decide +kernel) ⟨Nat.le_of_ble_eq_true rfl, Nat.le_of_ble_eq_true rfl⟩ rfl rfl (Nat.le_of_ble_eq_true rfl) rfl (by first | exact Nat.le_of_ble_eq_true rfl | (show _ + 0 ≤ 36; omega)) (by first | exact Nat.le_of_ble_eq_true rfl | (show _ + 0 ≤ 386; omega)) (fun H h => h) (fun E a => zT.no) (zPv.out ?_)
          show zG X (_ + 0) (_ + 0) _ 41 _ _
          exact z_aret hX dX10_condition_41 (by first | exact Nat.le_of_ble_eq_true rfl | (show (_ : Nat) ≤ 36; omega)) (by first | exact Nat.le_of_ble_eq_true rfl | (show (_ : Nat) ≤ 386; omega)) rfl (by first | exact Or.inl ⟨_, rfl⟩ | exact Or.inr ⟨_, rfl⟩) (by first | exact Or.inl rfl | exact Or.inr ⟨_, rfl⟩) (fun H h => ⟨(a30, upm x35.2 a30 (eO ciX14 [.ref x35.1])), rfl, ⟨k2.tr (zLe.up hw38), _, if_neg k1, Or.inr (Or.inl ⟨rfl, x35.1, upm_same _ _ _, zLe.up hw38 _ _ k3⟩)⟩, h.eqv (fun c => congrFun (rdM_dl n30x.1 n30x.2).symm c)⟩)
      · exact absurd h6 (by decide)
    · by_cases q37 : hr s p = 37
      · have hb1 := hb0.up (q := p + 1) (by omega) (hlt1 (by omega))
        rw [cdR_37 q37] at hX
        dsimp only at hX
        refine z_aload_n (i := 0) (q := 1) hX dX10_condition_0 rfl rfl rfl ?_
        refine z_bipush (q := 3) hX dX10_condition_1 (by decide) rfl ?_
        refine z_V (ci := ciX10) (T := TX10) (N := 2) (na := 1) hX dX10_condition_3 (c_X10_takes D A hb0 (by decide)) rfl q1031 q1033 qs17 q134 q1034 (by decide +kernel) ⟨Nat.le_of_ble_eq_true rfl, Nat.le_of_ble_eq_true rfl⟩ rfl rfl (Nat.le_of_ble_eq_true rfl) rfl (by first | exact Nat.le_of_ble_eq_true rfl | (show _ + 0 ≤ 36; omega)) (by first | exact Nat.le_of_ble_eq_true rfl | (show _ + 0 ≤ 386; omega)) (fun H h => ⟨h, h.obE (Or.inr h1) rfl⟩) (fun E a => zT.no) (zPd.out ?_)
        show zG X (_ + 0) (_ + 0) _ 6 _ _
        rw [decide_eq_false q35, if_neg q35, hb0.self]
        refine z_ifB_eq (q := 9) (t := 21) hX dX10_condition_6 (by decide) rfl (fun h6 => ?_) (fun h6 => ?_)
        · refine z_aload_n (i := 0) (q := 22) hX dX10_condition_21 rfl rfl rfl ?_
          refine z_bipush (q := 24) hX dX10_condition_22 (by decide) rfl ?_
          refine z_V (ci := ciX10) (T := TX10) (N := 2) (na := 1) hX dX10_condition_24 (c_X10_takes D A hb0 (by decide)) rfl q1031 q1033 qs17 q134 q1034 (by decide +kernel) ⟨Nat.le_of_ble_eq_true rfl, Nat.le_of_ble_eq_true rfl⟩ rfl rfl (Nat.le_of_ble_eq_true rfl) rfl (by first | exact Nat.le_of_ble_eq_true rfl | (show _ + 0 ≤ 36; omega)) (by first | exact Nat.le_of_ble_eq_true rfl | (show _ + 0 ≤ 386; omega)) (fun H h => ⟨h, h.obE (Or.inr h1) rfl⟩) (fun E a => zT.no) (zPd.out ?_)
          show zG X (_ + 0) (_ + 0) _ 27 _ _
          rw [decide_eq_false q36, if_neg q36, hb0.self]
          refine z_ifB_eq (q := 30) (t := 42) hX dX10_condition_27 (by decide) rfl (fun h27 => ?_) (fun h27 => ?_)
          · refine z_aload_n (i := 0) (q := 43) hX dX10_condition_42 rfl rfl rfl ?_
            refine z_bipush (q := 45) hX dX10_condition_43 (by decide) rfl ?_
            refine z_V (ci := ciX10) (T := TX10) (N := 2) (na := 1) hX dX10_condition_45 (c_X10_takes D A hb0 (by decide)) rfl q1031 q1033 qs17 q134 q1034 (by decide +kernel) ⟨Nat.le_of_ble_eq_true rfl, Nat.le_of_ble_eq_true rfl⟩ rfl rfl (Nat.le_of_ble_eq_true rfl) rfl (by first | exact Nat.le_of_ble_eq_true rfl | (show _ + 0 ≤ 36; omega)) (by first | exact Nat.le_of_ble_eq_true rfl | (show _ + 0 ≤ 386; omega)) (fun H h => ⟨h, h.obE (Or.inr h1) rfl⟩) (fun E a => zT.no) (zPd.out ?_)
            show zG X (_ + 0) (_ + 0) _ 48 _ _
            rw [decide_eq_true q37, if_pos q37]
            refine z_ifB_eq (q := 51) (t := 56) hX dX10_condition_48 (by decide) rfl (fun h48 => ?_) (fun h48 => ?_)
            · exact absurd h48 (by decide)
            · refine z_aload_n (i := 0) (q := 52) hX dX10_condition_51 rfl rfl rfl ?_
              refine z_V (ci := ciX10) (T := TX10) (N := 2) (na := 0) hX dX10_condition_52 (c_X10_comparison D A hb1) rfl q1125 q1127 qs23 q134 q1128 (by decide +kernel) ⟨Nat.le_of_ble_eq_true rfl, Nat.le_of_ble_eq_true rfl⟩ rfl rfl (Nat.le_of_ble_eq_true rfl) rfl (by first | exact Nat.le_of_ble_eq_true rfl | (show _ + 9 ≤ 36; omega)) (by first | exact Nat.le_of_ble_eq_true rfl | (show _ + 59 ≤ 386; omega)) (fun H h => ⟨h, h.obE (Or.inr hb1.1) rfl⟩) (zXs.out (fun e52 => ?_)) (zPe.out (fun x52 hx52 => ?_))
              · refine zT.ax (fun hx52 => ?_)
                exact zT.out hX (by decide) (by first | exact Nat.le_of_ble_eq_true rfl | (show (_ : Nat) ≤ 36; omega)) (by first | exact Nat.le_of_ble_eq_true rfl | (show (_ : Nat) ≤ 386; omega)) (fun H h => ⟨rfl, if_neg hx52, by rw [rdM_M] at h; exact h⟩)
              show zG X (_ + 9) (_ + 59) _ 55 _ _
              exact z_aret hX dX10_condition_55 (by first | exact Nat.le_of_ble_eq_true rfl | (show (_ : Nat) ≤ 36; omega)) (by first | exact Nat.le_of_ble_eq_true rfl | (show (_ : Nat) ≤ 386; omega)) rfl (by first | exact Or.inl ⟨_, rfl⟩ | exact Or.inr ⟨_, rfl⟩) (by first | exact Or.inl rfl | exact Or.inr ⟨_, rfl⟩) (fun H h => ⟨(x52, _), rfl, ⟨zLe.up hx52.2, _, if_pos hx52.1, Or.inr (Or.inr ⟨rfl, upm_same _ _ _, (cmp_ok hx52.1.1).1, (cmp_ok hx52.1.1).2, nuV_R _ _⟩)⟩, by rw [rdM_M] at h; exact h⟩)
          · exact absurd h27 (by decide)
        · exact absurd h6 (by decide)
      · by_cases q33 : hr s p = 33
        · have hb1 := hb0.up (q := p + 1) (by omega) (hlt1 (by omega))
          rw [cdR_33 q33] at hX
          dsimp only at hX
          refine z_aload_n (i := 0) (q := 1) hX dX10_condition_0 rfl rfl rfl ?_
          refine z_bipush (q := 3) hX dX10_condition_1 (by decide) rfl ?_
          refine z_V (ci := ciX10) (T := TX10) (N := 2) (na := 1) hX dX10_condition_3 (c_X10_takes D A hb0 (by decide)) rfl q1031 q1033 qs17 q134 q1034 (by decide +kernel) ⟨Nat.le_of_ble_eq_true rfl, Nat.le_of_ble_eq_true rfl⟩ rfl rfl (Nat.le_of_ble_eq_true rfl) rfl (by first | exact Nat.le_of_ble_eq_true rfl | (show _ + 0 ≤ 36; omega)) (by first | exact Nat.le_of_ble_eq_true rfl | (show _ + 0 ≤ 386; omega)) (fun H h => ⟨h, h.obE (Or.inr h1) rfl⟩) (fun E a => zT.no) (zPd.out ?_)
          show zG X (_ + 0) (_ + 0) _ 6 _ _
          rw [decide_eq_false q35, if_neg q35, hb0.self]
          refine z_ifB_eq (q := 9) (t := 21) hX dX10_condition_6 (by decide) rfl (fun h6 => ?_) (fun h6 => ?_)
          · refine z_aload_n (i := 0) (q := 22) hX dX10_condition_21 rfl rfl rfl ?_
            refine z_bipush (q := 24) hX dX10_condition_22 (by decide) rfl ?_
            refine z_V (ci := ciX10) (T := TX10) (N := 2) (na := 1) hX dX10_condition_24 (c_X10_takes D A hb0 (by decide)) rfl q1031 q1033 qs17 q134 q1034 (by decide +kernel) ⟨Nat.le_of_ble_eq_true rfl, Nat.le_of_ble_eq_true rfl⟩ rfl rfl (Nat.le_of_ble_eq_true rfl) rfl (by first | exact Nat.le_of_ble_eq_true rfl | (show _ + 0 ≤ 36; omega)) (by first | exact Nat.le_of_ble_eq_true rfl | (show _ + 0 ≤ 386; omega)) (fun H h => ⟨h, h.obE (Or.inr h1) rfl⟩) (fun E a => zT.no) (zPd.out ?_)
            show zG X (_ + 0) (_ + 0) _ 27 _ _
            rw [decide_eq_false q36, if_neg q36, hb0.self]
            refine z_ifB_eq (q := 30) (t := 42) hX dX10_condition_27 (by decide) rfl (fun h27 => ?_) (fun h27 => ?_)
            · refine z_aload_n (i := 0) (q := 43) hX dX10_condition_42 rfl rfl rfl ?_
              refine z_bipush (q := 45) hX dX10_condition_43 (by decide) rfl ?_
              refine z_V (ci := ciX10) (T := TX10) (N := 2) (na := 1) hX dX10_condition_45 (c_X10_takes D A hb0 (by decide)) rfl q1031 q1033 qs17 q134 q1034 (by decide +kernel) ⟨Nat.le_of_ble_eq_true rfl, Nat.le_of_ble_eq_true rfl⟩ rfl rfl (Nat.le_of_ble_eq_true rfl) rfl (by first | exact Nat.le_of_ble_eq_true rfl | (show _ + 0 ≤ 36; omega)) (by first | exact Nat.le_of_ble_eq_true rfl | (show _ + 0 ≤ 386; omega)) (fun H h => ⟨h, h.obE (Or.inr h1) rfl⟩) (fun E a => zT.no) (zPd.out ?_)
              show zG X (_ + 0) (_ + 0) _ 48 _ _
              rw [decide_eq_false q37, if_neg q37, hb0.self]
              refine z_ifB_eq (q := 51) (t := 56) hX dX10_condition_48 (by decide) rfl (fun h48 => ?_) (fun h48 => ?_)
              · refine z_aload_n (i := 0) (q := 57) hX dX10_condition_56 rfl rfl rfl ?_
                refine z_iload_n (i := 1) (q := 58) hX dX10_condition_57 rfl rfl rfl ?_
                refine z_iconst (q := 59) hX dX10_condition_58 rfl ?_
                refine z_icmp_ge (q := 62) (t := 75) hX dX10_condition_59 (by decide) (by decide) (by decide) rfl (fun h59 => ?_) (fun h59 => ?_)
                · exact absurd h59 (by decide)
                · refine z_aload_n (i := 0) (q := 63) hX dX10_condition_62 rfl rfl rfl ?_
                  refine z_bipush (q := 65) hX dX10_condition_63 (by decide) rfl ?_
                  refine z_V (ci := ciX10) (T := TX10) (N := 2) (na := 1) hX dX10_condition_65 (c_X10_takes D A hb0 (by decide)) rfl q1031 q1033 qs17 q134 q1034 (by decide +kernel) ⟨Nat.le_of_ble_eq_true rfl, Nat.le_of_ble_eq_true rfl⟩ rfl rfl (Nat.le_of_ble_eq_true rfl) rfl (by first | exact Nat.le_of_ble_eq_true rfl | (show _ + 0 ≤ 36; omega)) (by first | exact Nat.le_of_ble_eq_true rfl | (show _ + 0 ≤ 386; omega)) (fun H h => ⟨h, h.obE (Or.inr h1) rfl⟩) (fun E a => zT.no) (zPd.out ?_)
                  show zG X (_ + 0) (_ + 0) _ 68 _ _
                  rw [decide_eq_true q33, if_pos q33]
                  refine z_ifB_eq (q := 71) (t := 75) hX dX10_condition_68 (by decide) rfl (fun h68 => ?_) (fun h68 => ?_)
                  · exact absurd h68 (by decide)
                  · refine z_iconst (q := 72) hX dX10_condition_71 rfl ?_
                    refine z_goto (t := 76) hX dX10_condition_72 (by decide) ?_
                    refine z_V (ci := ciX10) (T := TX10) (N := 2) (na := 1) hX dX10_condition_76 (c_X10_need D A (c := true) hb1) rfl q1052 q1054 qs21 q134 q1055 (by decide +kernel) ⟨Nat.le_of_ble_eq_true rfl, Nat.le_of_ble_eq_true rfl⟩ rfl rfl (Nat.le_of_ble_eq_true rfl) rfl (by first | exact Nat.le_of_ble_eq_true rfl | (show _ + 1 ≤ 36; omega)) (by first | exact Nat.le_of_ble_eq_true rfl | (show _ + 7 ≤ 386; omega)) (fun H h => ⟨h, h.obE (Or.inr hb1.1) rfl⟩) (zXs.out (fun e76 => ?_)) (zPe.out (fun x76 hx76 => ?_))
                    · refine zT.ax (fun hx76 => ?_)
                      cases hx76
                    show zG X (_ + 1) (_ + 7) _ 79 _ _
                    refine zc_new (q := 82) (fs := [.null]) (C := RX16) (T := TX16) (N := 1) hX ciX16 rfl in_X16 tyX16_ok dX10_condition_79 q1145 q1146 q140 (fun j hj => by match j, hj with | 0, _ => rfl | (_ + 1), h => exact absurd h (by omega)) (by first | exact Nat.le_of_ble_eq_true rfl | (show _ + 1 ≤ 36; omega)) (by first | exact Nat.le_of_ble_eq_true rfl | (show _ + 1 ≤ 386; omega)) rfl (fun a79 ha79 hb79 => ?_)
                    have n79 := hb79
                    try simp only [upm_none] at n79
                    repeat (have := And.left n79; replace n79 := And.right n79)
                    have hbn := hb1.new (x := eO ciX16 [.null]) hb79
                    have hbn0 := hbn.1
                    have n79x := rdM_n hb79
                    refine z_dup (q := 83) hX dX10_condition_82 rfl rfl ?_
                    refine z_aload_n (i := 0) (q := 84) hX dX10_condition_83 rfl rfl rfl ?_
                    refine z_iload_n (i := 1) (q := 85) hX dX10_condition_84 rfl rfl rfl ?_
                    refine z_iconst (q := 86) hX dX10_condition_85 rfl ?_
                    refine z_iadd (q := 87) hX dX10_condition_86 rfl ?_
                    refine zG.top (v2 := zI 4) (by rfl) ?_
                    refine z_V (ci := ciX10) (T := TX10) (N := 2) (na := 1) hX dX10_condition_87 (c_X10_condition_4 D A hbn) rfl q1027 q1029 qs16 q134 q1030 (by decide +kernel) ⟨Nat.le_of_ble_eq_true rfl, Nat.le_of_ble_eq_true rfl⟩ rfl rfl (Nat.le_of_ble_eq_true rfl) rfl (by first | exact Nat.le_of_ble_eq_true rfl | (show _ + 17 ≤ 36; omega)) (by first | exact Nat.le_of_ble_eq_true rfl | (show _ + 189 ≤ 386; omega)) (fun H h => ⟨h, h.obE (Or.inr hbn0) rfl⟩) (zXs.out (fun e87 => ?_)) (zPe.out (fun x87 hx87 => ?_))
                    · refine zT.ax (fun hx87 => zT.ax (fun hy87 => ?_))
                      have hz := rdM_nx hy87.2
                      exact zT.out hX (by decide) (by first | exact Nat.le_of_ble_eq_true rfl | (show (_ : Nat) ≤ 36; omega)) (by first | exact Nat.le_of_ble_eq_true rfl | (show (_ : Nat) ≤ 386; omega)) (fun H h => ⟨rfl, by rw [hx87]; rfl, ⟨hy87.1, hz.2⟩, by have h2 := h.del a79; rw [rdM_dlE n79x.1 n79x.2 hz.1] at h2; exact h2⟩)
                    show zG X (_ + 17) (_ + 189) _ 90 _ _
                    obtain ⟨k1, c9, k2, k3⟩ := hx87
                    refine zG.know (fun H h => h.w_of (it := eO ciX16 [.null]) ((upm_ne _ _ n79x.1).trans (upm_same _ _ _))) (fun hw90 => ?_)
                    refine z_C (na := 1) hX dX10_condition_90 (c_X16_init D A ((upm_ne _ _ n79x.1).trans (upm_same _ _ _))) q1147 q1148 q140 q1149 rfl (by decide +kernel) ⟨Nat.le_of_ble_eq_true rfl, Nat.le_of_ble_eq_true rfl⟩ rfl rfl (Nat.le_of_ble_eq_true rfl) rfl (by first | exact Nat.le_of_ble_eq_true rfl | (show _ + 0 ≤ 36; omega)) (by first | exact Nat.le_of_ble_eq_true rfl | (show _ + 0 ≤ 386; omega)) (fun H h => h) (fun E a => zT.no) (zPv.out ?_)
                    show zG X (_ + 0) (_ + 0) _ 93 _ _
                    exact z_aret hX dX10_condition_93 (by first | exact Nat.le_of_ble_eq_true rfl | (show (_ : Nat) ≤ 36; omega)) (by first | exact Nat.le_of_ble_eq_true rfl | (show (_ : Nat) ≤ 386; omega)) rfl (by first | exact Or.inl ⟨_, rfl⟩ | exact Or.inr ⟨_, rfl⟩) (by first | exact Or.inl rfl | exact Or.inr ⟨_, rfl⟩) (fun H h => ⟨(a79, upm x87.2 a79 (eO ciX16 [.ref x87.1])), rfl, ⟨k1.tr (zLe.up hw90), (c9.1 + 1, c9.2), by rw [k2]; rfl, ⟨x87.1, upm_same _ _ _, wCnN.le (zLe.up hw90) k3⟩⟩, h.eqv (fun c => congrFun (rdM_dl n79x.1 n79x.2).symm c)⟩)
              · exact absurd h48 (by decide)
            · exact absurd h27 (by decide)
          · exact absurd h6 (by decide)
        · rw [cdR_no q35 q36 q37 q33] at hX
          dsimp only at hX
          rw [hb0.self] at hX
          refine z_aload_n (i := 0) (q := 1) hX dX10_condition_0 rfl rfl rfl ?_
          refine z_bipush (q := 3) hX dX10_condition_1 (by decide) rfl ?_
          refine z_V (ci := ciX10) (T := TX10) (N := 2) (na := 1) hX dX10_condition_3 (c_X10_takes D A hb0 (by decide)) rfl q1031 q1033 qs17 q134 q1034 (by decide +kernel) ⟨Nat.le_of_ble_eq_true rfl, Nat.le_of_ble_eq_true rfl⟩ rfl rfl (Nat.le_of_ble_eq_true rfl) rfl (by first | exact Nat.le_of_ble_eq_true rfl | (show _ + 0 ≤ 36; omega)) (by first | exact Nat.le_of_ble_eq_true rfl | (show _ + 0 ≤ 386; omega)) (fun H h => ⟨h, h.obE (Or.inr h1) rfl⟩) (fun E a => zT.no) (zPd.out ?_)
          show zG X (_ + 0) (_ + 0) _ 6 _ _
          rw [decide_eq_false q35, if_neg q35, hb0.self]
          refine z_ifB_eq (q := 9) (t := 21) hX dX10_condition_6 (by decide) rfl (fun h6 => ?_) (fun h6 => ?_)
          · refine z_aload_n (i := 0) (q := 22) hX dX10_condition_21 rfl rfl rfl ?_
            refine z_bipush (q := 24) hX dX10_condition_22 (by decide) rfl ?_
            refine z_V (ci := ciX10) (T := TX10) (N := 2) (na := 1) hX dX10_condition_24 (c_X10_takes D A hb0 (by decide)) rfl q1031 q1033 qs17 q134 q1034 (by decide +kernel) ⟨Nat.le_of_ble_eq_true rfl, Nat.le_of_ble_eq_true rfl⟩ rfl rfl (Nat.le_of_ble_eq_true rfl) rfl (by first | exact Nat.le_of_ble_eq_true rfl | (show _ + 0 ≤ 36; omega)) (by first | exact Nat.le_of_ble_eq_true rfl | (show _ + 0 ≤ 386; omega)) (fun H h => ⟨h, h.obE (Or.inr h1) rfl⟩) (fun E a => zT.no) (zPd.out ?_)
            show zG X (_ + 0) (_ + 0) _ 27 _ _
            rw [decide_eq_false q36, if_neg q36, hb0.self]
            refine z_ifB_eq (q := 30) (t := 42) hX dX10_condition_27 (by decide) rfl (fun h27 => ?_) (fun h27 => ?_)
            · refine z_aload_n (i := 0) (q := 43) hX dX10_condition_42 rfl rfl rfl ?_
              refine z_bipush (q := 45) hX dX10_condition_43 (by decide) rfl ?_
              refine z_V (ci := ciX10) (T := TX10) (N := 2) (na := 1) hX dX10_condition_45 (c_X10_takes D A hb0 (by decide)) rfl q1031 q1033 qs17 q134 q1034 (by decide +kernel) ⟨Nat.le_of_ble_eq_true rfl, Nat.le_of_ble_eq_true rfl⟩ rfl rfl (Nat.le_of_ble_eq_true rfl) rfl (by first | exact Nat.le_of_ble_eq_true rfl | (show _ + 0 ≤ 36; omega)) (by first | exact Nat.le_of_ble_eq_true rfl | (show _ + 0 ≤ 386; omega)) (fun H h => ⟨h, h.obE (Or.inr h1) rfl⟩) (fun E a => zT.no) (zPd.out ?_)
              show zG X (_ + 0) (_ + 0) _ 48 _ _
              rw [decide_eq_false q37, if_neg q37, hb0.self]
              refine z_ifB_eq (q := 51) (t := 56) hX dX10_condition_48 (by decide) rfl (fun h48 => ?_) (fun h48 => ?_)
              · refine z_aload_n (i := 0) (q := 57) hX dX10_condition_56 rfl rfl rfl ?_
                refine z_iload_n (i := 1) (q := 58) hX dX10_condition_57 rfl rfl rfl ?_
                refine z_iconst (q := 59) hX dX10_condition_58 rfl ?_
                refine z_icmp_ge (q := 62) (t := 75) hX dX10_condition_59 (by decide) (by decide) (by decide) rfl (fun h59 => ?_) (fun h59 => ?_)
                · exact absurd h59 (by decide)
                · refine z_aload_n (i := 0) (q := 63) hX dX10_condition_62 rfl rfl rfl ?_
                  refine z_bipush (q := 65) hX dX10_condition_63 (by decide) rfl ?_
                  refine z_V (ci := ciX10) (T := TX10) (N := 2) (na := 1) hX dX10_condition_65 (c_X10_takes D A hb0 (by decide)) rfl q1031 q1033 qs17 q134 q1034 (by decide +kernel) ⟨Nat.le_of_ble_eq_true rfl, Nat.le_of_ble_eq_true rfl⟩ rfl rfl (Nat.le_of_ble_eq_true rfl) rfl (by first | exact Nat.le_of_ble_eq_true rfl | (show _ + 0 ≤ 36; omega)) (by first | exact Nat.le_of_ble_eq_true rfl | (show _ + 0 ≤ 386; omega)) (fun H h => ⟨h, h.obE (Or.inr h1) rfl⟩) (fun E a => zT.no) (zPd.out ?_)
                  show zG X (_ + 0) (_ + 0) _ 68 _ _
                  rw [decide_eq_false q33, if_neg q33, hb0.self]
                  refine z_ifB_eq (q := 71) (t := 75) hX dX10_condition_68 (by decide) rfl (fun h68 => ?_) (fun h68 => ?_)
                  · refine z_iconst (q := 76) hX dX10_condition_75 rfl ?_
                    refine z_V (ci := ciX10) (T := TX10) (N := 2) (na := 1) hX dX10_condition_76 (c_X10_need D A (c := false) hb0) rfl q1052 q1054 qs21 q134 q1055 (by decide +kernel) ⟨Nat.le_of_ble_eq_true rfl, Nat.le_of_ble_eq_true rfl⟩ rfl rfl (Nat.le_of_ble_eq_true rfl) rfl (by first | exact Nat.le_of_ble_eq_true rfl | (show _ + 1 ≤ 36; omega)) (by first | exact Nat.le_of_ble_eq_true rfl | (show _ + 7 ≤ 386; omega)) (fun H h => ⟨h, h.obE (Or.inr h1) rfl⟩) (zXs.out (fun e76 => ?_)) (zPe.out (fun x76 hx76 => ?_))
                    · refine zT.ax (fun hx76 => ?_)
                      exact zT.out hX (by decide) (by first | exact Nat.le_of_ble_eq_true rfl | (show (_ : Nat) ≤ 36; omega)) (by first | exact Nat.le_of_ble_eq_true rfl | (show (_ : Nat) ≤ 386; omega)) (fun H h => ⟨rfl, rfl, h⟩)
                    show zG X (_ + 1) (_ + 7) _ 79 _ _
                    cases hx76
                  · exact absurd h68 (by decide)
              · exact absurd h48 (by decide)
            · exact absurd h27 (by decide)
          · exact absurd h6 (by decide)
abbrev rmX10_condition_2 : Room := { frames := 9, cells := 55, slots := 583, locals := 197 }
set_option maxHeartbeats 4000000 in
theorem c_X10_condition_2 (D : zD) (A : Nat → Prop) {w m : zMp} {b : Nat} {o ia : Nat} {p : Int} {s : zS} (hb : rdr D m b o ia p s) : zC D yX10_condition cX10_condition 2 (some (.object "LogCompactor$Condition")) none rmX10_condition_2 A [.ref b, zI (2)] (cI D A w m) (zPe (fun (x : Nat × zMp) => some (.ref x.1)) (fun x => zLe w x.2 ∧ ∃ c, (cdR s 2 p).1 = some c ∧ wCn x.2 x.1 c) (fun x => cI D A x.2 (rdM m b o (cdR s 2 p).2))) (xTx D A w (rdM m b o (cdR s 2 p).2) ((cdR s 2 p).1 = none) (cdR s 2 p).2) := by
  refine zC_start (L := [some (.ref b), some (zI (2))]) (by decide) (Nat.le_of_ble_eq_true rfl) rfl (fun X hX => ?_)
  have hb0 := hb
  obtain ⟨h1, -, -, h5, h6⟩ := hb
  have h60 := h5.1
  have hlt1 : hr s p ≠ -1 → p + 1 ≤ s.length := fun q => by have := hr_in q; omega
  by_cases q35 : hr s p = 35
  · have hb1 := hb0.up (q := p + 1) (by omega) (hlt1 (by omega))
    rw [cdR_35 q35] at hX
    dsimp only at hX
    refine z_aload_n (i := 0) (q := 1) hX dX10_condition_0 rfl rfl rfl ?_
    refine z_bipush (q := 3) hX dX10_condition_1 (by decide) rfl ?_
    refine z_V (ci := ciX10) (T := TX10) (N := 2) (na := 1) hX dX10_condition_3 (c_X10_takes D A hb0 (by decide)) rfl q1031 q1033 qs17 q134 q1034 (by decide +kernel) ⟨Nat.le_of_ble_eq_true rfl, Nat.le_of_ble_eq_true rfl⟩ rfl rfl (Nat.le_of_ble_eq_true rfl) rfl (by first | exact Nat.le_of_ble_eq_true rfl | (show _ + 0 ≤ 55; omega)) (by first | exact Nat.le_of_ble_eq_true rfl | (show _ + 0 ≤ 583; omega)) (fun H h => ⟨h, h.obE (Or.inr h1) rfl⟩) (fun E a => zT.no) (zPd.out ?_)
    show zG X (_ + 0) (_ + 0) _ 6 _ _
    rw [decide_eq_true q35, if_pos q35]
    refine z_ifB_eq (q := 9) (t := 21) hX dX10_condition_6 (by decide) rfl (fun h6 => ?_) (fun h6 => ?_)
    · exact absurd h6 (by decide)
    · refine zc_new (q := 12) (fs := [zI 0]) (C := RX12) (T := TX12) (N := 1) hX ciX12 rfl in_X12 tyX12_ok dX10_condition_9 q1039 q1040 q136 (fun j hj => by match j, hj with | 0, _ => rfl | (_ + 1), h => exact absurd h (by omega)) (by first | exact Nat.le_of_ble_eq_true rfl | (show _ + 1 ≤ 55; omega)) (by first | exact Nat.le_of_ble_eq_true rfl | (show _ + 1 ≤ 583; omega)) rfl (fun a9 ha9 hb9 => ?_)
      have n9 := hb9
      try simp only [upm_none] at n9
      repeat (have := And.left n9; replace n9 := And.right n9)
      have hbn := hb1.new (x := eO ciX12 [zI 0]) hb9
      have hbn0 := hbn.1
      have n9x := rdM_n hb9
      refine z_dup (q := 13) hX dX10_condition_12 rfl rfl ?_
      refine z_aload_n (i := 0) (q := 14) hX dX10_condition_13 rfl rfl rfl ?_
      refine z_V (ci := ciX10) (T := TX10) (N := 2) (na := 0) hX dX10_condition_14 (c_X10_number D A hbn) rfl q1041 q1043 qs19 q134 q1044 (by decide +kernel) ⟨Nat.le_of_ble_eq_true rfl, Nat.le_of_ble_eq_true rfl⟩ rfl rfl (Nat.le_of_ble_eq_true rfl) rfl (by first | exact Nat.le_of_ble_eq_true rfl | (show _ + 1 ≤ 55; omega)) (by first | exact Nat.le_of_ble_eq_true rfl | (show _ + 7 ≤ 583; omega)) (fun H h => ⟨h, h.obE (Or.inr hbn0) rfl⟩) (zXs.out (fun e14 => ?_)) (zPe.out (fun x14 hx14 => ?_))
      · refine zT.ax (fun hx14 => zT.ax (fun hy14 => ?_))
        have hz := rdM_nx hy14.2
        exact zT.out hX (by decide) (by first | exact Nat.le_of_ble_eq_true rfl | (show (_ : Nat) ≤ 55; omega)) (by first | exact Nat.le_of_ble_eq_true rfl | (show (_ : Nat) ≤ 583; omega)) (fun H h => ⟨rfl, if_pos hx14, ⟨hy14.1, hz.2⟩, by have h2 := h.del a9; rw [rdM_dlE n9x.1 n9x.2 hz.1] at h2; exact h2⟩)
      show zG X (_ + 1) (_ + 7) _ 17 _ _
      refine z_C (na := 1) hX dX10_condition_17 (c_X12_init D A ((upm_ne _ _ n9x.1).trans (upm_same _ _ _))) q1075 q1076 q136 q1077 rfl (by decide +kernel) ⟨Nat.le_of_ble_eq_true rfl, Nat.le_of_ble_eq_true rfl⟩ rfl rfl (Nat.le_of_ble_eq_true rfl) rfl (by first | exact Nat.le_of_ble_eq_true rfl | (show _ + 0 ≤ 55; omega)) (by first | exact Nat.le_of_ble_eq_true rfl | (show _ + 0 ≤ 583; omega)) (fun H h => h) (fun E a => zT.no) (zPv.out ?_)
      show zG X (_ + 0) (_ + 0) _ 20 _ _
      exact z_aret hX dX10_condition_20 (by first | exact Nat.le_of_ble_eq_true rfl | (show (_ : Nat) ≤ 55; omega)) (by first | exact Nat.le_of_ble_eq_true rfl | (show (_ : Nat) ≤ 583; omega)) rfl (by first | exact Or.inl ⟨_, rfl⟩ | exact Or.inr ⟨_, rfl⟩) (by first | exact Or.inl rfl | exact Or.inr ⟨_, rfl⟩) (fun H h => ⟨(a9, upm w a9 (eO ciX12 [zI (nuV s (p + 1))])), rfl, ⟨zLe.up ha9, _, if_neg hx14, Or.inl ⟨rfl, upm_same _ _ _, nuV_R _ _⟩⟩, h.eqv (fun c => congrFun (rdM_dl n9x.1 n9x.2).symm c)⟩)
  · by_cases q36 : hr s p = 36
    · have hb1 := hb0.up (q := p + 1) (by omega) (hlt1 (by omega))
      rw [cdR_36 q36] at hX
      dsimp only at hX
      refine z_aload_n (i := 0) (q := 1) hX dX10_condition_0 rfl rfl rfl ?_
      refine z_bipush (q := 3) hX dX10_condition_1 (by decide) rfl ?_
      refine z_V (ci := ciX10) (T := TX10) (N := 2) (na := 1) hX dX10_condition_3 (c_X10_takes D A hb0 (by decide)) rfl q1031 q1033 qs17 q134 q1034 (by decide +kernel) ⟨Nat.le_of_ble_eq_true rfl, Nat.le_of_ble_eq_true rfl⟩ rfl rfl (Nat.le_of_ble_eq_true rfl) rfl (by first | exact Nat.le_of_ble_eq_true rfl | (show _ + 0 ≤ 55; omega)) (by first | exact Nat.le_of_ble_eq_true rfl | (show _ + 0 ≤ 583; omega)) (fun H h => ⟨h, h.obE (Or.inr h1) rfl⟩) (fun E a => zT.no) (zPd.out ?_)
      show zG X (_ + 0) (_ + 0) _ 6 _ _
      rw [decide_eq_false q35, if_neg q35, hb0.self]
      refine z_ifB_eq (q := 9) (t := 21) hX dX10_condition_6 (by decide) rfl (fun h6 => ?_) (fun h6 => ?_)
      · refine z_aload_n (i := 0) (q := 22) hX dX10_condition_21 rfl rfl rfl ?_
        refine z_bipush (q := 24) hX dX10_condition_22 (by decide) rfl ?_
        refine z_V (ci := ciX10) (T := TX10) (N := 2) (na := 1) hX dX10_condition_24 (c_X10_takes D A hb0 (by decide)) rfl q1031 q1033 qs17 q134 q1034 (by decide +kernel) ⟨Nat.le_of_ble_eq_true rfl, Nat.le_of_ble_eq_true rfl⟩ rfl rfl (Nat.le_of_ble_eq_true rfl) rfl (by first | exact Nat.le_of_ble_eq_true rfl | (show _ + 0 ≤ 55; omega)) (by first | exact Nat.le_of_ble_eq_true rfl | (show _ + 0 ≤ 583; omega)) (fun H h => ⟨h, h.obE (Or.inr h1) rfl⟩) (fun E a => zT.no) (zPd.out ?_)
        show zG X (_ + 0) (_ + 0) _ 27 _ _
        rw [decide_eq_true q36, if_pos q36]
        refine z_ifB_eq (q := 30) (t := 42) hX dX10_condition_27 (by decide) rfl (fun h27 => ?_) (fun h27 => ?_)
        · exact absurd h27 (by decide)
        · refine zc_new (q := 33) (fs := [.null]) (C := RX14) (T := TX14) (N := 1) hX ciX14 rfl in_X14 tyX14_ok dX10_condition_30 q1086 q1087 q138 (fun j hj => by match j, hj with | 0, _ => rfl | (_ + 1), h => exact absurd h (by omega)) (by first | exact Nat.le_of_ble_eq_true rfl | (show _ + 1 ≤ 55; omega)) (by first | exact Nat.le_of_ble_eq_true rfl | (show _ + 1 ≤ 583; omega)) rfl (fun a30 ha30 hb30 => ?_)
          have n30 := hb30
          try simp only [upm_none] at n30
          repeat (have := And.left n30; replace n30 := And.right n30)
          have hbn := hb1.new (x := eO ciX14 [.null]) hb30
          have hbn0 := hbn.1
          have n30x := rdM_n hb30
          refine z_dup (q := 34) hX dX10_condition_33 rfl rfl ?_
          refine z_aload_n (i := 0) (q := 35) hX dX10_condition_34 rfl rfl rfl ?_
          refine z_V (ci := ciX10) (T := TX10) (N := 2) (na := 0) hX dX10_condition_35 (c_X10_word D A hbn) rfl q1088 q1090 qs22 q134 q1091 (by decide +kernel) ⟨Nat.le_of_ble_eq_true rfl, Nat.le_of_ble_eq_true rfl⟩ rfl rfl (Nat.le_of_ble_eq_true rfl) rfl (by first | exact Nat.le_of_ble_eq_true rfl | (show _ + 4 ≤ 55; omega)) (by first | exact Nat.le_of_ble_eq_true rfl | (show _ + 114 ≤ 583; omega)) (fun H h => ⟨h, h.obE (Or.inr hbn0) rfl⟩) (zXs.out (fun e35 => ?_)) (zPe.out (fun x35 hx35 => ?_))
          · refine zT.ax (fun hx35 => zT.ax (fun hy35 => ?_))
            have hz := rdM_nx hy35.2
            exact zT.out hX (by decide) (by first | exact Nat.le_of_ble_eq_true rfl | (show (_ : Nat) ≤ 55; omega)) (by first | exact Nat.le_of_ble_eq_true rfl | (show (_ : Nat) ≤ 583; omega)) (fun H h => ⟨rfl, if_pos hx35, ⟨hy35.1, hz.2⟩, by have h2 := h.del a30; rw [rdM_dlE n30x.1 n30x.2 hz.1] at h2; exact h2⟩)
          show zG X (_ + 4) (_ + 114) _ 38 _ _
          obtain ⟨k1, k2, k3⟩ := hx35
          refine zG.know (fun H h => h.w_of (it := eO ciX14 [.null]) ((upm_ne _ _ n30x.1).trans (upm_same _ _ _))) (fun hw38 => ?_)
          refine z_C (na := 1) hX dX10_condition_38 (c_X14_init D A ((upm_ne _ _ n30x.1).trans (upm_same _ _ _))) q1117 q1118 q138 q1119 rfl (by decide +kernel) ⟨Nat.le_of_ble_eq_true rfl, Nat.le_of_ble_eq_true rfl⟩ rfl rfl (Nat.le_of_ble_eq_true rfl) rfl (by first | exact Nat.le_of_ble_eq_true rfl | (show _ + 0 ≤ 55; omega)) (by first | exact Nat.le_of_ble_eq_true rfl | (show _ + 0 ≤ 583; omega)) (fun H h => h) (fun E a => zT.no) (zPv.out ?_)
          show zG X (_ + 0) (_ + 0) _ 41 _ _
          exact z_aret hX dX10_condition_41 (by first | exact Nat.le_of_ble_eq_true rfl | (show (_ : Nat) ≤ 55; omega)) (by first | exact Nat.le_of_ble_eq_true rfl | (show (_ : Nat) ≤ 583; omega)) rfl (by first | exact Or.inl ⟨_, rfl⟩ | exact Or.inr ⟨_, rfl⟩) (by first | exact Or.inl rfl | exact Or.inr ⟨_, rfl⟩) (fun H h => ⟨(a30, upm x35.2 a30 (eO ciX14 [.ref x35.1])), rfl, ⟨k2.tr (zLe.up hw38), _, if_neg k1, Or.inr (Or.inl ⟨rfl, x35.1, upm_same _ _ _, zLe.up hw38 _ _ k3⟩)⟩, h.eqv (fun c => congrFun (rdM_dl n30x.1 n30x.2).symm c)⟩)
      · exact absurd h6 (by decide)
    · by_cases q37 : hr s p = 37
      · have hb1 := hb0.up (q := p + 1) (by omega) (hlt1 (by omega))
        rw [cdR_37 q37] at hX
        dsimp only at hX
        refine z_aload_n (i := 0) (q := 1) hX dX10_condition_0 rfl rfl rfl ?_
        refine z_bipush (q := 3) hX dX10_condition_1 (by decide) rfl ?_
        refine z_V (ci := ciX10) (T := TX10) (N := 2) (na := 1) hX dX10_condition_3 (c_X10_takes D A hb0 (by decide)) rfl q1031 q1033 qs17 q134 q1034 (by decide +kernel) ⟨Nat.le_of_ble_eq_true rfl, Nat.le_of_ble_eq_true rfl⟩ rfl rfl (Nat.le_of_ble_eq_true rfl) rfl (by first | exact Nat.le_of_ble_eq_true rfl | (show _ + 0 ≤ 55; omega)) (by first | exact Nat.le_of_ble_eq_true rfl | (show _ + 0 ≤ 583; omega)) (fun H h => ⟨h, h.obE (Or.inr h1) rfl⟩) (fun E a => zT.no) (zPd.out ?_)
        show zG X (_ + 0) (_ + 0) _ 6 _ _
        rw [decide_eq_false q35, if_neg q35, hb0.self]
        refine z_ifB_eq (q := 9) (t := 21) hX dX10_condition_6 (by decide) rfl (fun h6 => ?_) (fun h6 => ?_)
        · refine z_aload_n (i := 0) (q := 22) hX dX10_condition_21 rfl rfl rfl ?_
          refine z_bipush (q := 24) hX dX10_condition_22 (by decide) rfl ?_
          refine z_V (ci := ciX10) (T := TX10) (N := 2) (na := 1) hX dX10_condition_24 (c_X10_takes D A hb0 (by decide)) rfl q1031 q1033 qs17 q134 q1034 (by decide +kernel) ⟨Nat.le_of_ble_eq_true rfl, Nat.le_of_ble_eq_true rfl⟩ rfl rfl (Nat.le_of_ble_eq_true rfl) rfl (by first | exact Nat.le_of_ble_eq_true rfl | (show _ + 0 ≤ 55; omega)) (by first | exact Nat.le_of_ble_eq_true rfl | (show _ + 0 ≤ 583; omega)) (fun H h => ⟨h, h.obE (Or.inr h1) rfl⟩) (fun E a => zT.no) (zPd.out ?_)
          show zG X (_ + 0) (_ + 0) _ 27 _ _
          rw [decide_eq_false q36, if_neg q36, hb0.self]
          refine z_ifB_eq (q := 30) (t := 42) hX dX10_condition_27 (by decide) rfl (fun h27 => ?_) (fun h27 => ?_)
          · refine z_aload_n (i := 0) (q := 43) hX dX10_condition_42 rfl rfl rfl ?_
            refine z_bipush (q := 45) hX dX10_condition_43 (by decide) rfl ?_
            refine z_V (ci := ciX10) (T := TX10) (N := 2) (na := 1) hX dX10_condition_45 (c_X10_takes D A hb0 (by decide)) rfl q1031 q1033 qs17 q134 q1034 (by decide +kernel) ⟨Nat.le_of_ble_eq_true rfl, Nat.le_of_ble_eq_true rfl⟩ rfl rfl (Nat.le_of_ble_eq_true rfl) rfl (by first | exact Nat.le_of_ble_eq_true rfl | (show _ + 0 ≤ 55; omega)) (by first | exact Nat.le_of_ble_eq_true rfl | (show _ + 0 ≤ 583; omega)) (fun H h => ⟨h, h.obE (Or.inr h1) rfl⟩) (fun E a => zT.no) (zPd.out ?_)
            show zG X (_ + 0) (_ + 0) _ 48 _ _
            rw [decide_eq_true q37, if_pos q37]
            refine z_ifB_eq (q := 51) (t := 56) hX dX10_condition_48 (by decide) rfl (fun h48 => ?_) (fun h48 => ?_)
            · exact absurd h48 (by decide)
            · refine z_aload_n (i := 0) (q := 52) hX dX10_condition_51 rfl rfl rfl ?_
              refine z_V (ci := ciX10) (T := TX10) (N := 2) (na := 0) hX dX10_condition_52 (c_X10_comparison D A hb1) rfl q1125 q1127 qs23 q134 q1128 (by decide +kernel) ⟨Nat.le_of_ble_eq_true rfl, Nat.le_of_ble_eq_true rfl⟩ rfl rfl (Nat.le_of_ble_eq_true rfl) rfl (by first | exact Nat.le_of_ble_eq_true rfl | (show _ + 9 ≤ 55; omega)) (by first | exact Nat.le_of_ble_eq_true rfl | (show _ + 59 ≤ 583; omega)) (fun H h => ⟨h, h.obE (Or.inr hb1.1) rfl⟩) (zXs.out (fun e52 => ?_)) (zPe.out (fun x52 hx52 => ?_))
              · refine zT.ax (fun hx52 => ?_)
                exact zT.out hX (by decide) (by first | exact Nat.le_of_ble_eq_true rfl | (show (_ : Nat) ≤ 55; omega)) (by first | exact Nat.le_of_ble_eq_true rfl | (show (_ : Nat) ≤ 583; omega)) (fun H h => ⟨rfl, if_neg hx52, by rw [rdM_M] at h; exact h⟩)
              show zG X (_ + 9) (_ + 59) _ 55 _ _
              exact z_aret hX dX10_condition_55 (by first | exact Nat.le_of_ble_eq_true rfl | (show (_ : Nat) ≤ 55; omega)) (by first | exact Nat.le_of_ble_eq_true rfl | (show (_ : Nat) ≤ 583; omega)) rfl (by first | exact Or.inl ⟨_, rfl⟩ | exact Or.inr ⟨_, rfl⟩) (by first | exact Or.inl rfl | exact Or.inr ⟨_, rfl⟩) (fun H h => ⟨(x52, _), rfl, ⟨zLe.up hx52.2, _, if_pos hx52.1, Or.inr (Or.inr ⟨rfl, upm_same _ _ _, (cmp_ok hx52.1.1).1, (cmp_ok hx52.1.1).2, nuV_R _ _⟩)⟩, by rw [rdM_M] at h; exact h⟩)
          · exact absurd h27 (by decide)
        · exact absurd h6 (by decide)
      · by_cases q33 : hr s p = 33
        · have hb1 := hb0.up (q := p + 1) (by omega) (hlt1 (by omega))
          rw [cdR_33 q33] at hX
          dsimp only at hX
          refine z_aload_n (i := 0) (q := 1) hX dX10_condition_0 rfl rfl rfl ?_
          refine z_bipush (q := 3) hX dX10_condition_1 (by decide) rfl ?_
          refine z_V (ci := ciX10) (T := TX10) (N := 2) (na := 1) hX dX10_condition_3 (c_X10_takes D A hb0 (by decide)) rfl q1031 q1033 qs17 q134 q1034 (by decide +kernel) ⟨Nat.le_of_ble_eq_true rfl, Nat.le_of_ble_eq_true rfl⟩ rfl rfl (Nat.le_of_ble_eq_true rfl) rfl (by first | exact Nat.le_of_ble_eq_true rfl | (show _ + 0 ≤ 55; omega)) (by first | exact Nat.le_of_ble_eq_true rfl | (show _ + 0 ≤ 583; omega)) (fun H h => ⟨h, h.obE (Or.inr h1) rfl⟩) (fun E a => zT.no) (zPd.out ?_)
          show zG X (_ + 0) (_ + 0) _ 6 _ _
          rw [decide_eq_false q35, if_neg q35, hb0.self]
          refine z_ifB_eq (q := 9) (t := 21) hX dX10_condition_6 (by decide) rfl (fun h6 => ?_) (fun h6 => ?_)
          · refine z_aload_n (i := 0) (q := 22) hX dX10_condition_21 rfl rfl rfl ?_
            refine z_bipush (q := 24) hX dX10_condition_22 (by decide) rfl ?_
            refine z_V (ci := ciX10) (T := TX10) (N := 2) (na := 1) hX dX10_condition_24 (c_X10_takes D A hb0 (by decide)) rfl q1031 q1033 qs17 q134 q1034 (by decide +kernel) ⟨Nat.le_of_ble_eq_true rfl, Nat.le_of_ble_eq_true rfl⟩ rfl rfl (Nat.le_of_ble_eq_true rfl) rfl (by first | exact Nat.le_of_ble_eq_true rfl | (show _ + 0 ≤ 55; omega)) (by first | exact Nat.le_of_ble_eq_true rfl | (show _ + 0 ≤ 583; omega)) (fun H h => ⟨h, h.obE (Or.inr h1) rfl⟩) (fun E a => zT.no) (zPd.out ?_)
            show zG X (_ + 0) (_ + 0) _ 27 _ _
            rw [decide_eq_false q36, if_neg q36, hb0.self]
            refine z_ifB_eq (q := 30) (t := 42) hX dX10_condition_27 (by decide) rfl (fun h27 => ?_) (fun h27 => ?_)
            · refine z_aload_n (i := 0) (q := 43) hX dX10_condition_42 rfl rfl rfl ?_
              refine z_bipush (q := 45) hX dX10_condition_43 (by decide) rfl ?_
              refine z_V (ci := ciX10) (T := TX10) (N := 2) (na := 1) hX dX10_condition_45 (c_X10_takes D A hb0 (by decide)) rfl q1031 q1033 qs17 q134 q1034 (by decide +kernel) ⟨Nat.le_of_ble_eq_true rfl, Nat.le_of_ble_eq_true rfl⟩ rfl rfl (Nat.le_of_ble_eq_true rfl) rfl (by first | exact Nat.le_of_ble_eq_true rfl | (show _ + 0 ≤ 55; omega)) (by first | exact Nat.le_of_ble_eq_true rfl | (show _ + 0 ≤ 583; omega)) (fun H h => ⟨h, h.obE (Or.inr h1) rfl⟩) (fun E a => zT.no) (zPd.out ?_)
              show zG X (_ + 0) (_ + 0) _ 48 _ _
              rw [decide_eq_false q37, if_neg q37, hb0.self]
              refine z_ifB_eq (q := 51) (t := 56) hX dX10_condition_48 (by decide) rfl (fun h48 => ?_) (fun h48 => ?_)
              · refine z_aload_n (i := 0) (q := 57) hX dX10_condition_56 rfl rfl rfl ?_
                refine z_iload_n (i := 1) (q := 58) hX dX10_condition_57 rfl rfl rfl ?_
                refine z_iconst (q := 59) hX dX10_condition_58 rfl ?_
                refine z_icmp_ge (q := 62) (t := 75) hX dX10_condition_59 (by decide) (by decide) (by decide) rfl (fun h59 => ?_) (fun h59 => ?_)
                · exact absurd h59 (by decide)
                · refine z_aload_n (i := 0) (q := 63) hX dX10_condition_62 rfl rfl rfl ?_
                  refine z_bipush (q := 65) hX dX10_condition_63 (by decide) rfl ?_
                  refine z_V (ci := ciX10) (T := TX10) (N := 2) (na := 1) hX dX10_condition_65 (c_X10_takes D A hb0 (by decide)) rfl q1031 q1033 qs17 q134 q1034 (by decide +kernel) ⟨Nat.le_of_ble_eq_true rfl, Nat.le_of_ble_eq_true rfl⟩ rfl rfl (Nat.le_of_ble_eq_true rfl) rfl (by first | exact Nat.le_of_ble_eq_true rfl | (show _ + 0 ≤ 55; omega)) (by first | exact Nat.le_of_ble_eq_true rfl | (show _ + 0 ≤ 583; omega)) (fun H h => ⟨h, h.obE (Or.inr h1) rfl⟩) (fun E a => zT.no) (zPd.out ?_)
                  show zG X (_ + 0) (_ + 0) _ 68 _ _
                  rw [decide_eq_true q33, if_pos q33]
                  refine z_ifB_eq (q := 71) (t := 75) hX dX10_condition_68 (by decide) rfl (fun h68 => ?_) (fun h68 => ?_)
                  · exact absurd h68 (by decide)
                  · refine z_iconst (q := 72) hX dX10_condition_71 rfl ?_
                    refine z_goto (t := 76) hX dX10_condition_72 (by decide) ?_
                    refine z_V (ci := ciX10) (T := TX10) (N := 2) (na := 1) hX dX10_condition_76 (c_X10_need D A (c := true) hb1) rfl q1052 q1054 qs21 q134 q1055 (by decide +kernel) ⟨Nat.le_of_ble_eq_true rfl, Nat.le_of_ble_eq_true rfl⟩ rfl rfl (Nat.le_of_ble_eq_true rfl) rfl (by first | exact Nat.le_of_ble_eq_true rfl | (show _ + 1 ≤ 55; omega)) (by first | exact Nat.le_of_ble_eq_true rfl | (show _ + 7 ≤ 583; omega)) (fun H h => ⟨h, h.obE (Or.inr hb1.1) rfl⟩) (zXs.out (fun e76 => ?_)) (zPe.out (fun x76 hx76 => ?_))
                    · refine zT.ax (fun hx76 => ?_)
                      cases hx76
                    show zG X (_ + 1) (_ + 7) _ 79 _ _
                    refine zc_new (q := 82) (fs := [.null]) (C := RX16) (T := TX16) (N := 1) hX ciX16 rfl in_X16 tyX16_ok dX10_condition_79 q1145 q1146 q140 (fun j hj => by match j, hj with | 0, _ => rfl | (_ + 1), h => exact absurd h (by omega)) (by first | exact Nat.le_of_ble_eq_true rfl | (show _ + 1 ≤ 55; omega)) (by first | exact Nat.le_of_ble_eq_true rfl | (show _ + 1 ≤ 583; omega)) rfl (fun a79 ha79 hb79 => ?_)
                    have n79 := hb79
                    try simp only [upm_none] at n79
                    repeat (have := And.left n79; replace n79 := And.right n79)
                    have hbn := hb1.new (x := eO ciX16 [.null]) hb79
                    have hbn0 := hbn.1
                    have n79x := rdM_n hb79
                    refine z_dup (q := 83) hX dX10_condition_82 rfl rfl ?_
                    refine z_aload_n (i := 0) (q := 84) hX dX10_condition_83 rfl rfl rfl ?_
                    refine z_iload_n (i := 1) (q := 85) hX dX10_condition_84 rfl rfl rfl ?_
                    refine z_iconst (q := 86) hX dX10_condition_85 rfl ?_
                    refine z_iadd (q := 87) hX dX10_condition_86 rfl ?_
                    refine zG.top (v2 := zI 3) (by rfl) ?_
                    refine z_V (ci := ciX10) (T := TX10) (N := 2) (na := 1) hX dX10_condition_87 (c_X10_condition_3 D A hbn) rfl q1027 q1029 qs16 q134 q1030 (by decide +kernel) ⟨Nat.le_of_ble_eq_true rfl, Nat.le_of_ble_eq_true rfl⟩ rfl rfl (Nat.le_of_ble_eq_true rfl) rfl (by first | exact Nat.le_of_ble_eq_true rfl | (show _ + 36 ≤ 55; omega)) (by first | exact Nat.le_of_ble_eq_true rfl | (show _ + 386 ≤ 583; omega)) (fun H h => ⟨h, h.obE (Or.inr hbn0) rfl⟩) (zXs.out (fun e87 => ?_)) (zPe.out (fun x87 hx87 => ?_))
                    · refine zT.ax (fun hx87 => zT.ax (fun hy87 => ?_))
                      have hz := rdM_nx hy87.2
                      exact zT.out hX (by decide) (by first | exact Nat.le_of_ble_eq_true rfl | (show (_ : Nat) ≤ 55; omega)) (by first | exact Nat.le_of_ble_eq_true rfl | (show (_ : Nat) ≤ 583; omega)) (fun H h => ⟨rfl, by rw [hx87]; rfl, ⟨hy87.1, hz.2⟩, by have h2 := h.del a79; rw [rdM_dlE n79x.1 n79x.2 hz.1] at h2; exact h2⟩)
                    show zG X (_ + 36) (_ + 386) _ 90 _ _
                    obtain ⟨k1, c9, k2, k3⟩ := hx87
                    refine zG.know (fun H h => h.w_of (it := eO ciX16 [.null]) ((upm_ne _ _ n79x.1).trans (upm_same _ _ _))) (fun hw90 => ?_)
                    refine z_C (na := 1) hX dX10_condition_90 (c_X16_init D A ((upm_ne _ _ n79x.1).trans (upm_same _ _ _))) q1147 q1148 q140 q1149 rfl (by decide +kernel) ⟨Nat.le_of_ble_eq_true rfl, Nat.le_of_ble_eq_true rfl⟩ rfl rfl (Nat.le_of_ble_eq_true rfl) rfl (by first | exact Nat.le_of_ble_eq_true rfl | (show _ + 0 ≤ 55; omega)) (by first | exact Nat.le_of_ble_eq_true rfl | (show _ + 0 ≤ 583; omega)) (fun H h => h) (fun E a => zT.no) (zPv.out ?_)
                    show zG X (_ + 0) (_ + 0) _ 93 _ _
                    exact z_aret hX dX10_condition_93 (by first | exact Nat.le_of_ble_eq_true rfl | (show (_ : Nat) ≤ 55; omega)) (by first | exact Nat.le_of_ble_eq_true rfl | (show (_ : Nat) ≤ 583; omega)) rfl (by first | exact Or.inl ⟨_, rfl⟩ | exact Or.inr ⟨_, rfl⟩) (by first | exact Or.inl rfl | exact Or.inr ⟨_, rfl⟩) (fun H h => ⟨(a79, upm x87.2 a79 (eO ciX16 [.ref x87.1])), rfl, ⟨k1.tr (zLe.up hw90), (c9.1 + 1, c9.2), by rw [k2]; rfl, ⟨x87.1, upm_same _ _ _, wCnN.le (zLe.up hw90) k3⟩⟩, h.eqv (fun c => congrFun (rdM_dl n79x.1 n79x.2).symm c)⟩)
              · exact absurd h48 (by decide)
            · exact absurd h27 (by decide)
          · exact absurd h6 (by decide)
        · rw [cdR_no q35 q36 q37 q33] at hX
          dsimp only at hX
          rw [hb0.self] at hX
          refine z_aload_n (i := 0) (q := 1) hX dX10_condition_0 rfl rfl rfl ?_
          refine z_bipush (q := 3) hX dX10_condition_1 (by decide) rfl ?_
          refine z_V (ci := ciX10) (T := TX10) (N := 2) (na := 1) hX dX10_condition_3 (c_X10_takes D A hb0 (by decide)) rfl q1031 q1033 qs17 q134 q1034 (by decide +kernel) ⟨Nat.le_of_ble_eq_true rfl, Nat.le_of_ble_eq_true rfl⟩ rfl rfl (Nat.le_of_ble_eq_true rfl) rfl (by first | exact Nat.le_of_ble_eq_true rfl | (show _ + 0 ≤ 55; omega)) (by first | exact Nat.le_of_ble_eq_true rfl | (show _ + 0 ≤ 583; omega)) (fun H h => ⟨h, h.obE (Or.inr h1) rfl⟩) (fun E a => zT.no) (zPd.out ?_)
          show zG X (_ + 0) (_ + 0) _ 6 _ _
          rw [decide_eq_false q35, if_neg q35, hb0.self]
          refine z_ifB_eq (q := 9) (t := 21) hX dX10_condition_6 (by decide) rfl (fun h6 => ?_) (fun h6 => ?_)
          · refine z_aload_n (i := 0) (q := 22) hX dX10_condition_21 rfl rfl rfl ?_
            refine z_bipush (q := 24) hX dX10_condition_22 (by decide) rfl ?_
            refine z_V (ci := ciX10) (T := TX10) (N := 2) (na := 1) hX dX10_condition_24 (c_X10_takes D A hb0 (by decide)) rfl q1031 q1033 qs17 q134 q1034 (by decide +kernel) ⟨Nat.le_of_ble_eq_true rfl, Nat.le_of_ble_eq_true rfl⟩ rfl rfl (Nat.le_of_ble_eq_true rfl) rfl (by first | exact Nat.le_of_ble_eq_true rfl | (show _ + 0 ≤ 55; omega)) (by first | exact Nat.le_of_ble_eq_true rfl | (show _ + 0 ≤ 583; omega)) (fun H h => ⟨h, h.obE (Or.inr h1) rfl⟩) (fun E a => zT.no) (zPd.out ?_)
            show zG X (_ + 0) (_ + 0) _ 27 _ _
            rw [decide_eq_false q36, if_neg q36, hb0.self]
            refine z_ifB_eq (q := 30) (t := 42) hX dX10_condition_27 (by decide) rfl (fun h27 => ?_) (fun h27 => ?_)
            · refine z_aload_n (i := 0) (q := 43) hX dX10_condition_42 rfl rfl rfl ?_
              refine z_bipush (q := 45) hX dX10_condition_43 (by decide) rfl ?_
              refine z_V (ci := ciX10) (T := TX10) (N := 2) (na := 1) hX dX10_condition_45 (c_X10_takes D A hb0 (by decide)) rfl q1031 q1033 qs17 q134 q1034 (by decide +kernel) ⟨Nat.le_of_ble_eq_true rfl, Nat.le_of_ble_eq_true rfl⟩ rfl rfl (Nat.le_of_ble_eq_true rfl) rfl (by first | exact Nat.le_of_ble_eq_true rfl | (show _ + 0 ≤ 55; omega)) (by first | exact Nat.le_of_ble_eq_true rfl | (show _ + 0 ≤ 583; omega)) (fun H h => ⟨h, h.obE (Or.inr h1) rfl⟩) (fun E a => zT.no) (zPd.out ?_)
              show zG X (_ + 0) (_ + 0) _ 48 _ _
              rw [decide_eq_false q37, if_neg q37, hb0.self]
              refine z_ifB_eq (q := 51) (t := 56) hX dX10_condition_48 (by decide) rfl (fun h48 => ?_) (fun h48 => ?_)
              · refine z_aload_n (i := 0) (q := 57) hX dX10_condition_56 rfl rfl rfl ?_
                refine z_iload_n (i := 1) (q := 58) hX dX10_condition_57 rfl rfl rfl ?_
                refine z_iconst (q := 59) hX dX10_condition_58 rfl ?_
                refine z_icmp_ge (q := 62) (t := 75) hX dX10_condition_59 (by decide) (by decide) (by decide) rfl (fun h59 => ?_) (fun h59 => ?_)
                · exact absurd h59 (by decide)
                · refine z_aload_n (i := 0) (q := 63) hX dX10_condition_62 rfl rfl rfl ?_
                  refine z_bipush (q := 65) hX dX10_condition_63 (by decide) rfl ?_
                  refine z_V (ci := ciX10) (T := TX10) (N := 2) (na := 1) hX dX10_condition_65 (c_X10_takes D A hb0 (by decide)) rfl q1031 q1033 qs17 q134 q1034 (by decide +kernel) ⟨Nat.le_of_ble_eq_true rfl, Nat.le_of_ble_eq_true rfl⟩ rfl rfl (Nat.le_of_ble_eq_true rfl) rfl (by first | exact Nat.le_of_ble_eq_true rfl | (show _ + 0 ≤ 55; omega)) (by first | exact Nat.le_of_ble_eq_true rfl | (show _ + 0 ≤ 583; omega)) (fun H h => ⟨h, h.obE (Or.inr h1) rfl⟩) (fun E a => zT.no) (zPd.out ?_)
                  show zG X (_ + 0) (_ + 0) _ 68 _ _
                  rw [decide_eq_false q33, if_neg q33, hb0.self]
                  refine z_ifB_eq (q := 71) (t := 75) hX dX10_condition_68 (by decide) rfl (fun h68 => ?_) (fun h68 => ?_)
                  · refine z_iconst (q := 76) hX dX10_condition_75 rfl ?_
                    refine z_V (ci := ciX10) (T := TX10) (N := 2) (na := 1) hX dX10_condition_76 (c_X10_need D A (c := false) hb0) rfl q1052 q1054 qs21 q134 q1055 (by decide +kernel) ⟨Nat.le_of_ble_eq_true rfl, Nat.le_of_ble_eq_true rfl⟩ rfl rfl (Nat.le_of_ble_eq_true rfl) rfl (by first | exact Nat.le_of_ble_eq_true rfl | (show _ + 1 ≤ 55; omega)) (by first | exact Nat.le_of_ble_eq_true rfl | (show _ + 7 ≤ 583; omega)) (fun H h => ⟨h, h.obE (Or.inr h1) rfl⟩) (zXs.out (fun e76 => ?_)) (zPe.out (fun x76 hx76 => ?_))
                    · refine zT.ax (fun hx76 => ?_)
                      exact zT.out hX (by decide) (by first | exact Nat.le_of_ble_eq_true rfl | (show (_ : Nat) ≤ 55; omega)) (by first | exact Nat.le_of_ble_eq_true rfl | (show (_ : Nat) ≤ 583; omega)) (fun H h => ⟨rfl, rfl, h⟩)
                    show zG X (_ + 1) (_ + 7) _ 79 _ _
                    cases hx76
                  · exact absurd h68 (by decide)
              · exact absurd h48 (by decide)
            · exact absurd h27 (by decide)
          · exact absurd h6 (by decide)
abbrev rmX10_condition_1 : Room := { frames := 10, cells := 74, slots := 780, locals := 218 }
set_option maxHeartbeats 4000000 in
theorem c_X10_condition_1 (D : zD) (A : Nat → Prop) {w m : zMp} {b : Nat} {o ia : Nat} {p : Int} {s : zS} (hb : rdr D m b o ia p s) : zC D yX10_condition cX10_condition 2 (some (.object "LogCompactor$Condition")) none rmX10_condition_1 A [.ref b, zI (1)] (cI D A w m) (zPe (fun (x : Nat × zMp) => some (.ref x.1)) (fun x => zLe w x.2 ∧ ∃ c, (cdR s 3 p).1 = some c ∧ wCn x.2 x.1 c) (fun x => cI D A x.2 (rdM m b o (cdR s 3 p).2))) (xTx D A w (rdM m b o (cdR s 3 p).2) ((cdR s 3 p).1 = none) (cdR s 3 p).2) := by
  refine zC_start (L := [some (.ref b), some (zI (1))]) (by decide) (Nat.le_of_ble_eq_true rfl) rfl (fun X hX => ?_)
  have hb0 := hb
  obtain ⟨h1, -, -, h5, h6⟩ := hb
  have h60 := h5.1
  have hlt1 : hr s p ≠ -1 → p + 1 ≤ s.length := fun q => by have := hr_in q; omega
  by_cases q35 : hr s p = 35
  · have hb1 := hb0.up (q := p + 1) (by omega) (hlt1 (by omega))
    rw [cdR_35 q35] at hX
    dsimp only at hX
    refine z_aload_n (i := 0) (q := 1) hX dX10_condition_0 rfl rfl rfl ?_
    refine z_bipush (q := 3) hX dX10_condition_1 (by decide) rfl ?_
    refine z_V (ci := ciX10) (T := TX10) (N := 2) (na := 1) hX dX10_condition_3 (c_X10_takes D A hb0 (by decide)) rfl q1031 q1033 qs17 q134 q1034 (by decide +kernel) ⟨Nat.le_of_ble_eq_true rfl, Nat.le_of_ble_eq_true rfl⟩ rfl rfl (Nat.le_of_ble_eq_true rfl) rfl (by first | exact Nat.le_of_ble_eq_true rfl | (show _ + 0 ≤ 74; omega)) (by first | exact Nat.le_of_ble_eq_true rfl | (show _ + 0 ≤ 780; omega)) (fun H h => ⟨h, h.obE (Or.inr h1) rfl⟩) (fun E a => zT.no) (zPd.out ?_)
    show zG X (_ + 0) (_ + 0) _ 6 _ _
    rw [decide_eq_true q35, if_pos q35]
    refine z_ifB_eq (q := 9) (t := 21) hX dX10_condition_6 (by decide) rfl (fun h6 => ?_) (fun h6 => ?_)
    · exact absurd h6 (by decide)
    · refine zc_new (q := 12) (fs := [zI 0]) (C := RX12) (T := TX12) (N := 1) hX ciX12 rfl in_X12 tyX12_ok dX10_condition_9 q1039 q1040 q136 (fun j hj => by match j, hj with | 0, _ => rfl | (_ + 1), h => exact absurd h (by omega)) (by first | exact Nat.le_of_ble_eq_true rfl | (show _ + 1 ≤ 74; omega)) (by first | exact Nat.le_of_ble_eq_true rfl | (show _ + 1 ≤ 780; omega)) rfl (fun a9 ha9 hb9 => ?_)
      have n9 := hb9
      try simp only [upm_none] at n9
      repeat (have := And.left n9; replace n9 := And.right n9)
      have hbn := hb1.new (x := eO ciX12 [zI 0]) hb9
      have hbn0 := hbn.1
      have n9x := rdM_n hb9
      refine z_dup (q := 13) hX dX10_condition_12 rfl rfl ?_
      refine z_aload_n (i := 0) (q := 14) hX dX10_condition_13 rfl rfl rfl ?_
      refine z_V (ci := ciX10) (T := TX10) (N := 2) (na := 0) hX dX10_condition_14 (c_X10_number D A hbn) rfl q1041 q1043 qs19 q134 q1044 (by decide +kernel) ⟨Nat.le_of_ble_eq_true rfl, Nat.le_of_ble_eq_true rfl⟩ rfl rfl (Nat.le_of_ble_eq_true rfl) rfl (by first | exact Nat.le_of_ble_eq_true rfl | (show _ + 1 ≤ 74; omega)) (by first | exact Nat.le_of_ble_eq_true rfl | (show _ + 7 ≤ 780; omega)) (fun H h => ⟨h, h.obE (Or.inr hbn0) rfl⟩) (zXs.out (fun e14 => ?_)) (zPe.out (fun x14 hx14 => ?_))
      · refine zT.ax (fun hx14 => zT.ax (fun hy14 => ?_))
        have hz := rdM_nx hy14.2
        exact zT.out hX (by decide) (by first | exact Nat.le_of_ble_eq_true rfl | (show (_ : Nat) ≤ 74; omega)) (by first | exact Nat.le_of_ble_eq_true rfl | (show (_ : Nat) ≤ 780; omega)) (fun H h => ⟨rfl, if_pos hx14, ⟨hy14.1, hz.2⟩, by have h2 := h.del a9; rw [rdM_dlE n9x.1 n9x.2 hz.1] at h2; exact h2⟩)
      show zG X (_ + 1) (_ + 7) _ 17 _ _
      refine z_C (na := 1) hX dX10_condition_17 (c_X12_init D A ((upm_ne _ _ n9x.1).trans (upm_same _ _ _))) q1075 q1076 q136 q1077 rfl (by decide +kernel) ⟨Nat.le_of_ble_eq_true rfl, Nat.le_of_ble_eq_true rfl⟩ rfl rfl (Nat.le_of_ble_eq_true rfl) rfl (by first | exact Nat.le_of_ble_eq_true rfl | (show _ + 0 ≤ 74; omega)) (by first | exact Nat.le_of_ble_eq_true rfl | (show _ + 0 ≤ 780; omega)) (fun H h => h) (fun E a => zT.no) (zPv.out ?_)
      show zG X (_ + 0) (_ + 0) _ 20 _ _
      exact z_aret hX dX10_condition_20 (by first | exact Nat.le_of_ble_eq_true rfl | (show (_ : Nat) ≤ 74; omega)) (by first | exact Nat.le_of_ble_eq_true rfl | (show (_ : Nat) ≤ 780; omega)) rfl (by first | exact Or.inl ⟨_, rfl⟩ | exact Or.inr ⟨_, rfl⟩) (by first | exact Or.inl rfl | exact Or.inr ⟨_, rfl⟩) (fun H h => ⟨(a9, upm w a9 (eO ciX12 [zI (nuV s (p + 1))])), rfl, ⟨zLe.up ha9, _, if_neg hx14, Or.inl ⟨rfl, upm_same _ _ _, nuV_R _ _⟩⟩, h.eqv (fun c => congrFun (rdM_dl n9x.1 n9x.2).symm c)⟩)
  · by_cases q36 : hr s p = 36
    · have hb1 := hb0.up (q := p + 1) (by omega) (hlt1 (by omega))
      rw [cdR_36 q36] at hX
      dsimp only at hX
      refine z_aload_n (i := 0) (q := 1) hX dX10_condition_0 rfl rfl rfl ?_
      refine z_bipush (q := 3) hX dX10_condition_1 (by decide) rfl ?_
      refine z_V (ci := ciX10) (T := TX10) (N := 2) (na := 1) hX dX10_condition_3 (c_X10_takes D A hb0 (by decide)) rfl q1031 q1033 qs17 q134 q1034 (by decide +kernel) ⟨Nat.le_of_ble_eq_true rfl, Nat.le_of_ble_eq_true rfl⟩ rfl rfl (Nat.le_of_ble_eq_true rfl) rfl (by first | exact Nat.le_of_ble_eq_true rfl | (show _ + 0 ≤ 74; omega)) (by first | exact Nat.le_of_ble_eq_true rfl | (show _ + 0 ≤ 780; omega)) (fun H h => ⟨h, h.obE (Or.inr h1) rfl⟩) (fun E a => zT.no) (zPd.out ?_)
      show zG X (_ + 0) (_ + 0) _ 6 _ _
      rw [decide_eq_false q35, if_neg q35, hb0.self]
      refine z_ifB_eq (q := 9) (t := 21) hX dX10_condition_6 (by decide) rfl (fun h6 => ?_) (fun h6 => ?_)
      · refine z_aload_n (i := 0) (q := 22) hX dX10_condition_21 rfl rfl rfl ?_
        refine z_bipush (q := 24) hX dX10_condition_22 (by decide) rfl ?_
        refine z_V (ci := ciX10) (T := TX10) (N := 2) (na := 1) hX dX10_condition_24 (c_X10_takes D A hb0 (by decide)) rfl q1031 q1033 qs17 q134 q1034 (by decide +kernel) ⟨Nat.le_of_ble_eq_true rfl, Nat.le_of_ble_eq_true rfl⟩ rfl rfl (Nat.le_of_ble_eq_true rfl) rfl (by first | exact Nat.le_of_ble_eq_true rfl | (show _ + 0 ≤ 74; omega)) (by first | exact Nat.le_of_ble_eq_true rfl | (show _ + 0 ≤ 780; omega)) (fun H h => ⟨h, h.obE (Or.inr h1) rfl⟩) (fun E a => zT.no) (zPd.out ?_)
        show zG X (_ + 0) (_ + 0) _ 27 _ _
        rw [decide_eq_true q36, if_pos q36]
        refine z_ifB_eq (q := 30) (t := 42) hX dX10_condition_27 (by decide) rfl (fun h27 => ?_) (fun h27 => ?_)
        · exact absurd h27 (by decide)
        · refine zc_new (q := 33) (fs := [.null]) (C := RX14) (T := TX14) (N := 1) hX ciX14 rfl in_X14 tyX14_ok dX10_condition_30 q1086 q1087 q138 (fun j hj => by match j, hj with | 0, _ => rfl | (_ + 1), h => exact absurd h (by omega)) (by first | exact Nat.le_of_ble_eq_true rfl | (show _ + 1 ≤ 74; omega)) (by first | exact Nat.le_of_ble_eq_true rfl | (show _ + 1 ≤ 780; omega)) rfl (fun a30 ha30 hb30 => ?_)
          have n30 := hb30
          try simp only [upm_none] at n30
          repeat (have := And.left n30; replace n30 := And.right n30)
          have hbn := hb1.new (x := eO ciX14 [.null]) hb30
          have hbn0 := hbn.1
          have n30x := rdM_n hb30
          refine z_dup (q := 34) hX dX10_condition_33 rfl rfl ?_
          refine z_aload_n (i := 0) (q := 35) hX dX10_condition_34 rfl rfl rfl ?_
          refine z_V (ci := ciX10) (T := TX10) (N := 2) (na := 0) hX dX10_condition_35 (c_X10_word D A hbn) rfl q1088 q1090 qs22 q134 q1091 (by decide +kernel) ⟨Nat.le_of_ble_eq_true rfl, Nat.le_of_ble_eq_true rfl⟩ rfl rfl (Nat.le_of_ble_eq_true rfl) rfl (by first | exact Nat.le_of_ble_eq_true rfl | (show _ + 4 ≤ 74; omega)) (by first | exact Nat.le_of_ble_eq_true rfl | (show _ + 114 ≤ 780; omega)) (fun H h => ⟨h, h.obE (Or.inr hbn0) rfl⟩) (zXs.out (fun e35 => ?_)) (zPe.out (fun x35 hx35 => ?_))
          · refine zT.ax (fun hx35 => zT.ax (fun hy35 => ?_))
            have hz := rdM_nx hy35.2
            exact zT.out hX (by decide) (by first | exact Nat.le_of_ble_eq_true rfl | (show (_ : Nat) ≤ 74; omega)) (by first | exact Nat.le_of_ble_eq_true rfl | (show (_ : Nat) ≤ 780; omega)) (fun H h => ⟨rfl, if_pos hx35, ⟨hy35.1, hz.2⟩, by have h2 := h.del a30; rw [rdM_dlE n30x.1 n30x.2 hz.1] at h2; exact h2⟩)
          show zG X (_ + 4) (_ + 114) _ 38 _ _
          obtain ⟨k1, k2, k3⟩ := hx35
          refine zG.know (fun H h => h.w_of (it := eO ciX14 [.null]) ((upm_ne _ _ n30x.1).trans (upm_same _ _ _))) (fun hw38 => ?_)
          refine z_C (na := 1) hX dX10_condition_38 (c_X14_init D A ((upm_ne _ _ n30x.1).trans (upm_same _ _ _))) q1117 q1118 q138 q1119 rfl (by decide +kernel) ⟨Nat.le_of_ble_eq_true rfl, Nat.le_of_ble_eq_true rfl⟩ rfl rfl (Nat.le_of_ble_eq_true rfl) rfl (by first | exact Nat.le_of_ble_eq_true rfl | (show _ + 0 ≤ 74; omega)) (by first | exact Nat.le_of_ble_eq_true rfl | (show _ + 0 ≤ 780; omega)) (fun H h => h) (fun E a => zT.no) (zPv.out ?_)
          show zG X (_ + 0) (_ + 0) _ 41 _ _
          exact z_aret hX dX10_condition_41 (by first | exact Nat.le_of_ble_eq_true rfl | (show (_ : Nat) ≤ 74; omega)) (by first | exact Nat.le_of_ble_eq_true rfl | (show (_ : Nat) ≤ 780; omega)) rfl (by first | exact Or.inl ⟨_, rfl⟩ | exact Or.inr ⟨_, rfl⟩) (by first | exact Or.inl rfl | exact Or.inr ⟨_, rfl⟩) (fun H h => ⟨(a30, upm x35.2 a30 (eO ciX14 [.ref x35.1])), rfl, ⟨k2.tr (zLe.up hw38), _, if_neg k1, Or.inr (Or.inl ⟨rfl, x35.1, upm_same _ _ _, zLe.up hw38 _ _ k3⟩)⟩, h.eqv (fun c => congrFun (rdM_dl n30x.1 n30x.2).symm c)⟩)
      · exact absurd h6 (by decide)
    · by_cases q37 : hr s p = 37
      · have hb1 := hb0.up (q := p + 1) (by omega) (hlt1 (by omega))
        rw [cdR_37 q37] at hX
        dsimp only at hX
        refine z_aload_n (i := 0) (q := 1) hX dX10_condition_0 rfl rfl rfl ?_
        refine z_bipush (q := 3) hX dX10_condition_1 (by decide) rfl ?_
        refine z_V (ci := ciX10) (T := TX10) (N := 2) (na := 1) hX dX10_condition_3 (c_X10_takes D A hb0 (by decide)) rfl q1031 q1033 qs17 q134 q1034 (by decide +kernel) ⟨Nat.le_of_ble_eq_true rfl, Nat.le_of_ble_eq_true rfl⟩ rfl rfl (Nat.le_of_ble_eq_true rfl) rfl (by first | exact Nat.le_of_ble_eq_true rfl | (show _ + 0 ≤ 74; omega)) (by first | exact Nat.le_of_ble_eq_true rfl | (show _ + 0 ≤ 780; omega)) (fun H h => ⟨h, h.obE (Or.inr h1) rfl⟩) (fun E a => zT.no) (zPd.out ?_)
        show zG X (_ + 0) (_ + 0) _ 6 _ _
        rw [decide_eq_false q35, if_neg q35, hb0.self]
        refine z_ifB_eq (q := 9) (t := 21) hX dX10_condition_6 (by decide) rfl (fun h6 => ?_) (fun h6 => ?_)
        · refine z_aload_n (i := 0) (q := 22) hX dX10_condition_21 rfl rfl rfl ?_
          refine z_bipush (q := 24) hX dX10_condition_22 (by decide) rfl ?_
          refine z_V (ci := ciX10) (T := TX10) (N := 2) (na := 1) hX dX10_condition_24 (c_X10_takes D A hb0 (by decide)) rfl q1031 q1033 qs17 q134 q1034 (by decide +kernel) ⟨Nat.le_of_ble_eq_true rfl, Nat.le_of_ble_eq_true rfl⟩ rfl rfl (Nat.le_of_ble_eq_true rfl) rfl (by first | exact Nat.le_of_ble_eq_true rfl | (show _ + 0 ≤ 74; omega)) (by first | exact Nat.le_of_ble_eq_true rfl | (show _ + 0 ≤ 780; omega)) (fun H h => ⟨h, h.obE (Or.inr h1) rfl⟩) (fun E a => zT.no) (zPd.out ?_)
          show zG X (_ + 0) (_ + 0) _ 27 _ _
          rw [decide_eq_false q36, if_neg q36, hb0.self]
          refine z_ifB_eq (q := 30) (t := 42) hX dX10_condition_27 (by decide) rfl (fun h27 => ?_) (fun h27 => ?_)
          · refine z_aload_n (i := 0) (q := 43) hX dX10_condition_42 rfl rfl rfl ?_
            refine z_bipush (q := 45) hX dX10_condition_43 (by decide) rfl ?_
            refine z_V (ci := ciX10) (T := TX10) (N := 2) (na := 1) hX dX10_condition_45 (c_X10_takes D A hb0 (by decide)) rfl q1031 q1033 qs17 q134 q1034 (by decide +kernel) ⟨Nat.le_of_ble_eq_true rfl, Nat.le_of_ble_eq_true rfl⟩ rfl rfl (Nat.le_of_ble_eq_true rfl) rfl (by first | exact Nat.le_of_ble_eq_true rfl | (show _ + 0 ≤ 74; omega)) (by first | exact Nat.le_of_ble_eq_true rfl | (show _ + 0 ≤ 780; omega)) (fun H h => ⟨h, h.obE (Or.inr h1) rfl⟩) (fun E a => zT.no) (zPd.out ?_)
            show zG X (_ + 0) (_ + 0) _ 48 _ _
            rw [decide_eq_true q37, if_pos q37]
            refine z_ifB_eq (q := 51) (t := 56) hX dX10_condition_48 (by decide) rfl (fun h48 => ?_) (fun h48 => ?_)
            · exact absurd h48 (by decide)
            · refine z_aload_n (i := 0) (q := 52) hX dX10_condition_51 rfl rfl rfl ?_
              refine z_V (ci := ciX10) (T := TX10) (N := 2) (na := 0) hX dX10_condition_52 (c_X10_comparison D A hb1) rfl q1125 q1127 qs23 q134 q1128 (by decide +kernel) ⟨Nat.le_of_ble_eq_true rfl, Nat.le_of_ble_eq_true rfl⟩ rfl rfl (Nat.le_of_ble_eq_true rfl) rfl (by first | exact Nat.le_of_ble_eq_true rfl | (show _ + 9 ≤ 74; omega)) (by first | exact Nat.le_of_ble_eq_true rfl | (show _ + 59 ≤ 780; omega)) (fun H h => ⟨h, h.obE (Or.inr hb1.1) rfl⟩) (zXs.out (fun e52 => ?_)) (zPe.out (fun x52 hx52 => ?_))
              · refine zT.ax (fun hx52 => ?_)
                exact zT.out hX (by decide) (by first | exact Nat.le_of_ble_eq_true rfl | (show (_ : Nat) ≤ 74; omega)) (by first | exact Nat.le_of_ble_eq_true rfl | (show (_ : Nat) ≤ 780; omega)) (fun H h => ⟨rfl, if_neg hx52, by rw [rdM_M] at h; exact h⟩)
              show zG X (_ + 9) (_ + 59) _ 55 _ _
              exact z_aret hX dX10_condition_55 (by first | exact Nat.le_of_ble_eq_true rfl | (show (_ : Nat) ≤ 74; omega)) (by first | exact Nat.le_of_ble_eq_true rfl | (show (_ : Nat) ≤ 780; omega)) rfl (by first | exact Or.inl ⟨_, rfl⟩ | exact Or.inr ⟨_, rfl⟩) (by first | exact Or.inl rfl | exact Or.inr ⟨_, rfl⟩) (fun H h => ⟨(x52, _), rfl, ⟨zLe.up hx52.2, _, if_pos hx52.1, Or.inr (Or.inr ⟨rfl, upm_same _ _ _, (cmp_ok hx52.1.1).1, (cmp_ok hx52.1.1).2, nuV_R _ _⟩)⟩, by rw [rdM_M] at h; exact h⟩)
          · exact absurd h27 (by decide)
        · exact absurd h6 (by decide)
      · by_cases q33 : hr s p = 33
        · have hb1 := hb0.up (q := p + 1) (by omega) (hlt1 (by omega))
          rw [cdR_33 q33] at hX
          dsimp only at hX
          refine z_aload_n (i := 0) (q := 1) hX dX10_condition_0 rfl rfl rfl ?_
          refine z_bipush (q := 3) hX dX10_condition_1 (by decide) rfl ?_
          refine z_V (ci := ciX10) (T := TX10) (N := 2) (na := 1) hX dX10_condition_3 (c_X10_takes D A hb0 (by decide)) rfl q1031 q1033 qs17 q134 q1034 (by decide +kernel) ⟨Nat.le_of_ble_eq_true rfl, Nat.le_of_ble_eq_true rfl⟩ rfl rfl (Nat.le_of_ble_eq_true rfl) rfl (by first | exact Nat.le_of_ble_eq_true rfl | (show _ + 0 ≤ 74; omega)) (by first | exact Nat.le_of_ble_eq_true rfl | (show _ + 0 ≤ 780; omega)) (fun H h => ⟨h, h.obE (Or.inr h1) rfl⟩) (fun E a => zT.no) (zPd.out ?_)
          show zG X (_ + 0) (_ + 0) _ 6 _ _
          rw [decide_eq_false q35, if_neg q35, hb0.self]
          refine z_ifB_eq (q := 9) (t := 21) hX dX10_condition_6 (by decide) rfl (fun h6 => ?_) (fun h6 => ?_)
          · refine z_aload_n (i := 0) (q := 22) hX dX10_condition_21 rfl rfl rfl ?_
            refine z_bipush (q := 24) hX dX10_condition_22 (by decide) rfl ?_
            refine z_V (ci := ciX10) (T := TX10) (N := 2) (na := 1) hX dX10_condition_24 (c_X10_takes D A hb0 (by decide)) rfl q1031 q1033 qs17 q134 q1034 (by decide +kernel) ⟨Nat.le_of_ble_eq_true rfl, Nat.le_of_ble_eq_true rfl⟩ rfl rfl (Nat.le_of_ble_eq_true rfl) rfl (by first | exact Nat.le_of_ble_eq_true rfl | (show _ + 0 ≤ 74; omega)) (by first | exact Nat.le_of_ble_eq_true rfl | (show _ + 0 ≤ 780; omega)) (fun H h => ⟨h, h.obE (Or.inr h1) rfl⟩) (fun E a => zT.no) (zPd.out ?_)
            show zG X (_ + 0) (_ + 0) _ 27 _ _
            rw [decide_eq_false q36, if_neg q36, hb0.self]
            refine z_ifB_eq (q := 30) (t := 42) hX dX10_condition_27 (by decide) rfl (fun h27 => ?_) (fun h27 => ?_)
            · refine z_aload_n (i := 0) (q := 43) hX dX10_condition_42 rfl rfl rfl ?_
              refine z_bipush (q := 45) hX dX10_condition_43 (by decide) rfl ?_
              refine z_V (ci := ciX10) (T := TX10) (N := 2) (na := 1) hX dX10_condition_45 (c_X10_takes D A hb0 (by decide)) rfl q1031 q1033 qs17 q134 q1034 (by decide +kernel) ⟨Nat.le_of_ble_eq_true rfl, Nat.le_of_ble_eq_true rfl⟩ rfl rfl (Nat.le_of_ble_eq_true rfl) rfl (by first | exact Nat.le_of_ble_eq_true rfl | (show _ + 0 ≤ 74; omega)) (by first | exact Nat.le_of_ble_eq_true rfl | (show _ + 0 ≤ 780; omega)) (fun H h => ⟨h, h.obE (Or.inr h1) rfl⟩) (fun E a => zT.no) (zPd.out ?_)
              show zG X (_ + 0) (_ + 0) _ 48 _ _
              rw [decide_eq_false q37, if_neg q37, hb0.self]
              refine z_ifB_eq (q := 51) (t := 56) hX dX10_condition_48 (by decide) rfl (fun h48 => ?_) (fun h48 => ?_)
              · refine z_aload_n (i := 0) (q := 57) hX dX10_condition_56 rfl rfl rfl ?_
                refine z_iload_n (i := 1) (q := 58) hX dX10_condition_57 rfl rfl rfl ?_
                refine z_iconst (q := 59) hX dX10_condition_58 rfl ?_
                refine z_icmp_ge (q := 62) (t := 75) hX dX10_condition_59 (by decide) (by decide) (by decide) rfl (fun h59 => ?_) (fun h59 => ?_)
                · exact absurd h59 (by decide)
                · refine z_aload_n (i := 0) (q := 63) hX dX10_condition_62 rfl rfl rfl ?_
                  refine z_bipush (q := 65) hX dX10_condition_63 (by decide) rfl ?_
                  refine z_V (ci := ciX10) (T := TX10) (N := 2) (na := 1) hX dX10_condition_65 (c_X10_takes D A hb0 (by decide)) rfl q1031 q1033 qs17 q134 q1034 (by decide +kernel) ⟨Nat.le_of_ble_eq_true rfl, Nat.le_of_ble_eq_true rfl⟩ rfl rfl (Nat.le_of_ble_eq_true rfl) rfl (by first | exact Nat.le_of_ble_eq_true rfl | (show _ + 0 ≤ 74; omega)) (by first | exact Nat.le_of_ble_eq_true rfl | (show _ + 0 ≤ 780; omega)) (fun H h => ⟨h, h.obE (Or.inr h1) rfl⟩) (fun E a => zT.no) (zPd.out ?_)
                  show zG X (_ + 0) (_ + 0) _ 68 _ _
                  rw [decide_eq_true q33, if_pos q33]
                  refine z_ifB_eq (q := 71) (t := 75) hX dX10_condition_68 (by decide) rfl (fun h68 => ?_) (fun h68 => ?_)
                  · exact absurd h68 (by decide)
                  · refine z_iconst (q := 72) hX dX10_condition_71 rfl ?_
                    refine z_goto (t := 76) hX dX10_condition_72 (by decide) ?_
                    refine z_V (ci := ciX10) (T := TX10) (N := 2) (na := 1) hX dX10_condition_76 (c_X10_need D A (c := true) hb1) rfl q1052 q1054 qs21 q134 q1055 (by decide +kernel) ⟨Nat.le_of_ble_eq_true rfl, Nat.le_of_ble_eq_true rfl⟩ rfl rfl (Nat.le_of_ble_eq_true rfl) rfl (by first | exact Nat.le_of_ble_eq_true rfl | (show _ + 1 ≤ 74; omega)) (by first | exact Nat.le_of_ble_eq_true rfl | (show _ + 7 ≤ 780; omega)) (fun H h => ⟨h, h.obE (Or.inr hb1.1) rfl⟩) (zXs.out (fun e76 => ?_)) (zPe.out (fun x76 hx76 => ?_))
                    · refine zT.ax (fun hx76 => ?_)
                      cases hx76
                    show zG X (_ + 1) (_ + 7) _ 79 _ _
                    refine zc_new (q := 82) (fs := [.null]) (C := RX16) (T := TX16) (N := 1) hX ciX16 rfl in_X16 tyX16_ok dX10_condition_79 q1145 q1146 q140 (fun j hj => by match j, hj with | 0, _ => rfl | (_ + 1), h => exact absurd h (by omega)) (by first | exact Nat.le_of_ble_eq_true rfl | (show _ + 1 ≤ 74; omega)) (by first | exact Nat.le_of_ble_eq_true rfl | (show _ + 1 ≤ 780; omega)) rfl (fun a79 ha79 hb79 => ?_)
                    have n79 := hb79
                    try simp only [upm_none] at n79
                    repeat (have := And.left n79; replace n79 := And.right n79)
                    have hbn := hb1.new (x := eO ciX16 [.null]) hb79
                    have hbn0 := hbn.1
                    have n79x := rdM_n hb79
                    refine z_dup (q := 83) hX dX10_condition_82 rfl rfl ?_
                    refine z_aload_n (i := 0) (q := 84) hX dX10_condition_83 rfl rfl rfl ?_
                    refine z_iload_n (i := 1) (q := 85) hX dX10_condition_84 rfl rfl rfl ?_
                    refine z_iconst (q := 86) hX dX10_condition_85 rfl ?_
                    refine z_iadd (q := 87) hX dX10_condition_86 rfl ?_
                    refine zG.top (v2 := zI 2) (by rfl) ?_
                    refine z_V (ci := ciX10) (T := TX10) (N := 2) (na := 1) hX dX10_condition_87 (c_X10_condition_2 D A hbn) rfl q1027 q1029 qs16 q134 q1030 (by decide +kernel) ⟨Nat.le_of_ble_eq_true rfl, Nat.le_of_ble_eq_true rfl⟩ rfl rfl (Nat.le_of_ble_eq_true rfl) rfl (by first | exact Nat.le_of_ble_eq_true rfl | (show _ + 55 ≤ 74; omega)) (by first | exact Nat.le_of_ble_eq_true rfl | (show _ + 583 ≤ 780; omega)) (fun H h => ⟨h, h.obE (Or.inr hbn0) rfl⟩) (zXs.out (fun e87 => ?_)) (zPe.out (fun x87 hx87 => ?_))
                    · refine zT.ax (fun hx87 => zT.ax (fun hy87 => ?_))
                      have hz := rdM_nx hy87.2
                      exact zT.out hX (by decide) (by first | exact Nat.le_of_ble_eq_true rfl | (show (_ : Nat) ≤ 74; omega)) (by first | exact Nat.le_of_ble_eq_true rfl | (show (_ : Nat) ≤ 780; omega)) (fun H h => ⟨rfl, by rw [hx87]; rfl, ⟨hy87.1, hz.2⟩, by have h2 := h.del a79; rw [rdM_dlE n79x.1 n79x.2 hz.1] at h2; exact h2⟩)
                    show zG X (_ + 55) (_ + 583) _ 90 _ _
                    obtain ⟨k1, c9, k2, k3⟩ := hx87
                    refine zG.know (fun H h => h.w_of (it := eO ciX16 [.null]) ((upm_ne _ _ n79x.1).trans (upm_same _ _ _))) (fun hw90 => ?_)
                    refine z_C (na := 1) hX dX10_condition_90 (c_X16_init D A ((upm_ne _ _ n79x.1).trans (upm_same _ _ _))) q1147 q1148 q140 q1149 rfl (by decide +kernel) ⟨Nat.le_of_ble_eq_true rfl, Nat.le_of_ble_eq_true rfl⟩ rfl rfl (Nat.le_of_ble_eq_true rfl) rfl (by first | exact Nat.le_of_ble_eq_true rfl | (show _ + 0 ≤ 74; omega)) (by first | exact Nat.le_of_ble_eq_true rfl | (show _ + 0 ≤ 780; omega)) (fun H h => h) (fun E a => zT.no) (zPv.out ?_)
                    show zG X (_ + 0) (_ + 0) _ 93 _ _
                    exact z_aret hX dX10_condition_93 (by first | exact Nat.le_of_ble_eq_true rfl | (show (_ : Nat) ≤ 74; omega)) (by first | exact Nat.le_of_ble_eq_true rfl | (show (_ : Nat) ≤ 780; omega)) rfl (by first | exact Or.inl ⟨_, rfl⟩ | exact Or.inr ⟨_, rfl⟩) (by first | exact Or.inl rfl | exact Or.inr ⟨_, rfl⟩) (fun H h => ⟨(a79, upm x87.2 a79 (eO ciX16 [.ref x87.1])), rfl, ⟨k1.tr (zLe.up hw90), (c9.1 + 1, c9.2), by rw [k2]; rfl, ⟨x87.1, upm_same _ _ _, wCnN.le (zLe.up hw90) k3⟩⟩, h.eqv (fun c => congrFun (rdM_dl n79x.1 n79x.2).symm c)⟩)
              · exact absurd h48 (by decide)
            · exact absurd h27 (by decide)
          · exact absurd h6 (by decide)
        · rw [cdR_no q35 q36 q37 q33] at hX
          dsimp only at hX
          rw [hb0.self] at hX
          refine z_aload_n (i := 0) (q := 1) hX dX10_condition_0 rfl rfl rfl ?_
          refine z_bipush (q := 3) hX dX10_condition_1 (by decide) rfl ?_
          refine z_V (ci := ciX10) (T := TX10) (N := 2) (na := 1) hX dX10_condition_3 (c_X10_takes D A hb0 (by decide)) rfl q1031 q1033 qs17 q134 q1034 (by decide +kernel) ⟨Nat.le_of_ble_eq_true rfl, Nat.le_of_ble_eq_true rfl⟩ rfl rfl (Nat.le_of_ble_eq_true rfl) rfl (by first | exact Nat.le_of_ble_eq_true rfl | (show _ + 0 ≤ 74; omega)) (by first | exact Nat.le_of_ble_eq_true rfl | (show _ + 0 ≤ 780; omega)) (fun H h => ⟨h, h.obE (Or.inr h1) rfl⟩) (fun E a => zT.no) (zPd.out ?_)
          show zG X (_ + 0) (_ + 0) _ 6 _ _
          rw [decide_eq_false q35, if_neg q35, hb0.self]
          refine z_ifB_eq (q := 9) (t := 21) hX dX10_condition_6 (by decide) rfl (fun h6 => ?_) (fun h6 => ?_)
          · refine z_aload_n (i := 0) (q := 22) hX dX10_condition_21 rfl rfl rfl ?_
            refine z_bipush (q := 24) hX dX10_condition_22 (by decide) rfl ?_
            refine z_V (ci := ciX10) (T := TX10) (N := 2) (na := 1) hX dX10_condition_24 (c_X10_takes D A hb0 (by decide)) rfl q1031 q1033 qs17 q134 q1034 (by decide +kernel) ⟨Nat.le_of_ble_eq_true rfl, Nat.le_of_ble_eq_true rfl⟩ rfl rfl (Nat.le_of_ble_eq_true rfl) rfl (by first | exact Nat.le_of_ble_eq_true rfl | (show _ + 0 ≤ 74; omega)) (by first | exact Nat.le_of_ble_eq_true rfl | (show _ + 0 ≤ 780; omega)) (fun H h => ⟨h, h.obE (Or.inr h1) rfl⟩) (fun E a => zT.no) (zPd.out ?_)
            show zG X (_ + 0) (_ + 0) _ 27 _ _
            rw [decide_eq_false q36, if_neg q36, hb0.self]
            refine z_ifB_eq (q := 30) (t := 42) hX dX10_condition_27 (by decide) rfl (fun h27 => ?_) (fun h27 => ?_)
            · refine z_aload_n (i := 0) (q := 43) hX dX10_condition_42 rfl rfl rfl ?_
              refine z_bipush (q := 45) hX dX10_condition_43 (by decide) rfl ?_
              refine z_V (ci := ciX10) (T := TX10) (N := 2) (na := 1) hX dX10_condition_45 (c_X10_takes D A hb0 (by decide)) rfl q1031 q1033 qs17 q134 q1034 (by decide +kernel) ⟨Nat.le_of_ble_eq_true rfl, Nat.le_of_ble_eq_true rfl⟩ rfl rfl (Nat.le_of_ble_eq_true rfl) rfl (by first | exact Nat.le_of_ble_eq_true rfl | (show _ + 0 ≤ 74; omega)) (by first | exact Nat.le_of_ble_eq_true rfl | (show _ + 0 ≤ 780; omega)) (fun H h => ⟨h, h.obE (Or.inr h1) rfl⟩) (fun E a => zT.no) (zPd.out ?_)
              show zG X (_ + 0) (_ + 0) _ 48 _ _
              rw [decide_eq_false q37, if_neg q37, hb0.self]
              refine z_ifB_eq (q := 51) (t := 56) hX dX10_condition_48 (by decide) rfl (fun h48 => ?_) (fun h48 => ?_)
              · refine z_aload_n (i := 0) (q := 57) hX dX10_condition_56 rfl rfl rfl ?_
                refine z_iload_n (i := 1) (q := 58) hX dX10_condition_57 rfl rfl rfl ?_
                refine z_iconst (q := 59) hX dX10_condition_58 rfl ?_
                refine z_icmp_ge (q := 62) (t := 75) hX dX10_condition_59 (by decide) (by decide) (by decide) rfl (fun h59 => ?_) (fun h59 => ?_)
                · exact absurd h59 (by decide)
                · refine z_aload_n (i := 0) (q := 63) hX dX10_condition_62 rfl rfl rfl ?_
                  refine z_bipush (q := 65) hX dX10_condition_63 (by decide) rfl ?_
                  refine z_V (ci := ciX10) (T := TX10) (N := 2) (na := 1) hX dX10_condition_65 (c_X10_takes D A hb0 (by decide)) rfl q1031 q1033 qs17 q134 q1034 (by decide +kernel) ⟨Nat.le_of_ble_eq_true rfl, Nat.le_of_ble_eq_true rfl⟩ rfl rfl (Nat.le_of_ble_eq_true rfl) rfl (by first | exact Nat.le_of_ble_eq_true rfl | (show _ + 0 ≤ 74; omega)) (by first | exact Nat.le_of_ble_eq_true rfl | (show _ + 0 ≤ 780; omega)) (fun H h => ⟨h, h.obE (Or.inr h1) rfl⟩) (fun E a => zT.no) (zPd.out ?_)
                  show zG X (_ + 0) (_ + 0) _ 68 _ _
                  rw [decide_eq_false q33, if_neg q33, hb0.self]
                  refine z_ifB_eq (q := 71) (t := 75) hX dX10_condition_68 (by decide) rfl (fun h68 => ?_) (fun h68 => ?_)
                  · refine z_iconst (q := 76) hX dX10_condition_75 rfl ?_
                    refine z_V (ci := ciX10) (T := TX10) (N := 2) (na := 1) hX dX10_condition_76 (c_X10_need D A (c := false) hb0) rfl q1052 q1054 qs21 q134 q1055 (by decide +kernel) ⟨Nat.le_of_ble_eq_true rfl, Nat.le_of_ble_eq_true rfl⟩ rfl rfl (Nat.le_of_ble_eq_true rfl) rfl (by first | exact Nat.le_of_ble_eq_true rfl | (show _ + 1 ≤ 74; omega)) (by first | exact Nat.le_of_ble_eq_true rfl | (show _ + 7 ≤ 780; omega)) (fun H h => ⟨h, h.obE (Or.inr h1) rfl⟩) (zXs.out (fun e76 => ?_)) (zPe.out (fun x76 hx76 => ?_))
                    · refine zT.ax (fun hx76 => ?_)
                      exact zT.out hX (by decide) (by first | exact Nat.le_of_ble_eq_true rfl | (show (_ : Nat) ≤ 74; omega)) (by first | exact Nat.le_of_ble_eq_true rfl | (show (_ : Nat) ≤ 780; omega)) (fun H h => ⟨rfl, rfl, h⟩)
                    show zG X (_ + 1) (_ + 7) _ 79 _ _
                    cases hx76
                  · exact absurd h68 (by decide)
              · exact absurd h48 (by decide)
            · exact absurd h27 (by decide)
          · exact absurd h6 (by decide)
abbrev rmX10_condition_0 : Room := { frames := 11, cells := 93, slots := 977, locals := 239 }
set_option maxHeartbeats 4000000 in
theorem c_X10_condition_0 (D : zD) (A : Nat → Prop) {w m : zMp} {b : Nat} {o ia : Nat} {p : Int} {s : zS} (hb : rdr D m b o ia p s) : zC D yX10_condition cX10_condition 2 (some (.object "LogCompactor$Condition")) none rmX10_condition_0 A [.ref b, zI (0)] (cI D A w m) (zPe (fun (x : Nat × zMp) => some (.ref x.1)) (fun x => zLe w x.2 ∧ ∃ c, (cdR s 4 p).1 = some c ∧ wCn x.2 x.1 c) (fun x => cI D A x.2 (rdM m b o (cdR s 4 p).2))) (xTx D A w (rdM m b o (cdR s 4 p).2) ((cdR s 4 p).1 = none) (cdR s 4 p).2) := by
  refine zC_start (L := [some (.ref b), some (zI (0))]) (by decide) (Nat.le_of_ble_eq_true rfl) rfl (fun X hX => ?_)
  have hb0 := hb
  obtain ⟨h1, -, -, h5, h6⟩ := hb
  have h60 := h5.1
  have hlt1 : hr s p ≠ -1 → p + 1 ≤ s.length := fun q => by have := hr_in q; omega
  by_cases q35 : hr s p = 35
  · have hb1 := hb0.up (q := p + 1) (by omega) (hlt1 (by omega))
    rw [cdR_35 q35] at hX
    dsimp only at hX
    refine z_aload_n (i := 0) (q := 1) hX dX10_condition_0 rfl rfl rfl ?_
    refine z_bipush (q := 3) hX dX10_condition_1 (by decide) rfl ?_
    refine z_V (ci := ciX10) (T := TX10) (N := 2) (na := 1) hX dX10_condition_3 (c_X10_takes D A hb0 (by decide)) rfl q1031 q1033 qs17 q134 q1034 (by decide +kernel) ⟨Nat.le_of_ble_eq_true rfl, Nat.le_of_ble_eq_true rfl⟩ rfl rfl (Nat.le_of_ble_eq_true rfl) rfl (by first | exact Nat.le_of_ble_eq_true rfl | (show _ + 0 ≤ 93; omega)) (by first | exact Nat.le_of_ble_eq_true rfl | (show _ + 0 ≤ 977; omega)) (fun H h => ⟨h, h.obE (Or.inr h1) rfl⟩) (fun E a => zT.no) (zPd.out ?_)
    show zG X (_ + 0) (_ + 0) _ 6 _ _
    rw [decide_eq_true q35, if_pos q35]
    refine z_ifB_eq (q := 9) (t := 21) hX dX10_condition_6 (by decide) rfl (fun h6 => ?_) (fun h6 => ?_)
    · exact absurd h6 (by decide)
    · refine zc_new (q := 12) (fs := [zI 0]) (C := RX12) (T := TX12) (N := 1) hX ciX12 rfl in_X12 tyX12_ok dX10_condition_9 q1039 q1040 q136 (fun j hj => by match j, hj with | 0, _ => rfl | (_ + 1), h => exact absurd h (by omega)) (by first | exact Nat.le_of_ble_eq_true rfl | (show _ + 1 ≤ 93; omega)) (by first | exact Nat.le_of_ble_eq_true rfl | (show _ + 1 ≤ 977; omega)) rfl (fun a9 ha9 hb9 => ?_)
      have n9 := hb9
      try simp only [upm_none] at n9
      repeat (have := And.left n9; replace n9 := And.right n9)
      have hbn := hb1.new (x := eO ciX12 [zI 0]) hb9
      have hbn0 := hbn.1
      have n9x := rdM_n hb9
      refine z_dup (q := 13) hX dX10_condition_12 rfl rfl ?_
      refine z_aload_n (i := 0) (q := 14) hX dX10_condition_13 rfl rfl rfl ?_
      refine z_V (ci := ciX10) (T := TX10) (N := 2) (na := 0) hX dX10_condition_14 (c_X10_number D A hbn) rfl q1041 q1043 qs19 q134 q1044 (by decide +kernel) ⟨Nat.le_of_ble_eq_true rfl, Nat.le_of_ble_eq_true rfl⟩ rfl rfl (Nat.le_of_ble_eq_true rfl) rfl (by first | exact Nat.le_of_ble_eq_true rfl | (show _ + 1 ≤ 93; omega)) (by first | exact Nat.le_of_ble_eq_true rfl | (show _ + 7 ≤ 977; omega)) (fun H h => ⟨h, h.obE (Or.inr hbn0) rfl⟩) (zXs.out (fun e14 => ?_)) (zPe.out (fun x14 hx14 => ?_))
      · refine zT.ax (fun hx14 => zT.ax (fun hy14 => ?_))
        have hz := rdM_nx hy14.2
        exact zT.out hX (by decide) (by first | exact Nat.le_of_ble_eq_true rfl | (show (_ : Nat) ≤ 93; omega)) (by first | exact Nat.le_of_ble_eq_true rfl | (show (_ : Nat) ≤ 977; omega)) (fun H h => ⟨rfl, if_pos hx14, ⟨hy14.1, hz.2⟩, by have h2 := h.del a9; rw [rdM_dlE n9x.1 n9x.2 hz.1] at h2; exact h2⟩)
      show zG X (_ + 1) (_ + 7) _ 17 _ _
      refine z_C (na := 1) hX dX10_condition_17 (c_X12_init D A ((upm_ne _ _ n9x.1).trans (upm_same _ _ _))) q1075 q1076 q136 q1077 rfl (by decide +kernel) ⟨Nat.le_of_ble_eq_true rfl, Nat.le_of_ble_eq_true rfl⟩ rfl rfl (Nat.le_of_ble_eq_true rfl) rfl (by first | exact Nat.le_of_ble_eq_true rfl | (show _ + 0 ≤ 93; omega)) (by first | exact Nat.le_of_ble_eq_true rfl | (show _ + 0 ≤ 977; omega)) (fun H h => h) (fun E a => zT.no) (zPv.out ?_)
      show zG X (_ + 0) (_ + 0) _ 20 _ _
      exact z_aret hX dX10_condition_20 (by first | exact Nat.le_of_ble_eq_true rfl | (show (_ : Nat) ≤ 93; omega)) (by first | exact Nat.le_of_ble_eq_true rfl | (show (_ : Nat) ≤ 977; omega)) rfl (by first | exact Or.inl ⟨_, rfl⟩ | exact Or.inr ⟨_, rfl⟩) (by first | exact Or.inl rfl | exact Or.inr ⟨_, rfl⟩) (fun H h => ⟨(a9, upm w a9 (eO ciX12 [zI (nuV s (p + 1))])), rfl, ⟨zLe.up ha9, _, if_neg hx14, Or.inl ⟨rfl, upm_same _ _ _, nuV_R _ _⟩⟩, h.eqv (fun c => congrFun (rdM_dl n9x.1 n9x.2).symm c)⟩)
  · by_cases q36 : hr s p = 36
    · have hb1 := hb0.up (q := p + 1) (by omega) (hlt1 (by omega))
      rw [cdR_36 q36] at hX
      dsimp only at hX
      refine z_aload_n (i := 0) (q := 1) hX dX10_condition_0 rfl rfl rfl ?_
      refine z_bipush (q := 3) hX dX10_condition_1 (by decide) rfl ?_
      refine z_V (ci := ciX10) (T := TX10) (N := 2) (na := 1) hX dX10_condition_3 (c_X10_takes D A hb0 (by decide)) rfl q1031 q1033 qs17 q134 q1034 (by decide +kernel) ⟨Nat.le_of_ble_eq_true rfl, Nat.le_of_ble_eq_true rfl⟩ rfl rfl (Nat.le_of_ble_eq_true rfl) rfl (by first | exact Nat.le_of_ble_eq_true rfl | (show _ + 0 ≤ 93; omega)) (by first | exact Nat.le_of_ble_eq_true rfl | (show _ + 0 ≤ 977; omega)) (fun H h => ⟨h, h.obE (Or.inr h1) rfl⟩) (fun E a => zT.no) (zPd.out ?_)
      show zG X (_ + 0) (_ + 0) _ 6 _ _
      rw [decide_eq_false q35, if_neg q35, hb0.self]
      refine z_ifB_eq (q := 9) (t := 21) hX dX10_condition_6 (by decide) rfl (fun h6 => ?_) (fun h6 => ?_)
      · refine z_aload_n (i := 0) (q := 22) hX dX10_condition_21 rfl rfl rfl ?_
        refine z_bipush (q := 24) hX dX10_condition_22 (by decide) rfl ?_
        refine z_V (ci := ciX10) (T := TX10) (N := 2) (na := 1) hX dX10_condition_24 (c_X10_takes D A hb0 (by decide)) rfl q1031 q1033 qs17 q134 q1034 (by decide +kernel) ⟨Nat.le_of_ble_eq_true rfl, Nat.le_of_ble_eq_true rfl⟩ rfl rfl (Nat.le_of_ble_eq_true rfl) rfl (by first | exact Nat.le_of_ble_eq_true rfl | (show _ + 0 ≤ 93; omega)) (by first | exact Nat.le_of_ble_eq_true rfl | (show _ + 0 ≤ 977; omega)) (fun H h => ⟨h, h.obE (Or.inr h1) rfl⟩) (fun E a => zT.no) (zPd.out ?_)
        show zG X (_ + 0) (_ + 0) _ 27 _ _
        rw [decide_eq_true q36, if_pos q36]
        refine z_ifB_eq (q := 30) (t := 42) hX dX10_condition_27 (by decide) rfl (fun h27 => ?_) (fun h27 => ?_)
        · exact absurd h27 (by decide)
        · refine zc_new (q := 33) (fs := [.null]) (C := RX14) (T := TX14) (N := 1) hX ciX14 rfl in_X14 tyX14_ok dX10_condition_30 q1086 q1087 q138 (fun j hj => by match j, hj with | 0, _ => rfl | (_ + 1), h => exact absurd h (by omega)) (by first | exact Nat.le_of_ble_eq_true rfl | (show _ + 1 ≤ 93; omega)) (by first | exact Nat.le_of_ble_eq_true rfl | (show _ + 1 ≤ 977; omega)) rfl (fun a30 ha30 hb30 => ?_)
          have n30 := hb30
          try simp only [upm_none] at n30
          repeat (have := And.left n30; replace n30 := And.right n30)
          have hbn := hb1.new (x := eO ciX14 [.null]) hb30
          have hbn0 := hbn.1
          have n30x := rdM_n hb30
          refine z_dup (q := 34) hX dX10_condition_33 rfl rfl ?_
          refine z_aload_n (i := 0) (q := 35) hX dX10_condition_34 rfl rfl rfl ?_
          refine z_V (ci := ciX10) (T := TX10) (N := 2) (na := 0) hX dX10_condition_35 (c_X10_word D A hbn) rfl q1088 q1090 qs22 q134 q1091 (by decide +kernel) ⟨Nat.le_of_ble_eq_true rfl, Nat.le_of_ble_eq_true rfl⟩ rfl rfl (Nat.le_of_ble_eq_true rfl) rfl (by first | exact Nat.le_of_ble_eq_true rfl | (show _ + 4 ≤ 93; omega)) (by first | exact Nat.le_of_ble_eq_true rfl | (show _ + 114 ≤ 977; omega)) (fun H h => ⟨h, h.obE (Or.inr hbn0) rfl⟩) (zXs.out (fun e35 => ?_)) (zPe.out (fun x35 hx35 => ?_))
          · refine zT.ax (fun hx35 => zT.ax (fun hy35 => ?_))
            have hz := rdM_nx hy35.2
            exact zT.out hX (by decide) (by first | exact Nat.le_of_ble_eq_true rfl | (show (_ : Nat) ≤ 93; omega)) (by first | exact Nat.le_of_ble_eq_true rfl | (show (_ : Nat) ≤ 977; omega)) (fun H h => ⟨rfl, if_pos hx35, ⟨hy35.1, hz.2⟩, by have h2 := h.del a30; rw [rdM_dlE n30x.1 n30x.2 hz.1] at h2; exact h2⟩)
          show zG X (_ + 4) (_ + 114) _ 38 _ _
          obtain ⟨k1, k2, k3⟩ := hx35
          refine zG.know (fun H h => h.w_of (it := eO ciX14 [.null]) ((upm_ne _ _ n30x.1).trans (upm_same _ _ _))) (fun hw38 => ?_)
          refine z_C (na := 1) hX dX10_condition_38 (c_X14_init D A ((upm_ne _ _ n30x.1).trans (upm_same _ _ _))) q1117 q1118 q138 q1119 rfl (by decide +kernel) ⟨Nat.le_of_ble_eq_true rfl, Nat.le_of_ble_eq_true rfl⟩ rfl rfl (Nat.le_of_ble_eq_true rfl) rfl (by first | exact Nat.le_of_ble_eq_true rfl | (show _ + 0 ≤ 93; omega)) (by first | exact Nat.le_of_ble_eq_true rfl | (show _ + 0 ≤ 977; omega)) (fun H h => h) (fun E a => zT.no) (zPv.out ?_)
          show zG X (_ + 0) (_ + 0) _ 41 _ _
          exact z_aret hX dX10_condition_41 (by first | exact Nat.le_of_ble_eq_true rfl | (show (_ : Nat) ≤ 93; omega)) (by first | exact Nat.le_of_ble_eq_true rfl | (show (_ : Nat) ≤ 977; omega)) rfl (by first | exact Or.inl ⟨_, rfl⟩ | exact Or.inr ⟨_, rfl⟩) (by first | exact Or.inl rfl | exact Or.inr ⟨_, rfl⟩) (fun H h => ⟨(a30, upm x35.2 a30 (eO ciX14 [.ref x35.1])), rfl, ⟨k2.tr (zLe.up hw38), _, if_neg k1, Or.inr (Or.inl ⟨rfl, x35.1, upm_same _ _ _, zLe.up hw38 _ _ k3⟩)⟩, h.eqv (fun c => congrFun (rdM_dl n30x.1 n30x.2).symm c)⟩)
      · exact absurd h6 (by decide)
    · by_cases q37 : hr s p = 37
      · have hb1 := hb0.up (q := p + 1) (by omega) (hlt1 (by omega))
        rw [cdR_37 q37] at hX
        dsimp only at hX
        refine z_aload_n (i := 0) (q := 1) hX dX10_condition_0 rfl rfl rfl ?_
        refine z_bipush (q := 3) hX dX10_condition_1 (by decide) rfl ?_
        refine z_V (ci := ciX10) (T := TX10) (N := 2) (na := 1) hX dX10_condition_3 (c_X10_takes D A hb0 (by decide)) rfl q1031 q1033 qs17 q134 q1034 (by decide +kernel) ⟨Nat.le_of_ble_eq_true rfl, Nat.le_of_ble_eq_true rfl⟩ rfl rfl (Nat.le_of_ble_eq_true rfl) rfl (by first | exact Nat.le_of_ble_eq_true rfl | (show _ + 0 ≤ 93; omega)) (by first | exact Nat.le_of_ble_eq_true rfl | (show _ + 0 ≤ 977; omega)) (fun H h => ⟨h, h.obE (Or.inr h1) rfl⟩) (fun E a => zT.no) (zPd.out ?_)
        show zG X (_ + 0) (_ + 0) _ 6 _ _
        rw [decide_eq_false q35, if_neg q35, hb0.self]
        refine z_ifB_eq (q := 9) (t := 21) hX dX10_condition_6 (by decide) rfl (fun h6 => ?_) (fun h6 => ?_)
        · refine z_aload_n (i := 0) (q := 22) hX dX10_condition_21 rfl rfl rfl ?_
          refine z_bipush (q := 24) hX dX10_condition_22 (by decide) rfl ?_
          refine z_V (ci := ciX10) (T := TX10) (N := 2) (na := 1) hX dX10_condition_24 (c_X10_takes D A hb0 (by decide)) rfl q1031 q1033 qs17 q134 q1034 (by decide +kernel) ⟨Nat.le_of_ble_eq_true rfl, Nat.le_of_ble_eq_true rfl⟩ rfl rfl (Nat.le_of_ble_eq_true rfl) rfl (by first | exact Nat.le_of_ble_eq_true rfl | (show _ + 0 ≤ 93; omega)) (by first | exact Nat.le_of_ble_eq_true rfl | (show _ + 0 ≤ 977; omega)) (fun H h => ⟨h, h.obE (Or.inr h1) rfl⟩) (fun E a => zT.no) (zPd.out ?_)
          show zG X (_ + 0) (_ + 0) _ 27 _ _
          rw [decide_eq_false q36, if_neg q36, hb0.self]
          refine z_ifB_eq (q := 30) (t := 42) hX dX10_condition_27 (by decide) rfl (fun h27 => ?_) (fun h27 => ?_)
          · refine z_aload_n (i := 0) (q := 43) hX dX10_condition_42 rfl rfl rfl ?_
            refine z_bipush (q := 45) hX dX10_condition_43 (by decide) rfl ?_
            refine z_V (ci := ciX10) (T := TX10) (N := 2) (na := 1) hX dX10_condition_45 (c_X10_takes D A hb0 (by decide)) rfl q1031 q1033 qs17 q134 q1034 (by decide +kernel) ⟨Nat.le_of_ble_eq_true rfl, Nat.le_of_ble_eq_true rfl⟩ rfl rfl (Nat.le_of_ble_eq_true rfl) rfl (by first | exact Nat.le_of_ble_eq_true rfl | (show _ + 0 ≤ 93; omega)) (by first | exact Nat.le_of_ble_eq_true rfl | (show _ + 0 ≤ 977; omega)) (fun H h => ⟨h, h.obE (Or.inr h1) rfl⟩) (fun E a => zT.no) (zPd.out ?_)
            show zG X (_ + 0) (_ + 0) _ 48 _ _
            rw [decide_eq_true q37, if_pos q37]
            refine z_ifB_eq (q := 51) (t := 56) hX dX10_condition_48 (by decide) rfl (fun h48 => ?_) (fun h48 => ?_)
            · exact absurd h48 (by decide)
            · refine z_aload_n (i := 0) (q := 52) hX dX10_condition_51 rfl rfl rfl ?_
              refine z_V (ci := ciX10) (T := TX10) (N := 2) (na := 0) hX dX10_condition_52 (c_X10_comparison D A hb1) rfl q1125 q1127 qs23 q134 q1128 (by decide +kernel) ⟨Nat.le_of_ble_eq_true rfl, Nat.le_of_ble_eq_true rfl⟩ rfl rfl (Nat.le_of_ble_eq_true rfl) rfl (by first | exact Nat.le_of_ble_eq_true rfl | (show _ + 9 ≤ 93; omega)) (by first | exact Nat.le_of_ble_eq_true rfl | (show _ + 59 ≤ 977; omega)) (fun H h => ⟨h, h.obE (Or.inr hb1.1) rfl⟩) (zXs.out (fun e52 => ?_)) (zPe.out (fun x52 hx52 => ?_))
              · refine zT.ax (fun hx52 => ?_)
                exact zT.out hX (by decide) (by first | exact Nat.le_of_ble_eq_true rfl | (show (_ : Nat) ≤ 93; omega)) (by first | exact Nat.le_of_ble_eq_true rfl | (show (_ : Nat) ≤ 977; omega)) (fun H h => ⟨rfl, if_neg hx52, by rw [rdM_M] at h; exact h⟩)
              show zG X (_ + 9) (_ + 59) _ 55 _ _
              exact z_aret hX dX10_condition_55 (by first | exact Nat.le_of_ble_eq_true rfl | (show (_ : Nat) ≤ 93; omega)) (by first | exact Nat.le_of_ble_eq_true rfl | (show (_ : Nat) ≤ 977; omega)) rfl (by first | exact Or.inl ⟨_, rfl⟩ | exact Or.inr ⟨_, rfl⟩) (by first | exact Or.inl rfl | exact Or.inr ⟨_, rfl⟩) (fun H h => ⟨(x52, _), rfl, ⟨zLe.up hx52.2, _, if_pos hx52.1, Or.inr (Or.inr ⟨rfl, upm_same _ _ _, (cmp_ok hx52.1.1).1, (cmp_ok hx52.1.1).2, nuV_R _ _⟩)⟩, by rw [rdM_M] at h; exact h⟩)
          · exact absurd h27 (by decide)
        · exact absurd h6 (by decide)
      · by_cases q33 : hr s p = 33
        · have hb1 := hb0.up (q := p + 1) (by omega) (hlt1 (by omega))
          rw [cdR_33 q33] at hX
          dsimp only at hX
          refine z_aload_n (i := 0) (q := 1) hX dX10_condition_0 rfl rfl rfl ?_
          refine z_bipush (q := 3) hX dX10_condition_1 (by decide) rfl ?_
          refine z_V (ci := ciX10) (T := TX10) (N := 2) (na := 1) hX dX10_condition_3 (c_X10_takes D A hb0 (by decide)) rfl q1031 q1033 qs17 q134 q1034 (by decide +kernel) ⟨Nat.le_of_ble_eq_true rfl, Nat.le_of_ble_eq_true rfl⟩ rfl rfl (Nat.le_of_ble_eq_true rfl) rfl (by first | exact Nat.le_of_ble_eq_true rfl | (show _ + 0 ≤ 93; omega)) (by first | exact Nat.le_of_ble_eq_true rfl | (show _ + 0 ≤ 977; omega)) (fun H h => ⟨h, h.obE (Or.inr h1) rfl⟩) (fun E a => zT.no) (zPd.out ?_)
          show zG X (_ + 0) (_ + 0) _ 6 _ _
          rw [decide_eq_false q35, if_neg q35, hb0.self]
          refine z_ifB_eq (q := 9) (t := 21) hX dX10_condition_6 (by decide) rfl (fun h6 => ?_) (fun h6 => ?_)
          · refine z_aload_n (i := 0) (q := 22) hX dX10_condition_21 rfl rfl rfl ?_
            refine z_bipush (q := 24) hX dX10_condition_22 (by decide) rfl ?_
            refine z_V (ci := ciX10) (T := TX10) (N := 2) (na := 1) hX dX10_condition_24 (c_X10_takes D A hb0 (by decide)) rfl q1031 q1033 qs17 q134 q1034 (by decide +kernel) ⟨Nat.le_of_ble_eq_true rfl, Nat.le_of_ble_eq_true rfl⟩ rfl rfl (Nat.le_of_ble_eq_true rfl) rfl (by first | exact Nat.le_of_ble_eq_true rfl | (show _ + 0 ≤ 93; omega)) (by first | exact Nat.le_of_ble_eq_true rfl | (show _ + 0 ≤ 977; omega)) (fun H h => ⟨h, h.obE (Or.inr h1) rfl⟩) (fun E a => zT.no) (zPd.out ?_)
            show zG X (_ + 0) (_ + 0) _ 27 _ _
            rw [decide_eq_false q36, if_neg q36, hb0.self]
            refine z_ifB_eq (q := 30) (t := 42) hX dX10_condition_27 (by decide) rfl (fun h27 => ?_) (fun h27 => ?_)
            · refine z_aload_n (i := 0) (q := 43) hX dX10_condition_42 rfl rfl rfl ?_
              refine z_bipush (q := 45) hX dX10_condition_43 (by decide) rfl ?_
              refine z_V (ci := ciX10) (T := TX10) (N := 2) (na := 1) hX dX10_condition_45 (c_X10_takes D A hb0 (by decide)) rfl q1031 q1033 qs17 q134 q1034 (by decide +kernel) ⟨Nat.le_of_ble_eq_true rfl, Nat.le_of_ble_eq_true rfl⟩ rfl rfl (Nat.le_of_ble_eq_true rfl) rfl (by first | exact Nat.le_of_ble_eq_true rfl | (show _ + 0 ≤ 93; omega)) (by first | exact Nat.le_of_ble_eq_true rfl | (show _ + 0 ≤ 977; omega)) (fun H h => ⟨h, h.obE (Or.inr h1) rfl⟩) (fun E a => zT.no) (zPd.out ?_)
              show zG X (_ + 0) (_ + 0) _ 48 _ _
              rw [decide_eq_false q37, if_neg q37, hb0.self]
              refine z_ifB_eq (q := 51) (t := 56) hX dX10_condition_48 (by decide) rfl (fun h48 => ?_) (fun h48 => ?_)
              · refine z_aload_n (i := 0) (q := 57) hX dX10_condition_56 rfl rfl rfl ?_
                refine z_iload_n (i := 1) (q := 58) hX dX10_condition_57 rfl rfl rfl ?_
                refine z_iconst (q := 59) hX dX10_condition_58 rfl ?_
                refine z_icmp_ge (q := 62) (t := 75) hX dX10_condition_59 (by decide) (by decide) (by decide) rfl (fun h59 => ?_) (fun h59 => ?_)
                · exact absurd h59 (by decide)
                · refine z_aload_n (i := 0) (q := 63) hX dX10_condition_62 rfl rfl rfl ?_
                  refine z_bipush (q := 65) hX dX10_condition_63 (by decide) rfl ?_
                  refine z_V (ci := ciX10) (T := TX10) (N := 2) (na := 1) hX dX10_condition_65 (c_X10_takes D A hb0 (by decide)) rfl q1031 q1033 qs17 q134 q1034 (by decide +kernel) ⟨Nat.le_of_ble_eq_true rfl, Nat.le_of_ble_eq_true rfl⟩ rfl rfl (Nat.le_of_ble_eq_true rfl) rfl (by first | exact Nat.le_of_ble_eq_true rfl | (show _ + 0 ≤ 93; omega)) (by first | exact Nat.le_of_ble_eq_true rfl | (show _ + 0 ≤ 977; omega)) (fun H h => ⟨h, h.obE (Or.inr h1) rfl⟩) (fun E a => zT.no) (zPd.out ?_)
                  show zG X (_ + 0) (_ + 0) _ 68 _ _
                  rw [decide_eq_true q33, if_pos q33]
                  refine z_ifB_eq (q := 71) (t := 75) hX dX10_condition_68 (by decide) rfl (fun h68 => ?_) (fun h68 => ?_)
                  · exact absurd h68 (by decide)
                  · refine z_iconst (q := 72) hX dX10_condition_71 rfl ?_
                    refine z_goto (t := 76) hX dX10_condition_72 (by decide) ?_
                    refine z_V (ci := ciX10) (T := TX10) (N := 2) (na := 1) hX dX10_condition_76 (c_X10_need D A (c := true) hb1) rfl q1052 q1054 qs21 q134 q1055 (by decide +kernel) ⟨Nat.le_of_ble_eq_true rfl, Nat.le_of_ble_eq_true rfl⟩ rfl rfl (Nat.le_of_ble_eq_true rfl) rfl (by first | exact Nat.le_of_ble_eq_true rfl | (show _ + 1 ≤ 93; omega)) (by first | exact Nat.le_of_ble_eq_true rfl | (show _ + 7 ≤ 977; omega)) (fun H h => ⟨h, h.obE (Or.inr hb1.1) rfl⟩) (zXs.out (fun e76 => ?_)) (zPe.out (fun x76 hx76 => ?_))
                    · refine zT.ax (fun hx76 => ?_)
                      cases hx76
                    show zG X (_ + 1) (_ + 7) _ 79 _ _
                    refine zc_new (q := 82) (fs := [.null]) (C := RX16) (T := TX16) (N := 1) hX ciX16 rfl in_X16 tyX16_ok dX10_condition_79 q1145 q1146 q140 (fun j hj => by match j, hj with | 0, _ => rfl | (_ + 1), h => exact absurd h (by omega)) (by first | exact Nat.le_of_ble_eq_true rfl | (show _ + 1 ≤ 93; omega)) (by first | exact Nat.le_of_ble_eq_true rfl | (show _ + 1 ≤ 977; omega)) rfl (fun a79 ha79 hb79 => ?_)
                    have n79 := hb79
                    try simp only [upm_none] at n79
                    repeat (have := And.left n79; replace n79 := And.right n79)
                    have hbn := hb1.new (x := eO ciX16 [.null]) hb79
                    have hbn0 := hbn.1
                    have n79x := rdM_n hb79
                    refine z_dup (q := 83) hX dX10_condition_82 rfl rfl ?_
                    refine z_aload_n (i := 0) (q := 84) hX dX10_condition_83 rfl rfl rfl ?_
                    refine z_iload_n (i := 1) (q := 85) hX dX10_condition_84 rfl rfl rfl ?_
                    refine z_iconst (q := 86) hX dX10_condition_85 rfl ?_
                    refine z_iadd (q := 87) hX dX10_condition_86 rfl ?_
                    refine zG.top (v2 := zI 1) (by rfl) ?_
                    refine z_V (ci := ciX10) (T := TX10) (N := 2) (na := 1) hX dX10_condition_87 (c_X10_condition_1 D A hbn) rfl q1027 q1029 qs16 q134 q1030 (by decide +kernel) ⟨Nat.le_of_ble_eq_true rfl, Nat.le_of_ble_eq_true rfl⟩ rfl rfl (Nat.le_of_ble_eq_true rfl) rfl (by first | exact Nat.le_of_ble_eq_true rfl | (show _ + 74 ≤ 93; omega)) (by first | exact Nat.le_of_ble_eq_true rfl | (show _ + 780 ≤ 977; omega)) (fun H h => ⟨h, h.obE (Or.inr hbn0) rfl⟩) (zXs.out (fun e87 => ?_)) (zPe.out (fun x87 hx87 => ?_))
                    · refine zT.ax (fun hx87 => zT.ax (fun hy87 => ?_))
                      have hz := rdM_nx hy87.2
                      exact zT.out hX (by decide) (by first | exact Nat.le_of_ble_eq_true rfl | (show (_ : Nat) ≤ 93; omega)) (by first | exact Nat.le_of_ble_eq_true rfl | (show (_ : Nat) ≤ 977; omega)) (fun H h => ⟨rfl, by rw [hx87]; rfl, ⟨hy87.1, hz.2⟩, by have h2 := h.del a79; rw [rdM_dlE n79x.1 n79x.2 hz.1] at h2; exact h2⟩)
                    show zG X (_ + 74) (_ + 780) _ 90 _ _
                    obtain ⟨k1, c9, k2, k3⟩ := hx87
                    refine zG.know (fun H h => h.w_of (it := eO ciX16 [.null]) ((upm_ne _ _ n79x.1).trans (upm_same _ _ _))) (fun hw90 => ?_)
                    refine z_C (na := 1) hX dX10_condition_90 (c_X16_init D A ((upm_ne _ _ n79x.1).trans (upm_same _ _ _))) q1147 q1148 q140 q1149 rfl (by decide +kernel) ⟨Nat.le_of_ble_eq_true rfl, Nat.le_of_ble_eq_true rfl⟩ rfl rfl (Nat.le_of_ble_eq_true rfl) rfl (by first | exact Nat.le_of_ble_eq_true rfl | (show _ + 0 ≤ 93; omega)) (by first | exact Nat.le_of_ble_eq_true rfl | (show _ + 0 ≤ 977; omega)) (fun H h => h) (fun E a => zT.no) (zPv.out ?_)
                    show zG X (_ + 0) (_ + 0) _ 93 _ _
                    exact z_aret hX dX10_condition_93 (by first | exact Nat.le_of_ble_eq_true rfl | (show (_ : Nat) ≤ 93; omega)) (by first | exact Nat.le_of_ble_eq_true rfl | (show (_ : Nat) ≤ 977; omega)) rfl (by first | exact Or.inl ⟨_, rfl⟩ | exact Or.inr ⟨_, rfl⟩) (by first | exact Or.inl rfl | exact Or.inr ⟨_, rfl⟩) (fun H h => ⟨(a79, upm x87.2 a79 (eO ciX16 [.ref x87.1])), rfl, ⟨k1.tr (zLe.up hw90), (c9.1 + 1, c9.2), by rw [k2]; rfl, ⟨x87.1, upm_same _ _ _, wCnN.le (zLe.up hw90) k3⟩⟩, h.eqv (fun c => congrFun (rdM_dl n79x.1 n79x.2).symm c)⟩)
              · exact absurd h48 (by decide)
            · exact absurd h27 (by decide)
          · exact absurd h6 (by decide)
        · rw [cdR_no q35 q36 q37 q33] at hX
          dsimp only at hX
          rw [hb0.self] at hX
          refine z_aload_n (i := 0) (q := 1) hX dX10_condition_0 rfl rfl rfl ?_
          refine z_bipush (q := 3) hX dX10_condition_1 (by decide) rfl ?_
          refine z_V (ci := ciX10) (T := TX10) (N := 2) (na := 1) hX dX10_condition_3 (c_X10_takes D A hb0 (by decide)) rfl q1031 q1033 qs17 q134 q1034 (by decide +kernel) ⟨Nat.le_of_ble_eq_true rfl, Nat.le_of_ble_eq_true rfl⟩ rfl rfl (Nat.le_of_ble_eq_true rfl) rfl (by first | exact Nat.le_of_ble_eq_true rfl | (show _ + 0 ≤ 93; omega)) (by first | exact Nat.le_of_ble_eq_true rfl | (show _ + 0 ≤ 977; omega)) (fun H h => ⟨h, h.obE (Or.inr h1) rfl⟩) (fun E a => zT.no) (zPd.out ?_)
          show zG X (_ + 0) (_ + 0) _ 6 _ _
          rw [decide_eq_false q35, if_neg q35, hb0.self]
          refine z_ifB_eq (q := 9) (t := 21) hX dX10_condition_6 (by decide) rfl (fun h6 => ?_) (fun h6 => ?_)
          · refine z_aload_n (i := 0) (q := 22) hX dX10_condition_21 rfl rfl rfl ?_
            refine z_bipush (q := 24) hX dX10_condition_22 (by decide) rfl ?_
            refine z_V (ci := ciX10) (T := TX10) (N := 2) (na := 1) hX dX10_condition_24 (c_X10_takes D A hb0 (by decide)) rfl q1031 q1033 qs17 q134 q1034 (by decide +kernel) ⟨Nat.le_of_ble_eq_true rfl, Nat.le_of_ble_eq_true rfl⟩ rfl rfl (Nat.le_of_ble_eq_true rfl) rfl (by first | exact Nat.le_of_ble_eq_true rfl | (show _ + 0 ≤ 93; omega)) (by first | exact Nat.le_of_ble_eq_true rfl | (show _ + 0 ≤ 977; omega)) (fun H h => ⟨h, h.obE (Or.inr h1) rfl⟩) (fun E a => zT.no) (zPd.out ?_)
            show zG X (_ + 0) (_ + 0) _ 27 _ _
            rw [decide_eq_false q36, if_neg q36, hb0.self]
            refine z_ifB_eq (q := 30) (t := 42) hX dX10_condition_27 (by decide) rfl (fun h27 => ?_) (fun h27 => ?_)
            · refine z_aload_n (i := 0) (q := 43) hX dX10_condition_42 rfl rfl rfl ?_
              refine z_bipush (q := 45) hX dX10_condition_43 (by decide) rfl ?_
              refine z_V (ci := ciX10) (T := TX10) (N := 2) (na := 1) hX dX10_condition_45 (c_X10_takes D A hb0 (by decide)) rfl q1031 q1033 qs17 q134 q1034 (by decide +kernel) ⟨Nat.le_of_ble_eq_true rfl, Nat.le_of_ble_eq_true rfl⟩ rfl rfl (Nat.le_of_ble_eq_true rfl) rfl (by first | exact Nat.le_of_ble_eq_true rfl | (show _ + 0 ≤ 93; omega)) (by first | exact Nat.le_of_ble_eq_true rfl | (show _ + 0 ≤ 977; omega)) (fun H h => ⟨h, h.obE (Or.inr h1) rfl⟩) (fun E a => zT.no) (zPd.out ?_)
              show zG X (_ + 0) (_ + 0) _ 48 _ _
              rw [decide_eq_false q37, if_neg q37, hb0.self]
              refine z_ifB_eq (q := 51) (t := 56) hX dX10_condition_48 (by decide) rfl (fun h48 => ?_) (fun h48 => ?_)
              · refine z_aload_n (i := 0) (q := 57) hX dX10_condition_56 rfl rfl rfl ?_
                refine z_iload_n (i := 1) (q := 58) hX dX10_condition_57 rfl rfl rfl ?_
                refine z_iconst (q := 59) hX dX10_condition_58 rfl ?_
                refine z_icmp_ge (q := 62) (t := 75) hX dX10_condition_59 (by decide) (by decide) (by decide) rfl (fun h59 => ?_) (fun h59 => ?_)
                · exact absurd h59 (by decide)
                · refine z_aload_n (i := 0) (q := 63) hX dX10_condition_62 rfl rfl rfl ?_
                  refine z_bipush (q := 65) hX dX10_condition_63 (by decide) rfl ?_
                  refine z_V (ci := ciX10) (T := TX10) (N := 2) (na := 1) hX dX10_condition_65 (c_X10_takes D A hb0 (by decide)) rfl q1031 q1033 qs17 q134 q1034 (by decide +kernel) ⟨Nat.le_of_ble_eq_true rfl, Nat.le_of_ble_eq_true rfl⟩ rfl rfl (Nat.le_of_ble_eq_true rfl) rfl (by first | exact Nat.le_of_ble_eq_true rfl | (show _ + 0 ≤ 93; omega)) (by first | exact Nat.le_of_ble_eq_true rfl | (show _ + 0 ≤ 977; omega)) (fun H h => ⟨h, h.obE (Or.inr h1) rfl⟩) (fun E a => zT.no) (zPd.out ?_)
                  show zG X (_ + 0) (_ + 0) _ 68 _ _
                  rw [decide_eq_false q33, if_neg q33, hb0.self]
                  refine z_ifB_eq (q := 71) (t := 75) hX dX10_condition_68 (by decide) rfl (fun h68 => ?_) (fun h68 => ?_)
                  · refine z_iconst (q := 76) hX dX10_condition_75 rfl ?_
                    refine z_V (ci := ciX10) (T := TX10) (N := 2) (na := 1) hX dX10_condition_76 (c_X10_need D A (c := false) hb0) rfl q1052 q1054 qs21 q134 q1055 (by decide +kernel) ⟨Nat.le_of_ble_eq_true rfl, Nat.le_of_ble_eq_true rfl⟩ rfl rfl (Nat.le_of_ble_eq_true rfl) rfl (by first | exact Nat.le_of_ble_eq_true rfl | (show _ + 1 ≤ 93; omega)) (by first | exact Nat.le_of_ble_eq_true rfl | (show _ + 7 ≤ 977; omega)) (fun H h => ⟨h, h.obE (Or.inr h1) rfl⟩) (zXs.out (fun e76 => ?_)) (zPe.out (fun x76 hx76 => ?_))
                    · refine zT.ax (fun hx76 => ?_)
                      exact zT.out hX (by decide) (by first | exact Nat.le_of_ble_eq_true rfl | (show (_ : Nat) ≤ 93; omega)) (by first | exact Nat.le_of_ble_eq_true rfl | (show (_ : Nat) ≤ 977; omega)) (fun H h => ⟨rfl, rfl, h⟩)
                    show zG X (_ + 1) (_ + 7) _ 79 _ _
                    cases hx76
                  · exact absurd h68 (by decide)
              · exact absurd h48 (by decide)
            · exact absurd h27 (by decide)
          · exact absurd h6 (by decide)
