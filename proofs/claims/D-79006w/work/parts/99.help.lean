/-! THE LAW: the helpers, each a call of the compactor caught (printed by gen/mkhelp.py) -/
set_option maxRecDepth 100000
abbrev rmX0_feed : Room := { frames := 8, cells := 2, slots := 12, locals := 141 }
set_option maxHeartbeats 4000000 in
theorem c_X0_feed (D : zD) (A : Nat → Prop) {w m : zMp} {K : Nat → Prop} {M : Int → Int} {ps : List (Int → Int)} {sv : Option (Int → Int)} {rp : Option (Int × Int × Int × Int)} {s : zS} {cs : Option (List zCn)} {c : Int} {b aJ : Nat} {j : Int64} (hb : zX1 D w m K b M ps sv rp s cs) (hK : zHk K m) (hc : 0 ≤ c ∧ c < 65536) (hJ : m aJ = some (eJ1 D j)) (hKJ : K aJ) : zC D yX0_feed cX0_feed 4 (some .int) (some [(0, 9, 12, 13)]) rmX0_feed A [.ref b, zI (c), .ref aJ] (cI D A w m) (zPe (fun (u9 : zMp × zMp × Int) => some (zI u9.2.2)) (fun u9 => lSt D w m K b aJ 0 (s.length < 60) (fun u8 => u8 = (Int32.ofInt ((s.length : Int) + 1)).toInt64) M ps sv rp (s ++ [c]) cs u9 ∨ lSt D w m K b aJ 1 (s.length = 60) (fun _ => True) M ps sv rp s cs u9) (fun u9 => cI D A u9.1 u9.2.1)) (zNo) := by
  refine zC_startH (L := [some (.ref b), some (zI (c)), some (.ref aJ), none]) (by decide) (Nat.le_of_ble_eq_true rfl) rfl (fun X hX => ?_)
  have hb0 := hb
  obtain ⟨lg, hl1, ia, sa, ra, ca, p1, -⟩ := hb
  refine z_aload_n (i := 2) (q := 1) hX dX0_feed_0 rfl rfl rfl ?_
  refine z_iconst (q := 2) hX dX0_feed_1 rfl ?_
  refine z_aload_n (i := 0) (q := 3) hX dX0_feed_2 rfl rfl rfl ?_
  refine z_iload_n (i := 1) (q := 4) hX dX0_feed_3 rfl rfl rfl ?_
  refine z_V (ci := ciX1) (T := TX1) (N := 7) (na := 1) hX dX0_feed_4 (c_X1_feed D A hb0 hK hc) rfl q1278 q1279 q1280 q97 q1281 (by decide +kernel) ⟨Nat.le_of_ble_eq_true rfl, Nat.le_of_ble_eq_true rfl⟩ rfl rfl (Nat.le_of_ble_eq_true rfl) rfl (by first | exact Nat.le_of_ble_eq_true rfl | (show _ + 2 ≤ 2; omega)) (by first | exact Nat.le_of_ble_eq_true rfl | (show _ + 12 ≤ 12; omega)) (fun H h => ⟨h, h.obE (Or.inr p1) rfl⟩) (zXs.out (fun e4 => ?_)) (zPe.out (fun x4 hx4 => ?_))
  · refine zT.ax (fun hφ => zT.ex (fun w9 => zT.ex (fun m9 => zT.ax (fun hw9 => zT.ax (fun hf9 => zT.ax (fun hb9 => ?_))))))
    refine zT.catch hX [] _ [] rfl (fun z hz => by cases hz) (by decide) (by decide) q1277 (zCs_at 37 rfl) rfl ?_
    refine z_astore_n (i := 3) (q := 13) hX dX0_feed_12 rfl (Nat.le_of_ble_eq_true rfl) rfl rfl ?_
    refine z_iconst (q := 14) hX dX0_feed_13 rfl ?_
    exact z_iret hX dX0_feed_14 (by first | exact Nat.le_of_ble_eq_true rfl | (show (_ : Nat) ≤ 2; omega)) (by first | exact Nat.le_of_ble_eq_true rfl | (show (_ : Nat) ≤ 12; omega)) rfl (fun H h => ⟨(w9, m9, 1), rfl, Or.inr (lSt.no hφ hw9 hf9 hb9 hKJ hJ (fun _ => trivial)), h⟩)
  show zG X (_ + 2) (_ + 12) _ 7 _ _
  obtain ⟨hφ, hw9, hf9, hb9⟩ := hx4
  refine z_i2lR (q := 8) hX dX0_feed_7 rfl ?_
  refine zc_last1 (q := 9) hX dX0_feed_8 ((hf9 _ hKJ).trans hJ) rfl ?_
  refine z_goto (t := 15) hX dX0_feed_9 (by decide) ?_
  refine z_iconst (q := 16) hX dX0_feed_15 rfl ?_
  exact z_iret hX dX0_feed_16 (by first | exact Nat.le_of_ble_eq_true rfl | (show (_ : Nat) ≤ 2; omega)) (by first | exact Nat.le_of_ble_eq_true rfl | (show (_ : Nat) ≤ 12; omega)) rfl (fun H h => ⟨(x4.1, _, 0), rfl, Or.inl (lSt.ok hφ hw9 hf9 hb9 hKJ), h⟩)
abbrev rmX0_add : Room := { frames := 11, cells := 2200, slots := 20000, locals := 268 }
set_option maxHeartbeats 4000000 in
theorem c_X0_add (D : zD) (A : Nat → Prop) {w m : zMp} {K : Nat → Prop} {M : Int → Int} {ps : List (Int → Int)} {sv : Option (Int → Int)} {rp : Option (Int × Int × Int × Int)} {s : zS} {cs : Option (List zCn)} {b aJ : Nat} {j : Int64} (hb : zX1 D w m K b M ps sv rp s cs) (hK : zHk K m) (hJ : m aJ = some (eJ1 D j)) (hKJ : K aJ) : zC D yX0_add cX0_add 3 (some .int) (some [(0, 8, 11, 19), (0, 8, 14, 13), (0, 8, 17, 21)]) rmX0_add A [.ref b, .ref aJ] (cI D A w m) (zPe (fun (u9 : zMp × zMp × Int) => some (zI u9.2.2)) (fun u9 => lSt D w m K b aJ 0 (adC M s = 0) (fun u8 => u8 = (Int32.ofInt (takM (rwS M s) (M 0))).toInt64) (addM (rwS M s) (takM (rwS M s) (M 0))) (psA ps M) sv rp [] cs u9 ∨ lSt D w m K b aJ 1 (adC M s = 1) (fun _ => True) M ps sv rp [] cs u9 ∨ lSt D w m K b aJ 2 (adC M s = 2) (fun _ => True) M ps sv rp [] cs u9 ∨ lSt D w m K b aJ 3 (adC M s = 3) (fun _ => True) M ps sv (some (1, M 0, 11, 12)) [] cs u9) (fun u9 => cI D A u9.1 u9.2.1)) (zNo) := by
  refine zC_startH (L := [some (.ref b), some (.ref aJ), none]) (by decide) (Nat.le_of_ble_eq_true rfl) rfl (fun X hX => ?_)
  have hb0 := hb
  obtain ⟨lg, hl1, ia, sa, ra, ca, p1, -⟩ := hb
  refine z_aload_n (i := 1) (q := 1) hX dX0_add_0 rfl rfl rfl ?_
  refine z_iconst (q := 2) hX dX0_add_1 rfl ?_
  refine z_aload_n (i := 0) (q := 3) hX dX0_add_2 rfl rfl rfl ?_
  refine z_VW (ci := ciX1) (T := TX1) (N := 7) (na := 0) hX dX0_add_3 (c_X1_add D A hb0 hK) rfl q1305 q1306 q1307 q97 q1308 (by decide +kernel) ⟨Nat.le_of_ble_eq_true rfl, Nat.le_of_ble_eq_true rfl⟩ rfl rfl (Nat.le_of_ble_eq_true rfl) rfl (by first | exact Nat.le_of_ble_eq_true rfl | (show _ + 2200 ≤ 2200; omega)) (by first | exact Nat.le_of_ble_eq_true rfl | (show _ + 20000 ≤ 20000; omega)) (fun H h => ⟨h, h.obE (Or.inr p1) rfl⟩) ?_ (zPe.out (fun x3 hx3 => ?_))
  · refine zXo.out (zXs.out (fun e3 => ?_)) (zXo.out (zXs.out (fun e3 => ?_)) (zXs.out (fun e3 => ?_)))
    · refine zT.ax (fun hφ => zT.ex (fun w9 => zT.ex (fun m9 => zT.ax (fun hw9 => zT.ax (fun hf9 => zT.ax (fun hb9 => ?_))))))
      refine zT.catch hX [] _ [_, _] rfl (fun z hz => by cases hz) (by decide) (by decide) q1303 (zCs_at 35 rfl) rfl ?_
      refine z_astore_n (i := 2) (q := 12) hX dX0_add_11 rfl (Nat.le_of_ble_eq_true rfl) rfl rfl ?_
      refine z_iconst (q := 13) hX dX0_add_12 rfl ?_
      exact z_iret hX dX0_add_13 (by first | exact Nat.le_of_ble_eq_true rfl | (show (_ : Nat) ≤ 2200; omega)) (by first | exact Nat.le_of_ble_eq_true rfl | (show (_ : Nat) ≤ 20000; omega)) rfl (fun H h => ⟨(w9, m9, 1), rfl, Or.inr (Or.inl (lSt.no hφ hw9 hf9 hb9 hKJ hJ (fun _ => trivial))), h⟩)
    · refine zT.ax (fun hφ => zT.ex (fun w9 => zT.ex (fun m9 => zT.ax (fun hw9 => zT.ax (fun hf9 => zT.ax (fun hb9 => ?_))))))
      refine zT.catch hX [_] _ [_] rfl (fun z hz => by rw [List.mem_singleton] at hz; subst hz; exact Or.inr ⟨by decide, _, q1303, List.mem_of_getElem? (i := 0) rfl⟩) (by decide) (by decide) q1277 (zCs_at 37 rfl) rfl ?_
      refine z_astore_n (i := 2) (q := 15) hX dX0_add_14 rfl (Nat.le_of_ble_eq_true rfl) rfl rfl ?_
      refine z_iconst (q := 16) hX dX0_add_15 rfl ?_
      exact z_iret hX dX0_add_16 (by first | exact Nat.le_of_ble_eq_true rfl | (show (_ : Nat) ≤ 2200; omega)) (by first | exact Nat.le_of_ble_eq_true rfl | (show (_ : Nat) ≤ 20000; omega)) rfl (fun H h => ⟨(w9, m9, 2), rfl, Or.inr (Or.inr (Or.inl (lSt.no hφ hw9 hf9 hb9 hKJ hJ (fun _ => trivial)))), h⟩)
    · refine zT.ax (fun hφ => zT.ex (fun w9 => zT.ex (fun m9 => zT.ax (fun hw9 => zT.ax (fun hf9 => zT.ax (fun hb9 => ?_))))))
      refine zT.catch hX [_, _] _ [] rfl (fun z hz => (List.mem_cons.mp hz).elim (fun hz => by subst hz; exact Or.inr ⟨by decide, _, q1303, List.mem_of_getElem? (i := 1) rfl⟩) (fun hz => by rw [List.mem_singleton] at hz; subst hz; exact Or.inr ⟨by decide, _, q1277, List.mem_of_getElem? (i := 2) rfl⟩)) (by decide) (by decide) q1304 (zCs_at 46 rfl) rfl ?_
      refine z_astore_n (i := 2) (q := 18) hX dX0_add_17 rfl (Nat.le_of_ble_eq_true rfl) rfl rfl ?_
      refine z_iconst (q := 19) hX dX0_add_18 rfl ?_
      exact z_iret hX dX0_add_19 (by first | exact Nat.le_of_ble_eq_true rfl | (show (_ : Nat) ≤ 2200; omega)) (by first | exact Nat.le_of_ble_eq_true rfl | (show (_ : Nat) ≤ 20000; omega)) rfl (fun H h => ⟨(w9, m9, 3), rfl, Or.inr (Or.inr (Or.inr (lSt.no hφ hw9 hf9 hb9 hKJ hJ (fun _ => trivial)))), h⟩)
  show zG X (_ + 2200) (_ + 20000) _ 6 _ _
  obtain ⟨hφ, hw9, hf9, hb9⟩ := hx3
  refine z_i2lR (q := 7) hX dX0_add_6 rfl ?_
  refine zc_last1 (q := 8) hX dX0_add_7 ((hf9 _ hKJ).trans hJ) rfl ?_
  refine z_goto (t := 20) hX dX0_add_8 (by decide) ?_
  refine z_iconst (q := 21) hX dX0_add_20 rfl ?_
  exact z_iret hX dX0_add_21 (by first | exact Nat.le_of_ble_eq_true rfl | (show (_ : Nat) ≤ 2200; omega)) (by first | exact Nat.le_of_ble_eq_true rfl | (show (_ : Nat) ≤ 20000; omega)) rfl (fun H h => ⟨(x3.1, _, 0), rfl, Or.inl (lSt.ok hφ hw9 hf9 hb9 hKJ), h⟩)
abbrev rmX0_count : Room := { frames := 12, cells := 2, slots := 10, locals := 265 }
set_option maxHeartbeats 4000000 in
theorem c_X0_count (D : zD) (A : Nat → Prop) {w m : zMp} {K : Nat → Prop} {M : Int → Int} {ps : List (Int → Int)} {sv : Option (Int → Int)} {rp : Option (Int × Int × Int × Int)} {s : zS} {cs : Option (List zCn)} {v : Int} {b aJ : Nat} {j : Int64} (hb : zX1 D w m K b M ps sv rp s cs) (hK : zHk K m) (hv : zR v) (hJ : m aJ = some (eJ1 D j)) (hKJ : K aJ) : zC D yX0_count cX0_count 4 (some .int) (some [(0, 9, 12, 19)]) rmX0_count A [.ref b, zI (v), .ref aJ] (cI D A w m) (zPe (fun (u9 : zMp × zMp × Int) => some (zI u9.2.2)) (fun u9 => lSt D w m K b aJ 0 ((opCount M v).1 = 0) (fun u8 => u8 = (Int32.ofInt (opCount M v).2).toInt64) M ps sv rp s cs u9 ∨ lSt D w m K b aJ 1 ((opCount M v).1 = 1) (fun _ => True) M ps sv rp s cs u9) (fun u9 => cI D A u9.1 u9.2.1)) (zNo) := by
  refine zC_startH (L := [some (.ref b), some (zI (v)), some (.ref aJ), none]) (by decide) (Nat.le_of_ble_eq_true rfl) rfl (fun X hX => ?_)
  have hb0 := hb
  obtain ⟨lg, hl1, ia, sa, ra, ca, p1, -⟩ := hb
  refine z_aload_n (i := 2) (q := 1) hX dX0_count_0 rfl rfl rfl ?_
  refine z_iconst (q := 2) hX dX0_count_1 rfl ?_
  refine z_aload_n (i := 0) (q := 3) hX dX0_count_2 rfl rfl rfl ?_
  refine z_iload_n (i := 1) (q := 4) hX dX0_count_3 rfl rfl rfl ?_
  refine z_V (ci := ciX1) (T := TX1) (N := 7) (na := 1) hX dX0_count_4 (c_X1_count D A hb0 hK hv) rfl q1482 q1483 q1484 q97 q1485 (by decide +kernel) ⟨Nat.le_of_ble_eq_true rfl, Nat.le_of_ble_eq_true rfl⟩ rfl rfl (Nat.le_of_ble_eq_true rfl) rfl (by first | exact Nat.le_of_ble_eq_true rfl | (show _ + 2 ≤ 2; omega)) (by first | exact Nat.le_of_ble_eq_true rfl | (show _ + 10 ≤ 10; omega)) (fun H h => ⟨h, h.obE (Or.inr p1) rfl⟩) (zXs.out (fun e4 => ?_)) (zPe.out (fun x4 hx4 => ?_))
  · refine zT.ax (fun hφ => zT.ex (fun w9 => zT.ex (fun m9 => zT.ax (fun hw9 => zT.ax (fun hf9 => zT.ax (fun hb9 => ?_))))))
    refine zT.catch hX [] _ [] rfl (fun z hz => by cases hz) (by decide) (by decide) q1303 (zCs_at 35 rfl) rfl ?_
    refine z_astore_n (i := 3) (q := 13) hX dX0_count_12 rfl (Nat.le_of_ble_eq_true rfl) rfl rfl ?_
    refine z_iconst (q := 14) hX dX0_count_13 rfl ?_
    exact z_iret hX dX0_count_14 (by first | exact Nat.le_of_ble_eq_true rfl | (show (_ : Nat) ≤ 2; omega)) (by first | exact Nat.le_of_ble_eq_true rfl | (show (_ : Nat) ≤ 10; omega)) rfl (fun H h => ⟨(w9, m9, 1), rfl, Or.inr (lSt.no hφ hw9 hf9 hb9 hKJ hJ (fun _ => trivial)), h⟩)
  show zG X (_ + 2) (_ + 10) _ 7 _ _
  obtain ⟨hφ, hw9, hf9, hb9⟩ := hx4
  refine z_i2lR (q := 8) hX dX0_count_7 rfl ?_
  refine zc_last1 (q := 9) hX dX0_count_8 ((hf9 _ hKJ).trans hJ) rfl ?_
  refine z_goto (t := 15) hX dX0_count_9 (by decide) ?_
  refine z_iconst (q := 16) hX dX0_count_15 rfl ?_
  exact z_iret hX dX0_count_16 (by first | exact Nat.le_of_ble_eq_true rfl | (show (_ : Nat) ≤ 2; omega)) (by first | exact Nat.le_of_ble_eq_true rfl | (show (_ : Nat) ≤ 10; omega)) rfl (fun H h => ⟨(x4.1, _, 0), rfl, Or.inl (lSt.ok hφ hw9 hf9 hb9 hKJ), h⟩)
abbrev rmX0_line : Room := { frames := 9, cells := 142, slots := 7012, locals := 202 }
set_option maxHeartbeats 4000000 in
theorem c_X0_line (D : zD) (A : Nat → Prop) {w m : zMp} {K : Nat → Prop} {M : Int → Int} {ps : List (Int → Int)} {sv : Option (Int → Int)} {rp : Option (Int × Int × Int × Int)} {s : zS} {cs : Option (List zCn)} {l i : Int} {b aJ : Nat} {j : Int64} (hb : zX1 D w m K b M ps sv rp s cs) (hK : zHk K m) (hl : zR l) (hi : zR i) (hJ : m aJ = some (eJ1 D j)) (hKJ : K aJ) : zC D yX0_line cX0_line 5 (some .int) (some [(0, 10, 13, 31)]) rmX0_line A [.ref b, zI (l), zI (i), .ref aJ] (cI D A w m) (zPe (fun (u9 : zMp × zMp × Int) => some (zI u9.2.2)) (fun u9 => lSt D w m K b aJ 0 ((opLine M l i).1 = 0) (fun u8 => u8 = (Int32.ofInt (opLine M l i).2).toInt64) M ps sv rp s cs u9 ∨ lSt D w m K b aJ 1 ((opLine M l i).1 = 1) (fun _ => True) M ps sv rp s cs u9) (fun u9 => cI D A u9.1 u9.2.1)) (zNo) := by
  refine zC_startH (L := [some (.ref b), some (zI (l)), some (zI (i)), some (.ref aJ), none]) (by decide) (Nat.le_of_ble_eq_true rfl) rfl (fun X hX => ?_)
  have hb0 := hb
  obtain ⟨lg, hl1, ia, sa, ra, ca, p1, -⟩ := hb
  refine z_aload_n (i := 3) (q := 1) hX dX0_line_0 rfl rfl rfl ?_
  refine z_iconst (q := 2) hX dX0_line_1 rfl ?_
  refine z_aload_n (i := 0) (q := 3) hX dX0_line_2 rfl rfl rfl ?_
  refine z_iload_n (i := 1) (q := 4) hX dX0_line_3 rfl rfl rfl ?_
  refine z_iload_n (i := 2) (q := 5) hX dX0_line_4 rfl rfl rfl ?_
  refine z_V (ci := ciX1) (T := TX1) (N := 7) (na := 2) hX dX0_line_5 (c_X1_line D A hb0 hK hl hi) rfl q1529 q1530 q1531 q97 q1532 (by decide +kernel) ⟨Nat.le_of_ble_eq_true rfl, Nat.le_of_ble_eq_true rfl⟩ rfl rfl (Nat.le_of_ble_eq_true rfl) rfl (by first | exact Nat.le_of_ble_eq_true rfl | (show _ + 142 ≤ 142; omega)) (by first | exact Nat.le_of_ble_eq_true rfl | (show _ + 7012 ≤ 7012; omega)) (fun H h => ⟨h, h.obE (Or.inr p1) rfl⟩) (zXs.out (fun e5 => ?_)) (zPe.out (fun x5 hx5 => ?_))
  · refine zT.ax (fun hφ => zT.ex (fun w9 => zT.ex (fun m9 => zT.ax (fun hw9 => zT.ax (fun hf9 => zT.ax (fun hb9 => ?_))))))
    refine zT.catch hX [] _ [] rfl (fun z hz => by cases hz) (by decide) (by decide) q1513 (zCs_at 39 rfl) rfl ?_
    refine z_astore (q := 15) hX dX0_line_13 (Nat.le_of_ble_eq_true rfl) rfl rfl ?_
    refine z_iconst (q := 16) hX dX0_line_15 rfl ?_
    exact z_iret hX dX0_line_16 (by first | exact Nat.le_of_ble_eq_true rfl | (show (_ : Nat) ≤ 142; omega)) (by first | exact Nat.le_of_ble_eq_true rfl | (show (_ : Nat) ≤ 7012; omega)) rfl (fun H h => ⟨(w9, m9, 1), rfl, Or.inr (lSt.no hφ hw9 hf9 hb9 hKJ hJ (fun _ => trivial)), h⟩)
  show zG X (_ + 142) (_ + 7012) _ 8 _ _
  obtain ⟨hφ, hw9, hf9, hb9⟩ := hx5
  refine z_i2lR (q := 9) hX dX0_line_8 rfl ?_
  refine zc_last1 (q := 10) hX dX0_line_9 ((hf9 _ hKJ).trans hJ) rfl ?_
  refine z_goto (t := 17) hX dX0_line_10 (by decide) ?_
  refine z_iconst (q := 18) hX dX0_line_17 rfl ?_
  exact z_iret hX dX0_line_18 (by first | exact Nat.le_of_ble_eq_true rfl | (show (_ : Nat) ≤ 142; omega)) (by first | exact Nat.le_of_ble_eq_true rfl | (show (_ : Nat) ≤ 7012; omega)) rfl (fun H h => ⟨(x5.1, _, 0), rfl, Or.inl (lSt.ok hφ hw9 hf9 hb9 hKJ), h⟩)
abbrev rmX0_place : Room := { frames := 9, cells := 2, slots := 12, locals := 165 }
set_option maxHeartbeats 4000000 in
theorem c_X0_place (D : zD) (A : Nat → Prop) {w m : zMp} {K : Nat → Prop} {M : Int → Int} {ps : List (Int → Int)} {sv : Option (Int → Int)} {rp : Option (Int × Int × Int × Int)} {s : zS} {cs : Option (List zCn)} {l v : Int} {b aJ : Nat} {j : Int64} (hb : zX1 D w m K b M ps sv rp s cs) (hK : zHk K m) (hl : zR l) (hv : zR v) (hJ : m aJ = some (eJ1 D j)) (hKJ : K aJ) : zC D yX0_place cX0_place 5 (some .int) (some [(0, 10, 13, 31), (0, 10, 17, 19)]) rmX0_place A [.ref b, zI (l), zI (v), .ref aJ] (cI D A w m) (zPe (fun (u9 : zMp × zMp × Int) => some (zI u9.2.2)) (fun u9 => lSt D w m K b aJ 0 ((opPlace M l v).1 = 0) (fun u8 => u8 = (Int32.ofInt (opPlace M l v).2).toInt64) M ps sv rp s cs u9 ∨ lSt D w m K b aJ 1 ((opPlace M l v).1 = 1) (fun _ => True) M ps sv rp s cs u9 ∨ lSt D w m K b aJ 2 ((opPlace M l v).1 = 2) (fun _ => True) M ps sv rp s cs u9) (fun u9 => cI D A u9.1 u9.2.1)) (zNo) := by
  refine zC_startH (L := [some (.ref b), some (zI (l)), some (zI (v)), some (.ref aJ), none]) (by decide) (Nat.le_of_ble_eq_true rfl) rfl (fun X hX => ?_)
  have hb0 := hb
  obtain ⟨lg, hl1, ia, sa, ra, ca, p1, -⟩ := hb
  refine z_aload_n (i := 3) (q := 1) hX dX0_place_0 rfl rfl rfl ?_
  refine z_iconst (q := 2) hX dX0_place_1 rfl ?_
  refine z_aload_n (i := 0) (q := 3) hX dX0_place_2 rfl rfl rfl ?_
  refine z_iload_n (i := 1) (q := 4) hX dX0_place_3 rfl rfl rfl ?_
  refine z_iload_n (i := 2) (q := 5) hX dX0_place_4 rfl rfl rfl ?_
  refine z_V (ci := ciX1) (T := TX1) (N := 7) (na := 2) hX dX0_place_5 (c_X1_place D A hb0 hK hl hv) rfl q1586 q1587 q1588 q97 q1589 (by decide +kernel) ⟨Nat.le_of_ble_eq_true rfl, Nat.le_of_ble_eq_true rfl⟩ rfl rfl (Nat.le_of_ble_eq_true rfl) rfl (by first | exact Nat.le_of_ble_eq_true rfl | (show _ + 2 ≤ 2; omega)) (by first | exact Nat.le_of_ble_eq_true rfl | (show _ + 12 ≤ 12; omega)) (fun H h => ⟨h, h.obE (Or.inr p1) rfl⟩) ?_ (zPe.out (fun x5 hx5 => ?_))
  · refine zXo.out (zXs.out (fun e5 => ?_)) (zXs.out (fun e5 => ?_))
    · refine zT.ax (fun hφ => zT.ex (fun w9 => zT.ex (fun m9 => zT.ax (fun hw9 => zT.ax (fun hf9 => zT.ax (fun hb9 => ?_))))))
      refine zT.catch hX [] _ [_] rfl (fun z hz => by cases hz) (by decide) (by decide) q1513 (zCs_at 39 rfl) rfl ?_
      refine z_astore (q := 15) hX dX0_place_13 (Nat.le_of_ble_eq_true rfl) rfl rfl ?_
      refine z_iconst (q := 16) hX dX0_place_15 rfl ?_
      exact z_iret hX dX0_place_16 (by first | exact Nat.le_of_ble_eq_true rfl | (show (_ : Nat) ≤ 2; omega)) (by first | exact Nat.le_of_ble_eq_true rfl | (show (_ : Nat) ≤ 12; omega)) rfl (fun H h => ⟨(w9, m9, 1), rfl, Or.inr (Or.inl (lSt.no hφ hw9 hf9 hb9 hKJ hJ (fun _ => trivial))), h⟩)
    · refine zT.ax (fun hφ => zT.ex (fun w9 => zT.ex (fun m9 => zT.ax (fun hw9 => zT.ax (fun hf9 => zT.ax (fun hb9 => ?_))))))
      refine zT.catch hX [_] _ [] rfl (fun z hz => by rw [List.mem_singleton] at hz; subst hz; exact Or.inr ⟨by decide, _, q1513, List.mem_of_getElem? (i := 3) rfl⟩) (by decide) (by decide) q1303 (zCs_at 35 rfl) rfl ?_
      refine z_astore (q := 19) hX dX0_place_17 (Nat.le_of_ble_eq_true rfl) rfl rfl ?_
      refine z_iconst (q := 20) hX dX0_place_19 rfl ?_
      exact z_iret hX dX0_place_20 (by first | exact Nat.le_of_ble_eq_true rfl | (show (_ : Nat) ≤ 2; omega)) (by first | exact Nat.le_of_ble_eq_true rfl | (show (_ : Nat) ≤ 12; omega)) rfl (fun H h => ⟨(w9, m9, 2), rfl, Or.inr (Or.inr (lSt.no hφ hw9 hf9 hb9 hKJ hJ (fun _ => trivial))), h⟩)
  show zG X (_ + 2) (_ + 12) _ 8 _ _
  obtain ⟨hφ, hw9, hf9, hb9⟩ := hx5
  refine z_i2lR (q := 9) hX dX0_place_8 rfl ?_
  refine zc_last1 (q := 10) hX dX0_place_9 ((hf9 _ hKJ).trans hJ) rfl ?_
  refine z_goto (t := 21) hX dX0_place_10 (by decide) ?_
  refine z_iconst (q := 22) hX dX0_place_21 rfl ?_
  exact z_iret hX dX0_place_22 (by first | exact Nat.le_of_ble_eq_true rfl | (show (_ : Nat) ≤ 2; omega)) (by first | exact Nat.le_of_ble_eq_true rfl | (show (_ : Nat) ≤ 12; omega)) rfl (fun H h => ⟨(x5.1, _, 0), rfl, Or.inl (lSt.ok hφ hw9 hf9 hb9 hKJ), h⟩)
abbrev rmX0_cut : Room := { frames := 10, cells := 1353, slots := 52671, locals := 242 }
set_option maxHeartbeats 4000000 in
theorem c_X0_cut (D : zD) (A : Nat → Prop) {w m : zMp} {K : Nat → Prop} {M : Int → Int} {ps : List (Int → Int)} {sv : Option (Int → Int)} {rp : Option (Int × Int × Int × Int)} {s : zS} {cs : Option (List zCn)} {l : Int} {b aJ : Nat} {j : Int64} (hb : zX1 D w m K b M ps sv rp s cs) (hK : zHk K m) (hl : zR l) (hJ : m aJ = some (eJ1 D j)) (hKJ : K aJ) : zC D yX0_cut cX0_cut 4 (some .int) (some [(0, 9, 12, 31)]) rmX0_cut A [.ref b, zI (l), .ref aJ] (cI D A w m) (zPe (fun (u9 : zMp × zMp × Int) => some (zI u9.2.2)) (fun u9 => lSt D w m K b aJ 0 (0 ≤ l ∧ l < M 0) (fun u8 => u8 = (Int32.ofInt (M 0 - l)).toInt64) (cutM M l) (psA ps M) sv rp s cs u9 ∨ lSt D w m K b aJ 1 (¬ (0 ≤ l ∧ l < M 0)) (fun _ => True) M ps sv rp s cs u9) (fun u9 => cI D A u9.1 u9.2.1)) (zNo) := by
  refine zC_startH (L := [some (.ref b), some (zI (l)), some (.ref aJ), none]) (by decide) (Nat.le_of_ble_eq_true rfl) rfl (fun X hX => ?_)
  have hb0 := hb
  obtain ⟨lg, hl1, ia, sa, ra, ca, p1, -⟩ := hb
  refine z_aload_n (i := 2) (q := 1) hX dX0_cut_0 rfl rfl rfl ?_
  refine z_iconst (q := 2) hX dX0_cut_1 rfl ?_
  refine z_aload_n (i := 0) (q := 3) hX dX0_cut_2 rfl rfl rfl ?_
  refine z_iload_n (i := 1) (q := 4) hX dX0_cut_3 rfl rfl rfl ?_
  refine z_V (ci := ciX1) (T := TX1) (N := 7) (na := 1) hX dX0_cut_4 (c_X1_cut D A hb0 hK hl) rfl q1594 q1595 q1596 q97 q1597 (by decide +kernel) ⟨Nat.le_of_ble_eq_true rfl, Nat.le_of_ble_eq_true rfl⟩ rfl rfl (Nat.le_of_ble_eq_true rfl) rfl (by first | exact Nat.le_of_ble_eq_true rfl | (show _ + 1353 ≤ 1353; omega)) (by first | exact Nat.le_of_ble_eq_true rfl | (show _ + 52671 ≤ 52671; omega)) (fun H h => ⟨h, h.obE (Or.inr p1) rfl⟩) (zXs.out (fun e4 => ?_)) (zPe.out (fun x4 hx4 => ?_))
  · refine zT.ax (fun hφ => zT.ex (fun w9 => zT.ex (fun m9 => zT.ax (fun hw9 => zT.ax (fun hf9 => zT.ax (fun hb9 => ?_))))))
    refine zT.catch hX [] _ [] rfl (fun z hz => by cases hz) (by decide) (by decide) q1513 (zCs_at 39 rfl) rfl ?_
    refine z_astore_n (i := 3) (q := 13) hX dX0_cut_12 rfl (Nat.le_of_ble_eq_true rfl) rfl rfl ?_
    refine z_iconst (q := 14) hX dX0_cut_13 rfl ?_
    exact z_iret hX dX0_cut_14 (by first | exact Nat.le_of_ble_eq_true rfl | (show (_ : Nat) ≤ 1353; omega)) (by first | exact Nat.le_of_ble_eq_true rfl | (show (_ : Nat) ≤ 52671; omega)) rfl (fun H h => ⟨(w9, m9, 1), rfl, Or.inr (lSt.no hφ hw9 hf9 hb9 hKJ hJ (fun _ => trivial)), h⟩)
  show zG X (_ + 1353) (_ + 52671) _ 7 _ _
  obtain ⟨hφ, hw9, hf9, hb9⟩ := hx4
  refine z_i2lR (q := 8) hX dX0_cut_7 rfl ?_
  refine zc_last1 (q := 9) hX dX0_cut_8 ((hf9 _ hKJ).trans hJ) rfl ?_
  refine z_goto (t := 15) hX dX0_cut_9 (by decide) ?_
  refine z_iconst (q := 16) hX dX0_cut_15 rfl ?_
  exact z_iret hX dX0_cut_16 (by first | exact Nat.le_of_ble_eq_true rfl | (show (_ : Nat) ≤ 1353; omega)) (by first | exact Nat.le_of_ble_eq_true rfl | (show (_ : Nat) ≤ 52671; omega)) rfl (fun H h => ⟨(x4.1, _, 0), rfl, Or.inl (lSt.ok hφ hw9 hf9 hb9 hKJ), h⟩)
abbrev rmX0_setThreshold : Room := { frames := 9, cells := 53, slots := 2671, locals := 218 }
set_option maxHeartbeats 4000000 in
theorem c_X0_setThreshold (D : zD) (A : Nat → Prop) {w m : zMp} {K : Nat → Prop} {M : Int → Int} {ps : List (Int → Int)} {sv : Option (Int → Int)} {rp : Option (Int × Int × Int × Int)} {s : zS} {cs : Option (List zCn)} {v : Int} {b aJ : Nat} {j : Int64} (hb : zX1 D w m K b M ps sv rp s cs) (hK : zHk K m) (hv : zR v) (hJ : m aJ = some (eJ1 D j)) (hKJ : K aJ) : zC D yX0_setThreshold cX0_setThreshold 4 (some .int) (some [(0, 9, 12, 19)]) rmX0_setThreshold A [.ref b, zI (v), .ref aJ] (cI D A w m) (zPe (fun (u9 : zMp × zMp × Int) => some (zI u9.2.2)) (fun u9 => lSt D w m K b aJ 0 (0 ≤ v ∧ v ≤ 100) (fun u8 => u8 = (Int32.ofInt (M 1)).toInt64) (thM M v) (psA ps M) sv rp s cs u9 ∨ lSt D w m K b aJ 1 (¬ (0 ≤ v ∧ v ≤ 100)) (fun _ => True) M ps sv rp s cs u9) (fun u9 => cI D A u9.1 u9.2.1)) (zNo) := by
  refine zC_startH (L := [some (.ref b), some (zI (v)), some (.ref aJ), none]) (by decide) (Nat.le_of_ble_eq_true rfl) rfl (fun X hX => ?_)
  have hb0 := hb
  obtain ⟨lg, hl1, ia, sa, ra, ca, p1, -⟩ := hb
  refine z_aload_n (i := 2) (q := 1) hX dX0_setThreshold_0 rfl rfl rfl ?_
  refine z_iconst (q := 2) hX dX0_setThreshold_1 rfl ?_
  refine z_aload_n (i := 0) (q := 3) hX dX0_setThreshold_2 rfl rfl rfl ?_
  refine z_iload_n (i := 1) (q := 4) hX dX0_setThreshold_3 rfl rfl rfl ?_
  refine z_V (ci := ciX1) (T := TX1) (N := 7) (na := 1) hX dX0_setThreshold_4 (c_X1_setThreshold D A hb0 hK hv) rfl q1614 q1615 q1616 q97 q1617 (by decide +kernel) ⟨Nat.le_of_ble_eq_true rfl, Nat.le_of_ble_eq_true rfl⟩ rfl rfl (Nat.le_of_ble_eq_true rfl) rfl (by first | exact Nat.le_of_ble_eq_true rfl | (show _ + 53 ≤ 53; omega)) (by first | exact Nat.le_of_ble_eq_true rfl | (show _ + 2671 ≤ 2671; omega)) (fun H h => ⟨h, h.obE (Or.inr p1) rfl⟩) (zXs.out (fun e4 => ?_)) (zPe.out (fun x4 hx4 => ?_))
  · refine zT.ax (fun hφ => zT.ex (fun w9 => zT.ex (fun m9 => zT.ax (fun hw9 => zT.ax (fun hf9 => zT.ax (fun hb9 => ?_))))))
    refine zT.catch hX [] _ [] rfl (fun z hz => by cases hz) (by decide) (by decide) q1303 (zCs_at 35 rfl) rfl ?_
    refine z_astore_n (i := 3) (q := 13) hX dX0_setThreshold_12 rfl (Nat.le_of_ble_eq_true rfl) rfl rfl ?_
    refine z_iconst (q := 14) hX dX0_setThreshold_13 rfl ?_
    exact z_iret hX dX0_setThreshold_14 (by first | exact Nat.le_of_ble_eq_true rfl | (show (_ : Nat) ≤ 53; omega)) (by first | exact Nat.le_of_ble_eq_true rfl | (show (_ : Nat) ≤ 2671; omega)) rfl (fun H h => ⟨(w9, m9, 1), rfl, Or.inr (lSt.no hφ hw9 hf9 hb9 hKJ hJ (fun _ => trivial)), h⟩)
  show zG X (_ + 53) (_ + 2671) _ 7 _ _
  obtain ⟨hφ, hw9, hf9, hb9⟩ := hx4
  refine z_i2lR (q := 8) hX dX0_setThreshold_7 rfl ?_
  refine zc_last1 (q := 9) hX dX0_setThreshold_8 ((hf9 _ hKJ).trans hJ) rfl ?_
  refine z_goto (t := 15) hX dX0_setThreshold_9 (by decide) ?_
  refine z_iconst (q := 16) hX dX0_setThreshold_15 rfl ?_
  exact z_iret hX dX0_setThreshold_16 (by first | exact Nat.le_of_ble_eq_true rfl | (show (_ : Nat) ≤ 53; omega)) (by first | exact Nat.le_of_ble_eq_true rfl | (show (_ : Nat) ≤ 2671; omega)) rfl (fun H h => ⟨(x4.1, _, 0), rfl, Or.inl (lSt.ok hφ hw9 hf9 hb9 hKJ), h⟩)
abbrev rmX0_template : Room := { frames := 9, cells := 5, slots := 30, locals := 165 }
set_option maxHeartbeats 4000000 in
theorem c_X0_template (D : zD) (A : Nat → Prop) {w m : zMp} {K : Nat → Prop} {M : Int → Int} {ps : List (Int → Int)} {sv : Option (Int → Int)} {rp : Option (Int × Int × Int × Int)} {s : zS} {cs : Option (List zCn)} {t v : Int} {b aJ : Nat} {j : Int64} (hb : zX1 D w m K b M ps sv rp s cs) (hK : zHk K m) (ht : zR t) (hv : zR v) (hJ : m aJ = some (eJ1 D j)) (hKJ : K aJ) : zC D yX0_template cX0_template 5 (some .int) (some [(0, 10, 13, 31), (0, 10, 17, 19)]) rmX0_template A [.ref b, zI (t), zI (v), .ref aJ] (cI D A w m) (zPe (fun (u9 : zMp × zMp × Int) => some (zI u9.2.2)) (fun u9 => lSt D w m K b aJ 0 ((opTempl M t v).1 = 0) (fun u8 => u8 = (Int32.ofInt (opTempl M t v).2).toInt64) M ps sv rp s cs u9 ∨ lSt D w m K b aJ 1 ((opTempl M t v).1 = 1) (fun _ => True) M ps sv rp s cs u9 ∨ lSt D w m K b aJ 2 ((opTempl M t v).1 = 2) (fun _ => True) M ps sv rp s cs u9) (fun u9 => cI D A u9.1 u9.2.1)) (zNo) := by
  refine zC_startH (L := [some (.ref b), some (zI (t)), some (zI (v)), some (.ref aJ), none]) (by decide) (Nat.le_of_ble_eq_true rfl) rfl (fun X hX => ?_)
  have hb0 := hb
  obtain ⟨lg, hl1, ia, sa, ra, ca, p1, -⟩ := hb
  refine z_aload_n (i := 3) (q := 1) hX dX0_template_0 rfl rfl rfl ?_
  refine z_iconst (q := 2) hX dX0_template_1 rfl ?_
  refine z_aload_n (i := 0) (q := 3) hX dX0_template_2 rfl rfl rfl ?_
  refine z_iload_n (i := 1) (q := 4) hX dX0_template_3 rfl rfl rfl ?_
  refine z_iload_n (i := 2) (q := 5) hX dX0_template_4 rfl rfl rfl ?_
  refine z_V (ci := ciX1) (T := TX1) (N := 7) (na := 2) hX dX0_template_5 (c_X1_template D A hb0 hK ht hv) rfl q1621 q1622 q1623 q97 q1624 (by decide +kernel) ⟨Nat.le_of_ble_eq_true rfl, Nat.le_of_ble_eq_true rfl⟩ rfl rfl (Nat.le_of_ble_eq_true rfl) rfl (by first | exact Nat.le_of_ble_eq_true rfl | (show _ + 5 ≤ 5; omega)) (by first | exact Nat.le_of_ble_eq_true rfl | (show _ + 30 ≤ 30; omega)) (fun H h => ⟨h, h.obE (Or.inr p1) rfl⟩) ?_ (zPe.out (fun x5 hx5 => ?_))
  · refine zXo.out (zXs.out (fun e5 => ?_)) (zXs.out (fun e5 => ?_))
    · refine zT.ax (fun hφ => zT.ex (fun w9 => zT.ex (fun m9 => zT.ax (fun hw9 => zT.ax (fun hf9 => zT.ax (fun hb9 => ?_))))))
      refine zT.catch hX [] _ [_] rfl (fun z hz => by cases hz) (by decide) (by decide) q1513 (zCs_at 39 rfl) rfl ?_
      refine z_astore (q := 15) hX dX0_template_13 (Nat.le_of_ble_eq_true rfl) rfl rfl ?_
      refine z_iconst (q := 16) hX dX0_template_15 rfl ?_
      exact z_iret hX dX0_template_16 (by first | exact Nat.le_of_ble_eq_true rfl | (show (_ : Nat) ≤ 5; omega)) (by first | exact Nat.le_of_ble_eq_true rfl | (show (_ : Nat) ≤ 30; omega)) rfl (fun H h => ⟨(w9, m9, 1), rfl, Or.inr (Or.inl (lSt.no hφ hw9 hf9 hb9 hKJ hJ (fun _ => trivial))), h⟩)
    · refine zT.ax (fun hφ => zT.ex (fun w9 => zT.ex (fun m9 => zT.ax (fun hw9 => zT.ax (fun hf9 => zT.ax (fun hb9 => ?_))))))
      refine zT.catch hX [_] _ [] rfl (fun z hz => by rw [List.mem_singleton] at hz; subst hz; exact Or.inr ⟨by decide, _, q1513, List.mem_of_getElem? (i := 3) rfl⟩) (by decide) (by decide) q1303 (zCs_at 35 rfl) rfl ?_
      refine z_astore (q := 19) hX dX0_template_17 (Nat.le_of_ble_eq_true rfl) rfl rfl ?_
      refine z_iconst (q := 20) hX dX0_template_19 rfl ?_
      exact z_iret hX dX0_template_20 (by first | exact Nat.le_of_ble_eq_true rfl | (show (_ : Nat) ≤ 5; omega)) (by first | exact Nat.le_of_ble_eq_true rfl | (show (_ : Nat) ≤ 30; omega)) rfl (fun H h => ⟨(w9, m9, 2), rfl, Or.inr (Or.inr (lSt.no hφ hw9 hf9 hb9 hKJ hJ (fun _ => trivial))), h⟩)
  show zG X (_ + 5) (_ + 30) _ 8 _ _
  obtain ⟨hφ, hw9, hf9, hb9⟩ := hx5
  refine z_i2lR (q := 9) hX dX0_template_8 rfl ?_
  refine zc_last1 (q := 10) hX dX0_template_9 ((hf9 _ hKJ).trans hJ) rfl ?_
  refine z_goto (t := 21) hX dX0_template_10 (by decide) ?_
  refine z_iconst (q := 22) hX dX0_template_21 rfl ?_
  exact z_iret hX dX0_template_22 (by first | exact Nat.le_of_ble_eq_true rfl | (show (_ : Nat) ≤ 5; omega)) (by first | exact Nat.le_of_ble_eq_true rfl | (show (_ : Nat) ≤ 30; omega)) rfl (fun H h => ⟨(x5.1, _, 0), rfl, Or.inl (lSt.ok hφ hw9 hf9 hb9 hKJ), h⟩)
abbrev rmX0_slot : Room := { frames := 9, cells := 5, slots := 30, locals := 166 }
set_option maxHeartbeats 4000000 in
theorem c_X0_slot (D : zD) (A : Nat → Prop) {w m : zMp} {K : Nat → Prop} {M : Int → Int} {ps : List (Int → Int)} {sv : Option (Int → Int)} {rp : Option (Int × Int × Int × Int)} {s : zS} {cs : Option (List zCn)} {t k : Int} {b aJ : Nat} {j : Int64} (hb : zX1 D w m K b M ps sv rp s cs) (hK : zHk K m) (ht : zR t) (hk : zR k) (hJ : m aJ = some (eJ1 D j)) (hKJ : K aJ) : zC D yX0_slot cX0_slot 5 (some .int) (some [(0, 10, 13, 31)]) rmX0_slot A [.ref b, zI (t), zI (k), .ref aJ] (cI D A w m) (zPe (fun (u9 : zMp × zMp × Int) => some (zI u9.2.2)) (fun u9 => lSt D w m K b aJ 0 ((opSlot M t k).1 = 0) (fun u8 => u8 = (Int32.ofInt (opSlot M t k).2).toInt64) M ps sv rp s cs u9 ∨ lSt D w m K b aJ 1 ((opSlot M t k).1 = 1) (fun _ => True) M ps sv rp s cs u9) (fun u9 => cI D A u9.1 u9.2.1)) (zNo) := by
  refine zC_startH (L := [some (.ref b), some (zI (t)), some (zI (k)), some (.ref aJ), none]) (by decide) (Nat.le_of_ble_eq_true rfl) rfl (fun X hX => ?_)
  have hb0 := hb
  obtain ⟨lg, hl1, ia, sa, ra, ca, p1, -⟩ := hb
  refine z_aload_n (i := 3) (q := 1) hX dX0_slot_0 rfl rfl rfl ?_
  refine z_iconst (q := 2) hX dX0_slot_1 rfl ?_
  refine z_aload_n (i := 0) (q := 3) hX dX0_slot_2 rfl rfl rfl ?_
  refine z_iload_n (i := 1) (q := 4) hX dX0_slot_3 rfl rfl rfl ?_
  refine z_iload_n (i := 2) (q := 5) hX dX0_slot_4 rfl rfl rfl ?_
  refine z_V (ci := ciX1) (T := TX1) (N := 7) (na := 2) hX dX0_slot_5 (c_X1_slot D A hb0 hK ht hk) rfl q1634 q1635 q1636 q97 q1637 (by decide +kernel) ⟨Nat.le_of_ble_eq_true rfl, Nat.le_of_ble_eq_true rfl⟩ rfl rfl (Nat.le_of_ble_eq_true rfl) rfl (by first | exact Nat.le_of_ble_eq_true rfl | (show _ + 5 ≤ 5; omega)) (by first | exact Nat.le_of_ble_eq_true rfl | (show _ + 30 ≤ 30; omega)) (fun H h => ⟨h, h.obE (Or.inr p1) rfl⟩) (zXs.out (fun e5 => ?_)) (zPe.out (fun x5 hx5 => ?_))
  · refine zT.ax (fun hφ => zT.ex (fun w9 => zT.ex (fun m9 => zT.ax (fun hw9 => zT.ax (fun hf9 => zT.ax (fun hb9 => ?_))))))
    refine zT.catch hX [] _ [] rfl (fun z hz => by cases hz) (by decide) (by decide) q1513 (zCs_at 39 rfl) rfl ?_
    refine z_astore (q := 15) hX dX0_slot_13 (Nat.le_of_ble_eq_true rfl) rfl rfl ?_
    refine z_iconst (q := 16) hX dX0_slot_15 rfl ?_
    exact z_iret hX dX0_slot_16 (by first | exact Nat.le_of_ble_eq_true rfl | (show (_ : Nat) ≤ 5; omega)) (by first | exact Nat.le_of_ble_eq_true rfl | (show (_ : Nat) ≤ 30; omega)) rfl (fun H h => ⟨(w9, m9, 1), rfl, Or.inr (lSt.no hφ hw9 hf9 hb9 hKJ hJ (fun _ => trivial)), h⟩)
  show zG X (_ + 5) (_ + 30) _ 8 _ _
  obtain ⟨hφ, hw9, hf9, hb9⟩ := hx5
  refine z_i2lR (q := 9) hX dX0_slot_8 rfl ?_
  refine zc_last1 (q := 10) hX dX0_slot_9 ((hf9 _ hKJ).trans hJ) rfl ?_
  refine z_goto (t := 17) hX dX0_slot_10 (by decide) ?_
  refine z_iconst (q := 18) hX dX0_slot_17 rfl ?_
  exact z_iret hX dX0_slot_18 (by first | exact Nat.le_of_ble_eq_true rfl | (show (_ : Nat) ≤ 5; omega)) (by first | exact Nat.le_of_ble_eq_true rfl | (show (_ : Nat) ≤ 30; omega)) rfl (fun H h => ⟨(x5.1, _, 0), rfl, Or.inl (lSt.ok hφ hw9 hf9 hb9 hKJ), h⟩)
abbrev rmX0_pattern : Room := { frames := 9, cells := 95, slots := 7030, locals := 198 }
set_option maxHeartbeats 4000000 in
theorem c_X0_pattern (D : zD) (A : Nat → Prop) {w m : zMp} {K : Nat → Prop} {M : Int → Int} {ps : List (Int → Int)} {sv : Option (Int → Int)} {rp : Option (Int × Int × Int × Int)} {s : zS} {cs : Option (List zCn)} {t i : Int} {b aJ : Nat} {j : Int64} (hb : zX1 D w m K b M ps sv rp s cs) (hK : zHk K m) (ht : zR t) (hi : zR i) (hJ : m aJ = some (eJ1 D j)) (hKJ : K aJ) : zC D yX0_pattern cX0_pattern 5 (some .int) (some [(0, 10, 13, 31)]) rmX0_pattern A [.ref b, zI (t), zI (i), .ref aJ] (cI D A w m) (zPe (fun (u9 : zMp × zMp × Int) => some (zI u9.2.2)) (fun u9 => lSt D w m K b aJ 0 ((opPat M t i).1 = 0) (fun u8 => u8 = (Int32.ofInt (opPat M t i).2).toInt64) M ps sv rp s cs u9 ∨ lSt D w m K b aJ 1 ((opPat M t i).1 = 1) (fun _ => True) M ps sv rp s cs u9) (fun u9 => cI D A u9.1 u9.2.1)) (zNo) := by
  refine zC_startH (L := [some (.ref b), some (zI (t)), some (zI (i)), some (.ref aJ), none]) (by decide) (Nat.le_of_ble_eq_true rfl) rfl (fun X hX => ?_)
  have hb0 := hb
  obtain ⟨lg, hl1, ia, sa, ra, ca, p1, -⟩ := hb
  refine z_aload_n (i := 3) (q := 1) hX dX0_pattern_0 rfl rfl rfl ?_
  refine z_iconst (q := 2) hX dX0_pattern_1 rfl ?_
  refine z_aload_n (i := 0) (q := 3) hX dX0_pattern_2 rfl rfl rfl ?_
  refine z_iload_n (i := 1) (q := 4) hX dX0_pattern_3 rfl rfl rfl ?_
  refine z_iload_n (i := 2) (q := 5) hX dX0_pattern_4 rfl rfl rfl ?_
  refine z_V (ci := ciX1) (T := TX1) (N := 7) (na := 2) hX dX0_pattern_5 (c_X1_pattern D A hb0 hK ht hi) rfl q1641 q1642 q1643 q97 q1644 (by decide +kernel) ⟨Nat.le_of_ble_eq_true rfl, Nat.le_of_ble_eq_true rfl⟩ rfl rfl (Nat.le_of_ble_eq_true rfl) rfl (by first | exact Nat.le_of_ble_eq_true rfl | (show _ + 95 ≤ 95; omega)) (by first | exact Nat.le_of_ble_eq_true rfl | (show _ + 7030 ≤ 7030; omega)) (fun H h => ⟨h, h.obE (Or.inr p1) rfl⟩) (zXs.out (fun e5 => ?_)) (zPe.out (fun x5 hx5 => ?_))
  · refine zT.ax (fun hφ => zT.ex (fun w9 => zT.ex (fun m9 => zT.ax (fun hw9 => zT.ax (fun hf9 => zT.ax (fun hb9 => ?_))))))
    refine zT.catch hX [] _ [] rfl (fun z hz => by cases hz) (by decide) (by decide) q1513 (zCs_at 39 rfl) rfl ?_
    refine z_astore (q := 15) hX dX0_pattern_13 (Nat.le_of_ble_eq_true rfl) rfl rfl ?_
    refine z_iconst (q := 16) hX dX0_pattern_15 rfl ?_
    exact z_iret hX dX0_pattern_16 (by first | exact Nat.le_of_ble_eq_true rfl | (show (_ : Nat) ≤ 95; omega)) (by first | exact Nat.le_of_ble_eq_true rfl | (show (_ : Nat) ≤ 7030; omega)) rfl (fun H h => ⟨(w9, m9, 1), rfl, Or.inr (lSt.no hφ hw9 hf9 hb9 hKJ hJ (fun _ => trivial)), h⟩)
  show zG X (_ + 95) (_ + 7030) _ 8 _ _
  obtain ⟨hφ, hw9, hf9, hb9⟩ := hx5
  refine z_i2lR (q := 9) hX dX0_pattern_8 rfl ?_
  refine zc_last1 (q := 10) hX dX0_pattern_9 ((hf9 _ hKJ).trans hJ) rfl ?_
  refine z_goto (t := 17) hX dX0_pattern_10 (by decide) ?_
  refine z_iconst (q := 18) hX dX0_pattern_17 rfl ?_
  exact z_iret hX dX0_pattern_18 (by first | exact Nat.le_of_ble_eq_true rfl | (show (_ : Nat) ≤ 95; omega)) (by first | exact Nat.le_of_ble_eq_true rfl | (show (_ : Nat) ≤ 7030; omega)) rfl (fun H h => ⟨(x5.1, _, 0), rfl, Or.inl (lSt.ok hφ hw9 hf9 hb9 hKJ), h⟩)
abbrev rmX0_row : Room := { frames := 9, cells := 5, slots := 30, locals := 165 }
set_option maxHeartbeats 4000000 in
theorem c_X0_row (D : zD) (A : Nat → Prop) {w m : zMp} {K : Nat → Prop} {M : Int → Int} {ps : List (Int → Int)} {sv : Option (Int → Int)} {rp : Option (Int × Int × Int × Int)} {s : zS} {cs : Option (List zCn)} {t r : Int} {b aJ : Nat} {j : Int64} (hb : zX1 D w m K b M ps sv rp s cs) (hK : zHk K m) (ht : zR t) (hr : zR r) (hJ : m aJ = some (eJ1 D j)) (hKJ : K aJ) : zC D yX0_row cX0_row 5 (some .int) (some [(0, 10, 13, 31)]) rmX0_row A [.ref b, zI (t), zI (r), .ref aJ] (cI D A w m) (zPe (fun (u9 : zMp × zMp × Int) => some (zI u9.2.2)) (fun u9 => lSt D w m K b aJ 0 ((opRow M t r).1 = 0) (fun u8 => u8 = (Int32.ofInt (opRow M t r).2).toInt64) M ps sv rp s cs u9 ∨ lSt D w m K b aJ 1 ((opRow M t r).1 = 1) (fun _ => True) M ps sv rp s cs u9) (fun u9 => cI D A u9.1 u9.2.1)) (zNo) := by
  refine zC_startH (L := [some (.ref b), some (zI (t)), some (zI (r)), some (.ref aJ), none]) (by decide) (Nat.le_of_ble_eq_true rfl) rfl (fun X hX => ?_)
  have hb0 := hb
  obtain ⟨lg, hl1, ia, sa, ra, ca, p1, -⟩ := hb
  refine z_aload_n (i := 3) (q := 1) hX dX0_row_0 rfl rfl rfl ?_
  refine z_iconst (q := 2) hX dX0_row_1 rfl ?_
  refine z_aload_n (i := 0) (q := 3) hX dX0_row_2 rfl rfl rfl ?_
  refine z_iload_n (i := 1) (q := 4) hX dX0_row_3 rfl rfl rfl ?_
  refine z_iload_n (i := 2) (q := 5) hX dX0_row_4 rfl rfl rfl ?_
  refine z_V (ci := ciX1) (T := TX1) (N := 7) (na := 2) hX dX0_row_5 (c_X1_row D A hb0 hK ht hr) rfl q1664 q1665 q1666 q97 q1667 (by decide +kernel) ⟨Nat.le_of_ble_eq_true rfl, Nat.le_of_ble_eq_true rfl⟩ rfl rfl (Nat.le_of_ble_eq_true rfl) rfl (by first | exact Nat.le_of_ble_eq_true rfl | (show _ + 5 ≤ 5; omega)) (by first | exact Nat.le_of_ble_eq_true rfl | (show _ + 30 ≤ 30; omega)) (fun H h => ⟨h, h.obE (Or.inr p1) rfl⟩) (zXs.out (fun e5 => ?_)) (zPe.out (fun x5 hx5 => ?_))
  · refine zT.ax (fun hφ => zT.ex (fun w9 => zT.ex (fun m9 => zT.ax (fun hw9 => zT.ax (fun hf9 => zT.ax (fun hb9 => ?_))))))
    refine zT.catch hX [] _ [] rfl (fun z hz => by cases hz) (by decide) (by decide) q1513 (zCs_at 39 rfl) rfl ?_
    refine z_astore (q := 15) hX dX0_row_13 (Nat.le_of_ble_eq_true rfl) rfl rfl ?_
    refine z_iconst (q := 16) hX dX0_row_15 rfl ?_
    exact z_iret hX dX0_row_16 (by first | exact Nat.le_of_ble_eq_true rfl | (show (_ : Nat) ≤ 5; omega)) (by first | exact Nat.le_of_ble_eq_true rfl | (show (_ : Nat) ≤ 30; omega)) rfl (fun H h => ⟨(w9, m9, 1), rfl, Or.inr (lSt.no hφ hw9 hf9 hb9 hKJ hJ (fun _ => trivial)), h⟩)
  show zG X (_ + 5) (_ + 30) _ 8 _ _
  obtain ⟨hφ, hw9, hf9, hb9⟩ := hx5
  refine z_i2lR (q := 9) hX dX0_row_8 rfl ?_
  refine zc_last1 (q := 10) hX dX0_row_9 ((hf9 _ hKJ).trans hJ) rfl ?_
  refine z_goto (t := 17) hX dX0_row_10 (by decide) ?_
  refine z_iconst (q := 18) hX dX0_row_17 rfl ?_
  exact z_iret hX dX0_row_18 (by first | exact Nat.le_of_ble_eq_true rfl | (show (_ : Nat) ≤ 5; omega)) (by first | exact Nat.le_of_ble_eq_true rfl | (show (_ : Nat) ≤ 30; omega)) rfl (fun H h => ⟨(x5.1, _, 0), rfl, Or.inl (lSt.ok hφ hw9 hf9 hb9 hKJ), h⟩)
abbrev rmX0_merge : Room := { frames := 11, cells := 220, slots := 9600, locals := 269 }
set_option maxHeartbeats 4000000 in
theorem c_X0_merge (D : zD) (A : Nat → Prop) {w m : zMp} {K : Nat → Prop} {M : Int → Int} {ps : List (Int → Int)} {sv : Option (Int → Int)} {rp : Option (Int × Int × Int × Int)} {s : zS} {cs : Option (List zCn)} {x y : Int} {b aJ : Nat} {j : Int64} (hb : zX1 D w m K b M ps sv rp s cs) (hK : zHk K m) (hx : zR x) (hy : zR y) (hJ : m aJ = some (eJ1 D j)) (hKJ : K aJ) : zC D yX0_merge cX0_merge 5 (some .int) (some [(0, 10, 13, 31), (0, 10, 17, 19), (0, 10, 21, 21)]) rmX0_merge A [.ref b, zI (x), zI (y), .ref aJ] (cI D A w m) (zPe (fun (u9 : zMp × zMp × Int) => some (zI u9.2.2)) (fun u9 => lSt D w m K b aJ 0 (mrgC M x y = 0) (fun u8 => u8 = (Int32.ofInt (varsI (mgM M (min x y) (max x y)) (min x y))).toInt64) (mgM M (min x y) (max x y)) (psA ps M) sv rp s cs u9 ∨ lSt D w m K b aJ 1 (mrgC M x y = 1) (fun _ => True) M ps sv rp s cs u9 ∨ lSt D w m K b aJ 2 (mrgC M x y = 2) (fun _ => True) M ps sv rp s cs u9 ∨ lSt D w m K b aJ 3 (mrgC M x y = 3) (fun _ => True) M ps sv (some (2, max x y, 12, min x y)) s cs u9) (fun u9 => cI D A u9.1 u9.2.1)) (zNo) := by
  refine zC_startH (L := [some (.ref b), some (zI (x)), some (zI (y)), some (.ref aJ), none]) (by decide) (Nat.le_of_ble_eq_true rfl) rfl (fun X hX => ?_)
  have hb0 := hb
  obtain ⟨lg, hl1, ia, sa, ra, ca, p1, -⟩ := hb
  refine z_aload_n (i := 3) (q := 1) hX dX0_merge_0 rfl rfl rfl ?_
  refine z_iconst (q := 2) hX dX0_merge_1 rfl ?_
  refine z_aload_n (i := 0) (q := 3) hX dX0_merge_2 rfl rfl rfl ?_
  refine z_iload_n (i := 1) (q := 4) hX dX0_merge_3 rfl rfl rfl ?_
  refine z_iload_n (i := 2) (q := 5) hX dX0_merge_4 rfl rfl rfl ?_
  refine z_VW (ci := ciX1) (T := TX1) (N := 7) (na := 2) hX dX0_merge_5 (c_X1_merge D A hb0 hK hx hy) rfl q1671 q1672 q1673 q97 q1674 (by decide +kernel) ⟨Nat.le_of_ble_eq_true rfl, Nat.le_of_ble_eq_true rfl⟩ rfl rfl (Nat.le_of_ble_eq_true rfl) rfl (by first | exact Nat.le_of_ble_eq_true rfl | (show _ + 220 ≤ 220; omega)) (by first | exact Nat.le_of_ble_eq_true rfl | (show _ + 9600 ≤ 9600; omega)) (fun H h => ⟨h, h.obE (Or.inr p1) rfl⟩) ?_ (zPe.out (fun x5 hx5 => ?_))
  · refine zXo.out (zXs.out (fun e5 => ?_)) (zXo.out (zXs.out (fun e5 => ?_)) (zXs.out (fun e5 => ?_)))
    · refine zT.ax (fun hφ => zT.ex (fun w9 => zT.ex (fun m9 => zT.ax (fun hw9 => zT.ax (fun hf9 => zT.ax (fun hb9 => ?_))))))
      refine zT.catch hX [] _ [_, _] rfl (fun z hz => by cases hz) (by decide) (by decide) q1513 (zCs_at 39 rfl) rfl ?_
      refine z_astore (q := 15) hX dX0_merge_13 (Nat.le_of_ble_eq_true rfl) rfl rfl ?_
      refine z_iconst (q := 16) hX dX0_merge_15 rfl ?_
      exact z_iret hX dX0_merge_16 (by first | exact Nat.le_of_ble_eq_true rfl | (show (_ : Nat) ≤ 220; omega)) (by first | exact Nat.le_of_ble_eq_true rfl | (show (_ : Nat) ≤ 9600; omega)) rfl (fun H h => ⟨(w9, m9, 1), rfl, Or.inr (Or.inl (lSt.no hφ hw9 hf9 hb9 hKJ hJ (fun _ => trivial))), h⟩)
    · refine zT.ax (fun hφ => zT.ex (fun w9 => zT.ex (fun m9 => zT.ax (fun hw9 => zT.ax (fun hf9 => zT.ax (fun hb9 => ?_))))))
      refine zT.catch hX [_] _ [_] rfl (fun z hz => by rw [List.mem_singleton] at hz; subst hz; exact Or.inr ⟨by decide, _, q1513, List.mem_of_getElem? (i := 3) rfl⟩) (by decide) (by decide) q1303 (zCs_at 35 rfl) rfl ?_
      refine z_astore (q := 19) hX dX0_merge_17 (Nat.le_of_ble_eq_true rfl) rfl rfl ?_
      refine z_iconst (q := 20) hX dX0_merge_19 rfl ?_
      exact z_iret hX dX0_merge_20 (by first | exact Nat.le_of_ble_eq_true rfl | (show (_ : Nat) ≤ 220; omega)) (by first | exact Nat.le_of_ble_eq_true rfl | (show (_ : Nat) ≤ 9600; omega)) rfl (fun H h => ⟨(w9, m9, 2), rfl, Or.inr (Or.inr (Or.inl (lSt.no hφ hw9 hf9 hb9 hKJ hJ (fun _ => trivial)))), h⟩)
    · refine zT.ax (fun hφ => zT.ex (fun w9 => zT.ex (fun m9 => zT.ax (fun hw9 => zT.ax (fun hf9 => zT.ax (fun hb9 => ?_))))))
      refine zT.catch hX [_, _] _ [] rfl (fun z hz => (List.mem_cons.mp hz).elim (fun hz => by subst hz; exact Or.inr ⟨by decide, _, q1513, List.mem_of_getElem? (i := 4) rfl⟩) (fun hz => by rw [List.mem_singleton] at hz; subst hz; exact Or.inr ⟨by decide, _, q1303, List.mem_of_getElem? (i := 1) rfl⟩)) (by decide) (by decide) q1304 (zCs_at 46 rfl) rfl ?_
      refine z_astore (q := 23) hX dX0_merge_21 (Nat.le_of_ble_eq_true rfl) rfl rfl ?_
      refine z_iconst (q := 24) hX dX0_merge_23 rfl ?_
      exact z_iret hX dX0_merge_24 (by first | exact Nat.le_of_ble_eq_true rfl | (show (_ : Nat) ≤ 220; omega)) (by first | exact Nat.le_of_ble_eq_true rfl | (show (_ : Nat) ≤ 9600; omega)) rfl (fun H h => ⟨(w9, m9, 3), rfl, Or.inr (Or.inr (Or.inr (lSt.no hφ hw9 hf9 hb9 hKJ hJ (fun _ => trivial)))), h⟩)
  show zG X (_ + 220) (_ + 9600) _ 8 _ _
  obtain ⟨hφ, hw9, hf9, hb9⟩ := hx5
  refine z_i2lR (q := 9) hX dX0_merge_8 rfl ?_
  refine zc_last1 (q := 10) hX dX0_merge_9 ((hf9 _ hKJ).trans hJ) rfl ?_
  refine z_goto (t := 25) hX dX0_merge_10 (by decide) ?_
  refine z_iconst (q := 26) hX dX0_merge_25 rfl ?_
  exact z_iret hX dX0_merge_26 (by first | exact Nat.le_of_ble_eq_true rfl | (show (_ : Nat) ≤ 220; omega)) (by first | exact Nat.le_of_ble_eq_true rfl | (show (_ : Nat) ≤ 9600; omega)) rfl (fun H h => ⟨(x5.1, _, 0), rfl, Or.inl (lSt.ok hφ hw9 hf9 hb9 hKJ), h⟩)
abbrev rmX0_split : Room := { frames := 11, cells := 3800, slots := 23000, locals := 273 }
set_option maxHeartbeats 4000000 in
theorem c_X0_split (D : zD) (A : Nat → Prop) {w m : zMp} {K : Nat → Prop} {M : Int → Int} {ps : List (Int → Int)} {sv : Option (Int → Int)} {rp : Option (Int × Int × Int × Int)} {s : zS} {cs : Option (List zCn)} {t c : Int} {b aJ : Nat} {j : Int64} (hb : zX1 D w m K b M ps sv rp s cs) (hK : zHk K m) (ht : zR t) (hc : zR c) (hJ : m aJ = some (eJ1 D j)) (hKJ : K aJ) : zC D yX0_split cX0_split 5 (some .int) (some [(0, 10, 13, 31), (0, 10, 17, 13), (0, 10, 21, 21)]) rmX0_split A [.ref b, zI (t), zI (c), .ref aJ] (cI D A w m) (zPe (fun (u9 : zMp × zMp × Int) => some (zI u9.2.2)) (fun u9 => lSt D w m K b aJ 0 (splC M t c = 0) (fun u8 => u8 = (Int32.ofInt (lfree M)).toInt64) (splM M t (tokO M t c) (lfree M)) (psA ps M) sv rp s cs u9 ∨ lSt D w m K b aJ 1 (splC M t c = 1) (fun _ => True) M ps sv rp s cs u9 ∨ lSt D w m K b aJ 2 (splC M t c = 2) (fun _ => True) M ps sv rp s cs u9 ∨ lSt D w m K b aJ 3 (splC M t c = 3) (fun _ => True) M ps sv (some (3, t, 13, c)) s cs u9) (fun u9 => cI D A u9.1 u9.2.1)) (zNo) := by
  refine zC_startH (L := [some (.ref b), some (zI (t)), some (zI (c)), some (.ref aJ), none]) (by decide) (Nat.le_of_ble_eq_true rfl) rfl (fun X hX => ?_)
  have hb0 := hb
  obtain ⟨lg, hl1, ia, sa, ra, ca, p1, -⟩ := hb
  refine z_aload_n (i := 3) (q := 1) hX dX0_split_0 rfl rfl rfl ?_
  refine z_iconst (q := 2) hX dX0_split_1 rfl ?_
  refine z_aload_n (i := 0) (q := 3) hX dX0_split_2 rfl rfl rfl ?_
  refine z_iload_n (i := 1) (q := 4) hX dX0_split_3 rfl rfl rfl ?_
  refine z_iload_n (i := 2) (q := 5) hX dX0_split_4 rfl rfl rfl ?_
  refine z_VW (ci := ciX1) (T := TX1) (N := 7) (na := 2) hX dX0_split_5 (c_X1_split D A hb0 hK ht hc) rfl q1683 q1684 q1685 q97 q1686 (by decide +kernel) ⟨Nat.le_of_ble_eq_true rfl, Nat.le_of_ble_eq_true rfl⟩ rfl rfl (Nat.le_of_ble_eq_true rfl) rfl (by first | exact Nat.le_of_ble_eq_true rfl | (show _ + 3800 ≤ 3800; omega)) (by first | exact Nat.le_of_ble_eq_true rfl | (show _ + 23000 ≤ 23000; omega)) (fun H h => ⟨h, h.obE (Or.inr p1) rfl⟩) ?_ (zPe.out (fun x5 hx5 => ?_))
  · refine zXo.out (zXs.out (fun e5 => ?_)) (zXo.out (zXs.out (fun e5 => ?_)) (zXs.out (fun e5 => ?_)))
    · refine zT.ax (fun hφ => zT.ex (fun w9 => zT.ex (fun m9 => zT.ax (fun hw9 => zT.ax (fun hf9 => zT.ax (fun hb9 => ?_))))))
      refine zT.catch hX [] _ [_, _] rfl (fun z hz => by cases hz) (by decide) (by decide) q1513 (zCs_at 39 rfl) rfl ?_
      refine z_astore (q := 15) hX dX0_split_13 (Nat.le_of_ble_eq_true rfl) rfl rfl ?_
      refine z_iconst (q := 16) hX dX0_split_15 rfl ?_
      exact z_iret hX dX0_split_16 (by first | exact Nat.le_of_ble_eq_true rfl | (show (_ : Nat) ≤ 3800; omega)) (by first | exact Nat.le_of_ble_eq_true rfl | (show (_ : Nat) ≤ 23000; omega)) rfl (fun H h => ⟨(w9, m9, 1), rfl, Or.inr (Or.inl (lSt.no hφ hw9 hf9 hb9 hKJ hJ (fun _ => trivial))), h⟩)
    · refine zT.ax (fun hφ => zT.ex (fun w9 => zT.ex (fun m9 => zT.ax (fun hw9 => zT.ax (fun hf9 => zT.ax (fun hb9 => ?_))))))
      refine zT.catch hX [_] _ [_] rfl (fun z hz => by rw [List.mem_singleton] at hz; subst hz; exact Or.inr ⟨by decide, _, q1513, List.mem_of_getElem? (i := 5) rfl⟩) (by decide) (by decide) q1277 (zCs_at 37 rfl) rfl ?_
      refine z_astore (q := 19) hX dX0_split_17 (Nat.le_of_ble_eq_true rfl) rfl rfl ?_
      refine z_iconst (q := 20) hX dX0_split_19 rfl ?_
      exact z_iret hX dX0_split_20 (by first | exact Nat.le_of_ble_eq_true rfl | (show (_ : Nat) ≤ 3800; omega)) (by first | exact Nat.le_of_ble_eq_true rfl | (show (_ : Nat) ≤ 23000; omega)) rfl (fun H h => ⟨(w9, m9, 2), rfl, Or.inr (Or.inr (Or.inl (lSt.no hφ hw9 hf9 hb9 hKJ hJ (fun _ => trivial)))), h⟩)
    · refine zT.ax (fun hφ => zT.ex (fun w9 => zT.ex (fun m9 => zT.ax (fun hw9 => zT.ax (fun hf9 => zT.ax (fun hb9 => ?_))))))
      refine zT.catch hX [_, _] _ [] rfl (fun z hz => (List.mem_cons.mp hz).elim (fun hz => by subst hz; exact Or.inr ⟨by decide, _, q1513, List.mem_of_getElem? (i := 4) rfl⟩) (fun hz => by rw [List.mem_singleton] at hz; subst hz; exact Or.inr ⟨by decide, _, q1277, List.mem_of_getElem? (i := 2) rfl⟩)) (by decide) (by decide) q1304 (zCs_at 46 rfl) rfl ?_
      refine z_astore (q := 23) hX dX0_split_21 (Nat.le_of_ble_eq_true rfl) rfl rfl ?_
      refine z_iconst (q := 24) hX dX0_split_23 rfl ?_
      exact z_iret hX dX0_split_24 (by first | exact Nat.le_of_ble_eq_true rfl | (show (_ : Nat) ≤ 3800; omega)) (by first | exact Nat.le_of_ble_eq_true rfl | (show (_ : Nat) ≤ 23000; omega)) rfl (fun H h => ⟨(w9, m9, 3), rfl, Or.inr (Or.inr (Or.inr (lSt.no hφ hw9 hf9 hb9 hKJ hJ (fun _ => trivial)))), h⟩)
  show zG X (_ + 3800) (_ + 23000) _ 8 _ _
  obtain ⟨hφ, hw9, hf9, hb9⟩ := hx5
  refine z_i2lR (q := 9) hX dX0_split_8 rfl ?_
  refine zc_last1 (q := 10) hX dX0_split_9 ((hf9 _ hKJ).trans hJ) rfl ?_
  refine z_goto (t := 25) hX dX0_split_10 (by decide) ?_
  refine z_iconst (q := 26) hX dX0_split_25 rfl ?_
  exact z_iret hX dX0_split_26 (by first | exact Nat.le_of_ble_eq_true rfl | (show (_ : Nat) ≤ 3800; omega)) (by first | exact Nat.le_of_ble_eq_true rfl | (show (_ : Nat) ≤ 23000; omega)) rfl (fun H h => ⟨(x5.1, _, 0), rfl, Or.inl (lSt.ok hφ hw9 hf9 hb9 hKJ), h⟩)
abbrev rmX0_gain : Room := { frames := 12, cells := 12, slots := 74, locals := 269 }
set_option maxHeartbeats 4000000 in
theorem c_X0_gain (D : zD) (A : Nat → Prop) {w m : zMp} {K : Nat → Prop} {M : Int → Int} {ps : List (Int → Int)} {sv : Option (Int → Int)} {rp : Option (Int × Int × Int × Int)} {s : zS} {cs : Option (List zCn)} {x y : Int} {b aJ : Nat} {j : Int64} (hb : zX1 D w m K b M ps sv rp s cs) (hK : zHk K m) (hx : zR x) (hy : zR y) (hJ : m aJ = some (eJ1 D j)) (hKJ : K aJ) : zC D yX0_gain cX0_gain 5 (some .int) (some [(0, 10, 13, 31), (0, 10, 17, 19), (0, 10, 21, 21)]) rmX0_gain A [.ref b, zI (x), zI (y), .ref aJ] (cI D A w m) (zPe (fun (u9 : zMp × zMp × Int) => some (zI u9.2.2)) (fun u9 => lSt D w m K b aJ 0 ((opGain M x y).1 = 0) (fun u8 => u8 = (Int32.ofInt (opGain M x y).2).toInt64) M ps sv rp s cs u9 ∨ lSt D w m K b aJ 1 ((opGain M x y).1 = 1) (fun _ => True) M ps sv rp s cs u9 ∨ lSt D w m K b aJ 2 ((opGain M x y).1 = 2) (fun _ => True) M ps sv rp s cs u9 ∨ lSt D w m K b aJ 3 ((opGain M x y).1 = 3) (fun _ => True) M ps sv rp s cs u9) (fun u9 => cI D A u9.1 u9.2.1)) (zNo) := by
  refine zC_startH (L := [some (.ref b), some (zI (x)), some (zI (y)), some (.ref aJ), none]) (by decide) (Nat.le_of_ble_eq_true rfl) rfl (fun X hX => ?_)
  have hb0 := hb
  obtain ⟨lg, hl1, ia, sa, ra, ca, p1, -⟩ := hb
  refine z_aload_n (i := 3) (q := 1) hX dX0_gain_0 rfl rfl rfl ?_
  refine z_iconst (q := 2) hX dX0_gain_1 rfl ?_
  refine z_aload_n (i := 0) (q := 3) hX dX0_gain_2 rfl rfl rfl ?_
  refine z_iload_n (i := 1) (q := 4) hX dX0_gain_3 rfl rfl rfl ?_
  refine z_iload_n (i := 2) (q := 5) hX dX0_gain_4 rfl rfl rfl ?_
  refine z_VW (ci := ciX1) (T := TX1) (N := 7) (na := 2) hX dX0_gain_5 (c_X1_gain D A hb0 hK hx hy) rfl q1705 q1706 q1707 q97 q1708 (by decide +kernel) ⟨Nat.le_of_ble_eq_true rfl, Nat.le_of_ble_eq_true rfl⟩ rfl rfl (Nat.le_of_ble_eq_true rfl) rfl (by first | exact Nat.le_of_ble_eq_true rfl | (show _ + 12 ≤ 12; omega)) (by first | exact Nat.le_of_ble_eq_true rfl | (show _ + 74 ≤ 74; omega)) (fun H h => ⟨h, h.obE (Or.inr p1) rfl⟩) ?_ (zPe.out (fun x5 hx5 => ?_))
  · refine zXo.out (zXs.out (fun e5 => ?_)) (zXo.out (zXs.out (fun e5 => ?_)) (zXs.out (fun e5 => ?_)))
    · refine zT.ax (fun hφ => zT.ex (fun w9 => zT.ex (fun m9 => zT.ax (fun hw9 => zT.ax (fun hf9 => zT.ax (fun hb9 => ?_))))))
      refine zT.catch hX [] _ [_, _] rfl (fun z hz => by cases hz) (by decide) (by decide) q1513 (zCs_at 39 rfl) rfl ?_
      refine z_astore (q := 15) hX dX0_gain_13 (Nat.le_of_ble_eq_true rfl) rfl rfl ?_
      refine z_iconst (q := 16) hX dX0_gain_15 rfl ?_
      exact z_iret hX dX0_gain_16 (by first | exact Nat.le_of_ble_eq_true rfl | (show (_ : Nat) ≤ 12; omega)) (by first | exact Nat.le_of_ble_eq_true rfl | (show (_ : Nat) ≤ 74; omega)) rfl (fun H h => ⟨(w9, m9, 1), rfl, Or.inr (Or.inl (lSt.no hφ hw9 hf9 hb9 hKJ hJ (fun _ => trivial))), h⟩)
    · refine zT.ax (fun hφ => zT.ex (fun w9 => zT.ex (fun m9 => zT.ax (fun hw9 => zT.ax (fun hf9 => zT.ax (fun hb9 => ?_))))))
      refine zT.catch hX [_] _ [_] rfl (fun z hz => by rw [List.mem_singleton] at hz; subst hz; exact Or.inr ⟨by decide, _, q1513, List.mem_of_getElem? (i := 3) rfl⟩) (by decide) (by decide) q1303 (zCs_at 35 rfl) rfl ?_
      refine z_astore (q := 19) hX dX0_gain_17 (Nat.le_of_ble_eq_true rfl) rfl rfl ?_
      refine z_iconst (q := 20) hX dX0_gain_19 rfl ?_
      exact z_iret hX dX0_gain_20 (by first | exact Nat.le_of_ble_eq_true rfl | (show (_ : Nat) ≤ 12; omega)) (by first | exact Nat.le_of_ble_eq_true rfl | (show (_ : Nat) ≤ 74; omega)) rfl (fun H h => ⟨(w9, m9, 2), rfl, Or.inr (Or.inr (Or.inl (lSt.no hφ hw9 hf9 hb9 hKJ hJ (fun _ => trivial)))), h⟩)
    · refine zT.ax (fun hφ => zT.ex (fun w9 => zT.ex (fun m9 => zT.ax (fun hw9 => zT.ax (fun hf9 => zT.ax (fun hb9 => ?_))))))
      refine zT.catch hX [_, _] _ [] rfl (fun z hz => (List.mem_cons.mp hz).elim (fun hz => by subst hz; exact Or.inr ⟨by decide, _, q1513, List.mem_of_getElem? (i := 4) rfl⟩) (fun hz => by rw [List.mem_singleton] at hz; subst hz; exact Or.inr ⟨by decide, _, q1303, List.mem_of_getElem? (i := 1) rfl⟩)) (by decide) (by decide) q1304 (zCs_at 46 rfl) rfl ?_
      refine z_astore (q := 23) hX dX0_gain_21 (Nat.le_of_ble_eq_true rfl) rfl rfl ?_
      refine z_iconst (q := 24) hX dX0_gain_23 rfl ?_
      exact z_iret hX dX0_gain_24 (by first | exact Nat.le_of_ble_eq_true rfl | (show (_ : Nat) ≤ 12; omega)) (by first | exact Nat.le_of_ble_eq_true rfl | (show (_ : Nat) ≤ 74; omega)) rfl (fun H h => ⟨(w9, m9, 3), rfl, Or.inr (Or.inr (Or.inr (lSt.no hφ hw9 hf9 hb9 hKJ hJ (fun _ => trivial)))), h⟩)
  show zG X (_ + 12) (_ + 74) _ 8 _ _
  obtain ⟨hφ, hw9, hf9, hb9⟩ := hx5
  refine z_i2lR (q := 9) hX dX0_gain_8 rfl ?_
  refine zc_last1 (q := 10) hX dX0_gain_9 ((hf9 _ hKJ).trans hJ) rfl ?_
  refine z_goto (t := 25) hX dX0_gain_10 (by decide) ?_
  refine z_iconst (q := 26) hX dX0_gain_25 rfl ?_
  exact z_iret hX dX0_gain_26 (by first | exact Nat.le_of_ble_eq_true rfl | (show (_ : Nat) ≤ 12; omega)) (by first | exact Nat.le_of_ble_eq_true rfl | (show (_ : Nat) ≤ 74; omega)) rfl (fun H h => ⟨(x5.1, _, 0), rfl, Or.inl (lSt.ok hφ hw9 hf9 hb9 hKJ), h⟩)
abbrev rmX0_column : Room := { frames := 10, cells := 12, slots := 102, locals := 220 }
set_option maxHeartbeats 4000000 in
theorem c_X0_column (D : zD) (A : Nat → Prop) {w m : zMp} {K : Nat → Prop} {M : Int → Int} {ps : List (Int → Int)} {sv : Option (Int → Int)} {rp : Option (Int × Int × Int × Int)} {s : zS} {cs : Option (List zCn)} {t c v : Int} {b aJ : Nat} {j : Int64} (hb : zX1 D w m K b M ps sv rp s cs) (hK : zHk K m) (ht : zR t) (hc : zR c) (hv : zR v) (hJ : m aJ = some (eJ1 D j)) (hKJ : K aJ) : zC D yX0_column cX0_column 6 (some .int) (some [(0, 12, 15, 31), (0, 12, 19, 19)]) rmX0_column A [.ref b, zI (t), zI (c), zI (v), .ref aJ] (cI D A w m) (zPe (fun (u9 : zMp × zMp × Int) => some (zI u9.2.2)) (fun u9 => lSt D w m K b aJ 0 ((opCol M t c v).1 = 0) (fun u8 => u8 = (Int32.ofInt (opCol M t c v).2).toInt64) M ps sv rp s cs u9 ∨ lSt D w m K b aJ 1 ((opCol M t c v).1 = 1) (fun _ => True) M ps sv rp s cs u9 ∨ lSt D w m K b aJ 2 ((opCol M t c v).1 = 2) (fun _ => True) M ps sv rp s cs u9) (fun u9 => cI D A u9.1 u9.2.1)) (zNo) := by
  refine zC_startH (L := [some (.ref b), some (zI (t)), some (zI (c)), some (zI (v)), some (.ref aJ), none]) (by decide) (Nat.le_of_ble_eq_true rfl) rfl (fun X hX => ?_)
  have hb0 := hb
  obtain ⟨lg, hl1, ia, sa, ra, ca, p1, -⟩ := hb
  refine z_aload (q := 2) hX dX0_column_0 rfl rfl ?_
  refine z_iconst (q := 3) hX dX0_column_2 rfl ?_
  refine z_aload_n (i := 0) (q := 4) hX dX0_column_3 rfl rfl rfl ?_
  refine z_iload_n (i := 1) (q := 5) hX dX0_column_4 rfl rfl rfl ?_
  refine z_iload_n (i := 2) (q := 6) hX dX0_column_5 rfl rfl rfl ?_
  refine z_iload_n (i := 3) (q := 7) hX dX0_column_6 rfl rfl rfl ?_
  refine z_V (ci := ciX1) (T := TX1) (N := 7) (na := 3) hX dX0_column_7 (c_X1_column D A hb0 hK ht hc hv) rfl q1713 q1714 q1715 q97 q1716 (by decide +kernel) ⟨Nat.le_of_ble_eq_true rfl, Nat.le_of_ble_eq_true rfl⟩ rfl rfl (Nat.le_of_ble_eq_true rfl) rfl (by first | exact Nat.le_of_ble_eq_true rfl | (show _ + 12 ≤ 12; omega)) (by first | exact Nat.le_of_ble_eq_true rfl | (show _ + 102 ≤ 102; omega)) (fun H h => ⟨h, h.obE (Or.inr p1) rfl⟩) ?_ (zPe.out (fun x7 hx7 => ?_))
  · refine zXo.out (zXs.out (fun e7 => ?_)) (zXs.out (fun e7 => ?_))
    · refine zT.ax (fun hφ => zT.ex (fun w9 => zT.ex (fun m9 => zT.ax (fun hw9 => zT.ax (fun hf9 => zT.ax (fun hb9 => ?_))))))
      refine zT.catch hX [] _ [_] rfl (fun z hz => by cases hz) (by decide) (by decide) q1513 (zCs_at 39 rfl) rfl ?_
      refine z_astore (q := 17) hX dX0_column_15 (Nat.le_of_ble_eq_true rfl) rfl rfl ?_
      refine z_iconst (q := 18) hX dX0_column_17 rfl ?_
      exact z_iret hX dX0_column_18 (by first | exact Nat.le_of_ble_eq_true rfl | (show (_ : Nat) ≤ 12; omega)) (by first | exact Nat.le_of_ble_eq_true rfl | (show (_ : Nat) ≤ 102; omega)) rfl (fun H h => ⟨(w9, m9, 1), rfl, Or.inr (Or.inl (lSt.no hφ hw9 hf9 hb9 hKJ hJ (fun _ => trivial))), h⟩)
    · refine zT.ax (fun hφ => zT.ex (fun w9 => zT.ex (fun m9 => zT.ax (fun hw9 => zT.ax (fun hf9 => zT.ax (fun hb9 => ?_))))))
      refine zT.catch hX [_] _ [] rfl (fun z hz => by rw [List.mem_singleton] at hz; subst hz; exact Or.inr ⟨by decide, _, q1513, List.mem_of_getElem? (i := 3) rfl⟩) (by decide) (by decide) q1303 (zCs_at 35 rfl) rfl ?_
      refine z_astore (q := 21) hX dX0_column_19 (Nat.le_of_ble_eq_true rfl) rfl rfl ?_
      refine z_iconst (q := 22) hX dX0_column_21 rfl ?_
      exact z_iret hX dX0_column_22 (by first | exact Nat.le_of_ble_eq_true rfl | (show (_ : Nat) ≤ 12; omega)) (by first | exact Nat.le_of_ble_eq_true rfl | (show (_ : Nat) ≤ 102; omega)) rfl (fun H h => ⟨(w9, m9, 2), rfl, Or.inr (Or.inr (lSt.no hφ hw9 hf9 hb9 hKJ hJ (fun _ => trivial))), h⟩)
  show zG X (_ + 12) (_ + 102) _ 10 _ _
  obtain ⟨hφ, hw9, hf9, hb9⟩ := hx7
  refine z_i2lR (q := 11) hX dX0_column_10 rfl ?_
  refine zc_last1 (q := 12) hX dX0_column_11 ((hf9 _ hKJ).trans hJ) rfl ?_
  refine z_goto (t := 23) hX dX0_column_12 (by decide) ?_
  refine z_iconst (q := 24) hX dX0_column_23 rfl ?_
  exact z_iret hX dX0_column_24 (by first | exact Nat.le_of_ble_eq_true rfl | (show (_ : Nat) ≤ 12; omega)) (by first | exact Nat.le_of_ble_eq_true rfl | (show (_ : Nat) ≤ 102; omega)) rfl (fun H h => ⟨(x7.1, _, 0), rfl, Or.inl (lSt.ok hφ hw9 hf9 hb9 hKJ), h⟩)
abbrev rmX0_cost : Room := { frames := 10, cells := 8, slots := 78, locals := 189 }
set_option maxHeartbeats 4000000 in
theorem c_X0_cost (D : zD) (A : Nat → Prop) {w m : zMp} {K : Nat → Prop} {M : Int → Int} {ps : List (Int → Int)} {sv : Option (Int → Int)} {rp : Option (Int × Int × Int × Int)} {s : zS} {cs : Option (List zCn)} {t c v : Int} {b aJ : Nat} {j : Int64} (hb : zX1 D w m K b M ps sv rp s cs) (hK : zHk K m) (ht : zR t) (hc : zR c) (hv : zR v) (hJ : m aJ = some (eJ1 D j)) (hKJ : K aJ) : zC D yX0_cost cX0_cost 6 (some .int) (some [(0, 12, 15, 31), (0, 12, 19, 19)]) rmX0_cost A [.ref b, zI (t), zI (c), zI (v), .ref aJ] (cI D A w m) (zPe (fun (u9 : zMp × zMp × Int) => some (zI u9.2.2)) (fun u9 => lSt D w m K b aJ 0 ((opCost M t c v).1 = 0) (fun u8 => u8 = (Int32.ofInt (opCost M t c v).2).toInt64) M ps sv rp s cs u9 ∨ lSt D w m K b aJ 1 ((opCost M t c v).1 = 1) (fun _ => True) M ps sv rp s cs u9 ∨ lSt D w m K b aJ 2 ((opCost M t c v).1 = 2) (fun _ => True) M ps sv rp s cs u9) (fun u9 => cI D A u9.1 u9.2.1)) (zNo) := by
  refine zC_startH (L := [some (.ref b), some (zI (t)), some (zI (c)), some (zI (v)), some (.ref aJ), none]) (by decide) (Nat.le_of_ble_eq_true rfl) rfl (fun X hX => ?_)
  have hb0 := hb
  obtain ⟨lg, hl1, ia, sa, ra, ca, p1, -⟩ := hb
  refine z_aload (q := 2) hX dX0_cost_0 rfl rfl ?_
  refine z_iconst (q := 3) hX dX0_cost_2 rfl ?_
  refine z_aload_n (i := 0) (q := 4) hX dX0_cost_3 rfl rfl rfl ?_
  refine z_iload_n (i := 1) (q := 5) hX dX0_cost_4 rfl rfl rfl ?_
  refine z_iload_n (i := 2) (q := 6) hX dX0_cost_5 rfl rfl rfl ?_
  refine z_iload_n (i := 3) (q := 7) hX dX0_cost_6 rfl rfl rfl ?_
  refine z_V (ci := ciX1) (T := TX1) (N := 7) (na := 3) hX dX0_cost_7 (c_X1_cost D A hb0 hK ht hc hv) rfl q1732 q1733 q1734 q97 q1735 (by decide +kernel) ⟨Nat.le_of_ble_eq_true rfl, Nat.le_of_ble_eq_true rfl⟩ rfl rfl (Nat.le_of_ble_eq_true rfl) rfl (by first | exact Nat.le_of_ble_eq_true rfl | (show _ + 8 ≤ 8; omega)) (by first | exact Nat.le_of_ble_eq_true rfl | (show _ + 78 ≤ 78; omega)) (fun H h => ⟨h, h.obE (Or.inr p1) rfl⟩) ?_ (zPe.out (fun x7 hx7 => ?_))
  · refine zXo.out (zXs.out (fun e7 => ?_)) (zXs.out (fun e7 => ?_))
    · refine zT.ax (fun hφ => zT.ex (fun w9 => zT.ex (fun m9 => zT.ax (fun hw9 => zT.ax (fun hf9 => zT.ax (fun hb9 => ?_))))))
      refine zT.catch hX [] _ [_] rfl (fun z hz => by cases hz) (by decide) (by decide) q1513 (zCs_at 39 rfl) rfl ?_
      refine z_astore (q := 17) hX dX0_cost_15 (Nat.le_of_ble_eq_true rfl) rfl rfl ?_
      refine z_iconst (q := 18) hX dX0_cost_17 rfl ?_
      exact z_iret hX dX0_cost_18 (by first | exact Nat.le_of_ble_eq_true rfl | (show (_ : Nat) ≤ 8; omega)) (by first | exact Nat.le_of_ble_eq_true rfl | (show (_ : Nat) ≤ 78; omega)) rfl (fun H h => ⟨(w9, m9, 1), rfl, Or.inr (Or.inl (lSt.no hφ hw9 hf9 hb9 hKJ hJ (fun _ => trivial))), h⟩)
    · refine zT.ax (fun hφ => zT.ex (fun w9 => zT.ex (fun m9 => zT.ax (fun hw9 => zT.ax (fun hf9 => zT.ax (fun hb9 => ?_))))))
      refine zT.catch hX [_] _ [] rfl (fun z hz => by rw [List.mem_singleton] at hz; subst hz; exact Or.inr ⟨by decide, _, q1513, List.mem_of_getElem? (i := 3) rfl⟩) (by decide) (by decide) q1303 (zCs_at 35 rfl) rfl ?_
      refine z_astore (q := 21) hX dX0_cost_19 (Nat.le_of_ble_eq_true rfl) rfl rfl ?_
      refine z_iconst (q := 22) hX dX0_cost_21 rfl ?_
      exact z_iret hX dX0_cost_22 (by first | exact Nat.le_of_ble_eq_true rfl | (show (_ : Nat) ≤ 8; omega)) (by first | exact Nat.le_of_ble_eq_true rfl | (show (_ : Nat) ≤ 78; omega)) rfl (fun H h => ⟨(w9, m9, 2), rfl, Or.inr (Or.inr (lSt.no hφ hw9 hf9 hb9 hKJ hJ (fun _ => trivial))), h⟩)
  show zG X (_ + 8) (_ + 78) _ 10 _ _
  obtain ⟨hφ, hw9, hf9, hb9⟩ := hx7
  refine z_i2lR (q := 11) hX dX0_cost_10 rfl ?_
  refine zc_last1 (q := 12) hX dX0_cost_11 ((hf9 _ hKJ).trans hJ) rfl ?_
  refine z_goto (t := 23) hX dX0_cost_12 (by decide) ?_
  refine z_iconst (q := 24) hX dX0_cost_23 rfl ?_
  exact z_iret hX dX0_cost_24 (by first | exact Nat.le_of_ble_eq_true rfl | (show (_ : Nat) ≤ 8; omega)) (by first | exact Nat.le_of_ble_eq_true rfl | (show (_ : Nat) ≤ 78; omega)) rfl (fun H h => ⟨(x7.1, _, 0), rfl, Or.inl (lSt.ok hφ hw9 hf9 hb9 hKJ), h⟩)
abbrev rmX0_code : Room := { frames := 10, cells := 8, slots := 78, locals := 189 }
set_option maxHeartbeats 4000000 in
theorem c_X0_code (D : zD) (A : Nat → Prop) {w m : zMp} {K : Nat → Prop} {M : Int → Int} {ps : List (Int → Int)} {sv : Option (Int → Int)} {rp : Option (Int × Int × Int × Int)} {s : zS} {cs : Option (List zCn)} {t c r : Int} {b aJ : Nat} {j : Int64} (hb : zX1 D w m K b M ps sv rp s cs) (hK : zHk K m) (ht : zR t) (hc : zR c) (hr : zR r) (hJ : m aJ = some (eJ1 D j)) (hKJ : K aJ) : zC D yX0_code cX0_code 6 (some .int) (some [(0, 12, 15, 31)]) rmX0_code A [.ref b, zI (t), zI (c), zI (r), .ref aJ] (cI D A w m) (zPe (fun (u9 : zMp × zMp × Int) => some (zI u9.2.2)) (fun u9 => lSt D w m K b aJ 0 ((opCode M t c r).1 = 0) (fun u8 => u8 = (Int32.ofInt (opCode M t c r).2).toInt64) M ps sv rp s cs u9 ∨ lSt D w m K b aJ 1 ((opCode M t c r).1 = 1) (fun _ => True) M ps sv rp s cs u9) (fun u9 => cI D A u9.1 u9.2.1)) (zNo) := by
  refine zC_startH (L := [some (.ref b), some (zI (t)), some (zI (c)), some (zI (r)), some (.ref aJ), none]) (by decide) (Nat.le_of_ble_eq_true rfl) rfl (fun X hX => ?_)
  have hb0 := hb
  obtain ⟨lg, hl1, ia, sa, ra, ca, p1, -⟩ := hb
  refine z_aload (q := 2) hX dX0_code_0 rfl rfl ?_
  refine z_iconst (q := 3) hX dX0_code_2 rfl ?_
  refine z_aload_n (i := 0) (q := 4) hX dX0_code_3 rfl rfl rfl ?_
  refine z_iload_n (i := 1) (q := 5) hX dX0_code_4 rfl rfl rfl ?_
  refine z_iload_n (i := 2) (q := 6) hX dX0_code_5 rfl rfl rfl ?_
  refine z_iload_n (i := 3) (q := 7) hX dX0_code_6 rfl rfl rfl ?_
  refine z_V (ci := ciX1) (T := TX1) (N := 7) (na := 3) hX dX0_code_7 (c_X1_code D A hb0 hK ht hc hr) rfl q1740 q1741 q1742 q97 q1743 (by decide +kernel) ⟨Nat.le_of_ble_eq_true rfl, Nat.le_of_ble_eq_true rfl⟩ rfl rfl (Nat.le_of_ble_eq_true rfl) rfl (by first | exact Nat.le_of_ble_eq_true rfl | (show _ + 8 ≤ 8; omega)) (by first | exact Nat.le_of_ble_eq_true rfl | (show _ + 78 ≤ 78; omega)) (fun H h => ⟨h, h.obE (Or.inr p1) rfl⟩) (zXs.out (fun e7 => ?_)) (zPe.out (fun x7 hx7 => ?_))
  · refine zT.ax (fun hφ => zT.ex (fun w9 => zT.ex (fun m9 => zT.ax (fun hw9 => zT.ax (fun hf9 => zT.ax (fun hb9 => ?_))))))
    refine zT.catch hX [] _ [] rfl (fun z hz => by cases hz) (by decide) (by decide) q1513 (zCs_at 39 rfl) rfl ?_
    refine z_astore (q := 17) hX dX0_code_15 (Nat.le_of_ble_eq_true rfl) rfl rfl ?_
    refine z_iconst (q := 18) hX dX0_code_17 rfl ?_
    exact z_iret hX dX0_code_18 (by first | exact Nat.le_of_ble_eq_true rfl | (show (_ : Nat) ≤ 8; omega)) (by first | exact Nat.le_of_ble_eq_true rfl | (show (_ : Nat) ≤ 78; omega)) rfl (fun H h => ⟨(w9, m9, 1), rfl, Or.inr (lSt.no hφ hw9 hf9 hb9 hKJ hJ (fun _ => trivial)), h⟩)
  show zG X (_ + 8) (_ + 78) _ 10 _ _
  obtain ⟨hφ, hw9, hf9, hb9⟩ := hx7
  refine z_i2lR (q := 11) hX dX0_code_10 rfl ?_
  refine zc_last1 (q := 12) hX dX0_code_11 ((hf9 _ hKJ).trans hJ) rfl ?_
  refine z_goto (t := 19) hX dX0_code_12 (by decide) ?_
  refine z_iconst (q := 20) hX dX0_code_19 rfl ?_
  exact z_iret hX dX0_code_20 (by first | exact Nat.le_of_ble_eq_true rfl | (show (_ : Nat) ≤ 8; omega)) (by first | exact Nat.le_of_ble_eq_true rfl | (show (_ : Nat) ≤ 78; omega)) rfl (fun H h => ⟨(x7.1, _, 0), rfl, Or.inl (lSt.ok hφ hw9 hf9 hb9 hKJ), h⟩)
abbrev rmX0_value : Room := { frames := 10, cells := 9, slots := 84, locals := 189 }
set_option maxHeartbeats 4000000 in
theorem c_X0_value (D : zD) (A : Nat → Prop) {w m : zMp} {K : Nat → Prop} {M : Int → Int} {ps : List (Int → Int)} {sv : Option (Int → Int)} {rp : Option (Int × Int × Int × Int)} {s : zS} {cs : Option (List zCn)} {t c r : Int} {b aJ : Nat} {j : Int64} (hb : zX1 D w m K b M ps sv rp s cs) (hK : zHk K m) (ht : zR t) (hc : zR c) (hr : zR r) (hJ : m aJ = some (eJ1 D j)) (hKJ : K aJ) : zC D yX0_value cX0_value 6 (some .int) (some [(0, 12, 15, 31), (0, 12, 19, 76)]) rmX0_value A [.ref b, zI (t), zI (c), zI (r), .ref aJ] (cI D A w m) (zPe (fun (u9 : zMp × zMp × Int) => some (zI u9.2.2)) (fun u9 => lSt D w m K b aJ 0 ((opVal M t c r).1 = 0) (fun u8 => u8 = (Int32.ofInt (opVal M t c r).2).toInt64) M ps sv rp s cs u9 ∨ lSt D w m K b aJ 1 ((opVal M t c r).1 = 1) (fun _ => True) M ps sv rp s cs u9 ∨ lSt D w m K b aJ 2 ((opVal M t c r).1 = 2) (fun _ => True) M ps sv rp s cs u9) (fun u9 => cI D A u9.1 u9.2.1)) (zNo) := by
  refine zC_startH (L := [some (.ref b), some (zI (t)), some (zI (c)), some (zI (r)), some (.ref aJ), none]) (by decide) (Nat.le_of_ble_eq_true rfl) rfl (fun X hX => ?_)
  have hb0 := hb
  obtain ⟨lg, hl1, ia, sa, ra, ca, p1, -⟩ := hb
  refine z_aload (q := 2) hX dX0_value_0 rfl rfl ?_
  refine z_iconst (q := 3) hX dX0_value_2 rfl ?_
  refine z_aload_n (i := 0) (q := 4) hX dX0_value_3 rfl rfl rfl ?_
  refine z_iload_n (i := 1) (q := 5) hX dX0_value_4 rfl rfl rfl ?_
  refine z_iload_n (i := 2) (q := 6) hX dX0_value_5 rfl rfl rfl ?_
  refine z_iload_n (i := 3) (q := 7) hX dX0_value_6 rfl rfl rfl ?_
  refine z_V (ci := ciX1) (T := TX1) (N := 7) (na := 3) hX dX0_value_7 (c_X1_value D A hb0 hK ht hc hr) rfl q1752 q1753 q1754 q97 q1755 (by decide +kernel) ⟨Nat.le_of_ble_eq_true rfl, Nat.le_of_ble_eq_true rfl⟩ rfl rfl (Nat.le_of_ble_eq_true rfl) rfl (by first | exact Nat.le_of_ble_eq_true rfl | (show _ + 9 ≤ 9; omega)) (by first | exact Nat.le_of_ble_eq_true rfl | (show _ + 84 ≤ 84; omega)) (fun H h => ⟨h, h.obE (Or.inr p1) rfl⟩) ?_ (zPe.out (fun x7 hx7 => ?_))
  · refine zXo.out (zXs.out (fun e7 => ?_)) (zXs.out (fun e7 => ?_))
    · refine zT.ax (fun hφ => zT.ex (fun w9 => zT.ex (fun m9 => zT.ax (fun hw9 => zT.ax (fun hf9 => zT.ax (fun hb9 => ?_))))))
      refine zT.catch hX [] _ [_] rfl (fun z hz => by cases hz) (by decide) (by decide) q1513 (zCs_at 39 rfl) rfl ?_
      refine z_astore (q := 17) hX dX0_value_15 (Nat.le_of_ble_eq_true rfl) rfl rfl ?_
      refine z_iconst (q := 18) hX dX0_value_17 rfl ?_
      exact z_iret hX dX0_value_18 (by first | exact Nat.le_of_ble_eq_true rfl | (show (_ : Nat) ≤ 9; omega)) (by first | exact Nat.le_of_ble_eq_true rfl | (show (_ : Nat) ≤ 84; omega)) rfl (fun H h => ⟨(w9, m9, 1), rfl, Or.inr (Or.inl (lSt.no hφ hw9 hf9 hb9 hKJ hJ (fun _ => trivial))), h⟩)
    · refine zT.ax (fun hφ => zT.ex (fun w9 => zT.ex (fun m9 => zT.ax (fun hw9 => zT.ax (fun hf9 => zT.ax (fun hb9 => ?_))))))
      refine zT.catch hX [_] _ [] rfl (fun z hz => by rw [List.mem_singleton] at hz; subst hz; exact Or.inr ⟨by decide, _, q1513, List.mem_of_getElem? (i := 6) rfl⟩) (by decide) (by decide) q1751 (zCs_at 51 rfl) rfl ?_
      refine z_astore (q := 21) hX dX0_value_19 (Nat.le_of_ble_eq_true rfl) rfl rfl ?_
      refine z_iconst (q := 22) hX dX0_value_21 rfl ?_
      exact z_iret hX dX0_value_22 (by first | exact Nat.le_of_ble_eq_true rfl | (show (_ : Nat) ≤ 9; omega)) (by first | exact Nat.le_of_ble_eq_true rfl | (show (_ : Nat) ≤ 84; omega)) rfl (fun H h => ⟨(w9, m9, 2), rfl, Or.inr (Or.inr (lSt.no hφ hw9 hf9 hb9 hKJ hJ (fun _ => trivial))), h⟩)
  show zG X (_ + 9) (_ + 84) _ 10 _ _
  obtain ⟨hφ, hw9, hf9, hb9⟩ := hx7
  refine z_i2lR (q := 11) hX dX0_value_10 rfl ?_
  refine zc_last1 (q := 12) hX dX0_value_11 ((hf9 _ hKJ).trans hJ) rfl ?_
  refine z_goto (t := 23) hX dX0_value_12 (by decide) ?_
  refine z_iconst (q := 24) hX dX0_value_23 rfl ?_
  exact z_iret hX dX0_value_24 (by first | exact Nat.le_of_ble_eq_true rfl | (show (_ : Nat) ≤ 9; omega)) (by first | exact Nat.le_of_ble_eq_true rfl | (show (_ : Nat) ≤ 84; omega)) rfl (fun H h => ⟨(x7.1, _, 0), rfl, Or.inl (lSt.ok hφ hw9 hf9 hb9 hKJ), h⟩)
abbrev rmX0_sum : Room := { frames := 10, cells := 7, slots := 72, locals := 191 }
set_option maxHeartbeats 4000000 in
theorem c_X0_sum (D : zD) (A : Nat → Prop) {w m : zMp} {K : Nat → Prop} {M : Int → Int} {ps : List (Int → Int)} {sv : Option (Int → Int)} {rp : Option (Int × Int × Int × Int)} {s : zS} {cs : Option (List zCn)} {t c : Int} {b aJ : Nat} {j : Int64} (hb : zX1 D w m K b M ps sv rp s cs) (hK : zHk K m) (ht : zR t) (hc : zR c) (hJ : m aJ = some (eJ1 D j)) (hKJ : K aJ) : zC D yX0_sum cX0_sum 5 (some .int) (some [(0, 9, 12, 31)]) rmX0_sum A [.ref b, zI (t), zI (c), .ref aJ] (cI D A w m) (zPe (fun (u9 : zMp × zMp × Int) => some (zI u9.2.2)) (fun u9 => lSt D w m K b aJ 0 ((opSum M t c).1 = 0) (fun u8 => u8 = (Int64.ofInt (opSum M t c).2)) M ps sv rp s cs u9 ∨ lSt D w m K b aJ 1 ((opSum M t c).1 = 1) (fun _ => True) M ps sv rp s cs u9) (fun u9 => cI D A u9.1 u9.2.1)) (zNo) := by
  refine zC_startH (L := [some (.ref b), some (zI (t)), some (zI (c)), some (.ref aJ), none]) (by decide) (Nat.le_of_ble_eq_true rfl) rfl (fun X hX => ?_)
  have hb0 := hb
  obtain ⟨lg, hl1, ia, sa, ra, ca, p1, -⟩ := hb
  refine z_aload_n (i := 3) (q := 1) hX dX0_sum_0 rfl rfl rfl ?_
  refine z_iconst (q := 2) hX dX0_sum_1 rfl ?_
  refine z_aload_n (i := 0) (q := 3) hX dX0_sum_2 rfl rfl rfl ?_
  refine z_iload_n (i := 1) (q := 4) hX dX0_sum_3 rfl rfl rfl ?_
  refine z_iload_n (i := 2) (q := 5) hX dX0_sum_4 rfl rfl rfl ?_
  refine z_V (ci := ciX1) (T := TX1) (N := 7) (na := 2) hX dX0_sum_5 (c_X1_sum D A hb0 hK ht hc) rfl q1762 q1763 q1764 q97 q1765 (by decide +kernel) ⟨Nat.le_of_ble_eq_true rfl, Nat.le_of_ble_eq_true rfl⟩ rfl rfl (Nat.le_of_ble_eq_true rfl) rfl (by first | exact Nat.le_of_ble_eq_true rfl | (show _ + 7 ≤ 7; omega)) (by first | exact Nat.le_of_ble_eq_true rfl | (show _ + 72 ≤ 72; omega)) (fun H h => ⟨h, h.obE (Or.inr p1) rfl⟩) (zXs.out (fun e5 => ?_)) (zPe.out (fun x5 hx5 => ?_))
  · refine zT.ax (fun hφ => zT.ex (fun w9 => zT.ex (fun m9 => zT.ax (fun hw9 => zT.ax (fun hf9 => zT.ax (fun hb9 => ?_))))))
    refine zT.catch hX [] _ [] rfl (fun z hz => by cases hz) (by decide) (by decide) q1513 (zCs_at 39 rfl) rfl ?_
    refine z_astore (q := 14) hX dX0_sum_12 (Nat.le_of_ble_eq_true rfl) rfl rfl ?_
    refine z_iconst (q := 15) hX dX0_sum_14 rfl ?_
    exact z_iret hX dX0_sum_15 (by first | exact Nat.le_of_ble_eq_true rfl | (show (_ : Nat) ≤ 7; omega)) (by first | exact Nat.le_of_ble_eq_true rfl | (show (_ : Nat) ≤ 72; omega)) rfl (fun H h => ⟨(w9, m9, 1), rfl, Or.inr (lSt.no hφ hw9 hf9 hb9 hKJ hJ (fun _ => trivial)), h⟩)
  show zG X (_ + 7) (_ + 72) _ 8 _ _
  obtain ⟨hφ, hw9, hf9, hb9⟩ := hx5
  refine zc_last1 (q := 9) hX dX0_sum_8 ((hf9 _ hKJ).trans hJ) rfl ?_
  refine z_goto (t := 16) hX dX0_sum_9 (by decide) ?_
  refine z_iconst (q := 17) hX dX0_sum_16 rfl ?_
  exact z_iret hX dX0_sum_17 (by first | exact Nat.le_of_ble_eq_true rfl | (show (_ : Nat) ≤ 7; omega)) (by first | exact Nat.le_of_ble_eq_true rfl | (show (_ : Nat) ≤ 72; omega)) rfl (fun H h => ⟨(x5.1, _, 0), rfl, Or.inl (lSt.ok hφ hw9 hf9 hb9 hKJ), h⟩)
abbrev rmX0_ratio : Room := { frames := 12, cells := 2, slots := 10, locals := 264 }
set_option maxHeartbeats 4000000 in
theorem c_X0_ratio (D : zD) (A : Nat → Prop) {w m : zMp} {K : Nat → Prop} {M : Int → Int} {ps : List (Int → Int)} {sv : Option (Int → Int)} {rp : Option (Int × Int × Int × Int)} {s : zS} {cs : Option (List zCn)} {b aJ : Nat} {j : UInt64} (hb : zX1 D w m K b M ps sv rp s cs) (hK : zHk K m) (hJ : m aJ = some (eD1 D j)) (hKJ : K aJ) : zC D yX0_ratio cX0_ratio 3 (some .int) (some [(0, 7, 10, 86)]) rmX0_ratio A [.ref b, .ref aJ] (cI D A w m) (zPe (fun (u9 : zMp × zMp × Int) => some (zI u9.2.2)) (fun u9 => lStD D w m K b aJ 0 (M 0 ≠ 0) (fun u8 => u8 = (opRat M)) M ps sv rp s cs u9 ∨ lStD D w m K b aJ 1 (M 0 = 0) (fun _ => True) M ps sv rp s cs u9) (fun u9 => cI D A u9.1 u9.2.1)) (zNo) := by
  refine zC_startH (L := [some (.ref b), some (.ref aJ), none]) (by decide) (Nat.le_of_ble_eq_true rfl) rfl (fun X hX => ?_)
  have hb0 := hb
  obtain ⟨lg, hl1, ia, sa, ra, ca, p1, -⟩ := hb
  refine z_aload_n (i := 1) (q := 1) hX dX0_ratio_0 rfl rfl rfl ?_
  refine z_iconst (q := 2) hX dX0_ratio_1 rfl ?_
  refine z_aload_n (i := 0) (q := 3) hX dX0_ratio_2 rfl rfl rfl ?_
  refine z_V (ci := ciX1) (T := TX1) (N := 7) (na := 0) hX dX0_ratio_3 (c_X1_ratio D A hb0 hK) rfl q1783 q1784 q1785 q97 q1786 (by decide +kernel) ⟨Nat.le_of_ble_eq_true rfl, Nat.le_of_ble_eq_true rfl⟩ rfl rfl (Nat.le_of_ble_eq_true rfl) rfl (by first | exact Nat.le_of_ble_eq_true rfl | (show _ + 2 ≤ 2; omega)) (by first | exact Nat.le_of_ble_eq_true rfl | (show _ + 10 ≤ 10; omega)) (fun H h => ⟨h, h.obE (Or.inr p1) rfl⟩) (zXs.out (fun e3 => ?_)) (zPe.out (fun x3 hx3 => ?_))
  · refine zT.ax (fun hφ => zT.ex (fun w9 => zT.ex (fun m9 => zT.ax (fun hw9 => zT.ax (fun hf9 => zT.ax (fun hb9 => ?_))))))
    refine zT.catch hX [] _ [] rfl (fun z hz => by cases hz) (by decide) (by decide) q1769 (zCs_at 30 rfl) rfl ?_
    refine z_astore_n (i := 2) (q := 11) hX dX0_ratio_10 rfl (Nat.le_of_ble_eq_true rfl) rfl rfl ?_
    refine z_iconst (q := 12) hX dX0_ratio_11 rfl ?_
    exact z_iret hX dX0_ratio_12 (by first | exact Nat.le_of_ble_eq_true rfl | (show (_ : Nat) ≤ 2; omega)) (by first | exact Nat.le_of_ble_eq_true rfl | (show (_ : Nat) ≤ 10; omega)) rfl (fun H h => ⟨(w9, m9, 1), rfl, Or.inr (lStD.no hφ hw9 hf9 hb9 hKJ hJ (fun _ => trivial)), h⟩)
  show zG X (_ + 2) (_ + 10) _ 6 _ _
  obtain ⟨hφ, hw9, hf9, hb9⟩ := hx3
  refine zc_dast1 (q := 7) hX dX0_ratio_6 ((hf9 _ hKJ).trans hJ) rfl ?_
  refine z_goto (t := 13) hX dX0_ratio_7 (by decide) ?_
  refine z_iconst (q := 14) hX dX0_ratio_13 rfl ?_
  exact z_iret hX dX0_ratio_14 (by first | exact Nat.le_of_ble_eq_true rfl | (show (_ : Nat) ≤ 2; omega)) (by first | exact Nat.le_of_ble_eq_true rfl | (show (_ : Nat) ≤ 10; omega)) rfl (fun H h => ⟨(x3.1, _, 0), rfl, Or.inl (lStD.ok hφ hw9 hf9 hb9 hKJ), h⟩)
abbrev rmX0_hit_no : Room := { frames := 8, cells := 1, slots := 6, locals := 143 }
set_option maxHeartbeats 4000000 in
theorem c_X0_hit_no (D : zD) (A : Nat → Prop) {w m : zMp} {K : Nat → Prop} {M : Int → Int} {ps : List (Int → Int)} {sv : Option (Int → Int)} {rp : Option (Int × Int × Int × Int)} {s : zS} {cs : Option (List zCn)} {x : Int} {b aJ : Nat} {j : Int64} (hb : zX1 D w m K b M ps sv rp s cs) (hK : zHk K m) (hc : cs = none) (hJ : m aJ = some (eJ1 D j)) (hKJ : K aJ) : zC D yX0_hit cX0_hit 4 (some .int) (some [(0, 9, 12, 76), (0, 9, 15, 31)]) rmX0_hit_no A [.ref b, zI (x), .ref aJ] (cI D A w m) (zPe (fun (u9 : zMp × zMp × Int) => some (zI u9.2.2)) (fun u9 => lSt D w m K b aJ 1 True (fun _ => True) M ps sv rp s cs u9) (fun u9 => cI D A u9.1 u9.2.1)) (zNo) := by
  refine zC_startH (L := [some (.ref b), some (zI (x)), some (.ref aJ), none]) (by decide) (Nat.le_of_ble_eq_true rfl) rfl (fun X hX => ?_)
  have hb0 := hb
  obtain ⟨lg, hl1, ia, sa, ra, ca, p1, -⟩ := hb
  refine z_aload_n (i := 2) (q := 1) hX dX0_hit_0 rfl rfl rfl ?_
  refine z_iconst (q := 2) hX dX0_hit_1 rfl ?_
  refine z_aload_n (i := 0) (q := 3) hX dX0_hit_2 rfl rfl rfl ?_
  refine z_iload_n (i := 1) (q := 4) hX dX0_hit_3 rfl rfl rfl ?_
  refine z_V (ci := ciX1) (T := TX1) (N := 7) (na := 1) hX dX0_hit_4 (c_X1_hit_no D A hb0 hK hc) rfl q1796 q1797 q1798 q97 q1799 (by decide +kernel) ⟨Nat.le_of_ble_eq_true rfl, Nat.le_of_ble_eq_true rfl⟩ rfl rfl (Nat.le_of_ble_eq_true rfl) rfl (by first | exact Nat.le_of_ble_eq_true rfl | (show _ + 1 ≤ 1; omega)) (by first | exact Nat.le_of_ble_eq_true rfl | (show _ + 6 ≤ 6; omega)) (fun H h => ⟨h, h.obE (Or.inr p1) rfl⟩) (zXs.out (fun e4 => ?_)) (zPe.out (fun x4 hx4 => ?_))
  · refine zT.ax (fun hφ => zT.ex (fun w9 => zT.ex (fun m9 => zT.ax (fun hw9 => zT.ax (fun hf9 => zT.ax (fun hb9 => ?_))))))
    refine zT.catch hX [] _ [_] rfl (fun z hz => by cases hz) (by decide) (by decide) q1751 (zCs_at 51 rfl) rfl ?_
    refine z_astore_n (i := 3) (q := 13) hX dX0_hit_12 rfl (Nat.le_of_ble_eq_true rfl) rfl rfl ?_
    refine z_iconst (q := 14) hX dX0_hit_13 rfl ?_
    exact z_iret hX dX0_hit_14 (by first | exact Nat.le_of_ble_eq_true rfl | (show (_ : Nat) ≤ 1; omega)) (by first | exact Nat.le_of_ble_eq_true rfl | (show (_ : Nat) ≤ 6; omega)) rfl (fun H h => ⟨(w9, m9, 1), rfl, lSt.no hφ hw9 hf9 hb9 hKJ hJ (fun _ => trivial), h⟩)
  show zG X (_ + 1) (_ + 6) _ 7 _ _
  exact absurd hx4 (fun q => q)
abbrev rmX0_hit_ok : Room := { frames := 14, cells := 2, slots := 12, locals := 313 }
set_option maxHeartbeats 4000000 in
theorem c_X0_hit_ok (D : zD) (A : Nat → Prop) {w m : zMp} {K : Nat → Prop} {M : Int → Int} {ps : List (Int → Int)} {sv : Option (Int → Int)} {rp : Option (Int × Int × Int × Int)} {s : zS} {cl : List zCn} {x : Int} {b aJ : Nat} {j : Int64} (hb : zX1 D w m K b M ps sv rp s (some cl)) (hK : zHk K m) (hx : zR x) (hJ : m aJ = some (eJ1 D j)) (hKJ : K aJ) : zC D yX0_hit cX0_hit 4 (some .int) (some [(0, 9, 12, 76), (0, 9, 15, 31)]) rmX0_hit_ok A [.ref b, zI (x), .ref aJ] (cI D A w m) (zPe (fun (u9 : zMp × zMp × Int) => some (zI u9.2.2)) (fun u9 => lSt D w m K b aJ 0 (0 ≤ x ∧ x < hiE M cl (-1)) (fun u8 => u8 = (Int32.ofInt (hitV M cl x)).toInt64) M ps sv rp s (some cl) u9 ∨ lSt D w m K b aJ 2 (¬ (0 ≤ x ∧ x < hiE M cl (-1))) (fun _ => True) M ps sv rp s (some cl) u9) (fun u9 => cI D A u9.1 u9.2.1)) (zNo) := by
  refine zC_startH (L := [some (.ref b), some (zI (x)), some (.ref aJ), none]) (by decide) (Nat.le_of_ble_eq_true rfl) rfl (fun X hX => ?_)
  have hb0 := hb
  obtain ⟨lg, hl1, ia, sa, ra, ca, p1, -⟩ := hb
  refine z_aload_n (i := 2) (q := 1) hX dX0_hit_0 rfl rfl rfl ?_
  refine z_iconst (q := 2) hX dX0_hit_1 rfl ?_
  refine z_aload_n (i := 0) (q := 3) hX dX0_hit_2 rfl rfl rfl ?_
  refine z_iload_n (i := 1) (q := 4) hX dX0_hit_3 rfl rfl rfl ?_
  refine z_V (ci := ciX1) (T := TX1) (N := 7) (na := 1) hX dX0_hit_4 (c_X1_hit_ok D A hb0 hK hx) rfl q1796 q1797 q1798 q97 q1799 (by decide +kernel) ⟨Nat.le_of_ble_eq_true rfl, Nat.le_of_ble_eq_true rfl⟩ rfl rfl (Nat.le_of_ble_eq_true rfl) rfl (by first | exact Nat.le_of_ble_eq_true rfl | (show _ + 2 ≤ 2; omega)) (by first | exact Nat.le_of_ble_eq_true rfl | (show _ + 12 ≤ 12; omega)) (fun H h => ⟨h, h.obE (Or.inr p1) rfl⟩) (zXs.out (fun e4 => ?_)) (zPe.out (fun x4 hx4 => ?_))
  · refine zT.ax (fun hφ => zT.ex (fun w9 => zT.ex (fun m9 => zT.ax (fun hw9 => zT.ax (fun hf9 => zT.ax (fun hb9 => ?_))))))
    refine zT.catch hX [_] _ [] rfl (fun z hz => by rw [List.mem_singleton] at hz; subst hz; exact Or.inr ⟨by decide, _, q1751, List.mem_of_getElem? (i := 7) rfl⟩) (by decide) (by decide) q1513 (zCs_at 39 rfl) rfl ?_
    refine z_astore_n (i := 3) (q := 16) hX dX0_hit_15 rfl (Nat.le_of_ble_eq_true rfl) rfl rfl ?_
    refine z_iconst (q := 17) hX dX0_hit_16 rfl ?_
    exact z_iret hX dX0_hit_17 (by first | exact Nat.le_of_ble_eq_true rfl | (show (_ : Nat) ≤ 2; omega)) (by first | exact Nat.le_of_ble_eq_true rfl | (show (_ : Nat) ≤ 12; omega)) rfl (fun H h => ⟨(w9, m9, 2), rfl, Or.inr (lSt.no hφ hw9 hf9 hb9 hKJ hJ (fun _ => trivial)), h⟩)
  show zG X (_ + 2) (_ + 12) _ 7 _ _
  obtain ⟨hφ, hw9, hf9, hb9⟩ := hx4
  refine z_i2lR (q := 8) hX dX0_hit_7 rfl ?_
  refine zc_last1 (q := 9) hX dX0_hit_8 ((hf9 _ hKJ).trans hJ) rfl ?_
  refine z_goto (t := 18) hX dX0_hit_9 (by decide) ?_
  refine z_iconst (q := 19) hX dX0_hit_18 rfl ?_
  exact z_iret hX dX0_hit_19 (by first | exact Nat.le_of_ble_eq_true rfl | (show (_ : Nat) ≤ 2; omega)) (by first | exact Nat.le_of_ble_eq_true rfl | (show (_ : Nat) ≤ 12; omega)) rfl (fun H h => ⟨(x4.1, _, 0), rfl, Or.inl (lSt.ok hφ hw9 hf9 hb9 hKJ), h⟩)
abbrev rmX0_excluded_no : Room := { frames := 8, cells := 1, slots := 6, locals := 141 }
set_option maxHeartbeats 4000000 in
theorem c_X0_excluded_no (D : zD) (A : Nat → Prop) {w m : zMp} {K : Nat → Prop} {M : Int → Int} {ps : List (Int → Int)} {sv : Option (Int → Int)} {rp : Option (Int × Int × Int × Int)} {s : zS} {cs : Option (List zCn)} {x : Int} {b aJ : Nat} {j : Int64} (hb : zX1 D w m K b M ps sv rp s cs) (hK : zHk K m) (hc : cs = none) (hJ : m aJ = some (eJ1 D j)) (hKJ : K aJ) : zC D yX0_excluded cX0_excluded 4 (some .int) (some [(0, 9, 12, 76)]) rmX0_excluded_no A [.ref b, zI (x), .ref aJ] (cI D A w m) (zPe (fun (u9 : zMp × zMp × Int) => some (zI u9.2.2)) (fun u9 => lSt D w m K b aJ 1 True (fun _ => True) M ps sv rp s cs u9) (fun u9 => cI D A u9.1 u9.2.1)) (zNo) := by
  refine zC_startH (L := [some (.ref b), some (zI (x)), some (.ref aJ), none]) (by decide) (Nat.le_of_ble_eq_true rfl) rfl (fun X hX => ?_)
  have hb0 := hb
  obtain ⟨lg, hl1, ia, sa, ra, ca, p1, -⟩ := hb
  refine z_aload_n (i := 2) (q := 1) hX dX0_excluded_0 rfl rfl rfl ?_
  refine z_iconst (q := 2) hX dX0_excluded_1 rfl ?_
  refine z_aload_n (i := 0) (q := 3) hX dX0_excluded_2 rfl rfl rfl ?_
  refine z_iload_n (i := 1) (q := 4) hX dX0_excluded_3 rfl rfl rfl ?_
  refine z_V (ci := ciX1) (T := TX1) (N := 7) (na := 1) hX dX0_excluded_4 (c_X1_excluded_no D A hb0 hK hc) rfl q1807 q1808 q1809 q97 q1810 (by decide +kernel) ⟨Nat.le_of_ble_eq_true rfl, Nat.le_of_ble_eq_true rfl⟩ rfl rfl (Nat.le_of_ble_eq_true rfl) rfl (by first | exact Nat.le_of_ble_eq_true rfl | (show _ + 1 ≤ 1; omega)) (by first | exact Nat.le_of_ble_eq_true rfl | (show _ + 6 ≤ 6; omega)) (fun H h => ⟨h, h.obE (Or.inr p1) rfl⟩) (zXs.out (fun e4 => ?_)) (zPe.out (fun x4 hx4 => ?_))
  · refine zT.ax (fun hφ => zT.ex (fun w9 => zT.ex (fun m9 => zT.ax (fun hw9 => zT.ax (fun hf9 => zT.ax (fun hb9 => ?_))))))
    refine zT.catch hX [] _ [] rfl (fun z hz => by cases hz) (by decide) (by decide) q1751 (zCs_at 51 rfl) rfl ?_
    refine z_astore_n (i := 3) (q := 13) hX dX0_excluded_12 rfl (Nat.le_of_ble_eq_true rfl) rfl rfl ?_
    refine z_iconst (q := 14) hX dX0_excluded_13 rfl ?_
    exact z_iret hX dX0_excluded_14 (by first | exact Nat.le_of_ble_eq_true rfl | (show (_ : Nat) ≤ 1; omega)) (by first | exact Nat.le_of_ble_eq_true rfl | (show (_ : Nat) ≤ 6; omega)) rfl (fun H h => ⟨(w9, m9, 1), rfl, lSt.no hφ hw9 hf9 hb9 hKJ hJ (fun _ => trivial), h⟩)
  show zG X (_ + 1) (_ + 6) _ 7 _ _
  exact absurd hx4 (fun q => q)
abbrev rmX0_excluded_ok : Room := { frames := 14, cells := 2, slots := 12, locals := 311 }
set_option maxHeartbeats 4000000 in
theorem c_X0_excluded_ok (D : zD) (A : Nat → Prop) {w m : zMp} {K : Nat → Prop} {M : Int → Int} {ps : List (Int → Int)} {sv : Option (Int → Int)} {rp : Option (Int × Int × Int × Int)} {s : zS} {cl : List zCn} {x : Int} {b aJ : Nat} {j : Int64} (hb : zX1 D w m K b M ps sv rp s (some cl)) (hK : zHk K m) (hx : zR x) (hJ : m aJ = some (eJ1 D j)) (hKJ : K aJ) : zC D yX0_excluded cX0_excluded 4 (some .int) (some [(0, 9, 12, 76)]) rmX0_excluded_ok A [.ref b, zI (x), .ref aJ] (cI D A w m) (zPe (fun (u9 : zMp × zMp × Int) => some (zI u9.2.2)) (fun u9 => lSt D w m K b aJ 0 (0 ≤ x ∧ x ≤ (cl.length : Int) - 1) (fun u8 => u8 = (Int32.ofInt (hiE M cl x - hiE M cl (-1))).toInt64) M ps sv rp s (some cl) u9 ∨ lSt D w m K b aJ 1 (¬ (0 ≤ x ∧ x ≤ (cl.length : Int) - 1)) (fun _ => True) M ps sv rp s (some cl) u9) (fun u9 => cI D A u9.1 u9.2.1)) (zNo) := by
  refine zC_startH (L := [some (.ref b), some (zI (x)), some (.ref aJ), none]) (by decide) (Nat.le_of_ble_eq_true rfl) rfl (fun X hX => ?_)
  have hb0 := hb
  obtain ⟨lg, hl1, ia, sa, ra, ca, p1, -⟩ := hb
  refine z_aload_n (i := 2) (q := 1) hX dX0_excluded_0 rfl rfl rfl ?_
  refine z_iconst (q := 2) hX dX0_excluded_1 rfl ?_
  refine z_aload_n (i := 0) (q := 3) hX dX0_excluded_2 rfl rfl rfl ?_
  refine z_iload_n (i := 1) (q := 4) hX dX0_excluded_3 rfl rfl rfl ?_
  refine z_V (ci := ciX1) (T := TX1) (N := 7) (na := 1) hX dX0_excluded_4 (c_X1_excluded_ok D A hb0 hK hx) rfl q1807 q1808 q1809 q97 q1810 (by decide +kernel) ⟨Nat.le_of_ble_eq_true rfl, Nat.le_of_ble_eq_true rfl⟩ rfl rfl (Nat.le_of_ble_eq_true rfl) rfl (by first | exact Nat.le_of_ble_eq_true rfl | (show _ + 2 ≤ 2; omega)) (by first | exact Nat.le_of_ble_eq_true rfl | (show _ + 12 ≤ 12; omega)) (fun H h => ⟨h, h.obE (Or.inr p1) rfl⟩) (zXs.out (fun e4 => ?_)) (zPe.out (fun x4 hx4 => ?_))
  · refine zT.ax (fun hφ => zT.ex (fun w9 => zT.ex (fun m9 => zT.ax (fun hw9 => zT.ax (fun hf9 => zT.ax (fun hb9 => ?_))))))
    refine zT.catch hX [] _ [] rfl (fun z hz => by cases hz) (by decide) (by decide) q1751 (zCs_at 51 rfl) rfl ?_
    refine z_astore_n (i := 3) (q := 13) hX dX0_excluded_12 rfl (Nat.le_of_ble_eq_true rfl) rfl rfl ?_
    refine z_iconst (q := 14) hX dX0_excluded_13 rfl ?_
    exact z_iret hX dX0_excluded_14 (by first | exact Nat.le_of_ble_eq_true rfl | (show (_ : Nat) ≤ 2; omega)) (by first | exact Nat.le_of_ble_eq_true rfl | (show (_ : Nat) ≤ 12; omega)) rfl (fun H h => ⟨(w9, m9, 1), rfl, Or.inr (lSt.no hφ hw9 hf9 hb9 hKJ hJ (fun _ => trivial)), h⟩)
  show zG X (_ + 2) (_ + 12) _ 7 _ _
  obtain ⟨hφ, hw9, hf9, hb9⟩ := hx4
  refine z_i2lR (q := 8) hX dX0_excluded_7 rfl ?_
  refine zc_last1 (q := 9) hX dX0_excluded_8 ((hf9 _ hKJ).trans hJ) rfl ?_
  refine z_goto (t := 15) hX dX0_excluded_9 (by decide) ?_
  refine z_iconst (q := 16) hX dX0_excluded_15 rfl ?_
  exact z_iret hX dX0_excluded_16 (by first | exact Nat.le_of_ble_eq_true rfl | (show (_ : Nat) ≤ 2; omega)) (by first | exact Nat.le_of_ble_eq_true rfl | (show (_ : Nat) ≤ 12; omega)) rfl (fun H h => ⟨(x4.1, _, 0), rfl, Or.inl (lSt.ok hφ hw9 hf9 hb9 hKJ), h⟩)
abbrev rmX0_report_no : Room := { frames := 7, cells := 3, slots := 18, locals := 123 }
set_option maxHeartbeats 4000000 in
theorem c_X0_report_no (D : zD) (A : Nat → Prop) {w m : zMp} {K : Nat → Prop} {M : Int → Int} {ps : List (Int → Int)} {sv : Option (Int → Int)} {rp : Option (Int × Int × Int × Int)} {s : zS} {cs : Option (List zCn)} {v z : Int} {b aJ : Nat} {j : Int64} (hb : zX1 D w m K b M ps sv rp s cs) (hK : zHk K m) (hv : zR v) (hz : zR z) (hn : rpL rp v = none) (hJ : m aJ = some (eJ1 D j)) (hKJ : K aJ) : zC D yX0_report cX0_report 5 (some .int) (some [(0, 10, 13, 76), (0, 10, 17, 19)]) rmX0_report_no A [.ref b, zI (v), zI (z), .ref aJ] (cI D A w m) (zPe (fun (u9 : zMp × zMp × Int) => some (zI u9.2.2)) (fun u9 => lSt D w m K b aJ 1 True (fun _ => True) M ps sv rp s cs u9) (fun u9 => cI D A u9.1 u9.2.1)) (zNo) := by
  refine zC_startH (L := [some (.ref b), some (zI (v)), some (zI (z)), some (.ref aJ), none]) (by decide) (Nat.le_of_ble_eq_true rfl) rfl (fun X hX => ?_)
  have hb0 := hb
  obtain ⟨lg, hl1, ia, sa, ra, ca, p1, -⟩ := hb
  refine z_aload_n (i := 3) (q := 1) hX dX0_report_0 rfl rfl rfl ?_
  refine z_iconst (q := 2) hX dX0_report_1 rfl ?_
  refine z_aload_n (i := 0) (q := 3) hX dX0_report_2 rfl rfl rfl ?_
  refine z_iload_n (i := 1) (q := 4) hX dX0_report_3 rfl rfl rfl ?_
  refine z_iload_n (i := 2) (q := 5) hX dX0_report_4 rfl rfl rfl ?_
  refine z_V (ci := ciX1) (T := TX1) (N := 7) (na := 2) hX dX0_report_5 (c_X1_report_no D A hb0 hK hv hz hn) rfl q1814 q1815 q1816 q97 q1817 (by decide +kernel) ⟨Nat.le_of_ble_eq_true rfl, Nat.le_of_ble_eq_true rfl⟩ rfl rfl (Nat.le_of_ble_eq_true rfl) rfl (by first | exact Nat.le_of_ble_eq_true rfl | (show _ + 3 ≤ 3; omega)) (by first | exact Nat.le_of_ble_eq_true rfl | (show _ + 18 ≤ 18; omega)) (fun H h => ⟨h, h.obE (Or.inr p1) rfl⟩) (zXs.out (fun e5 => ?_)) (zPe.out (fun x5 hx5 => ?_))
  · refine zT.ax (fun hφ => zT.ex (fun w9 => zT.ex (fun m9 => zT.ax (fun hw9 => zT.ax (fun hf9 => zT.ax (fun hb9 => ?_))))))
    refine zT.catch hX [] _ [_] rfl (fun z hz => by cases hz) (by decide) (by decide) q1751 (zCs_at 51 rfl) rfl ?_
    refine z_astore (q := 15) hX dX0_report_13 (Nat.le_of_ble_eq_true rfl) rfl rfl ?_
    refine z_iconst (q := 16) hX dX0_report_15 rfl ?_
    exact z_iret hX dX0_report_16 (by first | exact Nat.le_of_ble_eq_true rfl | (show (_ : Nat) ≤ 3; omega)) (by first | exact Nat.le_of_ble_eq_true rfl | (show (_ : Nat) ≤ 18; omega)) rfl (fun H h => ⟨(w9, m9, 1), rfl, lSt.no hφ hw9 hf9 hb9 hKJ hJ (fun _ => trivial), h⟩)
  show zG X (_ + 3) (_ + 18) _ 8 _ _
  exact absurd hx5 (fun q => q)
abbrev rmX0_report_ok : Room := { frames := 8, cells := 1, slots := 6, locals := 143 }
set_option maxHeartbeats 4000000 in
theorem c_X0_report_ok (D : zD) (A : Nat → Prop) {w m : zMp} {K : Nat → Prop} {M : Int → Int} {ps : List (Int → Int)} {sv : Option (Int → Int)} {rp : Option (Int × Int × Int × Int)} {s : zS} {cs : Option (List zCn)} {v z c d : Int} {b aJ : Nat} {j : Int64} (hb : zX1 D w m K b M ps sv rp s cs) (hK : zHk K m) (hv : zR v) (hz : zR z) (hn : rpL rp v = some (c, d)) (hJ : m aJ = some (eJ1 D j)) (hKJ : K aJ) : zC D yX0_report cX0_report 5 (some .int) (some [(0, 10, 13, 76), (0, 10, 17, 19)]) rmX0_report_ok A [.ref b, zI (v), zI (z), .ref aJ] (cI D A w m) (zPe (fun (u9 : zMp × zMp × Int) => some (zI u9.2.2)) (fun u9 => lSt D w m K b aJ 0 (0 ≤ z ∧ z ≤ 1) (fun u8 => u8 = (Int32.ofInt (if z = 0 then c else d)).toInt64) M ps sv rp s cs u9 ∨ lSt D w m K b aJ 2 (¬ (0 ≤ z ∧ z ≤ 1)) (fun _ => True) M ps sv rp s cs u9) (fun u9 => cI D A u9.1 u9.2.1)) (zNo) := by
  refine zC_startH (L := [some (.ref b), some (zI (v)), some (zI (z)), some (.ref aJ), none]) (by decide) (Nat.le_of_ble_eq_true rfl) rfl (fun X hX => ?_)
  have hb0 := hb
  obtain ⟨lg, hl1, ia, sa, ra, ca, p1, -⟩ := hb
  refine z_aload_n (i := 3) (q := 1) hX dX0_report_0 rfl rfl rfl ?_
  refine z_iconst (q := 2) hX dX0_report_1 rfl ?_
  refine z_aload_n (i := 0) (q := 3) hX dX0_report_2 rfl rfl rfl ?_
  refine z_iload_n (i := 1) (q := 4) hX dX0_report_3 rfl rfl rfl ?_
  refine z_iload_n (i := 2) (q := 5) hX dX0_report_4 rfl rfl rfl ?_
  refine z_V (ci := ciX1) (T := TX1) (N := 7) (na := 2) hX dX0_report_5 (c_X1_report_ok D A hb0 hK hv hz hn) rfl q1814 q1815 q1816 q97 q1817 (by decide +kernel) ⟨Nat.le_of_ble_eq_true rfl, Nat.le_of_ble_eq_true rfl⟩ rfl rfl (Nat.le_of_ble_eq_true rfl) rfl (by first | exact Nat.le_of_ble_eq_true rfl | (show _ + 1 ≤ 1; omega)) (by first | exact Nat.le_of_ble_eq_true rfl | (show _ + 6 ≤ 6; omega)) (fun H h => ⟨h, h.obE (Or.inr p1) rfl⟩) (zXs.out (fun e5 => ?_)) (zPe.out (fun x5 hx5 => ?_))
  · refine zT.ax (fun hφ => zT.ex (fun w9 => zT.ex (fun m9 => zT.ax (fun hw9 => zT.ax (fun hf9 => zT.ax (fun hb9 => ?_))))))
    refine zT.catch hX [_] _ [] rfl (fun z hz => by rw [List.mem_singleton] at hz; subst hz; exact Or.inr ⟨by decide, _, q1751, List.mem_of_getElem? (i := 8) rfl⟩) (by decide) (by decide) q1303 (zCs_at 35 rfl) rfl ?_
    refine z_astore (q := 19) hX dX0_report_17 (Nat.le_of_ble_eq_true rfl) rfl rfl ?_
    refine z_iconst (q := 20) hX dX0_report_19 rfl ?_
    exact z_iret hX dX0_report_20 (by first | exact Nat.le_of_ble_eq_true rfl | (show (_ : Nat) ≤ 1; omega)) (by first | exact Nat.le_of_ble_eq_true rfl | (show (_ : Nat) ≤ 6; omega)) rfl (fun H h => ⟨(w9, m9, 2), rfl, Or.inr (lSt.no hφ hw9 hf9 hb9 hKJ hJ (fun _ => trivial)), h⟩)
  show zG X (_ + 1) (_ + 6) _ 8 _ _
  obtain ⟨hφ, hw9, hf9, hb9⟩ := hx5
  refine z_i2lR (q := 9) hX dX0_report_8 rfl ?_
  refine zc_last1 (q := 10) hX dX0_report_9 ((hf9 _ hKJ).trans hJ) rfl ?_
  refine z_goto (t := 21) hX dX0_report_10 (by decide) ?_
  refine z_iconst (q := 22) hX dX0_report_21 rfl ?_
  exact z_iret hX dX0_report_22 (by first | exact Nat.le_of_ble_eq_true rfl | (show (_ : Nat) ≤ 1; omega)) (by first | exact Nat.le_of_ble_eq_true rfl | (show (_ : Nat) ≤ 6; omega)) rfl (fun H h => ⟨(x5.1, _, 0), rfl, Or.inl (lSt.ok hφ hw9 hf9 hb9 hKJ), h⟩)
abbrev rmX0_undo_ok : Room := { frames := 8, cells := 1, slots := 6, locals := 140 }
set_option maxHeartbeats 4000000 in
theorem c_X0_undo_ok (D : zD) (A : Nat → Prop) {w m : zMp} {K : Nat → Prop} {M : Int → Int} {ps : List (Int → Int)} {sv : Option (Int → Int)} {rp : Option (Int × Int × Int × Int)} {s : zS} {cs : Option (List zCn)} {qs : List (Int → Int)} {M9 : Int → Int} {b aJ : Nat} {j : Int64} (hb : zX1 D w m K b M ps sv rp s cs) (hK : zHk K m) (hp : ps = qs ++ [M9]) (hJ : m aJ = some (eJ1 D j)) (hKJ : K aJ) : zC D yX0_undo cX0_undo 3 (some .int) (some [(0, 8, 11, 13)]) rmX0_undo_ok A [.ref b, .ref aJ] (cI D A w m) (zPe (fun (u9 : zMp × zMp × Int) => some (zI u9.2.2)) (fun u9 => lSt D w m K b aJ 0 True (fun u8 => u8 = (Int32.ofInt (qs.length : Int)).toInt64) M9 qs sv rp s cs u9) (fun u9 => cI D A u9.1 u9.2.1)) (zNo) := by
  refine zC_startH (L := [some (.ref b), some (.ref aJ), none]) (by decide) (Nat.le_of_ble_eq_true rfl) rfl (fun X hX => ?_)
  have hb0 := hb
  obtain ⟨lg, hl1, ia, sa, ra, ca, p1, -⟩ := hb
  refine z_aload_n (i := 1) (q := 1) hX dX0_undo_0 rfl rfl rfl ?_
  refine z_iconst (q := 2) hX dX0_undo_1 rfl ?_
  refine z_aload_n (i := 0) (q := 3) hX dX0_undo_2 rfl rfl rfl ?_
  refine z_V (ci := ciX1) (T := TX1) (N := 7) (na := 0) hX dX0_undo_3 (c_X1_undo_ok D A hb0 hK hp) rfl q1843 q1844 q1845 q97 q1846 (by decide +kernel) ⟨Nat.le_of_ble_eq_true rfl, Nat.le_of_ble_eq_true rfl⟩ rfl rfl (Nat.le_of_ble_eq_true rfl) rfl (by first | exact Nat.le_of_ble_eq_true rfl | (show _ + 1 ≤ 1; omega)) (by first | exact Nat.le_of_ble_eq_true rfl | (show _ + 6 ≤ 6; omega)) (fun H h => ⟨h, h.obE (Or.inr p1) rfl⟩) (fun E a => zT.no) (zPe.out (fun x3 hx3 => ?_))
  show zG X (_ + 1) (_ + 6) _ 6 _ _
  obtain ⟨hφ, hw9, hf9, hb9⟩ := hx3
  refine z_i2lR (q := 7) hX dX0_undo_6 rfl ?_
  refine zc_last1 (q := 8) hX dX0_undo_7 ((hf9 _ hKJ).trans hJ) rfl ?_
  refine z_goto (t := 14) hX dX0_undo_8 (by decide) ?_
  refine z_iconst (q := 15) hX dX0_undo_14 rfl ?_
  exact z_iret hX dX0_undo_15 (by first | exact Nat.le_of_ble_eq_true rfl | (show (_ : Nat) ≤ 1; omega)) (by first | exact Nat.le_of_ble_eq_true rfl | (show (_ : Nat) ≤ 6; omega)) rfl (fun H h => ⟨(x3.1, _, 0), rfl, lSt.ok hφ hw9 hf9 hb9 hKJ, h⟩)
abbrev rmX0_undo_no : Room := { frames := 8, cells := 1, slots := 6, locals := 140 }
set_option maxHeartbeats 4000000 in
theorem c_X0_undo_no (D : zD) (A : Nat → Prop) {w m : zMp} {K : Nat → Prop} {M : Int → Int} {ps : List (Int → Int)} {sv : Option (Int → Int)} {rp : Option (Int × Int × Int × Int)} {s : zS} {cs : Option (List zCn)} {b aJ : Nat} {j : Int64} (hb : zX1 D w m K b M ps sv rp s cs) (hK : zHk K m) (hp : ps = []) (hJ : m aJ = some (eJ1 D j)) (hKJ : K aJ) : zC D yX0_undo cX0_undo 3 (some .int) (some [(0, 8, 11, 13)]) rmX0_undo_no A [.ref b, .ref aJ] (cI D A w m) (zPe (fun (u9 : zMp × zMp × Int) => some (zI u9.2.2)) (fun u9 => lSt D w m K b aJ 1 True (fun _ => True) M ps sv rp s cs u9) (fun u9 => cI D A u9.1 u9.2.1)) (zNo) := by
  refine zC_startH (L := [some (.ref b), some (.ref aJ), none]) (by decide) (Nat.le_of_ble_eq_true rfl) rfl (fun X hX => ?_)
  have hb0 := hb
  obtain ⟨lg, hl1, ia, sa, ra, ca, p1, -⟩ := hb
  refine z_aload_n (i := 1) (q := 1) hX dX0_undo_0 rfl rfl rfl ?_
  refine z_iconst (q := 2) hX dX0_undo_1 rfl ?_
  refine z_aload_n (i := 0) (q := 3) hX dX0_undo_2 rfl rfl rfl ?_
  refine z_V (ci := ciX1) (T := TX1) (N := 7) (na := 0) hX dX0_undo_3 (c_X1_undo_no D A hb0 hK hp) rfl q1843 q1844 q1845 q97 q1846 (by decide +kernel) ⟨Nat.le_of_ble_eq_true rfl, Nat.le_of_ble_eq_true rfl⟩ rfl rfl (Nat.le_of_ble_eq_true rfl) rfl (by first | exact Nat.le_of_ble_eq_true rfl | (show _ + 1 ≤ 1; omega)) (by first | exact Nat.le_of_ble_eq_true rfl | (show _ + 6 ≤ 6; omega)) (fun H h => ⟨h, h.obE (Or.inr p1) rfl⟩) (zXs.out (fun e3 => ?_)) (zPe.out (fun x3 hx3 => ?_))
  · refine zT.ax (fun hφ => zT.ex (fun w9 => zT.ex (fun m9 => zT.ax (fun hw9 => zT.ax (fun hf9 => zT.ax (fun hb9 => ?_))))))
    refine zT.catch hX [] _ [] rfl (fun z hz => by cases hz) (by decide) (by decide) q1277 (zCs_at 37 rfl) rfl ?_
    refine z_astore_n (i := 2) (q := 12) hX dX0_undo_11 rfl (Nat.le_of_ble_eq_true rfl) rfl rfl ?_
    refine z_iconst (q := 13) hX dX0_undo_12 rfl ?_
    exact z_iret hX dX0_undo_13 (by first | exact Nat.le_of_ble_eq_true rfl | (show (_ : Nat) ≤ 1; omega)) (by first | exact Nat.le_of_ble_eq_true rfl | (show (_ : Nat) ≤ 6; omega)) rfl (fun H h => ⟨(w9, m9, 1), rfl, lSt.no hφ hw9 hf9 hb9 hKJ hJ (fun _ => trivial), h⟩)
  show zG X (_ + 1) (_ + 6) _ 6 _ _
  exact absurd hx3 (fun q => q)
abbrev rmX0_restore_ok : Room := { frames := 9, cells := 52, slots := 2610, locals := 215 }
set_option maxHeartbeats 4000000 in
theorem c_X0_restore_ok (D : zD) (A : Nat → Prop) {w m : zMp} {K : Nat → Prop} {M : Int → Int} {ps : List (Int → Int)} {sv : Option (Int → Int)} {rp : Option (Int × Int × Int × Int)} {s : zS} {cs : Option (List zCn)} {M9 : Int → Int} {b aJ : Nat} {j : Int64} (hb : zX1 D w m K b M ps sv rp s cs) (hK : zHk K m) (hs : sv = some M9) (hJ : m aJ = some (eJ1 D j)) (hKJ : K aJ) : zC D yX0_restore cX0_restore 3 (some .int) (some [(0, 8, 11, 13)]) rmX0_restore_ok A [.ref b, .ref aJ] (cI D A w m) (zPe (fun (u9 : zMp × zMp × Int) => some (zI u9.2.2)) (fun u9 => lSt D w m K b aJ 0 True (fun u8 => u8 = (Int32.ofInt (M9 0)).toInt64) M9 [] sv rp s cs u9) (fun u9 => cI D A u9.1 u9.2.1)) (zNo) := by
  refine zC_startH (L := [some (.ref b), some (.ref aJ), none]) (by decide) (Nat.le_of_ble_eq_true rfl) rfl (fun X hX => ?_)
  have hb0 := hb
  obtain ⟨lg, hl1, ia, sa, ra, ca, p1, -⟩ := hb
  refine z_aload_n (i := 1) (q := 1) hX dX0_restore_0 rfl rfl rfl ?_
  refine z_iconst (q := 2) hX dX0_restore_1 rfl ?_
  refine z_aload_n (i := 0) (q := 3) hX dX0_restore_2 rfl rfl rfl ?_
  refine z_V (ci := ciX1) (T := TX1) (N := 7) (na := 0) hX dX0_restore_3 (c_X1_restore_ok D A hb0 hK hs) rfl q1850 q1851 q1852 q97 q1853 (by decide +kernel) ⟨Nat.le_of_ble_eq_true rfl, Nat.le_of_ble_eq_true rfl⟩ rfl rfl (Nat.le_of_ble_eq_true rfl) rfl (by first | exact Nat.le_of_ble_eq_true rfl | (show _ + 52 ≤ 52; omega)) (by first | exact Nat.le_of_ble_eq_true rfl | (show _ + 2610 ≤ 2610; omega)) (fun H h => ⟨h, h.obE (Or.inr p1) rfl⟩) (fun E a => zT.no) (zPe.out (fun x3 hx3 => ?_))
  show zG X (_ + 52) (_ + 2610) _ 6 _ _
  obtain ⟨hφ, hw9, hf9, hb9⟩ := hx3
  refine z_i2lR (q := 7) hX dX0_restore_6 rfl ?_
  refine zc_last1 (q := 8) hX dX0_restore_7 ((hf9 _ hKJ).trans hJ) rfl ?_
  refine z_goto (t := 14) hX dX0_restore_8 (by decide) ?_
  refine z_iconst (q := 15) hX dX0_restore_14 rfl ?_
  exact z_iret hX dX0_restore_15 (by first | exact Nat.le_of_ble_eq_true rfl | (show (_ : Nat) ≤ 52; omega)) (by first | exact Nat.le_of_ble_eq_true rfl | (show (_ : Nat) ≤ 2610; omega)) rfl (fun H h => ⟨(x3.1, _, 0), rfl, lSt.ok hφ hw9 hf9 hb9 hKJ, h⟩)
abbrev rmX0_restore_no : Room := { frames := 8, cells := 1, slots := 6, locals := 140 }
set_option maxHeartbeats 4000000 in
theorem c_X0_restore_no (D : zD) (A : Nat → Prop) {w m : zMp} {K : Nat → Prop} {M : Int → Int} {ps : List (Int → Int)} {sv : Option (Int → Int)} {rp : Option (Int × Int × Int × Int)} {s : zS} {cs : Option (List zCn)} {b aJ : Nat} {j : Int64} (hb : zX1 D w m K b M ps sv rp s cs) (hK : zHk K m) (hs : sv = none) (hJ : m aJ = some (eJ1 D j)) (hKJ : K aJ) : zC D yX0_restore cX0_restore 3 (some .int) (some [(0, 8, 11, 13)]) rmX0_restore_no A [.ref b, .ref aJ] (cI D A w m) (zPe (fun (u9 : zMp × zMp × Int) => some (zI u9.2.2)) (fun u9 => lSt D w m K b aJ 1 True (fun _ => True) M ps sv rp s cs u9) (fun u9 => cI D A u9.1 u9.2.1)) (zNo) := by
  refine zC_startH (L := [some (.ref b), some (.ref aJ), none]) (by decide) (Nat.le_of_ble_eq_true rfl) rfl (fun X hX => ?_)
  have hb0 := hb
  obtain ⟨lg, hl1, ia, sa, ra, ca, p1, -⟩ := hb
  refine z_aload_n (i := 1) (q := 1) hX dX0_restore_0 rfl rfl rfl ?_
  refine z_iconst (q := 2) hX dX0_restore_1 rfl ?_
  refine z_aload_n (i := 0) (q := 3) hX dX0_restore_2 rfl rfl rfl ?_
  refine z_V (ci := ciX1) (T := TX1) (N := 7) (na := 0) hX dX0_restore_3 (c_X1_restore_no D A hb0 hK hs) rfl q1850 q1851 q1852 q97 q1853 (by decide +kernel) ⟨Nat.le_of_ble_eq_true rfl, Nat.le_of_ble_eq_true rfl⟩ rfl rfl (Nat.le_of_ble_eq_true rfl) rfl (by first | exact Nat.le_of_ble_eq_true rfl | (show _ + 1 ≤ 1; omega)) (by first | exact Nat.le_of_ble_eq_true rfl | (show _ + 6 ≤ 6; omega)) (fun H h => ⟨h, h.obE (Or.inr p1) rfl⟩) (zXs.out (fun e3 => ?_)) (zPe.out (fun x3 hx3 => ?_))
  · refine zT.ax (fun hφ => zT.ex (fun w9 => zT.ex (fun m9 => zT.ax (fun hw9 => zT.ax (fun hf9 => zT.ax (fun hb9 => ?_))))))
    refine zT.catch hX [] _ [] rfl (fun z hz => by cases hz) (by decide) (by decide) q1277 (zCs_at 37 rfl) rfl ?_
    refine z_astore_n (i := 2) (q := 12) hX dX0_restore_11 rfl (Nat.le_of_ble_eq_true rfl) rfl rfl ?_
    refine z_iconst (q := 13) hX dX0_restore_12 rfl ?_
    exact z_iret hX dX0_restore_13 (by first | exact Nat.le_of_ble_eq_true rfl | (show (_ : Nat) ≤ 1; omega)) (by first | exact Nat.le_of_ble_eq_true rfl | (show (_ : Nat) ≤ 6; omega)) rfl (fun H h => ⟨(w9, m9, 1), rfl, lSt.no hφ hw9 hf9 hb9 hKJ hJ (fun _ => trivial), h⟩)
  show zG X (_ + 1) (_ + 6) _ 6 _ _
  exact absurd hx3 (fun q => q)
