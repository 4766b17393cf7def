/-! THE CLASS: the compactor's checks -/
set_option maxRecDepth 100000
/-- an exception of class ci thrown, if φ -/
def xEx (D : zD) (A : Nat → Prop) (w m : zMp) (E : String) (ci : Nat) (φ : Prop) : String → Nat → Heap → Prop := zXs E (fun e H => φ ∧ (w e = none ∧ m e = none) ∧ cI D A w (upm m e (eX ci)) H)
theorem xExI {D : zD} {A : Nat → Prop} {w m : zMp} {E : String} {ci : Nat} {φ : Prop} {e : Nat} {H : Heap} (h1 : φ) (h2 : (w e = none ∧ m e = none) ∧ cI D A w (upm m e (eX ci)) H) : xEx D A w m E ci φ E e H := ⟨rfl, h1, h2⟩
/-- the compactor's new state -/
def pSt (D : zD) (w m : zMp) (K : Nat → Prop) (b : Nat) (φ : Prop) (M : Int → Int) (ps : List (Int → Int)) (sv : Option (Int → Int)) (rp : Option (Int × Int × Int × Int)) (s : zS) (cs : Option (List zCn)) (x : zMp × zMp) : Prop := φ ∧ zLe w x.1 ∧ zFr K m x.2 ∧ zX1 D x.1 x.2 K b M ps sv rp s cs
theorem pSt0 {D : zD} {w m : zMp} {K : Nat → Prop} {b : Nat} {φ : Prop} {M : Int → Int} {ps : List (Int → Int)} {sv : Option (Int → Int)} {rp : Option (Int × Int × Int × Int)} {s : zS} {cs : Option (List zCn)} (hφ : φ) (hb : zX1 D w m K b M ps sv rp s cs) : pSt D w m K b φ M ps sv rp s cs (w, m) := ⟨hφ, zLe.rf, zFr.rf, hb⟩
/-- .. with an exception thrown, if φ -/
def xSt (D : zD) (A : Nat → Prop) (w m : zMp) (K : Nat → Prop) (b : Nat) (E : String) (ci : Nat) (φ : Prop) (M : Int → Int) (ps : List (Int → Int)) (sv : Option (Int → Int)) (rp : Option (Int × Int × Int × Int)) (s : zS) (cs : Option (List zCn)) : String → Nat → Heap → Prop := zXs E (fun e H => φ ∧ ∃ w2 m2, zLe w w2 ∧ zFr K m m2 ∧ zX1 D w2 m2 K b M ps sv rp s cs ∧ cI D A w2 m2 H)
theorem xSt0 {D : zD} {A : Nat → Prop} {w m : zMp} {K : Nat → Prop} {b : Nat} {E : String} {ci : Nat} {φ : Prop} {M : Int → Int} {ps : List (Int → Int)} {sv : Option (Int → Int)} {rp : Option (Int × Int × Int × Int)} {s : zS} {cs : Option (List zCn)} {e : Nat} {H : Heap} (hK : zHk K m) (hb : zX1 D w m K b M ps sv rp s cs) (hφ : φ) (h : (w e = none ∧ m e = none) ∧ cI D A w (upm m e (eX ci)) H) : xSt D A w m K b E ci φ M ps sv rp s cs E e H :=
  ⟨rfl, hφ, w, upm m e (eX ci), zLe.rf, zFr.up (hK.no h.1.2), hb.le zLe.rf (mLe.up h.1.2), h.2⟩
theorem and_dec {p q : Prop} [Decidable p] [Decidable q] : (decide p && decide q) = decide (p ∧ q) := by
  by_cases h1 : p <;> by_cases h2 : q <;> simp [h1, h2]
abbrev rmX1_checkArgument : Room := { frames := 6, cells := 1, slots := 6, locals := 100 }
set_option maxHeartbeats 4000000 in
theorem c_X1_checkArgument (D : zD) (A : Nat → Prop) {w m : zMp} {c : Bool} : zC D yX1_checkArgument cX1_checkArgument 1 none none rmX1_checkArgument A [zI (bi (c))] (cI D A w m) (zPe (fun (x : Unit) => none) (fun _ => c = true) (fun _ => cI D A w m)) (xEx D A w m "java/lang/IllegalArgumentException" ciJ7 (c = false)) := by
  refine zC_start (L := [some (zI (bi (c)))]) (by decide) (Nat.le_of_ble_eq_true rfl) rfl (fun X hX => ?_)
  refine z_iload_n (i := 0) (q := 1) hX dX1_checkArgument_0 rfl rfl rfl ?_
  refine z_ifB_ne (q := 4) (t := 12) hX dX1_checkArgument_1 (by decide) rfl (fun h1 => ?_) (fun h1 => ?_)
  · exact z_vret hX dX1_checkArgument_12 (by first | exact Nat.le_of_ble_eq_true rfl | (show (_ : Nat) ≤ 1; omega)) (by first | exact Nat.le_of_ble_eq_true rfl | (show (_ : Nat) ≤ 6; omega)) rfl (fun H h => ⟨(), rfl, h1, h⟩)
  · have h1x : c = false := h1
    refine zc_throw0 (q := 11) (names := ["java/lang/RuntimeException", "java/lang/Exception"]) hX ciJ7 (C := RJ7) (T := zT0) (N := 0) rfl (by decide +kernel) (by decide +kernel) q1317 q108 xa_X1_3 xg_X1_3 dX1_checkArgument_4 dX1_checkArgument_7 dX1_checkArgument_8 dX1_checkArgument_11 (Nat.le_of_ble_eq_true rfl) rfl (Nat.le_of_ble_eq_true rfl) (Nat.le_of_ble_eq_true rfl) (by first | exact Nat.le_of_ble_eq_true rfl | (show _ + 1 ≤ 1; omega)) (by first | exact Nat.le_of_ble_eq_true rfl | (show _ + 6 ≤ 6; omega)) rfl (fun e4 he4 hf4 => ?_)
    exact zT.out hX (by decide) (by first | exact Nat.le_of_ble_eq_true rfl | (show (_ : Nat) ≤ 1; omega)) (by first | exact Nat.le_of_ble_eq_true rfl | (show (_ : Nat) ≤ 6; omega)) (fun H h => ⟨rfl, h1x, ⟨he4, hf4⟩, h⟩)
abbrev rmX1_checkState : Room := { frames := 6, cells := 1, slots := 6, locals := 100 }
set_option maxHeartbeats 4000000 in
theorem c_X1_checkState (D : zD) (A : Nat → Prop) {w m : zMp} {c : Bool} : zC D yX1_checkState cX1_checkState 1 none none rmX1_checkState A [zI (bi (c))] (cI D A w m) (zPe (fun (x : Unit) => none) (fun _ => c = true) (fun _ => cI D A w m)) (xEx D A w m "java/lang/IllegalStateException" ciJ6 (c = false)) := by
  refine zC_start (L := [some (zI (bi (c)))]) (by decide) (Nat.le_of_ble_eq_true rfl) rfl (fun X hX => ?_)
  refine z_iload_n (i := 0) (q := 1) hX dX1_checkState_0 rfl rfl rfl ?_
  refine z_ifB_ne (q := 4) (t := 12) hX dX1_checkState_1 (by decide) rfl (fun h1 => ?_) (fun h1 => ?_)
  · exact z_vret hX dX1_checkState_12 (by first | exact Nat.le_of_ble_eq_true rfl | (show (_ : Nat) ≤ 1; omega)) (by first | exact Nat.le_of_ble_eq_true rfl | (show (_ : Nat) ≤ 6; omega)) rfl (fun H h => ⟨(), rfl, h1, h⟩)
  · have h1x : c = false := h1
    refine zc_throw0 (q := 11) (names := ["java/lang/RuntimeException", "java/lang/Exception"]) hX ciJ6 (C := RJ6) (T := zT0) (N := 0) rfl (by decide +kernel) (by decide +kernel) q1285 q107 xa_X1_9 xg_X1_9 dX1_checkState_4 dX1_checkState_7 dX1_checkState_8 dX1_checkState_11 (Nat.le_of_ble_eq_true rfl) rfl (Nat.le_of_ble_eq_true rfl) (Nat.le_of_ble_eq_true rfl) (by first | exact Nat.le_of_ble_eq_true rfl | (show _ + 1 ≤ 1; omega)) (by first | exact Nat.le_of_ble_eq_true rfl | (show _ + 6 ≤ 6; omega)) rfl (fun e4 he4 hf4 => ?_)
    exact zT.out hX (by decide) (by first | exact Nat.le_of_ble_eq_true rfl | (show (_ : Nat) ≤ 1; omega)) (by first | exact Nat.le_of_ble_eq_true rfl | (show (_ : Nat) ≤ 6; omega)) (fun H h => ⟨rfl, h1x, ⟨he4, hf4⟩, h⟩)
abbrev rmX1_checkIndex : Room := { frames := 6, cells := 1, slots := 6, locals := 100 }
set_option maxHeartbeats 4000000 in
theorem c_X1_checkIndex (D : zD) (A : Nat → Prop) {w m : zMp} {i n : Int} (hi : zR i) (hn : 0 ≤ n ∧ n ≤ 1000) : zC D yX1_checkIndex cX1_checkIndex 2 none none rmX1_checkIndex A [zI (i), zI (n)] (cI D A w m) (zPe (fun (x : Unit) => none) (fun _ => 0 ≤ i ∧ i < n) (fun _ => cI D A w m)) (xEx D A w m "java/lang/IndexOutOfBoundsException" ciJ22 (¬ (0 ≤ i ∧ i < n))) := by
  refine zC_start (L := [some (zI (i)), some (zI (n))]) (by decide) (Nat.le_of_ble_eq_true rfl) rfl (fun X hX => ?_)
  refine z_iload_n (i := 0) (q := 1) hX dX1_checkIndex_0 rfl rfl rfl ?_
  refine z_iconst (q := 2) hX dX1_checkIndex_1 rfl ?_
  refine z_iload_n (i := 1) (q := 3) hX dX1_checkIndex_2 rfl rfl rfl ?_
  refine z_iconst (q := 4) hX dX1_checkIndex_3 rfl ?_
  refine z_isub (q := 5) hX dX1_checkIndex_4 rfl ?_
  refine z_S (na := 3) hX dX1_checkIndex_5 (c_X1_inRange D A hi (by decide) ⟨by omega, by omega⟩) q1313 q1050 q97 q1051 (by decide +kernel) ⟨Nat.le_of_ble_eq_true rfl, Nat.le_of_ble_eq_true rfl⟩ rfl rfl (Nat.le_of_ble_eq_true rfl) rfl (by first | exact Nat.le_of_ble_eq_true rfl | (show _ + 0 ≤ 1; omega)) (by first | exact Nat.le_of_ble_eq_true rfl | (show _ + 0 ≤ 6; omega)) (fun H h => h) (fun E a => zT.no) (zPd.out ?_)
  show zG X (_ + 0) (_ + 0) _ 8 _ _
  rw [and_dec]
  refine z_ifB_ne (q := 11) (t := 19) hX dX1_checkIndex_8 (by decide) rfl (fun h8 => ?_) (fun h8 => ?_)
  · have h8x : decide (0 ≤ i ∧ i ≤ n - 1) = true := h8
    exact z_vret hX dX1_checkIndex_19 (by first | exact Nat.le_of_ble_eq_true rfl | (show (_ : Nat) ≤ 1; omega)) (by first | exact Nat.le_of_ble_eq_true rfl | (show (_ : Nat) ≤ 6; omega)) rfl (fun H h => ⟨(), rfl, by have := of_decide_eq_true h8x; omega, h⟩)
  · refine zc_throw0 (q := 18) (names := ["java/lang/RuntimeException", "java/lang/Exception"]) hX ciJ22 (C := RJ22) (T := zT0) (N := 0) rfl (by decide +kernel) (by decide +kernel) q1540 q129 xa_X1_18 xg_X1_18 dX1_checkIndex_11 dX1_checkIndex_14 dX1_checkIndex_15 dX1_checkIndex_18 (Nat.le_of_ble_eq_true rfl) rfl (Nat.le_of_ble_eq_true rfl) (Nat.le_of_ble_eq_true rfl) (by first | exact Nat.le_of_ble_eq_true rfl | (show _ + 1 ≤ 1; omega)) (by first | exact Nat.le_of_ble_eq_true rfl | (show _ + 6 ≤ 6; omega)) rfl (fun e11 he11 hf11 => ?_)
    exact zT.out hX (by decide) (by first | exact Nat.le_of_ble_eq_true rfl | (show (_ : Nat) ≤ 1; omega)) (by first | exact Nat.le_of_ble_eq_true rfl | (show (_ : Nat) ≤ 6; omega)) (fun H h => ⟨rfl, fun q => by rw [decide_eq_true (show 0 ≤ i ∧ i ≤ n - 1 by omega)] at h8; exact absurd h8 (by decide), ⟨he11, hf11⟩, h⟩)
abbrev rmX1_characterOf : Room := { frames := 7, cells := 1, slots := 6, locals := 121 }
set_option maxHeartbeats 4000000 in
theorem c_X1_characterOf (D : zD) (A : Nat → Prop) {w m : zMp} {y : Nat} {s : zS} {i : Int} (hy : w y = some (eS s)) (hi : zR i) (hl : s.length ≤ 1000) : zC D yX1_characterOf cX1_characterOf 2 (some .int) none rmX1_characterOf A [.ref y, zI (i)] (cI D A w m) (zPe (fun (x : Unit) => some (zI (if i = -1 then (s.length : Int) else cT s i))) (fun _ => -1 ≤ i ∧ i < s.length) (fun _ => cI D A w m)) (xEx D A w m "java/lang/IndexOutOfBoundsException" ciJ22 (¬ (-1 ≤ i ∧ i < s.length))) := by
  refine zC_start (L := [some (.ref y), some (zI (i))]) (by decide) (Nat.le_of_ble_eq_true rfl) rfl (fun X hX => ?_)
  refine z_iload_n (i := 1) (q := 1) hX dX1_characterOf_0 rfl rfl rfl ?_
  refine z_iconst (q := 2) hX dX1_characterOf_1 rfl ?_
  refine z_icmp_ne (q := 5) (t := 10) hX dX1_characterOf_2 (by decide) hi (by decide) rfl (fun h2 => ?_) (fun h2 => ?_)
  · refine z_iload_n (i := 1) (q := 11) hX dX1_characterOf_10 rfl rfl rfl ?_
    refine z_aload_n (i := 0) (q := 12) hX dX1_characterOf_11 rfl rfl rfl ?_
    refine z_V (ci := ciJ13) (T := TJ13) (N := 4) (na := 0) hX dX1_characterOf_12 (c_J13_length D A (Or.inl hy)) rfl q1581 q538 q539 q116 q540 (by decide +kernel) ⟨Nat.le_of_ble_eq_true rfl, Nat.le_of_ble_eq_true rfl⟩ rfl rfl (Nat.le_of_ble_eq_true rfl) rfl (by first | exact Nat.le_of_ble_eq_true rfl | (show _ + 0 ≤ 1; omega)) (by first | exact Nat.le_of_ble_eq_true rfl | (show _ + 0 ≤ 6; omega)) (fun H h => ⟨h, h.obE (Or.inl hy) rfl⟩) (fun E a => zT.no) (zPd.out ?_)
    show zG X (_ + 0) (_ + 0) _ 15 _ _
    refine z_S (na := 2) hX dX1_characterOf_15 (c_X1_checkIndex D A hi ⟨by omega, by omega⟩) q1537 q1538 q97 q1539 (by decide +kernel) ⟨Nat.le_of_ble_eq_true rfl, Nat.le_of_ble_eq_true rfl⟩ rfl rfl (Nat.le_of_ble_eq_true rfl) rfl (by first | exact Nat.le_of_ble_eq_true rfl | (show _ + 1 ≤ 1; omega)) (by first | exact Nat.le_of_ble_eq_true rfl | (show _ + 6 ≤ 6; omega)) (fun H h => h) (zXs.out (fun e15 => ?_)) (zPe.out (fun x15 hx15 => ?_))
    · refine zT.ax (fun hx15 => ?_)
      exact zT.out hX (by decide) (by first | exact Nat.le_of_ble_eq_true rfl | (show (_ : Nat) ≤ 1; omega)) (by first | exact Nat.le_of_ble_eq_true rfl | (show (_ : Nat) ≤ 6; omega)) (fun H h => ⟨rfl, fun q => hx15 ⟨by omega, q.2⟩, h⟩)
    show zG X (_ + 1) (_ + 6) _ 18 _ _
    refine z_aload_n (i := 0) (q := 19) hX dX1_characterOf_18 rfl rfl rfl ?_
    refine z_iload_n (i := 1) (q := 20) hX dX1_characterOf_19 rfl rfl rfl ?_
    refine z_V (ci := ciJ13) (T := TJ13) (N := 4) (na := 1) hX dX1_characterOf_20 (c_J13_charAt D A (Or.inl hy) hx15) rfl q1582 q613 q614 q116 q615 (by decide +kernel) ⟨Nat.le_of_ble_eq_true rfl, Nat.le_of_ble_eq_true rfl⟩ rfl rfl (Nat.le_of_ble_eq_true rfl) rfl (by first | exact Nat.le_of_ble_eq_true rfl | (show _ + 0 ≤ 1; omega)) (by first | exact Nat.le_of_ble_eq_true rfl | (show _ + 0 ≤ 6; omega)) (fun H h => ⟨h, h.obE (Or.inl hy) rfl⟩) (fun E a => zT.no) (zPd.out ?_)
    show zG X (_ + 0) (_ + 0) _ 23 _ _
    exact z_iret hX dX1_characterOf_23 (by first | exact Nat.le_of_ble_eq_true rfl | (show (_ : Nat) ≤ 1; omega)) (by first | exact Nat.le_of_ble_eq_true rfl | (show (_ : Nat) ≤ 6; omega)) rfl (fun H h => ⟨(), by rw [if_neg h2], ⟨by omega, hx15.2⟩, h⟩)
  · refine z_aload_n (i := 0) (q := 6) hX dX1_characterOf_5 rfl rfl rfl ?_
    refine z_V (ci := ciJ13) (T := TJ13) (N := 4) (na := 0) hX dX1_characterOf_6 (c_J13_length D A (Or.inl hy)) rfl q1581 q538 q539 q116 q540 (by decide +kernel) ⟨Nat.le_of_ble_eq_true rfl, Nat.le_of_ble_eq_true rfl⟩ rfl rfl (Nat.le_of_ble_eq_true rfl) rfl (by first | exact Nat.le_of_ble_eq_true rfl | (show _ + 0 ≤ 1; omega)) (by first | exact Nat.le_of_ble_eq_true rfl | (show _ + 0 ≤ 6; omega)) (fun H h => ⟨h, h.obE (Or.inl hy) rfl⟩) (fun E a => zT.no) (zPd.out ?_)
    show zG X (_ + 0) (_ + 0) _ 9 _ _
    exact z_iret hX dX1_characterOf_9 (by first | exact Nat.le_of_ble_eq_true rfl | (show (_ : Nat) ≤ 1; omega)) (by first | exact Nat.le_of_ble_eq_true rfl | (show (_ : Nat) ≤ 6; omega)) rfl (fun H h => ⟨(), by rw [if_pos (Decidable.not_not.mp h2)], ⟨by omega, by omega⟩, h⟩)
abbrev rmX1_checkLine : Room := { frames := 7, cells := 1, slots := 6, locals := 121 }
set_option maxHeartbeats 4000000 in
theorem c_X1_checkLine (D : zD) (A : Nat → Prop) {w m : zMp} {b : Nat} {K : Nat → Prop} {M : Int → Int} {ps : List (Int → Int)} {sv : Option (Int → Int)} {rp : Option (Int × Int × Int × Int)} {s : zS} {cs : Option (List zCn)} {l : Int} (hb : zX1 D w m K b M ps sv rp s cs) (hl : zR l) : zC D yX1_checkLine cX1_checkLine 2 none none rmX1_checkLine A [.ref b, zI (l)] (cI D A w m) (zPe (fun (x : Unit) => none) (fun _ => 0 ≤ l ∧ l < M 0) (fun _ => cI D A w m)) (xEx D A w m "java/lang/IndexOutOfBoundsException" ciJ22 (¬ (0 ≤ l ∧ l < M 0))) := by
  refine zC_start (L := [some (.ref b), some (zI (l))]) (by decide) (Nat.le_of_ble_eq_true rfl) rfl (fun X hX => ?_)
  obtain ⟨lg, hl1, ia, sa, ra, ca, h1, h2, -⟩ := hb
  obtain ⟨hok, ll, ta, col, tc, mc, ls, tf, g1, g2, g3, g4⟩ := h2
  have hM := hok.1
  have l1 := g3.1
  refine z_iload_n (i := 1) (q := 1) hX dX1_checkLine_0 rfl rfl rfl ?_
  refine z_aload_n (i := 0) (q := 2) hX dX1_checkLine_1 rfl rfl rfl ?_
  refine zr_get (C := RX1) (T := TX1) (N := 7) (q := 5) hX ciX1 0 rfl (by decide) in_X1 dX1_checkLine_2 q224 (Or.inl rfl) (fun H h => cI.rd h (by first | assumption | exact Or.inl (by assumption) | exact Or.inr (by first | assumption | exact upm_same _ _ _ | exact (upm_ne _ _ (by first | assumption | exact Ne.symm (by assumption) | omega | exact ne_mp (m := m) (by assumption) (by assumption) | exact Ne.symm (ne_mp (m := m) (by assumption) (by assumption)) | exact ne_mp (m := w) (by assumption) (by assumption) | exact Ne.symm (ne_mp (m := w) (by assumption) (by assumption)))).trans (by first | assumption | exact upm_same _ _ _ | exact (upm_ne _ _ (by first | assumption | exact Ne.symm (by assumption) | omega | exact ne_mp (m := m) (by assumption) (by assumption) | exact Ne.symm (ne_mp (m := m) (by assumption) (by assumption)) | exact ne_mp (m := w) (by assumption) (by assumption) | exact Ne.symm (ne_mp (m := w) (by assumption) (by assumption)))).trans (by first | assumption | exact upm_same _ _ _ | exact (upm_ne _ _ (by first | assumption | exact Ne.symm (by assumption) | omega | exact ne_mp (m := m) (by assumption) (by assumption) | exact Ne.symm (ne_mp (m := m) (by assumption) (by assumption)) | exact ne_mp (m := w) (by assumption) (by assumption) | exact Ne.symm (ne_mp (m := w) (by assumption) (by assumption)))).trans (by first | assumption | exact upm_same _ _ _))))) rfl (by decide) rfl) rfl ?_
  refine zr_getN (C := RX2) (T := TX2) (N := 4) (q := 8) hX ciX2 0 rfl (by decide) in_X2 dX1_checkLine_5 (zNF_at 1 rfl) (fun H h => cI.rd h (by first | assumption | exact Or.inl (by assumption) | exact Or.inr (by first | assumption | exact upm_same _ _ _ | exact (upm_ne _ _ (by first | assumption | exact Ne.symm (by assumption) | omega | exact ne_mp (m := m) (by assumption) (by assumption) | exact Ne.symm (ne_mp (m := m) (by assumption) (by assumption)) | exact ne_mp (m := w) (by assumption) (by assumption) | exact Ne.symm (ne_mp (m := w) (by assumption) (by assumption)))).trans (by first | assumption | exact upm_same _ _ _ | exact (upm_ne _ _ (by first | assumption | exact Ne.symm (by assumption) | omega | exact ne_mp (m := m) (by assumption) (by assumption) | exact Ne.symm (ne_mp (m := m) (by assumption) (by assumption)) | exact ne_mp (m := w) (by assumption) (by assumption) | exact Ne.symm (ne_mp (m := w) (by assumption) (by assumption)))).trans (by first | assumption | exact upm_same _ _ _ | exact (upm_ne _ _ (by first | assumption | exact Ne.symm (by assumption) | omega | exact ne_mp (m := m) (by assumption) (by assumption) | exact Ne.symm (ne_mp (m := m) (by assumption) (by assumption)) | exact ne_mp (m := w) (by assumption) (by assumption) | exact Ne.symm (ne_mp (m := w) (by assumption) (by assumption)))).trans (by first | assumption | exact upm_same _ _ _))))) rfl (by decide) rfl) rfl ?_
  refine z_V (ci := ciJ2) (T := TJ2) (N := 3) (na := 0) hX dX1_checkLine_8 (c_J2_size D A (Or.inl g2)) rfl q993 q467 q468 q101 q469 (by decide +kernel) ⟨Nat.le_of_ble_eq_true rfl, Nat.le_of_ble_eq_true rfl⟩ rfl rfl (Nat.le_of_ble_eq_true rfl) rfl (by first | exact Nat.le_of_ble_eq_true rfl | (show _ + 0 ≤ 1; omega)) (by first | exact Nat.le_of_ble_eq_true rfl | (show _ + 0 ≤ 6; omega)) (fun H h => ⟨h, h.obL (Or.inl g2)⟩) (fun E a => zT.no) (zPd.out ?_)
  show zG X (_ + 0) (_ + 0) _ 11 _ _
  rw [show ((ls.length : Nat) : Int) = M 0 by omega]
  refine z_S (na := 2) hX dX1_checkLine_11 (c_X1_checkIndex D A hl ⟨by omega, by omega⟩) q1537 q1538 q97 q1539 (by decide +kernel) ⟨Nat.le_of_ble_eq_true rfl, Nat.le_of_ble_eq_true rfl⟩ rfl rfl (Nat.le_of_ble_eq_true rfl) rfl (by first | exact Nat.le_of_ble_eq_true rfl | (show _ + 1 ≤ 1; omega)) (by first | exact Nat.le_of_ble_eq_true rfl | (show _ + 6 ≤ 6; omega)) (fun H h => h) (zXs.out (fun e11 => ?_)) (zPe.out (fun x11 hx11 => ?_))
  · refine zT.ax (fun hx11 => ?_)
    exact zT.out hX (by decide) (by first | exact Nat.le_of_ble_eq_true rfl | (show (_ : Nat) ≤ 1; omega)) (by first | exact Nat.le_of_ble_eq_true rfl | (show (_ : Nat) ≤ 6; omega)) (fun H h => ⟨rfl, hx11, h⟩)
  show zG X (_ + 1) (_ + 6) _ 14 _ _
  exact z_vret hX dX1_checkLine_14 (by first | exact Nat.le_of_ble_eq_true rfl | (show (_ : Nat) ≤ 1; omega)) (by first | exact Nat.le_of_ble_eq_true rfl | (show (_ : Nat) ≤ 6; omega)) rfl (fun H h => ⟨(), rfl, hx11, h⟩)
abbrev rmX1_at : Room := { frames := 7, cells := 4, slots := 24, locals := 121 }
set_option maxHeartbeats 4000000 in
theorem c_X1_at (D : zD) (A : Nat → Prop) {w m : zMp} {b : Nat} {K : Nat → Prop} {M : Int → Int} {ps : List (Int → Int)} {sv : Option (Int → Int)} {rp : Option (Int × Int × Int × Int)} {s : zS} {cs : Option (List zCn)} {t : Int} (hb : zX1 D w m K b M ps sv rp s cs) (ht : zR t) : zC D yX1_at cX1_at 2 (some (.object "LogCompactor$Template")) none rmX1_at A [.ref b, zI (t)] (cI D A w m) (zPe (fun (x : Nat) => some (.ref x)) (fun x => isT M t = true ∧ wTm w x M t) (fun _ => cI D A w m)) (xEx D A w m "java/lang/IndexOutOfBoundsException" ciJ22 (isT M t = false)) := by
  refine zC_start (L := [some (.ref b), some (zI (t))]) (by decide) (Nat.le_of_ble_eq_true rfl) rfl (fun X hX => ?_)
  obtain ⟨lg, hl1, ia, sa, ra, ca, h1, h2, -⟩ := hb
  obtain ⟨hok, ll, ta, col, tc, mc, ls, tf, g1, g2, g3, g4, g5, g6⟩ := h2
  by_cases hr : 0 ≤ t ∧ t < 12
  · rcases g5 t.toNat (by omega) with ⟨q1, q2⟩ | ⟨q1, x, q2, q3⟩
    · rw [show ((t.toNat : Nat) : Int) = t by omega] at q1
      refine z_iload_n (i := 1) (q := 1) hX dX1_at_0 rfl rfl rfl ?_
      refine z_bipush (q := 3) hX dX1_at_1 (by decide) rfl ?_
      refine z_S (na := 2) hX dX1_at_3 (c_X1_checkIndex D A ht (by decide)) q1537 q1538 q97 q1539 (by decide +kernel) ⟨Nat.le_of_ble_eq_true rfl, Nat.le_of_ble_eq_true rfl⟩ rfl rfl (Nat.le_of_ble_eq_true rfl) rfl (by first | exact Nat.le_of_ble_eq_true rfl | (show _ + 1 ≤ 4; omega)) (by first | exact Nat.le_of_ble_eq_true rfl | (show _ + 6 ≤ 24; omega)) (fun H h => h) (zXs.out (fun e3 => ?_)) (zPe.out (fun x3 hx3 => ?_))
      · refine zT.ax (fun hx3 => ?_)
        exact absurd hr hx3
      show zG X (_ + 1) (_ + 6) _ 6 _ _
      refine z_aload_n (i := 0) (q := 7) hX dX1_at_6 rfl rfl rfl ?_
      refine zr_get (C := RX1) (T := TX1) (N := 7) (q := 10) hX ciX1 0 rfl (by decide) in_X1 dX1_at_7 q224 (Or.inl rfl) (fun H h => cI.rd h (by first | assumption | exact Or.inl (by assumption) | exact Or.inr (by first | assumption | exact upm_same _ _ _ | exact (upm_ne _ _ (by first | assumption | exact Ne.symm (by assumption) | omega | exact ne_mp (m := m) (by assumption) (by assumption) | exact Ne.symm (ne_mp (m := m) (by assumption) (by assumption)) | exact ne_mp (m := w) (by assumption) (by assumption) | exact Ne.symm (ne_mp (m := w) (by assumption) (by assumption)))).trans (by first | assumption | exact upm_same _ _ _ | exact (upm_ne _ _ (by first | assumption | exact Ne.symm (by assumption) | omega | exact ne_mp (m := m) (by assumption) (by assumption) | exact Ne.symm (ne_mp (m := m) (by assumption) (by assumption)) | exact ne_mp (m := w) (by assumption) (by assumption) | exact Ne.symm (ne_mp (m := w) (by assumption) (by assumption)))).trans (by first | assumption | exact upm_same _ _ _ | exact (upm_ne _ _ (by first | assumption | exact Ne.symm (by assumption) | omega | exact ne_mp (m := m) (by assumption) (by assumption) | exact Ne.symm (ne_mp (m := m) (by assumption) (by assumption)) | exact ne_mp (m := w) (by assumption) (by assumption) | exact Ne.symm (ne_mp (m := w) (by assumption) (by assumption)))).trans (by first | assumption | exact upm_same _ _ _))))) rfl (by decide) rfl) rfl ?_
      refine zr_getN (C := RX2) (T := TX2) (N := 4) (q := 13) hX ciX2 1 rfl (by decide) in_X2 dX1_at_10 (zNF_at 0 rfl) (fun H h => cI.rd h (by first | assumption | exact Or.inl (by assumption) | exact Or.inr (by first | assumption | exact upm_same _ _ _ | exact (upm_ne _ _ (by first | assumption | exact Ne.symm (by assumption) | omega | exact ne_mp (m := m) (by assumption) (by assumption) | exact Ne.symm (ne_mp (m := m) (by assumption) (by assumption)) | exact ne_mp (m := w) (by assumption) (by assumption) | exact Ne.symm (ne_mp (m := w) (by assumption) (by assumption)))).trans (by first | assumption | exact upm_same _ _ _ | exact (upm_ne _ _ (by first | assumption | exact Ne.symm (by assumption) | omega | exact ne_mp (m := m) (by assumption) (by assumption) | exact Ne.symm (ne_mp (m := m) (by assumption) (by assumption)) | exact ne_mp (m := w) (by assumption) (by assumption) | exact Ne.symm (ne_mp (m := w) (by assumption) (by assumption)))).trans (by first | assumption | exact upm_same _ _ _ | exact (upm_ne _ _ (by first | assumption | exact Ne.symm (by assumption) | omega | exact ne_mp (m := m) (by assumption) (by assumption) | exact Ne.symm (ne_mp (m := m) (by assumption) (by assumption)) | exact ne_mp (m := w) (by assumption) (by assumption) | exact Ne.symm (ne_mp (m := w) (by assumption) (by assumption)))).trans (by first | assumption | exact upm_same _ _ _))))) rfl (by decide) rfl) rfl ?_
      refine z_iload_n (i := 1) (q := 14) hX dX1_at_13 rfl rfl rfl ?_
      refine zr_aald (q := 15) hX 7 rfl dX1_at_14 (fun H h => (cI.at h (by first | assumption | exact Or.inl (by assumption) | exact Or.inr (by first | assumption | exact upm_same _ _ _ | exact (upm_ne _ _ (by first | assumption | exact Ne.symm (by assumption) | omega | exact ne_mp (m := m) (by assumption) (by assumption) | exact Ne.symm (ne_mp (m := m) (by assumption) (by assumption)) | exact ne_mp (m := w) (by assumption) (by assumption) | exact Ne.symm (ne_mp (m := w) (by assumption) (by assumption)))).trans (by first | assumption | exact upm_same _ _ _ | exact (upm_ne _ _ (by first | assumption | exact Ne.symm (by assumption) | omega | exact ne_mp (m := m) (by assumption) (by assumption) | exact Ne.symm (ne_mp (m := m) (by assumption) (by assumption)) | exact ne_mp (m := w) (by assumption) (by assumption) | exact Ne.symm (ne_mp (m := w) (by assumption) (by assumption)))).trans (by first | assumption | exact upm_same _ _ _ | exact (upm_ne _ _ (by first | assumption | exact Ne.symm (by assumption) | omega | exact ne_mp (m := m) (by assumption) (by assumption) | exact Ne.symm (ne_mp (m := m) (by assumption) (by assumption)) | exact ne_mp (m := w) (by assumption) (by assumption) | exact Ne.symm (ne_mp (m := w) (by assumption) (by assumption)))).trans (by first | assumption | exact upm_same _ _ _)))))).raQ) ⟨by omega, by omega⟩ (by first | decide | omega) rfl ?_
      refine zG.top (v2 := .null) (by show va_rf (tf t.toNat) = _; rw [q2]; rfl) ?_
      refine z_ifnonnullN (q := 18) hX dX1_at_15 rfl ?_
      refine zc_throw0 (q := 25) (names := ["java/lang/RuntimeException", "java/lang/Exception"]) hX ciJ22 (C := RJ22) (T := zT0) (N := 0) rfl (by decide +kernel) (by decide +kernel) q1540 q129 xa_X1_18 xg_X1_18 dX1_at_18 dX1_at_21 dX1_at_22 dX1_at_25 (Nat.le_of_ble_eq_true rfl) rfl (Nat.le_of_ble_eq_true rfl) (Nat.le_of_ble_eq_true rfl) (by first | exact Nat.le_of_ble_eq_true rfl | (show _ + 1 ≤ 4; omega)) (by first | exact Nat.le_of_ble_eq_true rfl | (show _ + 6 ≤ 24; omega)) rfl (fun e18 he18 hf18 => ?_)
      exact zT.out hX (by decide) (by first | exact Nat.le_of_ble_eq_true rfl | (show (_ : Nat) ≤ 4; omega)) (by first | exact Nat.le_of_ble_eq_true rfl | (show (_ : Nat) ≤ 24; omega)) (fun H h => ⟨rfl, q1, ⟨he18, hf18⟩, h⟩)
    · rw [show ((t.toNat : Nat) : Int) = t by omega] at q1 q3
      refine z_iload_n (i := 1) (q := 1) hX dX1_at_0 rfl rfl rfl ?_
      refine z_bipush (q := 3) hX dX1_at_1 (by decide) rfl ?_
      refine z_S (na := 2) hX dX1_at_3 (c_X1_checkIndex D A ht (by decide)) q1537 q1538 q97 q1539 (by decide +kernel) ⟨Nat.le_of_ble_eq_true rfl, Nat.le_of_ble_eq_true rfl⟩ rfl rfl (Nat.le_of_ble_eq_true rfl) rfl (by first | exact Nat.le_of_ble_eq_true rfl | (show _ + 1 ≤ 4; omega)) (by first | exact Nat.le_of_ble_eq_true rfl | (show _ + 6 ≤ 24; omega)) (fun H h => h) (zXs.out (fun e3 => ?_)) (zPe.out (fun x3 hx3 => ?_))
      · refine zT.ax (fun hx3 => ?_)
        exact absurd hr hx3
      show zG X (_ + 1) (_ + 6) _ 6 _ _
      refine z_aload_n (i := 0) (q := 7) hX dX1_at_6 rfl rfl rfl ?_
      refine zr_get (C := RX1) (T := TX1) (N := 7) (q := 10) hX ciX1 0 rfl (by decide) in_X1 dX1_at_7 q224 (Or.inl rfl) (fun H h => cI.rd h (by first | assumption | exact Or.inl (by assumption) | exact Or.inr (by first | assumption | exact upm_same _ _ _ | exact (upm_ne _ _ (by first | assumption | exact Ne.symm (by assumption) | omega | exact ne_mp (m := m) (by assumption) (by assumption) | exact Ne.symm (ne_mp (m := m) (by assumption) (by assumption)) | exact ne_mp (m := w) (by assumption) (by assumption) | exact Ne.symm (ne_mp (m := w) (by assumption) (by assumption)))).trans (by first | assumption | exact upm_same _ _ _ | exact (upm_ne _ _ (by first | assumption | exact Ne.symm (by assumption) | omega | exact ne_mp (m := m) (by assumption) (by assumption) | exact Ne.symm (ne_mp (m := m) (by assumption) (by assumption)) | exact ne_mp (m := w) (by assumption) (by assumption) | exact Ne.symm (ne_mp (m := w) (by assumption) (by assumption)))).trans (by first | assumption | exact upm_same _ _ _ | exact (upm_ne _ _ (by first | assumption | exact Ne.symm (by assumption) | omega | exact ne_mp (m := m) (by assumption) (by assumption) | exact Ne.symm (ne_mp (m := m) (by assumption) (by assumption)) | exact ne_mp (m := w) (by assumption) (by assumption) | exact Ne.symm (ne_mp (m := w) (by assumption) (by assumption)))).trans (by first | assumption | exact upm_same _ _ _))))) rfl (by decide) rfl) rfl ?_
      refine zr_getN (C := RX2) (T := TX2) (N := 4) (q := 13) hX ciX2 1 rfl (by decide) in_X2 dX1_at_10 (zNF_at 0 rfl) (fun H h => cI.rd h (by first | assumption | exact Or.inl (by assumption) | exact Or.inr (by first | assumption | exact upm_same _ _ _ | exact (upm_ne _ _ (by first | assumption | exact Ne.symm (by assumption) | omega | exact ne_mp (m := m) (by assumption) (by assumption) | exact Ne.symm (ne_mp (m := m) (by assumption) (by assumption)) | exact ne_mp (m := w) (by assumption) (by assumption) | exact Ne.symm (ne_mp (m := w) (by assumption) (by assumption)))).trans (by first | assumption | exact upm_same _ _ _ | exact (upm_ne _ _ (by first | assumption | exact Ne.symm (by assumption) | omega | exact ne_mp (m := m) (by assumption) (by assumption) | exact Ne.symm (ne_mp (m := m) (by assumption) (by assumption)) | exact ne_mp (m := w) (by assumption) (by assumption) | exact Ne.symm (ne_mp (m := w) (by assumption) (by assumption)))).trans (by first | assumption | exact upm_same _ _ _ | exact (upm_ne _ _ (by first | assumption | exact Ne.symm (by assumption) | omega | exact ne_mp (m := m) (by assumption) (by assumption) | exact Ne.symm (ne_mp (m := m) (by assumption) (by assumption)) | exact ne_mp (m := w) (by assumption) (by assumption) | exact Ne.symm (ne_mp (m := w) (by assumption) (by assumption)))).trans (by first | assumption | exact upm_same _ _ _))))) rfl (by decide) rfl) rfl ?_
      refine z_iload_n (i := 1) (q := 14) hX dX1_at_13 rfl rfl rfl ?_
      refine zr_aald (q := 15) hX 7 rfl dX1_at_14 (fun H h => (cI.at h (by first | assumption | exact Or.inl (by assumption) | exact Or.inr (by first | assumption | exact upm_same _ _ _ | exact (upm_ne _ _ (by first | assumption | exact Ne.symm (by assumption) | omega | exact ne_mp (m := m) (by assumption) (by assumption) | exact Ne.symm (ne_mp (m := m) (by assumption) (by assumption)) | exact ne_mp (m := w) (by assumption) (by assumption) | exact Ne.symm (ne_mp (m := w) (by assumption) (by assumption)))).trans (by first | assumption | exact upm_same _ _ _ | exact (upm_ne _ _ (by first | assumption | exact Ne.symm (by assumption) | omega | exact ne_mp (m := m) (by assumption) (by assumption) | exact Ne.symm (ne_mp (m := m) (by assumption) (by assumption)) | exact ne_mp (m := w) (by assumption) (by assumption) | exact Ne.symm (ne_mp (m := w) (by assumption) (by assumption)))).trans (by first | assumption | exact upm_same _ _ _ | exact (upm_ne _ _ (by first | assumption | exact Ne.symm (by assumption) | omega | exact ne_mp (m := m) (by assumption) (by assumption) | exact Ne.symm (ne_mp (m := m) (by assumption) (by assumption)) | exact ne_mp (m := w) (by assumption) (by assumption) | exact Ne.symm (ne_mp (m := w) (by assumption) (by assumption)))).trans (by first | assumption | exact upm_same _ _ _)))))).raQ) ⟨by omega, by omega⟩ (by first | decide | omega) rfl ?_
      refine zG.top (v2 := .ref x) (by show va_rf (tf t.toNat) = _; rw [q2]; rfl) ?_
      refine z_ifnonnull (t := 26) hX dX1_at_15 (by decide) ?_
      refine z_aload_n (i := 0) (q := 27) hX dX1_at_26 rfl rfl rfl ?_
      refine zr_get (C := RX1) (T := TX1) (N := 7) (q := 30) hX ciX1 0 rfl (by decide) in_X1 dX1_at_27 q224 (Or.inl rfl) (fun H h => cI.rd h (by first | assumption | exact Or.inl (by assumption) | exact Or.inr (by first | assumption | exact upm_same _ _ _ | exact (upm_ne _ _ (by first | assumption | exact Ne.symm (by assumption) | omega | exact ne_mp (m := m) (by assumption) (by assumption) | exact Ne.symm (ne_mp (m := m) (by assumption) (by assumption)) | exact ne_mp (m := w) (by assumption) (by assumption) | exact Ne.symm (ne_mp (m := w) (by assumption) (by assumption)))).trans (by first | assumption | exact upm_same _ _ _ | exact (upm_ne _ _ (by first | assumption | exact Ne.symm (by assumption) | omega | exact ne_mp (m := m) (by assumption) (by assumption) | exact Ne.symm (ne_mp (m := m) (by assumption) (by assumption)) | exact ne_mp (m := w) (by assumption) (by assumption) | exact Ne.symm (ne_mp (m := w) (by assumption) (by assumption)))).trans (by first | assumption | exact upm_same _ _ _ | exact (upm_ne _ _ (by first | assumption | exact Ne.symm (by assumption) | omega | exact ne_mp (m := m) (by assumption) (by assumption) | exact Ne.symm (ne_mp (m := m) (by assumption) (by assumption)) | exact ne_mp (m := w) (by assumption) (by assumption) | exact Ne.symm (ne_mp (m := w) (by assumption) (by assumption)))).trans (by first | assumption | exact upm_same _ _ _))))) rfl (by decide) rfl) rfl ?_
      refine zr_getN (C := RX2) (T := TX2) (N := 4) (q := 33) hX ciX2 1 rfl (by decide) in_X2 dX1_at_30 (zNF_at 0 rfl) (fun H h => cI.rd h (by first | assumption | exact Or.inl (by assumption) | exact Or.inr (by first | assumption | exact upm_same _ _ _ | exact (upm_ne _ _ (by first | assumption | exact Ne.symm (by assumption) | omega | exact ne_mp (m := m) (by assumption) (by assumption) | exact Ne.symm (ne_mp (m := m) (by assumption) (by assumption)) | exact ne_mp (m := w) (by assumption) (by assumption) | exact Ne.symm (ne_mp (m := w) (by assumption) (by assumption)))).trans (by first | assumption | exact upm_same _ _ _ | exact (upm_ne _ _ (by first | assumption | exact Ne.symm (by assumption) | omega | exact ne_mp (m := m) (by assumption) (by assumption) | exact Ne.symm (ne_mp (m := m) (by assumption) (by assumption)) | exact ne_mp (m := w) (by assumption) (by assumption) | exact Ne.symm (ne_mp (m := w) (by assumption) (by assumption)))).trans (by first | assumption | exact upm_same _ _ _ | exact (upm_ne _ _ (by first | assumption | exact Ne.symm (by assumption) | omega | exact ne_mp (m := m) (by assumption) (by assumption) | exact Ne.symm (ne_mp (m := m) (by assumption) (by assumption)) | exact ne_mp (m := w) (by assumption) (by assumption) | exact Ne.symm (ne_mp (m := w) (by assumption) (by assumption)))).trans (by first | assumption | exact upm_same _ _ _))))) rfl (by decide) rfl) rfl ?_
      refine z_iload_n (i := 1) (q := 34) hX dX1_at_33 rfl rfl rfl ?_
      refine zr_aald (q := 35) hX 7 rfl dX1_at_34 (fun H h => (cI.at h (by first | assumption | exact Or.inl (by assumption) | exact Or.inr (by first | assumption | exact upm_same _ _ _ | exact (upm_ne _ _ (by first | assumption | exact Ne.symm (by assumption) | omega | exact ne_mp (m := m) (by assumption) (by assumption) | exact Ne.symm (ne_mp (m := m) (by assumption) (by assumption)) | exact ne_mp (m := w) (by assumption) (by assumption) | exact Ne.symm (ne_mp (m := w) (by assumption) (by assumption)))).trans (by first | assumption | exact upm_same _ _ _ | exact (upm_ne _ _ (by first | assumption | exact Ne.symm (by assumption) | omega | exact ne_mp (m := m) (by assumption) (by assumption) | exact Ne.symm (ne_mp (m := m) (by assumption) (by assumption)) | exact ne_mp (m := w) (by assumption) (by assumption) | exact Ne.symm (ne_mp (m := w) (by assumption) (by assumption)))).trans (by first | assumption | exact upm_same _ _ _ | exact (upm_ne _ _ (by first | assumption | exact Ne.symm (by assumption) | omega | exact ne_mp (m := m) (by assumption) (by assumption) | exact Ne.symm (ne_mp (m := m) (by assumption) (by assumption)) | exact ne_mp (m := w) (by assumption) (by assumption) | exact Ne.symm (ne_mp (m := w) (by assumption) (by assumption)))).trans (by first | assumption | exact upm_same _ _ _)))))).raQ) ⟨by omega, by omega⟩ (by first | decide | omega) rfl ?_
      refine zG.top (v2 := .ref x) (by show va_rf (tf t.toNat) = _; rw [q2]; rfl) ?_
      exact z_aret hX dX1_at_35 (by first | exact Nat.le_of_ble_eq_true rfl | (show (_ : Nat) ≤ 4; omega)) (by first | exact Nat.le_of_ble_eq_true rfl | (show (_ : Nat) ≤ 24; omega)) rfl (by first | exact Or.inl ⟨_, rfl⟩ | exact Or.inr ⟨_, rfl⟩) (by first | exact Or.inl rfl | exact Or.inr ⟨_, rfl⟩) (fun H h => ⟨x, rfl, ⟨q1, q3⟩, h⟩)
  · have hno : isT M t = false := by
      rw [← Bool.not_eq_true, isT_iff]
      omega
    refine z_iload_n (i := 1) (q := 1) hX dX1_at_0 rfl rfl rfl ?_
    refine z_bipush (q := 3) hX dX1_at_1 (by decide) rfl ?_
    refine z_S (na := 2) hX dX1_at_3 (c_X1_checkIndex D A ht (by decide)) q1537 q1538 q97 q1539 (by decide +kernel) ⟨Nat.le_of_ble_eq_true rfl, Nat.le_of_ble_eq_true rfl⟩ rfl rfl (Nat.le_of_ble_eq_true rfl) rfl (by first | exact Nat.le_of_ble_eq_true rfl | (show _ + 1 ≤ 4; omega)) (by first | exact Nat.le_of_ble_eq_true rfl | (show _ + 6 ≤ 24; omega)) (fun H h => h) (zXs.out (fun e3 => ?_)) (zPe.out (fun x3 hx3 => ?_))
    · refine zT.ax (fun hx3 => ?_)
      exact zT.out hX (by decide) (by first | exact Nat.le_of_ble_eq_true rfl | (show (_ : Nat) ≤ 4; omega)) (by first | exact Nat.le_of_ble_eq_true rfl | (show (_ : Nat) ≤ 24; omega)) (fun H h => ⟨rfl, hno, h⟩)
    show zG X (_ + 1) (_ + 6) _ 6 _ _
    exact absurd hx3 hr
theorem zInts.un {w : zMp} {xs : List Nat} {ks ks2 : List Int} (h : zInts w xs ks) (g : zInts w xs ks2) : ks = ks2 := by
  refine List.ext_getElem? (fun i => ?_)
  have h1 := h.1
  have g1 := g.1
  cases q : ks[i]? with
  | none =>
    rw [List.getElem?_eq_none_iff] at q
    exact (List.getElem?_eq_none (by omega)).symm
  | some k =>
    have hi : i < ks.length := (List.getElem?_eq_some_iff.mp q).1
    have q2 : ks2[i]? = some ks2[i] := List.getElem?_eq_getElem (by omega)
    obtain ⟨-, a, h2, h3⟩ := h.2 i k q
    obtain ⟨-, a2, g2, g3⟩ := g.2 i _ q2
    have ea : a = a2 := Option.some.inj (h2.symm.trans g2)
    subst ea
    have e : some (eI k) = some (eI ks2[i]) := h3.symm.trans g3
    injection e with e
    injection e with e
    injection e with e
    injection e with e
    injection e with e
    injection e with e
    injection e with e
    rw [q2, e]
theorem wTm.ne {w : zMp} {x y : Nat} {M : Int → Int} {t u : Int} (h : wTm w x M t) (g : wTm w y M u) (hT : isT M t = true) (hne : t ≠ u) : x ≠ y := by
  intro e
  subst e
  obtain ⟨-, gl, sl, rl, mc, mc2, mc3, gs, ss, rs, h1, h2, h3, h4, h5, h6, h7⟩ := h
  obtain ⟨-, gl2, sl2, rl2, mc4, mc5, mc6, gs2, ss2, rs2, g1, g2, g3, g4, g5, g6, g7⟩ := g
  have e : some (eO ciX7 [.ref gl, .ref sl, .ref rl]) = some (eO ciX7 [.ref gl2, .ref sl2, .ref rl2]) := h1.symm.trans g1
  injection e with e
  injection e with e
  injection e with e
  injection e with e0 e
  injection e with e2 e
  injection e with e3 e
  injection e with e4 e
  injection e4 with e4
  subst e4
  have e : some (eL mc3 rs) = some (eL mc6 rs2) := h6.symm.trans g6
  injection e with e
  injection e with e
  injection e with e
  injection e with e0 e
  subst e
  have e := h7.un g7
  have hf := isT_fst hT
  have h8 := rws_mem.mp hf
  rw [e] at hf
  have h9 := rws_mem.mp hf
  exact hne (h8.2.2.symm.trans h9.2.2)
abbrev rmX1_checkPair : Room := { frames := 8, cells := 10, slots := 60, locals := 142 }
set_option maxHeartbeats 4000000 in
theorem c_X1_checkPair (D : zD) (A : Nat → Prop) {w m : zMp} {b : Nat} {K : Nat → Prop} {M : Int → Int} {ps : List (Int → Int)} {sv : Option (Int → Int)} {rp : Option (Int × Int × Int × Int)} {s : zS} {cs : Option (List zCn)} {x y : Int} (hb : zX1 D w m K b M ps sv rp s cs) (hx : zR x) (hy : zR y) : zC D yX1_checkPair cX1_checkPair 5 none none rmX1_checkPair A [.ref b, zI (x), zI (y)] (cI D A w m) (zPe (fun (z : Unit) => none) (fun _ => (isT M x = true ∧ isT M y = true) ∧ x ≠ y) (fun _ => cI D A w m)) (zXo (xEx D A w m "java/lang/IndexOutOfBoundsException" ciJ22 (¬ (isT M x = true ∧ isT M y = true))) (xEx D A w m "java/lang/IllegalArgumentException" ciJ7 ((isT M x = true ∧ isT M y = true) ∧ x = y))) := by
  refine zC_start (L := [some (.ref b), some (zI (x)), some (zI (y)), none, none]) (by decide) (Nat.le_of_ble_eq_true rfl) rfl (fun X hX => ?_)
  have hb0 := hb
  obtain ⟨lg, hl1, ia, sa, ra, ca, h1, h2, -⟩ := hb
  refine z_aload_n (i := 0) (q := 1) hX dX1_checkPair_0 rfl rfl rfl ?_
  refine z_iload_n (i := 1) (q := 2) hX dX1_checkPair_1 rfl rfl rfl ?_
  refine z_V (ci := ciX1) (T := TX1) (N := 7) (na := 1) hX dX1_checkPair_2 (c_X1_at D A hb0 hx) rfl q1625 q1627 qs35 q97 q1628 (by decide +kernel) ⟨Nat.le_of_ble_eq_true rfl, Nat.le_of_ble_eq_true rfl⟩ rfl rfl (Nat.le_of_ble_eq_true rfl) rfl (by first | exact Nat.le_of_ble_eq_true rfl | (show _ + 4 ≤ 10; omega)) (by first | exact Nat.le_of_ble_eq_true rfl | (show _ + 24 ≤ 60; omega)) (fun H h => ⟨h, h.obE (Or.inr h1) rfl⟩) (zXs.out (fun e2 => ?_)) (zPe.out (fun x2 hx2 => ?_))
  · refine zT.ax (fun hx2 => ?_)
    exact zT.out hX (by decide) (by first | exact Nat.le_of_ble_eq_true rfl | (show (_ : Nat) ≤ 10; omega)) (by first | exact Nat.le_of_ble_eq_true rfl | (show (_ : Nat) ≤ 60; omega)) (fun H h => Or.inl (xExI (fun q => by rw [hx2] at q; cases q.1) h))
  show zG X (_ + 4) (_ + 24) _ 5 _ _
  refine z_astore_n (i := 3) (q := 6) hX dX1_checkPair_5 rfl (Nat.le_of_ble_eq_true rfl) rfl rfl ?_
  refine z_aload_n (i := 0) (q := 7) hX dX1_checkPair_6 rfl rfl rfl ?_
  refine z_iload_n (i := 2) (q := 8) hX dX1_checkPair_7 rfl rfl rfl ?_
  refine z_V (ci := ciX1) (T := TX1) (N := 7) (na := 1) hX dX1_checkPair_8 (c_X1_at D A hb0 hy) rfl q1625 q1627 qs35 q97 q1628 (by decide +kernel) ⟨Nat.le_of_ble_eq_true rfl, Nat.le_of_ble_eq_true rfl⟩ rfl rfl (Nat.le_of_ble_eq_true rfl) rfl (by first | exact Nat.le_of_ble_eq_true rfl | (show _ + 4 ≤ 10; omega)) (by first | exact Nat.le_of_ble_eq_true rfl | (show _ + 24 ≤ 60; omega)) (fun H h => ⟨h, h.obE (Or.inr h1) rfl⟩) (zXs.out (fun e8 => ?_)) (zPe.out (fun x8 hx8 => ?_))
  · refine zT.ax (fun hx8 => ?_)
    exact zT.out hX (by decide) (by first | exact Nat.le_of_ble_eq_true rfl | (show (_ : Nat) ≤ 10; omega)) (by first | exact Nat.le_of_ble_eq_true rfl | (show (_ : Nat) ≤ 60; omega)) (fun H h => Or.inl (xExI (fun q => by rw [hx8] at q; cases q.2) h))
  show zG X (_ + 4) (_ + 24) _ 11 _ _
  refine z_astore (q := 13) hX dX1_checkPair_11 (Nat.le_of_ble_eq_true rfl) rfl rfl ?_
  refine z_iload_n (i := 1) (q := 14) hX dX1_checkPair_13 rfl rfl rfl ?_
  refine z_iload_n (i := 2) (q := 15) hX dX1_checkPair_14 rfl rfl rfl ?_
  refine z_icmp_eq (q := 18) (t := 28) hX dX1_checkPair_15 (by decide) hx hy rfl (fun h15 => ?_) (fun h15 => ?_)
  · have hxe : x = y := h15
    refine z_iconst (q := 29) hX dX1_checkPair_28 rfl ?_
    refine zG.top (v2 := zI (bi false)) rfl ?_
    refine z_S (na := 1) hX dX1_checkPair_29 (c_X1_checkArgument D A (c := false)) q1314 q1315 q97 q1316 (by decide +kernel) ⟨Nat.le_of_ble_eq_true rfl, Nat.le_of_ble_eq_true rfl⟩ rfl rfl (Nat.le_of_ble_eq_true rfl) rfl (by first | exact Nat.le_of_ble_eq_true rfl | (show _ + 1 ≤ 10; omega)) (by first | exact Nat.le_of_ble_eq_true rfl | (show _ + 6 ≤ 60; omega)) (fun H h => h) (zXs.out (fun e29 => ?_)) (zPe.out (fun x29 hx29 => ?_))
    · refine zT.ax (fun hx29 => ?_)
      exact zT.out hX (by decide) (by first | exact Nat.le_of_ble_eq_true rfl | (show (_ : Nat) ≤ 10; omega)) (by first | exact Nat.le_of_ble_eq_true rfl | (show (_ : Nat) ≤ 60; omega)) (fun H h => Or.inr (xExI ⟨⟨hx2.1, hx8.1⟩, hxe⟩ h))
    show zG X (_ + 1) (_ + 6) _ 32 _ _
    cases hx29
  · have hxy : x2 ≠ x8 := wTm.ne hx2.2 hx8.2 hx2.1 h15
    refine z_aload_n (i := 3) (q := 19) hX dX1_checkPair_18 rfl rfl rfl ?_
    refine z_aload (q := 21) hX dX1_checkPair_19 rfl rfl ?_
    refine z_acmp_eq (q := 24) (t := 28) hX (some _) (some _) dX1_checkPair_21 (by decide) rfl (fun h21 => ?_) (fun h21 => ?_)
    · exact absurd (Option.some.inj h21) hxy
    · refine z_iconst (q := 25) hX dX1_checkPair_24 rfl ?_
      refine z_goto (t := 29) hX dX1_checkPair_25 (by decide) ?_
      refine zG.top (v2 := zI (bi true)) rfl ?_
      refine z_S (na := 1) hX dX1_checkPair_29 (c_X1_checkArgument D A (c := true)) q1314 q1315 q97 q1316 (by decide +kernel) ⟨Nat.le_of_ble_eq_true rfl, Nat.le_of_ble_eq_true rfl⟩ rfl rfl (Nat.le_of_ble_eq_true rfl) rfl (by first | exact Nat.le_of_ble_eq_true rfl | (show _ + 1 ≤ 10; omega)) (by first | exact Nat.le_of_ble_eq_true rfl | (show _ + 6 ≤ 60; omega)) (fun H h => h) (zXs.out (fun e29 => ?_)) (zPe.out (fun x29 hx29 => ?_))
      · refine zT.ax (fun hx29 => ?_)
        cases hx29
      show zG X (_ + 1) (_ + 6) _ 32 _ _
      exact z_vret hX dX1_checkPair_32 (by first | exact Nat.le_of_ble_eq_true rfl | (show (_ : Nat) ≤ 10; omega)) (by first | exact Nat.le_of_ble_eq_true rfl | (show (_ : Nat) ≤ 60; omega)) rfl (fun H h => ⟨(), rfl, ⟨⟨hx2.1, hx8.1⟩, h15⟩, h⟩)
