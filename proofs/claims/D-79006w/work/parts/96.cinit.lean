/-! THE CLASS: the compactor's constructor -/
set_option maxRecDepth 100000
theorem M00_ok : zOk M00 := by
  have h0 : M00 0 = 0 := rfl
  have h1 : M00 1 = 50 := rfl
  refine ⟨by rw [h0, h1]; decide, fun l q1 q2 => by rw [h0] at q2; omega, fun t k q1 q2 q3 q4 => ?_, fun l q1 q2 => by rw [h0] at q2; omega⟩
  have : slt M00 t k = 0 := by
    unfold slt M00
    rw [if_neg (by omega)]
  rw [this]
  decide
theorem kLog.upb {D : zD} {w m : zMp} {K : Nat → Prop} {a b : Nat} {M : Int → Int} {fs : List Value} {x : zE} (h : kLog D w m K a M) (hb : m b = some (eO ciX1 fs)) : kLog D w (upm m b x) K a M := h.of (fun c t n f hc ht => ⟨upm_ne _ _ (fun e => by rw [e, hb] at hc; cases hc), upm_ne _ _ (fun e => by rw [e, hb] at ht; cases ht)⟩)
theorem M00_t (t : Int) : isT M00 t = false := by
  have : fst M00 t = -1 := fst_none (fun l q1 q2 => by rw [show M00 0 = 0 from rfl] at q2; omega)
  unfold isT
  rw [this, show decide ((0 : Int) ≤ -1) = false from rfl, Bool.and_false]
abbrev rmX1_init : Room := { frames := 5, cells := 7, slots := 127, locals := 100 }
set_option maxHeartbeats 4000000 in
theorem c_X1_init (D : zD) (A : Nat → Prop) {w m : zMp} {b : Nat} {K : Nat → Prop} (hm : m b = some (eO ciX1 [.null, .null, .null, .null, .null, zI 0, .null])) (hK : zHk K m) (hKb : ¬ K b) : zC D yX1_init cX1_init 1 none none rmX1_init A [.ref b] (cI D A w m) (zPe (fun (x : zMp × zMp) => none) (fun x => zLe w x.1 ∧ zFr K m x.2 ∧ zX1 D x.1 x.2 K b M00 [] none none [] none) (fun x => cI D A x.1 x.2)) (zNo) := by
  refine zC_start (L := [some (.ref b)]) (by decide) (Nat.le_of_ble_eq_true rfl) rfl (fun X hX => ?_)
  refine z_aload_n (i := 0) (q := 1) hX dX1_init_0 rfl rfl rfl ?_
  refine z_objInit (q := 4) hX dX1_init_1 q146 q147 q148 (Nat.le_of_ble_eq_true rfl) rfl ⟨Nat.le_of_ble_eq_true rfl, Nat.le_of_ble_eq_true rfl⟩ rfl ?_
  refine z_aload_n (i := 0) (q := 5) hX dX1_init_4 rfl rfl rfl ?_
  refine zc_new (q := 8) (fs := [.null, .null, zI 0, .null]) (C := RX2) (T := TX2) (N := 4) hX ciX2 rfl in_X2 tyX2_ok dX1_init_5 q149 q150 q98 (fun j hj => by match j, hj with | 0, _ => rfl | 1, _ => rfl | 2, _ => rfl | 3, _ => rfl | (_ + 4), h => exact absurd h (by omega)) (by first | exact Nat.le_of_ble_eq_true rfl | (show _ + 1 ≤ 7; omega)) (by first | exact Nat.le_of_ble_eq_true rfl | (show _ + 4 ≤ 127; omega)) rfl (fun a5 ha5 hb5 => ?_)
  have n5 := hb5
  try simp only [upm_none] at n5
  repeat (have := And.left n5; replace n5 := And.right n5)
  refine z_dup (q := 9) hX dX1_init_8 rfl rfl ?_
  refine z_C (na := 0) hX dX1_init_9 (c_X2_init D A (upm_same _ _ _)) q151 q152 q98 q153 rfl (by decide +kernel) ⟨Nat.le_of_ble_eq_true rfl, Nat.le_of_ble_eq_true rfl⟩ rfl rfl (Nat.le_of_ble_eq_true rfl) rfl (by first | exact Nat.le_of_ble_eq_true rfl | (show _ + 4 ≤ 7; omega)) (by first | exact Nat.le_of_ble_eq_true rfl | (show _ + 60 ≤ 127; omega)) (fun H h => h) (fun E a => zT.no) (zPe.out (fun x9 hx9 => ?_))
  show zG X (_ + 4) (_ + 60) _ 12 _ _
  obtain ⟨n1, n2, n3, n4, n5, n6, n7, n8, n9⟩ := nlog (D := D) hK hb5 hx9
  rw [n1]
  refine zG.frzL n2 n7 (fun w2 hw2 q1 q2 q3 => ?_)
  have hkl : kLog D w2 (nMR D m x9) K a5 M00 := ⟨M00_ok, x9.1, x9.2.1, x9.2.2.1, x9.2.2.2, 0, [], fun _ => none, q1, q2, ⟨rfl, fun i hi => absurd hi (by show ¬ i < (M00 0).toNat; rw [show (M00 0).toNat = 0 from rfl]; exact Nat.not_lt_zero _)⟩, q3, fun t ht => Or.inl ⟨M00_t t, rfl⟩, n6, n8⟩
  have hm2 := n4 _ _ hm
  refine zc_put (C := RX1) (T := TX1) (N := 7) (q := 15) hX ciX1 0 rfl (by decide) in_X1 tyX1_ok nmX1 dX1_init_12 q224 (Or.inl rfl) rfl hm2 (Nat.le_of_ble_eq_true rfl) rfl rfl rfl rfl ?_
  refine z_aload_n (i := 0) (q := 16) hX dX1_init_15 rfl rfl rfl ?_
  refine zc_new (q := 19) (fs := [zI 0, .null, zI 0]) (C := RJ2) (T := TJ2) (N := 3) hX ciJ2 rfl in_J2 tyJ2_ok dX1_init_16 q222 q156 q101 (fun j hj => by match j, hj with | 0, _ => rfl | 1, _ => rfl | 2, _ => rfl | (_ + 3), h => exact absurd h (by omega)) (by first | exact Nat.le_of_ble_eq_true rfl | (show _ + 1 ≤ 7; omega)) (by first | exact Nat.le_of_ble_eq_true rfl | (show _ + 3 ≤ 127; omega)) rfl (fun a16 ha16 hb16 => ?_)
  have n16 := hb16
  try simp only [upm_none] at n16
  repeat (have := And.left n16; replace n16 := And.right n16)
  refine z_dup (q := 20) hX dX1_init_19 rfl rfl ?_
  refine z_C (na := 0) hX dX1_init_20 (c_J2_init D A (upm_same _ _ _)) q223 q158 q101 q159 rfl (by decide +kernel) ⟨Nat.le_of_ble_eq_true rfl, Nat.le_of_ble_eq_true rfl⟩ rfl rfl (Nat.le_of_ble_eq_true rfl) rfl (by first | exact Nat.le_of_ble_eq_true rfl | (show _ + 0 ≤ 7; omega)) (by first | exact Nat.le_of_ble_eq_true rfl | (show _ + 0 ≤ 127; omega)) (fun H h => h) (fun E a => zT.no) (zPv.out ?_)
  show zG X (_ + 0) (_ + 0) _ 23 _ _
  rw [upm_upm]
  refine zc_putF (C := RX1) (T := TX1) (N := 7) (q := 26) hX ciX1 2 rfl (by decide) in_X1 tyX1_ok nmX1 dX1_init_23 q226 rfl rfl rfl ((upm_ne _ _ (Ne.symm (ne_mp hb16 (upm_same _ _ _)))).trans (upm_same _ _ _)) (Nat.le_of_ble_eq_true rfl) rfl rfl rfl rfl ?_
  refine z_aload_n (i := 0) (q := 27) hX dX1_init_26 rfl rfl rfl ?_
  refine z_bipush (q := 29) hX dX1_init_27 (by decide) rfl ?_
  refine zc_newaN (q := 31) (at_ := .char) (ty := .char) hX 1 rfl rfl (fun _ s cA h => h) rfl dX1_init_29 q248 (by omega) (by decide) (by first | exact Nat.le_of_ble_eq_true rfl | (show _ + 1 ≤ 7; omega)) (by first | exact Nat.le_of_ble_eq_true rfl | omega | (show _ ≤ 127; omega)) rfl (fun a29 ha29 hb29 => ?_)
  have n29 := hb29
  try simp only [upm_none] at n29
  repeat (have := And.left n29; replace n29 := And.right n29)
  refine zc_putF (C := RX1) (T := TX1) (N := 7) (q := 34) hX ciX1 4 rfl (by decide) in_X1 tyX1_ok nmX1 dX1_init_31 q229 rfl rfl rfl ((upm_ne _ _ (Ne.symm (ne_mp hb29 (upm_same _ _ _)))).trans (upm_same _ _ _)) (Nat.le_of_ble_eq_true rfl) rfl rfl rfl rfl ?_
  exact z_vret hX dX1_init_34 (by first | exact Nat.le_of_ble_eq_true rfl | (show (_ : Nat) ≤ 7; omega)) (by first | exact Nat.le_of_ble_eq_true rfl | (show (_ : Nat) ≤ 127; omega)) rfl (fun H h => by
  have f1 : zFr K m (upm (nMR D m x9) b (eO ciX1 [.ref a5, .null, .null, .null, .null, zI 0, .null])) := n5.tr (zFr.up hKb)
  have k16 : ¬ K a16 := (hK.fr f1).no hb16
  have f3 : zFr K m (upm (upm (upm (nMR D m x9) b (eO ciX1 [.ref a5, .null, .null, .null, .null, zI 0, .null])) a16 (eL 0 [])) b (eO ciX1 [.ref a5, .null, .ref a16, .null, .null, zI 0, .null])) := (f1.tr (zFr.up k16)).tr (zFr.up hKb)
  have k29 : ¬ K a29 := (hK.fr f3).no hb29
  have s16 : a16 ≠ b := ne_mp hb16 (upm_same _ _ _)
  have s29 : a29 ≠ b := ne_mp hb29 (upm_same _ _ _)
  have s916 : a29 ≠ a16 := ne_mp hb29 ((upm_ne _ _ s16).trans (upm_same _ _ _))
  have q1 := hkl.upb (x := eO ciX1 [.ref a5, .null, .null, .null, .null, zI 0, .null]) hm2
  have q2 := q1.le (zLe.rf (w := w2)) (mLe.up (x := eL 0 []) hb16)
  have q3 := q2.upb (x := eO ciX1 [.ref a5, .null, .ref a16, .null, .null, zI 0, .null]) ((upm_ne _ _ (Ne.symm s16)).trans (upm_same _ _ _))
  have q4 := q3.le (zLe.rf (w := w2)) (mLe.up (x := eC (aN D 1 60 (fun _ => 0))) hb29)
  have q5 := q4.upb (x := eO ciX1 [.ref a5, .null, .ref a16, .null, .ref a29, zI 0, .null]) ((upm_ne _ _ (Ne.symm s29)).trans (upm_same _ _ _))
  exact ⟨(w2, _), rfl, ⟨hw2, (f3.tr (zFr.up k29)).tr (zFr.up hKb), a5, a16, a29, none, none, none, upm_same _ _ _, q5, ⟨0, [], (upm_ne _ _ s16).trans ((upm_ne _ _ (Ne.symm s916)).trans ((upm_ne _ _ s16).trans (upm_same _ _ _))), rfl, by decide, fun i M hi => by cases hi⟩, Or.inl ⟨rfl, rfl⟩, Or.inl ⟨rfl, rfl⟩, ⟨⟨fun _ => 0, (upm_ne _ _ s29).trans (upm_same _ _ _), fun j hj => absurd hj (Nat.not_lt_zero _)⟩, by decide, fun c hc => by cases hc⟩, Or.inl ⟨rfl, rfl⟩, hKb, k16, k29⟩, h⟩)
