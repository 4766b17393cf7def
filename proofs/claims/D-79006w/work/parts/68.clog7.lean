/-! THE CLASS: Log's constructors -/
set_option maxRecDepth 100000
/-- a log that is being made, over the rest mR -/
def logM (D : zD) (mR : zMp) (b ll ta col : Nat) (th mc : Int) (ls : List Nat) (tf : Nat → Option Nat) : zMp := upm (upm (upm mR ll (eL mc ls)) ta (eC (aQ D 7 12 tf))) b (eO ciX2 [.ref ll, .ref ta, zI th, .ref col])
/-- its three cells -/
def lgD (b ll ta : Nat) : Prop := ll ≠ b ∧ ta ≠ b ∧ ta ≠ ll
section LGM
variable {D : zD} {mR : zMp} {b ll ta col : Nat} {th mc : Int} {ls : List Nat} {tf : Nat → Option Nat}
theorem logM_b : logM D mR b ll ta col th mc ls tf b = some (eO ciX2 [.ref ll, .ref ta, zI th, .ref col]) := upm_same _ _ _
theorem logM_ll (h : lgD b ll ta) : logM D mR b ll ta col th mc ls tf ll = some (eL mc ls) := (upm_ne _ _ h.1).trans ((upm_ne _ _ h.2.2.symm).trans (upm_same _ _ _))
theorem logM_ta (h : lgD b ll ta) : logM D mR b ll ta col th mc ls tf ta = some (eC (aQ D 7 12 tf)) := (upm_ne _ _ h.2.1).trans (upm_same _ _ _)
theorem logM_ot {c : Nat} (h1 : c ≠ b) (h2 : c ≠ ll) (h3 : c ≠ ta) : logM D mR b ll ta col th mc ls tf c = mR c := (upm_ne _ _ h1).trans ((upm_ne _ _ h3).trans (upm_ne _ _ h2))
theorem logM_setL (h : lgD b ll ta) {mc2 : Int} {ls2 : List Nat} : upm (logM D mR b ll ta col th mc ls tf) ll (eL mc2 ls2) = logM D mR b ll ta col th mc2 ls2 tf := by
  funext c
  by_cases c1 : c = ll
  · rw [c1, upm_same, logM_ll h]
  · rw [upm_ne _ _ c1]
    by_cases c2 : c = b
    · rw [c2, logM_b, logM_b]
    · by_cases c3 : c = ta
      · rw [c3, logM_ta h, logM_ta h]
      · rw [logM_ot c2 c1 c3, logM_ot c2 c1 c3]
theorem logM_setT (h : lgD b ll ta) {tf2 : Nat → Option Nat} : upm (logM D mR b ll ta col th mc ls tf) ta (eC (aQ D 7 12 tf2)) = logM D mR b ll ta col th mc ls tf2 := by
  funext c
  by_cases c1 : c = ta
  · rw [c1, upm_same, logM_ta h]
  · rw [upm_ne _ _ c1]
    by_cases c2 : c = b
    · rw [c2, logM_b, logM_b]
    · by_cases c3 : c = ll
      · rw [c3, logM_ll h, logM_ll h]
      · rw [logM_ot c2 c3 c1, logM_ot c2 c3 c1]
theorem logM_setH {th2 : Int} : upm (logM D mR b ll ta col th mc ls tf) b (eO ciX2 [.ref ll, .ref ta, zI th2, .ref col]) = logM D mR b ll ta col th2 mc ls tf := by
  unfold logM
  rw [upm_upm]
end LGM
/-- fresh cells of a new log -/
def lgF (m : zMp) (b : Nat) (x : Nat × Nat × Nat × Nat) : Prop := lgD b x.1 x.2.1 ∧ (m x.1 = none ∧ m x.2.1 = none ∧ m x.2.2.1 = none ∧ m x.2.2.2 = none) ∧ (x.2.2.1 ≠ x.2.2.2 ∧ x.2.2.1 ≠ b ∧ x.2.2.1 ≠ x.1 ∧ x.2.2.1 ≠ x.2.1 ∧ x.2.2.2 ≠ b ∧ x.2.2.2 ≠ x.1 ∧ x.2.2.2 ≠ x.2.1)
abbrev rmX2_init : Room := { frames := 4, cells := 4, slots := 60, locals := 80 }
set_option maxHeartbeats 4000000 in
theorem c_X2_init (D : zD) (A : Nat → Prop) {w m : zMp} {b : Nat} (hm : m b = some (eO ciX2 [.null, .null, zI 0, .null])) : zC D yX2_init cX2_init 1 none none rmX2_init A [.ref b] (cI D A w m) (zPe (fun (x : Nat × Nat × Nat × Nat) => none) (fun x => lgF m b x) (fun x => cI D A w (logM D (cM D (dlm m b) x.2.2.1 x.2.2.2 0 (fun _ => none)) b x.1 x.2.1 x.2.2.1 50 0 [] (fun _ => none)))) (zNo) := by
  refine zC_start (L := [some (.ref b)]) (by decide) (Nat.le_of_ble_eq_true rfl) rfl (fun X hX => ?_)
  refine z_aload_n (i := 0) (q := 1) hX dX2_init_0 rfl rfl rfl ?_
  refine z_objInit (q := 4) hX dX2_init_1 q154 q147 q148 (Nat.le_of_ble_eq_true rfl) rfl ⟨Nat.le_of_ble_eq_true rfl, Nat.le_of_ble_eq_true rfl⟩ rfl ?_
  refine z_aload_n (i := 0) (q := 5) hX dX2_init_4 rfl rfl rfl ?_
  refine zc_new (q := 8) (fs := [zI 0, .null, zI 0]) (C := RJ2) (T := TJ2) (N := 3) hX ciJ2 rfl in_J2 tyJ2_ok dX2_init_5 q155 q156 q101 (fun j hj => by match j, hj with | 0, _ => rfl | 1, _ => rfl | 2, _ => rfl | (_ + 3), h => exact absurd h (by omega)) (by first | exact Nat.le_of_ble_eq_true rfl | (show _ + 1 ≤ 4; omega)) (by first | exact Nat.le_of_ble_eq_true rfl | (show _ + 3 ≤ 60; omega)) rfl (fun a5 ha5 hb5 => ?_)
  have n5 := hb5
  try simp only [upm_none] at n5
  repeat (have := And.left n5; replace n5 := And.right n5)
  refine z_dup (q := 9) hX dX2_init_8 rfl rfl ?_
  refine z_C (na := 0) hX dX2_init_9 (c_J2_init D A (by first | assumption | exact upm_same _ _ _ | exact (upm_ne _ _ (by first | assumption | exact Ne.symm (by assumption) | omega | exact ne_mp (m := m) (by assumption) (by assumption) | exact Ne.symm (ne_mp (m := m) (by assumption) (by assumption)) | exact ne_mp (m := w) (by assumption) (by assumption) | exact Ne.symm (ne_mp (m := w) (by assumption) (by assumption)))).trans (by first | assumption | exact upm_same _ _ _ | exact (upm_ne _ _ (by first | assumption | exact Ne.symm (by assumption) | omega | exact ne_mp (m := m) (by assumption) (by assumption) | exact Ne.symm (ne_mp (m := m) (by assumption) (by assumption)) | exact ne_mp (m := w) (by assumption) (by assumption) | exact Ne.symm (ne_mp (m := w) (by assumption) (by assumption)))).trans (by first | assumption | exact upm_same _ _ _ | exact (upm_ne _ _ (by first | assumption | exact Ne.symm (by assumption) | omega | exact ne_mp (m := m) (by assumption) (by assumption) | exact Ne.symm (ne_mp (m := m) (by assumption) (by assumption)) | exact ne_mp (m := w) (by assumption) (by assumption) | exact Ne.symm (ne_mp (m := w) (by assumption) (by assumption)))).trans (by first | assumption | exact upm_same _ _ _))))) q157 q158 q101 q159 rfl (by decide +kernel) ⟨Nat.le_of_ble_eq_true rfl, Nat.le_of_ble_eq_true rfl⟩ rfl rfl (Nat.le_of_ble_eq_true rfl) rfl (by first | exact Nat.le_of_ble_eq_true rfl | (show _ + 0 ≤ 4; omega)) (by first | exact Nat.le_of_ble_eq_true rfl | (show _ + 0 ≤ 60; omega)) (fun H h => h) (fun E a => zT.no) (zPv.out ?_)
  show zG X (_ + 0) (_ + 0) _ 12 _ _
  refine zc_putF (C := RX2) (T := TX2) (N := 4) (q := 15) hX ciX2 0 rfl (by decide) in_X2 tyX2_ok nmX2 dX2_init_12 q203 rfl rfl rfl (by first | assumption | exact upm_same _ _ _ | exact (upm_ne _ _ (by first | assumption | exact Ne.symm (by assumption) | omega | exact ne_mp (m := m) (by assumption) (by assumption) | exact Ne.symm (ne_mp (m := m) (by assumption) (by assumption)) | exact ne_mp (m := w) (by assumption) (by assumption) | exact Ne.symm (ne_mp (m := w) (by assumption) (by assumption)))).trans (by first | assumption | exact upm_same _ _ _ | exact (upm_ne _ _ (by first | assumption | exact Ne.symm (by assumption) | omega | exact ne_mp (m := m) (by assumption) (by assumption) | exact Ne.symm (ne_mp (m := m) (by assumption) (by assumption)) | exact ne_mp (m := w) (by assumption) (by assumption) | exact Ne.symm (ne_mp (m := w) (by assumption) (by assumption)))).trans (by first | assumption | exact upm_same _ _ _ | exact (upm_ne _ _ (by first | assumption | exact Ne.symm (by assumption) | omega | exact ne_mp (m := m) (by assumption) (by assumption) | exact Ne.symm (ne_mp (m := m) (by assumption) (by assumption)) | exact ne_mp (m := w) (by assumption) (by assumption) | exact Ne.symm (ne_mp (m := w) (by assumption) (by assumption)))).trans (by first | assumption | exact upm_same _ _ _)))) (Nat.le_of_ble_eq_true rfl) rfl rfl rfl rfl ?_
  refine z_aload_n (i := 0) (q := 16) hX dX2_init_15 rfl rfl rfl ?_
  refine z_bipush (q := 18) hX dX2_init_16 (by decide) rfl ?_
  refine zc_newaQ (q := 21) hX 7 rfl dX2_init_18 q184 (by decide) (by omega) (by first | exact Nat.le_of_ble_eq_true rfl | (show _ + 1 ≤ 4; omega)) (by first | exact Nat.le_of_ble_eq_true rfl | omega | (show _ ≤ 60; omega)) rfl (fun a18 ha18 hb18 => ?_)
  have n18 := hb18
  try simp only [upm_none] at n18
  repeat (have := And.left n18; replace n18 := And.right n18)
  refine zc_putF (C := RX2) (T := TX2) (N := 4) (q := 24) hX ciX2 1 rfl (by decide) in_X2 tyX2_ok nmX2 dX2_init_21 q207 rfl rfl rfl (by first | assumption | exact upm_same _ _ _ | exact (upm_ne _ _ (by first | assumption | exact Ne.symm (by assumption) | omega | exact ne_mp (m := m) (by assumption) (by assumption) | exact Ne.symm (ne_mp (m := m) (by assumption) (by assumption)) | exact ne_mp (m := w) (by assumption) (by assumption) | exact Ne.symm (ne_mp (m := w) (by assumption) (by assumption)))).trans (by first | assumption | exact upm_same _ _ _ | exact (upm_ne _ _ (by first | assumption | exact Ne.symm (by assumption) | omega | exact ne_mp (m := m) (by assumption) (by assumption) | exact Ne.symm (ne_mp (m := m) (by assumption) (by assumption)) | exact ne_mp (m := w) (by assumption) (by assumption) | exact Ne.symm (ne_mp (m := w) (by assumption) (by assumption)))).trans (by first | assumption | exact upm_same _ _ _ | exact (upm_ne _ _ (by first | assumption | exact Ne.symm (by assumption) | omega | exact ne_mp (m := m) (by assumption) (by assumption) | exact Ne.symm (ne_mp (m := m) (by assumption) (by assumption)) | exact ne_mp (m := w) (by assumption) (by assumption) | exact Ne.symm (ne_mp (m := w) (by assumption) (by assumption)))).trans (by first | assumption | exact upm_same _ _ _)))) (Nat.le_of_ble_eq_true rfl) rfl rfl rfl rfl ?_
  refine z_aload_n (i := 0) (q := 25) hX dX2_init_24 rfl rfl rfl ?_
  refine z_bipush (q := 27) hX dX2_init_25 (by decide) rfl ?_
  refine zc_put (C := RX2) (T := TX2) (N := 4) (q := 30) hX ciX2 2 rfl (by decide) in_X2 tyX2_ok nmX2 dX2_init_27 q210 (Or.inl rfl) rfl (by first | assumption | exact upm_same _ _ _ | exact (upm_ne _ _ (by first | assumption | exact Ne.symm (by assumption) | omega | exact ne_mp (m := m) (by assumption) (by assumption) | exact Ne.symm (ne_mp (m := m) (by assumption) (by assumption)) | exact ne_mp (m := w) (by assumption) (by assumption) | exact Ne.symm (ne_mp (m := w) (by assumption) (by assumption)))).trans (by first | assumption | exact upm_same _ _ _ | exact (upm_ne _ _ (by first | assumption | exact Ne.symm (by assumption) | omega | exact ne_mp (m := m) (by assumption) (by assumption) | exact Ne.symm (ne_mp (m := m) (by assumption) (by assumption)) | exact ne_mp (m := w) (by assumption) (by assumption) | exact Ne.symm (ne_mp (m := w) (by assumption) (by assumption)))).trans (by first | assumption | exact upm_same _ _ _ | exact (upm_ne _ _ (by first | assumption | exact Ne.symm (by assumption) | omega | exact ne_mp (m := m) (by assumption) (by assumption) | exact Ne.symm (ne_mp (m := m) (by assumption) (by assumption)) | exact ne_mp (m := w) (by assumption) (by assumption) | exact Ne.symm (ne_mp (m := w) (by assumption) (by assumption)))).trans (by first | assumption | exact upm_same _ _ _)))) (Nat.le_of_ble_eq_true rfl) rfl rfl rfl rfl ?_
  refine z_aload_n (i := 0) (q := 31) hX dX2_init_30 rfl rfl rfl ?_
  refine zc_new (q := 34) (fs := [.null, zI 0]) (C := RX3) (T := TX3) (N := 2) hX ciX3 rfl in_X3 tyX3_ok dX2_init_31 q186 q187 q102 (fun j hj => by match j, hj with | 0, _ => rfl | 1, _ => rfl | (_ + 2), h => exact absurd h (by omega)) (by first | exact Nat.le_of_ble_eq_true rfl | (show _ + 1 ≤ 4; omega)) (by first | exact Nat.le_of_ble_eq_true rfl | (show _ + 2 ≤ 60; omega)) rfl (fun a31 ha31 hb31 => ?_)
  have n31 := hb31
  try simp only [upm_none] at n31
  repeat (have := And.left n31; replace n31 := And.right n31)
  refine z_dup (q := 35) hX dX2_init_34 rfl rfl ?_
  refine z_C (na := 0) hX dX2_init_35 (c_X3_init D A (by first | assumption | exact upm_same _ _ _ | exact (upm_ne _ _ (by first | assumption | exact Ne.symm (by assumption) | omega | exact ne_mp (m := m) (by assumption) (by assumption) | exact Ne.symm (ne_mp (m := m) (by assumption) (by assumption)) | exact ne_mp (m := w) (by assumption) (by assumption) | exact Ne.symm (ne_mp (m := w) (by assumption) (by assumption)))).trans (by first | assumption | exact upm_same _ _ _ | exact (upm_ne _ _ (by first | assumption | exact Ne.symm (by assumption) | omega | exact ne_mp (m := m) (by assumption) (by assumption) | exact Ne.symm (ne_mp (m := m) (by assumption) (by assumption)) | exact ne_mp (m := w) (by assumption) (by assumption) | exact Ne.symm (ne_mp (m := w) (by assumption) (by assumption)))).trans (by first | assumption | exact upm_same _ _ _ | exact (upm_ne _ _ (by first | assumption | exact Ne.symm (by assumption) | omega | exact ne_mp (m := m) (by assumption) (by assumption) | exact Ne.symm (ne_mp (m := m) (by assumption) (by assumption)) | exact ne_mp (m := w) (by assumption) (by assumption) | exact Ne.symm (ne_mp (m := w) (by assumption) (by assumption)))).trans (by first | assumption | exact upm_same _ _ _))))) q188 q189 q102 q190 rfl (by decide +kernel) ⟨Nat.le_of_ble_eq_true rfl, Nat.le_of_ble_eq_true rfl⟩ rfl rfl (Nat.le_of_ble_eq_true rfl) rfl (by first | exact Nat.le_of_ble_eq_true rfl | (show _ + 1 ≤ 4; omega)) (by first | exact Nat.le_of_ble_eq_true rfl | (show _ + 40 ≤ 60; omega)) (fun H h => h) (fun E a => zT.no) (zPe.out (fun x35 hx35 => ?_))
  show zG X (_ + 1) (_ + 40) _ 38 _ _
  obtain ⟨x1, x2⟩ := hx35
  simp only [upm_none] at x1
  have q1 : a5 ≠ b := ne_mp hb5 hm
  have q2 : a18 ≠ b ∧ a18 ≠ a5 := ⟨by omega, by omega⟩
  have q3 : a31 ≠ b ∧ a31 ≠ a5 ∧ a31 ≠ a18 := ⟨by omega, by omega, by omega⟩
  have q4 : (x35 ≠ b ∧ x35 ≠ a5) ∧ x35 ≠ a18 ∧ x35 ≠ a31 := ⟨⟨by omega, by omega⟩, by omega, by omega⟩
  have q5 : m x35 = none := by
    repeat (replace x1 := And.right x1)
    exact x1
  refine zc_putF (C := RX2) (T := TX2) (N := 4) (q := 41) hX ciX2 3 rfl (by decide) in_X2 tyX2_ok nmX2 dX2_init_38 q212 rfl rfl rfl ((upm_ne _ _ q3.1.symm).trans ((upm_ne _ _ q4.1.1.symm).trans ((upm_ne _ _ q3.1.symm).trans (upm_same _ _ _)))) (Nat.le_of_ble_eq_true rfl) rfl rfl rfl rfl ?_
  exact z_vret hX dX2_init_41 (by first | exact Nat.le_of_ble_eq_true rfl | (show (_ : Nat) ≤ 4; omega)) (by first | exact Nat.le_of_ble_eq_true rfl | (show (_ : Nat) ≤ 60; omega)) rfl (fun H h => ⟨(a5, a18, a31, x35), rfl, ⟨⟨q1, q2.1, q2.2⟩, ⟨hb5, n18, n31, q5⟩, q4.2.2.symm, q3.1, q3.2.1, q3.2.2, q4.1.1, q4.1.2, q4.2.1⟩, h.eqv (fun c => by
    show logM D (cM D (dlm m b) a31 x35 0 (fun _ => none)) b a5 a18 a31 50 0 [] (fun _ => none) c = _
    by_cases c1 : c = b
    · rw [c1, logM_b, upm_same] <;> rfl
    · rw [upm_ne _ _ c1]
      by_cases c2 : c = a31
      · rw [c2, upm_same, logM_ot q3.1 q3.2.1 q3.2.2, cM_col q4.2.2.symm] <;> rfl
      · rw [upm_ne _ _ c2]
        by_cases c3 : c = x35
        · rw [c3, upm_same, logM_ot q4.1.1 q4.1.2 q4.2.1, cM_tc]
        · rw [upm_ne _ _ c3, upm_ne _ _ c2, upm_ne _ _ c1, upm_ne _ _ c1]
          by_cases c4 : c = a18
          · rw [c4, upm_same, logM_ta ⟨q1, q2.1, q2.2⟩] <;> rfl
          · rw [upm_ne _ _ c4, upm_ne _ _ c1]
            by_cases c5 : c = a5
            · rw [c5, upm_same, logM_ll ⟨q1, q2.1, q2.2⟩]
            · rw [upm_ne _ _ c5, upm_ne _ _ c5, logM_ot c1 c5 c4, cM_ot c2 c3, dlm_ne _ c1])⟩)
abbrev rmX2_init_2 : Room := { frames := 7, cells := 50, slots := 2600, locals := 171 }
set_option maxHeartbeats 4000000 in
theorem c_X2_init_2 (D : zD) (A : Nat → Prop) {w m : zMp} {b : Nat} {M : Int → Int} {o ll0 ta0 col0 : Nat} {mc0 : Int} {ls : List Nat} {tf : Nat → Option Nat} (hm : m b = some (eO ciX2 [.null, .null, zI 0, .null])) (ho : w o = some (eO ciX2 [.ref ll0, .ref ta0, zI (M 1), .ref col0])) (hl : w ll0 = some (eL mc0 ls)) (ht : w ta0 = some (eC (aQ D 7 12 tf))) (hok : zOk M) (hls : wLines w ls (M 0).toNat (tx M)) (hts : wTs w tf M) : zC D yX2_init_2 cX2_init_2 5 none none rmX2_init_2 A [.ref b, .ref o] (cI D A w m) (zPe (fun (x : (Nat × Nat × Nat × Nat) × Int × (Nat → Option Nat)) => none) (fun x => lgF m b x.1 ∧ ∀ t : Nat, t < 12 → x.2.2 t = tf t) (fun x => cI D A w (logM D (cM D (dlm m b) x.1.2.2.1 x.1.2.2.2 0 (fun _ => none)) b x.1.1 x.1.2.1 x.1.2.2.1 (M 1) x.2.1 ls x.2.2))) (zNo) := by
  refine zC_start (L := [some (.ref b), some (.ref o), none, none, none]) (by decide) (Nat.le_of_ble_eq_true rfl) rfl (fun X hX => ?_)
  have hM := hok.1
  have l1 := hls.1
  have K : ∀ (x : Nat × Nat × Nat × Nat) (it : Nat), lgF m b x → it ≠ b → it ≠ x.1 → it ≠ x.2.1 → it ≠ x.2.2.1 → it ≠ x.2.2.2 → m it = none → ∀ i : Nat, i ≤ (M 0).toNat → ∀ (kc ns : Nat) (mc lr : Int) (v3 v4 : Option Value), kc ≤ 6 + i → ns ≤ 90 + 61 * i → zG X kc ns (cI D A w (upm (logM D (cM D (dlm m b) x.2.2.1 x.2.2.2 0 (fun _ => none)) b x.1 x.2.1 x.2.2.1 50 mc (ls.take i) (fun _ => none)) it (eO ciJ8 [zI (i : Int), zI lr, zI mc0, .ref ll0]))) 49 [some (.ref b), some (.ref o), some (.ref it), v3, v4] [] := by
    intro x it hx i1 i2 i3 i4 i5 i6
    obtain ⟨hd, ⟨f1, f2, f3, f4⟩, g1, g2, g3, g4, g5, g6, g7⟩ := id hx
    refine z_up (fun i hi ih kc ns mc lr v3 v4 hkc hns => ?_)
    by_cases hin : i < (M 0).toNat
    · obtain ⟨y, q1, q2⟩ := hls.2 i hin
      obtain ⟨fs, q3⟩ := q2.it
      have htk : ls.take i ++ [y] = ls.take (i + 1) := by
        rw [List.take_add_one, q1]
        rfl
      have hlen : (ls.take i).length = i := by rw [List.length_take]; omega
      refine z_aload_n (i := 2) (q := 50) hX dX2_init_2_49 rfl rfl rfl ?_
      refine z_F (x := ⟨"java/util/Iterator", "hasNext", "()Z"⟩) (ci := ciJ8) (T := TJ8) (N := 4) (na := 0) hX dX2_init_2_50 (c_J8_hasNext D A (upm_same _ _ _) hl ⟨by omega, by omega⟩ (by omega)) rfl q285 q289 q291 q109 q293 (List.mem_of_getElem? (i := 0) rfl) (by decide +kernel) ⟨Nat.le_of_ble_eq_true rfl, Nat.le_of_ble_eq_true rfl⟩ rfl rfl (Nat.le_of_ble_eq_true rfl) rfl (by first | exact Nat.le_of_ble_eq_true rfl | (show _ + 0 ≤ 50; omega)) (by first | exact Nat.le_of_ble_eq_true rfl | (show _ + 0 ≤ 2600; omega)) (fun H h => ⟨h, h.obE (Or.inr (upm_same _ _ _)) rfl⟩) (fun E a => zT.no) (zPd.out ?_)
      show zG X (_ + 0) (_ + 0) _ 55 _ _
      refine z_ifB_eq (q := 58) (t := 81) hX dX2_init_2_55 (by decide) rfl (fun h55 => ?_) (fun h55 => ?_)
      · exact absurd h55 (by simp; omega)
      · refine z_aload_n (i := 2) (q := 59) hX dX2_init_2_58 rfl rfl rfl ?_
        refine z_F (x := ⟨"java/util/Iterator", "next", "()Ljava/lang/Object;"⟩) (ci := ciJ8) (T := TJ8) (N := 4) (na := 0) hX dX2_init_2_59 (c_J8_next D A (upm_same _ _ _) hl q1 (by omega)) rfl q295 q298 q300 q109 q302 (List.mem_of_getElem? (i := 1) rfl) (by decide +kernel) ⟨Nat.le_of_ble_eq_true rfl, Nat.le_of_ble_eq_true rfl⟩ rfl rfl (Nat.le_of_ble_eq_true rfl) rfl (by first | exact Nat.le_of_ble_eq_true rfl | (show _ + 0 ≤ 50; omega)) (by first | exact Nat.le_of_ble_eq_true rfl | (show _ + 0 ≤ 2600; omega)) (fun H h => ⟨h, h.obE (Or.inr (upm_same _ _ _)) rfl⟩) (fun E a => zT.no) (zPd.out ?_)
        show zG X (_ + 0) (_ + 0) _ 64 _ _
        rw [upm_upm]
        refine zr_cast (q := 67) (C := RX5) (T := TX5) (N := 3) hX ciX5 rfl dX2_init_2_64 q377 (fun H h => cI.obE h (by first | assumption | exact Or.inl (by assumption) | exact Or.inr (by first | assumption | exact upm_same _ _ _ | exact (upm_ne _ _ (by first | assumption | exact Ne.symm (by assumption) | omega | exact ne_mp (m := m) (by assumption) (by assumption) | exact Ne.symm (ne_mp (m := m) (by assumption) (by assumption)) | exact ne_mp (m := w) (by assumption) (by assumption) | exact Ne.symm (ne_mp (m := w) (by assumption) (by assumption)))).trans (by first | assumption | exact upm_same _ _ _ | exact (upm_ne _ _ (by first | assumption | exact Ne.symm (by assumption) | omega | exact ne_mp (m := m) (by assumption) (by assumption) | exact Ne.symm (ne_mp (m := m) (by assumption) (by assumption)) | exact ne_mp (m := w) (by assumption) (by assumption) | exact Ne.symm (ne_mp (m := w) (by assumption) (by assumption)))).trans (by first | assumption | exact upm_same _ _ _ | exact (upm_ne _ _ (by first | assumption | exact Ne.symm (by assumption) | omega | exact ne_mp (m := m) (by assumption) (by assumption) | exact Ne.symm (ne_mp (m := m) (by assumption) (by assumption)) | exact ne_mp (m := w) (by assumption) (by assumption) | exact Ne.symm (ne_mp (m := w) (by assumption) (by assumption)))).trans (by first | assumption | exact upm_same _ _ _))))) rfl) rfl ?_
        refine z_astore_n (i := 3) (q := 68) hX dX2_init_2_67 rfl (Nat.le_of_ble_eq_true rfl) rfl rfl ?_
        refine z_aload_n (i := 0) (q := 69) hX dX2_init_2_68 rfl rfl rfl ?_
        refine zr_get (C := RX2) (T := TX2) (N := 4) (q := 72) hX ciX2 0 rfl (by decide) in_X2 dX2_init_2_69 q203 (Or.inl rfl) (fun H h => cI.rd h (Or.inr ((upm_ne _ _ i1.symm).trans logM_b)) rfl (by decide) rfl) rfl ?_
        refine z_aload_n (i := 3) (q := 73) hX dX2_init_2_72 rfl rfl rfl ?_
        refine z_V (ci := ciJ2) (T := TJ2) (N := 3) (na := 1) hX dX2_init_2_73 (c_J2_add D A ((upm_ne _ _ i2.symm).trans (logM_ll hd)) (by omega) q3 (zElO_5 _)) rfl q378 q379 q380 q101 q381 (by decide +kernel) ⟨Nat.le_of_ble_eq_true rfl, Nat.le_of_ble_eq_true rfl⟩ rfl rfl (Nat.le_of_ble_eq_true rfl) rfl (by first | exact Nat.le_of_ble_eq_true rfl | (show _ + 1 ≤ 50; omega)) (by first | exact Nat.le_of_ble_eq_true rfl | (show _ + 61 ≤ 2600; omega)) (fun H h => ⟨h, h.obL (Or.inr ((upm_ne _ _ i2.symm).trans (logM_ll hd)))⟩) (fun E a => zT.no) (zPd.out ?_)
        show zG X (_ + 1) (_ + 61) _ 76 _ _
        refine z_istore (q := 78) hX dX2_init_2_76 (Nat.le_of_ble_eq_true rfl) rfl rfl ?_
        refine z_goto (t := 49) hX dX2_init_2_78 (by decide) ?_
        refine zG.mono (ih hin _ _ (mc + 1) (i : Int) _ _ (by omega) (by omega)) (fun H h => ?_)
        rw [upm_cm _ _ _ i2, logM_setL hd, htk] at h
        exact h
    · have hiN : i = (M 0).toNat := by omega
      refine z_aload_n (i := 2) (q := 50) hX dX2_init_2_49 rfl rfl rfl ?_
      refine z_F (x := ⟨"java/util/Iterator", "hasNext", "()Z"⟩) (ci := ciJ8) (T := TJ8) (N := 4) (na := 0) hX dX2_init_2_50 (c_J8_hasNext D A (upm_same _ _ _) hl ⟨by omega, by omega⟩ (by omega)) rfl q285 q289 q291 q109 q293 (List.mem_of_getElem? (i := 0) rfl) (by decide +kernel) ⟨Nat.le_of_ble_eq_true rfl, Nat.le_of_ble_eq_true rfl⟩ rfl rfl (Nat.le_of_ble_eq_true rfl) rfl (by first | exact Nat.le_of_ble_eq_true rfl | (show _ + 0 ≤ 50; omega)) (by first | exact Nat.le_of_ble_eq_true rfl | (show _ + 0 ≤ 2600; omega)) (fun H h => ⟨h, h.obE (Or.inr (upm_same _ _ _)) rfl⟩) (fun E a => zT.no) (zPd.out ?_)
      show zG X (_ + 0) (_ + 0) _ 55 _ _
      refine z_ifB_eq (q := 58) (t := 81) hX dX2_init_2_55 (by decide) rfl (fun h55 => ?_) (fun h55 => ?_)
      · refine zG.mono (J := cI D A w (logM D (cM D (dlm m b) x.2.2.1 x.2.2.2 0 (fun _ => none)) b x.1 x.2.1 x.2.2.1 50 mc ls (fun _ => none))) ?_ (fun H h => ?_)
        · have hz9 : True := trivial
          refine z_aload_n (i := 1) (q := 82) hX dX2_init_2_81 rfl rfl rfl ?_
          refine zr_get (C := RX2) (T := TX2) (N := 4) (q := 85) hX ciX2 1 rfl (by decide) in_X2 dX2_init_2_82 q207 (Or.inl rfl) (fun H h => cI.rd h (by first | assumption | exact Or.inl (by assumption) | exact Or.inr (by first | assumption | exact upm_same _ _ _ | exact (upm_ne _ _ (by first | assumption | exact Ne.symm (by assumption) | omega | exact ne_mp (m := m) (by assumption) (by assumption) | exact Ne.symm (ne_mp (m := m) (by assumption) (by assumption)) | exact ne_mp (m := w) (by assumption) (by assumption) | exact Ne.symm (ne_mp (m := w) (by assumption) (by assumption)))).trans (by first | assumption | exact upm_same _ _ _ | exact (upm_ne _ _ (by first | assumption | exact Ne.symm (by assumption) | omega | exact ne_mp (m := m) (by assumption) (by assumption) | exact Ne.symm (ne_mp (m := m) (by assumption) (by assumption)) | exact ne_mp (m := w) (by assumption) (by assumption) | exact Ne.symm (ne_mp (m := w) (by assumption) (by assumption)))).trans (by first | assumption | exact upm_same _ _ _ | exact (upm_ne _ _ (by first | assumption | exact Ne.symm (by assumption) | omega | exact ne_mp (m := m) (by assumption) (by assumption) | exact Ne.symm (ne_mp (m := m) (by assumption) (by assumption)) | exact ne_mp (m := w) (by assumption) (by assumption) | exact Ne.symm (ne_mp (m := w) (by assumption) (by assumption)))).trans (by first | assumption | exact upm_same _ _ _))))) rfl (by decide) rfl) rfl ?_
          refine z_iconst (q := 86) hX dX2_init_2_85 rfl ?_
          refine z_aload_n (i := 0) (q := 87) hX dX2_init_2_86 rfl rfl rfl ?_
          refine zr_get (C := RX2) (T := TX2) (N := 4) (q := 90) hX ciX2 1 rfl (by decide) in_X2 dX2_init_2_87 q207 (Or.inl rfl) (fun H h => cI.rd h (Or.inr logM_b) rfl (by decide) rfl) rfl ?_
          refine z_iconst (q := 91) hX dX2_init_2_90 rfl ?_
          refine z_bipush (q := 93) hX dX2_init_2_91 (by decide) rfl ?_
          refine zc_copyQ (q := 96) hX 7 7 rfl rfl dX2_init_2_93 q452 q449 q448 q114 (logM_ta hd) (fun H h => (cI.at h (by first | assumption | exact Or.inl (by assumption) | exact Or.inr (by first | assumption | exact upm_same _ _ _ | exact (upm_ne _ _ (by first | assumption | exact Ne.symm (by assumption) | omega | exact ne_mp (m := m) (by assumption) (by assumption) | exact Ne.symm (ne_mp (m := m) (by assumption) (by assumption)) | exact ne_mp (m := w) (by assumption) (by assumption) | exact Ne.symm (ne_mp (m := w) (by assumption) (by assumption)))).trans (by first | assumption | exact upm_same _ _ _ | exact (upm_ne _ _ (by first | assumption | exact Ne.symm (by assumption) | omega | exact ne_mp (m := m) (by assumption) (by assumption) | exact Ne.symm (ne_mp (m := m) (by assumption) (by assumption)) | exact ne_mp (m := w) (by assumption) (by assumption) | exact Ne.symm (ne_mp (m := w) (by assumption) (by assumption)))).trans (by first | assumption | exact upm_same _ _ _ | exact (upm_ne _ _ (by first | assumption | exact Ne.symm (by assumption) | omega | exact ne_mp (m := m) (by assumption) (by assumption) | exact Ne.symm (ne_mp (m := m) (by assumption) (by assumption)) | exact ne_mp (m := w) (by assumption) (by assumption) | exact Ne.symm (ne_mp (m := w) (by assumption) (by assumption)))).trans (by first | assumption | exact upm_same _ _ _)))))).raQ) (fun H h i2 hi2 y hy => by
          have hi3 : i2 < 12 := hi2
          have hy : tf (0 + i2) = some y := hy
          rw [Nat.zero_add] at hy
          rcases hts i2 hi3 with ⟨p1, p2⟩ | ⟨p1, x2, p2, p3⟩
          · rw [p2] at hy; cases hy
          · obtain ⟨gl, sl, rl, p4⟩ := p3.it
            rw [p2] at hy
            cases hy
            exact ⟨ciX7, by decide +kernel, h.obE (Or.inl p4) rfl⟩) ⟨by omega, by omega, by omega, by omega, by omega⟩ ⟨by omega, by omega⟩ (Nat.le_of_ble_eq_true rfl) (Nat.le_of_ble_eq_true rfl) (Nat.le_of_ble_eq_true rfl) rfl rfl ?_
          rw [logM_setT hd]
          refine z_aload_n (i := 0) (q := 97) hX dX2_init_2_96 rfl rfl rfl ?_
          refine z_aload_n (i := 1) (q := 98) hX dX2_init_2_97 rfl rfl rfl ?_
          refine zr_get (C := RX2) (T := TX2) (N := 4) (q := 101) hX ciX2 2 rfl (by decide) in_X2 dX2_init_2_98 q210 (Or.inl rfl) (fun H h => cI.rd h (Or.inl ho) rfl (by decide) rfl) rfl ?_
          refine zc_put (C := RX2) (T := TX2) (N := 4) (q := 104) hX ciX2 2 rfl (by decide) in_X2 tyX2_ok nmX2 dX2_init_2_101 q210 (Or.inl rfl) rfl logM_b (Nat.le_of_ble_eq_true rfl) rfl rfl rfl rfl ?_
          exact z_vret hX dX2_init_2_104 (by first | exact Nat.le_of_ble_eq_true rfl | (show (_ : Nat) ≤ 50; omega)) (by first | exact Nat.le_of_ble_eq_true rfl | (show (_ : Nat) ≤ 2600; omega)) rfl (fun H h => ⟨(x, mc, va_cpy tf (fun _ => none) 0 0 12), rfl, ⟨hx, fun t ht2 => by simp [va_cpy, ht2]⟩, by
          rw [show eO ciX2 ([Value.ref x.1, .ref x.2.1, zI 50, .ref x.2.2.1].set 2 (zI (M 1))) = eO ciX2 [.ref x.1, .ref x.2.1, zI (M 1), .ref x.2.2.1] from rfl, logM_setH] at h
          exact h⟩)
        · have h2 := h.del it
          have e : logM D (cM D (dlm m b) x.2.2.1 x.2.2.2 0 (fun _ => none)) b x.1 x.2.1 x.2.2.1 50 mc (ls.take i) (fun _ => none) it = none := by
            rw [logM_ot i1 i2 i3, cM_ot i4 i5, dlm_ne _ i1]
            exact i6
          rw [dlm_upm _ _ e, hiN, List.take_of_length_le (by omega)] at h2
          exact h2
      · exact absurd h55 (by simp; omega)
  refine z_aload_n (i := 0) (q := 1) hX dX2_init_2_0 rfl rfl rfl ?_
  refine z_objInit (q := 4) hX dX2_init_2_1 q154 q147 q148 (Nat.le_of_ble_eq_true rfl) rfl ⟨Nat.le_of_ble_eq_true rfl, Nat.le_of_ble_eq_true rfl⟩ rfl ?_
  refine z_aload_n (i := 0) (q := 5) hX dX2_init_2_4 rfl rfl rfl ?_
  refine zc_new (q := 8) (fs := [zI 0, .null, zI 0]) (C := RJ2) (T := TJ2) (N := 3) hX ciJ2 rfl in_J2 tyJ2_ok dX2_init_2_5 q155 q156 q101 (fun j hj => by match j, hj with | 0, _ => rfl | 1, _ => rfl | 2, _ => rfl | (_ + 3), h => exact absurd h (by omega)) (by first | exact Nat.le_of_ble_eq_true rfl | (show _ + 1 ≤ 50; omega)) (by first | exact Nat.le_of_ble_eq_true rfl | (show _ + 3 ≤ 2600; omega)) rfl (fun a5 ha5 hb5 => ?_)
  have n5 := hb5
  try simp only [upm_none] at n5
  repeat (have := And.left n5; replace n5 := And.right n5)
  refine z_dup (q := 9) hX dX2_init_2_8 rfl rfl ?_
  refine z_C (na := 0) hX dX2_init_2_9 (c_J2_init D A (by first | assumption | exact upm_same _ _ _ | exact (upm_ne _ _ (by first | assumption | exact Ne.symm (by assumption) | omega | exact ne_mp (m := m) (by assumption) (by assumption) | exact Ne.symm (ne_mp (m := m) (by assumption) (by assumption)) | exact ne_mp (m := w) (by assumption) (by assumption) | exact Ne.symm (ne_mp (m := w) (by assumption) (by assumption)))).trans (by first | assumption | exact upm_same _ _ _ | exact (upm_ne _ _ (by first | assumption | exact Ne.symm (by assumption) | omega | exact ne_mp (m := m) (by assumption) (by assumption) | exact Ne.symm (ne_mp (m := m) (by assumption) (by assumption)) | exact ne_mp (m := w) (by assumption) (by assumption) | exact Ne.symm (ne_mp (m := w) (by assumption) (by assumption)))).trans (by first | assumption | exact upm_same _ _ _ | exact (upm_ne _ _ (by first | assumption | exact Ne.symm (by assumption) | omega | exact ne_mp (m := m) (by assumption) (by assumption) | exact Ne.symm (ne_mp (m := m) (by assumption) (by assumption)) | exact ne_mp (m := w) (by assumption) (by assumption) | exact Ne.symm (ne_mp (m := w) (by assumption) (by assumption)))).trans (by first | assumption | exact upm_same _ _ _))))) q157 q158 q101 q159 rfl (by decide +kernel) ⟨Nat.le_of_ble_eq_true rfl, Nat.le_of_ble_eq_true rfl⟩ rfl rfl (Nat.le_of_ble_eq_true rfl) rfl (by first | exact Nat.le_of_ble_eq_true rfl | (show _ + 0 ≤ 50; omega)) (by first | exact Nat.le_of_ble_eq_true rfl | (show _ + 0 ≤ 2600; omega)) (fun H h => h) (fun E a => zT.no) (zPv.out ?_)
  show zG X (_ + 0) (_ + 0) _ 12 _ _
  refine zc_putF (C := RX2) (T := TX2) (N := 4) (q := 15) hX ciX2 0 rfl (by decide) in_X2 tyX2_ok nmX2 dX2_init_2_12 q203 rfl rfl rfl (by first | assumption | exact upm_same _ _ _ | exact (upm_ne _ _ (by first | assumption | exact Ne.symm (by assumption) | omega | exact ne_mp (m := m) (by assumption) (by assumption) | exact Ne.symm (ne_mp (m := m) (by assumption) (by assumption)) | exact ne_mp (m := w) (by assumption) (by assumption) | exact Ne.symm (ne_mp (m := w) (by assumption) (by assumption)))).trans (by first | assumption | exact upm_same _ _ _ | exact (upm_ne _ _ (by first | assumption | exact Ne.symm (by assumption) | omega | exact ne_mp (m := m) (by assumption) (by assumption) | exact Ne.symm (ne_mp (m := m) (by assumption) (by assumption)) | exact ne_mp (m := w) (by assumption) (by assumption) | exact Ne.symm (ne_mp (m := w) (by assumption) (by assumption)))).trans (by first | assumption | exact upm_same _ _ _ | exact (upm_ne _ _ (by first | assumption | exact Ne.symm (by assumption) | omega | exact ne_mp (m := m) (by assumption) (by assumption) | exact Ne.symm (ne_mp (m := m) (by assumption) (by assumption)) | exact ne_mp (m := w) (by assumption) (by assumption) | exact Ne.symm (ne_mp (m := w) (by assumption) (by assumption)))).trans (by first | assumption | exact upm_same _ _ _)))) (Nat.le_of_ble_eq_true rfl) rfl rfl rfl rfl ?_
  refine z_aload_n (i := 0) (q := 16) hX dX2_init_2_15 rfl rfl rfl ?_
  refine z_bipush (q := 18) hX dX2_init_2_16 (by decide) rfl ?_
  refine zc_newaQ (q := 21) hX 7 rfl dX2_init_2_18 q184 (by decide) (by omega) (by first | exact Nat.le_of_ble_eq_true rfl | (show _ + 1 ≤ 50; omega)) (by first | exact Nat.le_of_ble_eq_true rfl | omega | (show _ ≤ 2600; omega)) rfl (fun a18 ha18 hb18 => ?_)
  have n18 := hb18
  try simp only [upm_none] at n18
  repeat (have := And.left n18; replace n18 := And.right n18)
  refine zc_putF (C := RX2) (T := TX2) (N := 4) (q := 24) hX ciX2 1 rfl (by decide) in_X2 tyX2_ok nmX2 dX2_init_2_21 q207 rfl rfl rfl (by first | assumption | exact upm_same _ _ _ | exact (upm_ne _ _ (by first | assumption | exact Ne.symm (by assumption) | omega | exact ne_mp (m := m) (by assumption) (by assumption) | exact Ne.symm (ne_mp (m := m) (by assumption) (by assumption)) | exact ne_mp (m := w) (by assumption) (by assumption) | exact Ne.symm (ne_mp (m := w) (by assumption) (by assumption)))).trans (by first | assumption | exact upm_same _ _ _ | exact (upm_ne _ _ (by first | assumption | exact Ne.symm (by assumption) | omega | exact ne_mp (m := m) (by assumption) (by assumption) | exact Ne.symm (ne_mp (m := m) (by assumption) (by assumption)) | exact ne_mp (m := w) (by assumption) (by assumption) | exact Ne.symm (ne_mp (m := w) (by assumption) (by assumption)))).trans (by first | assumption | exact upm_same _ _ _ | exact (upm_ne _ _ (by first | assumption | exact Ne.symm (by assumption) | omega | exact ne_mp (m := m) (by assumption) (by assumption) | exact Ne.symm (ne_mp (m := m) (by assumption) (by assumption)) | exact ne_mp (m := w) (by assumption) (by assumption) | exact Ne.symm (ne_mp (m := w) (by assumption) (by assumption)))).trans (by first | assumption | exact upm_same _ _ _)))) (Nat.le_of_ble_eq_true rfl) rfl rfl rfl rfl ?_
  refine z_aload_n (i := 0) (q := 25) hX dX2_init_2_24 rfl rfl rfl ?_
  refine z_bipush (q := 27) hX dX2_init_2_25 (by decide) rfl ?_
  refine zc_put (C := RX2) (T := TX2) (N := 4) (q := 30) hX ciX2 2 rfl (by decide) in_X2 tyX2_ok nmX2 dX2_init_2_27 q210 (Or.inl rfl) rfl (by first | assumption | exact upm_same _ _ _ | exact (upm_ne _ _ (by first | assumption | exact Ne.symm (by assumption) | omega | exact ne_mp (m := m) (by assumption) (by assumption) | exact Ne.symm (ne_mp (m := m) (by assumption) (by assumption)) | exact ne_mp (m := w) (by assumption) (by assumption) | exact Ne.symm (ne_mp (m := w) (by assumption) (by assumption)))).trans (by first | assumption | exact upm_same _ _ _ | exact (upm_ne _ _ (by first | assumption | exact Ne.symm (by assumption) | omega | exact ne_mp (m := m) (by assumption) (by assumption) | exact Ne.symm (ne_mp (m := m) (by assumption) (by assumption)) | exact ne_mp (m := w) (by assumption) (by assumption) | exact Ne.symm (ne_mp (m := w) (by assumption) (by assumption)))).trans (by first | assumption | exact upm_same _ _ _ | exact (upm_ne _ _ (by first | assumption | exact Ne.symm (by assumption) | omega | exact ne_mp (m := m) (by assumption) (by assumption) | exact Ne.symm (ne_mp (m := m) (by assumption) (by assumption)) | exact ne_mp (m := w) (by assumption) (by assumption) | exact Ne.symm (ne_mp (m := w) (by assumption) (by assumption)))).trans (by first | assumption | exact upm_same _ _ _)))) (Nat.le_of_ble_eq_true rfl) rfl rfl rfl rfl ?_
  refine z_aload_n (i := 0) (q := 31) hX dX2_init_2_30 rfl rfl rfl ?_
  refine zc_new (q := 34) (fs := [.null, zI 0]) (C := RX3) (T := TX3) (N := 2) hX ciX3 rfl in_X3 tyX3_ok dX2_init_2_31 q186 q187 q102 (fun j hj => by match j, hj with | 0, _ => rfl | 1, _ => rfl | (_ + 2), h => exact absurd h (by omega)) (by first | exact Nat.le_of_ble_eq_true rfl | (show _ + 1 ≤ 50; omega)) (by first | exact Nat.le_of_ble_eq_true rfl | (show _ + 2 ≤ 2600; omega)) rfl (fun a31 ha31 hb31 => ?_)
  have n31 := hb31
  try simp only [upm_none] at n31
  repeat (have := And.left n31; replace n31 := And.right n31)
  refine z_dup (q := 35) hX dX2_init_2_34 rfl rfl ?_
  refine z_C (na := 0) hX dX2_init_2_35 (c_X3_init D A (by first | assumption | exact upm_same _ _ _ | exact (upm_ne _ _ (by first | assumption | exact Ne.symm (by assumption) | omega | exact ne_mp (m := m) (by assumption) (by assumption) | exact Ne.symm (ne_mp (m := m) (by assumption) (by assumption)) | exact ne_mp (m := w) (by assumption) (by assumption) | exact Ne.symm (ne_mp (m := w) (by assumption) (by assumption)))).trans (by first | assumption | exact upm_same _ _ _ | exact (upm_ne _ _ (by first | assumption | exact Ne.symm (by assumption) | omega | exact ne_mp (m := m) (by assumption) (by assumption) | exact Ne.symm (ne_mp (m := m) (by assumption) (by assumption)) | exact ne_mp (m := w) (by assumption) (by assumption) | exact Ne.symm (ne_mp (m := w) (by assumption) (by assumption)))).trans (by first | assumption | exact upm_same _ _ _ | exact (upm_ne _ _ (by first | assumption | exact Ne.symm (by assumption) | omega | exact ne_mp (m := m) (by assumption) (by assumption) | exact Ne.symm (ne_mp (m := m) (by assumption) (by assumption)) | exact ne_mp (m := w) (by assumption) (by assumption) | exact Ne.symm (ne_mp (m := w) (by assumption) (by assumption)))).trans (by first | assumption | exact upm_same _ _ _))))) q188 q189 q102 q190 rfl (by decide +kernel) ⟨Nat.le_of_ble_eq_true rfl, Nat.le_of_ble_eq_true rfl⟩ rfl rfl (Nat.le_of_ble_eq_true rfl) rfl (by first | exact Nat.le_of_ble_eq_true rfl | (show _ + 1 ≤ 50; omega)) (by first | exact Nat.le_of_ble_eq_true rfl | (show _ + 40 ≤ 2600; omega)) (fun H h => h) (fun E a => zT.no) (zPe.out (fun x35 hx35 => ?_))
  show zG X (_ + 1) (_ + 40) _ 38 _ _
  obtain ⟨x1, x2⟩ := hx35
  simp only [upm_none] at x1
  have q1 : a5 ≠ b := ne_mp hb5 hm
  have q2 : a18 ≠ b ∧ a18 ≠ a5 := ⟨by omega, by omega⟩
  have q3 : a31 ≠ b ∧ a31 ≠ a5 ∧ a31 ≠ a18 := ⟨by omega, by omega, by omega⟩
  have q4 : (x35 ≠ b ∧ x35 ≠ a5) ∧ x35 ≠ a18 ∧ x35 ≠ a31 := ⟨⟨by omega, by omega⟩, by omega, by omega⟩
  have q5 : m x35 = none := by
    repeat (replace x1 := And.right x1)
    exact x1
  refine zc_putF (C := RX2) (T := TX2) (N := 4) (q := 41) hX ciX2 3 rfl (by decide) in_X2 tyX2_ok nmX2 dX2_init_2_38 q212 rfl rfl rfl ((upm_ne _ _ q3.1.symm).trans ((upm_ne _ _ q4.1.1.symm).trans ((upm_ne _ _ q3.1.symm).trans (upm_same _ _ _)))) (Nat.le_of_ble_eq_true rfl) rfl rfl rfl rfl ?_
  refine zG.mono (J := cI D A w (logM D (cM D (dlm m b) a31 x35 0 (fun _ => none)) b a5 a18 a31 50 0 [] (fun _ => none))) ?_ (fun H h => h.eqv (fun c => by
    by_cases c1 : c = b
    · rw [c1, logM_b, upm_same] <;> rfl
    · rw [upm_ne _ _ c1]
      by_cases c2 : c = a31
      · rw [c2, upm_same, logM_ot q3.1 q3.2.1 q3.2.2, cM_col q4.2.2.symm] <;> rfl
      · rw [upm_ne _ _ c2]
        by_cases c3 : c = x35
        · rw [c3, upm_same, logM_ot q4.1.1 q4.1.2 q4.2.1, cM_tc]
        · rw [upm_ne _ _ c3, upm_ne _ _ c2, upm_ne _ _ c1, upm_ne _ _ c1]
          by_cases c4 : c = a18
          · rw [c4, upm_same, logM_ta ⟨q1, q2.1, q2.2⟩] <;> rfl
          · rw [upm_ne _ _ c4, upm_ne _ _ c1]
            by_cases c5 : c = a5
            · rw [c5, upm_same, logM_ll ⟨q1, q2.1, q2.2⟩]
            · rw [upm_ne _ _ c5, upm_ne _ _ c5, logM_ot c1 c5 c4, cM_ot c2 c3, dlm_ne _ c1]))
  refine z_aload_n (i := 1) (q := 42) hX dX2_init_2_41 rfl rfl rfl ?_
  refine zr_get (C := RX2) (T := TX2) (N := 4) (q := 45) hX ciX2 0 rfl (by decide) in_X2 dX2_init_2_42 q203 (Or.inl rfl) (fun H h => cI.rd h (by first | assumption | exact Or.inl (by assumption) | exact Or.inr (by first | assumption | exact upm_same _ _ _ | exact (upm_ne _ _ (by first | assumption | exact Ne.symm (by assumption) | omega | exact ne_mp (m := m) (by assumption) (by assumption) | exact Ne.symm (ne_mp (m := m) (by assumption) (by assumption)) | exact ne_mp (m := w) (by assumption) (by assumption) | exact Ne.symm (ne_mp (m := w) (by assumption) (by assumption)))).trans (by first | assumption | exact upm_same _ _ _ | exact (upm_ne _ _ (by first | assumption | exact Ne.symm (by assumption) | omega | exact ne_mp (m := m) (by assumption) (by assumption) | exact Ne.symm (ne_mp (m := m) (by assumption) (by assumption)) | exact ne_mp (m := w) (by assumption) (by assumption) | exact Ne.symm (ne_mp (m := w) (by assumption) (by assumption)))).trans (by first | assumption | exact upm_same _ _ _ | exact (upm_ne _ _ (by first | assumption | exact Ne.symm (by assumption) | omega | exact ne_mp (m := m) (by assumption) (by assumption) | exact Ne.symm (ne_mp (m := m) (by assumption) (by assumption)) | exact ne_mp (m := w) (by assumption) (by assumption) | exact Ne.symm (ne_mp (m := w) (by assumption) (by assumption)))).trans (by first | assumption | exact upm_same _ _ _))))) rfl (by decide) rfl) rfl ?_
  refine z_V (ci := ciJ2) (T := TJ2) (N := 3) (na := 0) hX dX2_init_2_45 (c_J2_iterator D A hl) rfl q261 q262 q263 q101 q264 (by decide +kernel) ⟨Nat.le_of_ble_eq_true rfl, Nat.le_of_ble_eq_true rfl⟩ rfl rfl (Nat.le_of_ble_eq_true rfl) rfl (by first | exact Nat.le_of_ble_eq_true rfl | (show _ + 1 ≤ 50; omega)) (by first | exact Nat.le_of_ble_eq_true rfl | (show _ + 4 ≤ 2600; omega)) (fun H h => ⟨h, h.obL (Or.inl hl)⟩) (fun E a => zT.no) (zPe.out (fun x45 hx45 => ?_))
  show zG X (_ + 1) (_ + 4) _ 48 _ _
  refine z_astore_n (i := 2) (q := 49) hX dX2_init_2_48 rfl (Nat.le_of_ble_eq_true rfl) rfl rfl ?_
  obtain ⟨z1, z2⟩ := hx45
  have i1 : x45 ≠ b := ne_mp z2 logM_b
  have i2 : x45 ≠ a5 := ne_mp z2 (logM_ll ⟨q1, q2.1, q2.2⟩)
  have i3 : x45 ≠ a18 := ne_mp z2 (logM_ta ⟨q1, q2.1, q2.2⟩)
  rw [logM_ot i1 i2 i3] at z2
  have i4 : x45 ≠ a31 := ne_mp z2 (cM_col q4.2.2.symm)
  have i5 : x45 ≠ x35 := ne_mp z2 cM_tc
  rw [cM_ot i4 i5, dlm_ne _ i1] at z2
  exact zG.mono (K (a5, a18, a31, x35) x45 ⟨⟨q1, q2.1, q2.2⟩, ⟨hb5, n18, n31, q5⟩, q4.2.2.symm, q3.1, q3.2.1, q3.2.2, q4.1.1, q4.1.2, q4.2.1⟩ i1 i2 i3 i4 i5 z2 0 (Nat.zero_le _) _ _ 0 (-1) _ _ (by omega) (by omega)) (fun H h => by rw [List.take_zero]; exact h)
