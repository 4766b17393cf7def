/-! JDK: texts made -/
set_option maxRecDepth 100000
/-- a new text, which is s -/
def zNs (w : zMp) (s : zS) (x : Nat × zMp) : Prop := zLe w x.2 ∧ x.2 x.1 = some (eS s)
/-- a new byte array, whose first n bytes are f's from place a on -/
def zNb (w m : zMp) (a n : Nat) (f : Nat → Int32) (x : Nat × (Nat → Int32)) : Prop := w x.1 = none ∧ m x.1 = none ∧ ∀ j : Nat, j < n → x.2 j = f (a + j)
abbrev rmJ12_checkLength : Room := { frames := 0, cells := 0, slots := 0, locals := 0 }
set_option maxHeartbeats 4000000 in
theorem c_J12_checkLength (D : zD) (A : Nat → Prop) {I : Heap → Prop} {a c : Int} (h : a ≤ c) (ha : zR a) (hc : zR c) : zC D yJ12_checkLength cJ12_checkLength 2 none none rmJ12_checkLength A [zI (a), zI (c)] (I) (zPv I) (zNo) := by
  refine zC_start (L := [some (zI (a)), some (zI (c))]) (by decide) (Nat.le_of_ble_eq_true rfl) rfl (fun X hX => ?_)
  refine z_iload_n (i := 1) (q := 1) hX dJ12_checkLength_0 rfl rfl rfl ?_
  refine z_iload_n (i := 0) (q := 2) hX dJ12_checkLength_1 rfl rfl rfl ?_
  refine z_icmp_ge (q := 5) (t := 37) hX dJ12_checkLength_2 (by decide) hc ha rfl (fun h2 => ?_) (fun h2 => ?_)
  · exact z_vret hX dJ12_checkLength_37 (by first | exact Nat.le_of_ble_eq_true rfl | (show (_ : Nat) ≤ 0; omega)) (by first | exact Nat.le_of_ble_eq_true rfl | (show (_ : Nat) ≤ 0; omega)) rfl (fun H h => ⟨rfl, h⟩)
  · exact absurd h h2
abbrev rmJ12_copyOfRangeByte : Room := { frames := 1, cells := 1, slots := 84, locals := 40 }
set_option maxHeartbeats 4000000 in
theorem c_J12_copyOfRangeByte (D : zD) (A : Nat → Prop) {w m : zMp} {K : Heap → Prop} {d N a z : Nat} {f : Nat → Int32} (hr : ∀ H, K H → zRa D 2 d N (fun j => .int (f j)) H) (hKk : ∀ H H1, K H → (∀ q : Nat, q < H.size → H1[q]? = H[q]?) → K H1) (hf : ∀ j, j < N → fits .byte (.int (f j)) = true) (hz : a + z ≤ N ∧ N ≤ 1000) (h84 : z ≤ 84) : zC D yJ12_copyOfRangeByte cJ12_copyOfRangeByte 5 (some (.array .byte)) none rmJ12_copyOfRangeByte A [.ref d, zI ((a : Int)), zI (((a : Int) + (z : Int)))] (fun H => K H ∧ cI D A w m H) (zPe (fun (x : Nat × (Nat → Int32)) => some (.ref x.1)) (fun x => zNb w m a z f x) (fun x => cI D A w (upm m x.1 (eC (aN D 2 z x.2))))) (zNo) := by
  refine zC_start (L := [some (.ref d), some (zI ((a : Int))), some (zI (((a : Int) + (z : Int)))), none, none]) (by decide) (Nat.le_of_ble_eq_true rfl) rfl (fun X hX => ?_)
  have t1 : ((a : Int) + (z : Int) - (a : Int)) = (z : Int) := by omega
  refine z_iload_n (i := 1) (q := 1) hX dJ12_copyOfRangeByte_0 rfl rfl rfl ?_
  refine z_iload_n (i := 2) (q := 2) hX dJ12_copyOfRangeByte_1 rfl rfl rfl ?_
  refine z_S (na := 2) hX dJ12_copyOfRangeByte_2 (c_J12_checkLength D A (by omega) ⟨by omega, by omega⟩ ⟨by omega, by omega⟩) q926 q927 q113 q928 (by decide +kernel) ⟨Nat.le_of_ble_eq_true rfl, Nat.le_of_ble_eq_true rfl⟩ rfl rfl (Nat.le_of_ble_eq_true rfl) rfl (by first | exact Nat.le_of_ble_eq_true rfl | (show _ + 0 ≤ 1; omega)) (by first | exact Nat.le_of_ble_eq_true rfl | (show _ + 0 ≤ 84; omega)) (fun H h => h) (fun E a => zT.no) (zPv.out ?_)
  show zG X (_ + 0) (_ + 0) _ 5 _ _
  refine z_iload_n (i := 2) (q := 6) hX dJ12_copyOfRangeByte_5 rfl rfl rfl ?_
  refine z_iload_n (i := 1) (q := 7) hX dJ12_copyOfRangeByte_6 rfl rfl rfl ?_
  refine z_isub (q := 8) hX dJ12_copyOfRangeByte_7 rfl ?_
  rw [t1]
  refine z_istore_n (i := 3) (q := 9) hX dJ12_copyOfRangeByte_8 rfl (Nat.le_of_ble_eq_true rfl) rfl rfl ?_
  refine z_iload_n (i := 3) (q := 10) hX dJ12_copyOfRangeByte_9 rfl rfl rfl ?_
  refine zc_newaNK (hKk := hKk) (q := 12) (at_ := .byte) (ty := .byte) hX 2 rfl rfl (fun _ s cA h => h) rfl dJ12_copyOfRangeByte_10 q779 (by omega) (by decide) (by first | exact Nat.le_of_ble_eq_true rfl | (show _ + 1 ≤ 1; omega)) (by first | exact Nat.le_of_ble_eq_true rfl | omega | (show _ ≤ 84; omega)) rfl (fun a10 ha10 hb10 => ?_)
  have n10 := hb10
  try simp only [upm_none] at n10
  repeat (have := And.left n10; replace n10 := And.right n10)
  simp only [Int.toNat_natCast]
  refine z_astore (q := 14) hX dJ12_copyOfRangeByte_12 (Nat.le_of_ble_eq_true rfl) rfl rfl ?_
  refine z_aload_n (i := 0) (q := 15) hX dJ12_copyOfRangeByte_14 rfl rfl rfl ?_
  refine z_iload_n (i := 1) (q := 16) hX dJ12_copyOfRangeByte_15 rfl rfl rfl ?_
  refine z_aload (q := 18) hX dJ12_copyOfRangeByte_16 rfl rfl ?_
  refine z_iconst (q := 19) hX dJ12_copyOfRangeByte_18 rfl ?_
  refine z_aload_n (i := 0) (q := 20) hX dJ12_copyOfRangeByte_19 rfl rfl rfl ?_
  refine zr_alen (q := 21) hX 2 rfl dJ12_copyOfRangeByte_20 (fun H h => hr H h.1) rfl ?_
  refine z_iload_n (i := 1) (q := 22) hX dJ12_copyOfRangeByte_21 rfl rfl rfl ?_
  refine z_isub (q := 23) hX dJ12_copyOfRangeByte_22 rfl ?_
  refine z_iload_n (i := 3) (q := 24) hX dJ12_copyOfRangeByte_23 rfl rfl rfl ?_
  refine z_mmin (q := 27) hX dJ12_copyOfRangeByte_24 ⟨by omega, by omega⟩ ⟨by omega, by omega⟩ q444 q445 q112 q446 (Nat.le_of_ble_eq_true rfl) rfl ⟨Nat.le_of_ble_eq_true rfl, Nat.le_of_ble_eq_true rfl⟩ (by first | exact Nat.le_of_ble_eq_true rfl | (show (_ : Nat) ≤ 1; omega)) (by first | exact Nat.le_of_ble_eq_true rfl | (show (_ : Nat) ≤ 84; omega)) rfl ?_
  rw [show min ((N : Int) - (a : Int)) (z : Int) = (z : Int) by omega]
  refine zc_copyB (q := 30) hX dJ12_copyOfRangeByte_27 q447 q449 q448 q114 (upm_same _ _ _) hr hf ⟨by omega, by omega, by omega, by omega, by omega⟩ ⟨by omega, by omega⟩ (Nat.le_of_ble_eq_true rfl) (Nat.le_of_ble_eq_true rfl) (Nat.le_of_ble_eq_true rfl) rfl rfl ?_
  refine z_aload (q := 32) hX dJ12_copyOfRangeByte_30 rfl rfl ?_
  exact z_aret hX dJ12_copyOfRangeByte_32 (by first | exact Nat.le_of_ble_eq_true rfl | (show (_ : Nat) ≤ 1; omega)) (by first | exact Nat.le_of_ble_eq_true rfl | (show (_ : Nat) ≤ 84; omega)) rfl (by first | exact Or.inl ⟨_, rfl⟩ | exact Or.inr ⟨_, rfl⟩) (by first | exact Or.inl rfl | exact Or.inr ⟨_, rfl⟩) (fun H h => ⟨(a10, va_cpy f (fun _ => 0) a 0 z), rfl, ⟨ha10, hb10, fun j hj => by simp [va_cpy, hj]⟩, by simp only [upm_upm, Int.toNat_natCast, Int.toNat_zero] at h; exact h⟩)
abbrev rmJ12_copyOfRange : Room := { frames := 2, cells := 1, slots := 84, locals := 64 }
set_option maxHeartbeats 4000000 in
theorem c_J12_copyOfRange (D : zD) (A : Nat → Prop) {w m : zMp} {K : Heap → Prop} {d N a z : Nat} {f : Nat → Int32} (hr : ∀ H, K H → zRa D 2 d N (fun j => .int (f j)) H) (hKk : ∀ H H1, K H → (∀ q : Nat, q < H.size → H1[q]? = H[q]?) → K H1) (hxx : a = 0 → z = N → ∀ H, K H → zRx d N H) (hf : ∀ j, j < N → fits .byte (.int (f j)) = true) (hz : a + z ≤ N ∧ N ≤ 1000) (h84 : z ≤ 84) : zC D yJ12_copyOfRange cJ12_copyOfRange 3 (some (.array .byte)) none rmJ12_copyOfRange A [.ref d, zI ((a : Int)), zI (((a : Int) + (z : Int)))] (fun H => K H ∧ cI D A w m H) (zPe (fun (x : Nat × (Nat → Int32)) => some (.ref x.1)) (fun x => zNb w m a z f x) (fun x => cI D A w (upm m x.1 (eC (aN D 2 z x.2))))) (zNo) := by
  refine zC_start (L := [some (.ref d), some (zI ((a : Int))), some (zI (((a : Int) + (z : Int))))]) (by decide) (Nat.le_of_ble_eq_true rfl) rfl (fun X hX => ?_)
  refine z_iload_n (i := 1) (q := 1) hX dJ12_copyOfRange_0 rfl rfl rfl ?_
  refine z_if_ne (q := 4) (t := 10) hX dJ12_copyOfRange_1 (by decide) ⟨by omega, by omega⟩ rfl (fun h1 => ?_) (fun h1 => ?_)
  · refine z_aload_n (i := 0) (q := 11) hX dJ12_copyOfRange_10 rfl rfl rfl ?_
    refine z_iload_n (i := 1) (q := 12) hX dJ12_copyOfRange_11 rfl rfl rfl ?_
    refine z_iload_n (i := 2) (q := 13) hX dJ12_copyOfRange_12 rfl rfl rfl ?_
    refine z_S (na := 3) hX dJ12_copyOfRange_13 (c_J12_copyOfRangeByte D A hr hKk hf hz h84) q923 q924 q113 q925 (by decide +kernel) ⟨Nat.le_of_ble_eq_true rfl, Nat.le_of_ble_eq_true rfl⟩ rfl rfl (Nat.le_of_ble_eq_true rfl) rfl (by first | exact Nat.le_of_ble_eq_true rfl | (show _ + 1 ≤ 1; omega)) (by first | exact Nat.le_of_ble_eq_true rfl | (show _ + 84 ≤ 84; omega)) (fun H h => h) (fun E a => zT.no) (zPe.out (fun x13 hx13 => ?_))
    show zG X (_ + 1) (_ + 84) _ 16 _ _
    exact z_aret hX dJ12_copyOfRange_16 (by first | exact Nat.le_of_ble_eq_true rfl | (show (_ : Nat) ≤ 1; omega)) (by first | exact Nat.le_of_ble_eq_true rfl | (show (_ : Nat) ≤ 84; omega)) rfl (by first | exact Or.inl ⟨_, rfl⟩ | exact Or.inr ⟨_, rfl⟩) (by first | exact Or.inl rfl | exact Or.inr ⟨_, rfl⟩) (fun H h => ⟨x13, rfl, hx13, h⟩)
  · refine z_iload_n (i := 2) (q := 5) hX dJ12_copyOfRange_4 rfl rfl rfl ?_
    refine z_aload_n (i := 0) (q := 6) hX dJ12_copyOfRange_5 rfl rfl rfl ?_
    refine zr_alen (q := 7) hX 2 rfl dJ12_copyOfRange_6 (fun H h => hr H h.1) rfl ?_
    refine z_icmp_eq (q := 10) (t := 17) hX dJ12_copyOfRange_7 (by decide) ⟨by omega, by omega⟩ ⟨by omega, by omega⟩ rfl (fun h7 => ?_) (fun h7 => ?_)
    · have hNz : N = z := by omega
      subst hNz
      refine z_aload_n (i := 0) (q := 18) hX dJ12_copyOfRange_17 rfl rfl rfl ?_
      refine zc_cloneB (q := 21) hX dJ12_copyOfRange_18 q805 q806 q807 q808 q809 (zCs_at 21 rfl) hr (hxx (by omega) (by omega)) hf (Nat.le_of_ble_eq_true rfl) (Nat.le_of_ble_eq_true rfl) (by first | exact Nat.le_of_ble_eq_true rfl | (show _ + 1 ≤ 1; omega)) (by first | exact Nat.le_of_ble_eq_true rfl | omega | (show _ ≤ 84; omega))  (Nat.le_of_ble_eq_true rfl) rfl rfl (fun a18 ha18 hb18 => ?_)
      have n18 := hb18
      try simp only [upm_none] at n18
      repeat (have := And.left n18; replace n18 := And.right n18)
      refine zr_castB (q := 24) hX dJ12_copyOfRange_21 q811 (fun H h => (h.at (Or.inr (upm_same _ _ _))).raN) rfl ?_
      exact z_aret hX dJ12_copyOfRange_24 (by first | exact Nat.le_of_ble_eq_true rfl | (show (_ : Nat) ≤ 1; omega)) (by first | exact Nat.le_of_ble_eq_true rfl | (show (_ : Nat) ≤ 84; omega)) rfl (by first | exact Or.inl ⟨_, rfl⟩ | exact Or.inr ⟨_, rfl⟩) (by first | exact Or.inl rfl | exact Or.inr ⟨_, rfl⟩) (fun H h => ⟨(a18, f), rfl, ⟨ha18, hb18, fun j hj => by rw [show a = 0 by omega, Nat.zero_add]⟩, h⟩)
    · refine z_aload_n (i := 0) (q := 11) hX dJ12_copyOfRange_10 rfl rfl rfl ?_
      refine z_iload_n (i := 1) (q := 12) hX dJ12_copyOfRange_11 rfl rfl rfl ?_
      refine z_iload_n (i := 2) (q := 13) hX dJ12_copyOfRange_12 rfl rfl rfl ?_
      refine z_S (na := 3) hX dJ12_copyOfRange_13 (c_J12_copyOfRangeByte D A hr hKk hf hz h84) q923 q924 q113 q925 (by decide +kernel) ⟨Nat.le_of_ble_eq_true rfl, Nat.le_of_ble_eq_true rfl⟩ rfl rfl (Nat.le_of_ble_eq_true rfl) rfl (by first | exact Nat.le_of_ble_eq_true rfl | (show _ + 1 ≤ 1; omega)) (by first | exact Nat.le_of_ble_eq_true rfl | (show _ + 84 ≤ 84; omega)) (fun H h => h) (fun E a => zT.no) (zPe.out (fun x13 hx13 => ?_))
      show zG X (_ + 1) (_ + 84) _ 16 _ _
      exact z_aret hX dJ12_copyOfRange_16 (by first | exact Nat.le_of_ble_eq_true rfl | (show (_ : Nat) ≤ 1; omega)) (by first | exact Nat.le_of_ble_eq_true rfl | (show (_ : Nat) ≤ 84; omega)) rfl (by first | exact Or.inl ⟨_, rfl⟩ | exact Or.inr ⟨_, rfl⟩) (by first | exact Or.inl rfl | exact Or.inr ⟨_, rfl⟩) (fun H h => ⟨x13, rfl, hx13, h⟩)
abbrev rmJ13_init_5 : Room := { frames := 1, cells := 0, slots := 0, locals := 20 }
set_option maxHeartbeats 4000000 in
theorem c_J13_init_5 (D : zD) (A : Nat → Prop) {w m : zMp} {b : Nat} {d : Nat} {v0 v1 v2 v3 : Value} (hm : m b = some (eO ciJ13 [v0, v1, v2, v3])) : zC D yJ13_init_5 cJ13_init_5 3 none none rmJ13_init_5 A [.ref b, .ref d, zI (0)] (cI D A w m) (zPv (cI D A w (upm m b (eO ciJ13 [.ref d, zI 0, v2, v3])))) (zNo) := by
  refine zC_start (L := [some (.ref b), some (.ref d), some (zI (0))]) (by decide) (Nat.le_of_ble_eq_true rfl) rfl (fun X hX => ?_)
  refine z_aload_n (i := 0) (q := 1) hX dJ13_init_5_0 rfl rfl rfl ?_
  refine z_objInit (q := 4) hX dJ13_init_5_1 q905 q147 q148 (Nat.le_of_ble_eq_true rfl) rfl ⟨Nat.le_of_ble_eq_true rfl, Nat.le_of_ble_eq_true rfl⟩ rfl ?_
  refine z_aload_n (i := 0) (q := 5) hX dJ13_init_5_4 rfl rfl rfl ?_
  refine z_aload_n (i := 1) (q := 6) hX dJ13_init_5_5 rfl rfl rfl ?_
  refine zc_putF (C := RJ13) (T := TJ13) (N := 4) (q := 9) hX ciJ13 0 rfl (by decide) in_J13 tyJ13_ok nmJ13 dJ13_init_5_6 q968 rfl rfl rfl (by first | assumption | exact upm_same _ _ _ | exact (upm_ne _ _ (by first | assumption | exact Ne.symm (by assumption) | omega | exact ne_mp (m := m) (by assumption) (by assumption) | exact Ne.symm (ne_mp (m := m) (by assumption) (by assumption)) | exact ne_mp (m := w) (by assumption) (by assumption) | exact Ne.symm (ne_mp (m := w) (by assumption) (by assumption)))).trans (by first | assumption | exact upm_same _ _ _ | exact (upm_ne _ _ (by first | assumption | exact Ne.symm (by assumption) | omega | exact ne_mp (m := m) (by assumption) (by assumption) | exact Ne.symm (ne_mp (m := m) (by assumption) (by assumption)) | exact ne_mp (m := w) (by assumption) (by assumption) | exact Ne.symm (ne_mp (m := w) (by assumption) (by assumption)))).trans (by first | assumption | exact upm_same _ _ _ | exact (upm_ne _ _ (by first | assumption | exact Ne.symm (by assumption) | omega | exact ne_mp (m := m) (by assumption) (by assumption) | exact Ne.symm (ne_mp (m := m) (by assumption) (by assumption)) | exact ne_mp (m := w) (by assumption) (by assumption) | exact Ne.symm (ne_mp (m := w) (by assumption) (by assumption)))).trans (by first | assumption | exact upm_same _ _ _)))) (Nat.le_of_ble_eq_true rfl) rfl rfl rfl rfl ?_
  refine z_aload_n (i := 0) (q := 10) hX dJ13_init_5_9 rfl rfl rfl ?_
  refine z_iload_n (i := 2) (q := 11) hX dJ13_init_5_10 rfl rfl rfl ?_
  refine zc_putF (C := RJ13) (T := TJ13) (N := 4) (q := 14) hX ciJ13 1 rfl (by decide) in_J13 tyJ13_ok nmJ13 dJ13_init_5_11 q969 rfl rfl rfl (by first | assumption | exact upm_same _ _ _ | exact (upm_ne _ _ (by first | assumption | exact Ne.symm (by assumption) | omega | exact ne_mp (m := m) (by assumption) (by assumption) | exact Ne.symm (ne_mp (m := m) (by assumption) (by assumption)) | exact ne_mp (m := w) (by assumption) (by assumption) | exact Ne.symm (ne_mp (m := w) (by assumption) (by assumption)))).trans (by first | assumption | exact upm_same _ _ _ | exact (upm_ne _ _ (by first | assumption | exact Ne.symm (by assumption) | omega | exact ne_mp (m := m) (by assumption) (by assumption) | exact Ne.symm (ne_mp (m := m) (by assumption) (by assumption)) | exact ne_mp (m := w) (by assumption) (by assumption) | exact Ne.symm (ne_mp (m := w) (by assumption) (by assumption)))).trans (by first | assumption | exact upm_same _ _ _ | exact (upm_ne _ _ (by first | assumption | exact Ne.symm (by assumption) | omega | exact ne_mp (m := m) (by assumption) (by assumption) | exact Ne.symm (ne_mp (m := m) (by assumption) (by assumption)) | exact ne_mp (m := w) (by assumption) (by assumption) | exact Ne.symm (ne_mp (m := w) (by assumption) (by assumption)))).trans (by first | assumption | exact upm_same _ _ _)))) (Nat.le_of_ble_eq_true rfl) rfl rfl rfl rfl ?_
  exact z_vret hX dJ13_init_5_14 (by first | exact Nat.le_of_ble_eq_true rfl | (show (_ : Nat) ≤ 0; omega)) (by first | exact Nat.le_of_ble_eq_true rfl | (show (_ : Nat) ≤ 0; omega)) rfl (fun H h => ⟨rfl, by simp only [upm_upm] at h; exact h⟩)
/-- a part of a text -/
def subS (s : zS) (a z : Nat) : zS := (s.drop a).take z
theorem subS_len {s : zS} {a z : Nat} (h : a + z ≤ s.length) : (subS s a z).length = z := by
  unfold subS
  rw [List.length_take, List.length_drop]
  omega
theorem subS_cT {s : zS} {a z i : Nat} (hi : i < z) : cT (subS s a z) i = cT s (a + i : Nat) := by
  unfold subS cT
  rw [List.getD_eq_getElem?_getD, List.getD_eq_getElem?_getD, Int.toNat_natCast, Int.toNat_natCast, List.getElem?_take_of_lt hi, List.getElem?_drop]
theorem subS_ch {s : zS} {a z : Nat} (h : zCh s) : zCh (subS s a z) := ⟨by have := h.1; unfold subS; rw [List.length_take, List.length_drop]; omega, fun c hc => h.2 c (List.mem_of_mem_drop (List.mem_of_mem_take hc))⟩
theorem subS_all (s : zS) : subS s 0 s.length = s := by
  unfold subS
  rw [List.drop_zero, List.take_length]
theorem ch_fit {s : zS} (h : zCh s) : ∀ j : Nat, j < s.length → fits .byte (.int (Int32.ofInt (cT s j))) = true := fun j hj => fits_by (h.2 _ (cT_mem (by omega) (by omega)))
abbrev rmJ16_newString : Room := { frames := 3, cells := 2, slots := 100, locals := 86 }
set_option maxHeartbeats 4000000 in
theorem c_J16_newString (D : zD) (A : Nat → Prop) {w m : zMp} {s : zS} {d a z : Nat} {K : Heap → Prop} (hr : ∀ H, K H → zRa D 2 d s.length (fun j => zI (cT s j)) H) (hKk : ∀ H H1, K H → (∀ q : Nat, q < H.size → H1[q]? = H[q]?) → K H1) (hxx : a = 0 → z = s.length → ∀ H, K H → zRx d s.length H) (hs : zCh s) (hz : a + z ≤ s.length) (h84 : 1 ≤ z ∧ z ≤ 84) : zC D yJ16_newString cJ16_newString 3 (some (.object "java/lang/String")) none rmJ16_newString A [.ref d, zI ((a : Int)), zI ((z : Int))] (fun H => K H ∧ cI D A w m H) (zPe (fun (x : Nat × zMp) => some (.ref x.1)) (fun x => zNs w (subS s a z) x) (fun x => cI D A x.2 m)) (zNo) := by
  refine zC_start (L := [some (.ref d), some (zI ((a : Int))), some (zI ((z : Int)))]) (by decide) (Nat.le_of_ble_eq_true rfl) rfl (fun X hX => ?_)
  have hl9 := hs.1
  refine z_iload_n (i := 2) (q := 1) hX dJ16_newString_0 rfl rfl rfl ?_
  refine z_if_ne (q := 4) (t := 7) hX dJ16_newString_1 (by decide) ⟨by omega, by omega⟩ rfl (fun h1 => ?_) (fun h1 => ?_)
  · refine zc_newK (hKk := hKk) (q := 10) (fs := [.null, zI 0, zI 0, zI 0]) (C := RJ13) (T := TJ13) (N := 4) hX ciJ13 rfl in_J13 tyJ13_ok dJ16_newString_7 q1350 q898 q116 (fun j hj => by match j, hj with | 0, _ => rfl | 1, _ => rfl | 2, _ => rfl | 3, _ => rfl | (_ + 4), h => exact absurd h (by omega)) (by first | exact Nat.le_of_ble_eq_true rfl | (show _ + 1 ≤ 2; omega)) (by first | exact Nat.le_of_ble_eq_true rfl | (show _ + 4 ≤ 100; omega)) rfl (fun a7 ha7 hb7 => ?_)
    have n7 := hb7
    try simp only [upm_none] at n7
    repeat (have := And.left n7; replace n7 := And.right n7)
    refine z_dup (q := 11) hX dJ16_newString_10 rfl rfl ?_
    refine z_aload_n (i := 0) (q := 12) hX dJ16_newString_11 rfl rfl rfl ?_
    refine z_iload_n (i := 1) (q := 13) hX dJ16_newString_12 rfl rfl rfl ?_
    refine z_iload_n (i := 1) (q := 14) hX dJ16_newString_13 rfl rfl rfl ?_
    refine z_iload_n (i := 2) (q := 15) hX dJ16_newString_14 rfl rfl rfl ?_
    refine z_iadd (q := 16) hX dJ16_newString_15 rfl ?_
    refine z_S (na := 3) hX dJ16_newString_16 (c_J12_copyOfRange D A (f := fun j => Int32.ofInt (cT s j)) hr hKk hxx (ch_fit hs) ⟨hz, hl9⟩ h84.2) q1351 q921 q113 q922 (by decide +kernel) ⟨Nat.le_of_ble_eq_true rfl, Nat.le_of_ble_eq_true rfl⟩ rfl rfl (Nat.le_of_ble_eq_true rfl) rfl (by first | exact Nat.le_of_ble_eq_true rfl | (show _ + 1 ≤ 2; omega)) (by first | exact Nat.le_of_ble_eq_true rfl | (show _ + 84 ≤ 100; omega)) (fun H h => h) (fun E a => zT.no) (zPe.out (fun x16 hx16 => ?_))
    show zG X (_ + 1) (_ + 84) _ 19 _ _
    obtain ⟨h16w, h16m, h16f⟩ := hx16
    have n16 := h16m
    simp only [upm_none] at n16
    refine z_iconst (q := 20) hX dJ16_newString_19 rfl ?_
    refine z_C (na := 2) hX dJ16_newString_20 (c_J13_init_5 D A (by first | assumption | exact upm_same _ _ _ | exact (upm_ne _ _ (by first | assumption | exact Ne.symm (by assumption) | omega | exact ne_mp (m := m) (by assumption) (by assumption) | exact Ne.symm (ne_mp (m := m) (by assumption) (by assumption)) | exact ne_mp (m := w) (by assumption) (by assumption) | exact Ne.symm (ne_mp (m := w) (by assumption) (by assumption)))).trans (by first | assumption | exact upm_same _ _ _ | exact (upm_ne _ _ (by first | assumption | exact Ne.symm (by assumption) | omega | exact ne_mp (m := m) (by assumption) (by assumption) | exact Ne.symm (ne_mp (m := m) (by assumption) (by assumption)) | exact ne_mp (m := w) (by assumption) (by assumption) | exact Ne.symm (ne_mp (m := w) (by assumption) (by assumption)))).trans (by first | assumption | exact upm_same _ _ _ | exact (upm_ne _ _ (by first | assumption | exact Ne.symm (by assumption) | omega | exact ne_mp (m := m) (by assumption) (by assumption) | exact Ne.symm (ne_mp (m := m) (by assumption) (by assumption)) | exact ne_mp (m := w) (by assumption) (by assumption) | exact Ne.symm (ne_mp (m := w) (by assumption) (by assumption)))).trans (by first | assumption | exact upm_same _ _ _))))) q1352 q1353 q116 q1354 rfl (by decide +kernel) ⟨Nat.le_of_ble_eq_true rfl, Nat.le_of_ble_eq_true rfl⟩ rfl rfl (Nat.le_of_ble_eq_true rfl) rfl (by first | exact Nat.le_of_ble_eq_true rfl | (show _ + 0 ≤ 2; omega)) (by first | exact Nat.le_of_ble_eq_true rfl | (show _ + 0 ≤ 100; omega)) (fun H h => h) (fun E a => zT.no) (zPv.out ?_)
    show zG X (_ + 0) (_ + 0) _ 23 _ _
    exact z_aret hX dJ16_newString_23 (by first | exact Nat.le_of_ble_eq_true rfl | (show (_ : Nat) ≤ 2; omega)) (by first | exact Nat.le_of_ble_eq_true rfl | (show (_ : Nat) ≤ 100; omega)) rfl (by first | exact Or.inl ⟨_, rfl⟩ | exact Or.inr ⟨_, rfl⟩) (by first | exact Or.inl rfl | exact Or.inr ⟨_, rfl⟩) (fun H h => ⟨(a7, upm w a7 (eS (subS s a z))), rfl, ⟨zLe.up ha7, upm_same _ _ _⟩, cI.clsS (d := x16.1) (n := z) (f := x16.2) h (upm_same _ _ _) ((upm_ne _ _ n16.1).trans (upm_same _ _ _)) n16.1 (subS_len hz).symm (subS_ch hs) (fun i hi => by rw [h16f i hi, subS_cT hi]) (fun c h1 h2 => by simp [upm, h1, h2]) hb7 n16.2⟩)
  · exact absurd h1 (by omega)
abbrev rmJ14_checkFromToIndex : Room := { frames := 0, cells := 0, slots := 0, locals := 0 }
set_option maxHeartbeats 4000000 in
theorem c_J14_checkFromToIndex (D : zD) (A : Nat → Prop) {I : Heap → Prop} {a c z : Int} {r : Option Nat} (h : 0 ≤ a ∧ a ≤ c ∧ c ≤ z) (hz : zR z) : zC D yJ14_checkFromToIndex cJ14_checkFromToIndex 4 (some .int) none rmJ14_checkFromToIndex A [zI (a), zI (c), zI (z), va_rf r] (I) (zPd (zI a) I) (zNo) := by
  refine zC_start (L := [some (zI (a)), some (zI (c)), some (zI (z)), some (va_rf r)]) (by decide) (by cases r <;> exact Nat.le_of_ble_eq_true rfl) (by cases r <;> rfl) (fun X hX => ?_)
  have hr : zR a ∧ zR c := ⟨⟨by omega, by have := hz.2; omega⟩, ⟨by omega, by have := hz.2; omega⟩⟩
  refine z_iload_n (i := 0) (q := 1) hX dJ14_checkFromToIndex_0 rfl rfl rfl ?_
  refine z_if_lt (q := 4) (t := 14) hX dJ14_checkFromToIndex_1 (by decide) hr.1 rfl (fun h1 => ?_) (fun h1 => ?_)
  · exact absurd h1 (by omega)
  · refine z_iload_n (i := 0) (q := 5) hX dJ14_checkFromToIndex_4 rfl rfl rfl ?_
    refine z_iload_n (i := 1) (q := 6) hX dJ14_checkFromToIndex_5 rfl rfl rfl ?_
    refine z_icmp_gt (q := 9) (t := 14) hX dJ14_checkFromToIndex_6 (by decide) hr.1 hr.2 rfl (fun h6 => ?_) (fun h6 => ?_)
    · exact absurd h6 (by omega)
    · refine z_iload_n (i := 1) (q := 10) hX dJ14_checkFromToIndex_9 rfl rfl rfl ?_
      refine z_iload_n (i := 2) (q := 11) hX dJ14_checkFromToIndex_10 rfl rfl rfl ?_
      refine z_icmp_le (q := 14) (t := 22) hX dJ14_checkFromToIndex_11 (by decide) hr.2 hz rfl (fun h11 => ?_) (fun h11 => ?_)
      · refine z_iload_n (i := 0) (q := 23) hX dJ14_checkFromToIndex_22 rfl rfl rfl ?_
        exact z_iret hX dJ14_checkFromToIndex_23 (by first | exact Nat.le_of_ble_eq_true rfl | (show (_ : Nat) ≤ 0; omega)) (by first | exact Nat.le_of_ble_eq_true rfl | (show (_ : Nat) ≤ 0; omega)) rfl (fun H h => ⟨rfl, h⟩)
      · exact absurd h.2.2 h11
abbrev rmJ13_checkBoundsBeginEnd : Room := { frames := 1, cells := 0, slots := 0, locals := 23 }
set_option maxHeartbeats 4000000 in
theorem c_J13_checkBoundsBeginEnd (D : zD) (A : Nat → Prop) {I : Heap → Prop} {a c z : Int} (h : 0 ≤ a ∧ a ≤ c ∧ c ≤ z) (hz : zR z) : zC D yJ13_checkBoundsBeginEnd cJ13_checkBoundsBeginEnd 3 none none rmJ13_checkBoundsBeginEnd A [zI (a), zI (c), zI (z)] (I) (zPv I) (zNo) := by
  refine zC_start (L := [some (zI (a)), some (zI (c)), some (zI (z))]) (by decide) (Nat.le_of_ble_eq_true rfl) rfl (fun X hX => ?_)
  refine z_iload_n (i := 0) (q := 1) hX dJ13_checkBoundsBeginEnd_0 rfl rfl rfl ?_
  refine z_iload_n (i := 1) (q := 2) hX dJ13_checkBoundsBeginEnd_1 rfl rfl rfl ?_
  refine z_iload_n (i := 2) (q := 3) hX dJ13_checkBoundsBeginEnd_2 rfl rfl rfl ?_
  refine zr_getsQ (q := 6) hX (fun _ _ h => h.2.2.1) dJ13_checkBoundsBeginEnd_3 q626 rfl (fun r3 => ?_)
  refine z_S (na := 4) hX dJ13_checkBoundsBeginEnd_6 (c_J14_checkFromToIndex D A (by first | assumption | omega | decide) (by first | assumption | omega | decide)) q826 q827 q117 q828 (by decide +kernel) ⟨Nat.le_of_ble_eq_true rfl, Nat.le_of_ble_eq_true rfl⟩ rfl rfl (Nat.le_of_ble_eq_true rfl) rfl (by first | exact Nat.le_of_ble_eq_true rfl | (show _ + 0 ≤ 0; omega)) (by first | exact Nat.le_of_ble_eq_true rfl | (show _ + 0 ≤ 0; omega)) (fun H h => h) (fun E a => zT.no) (zPd.out ?_)
  show zG X (_ + 0) (_ + 0) _ 9 _ _
  refine z_pop (q := 10) hX dJ13_checkBoundsBeginEnd_9 rfl rfl ?_
  exact z_vret hX dJ13_checkBoundsBeginEnd_10 (by first | exact Nat.le_of_ble_eq_true rfl | (show (_ : Nat) ≤ 0; omega)) (by first | exact Nat.le_of_ble_eq_true rfl | (show (_ : Nat) ≤ 0; omega)) rfl (fun H h => ⟨rfl, h⟩)
abbrev rmJ13_substring : Room := { frames := 4, cells := 2, slots := 100, locals := 108 }
set_option maxHeartbeats 4000000 in
theorem c_J13_substring (D : zD) (A : Nat → Prop) {w m : zMp} {b : Nat} {s : zS} {a z : Nat} (hm : w b = some (eS s)) (hz : a + z ≤ s.length) (h84 : 1 ≤ z ∧ z ≤ 84) : zC D yJ13_substring cJ13_substring 5 (some (.object "java/lang/String")) none rmJ13_substring A [.ref b, zI ((a : Int)), zI (((a : Int) + (z : Int)))] (cI D A w m) (zPe (fun (x : Nat × zMp) => some (.ref x.1)) (fun x => zNs w (subS s a z) x) (fun x => cI D A x.2 m)) (zNo) := by
  refine zC_start (L := [some (.ref b), some (zI ((a : Int))), some (zI (((a : Int) + (z : Int)))), none, none]) (by decide) (Nat.le_of_ble_eq_true rfl) rfl (fun X hX => ?_)
  refine zG.know (fun H h => (h.rdS (Or.inl hm)).1) (fun hs => ?_)
  have hl9 := hs.1
  refine z_aload_n (i := 0) (q := 1) hX dJ13_substring_0 rfl rfl rfl ?_
  refine z_V (ci := ciJ13) (T := TJ13) (N := 4) (na := 0) hX dJ13_substring_1 (c_J13_length D A (by first | assumption | exact Or.inl (by assumption) | exact Or.inr (by first | assumption | exact upm_same _ _ _ | exact (upm_ne _ _ (by first | assumption | exact Ne.symm (by assumption) | omega | exact ne_mp (m := m) (by assumption) (by assumption) | exact Ne.symm (ne_mp (m := m) (by assumption) (by assumption)) | exact ne_mp (m := w) (by assumption) (by assumption) | exact Ne.symm (ne_mp (m := w) (by assumption) (by assumption)))).trans (by first | assumption | exact upm_same _ _ _ | exact (upm_ne _ _ (by first | assumption | exact Ne.symm (by assumption) | omega | exact ne_mp (m := m) (by assumption) (by assumption) | exact Ne.symm (ne_mp (m := m) (by assumption) (by assumption)) | exact ne_mp (m := w) (by assumption) (by assumption) | exact Ne.symm (ne_mp (m := w) (by assumption) (by assumption)))).trans (by first | assumption | exact upm_same _ _ _ | exact (upm_ne _ _ (by first | assumption | exact Ne.symm (by assumption) | omega | exact ne_mp (m := m) (by assumption) (by assumption) | exact Ne.symm (ne_mp (m := m) (by assumption) (by assumption)) | exact ne_mp (m := w) (by assumption) (by assumption) | exact Ne.symm (ne_mp (m := w) (by assumption) (by assumption)))).trans (by first | assumption | exact upm_same _ _ _)))))) rfl q1344 q538 q539 q116 q540 (by decide +kernel) ⟨Nat.le_of_ble_eq_true rfl, Nat.le_of_ble_eq_true rfl⟩ rfl rfl (Nat.le_of_ble_eq_true rfl) rfl (by first | exact Nat.le_of_ble_eq_true rfl | (show _ + 0 ≤ 2; omega)) (by first | exact Nat.le_of_ble_eq_true rfl | (show _ + 0 ≤ 100; omega)) (fun H h => ⟨h, h.obS (Or.inl hm)⟩) (fun E a => zT.no) (zPd.out ?_)
  show zG X (_ + 0) (_ + 0) _ 4 _ _
  refine z_istore_n (i := 3) (q := 5) hX dJ13_substring_4 rfl (Nat.le_of_ble_eq_true rfl) rfl rfl ?_
  refine z_iload_n (i := 1) (q := 6) hX dJ13_substring_5 rfl rfl rfl ?_
  refine z_iload_n (i := 2) (q := 7) hX dJ13_substring_6 rfl rfl rfl ?_
  refine z_iload_n (i := 3) (q := 8) hX dJ13_substring_7 rfl rfl rfl ?_
  refine z_S (na := 3) hX dJ13_substring_8 (c_J13_checkBoundsBeginEnd D A ⟨by omega, by omega, by omega⟩ ⟨by omega, by omega⟩) q1345 q824 q116 q825 (by decide +kernel) ⟨Nat.le_of_ble_eq_true rfl, Nat.le_of_ble_eq_true rfl⟩ rfl rfl (Nat.le_of_ble_eq_true rfl) rfl (by first | exact Nat.le_of_ble_eq_true rfl | (show _ + 0 ≤ 2; omega)) (by first | exact Nat.le_of_ble_eq_true rfl | (show _ + 0 ≤ 100; omega)) (fun H h => h) (fun E a => zT.no) (zPv.out ?_)
  show zG X (_ + 0) (_ + 0) _ 11 _ _
  refine z_iload_n (i := 1) (q := 12) hX dJ13_substring_11 rfl rfl rfl ?_
  refine z_if_ne (q := 15) (t := 22) hX dJ13_substring_12 (by decide) ⟨by omega, by omega⟩ rfl (fun h12 => ?_) (fun h12 => ?_)
  · refine z_iload_n (i := 2) (q := 23) hX dJ13_substring_22 rfl rfl rfl ?_
    refine z_iload_n (i := 1) (q := 24) hX dJ13_substring_23 rfl rfl rfl ?_
    refine z_isub (q := 25) hX dJ13_substring_24 rfl ?_
    rw [show (a : Int) + (z : Int) - (a : Int) = (z : Int) by omega]
    refine z_istore (q := 27) hX dJ13_substring_25 (Nat.le_of_ble_eq_true rfl) rfl rfl ?_
    refine zG.arS (Or.inl hm) (fun d hs => ?_)
    refine z_aload_n (i := 0) (q := 28) hX dJ13_substring_27 rfl rfl rfl ?_
    refine z_V (ci := ciJ13) (T := TJ13) (N := 4) (na := 0) hX dJ13_substring_28 (c_J13_isLatin1 D A (fun H h => h.1.2.1)) rfl q616 q617 q618 q116 q619 (by decide +kernel) ⟨Nat.le_of_ble_eq_true rfl, Nat.le_of_ble_eq_true rfl⟩ rfl rfl (Nat.le_of_ble_eq_true rfl) rfl (by first | exact Nat.le_of_ble_eq_true rfl | (show _ + 0 ≤ 2; omega)) (by first | exact Nat.le_of_ble_eq_true rfl | (show _ + 0 ≤ 100; omega)) (fun H h => ⟨h, h.1.2.1.ob⟩) (fun E a => zT.no) (zPd.out ?_)
    show zG X (_ + 0) (_ + 0) _ 31 _ _
    refine z_if_eq (q := 34) (t := 47) hX dJ13_substring_31 (by decide) (by decide) rfl (fun h31 => ?_) (fun h31 => ?_)
    · exact absurd h31 (by decide)
    · refine z_aload_n (i := 0) (q := 35) hX dJ13_substring_34 rfl rfl rfl ?_
      refine zr_get (C := RJ13) (T := TJ13) (N := 4) (q := 38) hX ciJ13 0 rfl (by decide) in_J13 dJ13_substring_35 q968 (Or.inl rfl) (fun H h => h.1.1) rfl ?_
      refine z_iload_n (i := 1) (q := 39) hX dJ13_substring_38 rfl rfl rfl ?_
      refine z_iload (q := 41) hX dJ13_substring_39 rfl rfl ?_
      refine z_S (na := 3) hX dJ13_substring_41 (c_J16_newString D A (fun H h => h.2.2) (fun H H1 h ho => ⟨h.1.kept (ho _ h.1.lt), h.2.1.kept (ho _ h.2.1.lt), h.2.2.kept (ho _ h.2.2.lt)⟩) (fun q1 q2 => False.elim (by omega)) hs hz h84) q1346 q1347 q119 q1348 (by decide +kernel) ⟨Nat.le_of_ble_eq_true rfl, Nat.le_of_ble_eq_true rfl⟩ rfl rfl (Nat.le_of_ble_eq_true rfl) rfl (by first | exact Nat.le_of_ble_eq_true rfl | (show _ + 2 ≤ 2; omega)) (by first | exact Nat.le_of_ble_eq_true rfl | (show _ + 100 ≤ 100; omega)) (fun H h => h) (fun E a => zT.no) (zPe.out (fun x41 hx41 => ?_))
      show zG X (_ + 2) (_ + 100) _ 44 _ _
      refine z_goto (t := 57) hX dJ13_substring_44 (by decide) ?_
      exact z_aret hX dJ13_substring_57 (by first | exact Nat.le_of_ble_eq_true rfl | (show (_ : Nat) ≤ 2; omega)) (by first | exact Nat.le_of_ble_eq_true rfl | (show (_ : Nat) ≤ 100; omega)) rfl (by first | exact Or.inl ⟨_, rfl⟩ | exact Or.inr ⟨_, rfl⟩) (by first | exact Or.inl rfl | exact Or.inr ⟨_, rfl⟩) (fun H h => ⟨x41, rfl, hx41, h⟩)
  · refine z_iload_n (i := 2) (q := 16) hX dJ13_substring_15 rfl rfl rfl ?_
    refine z_iload_n (i := 3) (q := 17) hX dJ13_substring_16 rfl rfl rfl ?_
    refine z_icmp_ne (q := 20) (t := 22) hX dJ13_substring_17 (by decide) ⟨by omega, by omega⟩ ⟨by omega, by omega⟩ rfl (fun h17 => ?_) (fun h17 => ?_)
    · refine z_iload_n (i := 2) (q := 23) hX dJ13_substring_22 rfl rfl rfl ?_
      refine z_iload_n (i := 1) (q := 24) hX dJ13_substring_23 rfl rfl rfl ?_
      refine z_isub (q := 25) hX dJ13_substring_24 rfl ?_
      rw [show (a : Int) + (z : Int) - (a : Int) = (z : Int) by omega]
      refine z_istore (q := 27) hX dJ13_substring_25 (Nat.le_of_ble_eq_true rfl) rfl rfl ?_
      refine zG.arS (Or.inl hm) (fun d hs => ?_)
      refine z_aload_n (i := 0) (q := 28) hX dJ13_substring_27 rfl rfl rfl ?_
      refine z_V (ci := ciJ13) (T := TJ13) (N := 4) (na := 0) hX dJ13_substring_28 (c_J13_isLatin1 D A (fun H h => h.1.2.1)) rfl q616 q617 q618 q116 q619 (by decide +kernel) ⟨Nat.le_of_ble_eq_true rfl, Nat.le_of_ble_eq_true rfl⟩ rfl rfl (Nat.le_of_ble_eq_true rfl) rfl (by first | exact Nat.le_of_ble_eq_true rfl | (show _ + 0 ≤ 2; omega)) (by first | exact Nat.le_of_ble_eq_true rfl | (show _ + 0 ≤ 100; omega)) (fun H h => ⟨h, h.1.2.1.ob⟩) (fun E a => zT.no) (zPd.out ?_)
      show zG X (_ + 0) (_ + 0) _ 31 _ _
      refine z_if_eq (q := 34) (t := 47) hX dJ13_substring_31 (by decide) (by decide) rfl (fun h31 => ?_) (fun h31 => ?_)
      · exact absurd h31 (by decide)
      · refine z_aload_n (i := 0) (q := 35) hX dJ13_substring_34 rfl rfl rfl ?_
        refine zr_get (C := RJ13) (T := TJ13) (N := 4) (q := 38) hX ciJ13 0 rfl (by decide) in_J13 dJ13_substring_35 q968 (Or.inl rfl) (fun H h => h.1.1) rfl ?_
        refine z_iload_n (i := 1) (q := 39) hX dJ13_substring_38 rfl rfl rfl ?_
        refine z_iload (q := 41) hX dJ13_substring_39 rfl rfl ?_
        refine z_S (na := 3) hX dJ13_substring_41 (c_J16_newString D A (fun H h => h.2.2) (fun H H1 h ho => ⟨h.1.kept (ho _ h.1.lt), h.2.1.kept (ho _ h.2.1.lt), h.2.2.kept (ho _ h.2.2.lt)⟩) (fun q1 q2 => False.elim (by omega)) hs hz h84) q1346 q1347 q119 q1348 (by decide +kernel) ⟨Nat.le_of_ble_eq_true rfl, Nat.le_of_ble_eq_true rfl⟩ rfl rfl (Nat.le_of_ble_eq_true rfl) rfl (by first | exact Nat.le_of_ble_eq_true rfl | (show _ + 2 ≤ 2; omega)) (by first | exact Nat.le_of_ble_eq_true rfl | (show _ + 100 ≤ 100; omega)) (fun H h => h) (fun E a => zT.no) (zPe.out (fun x41 hx41 => ?_))
        show zG X (_ + 2) (_ + 100) _ 44 _ _
        refine z_goto (t := 57) hX dJ13_substring_44 (by decide) ?_
        exact z_aret hX dJ13_substring_57 (by first | exact Nat.le_of_ble_eq_true rfl | (show (_ : Nat) ≤ 2; omega)) (by first | exact Nat.le_of_ble_eq_true rfl | (show (_ : Nat) ≤ 100; omega)) rfl (by first | exact Or.inl ⟨_, rfl⟩ | exact Or.inr ⟨_, rfl⟩) (by first | exact Or.inl rfl | exact Or.inr ⟨_, rfl⟩) (fun H h => ⟨x41, rfl, hx41, h⟩)
    · refine z_aload_n (i := 0) (q := 21) hX dJ13_substring_20 rfl rfl rfl ?_
      exact z_aret hX dJ13_substring_21 (by first | exact Nat.le_of_ble_eq_true rfl | (show (_ : Nat) ≤ 2; omega)) (by first | exact Nat.le_of_ble_eq_true rfl | (show (_ : Nat) ≤ 100; omega)) rfl (by first | exact Or.inl ⟨_, rfl⟩ | exact Or.inr ⟨_, rfl⟩) (by first | exact Or.inl rfl | exact Or.inr ⟨_, rfl⟩) (fun H h => ⟨(b, w), rfl, ⟨zLe.rf, by have e1 : a = 0 := by { omega }; have e2 : z = s.length := by { omega }; show w b = some (eS (subS s a z)); rw [e1, e2, subS_all]; exact hm⟩, h⟩)
