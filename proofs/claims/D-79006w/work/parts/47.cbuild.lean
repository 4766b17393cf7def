/-! JDK: String.valueOf(char[], int, int); StringBuilder -/
set_option maxRecDepth 100000
abbrev rmJ14_checkFromIndexSize : Room := { frames := 0, cells := 0, slots := 0, locals := 0 }
set_option maxHeartbeats 4000000 in
theorem c_J14_checkFromIndexSize (D : zD) (A : Nat → Prop) {I : Heap → Prop} {a c z : Int} {r : Option Nat} (h : 0 ≤ a ∧ 0 ≤ c ∧ a + c ≤ z) (hz : 0 ≤ z ∧ z ≤ 100000) : zC D yJ14_checkFromIndexSize cJ14_checkFromIndexSize 4 (some .int) none rmJ14_checkFromIndexSize A [zI (a), zI (c), zI (z), va_rf r] (I) (zPd (zI a) I) (zNo) := by
  refine zC_start (L := [some (zI (a)), some (zI (c)), some (zI (z)), some (va_rf r)]) (by decide) (by cases r <;> exact Nat.le_of_ble_eq_true rfl) (by cases r <;> rfl) (fun X hX => ?_)
  obtain ⟨r1, k1, k2⟩ := or_nn (a := z) (b := a) ⟨by omega, by omega⟩ ⟨by omega, by omega⟩
  obtain ⟨r2, k3, k4⟩ := or_nn (a := r1) (b := c) k1 ⟨by omega, by omega⟩
  refine z_iload_n (i := 2) (q := 1) hX dJ14_checkFromIndexSize_0 rfl rfl rfl ?_
  refine z_iload_n (i := 0) (q := 2) hX dJ14_checkFromIndexSize_1 rfl rfl rfl ?_
  refine z_ior (q := 3) hX dJ14_checkFromIndexSize_2 k2 rfl ?_
  refine z_iload_n (i := 1) (q := 4) hX dJ14_checkFromIndexSize_3 rfl rfl rfl ?_
  refine z_ior (q := 5) hX dJ14_checkFromIndexSize_4 k4 rfl ?_
  refine z_if_lt (q := 8) (t := 15) hX dJ14_checkFromIndexSize_5 (by decide) ⟨by omega, by omega⟩ rfl (fun h5 => ?_) (fun h5 => ?_)
  · exact absurd h5 (by omega)
  · refine z_iload_n (i := 1) (q := 9) hX dJ14_checkFromIndexSize_8 rfl rfl rfl ?_
    refine z_iload_n (i := 2) (q := 10) hX dJ14_checkFromIndexSize_9 rfl rfl rfl ?_
    refine z_iload_n (i := 0) (q := 11) hX dJ14_checkFromIndexSize_10 rfl rfl rfl ?_
    refine z_isub (q := 12) hX dJ14_checkFromIndexSize_11 rfl ?_
    refine z_icmp_le (q := 15) (t := 23) hX dJ14_checkFromIndexSize_12 (by decide) ⟨by omega, by omega⟩ ⟨by omega, by omega⟩ rfl (fun h12 => ?_) (fun h12 => ?_)
    · refine z_iload_n (i := 0) (q := 24) hX dJ14_checkFromIndexSize_23 rfl rfl rfl ?_
      exact z_iret hX dJ14_checkFromIndexSize_24 (by first | exact Nat.le_of_ble_eq_true rfl | (show (_ : Nat) ≤ 0; omega)) (by first | exact Nat.le_of_ble_eq_true rfl | (show (_ : Nat) ≤ 0; omega)) rfl (fun H h => ⟨rfl, h⟩)
    · exact absurd h12 (by omega)
abbrev rmJ13_checkBoundsOffCount : Room := { frames := 1, cells := 0, slots := 0, locals := 23 }
set_option maxHeartbeats 4000000 in
theorem c_J13_checkBoundsOffCount (D : zD) (A : Nat → Prop) {I : Heap → Prop} {a c z : Int} (h : 0 ≤ a ∧ 0 ≤ c ∧ a + c ≤ z) (hz : 0 ≤ z ∧ z ≤ 100000) : zC D yJ13_checkBoundsOffCount cJ13_checkBoundsOffCount 3 (some .int) none rmJ13_checkBoundsOffCount A [zI (a), zI (c), zI (z)] (I) (zPd (zI a) I) (zNo) := by
  refine zC_start (L := [some (zI (a)), some (zI (c)), some (zI (z))]) (by decide) (Nat.le_of_ble_eq_true rfl) rfl (fun X hX => ?_)
  refine z_iload_n (i := 0) (q := 1) hX dJ13_checkBoundsOffCount_0 rfl rfl rfl ?_
  refine z_iload_n (i := 1) (q := 2) hX dJ13_checkBoundsOffCount_1 rfl rfl rfl ?_
  refine z_iload_n (i := 2) (q := 3) hX dJ13_checkBoundsOffCount_2 rfl rfl rfl ?_
  refine zr_getsQ (q := 6) hX (fun _ _ h => h.2.2.1) dJ13_checkBoundsOffCount_3 q626 rfl (fun r3 => ?_)
  refine z_S (na := 4) hX dJ13_checkBoundsOffCount_6 (c_J14_checkFromIndexSize D A (by first | assumption | omega | decide) (by first | assumption | omega | decide)) q858 q859 q117 q860 (by decide +kernel) ⟨Nat.le_of_ble_eq_true rfl, Nat.le_of_ble_eq_true rfl⟩ rfl rfl (Nat.le_of_ble_eq_true rfl) rfl (by first | exact Nat.le_of_ble_eq_true rfl | (show _ + 0 ≤ 0; omega)) (by first | exact Nat.le_of_ble_eq_true rfl | (show _ + 0 ≤ 0; omega)) (fun H h => h) (fun E a => zT.no) (zPd.out ?_)
  show zG X (_ + 0) (_ + 0) _ 9 _ _
  exact z_iret hX dJ13_checkBoundsOffCount_9 (by first | exact Nat.le_of_ble_eq_true rfl | (show (_ : Nat) ≤ 0; omega)) (by first | exact Nat.le_of_ble_eq_true rfl | (show (_ : Nat) ≤ 0; omega)) rfl (fun H h => ⟨rfl, h⟩)
abbrev rmJ13_rangeCheck : Room := { frames := 2, cells := 0, slots := 0, locals := 45 }
set_option maxHeartbeats 4000000 in
theorem c_J13_rangeCheck (D : zD) (A : Nat → Prop) {w m : zMp} {d N : Nat} {f : Nat → Int32} {a c : Int} (hm : m d = some (eC (aN D 1 N f))) (h : 0 ≤ a ∧ 0 ≤ c ∧ a + c ≤ N) (hN : N ≤ 1000) : zC D yJ13_rangeCheck cJ13_rangeCheck 3 (some (.object "java/lang/Void")) none rmJ13_rangeCheck A [.ref d, zI (a), zI (c)] (cI D A w m) (zPd .null (cI D A w m)) (zNo) := by
  refine zC_start (L := [some (.ref d), some (zI (a)), some (zI (c))]) (by decide) (Nat.le_of_ble_eq_true rfl) rfl (fun X hX => ?_)
  refine z_iload_n (i := 1) (q := 1) hX dJ13_rangeCheck_0 rfl rfl rfl ?_
  refine z_iload_n (i := 2) (q := 2) hX dJ13_rangeCheck_1 rfl rfl rfl ?_
  refine z_aload_n (i := 0) (q := 3) hX dJ13_rangeCheck_2 rfl rfl rfl ?_
  refine zr_alen (q := 4) hX 1 rfl dJ13_rangeCheck_3 (fun H h => (cI.at h (by first | assumption | exact Or.inl (by assumption) | exact Or.inr (by first | assumption | exact upm_same _ _ _ | exact (upm_ne _ _ (by first | assumption | exact Ne.symm (by assumption) | omega | exact ne_mp (m := m) (by assumption) (by assumption) | exact Ne.symm (ne_mp (m := m) (by assumption) (by assumption)) | exact ne_mp (m := w) (by assumption) (by assumption) | exact Ne.symm (ne_mp (m := w) (by assumption) (by assumption)))).trans (by first | assumption | exact upm_same _ _ _ | exact (upm_ne _ _ (by first | assumption | exact Ne.symm (by assumption) | omega | exact ne_mp (m := m) (by assumption) (by assumption) | exact Ne.symm (ne_mp (m := m) (by assumption) (by assumption)) | exact ne_mp (m := w) (by assumption) (by assumption) | exact Ne.symm (ne_mp (m := w) (by assumption) (by assumption)))).trans (by first | assumption | exact upm_same _ _ _ | exact (upm_ne _ _ (by first | assumption | exact Ne.symm (by assumption) | omega | exact ne_mp (m := m) (by assumption) (by assumption) | exact Ne.symm (ne_mp (m := m) (by assumption) (by assumption)) | exact ne_mp (m := w) (by assumption) (by assumption) | exact Ne.symm (ne_mp (m := w) (by assumption) (by assumption)))).trans (by first | assumption | exact upm_same _ _ _)))))).raN) rfl ?_
  refine z_S (na := 3) hX dJ13_rangeCheck_4 (c_J13_checkBoundsOffCount D A h ⟨by omega, by omega⟩) q1101 q856 q116 q857 (by decide +kernel) ⟨Nat.le_of_ble_eq_true rfl, Nat.le_of_ble_eq_true rfl⟩ rfl rfl (Nat.le_of_ble_eq_true rfl) rfl (by first | exact Nat.le_of_ble_eq_true rfl | (show _ + 0 ≤ 0; omega)) (by first | exact Nat.le_of_ble_eq_true rfl | (show _ + 0 ≤ 0; omega)) (fun H h => h) (fun E a => zT.no) (zPd.out ?_)
  show zG X (_ + 0) (_ + 0) _ 7 _ _
  refine z_pop (q := 8) hX dJ13_rangeCheck_7 rfl rfl ?_
  refine z_null (q := 9) hX dJ13_rangeCheck_8 rfl ?_
  exact z_aret hX dJ13_rangeCheck_9 (by first | exact Nat.le_of_ble_eq_true rfl | (show (_ : Nat) ≤ 0; omega)) (by first | exact Nat.le_of_ble_eq_true rfl | (show (_ : Nat) ≤ 0; omega)) rfl (by first | exact Or.inl ⟨_, rfl⟩ | exact Or.inr ⟨_, rfl⟩) (by first | exact Or.inl rfl | exact Or.inr ⟨_, rfl⟩) (fun H h => ⟨rfl, h⟩)
abbrev rmJ15_compress_4 : Room := { frames := 0, cells := 0, slots := 0, locals := 0 }
set_option maxHeartbeats 4000000 in
theorem c_J15_compress_4 (D : zD) (A : Nat → Prop) {w m : zMp} {d e N a n : Nat} {f g0 : Nat → Int32} {s : zS} (hm : m d = some (eC (aN D 1 N f))) (he : m e = some (eC (aN D 2 n g0))) (hde : d ≠ e) (hsl : s.length = n) (hs : zCh s) (hf : ∀ j : Nat, j < n → f (a + j) = Int32.ofInt (cT s j)) (h : a + n ≤ N) (hN : N ≤ 1000) : zC D yJ15_compress_4 cJ15_compress_4 7 (some .int) none rmJ15_compress_4 A [.ref d, zI ((a : Int)), .ref e, zI (0), zI ((n : Int))] (cI D A w m) (zPe (fun (g : Nat → Int32) => some (zI (n : Int))) (fun g => ∀ j : Nat, j < n → g j = Int32.ofInt (cT s j)) (fun g => cI D A w (upm m e (eC (aN D 2 n g))))) (zNo) := by
  refine zC_start (L := [some (.ref d), some (zI ((a : Int))), some (.ref e), some (zI (0)), some (zI ((n : Int))), none, none]) (by decide) (Nat.le_of_ble_eq_true rfl) rfl (fun X hX => ?_)
  have K : ∀ k : Nat, k ≤ n → ∀ (g : Nat → Int32) (p q r : Int) (v : Option Value), (∀ j : Nat, j < k → g j = Int32.ofInt (cT s j)) → p = (a : Int) + k → q = k → r = k → zG X 0 0 (cI D A w (upm m e (eC (aN D 2 n g)))) 3 [some (.ref d), some (zI p), some (.ref e), some (zI q), some (zI (n : Int)), some (zI r), v] [] := by
    refine z_up (fun k hk ih g p q r v hg ep eq er => ?_)
    subst ep
    subst eq
    subst er
    refine z_iload (q := 5) hX dJ15_compress_4_3 rfl rfl ?_
    refine z_iload (q := 7) hX dJ15_compress_4_5 rfl rfl ?_
    refine z_icmp_ge (q := 10) (t := 44) hX dJ15_compress_4_7 (by decide) ⟨by omega, by omega⟩ ⟨by omega, by omega⟩ rfl (fun h7 => ?_) (fun h7 => ?_)
    · refine z_iload (q := 46) hX dJ15_compress_4_44 rfl rfl ?_
      exact z_iret hX dJ15_compress_4_46 (by first | exact Nat.le_of_ble_eq_true rfl | (show (_ : Nat) ≤ 0; omega)) (by first | exact Nat.le_of_ble_eq_true rfl | (show (_ : Nat) ≤ 0; omega)) rfl (fun H h => ⟨g, rfl, fun j hj => hg j (by omega), h⟩)
    · have hc := hs.2 _ (cT_mem (s := s) (i := (k : Int)) (by omega) (by omega))
      refine z_aload_n (i := 0) (q := 11) hX dJ15_compress_4_10 rfl rfl rfl ?_
      refine z_iload_n (i := 1) (q := 12) hX dJ15_compress_4_11 rfl rfl rfl ?_
      refine zr_cald (q := 13) hX dJ15_compress_4_12 (fun H h => (cI.at h (by first | assumption | exact Or.inl (by assumption) | exact Or.inr (by first | assumption | exact upm_same _ _ _ | exact (upm_ne _ _ (by first | assumption | exact Ne.symm (by assumption) | omega | exact ne_mp (m := m) (by assumption) (by assumption) | exact Ne.symm (ne_mp (m := m) (by assumption) (by assumption)) | exact ne_mp (m := w) (by assumption) (by assumption) | exact Ne.symm (ne_mp (m := w) (by assumption) (by assumption)))).trans (by first | assumption | exact upm_same _ _ _ | exact (upm_ne _ _ (by first | assumption | exact Ne.symm (by assumption) | omega | exact ne_mp (m := m) (by assumption) (by assumption) | exact Ne.symm (ne_mp (m := m) (by assumption) (by assumption)) | exact ne_mp (m := w) (by assumption) (by assumption) | exact Ne.symm (ne_mp (m := w) (by assumption) (by assumption)))).trans (by first | assumption | exact upm_same _ _ _ | exact (upm_ne _ _ (by first | assumption | exact Ne.symm (by assumption) | omega | exact ne_mp (m := m) (by assumption) (by assumption) | exact Ne.symm (ne_mp (m := m) (by assumption) (by assumption)) | exact ne_mp (m := w) (by assumption) (by assumption) | exact Ne.symm (ne_mp (m := w) (by assumption) (by assumption)))).trans (by first | assumption | exact upm_same _ _ _)))))).raN) ⟨by omega, by omega⟩ (by first | decide | omega) rfl ?_
      refine zG.top (v2 := zI (cT s (k : Int))) (by show Value.int (f ((a : Int) + (k : Int)).toNat) = _; rw [show ((a : Int) + (k : Int)).toNat = a + k by omega, hf k (by omega)]) ?_
      refine z_istore (q := 15) hX dJ15_compress_4_13 (Nat.le_of_ble_eq_true rfl) rfl rfl ?_
      refine z_iload (q := 17) hX dJ15_compress_4_15 rfl rfl ?_
      refine z_sipush (q := 20) hX dJ15_compress_4_17 (by decide) rfl ?_
      refine z_icmp_le (q := 23) (t := 26) hX dJ15_compress_4_20 (by decide) ⟨by omega, by omega⟩ (by decide) rfl (fun h20 => ?_) (fun h20 => ?_)
      · refine z_aload_n (i := 2) (q := 27) hX dJ15_compress_4_26 rfl rfl rfl ?_
        refine z_iload_n (i := 3) (q := 28) hX dJ15_compress_4_27 rfl rfl rfl ?_
        refine z_iload (q := 30) hX dJ15_compress_4_28 rfl rfl ?_
        refine z_i2b (q := 31) hX dJ15_compress_4_30 (ch_i2b hc) rfl ?_
        refine zc_bast (q := 32) hX dJ15_compress_4_31 (by first | assumption | exact upm_same _ _ _ | exact (upm_ne _ _ (by first | assumption | exact Ne.symm (by assumption) | omega | exact ne_mp (m := m) (by assumption) (by assumption) | exact Ne.symm (ne_mp (m := m) (by assumption) (by assumption)) | exact ne_mp (m := w) (by assumption) (by assumption) | exact Ne.symm (ne_mp (m := w) (by assumption) (by assumption)))).trans (by first | assumption | exact upm_same _ _ _ | exact (upm_ne _ _ (by first | assumption | exact Ne.symm (by assumption) | omega | exact ne_mp (m := m) (by assumption) (by assumption) | exact Ne.symm (ne_mp (m := m) (by assumption) (by assumption)) | exact ne_mp (m := w) (by assumption) (by assumption) | exact Ne.symm (ne_mp (m := w) (by assumption) (by assumption)))).trans (by first | assumption | exact upm_same _ _ _ | exact (upm_ne _ _ (by first | assumption | exact Ne.symm (by assumption) | omega | exact ne_mp (m := m) (by assumption) (by assumption) | exact Ne.symm (ne_mp (m := m) (by assumption) (by assumption)) | exact ne_mp (m := w) (by assumption) (by assumption) | exact Ne.symm (ne_mp (m := w) (by assumption) (by assumption)))).trans (by first | assumption | exact upm_same _ _ _)))) ⟨by omega, by omega⟩ (by first | decide | omega) hc rfl ?_
        refine z_iinc (q := 35) hX dJ15_compress_4_32 rfl (Nat.le_of_ble_eq_true rfl) rfl rfl ?_
        refine z_iinc (q := 38) hX dJ15_compress_4_35 rfl (Nat.le_of_ble_eq_true rfl) rfl rfl ?_
        refine z_iinc (q := 41) hX dJ15_compress_4_38 rfl (Nat.le_of_ble_eq_true rfl) rfl rfl ?_
        refine z_goto (t := 3) hX dJ15_compress_4_41 (by decide) ?_
        refine zG.mono (ih (by omega) (upd g k (Int32.ofInt (cT s (k : Int)))) _ _ _ _ (fun j hj => ?_) rfl rfl rfl) (fun H h => by simp only [upm_upm] at h; exact h)
        by_cases e9 : j = k
        · subst e9
          simp [upd]
        · simp only [upd]
          rw [if_neg e9]
          exact hg j (by omega)
      · exact absurd h20 (by omega)
  refine z_iconst (q := 1) hX dJ15_compress_4_0 rfl ?_
  refine z_istore (q := 3) hX dJ15_compress_4_1 (Nat.le_of_ble_eq_true rfl) rfl rfl ?_
  exact zG.mono (K 0 (Nat.zero_le _) g0 _ _ _ _ (fun j hj => absurd hj (Nat.not_lt_zero j)) (by omega) rfl rfl) (fun H h => h.eqv (fun c => by by_cases h3 : c = e <;> simp [upm, h3, he]))
abbrev rmJ15_compress_3 : Room := { frames := 1, cells := 1, slots := 84, locals := 26 }
set_option maxHeartbeats 4000000 in
theorem c_J15_compress_3 (D : zD) (A : Nat → Prop) {w m : zMp} {d N a n : Nat} {f : Nat → Int32} {s : zS} (hm : m d = some (eC (aN D 1 N f))) (hsl : s.length = n) (hs : zCh s) (hf : ∀ j : Nat, j < n → f (a + j) = Int32.ofInt (cT s j)) (h : a + n ≤ N) (hN : N ≤ 1000) (h84 : n ≤ 84) : zC D yJ15_compress_3 cJ15_compress_3 6 (some (.array .byte)) none rmJ15_compress_3 A [.ref d, zI ((a : Int)), zI ((n : Int))] (cI D A w m) (zPe (fun (x : Nat × (Nat → Int32)) => some (.ref x.1)) (fun x => w x.1 = none ∧ m x.1 = none ∧ ∀ j : Nat, j < n → x.2 j = Int32.ofInt (cT s j)) (fun x => cI D A w (upm m x.1 (eC (aN D 2 n x.2))))) (zNo) := by
  refine zC_start (L := [some (.ref d), some (zI ((a : Int))), some (zI ((n : Int))), none, none, none]) (by decide) (Nat.le_of_ble_eq_true rfl) rfl (fun X hX => ?_)
  refine z_iload_n (i := 2) (q := 1) hX dJ15_compress_3_0 rfl rfl rfl ?_
  refine zc_newaN (q := 3) (at_ := .byte) (ty := .byte) hX 2 rfl rfl (fun _ s cA h => h) rfl dJ15_compress_3_1 q779 (by omega) (by decide) (by first | exact Nat.le_of_ble_eq_true rfl | (show _ + 1 ≤ 1; omega)) (by first | exact Nat.le_of_ble_eq_true rfl | omega | (show _ ≤ 84; omega)) rfl (fun a1 ha1 hb1 => ?_)
  have n1 := hb1
  try simp only [upm_none] at n1
  repeat (have := And.left n1; replace n1 := And.right n1)
  simp only [Int.toNat_natCast]
  refine z_astore_n (i := 3) (q := 4) hX dJ15_compress_3_3 rfl (Nat.le_of_ble_eq_true rfl) rfl rfl ?_
  refine z_aload_n (i := 0) (q := 5) hX dJ15_compress_3_4 rfl rfl rfl ?_
  refine z_iload_n (i := 1) (q := 6) hX dJ15_compress_3_5 rfl rfl rfl ?_
  refine z_aload_n (i := 3) (q := 7) hX dJ15_compress_3_6 rfl rfl rfl ?_
  refine z_iconst (q := 8) hX dJ15_compress_3_7 rfl ?_
  refine z_iload_n (i := 2) (q := 9) hX dJ15_compress_3_8 rfl rfl rfl ?_
  refine z_S (na := 5) hX dJ15_compress_3_9 (c_J15_compress_4 D A ((upm_ne _ _ (Ne.symm (ne_mp hb1 hm))).trans hm) (upm_same _ _ _) (Ne.symm (ne_mp hb1 hm)) hsl hs hf h hN) q1109 q1110 q118 q1111 (by decide +kernel) ⟨Nat.le_of_ble_eq_true rfl, Nat.le_of_ble_eq_true rfl⟩ rfl rfl (Nat.le_of_ble_eq_true rfl) rfl (by first | exact Nat.le_of_ble_eq_true rfl | (show _ + 0 ≤ 1; omega)) (by first | exact Nat.le_of_ble_eq_true rfl | (show _ + 0 ≤ 84; omega)) (fun H h => h) (fun E a => zT.no) (zPe.out (fun x9 hx9 => ?_))
  show zG X (_ + 0) (_ + 0) _ 12 _ _
  refine z_istore (q := 14) hX dJ15_compress_3_12 (Nat.le_of_ble_eq_true rfl) rfl rfl ?_
  refine z_iload (q := 16) hX dJ15_compress_3_14 rfl rfl ?_
  refine z_iload_n (i := 2) (q := 17) hX dJ15_compress_3_16 rfl rfl rfl ?_
  refine z_icmp_eq (q := 20) (t := 57) hX dJ15_compress_3_17 (by decide) ⟨by omega, by omega⟩ ⟨by omega, by omega⟩ rfl (fun h17 => ?_) (fun h17 => ?_)
  · refine z_aload_n (i := 3) (q := 58) hX dJ15_compress_3_57 rfl rfl rfl ?_
    exact z_aret hX dJ15_compress_3_58 (by first | exact Nat.le_of_ble_eq_true rfl | (show (_ : Nat) ≤ 1; omega)) (by first | exact Nat.le_of_ble_eq_true rfl | (show (_ : Nat) ≤ 84; omega)) rfl (by first | exact Or.inl ⟨_, rfl⟩ | exact Or.inr ⟨_, rfl⟩) (by first | exact Or.inl rfl | exact Or.inr ⟨_, rfl⟩) (fun H h => ⟨(a1, x9), rfl, ⟨ha1, hb1, hx9⟩, by simp only [upm_upm] at h; exact h⟩)
  · exact absurd rfl h17
abbrev rmJ15_coderFromArrayLen : Room := { frames := 0, cells := 0, slots := 0, locals := 0 }
set_option maxHeartbeats 4000000 in
theorem c_J15_coderFromArrayLen (D : zD) (A : Nat → Prop) {w m : zMp} {d n : Nat} {f : Nat → Int32} (hm : m d = some (eC (aN D 2 n f))) : zC D yJ15_coderFromArrayLen cJ15_coderFromArrayLen 2 (some .byte) none rmJ15_coderFromArrayLen A [.ref d, zI ((n : Int))] (cI D A w m) (zPd (zI 0) (cI D A w m)) (zNo) := by
  refine zC_start (L := [some (.ref d), some (zI ((n : Int)))]) (by decide) (Nat.le_of_ble_eq_true rfl) rfl (fun X hX => ?_)
  refine z_iload_n (i := 1) (q := 1) hX dJ15_coderFromArrayLen_0 rfl rfl rfl ?_
  refine z_aload_n (i := 0) (q := 2) hX dJ15_coderFromArrayLen_1 rfl rfl rfl ?_
  refine zr_alen (q := 3) hX 2 rfl dJ15_coderFromArrayLen_2 (fun H h => (cI.at h (by first | assumption | exact Or.inl (by assumption) | exact Or.inr (by first | assumption | exact upm_same _ _ _ | exact (upm_ne _ _ (by first | assumption | exact Ne.symm (by assumption) | omega | exact ne_mp (m := m) (by assumption) (by assumption) | exact Ne.symm (ne_mp (m := m) (by assumption) (by assumption)) | exact ne_mp (m := w) (by assumption) (by assumption) | exact Ne.symm (ne_mp (m := w) (by assumption) (by assumption)))).trans (by first | assumption | exact upm_same _ _ _ | exact (upm_ne _ _ (by first | assumption | exact Ne.symm (by assumption) | omega | exact ne_mp (m := m) (by assumption) (by assumption) | exact Ne.symm (ne_mp (m := m) (by assumption) (by assumption)) | exact ne_mp (m := w) (by assumption) (by assumption) | exact Ne.symm (ne_mp (m := w) (by assumption) (by assumption)))).trans (by first | assumption | exact upm_same _ _ _ | exact (upm_ne _ _ (by first | assumption | exact Ne.symm (by assumption) | omega | exact ne_mp (m := m) (by assumption) (by assumption) | exact Ne.symm (ne_mp (m := m) (by assumption) (by assumption)) | exact ne_mp (m := w) (by assumption) (by assumption) | exact Ne.symm (ne_mp (m := w) (by assumption) (by assumption)))).trans (by first | assumption | exact upm_same _ _ _)))))).raN) rfl ?_
  refine z_isub (q := 4) hX dJ15_coderFromArrayLen_3 rfl ?_
  rw [show (n : Int) - (n : Int) = 0 by omega]
  refine z_bipush (q := 6) hX dJ15_coderFromArrayLen_4 (by decide) rfl ?_
  refine z_iushr (q := 7) hX dJ15_coderFromArrayLen_6 (show _ = Int32.ofInt 0 by decide) rfl ?_
  refine z_i2b (q := 8) hX dJ15_coderFromArrayLen_7 (show _ = Int32.ofInt 0 by decide) rfl ?_
  exact z_nret hX dJ15_coderFromArrayLen_8 (by first | exact Nat.le_of_ble_eq_true rfl | (show (_ : Nat) ≤ 0; omega)) (by first | exact Nat.le_of_ble_eq_true rfl | (show (_ : Nat) ≤ 0; omega)) rfl rfl (fun H h => ⟨rfl, h⟩)
abbrev rmJ13_init_4 : Room := { frames := 2, cells := 1, slots := 84, locals := 51 }
set_option maxHeartbeats 4000000 in
theorem c_J13_init_4 (D : zD) (A : Nat → Prop) {w m : zMp} {b : Nat} {d N a n : Nat} {f : Nat → Int32} {s : zS} {v0 v1 : Value} (hm : m b = some (eO ciJ13 [v0, v1, zI 0, zI 0])) (hd : m d = some (eC (aN D 1 N f))) (hsl : s.length = n) (hs : zCh s) (hf : ∀ j : Nat, j < n → f (a + j) = Int32.ofInt (cT s j)) (h : a + n ≤ N) (hN : N ≤ 1000) (h84 : 1 ≤ n ∧ n ≤ 84) (hw : w b = none) : zC D yJ13_init_4 cJ13_init_4 6 none none rmJ13_init_4 A [.ref b, .ref d, zI ((a : Int)), zI ((n : Int)), .null] (cI D A w m) (zPv (cI D A (upm w b (eS s)) (dlm m b))) (zNo) := by
  refine zC_start (L := [some (.ref b), some (.ref d), some (zI ((a : Int))), some (zI ((n : Int))), some (.null), none]) (by decide) (Nat.le_of_ble_eq_true rfl) rfl (fun X hX => ?_)
  have hbd : d ≠ b := fun e => by rw [e, hm] at hd; cases hd
  refine z_aload_n (i := 0) (q := 1) hX dJ13_init_4_0 rfl rfl rfl ?_
  refine z_objInit (q := 4) hX dJ13_init_4_1 q905 q147 q148 (Nat.le_of_ble_eq_true rfl) rfl ⟨Nat.le_of_ble_eq_true rfl, Nat.le_of_ble_eq_true rfl⟩ rfl ?_
  refine z_iload_n (i := 3) (q := 5) hX dJ13_init_4_4 rfl rfl rfl ?_
  refine z_if_ne (q := 8) (t := 27) hX dJ13_init_4_5 (by decide) ⟨by omega, by omega⟩ rfl (fun h5 => ?_) (fun h5 => ?_)
  · refine zr_gets (q := 30) hX 1 rfl dJ13_init_4_27 q545 rfl ?_
    refine z_if_eq (q := 33) (t := 58) hX dJ13_init_4_30 (by decide) (by omega) rfl (fun h30 => ?_) (fun h30 => ?_)
    · exact absurd h30 (by decide)
    · refine z_aload_n (i := 1) (q := 34) hX dJ13_init_4_33 rfl rfl rfl ?_
      refine z_iload_n (i := 2) (q := 35) hX dJ13_init_4_34 rfl rfl rfl ?_
      refine z_iload_n (i := 3) (q := 36) hX dJ13_init_4_35 rfl rfl rfl ?_
      refine z_S (na := 3) hX dJ13_init_4_36 (c_J15_compress_3 D A hd hsl hs hf h hN h84.2) q1106 q1107 q118 q1108 (by decide +kernel) ⟨Nat.le_of_ble_eq_true rfl, Nat.le_of_ble_eq_true rfl⟩ rfl rfl (Nat.le_of_ble_eq_true rfl) rfl (by first | exact Nat.le_of_ble_eq_true rfl | (show _ + 1 ≤ 1; omega)) (by first | exact Nat.le_of_ble_eq_true rfl | (show _ + 84 ≤ 84; omega)) (fun H h => h) (fun E a => zT.no) (zPe.out (fun x36 hx36 => ?_))
      show zG X (_ + 1) (_ + 84) _ 39 _ _
      obtain ⟨h36w, h36m, h36f⟩ := hx36
      refine z_astore (q := 41) hX dJ13_init_4_39 (Nat.le_of_ble_eq_true rfl) rfl rfl ?_
      refine z_aload_n (i := 0) (q := 42) hX dJ13_init_4_41 rfl rfl rfl ?_
      refine z_aload (q := 44) hX dJ13_init_4_42 rfl rfl ?_
      refine z_iload_n (i := 3) (q := 45) hX dJ13_init_4_44 rfl rfl rfl ?_
      refine z_S (na := 2) hX dJ13_init_4_45 (c_J15_coderFromArrayLen D A (by first | assumption | exact upm_same _ _ _ | exact (upm_ne _ _ (by first | assumption | exact Ne.symm (by assumption) | omega | exact ne_mp (m := m) (by assumption) (by assumption) | exact Ne.symm (ne_mp (m := m) (by assumption) (by assumption)) | exact ne_mp (m := w) (by assumption) (by assumption) | exact Ne.symm (ne_mp (m := w) (by assumption) (by assumption)))).trans (by first | assumption | exact upm_same _ _ _ | exact (upm_ne _ _ (by first | assumption | exact Ne.symm (by assumption) | omega | exact ne_mp (m := m) (by assumption) (by assumption) | exact Ne.symm (ne_mp (m := m) (by assumption) (by assumption)) | exact ne_mp (m := w) (by assumption) (by assumption) | exact Ne.symm (ne_mp (m := w) (by assumption) (by assumption)))).trans (by first | assumption | exact upm_same _ _ _ | exact (upm_ne _ _ (by first | assumption | exact Ne.symm (by assumption) | omega | exact ne_mp (m := m) (by assumption) (by assumption) | exact Ne.symm (ne_mp (m := m) (by assumption) (by assumption)) | exact ne_mp (m := w) (by assumption) (by assumption) | exact Ne.symm (ne_mp (m := w) (by assumption) (by assumption)))).trans (by first | assumption | exact upm_same _ _ _))))) q965 q966 q118 q967 (by decide +kernel) ⟨Nat.le_of_ble_eq_true rfl, Nat.le_of_ble_eq_true rfl⟩ rfl rfl (Nat.le_of_ble_eq_true rfl) rfl (by first | exact Nat.le_of_ble_eq_true rfl | (show _ + 0 ≤ 1; omega)) (by first | exact Nat.le_of_ble_eq_true rfl | (show _ + 0 ≤ 84; omega)) (fun H h => h) (fun E a => zT.no) (zPd.out ?_)
      show zG X (_ + 0) (_ + 0) _ 48 _ _
      refine zc_putF (C := RJ13) (T := TJ13) (N := 4) (q := 51) hX ciJ13 1 rfl (by decide) in_J13 tyJ13_ok nmJ13 dJ13_init_4_48 q969 rfl rfl rfl (by first | assumption | exact upm_same _ _ _ | exact (upm_ne _ _ (by first | assumption | exact Ne.symm (by assumption) | omega | exact ne_mp (m := m) (by assumption) (by assumption) | exact Ne.symm (ne_mp (m := m) (by assumption) (by assumption)) | exact ne_mp (m := w) (by assumption) (by assumption) | exact Ne.symm (ne_mp (m := w) (by assumption) (by assumption)))).trans (by first | assumption | exact upm_same _ _ _ | exact (upm_ne _ _ (by first | assumption | exact Ne.symm (by assumption) | omega | exact ne_mp (m := m) (by assumption) (by assumption) | exact Ne.symm (ne_mp (m := m) (by assumption) (by assumption)) | exact ne_mp (m := w) (by assumption) (by assumption) | exact Ne.symm (ne_mp (m := w) (by assumption) (by assumption)))).trans (by first | assumption | exact upm_same _ _ _ | exact (upm_ne _ _ (by first | assumption | exact Ne.symm (by assumption) | omega | exact ne_mp (m := m) (by assumption) (by assumption) | exact Ne.symm (ne_mp (m := m) (by assumption) (by assumption)) | exact ne_mp (m := w) (by assumption) (by assumption) | exact Ne.symm (ne_mp (m := w) (by assumption) (by assumption)))).trans (by first | assumption | exact upm_same _ _ _)))) (Nat.le_of_ble_eq_true rfl) rfl rfl rfl rfl ?_
      refine z_aload_n (i := 0) (q := 52) hX dJ13_init_4_51 rfl rfl rfl ?_
      refine z_aload (q := 54) hX dJ13_init_4_52 rfl rfl ?_
      refine zc_putF (C := RJ13) (T := TJ13) (N := 4) (q := 57) hX ciJ13 0 rfl (by decide) in_J13 tyJ13_ok nmJ13 dJ13_init_4_54 q968 rfl rfl rfl (by first | assumption | exact upm_same _ _ _ | exact (upm_ne _ _ (by first | assumption | exact Ne.symm (by assumption) | omega | exact ne_mp (m := m) (by assumption) (by assumption) | exact Ne.symm (ne_mp (m := m) (by assumption) (by assumption)) | exact ne_mp (m := w) (by assumption) (by assumption) | exact Ne.symm (ne_mp (m := w) (by assumption) (by assumption)))).trans (by first | assumption | exact upm_same _ _ _ | exact (upm_ne _ _ (by first | assumption | exact Ne.symm (by assumption) | omega | exact ne_mp (m := m) (by assumption) (by assumption) | exact Ne.symm (ne_mp (m := m) (by assumption) (by assumption)) | exact ne_mp (m := w) (by assumption) (by assumption) | exact Ne.symm (ne_mp (m := w) (by assumption) (by assumption)))).trans (by first | assumption | exact upm_same _ _ _ | exact (upm_ne _ _ (by first | assumption | exact Ne.symm (by assumption) | omega | exact ne_mp (m := m) (by assumption) (by assumption) | exact Ne.symm (ne_mp (m := m) (by assumption) (by assumption)) | exact ne_mp (m := w) (by assumption) (by assumption) | exact Ne.symm (ne_mp (m := w) (by assumption) (by assumption)))).trans (by first | assumption | exact upm_same _ _ _)))) (Nat.le_of_ble_eq_true rfl) rfl rfl rfl rfl ?_
      exact z_vret hX dJ13_init_4_57 (by first | exact Nat.le_of_ble_eq_true rfl | (show (_ : Nat) ≤ 1; omega)) (by first | exact Nat.le_of_ble_eq_true rfl | (show (_ : Nat) ≤ 84; omega)) rfl (fun H h => ⟨rfl, cI.clsS (d := x36.1) (n := n) (f := x36.2) (b := b) (v2 := zI 0) (v3 := zI 0) h (upm_same _ _ _) ((upm_ne _ _ (ne_mp h36m hm)).trans ((upm_ne _ _ (ne_mp h36m hm)).trans (upm_same _ _ _))) (ne_mp h36m hm) hsl.symm hs h36f (fun c h1 h2 => by simp [upm, dlm, h1, h2]) (dlm_same _ _) ((dlm_ne _ (ne_mp h36m hm)).trans h36m)⟩)
  · exact absurd h5 (by omega)
abbrev rmJ13_init_3 : Room := { frames := 3, cells := 1, slots := 84, locals := 76 }
set_option maxHeartbeats 4000000 in
theorem c_J13_init_3 (D : zD) (A : Nat → Prop) {w m : zMp} {b : Nat} {d N a n : Nat} {f : Nat → Int32} {s : zS} {v0 v1 : Value} (hm : m b = some (eO ciJ13 [v0, v1, zI 0, zI 0])) (hd : m d = some (eC (aN D 1 N f))) (hsl : s.length = n) (hs : zCh s) (hf : ∀ j : Nat, j < n → f (a + j) = Int32.ofInt (cT s j)) (h : a + n ≤ N) (hN : N ≤ 1000) (h84 : 1 ≤ n ∧ n ≤ 84) (hw : w b = none) : zC D yJ13_init_3 cJ13_init_3 4 none none rmJ13_init_3 A [.ref b, .ref d, zI ((a : Int)), zI ((n : Int))] (cI D A w m) (zPv (cI D A (upm w b (eS s)) (dlm m b))) (zNo) := by
  refine zC_start (L := [some (.ref b), some (.ref d), some (zI ((a : Int))), some (zI ((n : Int)))]) (by decide) (Nat.le_of_ble_eq_true rfl) rfl (fun X hX => ?_)
  refine z_aload_n (i := 0) (q := 1) hX dJ13_init_3_0 rfl rfl rfl ?_
  refine z_aload_n (i := 1) (q := 2) hX dJ13_init_3_1 rfl rfl rfl ?_
  refine z_iload_n (i := 2) (q := 3) hX dJ13_init_3_2 rfl rfl rfl ?_
  refine z_iload_n (i := 3) (q := 4) hX dJ13_init_3_3 rfl rfl rfl ?_
  refine z_aload_n (i := 1) (q := 5) hX dJ13_init_3_4 rfl rfl rfl ?_
  refine z_iload_n (i := 2) (q := 6) hX dJ13_init_3_5 rfl rfl rfl ?_
  refine z_iload_n (i := 3) (q := 7) hX dJ13_init_3_6 rfl rfl rfl ?_
  refine z_S (na := 3) hX dJ13_init_3_7 (c_J13_rangeCheck D A (by first | assumption | exact upm_same _ _ _ | exact (upm_ne _ _ (by first | assumption | exact Ne.symm (by assumption) | omega | exact ne_mp (m := m) (by assumption) (by assumption) | exact Ne.symm (ne_mp (m := m) (by assumption) (by assumption)) | exact ne_mp (m := w) (by assumption) (by assumption) | exact Ne.symm (ne_mp (m := w) (by assumption) (by assumption)))).trans (by first | assumption | exact upm_same _ _ _ | exact (upm_ne _ _ (by first | assumption | exact Ne.symm (by assumption) | omega | exact ne_mp (m := m) (by assumption) (by assumption) | exact Ne.symm (ne_mp (m := m) (by assumption) (by assumption)) | exact ne_mp (m := w) (by assumption) (by assumption) | exact Ne.symm (ne_mp (m := w) (by assumption) (by assumption)))).trans (by first | assumption | exact upm_same _ _ _ | exact (upm_ne _ _ (by first | assumption | exact Ne.symm (by assumption) | omega | exact ne_mp (m := m) (by assumption) (by assumption) | exact Ne.symm (ne_mp (m := m) (by assumption) (by assumption)) | exact ne_mp (m := w) (by assumption) (by assumption) | exact Ne.symm (ne_mp (m := w) (by assumption) (by assumption)))).trans (by first | assumption | exact upm_same _ _ _)))) (by first | assumption | omega | decide) (by first | assumption | omega | decide)) q1098 q1099 q116 q1100 (by decide +kernel) ⟨Nat.le_of_ble_eq_true rfl, Nat.le_of_ble_eq_true rfl⟩ rfl rfl (Nat.le_of_ble_eq_true rfl) rfl (by first | exact Nat.le_of_ble_eq_true rfl | (show _ + 0 ≤ 1; omega)) (by first | exact Nat.le_of_ble_eq_true rfl | (show _ + 0 ≤ 84; omega)) (fun H h => h) (fun E a => zT.no) (zPd.out ?_)
  show zG X (_ + 0) (_ + 0) _ 10 _ _
  refine z_C (na := 4) hX dJ13_init_3_10 (c_J13_init_4 D A (by first | assumption | exact upm_same _ _ _ | exact (upm_ne _ _ (by first | assumption | exact Ne.symm (by assumption) | omega | exact ne_mp (m := m) (by assumption) (by assumption) | exact Ne.symm (ne_mp (m := m) (by assumption) (by assumption)) | exact ne_mp (m := w) (by assumption) (by assumption) | exact Ne.symm (ne_mp (m := w) (by assumption) (by assumption)))).trans (by first | assumption | exact upm_same _ _ _ | exact (upm_ne _ _ (by first | assumption | exact Ne.symm (by assumption) | omega | exact ne_mp (m := m) (by assumption) (by assumption) | exact Ne.symm (ne_mp (m := m) (by assumption) (by assumption)) | exact ne_mp (m := w) (by assumption) (by assumption) | exact Ne.symm (ne_mp (m := w) (by assumption) (by assumption)))).trans (by first | assumption | exact upm_same _ _ _ | exact (upm_ne _ _ (by first | assumption | exact Ne.symm (by assumption) | omega | exact ne_mp (m := m) (by assumption) (by assumption) | exact Ne.symm (ne_mp (m := m) (by assumption) (by assumption)) | exact ne_mp (m := w) (by assumption) (by assumption) | exact Ne.symm (ne_mp (m := w) (by assumption) (by assumption)))).trans (by first | assumption | exact upm_same _ _ _)))) (by first | assumption | exact upm_same _ _ _ | exact (upm_ne _ _ (by first | assumption | exact Ne.symm (by assumption) | omega | exact ne_mp (m := m) (by assumption) (by assumption) | exact Ne.symm (ne_mp (m := m) (by assumption) (by assumption)) | exact ne_mp (m := w) (by assumption) (by assumption) | exact Ne.symm (ne_mp (m := w) (by assumption) (by assumption)))).trans (by first | assumption | exact upm_same _ _ _ | exact (upm_ne _ _ (by first | assumption | exact Ne.symm (by assumption) | omega | exact ne_mp (m := m) (by assumption) (by assumption) | exact Ne.symm (ne_mp (m := m) (by assumption) (by assumption)) | exact ne_mp (m := w) (by assumption) (by assumption) | exact Ne.symm (ne_mp (m := w) (by assumption) (by assumption)))).trans (by first | assumption | exact upm_same _ _ _ | exact (upm_ne _ _ (by first | assumption | exact Ne.symm (by assumption) | omega | exact ne_mp (m := m) (by assumption) (by assumption) | exact Ne.symm (ne_mp (m := m) (by assumption) (by assumption)) | exact ne_mp (m := w) (by assumption) (by assumption) | exact Ne.symm (ne_mp (m := w) (by assumption) (by assumption)))).trans (by first | assumption | exact upm_same _ _ _)))) (by first | assumption | omega | decide) (by first | assumption | omega | decide) (by first | assumption | omega | decide) (by first | assumption | omega | decide) (by first | assumption | omega | decide) (by first | assumption | omega | decide) (by first | assumption | omega | decide)) q1102 q1103 q116 q1104 rfl (by decide +kernel) ⟨Nat.le_of_ble_eq_true rfl, Nat.le_of_ble_eq_true rfl⟩ rfl rfl (Nat.le_of_ble_eq_true rfl) rfl (by first | exact Nat.le_of_ble_eq_true rfl | (show _ + 1 ≤ 1; omega)) (by first | exact Nat.le_of_ble_eq_true rfl | (show _ + 84 ≤ 84; omega)) (fun H h => h) (fun E a => zT.no) (zPv.out ?_)
  show zG X (_ + 1) (_ + 84) _ 13 _ _
  exact z_vret hX dJ13_init_3_13 (by first | exact Nat.le_of_ble_eq_true rfl | (show (_ : Nat) ≤ 1; omega)) (by first | exact Nat.le_of_ble_eq_true rfl | (show (_ : Nat) ≤ 84; omega)) rfl (fun H h => ⟨rfl, h⟩)
abbrev rmJ13_valueOf : Room := { frames := 4, cells := 2, slots := 100, locals := 99 }
set_option maxHeartbeats 4000000 in
theorem c_J13_valueOf (D : zD) (A : Nat → Prop) {w m : zMp} {d N a n : Nat} {f : Nat → Int32} {s : zS} (hd : m d = some (eC (aN D 1 N f))) (hsl : s.length = n) (hs : zCh s) (hf : ∀ j : Nat, j < n → f (a + j) = Int32.ofInt (cT s j)) (h : a + n ≤ N) (hN : N ≤ 1000) (h84 : 1 ≤ n ∧ n ≤ 84) : zC D yJ13_valueOf cJ13_valueOf 3 (some (.object "java/lang/String")) none rmJ13_valueOf A [.ref d, zI ((a : Int)), zI ((n : Int))] (cI D A w m) (zPe (fun (x : Nat × zMp) => some (.ref x.1)) (fun x => zNs w s x) (fun x => cI D A x.2 m)) (zNo) := by
  refine zC_start (L := [some (.ref d), some (zI ((a : Int))), some (zI ((n : Int)))]) (by decide) (Nat.le_of_ble_eq_true rfl) rfl (fun X hX => ?_)
  refine zc_new (q := 3) (fs := [.null, zI 0, zI 0, zI 0]) (C := RJ13) (T := TJ13) (N := 4) hX ciJ13 rfl in_J13 tyJ13_ok dJ13_valueOf_0 q600 q898 q116 (fun j hj => by match j, hj with | 0, _ => rfl | 1, _ => rfl | 2, _ => rfl | 3, _ => rfl | (_ + 4), h => exact absurd h (by omega)) (by first | exact Nat.le_of_ble_eq_true rfl | (show _ + 1 ≤ 2; omega)) (by first | exact Nat.le_of_ble_eq_true rfl | (show _ + 4 ≤ 100; omega)) rfl (fun a0 ha0 hb0 => ?_)
  have n0 := hb0
  try simp only [upm_none] at n0
  repeat (have := And.left n0; replace n0 := And.right n0)
  refine z_dup (q := 4) hX dJ13_valueOf_3 rfl rfl ?_
  refine z_aload_n (i := 0) (q := 5) hX dJ13_valueOf_4 rfl rfl rfl ?_
  refine z_iload_n (i := 1) (q := 6) hX dJ13_valueOf_5 rfl rfl rfl ?_
  refine z_iload_n (i := 2) (q := 7) hX dJ13_valueOf_6 rfl rfl rfl ?_
  refine z_C (na := 3) hX dJ13_valueOf_7 (c_J13_init_3 D A (upm_same _ _ _) ((upm_ne _ _ (Ne.symm (ne_mp hb0 hd))).trans hd) hsl hs hf h hN h84 ha0) q1095 q1096 q116 q1097 rfl (by decide +kernel) ⟨Nat.le_of_ble_eq_true rfl, Nat.le_of_ble_eq_true rfl⟩ rfl rfl (Nat.le_of_ble_eq_true rfl) rfl (by first | exact Nat.le_of_ble_eq_true rfl | (show _ + 1 ≤ 2; omega)) (by first | exact Nat.le_of_ble_eq_true rfl | (show _ + 84 ≤ 100; omega)) (fun H h => h) (fun E a => zT.no) (zPv.out ?_)
  show zG X (_ + 1) (_ + 84) _ 10 _ _
  exact z_aret hX dJ13_valueOf_10 (by first | exact Nat.le_of_ble_eq_true rfl | (show (_ : Nat) ≤ 2; omega)) (by first | exact Nat.le_of_ble_eq_true rfl | (show (_ : Nat) ≤ 100; omega)) rfl (by first | exact Or.inl ⟨_, rfl⟩ | exact Or.inr ⟨_, rfl⟩) (by first | exact Or.inl rfl | exact Or.inr ⟨_, rfl⟩) (fun H h => ⟨(a0, upm w a0 (eS s)), rfl, ⟨zLe.up ha0, upm_same _ _ _⟩, by rw [dlm_upm _ _ hb0] at h; exact h⟩)
