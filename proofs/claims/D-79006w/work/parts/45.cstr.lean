/-! JDK: String -/
set_option maxRecDepth 100000
theorem cT_mem {s : zS} {i : Int} (h0 : 0 ≤ i) (h1 : i < s.length) : cT s i ∈ s := by
  unfold cT
  have hl : i.toNat < s.length := by omega
  rw [List.getD_eq_getElem?_getD, List.getElem?_eq_getElem hl]
  exact List.getElem_mem hl
abbrev rmJ13_coder : Room := { frames := 0, cells := 0, slots := 0, locals := 0 }
set_option maxHeartbeats 4000000 in
theorem c_J13_coder (D : zD) (A : Nat → Prop) {I : Heap → Prop} {b : Nat} (hr : ∀ H, I H → zRd D ciJ13 b 1 (zI 0) H) : zC D yJ13_coder cJ13_coder 1 (some .byte) none rmJ13_coder A [.ref b] (I) (zPd (zI 0) I) (zNo) := by
  refine zC_start (L := [some (.ref b)]) (by decide) (Nat.le_of_ble_eq_true rfl) rfl (fun X hX => ?_)
  refine zr_gets (q := 3) hX 1 rfl dJ13_coder_0 q545 rfl ?_
  refine z_if_eq (q := 6) (t := 13) hX dJ13_coder_3 (by decide) (by omega) rfl (fun h3 => ?_) (fun h3 => ?_)
  · exact absurd h3 (by decide)
  · refine z_aload_n (i := 0) (q := 7) hX dJ13_coder_6 rfl rfl rfl ?_
    refine zr_get (C := RJ13) (T := TJ13) (N := 4) (q := 10) hX ciJ13 1 rfl (by decide) in_J13 dJ13_coder_7 q969 (Or.inl rfl) hr rfl ?_
    refine z_goto (t := 14) hX dJ13_coder_10 (by decide) ?_
    exact z_nret hX dJ13_coder_14 (by first | exact Nat.le_of_ble_eq_true rfl | (show (_ : Nat) ≤ 0; omega)) (by first | exact Nat.le_of_ble_eq_true rfl | (show (_ : Nat) ≤ 0; omega)) rfl rfl (fun H h => ⟨rfl, h⟩)
abbrev rmJ13_isLatin1 : Room := { frames := 0, cells := 0, slots := 0, locals := 0 }
set_option maxHeartbeats 4000000 in
theorem c_J13_isLatin1 (D : zD) (A : Nat → Prop) {I : Heap → Prop} {b : Nat} (hr : ∀ H, I H → zRd D ciJ13 b 1 (zI 0) H) : zC D yJ13_isLatin1 cJ13_isLatin1 1 (some .boolean) none rmJ13_isLatin1 A [.ref b] (I) (zPd (zI 1) I) (zNo) := by
  refine zC_start (L := [some (.ref b)]) (by decide) (Nat.le_of_ble_eq_true rfl) rfl (fun X hX => ?_)
  refine zr_gets (q := 3) hX 1 rfl dJ13_isLatin1_0 q545 rfl ?_
  refine z_if_eq (q := 6) (t := 17) hX dJ13_isLatin1_3 (by decide) (by omega) rfl (fun h3 => ?_) (fun h3 => ?_)
  · exact absurd h3 (by decide)
  · refine z_aload_n (i := 0) (q := 7) hX dJ13_isLatin1_6 rfl rfl rfl ?_
    refine zr_get (C := RJ13) (T := TJ13) (N := 4) (q := 10) hX ciJ13 1 rfl (by decide) in_J13 dJ13_isLatin1_7 q969 (Or.inl rfl) hr rfl ?_
    refine z_if_ne (q := 13) (t := 17) hX dJ13_isLatin1_10 (by decide) (by decide) rfl (fun h10 => ?_) (fun h10 => ?_)
    · exact absurd h10 (by decide)
    · refine z_iconst (q := 14) hX dJ13_isLatin1_13 rfl ?_
      refine z_goto (t := 18) hX dJ13_isLatin1_14 (by decide) ?_
      exact z_zret hX dJ13_isLatin1_18 (by first | exact Nat.le_of_ble_eq_true rfl | (show (_ : Nat) ≤ 0; omega)) (by first | exact Nat.le_of_ble_eq_true rfl | (show (_ : Nat) ≤ 0; omega)) rfl (by first | decide | omega) (fun H h => ⟨rfl, h⟩)
abbrev rmJ13_length : Room := { frames := 1, cells := 0, slots := 0, locals := 20 }
set_option maxHeartbeats 4000000 in
theorem c_J13_length (D : zD) (A : Nat → Prop) {w m : zMp} {b : Nat} {s : zS} (hm : w b = some (eS s) ∨ m b = some (eS s)) : zC D yJ13_length cJ13_length 1 (some .int) none rmJ13_length A [.ref b] (cI D A w m) (zPd (zI s.length) (cI D A w m)) (zNo) := by
  refine zC_start (L := [some (.ref b)]) (by decide) (Nat.le_of_ble_eq_true rfl) rfl (fun X hX => ?_)
  refine zG.arS hm (fun d hs => ?_)
  refine z_aload_n (i := 0) (q := 1) hX dJ13_length_0 rfl rfl rfl ?_
  refine zr_get (C := RJ13) (T := TJ13) (N := 4) (q := 4) hX ciJ13 0 rfl (by decide) in_J13 dJ13_length_1 q968 (Or.inl rfl) (fun H h => h.1.1) rfl ?_
  refine zr_alen (q := 5) hX 2 rfl dJ13_length_4 (fun H h => h.1.2.2) rfl ?_
  refine z_aload_n (i := 0) (q := 6) hX dJ13_length_5 rfl rfl rfl ?_
  refine z_V (ci := ciJ13) (T := TJ13) (N := 4) (na := 0) hX dJ13_length_6 (c_J13_coder D A (fun H h => h.1.2.1)) rfl q541 q542 q543 q116 q544 (by decide +kernel) ⟨Nat.le_of_ble_eq_true rfl, Nat.le_of_ble_eq_true rfl⟩ rfl rfl (Nat.le_of_ble_eq_true rfl) rfl (by first | exact Nat.le_of_ble_eq_true rfl | (show _ + 0 ≤ 0; omega)) (by first | exact Nat.le_of_ble_eq_true rfl | (show _ + 0 ≤ 0; omega)) (fun H h => ⟨h, h.1.2.1.ob⟩) (fun E a => zT.no) (zPd.out ?_)
  show zG X (_ + 0) (_ + 0) _ 9 _ _
  refine z_ishr (q := 10) hX dJ13_length_9 (by first | exact zI_shr0 _ | exact zI_shr1 (by omega) (by omega)) rfl ?_
  exact z_iret hX dJ13_length_10 (by first | exact Nat.le_of_ble_eq_true rfl | (show (_ : Nat) ≤ 0; omega)) (by first | exact Nat.le_of_ble_eq_true rfl | (show (_ : Nat) ≤ 0; omega)) rfl (fun H h => ⟨rfl, h.2⟩)
abbrev rmJ13_checkIndex : Room := { frames := 1, cells := 0, slots := 0, locals := 22 }
set_option maxHeartbeats 4000000 in
theorem c_J13_checkIndex (D : zD) (A : Nat → Prop) {I : Heap → Prop} {i z : Int} (h : 0 ≤ i ∧ i < z) (hz : zR z) : zC D yJ13_checkIndex cJ13_checkIndex 2 none none rmJ13_checkIndex A [zI (i), zI (z)] (I) (zPv I) (zNo) := by
  refine zC_start (L := [some (zI (i)), some (zI (z))]) (by decide) (Nat.le_of_ble_eq_true rfl) rfl (fun X hX => ?_)
  refine z_iload_n (i := 0) (q := 1) hX dJ13_checkIndex_0 rfl rfl rfl ?_
  refine z_iload_n (i := 1) (q := 2) hX dJ13_checkIndex_1 rfl rfl rfl ?_
  refine zr_getsQ (q := 5) hX (fun _ _ h => h.2.2.1) dJ13_checkIndex_2 q626 rfl (fun r2 => ?_)
  refine z_S (na := 3) hX dJ13_checkIndex_5 (c_J14_checkIndex D A (by first | assumption | omega | decide) (by first | assumption | omega | decide)) q628 q478 q117 q479 (by decide +kernel) ⟨Nat.le_of_ble_eq_true rfl, Nat.le_of_ble_eq_true rfl⟩ rfl rfl (Nat.le_of_ble_eq_true rfl) rfl (by first | exact Nat.le_of_ble_eq_true rfl | (show _ + 0 ≤ 0; omega)) (by first | exact Nat.le_of_ble_eq_true rfl | (show _ + 0 ≤ 0; omega)) (fun H h => h) (fun E a => zT.no) (zPd.out ?_)
  show zG X (_ + 0) (_ + 0) _ 8 _ _
  refine z_pop (q := 9) hX dJ13_checkIndex_8 rfl rfl ?_
  exact z_vret hX dJ13_checkIndex_9 (by first | exact Nat.le_of_ble_eq_true rfl | (show (_ : Nat) ≤ 0; omega)) (by first | exact Nat.le_of_ble_eq_true rfl | (show (_ : Nat) ≤ 0; omega)) rfl (fun H h => ⟨rfl, h⟩)
abbrev rmJ16_charAt : Room := { frames := 2, cells := 0, slots := 0, locals := 43 }
set_option maxHeartbeats 4000000 in
theorem c_J16_charAt (D : zD) (A : Nat → Prop) {I : Heap → Prop} {s : zS} {d : Nat} {i : Int} (hr : ∀ H, I H → zRa D 2 d s.length (fun j => zI (cT s j)) H) (hs : zCh s) (hi : 0 ≤ i ∧ i < s.length) : zC D yJ16_charAt cJ16_charAt 2 (some .char) none rmJ16_charAt A [.ref d, zI (i)] (I) (zPd (zI (cT s i)) I) (zNo) := by
  refine zC_start (L := [some (.ref d), some (zI (i))]) (by decide) (Nat.le_of_ble_eq_true rfl) rfl (fun X hX => ?_)
  have hc : 0 ≤ cT s i ∧ cT s i < 128 := hs.2 _ (cT_mem hi.1 hi.2)
  have hl9 := hs.1
  refine z_iload_n (i := 1) (q := 1) hX dJ16_charAt_0 rfl rfl rfl ?_
  refine z_aload_n (i := 0) (q := 2) hX dJ16_charAt_1 rfl rfl rfl ?_
  refine zr_alen (q := 3) hX 2 rfl dJ16_charAt_2 hr rfl ?_
  refine z_S (na := 2) hX dJ16_charAt_3 (c_J13_checkIndex D A (by first | assumption | omega | decide) (by first | assumption | omega | decide)) q623 q624 q116 q625 (by decide +kernel) ⟨Nat.le_of_ble_eq_true rfl, Nat.le_of_ble_eq_true rfl⟩ rfl rfl (Nat.le_of_ble_eq_true rfl) rfl (by first | exact Nat.le_of_ble_eq_true rfl | (show _ + 0 ≤ 0; omega)) (by first | exact Nat.le_of_ble_eq_true rfl | (show _ + 0 ≤ 0; omega)) (fun H h => h) (fun E a => zT.no) (zPv.out ?_)
  show zG X (_ + 0) (_ + 0) _ 6 _ _
  refine z_aload_n (i := 0) (q := 7) hX dJ16_charAt_6 rfl rfl rfl ?_
  refine z_iload_n (i := 1) (q := 8) hX dJ16_charAt_7 rfl rfl rfl ?_
  refine zr_bald (q := 9) hX dJ16_charAt_8 hr hi (by first | decide | omega) rfl ?_
  refine zG.top (v2 := zI (cT s i)) (by show zI (cT s ((i.toNat : Nat) : Int)) = _; rw [Int.toNat_of_nonneg hi.1]) ?_
  refine z_sipush (q := 12) hX dJ16_charAt_9 (by decide) rfl ?_
  refine z_iand (q := 13) hX dJ16_charAt_12 (ch_and hc) rfl ?_
  refine z_i2c (q := 14) hX dJ16_charAt_13 (ch_i2c hc) rfl ?_
  exact z_nret hX dJ16_charAt_14 (by first | exact Nat.le_of_ble_eq_true rfl | (show (_ : Nat) ≤ 0; omega)) (by first | exact Nat.le_of_ble_eq_true rfl | (show (_ : Nat) ≤ 0; omega)) rfl (ch_nar hc) (fun H h => ⟨rfl, h⟩)
abbrev rmJ13_charAt : Room := { frames := 3, cells := 0, slots := 0, locals := 64 }
set_option maxHeartbeats 4000000 in
theorem c_J13_charAt (D : zD) (A : Nat → Prop) {w m : zMp} {b : Nat} {s : zS} {i : Int} (hm : w b = some (eS s) ∨ m b = some (eS s)) (hi : 0 ≤ i ∧ i < s.length) : zC D yJ13_charAt cJ13_charAt 2 (some .char) none rmJ13_charAt A [.ref b, zI (i)] (cI D A w m) (zPd (zI (cT s i)) (cI D A w m)) (zNo) := by
  refine zC_start (L := [some (.ref b), some (zI (i))]) (by decide) (Nat.le_of_ble_eq_true rfl) rfl (fun X hX => ?_)
  refine zG.arS hm (fun d hs => ?_)
  have hc : 0 ≤ cT s i ∧ cT s i < 128 := hs.2 _ (cT_mem hi.1 hi.2)
  refine z_aload_n (i := 0) (q := 1) hX dJ13_charAt_0 rfl rfl rfl ?_
  refine z_V (ci := ciJ13) (T := TJ13) (N := 4) (na := 0) hX dJ13_charAt_1 (c_J13_isLatin1 D A (fun H h => h.1.2.1)) rfl q616 q617 q618 q116 q619 (by decide +kernel) ⟨Nat.le_of_ble_eq_true rfl, Nat.le_of_ble_eq_true rfl⟩ rfl rfl (Nat.le_of_ble_eq_true rfl) rfl (by first | exact Nat.le_of_ble_eq_true rfl | (show _ + 0 ≤ 0; omega)) (by first | exact Nat.le_of_ble_eq_true rfl | (show _ + 0 ≤ 0; omega)) (fun H h => ⟨h, h.1.2.1.ob⟩) (fun E a => zT.no) (zPd.out ?_)
  show zG X (_ + 0) (_ + 0) _ 4 _ _
  refine z_if_eq (q := 7) (t := 16) hX dJ13_charAt_4 (by decide) (by decide) rfl (fun h4 => ?_) (fun h4 => ?_)
  · exact absurd h4 (by decide)
  · refine z_aload_n (i := 0) (q := 8) hX dJ13_charAt_7 rfl rfl rfl ?_
    refine zr_get (C := RJ13) (T := TJ13) (N := 4) (q := 11) hX ciJ13 0 rfl (by decide) in_J13 dJ13_charAt_8 q968 (Or.inl rfl) (fun H h => h.1.1) rfl ?_
    refine z_iload_n (i := 1) (q := 12) hX dJ13_charAt_11 rfl rfl rfl ?_
    refine z_S (na := 2) hX dJ13_charAt_12 (c_J16_charAt D A (fun H h => h.1.2.2) hs hi) q620 q621 q119 q622 (by decide +kernel) ⟨Nat.le_of_ble_eq_true rfl, Nat.le_of_ble_eq_true rfl⟩ rfl rfl (Nat.le_of_ble_eq_true rfl) rfl (by first | exact Nat.le_of_ble_eq_true rfl | (show _ + 0 ≤ 0; omega)) (by first | exact Nat.le_of_ble_eq_true rfl | (show _ + 0 ≤ 0; omega)) (fun H h => h) (fun E a => zT.no) (zPd.out ?_)
    show zG X (_ + 0) (_ + 0) _ 15 _ _
    exact z_nret hX dJ13_charAt_15 (by first | exact Nat.le_of_ble_eq_true rfl | (show (_ : Nat) ≤ 0; omega)) (by first | exact Nat.le_of_ble_eq_true rfl | (show (_ : Nat) ≤ 0; omega)) rfl (ch_nar hc) (fun H h => ⟨rfl, h.2⟩)
abbrev rmJ16_equals : Room := { frames := 0, cells := 0, slots := 0, locals := 0 }
set_option maxHeartbeats 4000000 in
theorem c_J16_equals (D : zD) (A : Nat → Prop) {I : Heap → Prop} {s t : zS} {d e : Nat} (hr : ∀ H, I H → zRa D 2 d s.length (fun j => zI (cT s j)) H) (hr2 : ∀ H, I H → zRa D 2 e t.length (fun j => zI (cT t j)) H) (hs : zCh s) (ht : zCh t) : zC D yJ16_equals cJ16_equals 3 (some .boolean) none rmJ16_equals A [.ref d, .ref e] (I) (zPd (zI (bi (decide (s = t)))) I) (zNo) := by
  refine zC_start (L := [some (.ref d), some (.ref e), none]) (by decide) (Nat.le_of_ble_eq_true rfl) rfl (fun X hX => ?_)
  have l1 := hs.1
  have l2 := ht.1
  have K : s.length = t.length → ∀ n : Nat, n ≤ s.length → (∀ i : Nat, i < n → cT s i = cT t i) → ∀ p : Int, p = n → zG X 0 0 (I) 9 [some (.ref (d)), some (.ref (e)), some (zI (p))] [] := by
    intro hst
    refine z_up (fun n hn ih hb p ep => ?_)
    subst ep
    refine z_iload_n (i := 2) (q := 10) hX dJ16_equals_9 rfl rfl rfl ?_
    refine z_aload_n (i := 0) (q := 11) hX dJ16_equals_10 rfl rfl rfl ?_
    refine zr_alen (q := 12) hX 2 rfl dJ16_equals_11 hr rfl ?_
    refine z_icmp_ge (q := 15) (t := 32) hX dJ16_equals_12 (by decide) ⟨by omega, by omega⟩ ⟨by omega, by omega⟩ rfl (fun h12 => ?_) (fun h12 => ?_)
    · refine z_iconst (q := 33) hX dJ16_equals_32 rfl ?_
      exact z_zret hX dJ16_equals_33 (by first | exact Nat.le_of_ble_eq_true rfl | (show (_ : Nat) ≤ 0; omega)) (by first | exact Nat.le_of_ble_eq_true rfl | (show (_ : Nat) ≤ 0; omega)) rfl (by first | decide | omega) (fun H h => ⟨congrArg (fun z => some (zI z)) ((by rw [decide_eq_true (zS_ext (by omega) (fun i hi => hb i (by omega)))]; rfl)), h⟩)
    · have c1 := hs.2 _ (cT_mem (s := s) (i := n) (by omega) (by omega))
      have c2 := ht.2 _ (cT_mem (s := t) (i := n) (by omega) (by omega))
      refine z_aload_n (i := 0) (q := 16) hX dJ16_equals_15 rfl rfl rfl ?_
      refine z_iload_n (i := 2) (q := 17) hX dJ16_equals_16 rfl rfl rfl ?_
      refine zr_bald (q := 18) hX dJ16_equals_17 hr ⟨by omega, by omega⟩ (by first | decide | omega) rfl ?_
      refine zG.top (v2 := zI (cT s n)) rfl ?_
      refine z_aload_n (i := 1) (q := 19) hX dJ16_equals_18 rfl rfl rfl ?_
      refine z_iload_n (i := 2) (q := 20) hX dJ16_equals_19 rfl rfl rfl ?_
      refine zr_bald (q := 21) hX dJ16_equals_20 hr2 ⟨by omega, by omega⟩ (by first | decide | omega) rfl ?_
      refine zG.top (v2 := zI (cT t n)) rfl ?_
      refine z_icmp_eq (q := 24) (t := 26) hX dJ16_equals_21 (by decide) ⟨by omega, by omega⟩ ⟨by omega, by omega⟩ rfl (fun h21 => ?_) (fun h21 => ?_)
      · refine z_iinc (q := 29) hX dJ16_equals_26 rfl (Nat.le_of_ble_eq_true rfl) rfl rfl ?_
        refine z_goto (t := 9) hX dJ16_equals_29 (by decide) ?_
        refine ih (by omega) (fun i hi => ?_) _ rfl
        by_cases e : i = n
        · subst e
          exact h21
        · exact hb i (by omega)
      · refine z_iconst (q := 25) hX dJ16_equals_24 rfl ?_
        exact z_zret hX dJ16_equals_25 (by first | exact Nat.le_of_ble_eq_true rfl | (show (_ : Nat) ≤ 0; omega)) (by first | exact Nat.le_of_ble_eq_true rfl | (show (_ : Nat) ≤ 0; omega)) rfl (by first | decide | omega) (fun H h => ⟨congrArg (fun z => some (zI z)) ((by rw [decide_eq_false (fun e => h21 (by rw [e]))]; rfl)), h⟩)
  refine z_aload_n (i := 0) (q := 1) hX dJ16_equals_0 rfl rfl rfl ?_
  refine zr_alen (q := 2) hX 2 rfl dJ16_equals_1 hr rfl ?_
  refine z_aload_n (i := 1) (q := 3) hX dJ16_equals_2 rfl rfl rfl ?_
  refine zr_alen (q := 4) hX 2 rfl dJ16_equals_3 hr2 rfl ?_
  refine z_icmp_ne (q := 7) (t := 34) hX dJ16_equals_4 (by decide) ⟨by omega, by omega⟩ ⟨by omega, by omega⟩ rfl (fun h4 => ?_) (fun h4 => ?_)
  · refine z_iconst (q := 35) hX dJ16_equals_34 rfl ?_
    exact z_zret hX dJ16_equals_35 (by first | exact Nat.le_of_ble_eq_true rfl | (show (_ : Nat) ≤ 0; omega)) (by first | exact Nat.le_of_ble_eq_true rfl | (show (_ : Nat) ≤ 0; omega)) rfl (by first | decide | omega) (fun H h => ⟨congrArg (fun z => some (zI z)) ((by rw [decide_eq_false (fun e => h4 (by rw [e]))]; rfl)), h⟩)
  · refine z_iconst (q := 8) hX dJ16_equals_7 rfl ?_
    refine z_istore_n (i := 2) (q := 9) hX dJ16_equals_8 rfl (Nat.le_of_ble_eq_true rfl) rfl rfl ?_
    exact K (by omega) 0 (Nat.zero_le _) (fun i hi => absurd hi (Nat.not_lt_zero i)) 0 rfl
abbrev rmJ13_equals : Room := { frames := 1, cells := 0, slots := 0, locals := 22 }
set_option maxHeartbeats 4000000 in
theorem c_J13_equals (D : zD) (A : Nat → Prop) {w m : zMp} {b : Nat} {s t : zS} {y : Nat} (hm : w b = some (eS s)) (hy : w y = some (eS t)) : zC D yJ13_equals cJ13_equals 3 (some .boolean) none rmJ13_equals A [.ref b, .ref y] (cI D A w m) (zPd (zI (bi (decide (s = t)))) (cI D A w m)) (zNo) := by
  refine zC_start (L := [some (.ref b), some (.ref y), none]) (by decide) (Nat.le_of_ble_eq_true rfl) rfl (fun X hX => ?_)
  refine zG.arS2 hm hy (fun d e hs ht => ?_)
  refine z_aload_n (i := 0) (q := 1) hX dJ13_equals_0 rfl rfl rfl ?_
  refine z_aload_n (i := 1) (q := 2) hX dJ13_equals_1 rfl rfl rfl ?_
  refine z_acmp_ne (q := 5) (t := 7) hX (some _) (some _) dJ13_equals_2 (by decide) rfl (fun h2 => ?_) (fun h2 => ?_)
  · refine z_aload_n (i := 1) (q := 8) hX dJ13_equals_7 rfl rfl rfl ?_
    refine zr_inst (q := 11) (C := RJ13) (T := TJ13) (N := 4) hX ciJ13 rfl dJ13_equals_8 q600 (fun H h => h.1.2.1.ob) rfl ?_
    refine z_if_eq (q := 14) (t := 54) hX dJ13_equals_11 (by decide) (by decide) rfl (fun h11 => ?_) (fun h11 => ?_)
    · exact absurd h11 (by decide)
    · refine z_aload_n (i := 1) (q := 15) hX dJ13_equals_14 rfl rfl rfl ?_
      refine zr_cast (q := 18) (C := RJ13) (T := TJ13) (N := 4) hX ciJ13 rfl dJ13_equals_15 q600 (fun H h => h.1.2.1.ob) rfl ?_
      refine z_astore_n (i := 2) (q := 19) hX dJ13_equals_18 rfl (Nat.le_of_ble_eq_true rfl) rfl rfl ?_
      refine zr_gets (q := 22) hX 1 rfl dJ13_equals_19 q545 rfl ?_
      refine z_if_eq (q := 25) (t := 36) hX dJ13_equals_22 (by decide) (by omega) rfl (fun h22 => ?_) (fun h22 => ?_)
      · exact absurd h22 (by decide)
      · refine z_aload_n (i := 0) (q := 26) hX dJ13_equals_25 rfl rfl rfl ?_
        refine zr_get (C := RJ13) (T := TJ13) (N := 4) (q := 29) hX ciJ13 1 rfl (by decide) in_J13 dJ13_equals_26 q969 (Or.inl rfl) (fun H h => h.1.1.2.1) rfl ?_
        refine z_aload_n (i := 2) (q := 30) hX dJ13_equals_29 rfl rfl rfl ?_
        refine zr_get (C := RJ13) (T := TJ13) (N := 4) (q := 33) hX ciJ13 1 rfl (by decide) in_J13 dJ13_equals_30 q969 (Or.inl rfl) (fun H h => h.1.2.2.1) rfl ?_
        refine z_icmp_ne (q := 36) (t := 54) hX dJ13_equals_33 (by decide) (by decide) (by decide) rfl (fun h33 => ?_) (fun h33 => ?_)
        · exact absurd rfl h33
        · refine z_aload_n (i := 0) (q := 37) hX dJ13_equals_36 rfl rfl rfl ?_
          refine zr_get (C := RJ13) (T := TJ13) (N := 4) (q := 40) hX ciJ13 0 rfl (by decide) in_J13 dJ13_equals_37 q968 (Or.inl rfl) (fun H h => h.1.1.1) rfl ?_
          refine z_aload_n (i := 2) (q := 41) hX dJ13_equals_40 rfl rfl rfl ?_
          refine zr_get (C := RJ13) (T := TJ13) (N := 4) (q := 44) hX ciJ13 0 rfl (by decide) in_J13 dJ13_equals_41 q968 (Or.inl rfl) (fun H h => h.1.2.1) rfl ?_
          refine z_S (na := 2) hX dJ13_equals_44 (c_J16_equals D A (fun H h => h.1.1.2.2) (fun H h => h.1.2.2.2) hs ht) q601 q602 q119 q603 (by decide +kernel) ⟨Nat.le_of_ble_eq_true rfl, Nat.le_of_ble_eq_true rfl⟩ rfl rfl (Nat.le_of_ble_eq_true rfl) rfl (by first | exact Nat.le_of_ble_eq_true rfl | (show _ + 0 ≤ 0; omega)) (by first | exact Nat.le_of_ble_eq_true rfl | (show _ + 0 ≤ 0; omega)) (fun H h => h) (fun E a => zT.no) (zPd.out ?_)
          show zG X (_ + 0) (_ + 0) _ 47 _ _
          refine z_ifB_eq (q := 50) (t := 54) hX dJ13_equals_47 (by decide) rfl (fun h47 => ?_) (fun h47 => ?_)
          · refine z_iconst (q := 55) hX dJ13_equals_54 rfl ?_
            exact z_zret hX dJ13_equals_55 (by first | exact Nat.le_of_ble_eq_true rfl | (show (_ : Nat) ≤ 0; omega)) (by first | exact Nat.le_of_ble_eq_true rfl | (show (_ : Nat) ≤ 0; omega)) rfl (by first | decide | omega) (fun H h => ⟨congrArg (fun z => some (zI z)) (by rw [h47]; rfl), h.2⟩)
          · refine z_iconst (q := 51) hX dJ13_equals_50 rfl ?_
            refine z_goto (t := 55) hX dJ13_equals_51 (by decide) ?_
            exact z_zret hX dJ13_equals_55 (by first | exact Nat.le_of_ble_eq_true rfl | (show (_ : Nat) ≤ 0; omega)) (by first | exact Nat.le_of_ble_eq_true rfl | (show (_ : Nat) ≤ 0; omega)) rfl (by first | decide | omega) (fun H h => ⟨congrArg (fun z => some (zI z)) (by rw [h47]; rfl), h.2⟩)
  · refine z_iconst (q := 6) hX dJ13_equals_5 rfl ?_
    exact z_zret hX dJ13_equals_6 (by first | exact Nat.le_of_ble_eq_true rfl | (show (_ : Nat) ≤ 0; omega)) (by first | exact Nat.le_of_ble_eq_true rfl | (show (_ : Nat) ≤ 0; omega)) rfl (by first | decide | omega) (fun H h => ⟨congrArg (fun z => some (zI z)) (by have e9 := Option.some.inj h2; subst e9; have e8 : s = t := by { have := hm.symm.trans hy; cases this; rfl }; rw [decide_eq_true e8]; rfl), h.2⟩)
