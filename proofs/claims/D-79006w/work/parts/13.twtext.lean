/-! THE REFERENCE: its lines and tokens -/
set_option maxRecDepth 100000
/-- a line's text, out of the row m -/
def tx (M : Int → Int) (l : Int) : zS := (List.range (M (2 + l)).toNat).map (fun i : Nat => M (84 + 40 * l + (i : Int)))
theorem tx_len {M : Int → Int} {l : Int} (h : 0 ≤ M (2 + l)) : ((tx M l).length : Int) = M (2 + l) := by
  unfold tx
  rw [List.length_map, List.length_range]
  omega
theorem tx_cT {M : Int → Int} {l i : Int} (h0 : 0 ≤ i) (h1 : i < M (2 + l)) : cT (tx M l) i = M (84 + 40 * l + i) := by
  unfold tx cT
  rw [List.getD_eq_getElem?_getD, List.getElem?_map, List.getElem?_range (by omega)]
  show M (84 + 40 * l + (i.toNat : Int)) = _
  rw [Int.toNat_of_nonneg h0]
theorem tx_congr {M M2 : Int → Int} {l : Int} (h : M2 (2 + l) = M (2 + l)) (hc : ∀ i : Int, 0 ≤ i → i < M (2 + l) → M2 (84 + 40 * l + i) = M (84 + 40 * l + i)) : tx M2 l = tx M l := by
  unfold tx
  rw [h]
  refine List.map_congr_left fun i hi => hc i (by omega) ?_
  have := List.mem_range.mp hi
  omega
/-- line l's length and characters are those of a text -/
def zRaw (G : zTG) (l : Int) : Prop := 0 ≤ l ∧ l < 40 ∧ 1 ≤ G 0 (2 + l) ∧ G 0 (2 + l) ≤ 40 ∧ ∀ i : Int, 0 ≤ i → i < G 0 (2 + l) → 32 ≤ G 0 (84 + 40 * l + i) ∧ G 0 (84 + 40 * l + i) ≤ 126
/-- line l's tokens stand in the three arrays -/
def zTks (G : zTG) (l : Int) : Prop := G 4 l = nT (tx (G 0) l) ∧ ∀ k : Int, 0 ≤ k → k < nT (tx (G 0) l) → G 5 (20 * l + k) = fT (tx (G 0) l) k ∧ G 6 (20 * l + k) = eT (tx (G 0) l) k
def zLn (G : zTG) (l : Int) : Prop := zRaw G l ∧ zTks G l
theorem zRaw.f {G : zTG} {l : Int} (h : zRaw G l) : 0 ≤ l ∧ l < 40 ∧ 1 ≤ G 0 (2 + l) ∧ G 0 (2 + l) ≤ 40 ∧ ((tx (G 0) l).length : Int) = G 0 (2 + l) ∧ 0 ≤ nT (tx (G 0) l) ∧ nT (tx (G 0) l) ≤ 20 := by
  have h1 := tx_len (M := G 0) (l := l) (by have := h.2.2.1; omega)
  have h2 := nT_range (tx (G 0) l)
  have h3 := h.2.2.2.1
  exact ⟨h.1, h.2.1, h.2.2.1, h.2.2.2.1, h1, h2.1, by omega⟩
theorem zRaw.ch {G : zTG} {l i : Int} (h : zRaw G l) (h0 : 0 ≤ i) (h1 : i < G 0 (2 + l)) : 32 ≤ cT (tx (G 0) l) i ∧ cT (tx (G 0) l) i ≤ 126 := by
  rw [tx_cT h0 h1]
  exact h.2.2.2.2 i h0 h1
/-- a token's places, of a line of tokens -/
theorem zLn.t {G : zTG} {l t : Int} (h : zLn G l) (h0 : 0 ≤ t) (h1 : t < nT (tx (G 0) l)) : G 5 (20 * l + t) = fT (tx (G 0) l) t ∧ G 6 (20 * l + t) = eT (tx (G 0) l) t ∧ 0 ≤ fT (tx (G 0) l) t ∧ fT (tx (G 0) l) t < eT (tx (G 0) l) t ∧ eT (tx (G 0) l) t ≤ G 0 (2 + l) ∧ wT (tx (G 0) l) t = eT (tx (G 0) l) t - fT (tx (G 0) l) t := by
  have h2 := h.2.2 t h0 h1
  have h3 := tk_ok h0 h1
  have h4 := h.1.f
  exact ⟨h2.1, h2.2, h3.1, h3.2.1, by omega, rfl⟩
theorem bi_dec {p : Prop} (i : Decidable p) : bi (@decide p i) = if p then 1 else 0 := by
  unfold bi
  by_cases h : p <;> simp [h]
theorem bi_iand (a c : Bool) : Int32.ofInt (bi a) &&& Int32.ofInt (bi c) = Int32.ofInt (bi (a && c)) := by cases a <;> cases c <;> decide
theorem bi_ior (a c : Bool) : Int32.ofInt (bi a) ||| Int32.ofInt (bi c) = Int32.ofInt (bi (a || c)) := by cases a <;> cases c <;> decide
theorem fits_bi (c : Bool) : fits .boolean (zI (bi c)) = true := by cases c <;> decide
abbrev rmX4_thrown : Room := { frames := 0, cells := 0, slots := 0, locals := 0 }
set_option maxHeartbeats 4000000 in
theorem c_X4_thrown (D : zD) (A : Nat → Prop) {b : Nat} {F : zTF} {G : zTG}  : zC D yX4_thrown cX4_thrown 1 (some .int) none rmX4_thrown A [.ref b] (twI D A b F G) (zPd (zI (F 6)) (twI D A b (F) (G))) zNo := by
  refine zC_start (L := [some (.ref b)]) (by decide) (Nat.le_of_ble_eq_true rfl) rfl (fun X hX => ?_)
  refine z_aload_n (i := 0) (q := 1) hX dX4_thrown_0 rfl rfl rfl ?_
  refine zt_getI (q := 4) hX 6 dX4_thrown_1 q1870 (by decide) rfl rfl rfl ?_
  exact z_iret hX dX4_thrown_4 (Nat.le_of_ble_eq_true rfl) (Nat.le_of_ble_eq_true rfl) rfl (fun H hI => ⟨congrArg (fun z => some (zI z)) (rfl), hI⟩)
abbrev rmX4_in : Room := { frames := 0, cells := 0, slots := 0, locals := 0 }
set_option maxHeartbeats 4000000 in
theorem c_X4_in (D : zD) (A : Nat → Prop) {I : Heap → Prop} {v lo hi : Int} (hv : zR v) (h1 : zR lo) (h2 : zR hi) : zC D yX4_in cX4_in 3 (some .boolean) none rmX4_in A [zI (v), zI (lo), zI (hi)] (I) (zPd (zI (bi ((decide (lo ≤ v) && decide (v ≤ hi))))) I) zNo := by
  refine zC_start (L := [some (zI (v)), some (zI (lo)), some (zI (hi))]) (by decide) (Nat.le_of_ble_eq_true rfl) rfl (fun X hX => ?_)
  refine z_iload_n (i := 0) (q := 1) hX dX4_in_0 rfl rfl rfl ?_
  refine z_iload_n (i := 1) (q := 2) hX dX4_in_1 rfl rfl rfl ?_
  refine z_icmp_lt (q := 5) (t := 14) hX dX4_in_2 (by decide) (by omega) (by omega) rfl (fun h2 => ?_) (fun h2 => ?_)
  · refine z_iconst (q := 15) hX dX4_in_14 rfl ?_
    exact z_zret hX dX4_in_15 (Nat.le_of_ble_eq_true rfl) (Nat.le_of_ble_eq_true rfl) rfl (by first | decide | omega) (fun H hI => ⟨congrArg (fun z => some (zI z)) ((by simp only [bi]; split <;> simp_all <;> omega)), hI⟩)
  · refine z_iload_n (i := 0) (q := 6) hX dX4_in_5 rfl rfl rfl ?_
    refine z_iload_n (i := 2) (q := 7) hX dX4_in_6 rfl rfl rfl ?_
    refine z_icmp_gt (q := 10) (t := 14) hX dX4_in_7 (by decide) (by omega) (by omega) rfl (fun h7 => ?_) (fun h7 => ?_)
    · refine z_iconst (q := 15) hX dX4_in_14 rfl ?_
      exact z_zret hX dX4_in_15 (Nat.le_of_ble_eq_true rfl) (Nat.le_of_ble_eq_true rfl) rfl (by first | decide | omega) (fun H hI => ⟨congrArg (fun z => some (zI z)) ((by simp only [bi]; split <;> simp_all <;> omega)), hI⟩)
    · refine z_iconst (q := 11) hX dX4_in_10 rfl ?_
      refine z_goto (t := 15) hX dX4_in_11 (by decide) ?_
      exact z_zret hX dX4_in_15 (Nat.le_of_ble_eq_true rfl) (Nat.le_of_ble_eq_true rfl) rfl (by first | decide | omega) (fun H hI => ⟨congrArg (fun z => some (zI z)) ((by simp only [bi]; split <;> simp_all <;> omega)), hI⟩)
abbrev rmX4_refuse : Room := { frames := 0, cells := 0, slots := 0, locals := 0 }
set_option maxHeartbeats 4000000 in
theorem c_X4_refuse (D : zD) (A : Nat → Prop) {b : Nat} {F : zTF} {G : zTG} {c : Int} : zC D yX4_refuse cX4_refuse 2 (some .int) none rmX4_refuse A [.ref b, zI (c)] (twI D A b F G) (zPd (zI (0)) (twI D A b (upF F 6 c) (G))) zNo := by
  refine zC_start (L := [some (.ref b), some (zI (c))]) (by decide) (Nat.le_of_ble_eq_true rfl) rfl (fun X hX => ?_)
  refine z_aload_n (i := 0) (q := 1) hX dX4_refuse_0 rfl rfl rfl ?_
  refine z_iload_n (i := 1) (q := 2) hX dX4_refuse_1 rfl rfl rfl ?_
  refine zt_put (ty := .int) (q := 5) hX 6 dX4_refuse_2 q1870 (by decide) rfl rfl rfl (by decide) rfl rfl rfl ?_
  refine z_iconst (q := 6) hX dX4_refuse_5 rfl ?_
  exact z_iret hX dX4_refuse_6 (Nat.le_of_ble_eq_true rfl) (Nat.le_of_ble_eq_true rfl) rfl (fun H hI => ⟨congrArg (fun z => some (zI z)) (rfl), hI⟩)
abbrev rmX4_lengthOf : Room := { frames := 0, cells := 0, slots := 0, locals := 0 }
set_option maxHeartbeats 4000000 in
theorem c_X4_lengthOf (D : zD) (A : Nat → Prop) {b : Nat} {F : zTF} {G : zTG} {l : Int} (h0 : 0 ≤ l ∧ l ≤ 40) : zC D yX4_lengthOf cX4_lengthOf 2 (some .int) none rmX4_lengthOf A [.ref b, zI (l)] (twI D A b F G) (zPd (zI (G 0 (2 + l))) (twI D A b (F) (G))) zNo := by
  refine zC_start (L := [some (.ref b), some (zI (l))]) (by decide) (Nat.le_of_ble_eq_true rfl) rfl (fun X hX => ?_)
  refine z_aload_n (i := 0) (q := 1) hX dX4_lengthOf_0 rfl rfl rfl ?_
  refine zt_getA (q := 4) hX 0 0 dX4_lengthOf_1 q1864 (by decide) rfl rfl rfl ?_
  refine z_iconst (q := 5) hX dX4_lengthOf_4 rfl ?_
  refine z_iload_n (i := 1) (q := 6) hX dX4_lengthOf_5 rfl rfl rfl ?_
  refine z_iadd (q := 7) hX dX4_lengthOf_6 rfl ?_
  refine zt_ald (q := 8) (N := 1964) hX 0 dX4_lengthOf_7 rfl (by decide) (by decide) (by omega) rfl ?_
  exact z_iret hX dX4_lengthOf_8 (Nat.le_of_ble_eq_true rfl) (Nat.le_of_ble_eq_true rfl) rfl (fun H hI => ⟨congrArg (fun z => some (zI z)) (rfl), hI⟩)
abbrev rmX4_charAt : Room := { frames := 0, cells := 0, slots := 0, locals := 0 }
set_option maxHeartbeats 4000000 in
theorem c_X4_charAt (D : zD) (A : Nat → Prop) {b : Nat} {F : zTF} {G : zTG} {l i : Int} (hr : zRaw G l) (hi : 0 ≤ i ∧ i < G 0 (2 + l)) : zC D yX4_charAt cX4_charAt 3 (some .int) none rmX4_charAt A [.ref b, zI (l), zI (i)] (twI D A b F G) (zPd (zI (cT (tx (G 0) l) i)) (twI D A b (F) (G))) zNo := by
  refine zC_start (L := [some (.ref b), some (zI (l)), some (zI (i))]) (by decide) (Nat.le_of_ble_eq_true rfl) rfl (fun X hX => ?_)
  have hf := hr.f
  refine z_aload_n (i := 0) (q := 1) hX dX4_charAt_0 rfl rfl rfl ?_
  refine zt_getA (q := 4) hX 0 0 dX4_charAt_1 q1864 (by decide) rfl rfl rfl ?_
  refine z_bipush (q := 6) hX dX4_charAt_4 (by decide) rfl ?_
  refine z_bipush (q := 8) hX dX4_charAt_6 (by decide) rfl ?_
  refine z_iload_n (i := 1) (q := 9) hX dX4_charAt_8 rfl rfl rfl ?_
  refine z_imul (q := 10) hX dX4_charAt_9 rfl ?_
  refine z_iadd (q := 11) hX dX4_charAt_10 rfl ?_
  refine z_iload_n (i := 2) (q := 12) hX dX4_charAt_11 rfl rfl rfl ?_
  refine z_iadd (q := 13) hX dX4_charAt_12 rfl ?_
  refine zt_ald (q := 14) (N := 1964) hX 0 dX4_charAt_13 rfl (by decide) (by decide) (by omega) rfl ?_
  exact z_iret hX dX4_charAt_14 (Nat.le_of_ble_eq_true rfl) (Nat.le_of_ble_eq_true rfl) rfl (fun H hI => ⟨congrArg (fun z => some (zI z)) ((tx_cT hi.1 hi.2).symm), hI⟩)
abbrev rmX4_fromOf : Room := { frames := 0, cells := 0, slots := 0, locals := 0 }
set_option maxHeartbeats 4000000 in
theorem c_X4_fromOf (D : zD) (A : Nat → Prop) {b : Nat} {F : zTF} {G : zTG} {l t : Int} (h : zLn G l) (ht : 0 ≤ t ∧ t < nT (tx (G 0) l)) : zC D yX4_fromOf cX4_fromOf 3 (some .int) none rmX4_fromOf A [.ref b, zI (l), zI (t)] (twI D A b F G) (zPd (zI (fT (tx (G 0) l) t)) (twI D A b (F) (G))) zNo := by
  refine zC_start (L := [some (.ref b), some (zI (l)), some (zI (t))]) (by decide) (Nat.le_of_ble_eq_true rfl) rfl (fun X hX => ?_)
  have hf := h.1.f
  refine z_aload_n (i := 0) (q := 1) hX dX4_fromOf_0 rfl rfl rfl ?_
  refine zt_getA (q := 4) hX 8 5 dX4_fromOf_1 q1872 (by decide) rfl rfl rfl ?_
  refine z_bipush (q := 6) hX dX4_fromOf_4 (by decide) rfl ?_
  refine z_iload_n (i := 1) (q := 7) hX dX4_fromOf_6 rfl rfl rfl ?_
  refine z_imul (q := 8) hX dX4_fromOf_7 rfl ?_
  refine z_iload_n (i := 2) (q := 9) hX dX4_fromOf_8 rfl rfl rfl ?_
  refine z_iadd (q := 10) hX dX4_fromOf_9 rfl ?_
  refine zt_ald (q := 11) (N := 820) hX 5 dX4_fromOf_10 rfl (by decide) (by decide) (by omega) rfl ?_
  exact z_iret hX dX4_fromOf_11 (Nat.le_of_ble_eq_true rfl) (Nat.le_of_ble_eq_true rfl) rfl (fun H hI => ⟨congrArg (fun z => some (zI z)) ((h.t ht.1 ht.2).1), hI⟩)
abbrev rmX4_toOf : Room := { frames := 0, cells := 0, slots := 0, locals := 0 }
set_option maxHeartbeats 4000000 in
theorem c_X4_toOf (D : zD) (A : Nat → Prop) {b : Nat} {F : zTF} {G : zTG} {l t : Int} (h : zLn G l) (ht : 0 ≤ t ∧ t < nT (tx (G 0) l)) : zC D yX4_toOf cX4_toOf 3 (some .int) none rmX4_toOf A [.ref b, zI (l), zI (t)] (twI D A b F G) (zPd (zI (eT (tx (G 0) l) t)) (twI D A b (F) (G))) zNo := by
  refine zC_start (L := [some (.ref b), some (zI (l)), some (zI (t))]) (by decide) (Nat.le_of_ble_eq_true rfl) rfl (fun X hX => ?_)
  have hf := h.1.f
  refine z_aload_n (i := 0) (q := 1) hX dX4_toOf_0 rfl rfl rfl ?_
  refine zt_getA (q := 4) hX 9 6 dX4_toOf_1 q1873 (by decide) rfl rfl rfl ?_
  refine z_bipush (q := 6) hX dX4_toOf_4 (by decide) rfl ?_
  refine z_iload_n (i := 1) (q := 7) hX dX4_toOf_6 rfl rfl rfl ?_
  refine z_imul (q := 8) hX dX4_toOf_7 rfl ?_
  refine z_iload_n (i := 2) (q := 9) hX dX4_toOf_8 rfl rfl rfl ?_
  refine z_iadd (q := 10) hX dX4_toOf_9 rfl ?_
  refine zt_ald (q := 11) (N := 820) hX 6 dX4_toOf_10 rfl (by decide) (by decide) (by omega) rfl ?_
  exact z_iret hX dX4_toOf_11 (Nat.le_of_ble_eq_true rfl) (Nat.le_of_ble_eq_true rfl) rfl (fun H hI => ⟨congrArg (fun z => some (zI z)) ((h.t ht.1 ht.2).2.1), hI⟩)
abbrev rmX4_isDigit : Room := { frames := 1, cells := 0, slots := 0, locals := 22 }
set_option maxHeartbeats 4000000 in
theorem c_X4_isDigit (D : zD) (A : Nat → Prop) {I : Heap → Prop} {c : Int} (hc : zR c) : zC D yX4_isDigit cX4_isDigit 1 (some .boolean) none rmX4_isDigit A [zI (c)] (I) (zPd (zI (bi (isDig c))) I) zNo := by
  refine zC_start (L := [some (zI (c))]) (by decide) (Nat.le_of_ble_eq_true rfl) rfl (fun X hX => ?_)
  refine z_iload_n (i := 0) (q := 1) hX dX4_isDigit_0 rfl rfl rfl ?_
  refine z_bipush (q := 3) hX dX4_isDigit_1 (by decide) rfl ?_
  refine z_bipush (q := 5) hX dX4_isDigit_3 (by decide) rfl ?_
  refine zt_S1 (q := 8) (na := 3) hX dX4_isDigit_5 (c_X4_in D A (by first | assumption | omega) (by first | assumption | omega) (by first | assumption | omega)) q1955 q1956 q103 q1957 (by decide +kernel) ⟨Nat.le_of_ble_eq_true rfl, Nat.le_of_ble_eq_true rfl⟩ rfl rfl (Nat.le_of_ble_eq_true rfl) rfl ⟨rfl, rfl⟩ (Nat.le_of_ble_eq_true rfl) (Nat.le_of_ble_eq_true rfl) rfl ?_
  exact z_zretB hX dX4_isDigit_8 (Nat.le_of_ble_eq_true rfl) (Nat.le_of_ble_eq_true rfl) rfl (fun H hI => ⟨congrArg (fun z => some (zI z)) (rfl), hI⟩)
abbrev rmX4_wide : Room := { frames := 1, cells := 0, slots := 0, locals := 22 }
set_option maxHeartbeats 4000000 in
theorem c_X4_wide (D : zD) (A : Nat → Prop) {b : Nat} {F : zTF} {G : zTG} {l t : Int} (h : zLn G l) (ht : 0 ≤ t ∧ t < nT (tx (G 0) l)) : zC D yX4_wide cX4_wide 3 (some .int) none rmX4_wide A [.ref b, zI (l), zI (t)] (twI D A b F G) (zPd (zI (wT (tx (G 0) l) t)) (twI D A b (F) (G))) zNo := by
  refine zC_start (L := [some (.ref b), some (zI (l)), some (zI (t))]) (by decide) (Nat.le_of_ble_eq_true rfl) rfl (fun X hX => ?_)
  refine z_aload_n (i := 0) (q := 1) hX dX4_wide_0 rfl rfl rfl ?_
  refine z_iload_n (i := 1) (q := 2) hX dX4_wide_1 rfl rfl rfl ?_
  refine z_iload_n (i := 2) (q := 3) hX dX4_wide_2 rfl rfl rfl ?_
  refine zt_V1 (q := 6) (na := 2) hX dX4_wide_3 (c_X4_toOf D A (by first | assumption | omega) (by first | assumption | omega)) q2006 q2008 qs49 q103 q2009 rfl (by decide +kernel) ⟨Nat.le_of_ble_eq_true rfl, Nat.le_of_ble_eq_true rfl⟩ rfl rfl (Nat.le_of_ble_eq_true rfl) rfl ⟨rfl, rfl⟩ (Nat.le_of_ble_eq_true rfl) (Nat.le_of_ble_eq_true rfl) rfl ?_
  refine z_aload_n (i := 0) (q := 7) hX dX4_wide_6 rfl rfl rfl ?_
  refine z_iload_n (i := 1) (q := 8) hX dX4_wide_7 rfl rfl rfl ?_
  refine z_iload_n (i := 2) (q := 9) hX dX4_wide_8 rfl rfl rfl ?_
  refine zt_V1 (q := 12) (na := 2) hX dX4_wide_9 (c_X4_fromOf D A (by first | assumption | omega) (by first | assumption | omega)) q2010 q2012 qs50 q103 q2013 rfl (by decide +kernel) ⟨Nat.le_of_ble_eq_true rfl, Nat.le_of_ble_eq_true rfl⟩ rfl rfl (Nat.le_of_ble_eq_true rfl) rfl ⟨rfl, rfl⟩ (Nat.le_of_ble_eq_true rfl) (Nat.le_of_ble_eq_true rfl) rfl ?_
  refine z_isub (q := 13) hX dX4_wide_12 rfl ?_
  exact z_iret hX dX4_wide_13 (Nat.le_of_ble_eq_true rfl) (Nat.le_of_ble_eq_true rfl) rfl (fun H hI => ⟨congrArg (fun z => some (zI z)) (rfl), hI⟩)
abbrev rmX4_gap : Room := { frames := 1, cells := 0, slots := 0, locals := 22 }
set_option maxHeartbeats 4000000 in
theorem c_X4_gap (D : zD) (A : Nat → Prop) {b : Nat} {F : zTF} {G : zTG} {l g : Int} (h : zLn G l) (hg : 0 ≤ g ∧ g ≤ nT (tx (G 0) l)) : zC D yX4_gap cX4_gap 4 (some .int) none rmX4_gap A [.ref b, zI (l), zI (g)] (twI D A b F G) (zPd (zI (gp (tx (G 0) l) g)) (twI D A b (F) (G))) zNo := by
  refine zC_start (L := [some (.ref b), some (zI (l)), some (zI (g)), none]) (by decide) (Nat.le_of_ble_eq_true rfl) rfl (fun X hX => ?_)
  have hf := h.1.f
  have h4 : G 4 l = nT (tx (G 0) l) := h.2.1
  refine z_iload_n (i := 2) (q := 1) hX dX4_gap_0 rfl rfl rfl ?_
  refine z_if_ne (q := 4) (t := 8) hX dX4_gap_1 (by decide) (by omega) rfl (fun h1 => ?_) (fun h1 => ?_)
  · refine z_aload_n (i := 0) (q := 9) hX dX4_gap_8 rfl rfl rfl ?_
    refine z_iload_n (i := 1) (q := 10) hX dX4_gap_9 rfl rfl rfl ?_
    refine z_iload_n (i := 2) (q := 11) hX dX4_gap_10 rfl rfl rfl ?_
    refine z_iconst (q := 12) hX dX4_gap_11 rfl ?_
    refine z_isub (q := 13) hX dX4_gap_12 rfl ?_
    refine zt_V1 (q := 16) (na := 2) hX dX4_gap_13 (c_X4_toOf D A (by first | assumption | omega) (by first | assumption | omega)) q2006 q2008 qs49 q103 q2009 rfl (by decide +kernel) ⟨Nat.le_of_ble_eq_true rfl, Nat.le_of_ble_eq_true rfl⟩ rfl rfl (Nat.le_of_ble_eq_true rfl) rfl ⟨rfl, rfl⟩ (Nat.le_of_ble_eq_true rfl) (Nat.le_of_ble_eq_true rfl) rfl ?_
    refine z_istore_n (i := 3) (q := 17) hX dX4_gap_16 rfl (Nat.le_of_ble_eq_true rfl) rfl rfl ?_
    refine z_iload_n (i := 2) (q := 18) hX dX4_gap_17 rfl rfl rfl ?_
    refine z_aload_n (i := 0) (q := 19) hX dX4_gap_18 rfl rfl rfl ?_
    refine zt_getA (q := 22) hX 7 4 dX4_gap_19 q1871 (by decide) rfl rfl rfl ?_
    refine z_iload_n (i := 1) (q := 23) hX dX4_gap_22 rfl rfl rfl ?_
    refine zt_ald (q := 24) (N := 41) hX 4 dX4_gap_23 rfl (by decide) (by decide) (by omega) rfl ?_
    refine z_icmp_ne (q := 27) (t := 35) hX dX4_gap_24 (by decide) (by omega) (by omega) rfl (fun h24 => ?_) (fun h24 => ?_)
    · refine z_aload_n (i := 0) (q := 36) hX dX4_gap_35 rfl rfl rfl ?_
      refine z_iload_n (i := 1) (q := 37) hX dX4_gap_36 rfl rfl rfl ?_
      refine z_iload_n (i := 2) (q := 38) hX dX4_gap_37 rfl rfl rfl ?_
      refine zt_V1 (q := 41) (na := 2) hX dX4_gap_38 (c_X4_fromOf D A (by first | assumption | omega) (by first | assumption | omega)) q2010 q2012 qs50 q103 q2013 rfl (by decide +kernel) ⟨Nat.le_of_ble_eq_true rfl, Nat.le_of_ble_eq_true rfl⟩ rfl rfl (Nat.le_of_ble_eq_true rfl) rfl ⟨rfl, rfl⟩ (Nat.le_of_ble_eq_true rfl) (Nat.le_of_ble_eq_true rfl) rfl ?_
      refine z_iload_n (i := 3) (q := 42) hX dX4_gap_41 rfl rfl rfl ?_
      refine z_isub (q := 43) hX dX4_gap_42 rfl ?_
      exact z_iret hX dX4_gap_43 (Nat.le_of_ble_eq_true rfl) (Nat.le_of_ble_eq_true rfl) rfl (fun H hI => ⟨congrArg (fun z => some (zI z)) ((by unfold gp; rw [hf.2.2.2.2.1]; simp_all)), hI⟩)
    · refine z_aload_n (i := 0) (q := 28) hX dX4_gap_27 rfl rfl rfl ?_
      refine z_iload_n (i := 1) (q := 29) hX dX4_gap_28 rfl rfl rfl ?_
      refine zt_V1 (q := 32) (na := 1) hX dX4_gap_29 (c_X4_lengthOf D A (by first | assumption | omega)) q1974 q1976 qs41 q103 q1977 rfl (by decide +kernel) ⟨Nat.le_of_ble_eq_true rfl, Nat.le_of_ble_eq_true rfl⟩ rfl rfl (Nat.le_of_ble_eq_true rfl) rfl ⟨rfl, rfl⟩ (Nat.le_of_ble_eq_true rfl) (Nat.le_of_ble_eq_true rfl) rfl ?_
      refine z_goto (t := 41) hX dX4_gap_32 (by decide) ?_
      refine z_iload_n (i := 3) (q := 42) hX dX4_gap_41 rfl rfl rfl ?_
      refine z_isub (q := 43) hX dX4_gap_42 rfl ?_
      exact z_iret hX dX4_gap_43 (Nat.le_of_ble_eq_true rfl) (Nat.le_of_ble_eq_true rfl) rfl (fun H hI => ⟨congrArg (fun z => some (zI z)) ((by unfold gp; rw [hf.2.2.2.2.1]; simp_all)), hI⟩)
  · refine z_iconst (q := 5) hX dX4_gap_4 rfl ?_
    refine z_goto (t := 16) hX dX4_gap_5 (by decide) ?_
    refine z_istore_n (i := 3) (q := 17) hX dX4_gap_16 rfl (Nat.le_of_ble_eq_true rfl) rfl rfl ?_
    refine z_iload_n (i := 2) (q := 18) hX dX4_gap_17 rfl rfl rfl ?_
    refine z_aload_n (i := 0) (q := 19) hX dX4_gap_18 rfl rfl rfl ?_
    refine zt_getA (q := 22) hX 7 4 dX4_gap_19 q1871 (by decide) rfl rfl rfl ?_
    refine z_iload_n (i := 1) (q := 23) hX dX4_gap_22 rfl rfl rfl ?_
    refine zt_ald (q := 24) (N := 41) hX 4 dX4_gap_23 rfl (by decide) (by decide) (by omega) rfl ?_
    refine z_icmp_ne (q := 27) (t := 35) hX dX4_gap_24 (by decide) (by omega) (by omega) rfl (fun h24 => ?_) (fun h24 => ?_)
    · refine z_aload_n (i := 0) (q := 36) hX dX4_gap_35 rfl rfl rfl ?_
      refine z_iload_n (i := 1) (q := 37) hX dX4_gap_36 rfl rfl rfl ?_
      refine z_iload_n (i := 2) (q := 38) hX dX4_gap_37 rfl rfl rfl ?_
      refine zt_V1 (q := 41) (na := 2) hX dX4_gap_38 (c_X4_fromOf D A (by first | assumption | omega) (by first | assumption | omega)) q2010 q2012 qs50 q103 q2013 rfl (by decide +kernel) ⟨Nat.le_of_ble_eq_true rfl, Nat.le_of_ble_eq_true rfl⟩ rfl rfl (Nat.le_of_ble_eq_true rfl) rfl ⟨rfl, rfl⟩ (Nat.le_of_ble_eq_true rfl) (Nat.le_of_ble_eq_true rfl) rfl ?_
      refine z_iload_n (i := 3) (q := 42) hX dX4_gap_41 rfl rfl rfl ?_
      refine z_isub (q := 43) hX dX4_gap_42 rfl ?_
      exact z_iret hX dX4_gap_43 (Nat.le_of_ble_eq_true rfl) (Nat.le_of_ble_eq_true rfl) rfl (fun H hI => ⟨congrArg (fun z => some (zI z)) ((by unfold gp; rw [hf.2.2.2.2.1]; simp_all)), hI⟩)
    · refine z_aload_n (i := 0) (q := 28) hX dX4_gap_27 rfl rfl rfl ?_
      refine z_iload_n (i := 1) (q := 29) hX dX4_gap_28 rfl rfl rfl ?_
      refine zt_V1 (q := 32) (na := 1) hX dX4_gap_29 (c_X4_lengthOf D A (by first | assumption | omega)) q1974 q1976 qs41 q103 q1977 rfl (by decide +kernel) ⟨Nat.le_of_ble_eq_true rfl, Nat.le_of_ble_eq_true rfl⟩ rfl rfl (Nat.le_of_ble_eq_true rfl) rfl ⟨rfl, rfl⟩ (Nat.le_of_ble_eq_true rfl) (Nat.le_of_ble_eq_true rfl) rfl ?_
      refine z_goto (t := 41) hX dX4_gap_32 (by decide) ?_
      refine z_iload_n (i := 3) (q := 42) hX dX4_gap_41 rfl rfl rfl ?_
      refine z_isub (q := 43) hX dX4_gap_42 rfl ?_
      exact z_iret hX dX4_gap_43 (Nat.le_of_ble_eq_true rfl) (Nat.le_of_ble_eq_true rfl) rfl (fun H hI => ⟨congrArg (fun z => some (zI z)) ((by unfold gp; rw [hf.2.2.2.2.1]; simp_all)), hI⟩)
abbrev rmX4_isSame : Room := { frames := 2, cells := 0, slots := 0, locals := 44 }
set_option maxHeartbeats 4000000 in
theorem c_X4_isSame (D : zD) (A : Nat → Prop) {b : Nat} {F : zTF} {G : zTG} {l t o u : Int} (h : zLn G l) (ht : 0 ≤ t ∧ t < nT (tx (G 0) l)) (g : zLn G o) (hu : 0 ≤ u ∧ u < nT (tx (G 0) o)) : zC D yX4_isSame cX4_isSame 7 (some .boolean) none rmX4_isSame A [.ref b, zI (l), zI (t), zI (o), zI (u)] (twI D A b F G) (zPd (zI (bi (decide (tok (tx (G 0) l) t = tok (tx (G 0) o) u)))) (twI D A b (F) (G))) zNo := by
  refine zC_start (L := [some (.ref b), some (zI (l)), some (zI (t)), some (zI (o)), some (zI (u)), none, none]) (by decide) (Nat.le_of_ble_eq_true rfl) rfl (fun X hX => ?_)
  have r1 := h.1
  have r2 := g.1
  have f1 := h.1.f
  have f2 := g.1.f
  have t1 := h.t ht.1 ht.2
  have t2 := g.t hu.1 hu.2
  obtain ⟨e, he⟩ : ∃ e : Nat → Bool, e = fun i => decide (wT (tx (G 0) l) t = wT (tx (G 0) o) u) && allI (fun j => decide (cT (tx (G 0) l) (fT (tx (G 0) l) t + j) = cT (tx (G 0) o) (fT (tx (G 0) o) u + j))) i := ⟨_, rfl⟩
  have hend : e (wT (tx (G 0) l) t).toNat = decide (tok (tx (G 0) l) t = tok (tx (G 0) o) u) := by
    rw [he]
    refine Bool.eq_iff_iff.mpr ?_
    simp only [Bool.and_eq_true, decide_eq_true_eq, allI_iff, tok_eq ht.1 ht.2 hu.1 hu.2]
    refine and_congr_right fun hw => ⟨fun q i i0 i1 => ?_, fun q i i1 => q i (by omega) (by omega)⟩
    have := q i.toNat (by omega)
    rwa [Int.toNat_of_nonneg i0] at this
  have hfalse : ∀ i : Nat, i ≤ (wT (tx (G 0) l) t).toNat → e i = false → e (wT (tx (G 0) l) t).toNat = false := by
    intro i hi hf
    rw [he] at hf ⊢
    simp only [Bool.and_eq_false_iff, decide_eq_false_iff_not] at hf ⊢
    rcases hf with q | q
    · exact Or.inl q
    · refine Or.inr ?_
      rw [← Bool.not_eq_true, allI_iff] at q ⊢
      exact fun z => q fun j hj => z j (by omega)
  have K : ∀ i : Nat, i ≤ (wT (tx (G 0) l) t).toNat → ∀ v : Int, v = bi (e i) → zG X 0 0 (twI D A b F G) 26 [some (.ref b), some (zI (l)), some (zI (t)), some (zI (o)), some (zI (u)), some (zI (v)), some (zI (i))] [] := by
    refine z_up (fun i hi ih v hv => ?_)
    have hb := bi_range (e i)
    have hs : e (i + 1) = (e i && decide (cT (tx (G 0) l) (fT (tx (G 0) l) t + i) = cT (tx (G 0) o) (fT (tx (G 0) o) u + i))) := by
      rw [he]; simp only [allI, Bool.and_assoc]
    have h1 : v = 0 ∨ (v = 1 ∧ e i = true) := by
      cases hc : e i with
      | false => rw [hc] at hv; exact Or.inl hv
      | true => rw [hc] at hv; exact Or.inr ⟨hv, rfl⟩
    have hw : e i = true → wT (tx (G 0) l) t = wT (tx (G 0) o) u := by
      intro q; rw [he] at q; simp only [Bool.and_eq_true, decide_eq_true_eq] at q; exact q.1
    refine z_iload (q := 28) hX dX4_isSame_26 rfl rfl ?_
    refine z_aload_n (i := 0) (q := 29) hX dX4_isSame_28 rfl rfl rfl ?_
    refine z_iload_n (i := 1) (q := 30) hX dX4_isSame_29 rfl rfl rfl ?_
    refine z_iload_n (i := 2) (q := 31) hX dX4_isSame_30 rfl rfl rfl ?_
    refine zt_V1 (q := 34) (na := 2) hX dX4_isSame_31 (c_X4_wide D A (by first | assumption | omega) (by first | assumption | omega)) q2022 q2024 qs53 q103 q2025 rfl (by decide +kernel) ⟨Nat.le_of_ble_eq_true rfl, Nat.le_of_ble_eq_true rfl⟩ rfl rfl (Nat.le_of_ble_eq_true rfl) rfl ⟨rfl, rfl⟩ (Nat.le_of_ble_eq_true rfl) (Nat.le_of_ble_eq_true rfl) rfl ?_
    refine z_icmp_ge (q := 37) (t := 87) hX dX4_isSame_34 (by decide) (by omega) (by omega) rfl (fun h34 => ?_) (fun h34 => ?_)
    · refine z_iload (q := 89) hX dX4_isSame_87 rfl rfl ?_
      exact z_zret hX dX4_isSame_89 (Nat.le_of_ble_eq_true rfl) (Nat.le_of_ble_eq_true rfl) rfl (by first | decide | omega) (fun H hI => ⟨congrArg (fun z => some (zI z)) ((by rw [hv, ← hend, show i = (wT (tx (G 0) l) t).toNat by omega])), hI⟩)
    · refine z_iload (q := 39) hX dX4_isSame_37 rfl rfl ?_
      refine z_if_eq (q := 42) (t := 87) hX dX4_isSame_39 (by decide) (by omega) rfl (fun h39 => ?_) (fun h39 => ?_)
      · refine z_iload (q := 89) hX dX4_isSame_87 rfl rfl ?_
        exact z_zret hX dX4_isSame_89 (Nat.le_of_ble_eq_true rfl) (Nat.le_of_ble_eq_true rfl) rfl (by first | decide | omega) (fun H hI => ⟨congrArg (fun z => some (zI z)) ((by rw [h39, ← hend, hfalse i hi (by rcases h1 with q | q; rw [hv] at q; cases hc : e i; rfl; rw [hc] at q; exact absurd q (by decide); exact absurd q.1 (by omega))]; rfl)), hI⟩)
      · have hei : e i = true := by rcases h1 with q | q; exact absurd q h39; exact q.2
        have hw2 := hw hei
        refine z_aload_n (i := 0) (q := 43) hX dX4_isSame_42 rfl rfl rfl ?_
        refine z_iload_n (i := 1) (q := 44) hX dX4_isSame_43 rfl rfl rfl ?_
        refine z_aload_n (i := 0) (q := 45) hX dX4_isSame_44 rfl rfl rfl ?_
        refine z_iload_n (i := 1) (q := 46) hX dX4_isSame_45 rfl rfl rfl ?_
        refine z_iload_n (i := 2) (q := 47) hX dX4_isSame_46 rfl rfl rfl ?_
        refine zt_V1 (q := 50) (na := 2) hX dX4_isSame_47 (c_X4_fromOf D A (by first | assumption | omega) (by first | assumption | omega)) q2010 q2012 qs50 q103 q2013 rfl (by decide +kernel) ⟨Nat.le_of_ble_eq_true rfl, Nat.le_of_ble_eq_true rfl⟩ rfl rfl (Nat.le_of_ble_eq_true rfl) rfl ⟨rfl, rfl⟩ (Nat.le_of_ble_eq_true rfl) (Nat.le_of_ble_eq_true rfl) rfl ?_
        refine z_iload (q := 52) hX dX4_isSame_50 rfl rfl ?_
        refine z_iadd (q := 53) hX dX4_isSame_52 rfl ?_
        refine zt_V1 (q := 56) (na := 2) hX dX4_isSame_53 (c_X4_charAt D A (by first | assumption | omega) (by first | assumption | omega)) q1978 q1980 qs42 q103 q1981 rfl (by decide +kernel) ⟨Nat.le_of_ble_eq_true rfl, Nat.le_of_ble_eq_true rfl⟩ rfl rfl (Nat.le_of_ble_eq_true rfl) rfl ⟨rfl, rfl⟩ (Nat.le_of_ble_eq_true rfl) (Nat.le_of_ble_eq_true rfl) rfl ?_
        refine z_aload_n (i := 0) (q := 57) hX dX4_isSame_56 rfl rfl rfl ?_
        refine z_iload_n (i := 3) (q := 58) hX dX4_isSame_57 rfl rfl rfl ?_
        refine z_aload_n (i := 0) (q := 59) hX dX4_isSame_58 rfl rfl rfl ?_
        refine z_iload_n (i := 3) (q := 60) hX dX4_isSame_59 rfl rfl rfl ?_
        refine z_iload (q := 62) hX dX4_isSame_60 rfl rfl ?_
        refine zt_V1 (q := 65) (na := 2) hX dX4_isSame_62 (c_X4_fromOf D A (by first | assumption | omega) (by first | assumption | omega)) q2010 q2012 qs50 q103 q2013 rfl (by decide +kernel) ⟨Nat.le_of_ble_eq_true rfl, Nat.le_of_ble_eq_true rfl⟩ rfl rfl (Nat.le_of_ble_eq_true rfl) rfl ⟨rfl, rfl⟩ (Nat.le_of_ble_eq_true rfl) (Nat.le_of_ble_eq_true rfl) rfl ?_
        refine z_iload (q := 67) hX dX4_isSame_65 rfl rfl ?_
        refine z_iadd (q := 68) hX dX4_isSame_67 rfl ?_
        refine zt_V1 (q := 71) (na := 2) hX dX4_isSame_68 (c_X4_charAt D A (by first | assumption | omega) (by first | assumption | omega)) q1978 q1980 qs42 q103 q1981 rfl (by decide +kernel) ⟨Nat.le_of_ble_eq_true rfl, Nat.le_of_ble_eq_true rfl⟩ rfl rfl (Nat.le_of_ble_eq_true rfl) rfl ⟨rfl, rfl⟩ (Nat.le_of_ble_eq_true rfl) (Nat.le_of_ble_eq_true rfl) rfl ?_
        have c1 := r1.ch (i := fT (tx (G 0) l) t + i) (by omega) (by omega)
        have c2 := r2.ch (i := fT (tx (G 0) o) u + i) (by omega) (by omega)
        refine z_icmp_ne (q := 74) (t := 78) hX dX4_isSame_71 (by decide) (by omega) (by omega) rfl (fun h71 => ?_) (fun h71 => ?_)
        · refine z_iconst (q := 79) hX dX4_isSame_78 rfl ?_
          refine z_istore (q := 81) hX dX4_isSame_79 (Nat.le_of_ble_eq_true rfl) rfl rfl ?_
          refine z_iinc (q := 84) hX dX4_isSame_81 rfl (Nat.le_of_ble_eq_true rfl) rfl rfl ?_
          refine z_goto (t := 26) hX dX4_isSame_84 (by decide) ?_
          exact ih (by omega) _ (by rw [hs, hei]; simp [bi, h71])
        · refine z_iconst (q := 75) hX dX4_isSame_74 rfl ?_
          refine z_goto (t := 79) hX dX4_isSame_75 (by decide) ?_
          refine z_istore (q := 81) hX dX4_isSame_79 (Nat.le_of_ble_eq_true rfl) rfl rfl ?_
          refine z_iinc (q := 84) hX dX4_isSame_81 rfl (Nat.le_of_ble_eq_true rfl) rfl rfl ?_
          refine z_goto (t := 26) hX dX4_isSame_84 (by decide) ?_
          exact ih (by omega) _ (by rw [hs, hei]; simp [bi, h71])
  refine z_aload_n (i := 0) (q := 1) hX dX4_isSame_0 rfl rfl rfl ?_
  refine z_iload_n (i := 1) (q := 2) hX dX4_isSame_1 rfl rfl rfl ?_
  refine z_iload_n (i := 2) (q := 3) hX dX4_isSame_2 rfl rfl rfl ?_
  refine zt_V1 (q := 6) (na := 2) hX dX4_isSame_3 (c_X4_wide D A (by first | assumption | omega) (by first | assumption | omega)) q2022 q2024 qs53 q103 q2025 rfl (by decide +kernel) ⟨Nat.le_of_ble_eq_true rfl, Nat.le_of_ble_eq_true rfl⟩ rfl rfl (Nat.le_of_ble_eq_true rfl) rfl ⟨rfl, rfl⟩ (Nat.le_of_ble_eq_true rfl) (Nat.le_of_ble_eq_true rfl) rfl ?_
  refine z_aload_n (i := 0) (q := 7) hX dX4_isSame_6 rfl rfl rfl ?_
  refine z_iload_n (i := 3) (q := 8) hX dX4_isSame_7 rfl rfl rfl ?_
  refine z_iload (q := 10) hX dX4_isSame_8 rfl rfl ?_
  refine zt_V1 (q := 13) (na := 2) hX dX4_isSame_10 (c_X4_wide D A (by first | assumption | omega) (by first | assumption | omega)) q2022 q2024 qs53 q103 q2025 rfl (by decide +kernel) ⟨Nat.le_of_ble_eq_true rfl, Nat.le_of_ble_eq_true rfl⟩ rfl rfl (Nat.le_of_ble_eq_true rfl) rfl ⟨rfl, rfl⟩ (Nat.le_of_ble_eq_true rfl) (Nat.le_of_ble_eq_true rfl) rfl ?_
  refine z_icmp_ne (q := 16) (t := 20) hX dX4_isSame_13 (by decide) (by omega) (by omega) rfl (fun h13 => ?_) (fun h13 => ?_)
  · refine z_iconst (q := 21) hX dX4_isSame_20 rfl ?_
    refine z_istore (q := 23) hX dX4_isSame_21 (Nat.le_of_ble_eq_true rfl) rfl rfl ?_
    refine z_iconst (q := 24) hX dX4_isSame_23 rfl ?_
    refine z_istore (q := 26) hX dX4_isSame_24 (Nat.le_of_ble_eq_true rfl) rfl rfl ?_
    exact K 0 (Nat.zero_le _) _ (by rw [he]; simp [allI, bi, h13])
  · refine z_iconst (q := 17) hX dX4_isSame_16 rfl ?_
    refine z_goto (t := 21) hX dX4_isSame_17 (by decide) ?_
    refine z_istore (q := 23) hX dX4_isSame_21 (Nat.le_of_ble_eq_true rfl) rfl rfl ?_
    refine z_iconst (q := 24) hX dX4_isSame_23 rfl ?_
    refine z_istore (q := 26) hX dX4_isSame_24 (Nat.le_of_ble_eq_true rfl) rfl rfl ?_
    exact K 0 (Nat.zero_le _) _ (by rw [he]; simp [allI, bi, h13])
theorem cnt_all {p : Int → Bool} {n : Nat} : sumI (fun i => bi (p i)) n = n ↔ allI p n = true := by
  have hle : ∀ m : Nat, sumI (fun i => bi (p i)) m ≤ m := fun m => by
    have := (sumI_range (f := fun i => bi (p i)) (n := m) (lo := 0) (hi := 1) (fun i _ => bi_range (p i))).2
    omega
  induction n with
  | zero => simp [sumI, allI]
  | succ n ih =>
    have h1 := hle n
    rw [sumI, allI, Bool.and_eq_true]
    have hc : ((n + 1 : Nat) : Int) = (n : Int) + 1 := by omega
    cases hp : p n with
    | true =>
      constructor
      · intro q
        rw [bi_t] at q
        exact ⟨ih.mp (by omega), rfl⟩
      · intro q
        have := ih.mpr q.1
        rw [bi_t]
        omega
    | false =>
      constructor
      · intro q
        rw [bi_f] at q
        omega
      · intro q
        exact absurd q.2 (by decide)
theorem cnt_rng (p : Int → Bool) (n : Nat) : 0 ≤ sumI (fun i => bi (p i)) n ∧ sumI (fun i => bi (p i)) n ≤ n := by
  have := sumI_range (f := fun i => bi (p i)) (n := n) (lo := 0) (hi := 1) (fun i _ => bi_range (p i))
  omega
theorem isLet_not {c : Int} (h : isLet c = true) : isDig c = false ∧ c ≠ 45 := by
  unfold isLet at h
  unfold isDig
  simp only [Bool.or_eq_true, Bool.and_eq_true, decide_eq_true_eq, Bool.and_eq_false_iff, decide_eq_false_iff_not] at h ⊢
  omega
theorem typ_wrd {w : zS} (h1 : 1 ≤ (w.length : Int)) (h : isWrd w = true) : typ w = 1 := by
  have h0 := isLet_not (allI_iff.mp h 0 (by omega))
  have hn : neg1 w = 0 := if_neg h0.2
  have hf : isNum w = false := by
    unfold isNum
    rw [hn]
    have : allI (fun i => isDig (cT w (0 + i))) (w.length - (0 : Int).toNat) = false := by
      rw [← Bool.not_eq_true, allI_iff]
      intro q
      have := q 0 (by omega)
      simp only [Int.zero_add] at this
      exact absurd (h0.1.symm.trans this) (by decide)
    rw [this]
    simp
  unfold typ
  rw [hf, h]
  rfl
theorem neg1_rng (w : zS) : neg1 w = 0 ∨ neg1 w = 1 := by unfold neg1; split <;> simp
theorem num_pos {w : zS} (h : neg1 w = 0) : num w = absNum w := by
  refine if_neg (fun q => ?_)
  unfold neg1 at h
  rw [if_pos q] at h
  exact absurd h (by decide)
theorem num_neg {w : zS} (h : ¬ neg1 w = 0) : num w = -absNum w := by
  refine if_pos (Decidable.not_not.mp fun q => ?_)
  unfold neg1 at h
  rw [if_neg q] at h
  exact h rfl
abbrev rmX4_numberOf : Room := { frames := 1, cells := 0, slots := 0, locals := 22 }
set_option maxHeartbeats 4000000 in
theorem c_X4_numberOf (D : zD) (A : Nat → Prop) {b : Nat} {F : zTF} {G : zTG} {l t : Int} (h : zLn G l) (ht : 0 ≤ t ∧ t < nT (tx (G 0) l)) : zC D yX4_numberOf cX4_numberOf 6 (some .int) none rmX4_numberOf A [.ref b, zI (l), zI (t)] (twI D A b F G) (zPd (zI (num (tok (tx (G 0) l) t))) (twI D A b (F) (G))) zNo := by
  refine zC_start (L := [some (.ref b), some (zI (l)), some (zI (t)), none, none, none]) (by decide) (Nat.le_of_ble_eq_true rfl) rfl (fun X hX => ?_)
  have r1 := h.1
  have f1 := h.1.f
  have t1 := h.t ht.1 ht.2
  have hw := tok_len ht.1 ht.2
  have hc : ∀ j : Int, 0 ≤ j → j < wT (tx (G 0) l) t → cT (tok (tx (G 0) l) t) j = cT (tx (G 0) l) (fT (tx (G 0) l) t + j) := fun j j0 j1 => tok_cT ht.1 ht.2 j0 j1
  obtain ⟨w, ew⟩ : ∃ w, w = tok (tx (G 0) l) t := ⟨_, rfl⟩
  rw [← ew] at hw hc hX
  have hc0 := hc 0 (by omega) (by omega)
  rw [Int.add_zero] at hc0
  have hn := neg1_rng w
  have c0 := r1.ch (i := fT (tx (G 0) l) t) (by omega) (by omega)
  have K : ∀ n : Nat, n ≤ w.length - (neg1 w).toNat → ∀ mn v p : Int, mn = neg1 w → v = numI (fun i => cT w (neg1 w + i)) n → p = fT (tx (G 0) l) t + (neg1 w + n) → zG X 0 0 (twI D A b F G) 43 [some (.ref b), some (zI (l)), some (zI (t)), some (zI (mn)), some (zI (v)), some (zI (p))] [] := by
    refine z_up (fun n hn1 ih mn v p e1 e2 e3 => ?_)
    subst e1 e2 e3
    refine z_iload (q := 45) hX dX4_numberOf_43 rfl rfl ?_
    refine z_aload_n (i := 0) (q := 46) hX dX4_numberOf_45 rfl rfl rfl ?_
    refine z_iload_n (i := 1) (q := 47) hX dX4_numberOf_46 rfl rfl rfl ?_
    refine z_iload_n (i := 2) (q := 48) hX dX4_numberOf_47 rfl rfl rfl ?_
    refine zt_V1 (q := 51) (na := 2) hX dX4_numberOf_48 (c_X4_toOf D A (by first | assumption | omega) (by first | assumption | omega)) q2006 q2008 qs49 q103 q2009 rfl (by decide +kernel) ⟨Nat.le_of_ble_eq_true rfl, Nat.le_of_ble_eq_true rfl⟩ rfl rfl (Nat.le_of_ble_eq_true rfl) rfl ⟨rfl, rfl⟩ (Nat.le_of_ble_eq_true rfl) (Nat.le_of_ble_eq_true rfl) rfl ?_
    refine z_icmp_ge (q := 54) (t := 78) hX dX4_numberOf_51 (by decide) (by omega) (by omega) rfl (fun h51 => ?_) (fun h51 => ?_)
    · refine z_iload_n (i := 3) (q := 79) hX dX4_numberOf_78 rfl rfl rfl ?_
      refine z_if_eq (q := 82) (t := 88) hX dX4_numberOf_79 (by decide) (by omega) rfl (fun h79 => ?_) (fun h79 => ?_)
      · refine z_iload (q := 90) hX dX4_numberOf_88 rfl rfl ?_
        exact z_iret hX dX4_numberOf_90 (Nat.le_of_ble_eq_true rfl) (Nat.le_of_ble_eq_true rfl) rfl (fun H hI => ⟨congrArg (fun z => some (zI z)) ((by rw [num_pos h79, absNum, show n = w.length - (neg1 w).toNat by omega])), hI⟩)
      · refine z_iload (q := 84) hX dX4_numberOf_82 rfl rfl ?_
        refine z_ineg (q := 85) hX dX4_numberOf_84 rfl ?_
        refine z_goto (t := 90) hX dX4_numberOf_85 (by decide) ?_
        exact z_iret hX dX4_numberOf_90 (Nat.le_of_ble_eq_true rfl) (Nat.le_of_ble_eq_true rfl) rfl (fun H hI => ⟨congrArg (fun z => some (zI z)) ((by rw [num_neg h79, absNum, show n = w.length - (neg1 w).toNat by omega])), hI⟩)
    · have e1 := hc (neg1 w + n) (by omega) (by omega)
      refine z_bipush (q := 56) hX dX4_numberOf_54 (by decide) rfl ?_
      refine z_iload (q := 58) hX dX4_numberOf_56 rfl rfl ?_
      refine z_imul (q := 59) hX dX4_numberOf_58 rfl ?_
      refine z_aload_n (i := 0) (q := 60) hX dX4_numberOf_59 rfl rfl rfl ?_
      refine z_iload_n (i := 1) (q := 61) hX dX4_numberOf_60 rfl rfl rfl ?_
      refine z_iload (q := 63) hX dX4_numberOf_61 rfl rfl ?_
      refine zt_V1 (q := 66) (na := 2) hX dX4_numberOf_63 (c_X4_charAt D A (by first | assumption | omega) (by first | assumption | omega)) q1978 q1980 qs42 q103 q1981 rfl (by decide +kernel) ⟨Nat.le_of_ble_eq_true rfl, Nat.le_of_ble_eq_true rfl⟩ rfl rfl (Nat.le_of_ble_eq_true rfl) rfl ⟨rfl, rfl⟩ (Nat.le_of_ble_eq_true rfl) (Nat.le_of_ble_eq_true rfl) rfl ?_
      refine z_iadd (q := 67) hX dX4_numberOf_66 rfl ?_
      refine z_bipush (q := 69) hX dX4_numberOf_67 (by decide) rfl ?_
      refine z_isub (q := 70) hX dX4_numberOf_69 rfl ?_
      refine z_istore (q := 72) hX dX4_numberOf_70 (Nat.le_of_ble_eq_true rfl) rfl rfl ?_
      refine z_iinc (q := 75) hX dX4_numberOf_72 rfl (Nat.le_of_ble_eq_true rfl) rfl rfl ?_
      refine z_goto (t := 43) hX dX4_numberOf_75 (by decide) ?_
      exact ih (by omega) _ _ _ rfl (by rw [← e1]; rfl) (by omega)
  have hng : cT w 0 = 45 → neg1 w = 1 := fun q => if_pos q
  have hng0 : cT w 0 ≠ 45 → neg1 w = 0 := fun q => if_neg q
  refine z_aload_n (i := 0) (q := 1) hX dX4_numberOf_0 rfl rfl rfl ?_
  refine z_iload_n (i := 1) (q := 2) hX dX4_numberOf_1 rfl rfl rfl ?_
  refine z_aload_n (i := 0) (q := 3) hX dX4_numberOf_2 rfl rfl rfl ?_
  refine z_iload_n (i := 1) (q := 4) hX dX4_numberOf_3 rfl rfl rfl ?_
  refine z_iload_n (i := 2) (q := 5) hX dX4_numberOf_4 rfl rfl rfl ?_
  refine zt_V1 (q := 8) (na := 2) hX dX4_numberOf_5 (c_X4_fromOf D A (by first | assumption | omega) (by first | assumption | omega)) q2010 q2012 qs50 q103 q2013 rfl (by decide +kernel) ⟨Nat.le_of_ble_eq_true rfl, Nat.le_of_ble_eq_true rfl⟩ rfl rfl (Nat.le_of_ble_eq_true rfl) rfl ⟨rfl, rfl⟩ (Nat.le_of_ble_eq_true rfl) (Nat.le_of_ble_eq_true rfl) rfl ?_
  refine zt_V1 (q := 11) (na := 2) hX dX4_numberOf_8 (c_X4_charAt D A (by first | assumption | omega) (by first | assumption | omega)) q1978 q1980 qs42 q103 q1981 rfl (by decide +kernel) ⟨Nat.le_of_ble_eq_true rfl, Nat.le_of_ble_eq_true rfl⟩ rfl rfl (Nat.le_of_ble_eq_true rfl) rfl ⟨rfl, rfl⟩ (Nat.le_of_ble_eq_true rfl) (Nat.le_of_ble_eq_true rfl) rfl ?_
  refine z_bipush (q := 13) hX dX4_numberOf_11 (by decide) rfl ?_
  refine z_icmp_ne (q := 16) (t := 20) hX dX4_numberOf_13 (by decide) (by omega) (by omega) rfl (fun h13 => ?_) (fun h13 => ?_)
  · refine z_iconst (q := 21) hX dX4_numberOf_20 rfl ?_
    refine z_istore_n (i := 3) (q := 22) hX dX4_numberOf_21 rfl (Nat.le_of_ble_eq_true rfl) rfl rfl ?_
    refine z_iconst (q := 23) hX dX4_numberOf_22 rfl ?_
    refine z_istore (q := 25) hX dX4_numberOf_23 (Nat.le_of_ble_eq_true rfl) rfl rfl ?_
    refine z_aload_n (i := 0) (q := 26) hX dX4_numberOf_25 rfl rfl rfl ?_
    refine z_iload_n (i := 1) (q := 27) hX dX4_numberOf_26 rfl rfl rfl ?_
    refine z_iload_n (i := 2) (q := 28) hX dX4_numberOf_27 rfl rfl rfl ?_
    refine zt_V1 (q := 31) (na := 2) hX dX4_numberOf_28 (c_X4_fromOf D A (by first | assumption | omega) (by first | assumption | omega)) q2010 q2012 qs50 q103 q2013 rfl (by decide +kernel) ⟨Nat.le_of_ble_eq_true rfl, Nat.le_of_ble_eq_true rfl⟩ rfl rfl (Nat.le_of_ble_eq_true rfl) rfl ⟨rfl, rfl⟩ (Nat.le_of_ble_eq_true rfl) (Nat.le_of_ble_eq_true rfl) rfl ?_
    refine z_iload_n (i := 3) (q := 32) hX dX4_numberOf_31 rfl rfl rfl ?_
    refine z_if_eq (q := 35) (t := 39) hX dX4_numberOf_32 (by decide) (by omega) rfl (fun h32 => ?_) (fun h32 => ?_)
    · refine z_iconst (q := 40) hX dX4_numberOf_39 rfl ?_
      refine z_iadd (q := 41) hX dX4_numberOf_40 rfl ?_
      refine z_istore (q := 43) hX dX4_numberOf_41 (Nat.le_of_ble_eq_true rfl) rfl rfl ?_
      exact K 0 (Nat.zero_le _) _ _ _ (hng0 (by omega)).symm rfl (by rw [hng0 (by omega)]; omega)
    · exact absurd h32 (by decide)
  · refine z_iconst (q := 17) hX dX4_numberOf_16 rfl ?_
    refine z_goto (t := 21) hX dX4_numberOf_17 (by decide) ?_
    refine z_istore_n (i := 3) (q := 22) hX dX4_numberOf_21 rfl (Nat.le_of_ble_eq_true rfl) rfl rfl ?_
    refine z_iconst (q := 23) hX dX4_numberOf_22 rfl ?_
    refine z_istore (q := 25) hX dX4_numberOf_23 (Nat.le_of_ble_eq_true rfl) rfl rfl ?_
    refine z_aload_n (i := 0) (q := 26) hX dX4_numberOf_25 rfl rfl rfl ?_
    refine z_iload_n (i := 1) (q := 27) hX dX4_numberOf_26 rfl rfl rfl ?_
    refine z_iload_n (i := 2) (q := 28) hX dX4_numberOf_27 rfl rfl rfl ?_
    refine zt_V1 (q := 31) (na := 2) hX dX4_numberOf_28 (c_X4_fromOf D A (by first | assumption | omega) (by first | assumption | omega)) q2010 q2012 qs50 q103 q2013 rfl (by decide +kernel) ⟨Nat.le_of_ble_eq_true rfl, Nat.le_of_ble_eq_true rfl⟩ rfl rfl (Nat.le_of_ble_eq_true rfl) rfl ⟨rfl, rfl⟩ (Nat.le_of_ble_eq_true rfl) (Nat.le_of_ble_eq_true rfl) rfl ?_
    refine z_iload_n (i := 3) (q := 32) hX dX4_numberOf_31 rfl rfl rfl ?_
    refine z_if_eq (q := 35) (t := 39) hX dX4_numberOf_32 (by decide) (by omega) rfl (fun h32 => ?_) (fun h32 => ?_)
    · exact absurd h32 (by decide)
    · refine z_iconst (q := 36) hX dX4_numberOf_35 rfl ?_
      refine z_goto (t := 40) hX dX4_numberOf_36 (by decide) ?_
      refine z_iadd (q := 41) hX dX4_numberOf_40 rfl ?_
      refine z_istore (q := 43) hX dX4_numberOf_41 (Nat.le_of_ble_eq_true rfl) rfl rfl ?_
      exact K 0 (Nat.zero_le _) _ _ _ (hng (by omega)).symm rfl (by rw [hng (by omega)]; omega)
theorem isNum_eq {w : zS} {m : Nat} (hm : m = w.length - (neg1 w).toNat) (h1 : 1 ≤ (w.length : Int)) (c7 c8 : Bool) (h7 : c7 = ((decide (1 ≤ (w.length : Int) - neg1 w) && decide ((w.length : Int) - neg1 w ≤ 9)) && allI (fun i => isDig (cT w (neg1 w + i))) m)) (h8 : c8 = (c7 && decide (cT w (neg1 w) = 48))) : isNum w = (c7 && !(c8 && (decide (1 < (w.length : Int) - neg1 w) || decide (0 < neg1 w)))) := by
  unfold isNum
  rw [← hm, ← h7, h8]
  have hn := neg1_rng w
  cases c7 with
  | false => rfl
  | true =>
    have h9 := h7.symm
    simp only [Bool.and_eq_true, decide_eq_true_eq] at h9
    simp only [Bool.true_and]
    congr 2
    refine Bool.eq_iff_iff.mpr ?_
    simp only [Bool.not_eq_true', Bool.and_eq_false_iff, decide_eq_false_iff_not, Bool.or_eq_true, decide_eq_true_eq]
    omega
abbrev rmX4_typeOf : Room := { frames := 2, cells := 0, slots := 0, locals := 42 }
set_option maxHeartbeats 4000000 in
theorem c_X4_typeOf (D : zD) (A : Nat → Prop) {b : Nat} {F : zTF} {G : zTG} {l t : Int} (h : zLn G l) (ht : 0 ≤ t ∧ t < nT (tx (G 0) l)) : zC D yX4_typeOf cX4_typeOf 9 (some .int) none rmX4_typeOf A [.ref b, zI (l), zI (t)] (twI D A b F G) (zPd (zI (typ (tok (tx (G 0) l) t))) (twI D A b (F) (G))) zNo := by
  refine zC_start (L := [some (.ref b), some (zI (l)), some (zI (t)), none, none, none, none, none, none]) (by decide) (Nat.le_of_ble_eq_true rfl) rfl (fun X hX => ?_)
  have r1 := h.1
  have f1 := h.1.f
  have t1 := h.t ht.1 ht.2
  have hw := tok_len ht.1 ht.2
  have hc : ∀ j : Int, 0 ≤ j → j < wT (tx (G 0) l) t → cT (tok (tx (G 0) l) t) j = cT (tx (G 0) l) (fT (tx (G 0) l) t + j) := fun j j0 j1 => tok_cT ht.1 ht.2 j0 j1
  obtain ⟨w, ew⟩ : ∃ w, w = tok (tx (G 0) l) t := ⟨_, rfl⟩
  rw [← ew] at hw hc hX
  have hc0 := hc 0 (by omega) (by omega)
  rw [Int.add_zero] at hc0
  have hn := neg1_rng w
  have c0 := r1.ch (i := fT (tx (G 0) l) t) (by omega) (by omega)
  have hng : cT w 0 = 45 → neg1 w = 1 := fun q => if_pos q
  have hng0 : cT w 0 ≠ 45 → neg1 w = 0 := fun q => if_neg q
  have J176 : isWrd w = false → ∀ (c5 : Int) (c7 c8 : Bool) (z : Int), isNum w = (c7 && !(c8 && (decide (1 < (w.length : Int) - neg1 w) || decide (0 < neg1 w)))) → z = bi c8 → zG X 0 0 (twI D A b F G) 176 [some (.ref b), some (zI (l)), some (zI (t)), some (zI (fT (tx (G 0) l) t)), some (zI (eT (tx (G 0) l) t)), some (zI (c5)), some (zI (fT (tx (G 0) l) t + neg1 w)), some (zI (bi (c7))), some (zI (eT (tx (G 0) l) t))] [zI (z)] := by
    intro hwd c5 c7 c8 z hnum hz
    subst hz
    have b8 := bi_range c8
    have hr : ∀ v : Bool, isNum w = v → (if v then 2 else 0) = typ w := fun v hv => by unfold typ; rw [hv, hwd]; rfl
    refine z_istore (q := 178) hX dX4_typeOf_176 (Nat.le_of_ble_eq_true rfl) rfl rfl ?_
    refine z_iload (q := 180) hX dX4_typeOf_178 rfl rfl ?_
    refine z_ifB_eq (q := 183) (t := 207) hX dX4_typeOf_180 (by decide) rfl (fun h180 => ?_) (fun h180 => ?_)
    · refine z_iconst (q := 208) hX dX4_typeOf_207 rfl ?_
      exact z_iret hX dX4_typeOf_208 (Nat.le_of_ble_eq_true rfl) (Nat.le_of_ble_eq_true rfl) rfl (fun H hI => ⟨congrArg (fun z => some (zI z)) ((hr false (by rw [hnum, h180]; rfl))), hI⟩)
    · refine z_iload (q := 185) hX dX4_typeOf_183 rfl rfl ?_
      refine z_ifB_eq (q := 188) (t := 203) hX dX4_typeOf_185 (by decide) rfl (fun h185 => ?_) (fun h185 => ?_)
      · refine z_iconst (q := 204) hX dX4_typeOf_203 rfl ?_
        refine z_goto (t := 208) hX dX4_typeOf_204 (by decide) ?_
        exact z_iret hX dX4_typeOf_208 (Nat.le_of_ble_eq_true rfl) (Nat.le_of_ble_eq_true rfl) rfl (fun H hI => ⟨congrArg (fun z => some (zI z)) ((hr true (by rw [hnum, h180, h185]; rfl))), hI⟩)
      · refine z_iload (q := 190) hX dX4_typeOf_188 rfl rfl ?_
        refine z_iload (q := 192) hX dX4_typeOf_190 rfl rfl ?_
        refine z_isub (q := 193) hX dX4_typeOf_192 rfl ?_
        refine z_iconst (q := 194) hX dX4_typeOf_193 rfl ?_
        refine z_icmp_gt (q := 197) (t := 207) hX dX4_typeOf_194 (by decide) (by omega) (by omega) rfl (fun h194 => ?_) (fun h194 => ?_)
        · refine z_iconst (q := 208) hX dX4_typeOf_207 rfl ?_
          exact z_iret hX dX4_typeOf_208 (Nat.le_of_ble_eq_true rfl) (Nat.le_of_ble_eq_true rfl) rfl (fun H hI => ⟨congrArg (fun z => some (zI z)) ((hr false (by rw [hnum, h180, h185]; simp; omega))), hI⟩)
        · refine z_iload (q := 199) hX dX4_typeOf_197 rfl rfl ?_
          refine z_iload_n (i := 3) (q := 200) hX dX4_typeOf_199 rfl rfl rfl ?_
          refine z_icmp_gt (q := 203) (t := 207) hX dX4_typeOf_200 (by decide) (by omega) (by omega) rfl (fun h200 => ?_) (fun h200 => ?_)
          · refine z_iconst (q := 208) hX dX4_typeOf_207 rfl ?_
            exact z_iret hX dX4_typeOf_208 (Nat.le_of_ble_eq_true rfl) (Nat.le_of_ble_eq_true rfl) rfl (fun H hI => ⟨congrArg (fun z => some (zI z)) ((hr false (by rw [hnum, h180, h185]; simp; omega))), hI⟩)
          · refine z_iconst (q := 204) hX dX4_typeOf_203 rfl ?_
            refine z_goto (t := 208) hX dX4_typeOf_204 (by decide) ?_
            exact z_iret hX dX4_typeOf_208 (Nat.le_of_ble_eq_true rfl) (Nat.le_of_ble_eq_true rfl) rfl (fun H hI => ⟨congrArg (fun z => some (zI z)) ((hr true (by rw [hnum, h180, h185]; simp; omega))), hI⟩)
  have K2 : isWrd w = false → ∀ (c5 : Int), ∀ n : Nat, n ≤ w.length - (neg1 w).toNat → ∀ (c7 : Bool) (p : Int), c7 = ((decide (1 ≤ (w.length : Int) - neg1 w) && decide ((w.length : Int) - neg1 w ≤ 9)) && allI (fun i => isDig (cT w (neg1 w + i))) n) → p = fT (tx (G 0) l) t + (neg1 w + n) → zG X 0 0 (twI D A b F G) 126 [some (.ref b), some (zI (l)), some (zI (t)), some (zI (fT (tx (G 0) l) t)), some (zI (eT (tx (G 0) l) t)), some (zI (c5)), some (zI (fT (tx (G 0) l) t + neg1 w)), some (zI (bi (c7))), some (zI (p))] [] := by
    intro hwd c5
    refine z_up (fun n hn1 ih c7 p e7 e8 => ?_)
    subst e8
    refine z_iload (q := 128) hX dX4_typeOf_126 rfl rfl ?_
    refine z_iload (q := 130) hX dX4_typeOf_128 rfl rfl ?_
    refine z_icmp_ge (q := 133) (t := 154) hX dX4_typeOf_130 (by decide) (by omega) (by omega) rfl (fun h130 => ?_) (fun h130 => ?_)
    · refine z_iload (q := 156) hX dX4_typeOf_154 rfl rfl ?_
      have en : n = w.length - (neg1 w).toNat := by omega
      rw [show fT (tx (G 0) l) t + (neg1 w + (n : Int)) = eT (tx (G 0) l) t by omega]
      refine z_ifB_eq (q := 159) (t := 175) hX dX4_typeOf_156 (by decide) rfl (fun h156 => ?_) (fun h156 => ?_)
      · refine z_iconst (q := 176) hX dX4_typeOf_175 rfl ?_
        exact J176 hwd c5 c7 false _ (isNum_eq en (by omega) c7 false e7 (by rw [h156]; rfl)) rfl
      · have h7 := e7
        rw [h156] at h7
        have h7 := h7.symm
        simp only [Bool.and_eq_true, decide_eq_true_eq] at h7
        have e3 := hc (neg1 w) (by omega) (by omega)
        have e4 := r1.ch (i := fT (tx (G 0) l) t + neg1 w) (by omega) (by omega)
        refine z_aload_n (i := 0) (q := 160) hX dX4_typeOf_159 rfl rfl rfl ?_
        refine z_iload_n (i := 1) (q := 161) hX dX4_typeOf_160 rfl rfl rfl ?_
        refine z_iload (q := 163) hX dX4_typeOf_161 rfl rfl ?_
        refine zt_V1 (q := 166) (na := 2) hX dX4_typeOf_163 (c_X4_charAt D A (by first | assumption | omega) (by first | assumption | omega)) q1978 q1980 qs42 q103 q1981 rfl (by decide +kernel) ⟨Nat.le_of_ble_eq_true rfl, Nat.le_of_ble_eq_true rfl⟩ rfl rfl (Nat.le_of_ble_eq_true rfl) rfl ⟨rfl, rfl⟩ (Nat.le_of_ble_eq_true rfl) (Nat.le_of_ble_eq_true rfl) rfl ?_
        refine z_bipush (q := 168) hX dX4_typeOf_166 (by decide) rfl ?_
        refine z_icmp_ne (q := 171) (t := 175) hX dX4_typeOf_168 (by decide) (by omega) (by omega) rfl (fun h168 => ?_) (fun h168 => ?_)
        · refine z_iconst (q := 176) hX dX4_typeOf_175 rfl ?_
          exact J176 hwd c5 c7 false _ (isNum_eq en (by omega) c7 false e7 (by rw [h156, e3]; simp; omega)) rfl
        · refine z_iconst (q := 172) hX dX4_typeOf_171 rfl ?_
          refine z_goto (t := 176) hX dX4_typeOf_172 (by decide) ?_
          exact J176 hwd c5 c7 true _ (isNum_eq en (by omega) c7 true e7 (by rw [h156, e3]; simp; omega)) rfl
    · refine z_iload (q := 135) hX dX4_typeOf_133 rfl rfl ?_
      have e1 := hc (neg1 w + n) (by omega) (by omega)
      have e2 := r1.ch (i := fT (tx (G 0) l) t + (neg1 w + n)) (by omega) (by omega)
      refine z_aload_n (i := 0) (q := 136) hX dX4_typeOf_135 rfl rfl rfl ?_
      refine z_iload_n (i := 1) (q := 137) hX dX4_typeOf_136 rfl rfl rfl ?_
      refine z_iload (q := 139) hX dX4_typeOf_137 rfl rfl ?_
      refine zt_V1 (q := 142) (na := 2) hX dX4_typeOf_139 (c_X4_charAt D A (by first | assumption | omega) (by first | assumption | omega)) q1978 q1980 qs42 q103 q1981 rfl (by decide +kernel) ⟨Nat.le_of_ble_eq_true rfl, Nat.le_of_ble_eq_true rfl⟩ rfl rfl (Nat.le_of_ble_eq_true rfl) rfl ⟨rfl, rfl⟩ (Nat.le_of_ble_eq_true rfl) (Nat.le_of_ble_eq_true rfl) rfl ?_
      refine zt_S1 (q := 145) (na := 1) hX dX4_typeOf_142 (c_X4_isDigit D A (by first | assumption | omega)) q2030 q2031 q103 q2032 (by decide +kernel) ⟨Nat.le_of_ble_eq_true rfl, Nat.le_of_ble_eq_true rfl⟩ rfl rfl (Nat.le_of_ble_eq_true rfl) rfl ⟨rfl, rfl⟩ (Nat.le_of_ble_eq_true rfl) (Nat.le_of_ble_eq_true rfl) rfl ?_
      refine z_iand (q := 146) hX dX4_typeOf_145 (bi_iand _ _) rfl ?_
      refine z_istore (q := 148) hX dX4_typeOf_146 (Nat.le_of_ble_eq_true rfl) rfl rfl ?_
      refine z_iinc (q := 151) hX dX4_typeOf_148 rfl (Nat.le_of_ble_eq_true rfl) rfl rfl ?_
      refine z_goto (t := 126) hX dX4_typeOf_151 (by decide) ?_
      exact ih (by omega) _ _ (by rw [e7, ← e1]; simp only [allI, Bool.and_assoc]) (by omega)
  have J107 : isWrd w = false → ∀ (c5 z : Int), z = fT (tx (G 0) l) t + neg1 w → zG X 0 0 (twI D A b F G) 107 [some (.ref b), some (zI (l)), some (zI (t)), some (zI (fT (tx (G 0) l) t)), some (zI (eT (tx (G 0) l) t)), some (zI (c5)), some (zI (eT (tx (G 0) l) t)), none, none] [zI (z)] := by
    intro hwd c5 z ez
    subst ez
    refine z_istore (q := 109) hX dX4_typeOf_107 (Nat.le_of_ble_eq_true rfl) rfl rfl ?_
    refine z_iload (q := 111) hX dX4_typeOf_109 rfl rfl ?_
    refine z_iload (q := 113) hX dX4_typeOf_111 rfl rfl ?_
    refine z_isub (q := 114) hX dX4_typeOf_113 rfl ?_
    refine z_iconst (q := 115) hX dX4_typeOf_114 rfl ?_
    refine z_bipush (q := 117) hX dX4_typeOf_115 (by decide) rfl ?_
    refine zt_S1 (q := 120) (na := 3) hX dX4_typeOf_117 (c_X4_in D A (by first | assumption | omega) (by first | assumption | omega) (by first | assumption | omega)) q1955 q1956 q103 q1957 (by decide +kernel) ⟨Nat.le_of_ble_eq_true rfl, Nat.le_of_ble_eq_true rfl⟩ rfl rfl (Nat.le_of_ble_eq_true rfl) rfl ⟨rfl, rfl⟩ (Nat.le_of_ble_eq_true rfl) (Nat.le_of_ble_eq_true rfl) rfl ?_
    refine z_istore (q := 122) hX dX4_typeOf_120 (Nat.le_of_ble_eq_true rfl) rfl rfl ?_
    refine z_iload (q := 124) hX dX4_typeOf_122 rfl rfl ?_
    refine z_istore (q := 126) hX dX4_typeOf_124 (Nat.le_of_ble_eq_true rfl) rfl rfl ?_
    exact K2 hwd c5 0 (Nat.zero_le _) _ _ (by rw [show eT (tx (G 0) l) t - (fT (tx (G 0) l) t + neg1 w) = (w.length : Int) - neg1 w by omega]; simp [allI]) (by omega)
  have K1 : ∀ n : Nat, n ≤ w.length → ∀ (c5 p : Int), c5 = sumI (fun i => bi (isLet (cT w i))) n → p = fT (tx (G 0) l) t + n → zG X 0 0 (twI D A b F G) 21 [some (.ref b), some (zI (l)), some (zI (t)), some (zI (fT (tx (G 0) l) t)), some (zI (eT (tx (G 0) l) t)), some (zI (c5)), some (zI (p)), none, none] [] := by
    refine z_up (fun n hn1 ih c5 p e5 e6 => ?_)
    subst e6
    have hcn := cnt_rng (fun i => isLet (cT w i)) n
    have hca := cnt_all (p := fun i => isLet (cT w i)) (n := n)
    have hsu : sumI (fun i => bi (isLet (cT w i))) (n + 1) = c5 + bi (isLet (cT w n)) := by rw [sumI, e5]
    rw [← e5] at hcn hca
    refine z_iload (q := 23) hX dX4_typeOf_21 rfl rfl ?_
    refine z_iload (q := 25) hX dX4_typeOf_23 rfl rfl ?_
    refine z_icmp_ge (q := 28) (t := 78) hX dX4_typeOf_25 (by decide) (by omega) (by omega) rfl (fun h25 => ?_) (fun h25 => ?_)
    · have en : n = w.length := by omega
      rw [show fT (tx (G 0) l) t + (n : Int) = eT (tx (G 0) l) t by omega]
      refine z_iload (q := 80) hX dX4_typeOf_78 rfl rfl ?_
      refine z_iload (q := 82) hX dX4_typeOf_80 rfl rfl ?_
      refine z_iload_n (i := 3) (q := 83) hX dX4_typeOf_82 rfl rfl rfl ?_
      refine z_isub (q := 84) hX dX4_typeOf_83 rfl ?_
      refine z_icmp_ne (q := 87) (t := 89) hX dX4_typeOf_84 (by decide) (by omega) (by omega) rfl (fun h84 => ?_) (fun h84 => ?_)
      · have hwd : isWrd w = false := by rw [← Bool.not_eq_true]; intro q; unfold isWrd at q; rw [← en] at q; exact h84 (by have := hca.mpr q; omega)
        refine z_aload_n (i := 0) (q := 90) hX dX4_typeOf_89 rfl rfl rfl ?_
        refine z_iload_n (i := 1) (q := 91) hX dX4_typeOf_90 rfl rfl rfl ?_
        refine z_iload_n (i := 3) (q := 92) hX dX4_typeOf_91 rfl rfl rfl ?_
        refine zt_V1 (q := 95) (na := 2) hX dX4_typeOf_92 (c_X4_charAt D A (by first | assumption | omega) (by first | assumption | omega)) q1978 q1980 qs42 q103 q1981 rfl (by decide +kernel) ⟨Nat.le_of_ble_eq_true rfl, Nat.le_of_ble_eq_true rfl⟩ rfl rfl (Nat.le_of_ble_eq_true rfl) rfl ⟨rfl, rfl⟩ (Nat.le_of_ble_eq_true rfl) (Nat.le_of_ble_eq_true rfl) rfl ?_
        refine z_bipush (q := 97) hX dX4_typeOf_95 (by decide) rfl ?_
        refine z_icmp_ne (q := 100) (t := 106) hX dX4_typeOf_97 (by decide) (by omega) (by omega) rfl (fun h97 => ?_) (fun h97 => ?_)
        · refine z_iload_n (i := 3) (q := 107) hX dX4_typeOf_106 rfl rfl rfl ?_
          exact J107 hwd c5 _ (by rw [hng0 (by omega)]; omega)
        · refine z_iload_n (i := 3) (q := 101) hX dX4_typeOf_100 rfl rfl rfl ?_
          refine z_iconst (q := 102) hX dX4_typeOf_101 rfl ?_
          refine z_iadd (q := 103) hX dX4_typeOf_102 rfl ?_
          refine z_goto (t := 107) hX dX4_typeOf_103 (by decide) ?_
          exact J107 hwd c5 _ (by rw [hng (by omega)])
      · refine z_iconst (q := 88) hX dX4_typeOf_87 rfl ?_
        exact z_iret hX dX4_typeOf_88 (Nat.le_of_ble_eq_true rfl) (Nat.le_of_ble_eq_true rfl) rfl (fun H hI => ⟨congrArg (fun z => some (zI z)) ((typ_wrd (by omega) (by unfold isWrd; rw [← en]; exact hca.mp (by omega))).symm), hI⟩)
    · have e1 := hc n (by omega) (by omega)
      have e2 := r1.ch (i := fT (tx (G 0) l) t + n) (by omega) (by omega)
      refine z_iload (q := 30) hX dX4_typeOf_28 rfl rfl ?_
      refine z_aload_n (i := 0) (q := 31) hX dX4_typeOf_30 rfl rfl rfl ?_
      refine z_iload_n (i := 1) (q := 32) hX dX4_typeOf_31 rfl rfl rfl ?_
      refine z_iload (q := 34) hX dX4_typeOf_32 rfl rfl ?_
      refine zt_V1 (q := 37) (na := 2) hX dX4_typeOf_34 (c_X4_charAt D A (by first | assumption | omega) (by first | assumption | omega)) q1978 q1980 qs42 q103 q1981 rfl (by decide +kernel) ⟨Nat.le_of_ble_eq_true rfl, Nat.le_of_ble_eq_true rfl⟩ rfl rfl (Nat.le_of_ble_eq_true rfl) rfl ⟨rfl, rfl⟩ (Nat.le_of_ble_eq_true rfl) (Nat.le_of_ble_eq_true rfl) rfl ?_
      refine z_bipush (q := 39) hX dX4_typeOf_37 (by decide) rfl ?_
      refine z_bipush (q := 41) hX dX4_typeOf_39 (by decide) rfl ?_
      refine zt_S1 (q := 44) (na := 3) hX dX4_typeOf_41 (c_X4_in D A (by first | assumption | omega) (by first | assumption | omega) (by first | assumption | omega)) q1955 q1956 q103 q1957 (by decide +kernel) ⟨Nat.le_of_ble_eq_true rfl, Nat.le_of_ble_eq_true rfl⟩ rfl rfl (Nat.le_of_ble_eq_true rfl) rfl ⟨rfl, rfl⟩ (Nat.le_of_ble_eq_true rfl) (Nat.le_of_ble_eq_true rfl) rfl ?_
      refine z_ifB_ne (q := 47) (t := 64) hX dX4_typeOf_44 (by decide) rfl (fun h44 => ?_) (fun h44 => ?_)
      · refine z_iconst (q := 65) hX dX4_typeOf_64 rfl ?_
        refine z_goto (t := 69) hX dX4_typeOf_65 (by decide) ?_
        refine z_iadd (q := 70) hX dX4_typeOf_69 rfl ?_
        refine z_istore (q := 72) hX dX4_typeOf_70 (Nat.le_of_ble_eq_true rfl) rfl rfl ?_
        refine z_iinc (q := 75) hX dX4_typeOf_72 rfl (Nat.le_of_ble_eq_true rfl) rfl rfl ?_
        refine z_goto (t := 21) hX dX4_typeOf_75 (by decide) ?_
        exact ih (by omega) _ _ (by rw [hsu, e1, show isLet (cT (tx (G 0) l) (fT (tx (G 0) l) t + n)) = true by unfold isLet; rw [h44]; rfl]; rfl) (by omega)
      · refine z_aload_n (i := 0) (q := 48) hX dX4_typeOf_47 rfl rfl rfl ?_
        refine z_iload_n (i := 1) (q := 49) hX dX4_typeOf_48 rfl rfl rfl ?_
        refine z_iload (q := 51) hX dX4_typeOf_49 rfl rfl ?_
        refine zt_V1 (q := 54) (na := 2) hX dX4_typeOf_51 (c_X4_charAt D A (by first | assumption | omega) (by first | assumption | omega)) q1978 q1980 qs42 q103 q1981 rfl (by decide +kernel) ⟨Nat.le_of_ble_eq_true rfl, Nat.le_of_ble_eq_true rfl⟩ rfl rfl (Nat.le_of_ble_eq_true rfl) rfl ⟨rfl, rfl⟩ (Nat.le_of_ble_eq_true rfl) (Nat.le_of_ble_eq_true rfl) rfl ?_
        refine z_bipush (q := 56) hX dX4_typeOf_54 (by decide) rfl ?_
        refine z_bipush (q := 58) hX dX4_typeOf_56 (by decide) rfl ?_
        refine zt_S1 (q := 61) (na := 3) hX dX4_typeOf_58 (c_X4_in D A (by first | assumption | omega) (by first | assumption | omega) (by first | assumption | omega)) q1955 q1956 q103 q1957 (by decide +kernel) ⟨Nat.le_of_ble_eq_true rfl, Nat.le_of_ble_eq_true rfl⟩ rfl rfl (Nat.le_of_ble_eq_true rfl) rfl ⟨rfl, rfl⟩ (Nat.le_of_ble_eq_true rfl) (Nat.le_of_ble_eq_true rfl) rfl ?_
        refine z_ifB_eq (q := 64) (t := 68) hX dX4_typeOf_61 (by decide) rfl (fun h61 => ?_) (fun h61 => ?_)
        · refine z_iconst (q := 69) hX dX4_typeOf_68 rfl ?_
          refine z_iadd (q := 70) hX dX4_typeOf_69 rfl ?_
          refine z_istore (q := 72) hX dX4_typeOf_70 (Nat.le_of_ble_eq_true rfl) rfl rfl ?_
          refine z_iinc (q := 75) hX dX4_typeOf_72 rfl (Nat.le_of_ble_eq_true rfl) rfl rfl ?_
          refine z_goto (t := 21) hX dX4_typeOf_75 (by decide) ?_
          exact ih (by omega) _ _ (by rw [hsu, e1, show isLet (cT (tx (G 0) l) (fT (tx (G 0) l) t + n)) = false by unfold isLet; rw [h44, h61]; rfl]; rfl) (by omega)
        · refine z_iconst (q := 65) hX dX4_typeOf_64 rfl ?_
          refine z_goto (t := 69) hX dX4_typeOf_65 (by decide) ?_
          refine z_iadd (q := 70) hX dX4_typeOf_69 rfl ?_
          refine z_istore (q := 72) hX dX4_typeOf_70 (Nat.le_of_ble_eq_true rfl) rfl rfl ?_
          refine z_iinc (q := 75) hX dX4_typeOf_72 rfl (Nat.le_of_ble_eq_true rfl) rfl rfl ?_
          refine z_goto (t := 21) hX dX4_typeOf_75 (by decide) ?_
          exact ih (by omega) _ _ (by rw [hsu, e1, show isLet (cT (tx (G 0) l) (fT (tx (G 0) l) t + n)) = true by unfold isLet; rw [h44, h61]; rfl]; rfl) (by omega)
  refine z_aload_n (i := 0) (q := 1) hX dX4_typeOf_0 rfl rfl rfl ?_
  refine z_iload_n (i := 1) (q := 2) hX dX4_typeOf_1 rfl rfl rfl ?_
  refine z_iload_n (i := 2) (q := 3) hX dX4_typeOf_2 rfl rfl rfl ?_
  refine zt_V1 (q := 6) (na := 2) hX dX4_typeOf_3 (c_X4_fromOf D A (by first | assumption | omega) (by first | assumption | omega)) q2010 q2012 qs50 q103 q2013 rfl (by decide +kernel) ⟨Nat.le_of_ble_eq_true rfl, Nat.le_of_ble_eq_true rfl⟩ rfl rfl (Nat.le_of_ble_eq_true rfl) rfl ⟨rfl, rfl⟩ (Nat.le_of_ble_eq_true rfl) (Nat.le_of_ble_eq_true rfl) rfl ?_
  refine z_istore_n (i := 3) (q := 7) hX dX4_typeOf_6 rfl (Nat.le_of_ble_eq_true rfl) rfl rfl ?_
  refine z_aload_n (i := 0) (q := 8) hX dX4_typeOf_7 rfl rfl rfl ?_
  refine z_iload_n (i := 1) (q := 9) hX dX4_typeOf_8 rfl rfl rfl ?_
  refine z_iload_n (i := 2) (q := 10) hX dX4_typeOf_9 rfl rfl rfl ?_
  refine zt_V1 (q := 13) (na := 2) hX dX4_typeOf_10 (c_X4_toOf D A (by first | assumption | omega) (by first | assumption | omega)) q2006 q2008 qs49 q103 q2009 rfl (by decide +kernel) ⟨Nat.le_of_ble_eq_true rfl, Nat.le_of_ble_eq_true rfl⟩ rfl rfl (Nat.le_of_ble_eq_true rfl) rfl ⟨rfl, rfl⟩ (Nat.le_of_ble_eq_true rfl) (Nat.le_of_ble_eq_true rfl) rfl ?_
  refine z_istore (q := 15) hX dX4_typeOf_13 (Nat.le_of_ble_eq_true rfl) rfl rfl ?_
  refine z_iconst (q := 16) hX dX4_typeOf_15 rfl ?_
  refine z_istore (q := 18) hX dX4_typeOf_16 (Nat.le_of_ble_eq_true rfl) rfl rfl ?_
  refine z_iload_n (i := 3) (q := 19) hX dX4_typeOf_18 rfl rfl rfl ?_
  refine z_istore (q := 21) hX dX4_typeOf_19 (Nat.le_of_ble_eq_true rfl) rfl rfl ?_
  exact K1 0 (Nat.zero_le _) _ _ rfl (by omega)
/-- the arrays with c of line l's tokens laid -/
def layC (G : zTG) (l c : Int) : zTG := fun j i => if j = 4 ∧ i = l then c else if j = 5 ∧ 20 * l ≤ i ∧ i < 20 * l + c then fT (tx (G 0) l) (i - 20 * l) else if j = 6 ∧ 20 * l ≤ i ∧ i < 20 * l + c then eT (tx (G 0) l) (i - 20 * l) else G j i
theorem layC_0 (G : zTG) (l : Int) : upG G 4 l 0 = layC G l 0 := by
  funext j i
  unfold upG layC
  split
  · rfl
  · rw [if_neg (by omega), if_neg (by omega)]
theorem layC_4 (G : zTG) (l c : Int) : layC G l c 4 l = c := if_pos ⟨rfl, rfl⟩
theorem layC_j (G : zTG) (l c : Int) {j : Nat} (h4 : j ≠ 4) (h5 : j ≠ 5) (h6 : j ≠ 6) : layC G l c j = G j := by
  funext i
  unfold layC
  rw [if_neg (fun q => h4 q.1), if_neg (fun q => h5 q.1), if_neg (fun q => h6 q.1)]
theorem layC_5 (G : zTG) (l c i : Int) : layC G l c 5 i = if 20 * l ≤ i ∧ i < 20 * l + c then fT (tx (G 0) l) (i - 20 * l) else G 5 i := by
  unfold layC
  rw [if_neg (by omega)]
  by_cases h : 20 * l ≤ i ∧ i < 20 * l + c
  · rw [if_pos h, if_pos ⟨rfl, h⟩]
  · rw [if_neg h, if_neg (fun q => h q.2), if_neg (by omega)]
theorem layC_6 (G : zTG) (l c i : Int) : layC G l c 6 i = if 20 * l ≤ i ∧ i < 20 * l + c then eT (tx (G 0) l) (i - 20 * l) else G 6 i := by
  unfold layC
  rw [if_neg (by omega), if_neg (by omega)]
  by_cases h : 20 * l ≤ i ∧ i < 20 * l + c
  · rw [if_pos h, if_pos ⟨rfl, h⟩]
  · rw [if_neg h, if_neg (fun q => h q.2)]
theorem layC_4i (G : zTG) (l c i : Int) : layC G l c 4 i = if i = l then c else G 4 i := by
  unfold layC
  by_cases h : i = l
  · rw [if_pos ⟨rfl, h⟩, if_pos h]
  · rw [if_neg (fun q => h q.2), if_neg (by omega), if_neg (by omega), if_neg h]
theorem layC_s {G : zTG} {l c x y : Int} (h0 : 0 ≤ c) (hx : fT (tx (G 0) l) c = x) (hy : eT (tx (G 0) l) c = y) : upG (upG (upG (layC G l c) 5 (20 * l + c) x) 6 (20 * l + c) y) 4 l (c + 1) = layC G l (c + 1) := by
  funext j i
  subst hx hy
  by_cases h4 : j = 4
  · subst h4
    by_cases hi : i = l
    · subst hi; rw [upG_same, layC_4]
    · rw [upG_ni _ _ _ hi, upG_nj _ _ _ (by decide), upG_nj _ _ _ (by decide), layC_4i, layC_4i, if_neg hi, if_neg hi]
  · rw [upG_nj _ _ _ h4]
    by_cases h6 : j = 6
    · subst h6
      by_cases hi : i = 20 * l + c
      · subst hi
        rw [upG_same, layC_6, if_pos (by omega), show 20 * l + c - 20 * l = c by omega]
      · rw [upG_ni _ _ _ hi, upG_nj _ _ _ (by decide), layC_6, layC_6]
        by_cases hr : 20 * l ≤ i ∧ i < 20 * l + c
        · rw [if_pos hr, if_pos (by omega)]
        · rw [if_neg hr, if_neg (by omega)]
    · rw [upG_nj _ _ _ h6]
      by_cases h5 : j = 5
      · subst h5
        by_cases hi : i = 20 * l + c
        · subst hi
          rw [upG_same, layC_5, if_pos (by omega), show 20 * l + c - 20 * l = c by omega]
        · rw [upG_ni _ _ _ hi, layC_5, layC_5]
          by_cases hr : 20 * l ≤ i ∧ i < 20 * l + c
          · rw [if_pos hr, if_pos (by omega)]
          · rw [if_neg hr, if_neg (by omega)]
      · rw [upG_nj _ _ _ h5, layC_j _ _ _ h4 h5 h6, layC_j _ _ _ h4 h5 h6]
theorem layC_tks {G : zTG} {l : Int} (_h : zRaw G l) : zTks (layC G l (nT (tx (G 0) l))) l := by
  refine ⟨layC_4 _ _ _, fun k k0 k1 => ?_⟩
  have k2 : k < nT (tx (G 0) l) := k1
  rw [layC_5, layC_6, if_pos (by omega), if_pos (by omega), show 20 * l + k - 20 * l = k by omega]
  exact ⟨rfl, rfl⟩
theorem layC_keep {G : zTG} {l l2 c : Int} (h0 : 0 ≤ c ∧ c ≤ 20) (hne : l2 ≠ l) (hr : zRaw G l2) (h : zTks G l2) : zTks (layC G l c) l2 := by
  have hf := hr.f
  refine ⟨?_, fun k k0 k1 => ?_⟩
  · rw [layC_4i, if_neg hne]
    exact h.1
  · have k2 : k < nT (tx (G 0) l2) := k1
    rw [layC_5, layC_6, if_neg (by omega), if_neg (by omega)]
    exact h.2 k k0 k2
/-- at a token's end -/
theorem tk_cut {s : zS} {i x : Int} (h0 : 0 ≤ i) (h : (s.length : Int) ≤ i ∨ cT s i = 32) : tkGo i (s.drop i.toNat) (some x) = (x, i) :: tkGo i (s.drop i.toNat) none := by
  by_cases hl : (s.length : Int) ≤ i
  · rw [drop_end hl]; rfl
  · have h1 : cT s i = 32 := by omega
    rw [drop_cons h0 (by omega), h1]
    rfl
theorem tk_skip {s : zS} {i : Int} (h0 : 0 ≤ i) (hl : i < (s.length : Int)) (h : cT s i = 32) : tkGo i (s.drop i.toNat) none = tkGo (i + 1) (s.drop (i + 1).toNat) none := by
  rw [drop_cons h0 hl, h]
  rfl
theorem tk_begin {s : zS} {i : Int} (h0 : 0 ≤ i) (hl : i < (s.length : Int)) (h : cT s i ≠ 32) : tkGo i (s.drop i.toNat) none = tkGo (i + 1) (s.drop (i + 1).toNat) (some i) := by
  rw [drop_cons h0 hl, tkGo, if_neg h]
theorem tk_more {s : zS} {i x : Int} (h0 : 0 ≤ i) (hl : i < (s.length : Int)) (h : cT s i ≠ 32) : tkGo i (s.drop i.toNat) (some x) = tkGo (i + 1) (s.drop (i + 1).toNat) (some x) := by
  rw [drop_cons h0 hl, tkGo, if_neg h]
theorem tk_pre {s : zS} {pre r : List (Int × Int)} {x y : Int} (h : tkp s = pre ++ (x, y) :: r) : fT s pre.length = x ∧ eT s pre.length = y := by
  unfold fT eT
  rw [h, List.getD_eq_getElem?_getD, show ((pre.length : Int)).toNat = pre.length by omega, List.getElem?_append_right (Nat.le_refl _), Nat.sub_self]
  exact ⟨rfl, rfl⟩
abbrev rmX4_layTokens : Room := { frames := 1, cells := 0, slots := 0, locals := 22 }
set_option maxHeartbeats 4000000 in
theorem c_X4_layTokens (D : zD) (A : Nat → Prop) {b : Nat} {F : zTF} {G : zTG} {l : Int} (hr : zRaw G l) : zC D yX4_layTokens cX4_layTokens 4 none none rmX4_layTokens A [.ref b, zI (l)] (twI D A b F G) (zPv (twI D A b (F) (layC G l (nT (tx (G 0) l))))) zNo := by
  refine zC_start (L := [some (.ref b), some (zI (l)), none, none]) (by decide) (Nat.le_of_ble_eq_true rfl) rfl (fun X hX => ?_)
  have f1 := hr.f
  have K : ∀ x : Int × List (Int × Int), 0 ≤ x.1 → x.1 ≤ G 0 (2 + l) → tkp (tx (G 0) l) = x.2 ++ tkGo x.1 ((tx (G 0) l).drop x.1.toNat) none → zG X 0 0 (twI D A b F (layC G l x.2.length)) 9 [some (.ref b), some (zI (l)), some (zI (x.1)), none] [] := by
    refine z_wf (fun x => (G 0 (2 + l) - x.1).toNat) (fun x ih h0 h1 htk => ?_)
    obtain ⟨i, pre⟩ := x
    dsimp only at h0 h1 htk ih ⊢
    have hr2 : zRaw (layC G l pre.length) l := hr
    have f2 : layC G l pre.length 0 (2 + l) = G 0 (2 + l) := rfl
    have hmany : (pre.length : Int) ≤ nT (tx (G 0) l) := by unfold nT; rw [htk, List.length_append]; omega
    have K2 : i < G 0 (2 + l) → ∀ n : Nat, n ≤ (G 0 (2 + l) - i).toNat → (∀ j : Nat, j < n → cT (tx (G 0) l) (i + j) ≠ 32) → ∀ p : Int, p = i + n → zG X 0 0 (twI D A b F (layC G l pre.length)) 20 [some (.ref b), some (zI (l)), some (zI (p)), some (zI (i))] [] := by
      intro hlt
      refine z_up (fun n hn1 ih2 hns p ep => ?_)
      subst ep
      have hst : tkGo i ((tx (G 0) l).drop i.toNat) none = if n = 0 then tkGo i ((tx (G 0) l).drop i.toNat) none else tkGo (i + n) ((tx (G 0) l).drop (i + n).toNat) (some i) := by
        have key : ∀ m : Nat, m < n → tkGo i ((tx (G 0) l).drop i.toNat) none = tkGo (i + (m + 1 : Nat)) ((tx (G 0) l).drop (i + (m + 1 : Nat)).toNat) (some i) := by
          intro m
          induction m with
          | zero => intro hm; have := hns 0 hm; rw [tk_begin h0 (by omega) (by simpa using this)]; rfl
          | succ m ihm =>
            intro hm
            rw [ihm (by omega), tk_more (by omega) (by omega) (hns (m + 1) hm), show i + ((m + 1 : Nat) : Int) + 1 = i + ((m + 1 + 1 : Nat) : Int) by omega]
        by_cases hz : n = 0
        · rw [if_pos hz]
        · rw [if_neg hz, key (n - 1) (by omega), show n - 1 + 1 = n by omega]
      have fin : (G 0 (2 + l) ≤ i + n ∨ cT (tx (G 0) l) (i + n) = 32) → zG X 0 0 (twI D A b F (layC G l pre.length)) 46 [some (.ref b), some (zI (l)), some (zI (i + n)), some (zI (i))] [] := by
        intro hend
        have e4 := layC_4 G l pre.length
        refine z_iload_n (i := 2) (q := 47) hX dX4_layTokens_46 rfl rfl rfl ?_
        refine z_iload_n (i := 3) (q := 48) hX dX4_layTokens_47 rfl rfl rfl ?_
        refine z_icmp_le (q := 51) (t := 98) hX dX4_layTokens_48 (by decide) (by omega) (by omega) rfl (fun h48 => ?_) (fun h48 => ?_)
        · refine z_iinc (q := 101) hX dX4_layTokens_98 rfl (Nat.le_of_ble_eq_true rfl) rfl rfl ?_
          refine z_goto (t := 9) hX dX4_layTokens_101 (by decide) ?_
          have hz : n = 0 := by omega
          subst hz
          have hc : cT (tx (G 0) l) i = 32 := by
            rcases hend with q | q
            · omega
            · rwa [show i + ((0 : Nat) : Int) = i by omega] at q
          refine zG.drop 3 ?_
          rw [show i + ((0 : Nat) : Int) + 1 = i + 1 by omega]
          exact ih (i + 1, pre) (by simp only; omega) (by simp only; omega) (by simp only; omega) (by simp only; rw [htk, tk_skip h0 (by omega) hc])
        · rw [if_neg (by omega), tk_cut (by omega) (by omega)] at hst
          rw [hst] at htk
          have hp := tk_pre htk
          have hmany2 : (pre.length : Int) < nT (tx (G 0) l) := by unfold nT; rw [htk, List.length_append, List.length_cons]; omega
          refine z_aload_n (i := 0) (q := 52) hX dX4_layTokens_51 rfl rfl rfl ?_
          refine zt_getA (q := 55) hX 8 5 dX4_layTokens_52 q1872 (by decide) rfl rfl rfl ?_
          refine z_bipush (q := 57) hX dX4_layTokens_55 (by decide) rfl ?_
          refine z_iload_n (i := 1) (q := 58) hX dX4_layTokens_57 rfl rfl rfl ?_
          refine z_imul (q := 59) hX dX4_layTokens_58 rfl ?_
          refine z_aload_n (i := 0) (q := 60) hX dX4_layTokens_59 rfl rfl rfl ?_
          refine zt_getA (q := 63) hX 7 4 dX4_layTokens_60 q1871 (by decide) rfl rfl rfl ?_
          refine z_iload_n (i := 1) (q := 64) hX dX4_layTokens_63 rfl rfl rfl ?_
          refine zt_ald (q := 65) (N := 41) hX 4 dX4_layTokens_64 rfl (by decide) (by decide) (by omega) rfl ?_
          rw [e4]
          refine z_iadd (q := 66) hX dX4_layTokens_65 rfl ?_
          refine z_iload_n (i := 3) (q := 67) hX dX4_layTokens_66 rfl rfl rfl ?_
          refine zt_ast (q := 68) (N := 820) hX 5 dX4_layTokens_67 rfl (by decide) (by decide) (by omega) rfl ?_
          refine z_aload_n (i := 0) (q := 69) hX dX4_layTokens_68 rfl rfl rfl ?_
          refine zt_getA (q := 72) hX 9 6 dX4_layTokens_69 q1873 (by decide) rfl rfl rfl ?_
          refine z_bipush (q := 74) hX dX4_layTokens_72 (by decide) rfl ?_
          refine z_iload_n (i := 1) (q := 75) hX dX4_layTokens_74 rfl rfl rfl ?_
          refine z_imul (q := 76) hX dX4_layTokens_75 rfl ?_
          refine z_aload_n (i := 0) (q := 77) hX dX4_layTokens_76 rfl rfl rfl ?_
          refine zt_getA (q := 80) hX 7 4 dX4_layTokens_77 q1871 (by decide) rfl rfl rfl ?_
          refine z_iload_n (i := 1) (q := 81) hX dX4_layTokens_80 rfl rfl rfl ?_
          refine zt_ald (q := 82) (N := 41) hX 4 dX4_layTokens_81 rfl (by decide) (by decide) (by omega) rfl ?_
          rw [upG_nj _ _ _ (by decide : (4 : Nat) ≠ 5), e4]
          refine z_iadd (q := 83) hX dX4_layTokens_82 rfl ?_
          refine z_iload_n (i := 2) (q := 84) hX dX4_layTokens_83 rfl rfl rfl ?_
          refine zt_ast (q := 85) (N := 820) hX 6 dX4_layTokens_84 rfl (by decide) (by decide) (by omega) rfl ?_
          refine z_aload_n (i := 0) (q := 86) hX dX4_layTokens_85 rfl rfl rfl ?_
          refine zt_getA (q := 89) hX 7 4 dX4_layTokens_86 q1871 (by decide) rfl rfl rfl ?_
          refine z_iload_n (i := 1) (q := 90) hX dX4_layTokens_89 rfl rfl rfl ?_
          refine z_dup2 (q := 91) hX dX4_layTokens_90 rfl rfl rfl ?_
          refine zt_ald (q := 92) (N := 41) hX 4 dX4_layTokens_91 rfl (by decide) (by decide) (by omega) rfl ?_
          rw [upG_nj _ _ _ (by decide : (4 : Nat) ≠ 6), upG_nj _ _ _ (by decide : (4 : Nat) ≠ 5), e4]
          refine z_iconst (q := 93) hX dX4_layTokens_92 rfl ?_
          refine z_iadd (q := 94) hX dX4_layTokens_93 rfl ?_
          refine zt_ast (q := 95) (N := 41) hX 4 dX4_layTokens_94 rfl (by decide) (by decide) (by omega) rfl ?_
          rw [layC_s (by omega) hp.1 hp.2]
          refine z_goto (t := 101) hX dX4_layTokens_95 (by decide) ?_
          refine z_goto (t := 9) hX dX4_layTokens_101 (by decide) ?_
          refine zG.drop 3 ?_
          have e9 := ih (i + n, pre ++ [(i, i + (n : Int))]) (by simp only; omega) (by simp only; omega) (by simp only; omega) (by simp only; rw [htk, List.append_assoc]; rfl)
          simp only [List.length_append, List.length_singleton] at e9
          rw [show (((pre.length + 1 : Nat)) : Int) = (pre.length : Int) + 1 by omega] at e9
          exact e9
      refine z_iload_n (i := 2) (q := 21) hX dX4_layTokens_20 rfl rfl rfl ?_
      refine z_aload_n (i := 0) (q := 22) hX dX4_layTokens_21 rfl rfl rfl ?_
      refine z_iload_n (i := 1) (q := 23) hX dX4_layTokens_22 rfl rfl rfl ?_
      refine zt_V1 (q := 26) (na := 1) hX dX4_layTokens_23 (c_X4_lengthOf D A (by first | assumption | omega)) q1974 q1976 qs41 q103 q1977 rfl (by decide +kernel) ⟨Nat.le_of_ble_eq_true rfl, Nat.le_of_ble_eq_true rfl⟩ rfl rfl (Nat.le_of_ble_eq_true rfl) rfl ⟨rfl, rfl⟩ (Nat.le_of_ble_eq_true rfl) (Nat.le_of_ble_eq_true rfl) rfl ?_
      refine z_icmp_ge (q := 29) (t := 46) hX dX4_layTokens_26 (by decide) (by omega) (by omega) rfl (fun h26 => ?_) (fun h26 => ?_)
      · exact fin (Or.inl (by omega))
      · refine z_aload_n (i := 0) (q := 30) hX dX4_layTokens_29 rfl rfl rfl ?_
        refine z_iload_n (i := 1) (q := 31) hX dX4_layTokens_30 rfl rfl rfl ?_
        refine z_iload_n (i := 2) (q := 32) hX dX4_layTokens_31 rfl rfl rfl ?_
        refine zt_V1 (q := 35) (na := 2) hX dX4_layTokens_32 (c_X4_charAt D A (by first | assumption | omega) (by first | assumption | omega)) q1978 q1980 qs42 q103 q1981 rfl (by decide +kernel) ⟨Nat.le_of_ble_eq_true rfl, Nat.le_of_ble_eq_true rfl⟩ rfl rfl (Nat.le_of_ble_eq_true rfl) rfl ⟨rfl, rfl⟩ (Nat.le_of_ble_eq_true rfl) (Nat.le_of_ble_eq_true rfl) rfl ?_
        have e1 : cT (tx (layC G l pre.length 0) l) (i + n) = cT (tx (G 0) l) (i + n) := rfl
        rw [e1]
        have e2 := hr.ch (i := i + n) (by omega) (by omega)
        refine z_bipush (q := 37) hX dX4_layTokens_35 (by decide) rfl ?_
        refine z_icmp_eq (q := 40) (t := 46) hX dX4_layTokens_37 (by decide) (by omega) (by omega) rfl (fun h37 => ?_) (fun h37 => ?_)
        · exact fin (Or.inr (by omega))
        · refine z_iinc (q := 43) hX dX4_layTokens_40 rfl (Nat.le_of_ble_eq_true rfl) rfl rfl ?_
          refine z_goto (t := 20) hX dX4_layTokens_43 (by decide) ?_
          exact ih2 (by omega) (fun j hj => by
            by_cases hjn : j = n
            · subst hjn; exact h37
            · exact hns j (by omega)) _ (by omega)
    refine z_iload_n (i := 2) (q := 10) hX dX4_layTokens_9 rfl rfl rfl ?_
    refine z_aload_n (i := 0) (q := 11) hX dX4_layTokens_10 rfl rfl rfl ?_
    refine z_iload_n (i := 1) (q := 12) hX dX4_layTokens_11 rfl rfl rfl ?_
    refine zt_V1 (q := 15) (na := 1) hX dX4_layTokens_12 (c_X4_lengthOf D A (by first | assumption | omega)) q1974 q1976 qs41 q103 q1977 rfl (by decide +kernel) ⟨Nat.le_of_ble_eq_true rfl, Nat.le_of_ble_eq_true rfl⟩ rfl rfl (Nat.le_of_ble_eq_true rfl) rfl ⟨rfl, rfl⟩ (Nat.le_of_ble_eq_true rfl) (Nat.le_of_ble_eq_true rfl) rfl ?_
    refine z_icmp_ge (q := 18) (t := 104) hX dX4_layTokens_15 (by decide) (by omega) (by omega) rfl (fun h15 => ?_) (fun h15 => ?_)
    · refine zt_conv (G2 := layC G l (nT (tx (G 0) l))) rfl (by
        have : nT (tx (G 0) l) = pre.length := by
          unfold nT
          rw [htk, drop_end (by omega)]
          simp [tkGo]
        rw [this]) ?_
      refine zG.drop 3 ?_
      exact z_vret hX dX4_layTokens_104 (Nat.le_of_ble_eq_true rfl) (Nat.le_of_ble_eq_true rfl) rfl (fun H hI => ⟨rfl, hI⟩)
    · refine z_iload_n (i := 2) (q := 19) hX dX4_layTokens_18 rfl rfl rfl ?_
      refine z_istore_n (i := 3) (q := 20) hX dX4_layTokens_19 rfl (Nat.le_of_ble_eq_true rfl) rfl rfl ?_
      exact K2 (by omega) 0 (Nat.zero_le _) (fun j hj => absurd hj (Nat.not_lt_zero j)) _ (by omega)
  refine z_aload_n (i := 0) (q := 1) hX dX4_layTokens_0 rfl rfl rfl ?_
  refine zt_getA (q := 4) hX 7 4 dX4_layTokens_1 q1871 (by decide) rfl rfl rfl ?_
  refine z_iload_n (i := 1) (q := 5) hX dX4_layTokens_4 rfl rfl rfl ?_
  refine z_iconst (q := 6) hX dX4_layTokens_5 rfl ?_
  refine zt_ast (q := 7) (N := 41) hX 4 dX4_layTokens_6 rfl (by decide) (by decide) (by omega) rfl ?_
  refine z_iconst (q := 8) hX dX4_layTokens_7 rfl ?_
  refine z_istore_n (i := 2) (q := 9) hX dX4_layTokens_8 rfl (Nat.le_of_ble_eq_true rfl) rfl rfl ?_
  rw [layC_0]
  exact K (0, []) (Int.le_refl 0) (by simp only; omega) rfl
