/-! THE REFERENCE: the ratio -/
set_option maxRecDepth 100000
section
variable {D : zD} {X : zX} {own : String} {cc : ByteArray} {nL : Nat} {ret : Option FieldType} {hh : zHh} {rm : Room} {A : Nat → Prop} {P : Option Value → Heap → Prop} {Ex : String → Nat → Heap → Prop} {nm : String} {k n : Nat} {I J : Heap → Prop} {pc q : Nat} {L : List (Option Value)} {st : List Value}
theorem z_ddiv (hX : zF D X own cc nL ret hh rm A P Ex nm) {x y : UInt64} (d : decode cc pc = .ok (.ddiv, 1)) (hv : vf_n64 (FP.ddiv x y)) (hq : pc + 1 = q) (kk : zG X k n I q (L) (.double (FP.ddiv x y) :: st)) : zG X k n I pc L (.double y :: .double x :: st) := by
  subst hq
  obtain ⟨p, l, e, R, s, m, args, below, meth, c, Q, A⟩ := X
  obtain ⟨hx, hb, hr, hlocks, hml, hown, hts, rfl, rfl, rfl, htab, hK, hlt, hnm⟩ := hX
  intro H locs ls hI hS hL
  exact lv_ddiv hx hb d hv (kk H locs ls hI hS hL)
end
theorem chrI_rng {G : zTG} (h : zWg G) : G 0 0 ≤ chrI (G 0) ∧ chrI (G 0) ≤ 1600 := by
  have hm := h.1.1
  have h1 := sumI_range (f := fun l => G 0 (2 + l)) (n := (G 0 0).toNat) (lo := 1) (hi := 40) (fun l hl => by
    have := (h.1.ln (l := l) (by omega) (by omega)).1.f
    omega)
  unfold chrI
  omega
def opRat (M : Int → Int) : UInt64 := if M 0 = 0 then FP.dconst0 else FP.ddiv (FP.i2d (Int32.ofInt (chrI M))) (FP.i2d (Int32.ofInt (cosA M)))
abbrev rmX4_ratio : Room := { frames := 8, cells := 0, slots := 0, locals := 188 }
set_option maxHeartbeats 4000000 in
theorem c_X4_ratio (D : zD) (A : Nat → Prop) {b : Nat} {F : zTF} {G : zTG} (h : zWg G) : zC D yX4_ratio cX4_ratio 1 (some .double) none rmX4_ratio A [.ref b] (twI D A b F G) (zPd (.double (opRat (G 0))) (twE D A b (zS17 (upF F 6 (if G 0 0 = 0 then 1 else 0)) G))) zNo := by
  refine zC_start (L := [some (.ref b)]) (by decide) (Nat.le_of_ble_eq_true rfl) rfl (fun X hX => ?_)
  have hw := h.1
  have hm := hw.1
  have hcr := chrI_rng h
  by_cases q0 : G 0 0 = 0
  · rw [show opRat (G 0) = FP.dconst0 from if_pos q0, if_pos q0] at hX
    refine z_aload_n (i := 0) (q := 1) hX dX4_ratio_0 rfl rfl rfl ?_
    refine z_aload_n (i := 0) (q := 2) hX dX4_ratio_1 rfl rfl rfl ?_
    refine zt_getA (q := 5) hX 0 0 dX4_ratio_2 q1864 (by decide) rfl rfl rfl ?_
    refine z_iconst (q := 6) hX dX4_ratio_5 rfl ?_
    refine zt_ald (q := 7) (N := 1964) hX 0 dX4_ratio_6 rfl (by decide) (by decide) (by omega) rfl ?_
    refine z_if_ne (q := 10) (t := 14) hX dX4_ratio_7 (by decide) (by omega) rfl (fun h7 => ?_) (fun h7 => ?_)
    · exact absurd q0 (by omega)
    · refine z_iconst (q := 11) hX dX4_ratio_10 rfl ?_
      refine z_goto (t := 15) hX dX4_ratio_11 (by decide) ?_
      refine zt_put (ty := .int) (q := 18) hX 6 dX4_ratio_15 q1870 (by decide) rfl rfl rfl (by decide) rfl rfl rfl ?_
      refine z_aload_n (i := 0) (q := 19) hX dX4_ratio_18 rfl rfl rfl ?_
      refine zt_getI (q := 22) hX 6 dX4_ratio_19 q1870 (by decide) rfl rfl rfl ?_
      rw [upF_same]
      refine z_if_le (q := 25) (t := 29) hX dX4_ratio_22 (by decide) (by omega) rfl (fun h22 => ?_) (fun h22 => ?_)
      · exact absurd h22 (by decide)
      · refine z_dconst0 (q := 26) hX dX4_ratio_25 rfl ?_
        refine z_goto (t := 40) hX dX4_ratio_26 (by decide) ?_
        exact z_dret hX dX4_ratio_40 (Nat.le_of_ble_eq_true rfl) (Nat.le_of_ble_eq_true rfl) rfl (fun H hI => ⟨rfl, _, _, zS17.rf _ _, hI⟩)
  · rw [show opRat (G 0) = FP.ddiv (FP.i2d (Int32.ofInt (chrI (G 0)))) (FP.i2d (Int32.ofInt (cosA (G 0)))) from if_neg q0, if_neg q0] at hX
    have hn := ddiv_n (c := chrI (G 0)) (a := cosA (G 0)) ⟨by omega, by omega⟩ (by omega)
    refine z_aload_n (i := 0) (q := 1) hX dX4_ratio_0 rfl rfl rfl ?_
    refine z_aload_n (i := 0) (q := 2) hX dX4_ratio_1 rfl rfl rfl ?_
    refine zt_getA (q := 5) hX 0 0 dX4_ratio_2 q1864 (by decide) rfl rfl rfl ?_
    refine z_iconst (q := 6) hX dX4_ratio_5 rfl ?_
    refine zt_ald (q := 7) (N := 1964) hX 0 dX4_ratio_6 rfl (by decide) (by decide) (by omega) rfl ?_
    refine z_if_ne (q := 10) (t := 14) hX dX4_ratio_7 (by decide) (by omega) rfl (fun h7 => ?_) (fun h7 => ?_)
    · refine z_iconst (q := 15) hX dX4_ratio_14 rfl ?_
      refine zt_put (ty := .int) (q := 18) hX 6 dX4_ratio_15 q1870 (by decide) rfl rfl rfl (by decide) rfl rfl rfl ?_
      refine z_aload_n (i := 0) (q := 19) hX dX4_ratio_18 rfl rfl rfl ?_
      refine zt_getI (q := 22) hX 6 dX4_ratio_19 q1870 (by decide) rfl rfl rfl ?_
      rw [upF_same]
      refine z_if_le (q := 25) (t := 29) hX dX4_ratio_22 (by decide) (by omega) rfl (fun h22 => ?_) (fun h22 => ?_)
      · refine z_aload_n (i := 0) (q := 30) hX dX4_ratio_29 rfl rfl rfl ?_
        refine zt_V1 (q := 33) (na := 0) hX dX4_ratio_30 (c_X4_characters D A (by first | assumption | omega)) q2133 q2135 qs70 q103 q2136 rfl (by decide +kernel) ⟨Nat.le_of_ble_eq_true rfl, Nat.le_of_ble_eq_true rfl⟩ rfl rfl (Nat.le_of_ble_eq_true rfl) rfl ⟨rfl, rfl⟩ (Nat.le_of_ble_eq_true rfl) (Nat.le_of_ble_eq_true rfl) rfl ?_
        refine z_i2d (q := 34) hX dX4_ratio_33 rfl ?_
        refine z_aload_n (i := 0) (q := 35) hX dX4_ratio_34 rfl rfl rfl ?_
        refine zt_VE1 (q := 38) (na := 0) hX dX4_ratio_35 (c_X4_costOfAll D A (by first | assumption | omega)) q2137 q2139 qs71 q103 q2140 rfl (by decide +kernel) ⟨Nat.le_of_ble_eq_true rfl, Nat.le_of_ble_eq_true rfl⟩ rfl rfl (Nat.le_of_ble_eq_true rfl) rfl ⟨rfl, rfl⟩ (Nat.le_of_ble_eq_true rfl) (Nat.le_of_ble_eq_true rfl) rfl (fun F35 G35 hs35 => ?_)
        refine z_i2d (q := 39) hX dX4_ratio_38 rfl ?_
        refine z_ddiv (q := 40) hX dX4_ratio_39 hn rfl ?_
        exact z_dret hX dX4_ratio_40 (Nat.le_of_ble_eq_true rfl) (Nat.le_of_ble_eq_true rfl) rfl (fun H hI => ⟨rfl, _, _, hs35, hI⟩)
      · exact absurd h22 (by decide)
    · exact absurd h7 (by omega)
