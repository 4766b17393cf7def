/-! THE CLASS: the compactor: hits, hit, excluded, query -/
set_option maxRecDepth 100000
theorem cdR_n {s : zS} : ∀ (a : Nat) {p : Int} {c : zCn}, (cdR s a p).1 = some c → c.1 ≤ a := by
  have hB : ∀ {p : Int} {c : zCn}, (cdB s p).1 = some c → c.1 = 0 := by
    intro p c h
    unfold cdB at h
    by_cases q1 : hr s p = 35
    · rw [if_pos q1] at h
      by_cases q : nuN s (p + 1) = 0
      · rw [if_pos q] at h; cases h
      · rw [if_neg q] at h; cases h; rfl
    · rw [if_neg q1] at h
      by_cases q2 : hr s p = 36
      · rw [if_pos q2] at h
        by_cases q : wdNc s (p + 1) = 0
        · rw [if_pos q] at h; cases h
        · rw [if_neg q] at h; cases h; rfl
      · rw [if_neg q2] at h
        by_cases q3 : hr s p = 37
        · rw [if_pos q3] at h
          by_cases q : rcK s (p + 1) = 2 ∧ nuN s (p + 1 + 2) ≠ 0
          · rw [if_pos q] at h; cases h; rfl
          · rw [if_neg q] at h; cases h
        · rw [if_neg q3] at h; cases h
  intro a
  induction a with
  | zero => intro p c h; rw [hB h]; exact Nat.le_refl _
  | succ a ih =>
    intro p c h
    by_cases q : hr s p = 33
    · rw [cdR_33 q] at h
      cases q2 : (cdR s a (p + 1)).1 with
      | none => rw [q2] at h; cases h
      | some c2 =>
        rw [q2] at h
        cases h
        have := ih q2
        show c2.1 + 1 ≤ a + 1
        omega
    · rw [cdR_ne q] at h
      rw [hB h]
      exact Nat.zero_le _
theorem alR_n {s : zS} : ∀ (f : Nat) {p : Int} {cs l : List zCn}, (alR s f p cs).1 = some l → (∀ c ∈ cs, c.1 ≤ 4) → ∀ c ∈ l, c.1 ≤ 4 := by
  intro f
  induction f with
  | zero => intro p cs l h; cases h
  | succ f ih =>
    intro p cs l h hc
    cases q : (cdR s 4 p).1 with
    | none => rw [alR_no q] at h; cases h
    | some c9 =>
      have hc2 : ∀ c ∈ cs ++ [c9], c.1 ≤ 4 := fun c hm => by
        rcases List.mem_append.mp hm with z | z
        · exact hc c z
        · rw [List.mem_singleton] at z
          rw [z]
          exact cdR_n 4 q
      rw [alR_so q] at h
      by_cases q2 : hr s (cdR s 4 p).2 = 38
      · rw [if_pos q2] at h
        exact ih h hc2
      · rw [if_neg q2] at h
        by_cases q3 : (cdR s 4 p).2 = s.length
        · rw [if_pos q3] at h
          cases h
          exact hc2
        · rw [if_neg q3] at h
          cases h
/-- the hit of a number -/
def hitV (M : Int → Int) (cl : List zCn) (x : Int) : Int := (rF (fun l => hbB M cl l (-1)) (M 0).toNat).getD x.toNat 0
/-- what a query answers -/
def qryV (M : Int → Int) (R : Option (List zCn) × Int) : Int := match R.1 with
  | some cl => hiE M cl (-1)
  | none => -100 - R.2
def qryC (cs : Option (List zCn)) (R : Option (List zCn) × Int) : Option (List zCn) := match R.1 with
  | some cl => some cl
  | none => cs
theorem qryV_no {M : Int → Int} {R : Option (List zCn) × Int} (h : R.1 = none) : qryV M R = -100 - R.2 := by unfold qryV; rw [h]
theorem qryC_no {cs : Option (List zCn)} {R : Option (List zCn) × Int} (h : R.1 = none) : qryC cs R = cs := by unfold qryC; rw [h]
theorem qryV_so {M : Int → Int} {R : Option (List zCn) × Int} {cl : List zCn} (h : R.1 = some cl) : qryV M R = hiE M cl (-1) := by unfold qryV; rw [h]
theorem qryC_so {cs : Option (List zCn)} {R : Option (List zCn) × Int} {cl : List zCn} (h : R.1 = some cl) : qryC cs R = some cl := by unfold qryC; rw [h]
theorem hiE_len (M : Int → Int) (cl : List zCn) : hiE M cl (-1) = ((rF (fun l => hbB M cl l (-1)) (M 0).toNat).length : Int) := rF_len.symm
abbrev rmX1_hits : Room := { frames := 12, cells := 0, slots := 0, locals := 267 }
set_option maxHeartbeats 4000000 in
theorem c_X1_hits (D : zD) (A : Nat → Prop) {w m : zMp} {b : Nat} {K : Nat → Prop} {M : Int → Int} {ps : List (Int → Int)} {sv : Option (Int → Int)} {rp : Option (Int × Int × Int × Int)} {s : zS} {cl : List zCn} {e : Int} (hb : zX1 D w m K b M ps sv rp s (some cl)) (he : zR e) : zC D yX1_hits cX1_hits 4 (some .int) none rmX1_hits A [.ref b, zI (e)] (cI D A w m) (zPd (zI (hiE M cl e)) (cI D A w m)) (zNo) := by
  refine zC_start (L := [some (.ref b), some (zI (e)), none, none]) (by decide) (Nat.le_of_ble_eq_true rfl) rfl (fun X hX => ?_)
  have hb0 := hb
  obtain ⟨lg, hl1, ia, sa, ra, ca, p1, ⟨hok, ll, ta, col, tc, mc, ls, tf, g1, g2, g3, g4⟩, -⟩ := hb
  have hM := hok.1
  have l1 := g3.1
  have K4 : ∀ i : Nat, i ≤ (M 0).toNat → ∀ (v p : Int), v = sumI (fun l => bi (hbB M cl l e)) i → p = i → zG X 0 0 (cI D A w m) 4 [some (.ref b), some (zI (e)), some (zI (v)), some (zI (p))] [] := by
    refine z_up (fun i hi ih v p ev ep => ?_)
    subst ep
    have hst : sumI (fun l => bi (hbB M cl l e)) (i + 1) = sumI (fun l => bi (hbB M cl l e)) i + bi (hbB M cl i e) := rfl
    by_cases hin : i < (M 0).toNat
    · have hz9 : True := trivial
      refine z_iload_n (i := 3) (q := 5) hX dX1_hits_4 rfl rfl rfl ?_
      refine z_aload_n (i := 0) (q := 6) hX dX1_hits_5 rfl rfl rfl ?_
      refine zr_get (C := RX1) (T := TX1) (N := 7) (q := 9) hX ciX1 0 rfl (by decide) in_X1 dX1_hits_6 q224 (Or.inl rfl) (fun H h => cI.rd h (by first | assumption | exact Or.inl (by assumption) | exact Or.inr (by first | assumption | exact upm_same _ _ _ | exact (upm_ne _ _ (by first | assumption | exact Ne.symm (by assumption) | omega | exact ne_mp (m := m) (by assumption) (by assumption) | exact Ne.symm (ne_mp (m := m) (by assumption) (by assumption)) | exact ne_mp (m := w) (by assumption) (by assumption) | exact Ne.symm (ne_mp (m := w) (by assumption) (by assumption)))).trans (by first | assumption | exact upm_same _ _ _ | exact (upm_ne _ _ (by first | assumption | exact Ne.symm (by assumption) | omega | exact ne_mp (m := m) (by assumption) (by assumption) | exact Ne.symm (ne_mp (m := m) (by assumption) (by assumption)) | exact ne_mp (m := w) (by assumption) (by assumption) | exact Ne.symm (ne_mp (m := w) (by assumption) (by assumption)))).trans (by first | assumption | exact upm_same _ _ _ | exact (upm_ne _ _ (by first | assumption | exact Ne.symm (by assumption) | omega | exact ne_mp (m := m) (by assumption) (by assumption) | exact Ne.symm (ne_mp (m := m) (by assumption) (by assumption)) | exact ne_mp (m := w) (by assumption) (by assumption) | exact Ne.symm (ne_mp (m := w) (by assumption) (by assumption)))).trans (by first | assumption | exact upm_same _ _ _))))) rfl (by decide) rfl) rfl ?_
      refine zr_getN (C := RX2) (T := TX2) (N := 4) (q := 12) hX ciX2 0 rfl (by decide) in_X2 dX1_hits_9 (zNF_at 1 rfl) (fun H h => cI.rd h (by first | assumption | exact Or.inl (by assumption) | exact Or.inr (by first | assumption | exact upm_same _ _ _ | exact (upm_ne _ _ (by first | assumption | exact Ne.symm (by assumption) | omega | exact ne_mp (m := m) (by assumption) (by assumption) | exact Ne.symm (ne_mp (m := m) (by assumption) (by assumption)) | exact ne_mp (m := w) (by assumption) (by assumption) | exact Ne.symm (ne_mp (m := w) (by assumption) (by assumption)))).trans (by first | assumption | exact upm_same _ _ _ | exact (upm_ne _ _ (by first | assumption | exact Ne.symm (by assumption) | omega | exact ne_mp (m := m) (by assumption) (by assumption) | exact Ne.symm (ne_mp (m := m) (by assumption) (by assumption)) | exact ne_mp (m := w) (by assumption) (by assumption) | exact Ne.symm (ne_mp (m := w) (by assumption) (by assumption)))).trans (by first | assumption | exact upm_same _ _ _ | exact (upm_ne _ _ (by first | assumption | exact Ne.symm (by assumption) | omega | exact ne_mp (m := m) (by assumption) (by assumption) | exact Ne.symm (ne_mp (m := m) (by assumption) (by assumption)) | exact ne_mp (m := w) (by assumption) (by assumption) | exact Ne.symm (ne_mp (m := w) (by assumption) (by assumption)))).trans (by first | assumption | exact upm_same _ _ _))))) rfl (by decide) rfl) rfl ?_
      refine z_V (ci := ciJ2) (T := TJ2) (N := 3) (na := 0) hX dX1_hits_12 (c_J2_size D A (Or.inl g2)) rfl q993 q467 q468 q101 q469 (by decide +kernel) ⟨Nat.le_of_ble_eq_true rfl, Nat.le_of_ble_eq_true rfl⟩ rfl rfl (Nat.le_of_ble_eq_true rfl) rfl (by first | exact Nat.le_of_ble_eq_true rfl | (show _ + 0 ≤ 0; omega)) (by first | exact Nat.le_of_ble_eq_true rfl | (show _ + 0 ≤ 0; omega)) (fun H h => ⟨h, h.obL (Or.inl g2)⟩) (fun E a => zT.no) (zPd.out ?_)
      show zG X (_ + 0) (_ + 0) _ 15 _ _
      refine z_icmp_ge (q := 18) (t := 41) hX dX1_hits_15 (by decide) ⟨by omega, by omega⟩ ⟨by omega, by omega⟩ rfl (fun h15 => ?_) (fun h15 => ?_)
      · exact absurd h15 (by omega)
      · refine z_iload_n (i := 2) (q := 19) hX dX1_hits_18 rfl rfl rfl ?_
        refine z_aload_n (i := 0) (q := 20) hX dX1_hits_19 rfl rfl rfl ?_
        refine z_iload_n (i := 3) (q := 21) hX dX1_hits_20 rfl rfl rfl ?_
        refine z_iload_n (i := 1) (q := 22) hX dX1_hits_21 rfl rfl rfl ?_
        refine z_V (ci := ciX1) (T := TX1) (N := 7) (na := 2) hX dX1_hits_22 (c_X1_holdsBut D A hb0 ⟨by omega, by omega⟩ he) rfl q1160 q1162 qs25 q97 q1163 (by decide +kernel) ⟨Nat.le_of_ble_eq_true rfl, Nat.le_of_ble_eq_true rfl⟩ rfl rfl (Nat.le_of_ble_eq_true rfl) rfl (by first | exact Nat.le_of_ble_eq_true rfl | (show _ + 0 ≤ 0; omega)) (by first | exact Nat.le_of_ble_eq_true rfl | (show _ + 0 ≤ 0; omega)) (fun H h => ⟨h, h.obE (Or.inr p1) rfl⟩) (fun E a => zT.no) (zPd.out ?_)
        show zG X (_ + 0) (_ + 0) _ 25 _ _
        refine z_ifB_eq (q := 28) (t := 32) hX dX1_hits_25 (by decide) rfl (fun h25 => ?_) (fun h25 => ?_)
        · refine z_iconst (q := 33) hX dX1_hits_32 rfl ?_
          refine z_iadd (q := 34) hX dX1_hits_33 rfl ?_
          refine z_istore_n (i := 2) (q := 35) hX dX1_hits_34 rfl (Nat.le_of_ble_eq_true rfl) rfl rfl ?_
          refine z_iinc (q := 38) hX dX1_hits_35 rfl (Nat.le_of_ble_eq_true rfl) rfl rfl ?_
          refine z_goto (t := 4) hX dX1_hits_38 (by decide) ?_
          exact ih hin _ _ (by rw [hst, h25, ev]; rfl) rfl
        · refine z_iconst (q := 29) hX dX1_hits_28 rfl ?_
          refine z_goto (t := 33) hX dX1_hits_29 (by decide) ?_
          refine z_iadd (q := 34) hX dX1_hits_33 rfl ?_
          refine z_istore_n (i := 2) (q := 35) hX dX1_hits_34 rfl (Nat.le_of_ble_eq_true rfl) rfl rfl ?_
          refine z_iinc (q := 38) hX dX1_hits_35 rfl (Nat.le_of_ble_eq_true rfl) rfl rfl ?_
          refine z_goto (t := 4) hX dX1_hits_38 (by decide) ?_
          exact ih hin _ _ (by rw [hst, h25, ev]; rfl) rfl
    · have hiN : i = (M 0).toNat := by omega
      refine z_iload_n (i := 3) (q := 5) hX dX1_hits_4 rfl rfl rfl ?_
      refine z_aload_n (i := 0) (q := 6) hX dX1_hits_5 rfl rfl rfl ?_
      refine zr_get (C := RX1) (T := TX1) (N := 7) (q := 9) hX ciX1 0 rfl (by decide) in_X1 dX1_hits_6 q224 (Or.inl rfl) (fun H h => cI.rd h (by first | assumption | exact Or.inl (by assumption) | exact Or.inr (by first | assumption | exact upm_same _ _ _ | exact (upm_ne _ _ (by first | assumption | exact Ne.symm (by assumption) | omega | exact ne_mp (m := m) (by assumption) (by assumption) | exact Ne.symm (ne_mp (m := m) (by assumption) (by assumption)) | exact ne_mp (m := w) (by assumption) (by assumption) | exact Ne.symm (ne_mp (m := w) (by assumption) (by assumption)))).trans (by first | assumption | exact upm_same _ _ _ | exact (upm_ne _ _ (by first | assumption | exact Ne.symm (by assumption) | omega | exact ne_mp (m := m) (by assumption) (by assumption) | exact Ne.symm (ne_mp (m := m) (by assumption) (by assumption)) | exact ne_mp (m := w) (by assumption) (by assumption) | exact Ne.symm (ne_mp (m := w) (by assumption) (by assumption)))).trans (by first | assumption | exact upm_same _ _ _ | exact (upm_ne _ _ (by first | assumption | exact Ne.symm (by assumption) | omega | exact ne_mp (m := m) (by assumption) (by assumption) | exact Ne.symm (ne_mp (m := m) (by assumption) (by assumption)) | exact ne_mp (m := w) (by assumption) (by assumption) | exact Ne.symm (ne_mp (m := w) (by assumption) (by assumption)))).trans (by first | assumption | exact upm_same _ _ _))))) rfl (by decide) rfl) rfl ?_
      refine zr_getN (C := RX2) (T := TX2) (N := 4) (q := 12) hX ciX2 0 rfl (by decide) in_X2 dX1_hits_9 (zNF_at 1 rfl) (fun H h => cI.rd h (by first | assumption | exact Or.inl (by assumption) | exact Or.inr (by first | assumption | exact upm_same _ _ _ | exact (upm_ne _ _ (by first | assumption | exact Ne.symm (by assumption) | omega | exact ne_mp (m := m) (by assumption) (by assumption) | exact Ne.symm (ne_mp (m := m) (by assumption) (by assumption)) | exact ne_mp (m := w) (by assumption) (by assumption) | exact Ne.symm (ne_mp (m := w) (by assumption) (by assumption)))).trans (by first | assumption | exact upm_same _ _ _ | exact (upm_ne _ _ (by first | assumption | exact Ne.symm (by assumption) | omega | exact ne_mp (m := m) (by assumption) (by assumption) | exact Ne.symm (ne_mp (m := m) (by assumption) (by assumption)) | exact ne_mp (m := w) (by assumption) (by assumption) | exact Ne.symm (ne_mp (m := w) (by assumption) (by assumption)))).trans (by first | assumption | exact upm_same _ _ _ | exact (upm_ne _ _ (by first | assumption | exact Ne.symm (by assumption) | omega | exact ne_mp (m := m) (by assumption) (by assumption) | exact Ne.symm (ne_mp (m := m) (by assumption) (by assumption)) | exact ne_mp (m := w) (by assumption) (by assumption) | exact Ne.symm (ne_mp (m := w) (by assumption) (by assumption)))).trans (by first | assumption | exact upm_same _ _ _))))) rfl (by decide) rfl) rfl ?_
      refine z_V (ci := ciJ2) (T := TJ2) (N := 3) (na := 0) hX dX1_hits_12 (c_J2_size D A (Or.inl g2)) rfl q993 q467 q468 q101 q469 (by decide +kernel) ⟨Nat.le_of_ble_eq_true rfl, Nat.le_of_ble_eq_true rfl⟩ rfl rfl (Nat.le_of_ble_eq_true rfl) rfl (by first | exact Nat.le_of_ble_eq_true rfl | (show _ + 0 ≤ 0; omega)) (by first | exact Nat.le_of_ble_eq_true rfl | (show _ + 0 ≤ 0; omega)) (fun H h => ⟨h, h.obL (Or.inl g2)⟩) (fun E a => zT.no) (zPd.out ?_)
      show zG X (_ + 0) (_ + 0) _ 15 _ _
      refine z_icmp_ge (q := 18) (t := 41) hX dX1_hits_15 (by decide) ⟨by omega, by omega⟩ ⟨by omega, by omega⟩ rfl (fun h15 => ?_) (fun h15 => ?_)
      · refine z_iload_n (i := 2) (q := 42) hX dX1_hits_41 rfl rfl rfl ?_
        exact z_iret hX dX1_hits_42 (by first | exact Nat.le_of_ble_eq_true rfl | (show (_ : Nat) ≤ 0; omega)) (by first | exact Nat.le_of_ble_eq_true rfl | (show (_ : Nat) ≤ 0; omega)) rfl (fun H h => ⟨congrArg (fun z => some (zI z)) ((by rw [ev, hiN]; rfl)), h⟩)
      · exact absurd h15 (by omega)
  refine z_iconst (q := 1) hX dX1_hits_0 rfl ?_
  refine z_istore_n (i := 2) (q := 2) hX dX1_hits_1 rfl (Nat.le_of_ble_eq_true rfl) rfl rfl ?_
  refine z_iconst (q := 3) hX dX1_hits_2 rfl ?_
  refine z_istore_n (i := 3) (q := 4) hX dX1_hits_3 rfl (Nat.le_of_ble_eq_true rfl) rfl rfl ?_
  exact K4 0 (Nat.zero_le _) _ _ rfl rfl
abbrev rmX1_hit_no : Room := { frames := 7, cells := 1, slots := 6, locals := 120 }
set_option maxHeartbeats 4000000 in
theorem c_X1_hit_no (D : zD) (A : Nat → Prop) {w m : zMp} {b : Nat} {K : Nat → Prop} {M : Int → Int} {ps : List (Int → Int)} {sv : Option (Int → Int)} {rp : Option (Int × Int × Int × Int)} {s : zS} {cs : Option (List zCn)} {x : Int} (hb : zX1 D w m K b M ps sv rp s cs) (hK : zHk K m) (hc : cs = none) : zC D yX1_hit cX1_hit 4 (some .int) none rmX1_hit_no A [.ref b, zI (x)] (cI D A w m) (zPe (fun (z : zMp × zMp) => none) (fun z => False) (fun z => cI D A z.1 z.2)) (xSt D A w m K b "java/util/NoSuchElementException" ciJ9 True M ps sv rp s cs) := by
  refine zC_start (L := [some (.ref b), some (zI (x)), none, none]) (by decide) (Nat.le_of_ble_eq_true rfl) rfl (fun X hX => ?_)
  have hb0 := hb
  obtain ⟨lg, hl1, ia, sa, ra, ca, p1, -⟩ := hb
  refine z_aload_n (i := 0) (q := 1) hX dX1_hit_0 rfl rfl rfl ?_
  refine z_V (ci := ciX1) (T := TX1) (N := 7) (na := 0) hX dX1_hit_1 (c_X1_checkQuery D A hb0) rfl q1800 q1802 qs38 q97 q1803 (by decide +kernel) ⟨Nat.le_of_ble_eq_true rfl, Nat.le_of_ble_eq_true rfl⟩ rfl rfl (Nat.le_of_ble_eq_true rfl) rfl (by first | exact Nat.le_of_ble_eq_true rfl | (show _ + 1 ≤ 1; omega)) (by first | exact Nat.le_of_ble_eq_true rfl | (show _ + 6 ≤ 6; omega)) (fun H h => ⟨h, h.obE (Or.inr p1) rfl⟩) (zXs.out (fun e1 => ?_)) (zPe.out (fun x1 hx1 => ?_))
  · refine zT.ax (fun hx1 => ?_)
    exact zT.out hX (by decide) (by first | exact Nat.le_of_ble_eq_true rfl | (show (_ : Nat) ≤ 1; omega)) (by first | exact Nat.le_of_ble_eq_true rfl | (show (_ : Nat) ≤ 6; omega)) (fun H h => xSt0 hK hb0 trivial h)
  show zG X (_ + 1) (_ + 6) _ 4 _ _
  exact absurd hc hx1
abbrev rmX1_hit_ok : Room := { frames := 13, cells := 2, slots := 12, locals := 290 }
set_option maxHeartbeats 4000000 in
theorem c_X1_hit_ok (D : zD) (A : Nat → Prop) {w m : zMp} {b : Nat} {K : Nat → Prop} {M : Int → Int} {ps : List (Int → Int)} {sv : Option (Int → Int)} {rp : Option (Int × Int × Int × Int)} {s : zS} {cl : List zCn} {x : Int} (hb : zX1 D w m K b M ps sv rp s (some cl)) (hK : zHk K m) (hx : zR x) : zC D yX1_hit cX1_hit 4 (some .int) none rmX1_hit_ok A [.ref b, zI (x)] (cI D A w m) (zPe (fun (z : zMp × zMp) => some (zI (hitV M cl x))) (fun z => pSt D w m K b (0 ≤ x ∧ x < hiE M cl (-1)) M ps sv rp s (some cl) z) (fun z => cI D A z.1 z.2)) (xSt D A w m K b "java/lang/IndexOutOfBoundsException" ciJ22 (¬ (0 ≤ x ∧ x < hiE M cl (-1))) M ps sv rp s (some cl)) := by
  refine zC_start (L := [some (.ref b), some (zI (x)), none, none]) (by decide) (Nat.le_of_ble_eq_true rfl) rfl (fun X hX => ?_)
  have hb0 := hb
  obtain ⟨lg, hl1, ia, sa, ra, ca, p1, ⟨hok, ll, ta, col, tc, mc, ls, tf, g1, g2, g3, g4⟩, -⟩ := hb
  have hM := hok.1
  have l1 := g3.1
  have hrg := hiE_rng M cl (-1)
  have hln := hiE_len M cl
  obtain ⟨N, hN⟩ : ∃ N, N = hiE M cl (-1) := ⟨_, rfl⟩
  rw [← hN] at hX hrg hln
  have K17 : 0 ≤ x ∧ x < N → ∀ i : Nat, i ≤ (M 0).toNat → ((rF (fun l => hbB M cl l (-1)) i).length : Int) ≤ x → ∀ (v p : Int), v = x - ((rF (fun l => hbB M cl l (-1)) i).length : Int) → p = i → zG X (0 + 1 + 0 + 1) (0 + 6 + 0 + 6) (cI D A w m) 17 [some (.ref b), some (zI (x)), some (zI (v)), some (zI (p))] [] := by
    intro hxN
    refine z_up (fun i hi ih hle v p ev ep => ?_)
    subst ep
    have hin : i < (M 0).toNat := by
      refine Classical.byContradiction (fun q => ?_)
      have : i = (M 0).toNat := by omega
      rw [this] at hle
      omega
    have hst : rF (fun l => hbB M cl l (-1)) (i + 1) = if hbB M cl (i : Int) (-1) then rF (fun l => hbB M cl l (-1)) i ++ [(i : Int)] else rF (fun l => hbB M cl l (-1)) i := rfl
    have hrl : (rF (fun l => hbB M cl l (-1)) i).length ≤ i := rF_le
    obtain ⟨y, hy⟩ : ∃ y, y = ((rF (fun l => hbB M cl l (-1)) i).length : Int) := ⟨_, rfl⟩
    cases hP : hbB M cl (i : Int) (-1) with
    | true =>
      have hst2 : ((rF (fun l => hbB M cl l (-1)) (i + 1)).length : Int) = y + 1 := by rw [hst, hP, if_pos rfl, List.length_append, hy]; rfl
      have hat := rF_at (p := fun l => hbB M cl l (-1)) hin hP
      rw [← hy] at ev hle
      refine z_iload_n (i := 2) (q := 18) hX dX1_hit_17 rfl rfl rfl ?_
      refine z_if_gt (q := 21) (t := 30) hX dX1_hit_18 (by decide) ⟨by omega, by omega⟩ rfl (fun h18 => ?_) (fun h18 => ?_)
      · refine z_iload_n (i := 2) (q := 31) hX dX1_hit_30 rfl rfl rfl ?_
        refine z_aload_n (i := 0) (q := 32) hX dX1_hit_31 rfl rfl rfl ?_
        refine z_iload_n (i := 3) (q := 33) hX dX1_hit_32 rfl rfl rfl ?_
        refine z_iconst (q := 34) hX dX1_hit_33 rfl ?_
        refine z_V (ci := ciX1) (T := TX1) (N := 7) (na := 2) hX dX1_hit_34 (c_X1_holdsBut D A hb0 ⟨by omega, by omega⟩ (by decide)) rfl q1160 q1162 qs25 q97 q1163 (by decide +kernel) ⟨Nat.le_of_ble_eq_true rfl, Nat.le_of_ble_eq_true rfl⟩ rfl rfl (Nat.le_of_ble_eq_true rfl) rfl (by first | exact Nat.le_of_ble_eq_true rfl | (show _ + 0 ≤ 2; omega)) (by first | exact Nat.le_of_ble_eq_true rfl | (show _ + 0 ≤ 12; omega)) (fun H h => ⟨h, h.obE (Or.inr p1) rfl⟩) (fun E a => zT.no) (zPd.out ?_)
        show zG X (_ + 0) (_ + 0) _ 37 _ _
        rw [hP]
        refine z_ifB_eq (q := 40) (t := 44) hX dX1_hit_37 (by decide) rfl (fun h37 => ?_) (fun h37 => ?_)
        · cases h37
        · refine z_iconst (q := 41) hX dX1_hit_40 rfl ?_
          refine z_goto (t := 45) hX dX1_hit_41 (by decide) ?_
          refine z_isub (q := 46) hX dX1_hit_45 rfl ?_
          refine z_istore_n (i := 2) (q := 47) hX dX1_hit_46 rfl (Nat.le_of_ble_eq_true rfl) rfl rfl ?_
          refine z_iinc (q := 50) hX dX1_hit_47 rfl (Nat.le_of_ble_eq_true rfl) rfl rfl ?_
          refine z_goto (t := 17) hX dX1_hit_50 (by decide) ?_
          exact ih hin (by omega) _ _ (by omega) rfl
      · refine z_aload_n (i := 0) (q := 22) hX dX1_hit_21 rfl rfl rfl ?_
        refine z_iload_n (i := 3) (q := 23) hX dX1_hit_22 rfl rfl rfl ?_
        refine z_iconst (q := 24) hX dX1_hit_23 rfl ?_
        refine z_V (ci := ciX1) (T := TX1) (N := 7) (na := 2) hX dX1_hit_24 (c_X1_holdsBut D A hb0 ⟨by omega, by omega⟩ (by decide)) rfl q1160 q1162 qs25 q97 q1163 (by decide +kernel) ⟨Nat.le_of_ble_eq_true rfl, Nat.le_of_ble_eq_true rfl⟩ rfl rfl (Nat.le_of_ble_eq_true rfl) rfl (by first | exact Nat.le_of_ble_eq_true rfl | (show _ + 0 ≤ 2; omega)) (by first | exact Nat.le_of_ble_eq_true rfl | (show _ + 0 ≤ 12; omega)) (fun H h => ⟨h, h.obE (Or.inr p1) rfl⟩) (fun E a => zT.no) (zPd.out ?_)
        show zG X (_ + 0) (_ + 0) _ 27 _ _
        rw [hP]
        refine z_ifB_ne (q := 30) (t := 53) hX dX1_hit_27 (by decide) rfl (fun h27 => ?_) (fun h27 => ?_)
        · refine z_iload_n (i := 3) (q := 54) hX dX1_hit_53 rfl rfl rfl ?_
          exact z_iret hX dX1_hit_54 (by first | exact Nat.le_of_ble_eq_true rfl | (show (_ : Nat) ≤ 2; omega)) (by first | exact Nat.le_of_ble_eq_true rfl | (show (_ : Nat) ≤ 12; omega)) rfl (fun H h => ⟨(w, m), by
          have hxe : x = y := by omega
          have : hitV M cl x = (i : Int) := by
            unfold hitV
            rw [hxe, hy, Int.toNat_natCast, List.getD_eq_getElem?_getD, hat]
            rfl
          rw [this], pSt0 hxN hb0, h⟩)
        · cases h27
    | false =>
      have hst2 : ((rF (fun l => hbB M cl l (-1)) (i + 1)).length : Int) = y := by rw [hst, hP, if_neg (by decide), hy]
      rw [← hy] at ev hle
      refine z_iload_n (i := 2) (q := 18) hX dX1_hit_17 rfl rfl rfl ?_
      refine z_if_gt (q := 21) (t := 30) hX dX1_hit_18 (by decide) ⟨by omega, by omega⟩ rfl (fun h18 => ?_) (fun h18 => ?_)
      · refine z_iload_n (i := 2) (q := 31) hX dX1_hit_30 rfl rfl rfl ?_
        refine z_aload_n (i := 0) (q := 32) hX dX1_hit_31 rfl rfl rfl ?_
        refine z_iload_n (i := 3) (q := 33) hX dX1_hit_32 rfl rfl rfl ?_
        refine z_iconst (q := 34) hX dX1_hit_33 rfl ?_
        refine z_V (ci := ciX1) (T := TX1) (N := 7) (na := 2) hX dX1_hit_34 (c_X1_holdsBut D A hb0 ⟨by omega, by omega⟩ (by decide)) rfl q1160 q1162 qs25 q97 q1163 (by decide +kernel) ⟨Nat.le_of_ble_eq_true rfl, Nat.le_of_ble_eq_true rfl⟩ rfl rfl (Nat.le_of_ble_eq_true rfl) rfl (by first | exact Nat.le_of_ble_eq_true rfl | (show _ + 0 ≤ 2; omega)) (by first | exact Nat.le_of_ble_eq_true rfl | (show _ + 0 ≤ 12; omega)) (fun H h => ⟨h, h.obE (Or.inr p1) rfl⟩) (fun E a => zT.no) (zPd.out ?_)
        show zG X (_ + 0) (_ + 0) _ 37 _ _
        rw [hP]
        refine z_ifB_eq (q := 40) (t := 44) hX dX1_hit_37 (by decide) rfl (fun h37 => ?_) (fun h37 => ?_)
        · refine z_iconst (q := 45) hX dX1_hit_44 rfl ?_
          refine z_isub (q := 46) hX dX1_hit_45 rfl ?_
          refine z_istore_n (i := 2) (q := 47) hX dX1_hit_46 rfl (Nat.le_of_ble_eq_true rfl) rfl rfl ?_
          refine z_iinc (q := 50) hX dX1_hit_47 rfl (Nat.le_of_ble_eq_true rfl) rfl rfl ?_
          refine z_goto (t := 17) hX dX1_hit_50 (by decide) ?_
          exact ih hin (by omega) _ _ (by omega) rfl
        · cases h37
      · refine z_aload_n (i := 0) (q := 22) hX dX1_hit_21 rfl rfl rfl ?_
        refine z_iload_n (i := 3) (q := 23) hX dX1_hit_22 rfl rfl rfl ?_
        refine z_iconst (q := 24) hX dX1_hit_23 rfl ?_
        refine z_V (ci := ciX1) (T := TX1) (N := 7) (na := 2) hX dX1_hit_24 (c_X1_holdsBut D A hb0 ⟨by omega, by omega⟩ (by decide)) rfl q1160 q1162 qs25 q97 q1163 (by decide +kernel) ⟨Nat.le_of_ble_eq_true rfl, Nat.le_of_ble_eq_true rfl⟩ rfl rfl (Nat.le_of_ble_eq_true rfl) rfl (by first | exact Nat.le_of_ble_eq_true rfl | (show _ + 0 ≤ 2; omega)) (by first | exact Nat.le_of_ble_eq_true rfl | (show _ + 0 ≤ 12; omega)) (fun H h => ⟨h, h.obE (Or.inr p1) rfl⟩) (fun E a => zT.no) (zPd.out ?_)
        show zG X (_ + 0) (_ + 0) _ 27 _ _
        rw [hP]
        refine z_ifB_ne (q := 30) (t := 53) hX dX1_hit_27 (by decide) rfl (fun h27 => ?_) (fun h27 => ?_)
        · cases h27
        · refine z_iload_n (i := 2) (q := 31) hX dX1_hit_30 rfl rfl rfl ?_
          refine z_aload_n (i := 0) (q := 32) hX dX1_hit_31 rfl rfl rfl ?_
          refine z_iload_n (i := 3) (q := 33) hX dX1_hit_32 rfl rfl rfl ?_
          refine z_iconst (q := 34) hX dX1_hit_33 rfl ?_
          refine z_V (ci := ciX1) (T := TX1) (N := 7) (na := 2) hX dX1_hit_34 (c_X1_holdsBut D A hb0 ⟨by omega, by omega⟩ (by decide)) rfl q1160 q1162 qs25 q97 q1163 (by decide +kernel) ⟨Nat.le_of_ble_eq_true rfl, Nat.le_of_ble_eq_true rfl⟩ rfl rfl (Nat.le_of_ble_eq_true rfl) rfl (by first | exact Nat.le_of_ble_eq_true rfl | (show _ + 0 ≤ 2; omega)) (by first | exact Nat.le_of_ble_eq_true rfl | (show _ + 0 ≤ 12; omega)) (fun H h => ⟨h, h.obE (Or.inr p1) rfl⟩) (fun E a => zT.no) (zPd.out ?_)
          show zG X (_ + 0) (_ + 0) _ 37 _ _
          rw [hP]
          refine z_ifB_eq (q := 40) (t := 44) hX dX1_hit_37 (by decide) rfl (fun h37 => ?_) (fun h37 => ?_)
          · refine z_iconst (q := 45) hX dX1_hit_44 rfl ?_
            refine z_isub (q := 46) hX dX1_hit_45 rfl ?_
            refine z_istore_n (i := 2) (q := 47) hX dX1_hit_46 rfl (Nat.le_of_ble_eq_true rfl) rfl rfl ?_
            refine z_iinc (q := 50) hX dX1_hit_47 rfl (Nat.le_of_ble_eq_true rfl) rfl rfl ?_
            refine z_goto (t := 17) hX dX1_hit_50 (by decide) ?_
            exact ih hin (by omega) _ _ (by omega) rfl
          · cases h37
  refine z_aload_n (i := 0) (q := 1) hX dX1_hit_0 rfl rfl rfl ?_
  refine z_V (ci := ciX1) (T := TX1) (N := 7) (na := 0) hX dX1_hit_1 (c_X1_checkQuery D A hb0) rfl q1800 q1802 qs38 q97 q1803 (by decide +kernel) ⟨Nat.le_of_ble_eq_true rfl, Nat.le_of_ble_eq_true rfl⟩ rfl rfl (Nat.le_of_ble_eq_true rfl) rfl (by first | exact Nat.le_of_ble_eq_true rfl | (show _ + 1 ≤ 2; omega)) (by first | exact Nat.le_of_ble_eq_true rfl | (show _ + 6 ≤ 12; omega)) (fun H h => ⟨h, h.obE (Or.inr p1) rfl⟩) (zXs.out (fun e1 => ?_)) (zPe.out (fun x1 hx1 => ?_))
  · refine zT.ax (fun hx1 => ?_)
    cases hx1
  show zG X (_ + 1) (_ + 6) _ 4 _ _
  refine z_iload_n (i := 1) (q := 5) hX dX1_hit_4 rfl rfl rfl ?_
  refine z_aload_n (i := 0) (q := 6) hX dX1_hit_5 rfl rfl rfl ?_
  refine z_iconst (q := 7) hX dX1_hit_6 rfl ?_
  refine z_V (ci := ciX1) (T := TX1) (N := 7) (na := 1) hX dX1_hit_7 (c_X1_hits D A hb0 (by decide)) rfl q1156 q1158 qs24 q97 q1159 (by decide +kernel) ⟨Nat.le_of_ble_eq_true rfl, Nat.le_of_ble_eq_true rfl⟩ rfl rfl (Nat.le_of_ble_eq_true rfl) rfl (by first | exact Nat.le_of_ble_eq_true rfl | (show _ + 0 ≤ 2; omega)) (by first | exact Nat.le_of_ble_eq_true rfl | (show _ + 0 ≤ 12; omega)) (fun H h => ⟨h, h.obE (Or.inr p1) rfl⟩) (fun E a => zT.no) (zPd.out ?_)
  show zG X (_ + 0) (_ + 0) _ 10 _ _
  rw [← hN]
  refine z_S (na := 2) hX dX1_hit_10 (c_X1_checkIndex D A hx ⟨by omega, by omega⟩) q1537 q1538 q97 q1539 (by decide +kernel) ⟨Nat.le_of_ble_eq_true rfl, Nat.le_of_ble_eq_true rfl⟩ rfl rfl (Nat.le_of_ble_eq_true rfl) rfl (by first | exact Nat.le_of_ble_eq_true rfl | (show _ + 1 ≤ 2; omega)) (by first | exact Nat.le_of_ble_eq_true rfl | (show _ + 6 ≤ 12; omega)) (fun H h => h) (zXs.out (fun e10 => ?_)) (zPe.out (fun x10 hx10 => ?_))
  · refine zT.ax (fun hx10 => ?_)
    exact zT.out hX (by decide) (by first | exact Nat.le_of_ble_eq_true rfl | (show (_ : Nat) ≤ 2; omega)) (by first | exact Nat.le_of_ble_eq_true rfl | (show (_ : Nat) ≤ 12; omega)) (fun H h => xSt0 hK hb0 hx10 h)
  show zG X (_ + 1) (_ + 6) _ 13 _ _
  refine z_iload_n (i := 1) (q := 14) hX dX1_hit_13 rfl rfl rfl ?_
  refine z_istore_n (i := 2) (q := 15) hX dX1_hit_14 rfl (Nat.le_of_ble_eq_true rfl) rfl rfl ?_
  refine z_iconst (q := 16) hX dX1_hit_15 rfl ?_
  refine z_istore_n (i := 3) (q := 17) hX dX1_hit_16 rfl (Nat.le_of_ble_eq_true rfl) rfl rfl ?_
  exact K17 hx10 0 (Nat.zero_le _) hx10.1 _ _ (by show x = x - 0; omega) rfl
abbrev rmX1_excluded_no : Room := { frames := 7, cells := 1, slots := 6, locals := 120 }
set_option maxHeartbeats 4000000 in
theorem c_X1_excluded_no (D : zD) (A : Nat → Prop) {w m : zMp} {b : Nat} {K : Nat → Prop} {M : Int → Int} {ps : List (Int → Int)} {sv : Option (Int → Int)} {rp : Option (Int × Int × Int × Int)} {s : zS} {cs : Option (List zCn)} {x : Int} (hb : zX1 D w m K b M ps sv rp s cs) (hK : zHk K m) (hc : cs = none) : zC D yX1_excluded cX1_excluded 2 (some .int) none rmX1_excluded_no A [.ref b, zI (x)] (cI D A w m) (zPe (fun (z : zMp × zMp) => none) (fun z => False) (fun z => cI D A z.1 z.2)) (xSt D A w m K b "java/util/NoSuchElementException" ciJ9 True M ps sv rp s cs) := by
  refine zC_start (L := [some (.ref b), some (zI (x))]) (by decide) (Nat.le_of_ble_eq_true rfl) rfl (fun X hX => ?_)
  have hb0 := hb
  obtain ⟨lg, hl1, ia, sa, ra, ca, p1, -⟩ := hb
  refine z_aload_n (i := 0) (q := 1) hX dX1_excluded_0 rfl rfl rfl ?_
  refine z_V (ci := ciX1) (T := TX1) (N := 7) (na := 0) hX dX1_excluded_1 (c_X1_checkQuery D A hb0) rfl q1800 q1802 qs38 q97 q1803 (by decide +kernel) ⟨Nat.le_of_ble_eq_true rfl, Nat.le_of_ble_eq_true rfl⟩ rfl rfl (Nat.le_of_ble_eq_true rfl) rfl (by first | exact Nat.le_of_ble_eq_true rfl | (show _ + 1 ≤ 1; omega)) (by first | exact Nat.le_of_ble_eq_true rfl | (show _ + 6 ≤ 6; omega)) (fun H h => ⟨h, h.obE (Or.inr p1) rfl⟩) (zXs.out (fun e1 => ?_)) (zPe.out (fun x1 hx1 => ?_))
  · refine zT.ax (fun hx1 => ?_)
    exact zT.out hX (by decide) (by first | exact Nat.le_of_ble_eq_true rfl | (show (_ : Nat) ≤ 1; omega)) (by first | exact Nat.le_of_ble_eq_true rfl | (show (_ : Nat) ≤ 6; omega)) (fun H h => xSt0 hK hb0 trivial h)
  show zG X (_ + 1) (_ + 6) _ 4 _ _
  exact absurd hc hx1
abbrev rmX1_excluded_ok : Room := { frames := 13, cells := 2, slots := 12, locals := 290 }
set_option maxHeartbeats 4000000 in
theorem c_X1_excluded_ok (D : zD) (A : Nat → Prop) {w m : zMp} {b : Nat} {K : Nat → Prop} {M : Int → Int} {ps : List (Int → Int)} {sv : Option (Int → Int)} {rp : Option (Int × Int × Int × Int)} {s : zS} {cl : List zCn} {x : Int} (hb : zX1 D w m K b M ps sv rp s (some cl)) (hK : zHk K m) (hx : zR x) : zC D yX1_excluded cX1_excluded 2 (some .int) none rmX1_excluded_ok A [.ref b, zI (x)] (cI D A w m) (zPe (fun (z : zMp × zMp) => some (zI (hiE M cl x - hiE M cl (-1)))) (fun z => pSt D w m K b (0 ≤ x ∧ x ≤ (cl.length : Int) - 1) M ps sv rp s (some cl) z) (fun z => cI D A z.1 z.2)) (xSt D A w m K b "java/util/NoSuchElementException" ciJ9 (¬ (0 ≤ x ∧ x ≤ (cl.length : Int) - 1)) M ps sv rp s (some cl)) := by
  refine zC_start (L := [some (.ref b), some (zI (x))]) (by decide) (Nat.le_of_ble_eq_true rfl) rfl (fun X hX => ?_)
  have hb0 := hb
  obtain ⟨lg, hl1, ia, sa, ra, ca, p1, p2, p3, p5, p6, p7, p8, -⟩ := hb
  rcases p8 with ⟨e3, -⟩ | ⟨cl2, a, mc9, xs, e3, e4, k1, k2, k3⟩
  · cases e3
  cases e3
  subst e4
  have k20 := k2.1
  have k30 := k3.1
  refine z_aload_n (i := 0) (q := 1) hX dX1_excluded_0 rfl rfl rfl ?_
  refine z_V (ci := ciX1) (T := TX1) (N := 7) (na := 0) hX dX1_excluded_1 (c_X1_checkQuery D A hb0) rfl q1800 q1802 qs38 q97 q1803 (by decide +kernel) ⟨Nat.le_of_ble_eq_true rfl, Nat.le_of_ble_eq_true rfl⟩ rfl rfl (Nat.le_of_ble_eq_true rfl) rfl (by first | exact Nat.le_of_ble_eq_true rfl | (show _ + 1 ≤ 2; omega)) (by first | exact Nat.le_of_ble_eq_true rfl | (show _ + 6 ≤ 12; omega)) (fun H h => ⟨h, h.obE (Or.inr p1) rfl⟩) (zXs.out (fun e1 => ?_)) (zPe.out (fun x1 hx1 => ?_))
  · refine zT.ax (fun hx1 => ?_)
    cases hx1
  show zG X (_ + 1) (_ + 6) _ 4 _ _
  refine z_iload_n (i := 1) (q := 5) hX dX1_excluded_4 rfl rfl rfl ?_
  refine z_iconst (q := 6) hX dX1_excluded_5 rfl ?_
  refine z_aload_n (i := 0) (q := 7) hX dX1_excluded_6 rfl rfl rfl ?_
  refine zr_get (C := RX1) (T := TX1) (N := 7) (q := 10) hX ciX1 6 rfl (by decide) in_X1 dX1_excluded_7 q232 (Or.inl rfl) (fun H h => cI.rd h (by first | assumption | exact Or.inl (by assumption) | exact Or.inr (by first | assumption | exact upm_same _ _ _ | exact (upm_ne _ _ (by first | assumption | exact Ne.symm (by assumption) | omega | exact ne_mp (m := m) (by assumption) (by assumption) | exact Ne.symm (ne_mp (m := m) (by assumption) (by assumption)) | exact ne_mp (m := w) (by assumption) (by assumption) | exact Ne.symm (ne_mp (m := w) (by assumption) (by assumption)))).trans (by first | assumption | exact upm_same _ _ _ | exact (upm_ne _ _ (by first | assumption | exact Ne.symm (by assumption) | omega | exact ne_mp (m := m) (by assumption) (by assumption) | exact Ne.symm (ne_mp (m := m) (by assumption) (by assumption)) | exact ne_mp (m := w) (by assumption) (by assumption) | exact Ne.symm (ne_mp (m := w) (by assumption) (by assumption)))).trans (by first | assumption | exact upm_same _ _ _ | exact (upm_ne _ _ (by first | assumption | exact Ne.symm (by assumption) | omega | exact ne_mp (m := m) (by assumption) (by assumption) | exact Ne.symm (ne_mp (m := m) (by assumption) (by assumption)) | exact ne_mp (m := w) (by assumption) (by assumption) | exact Ne.symm (ne_mp (m := w) (by assumption) (by assumption)))).trans (by first | assumption | exact upm_same _ _ _))))) rfl (by decide) rfl) rfl ?_
  refine zG.top (v2 := .ref a) rfl ?_
  refine z_V (ci := ciJ2) (T := TJ2) (N := 3) (na := 0) hX dX1_excluded_10 (c_J2_size D A (Or.inl k1)) rfl q993 q467 q468 q101 q469 (by decide +kernel) ⟨Nat.le_of_ble_eq_true rfl, Nat.le_of_ble_eq_true rfl⟩ rfl rfl (Nat.le_of_ble_eq_true rfl) rfl (by first | exact Nat.le_of_ble_eq_true rfl | (show _ + 0 ≤ 2; omega)) (by first | exact Nat.le_of_ble_eq_true rfl | (show _ + 0 ≤ 12; omega)) (fun H h => ⟨h, h.obL (Or.inl k1)⟩) (fun E a => zT.no) (zPd.out ?_)
  show zG X (_ + 0) (_ + 0) _ 13 _ _
  rw [k20]
  refine z_iconst (q := 14) hX dX1_excluded_13 rfl ?_
  refine z_isub (q := 15) hX dX1_excluded_14 rfl ?_
  refine z_S (na := 3) hX dX1_excluded_15 (c_X1_inRange D A hx (by decide) ⟨by omega, by omega⟩) q1313 q1050 q97 q1051 (by decide +kernel) ⟨Nat.le_of_ble_eq_true rfl, Nat.le_of_ble_eq_true rfl⟩ rfl rfl (Nat.le_of_ble_eq_true rfl) rfl (by first | exact Nat.le_of_ble_eq_true rfl | (show _ + 0 ≤ 2; omega)) (by first | exact Nat.le_of_ble_eq_true rfl | (show _ + 0 ≤ 12; omega)) (fun H h => h) (fun E a => zT.no) (zPd.out ?_)
  show zG X (_ + 0) (_ + 0) _ 18 _ _
  rw [and_dec]
  refine z_ifB_ne (q := 21) (t := 29) hX dX1_excluded_18 (by decide) rfl (fun h18 => ?_) (fun h18 => ?_)
  · refine z_aload_n (i := 0) (q := 30) hX dX1_excluded_29 rfl rfl rfl ?_
    refine z_iload_n (i := 1) (q := 31) hX dX1_excluded_30 rfl rfl rfl ?_
    refine z_V (ci := ciX1) (T := TX1) (N := 7) (na := 1) hX dX1_excluded_31 (c_X1_hits D A hb0 hx) rfl q1156 q1158 qs24 q97 q1159 (by decide +kernel) ⟨Nat.le_of_ble_eq_true rfl, Nat.le_of_ble_eq_true rfl⟩ rfl rfl (Nat.le_of_ble_eq_true rfl) rfl (by first | exact Nat.le_of_ble_eq_true rfl | (show _ + 0 ≤ 2; omega)) (by first | exact Nat.le_of_ble_eq_true rfl | (show _ + 0 ≤ 12; omega)) (fun H h => ⟨h, h.obE (Or.inr p1) rfl⟩) (fun E a => zT.no) (zPd.out ?_)
    show zG X (_ + 0) (_ + 0) _ 34 _ _
    refine z_aload_n (i := 0) (q := 35) hX dX1_excluded_34 rfl rfl rfl ?_
    refine z_iconst (q := 36) hX dX1_excluded_35 rfl ?_
    refine z_V (ci := ciX1) (T := TX1) (N := 7) (na := 1) hX dX1_excluded_36 (c_X1_hits D A hb0 (by decide)) rfl q1156 q1158 qs24 q97 q1159 (by decide +kernel) ⟨Nat.le_of_ble_eq_true rfl, Nat.le_of_ble_eq_true rfl⟩ rfl rfl (Nat.le_of_ble_eq_true rfl) rfl (by first | exact Nat.le_of_ble_eq_true rfl | (show _ + 0 ≤ 2; omega)) (by first | exact Nat.le_of_ble_eq_true rfl | (show _ + 0 ≤ 12; omega)) (fun H h => ⟨h, h.obE (Or.inr p1) rfl⟩) (fun E a => zT.no) (zPd.out ?_)
    show zG X (_ + 0) (_ + 0) _ 39 _ _
    refine z_isub (q := 40) hX dX1_excluded_39 rfl ?_
    exact z_iret hX dX1_excluded_40 (by first | exact Nat.le_of_ble_eq_true rfl | (show (_ : Nat) ≤ 2; omega)) (by first | exact Nat.le_of_ble_eq_true rfl | (show (_ : Nat) ≤ 12; omega)) rfl (fun H h => ⟨(w, m), rfl, pSt0 (of_decide_eq_true h18) hb0, h⟩)
  · have h18x := of_decide_eq_false h18
    refine zc_throw0 (q := 28) (names := ["java/lang/RuntimeException", "java/lang/Exception"]) hX ciJ9 (C := RJ9) (T := zT0) (N := 0) rfl (by decide +kernel) (by decide +kernel) q1756 q110 xa_X1_279 xg_X1_279 dX1_excluded_21 dX1_excluded_24 dX1_excluded_25 dX1_excluded_28 (Nat.le_of_ble_eq_true rfl) rfl (Nat.le_of_ble_eq_true rfl) (Nat.le_of_ble_eq_true rfl) (by first | exact Nat.le_of_ble_eq_true rfl | (show _ + 1 ≤ 2; omega)) (by first | exact Nat.le_of_ble_eq_true rfl | (show _ + 6 ≤ 12; omega)) rfl (fun e21 he21 hf21 => ?_)
    exact zT.out hX (by decide) (by first | exact Nat.le_of_ble_eq_true rfl | (show (_ : Nat) ≤ 2; omega)) (by first | exact Nat.le_of_ble_eq_true rfl | (show (_ : Nat) ≤ 12; omega)) (fun H h => xSt0 hK hb0 h18x ⟨⟨he21, hf21⟩, h⟩)
abbrev rmX1_query : Room := { frames := 13, cells := 3400, slots := 41000, locals := 290 }
set_option maxHeartbeats 4000000 in
theorem c_X1_query (D : zD) (A : Nat → Prop) {w m : zMp} {b : Nat} {K : Nat → Prop} {M : Int → Int} {ps : List (Int → Int)} {sv : Option (Int → Int)} {rp : Option (Int × Int × Int × Int)} {s : zS} {cs : Option (List zCn)} (hb : zX1 D w m K b M ps sv rp s cs) (hK : zHk K m) : zC D yX1_query cX1_query 4 (some .int) (some [(0, 21, 28, 314), (0, 21, 44, 0), (28, 37, 44, 0)]) rmX1_query A [.ref b] (cI D A w m) (zPe (fun (z : zMp × zMp) => some (zI (qryV M (alR s 61 0 [])))) (fun z => pSt D w m K b True M ps sv rp [] (qryC cs (alR s 61 0 [])) z) (fun z => cI D A z.1 z.2)) (zNo) := by
  refine zC_startH (L := [some (.ref b), none, none, none]) (by decide) (Nat.le_of_ble_eq_true rfl) rfl (fun X hX => ?_)
  obtain ⟨lg, hl1, ia, sa, ra, ca, hbf⟩ := hb
  have hbf : zX1b D w m K b lg hl1 ia sa ra ca M ps sv rp s cs := hbf
  have hbf0 := hbf
  obtain ⟨p1, p2, p3, p5, p6, ⟨⟨f, p7, p7b⟩, p7c⟩, p8, hkb, -⟩ := hbf
  have h60 := p7c.1
  obtain ⟨R, hR⟩ : ∃ R, R = alR s 61 0 [] := ⟨_, rfl⟩
  have hRn : ∀ l, R.1 = some l → ∀ c ∈ l, c.1 ≤ 4 := fun l hl => by rw [hR] at hl; exact alR_n 61 hl (fun c hc => by cases hc)
  rw [← hR] at hX
  refine z_aload_n (i := 0) (q := 1) hX dX1_query_0 rfl rfl rfl ?_
  refine zc_new (q := 4) (fs := [zI 0, .null]) (C := RX10) (T := TX10) (N := 2) hX ciX10 rfl in_X10 tyX10_ok dX1_query_1 q1008 q1009 q134 (fun j hj => by match j, hj with | 0, _ => rfl | 1, _ => rfl | (_ + 2), h => exact absurd h (by omega)) (by first | exact Nat.le_of_ble_eq_true rfl | (show _ + 1 ≤ 3400; omega)) (by first | exact Nat.le_of_ble_eq_true rfl | (show _ + 2 ≤ 41000; omega)) rfl (fun a1 ha1 hb1 => ?_)
  have n1 := hb1
  try simp only [upm_none] at n1
  repeat (have := And.left n1; replace n1 := And.right n1)
  refine z_dup (q := 5) hX dX1_query_4 rfl rfl ?_
  refine z_aload_n (i := 0) (q := 6) hX dX1_query_5 rfl rfl rfl ?_
  refine z_CN (na := 1) hX dX1_query_6 (c_X10_init D A (upm_same _ _ _)) (zNM_at 0 rfl) q1011 q134 q1012 rfl (by decide +kernel) ⟨Nat.le_of_ble_eq_true rfl, Nat.le_of_ble_eq_true rfl⟩ rfl rfl (Nat.le_of_ble_eq_true rfl) rfl (by first | exact Nat.le_of_ble_eq_true rfl | (show _ + 0 ≤ 3400; omega)) (by first | exact Nat.le_of_ble_eq_true rfl | (show _ + 0 ≤ 41000; omega)) (fun H h => h) (fun E a => zT.no) (zPv.out ?_)
  show zG X (_ + 0) (_ + 0) _ 9 _ _
  rw [upm_upm]
  have hnb : a1 ≠ b := ne_mp hb1 p1
  have hle := mLe.up (x := eO ciX10 [zI 0, .ref b]) hb1
  have hrd : rdr D (upm m a1 (eO ciX10 [zI 0, .ref b])) a1 b ia 0 s := ⟨upm_same _ _ _, ⟨_, _, _, _, _, hle _ _ p1⟩, ⟨f, hle _ _ p7, p7b⟩, p7c, Int.le_refl _, by omega⟩
  have hbx := hbf0.le (zLe.rf (w := w)) hle
  refine z_V (ci := ciX10) (T := TX10) (N := 2) (na := 0) hX dX1_query_9 (c_X10_all D A hrd) rfl q1021 q1022 q1023 q134 q1024 (by decide +kernel) ⟨Nat.le_of_ble_eq_true rfl, Nat.le_of_ble_eq_true rfl⟩ rfl rfl (Nat.le_of_ble_eq_true rfl) rfl (by first | exact Nat.le_of_ble_eq_true rfl | (show _ + 3300 ≤ 3400; omega)) (by first | exact Nat.le_of_ble_eq_true rfl | (show _ + 40000 ≤ 41000; omega)) (fun H h => ⟨h, h.obE (Or.inr (upm_same _ _ _)) rfl⟩) (zXs.out (fun e9 => ?_)) (zPe.out (fun x9 hx9 => ?_))
  · rw [← hR]
    refine zT.ex (fun w2 => zT.ax (fun hw2 => zT.ax (fun hnone => zT.ax (fun hfr => ?_))))
    rw [qryV_no hnone, qryC_no hnone] at hX
    refine zT.catch hX [] _ [_, _] rfl (fun z hz => by cases hz) (by decide) (by decide) q1007 (zCs_at 15 rfl) rfl ?_
    have e91 : rdM (upm m a1 (eO ciX10 [zI 0, .ref b])) a1 b R.2 = upm m a1 (eO ciX10 [zI R.2, .ref b]) := upm_upm _ _ _ _
    rw [e91] at hfr ⊢
    have hby := (hbf0.le hw2 (mLe.up (x := eO ciX10 [zI R.2, .ref b]) hb1)).le (zLe.rf (w := w2)) (mLe.up (x := eT13 R.2) hfr.2)
    have hby1 := hby.1
    have heq : upm (upm m a1 (eO ciX10 [zI R.2, .ref b])) e9 (eT13 R.2) e9 = some (eO ciX13 [.null, .null, .null, .null, .null, zI 0, zI R.2]) := upm_same _ _ _
    have hK2 := (hK.fr (zFr.up (x := eO ciX10 [zI R.2, .ref b]) (hK.no hb1)))
    refine z_astore_n (i := 1) (q := 29) hX dX1_query_28 rfl (Nat.le_of_ble_eq_true rfl) rfl rfl ?_
    refine z_bipush (q := 31) hX dX1_query_29 (by decide) rfl ?_
    refine z_aload_n (i := 1) (q := 32) hX dX1_query_31 rfl rfl rfl ?_
    refine zr_getN (C := RX13) (T := TX13) (N := 7) (q := 35) hX ciX13 6 rfl (by decide) in_X13 dX1_query_32 (zNF_at 13 rfl) (fun H h => cI.rd h (by first | assumption | exact Or.inl (by assumption) | exact Or.inr (by first | assumption | exact upm_same _ _ _ | exact (upm_ne _ _ (by first | assumption | exact Ne.symm (by assumption) | omega | exact ne_mp (m := m) (by assumption) (by assumption) | exact Ne.symm (ne_mp (m := m) (by assumption) (by assumption)) | exact ne_mp (m := w) (by assumption) (by assumption) | exact Ne.symm (ne_mp (m := w) (by assumption) (by assumption)))).trans (by first | assumption | exact upm_same _ _ _ | exact (upm_ne _ _ (by first | assumption | exact Ne.symm (by assumption) | omega | exact ne_mp (m := m) (by assumption) (by assumption) | exact Ne.symm (ne_mp (m := m) (by assumption) (by assumption)) | exact ne_mp (m := w) (by assumption) (by assumption) | exact Ne.symm (ne_mp (m := w) (by assumption) (by assumption)))).trans (by first | assumption | exact upm_same _ _ _ | exact (upm_ne _ _ (by first | assumption | exact Ne.symm (by assumption) | omega | exact ne_mp (m := m) (by assumption) (by assumption) | exact Ne.symm (ne_mp (m := m) (by assumption) (by assumption)) | exact ne_mp (m := w) (by assumption) (by assumption) | exact Ne.symm (ne_mp (m := w) (by assumption) (by assumption)))).trans (by first | assumption | exact upm_same _ _ _))))) rfl (by decide) rfl) rfl ?_
    refine z_isub (q := 36) hX dX1_query_35 rfl ?_
    refine z_istore_n (i := 2) (q := 37) hX dX1_query_36 rfl (Nat.le_of_ble_eq_true rfl) rfl rfl ?_
    refine z_aload_n (i := 0) (q := 38) hX dX1_query_37 rfl rfl rfl ?_
    refine z_iconst (q := 39) hX dX1_query_38 rfl ?_
    refine zc_put (C := RX1) (T := TX1) (N := 7) (q := 42) hX ciX1 5 rfl (by decide) in_X1 tyX1_ok nmX1 dX1_query_39 q231 (Or.inl rfl) rfl hby1 (Nat.le_of_ble_eq_true rfl) rfl rfl rfl rfl ?_
    refine z_iload_n (i := 2) (q := 43) hX dX1_query_42 rfl rfl rfl ?_
    exact z_iret hX dX1_query_43 (by first | exact Nat.le_of_ble_eq_true rfl | (show (_ : Nat) ≤ 3400; omega)) (by first | exact Nat.le_of_ble_eq_true rfl | (show (_ : Nat) ≤ 41000; omega)) rfl (fun H h => ⟨(w2, _), rfl, ⟨trivial, hw2, ((zFr.up (hK.no hb1)).tr (zFr.up (hK2.no hfr.2))).tr (zFr.up hkb), hby.clr⟩, h⟩)
  show zG X (_ + 3300) (_ + 40000) _ 12 _ _
  rw [← hR]
  obtain ⟨hw2, cl, mc9, xs9, hso, hl9, hcs9, h30⟩ := hx9
  rw [← hR] at hso
  rw [qryV_so hso, qryC_so hso] at hX
  have e91 : rdM (upm m a1 (eO ciX10 [zI 0, .ref b])) a1 b R.2 = upm m a1 (eO ciX10 [zI R.2, .ref b]) := upm_upm _ _ _ _
  rw [e91]
  have hby := hbf0.le hw2 (mLe.up (x := eO ciX10 [zI R.2, .ref b]) hb1)
  have hbz := hby
  obtain ⟨u1, u2, u3, u4, u5, u6, u7, -⟩ := hbz
  have hfin := hby.put (ca2 := some x9.1) (cs2 := some cl) u2 u4 u5 (Or.inr ⟨cl, x9.1, mc9, xs9, rfl, rfl, hl9, hcs9, h30, hRn cl hso⟩)
  refine zc_put (C := RX1) (T := TX1) (N := 7) (q := 15) hX ciX1 6 rfl (by decide) in_X1 tyX1_ok nmX1 dX1_query_12 q232 (Or.inl rfl) rfl u1 (Nat.le_of_ble_eq_true rfl) rfl rfl rfl rfl ?_
  refine z_aload_n (i := 0) (q := 16) hX dX1_query_15 rfl rfl rfl ?_
  refine z_iconst (q := 17) hX dX1_query_16 rfl ?_
  refine z_V (ci := ciX1) (T := TX1) (N := 7) (na := 1) hX dX1_query_17 (c_X1_hits D A hfin.x (by decide)) rfl q1156 q1158 qs24 q97 q1159 (by decide +kernel) ⟨Nat.le_of_ble_eq_true rfl, Nat.le_of_ble_eq_true rfl⟩ rfl rfl (Nat.le_of_ble_eq_true rfl) rfl (by first | exact Nat.le_of_ble_eq_true rfl | (show _ + 0 ≤ 3400; omega)) (by first | exact Nat.le_of_ble_eq_true rfl | (show _ + 0 ≤ 41000; omega)) (fun H h => ⟨h, h.obE (Or.inr (upm_same _ _ _)) rfl⟩) (fun E a => zT.no) (zPd.out ?_)
  show zG X (_ + 0) (_ + 0) _ 20 _ _
  refine z_istore_n (i := 1) (q := 21) hX dX1_query_20 rfl (Nat.le_of_ble_eq_true rfl) rfl rfl ?_
  refine z_aload_n (i := 0) (q := 22) hX dX1_query_21 rfl rfl rfl ?_
  refine z_iconst (q := 23) hX dX1_query_22 rfl ?_
  refine zc_put (C := RX1) (T := TX1) (N := 7) (q := 26) hX ciX1 5 rfl (by decide) in_X1 tyX1_ok nmX1 dX1_query_23 q231 (Or.inl rfl) rfl (upm_same _ _ _) (Nat.le_of_ble_eq_true rfl) rfl rfl rfl rfl ?_
  refine z_iload_n (i := 1) (q := 27) hX dX1_query_26 rfl rfl rfl ?_
  exact z_iret hX dX1_query_27 (by first | exact Nat.le_of_ble_eq_true rfl | (show (_ : Nat) ≤ 3400; omega)) (by first | exact Nat.le_of_ble_eq_true rfl | (show (_ : Nat) ≤ 41000; omega)) rfl (fun H h => ⟨(x9.2, _), rfl, ⟨trivial, hw2, ((zFr.up (hK.no hb1)).tr (zFr.up hkb)).tr (zFr.up hkb), hfin.clr⟩, h⟩)
