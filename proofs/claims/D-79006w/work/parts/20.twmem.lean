/-! THE REFERENCE: reports, what is saved and taken back -/
set_option maxRecDepth 100000
theorem arrV_congr (c : ClassId) {N : Nat} {f g : Nat → Value} (h : ∀ j : Nat, j < N → f j = g j) : arrV c N f = arrV c N g := by
  unfold arrV
  congr 1
  congr 1
  funext j
  exact h j.val j.isLt
/-- what an array holds beyond its end is nobody's business -/
theorem twI.rng {D : zD} {A : Nat → Prop} {b : Nat} {F : zTF} {G G2 : zTG} {H : Heap} (h : twI D A b F G H) (hg : ∀ j : Nat, j < 15 → ∀ i : Int, 0 ≤ i → i < twLen j → G j i = G2 j i) : twI D A b F G2 H := by
  refine ⟨fun k q hk => ?_, h.apart⟩
  rcases twW_cases hk with ⟨rfl, rfl⟩ | ⟨j, hj, rfl, rfl⟩
  · exact h.1 0 (b, .inr (ciX4, twFs b F)) twW_0
  · have h1 : H[b + 1 + j]? = some (vp_cell (D.2.1 0) (twLen j, .inl (fun i => Int32.ofInt (G j (i : Int))))) := h.1 (j + 1) _ (twW_at hj)
    show H[b + 1 + j]? = some (vp_cell (D.2.1 0) (twLen j, .inl (fun i => Int32.ofInt (G2 j (i : Int)))))
    rw [h1, vp_cell_i, vp_cell_i]
    exact congrArg some (arrV_congr _ fun i hi => by rw [hg j hj i (by omega) (by omega)])
section
variable {D : zD} {X : zX} {A : Nat → Prop} {k n : Nat} {pc : Nat} {L : List (Option Value)} {st : List Value} {b : Nat} {F : zTF} {G G2 : zTG}
theorem zt_rng (hg : ∀ j : Nat, j < 15 → ∀ i : Int, 0 ≤ i → i < twLen j → G j i = G2 j i) (h : zG X k n (twI D A b F G2) pc L st) : zG X k n (twI D A b F G) pc L st :=
  zG.mono h (fun _ hI => hI.rng hg)
end
def setG (G : zTG) (j : Nat) (f : Int → Int) : zTG := fun j2 => if j2 = j then f else G j2
theorem setG_same (G : zTG) (j : Nat) (f : Int → Int) : setG G j f j = f := if_pos rfl
theorem setG_ne (G : zTG) {j j2 : Nat} (f : Int → Int) (h : j2 ≠ j) : setG G j f j2 = G j2 := if_neg h
theorem setG_self (G : zTG) (j : Nat) : setG G j (G j) = G := by
  funext j2
  unfold setG
  split
  · rename_i h; rw [h]
  · rfl
/-- array j filled from a function, n places so far -/
def cpyG (G : zTG) (j : Nat) (f : Int → Int) (n : Nat) : zTG := fun j2 i => if j2 = j ∧ 0 ≤ i ∧ i < (n : Int) then f i else G j2 i
theorem cpyG_0 (G : zTG) (j : Nat) (f : Int → Int) : cpyG G j f 0 = G := by
  funext j2 i
  exact if_neg (by omega)
theorem cpyG_ne (G : zTG) {j j2 : Nat} (f : Int → Int) (n : Nat) (h : j2 ≠ j) : cpyG G j f n j2 = G j2 := by
  funext i
  exact if_neg (fun q => h q.1)
theorem cpyG_s (G : zTG) (j : Nat) (f : Int → Int) (n : Nat) (z : Int) (hz : z = f n) : upG (cpyG G j f n) j n z = cpyG G j f (n + 1) := by
  subst hz
  funext j2 i
  show (if _ then _ else _) = if _ then _ else _
  by_cases q : j2 = j ∧ i = n
  · rw [if_pos q, if_pos ⟨q.1, by omega, by omega⟩, q.2]
  · rw [if_neg q]
    show (if _ then _ else _) = _
    by_cases q2 : j2 = j ∧ 0 ≤ i ∧ i < (n : Int)
    · rw [if_pos q2, if_pos ⟨q2.1, q2.2.1, by omega⟩]
    · rw [if_neg q2, if_neg (by rintro ⟨h1, h2, h3⟩; by_cases h4 : i = n; exact q ⟨h1, h4⟩; exact q2 ⟨h1, h2, by omega⟩)]
theorem cpyG_all (G : zTG) (j : Nat) (f : Int → Int) {n : Nat} (hn : n = twLen j) : ∀ j2 : Nat, j2 < 15 → ∀ i : Int, 0 ≤ i → i < twLen j2 → cpyG G j f n j2 i = setG G j f j2 i := by
  intro j2 _ i h0 h1
  by_cases q : j2 = j
  · subst q
    rw [setG_same]
    exact if_pos ⟨rfl, h0, by omega⟩
  · rw [setG_ne _ _ q, cpyG_ne _ _ _ q]
def opRep (F : zTF) (G : zTG) (lv w : Int) : Int × Int := if ¬ (F 10 ≠ 0 ∧ 0 ≤ lv ∧ lv ≤ 1) then (1, 0) else if ¬ (0 ≤ w ∧ w ≤ 1) then (2, 0) else (0, if w = 0 then G 7 lv else G 8 lv)
abbrev rmX4_report : Room := { frames := 1, cells := 0, slots := 0, locals := 22 }
set_option maxHeartbeats 4000000 in
theorem c_X4_report (D : zD) (A : Nat → Prop) {b : Nat} {F : zTF} {G : zTG} {lv w : Int} (hl : zR lv) (hi : zR w) (hF : 0 ≤ F 10 ∧ F 10 ≤ 1) : zC D yX4_report cX4_report 3 (some .int) none rmX4_report A [.ref b, zI (lv), zI (w)] (twI D A b F G) (zPd (zI ((opRep F G lv w).2)) (twI D A b (upF F 6 (opRep F G lv w).1) (G))) zNo := by
  refine zC_start (L := [some (.ref b), some (zI (lv)), some (zI (w))]) (by decide) (Nat.le_of_ble_eq_true rfl) rfl (fun X hX => ?_)
  have J35 : ∀ z : Int, 1 ≤ z ∧ z ≤ 2 → opRep F G lv w = (z, 0) → zG X 0 0 (twI D A b F G) 35 [some (.ref b), some (zI (lv)), some (zI (w))] [zI (z), .ref b] := by
    intro z hz e
    rw [e] at hX
    refine zt_put (ty := .int) (q := 38) hX 6 dX4_report_35 q1870 (by decide) rfl rfl rfl (by decide) rfl rfl rfl ?_
    refine z_aload_n (i := 0) (q := 39) hX dX4_report_38 rfl rfl rfl ?_
    refine zt_getI (q := 42) hX 6 dX4_report_39 q1870 (by decide) rfl rfl rfl ?_
    rw [upF_same]
    refine z_if_le (q := 45) (t := 49) hX dX4_report_42 (by decide) (by omega) rfl (fun h42 => ?_) (fun h42 => ?_)
    · exact absurd h42 (by omega)
    · refine z_iconst (q := 46) hX dX4_report_45 rfl ?_
      refine z_goto (t := 68) hX dX4_report_46 (by decide) ?_
      exact z_iret hX dX4_report_68 (Nat.le_of_ble_eq_true rfl) (Nat.le_of_ble_eq_true rfl) rfl (fun H hI => ⟨congrArg (fun z => some (zI z)) (rfl), hI⟩)
  refine z_aload_n (i := 0) (q := 1) hX dX4_report_0 rfl rfl rfl ?_
  refine z_aload_n (i := 0) (q := 2) hX dX4_report_1 rfl rfl rfl ?_
  refine zt_getI (q := 5) hX 10 dX4_report_2 q1874 (by decide) rfl rfl rfl ?_
  refine z_if_eq (q := 8) (t := 17) hX dX4_report_5 (by decide) (by omega) rfl (fun h5 => ?_) (fun h5 => ?_)
  · refine z_iconst (q := 18) hX dX4_report_17 rfl ?_
    refine z_goto (t := 35) hX dX4_report_18 (by decide) ?_
    exact J35 1 (by omega) (by unfold opRep; rw [if_pos (fun q => q.1 h5)])
  · refine z_iload_n (i := 1) (q := 9) hX dX4_report_8 rfl rfl rfl ?_
    refine z_iconst (q := 10) hX dX4_report_9 rfl ?_
    refine z_iconst (q := 11) hX dX4_report_10 rfl ?_
    refine zt_S1 (q := 14) (na := 3) hX dX4_report_11 (c_X4_in D A (by first | assumption | omega) (by first | assumption | omega) (by first | assumption | omega)) q1955 q1956 q103 q1957 (by decide +kernel) ⟨Nat.le_of_ble_eq_true rfl, Nat.le_of_ble_eq_true rfl⟩ rfl rfl (Nat.le_of_ble_eq_true rfl) rfl ⟨rfl, rfl⟩ (Nat.le_of_ble_eq_true rfl) (Nat.le_of_ble_eq_true rfl) rfl ?_
    refine z_ifB_ne (q := 17) (t := 21) hX dX4_report_14 (by decide) rfl (fun h14 => ?_) (fun h14 => ?_)
    · refine z_iload_n (i := 2) (q := 22) hX dX4_report_21 rfl rfl rfl ?_
      refine z_iconst (q := 23) hX dX4_report_22 rfl ?_
      refine z_iconst (q := 24) hX dX4_report_23 rfl ?_
      refine zt_S1 (q := 27) (na := 3) hX dX4_report_24 (c_X4_in D A (by first | assumption | omega) (by first | assumption | omega) (by first | assumption | omega)) q1955 q1956 q103 q1957 (by decide +kernel) ⟨Nat.le_of_ble_eq_true rfl, Nat.le_of_ble_eq_true rfl⟩ rfl rfl (Nat.le_of_ble_eq_true rfl) rfl ⟨rfl, rfl⟩ (Nat.le_of_ble_eq_true rfl) (Nat.le_of_ble_eq_true rfl) rfl ?_
      refine z_ifB_ne (q := 30) (t := 34) hX dX4_report_27 (by decide) rfl (fun h27 => ?_) (fun h27 => ?_)
      · refine z_iconst (q := 35) hX dX4_report_34 rfl ?_
        have e1 : opRep F G lv w = (0, if w = 0 then G 7 lv else G 8 lv) := by unfold opRep; rw [if_neg (fun q => q ⟨h5, and_t.mp h14⟩), if_neg (fun q => q (and_t.mp h27))]
        rw [e1] at hX
        have q1 := and_t.mp h14
        refine zt_put (ty := .int) (q := 38) hX 6 dX4_report_35 q1870 (by decide) rfl rfl rfl (by decide) rfl rfl rfl ?_
        refine z_aload_n (i := 0) (q := 39) hX dX4_report_38 rfl rfl rfl ?_
        refine zt_getI (q := 42) hX 6 dX4_report_39 q1870 (by decide) rfl rfl rfl ?_
        rw [upF_same]
        refine z_if_le (q := 45) (t := 49) hX dX4_report_42 (by decide) (by omega) rfl (fun h42 => ?_) (fun h42 => ?_)
        · refine z_iload_n (i := 2) (q := 50) hX dX4_report_49 rfl rfl rfl ?_
          refine z_if_ne (q := 53) (t := 62) hX dX4_report_50 (by decide) (by omega) rfl (fun h50 => ?_) (fun h50 => ?_)
          · refine z_aload_n (i := 0) (q := 63) hX dX4_report_62 rfl rfl rfl ?_
            refine zt_getA (q := 66) hX 12 8 dX4_report_63 q1876 (by decide) rfl rfl rfl ?_
            refine z_iload_n (i := 1) (q := 67) hX dX4_report_66 rfl rfl rfl ?_
            refine zt_ald (q := 68) (N := 2) hX 8 dX4_report_67 rfl (by decide) (by decide) (by omega) rfl ?_
            exact z_iret hX dX4_report_68 (Nat.le_of_ble_eq_true rfl) (Nat.le_of_ble_eq_true rfl) rfl (fun H hI => ⟨congrArg (fun z => some (zI z)) ((by simp only; rw [if_neg h50])), hI⟩)
          · refine z_aload_n (i := 0) (q := 54) hX dX4_report_53 rfl rfl rfl ?_
            refine zt_getA (q := 57) hX 11 7 dX4_report_54 q1875 (by decide) rfl rfl rfl ?_
            refine z_iload_n (i := 1) (q := 58) hX dX4_report_57 rfl rfl rfl ?_
            refine zt_ald (q := 59) (N := 2) hX 7 dX4_report_58 rfl (by decide) (by decide) (by omega) rfl ?_
            refine z_goto (t := 68) hX dX4_report_59 (by decide) ?_
            exact z_iret hX dX4_report_68 (Nat.le_of_ble_eq_true rfl) (Nat.le_of_ble_eq_true rfl) rfl (fun H hI => ⟨congrArg (fun z => some (zI z)) ((by simp only; rw [if_pos (by omega)])), hI⟩)
        · exact absurd h42 (by decide)
      · refine z_iconst (q := 31) hX dX4_report_30 rfl ?_
        refine z_goto (t := 35) hX dX4_report_31 (by decide) ?_
        exact J35 2 (by omega) (by unfold opRep; rw [if_neg (fun q => q ⟨h5, and_t.mp h14⟩), if_pos (and_f.mp h27)])
    · refine z_iconst (q := 18) hX dX4_report_17 rfl ?_
      refine z_goto (t := 35) hX dX4_report_18 (by decide) ?_
      exact J35 1 (by omega) (by unfold opRep; rw [if_pos (fun q => and_f.mp h14 q.2)])
abbrev rmX4_save : Room := { frames := 0, cells := 0, slots := 0, locals := 0 }
set_option maxHeartbeats 4000000 in
theorem c_X4_save (D : zD) (A : Nat → Prop) {b : Nat} {F : zTF} {G : zTG}  : zC D yX4_save cX4_save 2 (some .int) none rmX4_save A [.ref b] (twI D A b F G) (zPd (zI (G 0 0)) (twI D A b (upF (upF F 6 0) 3 1) (setG G 1 (G 0)))) zNo := by
  refine zC_start (L := [some (.ref b), none]) (by decide) (Nat.le_of_ble_eq_true rfl) rfl (fun X hX => ?_)
  have K : ∀ n : Nat, n ≤ 1964 → ∀ p : Int, p = n → zG X 0 0 (twI D A b (upF F 6 0) (cpyG G 1 (G 0) n)) 7 [some (.ref b), some (zI (p))] [] := by
    refine z_up (fun n hn ih p e2 => ?_)
    subst e2
    refine z_iload_n (i := 1) (q := 8) hX dX4_save_7 rfl rfl rfl ?_
    refine z_sipush (q := 11) hX dX4_save_8 (by decide) rfl ?_
    refine z_icmp_ge (q := 14) (t := 32) hX dX4_save_11 (by decide) (by omega) (by omega) rfl (fun h11 => ?_) (fun h11 => ?_)
    · refine zt_rng (G2 := setG G 1 (G 0)) (cpyG_all G 1 (G 0) (by show n = 1964; omega)) ?_
      refine z_aload_n (i := 0) (q := 33) hX dX4_save_32 rfl rfl rfl ?_
      refine z_iconst (q := 34) hX dX4_save_33 rfl ?_
      refine zt_put (ty := .boolean) (q := 37) hX 3 dX4_save_34 q1867 (by decide) rfl rfl rfl (by decide) (by first | decide | exact narrow_bi _) (by first | decide | exact fits_bi _) rfl ?_
      refine z_aload_n (i := 0) (q := 38) hX dX4_save_37 rfl rfl rfl ?_
      refine zt_getA (q := 41) hX 0 0 dX4_save_38 q1864 (by decide) rfl rfl rfl ?_
      refine z_iconst (q := 42) hX dX4_save_41 rfl ?_
      refine zt_ald (q := 43) (N := 1964) hX 0 dX4_save_42 rfl (by decide) (by decide) (by omega) rfl ?_
      exact z_iret hX dX4_save_43 (Nat.le_of_ble_eq_true rfl) (Nat.le_of_ble_eq_true rfl) rfl (fun H hI => ⟨congrArg (fun z => some (zI z)) ((by rw [setG_ne _ _ (by decide)])), hI⟩)
    · refine z_aload_n (i := 0) (q := 15) hX dX4_save_14 rfl rfl rfl ?_
      refine zt_getA (q := 18) hX 1 1 dX4_save_15 q1865 (by decide) rfl rfl rfl ?_
      refine z_iload_n (i := 1) (q := 19) hX dX4_save_18 rfl rfl rfl ?_
      refine z_aload_n (i := 0) (q := 20) hX dX4_save_19 rfl rfl rfl ?_
      refine zt_getA (q := 23) hX 0 0 dX4_save_20 q1864 (by decide) rfl rfl rfl ?_
      refine z_iload_n (i := 1) (q := 24) hX dX4_save_23 rfl rfl rfl ?_
      refine zt_ald (q := 25) (N := 1964) hX 0 dX4_save_24 rfl (by decide) (by decide) (by omega) rfl ?_
      rw [cpyG_ne G (G 0) n (by decide : (0 : Nat) ≠ 1)]
      refine zt_ast (q := 26) (N := 1964) hX 1 dX4_save_25 rfl (by decide) (by decide) (by omega) rfl ?_
      refine z_iinc (q := 29) hX dX4_save_26 rfl (Nat.le_of_ble_eq_true rfl) rfl rfl ?_
      refine z_goto (t := 7) hX dX4_save_29 (by decide) ?_
      rw [cpyG_s G 1 (G 0) n _ rfl]
      exact ih (by omega) _ (by omega)
  refine z_aload_n (i := 0) (q := 1) hX dX4_save_0 rfl rfl rfl ?_
  refine z_iconst (q := 2) hX dX4_save_1 rfl ?_
  refine zt_put (ty := .int) (q := 5) hX 6 dX4_save_2 q1870 (by decide) rfl rfl rfl (by decide) rfl rfl rfl ?_
  refine z_iconst (q := 6) hX dX4_save_5 rfl ?_
  refine z_istore_n (i := 1) (q := 7) hX dX4_save_6 rfl (Nat.le_of_ble_eq_true rfl) rfl rfl ?_
  have e9 := K 0 (Nat.zero_le _) 0 rfl
  rw [cpyG_0] at e9
  exact e9
/-- a row that can be a log -/
def zRaws (M : Int → Int) : Prop := (0 ≤ M 0 ∧ M 0 ≤ 40) ∧ ∀ l : Int, 0 ≤ l → l < M 0 → zRaw (fun _ => M) l
theorem zRaws.at {M : Int → Int} {G : zTG} (h : zRaws M) (e : G 0 = M) : ∀ l : Int, 0 ≤ l → l < G 0 0 → zRaw G l := by
  intro l l0 l1
  have h1 := h.2 l l0 (by rw [← e]; exact l1)
  unfold zRaw at h1 ⊢
  rw [e]
  exact h1
def pastM (G : zTG) (c : Int) : Int → Int := fun i => G 3 (1964 * c + i)
abbrev rmX4_undo : Room := { frames := 3, cells := 0, slots := 0, locals := 66 }
set_option maxHeartbeats 4000000 in
theorem c_X4_undo (D : zD) (A : Nat → Prop) {b : Nat} {F : zTF} {G : zTG} (hF : 0 ≤ F 5 ∧ F 5 ≤ 10) (hr : F 5 ≠ 0 → zRaws (pastM G (F 5 - 1))) : zC D yX4_undo cX4_undo 2 (some .int) none rmX4_undo A [.ref b] (twI D A b F G) (zPd (zI ((if F 5 = 0 then 0 else F 5 - 1))) (twI D A b (if F 5 = 0 then upF F 6 1 else upF (upF F 6 0) 5 (F 5 - 1)) (if F 5 = 0 then G else layN (setG G 0 (pastM G (F 5 - 1))) (pastM G (F 5 - 1) 0).toNat))) zNo := by
  refine zC_start (L := [some (.ref b), none]) (by decide) (Nat.le_of_ble_eq_true rfl) rfl (fun X hX => ?_)
  have e5 : upF F 6 0 5 = F 5 := upF_ne _ _ (by decide)
  have K : F 5 ≠ 0 → ∀ n : Nat, n ≤ 1964 → ∀ p : Int, p = n → zG X 0 0 (twI D A b (upF (upF F 6 0) 5 (F 5 - 1)) (cpyG G 0 (pastM G (F 5 - 1)) n)) 30 [some (.ref b), some (zI (p))] [] := by
    intro hne
    rw [if_neg hne, if_neg hne, if_neg hne] at hX
    have hrr := hr hne
    have hrs : zRaws (setG G 0 (pastM G (F 5 - 1)) 0) := by rw [setG_same]; exact hrr
    have hra := hrr.at (G := setG G 0 (pastM G (F 5 - 1))) (setG_same _ _ _)
    refine z_up (fun n hn ih p e2 => ?_)
    subst e2
    refine z_iload_n (i := 1) (q := 31) hX dX4_undo_30 rfl rfl rfl ?_
    refine z_sipush (q := 34) hX dX4_undo_31 (by decide) rfl ?_
    refine z_icmp_ge (q := 37) (t := 64) hX dX4_undo_34 (by decide) (by omega) (by omega) rfl (fun h34 => ?_) (fun h34 => ?_)
    · refine zt_rng (G2 := setG G 0 (pastM G (F 5 - 1))) (cpyG_all G 0 (pastM G (F 5 - 1)) (by show n = 1964; omega)) ?_
      have hm := hrs.1
      refine z_aload_n (i := 0) (q := 65) hX dX4_undo_64 rfl rfl rfl ?_
      refine zt_V0 (q := 68) (na := 0) hX dX4_undo_65 (c_X4_layAll D A (by first | assumption | omega) (by first | assumption | omega)) q2294 q2296 qs95 q103 q2297 rfl (by decide +kernel) ⟨Nat.le_of_ble_eq_true rfl, Nat.le_of_ble_eq_true rfl⟩ rfl rfl (Nat.le_of_ble_eq_true rfl) rfl ⟨rfl, rfl⟩ (Nat.le_of_ble_eq_true rfl) (Nat.le_of_ble_eq_true rfl) rfl ?_
      rw [setG_same]
      refine z_aload_n (i := 0) (q := 69) hX dX4_undo_68 rfl rfl rfl ?_
      refine zt_getI (q := 72) hX 5 dX4_undo_69 q1869 (by decide) rfl rfl rfl ?_
      rw [upF_same]
      exact z_iret hX dX4_undo_72 (Nat.le_of_ble_eq_true rfl) (Nat.le_of_ble_eq_true rfl) rfl (fun H hI => ⟨congrArg (fun z => some (zI z)) (rfl), hI⟩)
    · refine z_aload_n (i := 0) (q := 38) hX dX4_undo_37 rfl rfl rfl ?_
      refine zt_getA (q := 41) hX 0 0 dX4_undo_38 q1864 (by decide) rfl rfl rfl ?_
      refine z_iload_n (i := 1) (q := 42) hX dX4_undo_41 rfl rfl rfl ?_
      refine z_aload_n (i := 0) (q := 43) hX dX4_undo_42 rfl rfl rfl ?_
      refine zt_getA (q := 46) hX 4 3 dX4_undo_43 q1868 (by decide) rfl rfl rfl ?_
      refine z_sipush (q := 49) hX dX4_undo_46 (by decide) rfl ?_
      refine z_aload_n (i := 0) (q := 50) hX dX4_undo_49 rfl rfl rfl ?_
      refine zt_getI (q := 53) hX 5 dX4_undo_50 q1869 (by decide) rfl rfl rfl ?_
      rw [upF_same]
      refine z_imul (q := 54) hX dX4_undo_53 rfl ?_
      refine z_iload_n (i := 1) (q := 55) hX dX4_undo_54 rfl rfl rfl ?_
      refine z_iadd (q := 56) hX dX4_undo_55 rfl ?_
      refine zt_ald (q := 57) (N := 19640) hX 3 dX4_undo_56 rfl (by decide) (by decide) (by omega) rfl ?_
      rw [cpyG_ne G (pastM G (F 5 - 1)) n (by decide : (3 : Nat) ≠ 0)]
      refine zt_ast (q := 58) (N := 1964) hX 0 dX4_undo_57 rfl (by decide) (by decide) (by omega) rfl ?_
      refine z_iinc (q := 61) hX dX4_undo_58 rfl (Nat.le_of_ble_eq_true rfl) rfl rfl ?_
      refine z_goto (t := 30) hX dX4_undo_61 (by decide) ?_
      rw [cpyG_s G 0 (pastM G (F 5 - 1)) n (G 3 (1964 * (F 5 - 1) + n)) rfl]
      exact ih (by omega) _ (by omega)
  refine z_aload_n (i := 0) (q := 1) hX dX4_undo_0 rfl rfl rfl ?_
  refine z_iconst (q := 2) hX dX4_undo_1 rfl ?_
  refine zt_put (ty := .int) (q := 5) hX 6 dX4_undo_2 q1870 (by decide) rfl rfl rfl (by decide) rfl rfl rfl ?_
  refine z_aload_n (i := 0) (q := 6) hX dX4_undo_5 rfl rfl rfl ?_
  refine zt_getI (q := 9) hX 5 dX4_undo_6 q1869 (by decide) rfl rfl rfl ?_
  rw [e5]
  refine z_if_ne (q := 12) (t := 18) hX dX4_undo_9 (by decide) (by omega) rfl (fun h9 => ?_) (fun h9 => ?_)
  · have e9 := K h9 0 (Nat.zero_le _) 0 rfl
    rw [cpyG_0] at e9
    refine z_aload_n (i := 0) (q := 19) hX dX4_undo_18 rfl rfl rfl ?_
    refine z_dup (q := 20) hX dX4_undo_19 rfl rfl ?_
    refine zt_getI (q := 23) hX 5 dX4_undo_20 q1869 (by decide) rfl rfl rfl ?_
    rw [e5]
    refine z_iconst (q := 24) hX dX4_undo_23 rfl ?_
    refine z_isub (q := 25) hX dX4_undo_24 rfl ?_
    refine zt_put (ty := .int) (q := 28) hX 5 dX4_undo_25 q1869 (by decide) rfl rfl rfl (by decide) rfl rfl rfl ?_
    refine z_iconst (q := 29) hX dX4_undo_28 rfl ?_
    refine z_istore_n (i := 1) (q := 30) hX dX4_undo_29 rfl (Nat.le_of_ble_eq_true rfl) rfl rfl ?_
    exact e9
  · rw [if_pos (by omega), if_pos (by omega), if_pos (by omega)] at hX
    refine z_aload_n (i := 0) (q := 13) hX dX4_undo_12 rfl rfl rfl ?_
    refine z_iconst (q := 14) hX dX4_undo_13 rfl ?_
    refine zt_V1 (q := 17) (na := 1) hX dX4_undo_14 (c_X4_refuse D A) q1962 q1964 qs39 q103 q1965 rfl (by decide +kernel) ⟨Nat.le_of_ble_eq_true rfl, Nat.le_of_ble_eq_true rfl⟩ rfl rfl (Nat.le_of_ble_eq_true rfl) rfl ⟨rfl, rfl⟩ (Nat.le_of_ble_eq_true rfl) (Nat.le_of_ble_eq_true rfl) rfl ?_
    rw [upF_upF]
    exact z_iret hX dX4_undo_17 (Nat.le_of_ble_eq_true rfl) (Nat.le_of_ble_eq_true rfl) rfl (fun H hI => ⟨congrArg (fun z => some (zI z)) (rfl), hI⟩)
abbrev rmX4_restore : Room := { frames := 3, cells := 0, slots := 0, locals := 66 }
set_option maxHeartbeats 4000000 in
theorem c_X4_restore (D : zD) (A : Nat → Prop) {b : Nat} {F : zTF} {G : zTG} (hF : 0 ≤ F 3 ∧ F 3 ≤ 1) (hr : F 3 ≠ 0 → zRaws (G 1)) : zC D yX4_restore cX4_restore 2 (some .int) none rmX4_restore A [.ref b] (twI D A b F G) (zPd (zI ((if F 3 = 0 then 0 else G 1 0))) (twI D A b (if F 3 = 0 then upF F 6 1 else upF (upF F 6 0) 5 0) (if F 3 = 0 then G else layN (setG G 0 (G 1)) (G 1 0).toNat))) zNo := by
  refine zC_start (L := [some (.ref b), none]) (by decide) (Nat.le_of_ble_eq_true rfl) rfl (fun X hX => ?_)
  have e3 : upF F 6 0 3 = F 3 := upF_ne _ _ (by decide)
  have K : F 3 ≠ 0 → ∀ n : Nat, n ≤ 1964 → ∀ p : Int, p = n → zG X 0 0 (twI D A b (upF F 6 0) (cpyG G 0 (G 1) n)) 20 [some (.ref b), some (zI (p))] [] := by
    intro hne
    rw [if_neg hne, if_neg hne, if_neg hne] at hX
    have hrr := hr hne
    have hrs : zRaws (setG G 0 (G 1) 0) := by rw [setG_same]; exact hrr
    have hra := hrr.at (G := setG G 0 (G 1)) (setG_same _ _ _)
    refine z_up (fun n hn ih p e2 => ?_)
    subst e2
    refine z_iload_n (i := 1) (q := 21) hX dX4_restore_20 rfl rfl rfl ?_
    refine z_sipush (q := 24) hX dX4_restore_21 (by decide) rfl ?_
    refine z_icmp_ge (q := 27) (t := 45) hX dX4_restore_24 (by decide) (by omega) (by omega) rfl (fun h24 => ?_) (fun h24 => ?_)
    · refine zt_rng (G2 := setG G 0 (G 1)) (cpyG_all G 0 (G 1) (by show n = 1964; omega)) ?_
      have hm := hrs.1
      refine z_aload_n (i := 0) (q := 46) hX dX4_restore_45 rfl rfl rfl ?_
      refine z_iconst (q := 47) hX dX4_restore_46 rfl ?_
      refine zt_put (ty := .int) (q := 50) hX 5 dX4_restore_47 q1869 (by decide) rfl rfl rfl (by decide) rfl rfl rfl ?_
      refine z_aload_n (i := 0) (q := 51) hX dX4_restore_50 rfl rfl rfl ?_
      refine zt_V0 (q := 54) (na := 0) hX dX4_restore_51 (c_X4_layAll D A (by first | assumption | omega) (by first | assumption | omega)) q2294 q2296 qs95 q103 q2297 rfl (by decide +kernel) ⟨Nat.le_of_ble_eq_true rfl, Nat.le_of_ble_eq_true rfl⟩ rfl rfl (Nat.le_of_ble_eq_true rfl) rfl ⟨rfl, rfl⟩ (Nat.le_of_ble_eq_true rfl) (Nat.le_of_ble_eq_true rfl) rfl ?_
      rw [setG_same]
      refine z_aload_n (i := 0) (q := 55) hX dX4_restore_54 rfl rfl rfl ?_
      refine zt_getA (q := 58) hX 0 0 dX4_restore_55 q1864 (by decide) rfl rfl rfl ?_
      refine z_iconst (q := 59) hX dX4_restore_58 rfl ?_
      refine zt_ald (q := 60) (N := 1964) hX 0 dX4_restore_59 rfl (by decide) (by decide) (by omega) rfl ?_
      exact z_iret hX dX4_restore_60 (Nat.le_of_ble_eq_true rfl) (Nat.le_of_ble_eq_true rfl) rfl (fun H hI => ⟨congrArg (fun z => some (zI z)) ((by rw [layN_0, setG_same])), hI⟩)
    · refine z_aload_n (i := 0) (q := 28) hX dX4_restore_27 rfl rfl rfl ?_
      refine zt_getA (q := 31) hX 0 0 dX4_restore_28 q1864 (by decide) rfl rfl rfl ?_
      refine z_iload_n (i := 1) (q := 32) hX dX4_restore_31 rfl rfl rfl ?_
      refine z_aload_n (i := 0) (q := 33) hX dX4_restore_32 rfl rfl rfl ?_
      refine zt_getA (q := 36) hX 1 1 dX4_restore_33 q1865 (by decide) rfl rfl rfl ?_
      refine z_iload_n (i := 1) (q := 37) hX dX4_restore_36 rfl rfl rfl ?_
      refine zt_ald (q := 38) (N := 1964) hX 1 dX4_restore_37 rfl (by decide) (by decide) (by omega) rfl ?_
      rw [cpyG_ne G (G 1) n (by decide : (1 : Nat) ≠ 0)]
      refine zt_ast (q := 39) (N := 1964) hX 0 dX4_restore_38 rfl (by decide) (by decide) (by omega) rfl ?_
      refine z_iinc (q := 42) hX dX4_restore_39 rfl (Nat.le_of_ble_eq_true rfl) rfl rfl ?_
      refine z_goto (t := 20) hX dX4_restore_42 (by decide) ?_
      rw [cpyG_s G 0 (G 1) n _ rfl]
      exact ih (by omega) _ (by omega)
  refine z_aload_n (i := 0) (q := 1) hX dX4_restore_0 rfl rfl rfl ?_
  refine z_iconst (q := 2) hX dX4_restore_1 rfl ?_
  refine zt_put (ty := .int) (q := 5) hX 6 dX4_restore_2 q1870 (by decide) rfl rfl rfl (by decide) rfl rfl rfl ?_
  refine z_aload_n (i := 0) (q := 6) hX dX4_restore_5 rfl rfl rfl ?_
  refine zt_getI (q := 9) hX 3 dX4_restore_6 q1867 (by decide) rfl rfl rfl ?_
  rw [e3]
  refine z_if_ne (q := 12) (t := 18) hX dX4_restore_9 (by decide) (by omega) rfl (fun h9 => ?_) (fun h9 => ?_)
  · have e9 := K h9 0 (Nat.zero_le _) 0 rfl
    rw [cpyG_0] at e9
    refine z_iconst (q := 19) hX dX4_restore_18 rfl ?_
    refine z_istore_n (i := 1) (q := 20) hX dX4_restore_19 rfl (Nat.le_of_ble_eq_true rfl) rfl rfl ?_
    exact e9
  · rw [if_pos (by omega), if_pos (by omega), if_pos (by omega)] at hX
    refine z_aload_n (i := 0) (q := 13) hX dX4_restore_12 rfl rfl rfl ?_
    refine z_iconst (q := 14) hX dX4_restore_13 rfl ?_
    refine zt_V1 (q := 17) (na := 1) hX dX4_restore_14 (c_X4_refuse D A) q1962 q1964 qs39 q103 q1965 rfl (by decide +kernel) ⟨Nat.le_of_ble_eq_true rfl, Nat.le_of_ble_eq_true rfl⟩ rfl rfl (Nat.le_of_ble_eq_true rfl) rfl ⟨rfl, rfl⟩ (Nat.le_of_ble_eq_true rfl) (Nat.le_of_ble_eq_true rfl) rfl ?_
    rw [upF_upF]
    exact z_iret hX dX4_restore_17 (Nat.le_of_ble_eq_true rfl) (Nat.le_of_ble_eq_true rfl) rfl (fun H hI => ⟨congrArg (fun z => some (zI z)) (rfl), hI⟩)
