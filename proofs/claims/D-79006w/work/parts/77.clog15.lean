/-! THE CLASS: Log.split -/
set_option maxRecDepth 100000
section LGU
variable {D : zD} {mR : zMp} {b ll ta col c : Nat} {th mc : Int} {ls : List Nat} {tf : Nat → Option Nat}
theorem logM_up {x : zE} (h1 : c ≠ b) (h2 : c ≠ ll) (h3 : c ≠ ta) : upm (logM D mR b ll ta col th mc ls tf) c x = logM D (upm mR c x) b ll ta col th mc ls tf := by
  unfold logM
  rw [upm_cm _ _ _ h1.symm, upm_cm _ _ _ h3.symm, upm_cm _ _ _ h2.symm]
theorem logM_dl (h1 : c ≠ b) (h2 : c ≠ ll) (h3 : c ≠ ta) : dlm (logM D mR b ll ta col th mc ls tf) c = logM D (dlm mR c) b ll ta col th mc ls tf := by
  unfold logM
  rw [dlm_upm_ne _ _ h1, dlm_upm_ne _ _ h3, dlm_upm_ne _ _ h2]
end LGU
theorem dl2 {m : zMp} {a c : Nat} {x y : zE} (h1 : m a = none) (h2 : m c = none) : dlm (dlm (upm (upm m a x) c y) c) a = m := by
  funext z
  by_cases z1 : z = a
  · rw [z1, dlm_same, h1]
  · rw [dlm_ne _ z1]
    by_cases z2 : z = c
    · rw [z2, dlm_same, h2]
    · rw [dlm_ne _ z2, upm_ne _ _ z2, upm_ne _ _ z1]
theorem take_snoc {α : Type} {R : List α} {i : Nat} {x : α} (h : R[i]? = some x) : R.take (i + 1) = R.take i ++ [x] := by
  rw [List.take_add_one, h]
  rfl
theorem flt_snoc {α : Type} {p : α → Bool} {R : List α} {x : α} : (R ++ [x]).filter p = if p x = true then R.filter p ++ [x] else R.filter p := by
  rw [List.filter_append]
  by_cases q : p x = true
  · rw [if_pos q, List.filter_cons, if_pos q, List.filter_nil]
  · rw [if_neg q, List.filter_cons, if_neg q, List.filter_nil, List.append_nil]
/-- numbers' boxes, read at a place -/
theorem zInts.gt {w : zMp} {xs : List Nat} {ks : List Int} (h : zInts w xs ks) {i : Nat} (hi : i < ks.length) : ∃ a, xs[i]? = some a ∧ w a = some (eI (ks.getD i (-1))) ∧ ks[i]? = some (ks.getD i (-1)) ∧ zR (ks.getD i (-1)) := by
  have e : ks[i]? = some (ks.getD i (-1)) := by rw [List.getD_eq_getElem?_getD, List.getElem?_eq_getElem hi]; rfl
  obtain ⟨q0, a, q1, q2⟩ := h.2 i _ e
  exact ⟨a, q1, q2, e, q0⟩
abbrev rmX2_split_no : Room := { frames := 7, cells := 4, slots := 58, locals := 151 }
set_option maxHeartbeats 4000000 in
theorem c_X2_split_no (D : zD) (A : Nat → Prop) {w m : zMp} {b : Nat} {M : Int → Int} {mR : zMp} {ll ta col : Nat} {mc t c k : Int} {ls : List Nat} {tf : Nat → Option Nat} (hm : m = logM D mR b ll ta col (M 1) mc ls tf) (hd : lgD b ll ta) (hok : zOk M) (hls : wLines w ls (M 0).toNat (tx M)) (hts : wTs w tf M) (ht : isT M t = true) (hc : 0 ≤ c ∧ c ≤ 1000) (hk : tkOf (nTl M (fst M t)).toNat (fun j => slt M t j) c = k) (hk0 : 0 ≤ k ∧ k < nTl M (fst M t)) (hdf : dffI (rws M t).length (cR (tx M) (rws M t) k) < 2) : zC D yX2_split cX2_split 10 (some .int) (some [(26, 159, 160, 61)]) rmX2_split_no A [.ref b, zI (t), zI (c)] (cI D A w m) (zPe (fun (z : Nat) => none) (fun _ => False) (fun _ => cI D A w m)) (xRc D A w m 3 t 13 c) := by
  refine zC_startH (L := [some (.ref b), some (zI (t)), some (zI (c)), none, none, none, none, none, none, none]) (by decide) (Nat.le_of_ble_eq_true rfl) rfl (fun X hX => ?_)
  subst hm
  have hM := hok.1
  obtain ⟨x, e1, e2, e3, e4⟩ := hts.get ht
  have e20 := e2
  have hcl := (dff_1 (c := cR (tx M) (rws M t) k) (isT_rows ht).1)
  obtain ⟨⟨k1, k2, k3⟩, gl, sl, rl, mc4, mc2, mc3, gs, ss, rs, y1, y2, y3, y4, y5, y6, y7⟩ := e2
  refine z_aload_n (i := 0) (q := 1) hX dX2_split_0 rfl rfl rfl ?_
  refine zr_get (C := RX2) (T := TX2) (N := 4) (q := 4) hX ciX2 1 rfl (by decide) in_X2 dX2_split_1 q207 (Or.inl rfl) (fun H h => cI.rd h (Or.inr logM_b) rfl (by decide) rfl) rfl ?_
  refine z_iload_n (i := 1) (q := 5) hX dX2_split_4 rfl rfl rfl ?_
  refine zr_aald (q := 6) hX 7 rfl dX2_split_5 (fun H h => (h.at (Or.inr (logM_ta hd))).raQ) ⟨by omega, by omega⟩ (by first | decide | omega) rfl ?_
  refine zG.top (v2 := .ref x) (by show va_rf (tf (t).toNat) = _; rw [e1]; rfl) ?_
  refine z_astore_n (i := 3) (q := 7) hX dX2_split_6 rfl (Nat.le_of_ble_eq_true rfl) rfl rfl ?_
  refine zc_new (q := 10) (fs := [.null, zI 0]) (C := RX3) (T := TX3) (N := 2) hX ciX3 rfl in_X3 tyX3_ok dX2_split_7 q186 q187 q102 (fun j hj => by match j, hj with | 0, _ => rfl | 1, _ => rfl | (_ + 2), h => exact absurd h (by omega)) (by first | exact Nat.le_of_ble_eq_true rfl | (show _ + 1 ≤ 4; omega)) (by first | exact Nat.le_of_ble_eq_true rfl | (show _ + 2 ≤ 58; omega)) rfl (fun a7 ha7 hb7 => ?_)
  have n7 := hb7
  try simp only [upm_none] at n7
  repeat (have := And.left n7; replace n7 := And.right n7)
  refine z_dup (q := 11) hX dX2_split_10 rfl rfl ?_
  have i1 : a7 ≠ b := ne_mp hb7 logM_b
  have i2 : a7 ≠ ll := ne_mp hb7 (logM_ll hd)
  have i3 : a7 ≠ ta := ne_mp hb7 (logM_ta hd)
  refine z_aload_n (i := 0) (q := 12) hX dX2_split_11 rfl rfl rfl ?_
  refine zr_get (C := RX2) (T := TX2) (N := 4) (q := 15) hX ciX2 0 rfl (by decide) in_X2 dX2_split_12 q203 (Or.inl rfl) (fun H h => cI.rd h (Or.inr ((upm_ne _ _ i1.symm).trans logM_b)) rfl (by decide) rfl) rfl ?_
  refine z_aload_n (i := 3) (q := 16) hX dX2_split_15 rfl rfl rfl ?_
  refine z_aload_n (i := 3) (q := 17) hX dX2_split_16 rfl rfl rfl ?_
  refine z_iload_n (i := 2) (q := 18) hX dX2_split_17 rfl rfl rfl ?_
  refine z_V (ci := ciX7) (T := TX7) (N := 3) (na := 1) hX dX2_split_18 (c_X7_tokenOf D A e20 hc) rfl q1691 q1241 q1242 q127 q1243 (by decide +kernel) ⟨Nat.le_of_ble_eq_true rfl, Nat.le_of_ble_eq_true rfl⟩ rfl rfl (Nat.le_of_ble_eq_true rfl) rfl (by first | exact Nat.le_of_ble_eq_true rfl | (show _ + 0 ≤ 4; omega)) (by first | exact Nat.le_of_ble_eq_true rfl | (show _ + 0 ≤ 58; omega)) (fun H h => ⟨h, h.obE (Or.inl y1) rfl⟩) (fun E a => zT.no) (zPd.out ?_)
  show zG X (_ + 0) (_ + 0) _ 21 _ _
  rw [hk]
  refine z_C (na := 3) hX dX2_split_21 (c_X3_init_2 D A (v0 := 0) (upm_same _ _ _) (Or.inr ((upm_ne _ _ i2.symm).trans (logM_ll hd))) hls (by omega) e20 (e20.rows hok hk0.2) hk0.1) q1692 q1573 q102 q1574 rfl (by decide +kernel) ⟨Nat.le_of_ble_eq_true rfl, Nat.le_of_ble_eq_true rfl⟩ rfl rfl (Nat.le_of_ble_eq_true rfl) rfl (by first | exact Nat.le_of_ble_eq_true rfl | (show _ + 1 ≤ 4; omega)) (by first | exact Nat.le_of_ble_eq_true rfl | (show _ + 40 ≤ 58; omega)) (fun H h => h) (fun E a => zT.no) (zPe.out (fun x21 hx21 => ?_))
  show zG X (_ + 1) (_ + 40) _ 24 _ _
  obtain ⟨⟨g1, g2, g3⟩, g4⟩ := hx21
  have n3 : upm (logM D mR b ll ta col (M 1) mc ls tf) a7 (eO ciX3 [.null, zI 0]) x21.1 = none := g1
  rw [upm_ne _ _ g3] at n3
  have j1 : x21.1 ≠ b := ne_mp n3 logM_b
  have j2 : x21.1 ≠ ll := ne_mp n3 (logM_ll hd)
  have j3 : x21.1 ≠ ta := ne_mp n3 (logM_ta hd)
  rw [upm_upm]
  have hcol : wCol D w (upm (upm (logM D mR b ll ta col (M 1) mc ls tf) a7 (eO ciX3 [.ref x21.1, zI (rws M t).length])) x21.1 (eC (aQ D 6 40 x21.2))) a7 x21.1 (rws M t).length x21.2 (cR (tx M) (rws M t) k) := ⟨(upm_ne _ _ g3.symm).trans (upm_same _ _ _), upm_same _ _ _, k3, g4⟩
  refine z_astore (q := 26) hX dX2_split_24 (Nat.le_of_ble_eq_true rfl) rfl rfl ?_
  refine z_aload (q := 28) hX dX2_split_26 rfl rfl ?_
  refine z_iload_n (i := 2) (q := 29) hX dX2_split_28 rfl rfl rfl ?_
  refine z_S (na := 2) hX dX2_split_29 (c_X2_checkDifferent_no D A hcol hdf (by omega)) q1693 q1694 q98 q1695 (by decide +kernel) ⟨Nat.le_of_ble_eq_true rfl, Nat.le_of_ble_eq_true rfl⟩ rfl rfl (Nat.le_of_ble_eq_true rfl) rfl (by first | exact Nat.le_of_ble_eq_true rfl | (show _ + 1 ≤ 4; omega)) (by first | exact Nat.le_of_ble_eq_true rfl | (show _ + 8 ≤ 58; omega)) (fun H h => h) (zXs.out (fun e29 => ?_)) (zPe.out (fun x29 hx29 => ?_))
  · refine zT.ax (fun hx29 => ?_)
    refine zT.catch hX [] _ [] rfl (fun z hz => by cases hz) (by decide) (by decide) q461 (zCs_at 9 rfl) rfl ?_
    refine z_astore (q := 162) hX dX2_split_160 (Nat.le_of_ble_eq_true rfl) rfl rfl ?_
    refine zc_new (q := 165) (fs := [.null, .null, .null, .null, .null, zI 0, zI 0, zI 0]) (C := RX9) (T := TX9) (N := 8) hX ciX9 rfl in_X9 tyX9_ok dX2_split_162 q461 q495 q130 (fun j hj => by match j, hj with | 0, _ => rfl | 1, _ => rfl | 2, _ => rfl | 3, _ => rfl | 4, _ => rfl | 5, _ => rfl | 6, _ => rfl | 7, _ => rfl | (_ + 8), h => exact absurd h (by omega)) (by first | exact Nat.le_of_ble_eq_true rfl | (show _ + 1 ≤ 4; omega)) (by first | exact Nat.le_of_ble_eq_true rfl | (show _ + 8 ≤ 58; omega)) rfl (fun a162 ha162 hb162 => ?_)
    have n162 := hb162
    try simp only [upm_none] at n162
    repeat (have := And.left n162; replace n162 := And.right n162)
    have n162x : a162 ≠ e29 := by omega
    refine z_dup (q := 166) hX dX2_split_165 rfl rfl ?_
    refine z_iconst (q := 167) hX dX2_split_166 rfl ?_
    refine z_iload_n (i := 1) (q := 168) hX dX2_split_167 rfl rfl rfl ?_
    refine z_aload (q := 170) hX dX2_split_168 rfl rfl ?_
    refine z_C (na := 3) hX dX2_split_170 (c_X9_init_2 D A (upm_same _ _ _)) q986 q987 q130 q988 rfl (by decide +kernel) ⟨Nat.le_of_ble_eq_true rfl, Nat.le_of_ble_eq_true rfl⟩ rfl rfl (Nat.le_of_ble_eq_true rfl) rfl (by first | exact Nat.le_of_ble_eq_true rfl | (show _ + 0 ≤ 4; omega)) (by first | exact Nat.le_of_ble_eq_true rfl | (show _ + 0 ≤ 58; omega)) (fun H h => h) (fun E a => zT.no) (zPv.out ?_)
    show zG X (_ + 0) (_ + 0) _ 173 _ _
    refine z_athrow hX ciX9 rfl dX2_split_173 (fun H h => (h.at (Or.inr (upm_same _ _ _))).th) ?_
    exact zT.out hX (by decide) (by first | exact Nat.le_of_ble_eq_true rfl | (show (_ : Nat) ≤ 4; omega)) (by first | exact Nat.le_of_ble_eq_true rfl | (show (_ : Nat) ≤ 58; omega)) (fun H h => ⟨rfl, e29, ⟨Ne.symm n162x, n162, by
      have q := hx29.2
      simp only [upm_none] at q
      exact q.2.2⟩, by
      simp only [upm_upm] at h
      have q := hx29.2
      simp only [upm_none] at q
      have h2 := (h.del x21.1).del a7
      refine h2.eqv (fun z => ?_)
      have p1 : a162 ≠ x21.1 := by omega
      have p2 : a162 ≠ a7 := by omega
      by_cases z1 : z = a7
      · rw [z1, dlm_same, upm_ne _ _ p2.symm, upm_ne _ _ q.2.1.symm]
        exact hb7
      · rw [dlm_ne _ z1]
        by_cases z2 : z = x21.1
        · rw [z2, dlm_same, upm_ne _ _ p1.symm, upm_ne _ _ q.1.symm]
          exact n3
        · rw [dlm_ne _ z2]
          by_cases z3 : z = a162
          · rw [z3, upm_same, upm_same]
          · rw [upm_ne _ _ z3, upm_ne _ _ z3]
            by_cases z4 : z = e29
            · rw [z4, upm_same, upm_same]
            · rw [upm_ne _ _ z4, upm_ne _ _ z4, upm_ne _ _ z2, upm_ne _ _ z1]⟩)
  show zG X (_ + 1) (_ + 8) _ 32 _ _
  exact hx29.elim
abbrev rmX2_split_ok : Room := { frames := 9, cells := 3700, slots := 19000, locals := 219 }
set_option maxHeartbeats 4000000 in
theorem c_X2_split_ok (D : zD) (A : Nat → Prop) {w m : zMp} {b : Nat} {M : Int → Int} {mR : zMp} {ll ta col : Nat} {mc t c k nx : Int} {ls : List Nat} {tf : Nat → Option Nat} (hm : m = logM D mR b ll ta col (M 1) mc ls tf) (hd : lgD b ll ta) (hok : zOk M) (hls : wLines w ls (M 0).toNat (tx M)) (hts : wTs w tf M) (ht : isT M t = true) (hc : 0 ≤ c ∧ c ≤ 1000) (hk : tkOf (nTl M (fst M t)).toNat (fun j => slt M t j) c = k) (hk0 : 0 ≤ k ∧ k < nTl M (fst M t)) (hv : ∀ i : Nat, i < 12 → (∀ j : Nat, j < i → isT M j = true) → isT M i = false → nx = i) (hnx : isT M nx = false) (hnx0 : 0 ≤ nx ∧ nx ≤ 11) (hdf : 2 ≤ dffI (rws M t).length (cR (tx M) (rws M t) k)) : zC D yX2_split cX2_split 10 (some .int) (some [(26, 159, 160, 61)]) rmX2_split_ok A [.ref b, zI (t), zI (c)] (cI D A w m) (zPe (fun (z : zMp × (Nat → Option Nat)) => some (zI nx)) (fun z => zLe w z.1 ∧ wTs z.1 z.2 (splM M t k nx)) (fun z => cI D A z.1 (logM D mR b ll ta col (M 1) mc ls z.2))) (zNo) := by
  refine zC_startH (L := [some (.ref b), some (zI (t)), some (zI (c)), none, none, none, none, none, none, none]) (by decide) (Nat.le_of_ble_eq_true rfl) rfl (fun X hX => ?_)
  subst hm
  have hM := hok.1
  obtain ⟨x, e1, e2, e3, e4⟩ := hts.get ht
  have e20 := e2
  have hR1 := (isT_rows ht).1
  have hcl := (dff_1 (c := cR (tx M) (rws M t) k) hR1)
  obtain ⟨⟨k1, k2, k3⟩, gl, sl, rl, mc4, mc2, mc3, gs, ss, rs, y1, y2, y3, y4, y5, y6, y7⟩ := e2
  have hl7 := y7.1
  have hc0 : cR (tx M) (rws M t) k 0 = tkl M (fst M t) k := rfl
  -- a row whose token isn't the first's
  obtain ⟨r9, hr9, hd9⟩ : ∃ r : Nat, r < (rws M t).length ∧ cR (tx M) (rws M t) k 0 ≠ cR (tx M) (rws M t) k r := by
    refine Classical.byContradiction (fun q => ?_)
    have := hcl.2.1 (fun r hr => Classical.byContradiction (fun q2 => q ⟨r, hr, q2⟩))
    omega
  have hl9 : (rws M t).getD ((r9 : Int)).toNat (-1) ∈ rws M t := gtD_mem hr9
  have hd9' : tkl M (fst M t) k ≠ tkl M ((rws M t).getD ((r9 : Int)).toNat (-1)) k := hd9
  have hgon : 1 ≤ (gonL M t k).length := List.length_pos_of_mem (List.mem_filter.mpr ⟨isT_fst ht, decide_eq_true rfl⟩)
  have hlef : 1 ≤ (lefL M t k).length := List.length_pos_of_mem (List.mem_filter.mpr ⟨hl9, by rw [decide_eq_false hd9']; rfl⟩)
  have hgl : (gonL M t k).length ≤ (rws M t).length := List.length_filter_le _ _
  have hll : (lefL M t k).length ≤ (rws M t).length := List.length_filter_le _ _
  have hgm : ∀ r ∈ gonL M t k, r ∈ rws M t := fun r hr => (List.mem_filter.mp hr).1
  have hlm : ∀ r ∈ lefL M t k, r ∈ rws M t := fun r hr => (List.mem_filter.mp hr).1
  have hne0 : ∀ R : List Int, 1 ≤ R.length → R ≠ [] := fun R h q => by rw [q] at h; exact absurd h (by decide)
  have hform : ∀ R : List Int, (∀ r ∈ R, r ∈ rws M t) → 1 ≤ R.length → ∀ r ∈ R, gapsL (tx M r) = gapsL (tx M (R.getD 0 (-1))) := fun R h1 h2 r hr => by
    rw [(rws_n hok (h1 r hr)).2, (rws_n hok (h1 _ (gtD0 (hne0 R h2)))).2]
  have hrng : ∀ R : List Int, (∀ r ∈ R, r ∈ rws M t) → ∀ r ∈ R, 0 ≤ r ∧ r < ((M 0).toNat : Int) := fun R h1 r hr => by
    have := rws_mem.mp (h1 r hr)
    omega
  have K59 : ∀ (a7 x1 a38 a47 : Nat) (m9 : zMp) (f9 : Nat → Option Nat), (a7 ≠ b ∧ a7 ≠ ll ∧ a7 ≠ ta) → (x1 ≠ b ∧ x1 ≠ ll ∧ x1 ≠ ta) → m9 a7 = some (eO ciX3 [.ref x1, zI (rws M t).length]) → m9 x1 = some (eC (aQ D 6 40 f9)) → dlm (dlm m9 x1) a7 = mR → (∀ i : Nat, i < (rws M t).length → ∃ y, f9 i = some y ∧ wTok w y (cR (tx M) (rws M t) k i)) → (a38 ≠ b ∧ a38 ≠ ll ∧ a38 ≠ ta) → (a47 ≠ b ∧ a47 ≠ ll ∧ a47 ≠ ta) → a47 ≠ a38 → m9 a38 = none → m9 a47 = none → w a38 = none → w a47 = none → ∀ i : Nat, i ≤ (rws M t).length → ∀ (kc ns : Nat) (mg ml : Int) (g1 g2 : List Nat) (v9 : Option Value) (p : Int), kc ≤ 10 + i → ns ≤ 200 + 61 * i → p = i → zInts w g1 (((rws M t).take i).filter (fun q => decide (tkl M (fst M t) k = tkl M q k))) → zInts w g2 (((rws M t).take i).filter (fun q => !decide (tkl M (fst M t) k = tkl M q k))) → zG X kc ns (cI D A w (upm (upm (logM D m9 b ll ta col (M 1) mc ls tf) a38 (eL mg g1)) a47 (eL ml g2))) 59 [some (.ref b), some (zI t), some (zI c), some (.ref x), some (.ref a7), some (zI nx), some (.ref a38), some (.ref a47), some (zI p), v9] [] := by
    intro a7 x1 a38 a47 m9 f9 ⟨i1, i2, i3⟩ ⟨j1, j2, j3⟩ q7 q8 hmd g4 ⟨r1, r2, r3⟩ ⟨s1, s2, s3⟩ s0 hb38 n47b ha38 ha47
    have u1 : a38 ≠ a7 := ne_mp hb38 q7
    have u2 : a38 ≠ x1 := ne_mp hb38 q8
    have u3 : a47 ≠ a7 := ne_mp n47b q7
    have u4 : a47 ≠ x1 := ne_mp n47b q8
    refine z_up (fun i hi ih kc ns mg ml g1 g2 v9 p hkc hns ep hg1 hg2 => ?_)
    subst ep
    have c1 := hg1.1
    have c2 := hg2.1
    have c3 := List.length_filter_le (fun q => decide (tkl M (fst M t) k = tkl M q k)) ((rws M t).take i)
    have c4 := List.length_filter_le (fun q => !decide (tkl M (fst M t) k = tkl M q k)) ((rws M t).take i)
    rw [List.length_take] at c3 c4
    by_cases hin : i < (rws M t).length
    · obtain ⟨z, p1, p2, p3, p4⟩ := y7.gt hin
      have hco : wCol D w (upm (upm (logM D m9 b ll ta col (M 1) mc ls tf) a38 (eL mg g1)) a47 (eL ml g2)) a7 x1 (rws M t).length f9 (cR (tx M) (rws M t) k) := ⟨(upm_ne _ _ u3.symm).trans ((upm_ne _ _ u1.symm).trans ((logM_ot i1 i2 i3).trans q7)), (upm_ne _ _ u4.symm).trans ((upm_ne _ _ u2.symm).trans ((logM_ot j1 j2 j3).trans q8)), k3, g4⟩
      have hf1 := fstI_le (cR (tx M) (rws M t) k) (r := (i : Int)) (by omega)
      have hf0 := fst0 (c := cR (tx M) (rws M t) k) (r := i)
      have hci : cR (tx M) (rws M t) k (i : Int) = tkl M ((rws M t).getD i (-1)) k := by unfold cR tkl; rw [Int.toNat_natCast]
      rw [hc0, hci] at hf0
      have htk := take_snoc p3
      refine z_iload (q := 61) hX dX2_split_59 rfl rfl ?_
      refine z_aload_n (i := 3) (q := 62) hX dX2_split_61 rfl rfl rfl ?_
      refine zr_getN (C := RX7) (T := TX7) (N := 3) (q := 65) hX ciX7 2 rfl (by decide) in_X7 dX2_split_62 (zNF_at 26 rfl) (fun H h => cI.rd h (by first | assumption | exact Or.inl (by assumption) | exact Or.inr (by first | assumption | exact upm_same _ _ _ | exact (upm_ne _ _ (by first | assumption | exact Ne.symm (by assumption) | omega | exact ne_mp (m := m) (by assumption) (by assumption) | exact Ne.symm (ne_mp (m := m) (by assumption) (by assumption)) | exact ne_mp (m := w) (by assumption) (by assumption) | exact Ne.symm (ne_mp (m := w) (by assumption) (by assumption)))).trans (by first | assumption | exact upm_same _ _ _ | exact (upm_ne _ _ (by first | assumption | exact Ne.symm (by assumption) | omega | exact ne_mp (m := m) (by assumption) (by assumption) | exact Ne.symm (ne_mp (m := m) (by assumption) (by assumption)) | exact ne_mp (m := w) (by assumption) (by assumption) | exact Ne.symm (ne_mp (m := w) (by assumption) (by assumption)))).trans (by first | assumption | exact upm_same _ _ _ | exact (upm_ne _ _ (by first | assumption | exact Ne.symm (by assumption) | omega | exact ne_mp (m := m) (by assumption) (by assumption) | exact Ne.symm (ne_mp (m := m) (by assumption) (by assumption)) | exact ne_mp (m := w) (by assumption) (by assumption) | exact Ne.symm (ne_mp (m := w) (by assumption) (by assumption)))).trans (by first | assumption | exact upm_same _ _ _))))) rfl (by decide) rfl) rfl ?_
      refine z_V (ci := ciJ2) (T := TJ2) (N := 3) (na := 0) hX dX2_split_65 (c_J2_size D A (Or.inl y6)) rfl q547 q467 q468 q101 q469 (by decide +kernel) ⟨Nat.le_of_ble_eq_true rfl, Nat.le_of_ble_eq_true rfl⟩ rfl rfl (Nat.le_of_ble_eq_true rfl) rfl (by first | exact Nat.le_of_ble_eq_true rfl | (show _ + 0 ≤ 3700; omega)) (by first | exact Nat.le_of_ble_eq_true rfl | (show _ + 0 ≤ 19000; omega)) (fun H h => ⟨h, h.obL (Or.inl y6)⟩) (fun E a => zT.no) (zPd.out ?_)
      show zG X (_ + 0) (_ + 0) _ 68 _ _
      refine z_icmp_ge (q := 71) (t := 126) hX dX2_split_68 (by decide) ⟨by omega, by omega⟩ ⟨by omega, by omega⟩ rfl (fun h68 => ?_) (fun h68 => ?_)
      · exact absurd h68 (by omega)
      · refine z_aload (q := 73) hX dX2_split_71 rfl rfl ?_
        refine z_iload (q := 75) hX dX2_split_73 rfl rfl ?_
        refine z_VN (ci := ciX3) (T := TX3) (N := 2) (na := 1) hX dX2_split_75 (c_X3_first D A hco hin) rfl (zNM_at 2 rfl) qs8 q590 q102 q591 (by decide +kernel) ⟨Nat.le_of_ble_eq_true rfl, Nat.le_of_ble_eq_true rfl⟩ rfl rfl (Nat.le_of_ble_eq_true rfl) rfl (by first | exact Nat.le_of_ble_eq_true rfl | (show _ + 0 ≤ 3700; omega)) (by first | exact Nat.le_of_ble_eq_true rfl | (show _ + 0 ≤ 19000; omega)) (fun H h => ⟨h, h.obE (Or.inr hco.1) rfl⟩) (fun E a => zT.no) (zPd.out ?_)
        show zG X (_ + 0) (_ + 0) _ 78 _ _
        refine z_if_ne (q := 81) (t := 101) hX dX2_split_78 (by decide) ⟨by omega, by omega⟩ rfl (fun h78 => ?_) (fun h78 => ?_)
        · refine z_aload (q := 103) hX dX2_split_101 rfl rfl ?_
          refine z_aload_n (i := 3) (q := 104) hX dX2_split_103 rfl rfl rfl ?_
          refine zr_getN (C := RX7) (T := TX7) (N := 3) (q := 107) hX ciX7 2 rfl (by decide) in_X7 dX2_split_104 (zNF_at 26 rfl) (fun H h => cI.rd h (by first | assumption | exact Or.inl (by assumption) | exact Or.inr (by first | assumption | exact upm_same _ _ _ | exact (upm_ne _ _ (by first | assumption | exact Ne.symm (by assumption) | omega | exact ne_mp (m := m) (by assumption) (by assumption) | exact Ne.symm (ne_mp (m := m) (by assumption) (by assumption)) | exact ne_mp (m := w) (by assumption) (by assumption) | exact Ne.symm (ne_mp (m := w) (by assumption) (by assumption)))).trans (by first | assumption | exact upm_same _ _ _ | exact (upm_ne _ _ (by first | assumption | exact Ne.symm (by assumption) | omega | exact ne_mp (m := m) (by assumption) (by assumption) | exact Ne.symm (ne_mp (m := m) (by assumption) (by assumption)) | exact ne_mp (m := w) (by assumption) (by assumption) | exact Ne.symm (ne_mp (m := w) (by assumption) (by assumption)))).trans (by first | assumption | exact upm_same _ _ _ | exact (upm_ne _ _ (by first | assumption | exact Ne.symm (by assumption) | omega | exact ne_mp (m := m) (by assumption) (by assumption) | exact Ne.symm (ne_mp (m := m) (by assumption) (by assumption)) | exact ne_mp (m := w) (by assumption) (by assumption) | exact Ne.symm (ne_mp (m := w) (by assumption) (by assumption)))).trans (by first | assumption | exact upm_same _ _ _))))) rfl (by decide) rfl) rfl ?_
          refine z_iload (q := 109) hX dX2_split_107 rfl rfl ?_
          refine z_V (ci := ciJ2) (T := TJ2) (N := 3) (na := 1) hX dX2_split_109 (c_J2_get D A (Or.inl y6) (by omega) (by rw [Int.toNat_natCast]; exact p1) (by omega)) rfl q548 q471 q472 q101 q473 (by decide +kernel) ⟨Nat.le_of_ble_eq_true rfl, Nat.le_of_ble_eq_true rfl⟩ rfl rfl (Nat.le_of_ble_eq_true rfl) rfl (by first | exact Nat.le_of_ble_eq_true rfl | (show _ + 0 ≤ 3700; omega)) (by first | exact Nat.le_of_ble_eq_true rfl | (show _ + 0 ≤ 19000; omega)) (fun H h => ⟨h, h.obL (Or.inl y6)⟩) (fun E a => zT.no) (zPd.out ?_)
          show zG X (_ + 0) (_ + 0) _ 112 _ _
          refine zr_cast (q := 115) (C := RJ18) (T := TJ18) (N := 1) hX ciJ18 rfl dX2_split_112 q1701 (fun H h => cI.obE h (by first | assumption | exact Or.inl (by assumption) | exact Or.inr (by first | assumption | exact upm_same _ _ _ | exact (upm_ne _ _ (by first | assumption | exact Ne.symm (by assumption) | omega | exact ne_mp (m := m) (by assumption) (by assumption) | exact Ne.symm (ne_mp (m := m) (by assumption) (by assumption)) | exact ne_mp (m := w) (by assumption) (by assumption) | exact Ne.symm (ne_mp (m := w) (by assumption) (by assumption)))).trans (by first | assumption | exact upm_same _ _ _ | exact (upm_ne _ _ (by first | assumption | exact Ne.symm (by assumption) | omega | exact ne_mp (m := m) (by assumption) (by assumption) | exact Ne.symm (ne_mp (m := m) (by assumption) (by assumption)) | exact ne_mp (m := w) (by assumption) (by assumption) | exact Ne.symm (ne_mp (m := w) (by assumption) (by assumption)))).trans (by first | assumption | exact upm_same _ _ _ | exact (upm_ne _ _ (by first | assumption | exact Ne.symm (by assumption) | omega | exact ne_mp (m := m) (by assumption) (by assumption) | exact Ne.symm (ne_mp (m := m) (by assumption) (by assumption)) | exact ne_mp (m := w) (by assumption) (by assumption) | exact Ne.symm (ne_mp (m := w) (by assumption) (by assumption)))).trans (by first | assumption | exact upm_same _ _ _))))) rfl) rfl ?_
          refine z_V (ci := ciJ2) (T := TJ2) (N := 3) (na := 1) hX dX2_split_115 (c_J2_add D A (upm_same _ _ _) (by omega) p2 (zElO_I _)) rfl q378 q379 q380 q101 q381 (by decide +kernel) ⟨Nat.le_of_ble_eq_true rfl, Nat.le_of_ble_eq_true rfl⟩ rfl rfl (Nat.le_of_ble_eq_true rfl) rfl (by first | exact Nat.le_of_ble_eq_true rfl | (show _ + 1 ≤ 3700; omega)) (by first | exact Nat.le_of_ble_eq_true rfl | (show _ + 61 ≤ 19000; omega)) (fun H h => ⟨h, h.obL (Or.inr (upm_same _ _ _))⟩) (fun E a => zT.no) (zPd.out ?_)
          show zG X (_ + 1) (_ + 61) _ 118 _ _
          refine z_istore (q := 120) hX dX2_split_118 (Nat.le_of_ble_eq_true rfl) rfl rfl ?_
          refine z_iinc (q := 123) hX dX2_split_120 rfl (Nat.le_of_ble_eq_true rfl) rfl rfl ?_
          refine z_goto (t := 59) hX dX2_split_123 (by decide) ?_
          refine zG.mono (ih hin _ _ mg (ml + 1) g1 (g2 ++ [z]) _ _ (by omega) (by omega) rfl ?_ ?_) (fun H h => by rw [upm_upm] at h; exact h)
          · rw [htk, flt_snoc, if_neg (fun q => h78 (hf0.mpr (of_decide_eq_true q)))]
            exact hg1
          · rw [htk, flt_snoc, if_pos (by rw [decide_eq_false (fun q => h78 (hf0.mpr q))]; rfl)]
            exact hg2.snoc p2 p4
        · refine z_aload (q := 83) hX dX2_split_81 rfl rfl ?_
          refine z_aload_n (i := 3) (q := 84) hX dX2_split_83 rfl rfl rfl ?_
          refine zr_getN (C := RX7) (T := TX7) (N := 3) (q := 87) hX ciX7 2 rfl (by decide) in_X7 dX2_split_84 (zNF_at 26 rfl) (fun H h => cI.rd h (by first | assumption | exact Or.inl (by assumption) | exact Or.inr (by first | assumption | exact upm_same _ _ _ | exact (upm_ne _ _ (by first | assumption | exact Ne.symm (by assumption) | omega | exact ne_mp (m := m) (by assumption) (by assumption) | exact Ne.symm (ne_mp (m := m) (by assumption) (by assumption)) | exact ne_mp (m := w) (by assumption) (by assumption) | exact Ne.symm (ne_mp (m := w) (by assumption) (by assumption)))).trans (by first | assumption | exact upm_same _ _ _ | exact (upm_ne _ _ (by first | assumption | exact Ne.symm (by assumption) | omega | exact ne_mp (m := m) (by assumption) (by assumption) | exact Ne.symm (ne_mp (m := m) (by assumption) (by assumption)) | exact ne_mp (m := w) (by assumption) (by assumption) | exact Ne.symm (ne_mp (m := w) (by assumption) (by assumption)))).trans (by first | assumption | exact upm_same _ _ _ | exact (upm_ne _ _ (by first | assumption | exact Ne.symm (by assumption) | omega | exact ne_mp (m := m) (by assumption) (by assumption) | exact Ne.symm (ne_mp (m := m) (by assumption) (by assumption)) | exact ne_mp (m := w) (by assumption) (by assumption) | exact Ne.symm (ne_mp (m := w) (by assumption) (by assumption)))).trans (by first | assumption | exact upm_same _ _ _))))) rfl (by decide) rfl) rfl ?_
          refine z_iload (q := 89) hX dX2_split_87 rfl rfl ?_
          refine z_V (ci := ciJ2) (T := TJ2) (N := 3) (na := 1) hX dX2_split_89 (c_J2_get D A (Or.inl y6) (by omega) (by rw [Int.toNat_natCast]; exact p1) (by omega)) rfl q548 q471 q472 q101 q473 (by decide +kernel) ⟨Nat.le_of_ble_eq_true rfl, Nat.le_of_ble_eq_true rfl⟩ rfl rfl (Nat.le_of_ble_eq_true rfl) rfl (by first | exact Nat.le_of_ble_eq_true rfl | (show _ + 0 ≤ 3700; omega)) (by first | exact Nat.le_of_ble_eq_true rfl | (show _ + 0 ≤ 19000; omega)) (fun H h => ⟨h, h.obL (Or.inl y6)⟩) (fun E a => zT.no) (zPd.out ?_)
          show zG X (_ + 0) (_ + 0) _ 92 _ _
          refine zr_cast (q := 95) (C := RJ18) (T := TJ18) (N := 1) hX ciJ18 rfl dX2_split_92 q1701 (fun H h => cI.obE h (by first | assumption | exact Or.inl (by assumption) | exact Or.inr (by first | assumption | exact upm_same _ _ _ | exact (upm_ne _ _ (by first | assumption | exact Ne.symm (by assumption) | omega | exact ne_mp (m := m) (by assumption) (by assumption) | exact Ne.symm (ne_mp (m := m) (by assumption) (by assumption)) | exact ne_mp (m := w) (by assumption) (by assumption) | exact Ne.symm (ne_mp (m := w) (by assumption) (by assumption)))).trans (by first | assumption | exact upm_same _ _ _ | exact (upm_ne _ _ (by first | assumption | exact Ne.symm (by assumption) | omega | exact ne_mp (m := m) (by assumption) (by assumption) | exact Ne.symm (ne_mp (m := m) (by assumption) (by assumption)) | exact ne_mp (m := w) (by assumption) (by assumption) | exact Ne.symm (ne_mp (m := w) (by assumption) (by assumption)))).trans (by first | assumption | exact upm_same _ _ _ | exact (upm_ne _ _ (by first | assumption | exact Ne.symm (by assumption) | omega | exact ne_mp (m := m) (by assumption) (by assumption) | exact Ne.symm (ne_mp (m := m) (by assumption) (by assumption)) | exact ne_mp (m := w) (by assumption) (by assumption) | exact Ne.symm (ne_mp (m := w) (by assumption) (by assumption)))).trans (by first | assumption | exact upm_same _ _ _))))) rfl) rfl ?_
          refine z_V (ci := ciJ2) (T := TJ2) (N := 3) (na := 1) hX dX2_split_95 (c_J2_add D A ((upm_ne _ _ s0.symm).trans (upm_same _ _ _)) (by omega) p2 (zElO_I _)) rfl q378 q379 q380 q101 q381 (by decide +kernel) ⟨Nat.le_of_ble_eq_true rfl, Nat.le_of_ble_eq_true rfl⟩ rfl rfl (Nat.le_of_ble_eq_true rfl) rfl (by first | exact Nat.le_of_ble_eq_true rfl | (show _ + 1 ≤ 3700; omega)) (by first | exact Nat.le_of_ble_eq_true rfl | (show _ + 61 ≤ 19000; omega)) (fun H h => ⟨h, h.obL (Or.inr ((upm_ne _ _ s0.symm).trans (upm_same _ _ _)))⟩) (fun E a => zT.no) (zPd.out ?_)
          show zG X (_ + 1) (_ + 61) _ 98 _ _
          refine z_goto (t := 118) hX dX2_split_98 (by decide) ?_
          refine z_istore (q := 120) hX dX2_split_118 (Nat.le_of_ble_eq_true rfl) rfl rfl ?_
          refine z_iinc (q := 123) hX dX2_split_120 rfl (Nat.le_of_ble_eq_true rfl) rfl rfl ?_
          refine z_goto (t := 59) hX dX2_split_123 (by decide) ?_
          refine zG.mono (ih hin _ _ (mg + 1) ml (g1 ++ [z]) g2 _ _ (by omega) (by omega) rfl ?_ ?_) (fun H h => by rw [upm_cm _ _ _ s0, upm_upm] at h; exact h)
          · rw [htk, flt_snoc, if_pos (decide_eq_true (hf0.mp (Decidable.not_not.mp h78)))]
            exact hg1.snoc p2 p4
          · rw [htk, flt_snoc, if_neg (fun q => by rw [decide_eq_true (hf0.mp (Decidable.not_not.mp h78))] at q; cases q)]
            exact hg2
    · have hiN : i = (rws M t).length := by omega
      rw [hiN, List.take_length] at hg1 hg2
      have hg1 : zInts w g1 (gonL M t k) := hg1
      have hg2 : zInts w g2 (lefL M t k) := hg2
      have hle1 : zLe w (upm w a47 (eL ml g2)) := zLe.up ha47
      have hle2 : zLe (upm w a47 (eL ml g2)) (upm (upm w a47 (eL ml g2)) a38 (eL mg g1)) := zLe.up ((upm_ne _ _ s0.symm).trans ha38)
      have hle := hle1.tr hle2
      refine z_iload (q := 61) hX dX2_split_59 rfl rfl ?_
      refine z_aload_n (i := 3) (q := 62) hX dX2_split_61 rfl rfl rfl ?_
      refine zr_getN (C := RX7) (T := TX7) (N := 3) (q := 65) hX ciX7 2 rfl (by decide) in_X7 dX2_split_62 (zNF_at 26 rfl) (fun H h => cI.rd h (by first | assumption | exact Or.inl (by assumption) | exact Or.inr (by first | assumption | exact upm_same _ _ _ | exact (upm_ne _ _ (by first | assumption | exact Ne.symm (by assumption) | omega | exact ne_mp (m := m) (by assumption) (by assumption) | exact Ne.symm (ne_mp (m := m) (by assumption) (by assumption)) | exact ne_mp (m := w) (by assumption) (by assumption) | exact Ne.symm (ne_mp (m := w) (by assumption) (by assumption)))).trans (by first | assumption | exact upm_same _ _ _ | exact (upm_ne _ _ (by first | assumption | exact Ne.symm (by assumption) | omega | exact ne_mp (m := m) (by assumption) (by assumption) | exact Ne.symm (ne_mp (m := m) (by assumption) (by assumption)) | exact ne_mp (m := w) (by assumption) (by assumption) | exact Ne.symm (ne_mp (m := w) (by assumption) (by assumption)))).trans (by first | assumption | exact upm_same _ _ _ | exact (upm_ne _ _ (by first | assumption | exact Ne.symm (by assumption) | omega | exact ne_mp (m := m) (by assumption) (by assumption) | exact Ne.symm (ne_mp (m := m) (by assumption) (by assumption)) | exact ne_mp (m := w) (by assumption) (by assumption) | exact Ne.symm (ne_mp (m := w) (by assumption) (by assumption)))).trans (by first | assumption | exact upm_same _ _ _))))) rfl (by decide) rfl) rfl ?_
      refine z_V (ci := ciJ2) (T := TJ2) (N := 3) (na := 0) hX dX2_split_65 (c_J2_size D A (Or.inl y6)) rfl q547 q467 q468 q101 q469 (by decide +kernel) ⟨Nat.le_of_ble_eq_true rfl, Nat.le_of_ble_eq_true rfl⟩ rfl rfl (Nat.le_of_ble_eq_true rfl) rfl (by first | exact Nat.le_of_ble_eq_true rfl | (show _ + 0 ≤ 3700; omega)) (by first | exact Nat.le_of_ble_eq_true rfl | (show _ + 0 ≤ 19000; omega)) (fun H h => ⟨h, h.obL (Or.inl y6)⟩) (fun E a => zT.no) (zPd.out ?_)
      show zG X (_ + 0) (_ + 0) _ 68 _ _
      refine z_icmp_ge (q := 71) (t := 126) hX dX2_split_68 (by decide) ⟨by omega, by omega⟩ ⟨by omega, by omega⟩ rfl (fun h68 => ?_) (fun h68 => ?_)
      · refine zc_frz a47 (upm_same _ _ _) ?_
        rw [dlm_upm _ _ ((upm_ne _ _ s0).trans ((logM_ot s1 s2 s3).trans n47b))]
        refine zc_frz a38 (upm_same _ _ _) ?_
        rw [dlm_upm _ _ ((logM_ot r1 r2 r3).trans hb38)]
        refine z_aload_n (i := 0) (q := 127) hX dX2_split_126 rfl rfl rfl ?_
        refine zr_get (C := RX2) (T := TX2) (N := 4) (q := 130) hX ciX2 1 rfl (by decide) in_X2 dX2_split_127 q207 (Or.inl rfl) (fun H h => cI.rd h (Or.inr logM_b) rfl (by decide) rfl) rfl ?_
        refine z_iload (q := 132) hX dX2_split_130 rfl rfl ?_
        refine z_aload_n (i := 0) (q := 133) hX dX2_split_132 rfl rfl rfl ?_
        refine zr_get (C := RX2) (T := TX2) (N := 4) (q := 136) hX ciX2 0 rfl (by decide) in_X2 dX2_split_133 q203 (Or.inl rfl) (fun H h => cI.rd h (Or.inr logM_b) rfl (by decide) rfl) rfl ?_
        refine z_aload (q := 138) hX dX2_split_136 rfl rfl ?_
        refine z_S (na := 2) hX dX2_split_138 (c_X7_of D A (T := tx M) (R := gonL M t k) (Or.inr (logM_ll hd)) (hls.le hle) (upm_same _ _ _) (hg1.le hle) hgon (by omega) (by omega) (hrng _ hgm) (hform _ hgm hgon)) q1452 q1453 q127 q1454 (by decide +kernel) ⟨Nat.le_of_ble_eq_true rfl, Nat.le_of_ble_eq_true rfl⟩ rfl rfl (Nat.le_of_ble_eq_true rfl) rfl (by first | exact Nat.le_of_ble_eq_true rfl | (show _ + 1800 ≤ 3700; omega)) (by first | exact Nat.le_of_ble_eq_true rfl | (show _ + 8000 ≤ 19000; omega)) (fun H h => h) (fun E a => zT.no) (zPe.out (fun x138 hx138 => ?_))
        show zG X (_ + 1800) (_ + 8000) _ 141 _ _
        obtain ⟨w1, w2⟩ := hx138
        obtain ⟨gl2, sl2, rl2, w3⟩ : ∃ gl sl rl, x138.2 x138.1 = some (eO ciX7 [.ref gl, .ref sl, .ref rl]) := by
          obtain ⟨-, gl, sl, rl, mc4, mc2, mc3, gs, ss, rs, h1, -⟩ := id w2
          exact ⟨gl, sl, rl, h1⟩
        refine zc_aast (q := 142) hX 7 ciX7 rfl dX2_split_141 (logM_ta hd) (fun H h => h.obE (Or.inl w3) rfl) (by decide +kernel) ⟨by omega, by omega⟩ (by first | decide | omega) rfl ?_
        rw [logM_setT hd]
        refine z_aload_n (i := 0) (q := 143) hX dX2_split_142 rfl rfl rfl ?_
        refine zr_get (C := RX2) (T := TX2) (N := 4) (q := 146) hX ciX2 1 rfl (by decide) in_X2 dX2_split_143 q207 (Or.inl rfl) (fun H h => cI.rd h (Or.inr logM_b) rfl (by decide) rfl) rfl ?_
        refine z_iload_n (i := 1) (q := 147) hX dX2_split_146 rfl rfl rfl ?_
        refine z_aload_n (i := 0) (q := 148) hX dX2_split_147 rfl rfl rfl ?_
        refine zr_get (C := RX2) (T := TX2) (N := 4) (q := 151) hX ciX2 0 rfl (by decide) in_X2 dX2_split_148 q203 (Or.inl rfl) (fun H h => cI.rd h (Or.inr logM_b) rfl (by decide) rfl) rfl ?_
        refine z_aload (q := 153) hX dX2_split_151 rfl rfl ?_
        refine z_S (na := 2) hX dX2_split_153 (c_X7_of D A (T := tx M) (R := lefL M t k) (Or.inr (logM_ll hd)) ((hls.le hle).le w1) (w1 _ _ (hle2 _ _ (upm_same _ _ _))) ((hg2.le hle).le w1) hlef (by omega) (by omega) (hrng _ hlm) (hform _ hlm hlef)) q1452 q1453 q127 q1454 (by decide +kernel) ⟨Nat.le_of_ble_eq_true rfl, Nat.le_of_ble_eq_true rfl⟩ rfl rfl (Nat.le_of_ble_eq_true rfl) rfl (by first | exact Nat.le_of_ble_eq_true rfl | (show _ + 1800 ≤ 3700; omega)) (by first | exact Nat.le_of_ble_eq_true rfl | (show _ + 8000 ≤ 19000; omega)) (fun H h => h) (fun E a => zT.no) (zPe.out (fun x153 hx153 => ?_))
        show zG X (_ + 1800) (_ + 8000) _ 156 _ _
        obtain ⟨v1, v2⟩ := hx153
        obtain ⟨gl3, sl3, rl3, v3⟩ : ∃ gl sl rl, x153.2 x153.1 = some (eO ciX7 [.ref gl, .ref sl, .ref rl]) := by
          obtain ⟨-, gl, sl, rl, mc4, mc2, mc3, gs, ss, rs, h1, -⟩ := id v2
          exact ⟨gl, sl, rl, h1⟩
        refine zc_aast (q := 157) hX 7 ciX7 rfl dX2_split_156 (logM_ta hd) (fun H h => h.obE (Or.inl v3) rfl) (by decide +kernel) ⟨by omega, by omega⟩ (by first | decide | omega) rfl ?_
        rw [logM_setT hd]
        refine z_iload (q := 159) hX dX2_split_157 rfl rfl ?_
        exact z_iret hX dX2_split_159 (by first | exact Nat.le_of_ble_eq_true rfl | (show (_ : Nat) ≤ 3700; omega)) (by first | exact Nat.le_of_ble_eq_true rfl | (show (_ : Nat) ≤ 19000; omega)) rfl (fun H h => ⟨(x153.2, va_up (va_up tf nx.toNat (some x138.1)) t.toNat (some x153.1)), rfl, ⟨(hle.tr w1).tr v1, splM_ts hok ht hnx hnx0 hk0 hl9 hd9' (hts.le ((hle.tr w1).tr v1)) (w2.le v1) v2⟩, by
        have h2 := (h.del x1).del a7
        rw [logM_dl j1 j2 j3, logM_dl i1 i2 i3, hmd] at h2
        exact h2⟩)
      · exact absurd h68 (by omega)
  refine z_aload_n (i := 0) (q := 1) hX dX2_split_0 rfl rfl rfl ?_
  refine zr_get (C := RX2) (T := TX2) (N := 4) (q := 4) hX ciX2 1 rfl (by decide) in_X2 dX2_split_1 q207 (Or.inl rfl) (fun H h => cI.rd h (Or.inr logM_b) rfl (by decide) rfl) rfl ?_
  refine z_iload_n (i := 1) (q := 5) hX dX2_split_4 rfl rfl rfl ?_
  refine zr_aald (q := 6) hX 7 rfl dX2_split_5 (fun H h => (h.at (Or.inr (logM_ta hd))).raQ) ⟨by omega, by omega⟩ (by first | decide | omega) rfl ?_
  refine zG.top (v2 := .ref x) (by show va_rf (tf (t).toNat) = _; rw [e1]; rfl) ?_
  refine z_astore_n (i := 3) (q := 7) hX dX2_split_6 rfl (Nat.le_of_ble_eq_true rfl) rfl rfl ?_
  refine zc_new (q := 10) (fs := [.null, zI 0]) (C := RX3) (T := TX3) (N := 2) hX ciX3 rfl in_X3 tyX3_ok dX2_split_7 q186 q187 q102 (fun j hj => by match j, hj with | 0, _ => rfl | 1, _ => rfl | (_ + 2), h => exact absurd h (by omega)) (by first | exact Nat.le_of_ble_eq_true rfl | (show _ + 1 ≤ 3700; omega)) (by first | exact Nat.le_of_ble_eq_true rfl | (show _ + 2 ≤ 19000; omega)) rfl (fun a7 ha7 hb7 => ?_)
  have n7 := hb7
  try simp only [upm_none] at n7
  repeat (have := And.left n7; replace n7 := And.right n7)
  refine z_dup (q := 11) hX dX2_split_10 rfl rfl ?_
  have i1 : a7 ≠ b := ne_mp hb7 logM_b
  have i2 : a7 ≠ ll := ne_mp hb7 (logM_ll hd)
  have i3 : a7 ≠ ta := ne_mp hb7 (logM_ta hd)
  refine z_aload_n (i := 0) (q := 12) hX dX2_split_11 rfl rfl rfl ?_
  refine zr_get (C := RX2) (T := TX2) (N := 4) (q := 15) hX ciX2 0 rfl (by decide) in_X2 dX2_split_12 q203 (Or.inl rfl) (fun H h => cI.rd h (Or.inr ((upm_ne _ _ i1.symm).trans logM_b)) rfl (by decide) rfl) rfl ?_
  refine z_aload_n (i := 3) (q := 16) hX dX2_split_15 rfl rfl rfl ?_
  refine z_aload_n (i := 3) (q := 17) hX dX2_split_16 rfl rfl rfl ?_
  refine z_iload_n (i := 2) (q := 18) hX dX2_split_17 rfl rfl rfl ?_
  refine z_V (ci := ciX7) (T := TX7) (N := 3) (na := 1) hX dX2_split_18 (c_X7_tokenOf D A e20 hc) rfl q1691 q1241 q1242 q127 q1243 (by decide +kernel) ⟨Nat.le_of_ble_eq_true rfl, Nat.le_of_ble_eq_true rfl⟩ rfl rfl (Nat.le_of_ble_eq_true rfl) rfl (by first | exact Nat.le_of_ble_eq_true rfl | (show _ + 0 ≤ 3700; omega)) (by first | exact Nat.le_of_ble_eq_true rfl | (show _ + 0 ≤ 19000; omega)) (fun H h => ⟨h, h.obE (Or.inl y1) rfl⟩) (fun E a => zT.no) (zPd.out ?_)
  show zG X (_ + 0) (_ + 0) _ 21 _ _
  rw [hk]
  refine z_C (na := 3) hX dX2_split_21 (c_X3_init_2 D A (v0 := 0) (upm_same _ _ _) (Or.inr ((upm_ne _ _ i2.symm).trans (logM_ll hd))) hls (by omega) e20 (e20.rows hok hk0.2) hk0.1) q1692 q1573 q102 q1574 rfl (by decide +kernel) ⟨Nat.le_of_ble_eq_true rfl, Nat.le_of_ble_eq_true rfl⟩ rfl rfl (Nat.le_of_ble_eq_true rfl) rfl (by first | exact Nat.le_of_ble_eq_true rfl | (show _ + 1 ≤ 3700; omega)) (by first | exact Nat.le_of_ble_eq_true rfl | (show _ + 40 ≤ 19000; omega)) (fun H h => h) (fun E a => zT.no) (zPe.out (fun x21 hx21 => ?_))
  show zG X (_ + 1) (_ + 40) _ 24 _ _
  obtain ⟨⟨g1, g2, g3⟩, g4⟩ := hx21
  have n3 : upm (logM D mR b ll ta col (M 1) mc ls tf) a7 (eO ciX3 [.null, zI 0]) x21.1 = none := g1
  rw [upm_ne _ _ g3] at n3
  have j1 : x21.1 ≠ b := ne_mp n3 logM_b
  have j2 : x21.1 ≠ ll := ne_mp n3 (logM_ll hd)
  have j3 : x21.1 ≠ ta := ne_mp n3 (logM_ta hd)
  rw [logM_ot i1 i2 i3] at hb7
  rw [logM_ot j1 j2 j3] at n3
  rw [upm_upm, logM_up i1 i2 i3, logM_up j1 j2 j3]
  obtain ⟨m9, hm9⟩ : ∃ m9 : zMp, m9 = upm (upm mR a7 (eO ciX3 [.ref x21.1, zI (rws M t).length])) x21.1 (eC (aQ D 6 40 x21.2)) := ⟨_, rfl⟩
  have q7 : m9 a7 = some (eO ciX3 [.ref x21.1, zI (rws M t).length]) := by rw [hm9]; exact (upm_ne _ _ g3.symm).trans (upm_same _ _ _)
  have q8 : m9 x21.1 = some (eC (aQ D 6 40 x21.2)) := by rw [hm9]; exact upm_same _ _ _
  have hmd : dlm (dlm m9 x21.1) a7 = mR := by rw [hm9]; exact dl2 hb7 n3
  rw [← hm9]
  have hcol : wCol D w (logM D m9 b ll ta col (M 1) mc ls tf) a7 x21.1 (rws M t).length x21.2 (cR (tx M) (rws M t) k) := ⟨(logM_ot i1 i2 i3).trans q7, (logM_ot j1 j2 j3).trans q8, k3, g4⟩
  have hb0 : wLog D w (logM D m9 b ll ta col (M 1) mc ls tf) b M ll ta col := ⟨hok, Or.inr logM_b, ⟨mc, ls, Or.inr (logM_ll hd), hls⟩, tf, Or.inr (logM_ta hd), hts⟩
  refine z_astore (q := 26) hX dX2_split_24 (Nat.le_of_ble_eq_true rfl) rfl rfl ?_
  refine z_aload (q := 28) hX dX2_split_26 rfl rfl ?_
  refine z_iload_n (i := 2) (q := 29) hX dX2_split_28 rfl rfl rfl ?_
  refine z_S (na := 2) hX dX2_split_29 (c_X2_checkDifferent_ok D A hcol hdf (by omega)) q1693 q1694 q98 q1695 (by decide +kernel) ⟨Nat.le_of_ble_eq_true rfl, Nat.le_of_ble_eq_true rfl⟩ rfl rfl (Nat.le_of_ble_eq_true rfl) rfl (by first | exact Nat.le_of_ble_eq_true rfl | (show _ + 0 ≤ 3700; omega)) (by first | exact Nat.le_of_ble_eq_true rfl | (show _ + 0 ≤ 19000; omega)) (fun H h => h) (fun E a => zT.no) (zPv.out ?_)
  show zG X (_ + 0) (_ + 0) _ 32 _ _
  refine z_aload_n (i := 0) (q := 33) hX dX2_split_32 rfl rfl rfl ?_
  refine z_V (ci := ciX2) (T := TX2) (N := 4) (na := 0) hX dX2_split_33 (c_X2_free_ok D A hb0 hv ⟨nx.toNat, by omega, by rw [show ((nx.toNat : Nat) : Int) = nx by omega]; exact hnx⟩) rfl q1448 q1450 qs30 q98 q1451 (by decide +kernel) ⟨Nat.le_of_ble_eq_true rfl, Nat.le_of_ble_eq_true rfl⟩ rfl rfl (Nat.le_of_ble_eq_true rfl) rfl (by first | exact Nat.le_of_ble_eq_true rfl | (show _ + 0 ≤ 3700; omega)) (by first | exact Nat.le_of_ble_eq_true rfl | (show _ + 0 ≤ 19000; omega)) (fun H h => ⟨h, h.obE (Or.inr logM_b) rfl⟩) (fun E a => zT.no) (zPd.out ?_)
  show zG X (_ + 0) (_ + 0) _ 36 _ _
  refine z_istore (q := 38) hX dX2_split_36 (Nat.le_of_ble_eq_true rfl) rfl rfl ?_
  refine zc_new (q := 41) (fs := [zI 0, .null, zI 0]) (C := RJ2) (T := TJ2) (N := 3) hX ciJ2 rfl in_J2 tyJ2_ok dX2_split_38 q155 q156 q101 (fun j hj => by match j, hj with | 0, _ => rfl | 1, _ => rfl | 2, _ => rfl | (_ + 3), h => exact absurd h (by omega)) (by first | exact Nat.le_of_ble_eq_true rfl | (show _ + 1 ≤ 3700; omega)) (by first | exact Nat.le_of_ble_eq_true rfl | (show _ + 3 ≤ 19000; omega)) rfl (fun a38 ha38 hb38 => ?_)
  have n38 := hb38
  try simp only [upm_none] at n38
  repeat (have := And.left n38; replace n38 := And.right n38)
  refine z_dup (q := 42) hX dX2_split_41 rfl rfl ?_
  refine z_C (na := 0) hX dX2_split_42 (c_J2_init D A (by first | assumption | exact upm_same _ _ _ | exact (upm_ne _ _ (by first | assumption | exact Ne.symm (by assumption) | omega | exact ne_mp (m := m) (by assumption) (by assumption) | exact Ne.symm (ne_mp (m := m) (by assumption) (by assumption)) | exact ne_mp (m := w) (by assumption) (by assumption) | exact Ne.symm (ne_mp (m := w) (by assumption) (by assumption)))).trans (by first | assumption | exact upm_same _ _ _ | exact (upm_ne _ _ (by first | assumption | exact Ne.symm (by assumption) | omega | exact ne_mp (m := m) (by assumption) (by assumption) | exact Ne.symm (ne_mp (m := m) (by assumption) (by assumption)) | exact ne_mp (m := w) (by assumption) (by assumption) | exact Ne.symm (ne_mp (m := w) (by assumption) (by assumption)))).trans (by first | assumption | exact upm_same _ _ _ | exact (upm_ne _ _ (by first | assumption | exact Ne.symm (by assumption) | omega | exact ne_mp (m := m) (by assumption) (by assumption) | exact Ne.symm (ne_mp (m := m) (by assumption) (by assumption)) | exact ne_mp (m := w) (by assumption) (by assumption) | exact Ne.symm (ne_mp (m := w) (by assumption) (by assumption)))).trans (by first | assumption | exact upm_same _ _ _))))) q157 q158 q101 q159 rfl (by decide +kernel) ⟨Nat.le_of_ble_eq_true rfl, Nat.le_of_ble_eq_true rfl⟩ rfl rfl (Nat.le_of_ble_eq_true rfl) rfl (by first | exact Nat.le_of_ble_eq_true rfl | (show _ + 0 ≤ 3700; omega)) (by first | exact Nat.le_of_ble_eq_true rfl | (show _ + 0 ≤ 19000; omega)) (fun H h => h) (fun E a => zT.no) (zPv.out ?_)
  show zG X (_ + 0) (_ + 0) _ 45 _ _
  rw [upm_upm]
  refine z_astore (q := 47) hX dX2_split_45 (Nat.le_of_ble_eq_true rfl) rfl rfl ?_
  refine zc_new (q := 50) (fs := [zI 0, .null, zI 0]) (C := RJ2) (T := TJ2) (N := 3) hX ciJ2 rfl in_J2 tyJ2_ok dX2_split_47 q155 q156 q101 (fun j hj => by match j, hj with | 0, _ => rfl | 1, _ => rfl | 2, _ => rfl | (_ + 3), h => exact absurd h (by omega)) (by first | exact Nat.le_of_ble_eq_true rfl | (show _ + 1 ≤ 3700; omega)) (by first | exact Nat.le_of_ble_eq_true rfl | (show _ + 3 ≤ 19000; omega)) rfl (fun a47 ha47 hb47 => ?_)
  have n47 := hb47
  try simp only [upm_none] at n47
  repeat (have := And.left n47; replace n47 := And.right n47)
  refine z_dup (q := 51) hX dX2_split_50 rfl rfl ?_
  refine z_C (na := 0) hX dX2_split_51 (c_J2_init D A (by first | assumption | exact upm_same _ _ _ | exact (upm_ne _ _ (by first | assumption | exact Ne.symm (by assumption) | omega | exact ne_mp (m := m) (by assumption) (by assumption) | exact Ne.symm (ne_mp (m := m) (by assumption) (by assumption)) | exact ne_mp (m := w) (by assumption) (by assumption) | exact Ne.symm (ne_mp (m := w) (by assumption) (by assumption)))).trans (by first | assumption | exact upm_same _ _ _ | exact (upm_ne _ _ (by first | assumption | exact Ne.symm (by assumption) | omega | exact ne_mp (m := m) (by assumption) (by assumption) | exact Ne.symm (ne_mp (m := m) (by assumption) (by assumption)) | exact ne_mp (m := w) (by assumption) (by assumption) | exact Ne.symm (ne_mp (m := w) (by assumption) (by assumption)))).trans (by first | assumption | exact upm_same _ _ _ | exact (upm_ne _ _ (by first | assumption | exact Ne.symm (by assumption) | omega | exact ne_mp (m := m) (by assumption) (by assumption) | exact Ne.symm (ne_mp (m := m) (by assumption) (by assumption)) | exact ne_mp (m := w) (by assumption) (by assumption) | exact Ne.symm (ne_mp (m := w) (by assumption) (by assumption)))).trans (by first | assumption | exact upm_same _ _ _))))) q157 q158 q101 q159 rfl (by decide +kernel) ⟨Nat.le_of_ble_eq_true rfl, Nat.le_of_ble_eq_true rfl⟩ rfl rfl (Nat.le_of_ble_eq_true rfl) rfl (by first | exact Nat.le_of_ble_eq_true rfl | (show _ + 0 ≤ 3700; omega)) (by first | exact Nat.le_of_ble_eq_true rfl | (show _ + 0 ≤ 19000; omega)) (fun H h => h) (fun E a => zT.no) (zPv.out ?_)
  show zG X (_ + 0) (_ + 0) _ 54 _ _
  rw [upm_upm]
  have r1 : a38 ≠ b := ne_mp hb38 logM_b
  have r2 : a38 ≠ ll := ne_mp hb38 (logM_ll hd)
  have r3 : a38 ≠ ta := ne_mp hb38 (logM_ta hd)
  have s0 : a47 ≠ a38 := by omega
  have n47b : logM D m9 b ll ta col (M 1) mc ls tf a47 = none := (upm_none.mp hb47).2
  have s1 : a47 ≠ b := ne_mp n47b logM_b
  have s2 : a47 ≠ ll := ne_mp n47b (logM_ll hd)
  have s3 : a47 ≠ ta := ne_mp n47b (logM_ta hd)
  rw [logM_ot r1 r2 r3] at hb38
  rw [logM_ot s1 s2 s3] at n47b
  refine z_astore (q := 56) hX dX2_split_54 (Nat.le_of_ble_eq_true rfl) rfl rfl ?_
  refine z_iconst (q := 57) hX dX2_split_56 rfl ?_
  refine z_istore (q := 59) hX dX2_split_57 (Nat.le_of_ble_eq_true rfl) rfl rfl ?_
  exact K59 a7 x21.1 a38 a47 m9 x21.2 ⟨i1, i2, i3⟩ ⟨j1, j2, j3⟩ q7 q8 hmd g4 ⟨r1, r2, r3⟩ ⟨s1, s2, s3⟩ s0 hb38 n47b ha38 ha47 0 (Nat.zero_le _) _ _ 0 0 [] [] _ 0 (by omega) (by omega) rfl (by rw [List.take_zero]; exact zInts.nil w) (by rw [List.take_zero]; exact zInts.nil w)
