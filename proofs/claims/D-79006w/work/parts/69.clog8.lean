/-! THE CLASS: Log.merge -/
set_option maxRecDepth 100000
/-- a refusal with its cause, thrown -/
def xRc (D : zD) (A : Nat → Prop) (w : zMp) (m : zMp) (c d c2 d2 : Int) : String → Nat → Heap → Prop := zXs "LogCompactor$RefusedException" (fun e H => ∃ e2 : Nat, (e2 ≠ e ∧ m e = none ∧ m e2 = none) ∧ cI D A w (upm (upm m e2 (eR none c2 d2)) e (eR (some e2) c d)) H)
/-- template lo of two that are made one -/
theorem va_upT {tf : Nat → Option Nat} {a t : Nat} {x : Option Nat} : va_up tf a x t = if t = a then x else tf t := rfl
abbrev rmX2_merge_ok : Room := { frames := 9, cells := 150, slots := 6600, locals := 220 }
set_option maxHeartbeats 4000000 in
theorem c_X2_merge_ok (D : zD) (A : Nat → Prop) {w m : zMp} {b : Nat} {M : Int → Int} {mR : zMp} {ll ta col : Nat} {mc : Int} {ls : List Nat} {tf : Nat → Option Nat} {x y : Int} (hm : m = logM D mR b ll ta col (M 1) mc ls tf) (hd : lgD b ll ta) (hok : zOk M) (hls : wLines w ls (M 0).toNat (tx M)) (hts : wTs w tf M) (hx : isT M x = true) (hy : isT M y = true) (hne : x ≠ y) (hf : isFm M (fst M (min x y)) (fst M (max x y)) = true) : zC D yX2_merge cX2_merge 6 (some .int) (some [(13, 45, 46, 61)]) rmX2_merge_ok A [.ref b, zI (x), zI (y)] (cI D A w m) (zPe (fun (z : Nat × zMp × List Int) => some (zI (min x y))) (fun z => zLe w z.2.1 ∧ wTpl z.2.1 z.1 (gapsL (tx M (fst M (min x y)))) (nTl M (fst M (min x y))).toNat (fun k => unionS (slt M (min x y) k) (tkl M (fst M (min x y)) k) (slt M (max x y) k) (tkl M (fst M (max x y)) k)) (fun k => tkl M (fst M (min x y)) k) z.2.2 ∧ asc z.2.2 ∧ (∀ q, q ∈ z.2.2 ↔ q ∈ rws M (min x y) ∨ q ∈ rws M (max x y))) (fun z => cI D A z.2.1 (logM D mR b ll ta col (M 1) mc ls (va_up (va_up tf (min x y).toNat (some z.1)) (max x y).toNat none)))) (zNo) := by
  refine zC_startH (L := [some (.ref b), some (zI (x)), some (zI (y)), none, none, none]) (by decide) (Nat.le_of_ble_eq_true rfl) rfl (fun X hX => ?_)
  subst hm
  obtain ⟨lo, hlo⟩ : ∃ lo : Int, lo = min x y := ⟨_, rfl⟩
  obtain ⟨hi, hhi⟩ : ∃ hi : Int, hi = max x y := ⟨_, rfl⟩
  have hlT : isT M lo = true := by rw [hlo]; rcases (show min x y = x ∨ min x y = y by omega) with q | q <;> rw [q] <;> assumption
  have hhT : isT M hi = true := by rw [hhi]; rcases (show max x y = x ∨ max x y = y by omega) with q | q <;> rw [q] <;> assumption
  rw [← hlo, ← hhi] at hf hX
  have hlh : lo ≠ hi := by omega
  obtain ⟨xl, e1, e2, e3, e4⟩ := hts.get hlT
  obtain ⟨xh, g1, g2, g3, g4⟩ := hts.get hhT
  have hxr := (hts.get hx).choose_spec.2.2
  have hyr := (hts.get hy).choose_spec.2.2
  refine z_iload_n (i := 1) (q := 1) hX dX2_merge_0 rfl rfl rfl ?_
  refine z_iload_n (i := 2) (q := 2) hX dX2_merge_1 rfl rfl rfl ?_
  refine z_mmin (q := 5) hX dX2_merge_2 ⟨by omega, by omega⟩ ⟨by omega, by omega⟩ q493 q445 q112 q446 (Nat.le_of_ble_eq_true rfl) rfl ⟨Nat.le_of_ble_eq_true rfl, Nat.le_of_ble_eq_true rfl⟩ (by first | exact Nat.le_of_ble_eq_true rfl | (show (_ : Nat) ≤ 150; omega)) (by first | exact Nat.le_of_ble_eq_true rfl | (show (_ : Nat) ≤ 6600; omega)) rfl ?_
  rw [← hlo]
  refine z_istore_n (i := 3) (q := 6) hX dX2_merge_5 rfl (Nat.le_of_ble_eq_true rfl) rfl rfl ?_
  refine z_iload_n (i := 1) (q := 7) hX dX2_merge_6 rfl rfl rfl ?_
  refine z_iload_n (i := 2) (q := 8) hX dX2_merge_7 rfl rfl rfl ?_
  refine z_mmax (q := 11) hX dX2_merge_8 ⟨by omega, by omega⟩ ⟨by omega, by omega⟩ q494 q398 q112 q399 (Nat.le_of_ble_eq_true rfl) rfl ⟨Nat.le_of_ble_eq_true rfl, Nat.le_of_ble_eq_true rfl⟩ (by first | exact Nat.le_of_ble_eq_true rfl | (show (_ : Nat) ≤ 150; omega)) (by first | exact Nat.le_of_ble_eq_true rfl | (show (_ : Nat) ≤ 6600; omega)) rfl ?_
  rw [← hhi]
  refine z_istore (q := 13) hX dX2_merge_11 (Nat.le_of_ble_eq_true rfl) rfl rfl ?_
  refine z_aload_n (i := 0) (q := 14) hX dX2_merge_13 rfl rfl rfl ?_
  refine zr_get (C := RX2) (T := TX2) (N := 4) (q := 17) hX ciX2 1 rfl (by decide) in_X2 dX2_merge_14 q207 (Or.inl rfl) (fun H h => cI.rd h (Or.inr logM_b) rfl (by decide) rfl) rfl ?_
  refine z_iload_n (i := 3) (q := 18) hX dX2_merge_17 rfl rfl rfl ?_
  refine z_aload_n (i := 0) (q := 19) hX dX2_merge_18 rfl rfl rfl ?_
  refine zr_get (C := RX2) (T := TX2) (N := 4) (q := 22) hX ciX2 1 rfl (by decide) in_X2 dX2_merge_19 q207 (Or.inl rfl) (fun H h => cI.rd h (Or.inr logM_b) rfl (by decide) rfl) rfl ?_
  refine z_iload_n (i := 3) (q := 23) hX dX2_merge_22 rfl rfl rfl ?_
  refine zr_aald (q := 24) hX 7 rfl dX2_merge_23 (fun H h => (h.at (Or.inr (logM_ta hd))).raQ) ⟨by omega, by omega⟩ (by first | decide | omega) rfl ?_
  refine zG.top (v2 := .ref xl) (by show va_rf (tf (lo).toNat) = _; rw [e1]; rfl) ?_
  refine z_aload_n (i := 0) (q := 25) hX dX2_merge_24 rfl rfl rfl ?_
  refine zr_get (C := RX2) (T := TX2) (N := 4) (q := 28) hX ciX2 1 rfl (by decide) in_X2 dX2_merge_25 q207 (Or.inl rfl) (fun H h => cI.rd h (Or.inr logM_b) rfl (by decide) rfl) rfl ?_
  refine z_iload (q := 30) hX dX2_merge_28 rfl rfl ?_
  refine zr_aald (q := 31) hX 7 rfl dX2_merge_30 (fun H h => (h.at (Or.inr (logM_ta hd))).raQ) ⟨by omega, by omega⟩ (by first | decide | omega) rfl ?_
  refine zG.top (v2 := .ref xh) (by show va_rf (tf (hi).toNat) = _; rw [g1]; rfl) ?_
  refine z_iload_n (i := 3) (q := 32) hX dX2_merge_31 rfl rfl rfl ?_
  refine z_S (na := 3) hX dX2_merge_32 (c_X2_joined_ok D A e2 g2 hok hlh hf) q671 q672 q98 q673 (by decide +kernel) ⟨Nat.le_of_ble_eq_true rfl, Nat.le_of_ble_eq_true rfl⟩ rfl rfl (Nat.le_of_ble_eq_true rfl) rfl (by first | exact Nat.le_of_ble_eq_true rfl | (show _ + 150 ≤ 150; omega)) (by first | exact Nat.le_of_ble_eq_true rfl | (show _ + 6600 ≤ 6600; omega)) (fun H h => h) (fun E a => zT.no) (zPe.out (fun x32 hx32 => ?_))
  show zG X (_ + 150) (_ + 6600) _ 35 _ _
  obtain ⟨j1, j2, j3, j4⟩ := hx32
  obtain ⟨gl, sl, rl, j5⟩ : ∃ gl sl rl, x32.2.1 x32.1 = some (eO ciX7 [.ref gl, .ref sl, .ref rl]) := by
    obtain ⟨-, gl, sl, rl, mc4, mc2, mc3, gs, ss, rs, h1, -⟩ := j2
    exact ⟨gl, sl, rl, h1⟩
  refine zc_aast (q := 36) hX 7 ciX7 rfl dX2_merge_35 (logM_ta hd) (fun H h => h.obE (Or.inl j5) rfl) (by decide +kernel) ⟨by omega, by omega⟩ (by first | decide | omega) rfl ?_
  rw [logM_setT hd]
  refine z_aload_n (i := 0) (q := 37) hX dX2_merge_36 rfl rfl rfl ?_
  refine zr_get (C := RX2) (T := TX2) (N := 4) (q := 40) hX ciX2 1 rfl (by decide) in_X2 dX2_merge_37 q207 (Or.inl rfl) (fun H h => cI.rd h (Or.inr logM_b) rfl (by decide) rfl) rfl ?_
  refine z_iload (q := 42) hX dX2_merge_40 rfl rfl ?_
  refine z_null (q := 43) hX dX2_merge_42 rfl ?_
  refine zc_aastN (q := 44) hX 7 rfl dX2_merge_43 (logM_ta hd) ⟨by omega, by omega⟩ (by first | decide | omega) rfl ?_
  rw [logM_setT hd]
  refine z_iload_n (i := 3) (q := 45) hX dX2_merge_44 rfl rfl rfl ?_
  exact z_iret hX dX2_merge_45 (by first | exact Nat.le_of_ble_eq_true rfl | (show (_ : Nat) ≤ 150; omega)) (by first | exact Nat.le_of_ble_eq_true rfl | (show (_ : Nat) ≤ 6600; omega)) rfl (fun H h => ⟨x32, rfl, ⟨j1, j2, j3, j4⟩, h⟩)
abbrev rmX2_merge_no : Room := { frames := 5, cells := 2, slots := 16, locals := 112 }
set_option maxHeartbeats 4000000 in
theorem c_X2_merge_no (D : zD) (A : Nat → Prop) {w m : zMp} {b : Nat} {M : Int → Int} {ll ta col : Nat} {x y : Int} (hb : wLog D w m b M ll ta col) (hx : isT M x = true) (hy : isT M y = true) (hf : isFm M (fst M (min x y)) (fst M (max x y)) = false) : zC D yX2_merge cX2_merge 6 (some .int) (some [(13, 45, 46, 61)]) rmX2_merge_no A [.ref b, zI (x), zI (y)] (cI D A w m) (zPe (fun (z : Nat) => none) (fun _ => False) (fun _ => cI D A w m)) (xRc D A w m 2 (max x y) 12 (min x y)) := by
  refine zC_startH (L := [some (.ref b), some (zI (x)), some (zI (y)), none, none, none]) (by decide) (Nat.le_of_ble_eq_true rfl) rfl (fun X hX => ?_)
  obtain ⟨hok, h1, ⟨mc, ls, h2, h3⟩, tf, h4, hts⟩ := hb
  obtain ⟨lo, hlo⟩ : ∃ lo : Int, lo = min x y := ⟨_, rfl⟩
  obtain ⟨hi, hhi⟩ : ∃ hi : Int, hi = max x y := ⟨_, rfl⟩
  have hlT : isT M lo = true := by rw [hlo]; rcases (show min x y = x ∨ min x y = y by omega) with q | q <;> rw [q] <;> assumption
  have hhT : isT M hi = true := by rw [hhi]; rcases (show max x y = x ∨ max x y = y by omega) with q | q <;> rw [q] <;> assumption
  rw [← hlo, ← hhi] at hf hX
  obtain ⟨xl, e1, e2, e3, e4⟩ := hts.get hlT
  obtain ⟨xh, g1, g2, g3, g4⟩ := hts.get hhT
  have hxr := (hts.get hx).choose_spec.2.2
  have hyr := (hts.get hy).choose_spec.2.2
  refine z_iload_n (i := 1) (q := 1) hX dX2_merge_0 rfl rfl rfl ?_
  refine z_iload_n (i := 2) (q := 2) hX dX2_merge_1 rfl rfl rfl ?_
  refine z_mmin (q := 5) hX dX2_merge_2 ⟨by omega, by omega⟩ ⟨by omega, by omega⟩ q493 q445 q112 q446 (Nat.le_of_ble_eq_true rfl) rfl ⟨Nat.le_of_ble_eq_true rfl, Nat.le_of_ble_eq_true rfl⟩ (by first | exact Nat.le_of_ble_eq_true rfl | (show (_ : Nat) ≤ 2; omega)) (by first | exact Nat.le_of_ble_eq_true rfl | (show (_ : Nat) ≤ 16; omega)) rfl ?_
  rw [← hlo]
  refine z_istore_n (i := 3) (q := 6) hX dX2_merge_5 rfl (Nat.le_of_ble_eq_true rfl) rfl rfl ?_
  refine z_iload_n (i := 1) (q := 7) hX dX2_merge_6 rfl rfl rfl ?_
  refine z_iload_n (i := 2) (q := 8) hX dX2_merge_7 rfl rfl rfl ?_
  refine z_mmax (q := 11) hX dX2_merge_8 ⟨by omega, by omega⟩ ⟨by omega, by omega⟩ q494 q398 q112 q399 (Nat.le_of_ble_eq_true rfl) rfl ⟨Nat.le_of_ble_eq_true rfl, Nat.le_of_ble_eq_true rfl⟩ (by first | exact Nat.le_of_ble_eq_true rfl | (show (_ : Nat) ≤ 2; omega)) (by first | exact Nat.le_of_ble_eq_true rfl | (show (_ : Nat) ≤ 16; omega)) rfl ?_
  rw [← hhi]
  refine z_istore (q := 13) hX dX2_merge_11 (Nat.le_of_ble_eq_true rfl) rfl rfl ?_
  refine z_aload_n (i := 0) (q := 14) hX dX2_merge_13 rfl rfl rfl ?_
  refine zr_get (C := RX2) (T := TX2) (N := 4) (q := 17) hX ciX2 1 rfl (by decide) in_X2 dX2_merge_14 q207 (Or.inl rfl) (fun H h => cI.rd h (by first | assumption | exact Or.inl (by assumption) | exact Or.inr (by first | assumption | exact upm_same _ _ _ | exact (upm_ne _ _ (by first | assumption | exact Ne.symm (by assumption) | omega | exact ne_mp (m := m) (by assumption) (by assumption) | exact Ne.symm (ne_mp (m := m) (by assumption) (by assumption)) | exact ne_mp (m := w) (by assumption) (by assumption) | exact Ne.symm (ne_mp (m := w) (by assumption) (by assumption)))).trans (by first | assumption | exact upm_same _ _ _ | exact (upm_ne _ _ (by first | assumption | exact Ne.symm (by assumption) | omega | exact ne_mp (m := m) (by assumption) (by assumption) | exact Ne.symm (ne_mp (m := m) (by assumption) (by assumption)) | exact ne_mp (m := w) (by assumption) (by assumption) | exact Ne.symm (ne_mp (m := w) (by assumption) (by assumption)))).trans (by first | assumption | exact upm_same _ _ _ | exact (upm_ne _ _ (by first | assumption | exact Ne.symm (by assumption) | omega | exact ne_mp (m := m) (by assumption) (by assumption) | exact Ne.symm (ne_mp (m := m) (by assumption) (by assumption)) | exact ne_mp (m := w) (by assumption) (by assumption) | exact Ne.symm (ne_mp (m := w) (by assumption) (by assumption)))).trans (by first | assumption | exact upm_same _ _ _))))) rfl (by decide) rfl) rfl ?_
  refine z_iload_n (i := 3) (q := 18) hX dX2_merge_17 rfl rfl rfl ?_
  refine z_aload_n (i := 0) (q := 19) hX dX2_merge_18 rfl rfl rfl ?_
  refine zr_get (C := RX2) (T := TX2) (N := 4) (q := 22) hX ciX2 1 rfl (by decide) in_X2 dX2_merge_19 q207 (Or.inl rfl) (fun H h => cI.rd h (by first | assumption | exact Or.inl (by assumption) | exact Or.inr (by first | assumption | exact upm_same _ _ _ | exact (upm_ne _ _ (by first | assumption | exact Ne.symm (by assumption) | omega | exact ne_mp (m := m) (by assumption) (by assumption) | exact Ne.symm (ne_mp (m := m) (by assumption) (by assumption)) | exact ne_mp (m := w) (by assumption) (by assumption) | exact Ne.symm (ne_mp (m := w) (by assumption) (by assumption)))).trans (by first | assumption | exact upm_same _ _ _ | exact (upm_ne _ _ (by first | assumption | exact Ne.symm (by assumption) | omega | exact ne_mp (m := m) (by assumption) (by assumption) | exact Ne.symm (ne_mp (m := m) (by assumption) (by assumption)) | exact ne_mp (m := w) (by assumption) (by assumption) | exact Ne.symm (ne_mp (m := w) (by assumption) (by assumption)))).trans (by first | assumption | exact upm_same _ _ _ | exact (upm_ne _ _ (by first | assumption | exact Ne.symm (by assumption) | omega | exact ne_mp (m := m) (by assumption) (by assumption) | exact Ne.symm (ne_mp (m := m) (by assumption) (by assumption)) | exact ne_mp (m := w) (by assumption) (by assumption) | exact Ne.symm (ne_mp (m := w) (by assumption) (by assumption)))).trans (by first | assumption | exact upm_same _ _ _))))) rfl (by decide) rfl) rfl ?_
  refine z_iload_n (i := 3) (q := 23) hX dX2_merge_22 rfl rfl rfl ?_
  refine zr_aald (q := 24) hX 7 rfl dX2_merge_23 (fun H h => (cI.at h (by first | assumption | exact Or.inl (by assumption) | exact Or.inr (by first | assumption | exact upm_same _ _ _ | exact (upm_ne _ _ (by first | assumption | exact Ne.symm (by assumption) | omega | exact ne_mp (m := m) (by assumption) (by assumption) | exact Ne.symm (ne_mp (m := m) (by assumption) (by assumption)) | exact ne_mp (m := w) (by assumption) (by assumption) | exact Ne.symm (ne_mp (m := w) (by assumption) (by assumption)))).trans (by first | assumption | exact upm_same _ _ _ | exact (upm_ne _ _ (by first | assumption | exact Ne.symm (by assumption) | omega | exact ne_mp (m := m) (by assumption) (by assumption) | exact Ne.symm (ne_mp (m := m) (by assumption) (by assumption)) | exact ne_mp (m := w) (by assumption) (by assumption) | exact Ne.symm (ne_mp (m := w) (by assumption) (by assumption)))).trans (by first | assumption | exact upm_same _ _ _ | exact (upm_ne _ _ (by first | assumption | exact Ne.symm (by assumption) | omega | exact ne_mp (m := m) (by assumption) (by assumption) | exact Ne.symm (ne_mp (m := m) (by assumption) (by assumption)) | exact ne_mp (m := w) (by assumption) (by assumption) | exact Ne.symm (ne_mp (m := w) (by assumption) (by assumption)))).trans (by first | assumption | exact upm_same _ _ _)))))).raQ) ⟨by omega, by omega⟩ (by first | decide | omega) rfl ?_
  refine zG.top (v2 := .ref xl) (by show va_rf (tf (lo).toNat) = _; rw [e1]; rfl) ?_
  refine z_aload_n (i := 0) (q := 25) hX dX2_merge_24 rfl rfl rfl ?_
  refine zr_get (C := RX2) (T := TX2) (N := 4) (q := 28) hX ciX2 1 rfl (by decide) in_X2 dX2_merge_25 q207 (Or.inl rfl) (fun H h => cI.rd h (by first | assumption | exact Or.inl (by assumption) | exact Or.inr (by first | assumption | exact upm_same _ _ _ | exact (upm_ne _ _ (by first | assumption | exact Ne.symm (by assumption) | omega | exact ne_mp (m := m) (by assumption) (by assumption) | exact Ne.symm (ne_mp (m := m) (by assumption) (by assumption)) | exact ne_mp (m := w) (by assumption) (by assumption) | exact Ne.symm (ne_mp (m := w) (by assumption) (by assumption)))).trans (by first | assumption | exact upm_same _ _ _ | exact (upm_ne _ _ (by first | assumption | exact Ne.symm (by assumption) | omega | exact ne_mp (m := m) (by assumption) (by assumption) | exact Ne.symm (ne_mp (m := m) (by assumption) (by assumption)) | exact ne_mp (m := w) (by assumption) (by assumption) | exact Ne.symm (ne_mp (m := w) (by assumption) (by assumption)))).trans (by first | assumption | exact upm_same _ _ _ | exact (upm_ne _ _ (by first | assumption | exact Ne.symm (by assumption) | omega | exact ne_mp (m := m) (by assumption) (by assumption) | exact Ne.symm (ne_mp (m := m) (by assumption) (by assumption)) | exact ne_mp (m := w) (by assumption) (by assumption) | exact Ne.symm (ne_mp (m := w) (by assumption) (by assumption)))).trans (by first | assumption | exact upm_same _ _ _))))) rfl (by decide) rfl) rfl ?_
  refine z_iload (q := 30) hX dX2_merge_28 rfl rfl ?_
  refine zr_aald (q := 31) hX 7 rfl dX2_merge_30 (fun H h => (cI.at h (by first | assumption | exact Or.inl (by assumption) | exact Or.inr (by first | assumption | exact upm_same _ _ _ | exact (upm_ne _ _ (by first | assumption | exact Ne.symm (by assumption) | omega | exact ne_mp (m := m) (by assumption) (by assumption) | exact Ne.symm (ne_mp (m := m) (by assumption) (by assumption)) | exact ne_mp (m := w) (by assumption) (by assumption) | exact Ne.symm (ne_mp (m := w) (by assumption) (by assumption)))).trans (by first | assumption | exact upm_same _ _ _ | exact (upm_ne _ _ (by first | assumption | exact Ne.symm (by assumption) | omega | exact ne_mp (m := m) (by assumption) (by assumption) | exact Ne.symm (ne_mp (m := m) (by assumption) (by assumption)) | exact ne_mp (m := w) (by assumption) (by assumption) | exact Ne.symm (ne_mp (m := w) (by assumption) (by assumption)))).trans (by first | assumption | exact upm_same _ _ _ | exact (upm_ne _ _ (by first | assumption | exact Ne.symm (by assumption) | omega | exact ne_mp (m := m) (by assumption) (by assumption) | exact Ne.symm (ne_mp (m := m) (by assumption) (by assumption)) | exact ne_mp (m := w) (by assumption) (by assumption) | exact Ne.symm (ne_mp (m := w) (by assumption) (by assumption)))).trans (by first | assumption | exact upm_same _ _ _)))))).raQ) ⟨by omega, by omega⟩ (by first | decide | omega) rfl ?_
  refine zG.top (v2 := .ref xh) (by show va_rf (tf (hi).toNat) = _; rw [g1]; rfl) ?_
  refine z_iload_n (i := 3) (q := 32) hX dX2_merge_31 rfl rfl rfl ?_
  refine z_S (na := 3) hX dX2_merge_32 (c_X2_joined_no D A e2 g2 hf) q671 q672 q98 q673 (by decide +kernel) ⟨Nat.le_of_ble_eq_true rfl, Nat.le_of_ble_eq_true rfl⟩ rfl rfl (Nat.le_of_ble_eq_true rfl) rfl (by first | exact Nat.le_of_ble_eq_true rfl | (show _ + 1 ≤ 2; omega)) (by first | exact Nat.le_of_ble_eq_true rfl | (show _ + 8 ≤ 16; omega)) (fun H h => h) (zXs.out (fun e32 => ?_)) (zPe.out (fun x32 hx32 => ?_))
  · refine zT.ax (fun hx32 => ?_)
    refine zT.catch hX [] _ [] rfl (fun z hz => by cases hz) (by decide) (by decide) q461 (zCs_at 9 rfl) rfl ?_
    refine z_astore (q := 48) hX dX2_merge_46 (Nat.le_of_ble_eq_true rfl) rfl rfl ?_
    refine zc_new (q := 51) (fs := [.null, .null, .null, .null, .null, zI 0, zI 0, zI 0]) (C := RX9) (T := TX9) (N := 8) hX ciX9 rfl in_X9 tyX9_ok dX2_merge_48 q461 q495 q130 (fun j hj => by match j, hj with | 0, _ => rfl | 1, _ => rfl | 2, _ => rfl | 3, _ => rfl | 4, _ => rfl | 5, _ => rfl | 6, _ => rfl | 7, _ => rfl | (_ + 8), h => exact absurd h (by omega)) (by first | exact Nat.le_of_ble_eq_true rfl | (show _ + 1 ≤ 2; omega)) (by first | exact Nat.le_of_ble_eq_true rfl | (show _ + 8 ≤ 16; omega)) rfl (fun a48 ha48 hb48 => ?_)
    have n48 := hb48
    try simp only [upm_none] at n48
    repeat (have := And.left n48; replace n48 := And.right n48)
    have n48x : a48 ≠ e32 := by omega
    refine z_dup (q := 52) hX dX2_merge_51 rfl rfl ?_
    refine z_iconst (q := 53) hX dX2_merge_52 rfl ?_
    refine z_iload (q := 55) hX dX2_merge_53 rfl rfl ?_
    refine z_aload (q := 57) hX dX2_merge_55 rfl rfl ?_
    refine z_C (na := 3) hX dX2_merge_57 (c_X9_init_2 D A (upm_same _ _ _)) q986 q987 q130 q988 rfl (by decide +kernel) ⟨Nat.le_of_ble_eq_true rfl, Nat.le_of_ble_eq_true rfl⟩ rfl rfl (Nat.le_of_ble_eq_true rfl) rfl (by first | exact Nat.le_of_ble_eq_true rfl | (show _ + 0 ≤ 2; omega)) (by first | exact Nat.le_of_ble_eq_true rfl | (show _ + 0 ≤ 16; omega)) (fun H h => h) (fun E a => zT.no) (zPv.out ?_)
    show zG X (_ + 0) (_ + 0) _ 60 _ _
    refine z_athrow hX ciX9 rfl dX2_merge_60 (fun H h => (h.at (Or.inr (upm_same _ _ _))).th) ?_
    exact zT.out hX (by decide) (by first | exact Nat.le_of_ble_eq_true rfl | (show (_ : Nat) ≤ 2; omega)) (by first | exact Nat.le_of_ble_eq_true rfl | (show (_ : Nat) ≤ 16; omega)) (fun H h => ⟨rfl, e32, ⟨Ne.symm n48x, n48, hx32.2⟩, by simp only [upm_upm] at h; exact h⟩)
  show zG X (_ + 1) (_ + 8) _ 35 _ _
  exact hx32.elim
