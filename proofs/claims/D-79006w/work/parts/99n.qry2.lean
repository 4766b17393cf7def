/-! THE TWO SIDES JOINED: a query, whole -/
set_option maxRecDepth 100000
theorem qrn_I (s : zS) : ∀ (n : Nat) (F1 : zTF) (G1 : zTG), F1 23 + n = 61 → 0 ≤ F1 23 → 2 * F1 23 ≤ F1 25 → F1 25 ≤ 60 → zBuf F1 G1 s → (∀ i : Int, 0 ≤ i → i < 420 → zR (G1 14 i)) → (∀ i : Int, 0 ≤ i → i < F1 23 → zCd (G1 14) (7 * i)) → (∀ i : Int, 0 ≤ i → i < 420 → zR ((qrn s n F1 G1).2 14 i)) ∧ (0 ≤ (qrn s n F1 G1).1 23 ∧ (qrn s n F1 G1).1 23 ≤ 31) ∧ ∀ i : Int, 0 ≤ i → i < (qrn s n F1 G1).1 23 → zCd ((qrn s n F1 G1).2 14) (7 * i) := by
  intro n
  induction n with
  | zero => intro F1 G1 h1 h0 h2 h3; omega
  | succ n ih =>
    intro F1 G1 h1 h0 h2 h3 hb1 hz hc
    obtain ⟨o1, o2, o3⟩ := rqG_ok hb1 ⟨by omega, h3⟩ ⟨h0, by omega⟩ hz
    obtain ⟨f1, f2, f3, f4, f5, f6⟩ := rqF_f F1 s
    obtain ⟨F2, hF2⟩ : ∃ F2, F2 = rqF F1 s := ⟨_, rfl⟩
    obtain ⟨G2, hG2⟩ : ∃ G2, G2 = rqG F1 G1 s := ⟨_, rfl⟩
    have hg9 : ∀ j : Nat, j ≠ 14 → G2 j = G1 j := fun j hj => by rw [hG2]; exact rqG_9 F1 G1 s hj
    rw [← hF2] at f1 f2 f3 f4 f5 f6
    rw [← hG2] at o1 o2 o3
    have hb2 : zBuf F2 G2 s := hb1.cg (f1 13 (by decide) (by decide) (by decide)) (hg9 9 (by decide))
    have hc2 : ∀ i : Int, 0 ≤ i → i < F2 23 → zCd (G2 14) (7 * i) := by
      intro i ia ib
      by_cases ie : i < F1 23
      · have h9 := hc i ia ie
        unfold zCd at h9 ⊢
        rw [o2 _ (by omega), o2 _ (by omega), o2 _ (by omega), o2 _ (by omega), o2 _ (by omega), o2 _ (by omega), o2 _ (by omega)]
        exact h9
      · rw [show i = F1 23 by omega]; exact o3
    rw [qrn, ← hF2, ← hG2]
    by_cases q : F2 26 = 0 ∧ hr s (F2 25) = 38
    · rw [if_pos q]
      have hi2 := hr_in (s := s) (p := F2 25) (by rw [q.2]; decide)
      have a4 := f4 q.1
      have h60 := hb1.2.1
      have e23 : upF F2 25 (F2 25 + 1) 23 = F2 23 := upF_ne _ _ (by decide)
      exact ih (upF F2 25 (F2 25 + 1)) G2 (by rw [e23]; omega) (by rw [e23]; omega) (by rw [e23, upF_same]; omega) (by rw [upF_same]; omega) (hb2.cg (upF_ne _ _ (by decide)) rfl) o1 (by rw [e23]; exact hc2)
    · rw [if_neg q]
      exact ⟨o1, ⟨by show 0 ≤ F2 23; omega, by show F2 23 ≤ 31; omega⟩, hc2⟩
theorem qInv.qry {F : zTF} {G : zTG} {s : zS} {cs : Option (List zCn)} (h : qInv F G s cs) : (qInv (qrF F G s) (qrG F G s) [] (qryC cs (alR s 61 0 [])) ∧ psG (qrF F G s) (qrG F G s) = psG F G ∧ svG (qrF F G s) (qrG F G s) = svG F G ∧ rpG (qrF F G s) (qrG F G s) = rpG F G ∧ qrG F G s 0 = G 0) ∧ qryV (G 0) (alR s 61 0 []) = qrA F G s ∧ qrF F G s 6 = 0 := by
  obtain ⟨h1, h2, h3, hb, h5, h6, h7⟩ := h
  have h60 := hb.2.1
  have q23 : qr0 F 23 = 0 := upF_same _ _ _
  have q25 : qr0 F 25 = 0 := by unfold qr0; rw [upF_ne _ _ (by decide), upF_same]
  have hI := qrn_I s 61 (qr0 F) G (by rw [q23]; rfl) (by rw [q23]; decide) (by rw [q23, q25]; decide) (by rw [q25]; decide) (hb.cg (by unfold qr0; rw [upF_ne _ _ (by decide), upF_ne _ _ (by decide), upF_ne _ _ (by decide)]) rfl) h7 (fun i a b => by rw [q23] at b; omega)
  have ff := qrn_f s 61 (qr0 F) G
  rw [show qrn s 61 (qr0 F) G = qrR F G s from rfl] at hI ff
  obtain ⟨i1, i2, i3⟩ := hI
  obtain ⟨f1, f2⟩ := ff
  have r0 : ∀ k : Nat, k ≠ 6 → k ≠ 23 → k ≠ 25 → k ≠ 26 → (qrR F G s).1 k = F k := fun k a b c d => by
    rw [f1 k b c d]
    unfold qr0
    rw [upF_ne _ _ b, upF_ne _ _ c, upF_ne _ _ a]
  have r6 : (qrR F G s).1 6 = 0 := by
    rw [f1 6 (by decide) (by decide) (by decide)]
    unfold qr0
    rw [upF_ne _ _ (by decide), upF_ne _ _ (by decide), upF_same]
  have hr := qry_r (F := F) (G := G) (s := s) (by omega)
  obtain ⟨v1, v2, v3⟩ := hr
  have h13 : qrF F G s 13 = 0 := by
    unfold qrF
    by_cases q : qrOk F G s = true
    · rw [if_pos q, upF_ne _ _ (by decide), upF_ne _ _ (by decide), upF_same]
    · rw [if_neg q, upF_same]
  have hf : ∀ k : Nat, k ≠ 6 → k ≠ 13 → k ≠ 19 → k ≠ 20 → k ≠ 23 → k ≠ 25 → k ≠ 26 → qrF F G s k = F k := fun k a6 a13 a19 a20 a23 a25 a26 => by
    unfold qrF
    by_cases q : qrOk F G s = true
    · rw [if_pos q, upF_ne _ _ a20, upF_ne _ _ a19, upF_ne _ _ a13]; exact r0 k a6 a23 a25 a26
    · rw [if_neg q, upF_ne _ _ a13]; exact r0 k a6 a23 a25 a26
  have h6z : qrF F G s 6 = 0 := by
    unfold qrF
    by_cases q : qrOk F G s = true
    · rw [if_pos q, upF_ne _ _ (by decide), upF_ne _ _ (by decide), upF_ne _ _ (by decide)]; exact r6
    · rw [if_neg q, upF_ne _ _ (by decide)]; exact r6
  have hg : ∀ j : Nat, j ≠ 12 → j ≠ 13 → j ≠ 14 → qrG F G s j = G j := fun j a b c => by
    unfold qrG
    by_cases q : qrOk F G s = true
    · rw [if_pos q, cpyG_ne _ _ _ b, cpyG_ne _ _ _ a]; exact f2 j c
    · rw [if_neg q]; exact f2 j c
  have g14 : qrG F G s 14 = (qrR F G s).2 14 := by
    unfold qrG
    by_cases q : qrOk F G s = true
    · rw [if_pos q, cpyG_ne _ _ _ (by decide), cpyG_ne _ _ _ (by decide)]
    · rw [if_neg q]
  have w1 : zWg (qrG F G s) := h1.sc (hg 0 (by decide) (by decide) (by decide)) (hg 4 (by decide) (by decide) (by decide)) (hg 5 (by decide) (by decide) (by decide)) (hg 6 (by decide) (by decide) (by decide))
  have g9 := hg 9 (by decide) (by decide) (by decide)
  have g0 := hg 0 (by decide) (by decide) (by decide)
  have wB : zBuf (qrF F G s) (qrG F G s) [] := ⟨h13, by decide, fun i a b => absurd b (by show ¬ i < ((0 : Nat) : Int); omega)⟩
  have e5 : qrF F G s 5 = F 5 := hf 5 (by decide) (by decide) (by decide) (by decide) (by decide) (by decide) (by decide)
  have e3 : qrF F G s 3 = F 3 := hf 3 (by decide) (by decide) (by decide) (by decide) (by decide) (by decide) (by decide)
  have e10 : qrF F G s 10 = F 10 := hf 10 (by decide) (by decide) (by decide) (by decide) (by decide) (by decide) (by decide)
  have eps : psG (qrF F G s) (qrG F G s) = psG F G := by
    unfold psG pastM
    rw [e5, hg 3 (by decide) (by decide) (by decide)]
  have esv : svG (qrF F G s) (qrG F G s) = svG F G := by
    unfold svG
    rw [e3, hg 1 (by decide) (by decide) (by decide)]
  have erp : rpG (qrF F G s) (qrG F G s) = rpG F G := by
    unfold rpG
    rw [e10, hg 7 (by decide) (by decide) (by decide), hg 8 (by decide) (by decide) (by decide)]
  cases hA : (alR s 61 0 []).1 with
  | none =>
    have hno : ¬ qrOk F G s = true := by rw [v3 hA]; decide
    have e19 : qrF F G s 19 = F 19 := by
      unfold qrF
      rw [if_neg hno, upF_ne _ _ (by decide)]; exact r0 19 (by decide) (by decide) (by decide) (by decide)
    have e20 : qrF F G s 20 = F 20 := by
      unfold qrF
      rw [if_neg hno, upF_ne _ _ (by decide)]; exact r0 20 (by decide) (by decide) (by decide) (by decide)
    have g12 : qrG F G s 12 = G 12 := by
      unfold qrG
      rw [if_neg hno]; exact f2 12 (by decide)
    have g13 : qrG F G s 13 = G 13 := by
      unfold qrG
      rw [if_neg hno]; exact f2 13 (by decide)
    rw [qryC_no hA, qryV_no hA]
    refine ⟨⟨⟨w1, by rw [e5, e3, e10, e19]; exact h2, by rw [g9]; exact h3, wB, h5.cg e19 e20 g12 g13, ?_, by rw [g14]; exact i1⟩, eps, esv, erp, g0⟩, ?_, h6z⟩
    · unfold zCds at h6 ⊢
      rw [e20, g12, g13]
      exact h6
    · unfold qrA
      rw [if_neg hno, v1]
  | some cl =>
    have hyes := (v2 cl hA).1
    have hcs := qry_cs (F := F) (G := G) hb hA
    have e19 : qrF F G s 19 = 1 := hcs.1
    have e20 : qrF F G s 20 = (qrR F G s).1 23 := by
      unfold qrF
      rw [if_pos hyes, upF_same]
    have g12 : ∀ i : Int, 0 ≤ i → i < 7 * (qrR F G s).1 23 → qrG F G s 12 i = (qrR F G s).2 14 i := fun i a b => by
      unfold qrG
      rw [if_pos hyes, cpyG_ne _ _ _ (by decide)]
      exact if_pos ⟨rfl, a, by omega⟩
    have g13 : ∀ i : Int, 0 ≤ i → i < 60 → zR (qrG F G s 13 i) := fun i a b => by
      unfold qrG
      rw [if_pos hyes]
      show zR (if _ then _ else _)
      split
      · exact h3 i a b
      · rw [cpyG_ne _ _ _ (by decide), f2 13 (by decide)]
        exact h6.2.2 i a b
    rw [qryC_so hA, qryV_so hA]
    refine ⟨⟨⟨w1, by rw [e5, e3, e10, e19]; exact ⟨h2.1, h2.2.1, h2.2.2.1, by decide⟩, by rw [g9]; exact h3, wB, hcs, ⟨by rw [e20]; exact ⟨i2.1, by omega⟩, fun i a b => ?_, g13⟩, by rw [g14]; exact i1⟩, eps, esv, erp, g0⟩, ?_, h6z⟩
    · rw [e20] at b
      have h9 := i3 i a b
      unfold zCd at h9 ⊢
      rw [g12 _ (by omega) (by omega), g12 _ (by omega) (by omega), g12 _ (by omega) (by omega), g12 _ (by omega) (by omega), g12 _ (by omega) (by omega), g12 _ (by omega) (by omega), g12 _ (by omega) (by omega)]
      exact h9
    · have e := hiE_hi hcs
      rw [g0, e20] at e
      unfold qrA
      rw [if_pos hyes]
      exact e

