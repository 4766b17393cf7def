/-! THE TWO SIDES JOINED: a query's reading, both sides -/
set_option maxRecDepth 100000
theorem alR_qrn (s : zS) : ∀ (n : Nat) (F1 : zTF) (G1 : zTG) (cs : List zCn), 0 ≤ F1 25 → F1 25 ≤ s.length → (s.length : Int) < F1 25 + n → F1 23 = cs.length → (∀ i c, cs[i]? = some c → rqL s (G1 14) i c) →
    (alR s n (F1 25) cs).2 = (qrn s n F1 G1).1 25 ∧
    (∀ cl, (alR s n (F1 25) cs).1 = some cl → (qrn s n F1 G1).1 26 = 0 ∧ (qrn s n F1 G1).1 25 = s.length ∧ (qrn s n F1 G1).1 23 = cl.length ∧ ∀ i c, cl[i]? = some c → rqL s ((qrn s n F1 G1).2 14) i c) ∧
    ((alR s n (F1 25) cs).1 = none → ¬ ((qrn s n F1 G1).1 26 = 0 ∧ (qrn s n F1 G1).1 25 = s.length)) := by
  intro n
  induction n with
  | zero => intro F1 G1 cs h0 h1 h2; omega
  | succ n ih =>
    intro F1 G1 cs h0 h1 h2 h23 hcs
    obtain ⟨r1, r2⟩ := cdR_rq F1 s
    have hle := cdR_le (s := s) 4 h0 h1
    rw [qrn]
    cases hc : (cdR s 4 (F1 25)).1 with
    | none =>
      have h26 := r2.mp hc
      rw [alR_no hc, if_neg (fun q => h26 q.1)]
      exact ⟨r1, fun cl e => (by cases e), fun _ q => h26 q.1⟩
    | some c9 =>
      have h26 : rqF F1 s 26 = 0 := Classical.byContradiction (fun q => by rw [r2.mpr q] at hc; cases hc)
      have hB : rqB s (F1 25) := Classical.byContradiction (fun q => by
        unfold rqF at h26
        rw [if_neg q, upF_same] at h26
        exact absurd h26 (by decide))
      have e23 : rqF F1 s 23 = F1 23 + 1 := by
        unfold rqF
        rw [if_pos hB, upF_same]
      have hnew : ∀ i c, (cs ++ [c9])[i]? = some c → rqL s (rqG F1 G1 s 14) i c := by
        intro i c hi
        by_cases q : i < cs.length
        · rw [List.getElem?_append_left q] at hi
          exact (hcs i c hi).cg (fun k k0 k1 => rqG_lo (by omega))
        · have hlt := (List.getElem?_eq_some_iff.mp hi).1
          rw [List.length_append] at hlt
          have hlt : i < cs.length + 1 := hlt
          have e : i = cs.length := by omega
          rw [e, List.getElem?_append_right (Nat.le_refl _), Nat.sub_self] at hi
          have e9 : c9 = c := Option.some.inj hi
          have hq := rqG_C (G := G1) hB
          rw [h23] at hq
          rw [e, ← e9]
          exact ⟨F1 25, h0, hc, hq⟩
      have hp := hle.2 (by rw [hc]; exact fun q => by cases q)
      rw [alR_so hc, r1]
      rw [r1] at hp hle
      by_cases q38 : hr s (rqF F1 s 25) = 38
      · rw [if_pos q38, if_pos ⟨h26, q38⟩]
        have hin := hr_in (s := s) (p := rqF F1 s 25) (by rw [q38]; decide)
        have e25 : upF (rqF F1 s) 25 (rqF F1 s 25 + 1) 25 = rqF F1 s 25 + 1 := upF_same _ _ _
        have h := ih (upF (rqF F1 s) 25 (rqF F1 s 25 + 1)) (rqG F1 G1 s) (cs ++ [c9]) (by rw [e25]; omega) (by rw [e25]; omega) (by rw [e25]; omega) (by rw [upF_ne _ _ (by decide), e23, List.length_append, h23]; rfl) hnew
        rw [e25] at h
        exact h
      · rw [if_neg q38, if_neg (show ¬ (rqF F1 s 26 = 0 ∧ hr s (rqF F1 s 25) = 38) from fun q => q38 q.2)]
        by_cases ql : rqF F1 s 25 = s.length
        · rw [if_pos ql]
          refine ⟨rfl, fun cl e => ?_, fun e => (by cases e)⟩
          have e : cs ++ [c9] = cl := Option.some.inj e
          rw [← e]
          exact ⟨h26, ql, by show rqF F1 s 23 = _; rw [e23, h23, List.length_append]; rfl, hnew⟩
        · rw [if_neg ql]
          exact ⟨rfl, fun cl e => (by cases e), fun _ q => ql q.2⟩

