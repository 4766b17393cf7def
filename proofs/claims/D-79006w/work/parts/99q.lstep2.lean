/-! THE LAW'S STEPS, those that change something -/
set_option maxRecDepth 100000
section LI2
variable {D : zD} {r aO aD b : Nat} {w m : zMp} {F F2 : zTF} {G G2 : zTG} {s : zS} {cs : Option (List zCn)} {u : zMp × zMp × Int} {x9 : zMp × zMp} {V : Int64}
theorem lR.feed {c : Int} (h : lI D r aO aD b w m F G s cs) (hc : 0 ≤ c ∧ c < 65536) (hx : lSt D w m (lK r aO aD) b aO 0 (s.length < 60) (fun u8 => u8 = (Int32.ofInt ((s.length : Int) + 1)).toInt64) (G 0) (psG F G) (svG F G) (rpG F G) (s ++ [c]) cs u ∨ lA D r aO aD b w m F G s cs 1 (s.length = 60) (fun _ => True) u) : lR D r aO aD b (if F 13 = 60 then upF F 6 1 else upF (upF F 6 0) 13 (F 13 + 1)) (if F 13 = 60 then G else upG G 9 (F 13) c) (Int32.ofInt (if F 13 = 60 then 0 else F 13 + 1)).toInt64 u := by
  have h13 := h.2.1.2.2.2.1.1
  rcases hx with hx | hx
  · have hl := hx.2.1
    have hn : ¬ F 13 = 60 := by omega
    rw [if_neg hn, if_neg hn, if_neg hn]
    obtain ⟨q1, q2, q3, q4, q5⟩ := h.2.1.feed hc hl
    exact lR.of h hx (by rw [q5]; exact zEqB.rf _) (by rw [q2]; exact psE.rf) (by rw [q3]; exact svE.rf _) q4.symm q1 (by rw [upF_ne _ _ (by decide), upF_same]) (by decide) (fun _ j hj => by rw [hj, h13])
  · have hl := hx.2.1
    have hn : F 13 = 60 := by omega
    rw [if_pos hn, if_pos hn, if_pos hn]
    exact lR.ask h hx (fun j h6 _ _ => upF_ne _ _ h6) (fun _ _ _ _ => rfl) (upF_same _ _ _) (by decide) l10
theorem lR.cut {l : Int} (h : lI D r aO aD b w m F G s cs) (hx : lSt D w m (lK r aO aD) b aO 0 (0 ≤ l ∧ l < G 0 0) (fun u8 => u8 = (Int32.ofInt (G 0 0 - l)).toInt64) (cutM (G 0) l) (psA (psG F G) (G 0)) (svG F G) (rpG F G) s cs u ∨ lA D r aO aD b w m F G s cs 1 (¬ (0 ≤ l ∧ l < G 0 0)) (fun _ => True) u) : lR D r aO aD b (if 0 ≤ l ∧ l ≤ G 0 0 - 1 then upF (upF F 6 0) 5 (keepC F + 1) else upF F 6 1) (if 0 ≤ l ∧ l ≤ G 0 0 - 1 then upG (keepG F G) 0 0 l else G) (Int32.ofInt (if 0 ≤ l ∧ l ≤ G 0 0 - 1 then G 0 0 - l else 0)).toInt64 u := by
  rcases hx with hx | hx
  · have hl := hx.2.1
    have hp : 0 ≤ l ∧ l ≤ G 0 0 - 1 := by omega
    rw [if_pos hp, if_pos hp, if_pos hp]
    refine lR.chg h hx (by rw [upF_ne _ _ (by decide), upF_same]) (upF_same _ _ _) (fun j a c _ => by rw [upF_ne _ _ a, upF_ne _ _ c]) (fun j a _ _ => upG_nj _ _ _ a) ?_ (fun l2 l0 l1 => ?_)
    · funext i
      unfold cutM
      by_cases q : i = 0
      · rw [q, upG_same, if_pos rfl]
      · rw [upG_ni _ _ _ q, if_neg q, keepG_j F G (by decide)]
    · have e0 : cutM (G 0) l 0 = l := if_pos rfl
      rw [e0] at l1
      exact ⟨by omega, tx_congr (if_neg (by omega)) (fun i i0 i1 => if_neg (by omega))⟩
  · have hl := hx.2.1
    have hn : ¬ (0 ≤ l ∧ l ≤ G 0 0 - 1) := by omega
    rw [if_neg hn, if_neg hn, if_neg hn]
    exact lR.ask h hx (fun j h6 _ _ => upF_ne _ _ h6) (fun _ _ _ _ => rfl) (upF_same _ _ _) (by decide) l10
theorem lR.thr {v : Int} (h : lI D r aO aD b w m F G s cs) (hx : lSt D w m (lK r aO aD) b aO 0 (0 ≤ v ∧ v ≤ 100) (fun u8 => u8 = (Int32.ofInt (G 0 1)).toInt64) (thM (G 0) v) (psA (psG F G) (G 0)) (svG F G) (rpG F G) s cs u ∨ lA D r aO aD b w m F G s cs 1 (¬ (0 ≤ v ∧ v ≤ 100)) (fun _ => True) u) : lR D r aO aD b (if 0 ≤ v ∧ v ≤ 100 then upF (upF F 6 0) 5 (keepC F + 1) else upF F 6 1) (if 0 ≤ v ∧ v ≤ 100 then upG (keepG F G) 0 1 v else G) (Int32.ofInt (if 0 ≤ v ∧ v ≤ 100 then G 0 1 else 0)).toInt64 u := by
  rcases hx with hx | hx
  · have hp := hx.2.1
    rw [if_pos hp, if_pos hp, if_pos hp]
    refine lR.chg h hx (by rw [upF_ne _ _ (by decide), upF_same]) (upF_same _ _ _) (fun j a c _ => by rw [upF_ne _ _ a, upF_ne _ _ c]) (fun j a _ _ => upG_nj _ _ _ a) ?_ (fun l2 l0 l1 => ?_)
    · funext i
      unfold thM
      by_cases q : i = 1
      · rw [q, upG_same, if_pos rfl]
      · rw [upG_ni _ _ _ q, if_neg q, keepG_j F G (by decide)]
    · have e0 : thM (G 0) v 0 = G 0 0 := if_neg (by decide)
      rw [e0] at l1
      exact ⟨l1, tx_congr (if_neg (by omega)) (fun i i0 i1 => if_neg (by omega))⟩
  · have hn := hx.2.1
    rw [if_neg hn, if_neg hn, if_neg hn]
    exact lR.ask h hx (fun j h6 _ _ => upF_ne _ _ h6) (fun _ _ _ _ => rfl) (upF_same _ _ _) (by decide) l10
theorem lR.merge {x y : Int} (h : lI D r aO aD b w m F G s cs) (hx : lSt D w m (lK r aO aD) b aO 0 (mrgC (G 0) x y = 0) (fun u8 => u8 = (Int32.ofInt (varsI (mgM (G 0) (min x y) (max x y)) (min x y))).toInt64) (mgM (G 0) (min x y) (max x y)) (psA (psG F G) (G 0)) (svG F G) (rpG F G) s cs u ∨ lA D r aO aD b w m F G s cs 1 (mrgC (G 0) x y = 1) (fun _ => True) u ∨ lA D r aO aD b w m F G s cs 2 (mrgC (G 0) x y = 2) (fun _ => True) u ∨ lSt D w m (lK r aO aD) b aO 3 (mrgC (G 0) x y = 3) (fun _ => True) (G 0) (psG F G) (svG F G) (some (2, max x y, 12, min x y)) s cs u) : lR D r aO aD b (mrgF F (mrgC (G 0) x y)) (mrgG F G (mrgC (G 0) x y) x y) (Int32.ofInt (mrgR (G 0) (mrgC (G 0) x y) x y)).toInt64 u := by
  obtain ⟨hok, -⟩ := h.1.ok1
  rcases hx with hx | hx | hx | hx
  · have hc := hx.2.1
    have hT : isT (G 0) x = true ∧ isT (G 0) y = true := Classical.byContradiction (fun q => by
      unfold mrgC at hc
      rw [if_neg q] at hc
      exact absurd hc (by decide))
    have ix := isT_iff.mp hT.1
    have iy := isT_iff.mp hT.2
    have hlo : 0 ≤ min x y := by omega
    rw [hc]
    have eF : mrgF F 0 = upF (upF F 6 0) 5 (keepC F + 1) := if_pos rfl
    have eG : mrgG F G 0 x y = setG (keepG F G) 0 (mgM (G 0) (min x y) (max x y)) := if_pos rfl
    have eR : mrgR (G 0) 0 x y = varsI (mgM (G 0) (min x y) (max x y)) (min x y) := if_pos rfl
    rw [eF, eG, eR]
    refine lR.chg h hx (by rw [upF_ne _ _ (by decide), upF_same]) (upF_same _ _ _) (fun j a c _ => by rw [upF_ne _ _ a, upF_ne _ _ c]) (fun j a _ _ => setG_ne _ _ a) (setG_same _ _ _) (fun l2 l0 l1 => ?_)
    rw [mgM_0 hok hlo] at l1
    exact ⟨l1, mgM_tx hok hlo l0 l1⟩
  · have hc := hx.2.1
    rw [hc]
    exact lR.ask h hx (fun j h6 _ _ => upF_ne _ _ h6) (fun _ _ _ _ => rfl) (upF_same _ _ _) (by decide) l10
  · have hc := hx.2.1
    rw [hc]
    exact lR.ask h hx (fun j h6 _ _ => upF_ne _ _ h6) (fun _ _ _ _ => rfl) (upF_same _ _ _) (by decide) l20
  · have hc := hx.2.1
    rw [hc]
    have eF : mrgF F 3 = upF (upF (upF F 6 0) 10 1) 6 3 := rfl
    have eG : mrgG F G 3 x y = repG G 2 (max x y) 12 (min x y) := rfl
    rw [eF, eG]
    have hq := h.2.1
    exact lR.rep h hx (upF_same _ _ _) (fun j a c _ _ => by rw [upF_ne _ _ a, upF_ne _ _ c, upF_ne _ _ a]) (by rw [upF_ne _ _ (by decide), upF_same]) (fun j _ _ _ _ _ a c _ => repG_j a c) repG_r (by rw [repG_j (by decide) (by decide)]; exact zEqB.rf _) (hq.1.sc (repG_j (by decide) (by decide)) (repG_j (by decide) (by decide)) (repG_j (by decide) (by decide)) (repG_j (by decide) (by decide))) (hq.2.2.2.1.cg (by rw [upF_ne _ _ (by decide), upF_ne _ _ (by decide), upF_ne _ _ (by decide)]) (repG_j (by decide) (by decide)))
theorem lR.split {t c : Int} (h : lI D r aO aD b w m F G s cs) (hφ : zS17 (splF F (splC (G 0) t c)) (splG F G t c) F2 G2) (hx : lSt D w m (lK r aO aD) b aO 0 (splC (G 0) t c = 0) (fun u8 => u8 = (Int32.ofInt (lfree (G 0))).toInt64) (splM (G 0) t (tokO (G 0) t c) (lfree (G 0))) (psA (psG F G) (G 0)) (svG F G) (rpG F G) s cs u ∨ lA D r aO aD b w m F G s cs 1 (splC (G 0) t c = 1) (fun _ => True) u ∨ lA D r aO aD b w m F G s cs 2 (splC (G 0) t c = 2) (fun _ => True) u ∨ lSt D w m (lK r aO aD) b aO 3 (splC (G 0) t c = 3) (fun _ => True) (G 0) (psG F G) (svG F G) (some (3, t, 13, c)) s cs u) : lR D r aO aD b F2 G2 (Int32.ofInt (if splC (G 0) t c = 0 then lfree (G 0) else 0)).toInt64 u := by
  obtain ⟨hok, -⟩ := h.1.ok1
  obtain ⟨pF, pG⟩ := hφ
  rcases hx with hx | hx | hx | hx
  · have hc := hx.2.1
    have hC : isC (G 0) t c = true := Classical.byContradiction (fun q => by
      rw [Bool.not_eq_true] at q
      unfold splC at hc
      rw [if_pos q] at hc
      exact absurd hc (by decide))
    have it := isT_iff.mp (isC_iff.mp hC).1
    have hf := lfree_rng (G 0)
    have hlow : ∀ i : Int, i < 43 ∨ (84 ≤ i ∧ i < 1724) → splM (G 0) t (tokO (G 0) t c) (lfree (G 0)) i = G 0 i := fun i hi => splM_low it.1 hf.1 hok.1.2.1 hi
    have eF : splF F (splC (G 0) t c) = upF (upF F 6 0) 5 (keepC F + 1) := if_pos hc
    have eG : splG F G t c = setG (keepG F G) 0 (splM (G 0) t (tokO (G 0) t c) (lfree (G 0))) := if_pos hc
    rw [eF] at pF
    rw [eG] at pG
    rw [if_pos hc]
    refine lR.chg h hx (by rw [pF 6 (by decide), upF_ne _ _ (by decide), upF_same]) (by rw [pF 5 (by decide), upF_same]) (fun j a c d => by rw [pF j d, upF_ne _ _ a, upF_ne _ _ c]) (fun j a _ d => by rw [pG j d, setG_ne _ _ a]) (by rw [pG 0 (by decide), setG_same]) (fun l2 l0 l1 => ?_)
    rw [hlow 0 (Or.inl (by decide))] at l1
    have hfl := hok.f l0 l1
    exact ⟨l1, tx_congr (hlow _ (Or.inl (by omega))) (fun i i0 i1 => hlow _ (Or.inr (by omega)))⟩
  · have hc := hx.2.1
    have eG : splG F G t c = G := by unfold splG; rw [hc]; rfl
    rw [hc] at pF
    have eF : splF F 1 = upF F 6 1 := rfl
    rw [eF] at pF
    rw [eG] at pG
    exact lR.ask h hx (fun j a _ d => by rw [pF j d, upF_ne _ _ a]) (fun j _ _ d => pG j d) (by rw [pF 6 (by decide), upF_same]) (by decide) l10
  · have hc := hx.2.1
    have eG : splG F G t c = G := by unfold splG; rw [hc]; rfl
    rw [hc] at pF
    have eF : splF F 2 = upF F 6 2 := rfl
    rw [eF] at pF
    rw [eG] at pG
    exact lR.ask h hx (fun j a _ d => by rw [pF j d, upF_ne _ _ a]) (fun j _ _ d => pG j d) (by rw [pF 6 (by decide), upF_same]) (by decide) l20
  · have hc := hx.2.1
    have eG : splG F G t c = repG G 3 t 13 c := by unfold splG; rw [hc]; rfl
    rw [hc] at pF
    have eF : splF F 3 = upF (upF (upF F 6 0) 10 1) 6 3 := rfl
    rw [eF] at pF
    rw [eG] at pG
    have hq := h.2.1
    have g (j : Nat) (h1 : j ≠ 7 := by decide) (h2 : j ≠ 8 := by decide) (h3 : j ≠ 11 := by decide) : G2 j = G j := (pG j h3).trans (repG_j h1 h2)
    exact lR.rep h hx (by rw [pF 6 (by decide), upF_same]) (fun j a c _ d => by rw [pF j d, upF_ne _ _ a, upF_ne _ _ c, upF_ne _ _ a]) (by rw [pF 10 (by decide), upF_ne _ _ (by decide), upF_same]) (fun j _ _ _ _ _ a c d => (pG j d).trans (repG_j a c)) (by rw [pG 7 (by decide), pG 8 (by decide)]; exact repG_r) (by rw [g 0]; exact zEqB.rf _) (hq.1.sc (g 0) (g 4) (g 5) (g 6)) (hq.2.2.2.1.cg (by rw [pF 13 (by decide), upF_ne _ _ (by decide), upF_ne _ _ (by decide), upF_ne _ _ (by decide)]) (g 9))
theorem layN_wg {P : Int → Int} (hP : zOk P) : zWg (layN (setG G 0 P) (P 0).toNat) := by
  have e0 : layN (setG G 0 P) (P 0).toNat 0 = P := (layN_0 _ _).trans (setG_same _ _ _)
  refine zWg_iff.mpr ⟨by rw [e0]; exact hP, fun l l0 l1 => ?_⟩
  rw [e0] at l1
  have hz := hP.raws.at (G := setG G 0 P) (setG_same _ _ _)
  exact (layN_ln (G := setG G 0 P) (n := (P 0).toNat) (fun l2 a c => hz l2 a (by rw [setG_same]; omega)) l l0 (by omega)).2
/-- undo, restore: a row of the past put in place -/
theorem lI.back {P : Int → Int} (h : lI D r aO aD b w m F G s cs) (hP : zOk P) (h5 : 0 ≤ F2 5 ∧ F2 5 ≤ 10) (hF : ∀ j, j ≠ 5 → j ≠ 6 → F2 j = F j) : qInv F2 (layN (setG G 0 P) (P 0).toNat) s cs ∧ psG F2 (layN (setG G 0 P) (P 0).toNat) = (List.range (F2 5).toNat).map (fun (j : Nat) => pastM G (j : Int)) ∧ svG F2 (layN (setG G 0 P) (P 0).toNat) = svG F G ∧ rpG F2 (layN (setG G 0 P) (P 0).toNat) = rpG F G ∧ layN (setG G 0 P) (P 0).toNat 0 = P := by
  obtain ⟨q1, q2, q3, q4⟩ := h.2.1.len (G2 := layN (setG G 0 P) (P 0).toNat) h5 hF (fun j a c d e => (layN_j _ _ c d e).trans (setG_ne _ _ a)) (layN_wg hP)
  exact ⟨q1, q2, q3, q4, (layN_0 _ _).trans (setG_same _ _ _)⟩
theorem lR.undoOk {qs : List (Int → Int)} (h : lI D r aO aD b w m F G s cs) (h0 : F 5 ≠ 0) (hq : qs = (List.range (F 5 - 1).toNat).map (fun (j : Nat) => pastM G (j : Int))) (hx : lSt D w m (lK r aO aD) b aO 0 True (fun u8 => u8 = (Int32.ofInt (qs.length : Int)).toInt64) (pastM G (F 5 - 1)) qs (svG F G) (rpG F G) s cs u) : lR D r aO aD b (if F 5 = 0 then upF F 6 1 else upF (upF F 6 0) 5 (F 5 - 1)) (if F 5 = 0 then G else layN (setG G 0 (pastM G (F 5 - 1))) (pastM G (F 5 - 1) 0).toNat) (Int32.ofInt (if F 5 = 0 then 0 else F 5 - 1)).toInt64 u := by
  have hb5 := h.2.1.2.1.1
  rw [if_neg h0, if_neg h0, if_neg h0]
  have e5 : upF (upF F 6 0) 5 (F 5 - 1) 5 = F 5 - 1 := upF_same _ _ _
  obtain ⟨q1, q2, q3, q4, q5⟩ := h.back (F2 := upF (upF F 6 0) 5 (F 5 - 1)) hx.2.2.2.2.1.ok1.1 (by rw [e5]; omega) (fun j a c => by rw [upF_ne _ _ a, upF_ne _ _ c])
  have hl : (qs.length : Int) = F 5 - 1 := by rw [hq, List.length_map, List.length_range]; omega
  rw [e5, ← hq] at q2
  exact lR.of h hx (by rw [q5]; exact zEqB.rf _) (by rw [q2]; exact psE.rf) (by rw [q3]; exact svE.rf _) q4.symm q1 (by rw [upF_ne _ _ (by decide), upF_same]) (by decide) (fun _ j hj => by rw [hj, hl])
theorem lR.undoNo (h : lI D r aO aD b w m F G s cs) (h0 : F 5 = 0) (hx : lA D r aO aD b w m F G s cs 1 True (fun _ => True) u) : lR D r aO aD b (if F 5 = 0 then upF F 6 1 else upF (upF F 6 0) 5 (F 5 - 1)) (if F 5 = 0 then G else layN (setG G 0 (pastM G (F 5 - 1))) (pastM G (F 5 - 1) 0).toNat) V u := by
  rw [if_pos h0, if_pos h0]
  exact lR.ask h hx (fun j h6 _ _ => upF_ne _ _ h6) (fun _ _ _ _ => rfl) (upF_same _ _ _) (by decide) l10
theorem svG_so (h0 : F 3 ≠ 0) : svG F G = some (G 1) := if_neg h0
theorem svG_no (h0 : F 3 = 0) : svG F G = none := if_pos h0
theorem lR.resOk (h : lI D r aO aD b w m F G s cs) (h0 : F 3 ≠ 0) (hx : lSt D w m (lK r aO aD) b aO 0 True (fun u8 => u8 = (Int32.ofInt (G 1 0)).toInt64) (G 1) [] (svG F G) (rpG F G) s cs u) : lR D r aO aD b (if F 3 = 0 then upF F 6 1 else upF (upF F 6 0) 5 0) (if F 3 = 0 then G else layN (setG G 0 (G 1)) (G 1 0).toNat) (Int32.ofInt (if F 3 = 0 then 0 else G 1 0)).toInt64 u := by
  rw [if_neg h0, if_neg h0, if_neg h0]
  have e5 : upF (upF F 6 0) 5 0 5 = 0 := upF_same _ _ _
  obtain ⟨q1, q2, q3, q4, q5⟩ := h.back (F2 := upF (upF F 6 0) 5 0) hx.2.2.2.2.1.ok1.1 (by rw [e5]; decide) (fun j a c => by rw [upF_ne _ _ a, upF_ne _ _ c])
  rw [e5] at q2
  have q2 : psG (upF (upF F 6 0) 5 0) (layN (setG G 0 (G 1)) (G 1 0).toNat) = [] := q2
  exact lR.of h hx (by rw [q5]; exact zEqB.rf _) (by rw [q2]; exact psE.rf) (by rw [q3]; exact svE.rf _) q4.symm q1 (by rw [upF_ne _ _ (by decide), upF_same]) (by decide) (fun _ j hj => hj)
theorem lR.resNo (h : lI D r aO aD b w m F G s cs) (h0 : F 3 = 0) (hx : lA D r aO aD b w m F G s cs 1 True (fun _ => True) u) : lR D r aO aD b (if F 3 = 0 then upF F 6 1 else upF (upF F 6 0) 5 0) (if F 3 = 0 then G else layN (setG G 0 (G 1)) (G 1 0).toNat) V u := by
  rw [if_pos h0, if_pos h0]
  exact lR.ask h hx (fun j h6 _ _ => upF_ne _ _ h6) (fun _ _ _ _ => rfl) (upF_same _ _ _) (by decide) l10
theorem lR.hitNo {x : Int} (h : lI D r aO aD b w m F G s none) (hx : lA D r aO aD b w m F G s none 1 True (fun _ => True) u) : lR D r aO aD b (upF F 6 (opHit F G x).1) G V u :=
  lR.ask h hx (fun j h6 _ _ => upF_ne _ _ h6) (fun _ _ _ _ => rfl) (by rw [upF_same, (opHit_no h.2.1.2.2.2.2.1 x).1]) (by decide) l10
theorem lR.excNo {x : Int} (h : lI D r aO aD b w m F G s none) (hx : lA D r aO aD b w m F G s none 1 True (fun _ => True) u) : lR D r aO aD b (upF F 6 (opExc F G x).1) G V u :=
  lR.ask h hx (fun j h6 _ _ => upF_ne _ _ h6) (fun _ _ _ _ => rfl) (by rw [upF_same, (opHit_no h.2.1.2.2.2.2.1 x).2]) (by decide) l10
theorem lR.hitOk {x : Int} {cl : List zCn} (h : lI D r aO aD b w m F G s (some cl)) (hx : lA D r aO aD b w m F G s (some cl) 0 (0 ≤ x ∧ x < hiE (G 0) cl (-1)) (fun u8 => u8 = (Int32.ofInt (hitV (G 0) cl x)).toInt64) u ∨ lA D r aO aD b w m F G s (some cl) 2 (¬ (0 ≤ x ∧ x < hiE (G 0) cl (-1))) (fun _ => True) u) : lR D r aO aD b (upF F 6 (opHit F G x).1) G (Int32.ofInt (opHit F G x).2).toInt64 u := by
  rw [opHit_hb h.2.1.2.2.2.2.1]
  rcases hx with hx | hx
  · rw [if_pos hx.2.1]
    exact lR.ask h hx (fun j h6 _ _ => upF_ne _ _ h6) (fun _ _ _ _ => rfl) (upF_same _ _ _) (by decide) (fun _ j hj => hj)
  · rw [if_neg hx.2.1]
    exact lR.ask h hx (fun j h6 _ _ => upF_ne _ _ h6) (fun _ _ _ _ => rfl) (upF_same _ _ _) (by decide) l20
theorem lR.excOk {x : Int} {cl : List zCn} (h : lI D r aO aD b w m F G s (some cl)) (hx : lA D r aO aD b w m F G s (some cl) 0 (0 ≤ x ∧ x ≤ (cl.length : Int) - 1) (fun u8 => u8 = (Int32.ofInt (hiE (G 0) cl x - hiE (G 0) cl (-1))).toInt64) u ∨ lA D r aO aD b w m F G s (some cl) 1 (¬ (0 ≤ x ∧ x ≤ (cl.length : Int) - 1)) (fun _ => True) u) : lR D r aO aD b (upF F 6 (opExc F G x).1) G (Int32.ofInt (opExc F G x).2).toInt64 u := by
  rw [opExc_hb h.2.1.2.2.2.2.1]
  rcases hx with hx | hx
  · rw [if_pos hx.2.1]
    exact lR.ask h hx (fun j h6 _ _ => upF_ne _ _ h6) (fun _ _ _ _ => rfl) (upF_same _ _ _) (by decide) (fun _ j hj => hj)
  · rw [if_neg hx.2.1]
    exact lR.ask h hx (fun j h6 _ _ => upF_ne _ _ h6) (fun _ _ _ _ => rfl) (upF_same _ _ _) (by decide) l10
theorem lR.repNo {v z : Int} (h : lI D r aO aD b w m F G s cs) (hn : rpL (rpG F G) v = none) (hx : lA D r aO aD b w m F G s cs 1 True (fun _ => True) u) : lR D r aO aD b (upF F 6 (opRep F G v z).1) G V u :=
  lR.ask h hx (fun j h6 _ _ => upF_ne _ _ h6) (fun _ _ _ _ => rfl) (by rw [upF_same, opRep_rp, hn]) (by decide) l10
theorem lR.repOk {v z c d : Int} (h : lI D r aO aD b w m F G s cs) (hn : rpL (rpG F G) v = some (c, d)) (hx : lA D r aO aD b w m F G s cs 0 (0 ≤ z ∧ z ≤ 1) (fun u8 => u8 = (Int32.ofInt (if z = 0 then c else d)).toInt64) u ∨ lA D r aO aD b w m F G s cs 2 (¬ (0 ≤ z ∧ z ≤ 1)) (fun _ => True) u) : lR D r aO aD b (upF F 6 (opRep F G v z).1) G (Int32.ofInt (opRep F G v z).2).toInt64 u := by
  have e : opRep F G v z = if ¬ (0 ≤ z ∧ z ≤ 1) then (2, 0) else (0, if z = 0 then c else d) := by rw [opRep_rp, hn]
  rw [e]
  rcases hx with hx | hx
  · rw [if_neg (not_not_intro hx.2.1)]
    exact lR.ask h hx (fun j h6 _ _ => upF_ne _ _ h6) (fun _ _ _ _ => rfl) (upF_same _ _ _) (by decide) (fun _ j hj => hj)
  · rw [if_pos hx.2.1]
    exact lR.ask h hx (fun j h6 _ _ => upF_ne _ _ h6) (fun _ _ _ _ => rfl) (upF_same _ _ _) (by decide) l20
theorem lR.add (h : lI D r aO aD b w m F G s cs) (hφ : addQ F G F2 G2) (hx : lSt D w m (lK r aO aD) b aO 0 (adC (G 0) s = 0) (fun u8 => u8 = (Int32.ofInt (takM (rwS (G 0) s) (G 0 0))).toInt64) (addM (rwS (G 0) s) (takM (rwS (G 0) s) (G 0 0))) (psA (psG F G) (G 0)) (svG F G) (rpG F G) [] cs u ∨ lSt D w m (lK r aO aD) b aO 1 (adC (G 0) s = 1) (fun _ => True) (G 0) (psG F G) (svG F G) (rpG F G) [] cs u ∨ lSt D w m (lK r aO aD) b aO 2 (adC (G 0) s = 2) (fun _ => True) (G 0) (psG F G) (svG F G) (rpG F G) [] cs u ∨ lSt D w m (lK r aO aD) b aO 3 (adC (G 0) s = 3) (fun _ => True) (G 0) (psG F G) (svG F G) (some (1, G 0 0, 11, 12)) [] cs u) : lR D r aO aD b F2 G2 (Int32.ofInt (if addC (G 0) (G 9) (F 13) = 0 then takM (rwM (G 0) (G 9) (F 13)) (G 0 0) else 0)).toInt64 u := by
  obtain ⟨pF, pG, hT⟩ := hφ
  have hq := h.2.1
  have hb : zBuf F G s := hq.2.2.2.1
  obtain ⟨hok, hps, -⟩ := h.1.ok1
  rw [addC_b hb] at pF pG
  rw [addC_b hb, rwM_b hb]
  have hlt : adC (G 0) s ≠ 1 → (s.length : Int) ≤ 40 := fun q => by
    have hl : ltB s = true := Classical.byContradiction (fun z => q (if_pos (by simpa using z)))
    have := (ltB_iff.mp hl).2.1
    omega
  have h40 : adC (G 0) s ≠ 1 → adC (G 0) s ≠ 2 → G 0 0 < 40 := fun q q2 => by
    have hl : ¬ ltB s = false := fun z => q (if_pos z)
    have : ¬ G 0 0 = 40 := fun z => q2 (by unfold adC; rw [if_neg hl, if_pos z])
    have := hok.1.2.1
    omega
  rcases hx with hx | hx | hx | hx
  · have hc := hx.2.1
    have hl40 := hlt (by rw [hc]; decide)
    have hm40 := h40 (by rw [hc]; decide) (by rw [hc]; decide)
    rw [if_pos hc]
    rw [hc] at pF pG
    have eF : addF F 0 = upF (upF (upF F 6 0) 13 0) 5 (keepC F + 1) := if_pos rfl
    have eG : addG F G 0 = setG (keepG F (setG G 0 (rwS (G 0) s))) 0 (addM (rwS (G 0) s) (takM (rwS (G 0) s) (G 0 0))) := by unfold addG; rw [if_pos rfl, rwM_b hb]
    rw [eF] at pF
    rw [eG] at pG
    obtain ⟨G9, hG9⟩ : ∃ G9, G9 = setG G 0 (rwS (G 0) s) := ⟨_, rfl⟩
    have g90 : G9 0 = rwS (G 0) s := by rw [hG9, setG_same]
    have g9j : ∀ j : Nat, j ≠ 0 → G9 j = G j := fun j hj => by rw [hG9, setG_ne _ _ hj]
    rw [← hG9] at pG
    have e : zEqv (G 0) (rwS (G 0) s) := rwM_e hok hm40 hl40
    have e0 : rwS (G 0) s 0 = G 0 0 := e.1
    have hw9 : zWg G9 := zWg_iff.mpr ⟨by rw [g90]; exact e.ok hok, fun l l0 l1 => by
      rw [g90, e0] at l1
      exact zTks.cg (g9j 4 (by decide)) (g9j 5 (by decide)) (g9j 6 (by decide)) (by rw [g90]; exact e.B.eX l0 l1) ((zWg_iff.mp hq.1).2 l l0 l1)⟩
    obtain ⟨p1, p2, p3, p4⟩ := qInv.row (F2 := F) (G2 := G9) (s2 := s) hq (fun _ _ _ _ => rfl) (fun j a _ _ _ _ _ => g9j j a) hw9 (hb.cg rfl (g9j 9 (by decide)))
    have g20 : G2 0 = addM (rwS (G 0) s) (takM (rwS (G 0) s) (G 0 0)) := by rw [pG 0 (by decide) (by decide) (by decide), setG_same]
    have f13 : F2 13 = 0 := by rw [pF, upF_ne _ _ (by decide), upF_same]
    obtain ⟨q1, q2, q3, q4⟩ := p1.chg (F2 := F2) (G2 := G2) (s2 := []) (by rw [g90]; exact e.ok hok) (by rw [p2]; exact hps) (by rw [pF, upF_same]) (fun j a c d _ => by rw [pF, upF_ne _ _ a, upF_ne _ _ d, upF_ne _ _ c]) (fun j a _ c d f _ => by rw [pG j c d f, setG_ne _ _ a]) (zWg_iff.mpr ⟨by rw [g20]; exact hx.2.2.2.2.1.ok1.1, hT⟩) (zBuf_nil f13)
    rw [p2, g90] at q2
    exact lR.of h hx (by rw [g20]; exact zEqB.rf _) ((psA_e e.B).tr q2) (by rw [q3, p3]; exact svE.rf _) (q4.trans p4).symm q1 (by rw [pF, upF_ne _ _ (by decide), upF_ne _ _ (by decide), upF_same]) (by decide) (fun _ j hj => hj)
  · have hc := hx.2.1
    rw [hc] at pF pG
    have eF : addF F 1 = upF (upF (upF F 6 0) 13 0) 6 1 := rfl
    have eG : addG F G 1 = G := rfl
    rw [eF] at pF
    rw [eG] at pG
    have g0 := pG 0 (by decide) (by decide) (by decide)
    obtain ⟨q1, q2, q3, q4⟩ := qInv.row (F2 := F2) (G2 := G2) (s2 := []) hq (fun j a c _ => by rw [pF, upF_ne _ _ a, upF_ne _ _ c, upF_ne _ _ a]) (fun j _ _ c d f _ => pG j c d f) (zWg_iff.mpr ⟨by rw [g0]; exact hok, hT⟩) (zBuf_nil (by rw [pF, upF_ne _ _ (by decide), upF_same]))
    exact lR.of h hx (by rw [g0]; exact zEqB.rf _) (by rw [q2]; exact psE.rf) (by rw [q3]; exact svE.rf _) q4.symm q1 (by rw [pF, upF_same]) (by decide) l10
  · have hc := hx.2.1
    rw [hc] at pF pG
    have eF : addF F 2 = upF (upF (upF F 6 0) 13 0) 6 2 := rfl
    have eG : addG F G 2 = G := rfl
    rw [eF] at pF
    rw [eG] at pG
    have g0 := pG 0 (by decide) (by decide) (by decide)
    obtain ⟨q1, q2, q3, q4⟩ := qInv.row (F2 := F2) (G2 := G2) (s2 := []) hq (fun j a c _ => by rw [pF, upF_ne _ _ a, upF_ne _ _ c, upF_ne _ _ a]) (fun j _ _ c d f _ => pG j c d f) (zWg_iff.mpr ⟨by rw [g0]; exact hok, hT⟩) (zBuf_nil (by rw [pF, upF_ne _ _ (by decide), upF_same]))
    exact lR.of h hx (by rw [g0]; exact zEqB.rf _) (by rw [q2]; exact psE.rf) (by rw [q3]; exact svE.rf _) q4.symm q1 (by rw [pF, upF_same]) (by decide) l20
  · have hc := hx.2.1
    have hl40 := hlt (by rw [hc]; decide)
    have hm40 := h40 (by rw [hc]; decide) (by rw [hc]; decide)
    rw [hc] at pF pG
    have eF : addF F 3 = upF (upF (upF (upF F 6 0) 13 0) 10 1) 6 3 := rfl
    have eG : addG F G 3 = repG (setG G 0 (rwJ (G 0) (G 9) (F 13))) 1 (G 0 0) 11 12 := rfl
    rw [eF] at pF
    rw [eG] at pG
    have g0 : G2 0 = rwJ (G 0) (G 9) (F 13) := by rw [pG 0 (by decide) (by decide) (by decide), repG_j (by decide) (by decide), setG_same]
    have e : zEqv (G 0) (rwJ (G 0) (G 9) (F 13)) := rwJ_e hok hm40 (by rw [hb.1]; exact hl40)
    exact lR.rep h hx (by rw [pF, upF_same]) (fun j a c d _ => by rw [pF, upF_ne _ _ a, upF_ne _ _ c, upF_ne _ _ d, upF_ne _ _ a]) (by rw [pF, upF_ne _ _ (by decide), upF_same]) (fun j a _ c d f i k _ => by rw [pG j c d f, repG_j i k, setG_ne _ _ a]) (by rw [pG 7 (by decide) (by decide) (by decide), pG 8 (by decide) (by decide) (by decide)]; exact repG_r) (by rw [g0]; exact e.B) (zWg_iff.mpr ⟨by rw [g0]; exact e.ok hok, hT⟩) (zBuf_nil (by rw [pF, upF_ne _ _ (by decide), upF_ne _ _ (by decide), upF_same]))
theorem lI.dir {φ : Prop} {M : Int → Int} {ps : List (Int → Int)} {sv : Option (Int → Int)} {rp : Option (Int × Int × Int × Int)} {s2 : zS} {cs2 : Option (List zCn)} (h : lI D r aO aD b w m F G s cs) (hx : pSt D w m (lK r aO aD) b φ M ps sv rp s2 cs2 x9) (hM : zEqB M (G2 0)) (hp : psE ps (psG F2 G2)) (hs : svE sv (svG F2 G2)) (hr : rp = rpG F2 G2) (hq : qInv F2 G2 s2 cs2) : lI D r aO aD b x9.1 (rM D r F2 G2 x9.2) F2 G2 s2 cs2 := by
  obtain ⟨-, -, hf, hb⟩ := hx
  obtain ⟨⟨j, hj⟩, d, hd⟩ := h.2.2.2.1
  exact h.mk hb ⟨j, (hf aO lK_aO).trans hj⟩ ⟨d, (hf aD lK_aD).trans hd⟩ hM hp hs hr hq
theorem lI.holdP {m2 : zMp} (h : lI D r aO aD b w m F G s cs) (hf : zFr (lK r aO aD) m m2) : rM D r F G m2 = m2 := h.hold h.2.2.2.2.1 (fun c hc _ => hf c hc)
theorem lI.templ (h : lI D r aO aD b w m F G s cs) (hx : pSt D w m (lK r aO aD) b True (G 0) (psG F G) (svG F G) (rpG F G) s cs x9) : lI D r aO aD b x9.1 (rM D r (upF F 6 0) G x9.2) (upF F 6 0) G s cs := by
  obtain ⟨q1, q2, q3, q4, q5⟩ := h.2.1.cg (F2 := upF F 6 0) (G2 := G) (fun j h6 _ _ => upF_ne _ _ h6) (fun _ _ _ _ => rfl)
  exact h.dir hx (zEqB.rf _) (by rw [q2]; exact psE.rf) (by rw [q3]; exact svE.rf _) q4.symm q1
theorem lI.save (h : lI D r aO aD b w m F G s cs) (hx : pSt D w m (lK r aO aD) b True (G 0) (psG F G) (some (G 0)) (rpG F G) s cs x9) : lI D r aO aD b x9.1 (rM D r (upF (upF F 6 0) 3 1) (setG G 1 (G 0)) x9.2) (upF (upF F 6 0) 3 1) (setG G 1 (G 0)) s cs := by
  obtain ⟨q1, q2, q3, q4, q5⟩ := h.2.1.save
  exact h.dir hx (by rw [q5]; exact zEqB.rf _) (by rw [q2]; exact psE.rf) (by rw [q3]; exact svE.rf _) q4.symm q1
theorem lI.qry (h : lI D r aO aD b w m F G s cs) (hx : pSt D w m (lK r aO aD) b True (G 0) (psG F G) (svG F G) (rpG F G) [] (qryC cs (alR s 61 0 [])) x9) : lI D r aO aD b x9.1 (rM D r (qrF F G s) (qrG F G s) x9.2) (qrF F G s) (qrG F G s) [] (qryC cs (alR s 61 0 [])) := by
  obtain ⟨⟨q1, q2, q3, q4, q5⟩, -⟩ := h.2.1.qry
  exact h.dir hx (by rw [q5]; exact zEqB.rf _) (by rw [q2]; exact psE.rf) (by rw [q3]; exact svE.rf _) q4.symm q1
theorem cmpI_tx : ∀ (f : Nat) (M : Int → Int), zOk M → (cmpI f M).2 0 = M 0 ∧ ∀ l : Int, 0 ≤ l → l < M 0 → tx (cmpI f M).2 l = tx M l := by
  intro f
  induction f with
  | zero => intro M h; exact ⟨rfl, fun l _ _ => rfl⟩
  | succ f ih =>
    intro M h
    by_cases hs : 0 ≤ (scP M 144).2.1
    · rw [cmpI_yes hs]
      rcases (scP_ok M 144 (Nat.le_refl _)).2 with e | ⟨-, hm, -⟩
      · rw [e] at hs
        exact absurd hs (by decide)
      · obtain ⟨-, ha, hb, hf⟩ := mayP_iff.mp hm
        obtain ⟨i1, i2⟩ := ih _ (mgM_ok h ha hb hf)
        have e0 := mgM_0 (hi := (scP M 144).2.2) h hs
        exact ⟨i1.trans e0, fun l l0 l1 => (i2 l l0 (by rw [e0]; exact l1)).trans (mgM_tx h hs l0 l1)⟩
    · rw [cmpI_no (by omega)]
      exact ⟨rfl, fun l _ _ => rfl⟩
theorem lI.comp {f : Nat} (h : lI D r aO aD b w m F G s cs) (hφ : zSA (cmpF F) (cmpG F G (cmpI f (G 0)).2) F2 G2) (hx : pSt D w m (lK r aO aD) b True (cmpI f (G 0)).2 (psA (psG F G) (G 0)) (svG F G) (rpG F G) s cs x9) : lI D r aO aD b x9.1 (rM D r F2 G2 x9.2) F2 G2 s cs := by
  obtain ⟨t1, t2⟩ := cmpI_tx f (G 0) h.1.ok1.1
  generalize (cmpI f (G 0)).2 = N at *
  obtain ⟨pF, pG⟩ := hφ
  have g0 : G2 0 = N := (pG 0 (by decide) (by decide)).trans (setG_same _ _ _)
  obtain ⟨q1, q2, q3, q4⟩ := h.chg (N := N) (F2 := F2) (G2 := G2) hx.2.2.2.ok1.1 ((pF 5 (by decide)).trans (upF_same _ _ _)) (fun j a c d => (pF j d).trans (by unfold cmpF; rw [upF_ne _ _ a, upF_ne _ _ c])) (fun j a c d => (pG j d c).trans (setG_ne _ _ a)) g0 (fun l l0 l1 => by rw [t1] at l1; exact ⟨l1, t2 l l0 l1⟩)
  exact h.dir hx (by rw [g0]; exact zEqB.rf _) q2 (by rw [q3]; exact svE.rf _) q4.symm q1
end LI2

