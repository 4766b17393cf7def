/-! THE REFERENCE: a template's pattern -/
set_option maxRecDepth 100000
theorem tkGo_ord : ∀ (s : zS) (i : Int) (o : Option Int) (k : Nat) (q r : Int × Int), (∀ b, o = some b → b < i) → (tkGo i s o)[k]? = some q → (tkGo i s o)[k + 1]? = some r → q.2 ≤ r.1 := by
  intro s
  induction s with
  | nil =>
    intro i o k q r ho hk hr
    cases o with
    | none => simp [tkGo] at hk
    | some b => simp [tkGo] at hr
  | cons c s ih =>
    intro i o k q r ho hk hr
    cases o with
    | none =>
      rw [tkGo] at hk hr
      split at hk
      · rename_i hc
        rw [if_pos hc] at hr
        exact ih (i + 1) none k q r (fun b hb => by cases hb) hk hr
      · rename_i hc
        rw [if_neg hc] at hr
        exact ih (i + 1) (some i) k q r (fun b hb => by cases hb; omega) hk hr
    | some b =>
      have hb := ho b rfl
      rw [tkGo] at hk hr
      split at hk
      · rename_i hc
        rw [if_pos hc] at hr
        cases k with
        | zero =>
          cases hk
          rw [List.getElem?_cons_succ] at hr
          have := tkGo_ok s (i + 1) none (i + 1) (Int.le_refl _) (fun b hb => by cases hb) 0 r hr
          simp only
          omega
        | succ k =>
          rw [List.getElem?_cons_succ] at hk hr
          exact ih (i + 1) none k q r (fun b hb => by cases hb) hk hr
      · rename_i hc
        rw [if_neg hc] at hr
        exact ih (i + 1) (some b) k q r (fun b2 hb2 => by cases hb2; omega) hk hr
theorem gp_nn {s : zS} {g : Int} (h0 : 0 ≤ g) (h1 : g ≤ nT s) : 0 ≤ gp s g := by
  unfold gp
  by_cases q : g = nT s
  · rw [if_pos q]
    by_cases q0 : g = 0
    · rw [if_pos q0]; omega
    · rw [if_neg q0]
      have := tk_ok (s := s) (k := g - 1) (by omega) (by omega)
      omega
  · rw [if_neg q]
    have h2 := tk_ok (s := s) (k := g) h0 (by omega)
    by_cases q0 : g = 0
    · rw [if_pos q0]; omega
    · rw [if_neg q0]
      have a1 := tk_get (s := s) (k := g - 1) (by omega) (by omega)
      have a2 := tk_get (s := s) (k := g) h0 (by omega)
      have a3 := tkGo_ord s 0 none (g - 1).toNat _ _ (fun b hb => by cases hb) a1 (by rw [show (g - 1).toNat + 1 = g.toNat by omega]; exact a2)
      simp only at a3
      omega
/-- a slot's sign -/
def sgn (s : Int) : Int := if s = 0 then 42 else if s = 1 then 43 else 35
/-- what is written for token g -/
def pcM (M : Int → Int) (t g : Int) : zS := if slt M t g = -1 then tkl M (fst M t) g else [sgn (slt M t g)]
/-- the pattern up to gap n -/
def paN (M : Int → Int) (t : Int) : Nat → zS
  | 0 => []
  | n + 1 => paN M t n ++ List.replicate (gp (tx M (fst M t)) n).toNat 32 ++ (if (n : Int) < nTl M (fst M t) then pcM M t n else [])
def paM (M : Int → Int) (t : Int) : zS := paN M t (nTl M (fst M t) + 1).toNat
theorem pcM_len {M : Int → Int} {t g : Int} (h0 : 0 ≤ g) (h1 : g < nTl M (fst M t)) : 1 ≤ ((pcM M t g).length : Int) ∧ ((pcM M t g).length : Int) ≤ wT (tx M (fst M t)) g := by
  have h2 := tk_ok (s := tx M (fst M t)) h0 h1
  have h3 := tok_len (s := tx M (fst M t)) h0 h1
  have h4 : wT (tx M (fst M t)) g = eT (tx M (fst M t)) g - fT (tx M (fst M t)) g := rfl
  unfold pcM
  split
  · have e : ((tkl M (fst M t) g).length : Int) = wT (tx M (fst M t)) g := h3
    omega
  · rw [List.length_singleton]; omega
theorem paN_len {M : Int → Int} {t : Int} {n : Nat} (h : (n : Int) ≤ nTl M (fst M t)) : ((paN M t n).length : Int) ≤ if n = 0 then 0 else eT (tx M (fst M t)) ((n : Int) - 1) := by
  induction n with
  | zero => simp [paN]
  | succ n ih =>
    have h1 := ih (by omega)
    have h2 := pcM_len (M := M) (t := t) (g := n) (by omega) (by omega)
    have h3 := gp_nn (s := tx M (fst M t)) (g := n) (by omega) (by have : nT (tx M (fst M t)) = nTl M (fst M t) := rfl; omega)
    have h4 : gp (tx M (fst M t)) n = fT (tx M (fst M t)) n - (if (n : Int) = 0 then 0 else eT (tx M (fst M t)) ((n : Int) - 1)) := by
      unfold gp
      rw [if_neg (by have : nT (tx M (fst M t)) = nTl M (fst M t) := rfl; omega)]
    have h5 : wT (tx M (fst M t)) n = eT (tx M (fst M t)) n - fT (tx M (fst M t)) n := rfl
    rw [paN, if_pos (by omega), List.length_append, List.length_append, List.length_replicate, if_neg (by omega), show ((n + 1 : Nat) : Int) - 1 = n by omega]
    by_cases q : n = 0
    · rw [if_pos q] at h1
      rw [if_pos (by omega)] at h4
      omega
    · rw [if_neg q] at h1
      rw [if_neg (by omega)] at h4
      omega
theorem paM_len {M : Int → Int} {t : Int} : ((paM M t).length : Int) ≤ (tx M (fst M t)).length := by
  have e : nT (tx M (fst M t)) = nTl M (fst M t) := rfl
  have h0 := nT_range (tx M (fst M t))
  obtain ⟨n, hn⟩ : ∃ n : Nat, (n : Int) = nTl M (fst M t) := ⟨(nTl M (fst M t)).toNat, by omega⟩
  have h1 := paN_len (M := M) (t := t) (n := n) (by omega)
  have h3 := gp_nn (s := tx M (fst M t)) (g := n) (by omega) (by omega)
  have h4 : gp (tx M (fst M t)) n = ((tx M (fst M t)).length : Int) - (if (n : Int) = 0 then 0 else eT (tx M (fst M t)) ((n : Int) - 1)) := by
    unfold gp
    rw [if_pos (by omega)]
  unfold paM
  rw [show (nTl M (fst M t) + 1).toNat = n + 1 by omega, paN, if_neg (by omega), List.length_append, List.length_append, List.length_replicate, List.length_nil]
  by_cases q : n = 0
  · rw [if_pos q] at h1
    rw [if_pos (by omega)] at h4
    omega
  · rw [if_neg q] at h1
    rw [if_neg (by omega)] at h4
    omega
theorem paN_le {M : Int → Int} {t : Int} {n m : Nat} (h : n ≤ m) : (paN M t n).length ≤ (paN M t m).length := by
  induction m with
  | zero => rw [show n = 0 by omega]; exact Nat.le_refl _
  | succ m ih =>
    by_cases q : n = m + 1
    · rw [q]; exact Nat.le_refl _
    · have := ih (by omega)
      rw [show paN M t (m + 1) = paN M t m ++ List.replicate (gp (tx M (fst M t)) m).toNat 32 ++ (if (m : Int) < nTl M (fst M t) then pcM M t m else []) from rfl, List.length_append, List.length_append]
      omega
/-- a text written to the pattern -/
def patG (G : zTG) (p : zS) : zTG := fun j i => if j = 10 ∧ 0 ≤ i ∧ i < (p.length : Int) then p.getD i.toNat 0 else G j i
theorem patG_0 (G : zTG) : patG G [] = G := by
  funext j i
  exact if_neg (fun q => by have := q.2; rw [List.length_nil] at this; omega)
theorem patG_j (G : zTG) (p : zS) {j : Nat} (h : j ≠ 10) : patG G p j = G j := by
  funext i
  exact if_neg (fun q => h q.1)
theorem patG_at (G : zTG) (p : zS) {i : Int} (h0 : 0 ≤ i) (h1 : i < (p.length : Int)) : patG G p 10 i = cT p i := if_pos ⟨rfl, h0, h1⟩
theorem patG_s (G : zTG) (p : zS) (c : Int) : upG (patG G p) 10 (p.length : Int) c = patG G (p ++ [c]) := by
  funext j i
  unfold patG
  rw [List.length_append, List.length_singleton]
  show (if _ then _ else _) = _
  by_cases q : j = 10 ∧ i = (p.length : Int)
  · rw [if_pos q, if_pos (by omega), q.2, List.getD_eq_getElem?_getD, show ((p.length : Int)).toNat = p.length by omega, List.getElem?_append_right (Nat.le_refl _), Nat.sub_self]
    rfl
  · rw [if_neg q]
    show (if _ then _ else _) = _
    by_cases q2 : j = 10 ∧ 0 ≤ i ∧ i < (p.length : Int)
    · rw [if_pos q2, if_pos (by omega), List.getD_eq_getElem?_getD, List.getD_eq_getElem?_getD, List.getElem?_append_left (by omega)]
    · rw [if_neg q2, if_neg (by omega)]
theorem patF_s (F : zTF) (p : zS) (c : Int) : upF (upF F 15 (p.length : Int)) 15 ((p.length : Int) + 1) = upF F 15 ((p ++ [c]).length : Int) := by
  rw [upF_upF, List.length_append, List.length_singleton]
  rfl
abbrev rmX4_write : Room := { frames := 0, cells := 0, slots := 0, locals := 0 }
set_option maxHeartbeats 4000000 in
theorem c_X4_write (D : zD) (A : Nat → Prop) {b : Nat} {F : zTF} {G : zTG} {c : Int} (h : 0 ≤ F 15 ∧ F 15 < 41) : zC D yX4_write cX4_write 2 none none rmX4_write A [.ref b, zI (c)] (twI D A b F G) (zPv (twI D A b (upF F 15 (F 15 + 1)) (upG G 10 (F 15) c))) zNo := by
  refine zC_start (L := [some (.ref b), some (zI (c))]) (by decide) (Nat.le_of_ble_eq_true rfl) rfl (fun X hX => ?_)
  refine z_aload_n (i := 0) (q := 1) hX dX4_write_0 rfl rfl rfl ?_
  refine zt_getA (q := 4) hX 16 10 dX4_write_1 q1880 (by decide) rfl rfl rfl ?_
  refine z_aload_n (i := 0) (q := 5) hX dX4_write_4 rfl rfl rfl ?_
  refine zt_getI (q := 8) hX 15 dX4_write_5 q1879 (by decide) rfl rfl rfl ?_
  refine z_iload_n (i := 1) (q := 9) hX dX4_write_8 rfl rfl rfl ?_
  refine zt_ast (q := 10) (N := 41) hX 10 dX4_write_9 rfl (by decide) (by decide) (by omega) rfl ?_
  refine z_aload_n (i := 0) (q := 11) hX dX4_write_10 rfl rfl rfl ?_
  refine z_dup (q := 12) hX dX4_write_11 rfl rfl ?_
  refine zt_getI (q := 15) hX 15 dX4_write_12 q1879 (by decide) rfl rfl rfl ?_
  refine z_iconst (q := 16) hX dX4_write_15 rfl ?_
  refine z_iadd (q := 17) hX dX4_write_16 rfl ?_
  refine zt_put (ty := .int) (q := 20) hX 15 dX4_write_17 q1879 (by decide) rfl rfl rfl (by decide) rfl rfl rfl ?_
  exact z_vret hX dX4_write_20 (Nat.le_of_ble_eq_true rfl) (Nat.le_of_ble_eq_true rfl) rfl (fun H hI => ⟨rfl, hI⟩)
theorem patW {D : zD} {X : zX} {A : Nat → Prop} {k n : Nat} {pc : Nat} {L : List (Option Value)} {st : List Value} {b : Nat} {F : zTF} {G : zTG} (p : zS) (c : Int) (h : zG X k n (twI D A b (upF F 15 ((p ++ [c]).length : Int)) (patG G (p ++ [c]))) pc L st) : zG X k n (twI D A b (upF (upF F 15 (p.length : Int)) 15 (upF F 15 (p.length : Int) 15 + 1)) (upG (patG G p) 10 (upF F 15 (p.length : Int) 15) c)) pc L st := by
  rw [upF_same, patF_s F p c, patG_s]
  exact h
theorem zLn.pat {G : zTG} {l : Int} (p : zS) (h : zLn G l) : zLn (patG G p) l ∧ tx (patG G p 0) l = tx (G 0) l := by
  have e : ∀ j : Nat, j ≠ 10 → patG G p j = G j := fun j hj => patG_j G p hj
  exact ⟨h.lo (fun i _ => by rw [e 0 (by decide)]) (e 4 (by decide)) (e 5 (by decide)) (e 6 (by decide)), by rw [e 0 (by decide)]⟩
abbrev rmX4_layPattern : Room := { frames := 2, cells := 0, slots := 0, locals := 45 }
set_option maxHeartbeats 4000000 in
theorem c_X4_layPattern (D : zD) (A : Nat → Prop) {b : Nat} {F : zTF} {G : zTG} {t : Int} (hw : zWf G) (ht : isT (G 0) t = true) : zC D yX4_layPattern cX4_layPattern 5 none none rmX4_layPattern A [.ref b, zI (t)] (twI D A b F G) (zPv (twI D A b (upF F 15 ((paM (G 0) t).length : Int)) (patG G (paM (G 0) t)))) zNo := by
  refine zC_start (L := [some (.ref b), some (zI (t)), none, none, none]) (by decide) (Nat.le_of_ble_eq_true rfl) rfl (fun X hX => ?_)
  have hf := hw.fs ht
  have hm := hw.1
  have e1 : lnO (G 0) t 0 = fst (G 0) t := rfl
  have hg := hf.2.2.2.2.2.1
  have hgf := hg.1.f
  have e6 : nT (tx (G 0) (fst (G 0) t)) = nTl (G 0) (fst (G 0) t) := rfl
  have hlen := paM_len (M := G 0) (t := t)
  have e4 : G 4 (fst (G 0) t) = nTl (G 0) (fst (G 0) t) := hf.2.2.2.2.2.2.1
  have K : ∀ n : Nat, n ≤ (nTl (G 0) (fst (G 0) t) + 1).toNat → ∀ (p : zS) (g : Int), p = paN (G 0) t n → g = n → zG X 0 0 (twI D A b (upF F 15 (p.length : Int)) (patG G p)) 14 [some (.ref b), some (zI (t)), some (zI (fst (G 0) t)), some (zI (g)), none] [] := by
    refine z_up (fun n hn ih p g ep eg => ?_)
    subst eg
    have hstep : paN (G 0) t (n + 1) = p ++ List.replicate (gp (tx (G 0) (fst (G 0) t)) n).toNat 32 ++ (if (n : Int) < nTl (G 0) (fst (G 0) t) then pcM (G 0) t n else []) := by rw [ep]; rfl
    have hle : n < (nTl (G 0) (fst (G 0) t) + 1).toNat → (paN (G 0) t (n + 1)).length ≤ (paM (G 0) t).length := fun q => paN_le (by omega)
    have t4 : ∀ q : zS, patG G q 4 = G 4 := fun q => patG_j G q (by decide)
    have t0 : ∀ q : zS, patG G q 0 = G 0 := fun q => patG_j G q (by decide)
    have J154 : n < (nTl (G 0) (fst (G 0) t) + 1).toNat → ∀ p2 : zS, p2 = paN (G 0) t (n + 1) → zG X 0 0 (twI D A b (upF F 15 (p2.length : Int)) (patG G p2)) 154 [some (.ref b), some (zI (t)), some (zI (fst (G 0) t)), some (zI (n)), none] [] := by
      intro hlt p2 e2
      refine z_iinc (q := 157) hX dX4_layPattern_154 rfl (Nat.le_of_ble_eq_true rfl) rfl rfl ?_
      refine z_goto (t := 14) hX dX4_layPattern_157 (by decide) ?_
      exact ih hlt p2 _ e2 (by omega)
    have J50 : n < (nTl (G 0) (fst (G 0) t) + 1).toNat → ∀ p2 : zS, p2 = p ++ List.replicate (gp (tx (G 0) (fst (G 0) t)) n).toNat 32 → zG X 0 0 (twI D A b (upF F 15 (p2.length : Int)) (patG G p2)) 50 [some (.ref b), some (zI (t)), some (zI (fst (G 0) t)), some (zI (n)), none] [] := by
      intro hlt p2 e2
      have hl1 := hle hlt
      rw [hstep, ← e2, List.length_append] at hl1
      have l0 := fun q : zS => (hg.pat q).1
      have l1 := fun q : zS => (hg.pat q).2
      have K3 : (n : Int) < nTl (G 0) (fst (G 0) t) → slt (G 0) t n = -1 → ∀ m : Nat, m ≤ (wT (tx (G 0) (fst (G 0) t)) n).toNat → ∀ (p3 : zS) (x : Int), p3 = p2 ++ (tkl (G 0) (fst (G 0) t) n).take m → x = fT (tx (G 0) (fst (G 0) t)) n + m → zG X 0 0 (twI D A b (upF F 15 (p3.length : Int)) (patG G p3)) 78 [some (.ref b), some (zI (t)), some (zI (fst (G 0) t)), some (zI (n)), some (zI (x))] [] := by
        intro hnt hs1
        have h2 := tk_ok (s := tx (G 0) (fst (G 0) t)) (k := n) (by omega) (by omega)
        have h3 := tok_len (s := tx (G 0) (fst (G 0) t)) (k := n) (by omega) (by omega)
        have h4 : wT (tx (G 0) (fst (G 0) t)) n = eT (tx (G 0) (fst (G 0) t)) n - fT (tx (G 0) (fst (G 0) t)) n := rfl
        have h5 : tkl (G 0) (fst (G 0) t) n = tok (tx (G 0) (fst (G 0) t)) n := rfl
        have hpc : pcM (G 0) t n = tkl (G 0) (fst (G 0) t) n := if_pos hs1
        rw [if_pos hnt, hpc] at hl1 hstep
        rw [← h5] at h3
        refine z_up (fun m hm1 ih3 p3 x e3 ex => ?_)
        subst ex
        have hl3 : (p3.length : Int) = p2.length + m := by
          rw [e3, List.length_append, List.length_take]
          omega
        have hp3 := l0 p3
        have hq3 := l1 p3
        have hn3 : nT (tx (patG G p3 0) (fst (G 0) t)) = nTl (G 0) (fst (G 0) t) := by rw [hq3]; rfl
        have hz3 : patG G p3 0 (2 + fst (G 0) t) = G 0 (2 + fst (G 0) t) := by rw [t0]
        refine z_iload (q := 80) hX dX4_layPattern_78 rfl rfl ?_
        refine z_aload_n (i := 0) (q := 81) hX dX4_layPattern_80 rfl rfl rfl ?_
        refine z_iload_n (i := 2) (q := 82) hX dX4_layPattern_81 rfl rfl rfl ?_
        refine z_iload_n (i := 3) (q := 83) hX dX4_layPattern_82 rfl rfl rfl ?_
        refine zt_V1 (q := 86) (na := 2) hX dX4_layPattern_83 (c_X4_toOf D A (by first | assumption | omega) (by first | assumption | omega)) q2006 q2008 qs49 q103 q2009 rfl (by decide +kernel) ⟨Nat.le_of_ble_eq_true rfl, Nat.le_of_ble_eq_true rfl⟩ rfl rfl (Nat.le_of_ble_eq_true rfl) rfl ⟨rfl, rfl⟩ (Nat.le_of_ble_eq_true rfl) (Nat.le_of_ble_eq_true rfl) rfl ?_
        rw [hq3]
        refine z_icmp_ge (q := 89) (t := 106) hX dX4_layPattern_86 (by decide) (by omega) (by omega) rfl (fun h86 => ?_) (fun h86 => ?_)
        · refine z_goto (t := 154) hX dX4_layPattern_106 (by decide) ?_
          refine zG.drop 4 ?_
          refine J154 hlt p3 ?_
          rw [hstep, e3, ← e2, List.take_of_length_le (by omega)]
        · refine z_aload_n (i := 0) (q := 90) hX dX4_layPattern_89 rfl rfl rfl ?_
          refine z_aload_n (i := 0) (q := 91) hX dX4_layPattern_90 rfl rfl rfl ?_
          refine z_iload_n (i := 2) (q := 92) hX dX4_layPattern_91 rfl rfl rfl ?_
          refine z_iload (q := 94) hX dX4_layPattern_92 rfl rfl ?_
          refine zt_V1 (q := 97) (na := 2) hX dX4_layPattern_94 (c_X4_charAt D A hp3.1 (by omega)) q1978 q1980 qs42 q103 q1981 rfl (by decide +kernel) ⟨Nat.le_of_ble_eq_true rfl, Nat.le_of_ble_eq_true rfl⟩ rfl rfl (Nat.le_of_ble_eq_true rfl) rfl ⟨rfl, rfl⟩ (Nat.le_of_ble_eq_true rfl) (Nat.le_of_ble_eq_true rfl) rfl ?_
          rw [hq3]
          have hb15 : upF F 15 (p3.length : Int) 15 = p3.length := upF_same _ _ _
          refine zt_V0 (q := 100) (na := 1) hX dX4_layPattern_97 (c_X4_write D A (by first | assumption | omega)) q2117 q2119 qs68 q103 q2120 rfl (by decide +kernel) ⟨Nat.le_of_ble_eq_true rfl, Nat.le_of_ble_eq_true rfl⟩ rfl rfl (Nat.le_of_ble_eq_true rfl) rfl ⟨rfl, rfl⟩ (Nat.le_of_ble_eq_true rfl) (Nat.le_of_ble_eq_true rfl) rfl ?_
          refine z_iinc (q := 103) hX dX4_layPattern_100 rfl (Nat.le_of_ble_eq_true rfl) rfl rfl ?_
          refine z_goto (t := 78) hX dX4_layPattern_103 (by decide) ?_
          refine patW p3 _ ?_
          refine ih3 (by omega) _ _ ?_ (by omega)
          rw [e3, List.append_assoc]
          congr 1
          rw [List.take_add_one]
          congr 1
          rw [List.getElem?_eq_getElem (by omega)]
          have hc := tok_cT (s := tx (G 0) (fst (G 0) t)) (k := n) (i := m) (by omega) (by omega) (by omega) (by omega)
          rw [← h5] at hc
          rw [← hc]
          unfold cT
          rw [List.getD_eq_getElem?_getD, show ((m : Int)).toNat = m by omega, List.getElem?_eq_getElem (by omega)]
          rfl
      have hp2 := l0 p2
      have hs2 := hw.sl (t := t) (k := n) (by omega) (by omega) (by omega)
      have J151 : (n : Int) < nTl (G 0) (fst (G 0) t) → slt (G 0) t n ≠ -1 → ∀ c : Int, c = sgn (slt (G 0) t n) → zG X 0 0 (twI D A b (upF F 15 (p2.length : Int)) (patG G p2)) 151 [some (.ref b), some (zI (t)), some (zI (fst (G 0) t)), some (zI (n)), none] [zI (c), .ref b] := by
        intro hnt hs1 c ec
        have hpc : pcM (G 0) t n = [c] := by rw [ec]; exact if_neg hs1
        rw [if_pos hnt, hpc] at hl1 hstep
        rw [List.length_singleton] at hl1
        have hb15 : upF F 15 (p2.length : Int) 15 = p2.length := upF_same _ _ _
        refine zt_V0 (q := 154) (na := 1) hX dX4_layPattern_151 (c_X4_write D A (by first | assumption | omega)) q2117 q2119 qs68 q103 q2120 rfl (by decide +kernel) ⟨Nat.le_of_ble_eq_true rfl, Nat.le_of_ble_eq_true rfl⟩ rfl rfl (Nat.le_of_ble_eq_true rfl) rfl ⟨rfl, rfl⟩ (Nat.le_of_ble_eq_true rfl) (Nat.le_of_ble_eq_true rfl) rfl ?_
        refine patW p2 _ ?_
        exact J154 hlt _ (by rw [hstep, ← e2])
      have hn2 : nT (tx (patG G p2 0) (fst (G 0) t)) = nTl (G 0) (fst (G 0) t) := by rw [l1 p2]; rfl
      refine z_iload_n (i := 3) (q := 51) hX dX4_layPattern_50 rfl rfl rfl ?_
      refine z_aload_n (i := 0) (q := 52) hX dX4_layPattern_51 rfl rfl rfl ?_
      refine zt_getA (q := 55) hX 7 4 dX4_layPattern_52 q1871 (by decide) rfl rfl rfl ?_
      refine z_iload_n (i := 2) (q := 56) hX dX4_layPattern_55 rfl rfl rfl ?_
      refine zt_ald (q := 57) (N := 41) hX 4 dX4_layPattern_56 rfl (by decide) (by decide) (by omega) rfl ?_
      rw [t4, e4]
      refine z_icmp_ge (q := 60) (t := 109) hX dX4_layPattern_57 (by decide) (by omega) (by omega) rfl (fun h57 => ?_) (fun h57 => ?_)
      · refine z_iload_n (i := 3) (q := 110) hX dX4_layPattern_109 rfl rfl rfl ?_
        refine z_aload_n (i := 0) (q := 111) hX dX4_layPattern_110 rfl rfl rfl ?_
        refine zt_getA (q := 114) hX 7 4 dX4_layPattern_111 q1871 (by decide) rfl rfl rfl ?_
        refine z_iload_n (i := 2) (q := 115) hX dX4_layPattern_114 rfl rfl rfl ?_
        refine zt_ald (q := 116) (N := 41) hX 4 dX4_layPattern_115 rfl (by decide) (by decide) (by omega) rfl ?_
        rw [t4, e4]
        refine z_icmp_ge (q := 119) (t := 154) hX dX4_layPattern_116 (by decide) (by omega) (by omega) rfl (fun h116 => ?_) (fun h116 => ?_)
        · exact J154 hlt p2 (by rw [hstep, e2, if_neg (by omega), List.append_nil])
        · exact absurd h57 (by omega)
      · refine z_aload_n (i := 0) (q := 61) hX dX4_layPattern_60 rfl rfl rfl ?_
        refine z_iload_n (i := 1) (q := 62) hX dX4_layPattern_61 rfl rfl rfl ?_
        refine z_iload_n (i := 3) (q := 63) hX dX4_layPattern_62 rfl rfl rfl ?_
        refine zt_V1 (q := 66) (na := 2) hX dX4_layPattern_63 (c_X4_slotOf D A (by first | assumption | omega) (by first | assumption | omega)) q2014 q2016 qs51 q103 q2017 rfl (by decide +kernel) ⟨Nat.le_of_ble_eq_true rfl, Nat.le_of_ble_eq_true rfl⟩ rfl rfl (Nat.le_of_ble_eq_true rfl) rfl ⟨rfl, rfl⟩ (Nat.le_of_ble_eq_true rfl) (Nat.le_of_ble_eq_true rfl) rfl ?_
        rw [t0]
        have hs3 := hs2 (by omega)
        refine z_iconst (q := 67) hX dX4_layPattern_66 rfl ?_
        refine z_icmp_ne (q := 70) (t := 109) hX dX4_layPattern_67 (by decide) (by omega) (by omega) rfl (fun h67 => ?_) (fun h67 => ?_)
        · refine z_iload_n (i := 3) (q := 110) hX dX4_layPattern_109 rfl rfl rfl ?_
          refine z_aload_n (i := 0) (q := 111) hX dX4_layPattern_110 rfl rfl rfl ?_
          refine zt_getA (q := 114) hX 7 4 dX4_layPattern_111 q1871 (by decide) rfl rfl rfl ?_
          refine z_iload_n (i := 2) (q := 115) hX dX4_layPattern_114 rfl rfl rfl ?_
          refine zt_ald (q := 116) (N := 41) hX 4 dX4_layPattern_115 rfl (by decide) (by decide) (by omega) rfl ?_
          rw [t4, e4]
          refine z_icmp_ge (q := 119) (t := 154) hX dX4_layPattern_116 (by decide) (by omega) (by omega) rfl (fun h116 => ?_) (fun h116 => ?_)
          · exact absurd h116 (by omega)
          · refine z_aload_n (i := 0) (q := 120) hX dX4_layPattern_119 rfl rfl rfl ?_
            refine z_aload_n (i := 0) (q := 121) hX dX4_layPattern_120 rfl rfl rfl ?_
            refine z_iload_n (i := 1) (q := 122) hX dX4_layPattern_121 rfl rfl rfl ?_
            refine z_iload_n (i := 3) (q := 123) hX dX4_layPattern_122 rfl rfl rfl ?_
            refine zt_V1 (q := 126) (na := 2) hX dX4_layPattern_123 (c_X4_slotOf D A (by first | assumption | omega) (by first | assumption | omega)) q2014 q2016 qs51 q103 q2017 rfl (by decide +kernel) ⟨Nat.le_of_ble_eq_true rfl, Nat.le_of_ble_eq_true rfl⟩ rfl rfl (Nat.le_of_ble_eq_true rfl) rfl ⟨rfl, rfl⟩ (Nat.le_of_ble_eq_true rfl) (Nat.le_of_ble_eq_true rfl) rfl ?_
            rw [t0]
            refine z_if_ne (q := 129) (t := 134) hX dX4_layPattern_126 (by decide) (by omega) rfl (fun h126 => ?_) (fun h126 => ?_)
            · refine z_aload_n (i := 0) (q := 135) hX dX4_layPattern_134 rfl rfl rfl ?_
              refine z_iload_n (i := 1) (q := 136) hX dX4_layPattern_135 rfl rfl rfl ?_
              refine z_iload_n (i := 3) (q := 137) hX dX4_layPattern_136 rfl rfl rfl ?_
              refine zt_V1 (q := 140) (na := 2) hX dX4_layPattern_137 (c_X4_slotOf D A (by first | assumption | omega) (by first | assumption | omega)) q2014 q2016 qs51 q103 q2017 rfl (by decide +kernel) ⟨Nat.le_of_ble_eq_true rfl, Nat.le_of_ble_eq_true rfl⟩ rfl rfl (Nat.le_of_ble_eq_true rfl) rfl ⟨rfl, rfl⟩ (Nat.le_of_ble_eq_true rfl) (Nat.le_of_ble_eq_true rfl) rfl ?_
              rw [t0]
              refine z_iconst (q := 141) hX dX4_layPattern_140 rfl ?_
              refine z_icmp_ne (q := 144) (t := 149) hX dX4_layPattern_141 (by decide) (by omega) (by omega) rfl (fun h141 => ?_) (fun h141 => ?_)
              · refine z_bipush (q := 151) hX dX4_layPattern_149 (by decide) rfl ?_
                exact J151 (by omega) h67 _ (by unfold sgn; rw [if_neg h126, if_neg h141])
              · refine z_bipush (q := 146) hX dX4_layPattern_144 (by decide) rfl ?_
                refine z_goto (t := 151) hX dX4_layPattern_146 (by decide) ?_
                exact J151 (by omega) h67 _ (by unfold sgn; rw [if_neg h126, if_pos (by omega)])
            · refine z_bipush (q := 131) hX dX4_layPattern_129 (by decide) rfl ?_
              refine z_goto (t := 151) hX dX4_layPattern_131 (by decide) ?_
              exact J151 (by omega) h67 _ (by unfold sgn; rw [if_pos (by omega)])
        · refine z_aload_n (i := 0) (q := 71) hX dX4_layPattern_70 rfl rfl rfl ?_
          refine z_iload_n (i := 2) (q := 72) hX dX4_layPattern_71 rfl rfl rfl ?_
          refine z_iload_n (i := 3) (q := 73) hX dX4_layPattern_72 rfl rfl rfl ?_
          refine zt_V1 (q := 76) (na := 2) hX dX4_layPattern_73 (c_X4_fromOf D A (by first | assumption | omega) (by first | assumption | omega)) q2010 q2012 qs50 q103 q2013 rfl (by decide +kernel) ⟨Nat.le_of_ble_eq_true rfl, Nat.le_of_ble_eq_true rfl⟩ rfl rfl (Nat.le_of_ble_eq_true rfl) rfl ⟨rfl, rfl⟩ (Nat.le_of_ble_eq_true rfl) (Nat.le_of_ble_eq_true rfl) rfl ?_
          rw [l1 p2]
          refine z_istore (q := 78) hX dX4_layPattern_76 (Nat.le_of_ble_eq_true rfl) rfl rfl ?_
          exact K3 (by omega) (by omega) 0 (Nat.zero_le _) p2 _ (by rw [List.take_zero, List.append_nil]) (by omega)
    have K2 : n < (nTl (G 0) (fst (G 0) t) + 1).toNat → ∀ m : Nat, m ≤ (gp (tx (G 0) (fst (G 0) t)) n).toNat → ∀ (p2 : zS) (x : Int), p2 = p ++ List.replicate m 32 → x = m → zG X 0 0 (twI D A b (upF F 15 (p2.length : Int)) (patG G p2)) 27 [some (.ref b), some (zI (t)), some (zI (fst (G 0) t)), some (zI (n)), some (zI (x))] [] := by
      intro hlt
      have hl1 := hle hlt
      rw [hstep, List.length_append, List.length_append, List.length_replicate] at hl1
      have hgr := gp_rng hg (g := n) (by omega) (by omega)
      refine z_up (fun m hm1 ih2 p2 x e2 ex => ?_)
      subst ex
      have hl2 : p2.length = p.length + m := by rw [e2, List.length_append, List.length_replicate]
      have hp2 := (hg.pat p2).1
      have hq2 := (hg.pat p2).2
      have hn2 : nT (tx (patG G p2 0) (fst (G 0) t)) = nTl (G 0) (fst (G 0) t) := by rw [hq2]; rfl
      have hb15 : upF F 15 (p2.length : Int) 15 = p2.length := upF_same _ _ _
      refine z_iload (q := 29) hX dX4_layPattern_27 rfl rfl ?_
      refine z_aload_n (i := 0) (q := 30) hX dX4_layPattern_29 rfl rfl rfl ?_
      refine z_iload_n (i := 2) (q := 31) hX dX4_layPattern_30 rfl rfl rfl ?_
      refine z_iload_n (i := 3) (q := 32) hX dX4_layPattern_31 rfl rfl rfl ?_
      refine zt_V1 (q := 35) (na := 2) hX dX4_layPattern_32 (c_X4_gap D A (by first | assumption | omega) (by first | assumption | omega)) q2002 q2004 qs48 q103 q2005 rfl (by decide +kernel) ⟨Nat.le_of_ble_eq_true rfl, Nat.le_of_ble_eq_true rfl⟩ rfl rfl (Nat.le_of_ble_eq_true rfl) rfl ⟨rfl, rfl⟩ (Nat.le_of_ble_eq_true rfl) (Nat.le_of_ble_eq_true rfl) rfl ?_
      rw [hq2]
      refine z_icmp_ge (q := 38) (t := 50) hX dX4_layPattern_35 (by decide) (by omega) (by omega) rfl (fun h35 => ?_) (fun h35 => ?_)
      · refine zG.drop 4 ?_
        exact J50 hlt p2 (by rw [e2, show m = (gp (tx (G 0) (fst (G 0) t)) n).toNat by omega])
      · refine z_aload_n (i := 0) (q := 39) hX dX4_layPattern_38 rfl rfl rfl ?_
        refine z_bipush (q := 41) hX dX4_layPattern_39 (by decide) rfl ?_
        refine zt_V0 (q := 44) (na := 1) hX dX4_layPattern_41 (c_X4_write D A (by first | assumption | omega)) q2117 q2119 qs68 q103 q2120 rfl (by decide +kernel) ⟨Nat.le_of_ble_eq_true rfl, Nat.le_of_ble_eq_true rfl⟩ rfl rfl (Nat.le_of_ble_eq_true rfl) rfl ⟨rfl, rfl⟩ (Nat.le_of_ble_eq_true rfl) (Nat.le_of_ble_eq_true rfl) rfl ?_
        refine z_iinc (q := 47) hX dX4_layPattern_44 rfl (Nat.le_of_ble_eq_true rfl) rfl rfl ?_
        refine z_goto (t := 27) hX dX4_layPattern_47 (by decide) ?_
        refine patW p2 _ ?_
        exact ih2 (by omega) _ _ (by rw [e2, List.replicate_succ', List.append_assoc]) (by omega)
    refine z_iload_n (i := 3) (q := 15) hX dX4_layPattern_14 rfl rfl rfl ?_
    refine z_aload_n (i := 0) (q := 16) hX dX4_layPattern_15 rfl rfl rfl ?_
    refine zt_getA (q := 19) hX 7 4 dX4_layPattern_16 q1871 (by decide) rfl rfl rfl ?_
    refine z_iload_n (i := 2) (q := 20) hX dX4_layPattern_19 rfl rfl rfl ?_
    refine zt_ald (q := 21) (N := 41) hX 4 dX4_layPattern_20 rfl (by decide) (by decide) (by omega) rfl ?_
    rw [t4, e4]
    refine z_icmp_gt (q := 24) (t := 160) hX dX4_layPattern_21 (by decide) (by omega) (by omega) rfl (fun h21 => ?_) (fun h21 => ?_)
    · refine zt_conv (F2 := upF F 15 ((paM (G 0) t).length : Int)) (G2 := patG G (paM (G 0) t)) (by rw [ep]; unfold paM; rw [show n = (nTl (G 0) (fst (G 0) t) + 1).toNat by omega]) (by rw [ep]; unfold paM; rw [show n = (nTl (G 0) (fst (G 0) t) + 1).toNat by omega]) ?_
      exact z_vret hX dX4_layPattern_160 (Nat.le_of_ble_eq_true rfl) (Nat.le_of_ble_eq_true rfl) rfl (fun H hI => ⟨rfl, hI⟩)
    · refine z_iconst (q := 25) hX dX4_layPattern_24 rfl ?_
      refine z_istore (q := 27) hX dX4_layPattern_25 (Nat.le_of_ble_eq_true rfl) rfl rfl ?_
      exact K2 (by omega) 0 (Nat.zero_le _) p _ (by rw [List.replicate_zero, List.append_nil]) rfl
  refine z_aload_n (i := 0) (q := 1) hX dX4_layPattern_0 rfl rfl rfl ?_
  refine z_iload_n (i := 1) (q := 2) hX dX4_layPattern_1 rfl rfl rfl ?_
  refine z_iconst (q := 3) hX dX4_layPattern_2 rfl ?_
  refine zt_V1 (q := 6) (na := 2) hX dX4_layPattern_3 (c_X4_lineOf D A (by first | assumption | omega) (by first | assumption | omega) (by first | assumption | omega)) q1990 q1992 qs45 q103 q1993 rfl (by decide +kernel) ⟨Nat.le_of_ble_eq_true rfl, Nat.le_of_ble_eq_true rfl⟩ rfl rfl (Nat.le_of_ble_eq_true rfl) rfl ⟨rfl, rfl⟩ (Nat.le_of_ble_eq_true rfl) (Nat.le_of_ble_eq_true rfl) rfl ?_
  rw [e1]
  refine z_istore_n (i := 2) (q := 7) hX dX4_layPattern_6 rfl (Nat.le_of_ble_eq_true rfl) rfl rfl ?_
  refine z_aload_n (i := 0) (q := 8) hX dX4_layPattern_7 rfl rfl rfl ?_
  refine z_iconst (q := 9) hX dX4_layPattern_8 rfl ?_
  refine zt_put (ty := .int) (q := 12) hX 15 dX4_layPattern_9 q1879 (by decide) rfl rfl rfl (by decide) rfl rfl rfl ?_
  refine z_iconst (q := 13) hX dX4_layPattern_12 rfl ?_
  refine z_istore_n (i := 3) (q := 14) hX dX4_layPattern_13 rfl (Nat.le_of_ble_eq_true rfl) rfl rfl ?_
  have e9 := K 0 (Nat.zero_le _) [] 0 rfl rfl
  rw [patG_0] at e9
  exact e9
def opPat (M : Int → Int) (t x : Int) : Int × Int := if isT M t = false then (1, 0) else if x = -1 then (0, ((paM M t).length : Int)) else if 0 ≤ x ∧ x ≤ ((paM M t).length : Int) - 1 then (0, cT (paM M t) x) else (1, 0)
def zSP (F : zTF) (G : zTG) (F2 : zTF) (G2 : zTG) : Prop := (∀ j, j ≠ 15 → F2 j = F j) ∧ ∀ j, j ≠ 10 → G2 j = G j
abbrev rmX4_pattern : Room := { frames := 3, cells := 0, slots := 0, locals := 69 }
set_option maxHeartbeats 4000000 in
theorem c_X4_pattern (D : zD) (A : Nat → Prop) {b : Nat} {F : zTF} {G : zTG} {t x : Int} (hw : zWf G) (ht : zR t) (hx : zR x) : zC D yX4_pattern cX4_pattern 3 (some .int) none rmX4_pattern A [.ref b, zI (t), zI (x)] (twI D A b F G) (zPd (zI ((opPat (G 0) t x).2)) (twE D A b (zSP (upF F 6 (opPat (G 0) t x).1) G))) zNo := by
  refine zC_start (L := [some (.ref b), some (zI (t)), some (zI (x))]) (by decide) (Nat.le_of_ble_eq_true rfl) rfl (fun X hX => ?_)
  have hm := hw.1
  by_cases hT : isT (G 0) t = true
  · have hf := hw.fs hT
    have hgf := hf.2.2.2.2.2.1.1.f
    have hlen := paM_len (M := G 0) (t := t)
    have e15 : upF (upF F 6 0) 15 ((paM (G 0) t).length : Int) 15 = ((paM (G 0) t).length : Int) := upF_same _ _ _
    have fin : ∀ c : Int, zSP (upF F 6 c) G (upF (upF (upF F 6 0) 15 ((paM (G 0) t).length : Int)) 6 c) (patG G (paM (G 0) t)) := fun c => ⟨fun j hj => by
      unfold upF
      by_cases q : j = 6 <;> simp [q, hj], fun j hj => patG_j _ _ hj⟩
    have fin0 : zSP (upF F 6 0) G (upF (upF F 6 0) 15 ((paM (G 0) t).length : Int)) (patG G (paM (G 0) t)) := ⟨fun j hj => upF_ne _ _ hj, fun j hj => patG_j _ _ hj⟩
    have op0 : opPat (G 0) t x = if x = -1 then (0, ((paM (G 0) t).length : Int)) else if 0 ≤ x ∧ x ≤ ((paM (G 0) t).length : Int) - 1 then (0, cT (paM (G 0) t) x) else (1, 0) := if_neg (by rw [hT]; decide)
    refine z_aload_n (i := 0) (q := 1) hX dX4_pattern_0 rfl rfl rfl ?_
    refine z_iconst (q := 2) hX dX4_pattern_1 rfl ?_
    refine zt_put (ty := .int) (q := 5) hX 6 dX4_pattern_2 q1870 (by decide) rfl rfl rfl (by decide) rfl rfl rfl ?_
    refine z_aload_n (i := 0) (q := 6) hX dX4_pattern_5 rfl rfl rfl ?_
    refine z_iload_n (i := 1) (q := 7) hX dX4_pattern_6 rfl rfl rfl ?_
    refine zt_V1 (q := 10) (na := 1) hX dX4_pattern_7 (c_X4_isTemplate D A (by first | assumption | omega) (by first | assumption | omega)) q1986 q1988 qs44 q103 q1989 rfl (by decide +kernel) ⟨Nat.le_of_ble_eq_true rfl, Nat.le_of_ble_eq_true rfl⟩ rfl rfl (Nat.le_of_ble_eq_true rfl) rfl ⟨rfl, rfl⟩ (Nat.le_of_ble_eq_true rfl) (Nat.le_of_ble_eq_true rfl) rfl ?_
    refine z_ifB_ne (q := 13) (t := 19) hX dX4_pattern_10 (by decide) rfl (fun h10 => ?_) (fun h10 => ?_)
    · refine z_aload_n (i := 0) (q := 20) hX dX4_pattern_19 rfl rfl rfl ?_
      refine z_iload_n (i := 1) (q := 21) hX dX4_pattern_20 rfl rfl rfl ?_
      refine zt_V0 (q := 24) (na := 1) hX dX4_pattern_21 (c_X4_layPattern D A (by first | assumption | omega) (by first | assumption | omega)) q2113 q2115 qs67 q103 q2116 rfl (by decide +kernel) ⟨Nat.le_of_ble_eq_true rfl, Nat.le_of_ble_eq_true rfl⟩ rfl rfl (Nat.le_of_ble_eq_true rfl) rfl ⟨rfl, rfl⟩ (Nat.le_of_ble_eq_true rfl) (Nat.le_of_ble_eq_true rfl) rfl ?_
      refine z_iload_n (i := 2) (q := 25) hX dX4_pattern_24 rfl rfl rfl ?_
      refine z_iconst (q := 26) hX dX4_pattern_25 rfl ?_
      refine z_icmp_ne (q := 29) (t := 36) hX dX4_pattern_26 (by decide) (by omega) (by omega) rfl (fun h26 => ?_) (fun h26 => ?_)
      · refine z_iload_n (i := 2) (q := 37) hX dX4_pattern_36 rfl rfl rfl ?_
        refine z_iconst (q := 38) hX dX4_pattern_37 rfl ?_
        refine z_aload_n (i := 0) (q := 39) hX dX4_pattern_38 rfl rfl rfl ?_
        refine zt_getI (q := 42) hX 15 dX4_pattern_39 q1879 (by decide) rfl rfl rfl ?_
        rw [e15]
        refine z_iconst (q := 43) hX dX4_pattern_42 rfl ?_
        refine z_isub (q := 44) hX dX4_pattern_43 rfl ?_
        refine zt_S1 (q := 47) (na := 3) hX dX4_pattern_44 (c_X4_in D A (by first | assumption | omega) (by first | assumption | omega) (by first | assumption | omega)) q1955 q1956 q103 q1957 (by decide +kernel) ⟨Nat.le_of_ble_eq_true rfl, Nat.le_of_ble_eq_true rfl⟩ rfl rfl (Nat.le_of_ble_eq_true rfl) rfl ⟨rfl, rfl⟩ (Nat.le_of_ble_eq_true rfl) (Nat.le_of_ble_eq_true rfl) rfl ?_
        refine z_ifB_eq (q := 50) (t := 59) hX dX4_pattern_47 (by decide) rfl (fun h47 => ?_) (fun h47 => ?_)
        · refine z_aload_n (i := 0) (q := 60) hX dX4_pattern_59 rfl rfl rfl ?_
          refine z_iconst (q := 61) hX dX4_pattern_60 rfl ?_
          refine zt_V1 (q := 64) (na := 1) hX dX4_pattern_61 (c_X4_refuse D A) q1962 q1964 qs39 q103 q1965 rfl (by decide +kernel) ⟨Nat.le_of_ble_eq_true rfl, Nat.le_of_ble_eq_true rfl⟩ rfl rfl (Nat.le_of_ble_eq_true rfl) rfl ⟨rfl, rfl⟩ (Nat.le_of_ble_eq_true rfl) (Nat.le_of_ble_eq_true rfl) rfl ?_
          exact z_iret hX dX4_pattern_64 (Nat.le_of_ble_eq_true rfl) (Nat.le_of_ble_eq_true rfl) rfl (fun H hI => by
          have e : opPat (G 0) t x = (1, 0) := by rw [op0, if_neg h26, if_neg (and_f.mp h47)]
          rw [e]
          exact ⟨rfl, _, _, fin 1, hI⟩)
        · have hq := and_t.mp h47
          refine z_aload_n (i := 0) (q := 51) hX dX4_pattern_50 rfl rfl rfl ?_
          refine zt_getA (q := 54) hX 16 10 dX4_pattern_51 q1880 (by decide) rfl rfl rfl ?_
          refine z_iload_n (i := 2) (q := 55) hX dX4_pattern_54 rfl rfl rfl ?_
          refine zt_ald (q := 56) (N := 41) hX 10 dX4_pattern_55 rfl (by decide) (by decide) (by omega) rfl ?_
          rw [patG_at _ _ (by omega) (by omega)]
          refine z_goto (t := 64) hX dX4_pattern_56 (by decide) ?_
          exact z_iret hX dX4_pattern_64 (Nat.le_of_ble_eq_true rfl) (Nat.le_of_ble_eq_true rfl) rfl (fun H hI => by
          have e : opPat (G 0) t x = (0, cT (paM (G 0) t) x) := by rw [op0, if_neg h26, if_pos hq]
          rw [e]
          exact ⟨rfl, _, _, fin0, hI⟩)
      · refine z_aload_n (i := 0) (q := 30) hX dX4_pattern_29 rfl rfl rfl ?_
        refine zt_getI (q := 33) hX 15 dX4_pattern_30 q1879 (by decide) rfl rfl rfl ?_
        rw [e15]
        refine z_goto (t := 64) hX dX4_pattern_33 (by decide) ?_
        exact z_iret hX dX4_pattern_64 (Nat.le_of_ble_eq_true rfl) (Nat.le_of_ble_eq_true rfl) rfl (fun H hI => by
        have e : opPat (G 0) t x = (0, ((paM (G 0) t).length : Int)) := by rw [op0, if_pos (by omega)]
        rw [e]
        exact ⟨rfl, _, _, fin0, hI⟩)
    · exact absurd hT (by rw [h10]; decide)
  · have hT2 : isT (G 0) t = false := by simpa using hT
    have e : opPat (G 0) t x = (1, 0) := if_pos hT2
    rw [e] at hX
    refine z_aload_n (i := 0) (q := 1) hX dX4_pattern_0 rfl rfl rfl ?_
    refine z_iconst (q := 2) hX dX4_pattern_1 rfl ?_
    refine zt_put (ty := .int) (q := 5) hX 6 dX4_pattern_2 q1870 (by decide) rfl rfl rfl (by decide) rfl rfl rfl ?_
    refine z_aload_n (i := 0) (q := 6) hX dX4_pattern_5 rfl rfl rfl ?_
    refine z_iload_n (i := 1) (q := 7) hX dX4_pattern_6 rfl rfl rfl ?_
    refine zt_V1 (q := 10) (na := 1) hX dX4_pattern_7 (c_X4_isTemplate D A (by first | assumption | omega) (by first | assumption | omega)) q1986 q1988 qs44 q103 q1989 rfl (by decide +kernel) ⟨Nat.le_of_ble_eq_true rfl, Nat.le_of_ble_eq_true rfl⟩ rfl rfl (Nat.le_of_ble_eq_true rfl) rfl ⟨rfl, rfl⟩ (Nat.le_of_ble_eq_true rfl) (Nat.le_of_ble_eq_true rfl) rfl ?_
    refine z_ifB_ne (q := 13) (t := 19) hX dX4_pattern_10 (by decide) rfl (fun h10 => ?_) (fun h10 => ?_)
    · exact absurd hT2 (by rw [h10]; decide)
    · refine z_aload_n (i := 0) (q := 14) hX dX4_pattern_13 rfl rfl rfl ?_
      refine z_iconst (q := 15) hX dX4_pattern_14 rfl ?_
      refine zt_V1 (q := 18) (na := 1) hX dX4_pattern_15 (c_X4_refuse D A) q1962 q1964 qs39 q103 q1965 rfl (by decide +kernel) ⟨Nat.le_of_ble_eq_true rfl, Nat.le_of_ble_eq_true rfl⟩ rfl rfl (Nat.le_of_ble_eq_true rfl) rfl ⟨rfl, rfl⟩ (Nat.le_of_ble_eq_true rfl) (Nat.le_of_ble_eq_true rfl) rfl ?_
      exact z_iret hX dX4_pattern_18 (Nat.le_of_ble_eq_true rfl) (Nat.le_of_ble_eq_true rfl) rfl (fun H hI => ⟨rfl, _, _, by
      rw [upF_upF]
      exact ⟨fun j _ => rfl, fun j _ => rfl⟩, hI⟩)
