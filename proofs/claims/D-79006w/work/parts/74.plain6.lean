/-! PLAIN LAWS: what a merge gains -/
set_option maxRecDepth 100000
theorem leastI_congr2 {p q : Int → Bool} {n : Nat} (h : ∀ i : Nat, i < n → p i = q i) : leastI p n = leastI q n := by
  induction n with
  | zero => rfl
  | succ n ih =>
    rw [leastI, leastI, ih (fun i hi => h i (by omega)), h n (by omega)]
theorem fstI_cg {c d : Int → zS} {n r : Nat} (h : ∀ i : Nat, i < n → c i = d i) (hr : r < n) : fstI c r = fstI d r := by
  unfold fstI
  rw [Int.toNat_natCast, leastI_congr2 (q := fun i => decide (d i = d r)) (fun i hi => by
    show decide (c i = c r) = decide (d i = d r)
    rw [h i (by omega), h r hr])]
theorem beg_cg {c d : Int → zS} {n r : Nat} (h : ∀ i : Nat, i < n → c i = d i) (hr : r < n) : beg c r = beg d r := by
  unfold beg
  by_cases e : r = 0
  · subst e
    rfl
  · obtain ⟨q, rfl⟩ : ∃ q, r = q + 1 := ⟨r - 1, by omega⟩
    rw [show ((q + 1 : Nat) : Int) - 1 = (q : Int) by omega, h q (by omega), h (q + 1) hr]
theorem cosI_cg {c d : Int → zS} {n : Nat} {way : Int} (h : ∀ i : Nat, i < n → c i = d i) : cosI n c way = cosI n d way := by
  have e1 : ∀ b : Bool, pln n c b = pln n d b := fun b => by
    unfold pln
    congr 1
    refine sumI_congr (fun i hi => ?_)
    rw [fstI_cg h hi, h i hi]
  have e2 : ∀ b : Bool, runI n c b = runI n d b := fun b => by
    unfold runI
    refine sumI_congr (fun i hi => ?_)
    rw [beg_cg h hi, h i hi]
  have e3 : difI n c = difI n d := by
    unfold difI
    rw [allI_congr (q := fun r => decide (typ (d r) = 2)) (fun i hi => by
      show decide (typ (c i) = 2) = decide (typ (d i) = 2)
      rw [h i hi])]
    have e4 : difS n c = difS n d := by
      unfold difS
      refine sumI_congr (fun i hi => ?_)
      by_cases e : i = 0
      · subst e
        have h0 : c 0 = d 0 := h 0 hi
        rw [if_pos (show ((0 : Nat) : Int) = 0 from rfl), if_pos (show ((0 : Nat) : Int) = 0 from rfl), h0]
      · obtain ⟨q, rfl⟩ : ∃ q, i = q + 1 := ⟨i - 1, by omega⟩
        rw [if_neg (by omega), if_neg (by omega), show ((q + 1 : Nat) : Int) - 1 = (q : Int) by omega, h q (by omega), h (q + 1) hi]
    rw [e4]
  unfold cosI
  rw [e1, e1, e2, e3]
theorem wayI_cg {c d : Int → zS} {n : Nat} (h : ∀ i : Nat, i < n → c i = d i) : wayI n c = wayI n d := by
  have key : ∀ k : Nat, wayS n c k = wayS n d k := by
    intro k
    induction k with
    | zero => rfl
    | succ k ih => rw [wayS, wayS, ih, cosI_cg h, cosI_cg h]
  exact key 3
theorem sumI_zero {f : Int → Int} {n : Nat} (h : ∀ i : Nat, i < n → f i = 0) : sumI f n = 0 := by
  induction n with
  | zero => rfl
  | succ n ih =>
    rw [sumI, ih (fun i hi => h i (by omega)), h n (by omega)]
    rfl
theorem sumI_pt {f : Int → Int} {n a : Nat} (ha : a < n) (h : ∀ i : Nat, i < n → i ≠ a → f i = 0) : sumI f n = f a := by
  induction n with
  | zero => omega
  | succ n ih =>
    rw [sumI]
    by_cases e : a = n
    · subst e
      rw [sumI_zero (fun i hi => h i (by omega) (by omega))]
      omega
    · rw [ih (by omega) (fun i hi hi2 => h i (by omega) hi2), h n (by omega) (by omega)]
      omega
theorem sumI_pt2 {f : Int → Int} {n a b : Nat} (ha : a < n) (hb : b < n) (hab : a ≠ b) (h : ∀ i : Nat, i < n → i ≠ a → i ≠ b → f i = 0) : sumI f n = f a + f b := by
  induction n with
  | zero => omega
  | succ n ih =>
    rw [sumI]
    by_cases e : a = n
    · subst e
      rw [sumI_pt (a := b) (by omega) (fun i hi hi2 => h i (by omega) (by omega) hi2)]
      omega
    · by_cases e2 : b = n
      · subst e2
        rw [sumI_pt (a := a) (by omega) (fun i hi hi2 => h i (by omega) hi2 (by omega))]
      · rw [ih (by omega) (by omega) (fun i hi h1 h2 => h i (by omega) h1 h2), h n (by omega) (by omega) (by omega)]
        omega
theorem sumI_sub {f g : Int → Int} {n : Nat} : sumI f n - sumI g n = sumI (fun i => f i - g i) n := by
  induction n with
  | zero => rfl
  | succ n ih =>
    rw [sumI, sumI, sumI, ← ih]
    omega
theorem sumI_add2 {f g : Int → Int} {n : Nat} : sumI f n + sumI g n = sumI (fun i => f i + g i) n := by
  induction n with
  | zero => rfl
  | succ n ih =>
    rw [sumI, sumI, sumI, ← ih]
    omega
section GN
variable {M : Int → Int} {lo hi : Int}
theorem cR_cg {T T2 : Int → zS} {R : List Int} {k : Int} (h : ∀ r ∈ R, T r = T2 r) : ∀ i : Nat, i < R.length → cR T R k i = cR T2 R k i := fun i hi => by
  unfold cR
  rw [Int.toNat_natCast]
  have hm : R.getD i (-1) ∈ R := by
    rw [List.getD_eq_getElem?_getD, List.getElem?_eq_getElem hi]
    exact List.getElem_mem hi
  rw [h _ hm]
theorem cosM_l {M : Int → Int} {t k way : Int} {R : List Int} (hR : rws M t = R) : cosM M t k way = cosI R.length (cR (tx M) R k) way := by rw [← cosM_eq, hR]
theorem wayM_l {M : Int → Int} {t k : Int} {R : List Int} (hR : rws M t = R) : wayM M t k = wayI R.length (cR (tx M) R k) := by rw [← wayM_eq, hR]
/-- another template costs what it did -/
theorem mgM_cot (h : zOk M) (hl : 0 ≤ lo) {t : Int} (ht : 0 ≤ t ∧ t ≤ 11) (h1 : t ≠ lo) (h2 : t ≠ hi) (hn20 : nTl M (fst M lo) ≤ 20) : cosTt (mgM M lo hi) t = cosTt M t := by
  have hfo := mgM_fo (lo := lo) (hi := hi) h hl h1 h2
  have hiT : isT (mgM M lo hi) t = isT M t := by
    unfold isT
    rw [hfo]
  unfold cosTt
  rw [hiT]
  by_cases hT : isT M t = true
  · rw [if_pos hT, if_pos hT]
    have rt := isT_row h hT
    have ht20 := (h.f rt.1 rt.2.1).2.2.2.2
    have htx := mgM_tx (lo := lo) (hi := hi) h hl rt.1 rt.2.1
    have hnt := mgM_n (lo := lo) (hi := hi) h hl rt.1 rt.2.1
    have hrw := mgM_rot (lo := lo) (hi := hi) h hl h1 h2
    rw [hfo, hnt]
    have hs : ∀ k : Nat, k < (nTl M (fst M t)).toNat → slt (mgM M lo hi) t k = slt M t k := fun k hk => mgM_so h hl (by omega) (by omega) (by omega) hn20 (Or.inl h1)
    have hall : ∀ r ∈ rws M t, tx (mgM M lo hi) r = tx M r := fun r hr => by
      have := rws_mem.mp hr
      exact mgM_tx h hl this.1 (by have := h.1; omega)
    congr 1
    · unfold costT
      rw [hfo, htx, hnt]
      congr 1
      refine sumI_congr (fun k hk => ?_)
      rw [hs k hk]
    · refine sumI_congr (fun k hk => ?_)
      unfold cosTk
      rw [hs k hk, wayM_l hrw, cosM_l hrw, ← wayM_eq, ← cosM_eq, wayI_cg (cR_cg hall), cosI_cg (cR_cg hall)]
  · rw [if_neg hT, if_neg hT]
/-- the merged one costs what was counted -/
theorem mgM_clo (h : zOk M) (ha : isT M lo = true) (hb : isT M hi = true) (hne : lo ≠ hi) (hf : isFm M (fst M lo) (fst M hi) = true) : cosTt (mgM M lo hi) lo = cosBt M lo hi := by
  have ra := isT_row h ha
  have rb := isT_row h hb
  have hl : 0 ≤ lo := ra.2.2.2.1
  have hfl := mgM_fl (lo := lo) (hi := hi) h hl ra.1 rb.1
  have hgf : gapsL (tx M (fst M lo)) = gapsL (tx M (fst M hi)) := of_decide_eq_true hf
  obtain ⟨f, hff⟩ : ∃ f : Int, f = min (fst M lo) (fst M hi) := ⟨_, rfl⟩
  rw [← hff] at hfl
  have hfc : f = fst M lo ∨ f = fst M hi := by omega
  have hf0 : 0 ≤ f ∧ f < M 0 := by omega
  have hgs : gapsL (tx M f) = gapsL (tx M (fst M lo)) := by
    rcases hfc with q | q
    · rw [q]
    · rw [q]; exact hgf.symm
  have hnt : nTl M f = nTl M (fst M lo) := (gapsL_eq.mp hgs).1
  have hn20 := (h.f ra.1 ra.2.1).2.2.2.2
  have hT : isT (mgM M lo hi) lo = true := isT_iff.mpr ⟨by omega, by omega, by omega⟩
  have htwo := rws_two h hne
  have hrw : rws (mgM M lo hi) lo = mgL (rws M lo) (rws M hi) := mgM_rlo h hl hne (mgL_asc _ _ _ (Nat.le_refl _) (rF_asc _ _) (rF_asc _ _) htwo.1) (mgL_mem _ _ _ (Nat.le_refl _))
  have hlen : (rws M lo ++ rws M hi).length = (mgL (rws M lo) (rws M hi)).length := by rw [mgL_len _ _ _ (Nat.le_refl _), List.length_append]
  have hall : ∀ r ∈ mgL (rws M lo) (rws M hi), tx (mgM M lo hi) r = tx M r := fun r hr => by
    rcases (mgL_mem _ _ _ (Nat.le_refl _) r).mp hr with q | q
    · have := rws_mem.mp q
      exact mgM_tx h hl this.1 (by have := h.1; omega)
    · have := rws_mem.mp q
      exact mgM_tx h hl this.1 (by have := h.1; omega)
  unfold cosTt
  rw [if_pos hT]
  unfold costT cosBt
  rw [hfl, mgM_tx h hl hf0.1 hf0.2, mgM_n h hl hf0.1 hf0.2, hnt, Int.add_assoc, sumI_add2]
  congr 1
  · rw [← gapsS_eq, hgs, gapsS_eq]
  · refine sumI_congr (fun k hk => ?_)
    have s1 := h.2.2.1 lo k hl ra.2.2.2.2 (by omega) (by omega)
    have s2 := h.2.2.1 hi k rb.2.2.2.1 rb.2.2.2.2 (by omega) (by omega)
    have hsl := mgM_sl (lo := lo) (hi := hi) (k := (k : Int)) h hl (by omega) (by omega)
    have hun := unionS_neg (u := tkl M (fst M lo) k) (w := tkl M (fst M hi) k) s1.1 s2.1
    unfold cosTk
    by_cases q : (slt M hi k = -1 ∧ slt M lo k = -1) ∧ tkl M (fst M lo) k = tkl M (fst M hi) k
    · have e : slt (mgM M lo hi) lo k = -1 := by rw [hsl]; exact hun.mpr ⟨q.1.2, q.1.1, q.2⟩
      rw [if_pos e, if_pos e, cosB_yes q]
      have hw : wT (tx M f) k = ((tkl M (fst M lo) k).length : Int) := by
        have h9 := tok_len (s := tx M f) (k := (k : Int)) (by omega) (by have : nTl M f = nT (tx M f) := rfl; omega)
        rw [← h9]
        have e5 : tok (tx M f) (k : Int) = tkl M f k := rfl
        rw [e5]
        rcases hfc with z | z
        · rw [z]
        · rw [z, q.2]
      rw [hw]
      omega
    · have e : slt (mgM M lo hi) lo k ≠ -1 := fun z => by
        rw [hsl] at z
        have := hun.mp z
        exact q ⟨⟨this.2.1, this.1⟩, this.2.2⟩
      rw [if_neg e, if_neg e, cosB_no q, wayM_l hrw, cosM_l hrw, wayI_cg (cR_cg hall), cosI_cg (cR_cg hall), hlen]
theorem gain_eq (h : zOk M) (ha : isT M lo = true) (hb : isT M hi = true) (hne : lo ≠ hi) (hf : isFm M (fst M lo) (fst M hi) = true) : gainM M lo hi = cosTt M lo + cosTt M hi - cosBt M lo hi := by
  have ra := isT_row h ha
  have rb := isT_row h hb
  have hl : 0 ≤ lo := ra.2.2.2.1
  have hn20 := (h.f ra.1 ra.2.1).2.2.2.2
  have fh := mgM_fh (hi := hi) h hl hne
  have hhi : cosTt (mgM M lo hi) hi = 0 := by
    have : isT (mgM M lo hi) hi = false := by
      rw [← Bool.not_eq_true, isT_iff]
      omega
    unfold cosTt
    rw [if_neg (by rw [this]; exact Bool.false_ne_true)]
  have hlo := mgM_clo h ha hb hne hf
  have h0 := mgM_0 (hi := hi) h hl
  have hs := sumI_pt2 (f := fun t => cosTt M t - cosTt (mgM M lo hi) t) (n := 12) (a := lo.toNat) (b := hi.toNat) (by omega) (by omega) (by omega) (fun i hi2 h1 h2 => by
    show cosTt M i - cosTt (mgM M lo hi) i = 0
    rw [mgM_cot h hl ⟨by omega, by omega⟩ (by omega) (by omega) (by omega)]
    omega)
  rw [← sumI_sub] at hs
  have hs2 : sumI (fun t => cosTt M t) 12 - sumI (fun t => cosTt (mgM M lo hi) t) 12 = (cosTt M ((lo.toNat : Nat) : Int) - cosTt (mgM M lo hi) ((lo.toNat : Nat) : Int)) + (cosTt M ((hi.toNat : Nat) : Int) - cosTt (mgM M lo hi) ((hi.toNat : Nat) : Int)) := hs
  rw [show ((lo.toNat : Nat) : Int) = lo by omega, show ((hi.toNat : Nat) : Int) = hi by omega, hhi, hlo] at hs2
  unfold gainM cosA
  rw [h0]
  omega
end GN

