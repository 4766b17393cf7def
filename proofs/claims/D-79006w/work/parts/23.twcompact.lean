/-! THE REFERENCE: compacting -/
set_option maxRecDepth 100000
theorem sumI_le {f g : Int → Int} {n : Nat} (h : ∀ i : Nat, i < n → g i ≤ f i) : sumI g n ≤ sumI f n := by
  induction n with
  | zero => exact Int.le_refl 0
  | succ n ih =>
    have h1 := ih (fun i hi => h i (by omega))
    have h2 := h n (by omega)
    rw [sumI, sumI]
    omega
theorem sumI_lt {f g : Int → Int} {n : Nat} (h : ∀ i : Nat, i < n → g i ≤ f i) (i : Nat) (hi : i < n) (hl : g i < f i) : sumI g n < sumI f n := by
  induction n with
  | zero => omega
  | succ n ih =>
    have h2 := h n (by omega)
    rw [sumI, sumI]
    by_cases q : i = n
    · subst q
      have h1 := sumI_le (fun j hj => h j (by omega) : ∀ j : Nat, j < i → g j ≤ f j)
      omega
    · have h1 := ih (fun j hj => h j (by omega)) (by omega)
      omega
/-- may two templates be merged? -/
def mayP (M : Int → Int) (x y : Int) : Bool := decide (x < y) && isT M x && isT M y && isFm M (fst M x) (fst M y)
theorem mayP_iff {M : Int → Int} {x y : Int} : mayP M x y = true ↔ x < y ∧ isT M x = true ∧ isT M y = true ∧ isFm M (fst M x) (fst M y) = true := by
  unfold mayP
  simp only [Bool.and_eq_true, decide_eq_true_eq, and_assoc]
def gnP (M : Int → Int) (x y : Int) : Int := if mayP M x y then gainM M x y else 0
/-- of the pairs under k the one with the greatest gain -/
def scP (M : Int → Int) : Nat → Int × Int × Int
  | 0 => (0, -1, -1)
  | k + 1 => if (scP M k).1 < gnP M ((k / 12 : Nat) : Int) ((k % 12 : Nat) : Int) then (gnP M ((k / 12 : Nat) : Int) ((k % 12 : Nat) : Int), ((k / 12 : Nat) : Int), ((k % 12 : Nat) : Int)) else scP M k
theorem scP_ok (M : Int → Int) (k : Nat) (hk : k ≤ 144) : 0 ≤ (scP M k).1 ∧ (scP M k = (0, -1, -1) ∨ (0 ≤ (scP M k).2.1 ∧ mayP M (scP M k).2.1 (scP M k).2.2 = true ∧ (scP M k).1 = gainM M (scP M k).2.1 (scP M k).2.2)) := by
  induction k with
  | zero => exact ⟨Int.le_refl 0, Or.inl rfl⟩
  | succ k ih =>
    have h1 := ih (by omega)
    rw [scP]
    split
    · rename_i hlt
      have hm : mayP M ((k / 12 : Nat) : Int) ((k % 12 : Nat) : Int) = true := by
        by_cases q : mayP M ((k / 12 : Nat) : Int) ((k % 12 : Nat) : Int) = true
        · exact q
        · unfold gnP at hlt; rw [if_neg q] at hlt; omega
      refine ⟨by show 0 ≤ gnP M _ _; omega, Or.inr ⟨by show (0 : Int) ≤ ((k / 12 : Nat) : Int); omega, hm, if_pos hm⟩⟩
    · exact h1
/-- merged as long as there is a gain: how often, and what comes of it -/
def cmpI : Nat → (Int → Int) → Int × (Int → Int)
  | 0, M => (0, M)
  | f + 1, M => if 0 ≤ (scP M 144).2.1 then ((cmpI f (mgM M (scP M 144).2.1 (scP M 144).2.2)).1 + 1, (cmpI f (mgM M (scP M 144).2.1 (scP M 144).2.2)).2) else (0, M)
theorem mgM_less {M : Int → Int} {lo hi : Int} (h : zOk M) (ha : isT M lo = true) (hb : isT M hi = true) (hne : lo ≠ hi) : nTpl (mgM M lo hi) < nTpl M := by
  have ia := isT_iff.mp ha
  have ib := isT_iff.mp hb
  have fh := mgM_fh (hi := hi) h ia.1 hne
  have hno : isT (mgM M lo hi) hi = false := by
    rw [← Bool.not_eq_true, isT_iff]
    omega
  refine sumI_lt (fun t ht => ?_) hi.toNat (by omega) ?_
  · have b1 := bi_range (isT (mgM M lo hi) t)
    have b2 := bi_range (isT M t)
    by_cases q : isT M t = true
    · rw [q, bi_t]; omega
    · rw [Bool.not_eq_true] at q
      have : isT (mgM M lo hi) t = false := by
        rw [← Bool.not_eq_true, isT_iff]
        rw [← Bool.not_eq_true, isT_iff] at q
        have e := mgM_fo (lo := lo) (hi := hi) h ia.1 (t := (t : Int)) (fun z => by rw [z] at q; exact q ia) (fun z => by rw [z] at q; exact q ib)
        rw [e]
        exact q
      rw [this, q]
      exact Int.le_refl _
  · rw [show ((hi.toNat : Nat) : Int) = hi by omega, hno, hb, bi_t, bi_f]
    omega
theorem nTpl_pos {M : Int → Int} {t : Int} (h : isT M t = true) : 1 ≤ nTpl M := by
  have ia := isT_iff.mp h
  have := sumI_lt (f := fun t => bi (isT M t)) (g := fun _ => 0) (n := 12) (fun i _ => (bi_range _).1) t.toNat (by omega) (by rw [show ((t.toNat : Nat) : Int) = t by omega, h, bi_t]; omega)
  have e0 : sumI (fun _ => (0 : Int)) 12 = 0 := by decide
  unfold nTpl
  omega
theorem nTpl_le (M : Int → Int) : nTpl M ≤ 12 := by
  have := cnt_rng (fun t => isT M t) 12
  unfold nTpl
  omega
theorem zI_div12 (k : Nat) (h : k < 144) : Int32.ofInt (k : Int) / Int32.ofInt 12 = Int32.ofInt ((k / 12 : Nat) : Int) := by
  rw [← Int32.ofInt_tdiv (a := (k : Int)) (b := 12) (by show (-2147483648 : Int) ≤ k; omega) (by show (k : Int) ≤ 2147483647; omega) (by decide) (by decide)]
  congr 1
theorem zI_rem12 (k : Nat) (h : k < 144) : Int32.ofInt (k : Int) - Int32.ofInt (k : Int) / Int32.ofInt 12 * Int32.ofInt 12 = Int32.ofInt ((k % 12 : Nat) : Int) := by
  rw [zI_div12 k h, zI_mul, zI_sub]
  congr 1
  omega
def cmpF (F : zTF) : zTF := upF (upF F 6 0) 5 (keepC F + 1)
def cmpG (F : zTF) (G : zTG) (M : Int → Int) : zTG := setG (keepG F G) 0 M
abbrev rmX4_compact : Room := { frames := 9, cells := 0, slots := 0, locals := 213 }
set_option maxHeartbeats 4000000 in
theorem c_X4_compact (D : zD) (A : Nat → Prop) {b : Nat} {F : zTF} {G : zTG} (h : zWg G) (hF : 0 ≤ F 5 ∧ F 5 ≤ 10) : zC D yX4_compact cX4_compact 10 (some .int) none rmX4_compact A [.ref b] (twI D A b F G) (zPd (zI ((cmpI 12 (G 0)).1)) (twE D A b (zSA (cmpF F) (cmpG F G (cmpI 12 (G 0)).2)))) zNo := by
  refine zC_start (L := [some (.ref b), none, none, none, none, none, none, none, none, none]) (by decide) (Nat.le_of_ble_eq_true rfl) rfl (fun X hX => ?_)
  have e5 : upF F 6 0 5 = F 5 := upF_ne _ _ (by decide)
  have ek : keepC (upF F 6 0) = keepC F := by unfold keepC; rw [e5]
  have eg : keepG (upF F 6 0) G = keepG F G := by unfold keepG; rw [ek, e5]
  have e0 : keepG F G 0 = G 0 := keepG_j F G (by decide)
  have hk : zWg (keepG F G) := h.sc e0 (keepG_j F G (by decide)) (keepG_j F G (by decide)) (keepG_j F G (by decide))
  have body : ∀ (M : Int → Int) (F0 : zTF) (G0 : zTG) (n low : Int), zSA (cmpF F) (cmpG F G M) F0 G0 → zWg (cmpG F G M) → 0 ≤ low ∧ low ≤ 11 → (0 ≤ (scP M 144).2.1 → ∀ (F3 : zTF) (G3 : zTG), zSA (cmpF F) (cmpG F G (mgM M (scP M 144).2.1 (scP M 144).2.2)) F3 G3 → zWg (cmpG F G (mgM M (scP M 144).2.1 (scP M 144).2.2)) → zG X 0 0 (twI D A b F3 G3) 13 [some (.ref b), some (zI (n + 1)), some (zI ((scP M 144).2.1)), none, none, none, none, none, none, none] []) → ((scP M 144).2.1 < 0 → n = (cmpI 12 (G 0)).1 ∧ M = (cmpI 12 (G 0)).2) → zG X 0 0 (twI D A b F0 G0) 13 [some (.ref b), some (zI (n)), some (zI (low)), none, none, none, none, none, none, none] [] := by
    intro M F0 G0 n low hs hg hlow next fin
    have gM : cmpG F G M 0 = M := setG_same _ _ _
    have hokM : zOk M := by have := (zWg_iff.mp hg).1; rwa [gM] at this
    have K2 : ∀ k : Nat, k ≤ 144 → ∀ (F2 : zTF) (G2 : zTG), zSA (cmpF F) (cmpG F G M) F2 G2 → ∀ bst lw hg2 p : Int, scP M k = (bst, lw, hg2) → p = k → zG X 0 0 (twI D A b F2 G2) 27 [some (.ref b), some (zI (n)), some (zI (lw)), some (zI (hg2)), some (zI (bst)), some (zI (p)), none, none, none, none] [] := by
      refine z_up (fun k hk ih F2 G2 hs2 bst lw hg2 p e1 e2 => ?_)
      subst e2
      have g2 : G2 0 = M := (hs2.2 0 (by decide) (by decide)).trans gM
      have hg3 := hs2.wg hg
      have hw3 := hg3.1
      have hok := scP_ok M k hk
      rw [e1] at hok
      have hstep : scP M (k + 1) = if bst < gnP M ((k / 12 : Nat) : Int) ((k % 12 : Nat) : Int) then (gnP M ((k / 12 : Nat) : Int) ((k % 12 : Nat) : Int), ((k / 12 : Nat) : Int), ((k % 12 : Nat) : Int)) else (bst, lw, hg2) := by rw [scP, e1]
      have c1 := cosA_rngM hokM
      have hgn : -1200000 ≤ gnP M ((k / 12 : Nat) : Int) ((k % 12 : Nat) : Int) ∧ gnP M ((k / 12 : Nat) : Int) ((k % 12 : Nat) : Int) ≤ 1200000 := by
        unfold gnP
        split
        · rename_i hm
          have hm2 := mayP_iff.mp hm
          have c2 := cosA_rngM (mgM_ok hokM hm2.2.1 hm2.2.2.1 hm2.2.2.2)
          unfold gainM
          omega
        · omega
      have hbr : 0 ≤ bst ∧ bst ≤ 1200000 := by
        refine ⟨hok.1, ?_⟩
        rcases hok.2 with q | q
        · cases q; omega
        · have hm2 := mayP_iff.mp q.2.1
          have c2 := cosA_rngM (mgM_ok hokM hm2.2.1 hm2.2.2.1 hm2.2.2.2)
          have q3 := q.2.2
          unfold gainM at q3
          simp only at q3 c2
          omega
      have J119 : k < 144 → ∀ (F3 : zTF) (G3 : zTG) (v : Bool) (g : Int), zSA (cmpF F) (cmpG F G M) F3 G3 → g = gnP M ((k / 12 : Nat) : Int) ((k % 12 : Nat) : Int) → zG X 0 0 (twI D A b F3 G3) 119 [some (.ref b), some (zI (n)), some (zI (lw)), some (zI (hg2)), some (zI (bst)), some (zI (k)), some (zI (((k / 12 : Nat) : Int))), some (zI (((k % 12 : Nat) : Int))), some (zI (bi (v))), none] [zI (g)] := by
        intro hlt F3 G3 v g hs3 eg2
        subst eg2
        refine z_istore (q := 121) hX dX4_compact_119 (Nat.le_of_ble_eq_true rfl) rfl rfl ?_
        refine z_iload (q := 123) hX dX4_compact_121 rfl rfl ?_
        refine z_iload (q := 125) hX dX4_compact_123 rfl rfl ?_
        refine z_icmp_le (q := 128) (t := 138) hX dX4_compact_125 (by decide) (by omega) (by omega) rfl (fun h125 => ?_) (fun h125 => ?_)
        · refine z_iinc (q := 141) hX dX4_compact_138 rfl (Nat.le_of_ble_eq_true rfl) rfl rfl ?_
          refine z_goto (t := 27) hX dX4_compact_141 (by decide) ?_
          refine zG.drop 6 (zG.drop 7 (zG.drop 8 (zG.drop 9 ?_)))
          exact ih hlt F3 G3 hs3 _ _ _ _ (by rw [hstep, if_neg (by omega)]) (by omega)
        · refine z_iload (q := 130) hX dX4_compact_128 rfl rfl ?_
          refine z_istore (q := 132) hX dX4_compact_130 (Nat.le_of_ble_eq_true rfl) rfl rfl ?_
          refine z_iload (q := 134) hX dX4_compact_132 rfl rfl ?_
          refine z_istore_n (i := 2) (q := 135) hX dX4_compact_134 rfl (Nat.le_of_ble_eq_true rfl) rfl rfl ?_
          refine z_iload (q := 137) hX dX4_compact_135 rfl rfl ?_
          refine z_istore_n (i := 3) (q := 138) hX dX4_compact_137 rfl (Nat.le_of_ble_eq_true rfl) rfl rfl ?_
          refine z_iinc (q := 141) hX dX4_compact_138 rfl (Nat.le_of_ble_eq_true rfl) rfl rfl ?_
          refine z_goto (t := 27) hX dX4_compact_141 (by decide) ?_
          refine zG.drop 6 (zG.drop 7 (zG.drop 8 (zG.drop 9 ?_)))
          exact ih hlt F3 G3 hs3 _ _ _ _ (by rw [hstep, if_pos (by omega)]) (by omega)
      have J100 : k < 144 → ∀ v : Bool, mayP M ((k / 12 : Nat) : Int) ((k % 12 : Nat) : Int) = v → zG X 0 0 (twI D A b F2 G2) 100 [some (.ref b), some (zI (n)), some (zI (lw)), some (zI (hg2)), some (zI (bst)), some (zI (k)), some (zI (((k / 12 : Nat) : Int))), some (zI (((k % 12 : Nat) : Int))), none, none] [zI (bi (v))] := by
        intro hlt v hv
        refine z_istore (q := 102) hX dX4_compact_100 (Nat.le_of_ble_eq_true rfl) rfl rfl ?_
        refine z_iload (q := 104) hX dX4_compact_102 rfl rfl ?_
        refine z_ifB_eq (q := 107) (t := 118) hX dX4_compact_104 (by decide) rfl (fun h104 => ?_) (fun h104 => ?_)
        · refine z_iconst (q := 119) hX dX4_compact_118 rfl ?_
          exact J119 hlt F2 G2 v _ hs2 (by unfold gnP; rw [hv, h104]; rfl)
        · rw [h104] at hv
          have hm2 := mayP_iff.mp hv
          refine z_aload_n (i := 0) (q := 108) hX dX4_compact_107 rfl rfl rfl ?_
          refine z_iload (q := 110) hX dX4_compact_108 rfl rfl ?_
          refine z_iload (q := 112) hX dX4_compact_110 rfl rfl ?_
          refine zt_VE1 (q := 115) (na := 2) hX dX4_compact_112 (c_X4_gainOf D A hg3 (by rw [g2]; exact hm2.2.1) (by rw [g2]; exact hm2.2.2.1) (by rw [g2]; exact hm2.2.2.2)) q2230 q2232 qs84 q103 q2233 rfl (by decide +kernel) ⟨Nat.le_of_ble_eq_true rfl, Nat.le_of_ble_eq_true rfl⟩ rfl rfl (Nat.le_of_ble_eq_true rfl) rfl ⟨rfl, rfl⟩ (Nat.le_of_ble_eq_true rfl) (Nat.le_of_ble_eq_true rfl) rfl (fun F112 G112 hs112 => ?_)
          refine z_goto (t := 119) hX dX4_compact_115 (by decide) ?_
          exact J119 hlt F112 G112 v _ (hs2.tr hs112) (by rw [g2]; unfold gnP; rw [hv]; rfl)
      have u1 : lnO (G2 0) ((k / 12 : Nat) : Int) 0 = fst (G2 0) ((k / 12 : Nat) : Int) := rfl
      have u2 : lnO (G2 0) ((k % 12 : Nat) : Int) 0 = fst (G2 0) ((k % 12 : Nat) : Int) := rfl
      refine z_iload (q := 29) hX dX4_compact_27 rfl rfl ?_
      refine z_sipush (q := 32) hX dX4_compact_29 (by decide) rfl ?_
      refine z_icmp_ge (q := 35) (t := 144) hX dX4_compact_32 (by decide) (by omega) (by omega) rfl (fun h32 => ?_) (fun h32 => ?_)
      · have ek2 : scP M 144 = (bst, lw, hg2) := by rw [← e1, show k = 144 by omega]
        have hlw : lw = -1 ∨ (0 ≤ lw ∧ lw ≤ 11) := by
          rcases hok.2 with q | q
          · cases q; exact Or.inl rfl
          · have hm2 := isT_iff.mp (mayP_iff.mp q.2.1).2.1
            simp only at hm2
            omega
        refine z_iload_n (i := 2) (q := 145) hX dX4_compact_144 rfl rfl rfl ?_
        refine z_if_lt (q := 148) (t := 157) hX dX4_compact_145 (by decide) (by omega) rfl (fun h145 => ?_) (fun h145 => ?_)
        · refine z_goto (t := 13) hX dX4_compact_157 (by decide) ?_
          refine z_iload_n (i := 2) (q := 14) hX dX4_compact_13 rfl rfl rfl ?_
          refine z_if_lt (q := 17) (t := 160) hX dX4_compact_14 (by decide) (by omega) rfl (fun h14 => ?_) (fun h14 => ?_)
          · refine z_iload_n (i := 1) (q := 161) hX dX4_compact_160 rfl rfl rfl ?_
            exact z_iret hX dX4_compact_161 (Nat.le_of_ble_eq_true rfl) (Nat.le_of_ble_eq_true rfl) rfl (fun H hI => ⟨congrArg (fun z => some (zI z)) (fin (by rw [ek2]; simp only; omega)).1, _, _, by rw [← (fin (by rw [ek2]; simp only; omega)).2]; exact hs2, hI⟩)
          · exact absurd h14 (by omega)
        · have hm2 : mayP M lw hg2 = true := by
            rcases hok.2 with q | q
            · cases q; omega
            · exact q.2.1
          have hm3 := mayP_iff.mp hm2
          refine z_aload_n (i := 0) (q := 149) hX dX4_compact_148 rfl rfl rfl ?_
          refine z_iload_n (i := 2) (q := 150) hX dX4_compact_149 rfl rfl rfl ?_
          refine z_iload_n (i := 3) (q := 151) hX dX4_compact_150 rfl rfl rfl ?_
          refine zt_V0 (q := 154) (na := 2) hX dX4_compact_151 (c_X4_merges D A hg3 (by rw [g2]; exact hm3.2.1) (by rw [g2]; exact hm3.2.2.1) (by rw [g2]; exact hm3.2.2.2)) q2214 q2216 qs82 q103 q2217 rfl (by decide +kernel) ⟨Nat.le_of_ble_eq_true rfl, Nat.le_of_ble_eq_true rfl⟩ rfl rfl (Nat.le_of_ble_eq_true rfl) rfl ⟨rfl, rfl⟩ (Nat.le_of_ble_eq_true rfl) (Nat.le_of_ble_eq_true rfl) rfl ?_
          refine z_iinc (q := 157) hX dX4_compact_154 rfl (Nat.le_of_ble_eq_true rfl) rfl rfl ?_
          refine z_goto (t := 13) hX dX4_compact_157 (by decide) ?_
          refine zG.drop 3 (zG.drop 4 (zG.drop 5 ?_))
          have hgm := hg.mg (lo := lw) (hi := hg2) (by rw [gM]; exact hm3.2.1) (by rw [gM]; exact hm3.2.2.1) (by rw [gM]; exact hm3.2.2.2)
          rw [gM] at hgm
          have e9 := next (by rw [ek2]; simp only; omega) F2 (setG G2 0 (mgM (G2 0) lw hg2)) ⟨hs2.1, fun j h1 h2 => by
            rw [ek2, g2]
            by_cases q : j = 0
            · rw [q]; unfold cmpG; rw [setG_same, setG_same]
            · unfold cmpG; rw [setG_ne _ _ q, setG_ne _ _ q, hs2.2 j h1 h2]; unfold cmpG; rw [setG_ne _ _ q]⟩ (by rw [ek2]; refine hgm.sc ?_ ?_ ?_ ?_ <;> unfold cmpG <;> (first | (rw [setG_same, setG_same]; done) | (rw [setG_ne _ _ (by decide), setG_ne _ _ (by decide), setG_ne _ _ (by decide)])))
          rw [ek2] at e9
          exact e9
      · refine z_iload (q := 37) hX dX4_compact_35 rfl rfl ?_
        refine z_bipush (q := 39) hX dX4_compact_37 (by decide) rfl ?_
        refine z_idiv (q := 40) hX dX4_compact_39 (by decide) (zI_div12 k (by omega)) rfl ?_
        refine z_istore (q := 42) hX dX4_compact_40 (Nat.le_of_ble_eq_true rfl) rfl rfl ?_
        refine z_iload (q := 44) hX dX4_compact_42 rfl rfl ?_
        refine z_bipush (q := 46) hX dX4_compact_44 (by decide) rfl ?_
        refine z_irem (q := 47) hX dX4_compact_46 (by decide) (zI_rem12 k (by omega)) rfl ?_
        refine z_istore (q := 49) hX dX4_compact_47 (Nat.le_of_ble_eq_true rfl) rfl rfl ?_
        refine z_iload (q := 51) hX dX4_compact_49 rfl rfl ?_
        refine z_iload (q := 53) hX dX4_compact_51 rfl rfl ?_
        refine z_icmp_ge (q := 56) (t := 99) hX dX4_compact_53 (by decide) (by omega) (by omega) rfl (fun h53 => ?_) (fun h53 => ?_)
        · refine z_iconst (q := 100) hX dX4_compact_99 rfl ?_
          exact J100 (by omega) false (by unfold mayP; rw [decide_eq_false (by omega)]; rfl)
        · refine z_aload_n (i := 0) (q := 57) hX dX4_compact_56 rfl rfl rfl ?_
          refine z_iload (q := 59) hX dX4_compact_57 rfl rfl ?_
          refine zt_V1 (q := 62) (na := 1) hX dX4_compact_59 (c_X4_isTemplate D A (by first | assumption | omega) (by first | assumption | omega)) q1986 q1988 qs44 q103 q1989 rfl (by decide +kernel) ⟨Nat.le_of_ble_eq_true rfl, Nat.le_of_ble_eq_true rfl⟩ rfl rfl (Nat.le_of_ble_eq_true rfl) rfl ⟨rfl, rfl⟩ (Nat.le_of_ble_eq_true rfl) (Nat.le_of_ble_eq_true rfl) rfl ?_
          refine z_ifB_eq (q := 65) (t := 99) hX dX4_compact_62 (by decide) rfl (fun h62 => ?_) (fun h62 => ?_)
          · refine z_iconst (q := 100) hX dX4_compact_99 rfl ?_
            exact J100 (by omega) false (by unfold mayP; rw [← g2, h62, Bool.and_false]; rfl)
          · refine z_aload_n (i := 0) (q := 66) hX dX4_compact_65 rfl rfl rfl ?_
            refine z_iload (q := 68) hX dX4_compact_66 rfl rfl ?_
            refine zt_V1 (q := 71) (na := 1) hX dX4_compact_68 (c_X4_isTemplate D A (by first | assumption | omega) (by first | assumption | omega)) q1986 q1988 qs44 q103 q1989 rfl (by decide +kernel) ⟨Nat.le_of_ble_eq_true rfl, Nat.le_of_ble_eq_true rfl⟩ rfl rfl (Nat.le_of_ble_eq_true rfl) rfl ⟨rfl, rfl⟩ (Nat.le_of_ble_eq_true rfl) (Nat.le_of_ble_eq_true rfl) rfl ?_
            refine z_ifB_eq (q := 74) (t := 99) hX dX4_compact_71 (by decide) rfl (fun h71 => ?_) (fun h71 => ?_)
            · refine z_iconst (q := 100) hX dX4_compact_99 rfl ?_
              exact J100 (by omega) false (by unfold mayP; rw [← g2, h71, Bool.and_false]; rfl)
            · refine z_aload_n (i := 0) (q := 75) hX dX4_compact_74 rfl rfl rfl ?_
              refine z_aload_n (i := 0) (q := 76) hX dX4_compact_75 rfl rfl rfl ?_
              refine z_iload (q := 78) hX dX4_compact_76 rfl rfl ?_
              refine z_iconst (q := 79) hX dX4_compact_78 rfl ?_
              have f1 := hw3.fs h62
              have f2 := hw3.fs h71
              have l1 := f1.2.2.2.2.2.1
              have l2 := f2.2.2.2.2.2.1
              refine zt_V1 (q := 82) (na := 2) hX dX4_compact_79 (c_X4_lineOf D A (by first | assumption | omega) (by first | assumption | omega) (by first | assumption | omega)) q1990 q1992 qs45 q103 q1993 rfl (by decide +kernel) ⟨Nat.le_of_ble_eq_true rfl, Nat.le_of_ble_eq_true rfl⟩ rfl rfl (Nat.le_of_ble_eq_true rfl) rfl ⟨rfl, rfl⟩ (Nat.le_of_ble_eq_true rfl) (Nat.le_of_ble_eq_true rfl) rfl ?_
              rw [u1]
              refine z_aload_n (i := 0) (q := 83) hX dX4_compact_82 rfl rfl rfl ?_
              refine z_iload (q := 85) hX dX4_compact_83 rfl rfl ?_
              refine z_iconst (q := 86) hX dX4_compact_85 rfl ?_
              refine zt_V1 (q := 89) (na := 2) hX dX4_compact_86 (c_X4_lineOf D A (by first | assumption | omega) (by first | assumption | omega) (by first | assumption | omega)) q1990 q1992 qs45 q103 q1993 rfl (by decide +kernel) ⟨Nat.le_of_ble_eq_true rfl, Nat.le_of_ble_eq_true rfl⟩ rfl rfl (Nat.le_of_ble_eq_true rfl) rfl ⟨rfl, rfl⟩ (Nat.le_of_ble_eq_true rfl) (Nat.le_of_ble_eq_true rfl) rfl ?_
              rw [u2]
              refine zt_V1 (q := 92) (na := 2) hX dX4_compact_89 (c_X4_isForm D A (by first | assumption | omega) (by first | assumption | omega)) q1998 q2000 qs47 q103 q2001 rfl (by decide +kernel) ⟨Nat.le_of_ble_eq_true rfl, Nat.le_of_ble_eq_true rfl⟩ rfl rfl (Nat.le_of_ble_eq_true rfl) rfl ⟨rfl, rfl⟩ (Nat.le_of_ble_eq_true rfl) (Nat.le_of_ble_eq_true rfl) rfl ?_
              refine z_ifB_eq (q := 95) (t := 99) hX dX4_compact_92 (by decide) rfl (fun h92 => ?_) (fun h92 => ?_)
              · refine z_iconst (q := 100) hX dX4_compact_99 rfl ?_
                exact J100 (by omega) false (by unfold mayP; rw [← g2, h92, Bool.and_false])
              · refine z_iconst (q := 96) hX dX4_compact_95 rfl ?_
                refine z_goto (t := 100) hX dX4_compact_96 (by decide) ?_
                exact J100 (by omega) true (by unfold mayP; rw [← g2, h62, h71, h92, decide_eq_true (by omega)]; rfl)
    refine z_iload_n (i := 2) (q := 14) hX dX4_compact_13 rfl rfl rfl ?_
    refine z_if_lt (q := 17) (t := 160) hX dX4_compact_14 (by decide) (by omega) rfl (fun h14 => ?_) (fun h14 => ?_)
    · exact absurd h14 (by omega)
    · refine z_iconst (q := 18) hX dX4_compact_17 rfl ?_
      refine z_istore_n (i := 2) (q := 19) hX dX4_compact_18 rfl (Nat.le_of_ble_eq_true rfl) rfl rfl ?_
      refine z_iconst (q := 20) hX dX4_compact_19 rfl ?_
      refine z_istore_n (i := 3) (q := 21) hX dX4_compact_20 rfl (Nat.le_of_ble_eq_true rfl) rfl rfl ?_
      refine z_iconst (q := 22) hX dX4_compact_21 rfl ?_
      refine z_istore (q := 24) hX dX4_compact_22 (Nat.le_of_ble_eq_true rfl) rfl rfl ?_
      refine z_iconst (q := 25) hX dX4_compact_24 rfl ?_
      refine z_istore (q := 27) hX dX4_compact_25 (Nat.le_of_ble_eq_true rfl) rfl rfl ?_
      refine zG.drop 6 (zG.drop 7 (zG.drop 8 (zG.drop 9 ?_)))
      exact K2 0 (Nat.zero_le _) F0 G0 hs _ _ _ _ rfl rfl
  have K : ∀ f : Nat, ∀ (M : Int → Int) (F0 : zTF) (G0 : zTG) (n low : Int), zSA (cmpF F) (cmpG F G M) F0 G0 → zWg (cmpG F G M) → nTpl M ≤ f → 0 ≤ low ∧ low ≤ 11 → n + (cmpI f M).1 = (cmpI 12 (G 0)).1 → (cmpI f M).2 = (cmpI 12 (G 0)).2 → zG X 0 0 (twI D A b F0 G0) 13 [some (.ref b), some (zI (n)), some (zI (low)), none, none, none, none, none, none, none] [] := by
    intro f
    induction f with
    | zero =>
      intro M F0 G0 n low hs hg hf hlow hc1 hc2
      refine body M F0 G0 n low hs hg hlow (fun q F3 G3 hs3 hg3 => ?_) (fun q => ⟨by rw [← hc1]; show n = n + 0; omega, hc2⟩)
      have hok := (scP_ok M 144 (Nat.le_refl _)).2
      rcases hok with z | z
      · rw [z] at q; exact absurd q (by decide)
      · have := nTpl_pos (mayP_iff.mp z.2.1).2.1
        omega
    | succ f ihf =>
      intro M F0 G0 n low hs hg hf hlow hc1 hc2
      refine body M F0 G0 n low hs hg hlow (fun q F3 G3 hs3 hg3 => ?_) (fun q => ?_)
      · have hok := (scP_ok M 144 (Nat.le_refl _)).2
        rcases hok with z | z
        · rw [z] at q; exact absurd q (by decide)
        · have hm := mayP_iff.mp z.2.1
          have gM : cmpG F G M 0 = M := setG_same _ _ _
          have hokM : zOk M := by have := (zWg_iff.mp hg).1; rwa [gM] at this
          have hl := mgM_less hokM hm.2.1 hm.2.2.1 (by omega)
          have hT := isT_iff.mp hm.2.1
          have e3 : cmpI (f + 1) M = ((cmpI f (mgM M (scP M 144).2.1 (scP M 144).2.2)).1 + 1, (cmpI f (mgM M (scP M 144).2.1 (scP M 144).2.2)).2) := if_pos q
          rw [e3] at hc1 hc2
          exact ihf _ F3 G3 (n + 1) _ hs3 hg3 (by omega) ⟨hT.1, hT.2.1⟩ (by rw [← hc1]; simp only; omega) hc2
      · have e3 : cmpI (f + 1) M = (0, M) := if_neg (by omega)
        rw [e3] at hc1 hc2
        exact ⟨by rw [← hc1]; simp, hc2⟩
  have eG0 : cmpG F G (G 0) = keepG F G := by unfold cmpG; rw [← e0, setG_self]
  refine z_aload_n (i := 0) (q := 1) hX dX4_compact_0 rfl rfl rfl ?_
  refine z_iconst (q := 2) hX dX4_compact_1 rfl ?_
  refine zt_put (ty := .int) (q := 5) hX 6 dX4_compact_2 q1870 (by decide) rfl rfl rfl (by decide) rfl rfl rfl ?_
  refine z_aload_n (i := 0) (q := 6) hX dX4_compact_5 rfl rfl rfl ?_
  refine zt_V0 (q := 9) (na := 0) hX dX4_compact_6 (c_X4_keep D A (by rw [e5]; exact hF)) q2045 q2047 qs58 q103 q2048 rfl (by decide +kernel) ⟨Nat.le_of_ble_eq_true rfl, Nat.le_of_ble_eq_true rfl⟩ rfl rfl (Nat.le_of_ble_eq_true rfl) rfl ⟨rfl, rfl⟩ (Nat.le_of_ble_eq_true rfl) (Nat.le_of_ble_eq_true rfl) rfl ?_
  rw [ek, eg]
  refine z_iconst (q := 10) hX dX4_compact_9 rfl ?_
  refine z_istore_n (i := 1) (q := 11) hX dX4_compact_10 rfl (Nat.le_of_ble_eq_true rfl) rfl rfl ?_
  refine z_iconst (q := 12) hX dX4_compact_11 rfl ?_
  refine z_istore_n (i := 2) (q := 13) hX dX4_compact_12 rfl (Nat.le_of_ble_eq_true rfl) rfl rfl ?_
  exact K 12 (G 0) _ _ _ _ (by rw [eG0]; exact zSA.rf _ _) (by rw [eG0]; exact hk) (by have := nTpl_le (G 0); omega) (by decide) (by omega) rfl
