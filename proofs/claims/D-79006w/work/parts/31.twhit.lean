/-! THE REFERENCE: whether a line fulfils a condition -/
set_option maxRecDepth 100000
def anyI (p : Int → Bool) : Nat → Bool
  | 0 => false
  | n + 1 => anyI p n || p n
/-- a condition's word -/
def wdQ (C Q : Int → Int) (c : Int) : zS := (List.range (C (c + 6) - C (c + 5)).toNat).map (fun i : Nat => Q (C (c + 5) + (i : Int)))
theorem wdQ_len {C Q : Int → Int} {c : Int} (h : C (c + 5) ≤ C (c + 6)) : ((wdQ C Q c).length : Int) = C (c + 6) - C (c + 5) := by
  unfold wdQ
  rw [List.length_map, List.length_range]
  omega
theorem wdQ_cT {C Q : Int → Int} {c i : Int} (h0 : 0 ≤ i) (h1 : i < C (c + 6) - C (c + 5)) : cT (wdQ C Q c) i = Q (C (c + 5) + i) := by
  unfold wdQ cT
  rw [List.getD_eq_getElem?_getD, List.getElem?_map, List.getElem?_range (by omega)]
  show Q (C (c + 5) + (i.toNat : Int)) = _
  rw [Int.toNat_of_nonneg h0]
def hwI (M : Int → Int) (l : Int) (w : zS) : Bool := anyI (fun t => decide (tkl M l t = w)) (nTl M l).toNat
abbrev rmX4_hasWord : Room := { frames := 2, cells := 0, slots := 0, locals := 44 }
set_option maxHeartbeats 4000000 in
theorem c_X4_hasWord (D : zD) (A : Nat → Prop) {b : Nat} {F : zTF} {G : zTG} {l c : Int} (hl : zLn G l) (hc : 0 ≤ c ∧ c ≤ 413) (h5 : 0 ≤ G 12 (c + 5)) (h56 : G 12 (c + 5) ≤ G 12 (c + 6)) (h6 : G 12 (c + 6) ≤ 60) (hq : ∀ i : Int, 0 ≤ i → i < 60 → zR (G 13 i)) : zC D yX4_hasWord cX4_hasWord 7 (some .boolean) none rmX4_hasWord A [.ref b, zI (l), zI (c)] (twI D A b F G) (zPd (zI (bi (hwI (G 0) l (wdQ (G 12) (G 13) c)))) (twI D A b (F) (G))) zNo := by
  refine zC_start (L := [some (.ref b), some (zI (l)), some (zI (c)), none, none, none, none]) (by decide) (Nat.le_of_ble_eq_true rfl) rfl (fun X hX => ?_)
  have f1 := hl.1.f
  have e4 : G 4 l = nTl (G 0) l := hl.2.1
  have e5 : nT (tx (G 0) l) = nTl (G 0) l := rfl
  obtain ⟨w, hw⟩ : ∃ w : zS, w = wdQ (G 12) (G 13) c := ⟨_, rfl⟩
  have hwl : (w.length : Int) = G 12 (c + 6) - G 12 (c + 5) := by rw [hw]; exact wdQ_len h56
  have hwc : ∀ i : Int, 0 ≤ i → i < w.length → cT w i = G 13 (G 12 (c + 5) + i) := fun i h0 h1 => by rw [hw]; exact wdQ_cT h0 (by omega)
  rw [← hw] at hX
  have K : ∀ n : Nat, n ≤ (nTl (G 0) l).toNat → ∀ (v : Bool) (p : Int), v = anyI (fun t => decide (tkl (G 0) l t = w)) n → p = n → zG X 0 0 (twI D A b F G) 5 [some (.ref b), some (zI (l)), some (zI (c)), some (zI (bi (v))), some (zI (p)), none, none] [] := by
    refine z_up (fun n hn ih v p ev ep => ?_)
    subst ep
    have K2 : (n : Int) < nTl (G 0) l → ∀ m : Nat, m ≤ (wT (tx (G 0) l) n).toNat → ∀ (u : Bool) (p : Int), u = (decide (wT (tx (G 0) l) n = w.length) && allI (fun i => decide (cT (tx (G 0) l) (fT (tx (G 0) l) n + i) = cT w i)) m) → p = m → zG X 0 0 (twI D A b F G) 54 [some (.ref b), some (zI (l)), some (zI (c)), some (zI (bi (v))), some (zI (n)), some (zI (bi (u))), some (zI (p))] [] := by
      intro hlt
      have h2 := tk_ok (s := tx (G 0) l) (k := n) (by omega) (by omega)
      have h3 := tok_len (s := tx (G 0) l) (k := n) (by omega) (by omega)
      have h4 : wT (tx (G 0) l) n = eT (tx (G 0) l) n - fT (tx (G 0) l) n := rfl
      have hfin : (decide (wT (tx (G 0) l) n = w.length) && allI (fun i => decide (cT (tx (G 0) l) (fT (tx (G 0) l) n + i) = cT w i)) (wT (tx (G 0) l) n).toNat) = decide (tkl (G 0) l n = w) := by
        refine Bool.eq_iff_iff.mpr ?_
        simp only [Bool.and_eq_true, decide_eq_true_eq, allI_iff]
        have h7 : tkl (G 0) l n = tok (tx (G 0) l) n := rfl
        constructor
        · rintro ⟨q1, q2⟩
          rw [h7]
          refine zS_ext (by omega) (fun i hi => ?_)
          rw [tok_cT (by omega) (by omega) (by omega) (by omega)]
          exact q2 i (by omega)
        · intro q
          have ql : wT (tx (G 0) l) n = w.length := by rw [← q, h7]; exact h3.symm
          refine ⟨ql, fun i hi => ?_⟩
          have e := tok_cT (s := tx (G 0) l) (k := n) (i := i) (by omega) (by omega) (by omega) (by omega)
          rw [← h7, q] at e
          exact e.symm
      have J118 : ∀ (m : Nat) (u : Bool), m ≤ (wT (tx (G 0) l) n).toNat → u = (decide (wT (tx (G 0) l) n = w.length) && allI (fun i => decide (cT (tx (G 0) l) (fT (tx (G 0) l) n + i) = cT w i)) m) → (m = (wT (tx (G 0) l) n).toNat ∨ u = false) → ∀ p : Int, zG X 0 0 (twI D A b F G) 118 [some (.ref b), some (zI (l)), some (zI (c)), some (zI (bi (v))), some (zI (n)), some (zI (bi (u))), some (zI (p))] [] := by
        intro m u hm eu hor p
        have eu2 : u = decide (tkl (G 0) l n = w) := by
          rcases hor with q | q
          · rw [eu, q]; exact hfin
          · rw [q] at eu ⊢
            rw [← hfin]
            symm at eu ⊢
            rw [Bool.and_eq_false_iff] at eu ⊢
            rcases eu with z | z
            · exact Or.inl z
            · refine Or.inr ?_
              rw [← Bool.not_eq_true, allI_iff] at z ⊢
              exact fun y => z fun j hj => y j (by omega)
        refine z_iload_n (i := 3) (q := 119) hX dX4_hasWord_118 rfl rfl rfl ?_
        refine z_iload (q := 121) hX dX4_hasWord_119 rfl rfl ?_
        refine z_ior (q := 122) hX dX4_hasWord_121 (bi_ior _ _) rfl ?_
        refine z_istore_n (i := 3) (q := 123) hX dX4_hasWord_122 rfl (Nat.le_of_ble_eq_true rfl) rfl rfl ?_
        refine z_iinc (q := 126) hX dX4_hasWord_123 rfl (Nat.le_of_ble_eq_true rfl) rfl rfl ?_
        refine z_goto (t := 5) hX dX4_hasWord_126 (by decide) ?_
        refine zG.drop 5 (zG.drop 6 ?_)
        exact ih (by omega) _ _ (by rw [anyI, ← ev, eu2]) (by omega)
      refine z_up (fun m hm ih2 u p eu ep => ?_)
      subst ep
      have hs : (decide (wT (tx (G 0) l) n = w.length) && allI (fun i => decide (cT (tx (G 0) l) (fT (tx (G 0) l) n + i) = cT w i)) (m + 1)) = ((decide (wT (tx (G 0) l) n = w.length) && allI (fun i => decide (cT (tx (G 0) l) (fT (tx (G 0) l) n + i) = cT w i)) m) && decide (cT (tx (G 0) l) (fT (tx (G 0) l) n + m) = cT w m)) := by
        rw [allI, Bool.and_assoc]
      refine z_iload (q := 56) hX dX4_hasWord_54 rfl rfl ?_
      refine z_aload_n (i := 0) (q := 57) hX dX4_hasWord_56 rfl rfl rfl ?_
      refine z_iload_n (i := 1) (q := 58) hX dX4_hasWord_57 rfl rfl rfl ?_
      refine z_iload (q := 60) hX dX4_hasWord_58 rfl rfl ?_
      refine zt_V1 (q := 63) (na := 2) hX dX4_hasWord_60 (c_X4_wide D A (by first | assumption | omega) (by first | assumption | omega)) q2022 q2024 qs53 q103 q2025 rfl (by decide +kernel) ⟨Nat.le_of_ble_eq_true rfl, Nat.le_of_ble_eq_true rfl⟩ rfl rfl (Nat.le_of_ble_eq_true rfl) rfl ⟨rfl, rfl⟩ (Nat.le_of_ble_eq_true rfl) (Nat.le_of_ble_eq_true rfl) rfl ?_
      refine z_icmp_ge (q := 66) (t := 118) hX dX4_hasWord_63 (by decide) (by omega) (by omega) rfl (fun h63 => ?_) (fun h63 => ?_)
      · exact J118 m u hm eu (Or.inl (by omega)) m
      · refine z_iload (q := 68) hX dX4_hasWord_66 rfl rfl ?_
        refine z_ifB_eq (q := 71) (t := 118) hX dX4_hasWord_68 (by decide) rfl (fun h68 => ?_) (fun h68 => ?_)
        · exact J118 m u hm eu (Or.inr h68) m
        · have hu := h68
          rw [eu, Bool.and_eq_true, decide_eq_true_eq] at hu
          have hch := hl.1.ch (i := fT (tx (G 0) l) n + m) (by omega) (by omega)
          have hqm := hq (G 12 (c + 5) + m) (by omega) (by omega)
          have hwm := hwc m (by omega) (by omega)
          refine z_aload_n (i := 0) (q := 72) hX dX4_hasWord_71 rfl rfl rfl ?_
          refine z_iload_n (i := 1) (q := 73) hX dX4_hasWord_72 rfl rfl rfl ?_
          refine z_aload_n (i := 0) (q := 74) hX dX4_hasWord_73 rfl rfl rfl ?_
          refine z_iload_n (i := 1) (q := 75) hX dX4_hasWord_74 rfl rfl rfl ?_
          refine z_iload (q := 77) hX dX4_hasWord_75 rfl rfl ?_
          refine zt_V1 (q := 80) (na := 2) hX dX4_hasWord_77 (c_X4_fromOf D A (by first | assumption | omega) (by first | assumption | omega)) q2010 q2012 qs50 q103 q2013 rfl (by decide +kernel) ⟨Nat.le_of_ble_eq_true rfl, Nat.le_of_ble_eq_true rfl⟩ rfl rfl (Nat.le_of_ble_eq_true rfl) rfl ⟨rfl, rfl⟩ (Nat.le_of_ble_eq_true rfl) (Nat.le_of_ble_eq_true rfl) rfl ?_
          refine z_iload (q := 82) hX dX4_hasWord_80 rfl rfl ?_
          refine z_iadd (q := 83) hX dX4_hasWord_82 rfl ?_
          refine zt_V1 (q := 86) (na := 2) hX dX4_hasWord_83 (c_X4_charAt D A hl.1 (by omega)) q1978 q1980 qs42 q103 q1981 rfl (by decide +kernel) ⟨Nat.le_of_ble_eq_true rfl, Nat.le_of_ble_eq_true rfl⟩ rfl rfl (Nat.le_of_ble_eq_true rfl) rfl ⟨rfl, rfl⟩ (Nat.le_of_ble_eq_true rfl) (Nat.le_of_ble_eq_true rfl) rfl ?_
          refine z_aload_n (i := 0) (q := 87) hX dX4_hasWord_86 rfl rfl rfl ?_
          refine zt_getA (q := 90) hX 22 13 dX4_hasWord_87 q1886 (by decide) rfl rfl rfl ?_
          refine z_aload_n (i := 0) (q := 91) hX dX4_hasWord_90 rfl rfl rfl ?_
          refine zt_getA (q := 94) hX 21 12 dX4_hasWord_91 q1885 (by decide) rfl rfl rfl ?_
          refine z_iload_n (i := 2) (q := 95) hX dX4_hasWord_94 rfl rfl rfl ?_
          refine z_iconst (q := 96) hX dX4_hasWord_95 rfl ?_
          refine z_iadd (q := 97) hX dX4_hasWord_96 rfl ?_
          refine zt_ald (q := 98) (N := 420) hX 12 dX4_hasWord_97 rfl (by decide) (by decide) (by omega) rfl ?_
          refine z_iload (q := 100) hX dX4_hasWord_98 rfl rfl ?_
          refine z_iadd (q := 101) hX dX4_hasWord_100 rfl ?_
          refine zt_ald (q := 102) (N := 60) hX 13 dX4_hasWord_101 rfl (by decide) (by decide) (by omega) rfl ?_
          refine z_icmp_ne (q := 105) (t := 109) hX dX4_hasWord_102 (by decide) (by omega) (by omega) rfl (fun h102 => ?_) (fun h102 => ?_)
          · refine z_iconst (q := 110) hX dX4_hasWord_109 rfl ?_
            refine z_istore (q := 112) hX dX4_hasWord_110 (Nat.le_of_ble_eq_true rfl) rfl rfl ?_
            refine z_iinc (q := 115) hX dX4_hasWord_112 rfl (Nat.le_of_ble_eq_true rfl) rfl rfl ?_
            refine z_goto (t := 54) hX dX4_hasWord_115 (by decide) ?_
            exact ih2 (by omega) false ((m : Int) + 1) (by rw [hs, ← eu, h68, hwm, decide_eq_false h102]; rfl) (by omega)
          · refine z_iconst (q := 106) hX dX4_hasWord_105 rfl ?_
            refine z_goto (t := 110) hX dX4_hasWord_106 (by decide) ?_
            refine z_istore (q := 112) hX dX4_hasWord_110 (Nat.le_of_ble_eq_true rfl) rfl rfl ?_
            refine z_iinc (q := 115) hX dX4_hasWord_112 rfl (Nat.le_of_ble_eq_true rfl) rfl rfl ?_
            refine z_goto (t := 54) hX dX4_hasWord_115 (by decide) ?_
            exact ih2 (by omega) true ((m : Int) + 1) (by rw [hs, ← eu, h68, hwm, decide_eq_true (by omega)]; rfl) (by omega)
    have hbv := bi_range v
    refine z_iload (q := 7) hX dX4_hasWord_5 rfl rfl ?_
    refine z_aload_n (i := 0) (q := 8) hX dX4_hasWord_7 rfl rfl rfl ?_
    refine zt_getA (q := 11) hX 7 4 dX4_hasWord_8 q1871 (by decide) rfl rfl rfl ?_
    refine z_iload_n (i := 1) (q := 12) hX dX4_hasWord_11 rfl rfl rfl ?_
    refine zt_ald (q := 13) (N := 41) hX 4 dX4_hasWord_12 rfl (by decide) (by decide) (by omega) rfl ?_
    rw [e4]
    refine z_icmp_ge (q := 16) (t := 129) hX dX4_hasWord_13 (by decide) (by omega) (by omega) rfl (fun h13 => ?_) (fun h13 => ?_)
    · refine z_iload_n (i := 3) (q := 130) hX dX4_hasWord_129 rfl rfl rfl ?_
      exact z_zret hX dX4_hasWord_130 (Nat.le_of_ble_eq_true rfl) (Nat.le_of_ble_eq_true rfl) rfl (by first | decide | omega) (fun H hI => ⟨congrArg (fun z => some (zI z)) ((by rw [ev]; unfold hwI; rw [show (nTl (G 0) l).toNat = n by omega])), hI⟩)
    · have ht := hl.t (t := n) (by omega) (by omega)
      refine z_aload_n (i := 0) (q := 17) hX dX4_hasWord_16 rfl rfl rfl ?_
      refine z_iload_n (i := 1) (q := 18) hX dX4_hasWord_17 rfl rfl rfl ?_
      refine z_iload (q := 20) hX dX4_hasWord_18 rfl rfl ?_
      refine zt_V1 (q := 23) (na := 2) hX dX4_hasWord_20 (c_X4_wide D A (by first | assumption | omega) (by first | assumption | omega)) q2022 q2024 qs53 q103 q2025 rfl (by decide +kernel) ⟨Nat.le_of_ble_eq_true rfl, Nat.le_of_ble_eq_true rfl⟩ rfl rfl (Nat.le_of_ble_eq_true rfl) rfl ⟨rfl, rfl⟩ (Nat.le_of_ble_eq_true rfl) (Nat.le_of_ble_eq_true rfl) rfl ?_
      refine z_aload_n (i := 0) (q := 24) hX dX4_hasWord_23 rfl rfl rfl ?_
      refine zt_getA (q := 27) hX 21 12 dX4_hasWord_24 q1885 (by decide) rfl rfl rfl ?_
      refine z_iload_n (i := 2) (q := 28) hX dX4_hasWord_27 rfl rfl rfl ?_
      refine z_bipush (q := 30) hX dX4_hasWord_28 (by decide) rfl ?_
      refine z_iadd (q := 31) hX dX4_hasWord_30 rfl ?_
      refine zt_ald (q := 32) (N := 420) hX 12 dX4_hasWord_31 rfl (by decide) (by decide) (by omega) rfl ?_
      refine z_aload_n (i := 0) (q := 33) hX dX4_hasWord_32 rfl rfl rfl ?_
      refine zt_getA (q := 36) hX 21 12 dX4_hasWord_33 q1885 (by decide) rfl rfl rfl ?_
      refine z_iload_n (i := 2) (q := 37) hX dX4_hasWord_36 rfl rfl rfl ?_
      refine z_iconst (q := 38) hX dX4_hasWord_37 rfl ?_
      refine z_iadd (q := 39) hX dX4_hasWord_38 rfl ?_
      refine zt_ald (q := 40) (N := 420) hX 12 dX4_hasWord_39 rfl (by decide) (by decide) (by omega) rfl ?_
      refine z_isub (q := 41) hX dX4_hasWord_40 rfl ?_
      refine z_icmp_ne (q := 44) (t := 48) hX dX4_hasWord_41 (by decide) (by omega) (by omega) rfl (fun h41 => ?_) (fun h41 => ?_)
      · refine z_iconst (q := 49) hX dX4_hasWord_48 rfl ?_
        refine z_istore (q := 51) hX dX4_hasWord_49 (Nat.le_of_ble_eq_true rfl) rfl rfl ?_
        refine z_iconst (q := 52) hX dX4_hasWord_51 rfl ?_
        refine z_istore (q := 54) hX dX4_hasWord_52 (Nat.le_of_ble_eq_true rfl) rfl rfl ?_
        exact K2 (by omega) 0 (Nat.zero_le _) _ _ (by rw [allI, Bool.and_true, decide_eq_false (by omega)]) rfl
      · refine z_iconst (q := 45) hX dX4_hasWord_44 rfl ?_
        refine z_goto (t := 49) hX dX4_hasWord_45 (by decide) ?_
        refine z_istore (q := 51) hX dX4_hasWord_49 (Nat.le_of_ble_eq_true rfl) rfl rfl ?_
        refine z_iconst (q := 52) hX dX4_hasWord_51 rfl ?_
        refine z_istore (q := 54) hX dX4_hasWord_52 (Nat.le_of_ble_eq_true rfl) rfl rfl ?_
        exact K2 (by omega) 0 (Nat.zero_le _) _ _ (by rw [allI, Bool.and_true, decide_eq_true (by omega)]) rfl
  refine z_iconst (q := 1) hX dX4_hasWord_0 rfl ?_
  refine z_istore_n (i := 3) (q := 2) hX dX4_hasWord_1 rfl (Nat.le_of_ble_eq_true rfl) rfl rfl ?_
  refine z_iconst (q := 3) hX dX4_hasWord_2 rfl ?_
  refine z_istore (q := 5) hX dX4_hasWord_3 (Nat.le_of_ble_eq_true rfl) rfl rfl ?_
  exact K 0 (Nat.zero_le _) false _ rfl rfl
def cmpB (by_ v x : Int) : Bool := if by_ = 60 then decide (v < x) else if by_ = 61 then decide (v = x) else decide (x < v)
/-- a line's number in a column, compared -/
def cwB (M : Int → Int) (l col by_ x : Int) : Bool := if 0 ≤ tokO M (M (43 + l)) col ∧ typ (tkl M l (tokO M (M (43 + l)) col)) = 2 then cmpB by_ (num (tkl M l (tokO M (M (43 + l)) col))) x else false
abbrev rmX4_compares : Room := { frames := 3, cells := 0, slots := 0, locals := 70 }
set_option maxHeartbeats 4000000 in
theorem c_X4_compares (D : zD) (A : Nat → Prop) {b : Nat} {F : zTF} {G : zTG} {l c : Int} (h : zWg G) (l0 : 0 ≤ l) (l1 : l < G 0 0) (hc : 0 ≤ c ∧ c ≤ 413) (hc2 : zR (G 12 (c + 2))) (hc3 : zR (G 12 (c + 3))) (hc4 : zR (G 12 (c + 4))) : zC D yX4_compares cX4_compares 7 (some .boolean) none rmX4_compares A [.ref b, zI (l), zI (c)] (twI D A b F G) (zPd (zI (bi (cwB (G 0) l (G 12 (c + 2)) (G 12 (c + 3)) (G 12 (c + 4))))) (twI D A b (F) (G))) zNo := by
  refine zC_start (L := [some (.ref b), some (zI (l)), some (zI (c)), none, none, none, none]) (by decide) (Nat.le_of_ble_eq_true rfl) rfl (fun X hX => ?_)
  have hw := h.1
  have hm := hw.1
  have ho := (zWg_iff.mp h).1
  have hof := hw.of l0 l1
  have hfo := fst_of l0 l1 rfl
  have hT : isT (G 0) (G 0 (43 + l)) = true := isT_iff.mpr ⟨hof.1, hof.2, hfo⟩
  have hl := hw.ln l0 l1
  have nl := ho.n l0 l1 rfl
  have e5 : nT (tx (G 0) l) = nTl (G 0) l := rfl
  have hge := tokO_ge (G 0) (G 0 (43 + l)) (G 12 (c + 2))
  have hub : tokO (G 0) (G 0 (43 + l)) (G 12 (c + 2)) < nTl (G 0) l := by
    by_cases q : 0 ≤ tokO (G 0) (G 0 (43 + l)) (G 12 (c + 2))
    · have q2 := tokO_iff.mp q
      have q3 := tokO_rng q2.1 q2.2
      omega
    · have := nT_range (tx (G 0) l)
      omega
  have hnr := nT_range (tx (G 0) l)
  have hln := hl.1.f
  have hty := typ_range (tkl (G 0) l (tokO (G 0) (G 0 (43 + l)) (G 12 (c + 2))))
  obtain ⟨k, hk⟩ : ∃ k : Int, k = tokO (G 0) (G 0 (43 + l)) (G 12 (c + 2)) := ⟨_, rfl⟩
  have htk : tok (tx (G 0) l) k = tkl (G 0) l k := rfl
  rw [← hk] at hge hub hty
  have J136 : 0 ≤ k → typ (tkl (G 0) l k) = 2 → ∀ w : Bool, w = cmpB (G 12 (c + 3)) (num (tkl (G 0) l k)) (G 12 (c + 4)) → zG X 0 0 (twI D A b F G) 136 [some (.ref b), some (zI (l)), some (zI (c)), some (zI (G 0 (43 + l))), some (zI (k)), some (zI (num (tkl (G 0) l k))), some (zI (G 12 (c + 3)))] [zI (bi (w))] := by
    intro q1 q2 w ew
    have hbw := bi_range w
    exact z_zretB hX dX4_compares_136 (Nat.le_of_ble_eq_true rfl) (Nat.le_of_ble_eq_true rfl) rfl (fun H hI => ⟨congrArg (fun z => some (zI z)) ((by unfold cwB; rw [← hk, if_pos ⟨q1, q2⟩, ew])), hI⟩)
  refine z_aload_n (i := 0) (q := 1) hX dX4_compares_0 rfl rfl rfl ?_
  refine zt_getA (q := 4) hX 0 0 dX4_compares_1 q1864 (by decide) rfl rfl rfl ?_
  refine z_bipush (q := 6) hX dX4_compares_4 (by decide) rfl ?_
  refine z_iload_n (i := 1) (q := 7) hX dX4_compares_6 rfl rfl rfl ?_
  refine z_iadd (q := 8) hX dX4_compares_7 rfl ?_
  refine zt_ald (q := 9) (N := 1964) hX 0 dX4_compares_8 rfl (by decide) (by decide) (by omega) rfl ?_
  refine z_istore_n (i := 3) (q := 10) hX dX4_compares_9 rfl (Nat.le_of_ble_eq_true rfl) rfl rfl ?_
  refine z_aload_n (i := 0) (q := 11) hX dX4_compares_10 rfl rfl rfl ?_
  refine z_iload_n (i := 3) (q := 12) hX dX4_compares_11 rfl rfl rfl ?_
  refine z_aload_n (i := 0) (q := 13) hX dX4_compares_12 rfl rfl rfl ?_
  refine zt_getA (q := 16) hX 21 12 dX4_compares_13 q1885 (by decide) rfl rfl rfl ?_
  refine z_iload_n (i := 2) (q := 17) hX dX4_compares_16 rfl rfl rfl ?_
  refine z_iconst (q := 18) hX dX4_compares_17 rfl ?_
  refine z_iadd (q := 19) hX dX4_compares_18 rfl ?_
  refine zt_ald (q := 20) (N := 420) hX 12 dX4_compares_19 rfl (by decide) (by decide) (by omega) rfl ?_
  refine zt_V1 (q := 23) (na := 2) hX dX4_compares_20 (c_X4_tokenOf D A (by first | assumption | omega) (by first | assumption | omega) (by first | assumption | omega)) q2184 q2186 qs81 q103 q2187 rfl (by decide +kernel) ⟨Nat.le_of_ble_eq_true rfl, Nat.le_of_ble_eq_true rfl⟩ rfl rfl (Nat.le_of_ble_eq_true rfl) rfl ⟨rfl, rfl⟩ (Nat.le_of_ble_eq_true rfl) (Nat.le_of_ble_eq_true rfl) rfl ?_
  rw [← hk]
  refine z_istore (q := 25) hX dX4_compares_23 (Nat.le_of_ble_eq_true rfl) rfl rfl ?_
  refine z_iload (q := 27) hX dX4_compares_25 rfl rfl ?_
  refine z_if_lt (q := 30) (t := 41) hX dX4_compares_27 (by decide) (by omega) rfl (fun h27 => ?_) (fun h27 => ?_)
  · refine z_iconst (q := 42) hX dX4_compares_41 rfl ?_
    exact z_zret hX dX4_compares_42 (Nat.le_of_ble_eq_true rfl) (Nat.le_of_ble_eq_true rfl) rfl (by first | decide | omega) (fun H hI => ⟨congrArg (fun z => some (zI z)) ((by unfold cwB; rw [← hk, if_neg (fun q => by omega)]; rfl)), hI⟩)
  · refine z_aload_n (i := 0) (q := 31) hX dX4_compares_30 rfl rfl rfl ?_
    refine z_iload_n (i := 1) (q := 32) hX dX4_compares_31 rfl rfl rfl ?_
    refine z_iload (q := 34) hX dX4_compares_32 rfl rfl ?_
    refine zt_V1 (q := 37) (na := 2) hX dX4_compares_34 (c_X4_typeOf D A (by first | assumption | omega) (by first | assumption | omega)) q2026 q2028 qs54 q103 q2029 rfl (by decide +kernel) ⟨Nat.le_of_ble_eq_true rfl, Nat.le_of_ble_eq_true rfl⟩ rfl rfl (Nat.le_of_ble_eq_true rfl) rfl ⟨rfl, rfl⟩ (Nat.le_of_ble_eq_true rfl) (Nat.le_of_ble_eq_true rfl) rfl ?_
    rw [htk]
    refine z_iconst (q := 38) hX dX4_compares_37 rfl ?_
    refine z_icmp_eq (q := 41) (t := 43) hX dX4_compares_38 (by decide) (by omega) (by omega) rfl (fun h38 => ?_) (fun h38 => ?_)
    · refine z_aload_n (i := 0) (q := 44) hX dX4_compares_43 rfl rfl rfl ?_
      refine z_iload_n (i := 1) (q := 45) hX dX4_compares_44 rfl rfl rfl ?_
      refine z_iload (q := 47) hX dX4_compares_45 rfl rfl ?_
      refine zt_V1 (q := 50) (na := 2) hX dX4_compares_47 (c_X4_numberOf D A (by first | assumption | omega) (by first | assumption | omega)) q2169 q2171 qs79 q103 q2172 rfl (by decide +kernel) ⟨Nat.le_of_ble_eq_true rfl, Nat.le_of_ble_eq_true rfl⟩ rfl rfl (Nat.le_of_ble_eq_true rfl) rfl ⟨rfl, rfl⟩ (Nat.le_of_ble_eq_true rfl) (Nat.le_of_ble_eq_true rfl) rfl ?_
      rw [htk]
      have hq2 : typ (tkl (G 0) l k) = 2 := by omega
      have hnu := num_rng hq2
      refine z_istore (q := 52) hX dX4_compares_50 (Nat.le_of_ble_eq_true rfl) rfl rfl ?_
      refine z_aload_n (i := 0) (q := 53) hX dX4_compares_52 rfl rfl rfl ?_
      refine zt_getA (q := 56) hX 21 12 dX4_compares_53 q1885 (by decide) rfl rfl rfl ?_
      refine z_iload_n (i := 2) (q := 57) hX dX4_compares_56 rfl rfl rfl ?_
      refine z_iconst (q := 58) hX dX4_compares_57 rfl ?_
      refine z_iadd (q := 59) hX dX4_compares_58 rfl ?_
      refine zt_ald (q := 60) (N := 420) hX 12 dX4_compares_59 rfl (by decide) (by decide) (by omega) rfl ?_
      refine z_istore (q := 62) hX dX4_compares_60 (Nat.le_of_ble_eq_true rfl) rfl rfl ?_
      refine z_iload (q := 64) hX dX4_compares_62 rfl rfl ?_
      refine z_bipush (q := 66) hX dX4_compares_64 (by decide) rfl ?_
      refine z_icmp_ne (q := 69) (t := 90) hX dX4_compares_66 (by decide) (by omega) (by omega) rfl (fun h66 => ?_) (fun h66 => ?_)
      · refine z_iload (q := 92) hX dX4_compares_90 rfl rfl ?_
        refine z_bipush (q := 94) hX dX4_compares_92 (by decide) rfl ?_
        refine z_icmp_ne (q := 97) (t := 118) hX dX4_compares_94 (by decide) (by omega) (by omega) rfl (fun h94 => ?_) (fun h94 => ?_)
        · refine z_iload (q := 120) hX dX4_compares_118 rfl rfl ?_
          refine z_aload_n (i := 0) (q := 121) hX dX4_compares_120 rfl rfl rfl ?_
          refine zt_getA (q := 124) hX 21 12 dX4_compares_121 q1885 (by decide) rfl rfl rfl ?_
          refine z_iload_n (i := 2) (q := 125) hX dX4_compares_124 rfl rfl rfl ?_
          refine z_iconst (q := 126) hX dX4_compares_125 rfl ?_
          refine z_iadd (q := 127) hX dX4_compares_126 rfl ?_
          refine zt_ald (q := 128) (N := 420) hX 12 dX4_compares_127 rfl (by decide) (by decide) (by omega) rfl ?_
          refine z_icmp_le (q := 131) (t := 135) hX dX4_compares_128 (by decide) (by omega) (by omega) rfl (fun h128 => ?_) (fun h128 => ?_)
          · refine z_iconst (q := 136) hX dX4_compares_135 rfl ?_
            exact J136 (by omega) hq2 false (by unfold cmpB; rw [if_neg h66, if_neg h94, decide_eq_false (by omega)])
          · refine z_iconst (q := 132) hX dX4_compares_131 rfl ?_
            refine z_goto (t := 136) hX dX4_compares_132 (by decide) ?_
            exact J136 (by omega) hq2 true (by unfold cmpB; rw [if_neg h66, if_neg h94, decide_eq_true (by omega)])
        · refine z_iload (q := 99) hX dX4_compares_97 rfl rfl ?_
          refine z_aload_n (i := 0) (q := 100) hX dX4_compares_99 rfl rfl rfl ?_
          refine zt_getA (q := 103) hX 21 12 dX4_compares_100 q1885 (by decide) rfl rfl rfl ?_
          refine z_iload_n (i := 2) (q := 104) hX dX4_compares_103 rfl rfl rfl ?_
          refine z_iconst (q := 105) hX dX4_compares_104 rfl ?_
          refine z_iadd (q := 106) hX dX4_compares_105 rfl ?_
          refine zt_ald (q := 107) (N := 420) hX 12 dX4_compares_106 rfl (by decide) (by decide) (by omega) rfl ?_
          refine z_icmp_ne (q := 110) (t := 114) hX dX4_compares_107 (by decide) (by omega) (by omega) rfl (fun h107 => ?_) (fun h107 => ?_)
          · refine z_iconst (q := 115) hX dX4_compares_114 rfl ?_
            refine z_goto (t := 136) hX dX4_compares_115 (by decide) ?_
            exact J136 (by omega) hq2 false (by unfold cmpB; rw [if_neg h66, if_pos (by omega), decide_eq_false (by omega)])
          · refine z_iconst (q := 111) hX dX4_compares_110 rfl ?_
            refine z_goto (t := 136) hX dX4_compares_111 (by decide) ?_
            exact J136 (by omega) hq2 true (by unfold cmpB; rw [if_neg h66, if_pos (by omega), decide_eq_true (by omega)])
      · refine z_iload (q := 71) hX dX4_compares_69 rfl rfl ?_
        refine z_aload_n (i := 0) (q := 72) hX dX4_compares_71 rfl rfl rfl ?_
        refine zt_getA (q := 75) hX 21 12 dX4_compares_72 q1885 (by decide) rfl rfl rfl ?_
        refine z_iload_n (i := 2) (q := 76) hX dX4_compares_75 rfl rfl rfl ?_
        refine z_iconst (q := 77) hX dX4_compares_76 rfl ?_
        refine z_iadd (q := 78) hX dX4_compares_77 rfl ?_
        refine zt_ald (q := 79) (N := 420) hX 12 dX4_compares_78 rfl (by decide) (by decide) (by omega) rfl ?_
        refine z_icmp_ge (q := 82) (t := 86) hX dX4_compares_79 (by decide) (by omega) (by omega) rfl (fun h79 => ?_) (fun h79 => ?_)
        · refine z_iconst (q := 87) hX dX4_compares_86 rfl ?_
          refine z_goto (t := 136) hX dX4_compares_87 (by decide) ?_
          exact J136 (by omega) hq2 false (by unfold cmpB; rw [if_pos (by omega), decide_eq_false (by omega)])
        · refine z_iconst (q := 83) hX dX4_compares_82 rfl ?_
          refine z_goto (t := 136) hX dX4_compares_83 (by decide) ?_
          exact J136 (by omega) hq2 true (by unfold cmpB; rw [if_pos (by omega), decide_eq_true (by omega)])
    · refine z_iconst (q := 42) hX dX4_compares_41 rfl ?_
      exact z_zret hX dX4_compares_42 (Nat.le_of_ble_eq_true rfl) (Nat.le_of_ble_eq_true rfl) rfl (by first | decide | omega) (fun H hI => ⟨congrArg (fun z => some (zI z)) ((by unfold cwB; rw [← hk, if_neg (fun q => h38 q.2)]; rfl)), hI⟩)
