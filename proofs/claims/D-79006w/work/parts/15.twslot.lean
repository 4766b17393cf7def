/-! THE REFERENCE: slots widened, templates' costs, what is kept -/
set_option maxRecDepth 100000
theorem upF_upF (F : zTF) (k : Nat) (x y : Int) : upF (upF F k x) k y = upF F k y := by
  funext j
  unfold upF
  split <;> simp_all
theorem upF_self (F : zTF) (k : Nat) : upF F k (F k) = F := by
  funext j
  unfold upF
  split
  · rename_i h; rw [h]
  · rfl
def unionS (s : Int) (u : zS) (s2 : Int) (w : zS) : Int := if s = -1 ∧ s2 = -1 ∧ u = w then -1 else if (if s = -1 then typ u else s) = (if s2 = -1 then typ w else s2) then (if s = -1 then typ u else s) else 0
theorem unionS_rng {s s2 : Int} (u w : zS) (h : -1 ≤ s ∧ s ≤ 2) (_g : -1 ≤ s2 ∧ s2 ≤ 2) : -1 ≤ unionS s u s2 w ∧ unionS s u s2 w ≤ 2 := by
  have h1 := typ_range u
  unfold unionS
  split
  · omega
  · split
    · split <;> omega
    · omega
abbrev rmX4_union : Room := { frames := 3, cells := 0, slots := 0, locals := 70 }
set_option maxHeartbeats 4000000 in
theorem c_X4_union (D : zD) (A : Nat → Prop) {b : Nat} {F : zTF} {G : zTG} {s l s2 o k : Int} (hs : -1 ≤ s ∧ s ≤ 2) (hl : zLn G l) (hs2 : -1 ≤ s2 ∧ s2 ≤ 2) (ho : zLn G o) (hk : 0 ≤ k) (hk1 : k < nTl (G 0) l) (hk2 : k < nTl (G 0) o) : zC D yX4_union cX4_union 8 (some .int) none rmX4_union A [.ref b, zI (s), zI (l), zI (s2), zI (o), zI (k)] (twI D A b F G) (zPd (zI (unionS s (tkl (G 0) l k) s2 (tkl (G 0) o k))) (twI D A b (F) (G))) zNo := by
  refine zC_start (L := [some (.ref b), some (zI (s)), some (zI (l)), some (zI (s2)), some (zI (o)), some (zI (k)), none, none]) (by decide) (Nat.le_of_ble_eq_true rfl) rfl (fun X hX => ?_)
  have f1 := hl.1.f
  have f2 := ho.1.f
  have e5 : nT (tx (G 0) l) = nTl (G 0) l := rfl
  have e6 : nT (tx (G 0) o) = nTl (G 0) o := rfl
  have J61 : ¬ (s = -1 ∧ s2 = -1 ∧ tkl (G 0) l k = tkl (G 0) o k) → ∀ x y : Int, x = (if s = -1 then typ (tkl (G 0) l k) else s) → y = (if s2 = -1 then typ (tkl (G 0) o k) else s2) → zG X 0 0 (twI D A b F G) 61 [some (.ref b), some (zI (s)), some (zI (l)), some (zI (s2)), some (zI (o)), some (zI (k)), some (zI (x)), none] [zI (y)] := by
    intro hne x y ex ey
    have t1 := typ_range (tkl (G 0) l k)
    have t2 := typ_range (tkl (G 0) o k)
    have rx : -1 ≤ x ∧ x ≤ 2 := by rw [ex]; split <;> omega
    have ry : -1 ≤ y ∧ y ≤ 2 := by rw [ey]; split <;> omega
    have hu : unionS s (tkl (G 0) l k) s2 (tkl (G 0) o k) = if x = y then x else 0 := by unfold unionS; rw [if_neg hne, ← ex, ← ey]
    refine z_istore (q := 63) hX dX4_union_61 (Nat.le_of_ble_eq_true rfl) rfl rfl ?_
    refine z_iload (q := 65) hX dX4_union_63 rfl rfl ?_
    refine z_iload (q := 67) hX dX4_union_65 rfl rfl ?_
    refine z_icmp_ne (q := 70) (t := 75) hX dX4_union_67 (by decide) (by omega) (by omega) rfl (fun h67 => ?_) (fun h67 => ?_)
    · refine z_iconst (q := 76) hX dX4_union_75 rfl ?_
      exact z_iret hX dX4_union_76 (Nat.le_of_ble_eq_true rfl) (Nat.le_of_ble_eq_true rfl) rfl (fun H hI => ⟨congrArg (fun z => some (zI z)) ((by rw [hu, if_neg h67])), hI⟩)
    · refine z_iload (q := 72) hX dX4_union_70 rfl rfl ?_
      refine z_goto (t := 76) hX dX4_union_72 (by decide) ?_
      exact z_iret hX dX4_union_76 (Nat.le_of_ble_eq_true rfl) (Nat.le_of_ble_eq_true rfl) rfl (fun H hI => ⟨congrArg (fun z => some (zI z)) ((by rw [hu, if_pos (by omega)])), hI⟩)
  have J26 : ¬ (s = -1 ∧ s2 = -1 ∧ tkl (G 0) l k = tkl (G 0) o k) → zG X 0 0 (twI D A b F G) 26 [some (.ref b), some (zI (s)), some (zI (l)), some (zI (s2)), some (zI (o)), some (zI (k)), none, none] [] := by
    intro hne
    refine z_iload_n (i := 1) (q := 27) hX dX4_union_26 rfl rfl rfl ?_
    refine z_iconst (q := 28) hX dX4_union_27 rfl ?_
    refine z_icmp_ne (q := 31) (t := 41) hX dX4_union_28 (by decide) (by omega) (by omega) rfl (fun h28 => ?_) (fun h28 => ?_)
    · refine z_iload_n (i := 1) (q := 42) hX dX4_union_41 rfl rfl rfl ?_
      refine z_istore (q := 44) hX dX4_union_42 (Nat.le_of_ble_eq_true rfl) rfl rfl ?_
      refine z_iload_n (i := 3) (q := 45) hX dX4_union_44 rfl rfl rfl ?_
      refine z_iconst (q := 46) hX dX4_union_45 rfl ?_
      refine z_icmp_ne (q := 49) (t := 60) hX dX4_union_46 (by decide) (by omega) (by omega) rfl (fun h46 => ?_) (fun h46 => ?_)
      · refine z_iload_n (i := 3) (q := 61) hX dX4_union_60 rfl rfl rfl ?_
        exact J61 hne _ _ (by rw [if_neg h28]) (by rw [if_neg h46])
      · refine z_aload_n (i := 0) (q := 50) hX dX4_union_49 rfl rfl rfl ?_
        refine z_iload (q := 52) hX dX4_union_50 rfl rfl ?_
        refine z_iload (q := 54) hX dX4_union_52 rfl rfl ?_
        refine zt_V1 (q := 57) (na := 2) hX dX4_union_54 (c_X4_typeOf D A (by first | assumption | omega) (by first | assumption | omega)) q2026 q2028 qs54 q103 q2029 rfl (by decide +kernel) ⟨Nat.le_of_ble_eq_true rfl, Nat.le_of_ble_eq_true rfl⟩ rfl rfl (Nat.le_of_ble_eq_true rfl) rfl ⟨rfl, rfl⟩ (Nat.le_of_ble_eq_true rfl) (Nat.le_of_ble_eq_true rfl) rfl ?_
        refine z_goto (t := 61) hX dX4_union_57 (by decide) ?_
        exact J61 hne _ _ (by rw [if_neg h28]) (by rw [if_pos (by omega)]; rfl)
    · refine z_aload_n (i := 0) (q := 32) hX dX4_union_31 rfl rfl rfl ?_
      refine z_iload_n (i := 2) (q := 33) hX dX4_union_32 rfl rfl rfl ?_
      refine z_iload (q := 35) hX dX4_union_33 rfl rfl ?_
      refine zt_V1 (q := 38) (na := 2) hX dX4_union_35 (c_X4_typeOf D A (by first | assumption | omega) (by first | assumption | omega)) q2026 q2028 qs54 q103 q2029 rfl (by decide +kernel) ⟨Nat.le_of_ble_eq_true rfl, Nat.le_of_ble_eq_true rfl⟩ rfl rfl (Nat.le_of_ble_eq_true rfl) rfl ⟨rfl, rfl⟩ (Nat.le_of_ble_eq_true rfl) (Nat.le_of_ble_eq_true rfl) rfl ?_
      refine z_goto (t := 42) hX dX4_union_38 (by decide) ?_
      refine z_istore (q := 44) hX dX4_union_42 (Nat.le_of_ble_eq_true rfl) rfl rfl ?_
      refine z_iload_n (i := 3) (q := 45) hX dX4_union_44 rfl rfl rfl ?_
      refine z_iconst (q := 46) hX dX4_union_45 rfl ?_
      refine z_icmp_ne (q := 49) (t := 60) hX dX4_union_46 (by decide) (by omega) (by omega) rfl (fun h46 => ?_) (fun h46 => ?_)
      · refine z_iload_n (i := 3) (q := 61) hX dX4_union_60 rfl rfl rfl ?_
        exact J61 hne _ _ (by rw [if_pos (by omega)]; rfl) (by rw [if_neg h46])
      · refine z_aload_n (i := 0) (q := 50) hX dX4_union_49 rfl rfl rfl ?_
        refine z_iload (q := 52) hX dX4_union_50 rfl rfl ?_
        refine z_iload (q := 54) hX dX4_union_52 rfl rfl ?_
        refine zt_V1 (q := 57) (na := 2) hX dX4_union_54 (c_X4_typeOf D A (by first | assumption | omega) (by first | assumption | omega)) q2026 q2028 qs54 q103 q2029 rfl (by decide +kernel) ⟨Nat.le_of_ble_eq_true rfl, Nat.le_of_ble_eq_true rfl⟩ rfl rfl (Nat.le_of_ble_eq_true rfl) rfl ⟨rfl, rfl⟩ (Nat.le_of_ble_eq_true rfl) (Nat.le_of_ble_eq_true rfl) rfl ?_
        refine z_goto (t := 61) hX dX4_union_57 (by decide) ?_
        exact J61 hne _ _ (by rw [if_pos (by omega)]; rfl) (by rw [if_pos (by omega)]; rfl)
  refine z_iload_n (i := 1) (q := 1) hX dX4_union_0 rfl rfl rfl ?_
  refine z_iconst (q := 2) hX dX4_union_1 rfl ?_
  refine z_icmp_ne (q := 5) (t := 26) hX dX4_union_2 (by decide) (by omega) (by omega) rfl (fun h2 => ?_) (fun h2 => ?_)
  · exact J26 (fun q => h2 q.1)
  · refine z_iload_n (i := 3) (q := 6) hX dX4_union_5 rfl rfl rfl ?_
    refine z_iconst (q := 7) hX dX4_union_6 rfl ?_
    refine z_icmp_ne (q := 10) (t := 26) hX dX4_union_7 (by decide) (by omega) (by omega) rfl (fun h7 => ?_) (fun h7 => ?_)
    · exact J26 (fun q => h7 q.2.1)
    · refine z_aload_n (i := 0) (q := 11) hX dX4_union_10 rfl rfl rfl ?_
      refine z_iload_n (i := 2) (q := 12) hX dX4_union_11 rfl rfl rfl ?_
      refine z_iload (q := 14) hX dX4_union_12 rfl rfl ?_
      refine z_iload (q := 16) hX dX4_union_14 rfl rfl ?_
      refine z_iload (q := 18) hX dX4_union_16 rfl rfl ?_
      refine zt_V1 (q := 21) (na := 4) hX dX4_union_18 (c_X4_isSame D A (by first | assumption | omega) (by first | assumption | omega) (by first | assumption | omega) (by first | assumption | omega)) q2018 q2020 qs52 q103 q2021 rfl (by decide +kernel) ⟨Nat.le_of_ble_eq_true rfl, Nat.le_of_ble_eq_true rfl⟩ rfl rfl (Nat.le_of_ble_eq_true rfl) rfl ⟨rfl, rfl⟩ (Nat.le_of_ble_eq_true rfl) (Nat.le_of_ble_eq_true rfl) rfl ?_
      refine z_ifB_eq (q := 24) (t := 26) hX dX4_union_21 (by decide) rfl (fun h21 => ?_) (fun h21 => ?_)
      · exact J26 (fun q => of_decide_eq_false h21 q.2.2)
      · refine z_iconst (q := 25) hX dX4_union_24 rfl ?_
        exact z_iret hX dX4_union_25 (Nat.le_of_ble_eq_true rfl) (Nat.le_of_ble_eq_true rfl) rfl (fun H hI => ⟨congrArg (fun z => some (zI z)) ((by unfold unionS; rw [if_pos ⟨by omega, by omega, of_decide_eq_true h21⟩])), hI⟩)
/-- the slots of template t from the first on laid anew -/
def sltG (G : zTG) (t n : Int) (f : Int → Int) : zTG := fun j i => if j = 0 ∧ 1724 + 20 * t ≤ i ∧ i < 1724 + 20 * t + n then f (i - (1724 + 20 * t)) else G j i
theorem sltG_0 (G : zTG) (t : Int) (f : Int → Int) : sltG G t 0 f = G := by
  funext j i
  exact if_neg (by omega)
theorem sltG_j (G : zTG) (t n : Int) (f : Int → Int) {j : Nat} (h : j ≠ 0) : sltG G t n f j = G j := by
  funext i
  exact if_neg (fun q => h q.1)
theorem sltG_lo (G : zTG) (t n : Int) (f : Int → Int) {i : Int} (ht : 0 ≤ t) (h : i < 1724) : sltG G t n f 0 i = G 0 i := if_neg (by omega)
theorem sltG_out (G : zTG) (t n : Int) (f : Int → Int) {i : Int} (h : i < 1724 + 20 * t ∨ 1724 + 20 * t + n ≤ i) : sltG G t n f 0 i = G 0 i := if_neg (by omega)
theorem sltG_in (G : zTG) (t n : Int) (f : Int → Int) {k : Int} (h : 0 ≤ k ∧ k < n) : slt (sltG G t n f 0) t k = f k := by
  unfold slt
  show (if _ then _ else _) = _
  rw [if_pos ⟨rfl, by omega, by omega⟩, show 1724 + 20 * t + k - (1724 + 20 * t) = k by omega]
theorem sltG_s (G : zTG) (t n z : Int) (f : Int → Int) (hn : 0 ≤ n) (hz : z = f n) : upG (sltG G t n f) 0 (1724 + 20 * t + n) z = sltG G t (n + 1) f := by
  funext j i
  subst hz
  by_cases h : j = 0 ∧ i = 1724 + 20 * t + n
  · obtain ⟨rfl, rfl⟩ := h
    rw [upG_same]
    show _ = if _ then _ else _
    rw [if_pos ⟨rfl, by omega, by omega⟩, show 1724 + 20 * t + n - (1724 + 20 * t) = n by omega]
  · show (if _ then _ else _) = _
    rw [if_neg h]
    unfold sltG
    by_cases h2 : j = 0 ∧ 1724 + 20 * t ≤ i ∧ i < 1724 + 20 * t + n
    · rw [if_pos h2, if_pos (by omega)]
    · rw [if_neg h2, if_neg (by omega)]
theorem tx_lo {G G2 : zTG} {l : Int} (h : ∀ i : Int, i < 1724 → G2 0 i = G 0 i) (h0 : 0 ≤ l ∧ l < 40) (hl : G 0 (2 + l) ≤ 40) : tx (G2 0) l = tx (G 0) l :=
  tx_congr (h _ (by omega)) (fun i i0 i1 => h _ (by omega))
theorem zLn.lo {G G2 : zTG} {l : Int} (h : ∀ i : Int, i < 1724 → G2 0 i = G 0 i) (h4 : G2 4 = G 4) (h5 : G2 5 = G 5) (h6 : G2 6 = G 6) (hl : zLn G l) : zLn G2 l := by
  have hf := hl.1.f
  have ht := tx_lo (l := l) h ⟨hf.1, hf.2.1⟩ hf.2.2.2.1
  have hr := hl.1
  refine ⟨⟨hr.1, hr.2.1, by rw [h _ (by omega)]; exact hr.2.2.1, by rw [h _ (by omega)]; exact hr.2.2.2.1, fun i i0 i1 => ?_⟩, by rw [h4, ht]; exact hl.2.1, fun k k0 k1 => ?_⟩
  · rw [h _ (by omega)] at i1
    rw [h _ (by omega)]
    exact hr.2.2.2.2 i i0 i1
  · rw [ht] at k1 ⊢
    rw [h5, h6]
    exact hl.2.2 k k0 k1
theorem zLn.slt {G : zTG} {l t n : Int} {f : Int → Int} (ht : 0 ≤ t) (h : zLn G l) : zLn (sltG G t n f) l :=
  h.lo (fun i hi => sltG_lo G t n f ht hi) (sltG_j G t n f (by decide)) (sltG_j G t n f (by decide)) (sltG_j G t n f (by decide))
theorem sltG_tx {G : zTG} {l t n : Int} {f : Int → Int} (ht : 0 ≤ t) (h : zLn G l) : tx (sltG G t n f 0) l = tx (G 0) l := by
  have hf := h.1.f
  exact tx_lo (fun i hi => sltG_lo G t n f ht hi) ⟨hf.1, hf.2.1⟩ hf.2.2.2.1
def widS (M : Int → Int) (t l : Int) : Int → Int := fun k => unionS (slt M t k) (tkl M (fst M t) k) (-1) (tkl M l k)
abbrev rmX4_widen : Room := { frames := 4, cells := 0, slots := 0, locals := 97 }
set_option maxHeartbeats 4000000 in
theorem c_X4_widen (D : zD) (A : Nat → Prop) {b : Nat} {F : zTF} {G : zTG} {t l : Int} (hw : zWf G) (ht : isT (G 0) t = true) (hl : zLn G l) (hn : nTl (G 0) (fst (G 0) t) = nTl (G 0) l) : zC D yX4_widen cX4_widen 5 none none rmX4_widen A [.ref b, zI (t), zI (l)] (twI D A b F G) (zPv (twI D A b (F) (sltG G t (nTl (G 0) l) (widS (G 0) t l)))) zNo := by
  refine zC_start (L := [some (.ref b), some (zI (t)), some (zI (l)), none, none]) (by decide) (Nat.le_of_ble_eq_true rfl) rfl (fun X hX => ?_)
  have hf := hw.fs ht
  have e1 : lnO (G 0) t 0 = fst (G 0) t := rfl
  have f1 := hl.1.f
  have hg := hf.2.2.2.2.2.1
  have e4 : G 4 l = nTl (G 0) l := hl.2.1
  have e5 : nT (tx (G 0) l) = nTl (G 0) l := rfl
  have K : ∀ n : Nat, n ≤ (nTl (G 0) l).toNat → ∀ p : Int, p = n → zG X 0 0 (twI D A b F (sltG G t n (widS (G 0) t l))) 10 [some (.ref b), some (zI (t)), some (zI (l)), some (zI (fst (G 0) t)), some (zI (p))] [] := by
    refine z_up (fun n hn1 ih p e2 => ?_)
    subst e2
    have hl2 : zLn (sltG G t n (widS (G 0) t l)) l := hl.slt hf.1
    have hg2 : zLn (sltG G t n (widS (G 0) t l)) (fst (G 0) t) := hg.slt hf.1
    have t1 : tx (sltG G t n (widS (G 0) t l) 0) l = tx (G 0) l := sltG_tx hf.1 hl
    have t2 : tx (sltG G t n (widS (G 0) t l) 0) (fst (G 0) t) = tx (G 0) (fst (G 0) t) := sltG_tx hf.1 hg
    have k1 : tkl (sltG G t n (widS (G 0) t l) 0) l n = tkl (G 0) l n := by unfold tkl; rw [t1]
    have k2 : tkl (sltG G t n (widS (G 0) t l) 0) (fst (G 0) t) n = tkl (G 0) (fst (G 0) t) n := by unfold tkl; rw [t2]
    have n1 : nTl (sltG G t n (widS (G 0) t l) 0) l = nTl (G 0) l := by unfold nTl; rw [t1]
    have n2 : nTl (sltG G t n (widS (G 0) t l) 0) (fst (G 0) t) = nTl (G 0) (fst (G 0) t) := by unfold nTl; rw [t2]
    have s1 : slt (sltG G t n (widS (G 0) t l) 0) t n = slt (G 0) t n := sltG_out G t n _ (by omega)
    refine z_iload (q := 12) hX dX4_widen_10 rfl rfl ?_
    refine z_aload_n (i := 0) (q := 13) hX dX4_widen_12 rfl rfl rfl ?_
    refine zt_getA (q := 16) hX 7 4 dX4_widen_13 q1871 (by decide) rfl rfl rfl ?_
    refine z_iload_n (i := 2) (q := 17) hX dX4_widen_16 rfl rfl rfl ?_
    refine zt_ald (q := 18) (N := 41) hX 4 dX4_widen_17 rfl (by decide) (by decide) (by omega) rfl ?_
    rw [sltG_j G t n (widS (G 0) t l) (by decide : (4 : Nat) ≠ 0), e4]
    refine z_icmp_ge (q := 21) (t := 59) hX dX4_widen_18 (by decide) (by omega) (by omega) rfl (fun h18 => ?_) (fun h18 => ?_)
    · refine zt_conv (G2 := sltG G t (nTl (G 0) l) (widS (G 0) t l)) rfl (by rw [show (n : Int) = nTl (G 0) l by omega]) ?_
      exact z_vret hX dX4_widen_59 (Nat.le_of_ble_eq_true rfl) (Nat.le_of_ble_eq_true rfl) rfl (fun H hI => ⟨rfl, hI⟩)
    · refine z_aload_n (i := 0) (q := 22) hX dX4_widen_21 rfl rfl rfl ?_
      refine zt_getA (q := 25) hX 0 0 dX4_widen_22 q1864 (by decide) rfl rfl rfl ?_
      refine z_sipush (q := 28) hX dX4_widen_25 (by decide) rfl ?_
      refine z_bipush (q := 30) hX dX4_widen_28 (by decide) rfl ?_
      refine z_iload_n (i := 1) (q := 31) hX dX4_widen_30 rfl rfl rfl ?_
      refine z_imul (q := 32) hX dX4_widen_31 rfl ?_
      refine z_iadd (q := 33) hX dX4_widen_32 rfl ?_
      refine z_iload (q := 35) hX dX4_widen_33 rfl rfl ?_
      refine z_iadd (q := 36) hX dX4_widen_35 rfl ?_
      refine z_aload_n (i := 0) (q := 37) hX dX4_widen_36 rfl rfl rfl ?_
      refine z_aload_n (i := 0) (q := 38) hX dX4_widen_37 rfl rfl rfl ?_
      refine z_iload_n (i := 1) (q := 39) hX dX4_widen_38 rfl rfl rfl ?_
      refine z_iload (q := 41) hX dX4_widen_39 rfl rfl ?_
      refine zt_V1 (q := 44) (na := 2) hX dX4_widen_41 (c_X4_slotOf D A (by first | assumption | omega) (by first | assumption | omega)) q2014 q2016 qs51 q103 q2017 rfl (by decide +kernel) ⟨Nat.le_of_ble_eq_true rfl, Nat.le_of_ble_eq_true rfl⟩ rfl rfl (Nat.le_of_ble_eq_true rfl) rfl ⟨rfl, rfl⟩ (Nat.le_of_ble_eq_true rfl) (Nat.le_of_ble_eq_true rfl) rfl ?_
      rw [s1]
      have hs := hw.sl (t := t) (k := n) (by omega) (by omega) (by omega) (by omega)
      refine z_iload_n (i := 3) (q := 45) hX dX4_widen_44 rfl rfl rfl ?_
      refine z_iconst (q := 46) hX dX4_widen_45 rfl ?_
      refine z_iload_n (i := 2) (q := 47) hX dX4_widen_46 rfl rfl rfl ?_
      refine z_iload (q := 49) hX dX4_widen_47 rfl rfl ?_
      refine zt_V1 (q := 52) (na := 5) hX dX4_widen_49 (c_X4_union D A (by first | assumption | omega) (by first | assumption | omega) (by first | assumption | omega) (by first | assumption | omega) (by first | assumption | omega) (by first | assumption | omega) (by first | assumption | omega)) q2053 q2055 qs60 q103 q2056 rfl (by decide +kernel) ⟨Nat.le_of_ble_eq_true rfl, Nat.le_of_ble_eq_true rfl⟩ rfl rfl (Nat.le_of_ble_eq_true rfl) rfl ⟨rfl, rfl⟩ (Nat.le_of_ble_eq_true rfl) (Nat.le_of_ble_eq_true rfl) rfl ?_
      rw [k1, k2]
      refine zt_ast (q := 53) (N := 1964) hX 0 dX4_widen_52 rfl (by decide) (by decide) (by omega) rfl ?_
      refine z_iinc (q := 56) hX dX4_widen_53 rfl (Nat.le_of_ble_eq_true rfl) rfl rfl ?_
      refine z_goto (t := 10) hX dX4_widen_56 (by decide) ?_
      rw [sltG_s G t n (unionS (slt (G 0) t n) (tkl (G 0) (fst (G 0) t) n) (-1) (tkl (G 0) l n)) (widS (G 0) t l) (by omega) rfl]
      have e9 := ih (by omega) ((n : Int) + 1) (by omega)
      rw [show ((n + 1 : Nat) : Int) = (n : Int) + 1 by omega] at e9
      exact e9
  refine z_aload_n (i := 0) (q := 1) hX dX4_widen_0 rfl rfl rfl ?_
  refine z_iload_n (i := 1) (q := 2) hX dX4_widen_1 rfl rfl rfl ?_
  refine z_iconst (q := 3) hX dX4_widen_2 rfl ?_
  refine zt_V1 (q := 6) (na := 2) hX dX4_widen_3 (c_X4_lineOf D A (by first | assumption | omega) (by first | assumption | omega) (by first | assumption | omega)) q1990 q1992 qs45 q103 q1993 rfl (by decide +kernel) ⟨Nat.le_of_ble_eq_true rfl, Nat.le_of_ble_eq_true rfl⟩ rfl rfl (Nat.le_of_ble_eq_true rfl) rfl ⟨rfl, rfl⟩ (Nat.le_of_ble_eq_true rfl) (Nat.le_of_ble_eq_true rfl) rfl ?_
  rw [e1]
  refine z_istore_n (i := 3) (q := 7) hX dX4_widen_6 rfl (Nat.le_of_ble_eq_true rfl) rfl rfl ?_
  refine z_iconst (q := 8) hX dX4_widen_7 rfl ?_
  refine z_istore (q := 10) hX dX4_widen_8 (Nat.le_of_ble_eq_true rfl) rfl rfl ?_
  have e9 := K 0 (Nat.zero_le _) 0 rfl
  rw [show ((0 : Nat) : Int) = 0 from rfl, sltG_0] at e9
  exact e9
def varsI (M : Int → Int) (t : Int) : Int := sumI (fun k => bi (!decide (slt M t k = -1))) (nTl M (fst M t)).toNat
abbrev rmX4_variables : Room := { frames := 2, cells := 0, slots := 0, locals := 45 }
set_option maxHeartbeats 4000000 in
theorem c_X4_variables (D : zD) (A : Nat → Prop) {b : Nat} {F : zTF} {G : zTG} {t : Int} (hw : zWf G) (ht : isT (G 0) t = true) : zC D yX4_variables cX4_variables 4 (some .int) none rmX4_variables A [.ref b, zI (t)] (twI D A b F G) (zPd (zI (varsI (G 0) t)) (twI D A b (F) (G))) zNo := by
  refine zC_start (L := [some (.ref b), some (zI (t)), none, none]) (by decide) (Nat.le_of_ble_eq_true rfl) rfl (fun X hX => ?_)
  have hf := hw.fs ht
  have K : ∀ n : Nat, n ≤ (nTl (G 0) (fst (G 0) t)).toNat → ∀ c p : Int, c = sumI (fun k => bi (!decide (slt (G 0) t k = -1))) n → p = n → zG X 0 0 (twI D A b F G) 4 [some (.ref b), some (zI (t)), some (zI (c)), some (zI (p))] [] := by
    refine z_up (fun n hn ih c p h1 h2 => ?_)
    subst h2
    refine z_iload_n (i := 3) (q := 5) hX dX4_variables_4 rfl rfl rfl ?_
    refine z_aload_n (i := 0) (q := 6) hX dX4_variables_5 rfl rfl rfl ?_
    refine z_iload_n (i := 1) (q := 7) hX dX4_variables_6 rfl rfl rfl ?_
    refine zt_V1 (q := 10) (na := 1) hX dX4_variables_7 (c_X4_tokensOf D A (by first | assumption | omega) (by first | assumption | omega)) q2085 q2087 qs62 q103 q2088 rfl (by decide +kernel) ⟨Nat.le_of_ble_eq_true rfl, Nat.le_of_ble_eq_true rfl⟩ rfl rfl (Nat.le_of_ble_eq_true rfl) rfl ⟨rfl, rfl⟩ (Nat.le_of_ble_eq_true rfl) (Nat.le_of_ble_eq_true rfl) rfl ?_
    refine z_icmp_ge (q := 13) (t := 37) hX dX4_variables_10 (by decide) (by omega) (by omega) rfl (fun h10 => ?_) (fun h10 => ?_)
    · refine z_iload_n (i := 2) (q := 38) hX dX4_variables_37 rfl rfl rfl ?_
      exact z_iret hX dX4_variables_38 (Nat.le_of_ble_eq_true rfl) (Nat.le_of_ble_eq_true rfl) rfl (fun H hI => ⟨congrArg (fun z => some (zI z)) ((by rw [h1, show n = (nTl (G 0) (fst (G 0) t)).toNat by omega]; rfl)), hI⟩)
    · refine z_iload_n (i := 2) (q := 14) hX dX4_variables_13 rfl rfl rfl ?_
      refine z_aload_n (i := 0) (q := 15) hX dX4_variables_14 rfl rfl rfl ?_
      refine z_iload_n (i := 1) (q := 16) hX dX4_variables_15 rfl rfl rfl ?_
      refine z_iload_n (i := 3) (q := 17) hX dX4_variables_16 rfl rfl rfl ?_
      refine zt_V1 (q := 20) (na := 2) hX dX4_variables_17 (c_X4_slotOf D A (by first | assumption | omega) (by first | assumption | omega)) q2014 q2016 qs51 q103 q2017 rfl (by decide +kernel) ⟨Nat.le_of_ble_eq_true rfl, Nat.le_of_ble_eq_true rfl⟩ rfl rfl (Nat.le_of_ble_eq_true rfl) rfl ⟨rfl, rfl⟩ (Nat.le_of_ble_eq_true rfl) (Nat.le_of_ble_eq_true rfl) rfl ?_
      have hs := hw.sl (t := t) (k := n) (by omega) (by omega) (by omega) (by omega)
      refine z_iconst (q := 21) hX dX4_variables_20 rfl ?_
      refine z_icmp_ne (q := 24) (t := 28) hX dX4_variables_21 (by decide) (by omega) (by omega) rfl (fun h21 => ?_) (fun h21 => ?_)
      · refine z_iconst (q := 29) hX dX4_variables_28 rfl ?_
        refine z_iadd (q := 30) hX dX4_variables_29 rfl ?_
        refine z_istore_n (i := 2) (q := 31) hX dX4_variables_30 rfl (Nat.le_of_ble_eq_true rfl) rfl rfl ?_
        refine z_iinc (q := 34) hX dX4_variables_31 rfl (Nat.le_of_ble_eq_true rfl) rfl rfl ?_
        refine z_goto (t := 4) hX dX4_variables_34 (by decide) ?_
        exact ih (by omega) _ _ (by rw [sumI, h1, decide_eq_false h21]; rfl) (by omega)
      · refine z_iconst (q := 25) hX dX4_variables_24 rfl ?_
        refine z_goto (t := 29) hX dX4_variables_25 (by decide) ?_
        refine z_iadd (q := 30) hX dX4_variables_29 rfl ?_
        refine z_istore_n (i := 2) (q := 31) hX dX4_variables_30 rfl (Nat.le_of_ble_eq_true rfl) rfl rfl ?_
        refine z_iinc (q := 34) hX dX4_variables_31 rfl (Nat.le_of_ble_eq_true rfl) rfl rfl ?_
        refine z_goto (t := 4) hX dX4_variables_34 (by decide) ?_
        exact ih (by omega) _ _ (by rw [sumI, h1, decide_eq_true (by omega)]; rfl) (by omega)
  refine z_iconst (q := 1) hX dX4_variables_0 rfl ?_
  refine z_istore_n (i := 2) (q := 2) hX dX4_variables_1 rfl (Nat.le_of_ble_eq_true rfl) rfl rfl ?_
  refine z_iconst (q := 3) hX dX4_variables_2 rfl ?_
  refine z_istore_n (i := 3) (q := 4) hX dX4_variables_3 rfl (Nat.le_of_ble_eq_true rfl) rfl rfl ?_
  exact K 0 (Nat.zero_le _) _ _ rfl rfl
def gapsS (s : zS) : Int := sumI (fun g => gp s g) (nT s + 1).toNat
abbrev rmX4_gaps : Room := { frames := 2, cells := 0, slots := 0, locals := 45 }
set_option maxHeartbeats 4000000 in
theorem c_X4_gaps (D : zD) (A : Nat → Prop) {b : Nat} {F : zTF} {G : zTG} {t : Int} (hw : zWf G) (ht : isT (G 0) t = true) : zC D yX4_gaps cX4_gaps 5 (some .int) none rmX4_gaps A [.ref b, zI (t)] (twI D A b F G) (zPd (zI (gapsS (tx (G 0) (fst (G 0) t)))) (twI D A b (F) (G))) zNo := by
  refine zC_start (L := [some (.ref b), some (zI (t)), none, none, none]) (by decide) (Nat.le_of_ble_eq_true rfl) rfl (fun X hX => ?_)
  have hf := hw.fs ht
  have e1 : lnO (G 0) t 0 = fst (G 0) t := rfl
  have hg := hf.2.2.2.2.2.1
  have e6 : nT (tx (G 0) (fst (G 0) t)) = nTl (G 0) (fst (G 0) t) := rfl
  have K : ∀ n : Nat, n ≤ (nTl (G 0) (fst (G 0) t) + 1).toNat → ∀ c p : Int, c = sumI (fun g => gp (tx (G 0) (fst (G 0) t)) g) n → p = n → zG X 0 0 (twI D A b F G) 12 [some (.ref b), some (zI (t)), some (zI (fst (G 0) t)), some (zI (c)), some (zI (p))] [] := by
    refine z_up (fun n hn ih c p h1 h2 => ?_)
    subst h2
    refine z_iload (q := 14) hX dX4_gaps_12 rfl rfl ?_
    refine z_aload_n (i := 0) (q := 15) hX dX4_gaps_14 rfl rfl rfl ?_
    refine zt_getA (q := 18) hX 7 4 dX4_gaps_15 q1871 (by decide) rfl rfl rfl ?_
    refine z_iload_n (i := 2) (q := 19) hX dX4_gaps_18 rfl rfl rfl ?_
    refine zt_ald (q := 20) (N := 41) hX 4 dX4_gaps_19 rfl (by decide) (by decide) (by omega) rfl ?_
    refine z_icmp_gt (q := 23) (t := 39) hX dX4_gaps_20 (by decide) (by omega) (by omega) rfl (fun h20 => ?_) (fun h20 => ?_)
    · refine z_iload_n (i := 3) (q := 40) hX dX4_gaps_39 rfl rfl rfl ?_
      exact z_iret hX dX4_gaps_40 (Nat.le_of_ble_eq_true rfl) (Nat.le_of_ble_eq_true rfl) rfl (fun H hI => ⟨congrArg (fun z => some (zI z)) ((by rw [h1, show n = (nTl (G 0) (fst (G 0) t) + 1).toNat by omega]; rfl)), hI⟩)
    · refine z_iload_n (i := 3) (q := 24) hX dX4_gaps_23 rfl rfl rfl ?_
      refine z_aload_n (i := 0) (q := 25) hX dX4_gaps_24 rfl rfl rfl ?_
      refine z_iload_n (i := 2) (q := 26) hX dX4_gaps_25 rfl rfl rfl ?_
      refine z_iload (q := 28) hX dX4_gaps_26 rfl rfl ?_
      refine zt_V1 (q := 31) (na := 2) hX dX4_gaps_28 (c_X4_gap D A (by first | assumption | omega) (by first | assumption | omega)) q2002 q2004 qs48 q103 q2005 rfl (by decide +kernel) ⟨Nat.le_of_ble_eq_true rfl, Nat.le_of_ble_eq_true rfl⟩ rfl rfl (Nat.le_of_ble_eq_true rfl) rfl ⟨rfl, rfl⟩ (Nat.le_of_ble_eq_true rfl) (Nat.le_of_ble_eq_true rfl) rfl ?_
      refine z_iadd (q := 32) hX dX4_gaps_31 rfl ?_
      refine z_istore_n (i := 3) (q := 33) hX dX4_gaps_32 rfl (Nat.le_of_ble_eq_true rfl) rfl rfl ?_
      refine z_iinc (q := 36) hX dX4_gaps_33 rfl (Nat.le_of_ble_eq_true rfl) rfl rfl ?_
      refine z_goto (t := 12) hX dX4_gaps_36 (by decide) ?_
      exact ih (by omega) _ _ (by rw [sumI, h1]) (by omega)
  refine z_aload_n (i := 0) (q := 1) hX dX4_gaps_0 rfl rfl rfl ?_
  refine z_iload_n (i := 1) (q := 2) hX dX4_gaps_1 rfl rfl rfl ?_
  refine z_iconst (q := 3) hX dX4_gaps_2 rfl ?_
  refine zt_V1 (q := 6) (na := 2) hX dX4_gaps_3 (c_X4_lineOf D A (by first | assumption | omega) (by first | assumption | omega) (by first | assumption | omega)) q1990 q1992 qs45 q103 q1993 rfl (by decide +kernel) ⟨Nat.le_of_ble_eq_true rfl, Nat.le_of_ble_eq_true rfl⟩ rfl rfl (Nat.le_of_ble_eq_true rfl) rfl ⟨rfl, rfl⟩ (Nat.le_of_ble_eq_true rfl) (Nat.le_of_ble_eq_true rfl) rfl ?_
  rw [e1]
  refine z_istore_n (i := 2) (q := 7) hX dX4_gaps_6 rfl (Nat.le_of_ble_eq_true rfl) rfl rfl ?_
  refine z_iconst (q := 8) hX dX4_gaps_7 rfl ?_
  refine z_istore_n (i := 3) (q := 9) hX dX4_gaps_8 rfl (Nat.le_of_ble_eq_true rfl) rfl rfl ?_
  refine z_iconst (q := 10) hX dX4_gaps_9 rfl ?_
  refine z_istore (q := 12) hX dX4_gaps_10 (Nat.le_of_ble_eq_true rfl) rfl rfl ?_
  exact K 0 (Nat.zero_le _) _ _ rfl rfl
def costT (M : Int → Int) (t : Int) : Int := gapsS (tx M (fst M t)) + sumI (fun k => if slt M t k = -1 then wT (tx M (fst M t)) k + 1 else 2) (nTl M (fst M t)).toNat
abbrev rmX4_costOfTemplate : Room := { frames := 3, cells := 0, slots := 0, locals := 69 }
set_option maxHeartbeats 4000000 in
theorem c_X4_costOfTemplate (D : zD) (A : Nat → Prop) {b : Nat} {F : zTF} {G : zTG} {t : Int} (hw : zWf G) (ht : isT (G 0) t = true) : zC D yX4_costOfTemplate cX4_costOfTemplate 5 (some .int) none rmX4_costOfTemplate A [.ref b, zI (t)] (twI D A b F G) (zPd (zI (costT (G 0) t)) (twI D A b (F) (G))) zNo := by
  refine zC_start (L := [some (.ref b), some (zI (t)), none, none, none]) (by decide) (Nat.le_of_ble_eq_true rfl) rfl (fun X hX => ?_)
  have hf := hw.fs ht
  have e1 : lnO (G 0) t 0 = fst (G 0) t := rfl
  have hg := hf.2.2.2.2.2.1
  have e6 : nT (tx (G 0) (fst (G 0) t)) = nTl (G 0) (fst (G 0) t) := rfl
  have K : ∀ n : Nat, n ≤ (nTl (G 0) (fst (G 0) t)).toNat → ∀ c p : Int, c = gapsS (tx (G 0) (fst (G 0) t)) + sumI (fun k => if slt (G 0) t k = -1 then wT (tx (G 0) (fst (G 0) t)) k + 1 else 2) n → p = n → zG X 0 0 (twI D A b F G) 16 [some (.ref b), some (zI (t)), some (zI (fst (G 0) t)), some (zI (c)), some (zI (p))] [] := by
    refine z_up (fun n hn ih c p h1 h2 => ?_)
    subst h2
    refine z_iload (q := 18) hX dX4_costOfTemplate_16 rfl rfl ?_
    refine z_aload_n (i := 0) (q := 19) hX dX4_costOfTemplate_18 rfl rfl rfl ?_
    refine zt_getA (q := 22) hX 7 4 dX4_costOfTemplate_19 q1871 (by decide) rfl rfl rfl ?_
    refine z_iload_n (i := 2) (q := 23) hX dX4_costOfTemplate_22 rfl rfl rfl ?_
    refine zt_ald (q := 24) (N := 41) hX 4 dX4_costOfTemplate_23 rfl (by decide) (by decide) (by omega) rfl ?_
    refine z_icmp_ge (q := 27) (t := 60) hX dX4_costOfTemplate_24 (by decide) (by omega) (by omega) rfl (fun h24 => ?_) (fun h24 => ?_)
    · refine z_iload_n (i := 3) (q := 61) hX dX4_costOfTemplate_60 rfl rfl rfl ?_
      exact z_iret hX dX4_costOfTemplate_61 (Nat.le_of_ble_eq_true rfl) (Nat.le_of_ble_eq_true rfl) rfl (fun H hI => ⟨congrArg (fun z => some (zI z)) ((by rw [h1, show n = (nTl (G 0) (fst (G 0) t)).toNat by omega]; rfl)), hI⟩)
    · refine z_iload_n (i := 3) (q := 28) hX dX4_costOfTemplate_27 rfl rfl rfl ?_
      refine z_aload_n (i := 0) (q := 29) hX dX4_costOfTemplate_28 rfl rfl rfl ?_
      refine z_iload_n (i := 1) (q := 30) hX dX4_costOfTemplate_29 rfl rfl rfl ?_
      refine z_iload (q := 32) hX dX4_costOfTemplate_30 rfl rfl ?_
      refine zt_V1 (q := 35) (na := 2) hX dX4_costOfTemplate_32 (c_X4_slotOf D A (by first | assumption | omega) (by first | assumption | omega)) q2014 q2016 qs51 q103 q2017 rfl (by decide +kernel) ⟨Nat.le_of_ble_eq_true rfl, Nat.le_of_ble_eq_true rfl⟩ rfl rfl (Nat.le_of_ble_eq_true rfl) rfl ⟨rfl, rfl⟩ (Nat.le_of_ble_eq_true rfl) (Nat.le_of_ble_eq_true rfl) rfl ?_
      have hs := hw.sl (t := t) (k := n) (by omega) (by omega) (by omega) (by omega)
      refine z_iconst (q := 36) hX dX4_costOfTemplate_35 rfl ?_
      refine z_icmp_ne (q := 39) (t := 51) hX dX4_costOfTemplate_36 (by decide) (by omega) (by omega) rfl (fun h36 => ?_) (fun h36 => ?_)
      · refine z_iconst (q := 52) hX dX4_costOfTemplate_51 rfl ?_
        refine z_iadd (q := 53) hX dX4_costOfTemplate_52 rfl ?_
        refine z_istore_n (i := 3) (q := 54) hX dX4_costOfTemplate_53 rfl (Nat.le_of_ble_eq_true rfl) rfl rfl ?_
        refine z_iinc (q := 57) hX dX4_costOfTemplate_54 rfl (Nat.le_of_ble_eq_true rfl) rfl rfl ?_
        refine z_goto (t := 16) hX dX4_costOfTemplate_57 (by decide) ?_
        exact ih (by omega) _ _ (by rw [sumI, h1, if_neg h36]; omega) (by omega)
      · refine z_aload_n (i := 0) (q := 40) hX dX4_costOfTemplate_39 rfl rfl rfl ?_
        refine z_iload_n (i := 2) (q := 41) hX dX4_costOfTemplate_40 rfl rfl rfl ?_
        refine z_iload (q := 43) hX dX4_costOfTemplate_41 rfl rfl ?_
        refine zt_V1 (q := 46) (na := 2) hX dX4_costOfTemplate_43 (c_X4_wide D A (by first | assumption | omega) (by first | assumption | omega)) q2022 q2024 qs53 q103 q2025 rfl (by decide +kernel) ⟨Nat.le_of_ble_eq_true rfl, Nat.le_of_ble_eq_true rfl⟩ rfl rfl (Nat.le_of_ble_eq_true rfl) rfl ⟨rfl, rfl⟩ (Nat.le_of_ble_eq_true rfl) (Nat.le_of_ble_eq_true rfl) rfl ?_
        refine z_iconst (q := 47) hX dX4_costOfTemplate_46 rfl ?_
        refine z_iadd (q := 48) hX dX4_costOfTemplate_47 rfl ?_
        refine z_goto (t := 52) hX dX4_costOfTemplate_48 (by decide) ?_
        refine z_iadd (q := 53) hX dX4_costOfTemplate_52 rfl ?_
        refine z_istore_n (i := 3) (q := 54) hX dX4_costOfTemplate_53 rfl (Nat.le_of_ble_eq_true rfl) rfl rfl ?_
        refine z_iinc (q := 57) hX dX4_costOfTemplate_54 rfl (Nat.le_of_ble_eq_true rfl) rfl rfl ?_
        refine z_goto (t := 16) hX dX4_costOfTemplate_57 (by decide) ?_
        exact ih (by omega) _ _ (by rw [sumI, h1, if_pos (by omega)]; omega) (by omega)
  refine z_aload_n (i := 0) (q := 1) hX dX4_costOfTemplate_0 rfl rfl rfl ?_
  refine z_iload_n (i := 1) (q := 2) hX dX4_costOfTemplate_1 rfl rfl rfl ?_
  refine z_iconst (q := 3) hX dX4_costOfTemplate_2 rfl ?_
  refine zt_V1 (q := 6) (na := 2) hX dX4_costOfTemplate_3 (c_X4_lineOf D A (by first | assumption | omega) (by first | assumption | omega) (by first | assumption | omega)) q1990 q1992 qs45 q103 q1993 rfl (by decide +kernel) ⟨Nat.le_of_ble_eq_true rfl, Nat.le_of_ble_eq_true rfl⟩ rfl rfl (Nat.le_of_ble_eq_true rfl) rfl ⟨rfl, rfl⟩ (Nat.le_of_ble_eq_true rfl) (Nat.le_of_ble_eq_true rfl) rfl ?_
  rw [e1]
  refine z_istore_n (i := 2) (q := 7) hX dX4_costOfTemplate_6 rfl (Nat.le_of_ble_eq_true rfl) rfl rfl ?_
  refine z_aload_n (i := 0) (q := 8) hX dX4_costOfTemplate_7 rfl rfl rfl ?_
  refine z_iload_n (i := 1) (q := 9) hX dX4_costOfTemplate_8 rfl rfl rfl ?_
  refine zt_V1 (q := 12) (na := 1) hX dX4_costOfTemplate_9 (c_X4_gaps D A (by first | assumption | omega) (by first | assumption | omega)) q2101 q2103 qs66 q103 q2104 rfl (by decide +kernel) ⟨Nat.le_of_ble_eq_true rfl, Nat.le_of_ble_eq_true rfl⟩ rfl rfl (Nat.le_of_ble_eq_true rfl) rfl ⟨rfl, rfl⟩ (Nat.le_of_ble_eq_true rfl) (Nat.le_of_ble_eq_true rfl) rfl ?_
  refine z_istore_n (i := 3) (q := 13) hX dX4_costOfTemplate_12 rfl (Nat.le_of_ble_eq_true rfl) rfl rfl ?_
  refine z_iconst (q := 14) hX dX4_costOfTemplate_13 rfl ?_
  refine z_istore (q := 16) hX dX4_costOfTemplate_14 (Nat.le_of_ble_eq_true rfl) rfl rfl ?_
  exact K 0 (Nat.zero_le _) _ _ (by simp [sumI]) rfl
/-- every line's tokens laid -/
def layN (G : zTG) : Nat → zTG
  | 0 => G
  | n + 1 => layC (layN G n) n (nT (tx (G 0) n))
theorem layN_0 (G : zTG) (n : Nat) : layN G n 0 = G 0 := by
  induction n with
  | zero => rfl
  | succ n ih => rw [layN, layC_j _ _ _ (by decide) (by decide) (by decide), ih]
theorem layN_j (G : zTG) (n : Nat) {j : Nat} (h4 : j ≠ 4) (h5 : j ≠ 5) (h6 : j ≠ 6) : layN G n j = G j := by
  induction n with
  | zero => rfl
  | succ n ih => rw [layN, layC_j _ _ _ h4 h5 h6, ih]
theorem zRaw.same {G G2 : zTG} {l : Int} (h : G2 0 = G 0) (hr : zRaw G l) : zRaw G2 l := by
  unfold zRaw
  rw [h]
  exact hr
theorem layN_ln {G : zTG} {n : Nat} (h : ∀ l : Int, 0 ≤ l → l < n → zRaw G l) : ∀ l : Int, 0 ≤ l → l < n → zLn (layN G n) l := by
  have key : ∀ m : Nat, m ≤ n → ∀ l : Int, 0 ≤ l → l < m → zTks (layN G m) l := by
    intro m
    induction m with
    | zero => intro _ l h0 h1; omega
    | succ m ih =>
      intro hm l h0 h1
      have hrm : zRaw (layN G m) m := (h m (by omega) (by omega)).same (layN_0 G m)
      have hf := hrm.f
      have e0 : tx (G 0) m = tx (layN G m 0) m := by rw [layN_0]
      rw [layN, e0]
      by_cases hl : l = m
      · subst hl
        exact layC_tks hrm
      · exact layC_keep ⟨hf.2.2.2.2.2.1, hf.2.2.2.2.2.2⟩ hl ((h l h0 (by omega)).same (layN_0 G m)) (ih (by omega) l h0 (by omega))
  exact fun l h0 h1 => ⟨(h l h0 h1).same (layN_0 G n), key n (Nat.le_refl _) l h0 h1⟩
abbrev rmX4_layAll : Room := { frames := 2, cells := 0, slots := 0, locals := 45 }
set_option maxHeartbeats 4000000 in
theorem c_X4_layAll (D : zD) (A : Nat → Prop) {b : Nat} {F : zTF} {G : zTG} (hm : 0 ≤ G 0 0 ∧ G 0 0 ≤ 40) (h : ∀ l : Int, 0 ≤ l → l < G 0 0 → zRaw G l) : zC D yX4_layAll cX4_layAll 2 none none rmX4_layAll A [.ref b] (twI D A b F G) (zPv (twI D A b (F) (layN G (G 0 0).toNat))) zNo := by
  refine zC_start (L := [some (.ref b), none]) (by decide) (Nat.le_of_ble_eq_true rfl) rfl (fun X hX => ?_)
  have K : ∀ n : Nat, n ≤ (G 0 0).toNat → ∀ p : Int, p = n → zG X 0 0 (twI D A b F (layN G n)) 2 [some (.ref b), some (zI (p))] [] := by
    refine z_up (fun n hn ih p e2 => ?_)
    subst e2
    have hr : n < (G 0 0).toNat → zRaw (layN G n) n := fun q => (h n (by omega) (by omega)).same (layN_0 G n)
    refine z_iload_n (i := 1) (q := 3) hX dX4_layAll_2 rfl rfl rfl ?_
    refine z_aload_n (i := 0) (q := 4) hX dX4_layAll_3 rfl rfl rfl ?_
    refine zt_getA (q := 7) hX 0 0 dX4_layAll_4 q1864 (by decide) rfl rfl rfl ?_
    refine z_iconst (q := 8) hX dX4_layAll_7 rfl ?_
    refine zt_ald (q := 9) (N := 1964) hX 0 dX4_layAll_8 rfl (by decide) (by decide) (by omega) rfl ?_
    rw [layN_0]
    refine z_icmp_ge (q := 12) (t := 23) hX dX4_layAll_9 (by decide) (by omega) (by omega) rfl (fun h9 => ?_) (fun h9 => ?_)
    · refine zt_conv (G2 := layN G (G 0 0).toNat) rfl (by rw [show n = (G 0 0).toNat by omega]) ?_
      exact z_vret hX dX4_layAll_23 (Nat.le_of_ble_eq_true rfl) (Nat.le_of_ble_eq_true rfl) rfl (fun H hI => ⟨rfl, hI⟩)
    · have hr2 := hr (by omega)
      refine z_aload_n (i := 0) (q := 13) hX dX4_layAll_12 rfl rfl rfl ?_
      refine z_iload_n (i := 1) (q := 14) hX dX4_layAll_13 rfl rfl rfl ?_
      refine zt_V0 (q := 17) (na := 1) hX dX4_layAll_14 (c_X4_layTokens D A (by first | assumption | omega)) q1970 q1972 qs40 q103 q1973 rfl (by decide +kernel) ⟨Nat.le_of_ble_eq_true rfl, Nat.le_of_ble_eq_true rfl⟩ rfl rfl (Nat.le_of_ble_eq_true rfl) rfl ⟨rfl, rfl⟩ (Nat.le_of_ble_eq_true rfl) (Nat.le_of_ble_eq_true rfl) rfl ?_
      refine z_iinc (q := 20) hX dX4_layAll_17 rfl (Nat.le_of_ble_eq_true rfl) rfl rfl ?_
      refine z_goto (t := 2) hX dX4_layAll_20 (by decide) ?_
      rw [layN_0]
      exact ih (by omega) _ (by omega)
  refine z_iconst (q := 1) hX dX4_layAll_0 rfl ?_
  refine z_istore_n (i := 1) (q := 2) hX dX4_layAll_1 rfl (Nat.le_of_ble_eq_true rfl) rfl rfl ?_
  exact K 0 (Nat.zero_le _) _ rfl
/-- the row m among those of the past, the eldest gone if there are ten -/
def keepC (F : zTF) : Int := if F 5 = 10 then 9 else F 5
def keepG (F : zTF) (G : zTG) : zTG := fun j i => if j = 3 ∧ 1964 * keepC F ≤ i ∧ i < 1964 * keepC F + 1964 then G 0 (i - 1964 * keepC F) else if j = 3 ∧ F 5 = 10 ∧ 0 ≤ i ∧ i < 17676 then G 3 (i + 1964) else G j i
theorem keepG_j (F : zTF) (G : zTG) {j : Nat} (h : j ≠ 3) : keepG F G j = G j := by
  funext i
  unfold keepG
  rw [if_neg (fun q => h q.1), if_neg (fun q => h q.1)]
abbrev rmX4_keep : Room := { frames := 0, cells := 0, slots := 0, locals := 0 }
set_option maxHeartbeats 4000000 in
theorem c_X4_keep (D : zD) (A : Nat → Prop) {b : Nat} {F : zTF} {G : zTG} (hc : 0 ≤ F 5 ∧ F 5 ≤ 10) : zC D yX4_keep cX4_keep 2 none none rmX4_keep A [.ref b] (twI D A b F G) (zPv (twI D A b (upF F 5 (keepC F + 1)) (keepG F G))) zNo := by
  refine zC_start (L := [some (.ref b), none]) (by decide) (Nat.le_of_ble_eq_true rfl) rfl (fun X hX => ?_)
  obtain ⟨sh, hsh⟩ : ∃ sh : Nat → zTG, sh = fun (n j : Nat) (i : Int) => if j = 3 ∧ 0 ≤ i ∧ i < (n : Int) then G 3 (i + 1964) else G j i := ⟨_, rfl⟩
  obtain ⟨cp, hcp⟩ : ∃ cp : zTG → Int → Nat → zTG, cp = fun (G0 : zTG) (c : Int) (n j : Nat) (i : Int) => if j = 3 ∧ 1964 * c ≤ i ∧ i < 1964 * c + (n : Int) then G 0 (i - 1964 * c) else G0 j i := ⟨_, rfl⟩
  have K2 : ∀ (F0 : zTF) (G0 : zTG), F0 5 = keepC F → G0 0 = G 0 → upF F0 5 (F0 5 + 1) = upF F 5 (keepC F + 1) → cp G0 (keepC F) 1964 = keepG F G → zG X 0 0 (twI D A b F0 G0) 50 [some (.ref b), none] [] := by
    intro F0 G0 hF0 hG0 hFF hGG
    have hkc : 0 ≤ keepC F ∧ keepC F ≤ 9 := by unfold keepC; split <;> omega
    have K : ∀ n : Nat, n ≤ 1964 → ∀ p : Int, p = n → zG X 0 0 (twI D A b F0 (cp G0 (keepC F) n)) 52 [some (.ref b), some (zI (p))] [] := by
      refine z_up (fun n hn ih p e2 => ?_)
      subst e2
      have e0 : cp G0 (keepC F) n 0 = G 0 := by rw [hcp]; funext i; show (if _ then _ else _) = _; rw [if_neg (by omega), hG0]
      refine z_iload_n (i := 1) (q := 53) hX dX4_keep_52 rfl rfl rfl ?_
      refine z_sipush (q := 56) hX dX4_keep_53 (by decide) rfl ?_
      refine z_icmp_ge (q := 59) (t := 86) hX dX4_keep_56 (by decide) (by omega) (by omega) rfl (fun h56 => ?_) (fun h56 => ?_)
      · refine zt_conv (G2 := keepG F G) (F2 := F0) rfl (by rw [← hGG, show n = 1964 by omega]) ?_
        refine z_aload_n (i := 0) (q := 87) hX dX4_keep_86 rfl rfl rfl ?_
        refine z_dup (q := 88) hX dX4_keep_87 rfl rfl ?_
        refine zt_getI (q := 91) hX 5 dX4_keep_88 q1869 (by decide) rfl rfl rfl ?_
        refine z_iconst (q := 92) hX dX4_keep_91 rfl ?_
        refine z_iadd (q := 93) hX dX4_keep_92 rfl ?_
        refine zt_put (ty := .int) (q := 96) hX 5 dX4_keep_93 q1869 (by decide) rfl rfl rfl (by decide) rfl rfl rfl ?_
        rw [hFF]
        exact z_vret hX dX4_keep_96 (Nat.le_of_ble_eq_true rfl) (Nat.le_of_ble_eq_true rfl) rfl (fun H hI => ⟨rfl, hI⟩)
      · refine z_aload_n (i := 0) (q := 60) hX dX4_keep_59 rfl rfl rfl ?_
        refine zt_getA (q := 63) hX 4 3 dX4_keep_60 q1868 (by decide) rfl rfl rfl ?_
        refine z_sipush (q := 66) hX dX4_keep_63 (by decide) rfl ?_
        refine z_aload_n (i := 0) (q := 67) hX dX4_keep_66 rfl rfl rfl ?_
        refine zt_getI (q := 70) hX 5 dX4_keep_67 q1869 (by decide) rfl rfl rfl ?_
        rw [hF0]
        refine z_imul (q := 71) hX dX4_keep_70 rfl ?_
        refine z_iload_n (i := 1) (q := 72) hX dX4_keep_71 rfl rfl rfl ?_
        refine z_iadd (q := 73) hX dX4_keep_72 rfl ?_
        refine z_aload_n (i := 0) (q := 74) hX dX4_keep_73 rfl rfl rfl ?_
        refine zt_getA (q := 77) hX 0 0 dX4_keep_74 q1864 (by decide) rfl rfl rfl ?_
        refine z_iload_n (i := 1) (q := 78) hX dX4_keep_77 rfl rfl rfl ?_
        refine zt_ald (q := 79) (N := 1964) hX 0 dX4_keep_78 rfl (by decide) (by decide) (by omega) rfl ?_
        rw [e0]
        refine zt_ast (q := 80) (N := 19640) hX 3 dX4_keep_79 rfl (by decide) (by decide) (by omega) rfl ?_
        refine z_iinc (q := 83) hX dX4_keep_80 rfl (Nat.le_of_ble_eq_true rfl) rfl rfl ?_
        refine z_goto (t := 52) hX dX4_keep_83 (by decide) ?_
        have e8 : upG (cp G0 (keepC F) n) 3 (1964 * keepC F + n) (G 0 n) = cp G0 (keepC F) (n + 1) := by
          rw [hcp]
          funext j i
          show (if _ then _ else _) = (if _ then _ else _)
          by_cases q : j = 3 ∧ i = 1964 * keepC F + n
          · rw [if_pos q, if_pos (by omega), show i - 1964 * keepC F = (n : Int) by omega]
          · rw [if_neg q]
            show (if _ then _ else _) = _
            by_cases q2 : j = 3 ∧ 1964 * keepC F ≤ i ∧ i < 1964 * keepC F + (n : Int)
            · rw [if_pos q2, if_pos (by omega)]
            · rw [if_neg q2, if_neg (by omega)]
        rw [e8]
        exact ih (by omega) _ (by omega)
    refine z_iconst (q := 51) hX dX4_keep_50 rfl ?_
    refine z_istore_n (i := 1) (q := 52) hX dX4_keep_51 rfl (Nat.le_of_ble_eq_true rfl) rfl rfl ?_
    have e9 := K 0 (Nat.zero_le _) 0 rfl
    rw [show cp G0 (keepC F) 0 = G0 by rw [hcp]; funext j i; exact if_neg (by omega)] at e9
    exact e9
  have K1 : F 5 = 10 → ∀ n : Nat, n ≤ 17676 → ∀ p : Int, p = n → zG X 0 0 (twI D A b F (sh n)) 11 [some (.ref b), some (zI (p))] [] := by
    intro h10
    refine z_up (fun n hn ih p e2 => ?_)
    subst e2
    have e3 : sh n 3 (n + 1964) = G 3 (n + 1964) := by rw [hsh]; exact if_neg (by omega)
    refine z_iload_n (i := 1) (q := 12) hX dX4_keep_11 rfl rfl rfl ?_
    refine z_sipush (q := 15) hX dX4_keep_12 (by decide) rfl ?_
    refine z_icmp_ge (q := 18) (t := 40) hX dX4_keep_15 (by decide) (by omega) (by omega) rfl (fun h15 => ?_) (fun h15 => ?_)
    · refine z_aload_n (i := 0) (q := 41) hX dX4_keep_40 rfl rfl rfl ?_
      refine z_dup (q := 42) hX dX4_keep_41 rfl rfl ?_
      refine zt_getI (q := 45) hX 5 dX4_keep_42 q1869 (by decide) rfl rfl rfl ?_
      refine z_iconst (q := 46) hX dX4_keep_45 rfl ?_
      refine z_isub (q := 47) hX dX4_keep_46 rfl ?_
      refine zt_put (ty := .int) (q := 50) hX 5 dX4_keep_47 q1869 (by decide) rfl rfl rfl (by decide) rfl rfl rfl ?_
      have hkc : keepC F = 9 := if_pos h10
      refine zG.drop 1 ?_
      refine K2 _ _ (by rw [upF_same, h10, hkc]; rfl) (by rw [hsh]; funext i; exact if_neg (by omega)) (by rw [upF_same, upF_upF, h10, hkc]; rfl) ?_
      rw [hcp, hsh, hkc, show n = 17676 by omega]
      funext j i
      unfold keepG
      rw [hkc, h10]
      show (if _ then _ else _) = _
      by_cases q : j = 3 ∧ 1964 * 9 ≤ i ∧ i < 1964 * 9 + 1964
      · rw [if_pos q, if_pos (by omega)]
      · rw [if_neg q, if_neg (by omega)]
        by_cases q2 : j = 3 ∧ 0 ≤ i ∧ i < 17676
        · rw [if_pos (by omega)]
          show (if _ then _ else _) = _
          rw [if_pos (by omega)]
        · rw [if_neg (by omega)]
          show (if _ then _ else _) = _
          rw [if_neg (by omega)]
    · refine z_aload_n (i := 0) (q := 19) hX dX4_keep_18 rfl rfl rfl ?_
      refine zt_getA (q := 22) hX 4 3 dX4_keep_19 q1868 (by decide) rfl rfl rfl ?_
      refine z_iload_n (i := 1) (q := 23) hX dX4_keep_22 rfl rfl rfl ?_
      refine z_aload_n (i := 0) (q := 24) hX dX4_keep_23 rfl rfl rfl ?_
      refine zt_getA (q := 27) hX 4 3 dX4_keep_24 q1868 (by decide) rfl rfl rfl ?_
      refine z_iload_n (i := 1) (q := 28) hX dX4_keep_27 rfl rfl rfl ?_
      refine z_sipush (q := 31) hX dX4_keep_28 (by decide) rfl ?_
      refine z_iadd (q := 32) hX dX4_keep_31 rfl ?_
      refine zt_ald (q := 33) (N := 19640) hX 3 dX4_keep_32 rfl (by decide) (by decide) (by omega) rfl ?_
      rw [e3]
      refine zt_ast (q := 34) (N := 19640) hX 3 dX4_keep_33 rfl (by decide) (by decide) (by omega) rfl ?_
      refine z_iinc (q := 37) hX dX4_keep_34 rfl (Nat.le_of_ble_eq_true rfl) rfl rfl ?_
      refine z_goto (t := 11) hX dX4_keep_37 (by decide) ?_
      have e8 : upG (sh n) 3 n (G 3 (n + 1964)) = sh (n + 1) := by
        rw [hsh]
        funext j i
        show (if _ then _ else _) = (if _ then _ else _)
        by_cases q : j = 3 ∧ i = n
        · rw [if_pos q, if_pos (by omega), q.2]
        · rw [if_neg q]
          show (if _ then _ else _) = _
          by_cases q2 : j = 3 ∧ 0 ≤ i ∧ i < (n : Int)
          · rw [if_pos q2, if_pos (by omega)]
          · rw [if_neg q2, if_neg (by omega)]
      rw [e8]
      exact ih (by omega) _ (by omega)
  refine z_aload_n (i := 0) (q := 1) hX dX4_keep_0 rfl rfl rfl ?_
  refine zt_getI (q := 4) hX 5 dX4_keep_1 q1869 (by decide) rfl rfl rfl ?_
  refine z_bipush (q := 6) hX dX4_keep_4 (by decide) rfl ?_
  refine z_icmp_ne (q := 9) (t := 50) hX dX4_keep_6 (by decide) (by omega) (by omega) rfl (fun h6 => ?_) (fun h6 => ?_)
  · have hkc : keepC F = F 5 := if_neg h6
    refine K2 F G hkc.symm rfl (by rw [hkc]) ?_
    rw [hcp, hkc]
    funext j i
    unfold keepG
    rw [hkc]
    show (if _ then _ else _) = _
    by_cases q : j = 3 ∧ 1964 * F 5 ≤ i ∧ i < 1964 * F 5 + 1964
    · rw [if_pos (by omega), if_pos (by omega)]
    · rw [if_neg (by omega), if_neg (by omega), if_neg (by omega)]
  · refine z_iconst (q := 10) hX dX4_keep_9 rfl ?_
    refine z_istore_n (i := 1) (q := 11) hX dX4_keep_10 rfl (Nat.le_of_ble_eq_true rfl) rfl rfl ?_
    have e9 := K1 (by omega) 0 (Nat.zero_le _) 0 rfl
    rw [show sh 0 = G by rw [hsh]; funext j i; exact if_neg (by omega)] at e9
    exact e9
abbrev rmX4_reports : Room := { frames := 0, cells := 0, slots := 0, locals := 0 }
set_option maxHeartbeats 4000000 in
theorem c_X4_reports (D : zD) (A : Nat → Prop) {b : Nat} {F : zTF} {G : zTG} {c0 d0 c1 d1 : Int} : zC D yX4_reports cX4_reports 5 (some .int) none rmX4_reports A [.ref b, zI (c0), zI (d0), zI (c1), zI (d1)] (twI D A b F G) (zPd (zI (0)) (twI D A b (upF F 10 1) (upG (upG (upG (upG G 7 0 c0) 8 0 d0) 7 1 c1) 8 1 d1))) zNo := by
  refine zC_start (L := [some (.ref b), some (zI (c0)), some (zI (d0)), some (zI (c1)), some (zI (d1))]) (by decide) (Nat.le_of_ble_eq_true rfl) rfl (fun X hX => ?_)
  refine z_aload_n (i := 0) (q := 1) hX dX4_reports_0 rfl rfl rfl ?_
  refine z_iconst (q := 2) hX dX4_reports_1 rfl ?_
  refine zt_put (ty := .boolean) (q := 5) hX 10 dX4_reports_2 q1874 (by decide) rfl rfl rfl (by decide) (by first | decide | exact narrow_bi _) (by first | decide | exact fits_bi _) rfl ?_
  refine z_aload_n (i := 0) (q := 6) hX dX4_reports_5 rfl rfl rfl ?_
  refine zt_getA (q := 9) hX 11 7 dX4_reports_6 q1875 (by decide) rfl rfl rfl ?_
  refine z_iconst (q := 10) hX dX4_reports_9 rfl ?_
  refine z_iload_n (i := 1) (q := 11) hX dX4_reports_10 rfl rfl rfl ?_
  refine zt_ast (q := 12) (N := 2) hX 7 dX4_reports_11 rfl (by decide) (by decide) (by omega) rfl ?_
  refine z_aload_n (i := 0) (q := 13) hX dX4_reports_12 rfl rfl rfl ?_
  refine zt_getA (q := 16) hX 12 8 dX4_reports_13 q1876 (by decide) rfl rfl rfl ?_
  refine z_iconst (q := 17) hX dX4_reports_16 rfl ?_
  refine z_iload_n (i := 2) (q := 18) hX dX4_reports_17 rfl rfl rfl ?_
  refine zt_ast (q := 19) (N := 2) hX 8 dX4_reports_18 rfl (by decide) (by decide) (by omega) rfl ?_
  refine z_aload_n (i := 0) (q := 20) hX dX4_reports_19 rfl rfl rfl ?_
  refine zt_getA (q := 23) hX 11 7 dX4_reports_20 q1875 (by decide) rfl rfl rfl ?_
  refine z_iconst (q := 24) hX dX4_reports_23 rfl ?_
  refine z_iload_n (i := 3) (q := 25) hX dX4_reports_24 rfl rfl rfl ?_
  refine zt_ast (q := 26) (N := 2) hX 7 dX4_reports_25 rfl (by decide) (by decide) (by omega) rfl ?_
  refine z_aload_n (i := 0) (q := 27) hX dX4_reports_26 rfl rfl rfl ?_
  refine zt_getA (q := 30) hX 12 8 dX4_reports_27 q1876 (by decide) rfl rfl rfl ?_
  refine z_iconst (q := 31) hX dX4_reports_30 rfl ?_
  refine z_iload (q := 33) hX dX4_reports_31 rfl rfl ?_
  refine zt_ast (q := 34) (N := 2) hX 8 dX4_reports_33 rfl (by decide) (by decide) (by omega) rfl ?_
  refine z_iconst (q := 35) hX dX4_reports_34 rfl ?_
  exact z_iret hX dX4_reports_35 (Nat.le_of_ble_eq_true rfl) (Nat.le_of_ble_eq_true rfl) rfl (fun H hI => ⟨congrArg (fun z => some (zI z)) (rfl), hI⟩)
