/-! THE CLASS: a line decoded -/
set_option maxRecDepth 100000
theorem cT_get {s : zS} {i : Int} (h0 : 0 ≤ i) (h1 : i < s.length) : s[i.toNat]? = some (cT s i) := by
  unfold cT
  rw [List.getD_eq_getElem?_getD, List.getElem?_eq_getElem (by omega)]
  rfl
theorem take_sp {s : zS} {i : Int} (h0 : 0 ≤ i) (h1 : i < s.length) (h : cT s i = 32) : s.take (i + 1).toNat = s.take i.toNat ++ [32] := by
  rw [show (i + 1).toNat = i.toNat + 1 by omega, take_snoc (cT_get h0 h1), h]
theorem take_tok {s : zS} {k : Int} (h0 : 0 ≤ k) (h1 : k < nT s) : s.take (eT s k).toNat = s.take (fT s k).toNat ++ tok s k := by
  have := tk_ok h0 h1
  unfold tok wT
  rw [show (eT s k).toNat = (fT s k).toNat + (eT s k - fT s k).toNat by omega, List.take_add]
/-- the text decoded before gap i -/
def dcT (s : zS) (i : Nat) : zS := if (i : Int) ≤ nT s then s.take (pE s i).toNat else s
theorem dcT_0 (s : zS) : dcT s 0 = [] := by
  have := nT_range s
  unfold dcT pE
  rw [if_pos (by omega), if_pos (show ((0 : Nat) : Int) = 0 from rfl)]
  rfl
theorem dcT_len {s : zS} {i : Nat} : (dcT s i).length ≤ s.length := by
  unfold dcT
  split
  · rw [List.length_take]; omega
  · exact Nat.le_refl _
theorem asc_inj {ks : List Int} (h : asc ks) {i j : Nat} {k : Int} (hi : ks[i]? = some k) (hj : ks[j]? = some k) : i = j := by
  obtain ⟨a1, a2⟩ := List.getElem?_eq_some_iff.mp hi
  obtain ⟨b1, b2⟩ := List.getElem?_eq_some_iff.mp hj
  rcases Nat.lt_trichotomy i j with q | q | q
  · have := List.pairwise_iff_getElem.mp h i j a1 b1 q
    omega
  · exact q
  · have := List.pairwise_iff_getElem.mp h j i b1 a1 q
    omega
/-- which row of its template a line is -/
theorem ixP_row {M : Int → Int} {l r : Int} (hl : 0 ≤ l ∧ l < M 0) (h : ixP (rws M (M (43 + l))) l r) : r = ((rF (ofP M (M (43 + l))) l.toNat).length : Int) ∧ (rws M (M (43 + l)))[r.toNat]? = some l ∧ 0 ≤ r := by
  have hm : l ∈ rws M (M (43 + l)) := rws_mem.mpr ⟨hl.1, by omega, rfl⟩
  rcases h with ⟨h1, h2⟩ | ⟨j, h1, h2, h3⟩
  · exact absurd hm h2
  · have h4 := rF_at (p := ofP M (M (43 + l))) (l := l.toNat) (n := (M 0).toNat) (by omega) (by unfold ofP; rw [show ((l.toNat : Nat) : Int) = l by omega]; exact decide_eq_true rfl)
    rw [show ((l.toNat : Nat) : Int) = l by omega] at h4
    have h5 := asc_inj (rF_asc _ _) h2 h4
    exact ⟨by rw [h1, h5], by rw [h1]; exact h2, by omega⟩
theorem sbM {m : zMp} {sb a x : Nat} {e e2 c1 c2 : zE} (h1 : a ≠ sb) (h2 : x ≠ sb) : upm (upm (upm (upm m sb e) a c1) x c2) sb e2 = upm (upm (upm m a c1) x c2) sb e2 := by
  funext c
  by_cases q1 : c = sb
  · rw [q1, upm_same, upm_same]
  · rw [upm_ne _ _ q1, upm_ne _ _ q1]
    by_cases q2 : c = x
    · rw [q2, upm_same, upm_same]
    · rw [upm_ne _ _ q2, upm_ne _ _ q2]
      by_cases q3 : c = a
      · rw [q3, upm_same, upm_same]
      · rw [upm_ne _ _ q3, upm_ne _ _ q3, upm_ne _ _ q1]
abbrev rmX1_decoded : Room := { frames := 6, cells := 140, slots := 7000, locals := 151 }
set_option maxHeartbeats 4000000 in
theorem c_X1_decoded (D : zD) (A : Nat → Prop) {w m : zMp} {b : Nat} {K : Nat → Prop} {M : Int → Int} {ps : List (Int → Int)} {sv : Option (Int → Int)} {rp : Option (Int × Int × Int × Int)} {s : zS} {cs : Option (List zCn)} {l : Int} (hb : zX1 D w m K b M ps sv rp s cs) (hK : zHk K m) (hl : 0 ≤ l ∧ l < M 0) : zC D yX1_decoded cX1_decoded 10 (some (.object "java/lang/String")) none rmX1_decoded A [.ref b, zI (l)] (cI D A w m) (zPe (fun (x : Nat × zMp × zMp) => some (.ref x.1)) (fun x => pSt D w m K b (x.2.1 x.1 = some (eS (tx M l))) M ps sv rp s cs x.2) (fun x => cI D A x.2.1 x.2.2)) (zNo) := by
  refine zC_start (L := [some (.ref b), some (zI (l)), none, none, none, none, none, none, none, none]) (by decide) (Nat.le_of_ble_eq_true rfl) rfl (fun X hX => ?_)
  have hb0 := hb
  obtain ⟨lg, hl1, ia, sa, ra, ca, h1, h2, -⟩ := hb
  obtain ⟨ll0, ta0, col0, tc0, mc0, ls0, hg, -, -, hll0⟩ := h2.wl
  obtain ⟨hok, ll, ta, col, tc, mc, ls, tf, g1, g2, g3, g4, g5, g6⟩ := h2
  have hM := hok.1
  have l1 := g3.1
  have h43 := (hok.2.1 l hl.1 hl.2).2
  have hmem : l ∈ rws M (M (43 + l)) := rws_mem.mpr ⟨hl.1, by omega, rfl⟩
  have hT : isT M (M (43 + l)) = true := isT_mem ⟨h43.1, by omega⟩ hmem
  have hnn := rws_n hok hmem
  obtain ⟨x, e1, e2, e3, e4⟩ := g5.get hT
  have e20 := e2
  obtain ⟨⟨k1, k2, k3⟩, gl, sl, rl, mc4, mc2, mc3, gs, ss, rs, y1, y2, y3, y4, y5, y6, y7⟩ := e2
  have y30 := y3.1
  have y50 := y5.1
  have y70 := y7.1
  obtain ⟨T, hTx⟩ : ∃ T : zS, T = tx M l := ⟨_, rfl⟩
  have hlnS := tx_lns hok hl.1 hl.2
  rw [← hTx] at hlnS
  have h40T := hlnS.2.1
  have hnT : nTl M l = nT T := by rw [hTx]; rfl
  have hgl : gapsL (tx M (fst M (M (43 + l)))) = gapsL T := by rw [hTx]; exact hnn.2.symm
  have hnn1 : nTl M (fst M (M (43 + l))) = nT T := by rw [← hnn.1]; exact hnT
  have hN := nT_range T
  have hgln := gapsL_len T
  rw [hgl] at y3 k1 y30
  rw [hnn1] at y5 y50 k1 k2
  refine zG.know (φ := w (zIv D l) = some (eI l)) (fun H h => h.iv (k := l) (by omega) (by omega)) (fun hiv => ?_)
  have K41 : ∀ (sb : Nat) (row : Int), (rws M (M (43 + l)))[row.toNat]? = some l → 0 ≤ row → ∀ i : Nat, (i : Int) ≤ nT T + 1 → ∀ (kc ns : Nat) (m0 : zMp) (p : Int) (v6 v7 v8 v9 : Option Value), mLe m m0 → zFr K m m0 → m0 sb = none → kc ≤ 3 + 4 * i + (dcT T i).length → ns ≤ 30 + 130 * i + 84 * (dcT T i).length → p = i → zG X kc ns (cI D A w (upm m0 sb (eB (dcT T i)))) 41 [some (.ref b), some (zI l), some (.ref x), some (zI row), some (.ref sb), some (zI p), v6, v7, v8, v9] [] := by
    intro sb row hrow hrow0
    have hrl := (List.getElem?_eq_some_iff.mp hrow).1
    have hup : ∀ i : Nat, i ≤ (nT T + 1).toNat → ∀ (kc ns : Nat) (m0 : zMp) (p : Int) (v6 v7 v8 v9 : Option Value), mLe m m0 → zFr K m m0 → m0 sb = none → kc ≤ 3 + 4 * i + (dcT T i).length → ns ≤ 30 + 130 * i + 84 * (dcT T i).length → p = i → zG X kc ns (cI D A w (upm m0 sb (eB (dcT T i)))) 41 [some (.ref b), some (zI l), some (.ref x), some (zI row), some (.ref sb), some (zI p), v6, v7, v8, v9] [] := by
      refine z_up (fun i hi ih kc ns m0 p v6 v7 v8 v9 hm0 hf0 hsb hkc hns ep => ?_)
      subst ep
      have h1m := hm0 _ _ h1
      have hbs : b ≠ sb := Ne.symm (ne_mp hsb h1m)
      by_cases hin : (i : Int) ≤ nT T
      · have hgp := tk_gap (s := T) (k := (i : Int)) (by omega) hin
        obtain ⟨⟨t1, t2, t3⟩, t4, t5⟩ := hgp
        have egp := gp_eq T (i : Int)
        have ed : dcT T i = T.take (pE T i).toNat := if_pos hin
        have edl : (dcT T i).length = (pE T i).toNat := by rw [ed, List.length_take]; omega
        obtain ⟨z1, a1, q1, q2⟩ := y3.at (show i < (gapsL T).length by omega)
        rw [gapsL_getD hin] at z1 q2
        obtain ⟨g, hg9⟩ : ∃ g : Nat, gp T (i : Int) = (g : Int) := ⟨(gp T (i : Int)).toNat, by omega⟩
        rw [hg9] at z1 q2
        have K95 : ∀ (kc ns : Nat) (v7 v8 v9 : Option Value), kc ≤ 3 + 4 * i + (nE T i).toNat → ns ≤ 30 + 130 * i + 84 * (nE T i).toNat → zG X kc ns (cI D A w (upm m0 sb (eB (T.take (nE T i).toNat)))) 95 [some (.ref b), some (zI l), some (.ref x), some (zI row), some (.ref sb), some (zI (i : Int)), some (zI (g : Int)), v7, v8, v9] [] := by
          intro kc ns v7 v8 v9 hkc hns
          by_cases hi2 : (i : Int) < nT T
          · have hne : nE T (i : Int) = fT T i := if_neg (by omega)
            have hpe : pE T ((i + 1 : Nat) : Int) = eT T i := by
              unfold pE
              rw [if_neg (by omega), show ((i + 1 : Nat) : Int) - 1 = (i : Int) by omega]
            have htk := tk_ok (s := T) (k := (i : Int)) (by omega) hi2
            have htl := tok_len (s := T) (k := (i : Int)) (by omega) hi2
            have ed2 : dcT T (i + 1) = T.take (eT T i).toNat := by
              unfold dcT
              rw [if_pos (by omega), hpe]
            have ed2l : (dcT T (i + 1)).length = (eT T i).toNat := by rw [ed2, List.length_take]; omega
            have ed3 := take_tok (s := T) (k := (i : Int)) (by omega) hi2
            rw [hne] at hkc hns ⊢
            obtain ⟨a2, q4, q5⟩ := y5.2 i (by omega)
            have q50 := q5
            have hlt : (T.take (fT T i).toNat).length + (tok T i).length ≤ 41 := by
              rw [List.length_take]
              unfold wT at htl
              have := hlnS.2.1
              omega
            rcases q5 with ⟨r0, t, r1, r2⟩ | ⟨r0, r1⟩
            · have r20 := r2
              obtain ⟨r3, t8, r4, r5⟩ := r2
              have etk : tkl M (fst M (M (43 + l))) (i : Int) = tok T i := by
                rw [hTx]
                exact ((hok.2.2.2 l hl.1 hl.2).2 i (by omega) (by rw [hnT]; exact hi2) r0).symm
              have r5 : w t8 = some (eS (tkl M (fst M (M (43 + l))) (i : Int))) := r5
              rw [etk] at r5
              refine z_iload (q := 97) hX dX1_decoded_95 rfl rfl ?_
              refine z_aload_n (i := 2) (q := 98) hX dX1_decoded_97 rfl rfl rfl ?_
              refine zr_getN (C := RX7) (T := TX7) (N := 3) (q := 101) hX ciX7 1 rfl (by decide) in_X7 dX1_decoded_98 (zNF_at 4 rfl) (fun H h => cI.rd h (by first | assumption | exact Or.inl (by assumption) | exact Or.inr (by first | assumption | exact upm_same _ _ _ | exact (upm_ne _ _ (by first | assumption | exact Ne.symm (by assumption) | omega | exact ne_mp (m := m) (by assumption) (by assumption) | exact Ne.symm (ne_mp (m := m) (by assumption) (by assumption)) | exact ne_mp (m := w) (by assumption) (by assumption) | exact Ne.symm (ne_mp (m := w) (by assumption) (by assumption)))).trans (by first | assumption | exact upm_same _ _ _ | exact (upm_ne _ _ (by first | assumption | exact Ne.symm (by assumption) | omega | exact ne_mp (m := m) (by assumption) (by assumption) | exact Ne.symm (ne_mp (m := m) (by assumption) (by assumption)) | exact ne_mp (m := w) (by assumption) (by assumption) | exact Ne.symm (ne_mp (m := w) (by assumption) (by assumption)))).trans (by first | assumption | exact upm_same _ _ _ | exact (upm_ne _ _ (by first | assumption | exact Ne.symm (by assumption) | omega | exact ne_mp (m := m) (by assumption) (by assumption) | exact Ne.symm (ne_mp (m := m) (by assumption) (by assumption)) | exact ne_mp (m := w) (by assumption) (by assumption) | exact Ne.symm (ne_mp (m := w) (by assumption) (by assumption)))).trans (by first | assumption | exact upm_same _ _ _))))) rfl (by decide) rfl) rfl ?_
              refine z_V (ci := ciJ2) (T := TJ2) (N := 3) (na := 0) hX dX1_decoded_101 (c_J2_size D A (Or.inl y4)) rfl q993 q467 q468 q101 q469 (by decide +kernel) ⟨Nat.le_of_ble_eq_true rfl, Nat.le_of_ble_eq_true rfl⟩ rfl rfl (Nat.le_of_ble_eq_true rfl) rfl (by first | exact Nat.le_of_ble_eq_true rfl | (show _ + 0 ≤ 140; omega)) (by first | exact Nat.le_of_ble_eq_true rfl | (show _ + 0 ≤ 7000; omega)) (fun H h => ⟨h, h.obL (Or.inl y4)⟩) (fun E a => zT.no) (zPd.out ?_)
              show zG X (_ + 0) (_ + 0) _ 104 _ _
              refine z_icmp_ge (q := 107) (t := 173) hX dX1_decoded_104 (by decide) ⟨by omega, by omega⟩ ⟨by omega, by omega⟩ rfl (fun h104 => ?_) (fun h104 => ?_)
              · exact absurd h104 (by omega)
              · refine z_aload_n (i := 2) (q := 108) hX dX1_decoded_107 rfl rfl rfl ?_
                refine zr_getN (C := RX7) (T := TX7) (N := 3) (q := 111) hX ciX7 1 rfl (by decide) in_X7 dX1_decoded_108 (zNF_at 4 rfl) (fun H h => cI.rd h (by first | assumption | exact Or.inl (by assumption) | exact Or.inr (by first | assumption | exact upm_same _ _ _ | exact (upm_ne _ _ (by first | assumption | exact Ne.symm (by assumption) | omega | exact ne_mp (m := m) (by assumption) (by assumption) | exact Ne.symm (ne_mp (m := m) (by assumption) (by assumption)) | exact ne_mp (m := w) (by assumption) (by assumption) | exact Ne.symm (ne_mp (m := w) (by assumption) (by assumption)))).trans (by first | assumption | exact upm_same _ _ _ | exact (upm_ne _ _ (by first | assumption | exact Ne.symm (by assumption) | omega | exact ne_mp (m := m) (by assumption) (by assumption) | exact Ne.symm (ne_mp (m := m) (by assumption) (by assumption)) | exact ne_mp (m := w) (by assumption) (by assumption) | exact Ne.symm (ne_mp (m := w) (by assumption) (by assumption)))).trans (by first | assumption | exact upm_same _ _ _ | exact (upm_ne _ _ (by first | assumption | exact Ne.symm (by assumption) | omega | exact ne_mp (m := m) (by assumption) (by assumption) | exact Ne.symm (ne_mp (m := m) (by assumption) (by assumption)) | exact ne_mp (m := w) (by assumption) (by assumption) | exact Ne.symm (ne_mp (m := w) (by assumption) (by assumption)))).trans (by first | assumption | exact upm_same _ _ _))))) rfl (by decide) rfl) rfl ?_
                refine z_iload (q := 113) hX dX1_decoded_111 rfl rfl ?_
                refine z_V (ci := ciJ2) (T := TJ2) (N := 3) (na := 1) hX dX1_decoded_113 (c_J2_get D A (Or.inl y4) (by omega) (by rw [Int.toNat_natCast]; exact q4) (by omega)) rfl q1164 q471 q472 q101 q473 (by decide +kernel) ⟨Nat.le_of_ble_eq_true rfl, Nat.le_of_ble_eq_true rfl⟩ rfl rfl (Nat.le_of_ble_eq_true rfl) rfl (by first | exact Nat.le_of_ble_eq_true rfl | (show _ + 0 ≤ 140; omega)) (by first | exact Nat.le_of_ble_eq_true rfl | (show _ + 0 ≤ 7000; omega)) (fun H h => ⟨h, h.obL (Or.inl y4)⟩) (fun E a => zT.no) (zPd.out ?_)
                show zG X (_ + 0) (_ + 0) _ 116 _ _
                refine zr_cast (q := 119) (C := RX8) (T := TX8) (N := 2) hX ciX8 rfl dX1_decoded_116 q1569 (fun H h => cI.obE h (by first | assumption | exact Or.inl (by assumption) | exact Or.inr (by first | assumption | exact upm_same _ _ _ | exact (upm_ne _ _ (by first | assumption | exact Ne.symm (by assumption) | omega | exact ne_mp (m := m) (by assumption) (by assumption) | exact Ne.symm (ne_mp (m := m) (by assumption) (by assumption)) | exact ne_mp (m := w) (by assumption) (by assumption) | exact Ne.symm (ne_mp (m := w) (by assumption) (by assumption)))).trans (by first | assumption | exact upm_same _ _ _ | exact (upm_ne _ _ (by first | assumption | exact Ne.symm (by assumption) | omega | exact ne_mp (m := m) (by assumption) (by assumption) | exact Ne.symm (ne_mp (m := m) (by assumption) (by assumption)) | exact ne_mp (m := w) (by assumption) (by assumption) | exact Ne.symm (ne_mp (m := w) (by assumption) (by assumption)))).trans (by first | assumption | exact upm_same _ _ _ | exact (upm_ne _ _ (by first | assumption | exact Ne.symm (by assumption) | omega | exact ne_mp (m := m) (by assumption) (by assumption) | exact Ne.symm (ne_mp (m := m) (by assumption) (by assumption)) | exact ne_mp (m := w) (by assumption) (by assumption) | exact Ne.symm (ne_mp (m := w) (by assumption) (by assumption)))).trans (by first | assumption | exact upm_same _ _ _))))) rfl) rfl ?_
                refine z_astore (q := 121) hX dX1_decoded_119 (Nat.le_of_ble_eq_true rfl) rfl rfl ?_
                refine z_aload (q := 123) hX dX1_decoded_121 rfl rfl ?_
                refine z_V (ci := ciX8) (T := TX8) (N := 2) (na := 0) hX dX1_decoded_123 (c_X8_isVariable D A q50) rfl q1570 q551 q552 q128 q553 (by decide +kernel) ⟨Nat.le_of_ble_eq_true rfl, Nat.le_of_ble_eq_true rfl⟩ rfl rfl (Nat.le_of_ble_eq_true rfl) rfl (by first | exact Nat.le_of_ble_eq_true rfl | (show _ + 0 ≤ 140; omega)) (by first | exact Nat.le_of_ble_eq_true rfl | (show _ + 0 ≤ 7000; omega)) (fun H h => ⟨h, h.obE (Or.inl r1) rfl⟩) (fun E a => zT.no) (zPd.out ?_)
                show zG X (_ + 0) (_ + 0) _ 126 _ _
                refine z_ifB_eq (q := 129) (t := 154) hX dX1_decoded_126 (by decide) rfl (fun h126 => ?_) (fun h126 => ?_)
                · refine z_aload (q := 156) hX dX1_decoded_154 rfl rfl ?_
                  refine zr_getN (C := RX8) (T := TX8) (N := 2) (q := 159) hX ciX8 0 rfl (by decide) in_X8 dX1_decoded_156 (zNF_at 6 rfl) (fun H h => cI.rd h (by first | assumption | exact Or.inl (by assumption) | exact Or.inr (by first | assumption | exact upm_same _ _ _ | exact (upm_ne _ _ (by first | assumption | exact Ne.symm (by assumption) | omega | exact ne_mp (m := m) (by assumption) (by assumption) | exact Ne.symm (ne_mp (m := m) (by assumption) (by assumption)) | exact ne_mp (m := w) (by assumption) (by assumption) | exact Ne.symm (ne_mp (m := w) (by assumption) (by assumption)))).trans (by first | assumption | exact upm_same _ _ _ | exact (upm_ne _ _ (by first | assumption | exact Ne.symm (by assumption) | omega | exact ne_mp (m := m) (by assumption) (by assumption) | exact Ne.symm (ne_mp (m := m) (by assumption) (by assumption)) | exact ne_mp (m := w) (by assumption) (by assumption) | exact Ne.symm (ne_mp (m := w) (by assumption) (by assumption)))).trans (by first | assumption | exact upm_same _ _ _ | exact (upm_ne _ _ (by first | assumption | exact Ne.symm (by assumption) | omega | exact ne_mp (m := m) (by assumption) (by assumption) | exact Ne.symm (ne_mp (m := m) (by assumption) (by assumption)) | exact ne_mp (m := w) (by assumption) (by assumption) | exact Ne.symm (ne_mp (m := w) (by assumption) (by assumption)))).trans (by first | assumption | exact upm_same _ _ _))))) rfl (by decide) rfl) rfl ?_
                  refine z_astore (q := 161) hX dX1_decoded_159 (Nat.le_of_ble_eq_true rfl) rfl rfl ?_
                  refine z_aload (q := 163) hX dX1_decoded_161 rfl rfl ?_
                  refine z_aload (q := 165) hX dX1_decoded_163 rfl rfl ?_
                  refine zr_getN (C := RX6) (T := TX6) (N := 2) (q := 168) hX ciX6 0 rfl (by decide) in_X6 dX1_decoded_165 (zNF_at 7 rfl) (fun H h => cI.rd h (by first | assumption | exact Or.inl (by assumption) | exact Or.inr (by first | assumption | exact upm_same _ _ _ | exact (upm_ne _ _ (by first | assumption | exact Ne.symm (by assumption) | omega | exact ne_mp (m := m) (by assumption) (by assumption) | exact Ne.symm (ne_mp (m := m) (by assumption) (by assumption)) | exact ne_mp (m := w) (by assumption) (by assumption) | exact Ne.symm (ne_mp (m := w) (by assumption) (by assumption)))).trans (by first | assumption | exact upm_same _ _ _ | exact (upm_ne _ _ (by first | assumption | exact Ne.symm (by assumption) | omega | exact ne_mp (m := m) (by assumption) (by assumption) | exact Ne.symm (ne_mp (m := m) (by assumption) (by assumption)) | exact ne_mp (m := w) (by assumption) (by assumption) | exact Ne.symm (ne_mp (m := w) (by assumption) (by assumption)))).trans (by first | assumption | exact upm_same _ _ _ | exact (upm_ne _ _ (by first | assumption | exact Ne.symm (by assumption) | omega | exact ne_mp (m := m) (by assumption) (by assumption) | exact Ne.symm (ne_mp (m := m) (by assumption) (by assumption)) | exact ne_mp (m := w) (by assumption) (by assumption) | exact Ne.symm (ne_mp (m := w) (by assumption) (by assumption)))).trans (by first | assumption | exact upm_same _ _ _))))) rfl (by decide) rfl) rfl ?_
                  refine z_V (ci := ciJ20) (T := TJ20) (N := 4) (na := 1) hX dX1_decoded_168 (c_J20_append D A (upm_same _ _ _) r5 hlt) rfl q1576 q782 q783 q125 q784 (by decide +kernel) ⟨Nat.le_of_ble_eq_true rfl, Nat.le_of_ble_eq_true rfl⟩ rfl rfl (Nat.le_of_ble_eq_true rfl) rfl (by first | exact Nat.le_of_ble_eq_true rfl | (show _ + 1 ≤ 140; omega)) (by first | exact Nat.le_of_ble_eq_true rfl | (show _ + 84 ≤ 7000; omega)) (fun H h => ⟨h, h.obE (Or.inr (upm_same _ _ _)) rfl⟩) (fun E a => zT.no) (zPd.out ?_)
                  show zG X (_ + 1) (_ + 84) _ 171 _ _
                  refine z_astore (q := 173) hX dX1_decoded_171 (Nat.le_of_ble_eq_true rfl) rfl rfl ?_
                  refine z_iinc (q := 176) hX dX1_decoded_173 rfl (Nat.le_of_ble_eq_true rfl) rfl rfl ?_
                  refine z_goto (t := 41) hX dX1_decoded_176 (by decide) ?_
                  refine zG.mono (ih (by omega) _ _ m0 _ _ _ _ _ hm0 hf0 hsb (by rw [ed2l]; omega) (by rw [ed2l]; omega) rfl) (fun H h => by rw [upm_upm] at h; rw [ed2, ed3]; exact h)
                · exact absurd h126 (by rw [decide_eq_true r0]; decide)
            · have hz9 : True := trivial
              refine z_iload (q := 97) hX dX1_decoded_95 rfl rfl ?_
              refine z_aload_n (i := 2) (q := 98) hX dX1_decoded_97 rfl rfl rfl ?_
              refine zr_getN (C := RX7) (T := TX7) (N := 3) (q := 101) hX ciX7 1 rfl (by decide) in_X7 dX1_decoded_98 (zNF_at 4 rfl) (fun H h => cI.rd h (by first | assumption | exact Or.inl (by assumption) | exact Or.inr (by first | assumption | exact upm_same _ _ _ | exact (upm_ne _ _ (by first | assumption | exact Ne.symm (by assumption) | omega | exact ne_mp (m := m) (by assumption) (by assumption) | exact Ne.symm (ne_mp (m := m) (by assumption) (by assumption)) | exact ne_mp (m := w) (by assumption) (by assumption) | exact Ne.symm (ne_mp (m := w) (by assumption) (by assumption)))).trans (by first | assumption | exact upm_same _ _ _ | exact (upm_ne _ _ (by first | assumption | exact Ne.symm (by assumption) | omega | exact ne_mp (m := m) (by assumption) (by assumption) | exact Ne.symm (ne_mp (m := m) (by assumption) (by assumption)) | exact ne_mp (m := w) (by assumption) (by assumption) | exact Ne.symm (ne_mp (m := w) (by assumption) (by assumption)))).trans (by first | assumption | exact upm_same _ _ _ | exact (upm_ne _ _ (by first | assumption | exact Ne.symm (by assumption) | omega | exact ne_mp (m := m) (by assumption) (by assumption) | exact Ne.symm (ne_mp (m := m) (by assumption) (by assumption)) | exact ne_mp (m := w) (by assumption) (by assumption) | exact Ne.symm (ne_mp (m := w) (by assumption) (by assumption)))).trans (by first | assumption | exact upm_same _ _ _))))) rfl (by decide) rfl) rfl ?_
              refine z_V (ci := ciJ2) (T := TJ2) (N := 3) (na := 0) hX dX1_decoded_101 (c_J2_size D A (Or.inl y4)) rfl q993 q467 q468 q101 q469 (by decide +kernel) ⟨Nat.le_of_ble_eq_true rfl, Nat.le_of_ble_eq_true rfl⟩ rfl rfl (Nat.le_of_ble_eq_true rfl) rfl (by first | exact Nat.le_of_ble_eq_true rfl | (show _ + 0 ≤ 140; omega)) (by first | exact Nat.le_of_ble_eq_true rfl | (show _ + 0 ≤ 7000; omega)) (fun H h => ⟨h, h.obL (Or.inl y4)⟩) (fun E a => zT.no) (zPd.out ?_)
              show zG X (_ + 0) (_ + 0) _ 104 _ _
              refine z_icmp_ge (q := 107) (t := 173) hX dX1_decoded_104 (by decide) ⟨by omega, by omega⟩ ⟨by omega, by omega⟩ rfl (fun h104 => ?_) (fun h104 => ?_)
              · exact absurd h104 (by omega)
              · refine z_aload_n (i := 2) (q := 108) hX dX1_decoded_107 rfl rfl rfl ?_
                refine zr_getN (C := RX7) (T := TX7) (N := 3) (q := 111) hX ciX7 1 rfl (by decide) in_X7 dX1_decoded_108 (zNF_at 4 rfl) (fun H h => cI.rd h (by first | assumption | exact Or.inl (by assumption) | exact Or.inr (by first | assumption | exact upm_same _ _ _ | exact (upm_ne _ _ (by first | assumption | exact Ne.symm (by assumption) | omega | exact ne_mp (m := m) (by assumption) (by assumption) | exact Ne.symm (ne_mp (m := m) (by assumption) (by assumption)) | exact ne_mp (m := w) (by assumption) (by assumption) | exact Ne.symm (ne_mp (m := w) (by assumption) (by assumption)))).trans (by first | assumption | exact upm_same _ _ _ | exact (upm_ne _ _ (by first | assumption | exact Ne.symm (by assumption) | omega | exact ne_mp (m := m) (by assumption) (by assumption) | exact Ne.symm (ne_mp (m := m) (by assumption) (by assumption)) | exact ne_mp (m := w) (by assumption) (by assumption) | exact Ne.symm (ne_mp (m := w) (by assumption) (by assumption)))).trans (by first | assumption | exact upm_same _ _ _ | exact (upm_ne _ _ (by first | assumption | exact Ne.symm (by assumption) | omega | exact ne_mp (m := m) (by assumption) (by assumption) | exact Ne.symm (ne_mp (m := m) (by assumption) (by assumption)) | exact ne_mp (m := w) (by assumption) (by assumption) | exact Ne.symm (ne_mp (m := w) (by assumption) (by assumption)))).trans (by first | assumption | exact upm_same _ _ _))))) rfl (by decide) rfl) rfl ?_
                refine z_iload (q := 113) hX dX1_decoded_111 rfl rfl ?_
                refine z_V (ci := ciJ2) (T := TJ2) (N := 3) (na := 1) hX dX1_decoded_113 (c_J2_get D A (Or.inl y4) (by omega) (by rw [Int.toNat_natCast]; exact q4) (by omega)) rfl q1164 q471 q472 q101 q473 (by decide +kernel) ⟨Nat.le_of_ble_eq_true rfl, Nat.le_of_ble_eq_true rfl⟩ rfl rfl (Nat.le_of_ble_eq_true rfl) rfl (by first | exact Nat.le_of_ble_eq_true rfl | (show _ + 0 ≤ 140; omega)) (by first | exact Nat.le_of_ble_eq_true rfl | (show _ + 0 ≤ 7000; omega)) (fun H h => ⟨h, h.obL (Or.inl y4)⟩) (fun E a => zT.no) (zPd.out ?_)
                show zG X (_ + 0) (_ + 0) _ 116 _ _
                refine zr_cast (q := 119) (C := RX8) (T := TX8) (N := 2) hX ciX8 rfl dX1_decoded_116 q1569 (fun H h => cI.obE h (by first | assumption | exact Or.inl (by assumption) | exact Or.inr (by first | assumption | exact upm_same _ _ _ | exact (upm_ne _ _ (by first | assumption | exact Ne.symm (by assumption) | omega | exact ne_mp (m := m) (by assumption) (by assumption) | exact Ne.symm (ne_mp (m := m) (by assumption) (by assumption)) | exact ne_mp (m := w) (by assumption) (by assumption) | exact Ne.symm (ne_mp (m := w) (by assumption) (by assumption)))).trans (by first | assumption | exact upm_same _ _ _ | exact (upm_ne _ _ (by first | assumption | exact Ne.symm (by assumption) | omega | exact ne_mp (m := m) (by assumption) (by assumption) | exact Ne.symm (ne_mp (m := m) (by assumption) (by assumption)) | exact ne_mp (m := w) (by assumption) (by assumption) | exact Ne.symm (ne_mp (m := w) (by assumption) (by assumption)))).trans (by first | assumption | exact upm_same _ _ _ | exact (upm_ne _ _ (by first | assumption | exact Ne.symm (by assumption) | omega | exact ne_mp (m := m) (by assumption) (by assumption) | exact Ne.symm (ne_mp (m := m) (by assumption) (by assumption)) | exact ne_mp (m := w) (by assumption) (by assumption) | exact Ne.symm (ne_mp (m := w) (by assumption) (by assumption)))).trans (by first | assumption | exact upm_same _ _ _))))) rfl) rfl ?_
                refine z_astore (q := 121) hX dX1_decoded_119 (Nat.le_of_ble_eq_true rfl) rfl rfl ?_
                refine z_aload (q := 123) hX dX1_decoded_121 rfl rfl ?_
                refine z_V (ci := ciX8) (T := TX8) (N := 2) (na := 0) hX dX1_decoded_123 (c_X8_isVariable D A q50) rfl q1570 q551 q552 q128 q553 (by decide +kernel) ⟨Nat.le_of_ble_eq_true rfl, Nat.le_of_ble_eq_true rfl⟩ rfl rfl (Nat.le_of_ble_eq_true rfl) rfl (by first | exact Nat.le_of_ble_eq_true rfl | (show _ + 0 ≤ 140; omega)) (by first | exact Nat.le_of_ble_eq_true rfl | (show _ + 0 ≤ 7000; omega)) (fun H h => ⟨h, h.obE (Or.inl r1) rfl⟩) (fun E a => zT.no) (zPd.out ?_)
                show zG X (_ + 0) (_ + 0) _ 126 _ _
                refine z_ifB_eq (q := 129) (t := 154) hX dX1_decoded_126 (by decide) rfl (fun h126 => ?_) (fun h126 => ?_)
                · exact absurd h126 (by rw [decide_eq_false (by omega)]; decide)
                · refine zc_new (q := 132) (fs := [.null, zI 0]) (C := RX3) (T := TX3) (N := 2) hX ciX3 rfl in_X3 tyX3_ok dX1_decoded_129 q1571 q187 q102 (fun j hj => by match j, hj with | 0, _ => rfl | 1, _ => rfl | (_ + 2), h => exact absurd h (by omega)) (by first | exact Nat.le_of_ble_eq_true rfl | (show _ + 1 ≤ 140; omega)) (by first | exact Nat.le_of_ble_eq_true rfl | (show _ + 2 ≤ 7000; omega)) rfl (fun a129 ha129 hb129 => ?_)
                  have n129 := hb129
                  try simp only [upm_none] at n129
                  repeat (have := And.left n129; replace n129 := And.right n129)
                  refine z_dup (q := 133) hX dX1_decoded_132 rfl rfl ?_
                  have n129 : a129 ≠ sb ∧ m0 a129 = none := upm_none.mp hb129
                  have hbn : b ≠ a129 := Ne.symm (ne_mp n129.2 h1m)
                  refine z_aload_n (i := 0) (q := 134) hX dX1_decoded_133 rfl rfl rfl ?_
                  refine zr_get (C := RX1) (T := TX1) (N := 7) (q := 137) hX ciX1 0 rfl (by decide) in_X1 dX1_decoded_134 q224 (Or.inl rfl) (fun H h => cI.rd h (Or.inr ((upm_ne _ _ hbn).trans ((upm_ne _ _ hbs).trans h1m))) rfl (by decide) rfl) rfl ?_
                  refine zr_getN (C := RX2) (T := TX2) (N := 4) (q := 140) hX ciX2 0 rfl (by decide) in_X2 dX1_decoded_137 (zNF_at 1 rfl) (fun H h => cI.rd h (Or.inl g1) rfl (by decide) rfl) rfl ?_
                  refine z_aload_n (i := 2) (q := 141) hX dX1_decoded_140 rfl rfl rfl ?_
                  refine z_iload (q := 143) hX dX1_decoded_141 rfl rfl ?_
                  refine z_C (na := 3) hX dX1_decoded_143 (c_X3_init_2 D A (v0 := 0) (upm_same _ _ _) (Or.inl g2) g3 (by omega) e20 (e20.rows hok (by rw [hnn1]; exact hi2)) (by omega)) q1572 q1573 q102 q1574 rfl (by decide +kernel) ⟨Nat.le_of_ble_eq_true rfl, Nat.le_of_ble_eq_true rfl⟩ rfl rfl (Nat.le_of_ble_eq_true rfl) rfl (by first | exact Nat.le_of_ble_eq_true rfl | (show _ + 1 ≤ 140; omega)) (by first | exact Nat.le_of_ble_eq_true rfl | (show _ + 40 ≤ 7000; omega)) (fun H h => h) (fun E a => zT.no) (zPe.out (fun x143 hx143 => ?_))
                  show zG X (_ + 1) (_ + 40) _ 146 _ _
                  obtain ⟨⟨u1, u2, u3⟩, u4⟩ := hx143
                  rw [upm_upm]
                  have u5 := (upm_none.mp (upm_none.mp u1).2)
                  obtain ⟨y9, u6, u7⟩ := u4 row.toNat hrl
                  have etk : cR (tx M) (rws M (M (43 + l))) (i : Int) ((row.toNat : Nat) : Int) = tok T i := by
                    unfold cR
                    rw [Int.toNat_natCast, List.getD_eq_getElem?_getD, hrow, hTx]
                    rfl
                  rw [etk] at u7
                  obtain ⟨r3, t8, r4, r5⟩ := u7
                  refine zr_getN (C := RX3) (T := TX3) (N := 2) (q := 149) hX ciX3 0 rfl (by decide) in_X3 dX1_decoded_146 (zNF_at 5 rfl) (fun H h => cI.rd h (Or.inr ((upm_ne _ _ (Ne.symm u3)).trans (upm_same _ _ _))) rfl (by decide) rfl) rfl ?_
                  refine z_iload_n (i := 3) (q := 150) hX dX1_decoded_149 rfl rfl rfl ?_
                  refine zr_aald (q := 151) hX 6 rfl dX1_decoded_150 (fun H h => (h.at (Or.inr (upm_same _ _ _))).raQ) ⟨by omega, by omega⟩ (by first | decide | omega) rfl ?_
                  refine zG.top (v2 := .ref y9) (by show va_rf (x143.2 row.toNat) = _; rw [u6]; rfl) ?_
                  refine z_goto (t := 159) hX dX1_decoded_151 (by decide) ?_
                  refine z_astore (q := 161) hX dX1_decoded_159 (Nat.le_of_ble_eq_true rfl) rfl rfl ?_
                  refine z_aload (q := 163) hX dX1_decoded_161 rfl rfl ?_
                  refine z_aload (q := 165) hX dX1_decoded_163 rfl rfl ?_
                  refine zr_getN (C := RX6) (T := TX6) (N := 2) (q := 168) hX ciX6 0 rfl (by decide) in_X6 dX1_decoded_165 (zNF_at 7 rfl) (fun H h => cI.rd h (by first | assumption | exact Or.inl (by assumption) | exact Or.inr (by first | assumption | exact upm_same _ _ _ | exact (upm_ne _ _ (by first | assumption | exact Ne.symm (by assumption) | omega | exact ne_mp (m := m) (by assumption) (by assumption) | exact Ne.symm (ne_mp (m := m) (by assumption) (by assumption)) | exact ne_mp (m := w) (by assumption) (by assumption) | exact Ne.symm (ne_mp (m := w) (by assumption) (by assumption)))).trans (by first | assumption | exact upm_same _ _ _ | exact (upm_ne _ _ (by first | assumption | exact Ne.symm (by assumption) | omega | exact ne_mp (m := m) (by assumption) (by assumption) | exact Ne.symm (ne_mp (m := m) (by assumption) (by assumption)) | exact ne_mp (m := w) (by assumption) (by assumption) | exact Ne.symm (ne_mp (m := w) (by assumption) (by assumption)))).trans (by first | assumption | exact upm_same _ _ _ | exact (upm_ne _ _ (by first | assumption | exact Ne.symm (by assumption) | omega | exact ne_mp (m := m) (by assumption) (by assumption) | exact Ne.symm (ne_mp (m := m) (by assumption) (by assumption)) | exact ne_mp (m := w) (by assumption) (by assumption) | exact Ne.symm (ne_mp (m := w) (by assumption) (by assumption)))).trans (by first | assumption | exact upm_same _ _ _))))) rfl (by decide) rfl) rfl ?_
                  refine z_V (ci := ciJ20) (T := TJ20) (N := 4) (na := 1) hX dX1_decoded_168 (c_J20_append D A (s := T.take (fT T i).toNat) ((upm_ne _ _ (Ne.symm u5.1)).trans ((upm_ne _ _ (Ne.symm n129.1)).trans (upm_same _ _ _))) r5 hlt) rfl q1576 q782 q783 q125 q784 (by decide +kernel) ⟨Nat.le_of_ble_eq_true rfl, Nat.le_of_ble_eq_true rfl⟩ rfl rfl (Nat.le_of_ble_eq_true rfl) rfl (by first | exact Nat.le_of_ble_eq_true rfl | (show _ + 1 ≤ 140; omega)) (by first | exact Nat.le_of_ble_eq_true rfl | (show _ + 84 ≤ 7000; omega)) (fun H h => ⟨h, h.obE (Or.inr ((upm_ne _ _ (Ne.symm u5.1)).trans ((upm_ne _ _ (Ne.symm n129.1)).trans (upm_same _ _ _)))) rfl⟩) (fun E a => zT.no) (zPd.out ?_)
                  show zG X (_ + 1) (_ + 84) _ 171 _ _
                  refine z_astore (q := 173) hX dX1_decoded_171 (Nat.le_of_ble_eq_true rfl) rfl rfl ?_
                  refine z_iinc (q := 176) hX dX1_decoded_173 rfl (Nat.le_of_ble_eq_true rfl) rfl rfl ?_
                  refine z_goto (t := 41) hX dX1_decoded_176 (by decide) ?_
                  refine zG.mono (ih (by omega) _ _ (upm (upm m0 a129 (eO ciX3 [.ref x143.1, zI (rws M (M (43 + l))).length])) x143.1 (eC (aQ D 6 40 x143.2))) _ _ _ _ _ ((hm0.tr (mLe.up n129.2)).tr (mLe.up ((upm_ne _ _ u3).trans u5.2))) ((hf0.tr (zFr.up ((hK.fr hf0).no n129.2))).tr (zFr.up ((hK.fr hf0).no u5.2))) ((upm_ne _ _ (Ne.symm u5.1)).trans ((upm_ne _ _ (Ne.symm n129.1)).trans hsb)) (by rw [ed2l]; omega) (by rw [ed2l]; omega) rfl) (fun H h => by rw [sbM n129.1 u5.1] at h; rw [ed2, ed3]; exact h)
          · have hi3 : (i : Int) = nT T := by omega
            have hne : nE T (i : Int) = T.length := if_pos hi3
            have ed2 : dcT T (i + 1) = T := if_neg (by omega)
            rw [hne] at hkc hns ⊢
            rw [List.take_of_length_le (by omega)]
            refine z_iload (q := 97) hX dX1_decoded_95 rfl rfl ?_
            refine z_aload_n (i := 2) (q := 98) hX dX1_decoded_97 rfl rfl rfl ?_
            refine zr_getN (C := RX7) (T := TX7) (N := 3) (q := 101) hX ciX7 1 rfl (by decide) in_X7 dX1_decoded_98 (zNF_at 4 rfl) (fun H h => cI.rd h (by first | assumption | exact Or.inl (by assumption) | exact Or.inr (by first | assumption | exact upm_same _ _ _ | exact (upm_ne _ _ (by first | assumption | exact Ne.symm (by assumption) | omega | exact ne_mp (m := m) (by assumption) (by assumption) | exact Ne.symm (ne_mp (m := m) (by assumption) (by assumption)) | exact ne_mp (m := w) (by assumption) (by assumption) | exact Ne.symm (ne_mp (m := w) (by assumption) (by assumption)))).trans (by first | assumption | exact upm_same _ _ _ | exact (upm_ne _ _ (by first | assumption | exact Ne.symm (by assumption) | omega | exact ne_mp (m := m) (by assumption) (by assumption) | exact Ne.symm (ne_mp (m := m) (by assumption) (by assumption)) | exact ne_mp (m := w) (by assumption) (by assumption) | exact Ne.symm (ne_mp (m := w) (by assumption) (by assumption)))).trans (by first | assumption | exact upm_same _ _ _ | exact (upm_ne _ _ (by first | assumption | exact Ne.symm (by assumption) | omega | exact ne_mp (m := m) (by assumption) (by assumption) | exact Ne.symm (ne_mp (m := m) (by assumption) (by assumption)) | exact ne_mp (m := w) (by assumption) (by assumption) | exact Ne.symm (ne_mp (m := w) (by assumption) (by assumption)))).trans (by first | assumption | exact upm_same _ _ _))))) rfl (by decide) rfl) rfl ?_
            refine z_V (ci := ciJ2) (T := TJ2) (N := 3) (na := 0) hX dX1_decoded_101 (c_J2_size D A (Or.inl y4)) rfl q993 q467 q468 q101 q469 (by decide +kernel) ⟨Nat.le_of_ble_eq_true rfl, Nat.le_of_ble_eq_true rfl⟩ rfl rfl (Nat.le_of_ble_eq_true rfl) rfl (by first | exact Nat.le_of_ble_eq_true rfl | (show _ + 0 ≤ 140; omega)) (by first | exact Nat.le_of_ble_eq_true rfl | (show _ + 0 ≤ 7000; omega)) (fun H h => ⟨h, h.obL (Or.inl y4)⟩) (fun E a => zT.no) (zPd.out ?_)
            show zG X (_ + 0) (_ + 0) _ 104 _ _
            refine z_icmp_ge (q := 107) (t := 173) hX dX1_decoded_104 (by decide) ⟨by omega, by omega⟩ ⟨by omega, by omega⟩ rfl (fun h104 => ?_) (fun h104 => ?_)
            · refine z_iinc (q := 176) hX dX1_decoded_173 rfl (Nat.le_of_ble_eq_true rfl) rfl rfl ?_
              refine z_goto (t := 41) hX dX1_decoded_176 (by decide) ?_
              refine zG.mono (ih (by omega) _ _ m0 _ _ _ _ _ hm0 hf0 hsb (by rw [ed2]; omega) (by rw [ed2]; omega) rfl) (fun H h => by rw [ed2]; exact h)
            · exact absurd (by omega) h104
        have K73 : ∀ j : Nat, j ≤ g → ∀ (kc ns : Nat) (v8 v9 : Option Value) (q : Int), q = j → kc ≤ 3 + 4 * i + ((pE T i).toNat + j) → ns ≤ 30 + 130 * i + 84 * ((pE T i).toNat + j) → zG X kc ns (cI D A w (upm m0 sb (eB (T.take (pE T i + (j : Int)).toNat)))) 73 [some (.ref b), some (zI l), some (.ref x), some (zI row), some (.ref sb), some (zI (i : Int)), some (zI (g : Int)), some (zI q), v8, v9] [] := by
          refine z_up (fun j hj ih2 kc ns v8 v9 q eq hkc hns => ?_)
          subst eq
          by_cases hjg : j < g
          · have hsp := take_sp (s := T) (i := pE T i + (j : Int)) (by omega) (by omega) (t4 _ (by omega) (by omega))
            refine z_iload (q := 75) hX dX1_decoded_73 rfl rfl ?_
            refine z_iload (q := 77) hX dX1_decoded_75 rfl rfl ?_
            refine z_icmp_ge (q := 80) (t := 95) hX dX1_decoded_77 (by decide) ⟨by omega, by omega⟩ ⟨by omega, by omega⟩ rfl (fun h77 => ?_) (fun h77 => ?_)
            · exact absurd h77 (by omega)
            · refine z_aload (q := 82) hX dX1_decoded_80 rfl rfl ?_
              refine z_bipush (q := 84) hX dX1_decoded_82 (by decide) rfl ?_
              refine z_V (ci := ciJ20) (T := TJ20) (N := 4) (na := 1) hX dX1_decoded_84 (c_J20_append_3 D A (upm_same _ _ _) (by rw [List.length_take]; have := hlnS.2.1; omega) (by decide)) rfl q1556 q1557 q1558 q125 q1559 (by decide +kernel) ⟨Nat.le_of_ble_eq_true rfl, Nat.le_of_ble_eq_true rfl⟩ rfl rfl (Nat.le_of_ble_eq_true rfl) rfl (by first | exact Nat.le_of_ble_eq_true rfl | (show _ + 1 ≤ 140; omega)) (by first | exact Nat.le_of_ble_eq_true rfl | (show _ + 84 ≤ 7000; omega)) (fun H h => ⟨h, h.obE (Or.inr (upm_same _ _ _)) rfl⟩) (fun E a => zT.no) (zPd.out ?_)
              show zG X (_ + 1) (_ + 84) _ 87 _ _
              refine z_astore (q := 89) hX dX1_decoded_87 (Nat.le_of_ble_eq_true rfl) rfl rfl ?_
              refine z_iinc (q := 92) hX dX1_decoded_89 rfl (Nat.le_of_ble_eq_true rfl) rfl rfl ?_
              refine z_goto (t := 73) hX dX1_decoded_92 (by decide) ?_
              refine zG.mono (ih2 hjg _ _ _ _ _ rfl (by omega) (by omega)) (fun H h => by rw [upm_upm, ← hsp] at h; rw [show pE T (i : Int) + ((j + 1 : Nat) : Int) = pE T (i : Int) + (j : Int) + 1 by omega]; exact h)
          · have hjg2 : j = g := by omega
            have hen : pE T (i : Int) + (j : Int) = nE T i := by omega
            rw [hen]
            refine z_iload (q := 75) hX dX1_decoded_73 rfl rfl ?_
            refine z_iload (q := 77) hX dX1_decoded_75 rfl rfl ?_
            refine z_icmp_ge (q := 80) (t := 95) hX dX1_decoded_77 (by decide) ⟨by omega, by omega⟩ ⟨by omega, by omega⟩ rfl (fun h77 => ?_) (fun h77 => ?_)
            · exact K95 _ _ _ _ _ (by omega) (by omega)
            · exact absurd (by omega) h77
        refine z_iload (q := 43) hX dX1_decoded_41 rfl rfl ?_
        refine z_aload_n (i := 2) (q := 44) hX dX1_decoded_43 rfl rfl rfl ?_
        refine zr_getN (C := RX7) (T := TX7) (N := 3) (q := 47) hX ciX7 0 rfl (by decide) in_X7 dX1_decoded_44 (zNF_at 3 rfl) (fun H h => cI.rd h (by first | assumption | exact Or.inl (by assumption) | exact Or.inr (by first | assumption | exact upm_same _ _ _ | exact (upm_ne _ _ (by first | assumption | exact Ne.symm (by assumption) | omega | exact ne_mp (m := m) (by assumption) (by assumption) | exact Ne.symm (ne_mp (m := m) (by assumption) (by assumption)) | exact ne_mp (m := w) (by assumption) (by assumption) | exact Ne.symm (ne_mp (m := w) (by assumption) (by assumption)))).trans (by first | assumption | exact upm_same _ _ _ | exact (upm_ne _ _ (by first | assumption | exact Ne.symm (by assumption) | omega | exact ne_mp (m := m) (by assumption) (by assumption) | exact Ne.symm (ne_mp (m := m) (by assumption) (by assumption)) | exact ne_mp (m := w) (by assumption) (by assumption) | exact Ne.symm (ne_mp (m := w) (by assumption) (by assumption)))).trans (by first | assumption | exact upm_same _ _ _ | exact (upm_ne _ _ (by first | assumption | exact Ne.symm (by assumption) | omega | exact ne_mp (m := m) (by assumption) (by assumption) | exact Ne.symm (ne_mp (m := m) (by assumption) (by assumption)) | exact ne_mp (m := w) (by assumption) (by assumption) | exact Ne.symm (ne_mp (m := w) (by assumption) (by assumption)))).trans (by first | assumption | exact upm_same _ _ _))))) rfl (by decide) rfl) rfl ?_
        refine z_V (ci := ciJ2) (T := TJ2) (N := 3) (na := 0) hX dX1_decoded_47 (c_J2_size D A (Or.inl y2)) rfl q993 q467 q468 q101 q469 (by decide +kernel) ⟨Nat.le_of_ble_eq_true rfl, Nat.le_of_ble_eq_true rfl⟩ rfl rfl (Nat.le_of_ble_eq_true rfl) rfl (by first | exact Nat.le_of_ble_eq_true rfl | (show _ + 0 ≤ 140; omega)) (by first | exact Nat.le_of_ble_eq_true rfl | (show _ + 0 ≤ 7000; omega)) (fun H h => ⟨h, h.obL (Or.inl y2)⟩) (fun E a => zT.no) (zPd.out ?_)
        show zG X (_ + 0) (_ + 0) _ 50 _ _
        refine z_icmp_ge (q := 53) (t := 179) hX dX1_decoded_50 (by decide) ⟨by omega, by omega⟩ ⟨by omega, by omega⟩ rfl (fun h50 => ?_) (fun h50 => ?_)
        · exact absurd h50 (by omega)
        · refine z_aload_n (i := 2) (q := 54) hX dX1_decoded_53 rfl rfl rfl ?_
          refine zr_getN (C := RX7) (T := TX7) (N := 3) (q := 57) hX ciX7 0 rfl (by decide) in_X7 dX1_decoded_54 (zNF_at 3 rfl) (fun H h => cI.rd h (by first | assumption | exact Or.inl (by assumption) | exact Or.inr (by first | assumption | exact upm_same _ _ _ | exact (upm_ne _ _ (by first | assumption | exact Ne.symm (by assumption) | omega | exact ne_mp (m := m) (by assumption) (by assumption) | exact Ne.symm (ne_mp (m := m) (by assumption) (by assumption)) | exact ne_mp (m := w) (by assumption) (by assumption) | exact Ne.symm (ne_mp (m := w) (by assumption) (by assumption)))).trans (by first | assumption | exact upm_same _ _ _ | exact (upm_ne _ _ (by first | assumption | exact Ne.symm (by assumption) | omega | exact ne_mp (m := m) (by assumption) (by assumption) | exact Ne.symm (ne_mp (m := m) (by assumption) (by assumption)) | exact ne_mp (m := w) (by assumption) (by assumption) | exact Ne.symm (ne_mp (m := w) (by assumption) (by assumption)))).trans (by first | assumption | exact upm_same _ _ _ | exact (upm_ne _ _ (by first | assumption | exact Ne.symm (by assumption) | omega | exact ne_mp (m := m) (by assumption) (by assumption) | exact Ne.symm (ne_mp (m := m) (by assumption) (by assumption)) | exact ne_mp (m := w) (by assumption) (by assumption) | exact Ne.symm (ne_mp (m := w) (by assumption) (by assumption)))).trans (by first | assumption | exact upm_same _ _ _))))) rfl (by decide) rfl) rfl ?_
          refine z_iload (q := 59) hX dX1_decoded_57 rfl rfl ?_
          refine z_V (ci := ciJ2) (T := TJ2) (N := 3) (na := 1) hX dX1_decoded_59 (c_J2_get D A (Or.inl y2) (by omega) (by rw [Int.toNat_natCast]; exact q1) (by omega)) rfl q1164 q471 q472 q101 q473 (by decide +kernel) ⟨Nat.le_of_ble_eq_true rfl, Nat.le_of_ble_eq_true rfl⟩ rfl rfl (Nat.le_of_ble_eq_true rfl) rfl (by first | exact Nat.le_of_ble_eq_true rfl | (show _ + 0 ≤ 140; omega)) (by first | exact Nat.le_of_ble_eq_true rfl | (show _ + 0 ≤ 7000; omega)) (fun H h => ⟨h, h.obL (Or.inl y2)⟩) (fun E a => zT.no) (zPd.out ?_)
          show zG X (_ + 0) (_ + 0) _ 62 _ _
          refine zr_cast (q := 65) (C := RJ18) (T := TJ18) (N := 1) hX ciJ18 rfl dX1_decoded_62 q1554 (fun H h => cI.obE h (by first | assumption | exact Or.inl (by assumption) | exact Or.inr (by first | assumption | exact upm_same _ _ _ | exact (upm_ne _ _ (by first | assumption | exact Ne.symm (by assumption) | omega | exact ne_mp (m := m) (by assumption) (by assumption) | exact Ne.symm (ne_mp (m := m) (by assumption) (by assumption)) | exact ne_mp (m := w) (by assumption) (by assumption) | exact Ne.symm (ne_mp (m := w) (by assumption) (by assumption)))).trans (by first | assumption | exact upm_same _ _ _ | exact (upm_ne _ _ (by first | assumption | exact Ne.symm (by assumption) | omega | exact ne_mp (m := m) (by assumption) (by assumption) | exact Ne.symm (ne_mp (m := m) (by assumption) (by assumption)) | exact ne_mp (m := w) (by assumption) (by assumption) | exact Ne.symm (ne_mp (m := w) (by assumption) (by assumption)))).trans (by first | assumption | exact upm_same _ _ _ | exact (upm_ne _ _ (by first | assumption | exact Ne.symm (by assumption) | omega | exact ne_mp (m := m) (by assumption) (by assumption) | exact Ne.symm (ne_mp (m := m) (by assumption) (by assumption)) | exact ne_mp (m := w) (by assumption) (by assumption) | exact Ne.symm (ne_mp (m := w) (by assumption) (by assumption)))).trans (by first | assumption | exact upm_same _ _ _))))) rfl) rfl ?_
          refine z_V (ci := ciJ18) (T := TJ18) (N := 1) (na := 0) hX dX1_decoded_65 (c_J18_intValue D A (fun H h => h) (Or.inl q2)) rfl q1555 q486 q487 q121 q488 (by decide +kernel) ⟨Nat.le_of_ble_eq_true rfl, Nat.le_of_ble_eq_true rfl⟩ rfl rfl (Nat.le_of_ble_eq_true rfl) rfl (by first | exact Nat.le_of_ble_eq_true rfl | (show _ + 0 ≤ 140; omega)) (by first | exact Nat.le_of_ble_eq_true rfl | (show _ + 0 ≤ 7000; omega)) (fun H h => ⟨h, h.obE (Or.inl q2) rfl⟩) (fun E a => zT.no) (zPd.out ?_)
          show zG X (_ + 0) (_ + 0) _ 68 _ _
          refine z_istore (q := 70) hX dX1_decoded_68 (Nat.le_of_ble_eq_true rfl) rfl rfl ?_
          refine z_iconst (q := 71) hX dX1_decoded_70 rfl ?_
          refine z_istore (q := 73) hX dX1_decoded_71 (Nat.le_of_ble_eq_true rfl) rfl rfl ?_
          exact zG.mono (K73 0 (Nat.zero_le _) _ _ _ _ 0 rfl (by omega) (by omega)) (fun H h => by rw [show pE T (i : Int) + ((0 : Nat) : Int) = pE T (i : Int) from Int.add_zero _, ← ed]; exact h)
      · have hiN : (i : Int) = nT T + 1 := by omega
        have ed : dcT T i = T := if_neg (by omega)
        rw [ed] at hkc hns ⊢
        have := hlnS.2.1
        refine z_iload (q := 43) hX dX1_decoded_41 rfl rfl ?_
        refine z_aload_n (i := 2) (q := 44) hX dX1_decoded_43 rfl rfl rfl ?_
        refine zr_getN (C := RX7) (T := TX7) (N := 3) (q := 47) hX ciX7 0 rfl (by decide) in_X7 dX1_decoded_44 (zNF_at 3 rfl) (fun H h => cI.rd h (by first | assumption | exact Or.inl (by assumption) | exact Or.inr (by first | assumption | exact upm_same _ _ _ | exact (upm_ne _ _ (by first | assumption | exact Ne.symm (by assumption) | omega | exact ne_mp (m := m) (by assumption) (by assumption) | exact Ne.symm (ne_mp (m := m) (by assumption) (by assumption)) | exact ne_mp (m := w) (by assumption) (by assumption) | exact Ne.symm (ne_mp (m := w) (by assumption) (by assumption)))).trans (by first | assumption | exact upm_same _ _ _ | exact (upm_ne _ _ (by first | assumption | exact Ne.symm (by assumption) | omega | exact ne_mp (m := m) (by assumption) (by assumption) | exact Ne.symm (ne_mp (m := m) (by assumption) (by assumption)) | exact ne_mp (m := w) (by assumption) (by assumption) | exact Ne.symm (ne_mp (m := w) (by assumption) (by assumption)))).trans (by first | assumption | exact upm_same _ _ _ | exact (upm_ne _ _ (by first | assumption | exact Ne.symm (by assumption) | omega | exact ne_mp (m := m) (by assumption) (by assumption) | exact Ne.symm (ne_mp (m := m) (by assumption) (by assumption)) | exact ne_mp (m := w) (by assumption) (by assumption) | exact Ne.symm (ne_mp (m := w) (by assumption) (by assumption)))).trans (by first | assumption | exact upm_same _ _ _))))) rfl (by decide) rfl) rfl ?_
        refine z_V (ci := ciJ2) (T := TJ2) (N := 3) (na := 0) hX dX1_decoded_47 (c_J2_size D A (Or.inl y2)) rfl q993 q467 q468 q101 q469 (by decide +kernel) ⟨Nat.le_of_ble_eq_true rfl, Nat.le_of_ble_eq_true rfl⟩ rfl rfl (Nat.le_of_ble_eq_true rfl) rfl (by first | exact Nat.le_of_ble_eq_true rfl | (show _ + 0 ≤ 140; omega)) (by first | exact Nat.le_of_ble_eq_true rfl | (show _ + 0 ≤ 7000; omega)) (fun H h => ⟨h, h.obL (Or.inl y2)⟩) (fun E a => zT.no) (zPd.out ?_)
        show zG X (_ + 0) (_ + 0) _ 50 _ _
        refine z_icmp_ge (q := 53) (t := 179) hX dX1_decoded_50 (by decide) ⟨by omega, by omega⟩ ⟨by omega, by omega⟩ rfl (fun h50 => ?_) (fun h50 => ?_)
        · refine z_aload (q := 181) hX dX1_decoded_179 rfl rfl ?_
          refine z_V (ci := ciJ20) (T := TJ20) (N := 4) (na := 0) hX dX1_decoded_181 (c_J20_toString D A (upm_same _ _ _) (by omega)) rfl q1577 q894 q895 q125 q896 (by decide +kernel) ⟨Nat.le_of_ble_eq_true rfl, Nat.le_of_ble_eq_true rfl⟩ rfl rfl (Nat.le_of_ble_eq_true rfl) rfl (by first | exact Nat.le_of_ble_eq_true rfl | (show _ + 2 ≤ 140; omega)) (by first | exact Nat.le_of_ble_eq_true rfl | (show _ + 100 ≤ 7000; omega)) (fun H h => ⟨h, h.obE (Or.inr (upm_same _ _ _)) rfl⟩) (fun E a => zT.no) (zPe.out (fun x181 hx181 => ?_))
          show zG X (_ + 2) (_ + 100) _ 184 _ _
          exact z_aret hX dX1_decoded_184 (by first | exact Nat.le_of_ble_eq_true rfl | (show (_ : Nat) ≤ 140; omega)) (by first | exact Nat.le_of_ble_eq_true rfl | (show (_ : Nat) ≤ 7000; omega)) rfl (by first | exact Or.inl ⟨_, rfl⟩ | exact Or.inr ⟨_, rfl⟩) (by first | exact Or.inl rfl | exact Or.inr ⟨_, rfl⟩) (fun H h => ⟨(x181.1, x181.2, upm m0 sb (eB T)), rfl, ⟨by rw [← hTx]; exact hx181.2, hx181.1, hf0.tr (zFr.up ((hK.fr hf0).no hsb)), hb0.le hx181.1 (hm0.tr (mLe.up hsb))⟩, h⟩)
        · exact absurd (by omega) h50
    intro i hi
    exact hup i (by omega)
  refine z_aload_n (i := 0) (q := 1) hX dX1_decoded_0 rfl rfl rfl ?_
  refine zr_get (C := RX1) (T := TX1) (N := 7) (q := 4) hX ciX1 0 rfl (by decide) in_X1 dX1_decoded_1 q224 (Or.inl rfl) (fun H h => cI.rd h (by first | assumption | exact Or.inl (by assumption) | exact Or.inr (by first | assumption | exact upm_same _ _ _ | exact (upm_ne _ _ (by first | assumption | exact Ne.symm (by assumption) | omega | exact ne_mp (m := m) (by assumption) (by assumption) | exact Ne.symm (ne_mp (m := m) (by assumption) (by assumption)) | exact ne_mp (m := w) (by assumption) (by assumption) | exact Ne.symm (ne_mp (m := w) (by assumption) (by assumption)))).trans (by first | assumption | exact upm_same _ _ _ | exact (upm_ne _ _ (by first | assumption | exact Ne.symm (by assumption) | omega | exact ne_mp (m := m) (by assumption) (by assumption) | exact Ne.symm (ne_mp (m := m) (by assumption) (by assumption)) | exact ne_mp (m := w) (by assumption) (by assumption) | exact Ne.symm (ne_mp (m := w) (by assumption) (by assumption)))).trans (by first | assumption | exact upm_same _ _ _ | exact (upm_ne _ _ (by first | assumption | exact Ne.symm (by assumption) | omega | exact ne_mp (m := m) (by assumption) (by assumption) | exact Ne.symm (ne_mp (m := m) (by assumption) (by assumption)) | exact ne_mp (m := w) (by assumption) (by assumption) | exact Ne.symm (ne_mp (m := w) (by assumption) (by assumption)))).trans (by first | assumption | exact upm_same _ _ _))))) rfl (by decide) rfl) rfl ?_
  refine zr_getN (C := RX2) (T := TX2) (N := 4) (q := 7) hX ciX2 1 rfl (by decide) in_X2 dX1_decoded_4 (zNF_at 0 rfl) (fun H h => cI.rd h (by first | assumption | exact Or.inl (by assumption) | exact Or.inr (by first | assumption | exact upm_same _ _ _ | exact (upm_ne _ _ (by first | assumption | exact Ne.symm (by assumption) | omega | exact ne_mp (m := m) (by assumption) (by assumption) | exact Ne.symm (ne_mp (m := m) (by assumption) (by assumption)) | exact ne_mp (m := w) (by assumption) (by assumption) | exact Ne.symm (ne_mp (m := w) (by assumption) (by assumption)))).trans (by first | assumption | exact upm_same _ _ _ | exact (upm_ne _ _ (by first | assumption | exact Ne.symm (by assumption) | omega | exact ne_mp (m := m) (by assumption) (by assumption) | exact Ne.symm (ne_mp (m := m) (by assumption) (by assumption)) | exact ne_mp (m := w) (by assumption) (by assumption) | exact Ne.symm (ne_mp (m := w) (by assumption) (by assumption)))).trans (by first | assumption | exact upm_same _ _ _ | exact (upm_ne _ _ (by first | assumption | exact Ne.symm (by assumption) | omega | exact ne_mp (m := m) (by assumption) (by assumption) | exact Ne.symm (ne_mp (m := m) (by assumption) (by assumption)) | exact ne_mp (m := w) (by assumption) (by assumption) | exact Ne.symm (ne_mp (m := w) (by assumption) (by assumption)))).trans (by first | assumption | exact upm_same _ _ _))))) rfl (by decide) rfl) rfl ?_
  refine z_aload_n (i := 0) (q := 8) hX dX1_decoded_7 rfl rfl rfl ?_
  refine zr_get (C := RX1) (T := TX1) (N := 7) (q := 11) hX ciX1 0 rfl (by decide) in_X1 dX1_decoded_8 q224 (Or.inl rfl) (fun H h => cI.rd h (Or.inr h1) rfl (by decide) rfl) rfl ?_
  refine z_iload_n (i := 1) (q := 12) hX dX1_decoded_11 rfl rfl rfl ?_
  refine z_V (ci := ciX2) (T := TX2) (N := 4) (na := 1) hX dX1_decoded_12 (c_X2_templateOf D A hg hl) rfl q1549 q1173 q1174 q98 q1175 (by decide +kernel) ⟨Nat.le_of_ble_eq_true rfl, Nat.le_of_ble_eq_true rfl⟩ rfl rfl (Nat.le_of_ble_eq_true rfl) rfl (by first | exact Nat.le_of_ble_eq_true rfl | (show _ + 0 ≤ 140; omega)) (by first | exact Nat.le_of_ble_eq_true rfl | (show _ + 0 ≤ 7000; omega)) (fun H h => ⟨h, h.obE (Or.inl g1) rfl⟩) (fun E a => zT.no) (zPd.out ?_)
  show zG X (_ + 0) (_ + 0) _ 15 _ _
  refine zr_aald (q := 16) hX 7 rfl dX1_decoded_15 (fun H h => (cI.at h (by first | assumption | exact Or.inl (by assumption) | exact Or.inr (by first | assumption | exact upm_same _ _ _ | exact (upm_ne _ _ (by first | assumption | exact Ne.symm (by assumption) | omega | exact ne_mp (m := m) (by assumption) (by assumption) | exact Ne.symm (ne_mp (m := m) (by assumption) (by assumption)) | exact ne_mp (m := w) (by assumption) (by assumption) | exact Ne.symm (ne_mp (m := w) (by assumption) (by assumption)))).trans (by first | assumption | exact upm_same _ _ _ | exact (upm_ne _ _ (by first | assumption | exact Ne.symm (by assumption) | omega | exact ne_mp (m := m) (by assumption) (by assumption) | exact Ne.symm (ne_mp (m := m) (by assumption) (by assumption)) | exact ne_mp (m := w) (by assumption) (by assumption) | exact Ne.symm (ne_mp (m := w) (by assumption) (by assumption)))).trans (by first | assumption | exact upm_same _ _ _ | exact (upm_ne _ _ (by first | assumption | exact Ne.symm (by assumption) | omega | exact ne_mp (m := m) (by assumption) (by assumption) | exact Ne.symm (ne_mp (m := m) (by assumption) (by assumption)) | exact ne_mp (m := w) (by assumption) (by assumption) | exact Ne.symm (ne_mp (m := w) (by assumption) (by assumption)))).trans (by first | assumption | exact upm_same _ _ _)))))).raQ) ⟨by omega, by omega⟩ (by first | decide | omega) rfl ?_
  refine zG.top (v2 := .ref x) (by show va_rf (tf (M (43 + l)).toNat) = _; rw [e1]; rfl) ?_
  refine z_astore_n (i := 2) (q := 17) hX dX1_decoded_16 rfl (Nat.le_of_ble_eq_true rfl) rfl rfl ?_
  refine z_aload_n (i := 2) (q := 18) hX dX1_decoded_17 rfl rfl rfl ?_
  refine zr_getN (C := RX7) (T := TX7) (N := 3) (q := 21) hX ciX7 2 rfl (by decide) in_X7 dX1_decoded_18 (zNF_at 2 rfl) (fun H h => cI.rd h (by first | assumption | exact Or.inl (by assumption) | exact Or.inr (by first | assumption | exact upm_same _ _ _ | exact (upm_ne _ _ (by first | assumption | exact Ne.symm (by assumption) | omega | exact ne_mp (m := m) (by assumption) (by assumption) | exact Ne.symm (ne_mp (m := m) (by assumption) (by assumption)) | exact ne_mp (m := w) (by assumption) (by assumption) | exact Ne.symm (ne_mp (m := w) (by assumption) (by assumption)))).trans (by first | assumption | exact upm_same _ _ _ | exact (upm_ne _ _ (by first | assumption | exact Ne.symm (by assumption) | omega | exact ne_mp (m := m) (by assumption) (by assumption) | exact Ne.symm (ne_mp (m := m) (by assumption) (by assumption)) | exact ne_mp (m := w) (by assumption) (by assumption) | exact Ne.symm (ne_mp (m := w) (by assumption) (by assumption)))).trans (by first | assumption | exact upm_same _ _ _ | exact (upm_ne _ _ (by first | assumption | exact Ne.symm (by assumption) | omega | exact ne_mp (m := m) (by assumption) (by assumption) | exact Ne.symm (ne_mp (m := m) (by assumption) (by assumption)) | exact ne_mp (m := w) (by assumption) (by assumption) | exact Ne.symm (ne_mp (m := w) (by assumption) (by assumption)))).trans (by first | assumption | exact upm_same _ _ _))))) rfl (by decide) rfl) rfl ?_
  refine z_iload_n (i := 1) (q := 22) hX dX1_decoded_21 rfl rfl rfl ?_
  refine z_S (na := 1) hX dX1_decoded_22 (c_J18_valueOf D A (by omega)) q1550 q1177 q121 q1178 (by decide +kernel) ⟨Nat.le_of_ble_eq_true rfl, Nat.le_of_ble_eq_true rfl⟩ rfl rfl (Nat.le_of_ble_eq_true rfl) rfl (by first | exact Nat.le_of_ble_eq_true rfl | (show _ + 0 ≤ 140; omega)) (by first | exact Nat.le_of_ble_eq_true rfl | (show _ + 0 ≤ 7000; omega)) (fun H h => h) (fun E a => zT.no) (zPd.out ?_)
  show zG X (_ + 0) (_ + 0) _ 25 _ _
  refine z_V (ci := ciJ2) (T := TJ2) (N := 3) (na := 1) hX dX1_decoded_25 (c_J2_indexOf D A y6 (by omega) y7 hiv ⟨by omega, by omega⟩) rfl q1551 q1201 q1202 q101 q1203 (by decide +kernel) ⟨Nat.le_of_ble_eq_true rfl, Nat.le_of_ble_eq_true rfl⟩ rfl rfl (Nat.le_of_ble_eq_true rfl) rfl (by first | exact Nat.le_of_ble_eq_true rfl | (show _ + 0 ≤ 140; omega)) (by first | exact Nat.le_of_ble_eq_true rfl | (show _ + 0 ≤ 7000; omega)) (fun H h => ⟨h, h.obL (Or.inl y6)⟩) (fun E a => zT.no) (zPe.out (fun x25 hx25 => ?_))
  show zG X (_ + 0) (_ + 0) _ 28 _ _
  refine z_istore_n (i := 3) (q := 29) hX dX1_decoded_28 rfl (Nat.le_of_ble_eq_true rfl) rfl rfl ?_
  refine zc_new (q := 32) (fs := [.null, zI 0, zI 0, zI 0]) (C := RJ20) (T := TJ20) (N := 4) hX ciJ20 rfl in_J20 tyJ20_ok dX1_decoded_29 q1552 q750 q125 (fun j hj => by match j, hj with | 0, _ => rfl | 1, _ => rfl | 2, _ => rfl | 3, _ => rfl | (_ + 4), h => exact absurd h (by omega)) (by first | exact Nat.le_of_ble_eq_true rfl | (show _ + 1 ≤ 140; omega)) (by first | exact Nat.le_of_ble_eq_true rfl | (show _ + 4 ≤ 7000; omega)) rfl (fun a29 ha29 hb29 => ?_)
  have n29 := hb29
  try simp only [upm_none] at n29
  repeat (have := And.left n29; replace n29 := And.right n29)
  refine z_dup (q := 33) hX dX1_decoded_32 rfl rfl ?_
  refine z_C (na := 0) hX dX1_decoded_33 (c_J20_init D A (upm_same _ _ _)) q1553 q752 q125 q753 rfl (by decide +kernel) ⟨Nat.le_of_ble_eq_true rfl, Nat.le_of_ble_eq_true rfl⟩ rfl rfl (Nat.le_of_ble_eq_true rfl) rfl (by first | exact Nat.le_of_ble_eq_true rfl | (show _ + 1 ≤ 140; omega)) (by first | exact Nat.le_of_ble_eq_true rfl | (show _ + 16 ≤ 7000; omega)) (fun H h => h) (fun E a => zT.no) (zPv.out ?_)
  show zG X (_ + 1) (_ + 16) _ 36 _ _
  rw [upm_upm]
  have hrx := ixP_row hl hx25
  refine z_astore (q := 38) hX dX1_decoded_36 (Nat.le_of_ble_eq_true rfl) rfl rfl ?_
  refine z_iconst (q := 39) hX dX1_decoded_38 rfl ?_
  refine z_istore (q := 41) hX dX1_decoded_39 (Nat.le_of_ble_eq_true rfl) rfl rfl ?_
  exact zG.mono (K41 a29 x25 hrx.2.1 hrx.2.2 0 (by omega) _ _ m 0 _ _ _ _ mLe.rf zFr.rf hb29 (by omega) (by omega) rfl) (fun H h => by rw [dcT_0]; exact h)
