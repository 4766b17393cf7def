/-! THE CLASS: Log.cut -/
set_option maxRecDepth 100000
/-- the row with l lines alone -/
def cutM (M : Int → Int) (l : Int) : Int → Int := fun i => if i = 0 then l else M i
theorem cutM_ne {M : Int → Int} {l i : Int} (h : i ≠ 0) : cutM M l i = M i := if_neg h
theorem cutM_0 {M : Int → Int} {l : Int} : cutM M l 0 = l := if_pos rfl
theorem cutM_tx {M : Int → Int} {l k : Int} (hk : 0 ≤ k) : tx (cutM M l) k = tx M k := by
  unfold tx
  rw [cutM_ne (by omega)]
  refine List.map_congr_left (fun i hi => ?_)
  rw [cutM_ne (by omega)]
theorem rF_filter {p : Int → Bool} {l n : Nat} (h : l ≤ n) : rF p l = (rF p n).filter (fun q => decide (q < (l : Int))) := by
  refine asc_eq (rF_asc _ _) ((rF_asc _ _).filter _) (fun z => ?_)
  rw [rF_mem, List.mem_filter, rF_mem, decide_eq_true_iff]
  constructor
  · rintro ⟨h1, h2, h3⟩
    exact ⟨⟨h1, by omega, h3⟩, h2⟩
  · rintro ⟨⟨h1, h2, h3⟩, h4⟩
    exact ⟨h1, h4, h3⟩
theorem cutM_rws {M : Int → Int} {l t : Int} (h0 : 0 ≤ l) (h1 : l ≤ M 0) : rws (cutM M l) t = (rws M t).filter (fun q => decide (q < l)) := by
  have e : rws (cutM M l) t = rF (ofP M t) l.toNat := by
    unfold rws
    rw [cutM_0]
    refine rF_congr (fun i hi => ?_)
    unfold ofP
    rw [cutM_ne (by omega)]
  rw [e, rF_filter (n := (M 0).toNat) (by omega)]
  unfold rws
  rw [show ((l.toNat : Nat) : Int) = l by omega]
theorem cutM_isT {M : Int → Int} {l t : Int} (ht : 0 ≤ t ∧ t ≤ 11) : isT (cutM M l) t = !(rws (cutM M l) t).isEmpty := by
  cases q : rws (cutM M l) t with
  | nil =>
    cases q2 : isT (cutM M l) t with
    | false => rfl
    | true =>
      have := isT_fst q2
      rw [q] at this
      cases this
  | cons r rs => exact isT_mem ht (r := r) (by rw [q]; exact List.mem_cons_self)
theorem cutM_fst {M : Int → Int} {l t : Int} (h0 : 0 ≤ l) (h1 : l ≤ M 0) (hT : isT (cutM M l) t = true) : fst (cutM M l) t = fst M t := by
  have ha : isT (cutM M l) t = true := hT
  have hf := isT_fst hT
  have e := cutM_rws (t := t) h0 h1
  have hmem := hf
  rw [e, List.mem_filter] at hmem
  have hne : (rws M t) ≠ [] := fun q => by rw [q] at hmem; cases hmem.1
  obtain ⟨r, rs, hr⟩ : ∃ r rs, rws M t = r :: rs := by
    cases q : rws M t with
    | nil => exact absurd q hne
    | cons r rs => exact ⟨r, rs, rfl⟩
  have hasc : asc (rws M t) := rF_asc _ _
  rw [hr] at hasc
  have hmin := (List.pairwise_cons.mp hasc).1
  have hrl : r < l := by
    have h2 := hmem.1
    rw [hr] at h2
    have h3 := of_decide_eq_true hmem.2
    rcases List.mem_cons.mp h2 with q | q
    · omega
    · have := hmin _ q; omega
  have e2 : rws (cutM M l) t = r :: rs.filter (fun q => decide (q < l)) := by
    rw [e, hr, List.filter_cons, if_pos (decide_eq_true hrl)]
  unfold fst lnO
  rw [e2, hr]
  rfl
theorem wTm.le {w w2 : zMp} {x : Nat} {M : Int → Int} {t : Int} (h : wTm w x M t) (hl : zLe w w2) : wTm w2 x M t := wTpl.le h hl
theorem cutM_tm {w : zMp} {x : Nat} {M : Int → Int} {l t : Int} (h0 : 0 ≤ l) (h1 : l ≤ M 0) (ht : 0 ≤ t ∧ t ≤ 11) (hT : isT (cutM M l) t = true) (h : wTpl w x (gapsL (tx M (fst M t))) (nTl M (fst M t)).toNat (fun k => slt M t k) (fun k => tkl M (fst M t) k) ((rws M t).filter (fun q => decide (q < l)))) : wTm w x (cutM M l) t := by
  have hf := cutM_fst h0 h1 hT
  have hf0 : 0 ≤ fst M t := by
    have := isT_fst hT
    rw [hf] at this
    exact (rws_mem.mp this).1
  have htx : tx (cutM M l) (fst M t) = tx M (fst M t) := cutM_tx hf0
  unfold wTm
  rw [hf, htx, cutM_rws h0 h1]
  have e1 : nTl (cutM M l) (fst M t) = nTl M (fst M t) := by unfold nTl; rw [htx]
  rw [e1]
  refine h.congr rfl (fun k hk => ?_) (fun k hk => ?_) rfl
  · unfold slt
    rw [cutM_ne (by omega)]
  · unfold tkl
    rw [htx]
theorem wLines.take {w : zMp} {ls : List Nat} {N n : Nat} {T : Int → zS} (h : wLines w ls N T) (hn : n ≤ N) : wLines w (ls.take n) n T := by
  refine ⟨by rw [List.length_take, h.1]; omega, fun k hk => ?_⟩
  obtain ⟨x, h1, h2⟩ := h.2 k (by omega)
  exact ⟨x, by rw [List.getElem?_take_of_lt hk]; exact h1, h2⟩
abbrev rmX2_cut : Room := { frames := 8, cells := 1300, slots := 50000, locals := 195 }
set_option maxHeartbeats 4000000 in
theorem c_X2_cut (D : zD) (A : Nat → Prop) {w m : zMp} {b : Nat} {M : Int → Int} {mR : zMp} {ll ta col l : Nat} {mc : Int} {ls : List Nat} {tf : Nat → Option Nat} (hm : m = logM D mR b ll ta col (M 1) mc ls tf) (hd : lgD b ll ta) (hok : zOk M) (hls : wLines w ls (M 0).toNat (tx M)) (hts : wTs w tf M) (hl : (l : Int) < M 0) : zC D yX2_cut cX2_cut 5 (some .int) none rmX2_cut A [.ref b, zI ((l : Int))] (cI D A w m) (zPe (fun (z : zMp × Int × (Nat → Option Nat)) => some (zI (M 0 - l))) (fun z => zLe w z.1 ∧ wTs z.1 z.2.2 (cutM M l)) (fun z => cI D A z.1 (logM D mR b ll ta col (M 1) z.2.1 (ls.take l) z.2.2))) (zNo) := by
  refine zC_start (L := [some (.ref b), some (zI ((l : Int))), none, none, none]) (by decide) (Nat.le_of_ble_eq_true rfl) rfl (fun X hX => ?_)
  subst hm
  have hM := hok.1
  have l1 := hls.1
  have K46 : ∀ (mc2 : Int) (v2 : Int), v2 = M 0 - l → ∀ i : Nat, i ≤ 12 → ∀ (kc ns : Nat) (w1 : zMp) (tf2 : Nat → Option Nat) (p : Int) (v4 : Option Value), kc ≤ 100 * i → ns ≤ 4000 * i → zLe w w1 → (∀ t : Nat, t < i → (isT (cutM M l) t = false ∧ tf2 t = none) ∨ (isT (cutM M l) t = true ∧ ∃ x, tf2 t = some x ∧ wTm w1 x (cutM M l) t)) → (∀ t : Nat, i ≤ t → tf2 t = tf t) → p = i → zG X kc ns (cI D A w1 (logM D mR b ll ta col (M 1) mc2 (ls.take l) tf2)) 46 [some (.ref b), some (zI (l : Int)), some (zI v2), some (zI p), v4] [] := by
    intro mc2 v2 hv2
    refine z_up (fun i hi ih kc ns w1 tf2 p v4 hkc hns hle hdone hrest ep => ?_)
    subst ep
    by_cases hin : i < 12
    · have hcr := cutM_rws (M := M) (t := (i : Int)) (l := (l : Int)) (by omega) (by omega)
      have hci := cutM_isT (M := M) (l := (l : Int)) (t := (i : Int)) ⟨by omega, by omega⟩
      rcases hts i hin with ⟨q1, q2⟩ | ⟨q1, x, q2, q3⟩
      · have q2 : tf2 i = none := by rw [hrest i (Nat.le_refl _)]; exact q2
        have he : isT (cutM M l) i = false := by
          cases q : isT (cutM M l) i with
          | false => rfl
          | true =>
            have h9 := isT_fst q
            rw [hcr, List.mem_filter] at h9
            rw [isT_mem ⟨by omega, by omega⟩ h9.1] at q1
            cases q1
        refine z_iload_n (i := 3) (q := 47) hX dX2_cut_46 rfl rfl rfl ?_
        refine z_bipush (q := 49) hX dX2_cut_47 (by decide) rfl ?_
        refine z_icmp_ge (q := 52) (t := 102) hX dX2_cut_49 (by decide) ⟨by omega, by omega⟩ (by decide) rfl (fun h49 => ?_) (fun h49 => ?_)
        · exact absurd h49 (by omega)
        · refine z_aload_n (i := 0) (q := 53) hX dX2_cut_52 rfl rfl rfl ?_
          refine zr_get (C := RX2) (T := TX2) (N := 4) (q := 56) hX ciX2 1 rfl (by decide) in_X2 dX2_cut_53 q207 (Or.inl rfl) (fun H h => cI.rd h (Or.inr logM_b) rfl (by decide) rfl) rfl ?_
          refine z_iload_n (i := 3) (q := 57) hX dX2_cut_56 rfl rfl rfl ?_
          refine zr_aald (q := 58) hX 7 rfl dX2_cut_57 (fun H h => (h.at (Or.inr (logM_ta hd))).raQ) ⟨by omega, by omega⟩ (by first | decide | omega) rfl ?_
          refine zG.top (v2 := .null) (by show va_rf (tf2 ((i : Int)).toNat) = _; rw [Int.toNat_natCast, q2]; rfl) ?_
          refine z_ifnullN (t := 96) hX dX2_cut_58 (by decide) ?_
          refine z_iinc (q := 99) hX dX2_cut_96 rfl (Nat.le_of_ble_eq_true rfl) rfl rfl ?_
          refine z_goto (t := 46) hX dX2_cut_99 (by decide) ?_
          refine ih hin _ _ w1 tf2 _ _ (by omega) (by omega) hle (fun t ht => ?_) (fun t ht => hrest t (by omega)) rfl
          by_cases e : t = i
          · subst e
            exact Or.inl ⟨he, q2⟩
          · exact hdone t (by omega)
      · have q2 : tf2 i = some x := by rw [hrest i (Nat.le_refl _)]; exact q2
        have q3 := q3.le hle
        obtain ⟨gl, sl, rl, q4⟩ := q3.it
        refine z_iload_n (i := 3) (q := 47) hX dX2_cut_46 rfl rfl rfl ?_
        refine z_bipush (q := 49) hX dX2_cut_47 (by decide) rfl ?_
        refine z_icmp_ge (q := 52) (t := 102) hX dX2_cut_49 (by decide) ⟨by omega, by omega⟩ (by decide) rfl (fun h49 => ?_) (fun h49 => ?_)
        · exact absurd h49 (by omega)
        · refine z_aload_n (i := 0) (q := 53) hX dX2_cut_52 rfl rfl rfl ?_
          refine zr_get (C := RX2) (T := TX2) (N := 4) (q := 56) hX ciX2 1 rfl (by decide) in_X2 dX2_cut_53 q207 (Or.inl rfl) (fun H h => cI.rd h (Or.inr logM_b) rfl (by decide) rfl) rfl ?_
          refine z_iload_n (i := 3) (q := 57) hX dX2_cut_56 rfl rfl rfl ?_
          refine zr_aald (q := 58) hX 7 rfl dX2_cut_57 (fun H h => (h.at (Or.inr (logM_ta hd))).raQ) ⟨by omega, by omega⟩ (by first | decide | omega) rfl ?_
          refine zG.top (v2 := .ref x) (by show va_rf (tf2 ((i : Int)).toNat) = _; rw [Int.toNat_natCast, q2]; rfl) ?_
          refine z_ifnull (q := 61) hX dX2_cut_58 rfl ?_
          refine z_aload_n (i := 0) (q := 62) hX dX2_cut_61 rfl rfl rfl ?_
          refine zr_get (C := RX2) (T := TX2) (N := 4) (q := 65) hX ciX2 1 rfl (by decide) in_X2 dX2_cut_62 q207 (Or.inl rfl) (fun H h => cI.rd h (Or.inr logM_b) rfl (by decide) rfl) rfl ?_
          refine z_iload_n (i := 3) (q := 66) hX dX2_cut_65 rfl rfl rfl ?_
          refine zr_aald (q := 67) hX 7 rfl dX2_cut_66 (fun H h => (h.at (Or.inr (logM_ta hd))).raQ) ⟨by omega, by omega⟩ (by first | decide | omega) rfl ?_
          refine zG.top (v2 := .ref x) (by show va_rf (tf2 ((i : Int)).toNat) = _; rw [Int.toNat_natCast, q2]; rfl) ?_
          refine z_iload_n (i := 1) (q := 68) hX dX2_cut_67 rfl rfl rfl ?_
          refine z_V (ci := ciX7) (T := TX7) (N := 3) (na := 1) hX dX2_cut_68 (c_X7_before D A q3 ⟨by omega, by omega⟩) rfl q1603 q1604 q1605 q127 q1606 (by decide +kernel) ⟨Nat.le_of_ble_eq_true rfl, Nat.le_of_ble_eq_true rfl⟩ rfl rfl (Nat.le_of_ble_eq_true rfl) rfl (by first | exact Nat.le_of_ble_eq_true rfl | (show _ + 100 ≤ 1300; omega)) (by first | exact Nat.le_of_ble_eq_true rfl | (show _ + 4000 ≤ 50000; omega)) (fun H h => ⟨h, h.obE (Or.inl q4) rfl⟩) (fun E a => zT.no) (zPe.out (fun x68 hx68 => ?_))
          show zG X (_ + 100) (_ + 4000) _ 71 _ _
          obtain ⟨j1, j2⟩ := hx68
          have j20 := j2
          obtain ⟨⟨k1, k2, k3⟩, gl2, sl2, rl2, mc4, mc3, mc5, gs, ss, rs, y1, y2, y3, y4, y5, y6, y7⟩ := j2
          have l7 := y7.1
          refine z_astore (q := 73) hX dX2_cut_71 (Nat.le_of_ble_eq_true rfl) rfl rfl ?_
          refine z_aload_n (i := 0) (q := 74) hX dX2_cut_73 rfl rfl rfl ?_
          refine zr_get (C := RX2) (T := TX2) (N := 4) (q := 77) hX ciX2 1 rfl (by decide) in_X2 dX2_cut_74 q207 (Or.inl rfl) (fun H h => cI.rd h (Or.inr logM_b) rfl (by decide) rfl) rfl ?_
          refine z_iload_n (i := 3) (q := 78) hX dX2_cut_77 rfl rfl rfl ?_
          refine z_aload (q := 80) hX dX2_cut_78 rfl rfl ?_
          refine zr_getN (C := RX7) (T := TX7) (N := 3) (q := 83) hX ciX7 2 rfl (by decide) in_X7 dX2_cut_80 (zNF_at 26 rfl) (fun H h => cI.rd h (by first | assumption | exact Or.inl (by assumption) | exact Or.inr (by first | assumption | exact upm_same _ _ _ | exact (upm_ne _ _ (by first | assumption | exact Ne.symm (by assumption) | omega | exact ne_mp (m := m) (by assumption) (by assumption) | exact Ne.symm (ne_mp (m := m) (by assumption) (by assumption)) | exact ne_mp (m := w) (by assumption) (by assumption) | exact Ne.symm (ne_mp (m := w) (by assumption) (by assumption)))).trans (by first | assumption | exact upm_same _ _ _ | exact (upm_ne _ _ (by first | assumption | exact Ne.symm (by assumption) | omega | exact ne_mp (m := m) (by assumption) (by assumption) | exact Ne.symm (ne_mp (m := m) (by assumption) (by assumption)) | exact ne_mp (m := w) (by assumption) (by assumption) | exact Ne.symm (ne_mp (m := w) (by assumption) (by assumption)))).trans (by first | assumption | exact upm_same _ _ _ | exact (upm_ne _ _ (by first | assumption | exact Ne.symm (by assumption) | omega | exact ne_mp (m := m) (by assumption) (by assumption) | exact Ne.symm (ne_mp (m := m) (by assumption) (by assumption)) | exact ne_mp (m := w) (by assumption) (by assumption) | exact Ne.symm (ne_mp (m := w) (by assumption) (by assumption)))).trans (by first | assumption | exact upm_same _ _ _))))) rfl (by decide) rfl) rfl ?_
          refine z_V (ci := ciJ2) (T := TJ2) (N := 3) (na := 0) hX dX2_cut_83 (c_J2_isEmpty D A (Or.inl y6) (by omega)) rfl q1607 q1608 q1609 q101 q1610 (by decide +kernel) ⟨Nat.le_of_ble_eq_true rfl, Nat.le_of_ble_eq_true rfl⟩ rfl rfl (Nat.le_of_ble_eq_true rfl) rfl (by first | exact Nat.le_of_ble_eq_true rfl | (show _ + 0 ≤ 1300; omega)) (by first | exact Nat.le_of_ble_eq_true rfl | (show _ + 0 ≤ 50000; omega)) (fun H h => ⟨h, h.obL (Or.inl y6)⟩) (fun E a => zT.no) (zPd.out ?_)
          show zG X (_ + 0) (_ + 0) _ 86 _ _
          refine z_ifB_eq (q := 89) (t := 93) hX dX2_cut_86 (by decide) rfl (fun h86 => ?_) (fun h86 => ?_)
          · refine z_aload (q := 95) hX dX2_cut_93 rfl rfl ?_
            refine zc_aast (q := 96) hX 7 ciX7 rfl dX2_cut_95 (logM_ta hd) (fun H h => h.obE (Or.inl y1) rfl) (by decide +kernel) ⟨by omega, by omega⟩ (by first | decide | omega) rfl ?_
            rw [logM_setT hd]
            refine z_iinc (q := 99) hX dX2_cut_96 rfl (Nat.le_of_ble_eq_true rfl) rfl rfl ?_
            refine z_goto (t := 46) hX dX2_cut_99 (by decide) ?_
            have hne : (rws (cutM M l) (i : Int)).isEmpty = false := by
              rw [hcr]
              cases q : (rws M (i : Int)).filter (fun q => decide (q < (l : Int))) with
              | nil =>
                rw [q] at l7
                rw [List.length_eq_zero_iff.mp l7] at h86
                cases h86
              | cons _ _ => rfl
            have hT : isT (cutM M l) (i : Int) = true := by rw [hci, hne]; rfl
            refine ih hin _ _ x68.2 _ _ _ (by omega) (by omega) (hle.tr j1) (fun t ht => ?_) (fun t ht => ?_) rfl
            · by_cases e : t = i
              · subst e
                exact Or.inr ⟨hT, x68.1, by simp [va_up], cutM_tm (by omega) (by omega) ⟨by omega, by omega⟩ hT j20⟩
              · rcases hdone t (by omega) with ⟨g1, g2⟩ | ⟨g1, x9, g2, g3⟩
                · exact Or.inl ⟨g1, by simp [va_up, e, g2]⟩
                · exact Or.inr ⟨g1, x9, by simp [va_up, e, g2], g3.le j1⟩
            · have : t ≠ i := by omega
              simp [va_up, this, hrest t (by omega)]
          · refine z_null (q := 90) hX dX2_cut_89 rfl ?_
            refine z_goto (t := 95) hX dX2_cut_90 (by decide) ?_
            refine zc_aastN (q := 96) hX 7 rfl dX2_cut_95 (logM_ta hd) ⟨by omega, by omega⟩ (by first | decide | omega) rfl ?_
            rw [logM_setT hd]
            refine z_iinc (q := 99) hX dX2_cut_96 rfl (Nat.le_of_ble_eq_true rfl) rfl rfl ?_
            refine z_goto (t := 46) hX dX2_cut_99 (by decide) ?_
            have hne : (rws (cutM M l) (i : Int)).isEmpty = true := by
              rw [hcr]
              cases q : (rws M (i : Int)).filter (fun q => decide (q < (l : Int))) with
              | nil => rfl
              | cons r rs9 =>
                rw [q] at l7
                cases rs with
                | nil => cases l7
                | cons _ _ => cases h86
            have hT : isT (cutM M l) (i : Int) = false := by rw [hci, hne]; rfl
            refine ih hin _ _ x68.2 _ _ _ (by omega) (by omega) (hle.tr j1) (fun t ht => ?_) (fun t ht => ?_) rfl
            · by_cases e : t = i
              · subst e
                exact Or.inl ⟨hT, by simp [va_up]⟩
              · rcases hdone t (by omega) with ⟨g1, g2⟩ | ⟨g1, x9, g2, g3⟩
                · exact Or.inl ⟨g1, by simp [va_up, e, g2]⟩
                · exact Or.inr ⟨g1, x9, by simp [va_up, e, g2], g3.le j1⟩
            · have : t ≠ i := by omega
              simp [va_up, this, hrest t (by omega)]
    · have hiN : i = 12 := by omega
      subst hiN
      refine z_iload_n (i := 3) (q := 47) hX dX2_cut_46 rfl rfl rfl ?_
      refine z_bipush (q := 49) hX dX2_cut_47 (by decide) rfl ?_
      refine z_icmp_ge (q := 52) (t := 102) hX dX2_cut_49 (by decide) (by decide) (by decide) rfl (fun h49 => ?_) (fun h49 => ?_)
      · refine z_iload_n (i := 2) (q := 103) hX dX2_cut_102 rfl rfl rfl ?_
        exact z_iret hX dX2_cut_103 (by first | exact Nat.le_of_ble_eq_true rfl | (show (_ : Nat) ≤ 1300; omega)) (by first | exact Nat.le_of_ble_eq_true rfl | (show (_ : Nat) ≤ 50000; omega)) rfl (fun H h => ⟨(w1, mc2, tf2), by rw [hv2], ⟨hle, fun t ht => hdone t ht⟩, h⟩)
      · exact absurd (by decide) h49
  have K10 : ∀ d : Nat, ∀ (mc2 : Int) (v3 v4 : Option Value), l + d ≤ (M 0).toNat → zG X 0 0 (cI D A w (logM D mR b ll ta col (M 1) mc2 (ls.take (l + d)) tf)) 10 [some (.ref b), some (zI (l : Int)), some (zI (M 0 - l)), v3, v4] [] := by
    intro d
    induction d with
    | zero =>
      intro mc2 v3 v4 hdl
      have hlen : (ls.take (l + 0)).length = l := by rw [List.length_take]; omega
      refine z_aload_n (i := 0) (q := 11) hX dX2_cut_10 rfl rfl rfl ?_
      refine zr_get (C := RX2) (T := TX2) (N := 4) (q := 14) hX ciX2 0 rfl (by decide) in_X2 dX2_cut_11 q203 (Or.inl rfl) (fun H h => cI.rd h (Or.inr logM_b) rfl (by decide) rfl) rfl ?_
      refine z_V (ci := ciJ2) (T := TJ2) (N := 3) (na := 0) hX dX2_cut_14 (c_J2_size D A (Or.inr (logM_ll hd))) rfl q547 q467 q468 q101 q469 (by decide +kernel) ⟨Nat.le_of_ble_eq_true rfl, Nat.le_of_ble_eq_true rfl⟩ rfl rfl (Nat.le_of_ble_eq_true rfl) rfl (by first | exact Nat.le_of_ble_eq_true rfl | (show _ + 0 ≤ 1300; omega)) (by first | exact Nat.le_of_ble_eq_true rfl | (show _ + 0 ≤ 50000; omega)) (fun H h => ⟨h, h.obL (Or.inr (logM_ll hd))⟩) (fun E a => zT.no) (zPd.out ?_)
      show zG X (_ + 0) (_ + 0) _ 17 _ _
      rw [hlen]
      refine z_iload_n (i := 1) (q := 18) hX dX2_cut_17 rfl rfl rfl ?_
      refine z_icmp_le (q := 21) (t := 44) hX dX2_cut_18 (by decide) ⟨by omega, by omega⟩ ⟨by omega, by omega⟩ rfl (fun h18 => ?_) (fun h18 => ?_)
      · refine z_iconst (q := 45) hX dX2_cut_44 rfl ?_
        refine z_istore_n (i := 3) (q := 46) hX dX2_cut_45 rfl (Nat.le_of_ble_eq_true rfl) rfl rfl ?_
        exact K46 mc2 _ rfl 0 (Nat.zero_le _) _ _ w tf 0 _ (Nat.zero_le _) (Nat.zero_le _) zLe.rf (fun t ht => absurd ht (Nat.not_lt_zero t)) (fun t _ => rfl) rfl
      · exact absurd (Int.le_refl _) h18
    | succ d ih =>
      intro mc2 v3 v4 hdl
      have hlen : (ls.take (l + (d + 1))).length = l + d + 1 := by rw [List.length_take]; omega
      obtain ⟨x, q1, q2⟩ := hls.2 (l + d) (by omega)
      obtain ⟨fs, q3⟩ := q2.it
      have q4 : (ls.take (l + (d + 1)))[l + d]? = some x := by rw [List.getElem?_take_of_lt (by omega)]; exact q1
      have q5 : (ls.take (l + (d + 1))).eraseIdx (l + d) = ls.take (l + d) := by
        rw [List.eraseIdx_eq_take_drop_succ, List.take_take, Nat.min_eq_left (by omega), List.drop_eq_nil_of_le (by rw [hlen]; omega), List.append_nil]
      refine z_aload_n (i := 0) (q := 11) hX dX2_cut_10 rfl rfl rfl ?_
      refine zr_get (C := RX2) (T := TX2) (N := 4) (q := 14) hX ciX2 0 rfl (by decide) in_X2 dX2_cut_11 q203 (Or.inl rfl) (fun H h => cI.rd h (Or.inr logM_b) rfl (by decide) rfl) rfl ?_
      refine z_V (ci := ciJ2) (T := TJ2) (N := 3) (na := 0) hX dX2_cut_14 (c_J2_size D A (Or.inr (logM_ll hd))) rfl q547 q467 q468 q101 q469 (by decide +kernel) ⟨Nat.le_of_ble_eq_true rfl, Nat.le_of_ble_eq_true rfl⟩ rfl rfl (Nat.le_of_ble_eq_true rfl) rfl (by first | exact Nat.le_of_ble_eq_true rfl | (show _ + 0 ≤ 1300; omega)) (by first | exact Nat.le_of_ble_eq_true rfl | (show _ + 0 ≤ 50000; omega)) (fun H h => ⟨h, h.obL (Or.inr (logM_ll hd))⟩) (fun E a => zT.no) (zPd.out ?_)
      show zG X (_ + 0) (_ + 0) _ 17 _ _
      rw [hlen]
      refine z_iload_n (i := 1) (q := 18) hX dX2_cut_17 rfl rfl rfl ?_
      refine z_icmp_le (q := 21) (t := 44) hX dX2_cut_18 (by decide) ⟨by omega, by omega⟩ ⟨by omega, by omega⟩ rfl (fun h18 => ?_) (fun h18 => ?_)
      · exact absurd h18 (by omega)
      · refine z_aload_n (i := 0) (q := 22) hX dX2_cut_21 rfl rfl rfl ?_
        refine zr_get (C := RX2) (T := TX2) (N := 4) (q := 25) hX ciX2 0 rfl (by decide) in_X2 dX2_cut_22 q203 (Or.inl rfl) (fun H h => cI.rd h (Or.inr logM_b) rfl (by decide) rfl) rfl ?_
        refine z_aload_n (i := 0) (q := 26) hX dX2_cut_25 rfl rfl rfl ?_
        refine zr_get (C := RX2) (T := TX2) (N := 4) (q := 29) hX ciX2 0 rfl (by decide) in_X2 dX2_cut_26 q203 (Or.inl rfl) (fun H h => cI.rd h (Or.inr logM_b) rfl (by decide) rfl) rfl ?_
        refine z_V (ci := ciJ2) (T := TJ2) (N := 3) (na := 0) hX dX2_cut_29 (c_J2_size D A (Or.inr (logM_ll hd))) rfl q547 q467 q468 q101 q469 (by decide +kernel) ⟨Nat.le_of_ble_eq_true rfl, Nat.le_of_ble_eq_true rfl⟩ rfl rfl (Nat.le_of_ble_eq_true rfl) rfl (by first | exact Nat.le_of_ble_eq_true rfl | (show _ + 0 ≤ 1300; omega)) (by first | exact Nat.le_of_ble_eq_true rfl | (show _ + 0 ≤ 50000; omega)) (fun H h => ⟨h, h.obL (Or.inr (logM_ll hd))⟩) (fun E a => zT.no) (zPd.out ?_)
        show zG X (_ + 0) (_ + 0) _ 32 _ _
        refine z_iconst (q := 33) hX dX2_cut_32 rfl ?_
        refine z_isub (q := 34) hX dX2_cut_33 rfl ?_
        rw [hlen, show ((l + d + 1 : Nat) : Int) - 1 = ((l + d : Nat) : Int) by omega]
        refine z_V (ci := ciJ2) (T := TJ2) (N := 3) (na := 1) hX dX2_cut_34 (c_J2_remove D A (logM_ll hd) (by omega) q4) rfl q1602 q995 q996 q101 q997 (by decide +kernel) ⟨Nat.le_of_ble_eq_true rfl, Nat.le_of_ble_eq_true rfl⟩ rfl rfl (Nat.le_of_ble_eq_true rfl) rfl (by first | exact Nat.le_of_ble_eq_true rfl | (show _ + 0 ≤ 1300; omega)) (by first | exact Nat.le_of_ble_eq_true rfl | (show _ + 0 ≤ 50000; omega)) (fun H h => ⟨h, h.obL (Or.inr (logM_ll hd))⟩) (fun E a => zT.no) (zPd.out ?_)
        show zG X (_ + 0) (_ + 0) _ 37 _ _
        rw [logM_setL hd, q5]
        refine zr_cast (q := 40) (C := RX5) (T := TX5) (N := 3) hX ciX5 rfl dX2_cut_37 q377 (fun H h => cI.obE h (by first | assumption | exact Or.inl (by assumption) | exact Or.inr (by first | assumption | exact upm_same _ _ _ | exact (upm_ne _ _ (by first | assumption | exact Ne.symm (by assumption) | omega | exact ne_mp (m := m) (by assumption) (by assumption) | exact Ne.symm (ne_mp (m := m) (by assumption) (by assumption)) | exact ne_mp (m := w) (by assumption) (by assumption) | exact Ne.symm (ne_mp (m := w) (by assumption) (by assumption)))).trans (by first | assumption | exact upm_same _ _ _ | exact (upm_ne _ _ (by first | assumption | exact Ne.symm (by assumption) | omega | exact ne_mp (m := m) (by assumption) (by assumption) | exact Ne.symm (ne_mp (m := m) (by assumption) (by assumption)) | exact ne_mp (m := w) (by assumption) (by assumption) | exact Ne.symm (ne_mp (m := w) (by assumption) (by assumption)))).trans (by first | assumption | exact upm_same _ _ _ | exact (upm_ne _ _ (by first | assumption | exact Ne.symm (by assumption) | omega | exact ne_mp (m := m) (by assumption) (by assumption) | exact Ne.symm (ne_mp (m := m) (by assumption) (by assumption)) | exact ne_mp (m := w) (by assumption) (by assumption) | exact Ne.symm (ne_mp (m := w) (by assumption) (by assumption)))).trans (by first | assumption | exact upm_same _ _ _))))) rfl) rfl ?_
        refine z_astore_n (i := 3) (q := 41) hX dX2_cut_40 rfl (Nat.le_of_ble_eq_true rfl) rfl rfl ?_
        refine z_goto (t := 10) hX dX2_cut_41 (by decide) ?_
        exact ih _ _ _ (by omega)
  refine z_aload_n (i := 0) (q := 1) hX dX2_cut_0 rfl rfl rfl ?_
  refine zr_get (C := RX2) (T := TX2) (N := 4) (q := 4) hX ciX2 0 rfl (by decide) in_X2 dX2_cut_1 q203 (Or.inl rfl) (fun H h => cI.rd h (Or.inr logM_b) rfl (by decide) rfl) rfl ?_
  refine z_V (ci := ciJ2) (T := TJ2) (N := 3) (na := 0) hX dX2_cut_4 (c_J2_size D A (Or.inr (logM_ll hd))) rfl q547 q467 q468 q101 q469 (by decide +kernel) ⟨Nat.le_of_ble_eq_true rfl, Nat.le_of_ble_eq_true rfl⟩ rfl rfl (Nat.le_of_ble_eq_true rfl) rfl (by first | exact Nat.le_of_ble_eq_true rfl | (show _ + 0 ≤ 1300; omega)) (by first | exact Nat.le_of_ble_eq_true rfl | (show _ + 0 ≤ 50000; omega)) (fun H h => ⟨h, h.obL (Or.inr (logM_ll hd))⟩) (fun E a => zT.no) (zPd.out ?_)
  show zG X (_ + 0) (_ + 0) _ 7 _ _
  refine z_iload_n (i := 1) (q := 8) hX dX2_cut_7 rfl rfl rfl ?_
  rw [show ((ls.length : Nat) : Int) = M 0 by omega]
  refine z_isub (q := 9) hX dX2_cut_8 rfl ?_
  refine z_istore_n (i := 2) (q := 10) hX dX2_cut_9 rfl (Nat.le_of_ble_eq_true rfl) rfl rfl ?_
  obtain ⟨d, hdd⟩ : ∃ d : Nat, l + d = (M 0).toNat := ⟨(M 0).toNat - l, by omega⟩
  refine zG.mono (K10 d mc _ _ (by omega)) (fun H h => ?_)
  rw [hdd, List.take_of_length_le (by omega)]
  exact h
