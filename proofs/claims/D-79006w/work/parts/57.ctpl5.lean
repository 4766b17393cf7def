/-! THE CLASS: Template.pattern -/
set_option maxRecDepth 100000
/-- a pattern's text, up to gap i -/
def paT (g : List Int) (n : Nat) (sv : Int → Int) (su : Int → zS) : Nat → zS
  | 0 => []
  | i + 1 => paT g n sv su i ++ List.replicate (g.getD i 0).toNat 32 ++ (if i < n then (if sv i = -1 then su i else [sgn (sv i)]) else [])
theorem paT_le {g : List Int} {n : Nat} {sv : Int → Int} {su : Int → zS} {i j : Nat} (h : i ≤ j) : (paT g n sv su i).length ≤ (paT g n sv su j).length := by
  induction j with
  | zero => rw [show i = 0 by omega]; exact Nat.le_refl _
  | succ j ih =>
    by_cases q : i = j + 1
    · rw [q]; exact Nat.le_refl _
    · have := ih (by omega)
      rw [show paT g n sv su (j + 1) = paT g n sv su j ++ List.replicate (g.getD j 0).toNat 32 ++ (if j < n then (if sv j = -1 then su j else [sgn (sv j)]) else []) from rfl, List.length_append, List.length_append]
      omega
abbrev rmX7_pattern : Room := { frames := 6, cells := 90, slots := 7000, locals := 151 }
set_option maxHeartbeats 4000000 in
theorem c_X7_pattern (D : zD) (A : Nat → Prop) {w m : zMp} {b : Nat} {g : List Int} {n : Nat} {sv : Int → Int} {su : Int → zS} {rows : List Int} (hb : wTpl w b g n sv su rows) (hg : ∀ i : Nat, i < g.length → 0 ≤ g.getD i 0) (hp : (paT g n sv su (n + 1)).length ≤ 40) : zC D yX7_pattern cX7_pattern 6 (some (.object "java/lang/String")) none rmX7_pattern A [.ref b] (cI D A w m) (zPe (fun (x : Nat × zMp) => some (.ref x.1)) (fun x => zNs w (paT g n sv su (n + 1)) x) (fun x => cI D A x.2 m)) (zNo) := by
  refine zC_start (L := [some (.ref b), none, none, none, none, none]) (by decide) (Nat.le_of_ble_eq_true rfl) rfl (fun X hX => ?_)
  obtain ⟨⟨k1, k2, k3⟩, gl, sl, rl, mc, mc2, mc3, gs, ss, rs, h1, h2, h3, h4, h5, h6, h7⟩ := hb
  have l1 := h3.1
  have l2 := h5.1
  have K : ∀ a : Nat, m a = none → ∀ i : Nat, i ≤ n + 1 → ∀ (kc ns : Nat), kc ≤ 2 + (paT g n sv su i).length + i → ns ≤ 90 + 84 * ((paT g n sv su i).length + i) → ∀ (p : Int) (v3 v4 v5 : Option Value), p = i → zG X kc ns (cI D A w (upm m a (eB (paT g n sv su i)))) 10 [some (.ref b), some (.ref a), some (zI p), v3, v4, v5] [] := by
    intro a hma
    refine z_up (fun i hi ih kc ns hkc hns p v3 v4 v5 ep => ?_)
    subst ep
    by_cases hin : i < n + 1
    · obtain ⟨z1, a1, q1, q2⟩ := h3.at (show i < g.length by omega)
      have hg0 := hg i (by omega)
      obtain ⟨x, hx⟩ : ∃ x : Nat, g.getD i 0 = (x : Int) := ⟨(g.getD i 0).toNat, by omega⟩
      rw [hx] at z1 q2
      have hstep : paT g n sv su (i + 1) = paT g n sv su i ++ List.replicate x 32 ++ (if i < n then (if sv i = -1 then su i else [sgn (sv i)]) else []) := by
        rw [paT, hx]
        rfl
      have hlen : (paT g n sv su (i + 1)).length ≤ 40 := Nat.le_trans (paT_le (by omega)) hp
      have hlen2 : (paT g n sv su (i + 1)).length = (paT g n sv su i).length + x + (if i < n then (if sv i = -1 then su i else [sgn (sv i)]) else []).length := by
        rw [hstep, List.length_append, List.length_append, List.length_replicate]
      have K39 : ∀ j : Nat, j ≤ x → ∀ (kc ns : Nat), kc ≤ 2 + (paT g n sv su i).length + i + j → ns ≤ 90 + 84 * ((paT g n sv su i).length + i + j) → ∀ (p : Int) (v5 : Option Value), p = j → zG X kc ns (cI D A w (upm m a (eB (paT g n sv su i ++ List.replicate j 32)))) 39 [some (.ref b), some (.ref a), some (zI (i : Int)), some (zI (x : Int)), some (zI p), v5] [] := by
        refine z_up (fun j hj ih2 kc ns hkc hns p v5 ep => ?_)
        subst ep
        have hlj : (paT g n sv su i ++ List.replicate j 32).length = (paT g n sv su i).length + j := by rw [List.length_append, List.length_replicate]
        by_cases hjx : j < x
        · have hjr : paT g n sv su i ++ List.replicate (j + 1) 32 = (paT g n sv su i ++ List.replicate j 32) ++ [32] := by
            rw [List.replicate_succ', List.append_assoc]
          refine z_iload (q := 41) hX dX7_pattern_39 rfl rfl ?_
          refine z_iload_n (i := 3) (q := 42) hX dX7_pattern_41 rfl rfl rfl ?_
          refine z_icmp_ge (q := 45) (t := 59) hX dX7_pattern_42 (by decide) ⟨by omega, by omega⟩ ⟨by omega, by omega⟩ rfl (fun h42 => ?_) (fun h42 => ?_)
          · exact absurd h42 (by omega)
          · refine z_aload_n (i := 1) (q := 46) hX dX7_pattern_45 rfl rfl rfl ?_
            refine z_bipush (q := 48) hX dX7_pattern_46 (by decide) rfl ?_
            refine z_V (ci := ciJ20) (T := TJ20) (N := 4) (na := 1) hX dX7_pattern_48 (c_J20_append_3 D A (upm_same _ _ _) (by omega) (by decide)) rfl q1651 q1557 q1558 q125 q1559 (by decide +kernel) ⟨Nat.le_of_ble_eq_true rfl, Nat.le_of_ble_eq_true rfl⟩ rfl rfl (Nat.le_of_ble_eq_true rfl) rfl (by first | exact Nat.le_of_ble_eq_true rfl | (show _ + 1 ≤ 90; omega)) (by first | exact Nat.le_of_ble_eq_true rfl | (show _ + 84 ≤ 7000; omega)) (fun H h => ⟨h, h.obE (Or.inr (upm_same _ _ _)) rfl⟩) (fun E a => zT.no) (zPd.out ?_)
            show zG X (_ + 1) (_ + 84) _ 51 _ _
            refine z_astore (q := 53) hX dX7_pattern_51 (Nat.le_of_ble_eq_true rfl) rfl rfl ?_
            refine z_iinc (q := 56) hX dX7_pattern_53 rfl (Nat.le_of_ble_eq_true rfl) rfl rfl ?_
            refine z_goto (t := 39) hX dX7_pattern_56 (by decide) ?_
            refine zG.mono (ih2 hjx _ _ (by omega) (by omega) _ _ rfl) (fun H h => by rw [upm_upm] at h; rw [hjr]; exact h)
        · have hjx2 : j = x := by omega
          subst hjx2
          by_cases hn : i < n
          · rw [if_pos hn] at hstep hlen2
            obtain ⟨a2, q4, q5⟩ := h5.2 i hn
            obtain ⟨fs, q6⟩ := q5.it
            refine z_iload (q := 41) hX dX7_pattern_39 rfl rfl ?_
            refine z_iload_n (i := 3) (q := 42) hX dX7_pattern_41 rfl rfl rfl ?_
            refine z_icmp_ge (q := 45) (t := 59) hX dX7_pattern_42 (by decide) ⟨by omega, by omega⟩ ⟨by omega, by omega⟩ rfl (fun h42 => ?_) (fun h42 => ?_)
            · refine z_iload_n (i := 2) (q := 60) hX dX7_pattern_59 rfl rfl rfl ?_
              refine z_aload_n (i := 0) (q := 61) hX dX7_pattern_60 rfl rfl rfl ?_
              refine zr_get (C := RX7) (T := TX7) (N := 3) (q := 64) hX ciX7 1 rfl (by decide) in_X7 dX7_pattern_61 q689 (Or.inl rfl) (fun H h => cI.rd h (by first | assumption | exact Or.inl (by assumption) | exact Or.inr (by first | assumption | exact upm_same _ _ _ | exact (upm_ne _ _ (by first | assumption | exact Ne.symm (by assumption) | omega | exact ne_mp (m := m) (by assumption) (by assumption) | exact Ne.symm (ne_mp (m := m) (by assumption) (by assumption)) | exact ne_mp (m := w) (by assumption) (by assumption) | exact Ne.symm (ne_mp (m := w) (by assumption) (by assumption)))).trans (by first | assumption | exact upm_same _ _ _ | exact (upm_ne _ _ (by first | assumption | exact Ne.symm (by assumption) | omega | exact ne_mp (m := m) (by assumption) (by assumption) | exact Ne.symm (ne_mp (m := m) (by assumption) (by assumption)) | exact ne_mp (m := w) (by assumption) (by assumption) | exact Ne.symm (ne_mp (m := w) (by assumption) (by assumption)))).trans (by first | assumption | exact upm_same _ _ _ | exact (upm_ne _ _ (by first | assumption | exact Ne.symm (by assumption) | omega | exact ne_mp (m := m) (by assumption) (by assumption) | exact Ne.symm (ne_mp (m := m) (by assumption) (by assumption)) | exact ne_mp (m := w) (by assumption) (by assumption) | exact Ne.symm (ne_mp (m := w) (by assumption) (by assumption)))).trans (by first | assumption | exact upm_same _ _ _))))) rfl (by decide) rfl) rfl ?_
              refine z_V (ci := ciJ2) (T := TJ2) (N := 3) (na := 0) hX dX7_pattern_64 (c_J2_size D A (Or.inl h4)) rfl q466 q467 q468 q101 q469 (by decide +kernel) ⟨Nat.le_of_ble_eq_true rfl, Nat.le_of_ble_eq_true rfl⟩ rfl rfl (Nat.le_of_ble_eq_true rfl) rfl (by first | exact Nat.le_of_ble_eq_true rfl | (show _ + 0 ≤ 90; omega)) (by first | exact Nat.le_of_ble_eq_true rfl | (show _ + 0 ≤ 7000; omega)) (fun H h => ⟨h, h.obL (Or.inl h4)⟩) (fun E a => zT.no) (zPd.out ?_)
              show zG X (_ + 0) (_ + 0) _ 67 _ _
              refine z_icmp_ge (q := 70) (t := 91) hX dX7_pattern_67 (by decide) ⟨by omega, by omega⟩ ⟨by omega, by omega⟩ rfl (fun h67 => ?_) (fun h67 => ?_)
              · exact absurd h67 (by omega)
              · refine z_aload_n (i := 1) (q := 71) hX dX7_pattern_70 rfl rfl rfl ?_
                refine z_aload_n (i := 0) (q := 72) hX dX7_pattern_71 rfl rfl rfl ?_
                refine zr_get (C := RX7) (T := TX7) (N := 3) (q := 75) hX ciX7 1 rfl (by decide) in_X7 dX7_pattern_72 q689 (Or.inl rfl) (fun H h => cI.rd h (by first | assumption | exact Or.inl (by assumption) | exact Or.inr (by first | assumption | exact upm_same _ _ _ | exact (upm_ne _ _ (by first | assumption | exact Ne.symm (by assumption) | omega | exact ne_mp (m := m) (by assumption) (by assumption) | exact Ne.symm (ne_mp (m := m) (by assumption) (by assumption)) | exact ne_mp (m := w) (by assumption) (by assumption) | exact Ne.symm (ne_mp (m := w) (by assumption) (by assumption)))).trans (by first | assumption | exact upm_same _ _ _ | exact (upm_ne _ _ (by first | assumption | exact Ne.symm (by assumption) | omega | exact ne_mp (m := m) (by assumption) (by assumption) | exact Ne.symm (ne_mp (m := m) (by assumption) (by assumption)) | exact ne_mp (m := w) (by assumption) (by assumption) | exact Ne.symm (ne_mp (m := w) (by assumption) (by assumption)))).trans (by first | assumption | exact upm_same _ _ _ | exact (upm_ne _ _ (by first | assumption | exact Ne.symm (by assumption) | omega | exact ne_mp (m := m) (by assumption) (by assumption) | exact Ne.symm (ne_mp (m := m) (by assumption) (by assumption)) | exact ne_mp (m := w) (by assumption) (by assumption) | exact Ne.symm (ne_mp (m := w) (by assumption) (by assumption)))).trans (by first | assumption | exact upm_same _ _ _))))) rfl (by decide) rfl) rfl ?_
                refine z_iload_n (i := 2) (q := 76) hX dX7_pattern_75 rfl rfl rfl ?_
                refine z_V (ci := ciJ2) (T := TJ2) (N := 3) (na := 1) hX dX7_pattern_76 (c_J2_get D A (Or.inl h4) (by omega) (by rw [Int.toNat_natCast]; exact q4) (by omega)) rfl q470 q471 q472 q101 q473 (by decide +kernel) ⟨Nat.le_of_ble_eq_true rfl, Nat.le_of_ble_eq_true rfl⟩ rfl rfl (Nat.le_of_ble_eq_true rfl) rfl (by first | exact Nat.le_of_ble_eq_true rfl | (show _ + 0 ≤ 90; omega)) (by first | exact Nat.le_of_ble_eq_true rfl | (show _ + 0 ≤ 7000; omega)) (fun H h => ⟨h, h.obL (Or.inl h4)⟩) (fun E a => zT.no) (zPd.out ?_)
                show zG X (_ + 0) (_ + 0) _ 79 _ _
                refine zr_cast (q := 82) (C := RX8) (T := TX8) (N := 2) hX ciX8 rfl dX7_pattern_79 q532 (fun H h => cI.obE h (by first | assumption | exact Or.inl (by assumption) | exact Or.inr (by first | assumption | exact upm_same _ _ _ | exact (upm_ne _ _ (by first | assumption | exact Ne.symm (by assumption) | omega | exact ne_mp (m := m) (by assumption) (by assumption) | exact Ne.symm (ne_mp (m := m) (by assumption) (by assumption)) | exact ne_mp (m := w) (by assumption) (by assumption) | exact Ne.symm (ne_mp (m := w) (by assumption) (by assumption)))).trans (by first | assumption | exact upm_same _ _ _ | exact (upm_ne _ _ (by first | assumption | exact Ne.symm (by assumption) | omega | exact ne_mp (m := m) (by assumption) (by assumption) | exact Ne.symm (ne_mp (m := m) (by assumption) (by assumption)) | exact ne_mp (m := w) (by assumption) (by assumption) | exact Ne.symm (ne_mp (m := w) (by assumption) (by assumption)))).trans (by first | assumption | exact upm_same _ _ _ | exact (upm_ne _ _ (by first | assumption | exact Ne.symm (by assumption) | omega | exact ne_mp (m := m) (by assumption) (by assumption) | exact Ne.symm (ne_mp (m := m) (by assumption) (by assumption)) | exact ne_mp (m := w) (by assumption) (by assumption) | exact Ne.symm (ne_mp (m := w) (by assumption) (by assumption)))).trans (by first | assumption | exact upm_same _ _ _))))) rfl) rfl ?_
                refine z_V (ci := ciX8) (T := TX8) (N := 2) (na := 0) hX dX7_pattern_82 (c_X8_sign D A q5) rfl q1652 q1653 q1654 q128 q1655 (by decide +kernel) ⟨Nat.le_of_ble_eq_true rfl, Nat.le_of_ble_eq_true rfl⟩ rfl rfl (Nat.le_of_ble_eq_true rfl) rfl (by first | exact Nat.le_of_ble_eq_true rfl | (show _ + 0 ≤ 90; omega)) (by first | exact Nat.le_of_ble_eq_true rfl | (show _ + 0 ≤ 7000; omega)) (fun H h => ⟨h, h.obE (Or.inl q6) rfl⟩) (fun E a => zT.no) (zPe.out (fun x82 hx82 => ?_))
                show zG X (_ + 0) (_ + 0) _ 85 _ _
                refine z_V (ci := ciJ20) (T := TJ20) (N := 4) (na := 1) hX dX7_pattern_85 (c_J20_append D A (upm_same _ _ _) hx82 (by omega)) rfl q1659 q782 q783 q125 q784 (by decide +kernel) ⟨Nat.le_of_ble_eq_true rfl, Nat.le_of_ble_eq_true rfl⟩ rfl rfl (Nat.le_of_ble_eq_true rfl) rfl (by first | exact Nat.le_of_ble_eq_true rfl | (show _ + 1 ≤ 90; omega)) (by first | exact Nat.le_of_ble_eq_true rfl | (show _ + 84 ≤ 7000; omega)) (fun H h => ⟨h, h.obE (Or.inr (upm_same _ _ _)) rfl⟩) (fun E a => zT.no) (zPd.out ?_)
                show zG X (_ + 1) (_ + 84) _ 88 _ _
                refine z_goto (t := 92) hX dX7_pattern_88 (by decide) ?_
                refine z_astore (q := 94) hX dX7_pattern_92 (Nat.le_of_ble_eq_true rfl) rfl rfl ?_
                refine z_iinc (q := 97) hX dX7_pattern_94 rfl (Nat.le_of_ble_eq_true rfl) rfl rfl ?_
                refine z_goto (t := 10) hX dX7_pattern_97 (by decide) ?_
                refine zG.mono (ih hin _ _ ?_ ?_ _ _ _ _ rfl) (fun H h => by rw [upm_upm] at h; rw [hstep]; exact h)
                · omega
                · omega
            · exact absurd h42 (by omega)
          · rw [if_neg hn] at hstep hlen2
            rw [List.append_nil] at hstep
            rw [List.length_nil] at hlen2
            refine z_iload (q := 41) hX dX7_pattern_39 rfl rfl ?_
            refine z_iload_n (i := 3) (q := 42) hX dX7_pattern_41 rfl rfl rfl ?_
            refine z_icmp_ge (q := 45) (t := 59) hX dX7_pattern_42 (by decide) ⟨by omega, by omega⟩ ⟨by omega, by omega⟩ rfl (fun h42 => ?_) (fun h42 => ?_)
            · refine z_iload_n (i := 2) (q := 60) hX dX7_pattern_59 rfl rfl rfl ?_
              refine z_aload_n (i := 0) (q := 61) hX dX7_pattern_60 rfl rfl rfl ?_
              refine zr_get (C := RX7) (T := TX7) (N := 3) (q := 64) hX ciX7 1 rfl (by decide) in_X7 dX7_pattern_61 q689 (Or.inl rfl) (fun H h => cI.rd h (by first | assumption | exact Or.inl (by assumption) | exact Or.inr (by first | assumption | exact upm_same _ _ _ | exact (upm_ne _ _ (by first | assumption | exact Ne.symm (by assumption) | omega | exact ne_mp (m := m) (by assumption) (by assumption) | exact Ne.symm (ne_mp (m := m) (by assumption) (by assumption)) | exact ne_mp (m := w) (by assumption) (by assumption) | exact Ne.symm (ne_mp (m := w) (by assumption) (by assumption)))).trans (by first | assumption | exact upm_same _ _ _ | exact (upm_ne _ _ (by first | assumption | exact Ne.symm (by assumption) | omega | exact ne_mp (m := m) (by assumption) (by assumption) | exact Ne.symm (ne_mp (m := m) (by assumption) (by assumption)) | exact ne_mp (m := w) (by assumption) (by assumption) | exact Ne.symm (ne_mp (m := w) (by assumption) (by assumption)))).trans (by first | assumption | exact upm_same _ _ _ | exact (upm_ne _ _ (by first | assumption | exact Ne.symm (by assumption) | omega | exact ne_mp (m := m) (by assumption) (by assumption) | exact Ne.symm (ne_mp (m := m) (by assumption) (by assumption)) | exact ne_mp (m := w) (by assumption) (by assumption) | exact Ne.symm (ne_mp (m := w) (by assumption) (by assumption)))).trans (by first | assumption | exact upm_same _ _ _))))) rfl (by decide) rfl) rfl ?_
              refine z_V (ci := ciJ2) (T := TJ2) (N := 3) (na := 0) hX dX7_pattern_64 (c_J2_size D A (Or.inl h4)) rfl q466 q467 q468 q101 q469 (by decide +kernel) ⟨Nat.le_of_ble_eq_true rfl, Nat.le_of_ble_eq_true rfl⟩ rfl rfl (Nat.le_of_ble_eq_true rfl) rfl (by first | exact Nat.le_of_ble_eq_true rfl | (show _ + 0 ≤ 90; omega)) (by first | exact Nat.le_of_ble_eq_true rfl | (show _ + 0 ≤ 7000; omega)) (fun H h => ⟨h, h.obL (Or.inl h4)⟩) (fun E a => zT.no) (zPd.out ?_)
              show zG X (_ + 0) (_ + 0) _ 67 _ _
              refine z_icmp_ge (q := 70) (t := 91) hX dX7_pattern_67 (by decide) ⟨by omega, by omega⟩ ⟨by omega, by omega⟩ rfl (fun h67 => ?_) (fun h67 => ?_)
              · refine z_aload_n (i := 1) (q := 92) hX dX7_pattern_91 rfl rfl rfl ?_
                refine z_astore (q := 94) hX dX7_pattern_92 (Nat.le_of_ble_eq_true rfl) rfl rfl ?_
                refine z_iinc (q := 97) hX dX7_pattern_94 rfl (Nat.le_of_ble_eq_true rfl) rfl rfl ?_
                refine z_goto (t := 10) hX dX7_pattern_97 (by decide) ?_
                refine zG.mono (ih hin _ _ (by omega) (by omega) _ _ _ _ rfl) (fun H h => by rw [hstep]; exact h)
              · exact absurd (by omega) h67
            · exact absurd h42 (by omega)
      refine z_iload_n (i := 2) (q := 11) hX dX7_pattern_10 rfl rfl rfl ?_
      refine z_aload_n (i := 0) (q := 12) hX dX7_pattern_11 rfl rfl rfl ?_
      refine zr_get (C := RX7) (T := TX7) (N := 3) (q := 15) hX ciX7 0 rfl (by decide) in_X7 dX7_pattern_12 q686 (Or.inl rfl) (fun H h => cI.rd h (by first | assumption | exact Or.inl (by assumption) | exact Or.inr (by first | assumption | exact upm_same _ _ _ | exact (upm_ne _ _ (by first | assumption | exact Ne.symm (by assumption) | omega | exact ne_mp (m := m) (by assumption) (by assumption) | exact Ne.symm (ne_mp (m := m) (by assumption) (by assumption)) | exact ne_mp (m := w) (by assumption) (by assumption) | exact Ne.symm (ne_mp (m := w) (by assumption) (by assumption)))).trans (by first | assumption | exact upm_same _ _ _ | exact (upm_ne _ _ (by first | assumption | exact Ne.symm (by assumption) | omega | exact ne_mp (m := m) (by assumption) (by assumption) | exact Ne.symm (ne_mp (m := m) (by assumption) (by assumption)) | exact ne_mp (m := w) (by assumption) (by assumption) | exact Ne.symm (ne_mp (m := w) (by assumption) (by assumption)))).trans (by first | assumption | exact upm_same _ _ _ | exact (upm_ne _ _ (by first | assumption | exact Ne.symm (by assumption) | omega | exact ne_mp (m := m) (by assumption) (by assumption) | exact Ne.symm (ne_mp (m := m) (by assumption) (by assumption)) | exact ne_mp (m := w) (by assumption) (by assumption) | exact Ne.symm (ne_mp (m := w) (by assumption) (by assumption)))).trans (by first | assumption | exact upm_same _ _ _))))) rfl (by decide) rfl) rfl ?_
      refine z_V (ci := ciJ2) (T := TJ2) (N := 3) (na := 0) hX dX7_pattern_15 (c_J2_size D A (Or.inl h2)) rfl q466 q467 q468 q101 q469 (by decide +kernel) ⟨Nat.le_of_ble_eq_true rfl, Nat.le_of_ble_eq_true rfl⟩ rfl rfl (Nat.le_of_ble_eq_true rfl) rfl (by first | exact Nat.le_of_ble_eq_true rfl | (show _ + 0 ≤ 90; omega)) (by first | exact Nat.le_of_ble_eq_true rfl | (show _ + 0 ≤ 7000; omega)) (fun H h => ⟨h, h.obL (Or.inl h2)⟩) (fun E a => zT.no) (zPd.out ?_)
      show zG X (_ + 0) (_ + 0) _ 18 _ _
      refine z_icmp_ge (q := 21) (t := 100) hX dX7_pattern_18 (by decide) ⟨by omega, by omega⟩ ⟨by omega, by omega⟩ rfl (fun h18 => ?_) (fun h18 => ?_)
      · exact absurd h18 (by omega)
      · refine z_aload_n (i := 0) (q := 22) hX dX7_pattern_21 rfl rfl rfl ?_
        refine zr_get (C := RX7) (T := TX7) (N := 3) (q := 25) hX ciX7 0 rfl (by decide) in_X7 dX7_pattern_22 q686 (Or.inl rfl) (fun H h => cI.rd h (by first | assumption | exact Or.inl (by assumption) | exact Or.inr (by first | assumption | exact upm_same _ _ _ | exact (upm_ne _ _ (by first | assumption | exact Ne.symm (by assumption) | omega | exact ne_mp (m := m) (by assumption) (by assumption) | exact Ne.symm (ne_mp (m := m) (by assumption) (by assumption)) | exact ne_mp (m := w) (by assumption) (by assumption) | exact Ne.symm (ne_mp (m := w) (by assumption) (by assumption)))).trans (by first | assumption | exact upm_same _ _ _ | exact (upm_ne _ _ (by first | assumption | exact Ne.symm (by assumption) | omega | exact ne_mp (m := m) (by assumption) (by assumption) | exact Ne.symm (ne_mp (m := m) (by assumption) (by assumption)) | exact ne_mp (m := w) (by assumption) (by assumption) | exact Ne.symm (ne_mp (m := w) (by assumption) (by assumption)))).trans (by first | assumption | exact upm_same _ _ _ | exact (upm_ne _ _ (by first | assumption | exact Ne.symm (by assumption) | omega | exact ne_mp (m := m) (by assumption) (by assumption) | exact Ne.symm (ne_mp (m := m) (by assumption) (by assumption)) | exact ne_mp (m := w) (by assumption) (by assumption) | exact Ne.symm (ne_mp (m := w) (by assumption) (by assumption)))).trans (by first | assumption | exact upm_same _ _ _))))) rfl (by decide) rfl) rfl ?_
        refine z_iload_n (i := 2) (q := 26) hX dX7_pattern_25 rfl rfl rfl ?_
        refine z_V (ci := ciJ2) (T := TJ2) (N := 3) (na := 1) hX dX7_pattern_26 (c_J2_get D A (Or.inl h2) (by omega) (by rw [Int.toNat_natCast]; exact q1) (by omega)) rfl q470 q471 q472 q101 q473 (by decide +kernel) ⟨Nat.le_of_ble_eq_true rfl, Nat.le_of_ble_eq_true rfl⟩ rfl rfl (Nat.le_of_ble_eq_true rfl) rfl (by first | exact Nat.le_of_ble_eq_true rfl | (show _ + 0 ≤ 90; omega)) (by first | exact Nat.le_of_ble_eq_true rfl | (show _ + 0 ≤ 7000; omega)) (fun H h => ⟨h, h.obL (Or.inl h2)⟩) (fun E a => zT.no) (zPd.out ?_)
        show zG X (_ + 0) (_ + 0) _ 29 _ _
        refine zr_cast (q := 32) (C := RJ18) (T := TJ18) (N := 1) hX ciJ18 rfl dX7_pattern_29 q484 (fun H h => cI.obE h (by first | assumption | exact Or.inl (by assumption) | exact Or.inr (by first | assumption | exact upm_same _ _ _ | exact (upm_ne _ _ (by first | assumption | exact Ne.symm (by assumption) | omega | exact ne_mp (m := m) (by assumption) (by assumption) | exact Ne.symm (ne_mp (m := m) (by assumption) (by assumption)) | exact ne_mp (m := w) (by assumption) (by assumption) | exact Ne.symm (ne_mp (m := w) (by assumption) (by assumption)))).trans (by first | assumption | exact upm_same _ _ _ | exact (upm_ne _ _ (by first | assumption | exact Ne.symm (by assumption) | omega | exact ne_mp (m := m) (by assumption) (by assumption) | exact Ne.symm (ne_mp (m := m) (by assumption) (by assumption)) | exact ne_mp (m := w) (by assumption) (by assumption) | exact Ne.symm (ne_mp (m := w) (by assumption) (by assumption)))).trans (by first | assumption | exact upm_same _ _ _ | exact (upm_ne _ _ (by first | assumption | exact Ne.symm (by assumption) | omega | exact ne_mp (m := m) (by assumption) (by assumption) | exact Ne.symm (ne_mp (m := m) (by assumption) (by assumption)) | exact ne_mp (m := w) (by assumption) (by assumption) | exact Ne.symm (ne_mp (m := w) (by assumption) (by assumption)))).trans (by first | assumption | exact upm_same _ _ _))))) rfl) rfl ?_
        refine z_V (ci := ciJ18) (T := TJ18) (N := 1) (na := 0) hX dX7_pattern_32 (c_J18_intValue D A (fun H h => h) (Or.inl q2)) rfl q485 q486 q487 q121 q488 (by decide +kernel) ⟨Nat.le_of_ble_eq_true rfl, Nat.le_of_ble_eq_true rfl⟩ rfl rfl (Nat.le_of_ble_eq_true rfl) rfl (by first | exact Nat.le_of_ble_eq_true rfl | (show _ + 0 ≤ 90; omega)) (by first | exact Nat.le_of_ble_eq_true rfl | (show _ + 0 ≤ 7000; omega)) (fun H h => ⟨h, h.obE (Or.inl q2) rfl⟩) (fun E a => zT.no) (zPd.out ?_)
        show zG X (_ + 0) (_ + 0) _ 35 _ _
        refine z_istore_n (i := 3) (q := 36) hX dX7_pattern_35 rfl (Nat.le_of_ble_eq_true rfl) rfl rfl ?_
        refine z_iconst (q := 37) hX dX7_pattern_36 rfl ?_
        refine z_istore (q := 39) hX dX7_pattern_37 (Nat.le_of_ble_eq_true rfl) rfl rfl ?_
        exact zG.mono (K39 0 (Nat.zero_le _) _ _ (by omega) (by omega) 0 _ rfl) (fun H h => by rw [List.replicate_zero, List.append_nil]; exact h)
    · have hiN : i = n + 1 := by omega
      subst hiN
      refine z_iload_n (i := 2) (q := 11) hX dX7_pattern_10 rfl rfl rfl ?_
      refine z_aload_n (i := 0) (q := 12) hX dX7_pattern_11 rfl rfl rfl ?_
      refine zr_get (C := RX7) (T := TX7) (N := 3) (q := 15) hX ciX7 0 rfl (by decide) in_X7 dX7_pattern_12 q686 (Or.inl rfl) (fun H h => cI.rd h (by first | assumption | exact Or.inl (by assumption) | exact Or.inr (by first | assumption | exact upm_same _ _ _ | exact (upm_ne _ _ (by first | assumption | exact Ne.symm (by assumption) | omega | exact ne_mp (m := m) (by assumption) (by assumption) | exact Ne.symm (ne_mp (m := m) (by assumption) (by assumption)) | exact ne_mp (m := w) (by assumption) (by assumption) | exact Ne.symm (ne_mp (m := w) (by assumption) (by assumption)))).trans (by first | assumption | exact upm_same _ _ _ | exact (upm_ne _ _ (by first | assumption | exact Ne.symm (by assumption) | omega | exact ne_mp (m := m) (by assumption) (by assumption) | exact Ne.symm (ne_mp (m := m) (by assumption) (by assumption)) | exact ne_mp (m := w) (by assumption) (by assumption) | exact Ne.symm (ne_mp (m := w) (by assumption) (by assumption)))).trans (by first | assumption | exact upm_same _ _ _ | exact (upm_ne _ _ (by first | assumption | exact Ne.symm (by assumption) | omega | exact ne_mp (m := m) (by assumption) (by assumption) | exact Ne.symm (ne_mp (m := m) (by assumption) (by assumption)) | exact ne_mp (m := w) (by assumption) (by assumption) | exact Ne.symm (ne_mp (m := w) (by assumption) (by assumption)))).trans (by first | assumption | exact upm_same _ _ _))))) rfl (by decide) rfl) rfl ?_
      refine z_V (ci := ciJ2) (T := TJ2) (N := 3) (na := 0) hX dX7_pattern_15 (c_J2_size D A (Or.inl h2)) rfl q466 q467 q468 q101 q469 (by decide +kernel) ⟨Nat.le_of_ble_eq_true rfl, Nat.le_of_ble_eq_true rfl⟩ rfl rfl (Nat.le_of_ble_eq_true rfl) rfl (by first | exact Nat.le_of_ble_eq_true rfl | (show _ + 0 ≤ 90; omega)) (by first | exact Nat.le_of_ble_eq_true rfl | (show _ + 0 ≤ 7000; omega)) (fun H h => ⟨h, h.obL (Or.inl h2)⟩) (fun E a => zT.no) (zPd.out ?_)
      show zG X (_ + 0) (_ + 0) _ 18 _ _
      refine z_icmp_ge (q := 21) (t := 100) hX dX7_pattern_18 (by decide) ⟨by omega, by omega⟩ ⟨by omega, by omega⟩ rfl (fun h18 => ?_) (fun h18 => ?_)
      · refine z_aload_n (i := 1) (q := 101) hX dX7_pattern_100 rfl rfl rfl ?_
        refine z_V (ci := ciJ20) (T := TJ20) (N := 4) (na := 0) hX dX7_pattern_101 (c_J20_toString D A (upm_same _ _ _) (by omega)) rfl q1660 q894 q895 q125 q896 (by decide +kernel) ⟨Nat.le_of_ble_eq_true rfl, Nat.le_of_ble_eq_true rfl⟩ rfl rfl (Nat.le_of_ble_eq_true rfl) rfl (by first | exact Nat.le_of_ble_eq_true rfl | (show _ + 2 ≤ 90; omega)) (by first | exact Nat.le_of_ble_eq_true rfl | (show _ + 100 ≤ 7000; omega)) (fun H h => ⟨h, h.obE (Or.inr (upm_same _ _ _)) rfl⟩) (fun E a => zT.no) (zPe.out (fun x101 hx101 => ?_))
        show zG X (_ + 2) (_ + 100) _ 104 _ _
        exact z_aret hX dX7_pattern_104 (by first | exact Nat.le_of_ble_eq_true rfl | (show (_ : Nat) ≤ 90; omega)) (by first | exact Nat.le_of_ble_eq_true rfl | (show (_ : Nat) ≤ 7000; omega)) rfl (by first | exact Or.inl ⟨_, rfl⟩ | exact Or.inr ⟨_, rfl⟩) (by first | exact Or.inl rfl | exact Or.inr ⟨_, rfl⟩) (fun H h => ⟨x101, rfl, hx101, by have h2 := h.del a; rw [dlm_upm _ _ hma] at h2; exact h2⟩)
      · exact absurd (by omega) h18
  refine zc_new (q := 3) (fs := [.null, zI 0, zI 0, zI 0]) (C := RJ20) (T := TJ20) (N := 4) hX ciJ20 rfl in_J20 tyJ20_ok dX7_pattern_0 q1649 q750 q125 (fun j hj => by match j, hj with | 0, _ => rfl | 1, _ => rfl | 2, _ => rfl | 3, _ => rfl | (_ + 4), h => exact absurd h (by omega)) (by first | exact Nat.le_of_ble_eq_true rfl | (show _ + 1 ≤ 90; omega)) (by first | exact Nat.le_of_ble_eq_true rfl | (show _ + 4 ≤ 7000; omega)) rfl (fun a0 ha0 hb0 => ?_)
  have n0 := hb0
  try simp only [upm_none] at n0
  repeat (have := And.left n0; replace n0 := And.right n0)
  refine z_dup (q := 4) hX dX7_pattern_3 rfl rfl ?_
  refine z_C (na := 0) hX dX7_pattern_4 (c_J20_init D A (upm_same _ _ _)) q1650 q752 q125 q753 rfl (by decide +kernel) ⟨Nat.le_of_ble_eq_true rfl, Nat.le_of_ble_eq_true rfl⟩ rfl rfl (Nat.le_of_ble_eq_true rfl) rfl (by first | exact Nat.le_of_ble_eq_true rfl | (show _ + 1 ≤ 90; omega)) (by first | exact Nat.le_of_ble_eq_true rfl | (show _ + 16 ≤ 7000; omega)) (fun H h => h) (fun E a => zT.no) (zPv.out ?_)
  show zG X (_ + 1) (_ + 16) _ 7 _ _
  refine z_astore_n (i := 1) (q := 8) hX dX7_pattern_7 rfl (Nat.le_of_ble_eq_true rfl) rfl rfl ?_
  refine z_iconst (q := 9) hX dX7_pattern_8 rfl ?_
  refine z_istore_n (i := 2) (q := 10) hX dX7_pattern_9 rfl (Nat.le_of_ble_eq_true rfl) rfl rfl ?_
  exact zG.mono (K a0 hb0 0 (Nat.zero_le _) _ _ (by omega) (by omega) 0 _ _ _ rfl) (fun H h => by rw [upm_upm] at h; exact h)
