/-! THE CLASS: Line's constructor -/
set_option maxRecDepth 100000
abbrev rmX5_init : Room := { frames := 8, cells := 200, slots := 7000, locals := 194 }
set_option maxHeartbeats 4000000 in
theorem c_X5_init (D : zD) (A : Nat → Prop) {w m : zMp} {b : Nat} {s : zS} {y : Nat} (hm : m b = some (eO ciX5 [.null, .null, .null])) (hy : w y = some (eS s)) (hs : lnS s) : zC D yX5_init cX5_init 5 none none rmX5_init A [.ref b, .ref y] (cI D A w m) (zPe (fun (x : zMp) => none) (fun x => zLe w x ∧ wLine x b s) (fun x => cI D A x (dlm m b))) (zNo) := by
  refine zC_start (L := [some (.ref b), some (.ref y), none, none, none]) (by decide) (Nat.le_of_ble_eq_true rfl) rfl (fun X hX => ?_)
  have hnT := nT_range s
  have hl := hs.2.1
  have hch := hs.ch
  have K : ∀ (tl gl : Nat), tl ≠ b → gl ≠ b → gl ≠ tl → m tl = none → m gl = none → ∀ k : Nat, k ≤ (nT s).toNat → ∀ (kc ns : Nat), kc ≤ 20 + 8 * k → ns ≤ 200 + 300 * k → ∀ (w1 M : zMp) (mc mc2 : Int) (ts gs : List Nat) (v3 v4 : Option Value), zLe w w1 → M b = some (eO ciX5 [.ref y, .ref tl, .ref gl]) → M tl = some (eL mc ts) → M gl = some (eL mc2 gs) → (∀ c, c ≠ b → c ≠ tl → c ≠ gl → M c = m c) → wToks w1 ts s k → zInts w1 gs (gpN s (k + 1)) → zG X kc ns (cI D A w1 M) 37 [some (.ref b), some (.ref y), some (zI (nE s k)), v3, v4] [] := by
    intro tl gl htb hgb hgt hmtl hmgl
    refine z_up (fun k hk ih kc ns hkc hns w1 M mc mc2 ts gs v3 v4 hle hMb hMt hMg hMo hts hgs => ?_)
    have hy1 : w1 y = some (eS s) := hle _ _ hy
    have hgap := tk_gap (s := s) (k := (k : Int)) (by omega) (by omega)
    by_cases hkn : (k : Int) < nT s
    · have hnf : nE s (k : Int) = fT s (k : Int) := if_neg (by omega)
      have hok := tk_ok (s := s) (k := (k : Int)) (by omega) hkn
      have htk := tk_in (s := s) (k := (k : Int)) (by omega) hkn
      have hgap2 := tk_gap (s := s) (k := (k : Int) + 1) (by omega) (by omega)
      have hpe : pE s ((k : Int) + 1) = eT s (k : Int) := by unfold pE; rw [if_neg (by omega), show (k : Int) + 1 - 1 = k by omega]
      obtain ⟨a, ha⟩ : ∃ a : Nat, fT s (k : Int) = (a : Int) := ⟨(fT s (k : Int)).toNat, by omega⟩
      obtain ⟨z, hz⟩ : ∃ z : Nat, eT s (k : Int) = (a : Int) + (z : Int) := ⟨(eT s (k : Int) - fT s (k : Int)).toNat, by omega⟩
      rw [ha, hz] at htk
      rw [hpe, hz] at hgap2
      have htok : tok s (k : Int) = subS s a z := by
        unfold tok subS wT
        rw [ha, hz, show ((a : Int)).toNat = a from rfl, show ((a : Int) + (z : Int) - (a : Int)).toNat = z by omega]
      have htks : tkS (subS s a z) := by rw [← htok]; exact hs.tk (by omega) hkn
      have K71 : ∀ v5 : Option Value, zG X kc ns (cI D A w1 M) 71 [some (.ref b), some (.ref y), some (zI (a : Int)), some (zI ((a : Int) + (z : Int))), v5] [] := by
        intro v5
        refine z_aload_n (i := 0) (q := 72) hX dX5_init_71 rfl rfl rfl ?_
        refine zr_get (C := RX5) (T := TX5) (N := 3) (q := 75) hX ciX5 1 rfl (by decide) in_X5 dX5_init_72 q1397 (Or.inl rfl) (fun H h => cI.rd h (by first | assumption | exact Or.inl (by assumption) | exact Or.inr (by first | assumption | exact upm_same _ _ _ | exact (upm_ne _ _ (by first | assumption | exact Ne.symm (by assumption) | omega | exact ne_mp (m := m) (by assumption) (by assumption) | exact Ne.symm (ne_mp (m := m) (by assumption) (by assumption)) | exact ne_mp (m := w) (by assumption) (by assumption) | exact Ne.symm (ne_mp (m := w) (by assumption) (by assumption)))).trans (by first | assumption | exact upm_same _ _ _ | exact (upm_ne _ _ (by first | assumption | exact Ne.symm (by assumption) | omega | exact ne_mp (m := m) (by assumption) (by assumption) | exact Ne.symm (ne_mp (m := m) (by assumption) (by assumption)) | exact ne_mp (m := w) (by assumption) (by assumption) | exact Ne.symm (ne_mp (m := w) (by assumption) (by assumption)))).trans (by first | assumption | exact upm_same _ _ _ | exact (upm_ne _ _ (by first | assumption | exact Ne.symm (by assumption) | omega | exact ne_mp (m := m) (by assumption) (by assumption) | exact Ne.symm (ne_mp (m := m) (by assumption) (by assumption)) | exact ne_mp (m := w) (by assumption) (by assumption) | exact Ne.symm (ne_mp (m := w) (by assumption) (by assumption)))).trans (by first | assumption | exact upm_same _ _ _))))) rfl (by decide) rfl) rfl ?_
        refine zc_new (q := 78) (fs := [.null, zI 0]) (C := RX6) (T := TX6) (N := 2) hX ciX6 rfl in_X6 tyX6_ok dX5_init_75 q1266 q1339 q123 (fun j hj => by match j, hj with | 0, _ => rfl | 1, _ => rfl | (_ + 2), h => exact absurd h (by omega)) (by first | exact Nat.le_of_ble_eq_true rfl | (show _ + 1 ≤ 200; omega)) (by first | exact Nat.le_of_ble_eq_true rfl | (show _ + 2 ≤ 7000; omega)) rfl (fun a75 ha75 hb75 => ?_)
        have n75 := hb75
        try simp only [upm_none] at n75
        repeat (have := And.left n75; replace n75 := And.right n75)
        refine z_dup (q := 79) hX dX5_init_78 rfl rfl ?_
        refine z_aload_n (i := 1) (q := 80) hX dX5_init_79 rfl rfl rfl ?_
        refine z_iload_n (i := 2) (q := 81) hX dX5_init_80 rfl rfl rfl ?_
        refine z_iload_n (i := 3) (q := 82) hX dX5_init_81 rfl rfl rfl ?_
        refine z_V (ci := ciJ13) (T := TJ13) (N := 4) (na := 2) hX dX5_init_82 (c_J13_substring D A hy1 (by omega) ⟨by omega, by omega⟩) rfl q1340 q1341 q1342 q116 q1343 (by decide +kernel) ⟨Nat.le_of_ble_eq_true rfl, Nat.le_of_ble_eq_true rfl⟩ rfl rfl (Nat.le_of_ble_eq_true rfl) rfl (by first | exact Nat.le_of_ble_eq_true rfl | (show _ + 2 ≤ 200; omega)) (by first | exact Nat.le_of_ble_eq_true rfl | (show _ + 100 ≤ 7000; omega)) (fun H h => ⟨h, cI.obE h (by first | assumption | exact Or.inl (by assumption) | exact Or.inr (by first | assumption | exact upm_same _ _ _ | exact (upm_ne _ _ (by first | assumption | exact Ne.symm (by assumption) | omega | exact ne_mp (m := m) (by assumption) (by assumption) | exact Ne.symm (ne_mp (m := m) (by assumption) (by assumption)) | exact ne_mp (m := w) (by assumption) (by assumption) | exact Ne.symm (ne_mp (m := w) (by assumption) (by assumption)))).trans (by first | assumption | exact upm_same _ _ _ | exact (upm_ne _ _ (by first | assumption | exact Ne.symm (by assumption) | omega | exact ne_mp (m := m) (by assumption) (by assumption) | exact Ne.symm (ne_mp (m := m) (by assumption) (by assumption)) | exact ne_mp (m := w) (by assumption) (by assumption) | exact Ne.symm (ne_mp (m := w) (by assumption) (by assumption)))).trans (by first | assumption | exact upm_same _ _ _ | exact (upm_ne _ _ (by first | assumption | exact Ne.symm (by assumption) | omega | exact ne_mp (m := m) (by assumption) (by assumption) | exact Ne.symm (ne_mp (m := m) (by assumption) (by assumption)) | exact ne_mp (m := w) (by assumption) (by assumption) | exact Ne.symm (ne_mp (m := w) (by assumption) (by assumption)))).trans (by first | assumption | exact upm_same _ _ _))))) rfl⟩) (fun E a => zT.no) (zPe.out (fun x82 hx82 => ?_))
        show zG X (_ + 2) (_ + 100) _ 85 _ _
        obtain ⟨hle2, hx82⟩ := hx82
        refine zG.know (fun H h => h.w_of (upm_same _ _ _)) (fun hw75 => ?_)
        refine z_C (na := 1) hX dX5_init_85 (c_X6_init D A (upm_same _ _ _) hx82 htks) q1364 q1365 q123 q1366 rfl (by decide +kernel) ⟨Nat.le_of_ble_eq_true rfl, Nat.le_of_ble_eq_true rfl⟩ rfl rfl (Nat.le_of_ble_eq_true rfl) rfl (by first | exact Nat.le_of_ble_eq_true rfl | (show _ + 0 ≤ 200; omega)) (by first | exact Nat.le_of_ble_eq_true rfl | (show _ + 0 ≤ 7000; omega)) (fun H h => h) (fun E a => zT.no) (zPv.out ?_)
        show zG X (_ + 0) (_ + 0) _ 88 _ _
        rw [dlm_upm _ _ hb75]
        have hle3 : zLe w1 (upm x82.2 a75 (eO ciX6 [.ref x82.1, zI (typ (subS s a z))])) := hle2.tr (zLe.up hw75)
        have htk3 : wTok (upm x82.2 a75 (eO ciX6 [.ref x82.1, zI (typ (subS s a z))])) a75 (tok s k) := by
          rw [htok]
          exact ⟨htks, x82.1, upm_same _ _ _, zLe.up hw75 _ _ hx82⟩
        refine z_V (ci := ciJ2) (T := TJ2) (N := 3) (na := 1) hX dX5_init_88 (c_J2_add D A hMt (by rw [hts.1]; omega) (upm_same _ _ _) (zElO_6 _)) rfl q1338 q379 q380 q101 q381 (by decide +kernel) ⟨Nat.le_of_ble_eq_true rfl, Nat.le_of_ble_eq_true rfl⟩ rfl rfl (Nat.le_of_ble_eq_true rfl) rfl (by first | exact Nat.le_of_ble_eq_true rfl | (show _ + 1 ≤ 200; omega)) (by first | exact Nat.le_of_ble_eq_true rfl | (show _ + 61 ≤ 7000; omega)) (fun H h => ⟨h, h.obL (Or.inr hMt)⟩) (fun E a => zT.no) (zPd.out ?_)
        show zG X (_ + 1) (_ + 61) _ 91 _ _
        refine z_istore (q := 93) hX dX5_init_91 (Nat.le_of_ble_eq_true rfl) rfl rfl ?_
        refine z_aload_n (i := 0) (q := 94) hX dX5_init_93 rfl rfl rfl ?_
        refine z_iload_n (i := 3) (q := 95) hX dX5_init_94 rfl rfl rfl ?_
        refine z_V (ci := ciX5) (T := TX5) (N := 3) (na := 1) hX dX5_init_95 (c_X5_gapFrom D A (mc := mc2) (gs := gs) (tl := tl) (gl := gl) (s := s) (t := y) (e := nE s ((k : Int) + 1)) ((upm_ne _ _ htb.symm).trans hMb) (hle3 _ _ hy1) ((upm_ne _ _ hgt).trans hMg) (by rw [hgs.1, gpN_len]; omega) ⟨by omega, by omega, by omega, by omega⟩ hgap2.2.1 (by rcases hgap2.2.2 with q | q; exact Or.inl (by unfold nE; rw [if_pos q]); exact Or.inr q.2) hch) rfl q1331 q1333 qs27 q115 q1334 (by decide +kernel) ⟨Nat.le_of_ble_eq_true rfl, Nat.le_of_ble_eq_true rfl⟩ rfl rfl (Nat.le_of_ble_eq_true rfl) rfl (by first | exact Nat.le_of_ble_eq_true rfl | (show _ + 1 ≤ 200; omega)) (by first | exact Nat.le_of_ble_eq_true rfl | (show _ + 61 ≤ 7000; omega)) (fun H h => ⟨h, cI.obE h (by first | assumption | exact Or.inl (by assumption) | exact Or.inr (by first | assumption | exact upm_same _ _ _ | exact (upm_ne _ _ (by first | assumption | exact Ne.symm (by assumption) | omega | exact ne_mp (m := m) (by assumption) (by assumption) | exact Ne.symm (ne_mp (m := m) (by assumption) (by assumption)) | exact ne_mp (m := w) (by assumption) (by assumption) | exact Ne.symm (ne_mp (m := w) (by assumption) (by assumption)))).trans (by first | assumption | exact upm_same _ _ _ | exact (upm_ne _ _ (by first | assumption | exact Ne.symm (by assumption) | omega | exact ne_mp (m := m) (by assumption) (by assumption) | exact Ne.symm (ne_mp (m := m) (by assumption) (by assumption)) | exact ne_mp (m := w) (by assumption) (by assumption) | exact Ne.symm (ne_mp (m := w) (by assumption) (by assumption)))).trans (by first | assumption | exact upm_same _ _ _ | exact (upm_ne _ _ (by first | assumption | exact Ne.symm (by assumption) | omega | exact ne_mp (m := m) (by assumption) (by assumption) | exact Ne.symm (ne_mp (m := m) (by assumption) (by assumption)) | exact ne_mp (m := w) (by assumption) (by assumption) | exact Ne.symm (ne_mp (m := w) (by assumption) (by assumption)))).trans (by first | assumption | exact upm_same _ _ _))))) rfl⟩) (fun E a => zT.no) (zPd.out ?_)
        show zG X (_ + 1) (_ + 61) _ 98 _ _
        refine zG.know (fun H h => h.iv (k := nE s ((k : Int) + 1) - ((a : Int) + (z : Int))) (by omega) (by omega)) (fun hiv => ?_)
        refine z_istore_n (i := 2) (q := 99) hX dX5_init_98 rfl (Nat.le_of_ble_eq_true rfl) rfl rfl ?_
        refine z_goto (t := 37) hX dX5_init_99 (by decide) ?_
        refine ih (by omega) _ _ ?_ ?_ _ _ _ _ _ _ _ _ (hle.tr hle3) ((upm_ne _ _ hgb.symm).trans ((upm_ne _ _ htb.symm).trans hMb)) ((upm_ne _ _ hgt.symm).trans (upm_same _ _ _)) (upm_same _ _ _) ?_ ((hts.le hle3).snoc htk3) ?_
        · omega
        · omega
        · intro c h1 h2 h3
          rw [upm_ne _ _ h3, upm_ne _ _ h2]
          exact hMo c h1 h2 h3
        · rw [gpN_succ s (k + 1)]
          have e : gp s ((k + 1 : Nat) : Int) = nE s ((k : Int) + 1) - ((a : Int) + (z : Int)) := by
            rw [gp_eq]
            rw [show ((k + 1 : Nat) : Int) = (k : Int) + 1 from rfl, hpe, hz]
          rw [e]
          exact (hgs.le hle3).snoc hiv ⟨by omega, by omega⟩
      have K47 : ∀ n : Nat, n ≤ z → ∀ q : Int, q = (a : Int) + n → zG X kc ns (cI D A w1 M) 47 [some (.ref b), some (.ref y), some (zI (a : Int)), some (zI q), v4] [] := by
        refine z_up (fun n hn ih2 q eq => ?_)
        subst eq
        refine z_iload_n (i := 3) (q := 48) hX dX5_init_47 rfl rfl rfl ?_
        refine z_aload_n (i := 1) (q := 49) hX dX5_init_48 rfl rfl rfl ?_
        refine z_V (ci := ciJ13) (T := TJ13) (N := 4) (na := 0) hX dX5_init_49 (c_J13_length D A (Or.inl hy1)) rfl q1335 q538 q539 q116 q540 (by decide +kernel) ⟨Nat.le_of_ble_eq_true rfl, Nat.le_of_ble_eq_true rfl⟩ rfl rfl (Nat.le_of_ble_eq_true rfl) rfl (by first | exact Nat.le_of_ble_eq_true rfl | (show _ + 0 ≤ 200; omega)) (by first | exact Nat.le_of_ble_eq_true rfl | (show _ + 0 ≤ 7000; omega)) (fun H h => ⟨h, cI.obE h (by first | assumption | exact Or.inl (by assumption) | exact Or.inr (by first | assumption | exact upm_same _ _ _ | exact (upm_ne _ _ (by first | assumption | exact Ne.symm (by assumption) | omega | exact ne_mp (m := m) (by assumption) (by assumption) | exact Ne.symm (ne_mp (m := m) (by assumption) (by assumption)) | exact ne_mp (m := w) (by assumption) (by assumption) | exact Ne.symm (ne_mp (m := w) (by assumption) (by assumption)))).trans (by first | assumption | exact upm_same _ _ _ | exact (upm_ne _ _ (by first | assumption | exact Ne.symm (by assumption) | omega | exact ne_mp (m := m) (by assumption) (by assumption) | exact Ne.symm (ne_mp (m := m) (by assumption) (by assumption)) | exact ne_mp (m := w) (by assumption) (by assumption) | exact Ne.symm (ne_mp (m := w) (by assumption) (by assumption)))).trans (by first | assumption | exact upm_same _ _ _ | exact (upm_ne _ _ (by first | assumption | exact Ne.symm (by assumption) | omega | exact ne_mp (m := m) (by assumption) (by assumption) | exact Ne.symm (ne_mp (m := m) (by assumption) (by assumption)) | exact ne_mp (m := w) (by assumption) (by assumption) | exact Ne.symm (ne_mp (m := w) (by assumption) (by assumption)))).trans (by first | assumption | exact upm_same _ _ _))))) rfl⟩) (fun E a => zT.no) (zPd.out ?_)
        show zG X (_ + 0) (_ + 0) _ 52 _ _
        refine z_icmp_ge (q := 55) (t := 71) hX dX5_init_52 (by decide) ⟨by omega, by omega⟩ ⟨by omega, by omega⟩ rfl (fun h52 => ?_) (fun h52 => ?_)
        · have e : n = z := by omega
          subst e
          exact K71 _
        · have hc := hch.2 _ (cT_mem (s := s) (i := (a : Int) + n) (by omega) (by omega))
          refine z_aload_n (i := 1) (q := 56) hX dX5_init_55 rfl rfl rfl ?_
          refine z_iload_n (i := 3) (q := 57) hX dX5_init_56 rfl rfl rfl ?_
          refine z_V (ci := ciJ13) (T := TJ13) (N := 4) (na := 1) hX dX5_init_57 (c_J13_charAt D A (Or.inl hy1) ⟨by omega, by omega⟩) rfl q1336 q613 q614 q116 q615 (by decide +kernel) ⟨Nat.le_of_ble_eq_true rfl, Nat.le_of_ble_eq_true rfl⟩ rfl rfl (Nat.le_of_ble_eq_true rfl) rfl (by first | exact Nat.le_of_ble_eq_true rfl | (show _ + 0 ≤ 200; omega)) (by first | exact Nat.le_of_ble_eq_true rfl | (show _ + 0 ≤ 7000; omega)) (fun H h => ⟨h, cI.obE h (by first | assumption | exact Or.inl (by assumption) | exact Or.inr (by first | assumption | exact upm_same _ _ _ | exact (upm_ne _ _ (by first | assumption | exact Ne.symm (by assumption) | omega | exact ne_mp (m := m) (by assumption) (by assumption) | exact Ne.symm (ne_mp (m := m) (by assumption) (by assumption)) | exact ne_mp (m := w) (by assumption) (by assumption) | exact Ne.symm (ne_mp (m := w) (by assumption) (by assumption)))).trans (by first | assumption | exact upm_same _ _ _ | exact (upm_ne _ _ (by first | assumption | exact Ne.symm (by assumption) | omega | exact ne_mp (m := m) (by assumption) (by assumption) | exact Ne.symm (ne_mp (m := m) (by assumption) (by assumption)) | exact ne_mp (m := w) (by assumption) (by assumption) | exact Ne.symm (ne_mp (m := w) (by assumption) (by assumption)))).trans (by first | assumption | exact upm_same _ _ _ | exact (upm_ne _ _ (by first | assumption | exact Ne.symm (by assumption) | omega | exact ne_mp (m := m) (by assumption) (by assumption) | exact Ne.symm (ne_mp (m := m) (by assumption) (by assumption)) | exact ne_mp (m := w) (by assumption) (by assumption) | exact Ne.symm (ne_mp (m := w) (by assumption) (by assumption)))).trans (by first | assumption | exact upm_same _ _ _))))) rfl⟩) (fun E a => zT.no) (zPd.out ?_)
          show zG X (_ + 0) (_ + 0) _ 60 _ _
          refine z_bipush (q := 62) hX dX5_init_60 (by decide) rfl ?_
          refine z_icmp_eq (q := 65) (t := 71) hX dX5_init_62 (by decide) ⟨by omega, by omega⟩ (by decide) rfl (fun h62 => ?_) (fun h62 => ?_)
          · have e : n = z := by
              rcases Nat.lt_or_ge n z with q | q
              · exact absurd h62 (htk.1 _ (by omega) (by omega))
              · omega
            subst e
            exact K71 _
          · refine z_iinc (q := 68) hX dX5_init_65 rfl (Nat.le_of_ble_eq_true rfl) rfl rfl ?_
            refine z_goto (t := 47) hX dX5_init_68 (by decide) ?_
            have hlt : n < z := by
              rcases Nat.lt_or_ge n z with q | q
              · exact q
              · have e : n = z := by omega
                subst e
                rcases htk.2 with q | q
                · exact absurd h52 (by omega)
                · exact absurd q h62
            exact ih2 hlt _ (by omega)
      rw [hnf, ha]
      refine z_iload_n (i := 2) (q := 38) hX dX5_init_37 rfl rfl rfl ?_
      refine z_aload_n (i := 1) (q := 39) hX dX5_init_38 rfl rfl rfl ?_
      refine z_V (ci := ciJ13) (T := TJ13) (N := 4) (na := 0) hX dX5_init_39 (c_J13_length D A (Or.inl hy1)) rfl q1335 q538 q539 q116 q540 (by decide +kernel) ⟨Nat.le_of_ble_eq_true rfl, Nat.le_of_ble_eq_true rfl⟩ rfl rfl (Nat.le_of_ble_eq_true rfl) rfl (by first | exact Nat.le_of_ble_eq_true rfl | (show _ + 0 ≤ 200; omega)) (by first | exact Nat.le_of_ble_eq_true rfl | (show _ + 0 ≤ 7000; omega)) (fun H h => ⟨h, cI.obE h (by first | assumption | exact Or.inl (by assumption) | exact Or.inr (by first | assumption | exact upm_same _ _ _ | exact (upm_ne _ _ (by first | assumption | exact Ne.symm (by assumption) | omega | exact ne_mp (m := m) (by assumption) (by assumption) | exact Ne.symm (ne_mp (m := m) (by assumption) (by assumption)) | exact ne_mp (m := w) (by assumption) (by assumption) | exact Ne.symm (ne_mp (m := w) (by assumption) (by assumption)))).trans (by first | assumption | exact upm_same _ _ _ | exact (upm_ne _ _ (by first | assumption | exact Ne.symm (by assumption) | omega | exact ne_mp (m := m) (by assumption) (by assumption) | exact Ne.symm (ne_mp (m := m) (by assumption) (by assumption)) | exact ne_mp (m := w) (by assumption) (by assumption) | exact Ne.symm (ne_mp (m := w) (by assumption) (by assumption)))).trans (by first | assumption | exact upm_same _ _ _ | exact (upm_ne _ _ (by first | assumption | exact Ne.symm (by assumption) | omega | exact ne_mp (m := m) (by assumption) (by assumption) | exact Ne.symm (ne_mp (m := m) (by assumption) (by assumption)) | exact ne_mp (m := w) (by assumption) (by assumption) | exact Ne.symm (ne_mp (m := w) (by assumption) (by assumption)))).trans (by first | assumption | exact upm_same _ _ _))))) rfl⟩) (fun E a => zT.no) (zPd.out ?_)
      show zG X (_ + 0) (_ + 0) _ 42 _ _
      refine z_icmp_ge (q := 45) (t := 102) hX dX5_init_42 (by decide) ⟨by omega, by omega⟩ ⟨by omega, by omega⟩ rfl (fun h42 => ?_) (fun h42 => ?_)
      · exact absurd h42 (by omega)
      · refine z_iload_n (i := 2) (q := 46) hX dX5_init_45 rfl rfl rfl ?_
        refine z_istore_n (i := 3) (q := 47) hX dX5_init_46 rfl (Nat.le_of_ble_eq_true rfl) rfl rfl ?_
        exact K47 0 (Nat.zero_le _) _ (by omega)
    · have hnf : nE s (k : Int) = s.length := if_pos (by omega)
      have hkN : k = (nT s).toNat := by omega
      rw [hnf]
      refine z_iload_n (i := 2) (q := 38) hX dX5_init_37 rfl rfl rfl ?_
      refine z_aload_n (i := 1) (q := 39) hX dX5_init_38 rfl rfl rfl ?_
      refine z_V (ci := ciJ13) (T := TJ13) (N := 4) (na := 0) hX dX5_init_39 (c_J13_length D A (Or.inl hy1)) rfl q1335 q538 q539 q116 q540 (by decide +kernel) ⟨Nat.le_of_ble_eq_true rfl, Nat.le_of_ble_eq_true rfl⟩ rfl rfl (Nat.le_of_ble_eq_true rfl) rfl (by first | exact Nat.le_of_ble_eq_true rfl | (show _ + 0 ≤ 200; omega)) (by first | exact Nat.le_of_ble_eq_true rfl | (show _ + 0 ≤ 7000; omega)) (fun H h => ⟨h, cI.obE h (by first | assumption | exact Or.inl (by assumption) | exact Or.inr (by first | assumption | exact upm_same _ _ _ | exact (upm_ne _ _ (by first | assumption | exact Ne.symm (by assumption) | omega | exact ne_mp (m := m) (by assumption) (by assumption) | exact Ne.symm (ne_mp (m := m) (by assumption) (by assumption)) | exact ne_mp (m := w) (by assumption) (by assumption) | exact Ne.symm (ne_mp (m := w) (by assumption) (by assumption)))).trans (by first | assumption | exact upm_same _ _ _ | exact (upm_ne _ _ (by first | assumption | exact Ne.symm (by assumption) | omega | exact ne_mp (m := m) (by assumption) (by assumption) | exact Ne.symm (ne_mp (m := m) (by assumption) (by assumption)) | exact ne_mp (m := w) (by assumption) (by assumption) | exact Ne.symm (ne_mp (m := w) (by assumption) (by assumption)))).trans (by first | assumption | exact upm_same _ _ _ | exact (upm_ne _ _ (by first | assumption | exact Ne.symm (by assumption) | omega | exact ne_mp (m := m) (by assumption) (by assumption) | exact Ne.symm (ne_mp (m := m) (by assumption) (by assumption)) | exact ne_mp (m := w) (by assumption) (by assumption) | exact Ne.symm (ne_mp (m := w) (by assumption) (by assumption)))).trans (by first | assumption | exact upm_same _ _ _))))) rfl⟩) (fun E a => zT.no) (zPd.out ?_)
      show zG X (_ + 0) (_ + 0) _ 42 _ _
      refine z_icmp_ge (q := 45) (t := 102) hX dX5_init_42 (by decide) ⟨by omega, by omega⟩ ⟨by omega, by omega⟩ rfl (fun h42 => ?_) (fun h42 => ?_)
      · refine zG.know (φ := w1 tl = none ∧ w1 gl = none ∧ w1 b = none) (fun H h => ⟨h.w_of hMt, h.w_of hMg, h.w_of hMb⟩) (fun hn => ?_)
        obtain ⟨hn1, hn2, hn3⟩ := hn
        have hle4 : zLe w1 (upm (upm (upm w1 tl (eL mc ts)) gl (eL mc2 gs)) b (eO ciX5 [.ref y, .ref tl, .ref gl])) := (zLe.up hn1).tr ((zLe.up ((upm_ne _ _ hgt).trans hn2)).tr (zLe.up ((upm_ne _ _ hgb.symm).trans ((upm_ne _ _ htb.symm).trans hn3))))
        exact z_vret hX dX5_init_102 (by first | exact Nat.le_of_ble_eq_true rfl | (show (_ : Nat) ≤ 200; omega)) (by first | exact Nat.le_of_ble_eq_true rfl | (show (_ : Nat) ≤ 7000; omega)) rfl (fun H h => ⟨upm (upm (upm w1 tl (eL mc ts)) gl (eL mc2 gs)) b (eO ciX5 [.ref y, .ref tl, .ref gl]), rfl, ⟨hle.tr hle4, hs, y, tl, gl, mc, mc2, ts, gs, upm_same _ _ _, hle4 _ _ hy1, (upm_ne _ _ htb).trans ((upm_ne _ _ hgt.symm).trans (upm_same _ _ _)), by rw [← hkN]; exact hts.le hle4, (upm_ne _ _ hgb).trans (upm_same _ _ _), by
          have e : gapsL s = gpN s (k + 1) := by
            unfold gapsL gpN
            rw [show (nT s + 1).toNat = k + 1 by omega]
          rw [e]
          exact hgs.le hle4⟩, (((h.frz hMt).frz ((dlm_ne _ hgt).trans hMg)).frz ((dlm_ne _ hgb.symm).trans ((dlm_ne _ htb.symm).trans hMb))).eqv (fun c => by
          by_cases c1 : c = b
          · rw [c1, dlm_same, dlm_same]
          · rw [dlm_ne _ c1, dlm_ne _ c1]
            by_cases c2 : c = gl
            · rw [c2, dlm_same, hmgl]
            · rw [dlm_ne _ c2]
              by_cases c3 : c = tl
              · rw [c3, dlm_same, hmtl]
              · rw [dlm_ne _ c3, hMo c c1 c3 c2])⟩)
      · exact absurd (Int.le_refl _) h42
  refine z_aload_n (i := 0) (q := 1) hX dX5_init_0 rfl rfl rfl ?_
  refine z_objInit (q := 4) hX dX5_init_1 q1328 q147 q148 (Nat.le_of_ble_eq_true rfl) rfl ⟨Nat.le_of_ble_eq_true rfl, Nat.le_of_ble_eq_true rfl⟩ rfl ?_
  refine z_aload_n (i := 0) (q := 5) hX dX5_init_4 rfl rfl rfl ?_
  refine zc_new (q := 8) (fs := [zI 0, .null, zI 0]) (C := RJ2) (T := TJ2) (N := 3) hX ciJ2 rfl in_J2 tyJ2_ok dX5_init_5 q1329 q156 q101 (fun j hj => by match j, hj with | 0, _ => rfl | 1, _ => rfl | 2, _ => rfl | (_ + 3), h => exact absurd h (by omega)) (by first | exact Nat.le_of_ble_eq_true rfl | (show _ + 1 ≤ 200; omega)) (by first | exact Nat.le_of_ble_eq_true rfl | (show _ + 3 ≤ 7000; omega)) rfl (fun a5 ha5 hb5 => ?_)
  have n5 := hb5
  try simp only [upm_none] at n5
  repeat (have := And.left n5; replace n5 := And.right n5)
  refine z_dup (q := 9) hX dX5_init_8 rfl rfl ?_
  refine z_C (na := 0) hX dX5_init_9 (c_J2_init D A (by first | assumption | exact upm_same _ _ _ | exact (upm_ne _ _ (by first | assumption | exact Ne.symm (by assumption) | omega | exact ne_mp (m := m) (by assumption) (by assumption) | exact Ne.symm (ne_mp (m := m) (by assumption) (by assumption)) | exact ne_mp (m := w) (by assumption) (by assumption) | exact Ne.symm (ne_mp (m := w) (by assumption) (by assumption)))).trans (by first | assumption | exact upm_same _ _ _ | exact (upm_ne _ _ (by first | assumption | exact Ne.symm (by assumption) | omega | exact ne_mp (m := m) (by assumption) (by assumption) | exact Ne.symm (ne_mp (m := m) (by assumption) (by assumption)) | exact ne_mp (m := w) (by assumption) (by assumption) | exact Ne.symm (ne_mp (m := w) (by assumption) (by assumption)))).trans (by first | assumption | exact upm_same _ _ _ | exact (upm_ne _ _ (by first | assumption | exact Ne.symm (by assumption) | omega | exact ne_mp (m := m) (by assumption) (by assumption) | exact Ne.symm (ne_mp (m := m) (by assumption) (by assumption)) | exact ne_mp (m := w) (by assumption) (by assumption) | exact Ne.symm (ne_mp (m := w) (by assumption) (by assumption)))).trans (by first | assumption | exact upm_same _ _ _))))) q1330 q158 q101 q159 rfl (by decide +kernel) ⟨Nat.le_of_ble_eq_true rfl, Nat.le_of_ble_eq_true rfl⟩ rfl rfl (Nat.le_of_ble_eq_true rfl) rfl (by first | exact Nat.le_of_ble_eq_true rfl | (show _ + 0 ≤ 200; omega)) (by first | exact Nat.le_of_ble_eq_true rfl | (show _ + 0 ≤ 7000; omega)) (fun H h => h) (fun E a => zT.no) (zPv.out ?_)
  show zG X (_ + 0) (_ + 0) _ 12 _ _
  refine zc_putF (C := RX5) (T := TX5) (N := 3) (q := 15) hX ciX5 1 rfl (by decide) in_X5 tyX5_ok nmX5 dX5_init_12 q1397 rfl rfl rfl (by first | assumption | exact upm_same _ _ _ | exact (upm_ne _ _ (by first | assumption | exact Ne.symm (by assumption) | omega | exact ne_mp (m := m) (by assumption) (by assumption) | exact Ne.symm (ne_mp (m := m) (by assumption) (by assumption)) | exact ne_mp (m := w) (by assumption) (by assumption) | exact Ne.symm (ne_mp (m := w) (by assumption) (by assumption)))).trans (by first | assumption | exact upm_same _ _ _ | exact (upm_ne _ _ (by first | assumption | exact Ne.symm (by assumption) | omega | exact ne_mp (m := m) (by assumption) (by assumption) | exact Ne.symm (ne_mp (m := m) (by assumption) (by assumption)) | exact ne_mp (m := w) (by assumption) (by assumption) | exact Ne.symm (ne_mp (m := w) (by assumption) (by assumption)))).trans (by first | assumption | exact upm_same _ _ _ | exact (upm_ne _ _ (by first | assumption | exact Ne.symm (by assumption) | omega | exact ne_mp (m := m) (by assumption) (by assumption) | exact Ne.symm (ne_mp (m := m) (by assumption) (by assumption)) | exact ne_mp (m := w) (by assumption) (by assumption) | exact Ne.symm (ne_mp (m := w) (by assumption) (by assumption)))).trans (by first | assumption | exact upm_same _ _ _)))) (Nat.le_of_ble_eq_true rfl) rfl rfl rfl rfl ?_
  refine z_aload_n (i := 0) (q := 16) hX dX5_init_15 rfl rfl rfl ?_
  refine zc_new (q := 19) (fs := [zI 0, .null, zI 0]) (C := RJ2) (T := TJ2) (N := 3) hX ciJ2 rfl in_J2 tyJ2_ok dX5_init_16 q1329 q156 q101 (fun j hj => by match j, hj with | 0, _ => rfl | 1, _ => rfl | 2, _ => rfl | (_ + 3), h => exact absurd h (by omega)) (by first | exact Nat.le_of_ble_eq_true rfl | (show _ + 1 ≤ 200; omega)) (by first | exact Nat.le_of_ble_eq_true rfl | (show _ + 3 ≤ 7000; omega)) rfl (fun a16 ha16 hb16 => ?_)
  have n16 := hb16
  try simp only [upm_none] at n16
  repeat (have := And.left n16; replace n16 := And.right n16)
  refine z_dup (q := 20) hX dX5_init_19 rfl rfl ?_
  refine z_C (na := 0) hX dX5_init_20 (c_J2_init D A (by first | assumption | exact upm_same _ _ _ | exact (upm_ne _ _ (by first | assumption | exact Ne.symm (by assumption) | omega | exact ne_mp (m := m) (by assumption) (by assumption) | exact Ne.symm (ne_mp (m := m) (by assumption) (by assumption)) | exact ne_mp (m := w) (by assumption) (by assumption) | exact Ne.symm (ne_mp (m := w) (by assumption) (by assumption)))).trans (by first | assumption | exact upm_same _ _ _ | exact (upm_ne _ _ (by first | assumption | exact Ne.symm (by assumption) | omega | exact ne_mp (m := m) (by assumption) (by assumption) | exact Ne.symm (ne_mp (m := m) (by assumption) (by assumption)) | exact ne_mp (m := w) (by assumption) (by assumption) | exact Ne.symm (ne_mp (m := w) (by assumption) (by assumption)))).trans (by first | assumption | exact upm_same _ _ _ | exact (upm_ne _ _ (by first | assumption | exact Ne.symm (by assumption) | omega | exact ne_mp (m := m) (by assumption) (by assumption) | exact Ne.symm (ne_mp (m := m) (by assumption) (by assumption)) | exact ne_mp (m := w) (by assumption) (by assumption) | exact Ne.symm (ne_mp (m := w) (by assumption) (by assumption)))).trans (by first | assumption | exact upm_same _ _ _))))) q1330 q158 q101 q159 rfl (by decide +kernel) ⟨Nat.le_of_ble_eq_true rfl, Nat.le_of_ble_eq_true rfl⟩ rfl rfl (Nat.le_of_ble_eq_true rfl) rfl (by first | exact Nat.le_of_ble_eq_true rfl | (show _ + 0 ≤ 200; omega)) (by first | exact Nat.le_of_ble_eq_true rfl | (show _ + 0 ≤ 7000; omega)) (fun H h => h) (fun E a => zT.no) (zPv.out ?_)
  show zG X (_ + 0) (_ + 0) _ 23 _ _
  refine zc_putF (C := RX5) (T := TX5) (N := 3) (q := 26) hX ciX5 2 rfl (by decide) in_X5 tyX5_ok nmX5 dX5_init_23 q1403 rfl rfl rfl (by first | assumption | exact upm_same _ _ _ | exact (upm_ne _ _ (by first | assumption | exact Ne.symm (by assumption) | omega | exact ne_mp (m := m) (by assumption) (by assumption) | exact Ne.symm (ne_mp (m := m) (by assumption) (by assumption)) | exact ne_mp (m := w) (by assumption) (by assumption) | exact Ne.symm (ne_mp (m := w) (by assumption) (by assumption)))).trans (by first | assumption | exact upm_same _ _ _ | exact (upm_ne _ _ (by first | assumption | exact Ne.symm (by assumption) | omega | exact ne_mp (m := m) (by assumption) (by assumption) | exact Ne.symm (ne_mp (m := m) (by assumption) (by assumption)) | exact ne_mp (m := w) (by assumption) (by assumption) | exact Ne.symm (ne_mp (m := w) (by assumption) (by assumption)))).trans (by first | assumption | exact upm_same _ _ _ | exact (upm_ne _ _ (by first | assumption | exact Ne.symm (by assumption) | omega | exact ne_mp (m := m) (by assumption) (by assumption) | exact Ne.symm (ne_mp (m := m) (by assumption) (by assumption)) | exact ne_mp (m := w) (by assumption) (by assumption) | exact Ne.symm (ne_mp (m := w) (by assumption) (by assumption)))).trans (by first | assumption | exact upm_same _ _ _)))) (Nat.le_of_ble_eq_true rfl) rfl rfl rfl rfl ?_
  refine z_aload_n (i := 0) (q := 27) hX dX5_init_26 rfl rfl rfl ?_
  refine z_aload_n (i := 1) (q := 28) hX dX5_init_27 rfl rfl rfl ?_
  refine zc_putF (C := RX5) (T := TX5) (N := 3) (q := 31) hX ciX5 0 rfl (by decide) in_X5 tyX5_ok nmX5 dX5_init_28 q1396 rfl rfl rfl (by first | assumption | exact upm_same _ _ _ | exact (upm_ne _ _ (by first | assumption | exact Ne.symm (by assumption) | omega | exact ne_mp (m := m) (by assumption) (by assumption) | exact Ne.symm (ne_mp (m := m) (by assumption) (by assumption)) | exact ne_mp (m := w) (by assumption) (by assumption) | exact Ne.symm (ne_mp (m := w) (by assumption) (by assumption)))).trans (by first | assumption | exact upm_same _ _ _ | exact (upm_ne _ _ (by first | assumption | exact Ne.symm (by assumption) | omega | exact ne_mp (m := m) (by assumption) (by assumption) | exact Ne.symm (ne_mp (m := m) (by assumption) (by assumption)) | exact ne_mp (m := w) (by assumption) (by assumption) | exact Ne.symm (ne_mp (m := w) (by assumption) (by assumption)))).trans (by first | assumption | exact upm_same _ _ _ | exact (upm_ne _ _ (by first | assumption | exact Ne.symm (by assumption) | omega | exact ne_mp (m := m) (by assumption) (by assumption) | exact Ne.symm (ne_mp (m := m) (by assumption) (by assumption)) | exact ne_mp (m := w) (by assumption) (by assumption) | exact Ne.symm (ne_mp (m := w) (by assumption) (by assumption)))).trans (by first | assumption | exact upm_same _ _ _)))) (Nat.le_of_ble_eq_true rfl) rfl rfl rfl rfl ?_
  refine z_aload_n (i := 0) (q := 32) hX dX5_init_31 rfl rfl rfl ?_
  refine z_iconst (q := 33) hX dX5_init_32 rfl ?_
  have hgap0 := tk_gap (s := s) (k := 0) (by omega) (by omega)
  have hp0 : pE s 0 = 0 := if_pos rfl
  rw [hp0] at hgap0
  refine z_V (ci := ciX5) (T := TX5) (N := 3) (na := 1) hX dX5_init_33 (c_X5_gapFrom D A (s := s) (t := y) (gl := a16) (e := nE s 0) (upm_same _ _ _) hy ((upm_ne _ _ (by omega)).trans ((upm_ne _ _ (by omega)).trans (upm_same _ _ _))) (Nat.zero_le _) ⟨by omega, by omega, by omega, by omega⟩ hgap0.2.1 (by rcases hgap0.2.2 with q | q; exact Or.inl (by unfold nE; rw [if_pos q]); exact Or.inr q.2) hch) rfl q1331 q1333 qs27 q115 q1334 (by decide +kernel) ⟨Nat.le_of_ble_eq_true rfl, Nat.le_of_ble_eq_true rfl⟩ rfl rfl (Nat.le_of_ble_eq_true rfl) rfl (by first | exact Nat.le_of_ble_eq_true rfl | (show _ + 1 ≤ 200; omega)) (by first | exact Nat.le_of_ble_eq_true rfl | (show _ + 61 ≤ 7000; omega)) (fun H h => ⟨h, cI.obE h (by first | assumption | exact Or.inl (by assumption) | exact Or.inr (by first | assumption | exact upm_same _ _ _ | exact (upm_ne _ _ (by first | assumption | exact Ne.symm (by assumption) | omega | exact ne_mp (m := m) (by assumption) (by assumption) | exact Ne.symm (ne_mp (m := m) (by assumption) (by assumption)) | exact ne_mp (m := w) (by assumption) (by assumption) | exact Ne.symm (ne_mp (m := w) (by assumption) (by assumption)))).trans (by first | assumption | exact upm_same _ _ _ | exact (upm_ne _ _ (by first | assumption | exact Ne.symm (by assumption) | omega | exact ne_mp (m := m) (by assumption) (by assumption) | exact Ne.symm (ne_mp (m := m) (by assumption) (by assumption)) | exact ne_mp (m := w) (by assumption) (by assumption) | exact Ne.symm (ne_mp (m := w) (by assumption) (by assumption)))).trans (by first | assumption | exact upm_same _ _ _ | exact (upm_ne _ _ (by first | assumption | exact Ne.symm (by assumption) | omega | exact ne_mp (m := m) (by assumption) (by assumption) | exact Ne.symm (ne_mp (m := m) (by assumption) (by assumption)) | exact ne_mp (m := w) (by assumption) (by assumption) | exact Ne.symm (ne_mp (m := w) (by assumption) (by assumption)))).trans (by first | assumption | exact upm_same _ _ _))))) rfl⟩) (fun E a => zT.no) (zPd.out ?_)
  show zG X (_ + 1) (_ + 61) _ 36 _ _
  refine zG.know (fun H h => h.iv (k := nE s 0 - 0) (by omega) (by omega)) (fun hiv => ?_)
  refine z_istore_n (i := 2) (q := 37) hX dX5_init_36 rfl (Nat.le_of_ble_eq_true rfl) rfl rfl ?_
  have q1 : a5 ≠ b := ne_mp hb5 hm
  have q2 : a16 ≠ b := by omega
  have q3 : a16 ≠ a5 := by omega
  have e0 : gpN s (0 + 1) = [] ++ [nE s 0 - 0] := by
    rw [gpN_succ]
    show [] ++ [gp s ((0 : Nat) : Int)] = _
    rw [gp_eq, show ((0 : Nat) : Int) = 0 from rfl, hp0]
  refine K a5 a16 q1 q2 q3 hb5 n16 0 (Nat.zero_le _) _ _ (by omega) (by omega) w _ 0 1 [] [zIv D (nE s 0 - 0)] _ _ zLe.rf ((upm_ne _ _ q2.symm).trans (upm_same _ _ _)) ?_ (upm_same _ _ _) (fun c h1 h2 h3 => by simp [upm, h1, h2, h3]) ⟨rfl, fun k hk => absurd hk (Nat.not_lt_zero k)⟩ (by rw [e0]; exact (zInts.nil w).snoc hiv ⟨by omega, by omega⟩)
  simp [upm, q1, q3.symm]
