/-! THE REFERENCE'S CONSTRUCTOR (printed by gen/mkx4.py): the heap's size is told besides, for its arrays lie one behind the other -/
set_option maxRecDepth 100000
def zS9 (D : zD) (A : Nat → Prop) (w m : zMp) (N : Nat) : Heap → Prop := fun H => H.size = N ∧ cI D A w m H
def G00 : zTG := fun _ _ => 0
def xF (b j : Nat) : List Value := (List.range 27).map (fun k => match twArr k with
  | some i => if i < j then .ref (b + 1 + i) else .null
  | none => zI 0)
def xM (D : zD) (b : Nat) (m : zMp) (j : Nat) : zMp := fun a => if a = b then some (eO ciX4 (xF b j)) else if b < a ∧ a < b + 1 + j then some (.inl (twAe D G00 (a - b - 1))) else m a
section XM
variable {D : zD} {b j : Nat} {m : zMp}
theorem xM_b : xM D b m j b = some (eO ciX4 (xF b j)) := if_pos rfl
theorem xM_a {i : Nat} (h : i < j) : xM D b m j (b + 1 + i) = some (.inl (twAe D G00 i)) := by
  unfold xM
  rw [if_neg (by omega), if_pos ⟨by omega, by omega⟩, show b + 1 + i - b - 1 = i by omega]
theorem twAe_0 {i : Nat} : twAe D G00 i = aN D 0 (twLen i) (fun _ => 0) := rfl
theorem xM_step {fk : Nat} (hj : j < 15) (hf : (xF b j).set fk (.ref (b + 1 + j)) = xF b (j + 1)) : upm (upm (xM D b m j) (b + 1 + j) (eC (aN D 0 (twLen j) (fun _ => 0)))) b (eO ciX4 ((xF b j).set fk (.ref (b + 1 + j)))) = xM D b m (j + 1) := by
  funext a
  by_cases h1 : a = b
  · rw [h1, upm_same, xM_b, hf]
  · rw [upm_ne _ _ h1]
    by_cases h2 : a = b + 1 + j
    · rw [h2, upm_same, xM_a (Nat.lt_succ_self j), twAe_0]
    · rw [upm_ne _ _ h2]
      unfold xM
      rw [if_neg h1, if_neg h1]
      by_cases h3 : b < a ∧ a < b + 1 + j
      · rw [if_pos h3, if_pos ⟨h3.1, by omega⟩]
      · rw [if_neg h3, if_neg (by omega)]
theorem xM_end : upm (xM D b m 15) (b + 1 + 0) (eC (aN D 0 (twLen 0) (upd (fun i => Int32.ofInt (G00 0 (i : Int))) (1 : Int).toNat (Int32.ofInt 50)))) = rM D b (fun _ => 0) (upG G00 0 1 50) m := by
  funext a
  by_cases h1 : a = b
  · rw [upm_ne _ _ (by omega), h1, xM_b, rM_b]
    rfl
  · by_cases h2 : a = b + 1 + 0
    · rw [h2, upm_same, rM_j (j := 0) (by decide)]
      refine congrArg some ?_
      show (Sum.inl (aN D 0 (twLen 0) _) : zE) = Sum.inl (twAe D _ 0)
      unfold twAe
      refine congrArg Sum.inl (congrArg Sum.inl (congrArg (Prod.mk _) (congrArg (Prod.mk _) (congrArg Sum.inl ?_))))
      funext i
      unfold upd upG
      by_cases q : i = (1 : Int).toNat
      · rw [if_pos q, if_pos ⟨rfl, by rw [q]; rfl⟩]
      · rw [if_neg q, if_neg (fun z => q (by have := z.2; omega))]
    · rw [upm_ne _ _ h2]
      by_cases h3 : rA b a
      · rcases rM_cases h3 with h | ⟨i, hi, h⟩
        · exact absurd h h1
        · have hi0 : i ≠ 0 := fun q => h2 (by rw [h, q])
          rw [h, xM_a hi, rM_j hi]
          unfold twAe
          rw [upG_nj _ _ _ hi0]
      · rw [rM_o h3]
        unfold xM
        unfold rA at h3
        rw [if_neg h1, if_neg (by omega)]
end XM
section
variable {D : zD} {X : zX} {own : String} {cc : ByteArray} {nL : Nat} {ret : Option FieldType} {hh : zHh} {rm : Room} {A : Nat → Prop} {P : Option Value → Heap → Prop} {Ex : String → Nat → Heap → Prop} {nm : String} {k n pc q : Nat} {L : List (Option Value)} {st : List Value} {w mm : zMp} {a : Nat}
theorem zs_newa (hX : zF D X own cc nL ret hh rm A P Ex nm) {z : Int} {N : Nat} (d : decode cc pc = .ok (.newarray .int, 2)) (ha : Cond.arrayClass .int ∈ lw_all) (hz : 0 ≤ z ∧ z ≤ 100000) (hk : k + 1 ≤ rm.cells) (hs : n + z.toNat ≤ rm.slots) (hq : pc + 2 = q) (kk : w N = none → mm N = none → zG X (k + 1) (n + z.toNat) (zS9 D A w (upm mm N (eC (aN D 0 z.toNat (fun _ => 0)))) (N + 1)) q L (.ref N :: st)) : zG X k n (zS9 D A w mm N) pc L (zI z :: st) := by
  subst hq
  obtain ⟨p, l, e, R, s, m, args, below, meth, c, Q, A⟩ := X
  obtain ⟨hx, hb, hr2, hlocks, hml, hown, hts, rfl, rfl, rfl, htab, hK, hlt, hnm⟩ := hX
  intro H locs ls hI0 hS hL
  obtain ⟨rfl, hI⟩ := hI0
  have hzr : zR z := ⟨by omega, by omega⟩
  have hmul : z.toNat * componentBytes (newarray.typeOf .int) ≤ 100000 * 8 := Nat.mul_le_mul (by omega) (by decide)
  have ha2 : Cond.arrayClass (newarray.typeOf .int) ∈ lw_all := ha
  refine va_newaK hx hb (hts _ ha2) (g := F0 m pc ls (zI z :: st)) rfl d rfl (by rw [show (0 : Int32) = Int32.ofInt 0 from rfl, zI_lt hzr (by decide)]; omega) (zI_nat hzr) (by omega) hk hs rfl fun H1 cA e1 z1 o1 hAr hNm => ?_
  have hcA : cA = D.2.1 0 := Option.some.inj (hNm.symm.trans ((hK.k1.2 0 _ rfl).2))
  subst hcA
  obtain ⟨hwn, hmn, hI1⟩ := hI.new (e := aN D 0 z.toNat (fun _ => 0)) (by show H1[H.size]? = some (vp_cell _ _); rw [vp_cell_i]; exact e1) z1 o1
  exact kk hwn hmn H1 locs ls ⟨z1, hI1⟩ ⟨Nat.le_trans hS.1 (by omega), fun x h1 h2 => (o1 x (Nat.lt_of_lt_of_le h1 hS.1)).trans (hS.2.1 x h1 h2), hS.2.2⟩ hL
theorem zs_iast (hX : zF D X own cc nL ret hh rm A P Ex nm) {N N9 : Nat} {f : Nat → Int32} {i z : Int} (d : decode cc pc = .ok (.iastore, 1)) (hm : mm a = some (eC (aN D 0 N f))) (hi : 0 ≤ i ∧ i < (N : Int)) (hN : N < 2147483648) (hq : pc + 1 = q) (kk : zG X k n (zS9 D A w (upm mm a (eC (aN D 0 N (upd f i.toNat (Int32.ofInt z))))) N9) q L st) : zG X k n (zS9 D A w mm N9) pc L (zI z :: zI i :: .ref a :: st) := by
  subst hq
  obtain ⟨p, l, e, R, s, m, args, below, meth, c, Q, A⟩ := X
  obtain ⟨hx, hb, hr2, hlocks, hml, hown, hts, rfl, rfl, rfl, htab, hK, hlt, hnm⟩ := hX
  intro H locs ls hI0 hS hL
  obtain ⟨rfl, hI⟩ := hI0
  have hc : H[a]? = some (vp_cell (D.2.1 0) (N, .inl f)) := hI.at (Or.inr hm)
  have hzr : zR i := ⟨by omega, by omega⟩
  refine W.iast hx hb hc ((hK.k1.2 0 _ rfl).1 N (fun j => .int (f j))) (fun q => by cases q) (by show ¬ (_ ∨ (arrV _ _ _).slots.size ≤ _); rw [arrV_size]; exact zI_in hzr hi.1 hi.2) rfl rfl d fun H1 e z1 oq => ?_
  refine kk H1 _ ls ⟨z1, hI.put hm ?_ z1 oq⟩ (hS.put z1 oq (hI.own hm)) hL
  show H1[a]? = some (vp_cell _ _)
  rw [e, zI_nat hzr, vp_cell_i, vp_cell_i, arrV_store]
  congr 2
  funext j
  by_cases hq : j = i.toNat
  · subst hq
    simp [updV, upd]
  · simp [updV, upd, hq]
theorem zs_put (hX : zF D X own cc nL ret hh rm A P Ex nm) (ci fk : Nat) {N9 : Nat} {idx : Nat} {v : Value} {C : String} {T : u_T} {N : Nat} {ty : FieldType} {fs : List Value} {tyf : Nat → FieldType} (hc : zCl[ci]? = some (C, T, N)) (hk : fk < N) (hw : ∀ w ∈ u_ws C T N, w ∈ lw_all) (hty : ∀ k, k < N → parseFieldDescriptor (T k).2.2.1 = some (tyf k)) (hnm2 : ∀ a, a < N → ∀ b, b < N → a ≠ b → (T a).2.1 ≠ (T b).2.1) (d : decode cc pc = .ok (.putfield idx, 3)) (hl : Cond.fieldLink own idx (T fk).1 (T fk).2.1 (T fk).2.2.1 ∈ lw_all) (hfin : (T fk).2.2.2 = true) (hin2 : nm = "<init>") (hdecl : (T fk).1 = own) (hm : mm a = some (eO ci fs)) (hlen : fk < fs.length) (hd : parseFieldDescriptor (T fk).2.2.1 = some ty) (hn : narrow ty v = v) (hfit : fits ty v = true) (hq : pc + 3 = q) (kk : zG X k n (zS9 D A w (upm mm a (eO ci (fs.set fk v))) N9) q L st) : zG X k n (zS9 D A w mm N9) pc L (v :: .ref a :: st) := by
  subst hq
  obtain ⟨p, l, e, R, s, m, args, below, meth, c, Q, A⟩ := X
  obtain ⟨hx, hb, hr2, hlocks, hml, hown, hts, rfl, rfl, rfl, htab, hK, hlt, hnm⟩ := hX
  intro H locs ls hI0 hS hL
  obtain ⟨rfl, hI⟩ := hI0
  have hap := va_apart (own := own) hts hw tyf hty hnm2 hK.k1 hc
  obtain ⟨r, cell, h1, q1, q2, q3, q6, q4⟩ := hI.at (Or.inr hm)
  have hr : r = (C, T, N) := Option.some.inj (h1.symm.trans hc)
  subst hr
  obtain ⟨hSl, hfc, kC, hkC, hkind⟩ := hK.k1.1 ci _ hc
  obtain ⟨cf, kf, fi, f, hi, hsl⟩ := hSl fk hk
  have hlay := hts _ (hw _ (u_in_lay hk))
  unfold u_lay at hlay
  rw [if_pos hfin] at hlay
  have hst := (u_facts hfc hkC (u_lays hts hw hk) hi).1
  have hcf : m.cls = cf := by
    obtain ⟨_, _, c', _, _, _, -, -, hf', -, -, -, hown2, -⟩ := Cond.laysFinal_spec hlay
    have e1 : c' = cf := by have := hi.symm.trans hf'; simp at this; exact this.1.symm
    rw [hdecl] at hown2
    rw [← e1]; exact Option.some.inj (hown.symm.trans hown2)
  have h6 := u_fits hfc hkC hkind (Or.inr hlay) hi hd hn hfit
  refine W.putFinK hx hb hown (hts _ hl) hi hst hcf (hnm.trans hin2) (by rw [q2]; exact h6) q1 q3 (by rw [hsl]; exact k2_hasslot (q4 fk hk)) rfl rfl d fun H' e1 e2 e3 => ?_
  rw [hsl] at e1 ⊢
  exact kk H' _ ls ⟨e2, hI.put hm ⟨_, _, hc, e1, q2, q3, q6, fun j hj => by rw [← vp_updV_set hlen v j]; exact t_set q4 hap hk v j hj⟩ e2 e3⟩ (hS.put e2 e3 (hI.own hm)) hL
end
abbrev rmX4_init : Room := { frames := 1, cells := 15, slots := 28258, locals := 20 }
set_option maxHeartbeats 4000000 in
theorem c_X4_init (D : zD) (A : Nat → Prop) {w m : zMp} {b : Nat} {mm : zMp} : zC D yX4_init cX4_init 1 none none rmX4_init A [.ref b] ((zS9 D A w (xM D b mm 0) (b + 1))) (zPv (zS9 D A w (rM D b (fun _ => 0) (upG G00 0 1 50) mm) (b + 16))) (zNo) := by
  refine zC_start (L := [some (.ref b)]) (by decide) (Nat.le_of_ble_eq_true rfl) rfl (fun X hX => ?_)
  refine z_aload_n (i := 0) (q := 1) hX dX4_init_0 rfl rfl rfl ?_
  refine z_objInit (q := 4) hX dX4_init_1 q1863 q147 q148 (Nat.le_of_ble_eq_true rfl) rfl ⟨Nat.le_of_ble_eq_true rfl, Nat.le_of_ble_eq_true rfl⟩ rfl ?_
  refine z_aload_n (i := 0) (q := 5) hX dX4_init_4 rfl rfl rfl ?_
  refine z_sipush (q := 8) hX dX4_init_5 (by decide) rfl ?_
  refine zs_newa (q := 10) (N := b + 1 + 0) hX dX4_init_8 q1946 (by decide) (Nat.le_of_ble_eq_true rfl) (Nat.le_of_ble_eq_true rfl) rfl (fun hw8 hm8 => ?_)
  refine zs_put (q := 13) (C := RX4) (T := TX4) (N := 27) hX ciX4 0 rfl (by decide) in_X4 tyX4_ok nmX4 dX4_init_10 q1864 rfl rfl rfl ((upm_ne _ _ (show b ≠ b + 1 + 0 by omega)).trans (xM_b (j := 0))) (Nat.le_of_ble_eq_true rfl) rfl rfl rfl rfl ?_
  show zG X _ _ (zS9 D A w (upm (upm (xM D b mm 0) (b + 1 + 0) (eC (aN D 0 (twLen 0) (fun _ => 0)))) b (eO ciX4 ((xF b 0).set 0 (.ref (b + 1 + 0))))) (b + 1 + 1)) _ _ _
  rw [xM_step (j := 0) (fk := 0) (by decide) rfl]
  refine z_aload_n (i := 0) (q := 14) hX dX4_init_13 rfl rfl rfl ?_
  refine z_sipush (q := 17) hX dX4_init_14 (by decide) rfl ?_
  refine zs_newa (q := 19) (N := b + 1 + 1) hX dX4_init_17 q1946 (by decide) (Nat.le_of_ble_eq_true rfl) (Nat.le_of_ble_eq_true rfl) rfl (fun hw17 hm17 => ?_)
  refine zs_put (q := 22) (C := RX4) (T := TX4) (N := 27) hX ciX4 1 rfl (by decide) in_X4 tyX4_ok nmX4 dX4_init_19 q1865 rfl rfl rfl ((upm_ne _ _ (show b ≠ b + 1 + 1 by omega)).trans (xM_b (j := 1))) (Nat.le_of_ble_eq_true rfl) rfl rfl rfl rfl ?_
  show zG X _ _ (zS9 D A w (upm (upm (xM D b mm 1) (b + 1 + 1) (eC (aN D 0 (twLen 1) (fun _ => 0)))) b (eO ciX4 ((xF b 1).set 1 (.ref (b + 1 + 1))))) (b + 1 + 2)) _ _ _
  rw [xM_step (j := 1) (fk := 1) (by decide) rfl]
  refine z_aload_n (i := 0) (q := 23) hX dX4_init_22 rfl rfl rfl ?_
  refine z_sipush (q := 26) hX dX4_init_23 (by decide) rfl ?_
  refine zs_newa (q := 28) (N := b + 1 + 2) hX dX4_init_26 q1946 (by decide) (Nat.le_of_ble_eq_true rfl) (Nat.le_of_ble_eq_true rfl) rfl (fun hw26 hm26 => ?_)
  refine zs_put (q := 31) (C := RX4) (T := TX4) (N := 27) hX ciX4 2 rfl (by decide) in_X4 tyX4_ok nmX4 dX4_init_28 q1866 rfl rfl rfl ((upm_ne _ _ (show b ≠ b + 1 + 2 by omega)).trans (xM_b (j := 2))) (Nat.le_of_ble_eq_true rfl) rfl rfl rfl rfl ?_
  show zG X _ _ (zS9 D A w (upm (upm (xM D b mm 2) (b + 1 + 2) (eC (aN D 0 (twLen 2) (fun _ => 0)))) b (eO ciX4 ((xF b 2).set 2 (.ref (b + 1 + 2))))) (b + 1 + 3)) _ _ _
  rw [xM_step (j := 2) (fk := 2) (by decide) rfl]
  refine z_aload_n (i := 0) (q := 32) hX dX4_init_31 rfl rfl rfl ?_
  refine z_sipush (q := 35) hX dX4_init_32 (by decide) rfl ?_
  refine zs_newa (q := 37) (N := b + 1 + 3) hX dX4_init_35 q1946 (by decide) (Nat.le_of_ble_eq_true rfl) (Nat.le_of_ble_eq_true rfl) rfl (fun hw35 hm35 => ?_)
  refine zs_put (q := 40) (C := RX4) (T := TX4) (N := 27) hX ciX4 4 rfl (by decide) in_X4 tyX4_ok nmX4 dX4_init_37 q1868 rfl rfl rfl ((upm_ne _ _ (show b ≠ b + 1 + 3 by omega)).trans (xM_b (j := 3))) (Nat.le_of_ble_eq_true rfl) rfl rfl rfl rfl ?_
  show zG X _ _ (zS9 D A w (upm (upm (xM D b mm 3) (b + 1 + 3) (eC (aN D 0 (twLen 3) (fun _ => 0)))) b (eO ciX4 ((xF b 3).set 4 (.ref (b + 1 + 3))))) (b + 1 + 4)) _ _ _
  rw [xM_step (j := 3) (fk := 4) (by decide) rfl]
  refine z_aload_n (i := 0) (q := 41) hX dX4_init_40 rfl rfl rfl ?_
  refine z_bipush (q := 43) hX dX4_init_41 (by decide) rfl ?_
  refine zs_newa (q := 45) (N := b + 1 + 4) hX dX4_init_43 q1946 (by decide) (Nat.le_of_ble_eq_true rfl) (Nat.le_of_ble_eq_true rfl) rfl (fun hw43 hm43 => ?_)
  refine zs_put (q := 48) (C := RX4) (T := TX4) (N := 27) hX ciX4 7 rfl (by decide) in_X4 tyX4_ok nmX4 dX4_init_45 q1871 rfl rfl rfl ((upm_ne _ _ (show b ≠ b + 1 + 4 by omega)).trans (xM_b (j := 4))) (Nat.le_of_ble_eq_true rfl) rfl rfl rfl rfl ?_
  show zG X _ _ (zS9 D A w (upm (upm (xM D b mm 4) (b + 1 + 4) (eC (aN D 0 (twLen 4) (fun _ => 0)))) b (eO ciX4 ((xF b 4).set 7 (.ref (b + 1 + 4))))) (b + 1 + 5)) _ _ _
  rw [xM_step (j := 4) (fk := 7) (by decide) rfl]
  refine z_aload_n (i := 0) (q := 49) hX dX4_init_48 rfl rfl rfl ?_
  refine z_sipush (q := 52) hX dX4_init_49 (by decide) rfl ?_
  refine zs_newa (q := 54) (N := b + 1 + 5) hX dX4_init_52 q1946 (by decide) (Nat.le_of_ble_eq_true rfl) (Nat.le_of_ble_eq_true rfl) rfl (fun hw52 hm52 => ?_)
  refine zs_put (q := 57) (C := RX4) (T := TX4) (N := 27) hX ciX4 8 rfl (by decide) in_X4 tyX4_ok nmX4 dX4_init_54 q1872 rfl rfl rfl ((upm_ne _ _ (show b ≠ b + 1 + 5 by omega)).trans (xM_b (j := 5))) (Nat.le_of_ble_eq_true rfl) rfl rfl rfl rfl ?_
  show zG X _ _ (zS9 D A w (upm (upm (xM D b mm 5) (b + 1 + 5) (eC (aN D 0 (twLen 5) (fun _ => 0)))) b (eO ciX4 ((xF b 5).set 8 (.ref (b + 1 + 5))))) (b + 1 + 6)) _ _ _
  rw [xM_step (j := 5) (fk := 8) (by decide) rfl]
  refine z_aload_n (i := 0) (q := 58) hX dX4_init_57 rfl rfl rfl ?_
  refine z_sipush (q := 61) hX dX4_init_58 (by decide) rfl ?_
  refine zs_newa (q := 63) (N := b + 1 + 6) hX dX4_init_61 q1946 (by decide) (Nat.le_of_ble_eq_true rfl) (Nat.le_of_ble_eq_true rfl) rfl (fun hw61 hm61 => ?_)
  refine zs_put (q := 66) (C := RX4) (T := TX4) (N := 27) hX ciX4 9 rfl (by decide) in_X4 tyX4_ok nmX4 dX4_init_63 q1873 rfl rfl rfl ((upm_ne _ _ (show b ≠ b + 1 + 6 by omega)).trans (xM_b (j := 6))) (Nat.le_of_ble_eq_true rfl) rfl rfl rfl rfl ?_
  show zG X _ _ (zS9 D A w (upm (upm (xM D b mm 6) (b + 1 + 6) (eC (aN D 0 (twLen 6) (fun _ => 0)))) b (eO ciX4 ((xF b 6).set 9 (.ref (b + 1 + 6))))) (b + 1 + 7)) _ _ _
  rw [xM_step (j := 6) (fk := 9) (by decide) rfl]
  refine z_aload_n (i := 0) (q := 67) hX dX4_init_66 rfl rfl rfl ?_
  refine z_iconst (q := 68) hX dX4_init_67 rfl ?_
  refine zs_newa (q := 70) (N := b + 1 + 7) hX dX4_init_68 q1946 (by decide) (Nat.le_of_ble_eq_true rfl) (Nat.le_of_ble_eq_true rfl) rfl (fun hw68 hm68 => ?_)
  refine zs_put (q := 73) (C := RX4) (T := TX4) (N := 27) hX ciX4 11 rfl (by decide) in_X4 tyX4_ok nmX4 dX4_init_70 q1875 rfl rfl rfl ((upm_ne _ _ (show b ≠ b + 1 + 7 by omega)).trans (xM_b (j := 7))) (Nat.le_of_ble_eq_true rfl) rfl rfl rfl rfl ?_
  show zG X _ _ (zS9 D A w (upm (upm (xM D b mm 7) (b + 1 + 7) (eC (aN D 0 (twLen 7) (fun _ => 0)))) b (eO ciX4 ((xF b 7).set 11 (.ref (b + 1 + 7))))) (b + 1 + 8)) _ _ _
  rw [xM_step (j := 7) (fk := 11) (by decide) rfl]
  refine z_aload_n (i := 0) (q := 74) hX dX4_init_73 rfl rfl rfl ?_
  refine z_iconst (q := 75) hX dX4_init_74 rfl ?_
  refine zs_newa (q := 77) (N := b + 1 + 8) hX dX4_init_75 q1946 (by decide) (Nat.le_of_ble_eq_true rfl) (Nat.le_of_ble_eq_true rfl) rfl (fun hw75 hm75 => ?_)
  refine zs_put (q := 80) (C := RX4) (T := TX4) (N := 27) hX ciX4 12 rfl (by decide) in_X4 tyX4_ok nmX4 dX4_init_77 q1876 rfl rfl rfl ((upm_ne _ _ (show b ≠ b + 1 + 8 by omega)).trans (xM_b (j := 8))) (Nat.le_of_ble_eq_true rfl) rfl rfl rfl rfl ?_
  show zG X _ _ (zS9 D A w (upm (upm (xM D b mm 8) (b + 1 + 8) (eC (aN D 0 (twLen 8) (fun _ => 0)))) b (eO ciX4 ((xF b 8).set 12 (.ref (b + 1 + 8))))) (b + 1 + 9)) _ _ _
  rw [xM_step (j := 8) (fk := 12) (by decide) rfl]
  refine z_aload_n (i := 0) (q := 81) hX dX4_init_80 rfl rfl rfl ?_
  refine z_bipush (q := 83) hX dX4_init_81 (by decide) rfl ?_
  refine zs_newa (q := 85) (N := b + 1 + 9) hX dX4_init_83 q1946 (by decide) (Nat.le_of_ble_eq_true rfl) (Nat.le_of_ble_eq_true rfl) rfl (fun hw83 hm83 => ?_)
  refine zs_put (q := 88) (C := RX4) (T := TX4) (N := 27) hX ciX4 14 rfl (by decide) in_X4 tyX4_ok nmX4 dX4_init_85 q1878 rfl rfl rfl ((upm_ne _ _ (show b ≠ b + 1 + 9 by omega)).trans (xM_b (j := 9))) (Nat.le_of_ble_eq_true rfl) rfl rfl rfl rfl ?_
  show zG X _ _ (zS9 D A w (upm (upm (xM D b mm 9) (b + 1 + 9) (eC (aN D 0 (twLen 9) (fun _ => 0)))) b (eO ciX4 ((xF b 9).set 14 (.ref (b + 1 + 9))))) (b + 1 + 10)) _ _ _
  rw [xM_step (j := 9) (fk := 14) (by decide) rfl]
  refine z_aload_n (i := 0) (q := 89) hX dX4_init_88 rfl rfl rfl ?_
  refine z_bipush (q := 91) hX dX4_init_89 (by decide) rfl ?_
  refine zs_newa (q := 93) (N := b + 1 + 10) hX dX4_init_91 q1946 (by decide) (Nat.le_of_ble_eq_true rfl) (Nat.le_of_ble_eq_true rfl) rfl (fun hw91 hm91 => ?_)
  refine zs_put (q := 96) (C := RX4) (T := TX4) (N := 27) hX ciX4 16 rfl (by decide) in_X4 tyX4_ok nmX4 dX4_init_93 q1880 rfl rfl rfl ((upm_ne _ _ (show b ≠ b + 1 + 10 by omega)).trans (xM_b (j := 10))) (Nat.le_of_ble_eq_true rfl) rfl rfl rfl rfl ?_
  show zG X _ _ (zS9 D A w (upm (upm (xM D b mm 10) (b + 1 + 10) (eC (aN D 0 (twLen 10) (fun _ => 0)))) b (eO ciX4 ((xF b 10).set 16 (.ref (b + 1 + 10))))) (b + 1 + 11)) _ _ _
  rw [xM_step (j := 10) (fk := 16) (by decide) rfl]
  refine z_aload_n (i := 0) (q := 97) hX dX4_init_96 rfl rfl rfl ?_
  refine z_bipush (q := 99) hX dX4_init_97 (by decide) rfl ?_
  refine zs_newa (q := 101) (N := b + 1 + 11) hX dX4_init_99 q1946 (by decide) (Nat.le_of_ble_eq_true rfl) (Nat.le_of_ble_eq_true rfl) rfl (fun hw99 hm99 => ?_)
  refine zs_put (q := 104) (C := RX4) (T := TX4) (N := 27) hX ciX4 18 rfl (by decide) in_X4 tyX4_ok nmX4 dX4_init_101 q1882 rfl rfl rfl ((upm_ne _ _ (show b ≠ b + 1 + 11 by omega)).trans (xM_b (j := 11))) (Nat.le_of_ble_eq_true rfl) rfl rfl rfl rfl ?_
  show zG X _ _ (zS9 D A w (upm (upm (xM D b mm 11) (b + 1 + 11) (eC (aN D 0 (twLen 11) (fun _ => 0)))) b (eO ciX4 ((xF b 11).set 18 (.ref (b + 1 + 11))))) (b + 1 + 12)) _ _ _
  rw [xM_step (j := 11) (fk := 18) (by decide) rfl]
  refine z_aload_n (i := 0) (q := 105) hX dX4_init_104 rfl rfl rfl ?_
  refine z_sipush (q := 108) hX dX4_init_105 (by decide) rfl ?_
  refine zs_newa (q := 110) (N := b + 1 + 12) hX dX4_init_108 q1946 (by decide) (Nat.le_of_ble_eq_true rfl) (Nat.le_of_ble_eq_true rfl) rfl (fun hw108 hm108 => ?_)
  refine zs_put (q := 113) (C := RX4) (T := TX4) (N := 27) hX ciX4 21 rfl (by decide) in_X4 tyX4_ok nmX4 dX4_init_110 q1885 rfl rfl rfl ((upm_ne _ _ (show b ≠ b + 1 + 12 by omega)).trans (xM_b (j := 12))) (Nat.le_of_ble_eq_true rfl) rfl rfl rfl rfl ?_
  show zG X _ _ (zS9 D A w (upm (upm (xM D b mm 12) (b + 1 + 12) (eC (aN D 0 (twLen 12) (fun _ => 0)))) b (eO ciX4 ((xF b 12).set 21 (.ref (b + 1 + 12))))) (b + 1 + 13)) _ _ _
  rw [xM_step (j := 12) (fk := 21) (by decide) rfl]
  refine z_aload_n (i := 0) (q := 114) hX dX4_init_113 rfl rfl rfl ?_
  refine z_bipush (q := 116) hX dX4_init_114 (by decide) rfl ?_
  refine zs_newa (q := 118) (N := b + 1 + 13) hX dX4_init_116 q1946 (by decide) (Nat.le_of_ble_eq_true rfl) (Nat.le_of_ble_eq_true rfl) rfl (fun hw116 hm116 => ?_)
  refine zs_put (q := 121) (C := RX4) (T := TX4) (N := 27) hX ciX4 22 rfl (by decide) in_X4 tyX4_ok nmX4 dX4_init_118 q1886 rfl rfl rfl ((upm_ne _ _ (show b ≠ b + 1 + 13 by omega)).trans (xM_b (j := 13))) (Nat.le_of_ble_eq_true rfl) rfl rfl rfl rfl ?_
  show zG X _ _ (zS9 D A w (upm (upm (xM D b mm 13) (b + 1 + 13) (eC (aN D 0 (twLen 13) (fun _ => 0)))) b (eO ciX4 ((xF b 13).set 22 (.ref (b + 1 + 13))))) (b + 1 + 14)) _ _ _
  rw [xM_step (j := 13) (fk := 22) (by decide) rfl]
  refine z_aload_n (i := 0) (q := 122) hX dX4_init_121 rfl rfl rfl ?_
  refine z_sipush (q := 125) hX dX4_init_122 (by decide) rfl ?_
  refine zs_newa (q := 127) (N := b + 1 + 14) hX dX4_init_125 q1946 (by decide) (Nat.le_of_ble_eq_true rfl) (Nat.le_of_ble_eq_true rfl) rfl (fun hw125 hm125 => ?_)
  refine zs_put (q := 130) (C := RX4) (T := TX4) (N := 27) hX ciX4 24 rfl (by decide) in_X4 tyX4_ok nmX4 dX4_init_127 q1888 rfl rfl rfl ((upm_ne _ _ (show b ≠ b + 1 + 14 by omega)).trans (xM_b (j := 14))) (Nat.le_of_ble_eq_true rfl) rfl rfl rfl rfl ?_
  show zG X _ _ (zS9 D A w (upm (upm (xM D b mm 14) (b + 1 + 14) (eC (aN D 0 (twLen 14) (fun _ => 0)))) b (eO ciX4 ((xF b 14).set 24 (.ref (b + 1 + 14))))) (b + 1 + 15)) _ _ _
  rw [xM_step (j := 14) (fk := 24) (by decide) rfl]
  refine z_aload_n (i := 0) (q := 131) hX dX4_init_130 rfl rfl rfl ?_
  refine zr_get (C := RX4) (T := TX4) (N := 27) (q := 134) hX ciX4 0 rfl (by decide) in_X4 dX4_init_131 q1864 (Or.inl rfl) (fun H h => cI.rd h.2 (Or.inr (xM_b (j := 15))) rfl (by decide) rfl) rfl ?_
  refine z_iconst (q := 135) hX dX4_init_134 rfl ?_
  refine z_bipush (q := 137) hX dX4_init_135 (by decide) rfl ?_
  refine zs_iast (q := 138) (N := 1964) (N9 := b + 16) hX dX4_init_137 (xM_a (j := 15) (i := 0) (by decide)) (by decide) (by decide) rfl ?_
  show zG X _ _ (zS9 D A w (upm (xM D b mm 15) (b + 1 + 0) (eC (aN D 0 (twLen 0) (upd (fun i => Int32.ofInt (G00 0 (i : Int))) (1 : Int).toNat (Int32.ofInt 50))))) (b + 16)) _ _ _
  rw [xM_end]
  exact z_vret hX dX4_init_138 (by first | exact Nat.le_of_ble_eq_true rfl | (show (_ : Nat) ≤ 15; omega)) (by first | exact Nat.le_of_ble_eq_true rfl | (show (_ : Nat) ≤ 28258; omega)) rfl (fun H h => ⟨rfl, h⟩)
