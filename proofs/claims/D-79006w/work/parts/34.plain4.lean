/-! PLAIN LAWS: a quotient of whole numbers is a number -/
set_option maxRecDepth 100000
theorem fp_t : FP.Core.b64.tails = 4503599627370496 := by decide
theorem fp_e : FP.Core.b64.exps = 2048 := by decide
theorem fp_q : FP.Core.b64.qmin = -1074 := by decide
theorem fp_m : FP.Core.b64.qmax = 971 := by decide
def okd : FP.Core.Datum → Prop
  | .nan => False
  | .inf _ => True
  | .fin _ c q => c < 9007199254740992 ∧ q ≤ 971
theorem fp_enc {d : FP.Core.Datum} (h : okd d) : FP.Core.encode FP.Core.b64 d % 9223372036854775808 ≤ 9218868437227405312 ∧ FP.Core.encode FP.Core.b64 d < 18446744073709551616 := by
  cases d with
  | nan => exact absurd h id
  | inf s => cases s <;> decide
  | fin s c q =>
    obtain ⟨h1, h2⟩ := h
    have e : FP.Core.encode FP.Core.b64 (.fin s c q) = if c < FP.Core.b64.tails then FP.Core.assemble FP.Core.b64 s 0 c else FP.Core.assemble FP.Core.b64 s ((q - FP.Core.b64.qmin).toNat + 1) (c - FP.Core.b64.tails) := rfl
    rw [e]
    unfold FP.Core.assemble
    rw [fp_t, fp_e, fp_q]
    have hs : s.toNat = 0 ∨ s.toNat = 1 := by cases s <;> simp
    split <;> rcases hs with q2 | q2 <;> rw [q2] <;> omega
theorem fp_bound {s : Bool} {c : Nat} {q : Int} (h : c < 9007199254740992) : okd (FP.Core.bound FP.Core.b64 s c q) := by
  unfold FP.Core.bound
  rw [fp_m]
  split
  · exact ⟨h, by assumption⟩
  · trivial
theorem fp_ratio {s : Bool} {n d : Nat} {e : Int} : okd (FP.Core.roundRatio FP.Core.b64 s n d e) := by
  unfold FP.Core.roundRatio
  split
  · exact ⟨by decide, by rw [fp_q]; decide⟩
  · unfold FP.Core.roundAt FP.Core.settle
    split
    · rename_i h
      exact fp_bound h
    · exact fp_bound (by rw [fp_t]; decide)
theorem fp_dec {n : Nat} (h : n % 9223372036854775808 ≤ 9218868437227405312) : FP.Core.decode FP.Core.b64 n ≠ .nan := by
  unfold FP.Core.decode FP.Core.fieldE FP.Core.fieldT
  rw [fp_t, fp_e]
  split
  · rename_i h1
    rw [if_pos (by omega)]
    intro q; cases q
  · split <;> (intro q; cases q)
theorem fp_i2d (a : Int32) : okd (FP.Core.round FP.Core.b64 (FP.Core.ofInt a.toInt)) := fp_ratio
theorem fp_i2n (a : Int32) : (FP.i2d a).toNat = FP.Core.encode FP.Core.b64 (FP.Core.round FP.Core.b64 (FP.Core.ofInt a.toInt)) := by
  have h := (fp_enc (fp_i2d a)).2
  show (UInt64.ofNat (FP.Core.encode FP.Core.b64 (FP.Core.round FP.Core.b64 (FP.Core.ofInt a.toInt)))).toNat = _
  exact UInt64.toNat_ofNat_of_lt' h
theorem vf_of {n : Nat} (h : n % 9223372036854775808 ≤ 9218868437227405312) (h2 : n < 18446744073709551616) : vf_n64 (UInt64.ofNat n) := by
  unfold vf_n64
  rw [UInt64.le_iff_toNat_le, UInt64.toNat_and, UInt64.toNat_ofNat_of_lt' h2]
  have e1 : (0x7fffffffffffffff : UInt64).toNat = 2 ^ 63 - 1 := by decide
  have e2 : (0x7ff0000000000000 : UInt64).toNat = 9218868437227405312 := by decide
  rw [e1, e2, Nat.and_two_pow_sub_one_eq_mod]
  exact h
theorem fp_decF {n : Nat} (h : n % 9223372036854775808 < 9218868437227405312) (h0 : n % 9223372036854775808 ≠ 0) : ∃ s c q, FP.Core.decode FP.Core.b64 n = .fin s c q ∧ c ≠ 0 := by
  unfold FP.Core.decode FP.Core.fieldE FP.Core.fieldT
  rw [fp_t, fp_e]
  rw [if_neg (by omega)]
  split
  · exact ⟨_, _, _, rfl, by omega⟩
  · exact ⟨_, _, _, rfl, by omega⟩
theorem fp_quo {x y : FP.Core.Datum} (h : ∃ s c q, x = .fin s c q ∧ c ≠ 0) (hy : y ≠ .nan) : okd (FP.Core.quotient FP.Core.b64 x y) := by
  obtain ⟨s, c, q, rfl, hc⟩ := h
  cases y with
  | nan => exact absurd rfl hy
  | inf t => exact ⟨by decide, by rw [fp_q]; decide⟩
  | fin t d r =>
    show okd (if d = 0 then (if c = 0 then .nan else .inf (s != t)) else FP.Core.roundRatio FP.Core.b64 (s != t) c d (q - r))
    split
    · trivial
    · exact fp_ratio
theorem ddiv_nn {x y : UInt64} (h : x.toNat % 9223372036854775808 < 9218868437227405312) (h0 : x.toNat % 9223372036854775808 ≠ 0) (hy : y.toNat % 9223372036854775808 ≤ 9218868437227405312) : vf_n64 (FP.ddiv x y) := by
  have h1 := fp_enc (fp_quo (fp_decF h h0) (fp_dec hy))
  exact vf_of h1.1 h1.2
theorem fp_enc0 {s : Bool} {c : Nat} {q : Int} (h1 : c < 9007199254740992) (h2 : q ≤ 0) (h0 : c ≠ 0) : FP.Core.encode FP.Core.b64 (.fin s c q) % 9223372036854775808 < 9218868437227405312 ∧ FP.Core.encode FP.Core.b64 (.fin s c q) % 9223372036854775808 ≠ 0 := by
  have e : FP.Core.encode FP.Core.b64 (.fin s c q) = if c < FP.Core.b64.tails then FP.Core.assemble FP.Core.b64 s 0 c else FP.Core.assemble FP.Core.b64 s ((q - FP.Core.b64.qmin).toNat + 1) (c - FP.Core.b64.tails) := rfl
  rw [e]
  unfold FP.Core.assemble
  rw [fp_t, fp_e, fp_q]
  have hs : s.toNat = 0 ∨ s.toNat = 1 := by cases s <;> simp
  split <;> rcases hs with q2 | q2 <;> rw [q2] <;> omega
theorem fp_near1 (n : Nat) : FP.Core.nearest n 1 = n := by
  unfold FP.Core.nearest
  rw [if_pos (by omega)]
  omega
theorem fp_lead {n : Nat} (h0 : n ≠ 0) (h : n < 4294967296) : FP.Core.leading n 1 ≤ 31 := by
  have h1 : n.log2 < 32 := (Nat.log2_lt h0).mpr h
  unfold FP.Core.leading
  have h2 : Nat.log2 1 = 0 := by decide
  rw [h2]
  show (if 1 * 2 ^ ((n.log2 : Int) - ((0 : Nat) : Int)).toNat ≤ n * 2 ^ (-((n.log2 : Int) - ((0 : Nat) : Int))).toNat then ((n.log2 : Int) - ((0 : Nat) : Int)) else ((n.log2 : Int) - ((0 : Nat) : Int)) - 1) ≤ 31
  split <;> omega
theorem fp_i2d0 {a : Int32} (h0 : a.toInt ≠ 0) (h : a.toInt.natAbs < 4294967296) : (FP.i2d a).toNat % 9223372036854775808 < 9218868437227405312 ∧ (FP.i2d a).toNat % 9223372036854775808 ≠ 0 := by
  rw [fp_i2n]
  obtain ⟨n, hn⟩ : ∃ n : Nat, n = a.toInt.natAbs := ⟨_, rfl⟩
  have hn0 : n ≠ 0 := by omega
  have hl := fp_lead hn0 (by omega)
  have e : FP.Core.round FP.Core.b64 (FP.Core.ofInt a.toInt) = FP.Core.roundRatio FP.Core.b64 (decide (a.toInt < 0)) n 1 0 := by rw [hn]; rfl
  rw [e]
  unfold FP.Core.roundRatio
  rw [if_neg hn0]
  unfold FP.Core.roundAt
  obtain ⟨q, hq⟩ : ∃ q : Int, q = FP.Core.quantum FP.Core.b64 n 1 0 := ⟨_, rfl⟩
  have hq0 : q ≤ -21 := by
    rw [hq]
    unfold FP.Core.quantum
    rw [fp_q]
    have : ((FP.Core.b64.p : Nat) : Int) = 53 := by decide
    omega
  rw [← hq]
  have ed : FP.Core.unitsDen 1 0 q = 1 := by
    unfold FP.Core.unitsDen
    rw [show (q - 0).toNat = 0 by omega]
  have en : FP.Core.unitsNum n 0 q ≠ 0 := by
    unfold FP.Core.unitsNum
    exact Nat.mul_ne_zero hn0 (Nat.ne_of_gt (Nat.two_pow_pos _))
  rw [ed, fp_near1]
  unfold FP.Core.settle FP.Core.bound
  rw [fp_m]
  split
  · rename_i hlt
    rw [if_pos (by omega)]
    exact fp_enc0 hlt (by omega) en
  · rw [if_pos (by omega)]
    exact fp_enc0 (by rw [fp_t]; decide) (by omega) (by rw [fp_t]; decide)
/-- a whole number by another: a number, if the first isn't 0 -/
theorem ddiv_n {c a : Int} (h : zR c) (h0 : c ≠ 0) : vf_n64 (FP.ddiv (FP.i2d (Int32.ofInt c)) (FP.i2d (Int32.ofInt a))) := by
  have e : (Int32.ofInt c).toInt = c := Int32.toInt_ofInt_of_le (by have := h.1; omega) (by have := h.2; omega)
  have h1 := fp_i2d0 (a := Int32.ofInt c) (by rw [e]; exact h0) (by rw [e]; have := h.1; have := h.2; omega)
  have h2 := (fp_enc (fp_i2d (Int32.ofInt a))).1
  rw [← fp_i2n] at h2
  exact ddiv_nn h1.1 h1.2 h2

