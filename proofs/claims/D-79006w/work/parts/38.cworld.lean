/-! THE CLASS'S WORLD: items by their addresses: w what is never changed, m what is changed -/
set_option maxRecDepth 100000
/-- an item: a cell; a list; a text; a text that is being built; a number's box or (none) the empty element array -/
abbrev zE : Type := va_E ⊕ ((Int × List Nat) ⊕ (zS ⊕ (zS ⊕ (Option Int ⊕ Nat))))
abbrev eC (e : va_E) : zE := .inl e
abbrev eO (ci : Nat) (fs : List Value) : zE := .inl (.inr (ci, fs))
abbrev eL (mc : Int) (xs : List Nat) : zE := .inr (.inl (mc, xs))
abbrev eS (s : zS) : zE := .inr (.inr (.inl s))
abbrev eB (s : zS) : zE := .inr (.inr (.inr (.inl s)))
abbrev eI (k : Int) : zE := .inr (.inr (.inr (.inr (.inl (some k)))))
abbrev eZ : zE := .inr (.inr (.inr (.inr (.inl none))))
/-- an exception of class ci, of which nothing else is known -/
abbrev eX (ci : Nat) : zE := .inr (.inr (.inr (.inr (.inr ci))))
abbrev zMp : Type := Nat → Option zE
/-- arrays: of references, of ints and their like, of longs, of doubles -/
abbrev aQ (D : zD) (t n : Nat) (f : Nat → Option Nat) : va_E := .inl (D.2.1 t, n, .inr (.inr (.inr (.inr f))))
abbrev aN (D : zD) (t n : Nat) (f : Nat → Int32) : va_E := .inl (D.2.1 t, n, .inl f)
abbrev aJ (D : zD) (t n : Nat) (f : Nat → Int64) : va_E := .inl (D.2.1 t, n, .inr (.inl f))
abbrev aD (D : zD) (t n : Nat) (f : Nat → UInt64) : va_E := .inl (D.2.1 t, n, .inr (.inr (.inr (.inl f))))
def upm (m : zMp) (a : Nat) (x : zE) : zMp := fun b => if b = a then some x else m b
def dlm (m : zMp) (a : Nat) : zMp := fun b => if b = a then none else m b
theorem upm_same (m : zMp) (a : Nat) (x : zE) : upm m a x a = some x := if_pos rfl
theorem upm_ne (m : zMp) {a b : Nat} (x : zE) (h : b ≠ a) : upm m a x b = m b := if_neg h
theorem dlm_same (m : zMp) (a : Nat) : dlm m a a = none := if_pos rfl
theorem dlm_ne (m : zMp) {a b : Nat} (h : b ≠ a) : dlm m a b = m b := if_neg h
theorem upm_upm (m : zMp) (a : Nat) (x y : zE) : upm (upm m a x) a y = upm m a y := by
  funext b
  unfold upm
  split <;> rfl
theorem upm_cm (m : zMp) {a b : Nat} (x y : zE) (h : a ≠ b) : upm (upm m a x) b y = upm (upm m b y) a x := by
  funext c
  unfold upm
  by_cases h1 : c = b
  · rw [if_pos h1, if_neg (by omega), if_pos h1]
  · rw [if_neg h1, if_neg h1]
theorem dlm_upm (m : zMp) {a : Nat} (x : zE) (h : m a = none) : dlm (upm m a x) a = m := by
  funext b
  unfold dlm upm
  by_cases h1 : b = a
  · rw [if_pos h1, h1, h]
  · rw [if_neg h1, if_neg h1]
theorem dlm_upm_ne (m : zMp) {a b : Nat} (x : zE) (h : b ≠ a) : dlm (upm m a x) b = upm (dlm m b) a x := by
  funext c
  unfold dlm upm
  dsimp only
  by_cases h1 : c = b
  · rw [if_pos h1, if_neg (by omega), if_pos h1]
  · rw [if_neg h1, if_neg h1]
theorem upm_self {m : zMp} {a : Nat} {x : zE} (h : m a = some x) : upm m a x = m := by
  funext b
  unfold upm
  by_cases h1 : b = a
  · rw [if_pos h1, h1, h]
  · rw [if_neg h1]
/-- w grows -/
def zLe (w w2 : zMp) : Prop := ∀ a x, w a = some x → w2 a = some x
theorem zLe.rf {w : zMp} : zLe w w := fun _ _ h => h
theorem zLe.tr {w w2 w3 : zMp} (h : zLe w w2) (h2 : zLe w2 w3) : zLe w w3 := fun a x q => h2 a x (h a x q)
theorem zLe.up {w : zMp} {a : Nat} {x : zE} (h : w a = none) : zLe w (upm w a x) := fun b y q => by
  rw [upm_ne _ _ (fun e => by rw [e, h] at q; cases q)]
  exact q
/-- a cell: an object of known class and fields, its monitor free; an array -/
def zAt (D : zD) (a : Nat) (e : va_E) (H : Heap) : Prop := match e with
  | .inl x => H[a]? = some (vp_cell x.1 x.2)
  | .inr o => ∃ (r : vw_C) (cell : Cell), zCl[o.1]? = some r ∧ H[a]? = some cell ∧ cell.cls = D.1.1 o.1 ∧ cell.vm = .none ∧ (cell.monitor.owner = none ∧ cell.monitor.count = 0) ∧ ∀ k, k < r.2.2 → cell.slots[D.1.2 o.1 k]? = some (vp_V o.2 k)
theorem zAt.va {D : zD} {a : Nat} {e : va_E} {H : Heap} (h : zAt D a e H) : va_at D.1 zCl (a, e) H := by
  cases e with
  | inl x => exact h
  | inr o =>
    obtain ⟨r, cell, h1, h2, h3, h4, -, h5⟩ := h
    exact ⟨r, h1, cell, h2, h3, h4, h5⟩
theorem zAt.lt {D : zD} {a : Nat} {e : va_E} {H : Heap} (h : zAt D a e H) : a < H.size := h.va.lt
theorem zAt.kept {D : zD} {a : Nat} {e : va_E} {H H1 : Heap} (h : zAt D a e H) (hq : H1[a]? = H[a]?) : zAt D a e H1 := by
  cases e with
  | inl x => exact hq.trans h
  | inr o =>
    obtain ⟨r, cell, h1, h2, h3⟩ := h
    exact ⟨r, cell, h1, hq.trans h2, h3⟩
/-- a field's value, of an object of class ci -/
def zRd (D : zD) (ci a k : Nat) (v : Value) (H : Heap) : Prop := ∃ cell : Cell, H[a]? = some cell ∧ cell.cls = D.1.1 ci ∧ cell.vm.isStatics = false ∧ cell.vm ≠ .unknown ∧ cell.slots[D.1.2 ci k]? = some v
/-- an array's length and contents -/
def zRa (D : zD) (t a n : Nat) (f : Nat → Value) (H : Heap) : Prop := ∃ cell : Cell, H[a]? = some cell ∧ cell.cls = D.2.1 t ∧ (∀ q, cell.vm ≠ .statics q) ∧ cell.vm ≠ .unknown ∧ (n ≤ cell.slots.size ∧ cell.slots.size.toInt32 = Int32.ofNat n) ∧ ∀ j, j < n → cell.slots[j]? = some (f j)
/-- an array's true size (for a copy of all of it) -/
def zRx (a n : Nat) (H : Heap) : Prop := ∃ cell : Cell, H[a]? = some cell ∧ cell.slots.size = n
theorem zRx.lt {a n : Nat} {H : Heap} (h : zRx a n H) : a < H.size := by
  obtain ⟨cell, h1, -⟩ := h
  exact (Array.getElem?_eq_some_iff.mp h1).1
theorem zRx.kept {a n : Nat} {H H1 : Heap} (h : zRx a n H) (hq : H1[a]? = H[a]?) : zRx a n H1 := by
  obtain ⟨cell, h1, h2⟩ := h
  exact ⟨cell, hq.trans h1, h2⟩
theorem zRd.lt {D : zD} {ci a k : Nat} {v : Value} {H : Heap} (h : zRd D ci a k v H) : a < H.size := by
  obtain ⟨cell, h1, -⟩ := h
  exact (Array.getElem?_eq_some_iff.mp h1).1
theorem zRa.lt {D : zD} {t a n : Nat} {f : Nat → Value} {H : Heap} (h : zRa D t a n f H) : a < H.size := by
  obtain ⟨cell, h1, -⟩ := h
  exact (Array.getElem?_eq_some_iff.mp h1).1
theorem zRd.kept {D : zD} {ci a k : Nat} {v : Value} {H H1 : Heap} (h : zRd D ci a k v H) (hq : H1[a]? = H[a]?) : zRd D ci a k v H1 := by
  obtain ⟨cell, h1, h2⟩ := h
  exact ⟨cell, hq.trans h1, h2⟩
theorem zRa.kept {D : zD} {t a n : Nat} {f : Nat → Value} {H H1 : Heap} (h : zRa D t a n f H) (hq : H1[a]? = H[a]?) : zRa D t a n f H1 := by
  obtain ⟨cell, h1, h2⟩ := h
  exact ⟨cell, hq.trans h1, h2⟩
theorem zRd.ob {D : zD} {ci a k : Nat} {v : Value} {H : Heap} (h : zRd D ci a k v H) : zOb D ci a H := by
  obtain ⟨cell, h1, h2, h3, -⟩ := h
  exact ⟨cell, h1, h3, h2⟩
theorem zAt.rd {D : zD} {ci a : Nat} {fs : List Value} {C : String} {T : u_T} {N : Nat} {H : Heap} (h : zAt D a (.inr (ci, fs)) H) (hc : zCl[ci]? = some (C, T, N)) {k : Nat} (hk : k < N) {v : Value} (hv : fs[k]? = some v) : zRd D ci a k v H := by
  obtain ⟨r, cell, h1, h2, h3, h4, h6, h5⟩ := h
  have hr : r = (C, T, N) := Option.some.inj (h1.symm.trans hc)
  subst hr
  exact ⟨cell, h2, h3, by rw [h4]; rfl, by rw [h4]; exact fun q => (by cases q), by rw [h5 k hk]; simp [vp_V, hv]⟩
theorem zAt.ob {D : zD} {ci a : Nat} {fs : List Value} {H : Heap} (h : zAt D a (.inr (ci, fs)) H) : zOb D ci a H := by
  obtain ⟨r, cell, h1, h2, h3, h4, h5⟩ := h
  exact ⟨cell, h2, by rw [h4]; rfl, h3⟩
theorem zRa.arr {D : zD} {t a n : Nat} {z f : Nat → Value} {H : Heap} (h : H[a]? = some (arrV (D.2.1 t) n z)) (hf : ∀ j, j < n → z j = f j) : zRa D t a n f H :=
  ⟨_, h, rfl, fun q hq => (by cases hq), fun hq => (by cases hq), ⟨Nat.le_of_eq (arrV_size _ _ _).symm, by rw [arrV_size]⟩, fun j hj => by rw [arrV_read _ _ hj, hf j hj]⟩
theorem zAt.raN {D : zD} {t a n : Nat} {f : Nat → Int32} {H : Heap} (h : zAt D a (aN D t n f) H) : zRa D t a n (fun j => .int (f j)) H := by
  have h1 : H[a]? = some (vp_cell _ _) := h
  rw [vp_cell_i] at h1
  exact zRa.arr h1 (fun _ _ => rfl)
theorem zAt.rxN {D : zD} {t a n : Nat} {f : Nat → Int32} {H : Heap} (h : zAt D a (aN D t n f) H) : zRx a n H := by
  have h1 : H[a]? = some (vp_cell _ _) := h
  rw [vp_cell_i] at h1
  exact ⟨_, h1, arrV_size _ _ _⟩
theorem zAt.raQ {D : zD} {t a n : Nat} {f : Nat → Option Nat} {H : Heap} (h : zAt D a (aQ D t n f) H) : zRa D t a n (fun j => va_rf (f j)) H := by
  have h1 : H[a]? = some (vp_cell _ _) := h
  rw [vp_cell_q] at h1
  exact zRa.arr h1 (fun _ _ => rfl)
theorem zAt.raJ {D : zD} {t a n : Nat} {f : Nat → Int64} {H : Heap} (h : zAt D a (aJ D t n f) H) : zRa D t a n (fun j => .long (f j)) H := by
  have h1 : H[a]? = some (vp_cell _ _) := h
  rw [vp_cell_l] at h1
  exact zRa.arr h1 (fun _ _ => rfl)
theorem zAt.raD {D : zD} {t a n : Nat} {f : Nat → UInt64} {H : Heap} (h : zAt D a (aD D t n f) H) : zRa D t a n (fun j => .double (f j)) H := by
  have h1 : H[a]? = some (vp_cell _ _) := h
  rw [vp_cell_d] at h1
  exact zRa.arr h1 (fun _ _ => rfl)
/-- an object of class ci that can be thrown -/
def zTh (D : zD) (ci a : Nat) (H : Heap) : Prop := ∃ cell : Cell, H[a]? = some cell ∧ cell.cls = D.1.1 ci ∧ cell.vm = .none
theorem zTh.lt {D : zD} {ci a : Nat} {H : Heap} (h : zTh D ci a H) : a < H.size := by
  obtain ⟨cell, h1, -⟩ := h
  exact (Array.getElem?_eq_some_iff.mp h1).1
theorem zTh.kept {D : zD} {ci a : Nat} {H H1 : Heap} (h : zTh D ci a H) (hq : H1[a]? = H[a]?) : zTh D ci a H1 := by
  obtain ⟨cell, h1, h2⟩ := h
  exact ⟨cell, hq.trans h1, h2⟩
theorem zTh.ob {D : zD} {ci a : Nat} {H : Heap} (h : zTh D ci a H) : zOb D ci a H := by
  obtain ⟨cell, h1, h2, h3⟩ := h
  exact ⟨cell, h1, by rw [h3]; rfl, h2⟩
theorem zAt.th {D : zD} {ci a : Nat} {fs : List Value} {H : Heap} (h : zAt D a (.inr (ci, fs)) H) : zTh D ci a H := by
  obtain ⟨r, cell, h1, h2, h3, h4, h5⟩ := h
  exact ⟨cell, h2, h3, h4⟩
/-- characters of one byte -/
def zCh (s : zS) : Prop := s.length ≤ 1000 ∧ ∀ c ∈ s, 0 ≤ c ∧ c < 128
/-- what an item says of the heap; its cells are those of B -/
def zIt (D : zD) (B : Nat → Prop) (a : Nat) (it : zE) (H : Heap) : Prop := B a ∧ match it with
  | .inl e => zAt D a e H
  | .inr (.inl x) => ∃ d : Nat, zAt D a (.inr (ciJ2, [zI x.1, .ref d, zI x.2.length])) H ∧ ((d = zEm D ∧ x.2 = []) ∨ (B d ∧ d ≠ a ∧ ∃ (n : Nat) (f : Nat → Option Nat), zAt D d (aQ D 5 n f) H ∧ n ≤ 1000 ∧ x.2.length ≤ n ∧ ∀ i : Nat, i < x.2.length → f i = x.2[i]?))
  | .inr (.inr (.inl s)) => zCh s ∧ ∃ d : Nat, B d ∧ d ≠ a ∧ zRd D ciJ13 a 0 (.ref d) H ∧ zRd D ciJ13 a 1 (zI 0) H ∧ zRa D 2 d s.length (fun j => zI (cT s j)) H
  | .inr (.inr (.inr (.inl s))) => zCh s ∧ ∃ (d n : Nat) (f : Nat → Int32) (ml : Value), zAt D a (.inr (ciJ20, [.ref d, zI 0, ml, zI s.length])) H ∧ B d ∧ d ≠ a ∧ zAt D d (aN D 2 n f) H ∧ n ≤ 1000 ∧ s.length ≤ n ∧ (∀ i : Nat, i < s.length → f i = Int32.ofInt (cT s i)) ∧ ∀ i : Nat, i < n → fits .byte (.int (f i)) = true
  | .inr (.inr (.inr (.inr (.inl (some k))))) => zRd D ciJ18 a 0 (zI k) H
  | .inr (.inr (.inr (.inr (.inl none)))) => zRa D 5 a 0 (fun _ => .null) H
  | .inr (.inr (.inr (.inr (.inr ci)))) => zTh D ci a H
theorem zIt.to {D : zD} {B B2 : Nat → Prop} {a : Nat} {it : zE} {H H1 : Heap} (h : zIt D B a it H) (hk : ∀ b, b < H.size → B b → H1[b]? = H[b]? ∧ B2 b) : zIt D B2 a it H1 := by
  obtain ⟨hB, h⟩ := h
  match it, h with
  | .inl e, h =>
    obtain ⟨k1, k2⟩ := hk a (zAt.lt h) hB
    exact ⟨k2, zAt.kept h k1⟩
  | .inr (.inl x), h =>
    obtain ⟨d, h1, h2⟩ := h
    obtain ⟨k1, k2⟩ := hk a h1.lt hB
    refine ⟨k2, d, h1.kept k1, ?_⟩
    rcases h2 with h2 | ⟨h3, h4, n, f, h5, h6⟩
    · exact Or.inl h2
    · obtain ⟨k3, k4⟩ := hk d h5.lt h3
      exact Or.inr ⟨k4, h4, n, f, h5.kept k3, h6⟩
  | .inr (.inr (.inl s)), h =>
    obtain ⟨hs, d, h1, h2, h3, h4, h5⟩ := h
    obtain ⟨k1, k2⟩ := hk a h3.lt hB
    obtain ⟨k3, k4⟩ := hk d h5.lt h1
    exact ⟨k2, hs, d, k4, h2, h3.kept k1, h4.kept k1, h5.kept k3⟩
  | .inr (.inr (.inr (.inl s))), h =>
    obtain ⟨hs, d, n, f, ml, h1, h2, h3, h4, h5⟩ := h
    obtain ⟨k1, k2⟩ := hk a h1.lt hB
    obtain ⟨k3, k4⟩ := hk d h4.lt h2
    exact ⟨k2, hs, d, n, f, ml, h1.kept k1, k4, h3, h4.kept k3, h5⟩
  | .inr (.inr (.inr (.inr (.inl (some k))))), h =>
    obtain ⟨k1, k2⟩ := hk a (zRd.lt h) hB
    exact ⟨k2, zRd.kept h k1⟩
  | .inr (.inr (.inr (.inr (.inl none)))), h =>
    obtain ⟨k1, k2⟩ := hk a (zRa.lt h) hB
    exact ⟨k2, zRa.kept h k1⟩
  | .inr (.inr (.inr (.inr (.inr ci)))), h =>
    obtain ⟨k1, k2⟩ := hk a (zTh.lt h) hB
    exact ⟨k2, zTh.kept h k1⟩
theorem zIt.lt {D : zD} {B : Nat → Prop} {a : Nat} {it : zE} {H : Heap} (h : zIt D B a it H) : a < H.size := by
  obtain ⟨hB, h⟩ := h
  match it, h with
  | .inl e, h => exact zAt.lt h
  | .inr (.inl x), h => obtain ⟨d, h1, h2⟩ := h; exact h1.lt
  | .inr (.inr (.inl s)), h => obtain ⟨hs, d, h1, h2, h3, h4, h5⟩ := h; exact h3.lt
  | .inr (.inr (.inr (.inl s))), h => obtain ⟨hs, d, n, f, ml, h1, h2, h3, h4, h5⟩ := h; exact h1.lt
  | .inr (.inr (.inr (.inr (.inl (some k))))), h => exact zRd.lt h
  | .inr (.inr (.inr (.inr (.inl none)))), h => exact zRa.lt h
  | .inr (.inr (.inr (.inr (.inr ci)))), h => exact zTh.lt h
/-- an item's class number -/
def eCi : zE → Option Nat
  | .inl (.inr o) => some o.1
  | .inr (.inl _) => some ciJ2
  | .inr (.inr (.inl _)) => some ciJ13
  | .inr (.inr (.inr (.inl _))) => some ciJ20
  | .inr (.inr (.inr (.inr (.inl (some _))))) => some ciJ18
  | .inr (.inr (.inr (.inr (.inr ci)))) => some ci
  | _ => none
/-- objects of class ci may stand where E is asked -/
def zAsg (ci : Nat) (E : String) : Bool := match zCl[ci]? with
  | some r => decide (r.1 = E) || decide ((r.1, E) ∈ zCs)
  | none => false
/-- an item may be an element of a list -/
def zElO (it : zE) : Bool := match eCi it with
  | some ci => zAsg ci "java/lang/Object"
  | none => false
/-- lists' elements are known, and never changed -/
def zEls (w m : zMp) : Prop := ∀ a mc xs, (w a = some (eL mc xs) ∨ m a = some (eL mc xs)) → ∀ x ∈ xs, ∃ it, w x = some it ∧ zElO it = true
/-- what is there from the start: the cached Integers, the empty element array, the literals -/
def zBs (D : zD) (w : zMp) : Prop := (∀ k : Nat, k < 256 → w (D.2.2.1 k) = some (eI ((k : Int) - 128))) ∧ w (zEm D) = some eZ ∧ w (D.2.2.2 2) = some (eS [42]) ∧ w (D.2.2.2 3) = some (eS [43]) ∧ w (D.2.2.2 4) = some (eS [35])
theorem zBs.up {D : zD} {w w2 : zMp} (h : zBs D w) (hl : zLe w w2) : zBs D w2 := ⟨fun k hk => hl _ _ (h.1 k hk), hl _ _ h.2.1, hl _ _ h.2.2.1, hl _ _ h.2.2.2.1, hl _ _ h.2.2.2.2⟩
/-- the world: what stands in w, what in m (which may be changed); each cell belongs to one item -/
def cI (D : zD) (A : Nat → Prop) (w m : zMp) (H : Heap) : Prop := (zBs D w ∧ zEls w m) ∧ (∀ q, H.size ≤ q → A q) ∧ (∀ a, w a = none ∨ m a = none) ∧ ∃ ow : Nat → Nat, (∀ a it, w a = some it → zIt D (fun b => ow b = a ∨ ¬ A b) a it H) ∧ ∀ a it, m a = some it → zIt D (fun b => ow b = a ∧ A b) a it H
section CI
variable {D : zD} {A : Nat → Prop} {w m : zMp} {H H1 : Heap} {a : Nat}
theorem cI.w_of {it : zE} (h : cI D A w m H) (hm : m a = some it) : w a = none := (h.2.2.1 a).resolve_right (fun q => by rw [hm] at q; cases q)
theorem cI.m_of {it : zE} (h : cI D A w m H) (hw : w a = some it) : m a = none := (h.2.2.1 a).resolve_left (fun q => by rw [hw] at q; cases q)
theorem cI.it {it : zE} (h : cI D A w m H) (hm : w a = some it ∨ m a = some it) : ∃ B, zIt D B a it H := by
  obtain ⟨-, -, -, ow, h1, h2⟩ := h
  rcases hm with hm | hm
  · exact ⟨_, h1 a it hm⟩
  · exact ⟨_, h2 a it hm⟩
theorem cI.at {e : va_E} (h : cI D A w m H) (hm : w a = some (eC e) ∨ m a = some (eC e)) : zAt D a e H := by
  obtain ⟨B, -, h1⟩ := h.it hm
  exact h1
theorem cI.rd {ci : Nat} {fs : List Value} {C : String} {T : u_T} {N : Nat} (h : cI D A w m H) (hm : w a = some (eO ci fs) ∨ m a = some (eO ci fs)) (hc : zCl[ci]? = some (C, T, N)) {k : Nat} (hk : k < N) {v : Value} (hv : fs[k]? = some v) : zRd D ci a k v H := (h.at hm).rd hc hk hv
theorem cI.ob {ci : Nat} {fs : List Value} (h : cI D A w m H) (hm : w a = some (eO ci fs) ∨ m a = some (eO ci fs)) : zOb D ci a H := (h.at hm).ob
theorem cI.lt {it : zE} (h : cI D A w m H) (hm : w a = some it ∨ m a = some it) : a < H.size := by
  obtain ⟨B, h1⟩ := h.it hm
  exact h1.lt
theorem cI.obL {mc : Int} {xs : List Nat} (h : cI D A w m H) (hm : w a = some (eL mc xs) ∨ m a = some (eL mc xs)) : zOb D ciJ2 a H := by
  obtain ⟨B, -, d, h1, -⟩ := h.it hm
  exact h1.ob
theorem cI.rdL {mc : Int} {xs : List Nat} (h : cI D A w m H) (hm : w a = some (eL mc xs) ∨ m a = some (eL mc xs)) : zRd D ciJ2 a 0 (zI mc) H ∧ zRd D ciJ2 a 2 (zI xs.length) H := by
  obtain ⟨B, -, d, h1, -⟩ := h.it hm
  exact ⟨h1.rd (C := RJ2) (T := TJ2) (N := 3) rfl (by decide) rfl, h1.rd (C := RJ2) (T := TJ2) (N := 3) rfl (by decide) rfl⟩
/-- a list's element array: the empty one, or one with the elements in front -/
theorem cI.dtL {mc : Int} {xs : List Nat} (h : cI D A w m H) (hm : w a = some (eL mc xs) ∨ m a = some (eL mc xs)) : ∃ d : Nat, zRd D ciJ2 a 1 (.ref d) H ∧ ∃ (n : Nat) (f : Nat → Value), zRa D 5 d n f H ∧ n ≤ 1000 ∧ xs.length ≤ n ∧ ∀ i : Nat, i < xs.length → f i = va_rf xs[i]? := by
  obtain ⟨B, -, d, h1, h2⟩ := h.it hm
  refine ⟨d, h1.rd (C := RJ2) (T := TJ2) (N := 3) rfl (by decide) rfl, ?_⟩
  rcases h2 with ⟨rfl, h3⟩ | ⟨-, -, n, f, h5, h6, h7, h8⟩
  · obtain ⟨hb, -, -, ow, k1, -⟩ := h
    have g : zRa D 5 (zEm D) 0 (fun _ => .null) H := (k1 _ _ hb.1.2.1).2
    have h3 : xs = [] := h3
    refine ⟨0, _, g, by omega, by rw [h3]; exact Nat.le_refl _, fun i hi => ?_⟩
    rw [h3] at hi
    exact absurd hi (Nat.not_lt_zero i)
  · exact ⟨n, _, h5.raQ, h6, h7, fun i hi => by rw [h8 i hi]⟩
theorem cI.obS {s : zS} (h : cI D A w m H) (hm : w a = some (eS s) ∨ m a = some (eS s)) : zOb D ciJ13 a H := by
  obtain ⟨B, -, -, d, -, -, h1, -⟩ := h.it hm
  exact h1.ob
theorem cI.rdS {s : zS} (h : cI D A w m H) (hm : w a = some (eS s) ∨ m a = some (eS s)) : zCh s ∧ ∃ d : Nat, zRd D ciJ13 a 0 (.ref d) H ∧ zRd D ciJ13 a 1 (zI 0) H ∧ zRa D 2 d s.length (fun j => zI (cT s j)) H := by
  obtain ⟨B, -, hs, d, -, -, h1⟩ := h.it hm
  exact ⟨hs, d, h1⟩
theorem cI.obB {s : zS} (h : cI D A w m H) (hm : w a = some (eB s) ∨ m a = some (eB s)) : zOb D ciJ20 a H := by
  obtain ⟨B, -, -, d, n, f, ml, h1, -⟩ := h.it hm
  exact h1.ob
theorem cI.rdI {k : Int} (h : cI D A w m H) (hm : w a = some (eI k) ∨ m a = some (eI k)) : zRd D ciJ18 a 0 (zI k) H := by
  obtain ⟨B, -, h1⟩ := h.it hm
  exact h1
theorem cI.iv (h : cI D A w m H) {k : Int} (h0 : -128 ≤ k) (h1 : k < 128) : w (zIv D k) = some (eI k) := by
  have := h.1.1.1 (k + 128).toNat (by omega)
  rw [show (((k + 128).toNat : Nat) : Int) - 128 = k by omega] at this
  exact this
theorem cI.obE {it : zE} {ci : Nat} (h : cI D A w m H) (hm : w a = some it ∨ m a = some it) (hc : eCi it = some ci) : zOb D ci a H := by
  match it, hm, hc with
  | .inl (.inl e), hm, hc => cases hc
  | .inl (.inr o), hm, hc => cases hc; exact h.ob hm
  | .inr (.inl x), hm, hc => cases hc; exact h.obL hm
  | .inr (.inr (.inl s)), hm, hc => cases hc; exact h.obS hm
  | .inr (.inr (.inr (.inl s))), hm, hc => cases hc; exact h.obB hm
  | .inr (.inr (.inr (.inr (.inl (some k))))), hm, hc => cases hc; exact (h.rdI hm).ob
  | .inr (.inr (.inr (.inr (.inl none)))), hm, hc => cases hc
  | .inr (.inr (.inr (.inr (.inr ci)))), hm, hc =>
    cases hc
    obtain ⟨B, -, h1⟩ := h.it hm
    exact zTh.ob h1
theorem cI.els {mc : Int} {xs : List Nat} (h : cI D A w m H) (hm : w a = some (eL mc xs) ∨ m a = some (eL mc xs)) : ∀ x ∈ xs, ∃ it, w x = some it ∧ zElO it = true := h.1.2 a mc xs hm
theorem cI.own {it : zE} (h : cI D A w m H) (hm : m a = some it) : A a := by
  obtain ⟨-, -, -, ow, -, h2⟩ := h
  exact (h2 a it hm).1.2
theorem zEls.up {w m w2 m2 : zMp} (h : zEls w m) (hw : zLe w w2) (hl : ∀ a mc xs, (w2 a = some (eL mc xs) ∨ m2 a = some (eL mc xs)) → (w a = some (eL mc xs) ∨ m a = some (eL mc xs)) ∨ ∀ x ∈ xs, ∃ it, w2 x = some it ∧ zElO it = true) : zEls w2 m2 := by
  intro a mc xs q x hx
  rcases hl a mc xs q with q2 | q2
  · obtain ⟨it, h1, h2⟩ := h a mc xs q2 x hx
    exact ⟨it, hw _ _ h1, h2⟩
  · exact q2 x hx
/-- one item of m is another now -/
theorem zEls.upd {w m : zMp} {a : Nat} {it : zE} (h : zEls w m) (hel : ∀ mc xs, it = eL mc xs → ∀ x ∈ xs, ∃ it2, w x = some it2 ∧ zElO it2 = true) : zEls w (upm m a it) := by
  refine h.up zLe.rf (fun b mc xs q => ?_)
  rcases q with q | q
  · exact Or.inl (Or.inl q)
  · by_cases e : b = a
    · subst e
      rw [upm_same] at q
      exact Or.inr (hel mc xs (Option.some.inj q))
    · rw [upm_ne _ _ e] at q
      exact Or.inl (Or.inr q)
theorem zEls.del {w m : zMp} (a : Nat) (h : zEls w m) : zEls w (dlm m a) := by
  refine h.up zLe.rf (fun b mc xs q => Or.inl ?_)
  rcases q with q | q
  · exact Or.inl q
  · by_cases e : b = a
    · rw [e, dlm_same] at q; cases q
    · rw [dlm_ne _ e] at q; exact Or.inr q
/-- fewer items of m are known -/
theorem cI.sub {m2 : zMp} (h : cI D A w m H) (hm : ∀ a x, m2 a = some x → m a = some x) : cI D A w m2 H := by
  obtain ⟨hb, hA, hd, ow, h1, h2⟩ := h
  refine ⟨⟨hb.1, hb.2.up zLe.rf (fun b mc xs q => Or.inl (q.elim Or.inl (fun q => Or.inr (hm _ _ q))))⟩, hA, fun a => ?_, ow, h1, fun a it q => h2 a it (hm a it q)⟩
  cases q2 : m2 a with
  | none => exact Or.inr rfl
  | some y =>
    rcases hd a with h3 | h3
    · exact Or.inl h3
    · rw [hm a y q2] at h3; cases h3
theorem cI.del (h : cI D A w m H) (a : Nat) : cI D A w (dlm m a) H :=
  h.sub (fun b x q => by
    by_cases e : b = a
    · rw [e, dlm_same] at q; cases q
    · rw [dlm_ne _ e] at q; exact q)
/-- never to be changed again -/
theorem cI.frz {it : zE} (h : cI D A w m H) (hm : m a = some it) : cI D A (upm w a it) (dlm m a) H := by
  have hw0 := h.w_of hm
  obtain ⟨hb, hA, hd, ow, h1, h2⟩ := h
  have hel : zEls (upm w a it) (dlm m a) := by
    refine hb.2.up (zLe.up hw0) (fun b mc xs q => Or.inl ?_)
    by_cases e : b = a
    · subst e
      rw [upm_same, dlm_same] at q
      rcases q with q | q
      · exact Or.inr (hm.trans q)
      · cases q
    · rw [upm_ne _ _ e, dlm_ne _ e] at q
      exact q
  refine ⟨⟨hb.1.up (zLe.up hw0), hel⟩, hA, fun b => ?_, ow, fun b it2 q => ?_, fun b it2 q => ?_⟩
  · by_cases e : b = a
    · rw [e]; exact Or.inr (dlm_same _ _)
    · rw [upm_ne _ _ e, dlm_ne _ e]; exact hd b
  · by_cases e : b = a
    · subst e
      rw [upm_same] at q
      cases q
      exact (h2 b it hm).to (fun c _ hc => ⟨rfl, Or.inl hc.1⟩)
    · rw [upm_ne _ _ e] at q
      exact h1 b it2 q
  · by_cases e : b = a
    · rw [e, dlm_same] at q; cases q
    · rw [dlm_ne _ e] at q
      exact h2 b it2 q
theorem cI.grow (h : cI D A w m H) (hz : H.size ≤ H1.size) (ho : ∀ q : Nat, q < H.size → H1[q]? = H[q]?) : cI D A w m H1 := by
  obtain ⟨hb, hA, hd, ow, h1, h2⟩ := h
  exact ⟨hb, fun q hq => hA q (Nat.le_trans hz hq), hd, ow, fun b it q => (h1 b it q).to (fun c hc k => ⟨ho c hc, k⟩), fun b it q => (h2 b it q).to (fun c hc k => ⟨ho c hc, k⟩)⟩
/-- a cell written -/
theorem cI.put {e e2 : va_E} (h : cI D A w m H) (hm : m a = some (eC e)) (he : zAt D a e2 H1) (hz : H1.size = H.size) (ho : ∀ q : Nat, q ≠ a → H1[q]? = H[q]?) : cI D A w (upm m a (eC e2)) H1 := by
  have hw0 := h.w_of hm
  obtain ⟨hb, hA, hd, ow, h1, h2⟩ := h
  obtain ⟨⟨o1, o2⟩, -⟩ := h2 a _ hm
  refine ⟨⟨hb.1, hb.2.upd (fun _ _ q => by cases q)⟩, fun q hq => hA q (by omega), fun b => ?_, ow, fun b it q => ?_, fun b it q => ?_⟩
  · by_cases e : b = a
    · rw [e]; exact Or.inl hw0
    · rw [upm_ne _ _ e]; exact hd b
  · have hba : b ≠ a := fun e => by rw [e, hw0] at q; cases q
    refine (h1 b it q).to (fun c _ hc => ⟨ho c (fun e => ?_), hc⟩)
    rw [e] at hc
    rcases hc with hc | hc
    · exact hba (hc.symm.trans o1)
    · exact hc o2
  · by_cases e : b = a
    · subst e
      rw [upm_same] at q
      cases q
      exact ⟨⟨o1, o2⟩, he⟩
    · rw [upm_ne _ _ e] at q
      refine (h2 b it q).to (fun c _ hc => ⟨ho c (fun e2 => ?_), hc⟩)
      rw [e2] at hc
      exact e (hc.1.symm.trans o1)
/-- a cell made -/
theorem cI.new {e : va_E} (h : cI D A w m H) (he : zAt D H.size e H1) (hz : H1.size = H.size + 1) (ho : ∀ q : Nat, q < H.size → H1[q]? = H[q]?) : w H.size = none ∧ m H.size = none ∧ cI D A w (upm m H.size (eC e)) H1 := by
  have hwn : w H.size = none := by
    cases q : w H.size with
    | none => rfl
    | some it => exact absurd (h.lt (Or.inl q)) (Nat.lt_irrefl _)
  have hmn : m H.size = none := by
    cases q : m H.size with
    | none => rfl
    | some it => exact absurd (h.lt (Or.inr q)) (Nat.lt_irrefl _)
  refine ⟨hwn, hmn, ?_⟩
  obtain ⟨hb, hA, hd, ow, h1, h2⟩ := h
  have hne : ∀ c : Nat, c < H.size → (if c = H.size then H.size else ow c) = ow c := fun c hc => if_neg (by omega)
  refine ⟨⟨hb.1, hb.2.upd (fun _ _ q => by cases q)⟩, fun q hq => hA q (by omega), fun b => ?_, fun b => if b = H.size then H.size else ow b, fun b it q => ?_, fun b it q => ?_⟩
  · by_cases e : b = H.size
    · rw [e]; exact Or.inl hwn
    · rw [upm_ne _ _ e]; exact hd b
  · exact (h1 b it q).to (fun c hc k => ⟨ho c hc, by (try dsimp only); rw [hne c hc]; exact k⟩)
  · by_cases e : b = H.size
    · subst e
      rw [upm_same] at q
      cases q
      exact ⟨⟨if_pos rfl, hA _ (Nat.le_refl _)⟩, he⟩
    · rw [upm_ne _ _ e] at q
      exact (h2 b it q).to (fun c hc k => ⟨ho c hc, by (try dsimp only); rw [hne c hc]; exact k⟩)
/-- an exception made -/
theorem cI.newX {ci : Nat} (h : cI D A w m H) (he : zTh D ci H.size H1) (hz : H.size < H1.size) (ho : ∀ q : Nat, q < H.size → H1[q]? = H[q]?) : w H.size = none ∧ m H.size = none ∧ cI D A w (upm m H.size (eX ci)) H1 := by
  have hwn : w H.size = none := by
    cases q : w H.size with
    | none => rfl
    | some it => exact absurd (h.lt (Or.inl q)) (Nat.lt_irrefl _)
  have hmn : m H.size = none := by
    cases q : m H.size with
    | none => rfl
    | some it => exact absurd (h.lt (Or.inr q)) (Nat.lt_irrefl _)
  refine ⟨hwn, hmn, ?_⟩
  obtain ⟨hb, hA, hd, ow, h1, h2⟩ := h
  have hne : ∀ c : Nat, c < H.size → (if c = H.size then H.size else ow c) = ow c := fun c hc => if_neg (by omega)
  refine ⟨⟨hb.1, hb.2.upd (fun _ _ q => by cases q)⟩, fun q hq => hA q (by omega), fun b => ?_, fun b => if b = H.size then H.size else ow b, fun b it q => ?_, fun b it q => ?_⟩
  · by_cases e : b = H.size
    · rw [e]; exact Or.inl hwn
    · rw [upm_ne _ _ e]; exact hd b
  · exact (h1 b it q).to (fun c hc k => ⟨ho c hc, by (try dsimp only); rw [hne c hc]; exact k⟩)
  · by_cases e : b = H.size
    · subst e
      rw [upm_same] at q
      cases q
      exact ⟨⟨if_pos rfl, hA _ (Nat.le_refl _)⟩, he⟩
    · rw [upm_ne _ _ e] at q
      exact (h2 b it q).to (fun c hc k => ⟨ho c hc, by (try dsimp only); rw [hne c hc]; exact k⟩)
/-- a list of m is taken apart -/
theorem cI.opn {mc : Int} {xs : List Nat} (h : cI D A w m H) (hm : m a = some (eL mc xs)) : (xs = [] ∧ cI D A w (upm m a (eO ciJ2 [zI mc, .ref (zEm D), zI xs.length])) H) ∨ ∃ (d n : Nat) (f : Nat → Option Nat), d ≠ a ∧ w d = none ∧ m d = none ∧ n ≤ 1000 ∧ xs.length ≤ n ∧ (∀ i : Nat, i < xs.length → f i = xs[i]?) ∧ cI D A w (upm (upm m a (eO ciJ2 [zI mc, .ref d, zI xs.length])) d (eC (aQ D 5 n f))) H := by
  have hw0 := h.w_of hm
  obtain ⟨hb, hA, hd, ow, h1, h2⟩ := h
  obtain ⟨⟨o1, o2⟩, d, g1, g2⟩ := h2 a _ hm
  rcases g2 with ⟨rfl, g3⟩ | ⟨⟨p1, p2⟩, g4, n, f, g5, g6, g7, g8⟩
  · refine Or.inl ⟨g3, ⟨hb.1, hb.2.upd (fun _ _ q => by cases q)⟩, hA, fun b => ?_, ow, h1, fun b it q => ?_⟩
    · by_cases e : b = a
      · rw [e]; exact Or.inl hw0
      · rw [upm_ne _ _ e]; exact hd b
    · by_cases e : b = a
      · subst e
        rw [upm_same] at q
        cases q
        exact ⟨⟨o1, o2⟩, g1⟩
      · rw [upm_ne _ _ e] at q
        exact h2 b it q
  · have hwd : w d = none := by
      cases q : w d with
      | none => rfl
      | some it =>
        rcases (h1 d it q).1 with k | k
        · exact absurd (k.symm.trans p1) g4
        · exact absurd p2 k
    have hmd : m d = none := by
      cases q : m d with
      | none => rfl
      | some it => exact absurd ((h2 d it q).1.1.symm.trans p1) g4
    have hne : ∀ c : Nat, c ≠ d → (if c = d then d else ow c) = ow c := fun c hc => if_neg hc
    refine Or.inr ⟨d, n, f, g4, hwd, hmd, g6, g7, g8, ⟨hb.1, (hb.2.upd (fun _ _ q => by cases q)).upd (fun _ _ q => by cases q)⟩, hA, fun b => ?_, fun b => if b = d then d else ow b, fun b it q => ?_, fun b it q => ?_⟩
    · by_cases e : b = d
      · rw [e]; exact Or.inl hwd
      · rw [upm_ne _ _ e]
        by_cases e2 : b = a
        · rw [e2]; exact Or.inl hw0
        · rw [upm_ne _ _ e2]; exact hd b
    · have hba : b ≠ a := fun e => by rw [e, hw0] at q; cases q
      refine (h1 b it q).to (fun c _ hc => ⟨rfl, ?_⟩)
      by_cases e : c = d
      · rw [e] at hc
        rcases hc with hc | hc
        · exact absurd (hc.symm.trans p1) hba
        · exact absurd p2 hc
      · (try dsimp only); rw [hne c e]; exact hc
    · by_cases e : b = d
      · subst e
        rw [upm_same] at q
        cases q
        exact ⟨⟨if_pos rfl, p2⟩, g5⟩
      · rw [upm_ne _ _ e] at q
        by_cases e2 : b = a
        · subst e2
          rw [upm_same] at q
          cases q
          exact ⟨⟨by (try dsimp only); rw [hne b e]; exact o1, o2⟩, g1⟩
        · rw [upm_ne _ _ e2] at q
          refine (h2 b it q).to (fun c _ hc => ⟨rfl, ?_⟩)
          by_cases e3 : c = d
          · rw [e3] at hc
            exact absurd (hc.1.symm.trans p1) e2
          · (try dsimp only); rw [hne c e3]; exact hc
/-- .. and put together again: two cells of m that are one item from now on -/
theorem cI.join {d : Nat} {e1 e2 : va_E} {it : zE} (h : cI D A w m H) (ha : m a = some (eC e1)) (hd2 : m d = some (eC e2)) (hne : d ≠ a) (hel : ∀ mc xs, it = eL mc xs → ∀ x ∈ xs, ∃ it2, w x = some it2 ∧ zElO it2 = true) (hit : ∀ B : Nat → Prop, B a → B d → zAt D a e1 H → zAt D d e2 H → zIt D B a it H) : cI D A w (upm (dlm m d) a it) H := by
  have hw0 := h.w_of ha
  obtain ⟨hb, hA, hd, ow, h1, h2⟩ := h
  obtain ⟨⟨o1, o2⟩, g1⟩ := h2 a _ ha
  obtain ⟨⟨p1, p2⟩, g2⟩ := h2 d _ hd2
  have hk : ∀ c : Nat, c ≠ d → (if c = d then a else ow c) = ow c := fun c hc => if_neg hc
  refine ⟨⟨hb.1, (hb.2.del d).upd hel⟩, hA, fun b => ?_, fun b => if b = d then a else ow b, fun b it2 q => ?_, fun b it2 q => ?_⟩
  · by_cases e : b = a
    · rw [e]; exact Or.inl hw0
    · rw [upm_ne _ _ e]
      by_cases e2 : b = d
      · rw [e2]; exact Or.inr (dlm_same _ _)
      · rw [dlm_ne _ e2]; exact hd b
  · have hwd : w d = none := (hd d).resolve_right (fun q => by rw [hd2] at q; cases q)
    have hbd : b ≠ d := fun e => by rw [e, hwd] at q; cases q
    refine (h1 b it2 q).to (fun c _ hc => ⟨rfl, ?_⟩)
    by_cases e : c = d
    · rw [e] at hc
      rcases hc with hc | hc
      · exact absurd (hc.symm.trans p1) hbd
      · exact absurd p2 hc
    · (try dsimp only); rw [hk c e]; exact hc
  · by_cases e : b = a
    · subst e
      rw [upm_same] at q
      cases q
      exact hit _ ⟨by (try dsimp only); rw [hk b hne.symm]; exact o1, o2⟩ ⟨if_pos rfl, p2⟩ g1 g2
    · rw [upm_ne _ _ e] at q
      by_cases e2 : b = d
      · rw [e2, dlm_same] at q; cases q
      · rw [dlm_ne _ e2] at q
        refine (h2 b it2 q).to (fun c _ hc => ⟨rfl, ?_⟩)
        by_cases e3 : c = d
        · rw [e3] at hc
          exact absurd (hc.1.symm.trans p1) e2
        · (try dsimp only); rw [hk c e3]; exact hc
/-- the item at a is seen as another item of the same one cell -/
theorem cI.as {e1 : va_E} {it : zE} (h : cI D A w m H) (ha : m a = some (eC e1)) (hel : ∀ mc xs, it = eL mc xs → ∀ x ∈ xs, ∃ it2, w x = some it2 ∧ zElO it2 = true) (hit : ∀ B : Nat → Prop, B a → zAt D a e1 H → zIt D B a it H) : cI D A w (upm m a it) H := by
  have hw0 := h.w_of ha
  obtain ⟨hb, hA, hd, ow, h1, h2⟩ := h
  obtain ⟨o1, g1⟩ := h2 a _ ha
  refine ⟨⟨hb.1, hb.2.upd hel⟩, hA, fun b => ?_, ow, h1, fun b it2 q => ?_⟩
  · by_cases e : b = a
    · rw [e]; exact Or.inl hw0
    · rw [upm_ne _ _ e]; exact hd b
  · by_cases e : b = a
    · subst e
      rw [upm_same] at q
      cases q
      exact hit _ o1 g1
    · rw [upm_ne _ _ e] at q
      exact h2 b it2 q
/-- a text that is being built, taken apart -/
theorem cI.opnB {s : zS} (h : cI D A w m H) (hm : m a = some (eB s)) : zCh s ∧ ∃ (d n : Nat) (f : Nat → Int32) (ml : Value), d ≠ a ∧ w d = none ∧ m d = none ∧ n ≤ 1000 ∧ s.length ≤ n ∧ (∀ i : Nat, i < s.length → f i = Int32.ofInt (cT s i)) ∧ (∀ i : Nat, i < n → fits .byte (.int (f i)) = true) ∧ cI D A w (upm (upm m a (eO ciJ20 [.ref d, zI 0, ml, zI s.length])) d (eC (aN D 2 n f))) H := by
  have hw0 := h.w_of hm
  obtain ⟨hb, hA, hd, ow, h1, h2⟩ := h
  obtain ⟨⟨o1, o2⟩, hs, d, n, f, ml, g1, ⟨p1, p2⟩, g4, g5, g6, g7, g8, g9⟩ := h2 a _ hm
  have hwd : w d = none := by
    cases q : w d with
    | none => rfl
    | some it =>
      rcases (h1 d it q).1 with k | k
      · exact absurd (k.symm.trans p1) g4
      · exact absurd p2 k
  have hmd : m d = none := by
    cases q : m d with
    | none => rfl
    | some it => exact absurd ((h2 d it q).1.1.symm.trans p1) g4
  have hne : ∀ c : Nat, c ≠ d → (if c = d then d else ow c) = ow c := fun c hc => if_neg hc
  refine ⟨hs, d, n, f, ml, g4, hwd, hmd, g6, g7, g8, g9, ⟨hb.1, (hb.2.upd (fun _ _ q => by cases q)).upd (fun _ _ q => by cases q)⟩, hA, fun b => ?_, fun b => if b = d then d else ow b, fun b it q => ?_, fun b it q => ?_⟩
  · by_cases e : b = d
    · rw [e]; exact Or.inl hwd
    · rw [upm_ne _ _ e]
      by_cases e2 : b = a
      · rw [e2]; exact Or.inl hw0
      · rw [upm_ne _ _ e2]; exact hd b
  · have hba : b ≠ a := fun e => by rw [e, hw0] at q; cases q
    refine (h1 b it q).to (fun c _ hc => ⟨rfl, ?_⟩)
    by_cases e : c = d
    · rw [e] at hc
      rcases hc with hc | hc
      · exact absurd (hc.symm.trans p1) hba
      · exact absurd p2 hc
    · (try dsimp only); rw [hne c e]; exact hc
  · by_cases e : b = d
    · subst e
      rw [upm_same] at q
      cases q
      exact ⟨⟨if_pos rfl, p2⟩, g5⟩
    · rw [upm_ne _ _ e] at q
      by_cases e2 : b = a
      · subst e2
        rw [upm_same] at q
        cases q
        exact ⟨⟨by (try dsimp only); rw [hne b e]; exact o1, o2⟩, g1⟩
      · rw [upm_ne _ _ e2] at q
        refine (h2 b it q).to (fun c _ hc => ⟨rfl, ?_⟩)
        by_cases e3 : c = d
        · rw [e3] at hc
          exact absurd (hc.1.symm.trans p1) e2
        · (try dsimp only); rw [hne c e3]; exact hc
end CI

