/-! THE WORLD: the classes whose objects are known, by numbers; array classes; the tables' words that a method takes along -/
set_option maxRecDepth 100000
def zT0 : u_T := fun _ => ("", "", "", false)
abbrev zCl : List vw_C := [(RX1, TX1, 7), (RX2, TX2, 4), (RX3, TX3, 2), (RX4, TX4, 27), (RX5, TX5, 3), (RX6, TX6, 2), (RX7, TX7, 3), (RX8, TX8, 2), (RX9, TX9, 8), (RX10, TX10, 2), (RX12, TX12, 1), (RX13, TX13, 7), (RX14, TX14, 1), (RX15, TX15, 3), (RX16, TX16, 1), (RJ2, TJ2, 3), (RJ8, TJ8, 4), (RJ13, TJ13, 4), (RJ18, TJ18, 1), (RJ20, TJ20, 4), (RJ6, zT0, 0), (RJ7, zT0, 0), (RJ9, zT0, 0), (RJ22, zT0, 0), (RJ23, zT0, 0), (RJ25, zT0, 0)]
abbrev ciX1 : Nat := 0
abbrev ciX2 : Nat := 1
abbrev ciX3 : Nat := 2
abbrev ciX4 : Nat := 3
abbrev ciX5 : Nat := 4
abbrev ciX6 : Nat := 5
abbrev ciX7 : Nat := 6
abbrev ciX8 : Nat := 7
abbrev ciX9 : Nat := 8
abbrev ciX10 : Nat := 9
abbrev ciX12 : Nat := 10
abbrev ciX13 : Nat := 11
abbrev ciX14 : Nat := 12
abbrev ciX15 : Nat := 13
abbrev ciX16 : Nat := 14
abbrev ciJ2 : Nat := 15
abbrev ciJ8 : Nat := 16
abbrev ciJ13 : Nat := 17
abbrev ciJ18 : Nat := 18
abbrev ciJ20 : Nat := 19
abbrev ciJ6 : Nat := 20
abbrev ciJ7 : Nat := 21
abbrev ciJ9 : Nat := 22
abbrev ciJ22 : Nat := 23
abbrev ciJ23 : Nat := 24
abbrev ciJ25 : Nat := 25
/-- class numbers and slots; array classes; the cached Integers; other things -/
abbrev zD : Type := va_G × (Nat → ClassId) × (Nat → Nat) × (Nat → Nat)
abbrev zTys (D : zD) : List (ClassId × FieldType) := [(D.2.1 0, .int), (D.2.1 1, .char), (D.2.1 2, .byte), (D.2.1 3, .long), (D.2.1 4, .double), (D.2.1 5, .object "java/lang/Object"), (D.2.1 6, .object "LogCompactor$Token"), (D.2.1 7, .object "LogCompactor$Template")]
def zNF : List (String × Nat × String × String × String × String) := [("LogCompactor", 65, "LogCompactor$Log", "templates", "[LLogCompactor$Template;", "LogCompactor"), ("LogCompactor", 80, "LogCompactor$Log", "lines", "Ljava/util/ArrayList;", "LogCompactor"), ("LogCompactor", 147, "LogCompactor$Template", "rows", "Ljava/util/ArrayList;", "LogCompactor"), ("LogCompactor", 162, "LogCompactor$Template", "gaps", "Ljava/util/ArrayList;", "LogCompactor"), ("LogCompactor", 175, "LogCompactor$Template", "slots", "Ljava/util/ArrayList;", "LogCompactor"), ("LogCompactor", 183, "LogCompactor$Column", "tokens", "[LLogCompactor$Token;", "LogCompactor"), ("LogCompactor", 187, "LogCompactor$Slot", "fixed", "LLogCompactor$Token;", "LogCompactor"), ("LogCompactor", 191, "LogCompactor$Token", "text", "Ljava/lang/String;", "LogCompactor"), ("LogCompactor", 216, "LogCompactor$Line", "tokens", "Ljava/util/ArrayList;", "LogCompactor"), ("LogCompactor", 224, "LogCompactor$Log", "threshold", "I", "LogCompactor"), ("LogCompactor", 231, "LogCompactor$Slot", "type", "I", "LogCompactor"), ("LogCompactor", 271, "LogCompactor$Column", "count", "I", "LogCompactor"), ("LogCompactor", 276, "LogCompactor$Token", "type", "I", "LogCompactor"), ("LogCompactor", 316, "LogCompactor$TextException", "position", "I", "LogCompactor"), ("LogCompactor$Column", 21, "LogCompactor$Template", "rows", "Ljava/util/ArrayList;", "LogCompactor"), ("LogCompactor$Column", 48, "LogCompactor$Line", "tokens", "Ljava/util/ArrayList;", "LogCompactor"), ("LogCompactor$Column", 65, "LogCompactor$Token", "type", "I", "LogCompactor"), ("LogCompactor$Column", 68, "LogCompactor$Token", "text", "Ljava/lang/String;", "LogCompactor"), ("LogCompactor$ColumnCondition", 22, "LogCompactor$Log", "templates", "[LLogCompactor$Template;", "LogCompactor"), ("LogCompactor$ColumnCondition", 37, "LogCompactor$Log", "lines", "Ljava/util/ArrayList;", "LogCompactor"), ("LogCompactor$ColumnCondition", 49, "LogCompactor$Line", "tokens", "Ljava/util/ArrayList;", "LogCompactor"), ("LogCompactor$ColumnCondition", 54, "LogCompactor$Token", "type", "I", "LogCompactor"), ("LogCompactor$Line", 63, "LogCompactor$Token", "text", "Ljava/lang/String;", "LogCompactor"), ("LogCompactor$Log", 70, "LogCompactor$Line", "gaps", "Ljava/util/ArrayList;", "LogCompactor"), ("LogCompactor$Log", 81, "LogCompactor$Line", "tokens", "Ljava/util/ArrayList;", "LogCompactor"), ("LogCompactor$Log", 116, "LogCompactor$Template", "gaps", "Ljava/util/ArrayList;", "LogCompactor"), ("LogCompactor$Log", 148, "LogCompactor$Template", "rows", "Ljava/util/ArrayList;", "LogCompactor"), ("LogCompactor$Log", 171, "LogCompactor$Template", "slots", "Ljava/util/ArrayList;", "LogCompactor"), ("LogCompactor$Log", 196, "LogCompactor$Slot", "fixed", "LLogCompactor$Token;", "LogCompactor"), ("LogCompactor$Reader", 19, "LogCompactor", "inputLength", "I", "LogCompactor"), ("LogCompactor$Reader", 22, "LogCompactor", "input", "[C", "LogCompactor"), ("LogCompactor$Slot", 15, "LogCompactor$Token", "type", "I", "LogCompactor"), ("LogCompactor$Slot", 29, "LogCompactor$Token", "text", "Ljava/lang/String;", "LogCompactor"), ("LogCompactor$Template", 36, "LogCompactor$Line", "gaps", "Ljava/util/ArrayList;", "LogCompactor"), ("LogCompactor$Template", 51, "LogCompactor$Line", "tokens", "Ljava/util/ArrayList;", "LogCompactor"), ("LogCompactor$WordCondition", 13, "LogCompactor$Log", "lines", "Ljava/util/ArrayList;", "LogCompactor"), ("java/util/ArrayList$Itr", 28, "java/util/ArrayList", "size", "I", "java/util/ArrayList")]
def zNM : List (String × Nat × MethodName × String) := [("LogCompactor", 304, ⟨"LogCompactor$Reader", "<init>", "(LLogCompactor;)V"⟩, "LogCompactor"), ("LogCompactor$ColumnCondition", 3, ⟨"LogCompactor$Condition", "<init>", "()V"⟩, "LogCompactor"), ("LogCompactor$Log", 151, ⟨"LogCompactor$Column", "first", "(I)I"⟩, "LogCompactor"), ("LogCompactor$NotCondition", 1, ⟨"LogCompactor$Condition", "<init>", "()V"⟩, "LogCompactor"), ("LogCompactor$Reader", 35, ⟨"LogCompactor", "inRange", "(III)Z"⟩, "LogCompactor"), ("LogCompactor$TemplateCondition", 1, ⟨"LogCompactor$Condition", "<init>", "()V"⟩, "LogCompactor"), ("LogCompactor$Token", 40, ⟨"LogCompactor", "inRange", "(III)Z"⟩, "LogCompactor"), ("LogCompactor$WordCondition", 1, ⟨"LogCompactor$Condition", "<init>", "()V"⟩, "LogCompactor")]
def zCs : List (String × String) := [("LogCompactor", "java/lang/Object"), ("LogCompactor$Column", "java/lang/Object"), ("LogCompactor$ColumnCondition", "LogCompactor$Condition"), ("LogCompactor$ColumnCondition", "java/lang/Object"), ("LogCompactor$Line", "java/lang/Object"), ("LogCompactor$Log", "java/lang/Object"), ("LogCompactor$NotCondition", "LogCompactor$Condition"), ("LogCompactor$NotCondition", "java/lang/Object"), ("LogCompactor$Reader", "java/lang/Object"), ("LogCompactor$RefusedException", "LogCompactor$RefusedException"), ("LogCompactor$RefusedException", "java/lang/Object"), ("LogCompactor$Slot", "java/lang/Object"), ("LogCompactor$Template", "java/lang/Object"), ("LogCompactor$TemplateCondition", "LogCompactor$Condition"), ("LogCompactor$TemplateCondition", "java/lang/Object"), ("LogCompactor$TextException", "LogCompactor$TextException"), ("LogCompactor$TextException", "java/lang/Object"), ("LogCompactor$Token", "java/lang/Object"), ("LogCompactor$WordCondition", "LogCompactor$Condition"), ("LogCompactor$WordCondition", "java/lang/Object"), ("LogCompactorModel", "java/lang/Object"), ("[B", "java/lang/Cloneable"), ("[B", "java/lang/Object"), ("[C", "java/lang/Object"), ("[D", "java/lang/Object"), ("[I", "java/lang/Object"), ("[J", "java/lang/Object"), ("[LLogCompactor$Template;", "java/lang/Object"), ("[LLogCompactor$Token;", "java/lang/Object"), ("[Ljava/lang/Object;", "java/lang/Object"), ("java/lang/ArithmeticException", "java/lang/ArithmeticException"), ("java/lang/ArithmeticException", "java/lang/Object"), ("java/lang/ArrayIndexOutOfBoundsException", "java/lang/ArrayIndexOutOfBoundsException"), ("java/lang/ArrayIndexOutOfBoundsException", "java/lang/IndexOutOfBoundsException"), ("java/lang/ArrayIndexOutOfBoundsException", "java/lang/Object"), ("java/lang/IllegalArgumentException", "java/lang/IllegalArgumentException"), ("java/lang/IllegalArgumentException", "java/lang/Object"), ("java/lang/IllegalStateException", "java/lang/IllegalStateException"), ("java/lang/IllegalStateException", "java/lang/Object"), ("java/lang/IndexOutOfBoundsException", "java/lang/IndexOutOfBoundsException"), ("java/lang/IndexOutOfBoundsException", "java/lang/Object"), ("java/lang/Integer", "java/lang/Object"), ("java/lang/String", "java/lang/Object"), ("java/lang/StringBuilder", "java/lang/Object"), ("java/lang/Throwable", "java/lang/Object"), ("java/lang/UnsupportedOperationException", "java/lang/Object"), ("java/lang/UnsupportedOperationException", "java/lang/UnsupportedOperationException"), ("java/util/ArrayList", "java/lang/Object"), ("java/util/ArrayList$Itr", "java/lang/Object"), ("java/util/ArrayList$Itr", "java/util/Iterator"), ("java/util/NoSuchElementException", "java/lang/Object"), ("java/util/NoSuchElementException", "java/util/NoSuchElementException")]
def zNc : List (String × String) := [("java/lang/IllegalStateException", "java/lang/IllegalArgumentException"), ("java/lang/UnsupportedOperationException", "java/lang/IllegalArgumentException"), ("java/lang/UnsupportedOperationException", "java/lang/IllegalStateException"), ("java/lang/IllegalArgumentException", "java/lang/IndexOutOfBoundsException"), ("java/lang/UnsupportedOperationException", "java/lang/IndexOutOfBoundsException"), ("java/lang/IllegalStateException", "java/lang/IndexOutOfBoundsException"), ("java/util/NoSuchElementException", "java/lang/IndexOutOfBoundsException"), ("java/lang/IndexOutOfBoundsException", "java/util/NoSuchElementException"), ("java/lang/IllegalArgumentException", "java/util/NoSuchElementException"), ("java/lang/IllegalArgumentException", "LogCompactor$RefusedException"), ("java/lang/IllegalStateException", "LogCompactor$RefusedException")]
def zDs : List MethodName := [⟨"LogCompactor$Condition", "holds", "(LLogCompactor$Log;I)Z"⟩, ⟨"java/lang/Exception", "<init>", "()V"⟩, ⟨"java/lang/Exception", "<init>", "(Ljava/lang/String;)V"⟩, ⟨"java/lang/IndexOutOfBoundsException", "<init>", "()V"⟩, ⟨"java/lang/IndexOutOfBoundsException", "<init>", "(Ljava/lang/String;)V"⟩, ⟨"java/lang/Object", "equals", "(Ljava/lang/Object;)Z"⟩, ⟨"java/lang/Object", "getClass", "()Ljava/lang/Class;"⟩, ⟨"java/lang/RuntimeException", "<init>", "()V"⟩, ⟨"java/lang/RuntimeException", "<init>", "(Ljava/lang/String;)V"⟩, ⟨"java/lang/Throwable", "<init>", "()V"⟩, ⟨"java/lang/Throwable", "<init>", "(Ljava/lang/String;)V"⟩, ⟨"java/util/Iterator", "hasNext", "()Z"⟩, ⟨"java/util/Iterator", "next", "()Ljava/lang/Object;"⟩]
def zAs9 : List String := ["LogCompactor$Template", "LogCompactor$Token", "java/lang/Object"]
def zFs : List (String × MethodName × MethodName) := [("java/util/ArrayList$Itr", ⟨"java/util/Iterator", "hasNext", "()Z"⟩, ⟨"java/util/ArrayList$Itr", "hasNext", "()Z"⟩), ("java/util/ArrayList$Itr", ⟨"java/util/Iterator", "next", "()Ljava/lang/Object;"⟩, ⟨"java/util/ArrayList$Itr", "next", "()Ljava/lang/Object;"⟩)]
def zSl : List (String × MethodName) := [("java/lang/StringBuilder", ⟨"java/lang/AbstractStringBuilder", "appendNull", "()Ljava/lang/AbstractStringBuilder;"⟩), ("java/lang/StringBuilder", ⟨"java/lang/AbstractStringBuilder", "ensureCapacityInternal", "(I)V"⟩), ("java/lang/StringBuilder", ⟨"java/lang/AbstractStringBuilder", "inflate", "()V"⟩), ("java/lang/StringBuilder", ⟨"java/lang/AbstractStringBuilder", "inflateIfNeededFor", "(Ljava/lang/String;)V"⟩), ("java/lang/StringBuilder", ⟨"java/lang/AbstractStringBuilder", "newCapacity", "(I)I"⟩), ("java/lang/StringBuilder", ⟨"java/lang/AbstractStringBuilder", "putStringAt", "(ILjava/lang/String;)V"⟩)]
def zLs : List (String × Nat × String × Nat) := [("LogCompactor$Slot", 39, "*", 2), ("LogCompactor$Slot", 41, "+", 3), ("LogCompactor$Slot", 43, "#", 4)]
/-- the cached Integer of k; the empty element array; a literal's String; the class object of Object[] -/
abbrev zIv (D : zD) (k : Int) : Nat := D.2.2.1 (k + 128).toNat
abbrev zEm (D : zD) : Nat := D.2.2.2 0
abbrev zMi (D : zD) : Nat := D.2.2.2 5
def zSt (D : zD) : List (String × String × String × Value) := [("java/util/ArrayList", "DEFAULTCAPACITY_EMPTY_ELEMENTDATA", "[Ljava/lang/Object;", .ref (D.2.2.2 0)), ("java/lang/String", "COMPACT_STRINGS", "Z", .int (Int32.ofInt 1)), ("java/lang/Integer$IntegerCache", "high", "I", .int (Int32.ofInt 127)), ("java/lang/Integer$IntegerCache", "cache", "[Ljava/lang/Integer;", .ref (D.2.2.2 1))]
def zKt (D : zD) (U : State) : Prop := va_K D.1 zCl (zTys D) U ∧ (∀ t ∈ zNF, va_Nw (.fieldLinkNest t.1 t.2.1 t.2.2.1 t.2.2.2.1 t.2.2.2.2.1 t.2.2.2.2.2) U) ∧ (∀ t ∈ zNM, va_Nw (.methodLinkNest t.1 t.2.1 t.2.2.1 t.2.2.2) U) ∧ (∀ t ∈ zCs, va_Nw (.castable t.1 t.2) U) ∧ (∀ t ∈ zNc, va_Nc t.1 t.2 U) ∧ (∀ t ∈ zDs, va_Nw (.declares t) U) ∧ (∀ t ∈ zAs9, va_AO t U) ∧ (∀ t ∈ zFs, va_Fw t.1 t.2.1 t.2.2 U) ∧ (∀ t ∈ zLs, vk_R t.1 t.2.1 t.2.2.1 (D.2.2.2 t.2.2.2) U) ∧ va_Mi "[Ljava/lang/Object;" (zMi D) U ∧ ∀ t ∈ zSl, va_Nw (.selects t.1 t.2 t.2) U
theorem zFs_ok : ∀ t ∈ zFs, t.2.1.cls ≠ "java/lang/invoke/MethodHandle" ∧ t.2.1.cls ≠ "java/lang/invoke/VarHandle" := by decide +kernel
theorem zKt.moved {D : zD} {u U : State} (hW : u.WarmedH U.vm) (h : zKt D u) : zKt D U := by
  obtain ⟨h1, h2, h3, h4, h5, h6, h7, h8, h9, h10, h11⟩ := h
  exact ⟨va_K.moved hW.alike h1, fun t ht => va_Nw.warmF hW (h2 t ht), fun t ht => va_Nw.warmM hW (h3 t ht), fun t ht => va_Nw.warmC hW (h4 t ht), fun t ht => va_Nc.moved hW.alike (h5 t ht), fun t ht => va_Nw.warmD hW (h6 t ht), fun t ht => va_AO.moved hW.alike (h7 t ht), fun t ht => va_Fw.moved (zFs_ok t ht) hW.alike (h8 t ht), fun t ht => vk_R.warm hW (h9 t ht), va_Mi.moved hW.alike h10, fun t ht => word_at (a' := #[]) hW (good_of_word rfl) (h11 t ht)⟩
def zKh (D : zD) (A : Nat → Prop) (U : State) (H : Heap) : Prop := (∀ t ∈ zSt D, va_Z t.1 t.2.1 t.2.2.1 t.2.2.2 A U H) ∧ va_T (.object "java/lang/Integer") (D.2.2.2 1) 256 (fun j => .ref (D.2.2.1 j)) A U H ∧ va_Zq "jdk/internal/util/Preconditions" "SIOOBE_FORMATTER" "Ljava/util/function/BiFunction;" A U H ∧ vx_Zq Bundle.tN "UNASSIGNED_STACK" Bundle.steD A U H ∧ vx_Zq Bundle.tN "SUPPRESSED_SENTINEL" Bundle.listD A U H
theorem zKh.moved {D : zD} {A : Nat → Prop} {u U : State} {H : Heap} (hW : u.WarmedH U.vm) (h : zKh D A u H) : zKh D A U H :=
  ⟨fun t ht => va_Z.moved hW.alike (h.1 t ht), va_T.moved hW.alike h.2.1, va_Zq.moved hW.alike h.2.2.1, vx_Zq.moved hW.alike h.2.2.2.1, vx_Zq.moved hW.alike h.2.2.2.2⟩
theorem zKh.kept {D : zD} {A : Nat → Prop} {U : State} {H H1 : Heap} (hq : ∀ a : Nat, a < H.size → ¬ A a → H1[a]? = H[a]?) (h : zKh D A U H) : zKh D A U H1 :=
  ⟨fun t ht => (h.1 t ht).kept hq, h.2.1.kept hq, h.2.2.1.kept hq, h.2.2.2.1.kept hq, h.2.2.2.2.kept hq⟩
theorem zKh.narrow {D : zD} {A B : Nat → Prop} {U : State} {H : Heap} (hAB : ∀ q, B q → A q) (h : zKh D A U H) : zKh D B U H :=
  ⟨fun t ht => (h.1 t ht).narrow hAB, h.2.1.narrow hAB, h.2.2.1.narrow hAB, h.2.2.2.1.narrow hAB, h.2.2.2.2.narrow hAB⟩
def zK (D : zD) (A : Nat → Prop) (U : State) (H : Heap) : Prop := zKt D U ∧ zKh D A U H
theorem zK.k1 {D : zD} {A : Nat → Prop} {U : State} {H : Heap} (h : zK D A U H) : va_K D.1 zCl (zTys D) U := h.1.1
theorem zK.moved {D : zD} {A : Nat → Prop} {u U : State} {H : Heap} (hW : u.WarmedH U.vm) (h : zK D A u H) : zK D A U H := ⟨zKt.moved hW h.1, zKh.moved hW h.2⟩
theorem zK.kept {D : zD} {A : Nat → Prop} {U : State} {H H1 : Heap} (hq : ∀ a : Nat, a < H.size → ¬ A a → H1[a]? = H[a]?) (h : zK D A U H) : zK D A U H1 := ⟨h.1, zKh.kept hq h.2⟩
theorem zK.narrow {D : zD} {A B : Nat → Prop} {U : State} {H : Heap} (hAB : ∀ q, B q → A q) (h : zK D A U H) : zK D B U H := ⟨h.1, zKh.narrow hAB h.2⟩
theorem zK.step {D : zD} {A : Nat → Prop} {s U : State} {H : Heap} {locs : List Loc} (h : zK D A s s.heap) (hW : s.WarmedH U.vm) (hS : va_S A s.heap H locs) : zK D A U H := zK.moved hW (zK.kept hS.2.1 h)

/-! THE LOGIC OF WALKS: a goal zG is a frame of symbols over an assertion on the heap; whole numbers are Ints -/
set_option maxRecDepth 100000
abbrev zI (z : Int) : Value := .int (Int32.ofInt z)
abbrev zJ (z : Int) : Value := .long (Int64.ofInt z)
abbrev zR (z : Int) : Prop := -2147483648 ≤ z ∧ z < 2147483648
def bi (b : Bool) : Int := if b then 1 else 0
theorem bi_t : bi true = 1 := rfl
theorem bi_f : bi false = 0 := rfl
theorem bi_range (b : Bool) : 0 ≤ bi b ∧ bi b ≤ 1 := by cases b <;> decide
theorem zI_toInt {z : Int} (h : zR z) : (Int32.ofInt z).toInt = z := Int32.toInt_ofInt_of_le (by have := h.1; omega) (by have := h.2; omega)
theorem zI_eq {a b : Int} (ha : zR a) (hb : zR b) : Int32.ofInt a = Int32.ofInt b ↔ a = b := by
  constructor
  · intro h
    have h1 := congrArg Int32.toInt h
    rwa [zI_toInt ha, zI_toInt hb] at h1
  · rintro rfl; rfl
theorem zI_lt {a b : Int} (ha : zR a) (hb : zR b) : Int32.ofInt a < Int32.ofInt b ↔ a < b := by
  rw [Int32.lt_iff_toInt_lt, zI_toInt ha, zI_toInt hb]
theorem zI_le {a b : Int} (ha : zR a) (hb : zR b) : Int32.ofInt a ≤ Int32.ofInt b ↔ a ≤ b := by
  rw [Int32.le_iff_toInt_le, zI_toInt ha, zI_toInt hb]
theorem zI_nat {z : Int} (h : zR z) : (Int32.ofInt z).toNatClampNeg = z.toNat := by
  rw [← Int32.toNat_toInt, zI_toInt h]
theorem zI_in {z : Int} {n : Nat} (h : zR z) (h0 : 0 ≤ z) (h1 : z < (n : Int)) : vp_in (Int32.ofInt z) n := by
  unfold vp_in
  rw [zI_nat h]
  rintro (q | q)
  · rw [show (0 : Int32) = Int32.ofInt 0 from rfl, zI_lt h (by decide)] at q
    omega
  · omega
theorem zI_add (a b : Int) : Int32.ofInt a + Int32.ofInt b = Int32.ofInt (a + b) := by simp [Int32.ofInt_add]
theorem zI_sub (a b : Int) : Int32.ofInt a - Int32.ofInt b = Int32.ofInt (a - b) := by simp [Int32.ofInt_sub]
theorem zI_mul (a b : Int) : Int32.ofInt a * Int32.ofInt b = Int32.ofInt (a * b) := by simp [Int32.ofInt_mul]
theorem zI_neg (a : Int) : -Int32.ofInt a = Int32.ofInt (-a) := by simp [Int32.ofInt_neg]
/-- locals: known values by their places -/
def zL (ls : Array Slot) (L : List (Option Value)) : Prop := ls.size = L.length ∧ lv_wf ls ∧ ∀ (i : Nat) (v : Value), L[i]? = some (some v) → ls[i]? = some (.val v)
def zAs (L : List (Option Value)) : List (Nat × Value) := L.zipIdx.filterMap (fun q => q.1.map (fun v => (q.2, v)))
theorem zAs_mem {L : List (Option Value)} {i : Nat} {v : Value} : (i, v) ∈ zAs L ↔ L[i]? = some (some v) := by
  unfold zAs
  rw [List.mem_filterMap]
  constructor
  · rintro ⟨⟨o, k⟩, h1, h2⟩
    have h3 := List.mem_zipIdx_iff_getElem?.mp h1
    cases o with
    | none => cases h2
    | some w => cases h2; exact h3
  · intro h
    exact ⟨(some v, i), List.mem_zipIdx_iff_getElem?.mpr h, rfl⟩
theorem zL.has {ls : Array Slot} {L : List (Option Value)} (h : zL ls L) : lv_has ls L.length (zAs L) := ⟨h.1, h.2.1, fun q hq => h.2.2 q.1 q.2 (zAs_mem.mp hq)⟩
def zok (L : List (Option Value)) : Nat → Bool
  | 0 => true
  | i + 1 => match L[i]? with
    | some (some w) => !(w.category == 2)
    | _ => true
theorem zok_at {L : List (Option Value)} {i j : Nat} {w : Value} (h : zok L i = true) (hj : j + 1 = i) (hw : L[j]? = some (some w)) : (w.category == 2) = false := by
  subst hj
  simp only [zok, hw] at h
  simpa using h
theorem zL.st1 {ls' : Array Slot} {L : List (Option Value)} {i : Nat} {v : Value} (ho : zok L i = true) (h : lv_has ls' L.length ((i, v) :: (zAs L).filter (fun q => !(q.1 == i) && !(q.1 + 1 == i && q.2.category == 2)))) : zL ls' (L.set i (some v)) := by
  refine ⟨by rw [List.length_set]; exact h.1, h.2.1, fun j w hj => ?_⟩
  by_cases hji : j = i
  · subst hji
    by_cases hl : j < L.length
    · rw [List.getElem?_set_self hl] at hj
      cases hj
      exact h.2.2 (j, v) List.mem_cons_self
    · rw [List.getElem?_eq_none (by rw [List.length_set]; omega)] at hj
      cases hj
  · rw [List.getElem?_set_ne (Ne.symm hji)] at hj
    refine h.2.2 (j, w) (List.mem_cons_of_mem _ (List.mem_filter.mpr ⟨zAs_mem.mpr hj, ?_⟩))
    by_cases h1 : j + 1 = i
    · have h2 := zok_at ho h1 hj
      simp [hji, h2]
    · simp [hji, h1]
theorem zL.st2 {ls' : Array Slot} {L : List (Option Value)} {i : Nat} {v : Value} (ho : zok L i = true) (h : lv_has ls' L.length ((i, v) :: (zAs L).filter (fun q => !(q.1 == i) && (!(q.1 == i + 1) && !(q.1 + 1 == i && q.2.category == 2))))) : zL ls' ((L.set i (some v)).set (i + 1) none) := by
  refine ⟨by rw [List.length_set, List.length_set]; exact h.1, h.2.1, fun j w hj => ?_⟩
  by_cases hj1 : j = i + 1
  · subst hj1
    by_cases hl : i + 1 < L.length
    · rw [List.getElem?_set_self (by rw [List.length_set]; exact hl)] at hj
      cases hj
    · rw [List.getElem?_eq_none (by rw [List.length_set, List.length_set]; omega)] at hj
      cases hj
  · rw [List.getElem?_set_ne (Ne.symm hj1)] at hj
    by_cases hji : j = i
    · subst hji
      by_cases hl : j < L.length
      · rw [List.getElem?_set_self hl] at hj
        cases hj
        exact h.2.2 (j, v) List.mem_cons_self
      · rw [List.getElem?_eq_none (by rw [List.length_set]; omega)] at hj
        cases hj
    · rw [List.getElem?_set_ne (Ne.symm hji)] at hj
      refine h.2.2 (j, w) (List.mem_cons_of_mem _ (List.mem_filter.mpr ⟨zAs_mem.mpr hj, ?_⟩))
      by_cases h1 : j + 1 = i
      · have h2 := zok_at ho h1 hj
        simp [hji, hj1, h2]
      · simp [hji, hj1, h1]
abbrev zX : Type := Program × Launch × Env × Room × State × MethodId × Array Value × List Frame × Method × Code × (State → Prop) × (Nat → Prop)
/-- the walk's goal: from this frame, over any heap of which I holds, the method comes to its end as it owes -/
def zG (X : zX) (k n : Nat) (I : Heap → Prop) (pc : Nat) (L : List (Option Value)) (st : List Value) : Prop :=
  match X with
  | (p, l, e, R, s, m, args, below, meth, c, Q, A) => ∀ (H : Heap) (locs : List Loc) (ls : Array Slot), I H → va_S A s.heap H locs → zL ls L → W p l e R s m args below meth c H locs k n Q (F0 m pc ls st)
/-- .. with the exception at q, of class E, thrown over it -/
def zT (X : zX) (k n : Nat) (I : Heap → Prop) (pc : Nat) (L : List (Option Value)) (E : String) (q : Nat) : Prop :=
  match X with
  | (p, l, e, R, s, m, args, below, meth, c, Q, A) => ∀ (H : Heap) (locs : List Loc) (ls : Array Slot) (st : List Value) (ce : Cell), I H → va_S A s.heap H locs → zL ls L → H[q]? = some ce → ce.vm = .none → s.vm.findClass E = some ce.cls → vx_W p l e R s m args below meth c H locs k n Q (F0 m pc ls st) q
abbrev zQc (P : Option Value → Heap → Prop) (A : Nat → Prop) : Array Value → State → Outcome → State → Prop := fun _ st o t => (∃ v, o = .returned v ∧ P v t.heap) ∧ va_F A st t
abbrev zXc (Ex : String → Nat → Heap → Prop) (A : Nat → Prop) : Nat → String → State → State → Prop := fun q E st t => Ex E q t.heap ∧ va_F A st t
abbrev zHh : Type := Option (List (Nat × Nat × Nat × Nat))
def zWs (y : MethodName) (cc : ByteArray) (nL : Nat) (ret : Option FieldType) : zHh → List Cond
  | none => ws_ y cc nL ret
  | some hh => wsW_ y cc nL ret hh
/-- a method's contract: its arguments, what holds of the heap before; what it answers and what holds then; what it throws -/
def zC (D : zD) (y : MethodName) (cc : ByteArray) (nL : Nat) (ret : Option FieldType) (hh : zHh) (rm : Room) (A : Nat → Prop) (As : List Value) (I : Heap → Prop) (P : Option Value → Heap → Prop) (Ex : String → Nat → Heap → Prop) : Prop :=
  ∀ l : Launch, l.stackTraces = false → vx_Met l y (zWs y cc nL ret hh) rm (va_Pc As (fun U => I U.heap ∧ zK D A U U.heap)) (zQc P A) (zXc Ex A) rm.cells rm.slots A
def zNo : String → Nat → Heap → Prop := fun _ _ _ => False
/-- what stands through a method's walk -/
def zF (D : zD) (X : zX) (own : String) (cc : ByteArray) (nL : Nat) (ret : Option FieldType) (hh : zHh) (rm : Room) (A : Nat → Prop) (P : Option Value → Heap → Prop) (Ex : String → Nat → Heap → Prop) (nm : String) : Prop :=
  match X with
  | (p, l, e, R, s, m, args, below, meth, c, Q, A') => p.tables.exec = Jvm.exec ∧ c.code = cc ∧ meth.sig.returnType = ret ∧ meth.locks = false ∧ c.maxLocals = nL ∧ s.vm.findClass own = some m.cls ∧ (∀ w ∈ lw_all, w.before args s = true) ∧ R = rm ∧ A' = A ∧ Q = vx_MQ below (zQc P A) (zXc Ex A) args s rm.cells rm.slots A ∧ c.exceptionTable.toList = tableOf (hh.getD []) ∧ zK D A s s.heap ∧ l.stackTraces = false ∧ meth.name = nm
def zEnt (As : List Value) (nL : Nat) : List (Option Value) := (As.flatMap fun v => if v.category = 2 then [some v, none] else [some v]) ++ List.replicate (nL - (As.flatMap fun v => if v.category = 2 then [some v, none] else [some v]).length) none
theorem zEnt_args : ∀ (As : List Value) (k : Nat) (i : Nat) (v : Value), ((As.flatMap fun v => if v.category = 2 then [some v, none] else [some v]) : List (Option Value))[i]? = some (some v) → (i + k, v) ∈ lv_args k As := by
  intro As
  induction As with
  | nil => intro k i v h; simp at h
  | cons a As ih =>
    intro k i v h
    rw [List.flatMap_cons] at h
    unfold lv_args
    by_cases hc : a.category = 2
    · rw [if_pos hc] at h ⊢
      match i, h with
      | 0, h =>
        simp only [List.cons_append, List.getElem?_cons_zero] at h
        cases h
        rw [Nat.zero_add]
        exact List.mem_cons_self
      | 1, h => simp at h
      | i + 2, h =>
        have h2 := ih (k + 2) i v (by simpa using h)
        rw [show i + 2 + k = i + (k + 2) by omega]
        exact List.mem_cons_of_mem _ h2
    · rw [if_neg hc] at h ⊢
      match i, h with
      | 0, h =>
        simp only [List.cons_append, List.getElem?_cons_zero] at h
        cases h
        rw [Nat.zero_add]
        exact List.mem_cons_self
      | i + 1, h =>
        have h2 := ih (k + 1) i v (by simpa using h)
        rw [show i + 1 + k = i + (k + 1) by omega]
        exact List.mem_cons_of_mem _ h2
theorem zEnt_len (As : List Value) : (lg_sl As).length = ((As.flatMap fun v => if v.category = 2 then [some v, none] else [some v]) : List (Option Value)).length := by
  unfold lg_sl
  induction As with
  | nil => rfl
  | cons a As ih =>
    rw [List.flatMap_cons, List.flatMap_cons, List.length_append, List.length_append, ih]
    by_cases hc : a.category = 2 <;> simp [hc]
theorem zEnt_zL (As : List Value) {nL : Nat} (h : (lg_sl As).length ≤ nL) : zL ((lg_sl As ++ List.replicate (nL - (lg_sl As).length) Slot.unset).toArray) (zEnt As nL) := by
  have h0 := lv_entry As h
  have hlen := zEnt_len As
  refine ⟨?_, h0.2.1, fun i v hi => ?_⟩
  · rw [h0.1]
    unfold zEnt
    rw [List.length_append, List.length_replicate]
    omega
  · unfold zEnt at hi
    by_cases hl : i < ((As.flatMap fun v => if v.category = 2 then [some v, none] else [some v]) : List (Option Value)).length
    · rw [List.getElem?_append_left hl] at hi
      exact h0.2.2 (i, v) (zEnt_args As 0 i v hi)
    · rw [List.getElem?_append_right (by omega)] at hi
      rw [List.getElem?_replicate] at hi
      split at hi <;> cases hi
theorem zC_start {D : zD} {y : MethodName} {cc : ByteArray} {nL : Nat} {ret : Option FieldType} {rm : Room} {A : Nat → Prop} {As : List Value} {I : Heap → Prop} {P : Option Value → Heap → Prop} {Ex : String → Nat → Heap → Prop} {L : List (Option Value)}
    (hy : plainName y.cls = true) (hlen : (lg_sl As).length ≤ nL) (hL : zEnt As nL = L)
    (body : ∀ X : zX, zF D X y.cls cc nL ret none rm A P Ex y.name → zG X 0 0 I 0 L []) : zC D y cc nL ret none rm A As I P Ex := by
  intro l hl
  refine vx_ofW (cc := cc) (maxL := nL) (ret := ret) hy rfl ?_
  intro p e s m args below meth c s₁ B hml hno hv
  obtain ⟨rfl, hI, hK⟩ := hv
  have hts := atoms_spec (ws := zWs y cc nL ret none) B.pre
  have hts : ∀ w ∈ lw_all, w.before As.toArray s = true := fun w h => hts w (List.mem_cons_of_mem _ h)
  rw [lg_entry_eq]
  subst hL
  refine body (p, l, e, (headSpec (zWs y cc nL ret none) rm).room, s, m, As.toArray, below, meth, c, _, A) ⟨B.exec, B.bytes, B.returns, B.notSynchronized, hml, findClass_of_methodNamed B.named, hts, rfl, rfl, rfl, ?_, hK, hl, (name_of_methodNamed B.named B.method).1⟩ _ _ _ hI va_S.rf (zEnt_zL As hlen)
  cases hc : c.exceptionTable.toList with
  | nil => rfl
  | cons x xs => exact (hno x (by rw [hc]; exact List.mem_cons_self)).elim
theorem zC_startH {D : zD} {y : MethodName} {cc : ByteArray} {nL : Nat} {ret : Option FieldType} {hh : List (Nat × Nat × Nat × Nat)} {rm : Room} {A : Nat → Prop} {As : List Value} {I : Heap → Prop} {P : Option Value → Heap → Prop} {Ex : String → Nat → Heap → Prop} {L : List (Option Value)}
    (hy : plainName y.cls = true) (hlen : (lg_sl As).length ≤ nL) (hL : zEnt As nL = L)
    (body : ∀ X : zX, zF D X y.cls cc nL ret (some hh) rm A P Ex y.name → zG X 0 0 I 0 L []) : zC D y cc nL ret (some hh) rm A As I P Ex := by
  intro l hl
  refine vx_ofWH (cc := cc) (maxL := nL) (ret := ret) (hh := hh) hy rfl ?_
  intro p e s m args below meth c s₁ B hml hv
  obtain ⟨rfl, hI, hK⟩ := hv
  have hts0 := atoms_spec (ws := zWs y cc nL ret (some hh)) B.pre
  have hts : ∀ w ∈ lw_all, w.before As.toArray s = true := fun w h => hts0 w (List.mem_cons_of_mem _ h)
  rw [lg_entry_eq]
  subst hL
  exact body (p, l, e, (headSpec (zWs y cc nL ret (some hh)) rm).room, s, m, As.toArray, below, meth, c, _, A) ⟨B.exec, B.bytes, B.returns, B.notSynchronized, hml, findClass_of_methodNamed B.named, hts, rfl, rfl, rfl, vx_table (x := y) B (hts0 _ List.mem_cons_self), hK, hl, (name_of_methodNamed B.named B.method).1⟩ _ _ _ hI va_S.rf (zEnt_zL As hlen)
section ZR
variable {D : zD} {X : zX} {own : String} {cc : ByteArray} {nL : Nat} {ret : Option FieldType} {hh : zHh} {rm : Room} {A : Nat → Prop} {P : Option Value → Heap → Prop} {Ex : String → Nat → Heap → Prop} {nm : String} {k n : Nat} {I J : Heap → Prop} {pc q : Nat} {L : List (Option Value)} {st : List Value}
theorem zG.mono (h : zG X k n J pc L st) (hIJ : ∀ H, I H → J H) : zG X k n I pc L st := by
  obtain ⟨p, l, e, R, s, m, args, below, meth, c, Q, A⟩ := X
  exact fun H locs ls hI hS hL => h H locs ls (hIJ H hI) hS hL
theorem zG.ex {α : Type} {I : α → Heap → Prop} (h : ∀ x, zG X k n (I x) pc L st) : zG X k n (fun H => ∃ x, I x H) pc L st := by
  obtain ⟨p, l, e, R, s, m, args, below, meth, c, Q, A⟩ := X
  exact fun H locs ls hI hS hL => hI.elim fun x hx => h x H locs ls hx hS hL
theorem zG.ax {φ : Prop} (h : φ → zG X k n I pc L st) : zG X k n (fun H => φ ∧ I H) pc L st := by
  obtain ⟨p, l, e, R, s, m, args, below, meth, c, Q, A⟩ := X
  exact fun H locs ls hI hS hL => h hI.1 H locs ls hI.2 hS hL
theorem zG.use {φ : Prop} (hφ : ∀ H, I H → φ) (h : φ → zG X k n I pc L st) : zG X k n I pc L st := by
  obtain ⟨p, l, e, R, s, m, args, below, meth, c, Q, A⟩ := X
  exact fun H locs ls hI hS hL => h (hφ H hI) H locs ls hI hS hL
/-- the very heap -/
theorem zG.at (h : ∀ H0, I H0 → zG X k n (fun H => H = H0) pc L st) : zG X k n I pc L st := by
  obtain ⟨p, l, e, R, s, m, args, below, meth, c, Q, A⟩ := X
  exact fun H locs ls hI hS hL => h H hI H locs ls rfl hS hL
theorem zG.wid {k2 n2 : Nat} (hk : k ≤ k2) (hn : n ≤ n2) (h : zG X k2 n2 I pc L st) : zG X k n I pc L st := by
  obtain ⟨p, l, e, R, s, m, args, below, meth, c, Q, A⟩ := X
  exact fun H locs ls hI hS hL => W.widen hk hn (h H locs ls hI hS hL)
theorem zG.loc {L2 : List (Option Value)} (hl : L.length = L2.length) (hv : ∀ (i : Nat) (v : Value), L2[i]? = some (some v) → L[i]? = some (some v)) (h : zG X k n I pc L2 st) : zG X k n I pc L st := by
  obtain ⟨p, l, e, R, s, m, args, below, meth, c, Q, A⟩ := X
  exact fun H locs ls hI hS hL => h H locs ls hI hS ⟨hL.1.trans hl, hL.2.1, fun i v hi => hL.2.2 i v (hv i v hi)⟩
/-- forget a local -/
theorem zG.drop (i : Nat) (h : zG X k n I pc (L.set i none) st) : zG X k n I pc L st := by
  refine zG.loc (by simp) (fun j v hj => ?_) h
  by_cases hji : j = i
  · subst hji
    by_cases hl : j < L.length
    · rw [List.getElem?_set_self hl] at hj; cases hj
    · rw [List.getElem?_eq_none (by rw [List.length_set]; omega)] at hj; cases hj
  · rwa [List.getElem?_set_ne (Ne.symm hji)] at hj
theorem zT.mono {E : String} {a : Nat} (h : zT X k n J pc L E a) (hIJ : ∀ H, I H → J H) : zT X k n I pc L E a := by
  obtain ⟨p, l, e, R, s, m, args, below, meth, c, Q, A⟩ := X
  exact fun H locs ls st ce hI hS hL => h H locs ls st ce (hIJ H hI) hS hL
theorem zT.ex {α : Type} {I : α → Heap → Prop} {E : String} {a : Nat} (h : ∀ x, zT X k n (I x) pc L E a) : zT X k n (fun H => ∃ x, I x H) pc L E a := by
  obtain ⟨p, l, e, R, s, m, args, below, meth, c, Q, A⟩ := X
  exact fun H locs ls st ce hI hS hL => hI.elim fun x hx => h x H locs ls st ce hx hS hL
theorem zT.ax {φ : Prop} {E : String} {a : Nat} (h : φ → zT X k n I pc L E a) : zT X k n (fun H => φ ∧ I H) pc L E a := by
  obtain ⟨p, l, e, R, s, m, args, below, meth, c, Q, A⟩ := X
  exact fun H locs ls st ce hI hS hL => h hI.1 H locs ls st ce hI.2 hS hL
theorem zT.no {E : String} {a : Nat} : zT X k n (fun H => zNo E a H) pc L E a := by
  obtain ⟨p, l, e, R, s, m, args, below, meth, c, Q, A⟩ := X
  exact fun H locs ls st ce hI => hI.elim
/-- for loops that count up to N -/
theorem z_up {N : Nat} {Pr : Nat → Prop} (h : ∀ i, i ≤ N → (i < N → Pr (i + 1)) → Pr i) : ∀ i, i ≤ N → Pr i := by
  have key : ∀ d i, d + i = N → Pr i := by
    intro d
    induction d with
    | zero => intro i hi; exact h i (by omega) (fun q => absurd q (by omega))
    | succ d ih => intro i hi; exact h i (by omega) (fun _ => ih (i + 1) (by omega))
  intro i hi
  exact key (N - i) i (by omega)
/-- for any loop: by a measure -/
theorem z_wf {α : Type} (mu : α → Nat) {Pr : α → Prop} (h : ∀ x, (∀ y, mu y < mu x → Pr y) → Pr x) : ∀ x, Pr x := by
  have key : ∀ N x, mu x < N → Pr x := by
    intro N
    induction N with
    | zero => intro x hx; exact absurd hx (Nat.not_lt_zero _)
    | succ N ih => intro x hx; exact h x (fun y hy => ih y (by omega))
  intro x
  exact key (mu x + 1) x (Nat.lt_succ_self _)
theorem z_iconst (hX : zF D X own cc nL ret hh rm A P Ex nm) {z : Int} (d : decode cc pc = .ok (.iconst z, 1))  (hq : pc + 1 = q) (kk : zG X k n I q (L) (zI z :: st)) : zG X k n I pc L (st) := by
  subst hq
  obtain ⟨p, l, e, R, s, m, args, below, meth, c, Q, A⟩ := X
  obtain ⟨hx, hb, hr, hlocks, hml, hown, hts, rfl, rfl, rfl, htab, hK, hlt, hnm⟩ := hX
  intro H locs ls hI hS hL
  exact lv_iconst hx hb d rfl (kk H locs ls hI hS hL)
theorem z_bipush (hX : zF D X own cc nL ret hh rm A P Ex nm) {z : Int} (d : decode cc pc = .ok (.bipush z, 2)) (hv : (Int8.ofInt z).toInt32 = Int32.ofInt z) (hq : pc + 2 = q) (kk : zG X k n I q (L) (zI z :: st)) : zG X k n I pc L (st) := by
  subst hq
  obtain ⟨p, l, e, R, s, m, args, below, meth, c, Q, A⟩ := X
  obtain ⟨hx, hb, hr, hlocks, hml, hown, hts, rfl, rfl, rfl, htab, hK, hlt, hnm⟩ := hX
  intro H locs ls hI hS hL
  exact lv_bipush hx hb d hv (kk H locs ls hI hS hL)
theorem z_sipush (hX : zF D X own cc nL ret hh rm A P Ex nm) {z : Int} (d : decode cc pc = .ok (.sipush z, 3)) (hv : (Int16.ofInt z).toInt32 = Int32.ofInt z) (hq : pc + 3 = q) (kk : zG X k n I q (L) (zI z :: st)) : zG X k n I pc L (st) := by
  subst hq
  obtain ⟨p, l, e, R, s, m, args, below, meth, c, Q, A⟩ := X
  obtain ⟨hx, hb, hr, hlocks, hml, hown, hts, rfl, rfl, rfl, htab, hK, hlt, hnm⟩ := hX
  intro H locs ls hI hS hL
  exact lv_sipush hx hb d hv (kk H locs ls hI hS hL)
theorem z_null (hX : zF D X own cc nL ret hh rm A P Ex nm)  (d : decode cc pc = .ok (.aconst_null, 1))  (hq : pc + 1 = q) (kk : zG X k n I q (L) (.null :: st)) : zG X k n I pc L (st) := by
  subst hq
  obtain ⟨p, l, e, R, s, m, args, below, meth, c, Q, A⟩ := X
  obtain ⟨hx, hb, hr, hlocks, hml, hown, hts, rfl, rfl, rfl, htab, hK, hlt, hnm⟩ := hX
  intro H locs ls hI hS hL
  exact lv_null hx hb d (kk H locs ls hI hS hL)
theorem z_lconst (hX : zF D X own cc nL ret hh rm A P Ex nm) {f : Fin 2} {z : Int} (d : decode cc pc = .ok (.lconst f, 1)) (hv : Int64.ofNat (f : Nat) = Int64.ofInt z) (hq : pc + 1 = q) (kk : zG X k n I q (L) (zJ z :: st)) : zG X k n I pc L (st) := by
  subst hq
  obtain ⟨p, l, e, R, s, m, args, below, meth, c, Q, A⟩ := X
  obtain ⟨hx, hb, hr, hlocks, hml, hown, hts, rfl, rfl, rfl, htab, hK, hlt, hnm⟩ := hX
  intro H locs ls hI hS hL
  exact lv_lconst hx hb d hv (kk H locs ls hI hS hL)
theorem z_dconst0 (hX : zF D X own cc nL ret hh rm A P Ex nm)  (d : decode cc pc = .ok (.dconst 0, 1))  (hq : pc + 1 = q) (kk : zG X k n I q (L) (.double FP.dconst0 :: st)) : zG X k n I pc L (st) := by
  subst hq
  obtain ⟨p, l, e, R, s, m, args, below, meth, c, Q, A⟩ := X
  obtain ⟨hx, hb, hr, hlocks, hml, hown, hts, rfl, rfl, rfl, htab, hK, hlt, hnm⟩ := hX
  intro H locs ls hI hS hL
  exact lv_dconst0 hx hb d (kk H locs ls hI hS hL)
theorem z_iload_n (hX : zF D X own cc nL ret hh rm A P Ex nm) {f : Fin 4} {i : Nat} {z : Int} (d : decode cc pc = .ok (.iload_n f, 1)) (hi : (f : Nat) = i) (hv : L[i]? = some (some (zI z))) (hq : pc + 1 = q) (kk : zG X k n I q (L) (zI z :: st)) : zG X k n I pc L (st) := by
  subst hq
  obtain ⟨p, l, e, R, s, m, args, below, meth, c, Q, A⟩ := X
  obtain ⟨hx, hb, hr, hlocks, hml, hown, hts, rfl, rfl, rfl, htab, hK, hlt, hnm⟩ := hX
  intro H locs ls hI hS hL
  exact lv_iload_n hx hb d hi (hL.2.2 _ _ hv) (kk H locs ls hI hS hL)
theorem z_iload (hX : zF D X own cc nL ret hh rm A P Ex nm) {i : Nat} {z : Int} (d : decode cc pc = .ok (.iload i, 2)) (hv : L[i]? = some (some (zI z))) (hq : pc + 2 = q) (kk : zG X k n I q (L) (zI z :: st)) : zG X k n I pc L (st) := by
  subst hq
  obtain ⟨p, l, e, R, s, m, args, below, meth, c, Q, A⟩ := X
  obtain ⟨hx, hb, hr, hlocks, hml, hown, hts, rfl, rfl, rfl, htab, hK, hlt, hnm⟩ := hX
  intro H locs ls hI hS hL
  exact lv_iload hx hb d (hL.2.2 _ _ hv) (kk H locs ls hI hS hL)
theorem z_istore_n (hX : zF D X own cc nL ret hh rm A P Ex nm) {f : Fin 4} {i : Nat} {z : Int} (d : decode cc pc = .ok (.istore_n f, 1)) (hi : (f : Nat) = i) (hl : i < L.length) (ho : zok L i = true) (hq : pc + 1 = q) (kk : zG X k n I q (L.set i (some (zI z))) (st)) : zG X k n I pc L (zI z :: st) := by
  subst hq
  obtain ⟨p, l, e, R, s, m, args, below, meth, c, Q, A⟩ := X
  obtain ⟨hx, hb, hr, hlocks, hml, hown, hts, rfl, rfl, rfl, htab, hK, hlt, hnm⟩ := hX
  intro H locs ls hI hS hL
  exact lv_istore_n hx hb d hi hL.has hl rfl (fun ls2 h2 => kk H locs ls2 hI hS (zL.st1 ho h2))
theorem z_istore (hX : zF D X own cc nL ret hh rm A P Ex nm) {i : Nat} {z : Int} (d : decode cc pc = .ok (.istore i, 2)) (hl : i < L.length) (ho : zok L i = true) (hq : pc + 2 = q) (kk : zG X k n I q (L.set i (some (zI z))) (st)) : zG X k n I pc L (zI z :: st) := by
  subst hq
  obtain ⟨p, l, e, R, s, m, args, below, meth, c, Q, A⟩ := X
  obtain ⟨hx, hb, hr, hlocks, hml, hown, hts, rfl, rfl, rfl, htab, hK, hlt, hnm⟩ := hX
  intro H locs ls hI hS hL
  exact lv_istore hx hb d hL.has hl rfl (fun ls2 h2 => kk H locs ls2 hI hS (zL.st1 ho h2))
theorem z_aload_n (hX : zF D X own cc nL ret hh rm A P Ex nm) {f : Fin 4} {i : Nat} {a : Nat} (d : decode cc pc = .ok (.aload_n f, 1)) (hi : (f : Nat) = i) (hv : L[i]? = some (some (.ref a))) (hq : pc + 1 = q) (kk : zG X k n I q (L) (.ref a :: st)) : zG X k n I pc L (st) := by
  subst hq
  obtain ⟨p, l, e, R, s, m, args, below, meth, c, Q, A⟩ := X
  obtain ⟨hx, hb, hr, hlocks, hml, hown, hts, rfl, rfl, rfl, htab, hK, hlt, hnm⟩ := hX
  intro H locs ls hI hS hL
  exact lv_aload_n hx hb d hi (hL.2.2 _ _ hv) (kk H locs ls hI hS hL)
theorem z_aload (hX : zF D X own cc nL ret hh rm A P Ex nm) {i : Nat} {a : Nat} (d : decode cc pc = .ok (.aload i, 2)) (hv : L[i]? = some (some (.ref a))) (hq : pc + 2 = q) (kk : zG X k n I q (L) (.ref a :: st)) : zG X k n I pc L (st) := by
  subst hq
  obtain ⟨p, l, e, R, s, m, args, below, meth, c, Q, A⟩ := X
  obtain ⟨hx, hb, hr, hlocks, hml, hown, hts, rfl, rfl, rfl, htab, hK, hlt, hnm⟩ := hX
  intro H locs ls hI hS hL
  exact lv_aload hx hb d (hL.2.2 _ _ hv) (kk H locs ls hI hS hL)
theorem z_astore_n (hX : zF D X own cc nL ret hh rm A P Ex nm) {f : Fin 4} {i : Nat} {a : Nat} (d : decode cc pc = .ok (.astore_n f, 1)) (hi : (f : Nat) = i) (hl : i < L.length) (ho : zok L i = true) (hq : pc + 1 = q) (kk : zG X k n I q (L.set i (some (.ref a))) (st)) : zG X k n I pc L (.ref a :: st) := by
  subst hq
  obtain ⟨p, l, e, R, s, m, args, below, meth, c, Q, A⟩ := X
  obtain ⟨hx, hb, hr, hlocks, hml, hown, hts, rfl, rfl, rfl, htab, hK, hlt, hnm⟩ := hX
  intro H locs ls hI hS hL
  exact lv_astore_n hx hb d hi hL.has hl rfl (fun ls2 h2 => kk H locs ls2 hI hS (zL.st1 ho h2))
theorem z_astore (hX : zF D X own cc nL ret hh rm A P Ex nm) {i : Nat} {a : Nat} (d : decode cc pc = .ok (.astore i, 2)) (hl : i < L.length) (ho : zok L i = true) (hq : pc + 2 = q) (kk : zG X k n I q (L.set i (some (.ref a))) (st)) : zG X k n I pc L (.ref a :: st) := by
  subst hq
  obtain ⟨p, l, e, R, s, m, args, below, meth, c, Q, A⟩ := X
  obtain ⟨hx, hb, hr, hlocks, hml, hown, hts, rfl, rfl, rfl, htab, hK, hlt, hnm⟩ := hX
  intro H locs ls hI hS hL
  exact lv_astore hx hb d hL.has hl rfl (fun ls2 h2 => kk H locs ls2 hI hS (zL.st1 ho h2))
theorem z_lload_n (hX : zF D X own cc nL ret hh rm A P Ex nm) {f : Fin 4} {i : Nat} {z : Int} (d : decode cc pc = .ok (.lload_n f, 1)) (hi : (f : Nat) = i) (hv : L[i]? = some (some (zJ z))) (hq : pc + 1 = q) (kk : zG X k n I q (L) (zJ z :: st)) : zG X k n I pc L (st) := by
  subst hq
  obtain ⟨p, l, e, R, s, m, args, below, meth, c, Q, A⟩ := X
  obtain ⟨hx, hb, hr, hlocks, hml, hown, hts, rfl, rfl, rfl, htab, hK, hlt, hnm⟩ := hX
  intro H locs ls hI hS hL
  exact lv_lload_n hx hb d hi (hL.2.2 _ _ hv) (kk H locs ls hI hS hL)
theorem z_lload (hX : zF D X own cc nL ret hh rm A P Ex nm) {i : Nat} {z : Int} (d : decode cc pc = .ok (.lload i, 2)) (hv : L[i]? = some (some (zJ z))) (hq : pc + 2 = q) (kk : zG X k n I q (L) (zJ z :: st)) : zG X k n I pc L (st) := by
  subst hq
  obtain ⟨p, l, e, R, s, m, args, below, meth, c, Q, A⟩ := X
  obtain ⟨hx, hb, hr, hlocks, hml, hown, hts, rfl, rfl, rfl, htab, hK, hlt, hnm⟩ := hX
  intro H locs ls hI hS hL
  exact lv_lload hx hb d (hL.2.2 _ _ hv) (kk H locs ls hI hS hL)
theorem z_lstore_n (hX : zF D X own cc nL ret hh rm A P Ex nm) {f : Fin 4} {i : Nat} {z : Int} (d : decode cc pc = .ok (.lstore_n f, 1)) (hi : (f : Nat) = i) (hl : i + 1 < L.length) (ho : zok L i = true) (hq : pc + 1 = q) (kk : zG X k n I q ((L.set i (some (zJ z))).set (i + 1) none) (st)) : zG X k n I pc L (zJ z :: st) := by
  subst hq
  obtain ⟨p, l, e, R, s, m, args, below, meth, c, Q, A⟩ := X
  obtain ⟨hx, hb, hr, hlocks, hml, hown, hts, rfl, rfl, rfl, htab, hK, hlt, hnm⟩ := hX
  intro H locs ls hI hS hL
  exact lv_lstore_n hx hb d hi hL.has hl rfl (fun ls2 h2 => kk H locs ls2 hI hS (zL.st2 ho h2))
theorem z_lstore (hX : zF D X own cc nL ret hh rm A P Ex nm) {i : Nat} {z : Int} (d : decode cc pc = .ok (.lstore i, 2)) (hl : i + 1 < L.length) (ho : zok L i = true) (hq : pc + 2 = q) (kk : zG X k n I q ((L.set i (some (zJ z))).set (i + 1) none) (st)) : zG X k n I pc L (zJ z :: st) := by
  subst hq
  obtain ⟨p, l, e, R, s, m, args, below, meth, c, Q, A⟩ := X
  obtain ⟨hx, hb, hr, hlocks, hml, hown, hts, rfl, rfl, rfl, htab, hK, hlt, hnm⟩ := hX
  intro H locs ls hI hS hL
  exact lv_lstore hx hb d hL.has hl rfl (fun ls2 h2 => kk H locs ls2 hI hS (zL.st2 ho h2))
theorem z_dload_n (hX : zF D X own cc nL ret hh rm A P Ex nm) {f : Fin 4} {i : Nat} {u : UInt64} (d : decode cc pc = .ok (.dload_n f, 1)) (hi : (f : Nat) = i) (hv : L[i]? = some (some (.double u))) (hq : pc + 1 = q) (kk : zG X k n I q (L) (.double u :: st)) : zG X k n I pc L (st) := by
  subst hq
  obtain ⟨p, l, e, R, s, m, args, below, meth, c, Q, A⟩ := X
  obtain ⟨hx, hb, hr, hlocks, hml, hown, hts, rfl, rfl, rfl, htab, hK, hlt, hnm⟩ := hX
  intro H locs ls hI hS hL
  exact lv_dload_n hx hb d hi (hL.2.2 _ _ hv) (kk H locs ls hI hS hL)
theorem z_dload (hX : zF D X own cc nL ret hh rm A P Ex nm) {i : Nat} {u : UInt64} (d : decode cc pc = .ok (.dload i, 2)) (hv : L[i]? = some (some (.double u))) (hq : pc + 2 = q) (kk : zG X k n I q (L) (.double u :: st)) : zG X k n I pc L (st) := by
  subst hq
  obtain ⟨p, l, e, R, s, m, args, below, meth, c, Q, A⟩ := X
  obtain ⟨hx, hb, hr, hlocks, hml, hown, hts, rfl, rfl, rfl, htab, hK, hlt, hnm⟩ := hX
  intro H locs ls hI hS hL
  exact lv_dload hx hb d (hL.2.2 _ _ hv) (kk H locs ls hI hS hL)
theorem z_dstore_n (hX : zF D X own cc nL ret hh rm A P Ex nm) {f : Fin 4} {i : Nat} {u : UInt64} (d : decode cc pc = .ok (.dstore_n f, 1)) (hi : (f : Nat) = i) (hl : i + 1 < L.length) (ho : zok L i = true) (hq : pc + 1 = q) (kk : zG X k n I q ((L.set i (some (.double u))).set (i + 1) none) (st)) : zG X k n I pc L (.double u :: st) := by
  subst hq
  obtain ⟨p, l, e, R, s, m, args, below, meth, c, Q, A⟩ := X
  obtain ⟨hx, hb, hr, hlocks, hml, hown, hts, rfl, rfl, rfl, htab, hK, hlt, hnm⟩ := hX
  intro H locs ls hI hS hL
  exact lv_dstore_n hx hb d hi hL.has hl rfl (fun ls2 h2 => kk H locs ls2 hI hS (zL.st2 ho h2))
theorem z_dstore (hX : zF D X own cc nL ret hh rm A P Ex nm) {i : Nat} {u : UInt64} (d : decode cc pc = .ok (.dstore i, 2)) (hl : i + 1 < L.length) (ho : zok L i = true) (hq : pc + 2 = q) (kk : zG X k n I q ((L.set i (some (.double u))).set (i + 1) none) (st)) : zG X k n I pc L (.double u :: st) := by
  subst hq
  obtain ⟨p, l, e, R, s, m, args, below, meth, c, Q, A⟩ := X
  obtain ⟨hx, hb, hr, hlocks, hml, hown, hts, rfl, rfl, rfl, htab, hK, hlt, hnm⟩ := hX
  intro H locs ls hI hS hL
  exact lv_dstore hx hb d hL.has hl rfl (fun ls2 h2 => kk H locs ls2 hI hS (zL.st2 ho h2))
theorem z_aload_nN (hX : zF D X own cc nL ret hh rm A P Ex nm) {f : Fin 4} {i : Nat} (d : decode cc pc = .ok (.aload_n f, 1)) (hi : (f : Nat) = i) (hv : L[i]? = some (some .null)) (hq : pc + 1 = q) (kk : zG X k n I q (L) (.null :: st)) : zG X k n I pc L (st) := by
  subst hq
  obtain ⟨p, l, e, R, s, m, args, below, meth, c, Q, A⟩ := X
  obtain ⟨hx, hb, hr, hlocks, hml, hown, hts, rfl, rfl, rfl, htab, hK, hlt, hnm⟩ := hX
  intro H locs ls hI hS hL
  exact lv_aload_nN hx hb d hi (hL.2.2 _ _ hv) (kk H locs ls hI hS hL)
theorem z_aloadN (hX : zF D X own cc nL ret hh rm A P Ex nm) {i : Nat} (d : decode cc pc = .ok (.aload i, 2)) (hv : L[i]? = some (some .null)) (hq : pc + 2 = q) (kk : zG X k n I q (L) (.null :: st)) : zG X k n I pc L (st) := by
  subst hq
  obtain ⟨p, l, e, R, s, m, args, below, meth, c, Q, A⟩ := X
  obtain ⟨hx, hb, hr, hlocks, hml, hown, hts, rfl, rfl, rfl, htab, hK, hlt, hnm⟩ := hX
  intro H locs ls hI hS hL
  exact lv_aloadN hx hb d (hL.2.2 _ _ hv) (kk H locs ls hI hS hL)
theorem z_astore_nN (hX : zF D X own cc nL ret hh rm A P Ex nm) {f : Fin 4} {i : Nat} (d : decode cc pc = .ok (.astore_n f, 1)) (hi : (f : Nat) = i) (hl : i < L.length) (ho : zok L i = true) (hq : pc + 1 = q) (kk : zG X k n I q (L.set i (some .null)) (st)) : zG X k n I pc L (.null :: st) := by
  subst hq
  obtain ⟨p, l, e, R, s, m, args, below, meth, c, Q, A⟩ := X
  obtain ⟨hx, hb, hr, hlocks, hml, hown, hts, rfl, rfl, rfl, htab, hK, hlt, hnm⟩ := hX
  intro H locs ls hI hS hL
  exact lv_astore_nN hx hb d hi hL.has hl rfl (fun ls2 h2 => kk H locs ls2 hI hS (zL.st1 ho h2))
theorem z_astoreN (hX : zF D X own cc nL ret hh rm A P Ex nm) {i : Nat} (d : decode cc pc = .ok (.astore i, 2)) (hl : i < L.length) (ho : zok L i = true) (hq : pc + 2 = q) (kk : zG X k n I q (L.set i (some .null)) (st)) : zG X k n I pc L (.null :: st) := by
  subst hq
  obtain ⟨p, l, e, R, s, m, args, below, meth, c, Q, A⟩ := X
  obtain ⟨hx, hb, hr, hlocks, hml, hown, hts, rfl, rfl, rfl, htab, hK, hlt, hnm⟩ := hX
  intro H locs ls hI hS hL
  exact lv_astoreN hx hb d hL.has hl rfl (fun ls2 h2 => kk H locs ls2 hI hS (zL.st1 ho h2))
theorem zAs_idx {L : List (Option Value)} {i : Nat} {v : Value} (h : L[i]? = some (some v)) : ∃ j : Nat, (zAs L)[j]? = some (i, v) := List.getElem?_of_mem (zAs_mem.mpr h)
theorem z_iinc (hX : zF D X own cc nL ret hh rm A P Ex nm) {i : Nat} {z c1 : Int} (d : decode cc pc = .ok (.iinc i c1, 3)) (hv : L[i]? = some (some (zI z))) (hl : i < L.length) (ho : zok L i = true) (hq : pc + 3 = q) (kk : zG X k n I q (L.set i (some (zI (z + c1)))) (st)) : zG X k n I pc L (st) := by
  subst hq
  obtain ⟨p, l, e, R, s, m, args, below, meth, c, Q, A⟩ := X
  obtain ⟨hx, hb, hr, hlocks, hml, hown, hts, rfl, rfl, rfl, htab, hK, hlt, hnm⟩ := hX
  intro H locs ls hI hS hL
  obtain ⟨j, hj⟩ := zAs_idx hv
  exact lv_iinc (v := Int32.ofInt (z + c1)) hx hb d hL.has hj (zI_add z c1) hl rfl (fun ls2 h2 => kk H locs ls2 hI hS (zL.st1 ho h2))
theorem z_iadd (hX : zF D X own cc nL ret hh rm A P Ex nm) {a b : Int} (d : decode cc pc = .ok (.iadd, 1))  (hq : pc + 1 = q) (kk : zG X k n I q (L) (zI (a + b) :: st)) : zG X k n I pc L (zI b :: zI a :: st) := by
  subst hq
  obtain ⟨p, l, e, R, s, m, args, below, meth, c, Q, A⟩ := X
  obtain ⟨hx, hb, hr, hlocks, hml, hown, hts, rfl, rfl, rfl, htab, hK, hlt, hnm⟩ := hX
  intro H locs ls hI hS hL
  refine lv_iadd hx hb d ?_
  rw [zI_add]
  exact kk H locs ls hI hS hL
theorem z_isub (hX : zF D X own cc nL ret hh rm A P Ex nm) {a b : Int} (d : decode cc pc = .ok (.isub, 1))  (hq : pc + 1 = q) (kk : zG X k n I q (L) (zI (a - b) :: st)) : zG X k n I pc L (zI b :: zI a :: st) := by
  subst hq
  obtain ⟨p, l, e, R, s, m, args, below, meth, c, Q, A⟩ := X
  obtain ⟨hx, hb, hr, hlocks, hml, hown, hts, rfl, rfl, rfl, htab, hK, hlt, hnm⟩ := hX
  intro H locs ls hI hS hL
  refine lv_isub hx hb d ?_
  rw [zI_sub]
  exact kk H locs ls hI hS hL
theorem z_imul (hX : zF D X own cc nL ret hh rm A P Ex nm) {a b : Int} (d : decode cc pc = .ok (.imul, 1))  (hq : pc + 1 = q) (kk : zG X k n I q (L) (zI (a * b) :: st)) : zG X k n I pc L (zI b :: zI a :: st) := by
  subst hq
  obtain ⟨p, l, e, R, s, m, args, below, meth, c, Q, A⟩ := X
  obtain ⟨hx, hb, hr, hlocks, hml, hown, hts, rfl, rfl, rfl, htab, hK, hlt, hnm⟩ := hX
  intro H locs ls hI hS hL
  refine lv_imul hx hb d ?_
  rw [zI_mul]
  exact kk H locs ls hI hS hL
theorem z_ineg (hX : zF D X own cc nL ret hh rm A P Ex nm) {a : Int} (d : decode cc pc = .ok (.ineg, 1))  (hq : pc + 1 = q) (kk : zG X k n I q (L) (zI (-a) :: st)) : zG X k n I pc L (zI a :: st) := by
  subst hq
  obtain ⟨p, l, e, R, s, m, args, below, meth, c, Q, A⟩ := X
  obtain ⟨hx, hb, hr, hlocks, hml, hown, hts, rfl, rfl, rfl, htab, hK, hlt, hnm⟩ := hX
  intro H locs ls hI hS hL
  refine lv_ineg hx hb d ?_
  rw [zI_neg]
  exact kk H locs ls hI hS hL
theorem z_iand (hX : zF D X own cc nL ret hh rm A P Ex nm) {a b r : Int} (d : decode cc pc = .ok (.iand, 1)) (hv : Int32.ofInt a &&& Int32.ofInt b = Int32.ofInt r) (hq : pc + 1 = q) (kk : zG X k n I q (L) (zI r :: st)) : zG X k n I pc L (zI b :: zI a :: st) := by
  subst hq
  obtain ⟨p, l, e, R, s, m, args, below, meth, c, Q, A⟩ := X
  obtain ⟨hx, hb, hr, hlocks, hml, hown, hts, rfl, rfl, rfl, htab, hK, hlt, hnm⟩ := hX
  intro H locs ls hI hS hL
  refine lv_iand hx hb d ?_
  rw [hv]
  exact kk H locs ls hI hS hL
theorem z_ior (hX : zF D X own cc nL ret hh rm A P Ex nm) {a b r : Int} (d : decode cc pc = .ok (.ior, 1)) (hv : Int32.ofInt a ||| Int32.ofInt b = Int32.ofInt r) (hq : pc + 1 = q) (kk : zG X k n I q (L) (zI r :: st)) : zG X k n I pc L (zI b :: zI a :: st) := by
  subst hq
  obtain ⟨p, l, e, R, s, m, args, below, meth, c, Q, A⟩ := X
  obtain ⟨hx, hb, hr, hlocks, hml, hown, hts, rfl, rfl, rfl, htab, hK, hlt, hnm⟩ := hX
  intro H locs ls hI hS hL
  refine lv_ior hx hb d ?_
  rw [hv]
  exact kk H locs ls hI hS hL
theorem z_ishl (hX : zF D X own cc nL ret hh rm A P Ex nm) {a b r : Int} (d : decode cc pc = .ok (.ishl, 1)) (hv : Int32.ofInt a <<< (Int32.ofInt b &&& 31) = Int32.ofInt r) (hq : pc + 1 = q) (kk : zG X k n I q (L) (zI r :: st)) : zG X k n I pc L (zI b :: zI a :: st) := by
  subst hq
  obtain ⟨p, l, e, R, s, m, args, below, meth, c, Q, A⟩ := X
  obtain ⟨hx, hb, hr, hlocks, hml, hown, hts, rfl, rfl, rfl, htab, hK, hlt, hnm⟩ := hX
  intro H locs ls hI hS hL
  refine lv_ishl hx hb d ?_
  rw [hv]
  exact kk H locs ls hI hS hL
theorem z_idiv (hX : zF D X own cc nL ret hh rm A P Ex nm) {a b r : Int} (d : decode cc pc = .ok (.idiv, 1)) (hne : ¬ Int32.ofInt b = 0) (hv : Int32.ofInt a / Int32.ofInt b = Int32.ofInt r) (hq : pc + 1 = q) (kk : zG X k n I q (L) (zI r :: st)) : zG X k n I pc L (zI b :: zI a :: st) := by
  subst hq
  obtain ⟨p, l, e, R, s, m, args, below, meth, c, Q, A⟩ := X
  obtain ⟨hx, hb, hr, hlocks, hml, hown, hts, rfl, rfl, rfl, htab, hK, hlt, hnm⟩ := hX
  intro H locs ls hI hS hL
  refine lv_idiv hx hb d hne ?_
  rw [hv]
  exact kk H locs ls hI hS hL
theorem z_irem (hX : zF D X own cc nL ret hh rm A P Ex nm) {a b r : Int} (d : decode cc pc = .ok (.irem, 1)) (hne : ¬ Int32.ofInt b = 0) (hv : Int32.ofInt a - Int32.ofInt a / Int32.ofInt b * Int32.ofInt b = Int32.ofInt r) (hq : pc + 1 = q) (kk : zG X k n I q (L) (zI r :: st)) : zG X k n I pc L (zI b :: zI a :: st) := by
  subst hq
  obtain ⟨p, l, e, R, s, m, args, below, meth, c, Q, A⟩ := X
  obtain ⟨hx, hb, hr, hlocks, hml, hown, hts, rfl, rfl, rfl, htab, hK, hlt, hnm⟩ := hX
  intro H locs ls hI hS hL
  refine lv_irem hx hb d hne ?_
  rw [hv]
  exact kk H locs ls hI hS hL
theorem z_i2c (hX : zF D X own cc nL ret hh rm A P Ex nm) {a r : Int} (d : decode cc pc = .ok (.i2c, 1)) (hv : ((Int32.ofInt a).toUInt32 % 65536).toInt32 = Int32.ofInt r) (hq : pc + 1 = q) (kk : zG X k n I q (L) (zI r :: st)) : zG X k n I pc L (zI a :: st) := by
  subst hq
  obtain ⟨p, l, e, R, s, m, args, below, meth, c, Q, A⟩ := X
  obtain ⟨hx, hb, hr, hlocks, hml, hown, hts, rfl, rfl, rfl, htab, hK, hlt, hnm⟩ := hX
  intro H locs ls hI hS hL
  exact lv_i2c hx hb d hv (kk H locs ls hI hS hL)
theorem z_i2b (hX : zF D X own cc nL ret hh rm A P Ex nm) {a r : Int} (d : decode cc pc = .ok (.i2b, 1)) (hv : (Int32.ofInt a).toInt8.toInt32 = Int32.ofInt r) (hq : pc + 1 = q) (kk : zG X k n I q (L) (zI r :: st)) : zG X k n I pc L (zI a :: st) := by
  subst hq
  obtain ⟨p, l, e, R, s, m, args, below, meth, c, Q, A⟩ := X
  obtain ⟨hx, hb, hr, hlocks, hml, hown, hts, rfl, rfl, rfl, htab, hK, hlt, hnm⟩ := hX
  intro H locs ls hI hS hL
  exact lv_i2b hx hb d hv (kk H locs ls hI hS hL)
theorem z_i2l (hX : zF D X own cc nL ret hh rm A P Ex nm) {a : Int} (d : decode cc pc = .ok (.i2l, 1)) (ha : zR a) (hq : pc + 1 = q) (kk : zG X k n I q (L) (zJ a :: st)) : zG X k n I pc L (zI a :: st) := by
  subst hq
  obtain ⟨p, l, e, R, s, m, args, below, meth, c, Q, A⟩ := X
  obtain ⟨hx, hb, hr, hlocks, hml, hown, hts, rfl, rfl, rfl, htab, hK, hlt, hnm⟩ := hX
  intro H locs ls hI hS hL
  exact lv_i2l hx hb d (Int32.toInt64_ofInt (by have := ha.1; exact this) (by have h2 := ha.2; show a ≤ 2147483647; omega)) (kk H locs ls hI hS hL)
theorem z_i2d (hX : zF D X own cc nL ret hh rm A P Ex nm) {a : Int} (d : decode cc pc = .ok (.i2d, 1))  (hq : pc + 1 = q) (kk : zG X k n I q (L) (.double (FP.i2d (Int32.ofInt a)) :: st)) : zG X k n I pc L (zI a :: st) := by
  subst hq
  obtain ⟨p, l, e, R, s, m, args, below, meth, c, Q, A⟩ := X
  obtain ⟨hx, hb, hr, hlocks, hml, hown, hts, rfl, rfl, rfl, htab, hK, hlt, hnm⟩ := hX
  intro H locs ls hI hS hL
  exact lv_i2d hx hb d (kk H locs ls hI hS hL)
theorem z_ladd (hX : zF D X own cc nL ret hh rm A P Ex nm) {a b : Int} (d : decode cc pc = .ok (.ladd, 1))  (hq : pc + 1 = q) (kk : zG X k n I q (L) (zJ (a + b) :: st)) : zG X k n I pc L (zJ b :: zJ a :: st) := by
  subst hq
  obtain ⟨p, l, e, R, s, m, args, below, meth, c, Q, A⟩ := X
  obtain ⟨hx, hb, hr, hlocks, hml, hown, hts, rfl, rfl, rfl, htab, hK, hlt, hnm⟩ := hX
  intro H locs ls hI hS hL
  refine lv_ladd hx hb d ?_
  rw [show Int64.ofInt a + Int64.ofInt b = Int64.ofInt (a + b) by simp [Int64.ofInt_add]]
  exact kk H locs ls hI hS hL
theorem z_dup (hX : zF D X own cc nL ret hh rm A P Ex nm) {v : Value} (d : decode cc pc = .ok (.dup, 1)) (hc : v.category = 1) (hq : pc + 1 = q) (kk : zG X k n I q (L) (v :: v :: st)) : zG X k n I pc L (v :: st) := by
  subst hq
  obtain ⟨p, l, e, R, s, m, args, below, meth, c, Q, A⟩ := X
  obtain ⟨hx, hb, hr, hlocks, hml, hown, hts, rfl, rfl, rfl, htab, hK, hlt, hnm⟩ := hX
  intro H locs ls hI hS hL
  exact lv_dup hx hb d hc (kk H locs ls hI hS hL)
theorem z_pop (hX : zF D X own cc nL ret hh rm A P Ex nm) {v : Value} (d : decode cc pc = .ok (.pop, 1)) (hc : v.category = 1) (hq : pc + 1 = q) (kk : zG X k n I q (L) (st)) : zG X k n I pc L (v :: st) := by
  subst hq
  obtain ⟨p, l, e, R, s, m, args, below, meth, c, Q, A⟩ := X
  obtain ⟨hx, hb, hr, hlocks, hml, hown, hts, rfl, rfl, rfl, htab, hK, hlt, hnm⟩ := hX
  intro H locs ls hI hS hL
  exact lv_pop hx hb d hc (kk H locs ls hI hS hL)
theorem z_dup_x1 (hX : zF D X own cc nL ret hh rm A P Ex nm) {v w : Value} (d : decode cc pc = .ok (.dup_x1, 1)) (hc : v.category = 1) (hw : w.category = 1) (hq : pc + 1 = q) (kk : zG X k n I q (L) (v :: w :: v :: st)) : zG X k n I pc L (v :: w :: st) := by
  subst hq
  obtain ⟨p, l, e, R, s, m, args, below, meth, c, Q, A⟩ := X
  obtain ⟨hx, hb, hr, hlocks, hml, hown, hts, rfl, rfl, rfl, htab, hK, hlt, hnm⟩ := hX
  intro H locs ls hI hS hL
  exact lv_dup_x1 hx hb d hc hw (kk H locs ls hI hS hL)
theorem z_dup2 (hX : zF D X own cc nL ret hh rm A P Ex nm) {v w : Value} (d : decode cc pc = .ok (.dup2, 1)) (hc : v.category = 1) (hw : w.category = 1) (hq : pc + 1 = q) (kk : zG X k n I q (L) (v :: w :: v :: w :: st)) : zG X k n I pc L (v :: w :: st) := by
  subst hq
  obtain ⟨p, l, e, R, s, m, args, below, meth, c, Q, A⟩ := X
  obtain ⟨hx, hb, hr, hlocks, hml, hown, hts, rfl, rfl, rfl, htab, hK, hlt, hnm⟩ := hX
  intro H locs ls hI hS hL
  exact lv_dup2_11 hx hb d hc hw (kk H locs ls hI hS hL)
theorem zI_ne {a b : Int} (ha : zR a) (hb : zR b) : ¬ (Int32.ofInt a = Int32.ofInt b) ↔ a ≠ b := not_congr (zI_eq ha hb)
theorem zR0 : zR 0 := by decide
theorem z_icmp_eq (hX : zF D X own cc nL ret hh rm A P Ex nm) {a b : Int} {off : Int} {t : Nat} (d : decode cc pc = .ok (.if_icmp .eq off, 3)) (ht : (pc : Int) + off = (t : Int)) (ha : zR a) (hb2 : zR b) (hq : pc + 3 = q) (kt : a = b → zG X k n I t L st) (kf : ¬ (a = b) → zG X k n I q L st) : zG X k n I pc L (zI b :: zI a :: st) := by
  subst hq
  obtain ⟨p, l, e, R, s, m, args, below, meth, c, Q, A⟩ := X
  obtain ⟨hx, hb, hr, hlocks, hml, hown, hts, rfl, rfl, rfl, htab, hK, hlt, hnm⟩ := hX
  intro H locs ls hI hS hL
  exact lv_icmp_eq hx hb d ht (fun h => kt ((zI_eq ha hb2).mp h) H locs ls hI hS hL) (fun h => kf (fun g => h ((zI_eq ha hb2).mpr g)) H locs ls hI hS hL)
theorem z_icmp_ne (hX : zF D X own cc nL ret hh rm A P Ex nm) {a b : Int} {off : Int} {t : Nat} (d : decode cc pc = .ok (.if_icmp .ne off, 3)) (ht : (pc : Int) + off = (t : Int)) (ha : zR a) (hb2 : zR b) (hq : pc + 3 = q) (kt : a ≠ b → zG X k n I t L st) (kf : ¬ (a ≠ b) → zG X k n I q L st) : zG X k n I pc L (zI b :: zI a :: st) := by
  subst hq
  obtain ⟨p, l, e, R, s, m, args, below, meth, c, Q, A⟩ := X
  obtain ⟨hx, hb, hr, hlocks, hml, hown, hts, rfl, rfl, rfl, htab, hK, hlt, hnm⟩ := hX
  intro H locs ls hI hS hL
  exact lv_icmp_ne hx hb d ht (fun h => kt ((zI_ne ha hb2).mp h) H locs ls hI hS hL) (fun h => kf (fun g => (zI_ne ha hb2).mpr g h) H locs ls hI hS hL)
theorem z_icmp_lt (hX : zF D X own cc nL ret hh rm A P Ex nm) {a b : Int} {off : Int} {t : Nat} (d : decode cc pc = .ok (.if_icmp .lt off, 3)) (ht : (pc : Int) + off = (t : Int)) (ha : zR a) (hb2 : zR b) (hq : pc + 3 = q) (kt : a < b → zG X k n I t L st) (kf : ¬ (a < b) → zG X k n I q L st) : zG X k n I pc L (zI b :: zI a :: st) := by
  subst hq
  obtain ⟨p, l, e, R, s, m, args, below, meth, c, Q, A⟩ := X
  obtain ⟨hx, hb, hr, hlocks, hml, hown, hts, rfl, rfl, rfl, htab, hK, hlt, hnm⟩ := hX
  intro H locs ls hI hS hL
  exact lv_icmp_lt hx hb d ht (fun h => kt ((zI_lt ha hb2).mp h) H locs ls hI hS hL) (fun h => kf (fun g => h ((zI_lt ha hb2).mpr g)) H locs ls hI hS hL)
theorem z_icmp_ge (hX : zF D X own cc nL ret hh rm A P Ex nm) {a b : Int} {off : Int} {t : Nat} (d : decode cc pc = .ok (.if_icmp .ge off, 3)) (ht : (pc : Int) + off = (t : Int)) (ha : zR a) (hb2 : zR b) (hq : pc + 3 = q) (kt : b ≤ a → zG X k n I t L st) (kf : ¬ (b ≤ a) → zG X k n I q L st) : zG X k n I pc L (zI b :: zI a :: st) := by
  subst hq
  obtain ⟨p, l, e, R, s, m, args, below, meth, c, Q, A⟩ := X
  obtain ⟨hx, hb, hr, hlocks, hml, hown, hts, rfl, rfl, rfl, htab, hK, hlt, hnm⟩ := hX
  intro H locs ls hI hS hL
  exact lv_icmp_ge hx hb d ht (fun h => kt ((zI_le hb2 ha).mp h) H locs ls hI hS hL) (fun h => kf (fun g => h ((zI_le hb2 ha).mpr g)) H locs ls hI hS hL)
theorem z_icmp_gt (hX : zF D X own cc nL ret hh rm A P Ex nm) {a b : Int} {off : Int} {t : Nat} (d : decode cc pc = .ok (.if_icmp .gt off, 3)) (ht : (pc : Int) + off = (t : Int)) (ha : zR a) (hb2 : zR b) (hq : pc + 3 = q) (kt : b < a → zG X k n I t L st) (kf : ¬ (b < a) → zG X k n I q L st) : zG X k n I pc L (zI b :: zI a :: st) := by
  subst hq
  obtain ⟨p, l, e, R, s, m, args, below, meth, c, Q, A⟩ := X
  obtain ⟨hx, hb, hr, hlocks, hml, hown, hts, rfl, rfl, rfl, htab, hK, hlt, hnm⟩ := hX
  intro H locs ls hI hS hL
  exact lv_icmp_gt hx hb d ht (fun h => kt ((zI_lt hb2 ha).mp h) H locs ls hI hS hL) (fun h => kf (fun g => h ((zI_lt hb2 ha).mpr g)) H locs ls hI hS hL)
theorem z_icmp_le (hX : zF D X own cc nL ret hh rm A P Ex nm) {a b : Int} {off : Int} {t : Nat} (d : decode cc pc = .ok (.if_icmp .le off, 3)) (ht : (pc : Int) + off = (t : Int)) (ha : zR a) (hb2 : zR b) (hq : pc + 3 = q) (kt : a ≤ b → zG X k n I t L st) (kf : ¬ (a ≤ b) → zG X k n I q L st) : zG X k n I pc L (zI b :: zI a :: st) := by
  subst hq
  obtain ⟨p, l, e, R, s, m, args, below, meth, c, Q, A⟩ := X
  obtain ⟨hx, hb, hr, hlocks, hml, hown, hts, rfl, rfl, rfl, htab, hK, hlt, hnm⟩ := hX
  intro H locs ls hI hS hL
  exact lv_icmp_le hx hb d ht (fun h => kt ((zI_le ha hb2).mp h) H locs ls hI hS hL) (fun h => kf (fun g => h ((zI_le ha hb2).mpr g)) H locs ls hI hS hL)
theorem z_if_eq (hX : zF D X own cc nL ret hh rm A P Ex nm) {a : Int} {off : Int} {t : Nat} (d : decode cc pc = .ok (.ifCond .eq off, 3)) (ht : (pc : Int) + off = (t : Int)) (ha : zR a) (hq : pc + 3 = q) (kt : a = 0 → zG X k n I t L st) (kf : ¬ (a = 0) → zG X k n I q L st) : zG X k n I pc L (zI a :: st) := by
  subst hq
  obtain ⟨p, l, e, R, s, m, args, below, meth, c, Q, A⟩ := X
  obtain ⟨hx, hb, hr, hlocks, hml, hown, hts, rfl, rfl, rfl, htab, hK, hlt, hnm⟩ := hX
  intro H locs ls hI hS hL
  exact lv_if_eq hx hb d ht (fun h => kt ((zI_eq ha zR0).mp h) H locs ls hI hS hL) (fun h => kf (fun g => h ((zI_eq ha zR0).mpr g)) H locs ls hI hS hL)
theorem z_if_ne (hX : zF D X own cc nL ret hh rm A P Ex nm) {a : Int} {off : Int} {t : Nat} (d : decode cc pc = .ok (.ifCond .ne off, 3)) (ht : (pc : Int) + off = (t : Int)) (ha : zR a) (hq : pc + 3 = q) (kt : a ≠ 0 → zG X k n I t L st) (kf : ¬ (a ≠ 0) → zG X k n I q L st) : zG X k n I pc L (zI a :: st) := by
  subst hq
  obtain ⟨p, l, e, R, s, m, args, below, meth, c, Q, A⟩ := X
  obtain ⟨hx, hb, hr, hlocks, hml, hown, hts, rfl, rfl, rfl, htab, hK, hlt, hnm⟩ := hX
  intro H locs ls hI hS hL
  exact lv_if_ne hx hb d ht (fun h => kt ((zI_ne ha zR0).mp h) H locs ls hI hS hL) (fun h => kf (fun g => (zI_ne ha zR0).mpr g h) H locs ls hI hS hL)
theorem z_if_lt (hX : zF D X own cc nL ret hh rm A P Ex nm) {a : Int} {off : Int} {t : Nat} (d : decode cc pc = .ok (.ifCond .lt off, 3)) (ht : (pc : Int) + off = (t : Int)) (ha : zR a) (hq : pc + 3 = q) (kt : a < 0 → zG X k n I t L st) (kf : ¬ (a < 0) → zG X k n I q L st) : zG X k n I pc L (zI a :: st) := by
  subst hq
  obtain ⟨p, l, e, R, s, m, args, below, meth, c, Q, A⟩ := X
  obtain ⟨hx, hb, hr, hlocks, hml, hown, hts, rfl, rfl, rfl, htab, hK, hlt, hnm⟩ := hX
  intro H locs ls hI hS hL
  exact lv_if_lt hx hb d ht (fun h => kt ((zI_lt ha zR0).mp h) H locs ls hI hS hL) (fun h => kf (fun g => h ((zI_lt ha zR0).mpr g)) H locs ls hI hS hL)
theorem z_if_ge (hX : zF D X own cc nL ret hh rm A P Ex nm) {a : Int} {off : Int} {t : Nat} (d : decode cc pc = .ok (.ifCond .ge off, 3)) (ht : (pc : Int) + off = (t : Int)) (ha : zR a) (hq : pc + 3 = q) (kt : 0 ≤ a → zG X k n I t L st) (kf : ¬ (0 ≤ a) → zG X k n I q L st) : zG X k n I pc L (zI a :: st) := by
  subst hq
  obtain ⟨p, l, e, R, s, m, args, below, meth, c, Q, A⟩ := X
  obtain ⟨hx, hb, hr, hlocks, hml, hown, hts, rfl, rfl, rfl, htab, hK, hlt, hnm⟩ := hX
  intro H locs ls hI hS hL
  exact lv_if_ge hx hb d ht (fun h => kt ((zI_le zR0 ha).mp h) H locs ls hI hS hL) (fun h => kf (fun g => h ((zI_le zR0 ha).mpr g)) H locs ls hI hS hL)
theorem z_if_gt (hX : zF D X own cc nL ret hh rm A P Ex nm) {a : Int} {off : Int} {t : Nat} (d : decode cc pc = .ok (.ifCond .gt off, 3)) (ht : (pc : Int) + off = (t : Int)) (ha : zR a) (hq : pc + 3 = q) (kt : 0 < a → zG X k n I t L st) (kf : ¬ (0 < a) → zG X k n I q L st) : zG X k n I pc L (zI a :: st) := by
  subst hq
  obtain ⟨p, l, e, R, s, m, args, below, meth, c, Q, A⟩ := X
  obtain ⟨hx, hb, hr, hlocks, hml, hown, hts, rfl, rfl, rfl, htab, hK, hlt, hnm⟩ := hX
  intro H locs ls hI hS hL
  exact lv_if_gt hx hb d ht (fun h => kt ((zI_lt zR0 ha).mp h) H locs ls hI hS hL) (fun h => kf (fun g => h ((zI_lt zR0 ha).mpr g)) H locs ls hI hS hL)
theorem z_if_le (hX : zF D X own cc nL ret hh rm A P Ex nm) {a : Int} {off : Int} {t : Nat} (d : decode cc pc = .ok (.ifCond .le off, 3)) (ht : (pc : Int) + off = (t : Int)) (ha : zR a) (hq : pc + 3 = q) (kt : a ≤ 0 → zG X k n I t L st) (kf : ¬ (a ≤ 0) → zG X k n I q L st) : zG X k n I pc L (zI a :: st) := by
  subst hq
  obtain ⟨p, l, e, R, s, m, args, below, meth, c, Q, A⟩ := X
  obtain ⟨hx, hb, hr, hlocks, hml, hown, hts, rfl, rfl, rfl, htab, hK, hlt, hnm⟩ := hX
  intro H locs ls hI hS hL
  exact lv_if_le hx hb d ht (fun h => kt ((zI_le ha zR0).mp h) H locs ls hI hS hL) (fun h => kf (fun g => h ((zI_le ha zR0).mpr g)) H locs ls hI hS hL)
theorem bi_zero {b : Bool} : (Int32.ofInt (bi b) = 0) ↔ b = false := by cases b <;> decide
theorem bi_nz {b : Bool} : (¬ Int32.ofInt (bi b) = 0) ↔ b = true := by cases b <;> decide
theorem z_ifB_eq (hX : zF D X own cc nL ret hh rm A P Ex nm) {b : Bool} {off : Int} {t : Nat} (d : decode cc pc = .ok (.ifCond .eq off, 3)) (ht : (pc : Int) + off = (t : Int)) (hq : pc + 3 = q) (kt : b = false → zG X k n I t L st) (kf : b = true → zG X k n I q L st) : zG X k n I pc L (zI (bi b) :: st) := by
  subst hq
  obtain ⟨p, l, e, R, s, m, args, below, meth, c, Q, A⟩ := X
  obtain ⟨hx, hb, hr, hlocks, hml, hown, hts, rfl, rfl, rfl, htab, hK, hlt, hnm⟩ := hX
  intro H locs ls hI hS hL
  exact lv_if_eq hx hb d ht (fun h => kt (bi_zero.mp h) H locs ls hI hS hL) (fun h => kf (bi_nz.mp h) H locs ls hI hS hL)
theorem z_ifB_ne (hX : zF D X own cc nL ret hh rm A P Ex nm) {b : Bool} {off : Int} {t : Nat} (d : decode cc pc = .ok (.ifCond .ne off, 3)) (ht : (pc : Int) + off = (t : Int)) (hq : pc + 3 = q) (kt : b = true → zG X k n I t L st) (kf : b = false → zG X k n I q L st) : zG X k n I pc L (zI (bi b) :: st) := by
  subst hq
  obtain ⟨p, l, e, R, s, m, args, below, meth, c, Q, A⟩ := X
  obtain ⟨hx, hb, hr, hlocks, hml, hown, hts, rfl, rfl, rfl, htab, hK, hlt, hnm⟩ := hX
  intro H locs ls hI hS hL
  exact lv_if_ne hx hb d ht (fun h => kt (bi_nz.mp h) H locs ls hI hS hL) (fun h => kf (bi_zero.mp h) H locs ls hI hS hL)
theorem z_goto (hX : zF D X own cc nL ret hh rm A P Ex nm)  {off : Int} {t : Nat} (d : decode cc pc = .ok (.goto off, 3)) (ht : (pc : Int) + off = (t : Int)) (kk : zG X k n I t L (st)) : zG X k n I pc L (st) := by
  obtain ⟨p, l, e, R, s, m, args, below, meth, c, Q, A⟩ := X
  obtain ⟨hx, hb, hr, hlocks, hml, hown, hts, rfl, rfl, rfl, htab, hK, hlt, hnm⟩ := hX
  intro H locs ls hI hS hL
  exact lv_goto hx hb d ht (kk H locs ls hI hS hL)
theorem z_ifnullN (hX : zF D X own cc nL ret hh rm A P Ex nm)  {off : Int} {t : Nat} (d : decode cc pc = .ok (.ifnull off, 3)) (ht : (pc : Int) + off = (t : Int)) (kk : zG X k n I t L (st)) : zG X k n I pc L (.null :: st) := by
  obtain ⟨p, l, e, R, s, m, args, below, meth, c, Q, A⟩ := X
  obtain ⟨hx, hb, hr, hlocks, hml, hown, hts, rfl, rfl, rfl, htab, hK, hlt, hnm⟩ := hX
  intro H locs ls hI hS hL
  exact lv_ifnullN hx hb d ht (kk H locs ls hI hS hL)
theorem z_ifnonnull (hX : zF D X own cc nL ret hh rm A P Ex nm) {a : Nat} {off : Int} {t : Nat} (d : decode cc pc = .ok (.ifnonnull off, 3)) (ht : (pc : Int) + off = (t : Int)) (kk : zG X k n I t L (st)) : zG X k n I pc L (.ref a :: st) := by
  obtain ⟨p, l, e, R, s, m, args, below, meth, c, Q, A⟩ := X
  obtain ⟨hx, hb, hr, hlocks, hml, hown, hts, rfl, rfl, rfl, htab, hK, hlt, hnm⟩ := hX
  intro H locs ls hI hS hL
  exact lv_ifnonnull hx hb d ht (kk H locs ls hI hS hL)
theorem z_ifnull (hX : zF D X own cc nL ret hh rm A P Ex nm) {a : Nat} {off : Int} (d : decode cc pc = .ok (.ifnull off, 3))  (hq : pc + 3 = q) (kk : zG X k n I q (L) (st)) : zG X k n I pc L (.ref a :: st) := by
  subst hq
  obtain ⟨p, l, e, R, s, m, args, below, meth, c, Q, A⟩ := X
  obtain ⟨hx, hb, hr, hlocks, hml, hown, hts, rfl, rfl, rfl, htab, hK, hlt, hnm⟩ := hX
  intro H locs ls hI hS hL
  exact lv_ifnull hx hb d (kk H locs ls hI hS hL)
theorem z_ifnonnullN (hX : zF D X own cc nL ret hh rm A P Ex nm) {off : Int} (d : decode cc pc = .ok (.ifnonnull off, 3))  (hq : pc + 3 = q) (kk : zG X k n I q (L) (st)) : zG X k n I pc L (.null :: st) := by
  subst hq
  obtain ⟨p, l, e, R, s, m, args, below, meth, c, Q, A⟩ := X
  obtain ⟨hx, hb, hr, hlocks, hml, hown, hts, rfl, rfl, rfl, htab, hK, hlt, hnm⟩ := hX
  intro H locs ls hI hS hL
  exact lv_ifnonnullN hx hb d (kk H locs ls hI hS hL)
theorem z_tableIn (hX : zF D X own cc nL ret hh rm A P Ex nm) {dflt lo hi : Int} {offs : Array Int} {len : Nat} {a off : Int} {t : Nat} (d : decode cc pc = .ok (.tableswitch dflt lo hi offs, len)) (ha : zR a) (h1 : lo ≤ a) (h2 : a ≤ hi) (ho : offs[(a - lo).toNat]? = some off) (ht : (pc : Int) + off = (t : Int)) (kk : zG X k n I t L st) : zG X k n I pc L (zI a :: st) := by
  obtain ⟨p, l, e, R, s, m, args, below, meth, c, Q, A⟩ := X
  obtain ⟨hx, hb, hr, hlocks, hml, hown, hts, rfl, rfl, rfl, htab, hK, hlt, hnm⟩ := hX
  intro H locs ls hI hS hL
  exact lv_tableIn hx hb d (by rw [zI_toInt ha]; omega) (by rw [zI_toInt ha]; omega) (by rw [zI_toInt ha]; exact ho) ht (kk H locs ls hI hS hL)
theorem z_tableOut (hX : zF D X own cc nL ret hh rm A P Ex nm) {dflt lo hi : Int} {offs : Array Int} {len : Nat} {a : Int} {t : Nat} (d : decode cc pc = .ok (.tableswitch dflt lo hi offs, len)) (ha : zR a) (h1 : a < lo ∨ hi < a) (ht : (pc : Int) + dflt = (t : Int)) (kk : zG X k n I t L st) : zG X k n I pc L (zI a :: st) := by
  obtain ⟨p, l, e, R, s, m, args, below, meth, c, Q, A⟩ := X
  obtain ⟨hx, hb, hr, hlocks, hml, hown, hts, rfl, rfl, rfl, htab, hK, hlt, hnm⟩ := hX
  intro H locs ls hI hS hL
  exact lv_tableOut hx hb d (by rw [zI_toInt ha]; exact h1) ht (kk H locs ls hI hS hL)
theorem z_iret (hX : zF D X own cc nL ret hh rm A P Ex nm) {z : Int} (d : decode cc pc = .ok (.ireturn, 1)) (hk : k ≤ rm.cells) (hn : n ≤ rm.slots) (hrt : ret = some .int) (hP : ∀ H, I H → P (some (zI z)) H) : zG X k n I pc L [zI z] := by
  obtain ⟨p, l, e, R, s, m, args, below, meth, c, Q, A⟩ := X
  obtain ⟨hx, hb, hr, hlocks, hml, hown, hts, rfl, rfl, rfl, htab, hK, hlt, hnm⟩ := hX
  intro H locs ls hI hS hL
  refine W.widen hk hn (vx_ret ?_)
  exact W.iret hx hb (hr.trans hrt) (fun t ht hW => ⟨⟨_, rfl, by rw [ht]; exact hP H hI⟩, hS.F ht⟩) hS.2.2 d hlocks
theorem narrow_b {z : Int} (hz : z = 0 ∨ z = 1) : narrow .boolean (zI z) = zI z := by rcases hz with rfl | rfl <;> decide
theorem narrow_bi (b : Bool) : narrow .boolean (zI (bi b)) = zI (bi b) := by cases b <;> decide
theorem z_zret (hX : zF D X own cc nL ret hh rm A P Ex nm) {z : Int} (d : decode cc pc = .ok (.ireturn, 1)) (hk : k ≤ rm.cells) (hn : n ≤ rm.slots) (hrt : ret = some .boolean) (hz : z = 0 ∨ z = 1) (hP : ∀ H, I H → P (some (zI z)) H) : zG X k n I pc L [zI z] := by
  obtain ⟨p, l, e, R, s, m, args, below, meth, c, Q, A⟩ := X
  obtain ⟨hx, hb, hr, hlocks, hml, hown, hts, rfl, rfl, rfl, htab, hK, hlt, hnm⟩ := hX
  intro H locs ls hI hS hL
  refine W.widen hk hn (vx_ret ?_)
  exact W.zret hx hb (hr.trans hrt) (narrow_b hz) (fun t ht hW => ⟨⟨_, rfl, by rw [ht]; exact hP H hI⟩, hS.F ht⟩) hS.2.2 d hlocks
theorem z_zretB (hX : zF D X own cc nL ret hh rm A P Ex nm) {b : Bool} (d : decode cc pc = .ok (.ireturn, 1)) (hk : k ≤ rm.cells) (hn : n ≤ rm.slots) (hrt : ret = some .boolean) (hP : ∀ H, I H → P (some (zI (bi b))) H) : zG X k n I pc L [zI (bi b)] := by
  obtain ⟨p, l, e, R, s, m, args, below, meth, c, Q, A⟩ := X
  obtain ⟨hx, hb, hr, hlocks, hml, hown, hts, rfl, rfl, rfl, htab, hK, hlt, hnm⟩ := hX
  intro H locs ls hI hS hL
  refine W.widen hk hn (vx_ret ?_)
  exact W.zret hx hb (hr.trans hrt) (narrow_bi b) (fun t ht hW => ⟨⟨_, rfl, by rw [ht]; exact hP H hI⟩, hS.F ht⟩) hS.2.2 d hlocks
theorem z_nret (hX : zF D X own cc nL ret hh rm A P Ex nm) {z : Int} {rt : FieldType} (d : decode cc pc = .ok (.ireturn, 1)) (hk : k ≤ rm.cells) (hn : n ≤ rm.slots) (hrt : ret = some rt) (hz : narrow rt (zI z) = zI z) (hP : ∀ H, I H → P (some (zI z)) H) : zG X k n I pc L [zI z] := by
  obtain ⟨p, l, e, R, s, m, args, below, meth, c, Q, A⟩ := X
  obtain ⟨hx, hb, hr, hlocks, hml, hown, hts, rfl, rfl, rfl, htab, hK, hlt, hnm⟩ := hX
  intro H locs ls hI hS hL
  refine W.widen hk hn (vx_ret ?_)
  exact W.zret hx hb (hr.trans hrt) hz (fun t ht hW => ⟨⟨_, rfl, by rw [ht]; exact hP H hI⟩, hS.F ht⟩) hS.2.2 d hlocks
theorem z_lret (hX : zF D X own cc nL ret hh rm A P Ex nm) {z : Int} (d : decode cc pc = .ok (.lreturn, 1)) (hk : k ≤ rm.cells) (hn : n ≤ rm.slots) (hrt : ret = some .long) (hP : ∀ H, I H → P (some (zJ z)) H) : zG X k n I pc L [zJ z] := by
  obtain ⟨p, l, e, R, s, m, args, below, meth, c, Q, A⟩ := X
  obtain ⟨hx, hb, hr, hlocks, hml, hown, hts, rfl, rfl, rfl, htab, hK, hlt, hnm⟩ := hX
  intro H locs ls hI hS hL
  refine W.widen hk hn (vx_ret ?_)
  exact W.lret hx hb (hr.trans hrt) (fun t ht hW => ⟨⟨_, rfl, by rw [ht]; exact hP H hI⟩, hS.F ht⟩) hS.2.2 d hlocks
theorem z_dret (hX : zF D X own cc nL ret hh rm A P Ex nm) {u : UInt64} (d : decode cc pc = .ok (.dreturn, 1)) (hk : k ≤ rm.cells) (hn : n ≤ rm.slots) (hrt : ret = some .double) (hP : ∀ H, I H → P (some (.double u)) H) : zG X k n I pc L [.double u] := by
  obtain ⟨p, l, e, R, s, m, args, below, meth, c, Q, A⟩ := X
  obtain ⟨hx, hb, hr, hlocks, hml, hown, hts, rfl, rfl, rfl, htab, hK, hlt, hnm⟩ := hX
  intro H locs ls hI hS hL
  refine W.widen hk hn (vx_ret ?_)
  exact W.dret hx hb (hr.trans hrt) (fun t ht hW => ⟨⟨_, rfl, by rw [ht]; exact hP H hI⟩, hS.F ht⟩) hS.2.2 d hlocks
theorem z_vret (hX : zF D X own cc nL ret hh rm A P Ex nm)  (d : decode cc pc = .ok (.return_, 1)) (hk : k ≤ rm.cells) (hn : n ≤ rm.slots) (hrt : ret = none) (hP : ∀ H, I H → P none H) : zG X k n I pc L [] := by
  obtain ⟨p, l, e, R, s, m, args, below, meth, c, Q, A⟩ := X
  obtain ⟨hx, hb, hr, hlocks, hml, hown, hts, rfl, rfl, rfl, htab, hK, hlt, hnm⟩ := hX
  intro H locs ls hI hS hL
  refine W.widen hk hn (vx_ret ?_)
  exact W.vret hx hb (hr.trans hrt) (fun t ht hW => ⟨⟨_, rfl, by rw [ht]; exact hP H hI⟩, hS.F ht⟩) hS.2.2 d hlocks
theorem z_aret (hX : zF D X own cc nL ret hh rm A P Ex nm) {v : Value} {rt : FieldType} (d : decode cc pc = .ok (.areturn, 1)) (hk : k ≤ rm.cells) (hn : n ≤ rm.slots) (hrt : ret = some rt) (hrf : (∃ x, rt = .object x) ∨ ∃ x, rt = .array x) (hv : v = .null ∨ ∃ a, v = .ref a) (hP : ∀ H, I H → P (some v) H) : zG X k n I pc L [v] := by
  obtain ⟨p, l, e, R, s, m, args, below, meth, c, Q, A⟩ := X
  obtain ⟨hx, hb, hr, hlocks, hml, hown, hts, rfl, rfl, rfl, htab, hK, hlt, hnm⟩ := hX
  intro H locs ls hI hS hL
  refine W.widen hk hn (vx_ret ?_)
  exact W.aret hx hb (hr.trans hrt) hrf hv (fun t ht hW => ⟨⟨_, rfl, by rw [ht]; exact hP H hI⟩, hS.F ht⟩) hS.2.2 d hlocks

/-- from a call's run to the goal behind it -/
theorem z_ofRun {mc ms : Nat} {P2 : Option Value → Heap → Prop} {Ex2 : String → Nat → Heap → Prop} {a : Array Value} {st0 rest : List Value} (hX : zF D X own cc nL ret hh rm A P Ex nm)
    (hr : match X with | (p, l, e, R, s, m, args, below, meth, c, Q, A) => ∀ (H : Heap) (locs : List Loc) (ls : Array Slot), I H → va_S A s.heap H locs → zL ls L → vx_Run p l e R s m args below meth c H locs k n mc ms (F0 m pc ls st0) rest (zQc P2 A a) (zXc Ex2 A) A)
    (kx : ∀ E a, zT X (k + mc) (n + ms) (fun H => Ex2 E a H) pc L E a) (kk : ∀ v, zG X (k + mc) (n + ms) (fun H => P2 v H) (pc + 3) L (v.toList ++ rest)) : zG X k n I pc L st0 := by
  obtain ⟨p, l, e, R, s, m, args, below, meth, c, Q, A⟩ := X
  intro H locs ls hI hS hL T hT XX
  have keep : ∀ {st₀ t T' : State} {L0 : List Loc}, st₀.heap = H → T'.heap = t.heap → (∀ q ∈ L0, A q.base) → va_F A st₀ t → va_S A s.heap T'.heap (locs ++ L0) := by
    intro st₀ t T' L0 h0 e1 hA ⟨hz, hk⟩
    rw [h0] at hz hk
    refine ⟨Nat.le_trans hS.1 (by rw [e1]; exact hz), fun q h1 h2 => ?_, fun q hq => ?_⟩
    · rw [e1, hk q (Nat.lt_of_lt_of_le h1 hS.1) h2]
      exact hS.2.1 q h1 h2
    · rcases List.mem_append.mp hq with h | h
      · exact hS.2.2 q h
      · exact hA q h
  rcases hr H locs ls hI hS hL T hT XX with ⟨v, st₀, t, T', L0, h0, X', hL0, e1, e2, ⟨⟨v2, hv, hp⟩, hF⟩, st⟩ | ⟨q, st₀, t, T', L0, E, ce, h0, X', hL0, e1, e2, ⟨hp, hF⟩, hce, hcv, hcl, st⟩
  · cases hv
    obtain ⟨t2, a1, b1⟩ := kk v T'.heap (locs ++ L0) ls (by rw [e1]; exact hp) (keep h0 e1 hL0 hF) hL T' rfl X'
    exact ⟨t2, st t2 a1, b1⟩
  · obtain ⟨t2, a1, b1⟩ := kx E q T'.heap (locs ++ L0) ls rest ce (by rw [e1]; exact hp) (keep h0 e1 hL0 hF) hL (by rw [e1]; exact hce) hcv hcl T' rfl X'
    exact ⟨t2, st.trans a1, b1⟩
theorem zC_blind {D : zD} {A : Nat → Prop} {As : List Value} {I : Heap → Prop} : FrameBlind (va_Pc As (fun U => I U.heap ∧ zK D A U U.heap)) := by
  intro a U g mk h
  obtain ⟨h1, h2, h3⟩ := h
  exact ⟨h1, h2, zK.moved (u := U) (U := U.calling g mk a) (State.WarmedH.refl U) h3⟩
/-- an object of the class of number ci -/
def zOb (D : zD) (ci b : Nat) (H : Heap) : Prop := ∃ cell : Cell, H[b]? = some cell ∧ cell.vm.isStatics = false ∧ cell.cls = D.1.1 ci
theorem zOb.recv {D : zD} {A : Nat → Prop} {s : State} {ci b : Nat} {H : Heap} {q : vw_C} (h : zOb D ci b H) (hK : zK D A s s.heap) (hc : zCl[ci]? = some q) : ∃ cellB : Cell, H[b]? = some cellB ∧ cellB.vm.isStatics = false ∧ s.vm.findClass q.1 = some cellB.cls := by
  obtain ⟨cell, h1, h2, h3⟩ := h
  exact ⟨cell, h1, h2, by rw [h3]; exact (hK.k1.1 ci q hc).2.1⟩
abbrev zRoom (rm rm2 : Room) (nL2 : Nat) : Prop := rm2.frames + 1 ≤ rm.frames ∧ 8 + (nL2 + 11) + rm2.locals ≤ rm.locals
abbrev zArgN (y : MethodName) (na : Nat) : Prop := y.cls ≠ "java/lang/invoke/MethodHandle" ∧ y.cls ≠ "java/lang/invoke/VarHandle" ∧ (parseMethodDescriptor y.desc).map (fun d => d.parameters.length) = some na
section ZCALL
variable {y : MethodName} {cc2 : ByteArray} {nL2 : Nat} {ret2 : Option FieldType} {rm2 : Room} {I2 : Heap → Prop} {P2 : Option Value → Heap → Prop} {Ex2 : String → Nat → Heap → Prop} {As rest : List Value} {b ci idx na : Nat} {T : u_T} {N : Nat}
theorem z_V (hX : zF D X own cc nL ret hh rm A P Ex nm) (d : decode cc pc = .ok (.invokevirtual idx, 3)) (hc : zC D y cc2 nL2 ret2 none rm2 A (.ref b :: As) I2 P2 Ex2)
    (hci : zCl[ci]? = some (y.cls, T, N)) (h1 : Cond.methodLink own idx y ∈ lw_all) (h2 : Cond.instanceMethod y ∈ lw_all) (h3 : Cond.selects y.cls y y ∈ lw_all) (h4 : Cond.initialized y.cls ∈ lw_all) (h5 : Cond.code y cc2 nL2 ret2 ∈ lw_all)
    (hd : zArgN y na) (hR : zRoom rm rm2 nL2) (hn : As.length = na) (hst : st = As.reverse ++ .ref b :: rest) (hW : (rest.map fun v => v.category).sum ≤ 8) (hLn : L.length = nL) (hk : k + rm2.cells ≤ rm.cells) (hs : n + rm2.slots ≤ rm.slots)
    (hI : ∀ H, I H → I2 H ∧ zOb D ci b H)
    (kx : ∀ E a, zT X (k + rm2.cells) (n + rm2.slots) (fun H => Ex2 E a H) pc L E a) (kk : ∀ v, zG X (k + rm2.cells) (n + rm2.slots) (fun H => P2 v H) (pc + 3) L (v.toList ++ rest)) : zG X k n I pc L st := by
  refine z_ofRun (a := (.ref b :: As).toArray) (rest := rest) hX ?_ kx kk
  obtain ⟨p, l, e, R, s, m, args, below, meth, c, Q, A⟩ := X
  obtain ⟨hx, hb, hr, hlocks, hml, hown, hts, rfl, rfl, rfl, htab, hK, hlt, hnm⟩ := hX
  intro H locs ls hI0 hS hL
  have hcw : CallW R s args own y.cls idx y cc2 nL2 ret2 (ws_ y cc2 nL2 ret2) rm2 rm2.cells rm2.slots na := cwV na hts (lw_V h1 h2 h3 h4 h5) rfl rfl rfl ⟨rfl, hd⟩ hR
  exact vx_runV ⟨hx, hb, hml, hown, hts⟩ (hc l hlt) hcw ⟨zC_blind, (hI H hI0).2.recv hK hci, fun U hU hW => ⟨rfl, by rw [hU]; exact (hI H hI0).1, by rw [hU]; exact hK.step hW hS⟩⟩ rfl hn (hL.1.trans hLn) hst (lv_room hW) d ⟨hk, hs⟩
theorem z_S (hX : zF D X own cc nL ret hh rm A P Ex nm) (d : decode cc pc = .ok (.invokestatic idx, 3)) (hc : zC D y cc2 nL2 ret2 none rm2 A As I2 P2 Ex2)
    (h1 : Cond.methodLink own idx y ∈ lw_all) (h2 : Cond.static y ∈ lw_all) (h4 : Cond.initialized y.cls ∈ lw_all) (h5 : Cond.code y cc2 nL2 ret2 ∈ lw_all)
    (hd : zArgN y na) (hR : zRoom rm rm2 nL2) (hn : As.length = na) (hst : st = As.reverse ++ rest) (hW : (rest.map fun v => v.category).sum ≤ 8) (hLn : L.length = nL) (hk : k + rm2.cells ≤ rm.cells) (hs : n + rm2.slots ≤ rm.slots)
    (hI : ∀ H, I H → I2 H)
    (kx : ∀ E a, zT X (k + rm2.cells) (n + rm2.slots) (fun H => Ex2 E a H) pc L E a) (kk : ∀ v, zG X (k + rm2.cells) (n + rm2.slots) (fun H => P2 v H) (pc + 3) L (v.toList ++ rest)) : zG X k n I pc L st := by
  refine z_ofRun (a := As.toArray) (rest := rest) hX ?_ kx kk
  obtain ⟨p, l, e, R, s, m, args, below, meth, c, Q, A⟩ := X
  obtain ⟨hx, hb, hr, hlocks, hml, hown, hts, rfl, rfl, rfl, htab, hK, hlt, hnm⟩ := hX
  intro H locs ls hI0 hS hL
  have hcw := va_cwS (R := R) (s := s) (args := args) (rm := rm2) na hts (lw_S h1 h2 h4 h5) rfl rfl rfl hd hR
  exact vx_runS ⟨hx, hb, hml, hown, hts⟩ (hc l hlt) hcw ⟨zC_blind, fun U hU hW => ⟨rfl, by rw [hU]; exact hI H hI0, by rw [hU]; exact hK.step hW hS⟩⟩ rfl hn (hL.1.trans hLn) hst (lv_room hW) d ⟨hk, hs⟩
theorem z_C (hX : zF D X own cc nL ret hh rm A P Ex nm) (d : decode cc pc = .ok (.invokespecial idx, 3)) (hc : zC D y cc2 nL2 none none rm2 A (.ref b :: As) I2 P2 Ex2)
    (h1 : Cond.methodLink own idx y ∈ lw_all) (h2 : Cond.instanceMethod y ∈ lw_all) (h4 : Cond.initialized y.cls ∈ lw_all) (h5 : Cond.code y cc2 nL2 none ∈ lw_all) (hy1 : y.name = "<init>")
    (hd : zArgN y na) (hR : zRoom rm rm2 nL2) (hn : As.length = na) (hst : st = As.reverse ++ .ref b :: rest) (hW : (rest.map fun v => v.category).sum ≤ 8) (hLn : L.length = nL) (hk : k + rm2.cells ≤ rm.cells) (hs : n + rm2.slots ≤ rm.slots)
    (hI : ∀ H, I H → I2 H)
    (kx : ∀ E a, zT X (k + rm2.cells) (n + rm2.slots) (fun H => Ex2 E a H) pc L E a) (kk : ∀ v, zG X (k + rm2.cells) (n + rm2.slots) (fun H => P2 v H) (pc + 3) L (v.toList ++ rest)) : zG X k n I pc L st := by
  refine z_ofRun (a := (.ref b :: As).toArray) (rest := rest) hX ?_ kx kk
  obtain ⟨p, l, e, R, s, m, args, below, meth, c, Q, A⟩ := X
  obtain ⟨hx, hb, hr, hlocks, hml, hown, hts, rfl, rfl, rfl, htab, hK, hlt, hnm⟩ := hX
  intro H locs ls hI0 hS hL
  have hcw := cwI (R := R) (s := s) (args := args) (own := own) (index := idx) (rm := rm2) na hts (lw_meth h5) rfl rfl rfl (hts _ h4) (hts _ h1) (hts _ h2) hy1 hd hR
  exact vx_runI ⟨hx, hb, hml, hown, hts⟩ (hc l hlt) hcw ⟨zC_blind, fun U hU hW => ⟨rfl, by rw [hU]; exact hI H hI0, by rw [hU]; exact hK.step hW hS⟩⟩ rfl hn (hL.1.trans hLn) hst (lv_room hW) d ⟨hk, hs⟩
end ZCALL
/-- answers of one value, of any x for which the assertion holds; no answer -/
def zP1 {α : Type} (val : α → Value) (I : α → Heap → Prop) : Option Value → Heap → Prop := fun v H => ∃ x, v = some (val x) ∧ I x H
def zPd (r : Value) (I : Heap → Prop) : Option Value → Heap → Prop := fun v H => v = some r ∧ I H
def zPv (I : Heap → Prop) : Option Value → Heap → Prop := fun v H => v = none ∧ I H
theorem zP1.out {α : Type} {val : α → Value} {I2 : α → Heap → Prop} {rest : List Value} (h : ∀ x, zG X k n (I2 x) pc L (val x :: rest)) : ∀ v, zG X k n (fun H => zP1 val I2 v H) pc L (v.toList ++ rest) := by
  intro v
  refine zG.ex (fun x => zG.ax (fun hv => ?_))
  subst hv
  exact h x
theorem zPd.out {r : Value} {I2 : Heap → Prop} {rest : List Value} (h : zG X k n I2 pc L (r :: rest)) : ∀ v, zG X k n (fun H => zPd r I2 v H) pc L (v.toList ++ rest) := by
  intro v
  refine zG.ax (fun hv => ?_)
  subst hv
  exact h
theorem zPv.out {I2 : Heap → Prop} {rest : List Value} (h : zG X k n I2 pc L rest) : ∀ v, zG X k n (fun H => zPv I2 v H) pc L (v.toList ++ rest) := by
  intro v
  refine zG.ax (fun hv => ?_)
  subst hv
  exact h
/-- Object.<init> -/
theorem z_objInit (hX : zF D X own cc nL ret hh rm A P Ex nm) {idx a : Nat} (d : decode cc pc = .ok (.invokespecial idx, 3)) (h1 : Cond.methodLink own idx objectInit ∈ lw_all) (h2 : Cond.instanceMethod objectInit ∈ lw_all) (h3 : Cond.code objectInit ⟨#[0xb1]⟩ 1 none ∈ lw_all) (hW : (st.map fun v => v.category).sum ≤ 8) (hLn : L.length = nL) (hR : 1 ≤ rm.frames ∧ 20 ≤ rm.locals) (hq : pc + 3 = q) (kk : zG X k n I q L st) : zG X k n I pc L (.ref a :: st) := by
  subst hq
  obtain ⟨p, l, e, R, s, m, args, below, meth, c, Q, A⟩ := X
  obtain ⟨hx, hb, hr, hlocks, hml, hown, hts, rfl, rfl, rfl, htab, hK, hlt, hnm⟩ := hX
  intro H locs ls hI hS hL
  refine W.objInit hx hb hown (hts _ h1) (hts _ h2) (hts _ h3) rfl ((hL.1.trans hLn).trans hml.symm) rfl d hR.1 ?_ ?_
  · show 2 * 0 + (st.map fun v => v.category).sum + 12 ≤ R.locals
    omega
  · exact kk H locs ls hI hS hL
/-- Math.min, Math.max of ints -/
theorem z_mmin (hX : zF D X own cc nL ret hh rm A P Ex nm) {idx : Nat} {a b : Int} (d : decode cc pc = .ok (.invokestatic idx, 3)) (ha : zR a) (hb : zR b) (h1 : Cond.methodLink own idx Lib.Math.min.name ∈ lw_all) (h2 : Cond.static Lib.Math.min.name ∈ lw_all) (h3 : Cond.initialized "java/lang/Math" ∈ lw_all) (h4 : Cond.code Lib.Math.min.name Lib.Math.min.code 2 (some .int) ∈ lw_all) (hW : (st.map fun v => v.category).sum ≤ 8) (hLn : L.length = nL) (hR : 1 ≤ rm.frames ∧ 21 ≤ rm.locals) (hk : k ≤ rm.cells) (hs : n ≤ rm.slots) (hq : pc + 3 = q) (kk : zG X k n I q L (zI (min a b) :: st)) : zG X k n I pc L (zI b :: zI a :: st) := by
  subst hq
  obtain ⟨p, l, e, R, s, m, args, below, meth, c, Q, A⟩ := X
  obtain ⟨hx, hbd, hr, hlocks, hml, hown, hts, rfl, rfl, rfl, htab, hK, hlt, hnm⟩ := hX
  intro H locs ls hI hS hL
  refine va_mmin hx hbd ((hL.1.trans hLn).trans hml.symm).symm hown (hts _ h1) (hts _ h2) (hts _ h3) (hts _ h4) hR.1 (by omega) hk hs d ?_
  rw [show (if Int32.ofInt b < Int32.ofInt a then Int32.ofInt b else Int32.ofInt a) = Int32.ofInt (min a b) by
    by_cases h : b < a
    · rw [if_pos ((zI_lt hb ha).mpr h), show min a b = b by omega]
    · rw [if_neg (fun q => h ((zI_lt hb ha).mp q)), show min a b = a by omega]]
  exact kk H locs ls hI hS hL
theorem z_mmax (hX : zF D X own cc nL ret hh rm A P Ex nm) {idx : Nat} {a b : Int} (d : decode cc pc = .ok (.invokestatic idx, 3)) (ha : zR a) (hb : zR b) (h1 : Cond.methodLink own idx Lib.Math.max.name ∈ lw_all) (h2 : Cond.static Lib.Math.max.name ∈ lw_all) (h3 : Cond.initialized "java/lang/Math" ∈ lw_all) (h4 : Cond.code Lib.Math.max.name Lib.Math.max.code 2 (some .int) ∈ lw_all) (hW : (st.map fun v => v.category).sum ≤ 8) (hLn : L.length = nL) (hR : 1 ≤ rm.frames ∧ 21 ≤ rm.locals) (hk : k ≤ rm.cells) (hs : n ≤ rm.slots) (hq : pc + 3 = q) (kk : zG X k n I q L (zI (max a b) :: st)) : zG X k n I pc L (zI b :: zI a :: st) := by
  subst hq
  obtain ⟨p, l, e, R, s, m, args, below, meth, c, Q, A⟩ := X
  obtain ⟨hx, hbd, hr, hlocks, hml, hown, hts, rfl, rfl, rfl, htab, hK, hlt, hnm⟩ := hX
  intro H locs ls hI hS hL
  refine va_mmax hx hbd ((hL.1.trans hLn).trans hml.symm).symm hown (hts _ h1) (hts _ h2) (hts _ h3) (hts _ h4) hR.1 (by omega) hk hs d ?_
  rw [show (if Int32.ofInt a < Int32.ofInt b then Int32.ofInt b else Int32.ofInt a) = Int32.ofInt (max a b) by
    by_cases h : a < b
    · rw [if_pos ((zI_lt ha hb).mpr h), show max a b = b by omega]
    · rw [if_neg (fun q => h ((zI_lt ha hb).mp q)), show max a b = a by omega]]
  exact kk H locs ls hI hS hL
end ZR

