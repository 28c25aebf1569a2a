/-! STAGE 0a: the abstract heap. A cell has a tag (a ghost), and is an object (number of its class in hp_cl, fields) or an array (type of its elements, length, contents). -/
set_option maxRecDepth 100000
def hp_cl : List vw_C := [(RX1, TX1, 9), (RX2, TX2, 10), (RX3, TX3, 2), (RX5, TX5, 5), (RX6, TX6, 3), (RX7, TX7, 3), (RX8, TX8, 2), (RX9, TX9, 34), (RX11, TX11, 10), (RX12, TX12, 8), (RX13, TX13, 1), (RX14, TX14, 1), (RX15, TX15, 10), (RX17, TX17, 2), (RX19, TX19, 5), (RX20, TX20, 4), (RX21, TX21, 3), (RX22, TX22, 3), (RX23, TX23, 5), (RX24, TX24, 5), (RX25, TX25, 3), (RX26, TX26, 4), (RX27, TX27, 3), (RJ1, TJ1, 8), (RJ4, TJ4, 3), (RJ10, TJ10, 4), (RJ11, TJ11, 4), (RJ19, TJ19, 1), (RJ21, TJ21, 4), (RJ22, TJ22, 3), (RJ26, TJ26, 4), (RJ29, TJ29, 3), (RJ36, TJ36, 5), (RJ40, TJ40, 3), (RJ30, TJ30, 0), (RJ32, TJ32, 0), (RJ8, TJ8, 0)]
def iI (z : Int) : Int32 := Int32.ofInt z
theorem iI_add (a b : Int) : iI a + iI b = iI (a + b) := (Int32.ofInt_add a b).symm
theorem iI_sub (a b : Int) : iI a - iI b = iI (a - b) := (Int32.ofInt_sub a b).symm
theorem iI_mul (a b : Int) : iI a * iI b = iI (a * b) := (Int32.ofInt_mul a b).symm
theorem iI_neg (a : Int) : - iI a = iI (-a) := (Int32.ofInt_neg a).symm
theorem iI_to (x : Int32) : iI x.toInt = x := Int32.ofInt_toInt x
theorem iI_nI (n : Nat) : nI n = iI n := rfl
/-- fits into 32 bits -/
abbrev inR (z : Int) : Prop := -2147483648 ≤ z ∧ z ≤ 2147483647
theorem iI_toInt {z : Int} (h : inR z) : (iI z).toInt = z := by
  unfold iI
  exact Int32.toInt_ofInt_of_le (by have := h.1; simpa using h.1) (by have := h.2; omega)
theorem toInt_inR (x : Int32) : inR x.toInt := ⟨by simpa using x.le_toInt, by have := x.toInt_lt; omega⟩
theorem iI_eq {a b : Int} (ha : inR a) (hb : inR b) : iI a = iI b ↔ a = b := by
  constructor
  · intro h
    have := congrArg Int32.toInt h
    rwa [iI_toInt ha, iI_toInt hb] at this
  · intro h; rw [h]
theorem iI_lt {a b : Int} (ha : inR a) (hb : inR b) : iI a < iI b ↔ a < b := by
  rw [Int32.lt_iff_toInt_lt, iI_toInt ha, iI_toInt hb]
theorem iI_le {a b : Int} (ha : inR a) (hb : inR b) : iI a ≤ iI b ↔ a ≤ b := by
  rw [Int32.le_iff_toInt_le, iI_toInt ha, iI_toInt hb]
theorem iI_0 : iI 0 = 0 := by decide
theorem iI_clamp {z : Int} (h : inR z) (h0 : 0 ≤ z) : ((iI z).toNatClampNeg : Int) = z := by
  show (((iI z).toInt.toNat : Nat) : Int) = z
  rw [iI_toInt h]; omega
abbrev hp_V : Type := Int ⊕ (Option Nat) ⊕ UInt32
abbrev hp_Ar : Type := (Int → Int) ⊕ (Int → Int64) ⊕ (Int → Option Nat)
abbrev hp_C : Type := (Nat × List hp_V) ⊕ (FieldType × Nat × hp_Ar)
/-- cells by address; the next address; cells and slots that were made; constants by their places -/
abbrev HP : Type := (Nat → Option (Nat × hp_C)) × Nat × Nat × Nat × (Nat → Option Nat)
abbrev hp_n (h : HP) : Nat := h.2.1
abbrev hp_k (h : HP) : Nat := h.2.2.1
abbrev hp_s (h : HP) : Nat := h.2.2.2.1
abbrev hp_c (h : HP) : Nat → Option Nat := h.2.2.2.2
def hp_val (v : hp_V) : Value := match v with
  | .inl z => .int (iI z)
  | .inr (.inl r) => va_rf r
  | .inr (.inr f) => .float f
def hp_arr (n : Nat) (x : hp_Ar) : vp_A := match x with
  | .inl f => (n, .inl (fun j => iI (f (j : Int))))
  | .inr (.inl f) => (n, .inr (.inl (fun j => f (j : Int))))
  | .inr (.inr f) => (n, .inr (.inr (.inr (.inr (fun j => f (j : Int))))))
def hp_at (D : va_G) (s : State) (a : Nat) (c : hp_C) (H : Heap) : Prop := match c with
  | .inl o => va_at D hp_cl (a, .inr (o.1, o.2.map hp_val)) H ∧ ∃ r : vw_C, hp_cl[o.1]? = some r ∧ (r.2.2 ≤ o.2.length)
  | .inr x => ∃ cA : ClassId, va_at D hp_cl (a, .inl (cA, hp_arr x.2.1 x.2.2)) H ∧ ArrOfT s cA x.1 ∧ va_RA s cA x.1
theorem hp_at.moved {D : va_G} {u U : State} (hvm : u.vm.Alike U.vm) {a : Nat} {c : hp_C} {H : Heap} (h : hp_at D u a c H) : hp_at D U a c H := by
  cases c with
  | inl o => exact h
  | inr x =>
    obtain ⟨cA, h1, h2, h3⟩ := h
    exact ⟨cA, h1, arrOfT_moved hvm h2, h3.moved hvm⟩
theorem hp_at.kept {D : va_G} {s : State} {a : Nat} {c : hp_C} {H H1 : Heap} (h : hp_at D s a c H) (hq : H1[a]? = H[a]?) : hp_at D s a c H1 := by
  cases c with
  | inl o => exact ⟨h.1.kept hq, h.2⟩
  | inr x =>
    obtain ⟨cA, h1, h2⟩ := h
    exact ⟨cA, h1.kept hq, h2⟩
theorem hp_at.lt {D : va_G} {s : State} {a : Nat} {c : hp_C} {H : Heap} (h : hp_at D s a c H) : a < H.size := by
  cases c with
  | inl o => exact h.1.lt
  | inr x =>
    obtain ⟨cA, h1, -⟩ := h
    exact h1.lt
def hp_strs : List (String × Nat × String × Nat) := [("java/util/ArrayList", 23, "Illegal Capacity: ", 0), ("java/util/Arrays", 337, " > ", 1), ("RenamedWords", 67, "", 2), ("RenamedWords$Reader", 31, "", 3), ("RenamedWords$SetupReader", 33, "text", 4), ("jdk/internal/util/ArraysSupport", 92, "unrecognized basic type: ", 5), ("RenamedWords$SetupReader", 91, "pattern", 6), ("RenamedWords$SetupReader", 93, "firm", 7), ("RenamedWords$ScriptReader", 58, "put", 8), ("RenamedWords$ScriptReader", 64, "insert", 9), ("RenamedWords$ScriptReader", 66, "erase", 10), ("RenamedWords$ScriptReader", 68, "mark", 11), ("RenamedWords$ScriptReader", 70, "unmark", 12), ("RenamedWords$ScriptReader", 72, "swap", 13), ("RenamedWords$ScriptReader", 74, "take", 14), ("RenamedWords$ScriptReader", 76, "firm", 15), ("RenamedWords$ScriptReader", 78, "again", 16), ("java/util/LinkedList", 100, "Index: ", 17), ("java/util/LinkedList", 109, ", Size: ", 18), ("java/lang/Throwable", 81, ": ", 19), ("java/util/ArrayList", 201, "Index: ", 20), ("java/util/ArrayList", 203, ", Size: ", 21), ("java/util/BitSet", 144, "fromIndex < 0: ", 22), ("java/util/BitSet", 147, "toIndex < 0: ", 23), ("java/util/BitSet", 149, "fromIndex: ", 24), ("java/util/BitSet", 151, " > toIndex: ", 25), ("java/util/BitSet", 153, "bitIndex < 0: ", 26), ("RenamedWordsModel", 229, "text", 27), ("RenamedWordsModel", 238, "pattern", 28), ("RenamedWordsModel", 243, "firm", 29), ("RenamedWordsModel", 267, "put", 30), ("RenamedWordsModel", 269, "insert", 31), ("RenamedWordsModel", 271, "erase", 32), ("RenamedWordsModel", 273, "mark", 33), ("RenamedWordsModel", 275, "unmark", 34), ("RenamedWordsModel", 277, "swap", 35), ("RenamedWordsModel", 279, "take", 36), ("RenamedWordsModel", 281, "again", 37)]
/-- statics that are read, and what they hold -/
def hp_sts (K : Nat → Option Nat) : List (String × String × String × Value) := [("java/lang/String", "COMPACT_STRINGS", "Z", .int 1), ("RenamedWords$Sort", "END", "LRenamedWords$Sort;", va_rf (K 100)), ("RenamedWords$Sort", "WORD", "LRenamedWords$Sort;", va_rf (K 101)), ("RenamedWords$Sort", "NUMBER", "LRenamedWords$Sort;", va_rf (K 102)), ("RenamedWords$Sort", "SIGN", "LRenamedWords$Sort;", va_rf (K 103)), ("RenamedWords$Sort", "BAD", "LRenamedWords$Sort;", va_rf (K 104)), ("java/lang/Integer", "DigitOnes", "[B", va_rf (K 105)), ("java/lang/Integer", "DigitTens", "[B", va_rf (K 106)), ("java/lang/Integer$IntegerCache", "cache", "[Ljava/lang/Integer;", va_rf (K 107)), ("java/lang/Integer$IntegerCache", "high", "I", .int 127), ("java/util/BitSet", "$assertionsDisabled", "Z", .int 1), ("java/lang/Throwable", "UNASSIGNED_STACK", "[Ljava/lang/StackTraceElement;", va_rf (K 108)), ("java/lang/Throwable", "SUPPRESSED_SENTINEL", "Ljava/util/List;", va_rf (K 109)), ("jdk/internal/util/Preconditions", "SIOOBE_FORMATTER", "Ljava/util/function/BiFunction;", va_rf (K 110))]
/-- what a method may change: the cells that it is given, and those that it makes -/
def hp_A (h : HP) : Nat → Prop := fun a => (∃ t c, h.1 a = some (t, c) ∧ t ≠ 1) ∨ hp_n h ≤ a
/-- cells but for those that are read alone (tag 1) lie in A -/
def hp_in (h : HP) (A : Nat → Prop) : Prop := ∀ a t c, h.1 a = some (t, c) → t ≠ 1 → A a
/-- the heap H shows h -/
def hp_R (G : va_G) (s : State) (h : HP) (H : Heap) : Prop :=
  hp_n h = H.size ∧ (∀ (a t : Nat) (c : hp_C), h.1 a = some (t, c) → hp_at G s a c H) ∧ (∀ q ∈ hp_sts (hp_c h), va_Z q.1 q.2.1 q.2.2.1 q.2.2.2 (hp_A h) s H) ∧
    vx_Zq Bundle.tN "UNASSIGNED_STACK" Bundle.steD (hp_A h) s H ∧ vx_Zq Bundle.tN "SUPPRESSED_SENTINEL" Bundle.listD (hp_A h) s H
theorem hp_R.moved {G : va_G} {u U : State} (hvm : u.vm.Alike U.vm) {h : HP} {H : Heap} (r : hp_R G u h H) : hp_R G U h H :=
  ⟨r.1, fun a t c e => (r.2.1 a t c e).moved hvm, fun q hq => va_Z.moved hvm (r.2.2.1 q hq), vx_Zq.moved hvm r.2.2.2.1, vx_Zq.moved hvm r.2.2.2.2⟩
theorem hp_R.lt {G : va_G} {s : State} {h : HP} {H : Heap} (r : hp_R G s h H) {a : Nat} (e : h.1 a ≠ none) : a < hp_n h := by
  obtain ⟨⟨t, c⟩, e⟩ := Option.ne_none_iff_exists'.mp e
  rw [r.1]
  exact (r.2.1 a t c e).lt
/-- words of the tables that don't ride in a method's list -/
def hp_ngk : Cond → Bool
  | .fieldLinkNest _ _ _ _ _ _ => true
  | .methodLinkNest _ _ _ _ => true
  | .castable _ _ => true
  | .declares _ => true
  | .privateMethod _ => true
  | _ => false
def hp_aos : List String := ["java/lang/Object", "RenamedWords$Word", "RenamedWords$Desk", "java/util/HashMap$Node"]
def hp_fws : List (String × MethodName × MethodName) := [
  ("java/util/HashMap", ⟨"java/util/Map", "get", "(Ljava/lang/Object;)Ljava/lang/Object;"⟩, ⟨"java/util/HashMap", "get", "(Ljava/lang/Object;)Ljava/lang/Object;"⟩),
  ("java/util/HashMap", ⟨"java/util/Map", "put", "(Ljava/lang/Object;Ljava/lang/Object;)Ljava/lang/Object;"⟩, ⟨"java/util/HashMap", "put", "(Ljava/lang/Object;Ljava/lang/Object;)Ljava/lang/Object;"⟩),
  ("java/util/ArrayList", ⟨"java/util/List", "size", "()I"⟩, ⟨"java/util/ArrayList", "size", "()I"⟩),
  ("java/util/ArrayList", ⟨"java/util/List", "add", "(Ljava/lang/Object;)Z"⟩, ⟨"java/util/ArrayList", "add", "(Ljava/lang/Object;)Z"⟩),
  ("java/util/ArrayList", ⟨"java/util/List", "get", "(I)Ljava/lang/Object;"⟩, ⟨"java/util/ArrayList", "get", "(I)Ljava/lang/Object;"⟩),
  ("RenamedWords$Marks$1", ⟨"java/util/Iterator", "hasNext", "()Z"⟩, ⟨"RenamedWords$Marks$1", "hasNext", "()Z"⟩),
  ("RenamedWords$Marks$1", ⟨"java/util/Iterator", "next", "()Ljava/lang/Object;"⟩, ⟨"RenamedWords$Marks$1", "next", "()Ljava/lang/Object;"⟩),
  ("RenamedWords$Marks$1", ⟨"java/util/Iterator", "remove", "()V"⟩, ⟨"RenamedWords$Marks$1", "remove", "()V"⟩),
  ("java/util/LinkedList$ListItr", ⟨"java/util/Iterator", "hasNext", "()Z"⟩, ⟨"java/util/LinkedList$ListItr", "hasNext", "()Z"⟩),
  ("java/util/LinkedList$ListItr", ⟨"java/util/Iterator", "next", "()Ljava/lang/Object;"⟩, ⟨"java/util/LinkedList$ListItr", "next", "()Ljava/lang/Object;"⟩)]
/-- classes of exceptions that a handler of that class doesn't take -/
def hp_ncs : List (String × String) := [("java/lang/IllegalArgumentException", "java/lang/IndexOutOfBoundsException"), ("java/util/NoSuchElementException", "java/lang/IndexOutOfBoundsException"), ("java/util/NoSuchElementException", "java/lang/IllegalArgumentException"), ("java/util/HashMap$Node", "java/util/HashMap$TreeNode")]
/-- what is known of the tables at a state, beside the words of lw_all -/
def hp_K (G : va_G) (K : Nat → Option Nat) (s : State) : Prop :=
  va_K G hp_cl [] s ∧ (∀ w ∈ lw_tbl, hp_ngk w = true → va_Nw w s) ∧ (∀ q ∈ hp_fws, va_Fw q.1 q.2.1 q.2.2 s) ∧ (∀ C ∈ hp_aos, va_AO C s) ∧ (∀ q ∈ hp_ncs, va_Nc q.1 q.2 s) ∧ ∀ q ∈ hp_strs, ∃ a, K q.2.2.2 = some a ∧ vk_R q.1 q.2.1 q.2.2.1 a s
theorem hp_K.warm {G : va_G} {K : Nat → Option Nat} {s U : State} (hW : s.WarmedH U.vm) (k : hp_K G K s) : hp_K G K U := by
  refine ⟨va_K.moved hW.alike k.1, fun w hw hk => ?_, fun q hq => ?_, fun C hC => va_AO.moved hW.alike (k.2.2.2.1 C hC), fun q hq => va_Nc.moved hW.alike (k.2.2.2.2.1 q hq), fun q hq => ?_⟩
  · have h := k.2.1 w hw hk
    cases w <;> first | exact va_Nw.warmF hW h | exact va_Nw.warmM hW h | exact va_Nw.warmC hW h | exact va_Nw.warmD hW h | exact Cond.privateMethod_warm hW h | exact absurd hk (by simp [hp_ngk])
  · refine va_Fw.moved ?_ hW.alike (k.2.2.1 q hq)
    have hall : ∀ q ∈ hp_fws, q.2.1.cls ≠ "java/lang/invoke/MethodHandle" ∧ q.2.1.cls ≠ "java/lang/invoke/VarHandle" := by decide +kernel
    exact hall q hq
  · obtain ⟨a, h1, h2⟩ := k.2.2.2.2.2 q hq
    exact ⟨a, h1, h2.warm hW⟩
def hp_set (h : HP) (a : Nat) (x : Nat × hp_C) : HP := (fun q => if q = a then some x else h.1 q, h.2)
def hp_add (h : HP) (x : Nat × hp_C) (n : Nat) : HP := (fun q => if q = hp_n h then some x else h.1 q, hp_n h + 1, hp_k h + 1, hp_s h + n, hp_c h)
theorem hp_A.set {h : HP} {a t t' : Nat} {x y : hp_C} (e : h.1 a = some (t, y)) (h1 : t ≠ 1) (h2 : t' ≠ 1) : hp_A (hp_set h a (t', x)) = hp_A h := by
  funext q
  apply propext
  unfold hp_A hp_set
  dsimp only
  by_cases hq : q = a
  · subst hq
    rw [if_pos rfl, e]
    exact ⟨fun _ => Or.inl ⟨t, y, rfl, h1⟩, fun _ => Or.inl ⟨t', x, rfl, h2⟩⟩
  · rw [if_neg hq]
theorem hp_R.set {G : va_G} {s : State} {h : HP} {H H1 : Heap} (r : hp_R G s h H) {a t t' : Nat} {c c' : hp_C} (e : h.1 a = some (t, c)) (n1 : t ≠ 1) (n2 : t' ≠ 1) (e1 : hp_at G s a c' H1) (z : H1.size = H.size) (oq : ∀ q : Nat, q ≠ a → H1[q]? = H[q]?) : hp_R G s (hp_set h a (t', c')) H1 := by
  have hk : ∀ q : Nat, q < H.size → ¬ hp_A h q → H1[q]? = H[q]? := fun q _ hn => oq q (fun z => hn (Or.inl (by rw [z]; exact ⟨t, c, e, n1⟩)))
  refine ⟨by show hp_n h = _; rw [z]; exact r.1, fun q t2 c2 e2 => ?_, fun q hq => ?_, ?_, ?_⟩
  · by_cases hqa : q = a
    · subst hqa
      have e3 : some (t', c') = some (t2, c2) := by rw [← e2]; unfold hp_set; simp
      cases e3
      exact e1
    · have e3 : h.1 q = some (t2, c2) := by rw [← e2]; unfold hp_set; simp [hqa]
      exact (r.2.1 q t2 c2 e3).kept (oq q hqa)
  · rw [hp_A.set e n1 n2]; exact (r.2.2.1 q hq).kept hk
  · rw [hp_A.set e n1 n2]; exact r.2.2.2.1.kept hk
  · rw [hp_A.set e n1 n2]; exact r.2.2.2.2.kept hk
theorem hp_A.add {h : HP} {x : Nat × hp_C} {n q : Nat} (e : hp_A (hp_add h x n) q) : hp_A h q := by
  unfold hp_A hp_add at e
  dsimp only at e
  by_cases hq : q = hp_n h
  · exact Or.inr (Nat.le_of_eq hq.symm)
  · rw [if_neg hq] at e
    rcases e with e | e
    · exact Or.inl e
    · exact Or.inr (Nat.le_of_succ_le e)
theorem hp_R.add {G : va_G} {s : State} {h : HP} {H H1 : Heap} (r : hp_R G s h H) {t n : Nat} {c : hp_C} (e1 : hp_at G s H.size c H1) (z : H1.size = H.size + 1) (oq : ∀ q : Nat, q < H.size → H1[q]? = H[q]?) : hp_R G s (hp_add h (t, c) n) H1 := by
  refine ⟨by show hp_n h + 1 = _; rw [z, r.1], fun q t2 c2 e2 => ?_, fun q hq => ?_, ?_, ?_⟩
  · by_cases hqa : q = hp_n h
    · subst hqa
      have e3 : some (t, c) = some (t2, c2) := by rw [← e2]; unfold hp_add; simp
      cases e3
      rw [r.1]
      exact e1
    · have e3 : h.1 q = some (t2, c2) := by rw [← e2]; unfold hp_add; simp [hqa]
      exact (r.2.1 q t2 c2 e3).kept (oq q ((r.2.1 q t2 c2 e3).lt))
  · exact va_Z.narrow ((r.2.2.1 q hq).kept (fun a ha _ => oq a ha)) (fun q hq => hp_A.add hq)
  · exact (r.2.2.2.1.kept (fun a ha _ => oq a ha)).narrow (fun q hq => hp_A.add hq)
  · exact (r.2.2.2.2.kept (fun a ha _ => oq a ha)).narrow (fun q hq => hp_A.add hq)
