/-! BASE: the classes, the constant part of the world, the judgement GJ and its rows -/
abbrev vwCl : List vw_C := [(RX1, TX1, 8), (RX2, TX2, 8), (RX3, TX3, 2), (RX4, TX4, 17), (RX5, TX5, 2), (RX6, TX6, 1), (RX7, TX7, 4), (RX8, TX8, 4), (RX9, TX9, 3), (RX10, TX10, 5), (RX11, TX11, 7), (RJ2, TJ2, 3), (RJ25, TJ25, 4), (RJ4, TJ4, 4), (RJ15, TJ15, 0)]
/-- class numbers and slots; the arrays' class numbers; the addresses of constants; where the law's own cells begin -/
abbrev Om : Type := va_G × (Nat → ClassId) × (Nat → Nat) × Nat
def oA (Ω : Om) : Nat → Prop := fun q => Ω.2.2.2 ≤ q
abbrev oM (Ω : Om) (k : Nat) : Nat := Ω.2.2.1 k
abbrev oT (Ω : Om) : List (ClassId × FieldType) := [(Ω.2.1 0, .int), (Ω.2.1 1, .char), (Ω.2.1 2, .byte), (Ω.2.1 3, .long), (Ω.2.1 4, .double), (Ω.2.1 5, .object "java/lang/Object")]
/-- words that only the tables decide, and that stay -/
def nwk (w : Cond) : Bool := match w with
  | .fieldLinkNest .. => true
  | .methodLinkNest .. => true
  | .castable .. => true
  | .declares .. => true
  | .privateMethod .. => true
  | _ => false
def fwl : List (String × MethodName × MethodName) := [
  ("SlidePark$Slide", ⟨"SlidePark$Copyable", "copy", "()Ljava/lang/Object;"⟩, ⟨"SlidePark$Slide", "copy", "()Ljava/lang/Object;"⟩),
  ("SlidePark$Guest", ⟨"SlidePark$Copyable", "copy", "()Ljava/lang/Object;"⟩, ⟨"SlidePark$Guest", "copy", "()Ljava/lang/Object;"⟩),
  ("SlidePark$Slide", ⟨"SlidePark$Ranked", "isAheadOf", "(Ljava/lang/Object;Z)Z"⟩, ⟨"SlidePark$Slide", "isAheadOf", "(Ljava/lang/Object;Z)Z"⟩),
  ("SlidePark$Guest", ⟨"SlidePark$Ranked", "isAheadOf", "(Ljava/lang/Object;Z)Z"⟩, ⟨"SlidePark$Guest", "isAheadOf", "(Ljava/lang/Object;Z)Z"⟩),
  ("SlidePark$Booking", ⟨"SlidePark$Ranked", "isAheadOf", "(Ljava/lang/Object;Z)Z"⟩, ⟨"SlidePark$Booking", "isAheadOf", "(Ljava/lang/Object;Z)Z"⟩),
  ("java/util/ArrayList$Itr", ⟨"java/util/Iterator", "hasNext", "()Z"⟩, ⟨"java/util/ArrayList$Itr", "hasNext", "()Z"⟩),
  ("java/util/ArrayList$Itr", ⟨"java/util/Iterator", "next", "()Ljava/lang/Object;"⟩, ⟨"java/util/ArrayList$Itr", "next", "()Ljava/lang/Object;"⟩)]

def ncl : List (String × String) := [("java/lang/IndexOutOfBoundsException", "java/lang/IllegalArgumentException"), ("java/lang/IndexOutOfBoundsException", "java/lang/IllegalStateException"), ("java/lang/IndexOutOfBoundsException", "java/util/NoSuchElementException"), ("java/lang/IndexOutOfBoundsException", "java/lang/UnsupportedOperationException"), ("java/lang/IndexOutOfBoundsException", "java/lang/ArithmeticException"), ("java/lang/IndexOutOfBoundsException", "SlidePark$MalformedException"), ("java/lang/IllegalArgumentException", "java/lang/IndexOutOfBoundsException"), ("java/lang/IllegalArgumentException", "java/lang/IllegalStateException"), ("java/lang/IllegalArgumentException", "java/util/NoSuchElementException"), ("java/lang/IllegalArgumentException", "java/lang/UnsupportedOperationException"), ("java/lang/IllegalArgumentException", "java/lang/ArithmeticException"), ("java/lang/IllegalArgumentException", "SlidePark$MalformedException"), ("java/lang/IllegalStateException", "java/lang/IndexOutOfBoundsException"), ("java/lang/IllegalStateException", "java/lang/IllegalArgumentException"), ("java/lang/IllegalStateException", "java/util/NoSuchElementException"), ("java/lang/IllegalStateException", "java/lang/UnsupportedOperationException"), ("java/lang/IllegalStateException", "java/lang/ArithmeticException"), ("java/lang/IllegalStateException", "SlidePark$MalformedException"), ("java/util/NoSuchElementException", "java/lang/IndexOutOfBoundsException"), ("java/util/NoSuchElementException", "java/lang/IllegalArgumentException"), ("java/util/NoSuchElementException", "java/lang/IllegalStateException"), ("java/util/NoSuchElementException", "java/lang/UnsupportedOperationException"), ("java/util/NoSuchElementException", "java/lang/ArithmeticException"), ("java/util/NoSuchElementException", "SlidePark$MalformedException"), ("java/lang/UnsupportedOperationException", "java/lang/IndexOutOfBoundsException"), ("java/lang/UnsupportedOperationException", "java/lang/IllegalArgumentException"), ("java/lang/UnsupportedOperationException", "java/lang/IllegalStateException"), ("java/lang/UnsupportedOperationException", "java/util/NoSuchElementException"), ("java/lang/UnsupportedOperationException", "java/lang/ArithmeticException"), ("java/lang/UnsupportedOperationException", "SlidePark$MalformedException"), ("java/lang/ArithmeticException", "java/lang/IndexOutOfBoundsException"), ("java/lang/ArithmeticException", "java/lang/IllegalArgumentException"), ("java/lang/ArithmeticException", "java/lang/IllegalStateException"), ("java/lang/ArithmeticException", "java/util/NoSuchElementException"), ("java/lang/ArithmeticException", "java/lang/UnsupportedOperationException"), ("java/lang/ArithmeticException", "SlidePark$MalformedException"), ("SlidePark$MalformedException", "java/lang/IndexOutOfBoundsException"), ("SlidePark$MalformedException", "java/lang/IllegalArgumentException"), ("SlidePark$MalformedException", "java/lang/IllegalStateException"), ("SlidePark$MalformedException", "java/util/NoSuchElementException"), ("SlidePark$MalformedException", "java/lang/UnsupportedOperationException"), ("SlidePark$MalformedException", "java/lang/ArithmeticException")]
def sLen : List Nat := [5, 4, 6, 5, 5, 4, 5, 1]
def sByt : List (List Int32) := [[103, 117, 101, 115, 116], [98, 111, 111, 107], [99, 97, 110, 99, 101, 108], [113, 117, 101, 117, 101], [108, 101, 97, 118, 101], [119, 97, 105, 116], [115, 108, 105, 100, 101], [32]]
def srl : List (String × Nat × String × Nat) := [("SlidePark$Parser", 43, "guest", 0), ("SlidePark$Parser", 45, "book", 1), ("SlidePark$Parser", 47, "cancel", 2), ("SlidePark$Parser", 49, "queue", 3), ("SlidePark$Parser", 51, "leave", 4), ("SlidePark$Parser", 53, "wait", 5), ("SlidePark$Parser", 55, "slide", 6), ("SlideParkModel", 240, "guest", 0), ("SlideParkModel", 232, "book", 1), ("SlideParkModel", 234, "cancel", 2), ("SlideParkModel", 227, "queue", 3), ("SlideParkModel", 236, "leave", 4), ("SlideParkModel", 238, "wait", 5), ("SlideParkModel", 226, "slide", 6), ("SlideParkModel", 213, " ", 7)]
/-- the digits' tables of java.lang.Integer -/
def dgO (j : Nat) : Value := .int (Int32.ofNat (48 + j % 10))
def dgT (j : Nat) : Value := .int (Int32.ofNat (48 + j / 10))
def stl (Ω : Om) : List (String × String × String × Value) := [
  ("java/lang/Integer$IntegerCache", "high", "I", .int 127), ("java/lang/Integer$IntegerCache", "cache", "[Ljava/lang/Integer;", .ref (oM Ω 257)),
  ("java/util/ArrayList", "DEFAULTCAPACITY_EMPTY_ELEMENTDATA", "[Ljava/lang/Object;", .ref (oM Ω 256)), ("java/lang/String", "COMPACT_STRINGS", "Z", .int 1),
  ("java/lang/Integer", "DigitOnes", "[B", .ref (oM Ω 340)), ("java/lang/Integer", "DigitTens", "[B", .ref (oM Ω 341)),
  ("java/lang/StringUTF16", "$assertionsDisabled", "Z", .int 1), ("java/lang/StringUTF16", "HI_BYTE_SHIFT", "I", .int 0), ("java/lang/StringUTF16", "LO_BYTE_SHIFT", "I", .int 8)]
def tal (Ω : Om) : List (FieldType × Nat × Nat × (Nat → Value)) := [
  (.object "java/lang/Integer", oM Ω 257, 256, fun j => .ref (oM Ω j)), (.object "java/lang/Object", oM Ω 256, 0, fun _ => .null), (.byte, oM Ω 340, 100, dgO), (.byte, oM Ω 341, 100, dgT)]
/-- the part of the world that stays: the tables, and the cells from before the law -/
def KK (Ω : Om) (U : State) (H : Heap) : Prop :=
  va_K Ω.1 vwCl (oT Ω) U ∧ Ω.2.2.2 ≤ H.size ∧ (∀ w ∈ lw_tbl, nwk w = true → va_Nw w U) ∧ (∀ t ∈ fwl, va_Fw t.1 t.2.1 t.2.2 U) ∧ va_AO "java/lang/Object" U ∧ va_Dc U ∧ va_Mi "[Ljava/lang/Object;" (oM Ω 258) U ∧ (∀ t ∈ ncl, va_Nc t.1 t.2 U) ∧
  vb_C Ω.2.2.1 (oA Ω) U H ∧ (∀ t ∈ stl Ω, va_Z t.1 t.2.1 t.2.2.1 t.2.2.2 (oA Ω) U H) ∧ (∀ t ∈ tal Ω, va_T t.1 t.2.1 t.2.2.1 t.2.2.2 (oA Ω) U H) ∧
  (vk_S 8 sLen sByt (fun i => oM Ω (300 + i)) (fun i => oM Ω (320 + i)) (oA Ω) U H ∧ va_Zq "jdk/internal/util/Preconditions" "SIOOBE_FORMATTER" "Ljava/util/function/BiFunction;" (oA Ω) U H) ∧ (∀ t ∈ srl, vk_R t.1 t.2.1 t.2.2.1 (oM Ω (300 + t.2.2.2)) U) ∧
  vx_Zq Bundle.tN "UNASSIGNED_STACK" Bundle.steD (oA Ω) U H ∧ vx_Zq Bundle.tN "SUPPRESSED_SENTINEL" Bundle.listD (oA Ω) U H
theorem fwl_mh : ∀ t ∈ fwl, t.2.1.cls ≠ "java/lang/invoke/MethodHandle" ∧ t.2.1.cls ≠ "java/lang/invoke/VarHandle" := by decide +kernel
theorem va_Nw.warmP {y : MethodName} {s U : State} (hW : s.WarmedH U.vm) (hZ : va_Nw (.privateMethod y) s) : va_Nw (.privateMethod y) U := by
  have hal := hW.alike
  have e2 : (s.setVm U.vm).vm.method? = s.vm.method? := funext hal.method?
  have h2 : (Cond.privateMethod y).before #[] (s.setVm U.vm) = true := by
    unfold va_Nw at hZ
    simp only [Cond.before, Cond.holds, Cond.value] at hZ ⊢
    rw [State.methodNamed?_setVm hal, e2]
    exact hZ
  exact va_tabs rfl (rfl : (s.setVm U.vm).vm = U.vm) h2
theorem nwk_warm {w : Cond} {s U : State} (hW : s.WarmedH U.vm) (hw : nwk w = true) (h : va_Nw w s) : va_Nw w U := by
  cases w <;> first | exact va_Nw.warmF hW h | exact va_Nw.warmM hW h | exact va_Nw.warmC hW h | exact va_Nw.warmD hW h | exact va_Nw.warmP hW h | (exact absurd hw (by simp [nwk]))
theorem KK.step {Ω : Om} {s U : State} {H0 H : Heap} (h : KK Ω s H0) (hW : s.WarmedH U.vm) (hz : H0.size ≤ H.size) (hq : ∀ a : Nat, a < H0.size → ¬ oA Ω a → H[a]? = H0[a]?) : KK Ω U H := by
  obtain ⟨h1, h2, h3, h4, h5, h6, h7, h8, h9, h10, h11, h12, h13, h14, h15⟩ := h
  have ha := hW.alike
  exact ⟨va_K.moved ha h1, Nat.le_trans h2 hz, fun w hw hn => nwk_warm hW hn (h3 w hw hn), fun t ht => va_Fw.moved (fwl_mh t ht) ha (h4 t ht), va_AO.moved ha h5, va_Dc.moved ha h6, va_Mi.moved ha h7, fun t ht => va_Nc.moved ha (h8 t ht),
    vb_C.moved ha (h9.kept hq), fun t ht => va_Z.moved ha ((h10 t ht).kept hq), fun t ht => va_T.moved ha ((h11 t ht).kept hq), ⟨vk_S.moved ha (h12.1.kept hq), va_Zq.moved ha (h12.2.kept hq)⟩, fun t ht => vk_R.warm hW (h13 t ht), vx_Zq.moved ha (h14.kept hq), vx_Zq.moved ha (h15.kept hq)⟩
theorem KK.same {Ω : Om} {s U : State} {H : Heap} (h : KK Ω s H) (hv : U.vm = s.vm) : KK Ω U H := h.step (by rw [hv]; exact State.WarmedH.refl s) (Nat.le_refl _) (fun _ _ _ => rfl)
/-- locals by their places -/
def lvo : Nat → List (Option Value) → List (Nat × Value)
  | _, [] => []
  | i, none :: r => lvo (i + 1) r
  | i, some v :: r => (i, v) :: lvo (i + 1) r
theorem lvo_mem : ∀ (L : List (Option Value)) (b i : Nat) (v : Value), (i, v) ∈ lvo b L ↔ b ≤ i ∧ L[i - b]? = some (some v)
  | [], b, i, v => by simp [lvo]
  | none :: r, b, i, v => by
    rw [lvo, lvo_mem r (b + 1) i v]
    constructor
    · rintro ⟨h1, h2⟩
      refine ⟨by omega, ?_⟩
      rw [show i - b = (i - (b + 1)) + 1 by omega, List.getElem?_cons_succ]
      exact h2
    · rintro ⟨h1, h2⟩
      rcases Nat.eq_or_lt_of_le h1 with e | e
      · subst e
        rw [Nat.sub_self, List.getElem?_cons_zero] at h2
        cases h2
      · refine ⟨e, ?_⟩
        rw [show i - b = (i - (b + 1)) + 1 by omega, List.getElem?_cons_succ] at h2
        exact h2
  | some u :: r, b, i, v => by
    rw [lvo, List.mem_cons, lvo_mem r (b + 1) i v]
    constructor
    · rintro (h | ⟨h1, h2⟩)
      · cases h
        exact ⟨Nat.le_refl _, by rw [Nat.sub_self, List.getElem?_cons_zero]⟩
      · refine ⟨by omega, ?_⟩
        rw [show i - b = (i - (b + 1)) + 1 by omega, List.getElem?_cons_succ]
        exact h2
    · rintro ⟨h1, h2⟩
      rcases Nat.eq_or_lt_of_le h1 with e | e
      · subst e
        rw [Nat.sub_self, List.getElem?_cons_zero] at h2
        cases h2
        exact Or.inl rfl
      · refine Or.inr ⟨e, ?_⟩
        rw [show i - b = (i - (b + 1)) + 1 by omega, List.getElem?_cons_succ] at h2
        exact h2
theorem lvo_at {ls : Array Slot} {nL : Nat} {L : List (Option Value)} (h : lv_has ls nL (lvo 0 L)) {i : Nat} {v : Value} (hi : L[i]? = some (some v)) : ls[i]? = some (.val v) := h.2.2 (i, v) ((lvo_mem L 0 i v).mpr ⟨Nat.zero_le _, hi⟩)
/-- may place i be written without cutting a value of two places -/
def okst (L : List (Option Value)) (i : Nat) : Bool := match i with
  | 0 => true
  | j + 1 => match L[j]? with
    | some (some w) => w.category == 1
    | _ => true
theorem okst_cat {L : List (Option Value)} {j : Nat} {u : Value} (h1 : okst L (j + 1) = true) (h2 : L[j]? = some (some u)) : u.category = 1 := by
  have h3 : (match L[j]? with | some (some w) => w.category == 1 | _ => true) = true := h1
  rw [h2] at h3
  simpa using h3
theorem lvo_set1 {ls : Array Slot} {nL : Nat} {L : List (Option Value)} {i : Nat} {v : Value} (hok : okst L i = true)
    (h : lv_has ls nL ((i, v) :: (lvo 0 L).filter (fun q => !(q.1 == i) && !(q.1 + 1 == i && q.2.category == 2)))) : lv_has ls nL (lvo 0 (L.set i (some v))) := by
  refine ⟨h.1, h.2.1, fun q hq => ?_⟩
  obtain ⟨j, u⟩ := q
  have hq2 := ((lvo_mem _ 0 j u).mp hq).2
  clear hq
  rw [Nat.sub_zero] at hq2
  refine h.2.2 (j, u) ?_
  by_cases hji : j = i
  · subst hji
    rw [List.getElem?_set_self (by have := (List.getElem?_eq_some_iff.mp hq2).1; rwa [List.length_set] at this)] at hq2
    cases hq2
    exact List.mem_cons_self
  · rw [List.getElem?_set_ne (Ne.symm hji)] at hq2
    refine List.mem_cons_of_mem _ (List.mem_filter.mpr ⟨(lvo_mem L 0 j u).mpr ⟨Nat.zero_le _, hq2⟩, ?_⟩)
    have h1 : (j == i) = false := by simpa using hji
    simp only [h1, Bool.not_false, Bool.true_and]
    by_cases h2 : j + 1 = i
    · subst h2
      have h3 : u.category = 1 := okst_cat hok hq2
      simp [h3]
    · have h3 : (j + 1 == i) = false := by simpa using h2
      simp [h3]
theorem lvo_set2 {ls : Array Slot} {nL : Nat} {L : List (Option Value)} {i : Nat} {v : Value} (hok : okst L i = true)
    (h : lv_has ls nL ((i, v) :: (lvo 0 L).filter (fun q => !(q.1 == i) && (!(q.1 == i + 1) && !(q.1 + 1 == i && q.2.category == 2))))) : lv_has ls nL (lvo 0 ((L.set i (some v)).set (i + 1) none)) := by
  refine ⟨h.1, h.2.1, fun q hq => ?_⟩
  obtain ⟨j, u⟩ := q
  have hq2 := ((lvo_mem _ 0 j u).mp hq).2
  clear hq
  rw [Nat.sub_zero] at hq2
  refine h.2.2 (j, u) ?_
  by_cases hj1 : j = i + 1
  · subst hj1
    rw [List.getElem?_set_self (by have := (List.getElem?_eq_some_iff.mp hq2).1; rwa [List.length_set] at this)] at hq2
    cases hq2
  · rw [List.getElem?_set_ne (Ne.symm hj1)] at hq2
    by_cases hji : j = i
    · subst hji
      rw [List.getElem?_set_self (by have := (List.getElem?_eq_some_iff.mp hq2).1; rwa [List.length_set] at this)] at hq2
      cases hq2
      exact List.mem_cons_self
    · rw [List.getElem?_set_ne (Ne.symm hji)] at hq2
      refine List.mem_cons_of_mem _ (List.mem_filter.mpr ⟨(lvo_mem L 0 j u).mpr ⟨Nat.zero_le _, hq2⟩, ?_⟩)
      have h1 : (j == i) = false := by simpa using hji
      have h4 : (j == i + 1) = false := by simpa using hj1
      simp only [h1, h4, Bool.not_false, Bool.true_and]
      by_cases h2 : j + 1 = i
      · subst h2
        have h3 : u.category = 1 := okst_cat hok hq2
        simp [h3]
      · have h3 : (j + 1 == i) = false := by simpa using h2
        simp [h3]
/-- from pc on, with locals L, operand stack st, any heap that I allows: W -/
def GJ (Ω : Om) (p : Program) (l : Launch) (e : Env) (R : Room) (s : State) (m : MethodId) (args : Array Value) (below : List Frame) (meth : Method) (c : Code) (nL : Nat) (Q : State → Prop) (I : Heap → Prop) (k n pc : Nat) (L : List (Option Value)) (st : List Value) : Prop :=
  ∀ (H : Heap) (locs : List Loc) (ls : Array Slot), I H → va_S (oA Ω) s.heap H locs → lv_has ls nL (lvo 0 L) → W p l e R s m args below meth c H locs k n Q (F0 m pc ls st)
/-- with q of class E thrown at pc -/
def GX (Ω : Om) (p : Program) (l : Launch) (e : Env) (R : Room) (s : State) (m : MethodId) (args : Array Value) (below : List Frame) (meth : Method) (c : Code) (nL : Nat) (Q : State → Prop) (I : Heap → Prop) (k n pc : Nat) (L : List (Option Value)) (rest : List Value) (E : String) (q : Nat) : Prop :=
  ∀ (H : Heap) (locs : List Loc) (ls : Array Slot) (ce : Cell), I H → va_S (oA Ω) s.heap H locs → lv_has ls nL (lvo 0 L) → H[q]? = some ce → ce.vm = .none → s.vm.findClass E = some ce.cls → vx_W p l e R s m args below meth c H locs k n Q (F0 m pc ls rest) q
/-- what is fixed in a method -/
def Fx (Ω : Om) (p : Program) (l : Launch) (s : State) (m : MethodId) (args : Array Value) (meth : Method) (c : Code) (own : String) (cc : ByteArray) (nL : Nat) (ret : Option FieldType) : Prop :=
  p.tables.exec = Jvm.exec ∧ c.code = cc ∧ c.maxLocals = nL ∧ meth.sig.returnType = ret ∧ meth.locks = false ∧ s.vm.findClass own = some m.cls ∧ (∀ w ∈ lw_all, w.before args s = true) ∧ KK Ω s s.heap ∧ l.stackTraces = false
section ROWS
variable {Ω : Om} {p : Program} {l : Launch} {e : Env} {R : Room} {s : State} {m : MethodId} {args : Array Value} {below : List Frame} {meth : Method} {c : Code} {Q : State → Prop} {own : String} {cc : ByteArray} {nL : Nat} {ret : Option FieldType} {I : Heap → Prop} {k n pc pc0 : Nat} {L : List (Option Value)} {st : List Value}
theorem GJ.imp {I' : Heap → Prop} (h : ∀ H, I H → I' H) (kk : GJ Ω p l e R s m args below meth c nL Q I' k n pc L st) : GJ Ω p l e R s m args below meth c nL Q I k n pc L st := fun H locs ls hI hS hl => kk H locs ls (h H hI) hS hl
theorem GJ.ex {α : Sort _} {J : α → Heap → Prop} (kk : ∀ x, GJ Ω p l e R s m args below meth c nL Q (J x) k n pc L st) : GJ Ω p l e R s m args below meth c nL Q (fun H => ∃ x, J x H) k n pc L st := fun H locs ls hI hS hl => by
  obtain ⟨x, hx⟩ := hI
  exact kk x H locs ls hx hS hl
theorem GJ.and {P : Prop} {J : Heap → Prop} (kk : P → GJ Ω p l e R s m args below meth c nL Q J k n pc L st) : GJ Ω p l e R s m args below meth c nL Q (fun H => P ∧ J H) k n pc L st := fun H locs ls hI hS hl => kk hI.1 H locs ls hI.2 hS hl
theorem GJ.have {P : Prop} (h : ∀ H, I H → P) (kk : P → GJ Ω p l e R s m args below meth c nL Q I k n pc L st) : GJ Ω p l e R s m args below meth c nL Q I k n pc L st := fun H locs ls hI hS hl => kk (h H hI) H locs ls hI hS hl
theorem GJ.wide {k' n' : Nat} (h1 : k ≤ k') (h2 : n ≤ n') (kk : GJ Ω p l e R s m args below meth c nL Q I k' n' pc L st) : GJ Ω p l e R s m args below meth c nL Q I k n pc L st := fun H locs ls hI hS hl => W.widen h1 h2 (kk H locs ls hI hS hl)
theorem GJ.atpc (h : pc0 = pc) (kk : GJ Ω p l e R s m args below meth c nL Q I k n pc L st) : GJ Ω p l e R s m args below meth c nL Q I k n pc0 L st := by subst h; exact kk
theorem GJ.stk {st' : List Value} (h : st = st') (kk : GJ Ω p l e R s m args below meth c nL Q I k n pc L st') : GJ Ω p l e R s m args below meth c nL Q I k n pc L st := by subst h; exact kk
theorem GJ.to {st' : List Value} {L' : List (Option Value)} (hp : pc0 = pc) (hL : L = L') (h : st = st') (kk : GJ Ω p l e R s m args below meth c nL Q I k n pc L' st') : GJ Ω p l e R s m args below meth c nL Q I k n pc0 L st := by subst h; subst hL; subst hp; exact kk
theorem lvo_weak {ls : Array Slot} {L L' : List (Option Value)} (h : ∀ (i : Nat) (v : Value), L'[i]? = some (some v) → L[i]? = some (some v)) (hl : lv_has ls nL (lvo 0 L)) : lv_has ls nL (lvo 0 L') := ⟨hl.1, hl.2.1, fun q hq => by
  obtain ⟨j, u⟩ := q
  have hq := ((lvo_mem _ 0 j u).mp hq).2
  exact hl.2.2 (j, u) ((lvo_mem L 0 j u).mpr ⟨Nat.zero_le _, h _ _ hq⟩)⟩
/-- forget what stands in the places that say none -/
def lvle : List (Option Value) → List (Option Value) → Prop
  | none :: r', _ :: r => lvle r' r
  | some v :: r', x :: r => x = some v ∧ lvle r' r
  | [], _ => True
  | _ :: _, [] => False
theorem lvle_at : ∀ {L' L : List (Option Value)}, lvle L' L → ∀ (i : Nat) (v : Value), L'[i]? = some (some v) → L[i]? = some (some v)
  | [], _, _, i, v, h => by simp at h
  | none :: r', x :: r, hh, i, v, h => by
    cases i with
    | zero => simp at h
    | succ i => rw [List.getElem?_cons_succ] at h ⊢; exact lvle_at (L' := r') (L := r) hh i v h
  | some u :: r', x :: r, hh, i, v, h => by
    cases i with
    | zero => rw [List.getElem?_cons_zero] at h ⊢; cases h; rw [hh.1]
    | succ i => rw [List.getElem?_cons_succ] at h ⊢; exact lvle_at (L' := r') (L := r) hh.2 i v h
  | _ :: _, [], hh, _, _, _ => by simp [lvle] at hh
theorem GJ.loc (L' : List (Option Value)) (h : lvle L' L) (kk : GJ Ω p l e R s m args below meth c nL Q I k n pc L' st) : GJ Ω p l e R s m args below meth c nL Q I k n pc L st := fun H locs ls hI hS hl => kk H locs ls hI hS (lvo_weak (lvle_at h) hl)

theorem g_iconst (X : Fx Ω p l s m args meth c own cc nL ret) {z : Int} {v : Int32} (d : decode cc pc = .ok (.iconst z, 1)) (hp : pc0 = pc) (hv : Int32.ofInt z = v) (kk : GJ Ω p l e R s m args below meth c nL Q I k n (pc + 1) L (.int v :: st)) : GJ Ω p l e R s m args below meth c nL Q I k n pc0 L st := by
  subst hp
  exact fun H locs ls hI hS hl => lv_iconst X.1 X.2.1 d hv (kk H locs ls hI hS hl)
theorem g_bipush (X : Fx Ω p l s m args meth c own cc nL ret) {z : Int} {v : Int32} (d : decode cc pc = .ok (.bipush z, 2)) (hp : pc0 = pc) (hv : (Int8.ofInt z).toInt32 = v) (kk : GJ Ω p l e R s m args below meth c nL Q I k n (pc + 2) L (.int v :: st)) : GJ Ω p l e R s m args below meth c nL Q I k n pc0 L st := by
  subst hp
  exact fun H locs ls hI hS hl => lv_bipush X.1 X.2.1 d hv (kk H locs ls hI hS hl)
theorem g_sipush (X : Fx Ω p l s m args meth c own cc nL ret) {z : Int} {v : Int32} (d : decode cc pc = .ok (.sipush z, 3)) (hp : pc0 = pc) (hv : (Int16.ofInt z).toInt32 = v) (kk : GJ Ω p l e R s m args below meth c nL Q I k n (pc + 3) L (.int v :: st)) : GJ Ω p l e R s m args below meth c nL Q I k n pc0 L st := by
  subst hp
  exact fun H locs ls hI hS hl => lv_sipush X.1 X.2.1 d hv (kk H locs ls hI hS hl)
theorem g_lconst (X : Fx Ω p l s m args meth c own cc nL ret) {z : Fin 2} {v : Int64} (d : decode cc pc = .ok (.lconst z, 1)) (hp : pc0 = pc) (hv : Int64.ofNat (z : Nat) = v) (kk : GJ Ω p l e R s m args below meth c nL Q I k n (pc + 1) L (.long v :: st)) : GJ Ω p l e R s m args below meth c nL Q I k n pc0 L st := by
  subst hp
  exact fun H locs ls hI hS hl => lv_lconst X.1 X.2.1 d hv (kk H locs ls hI hS hl)
theorem g_null (X : Fx Ω p l s m args meth c own cc nL ret)  (d : decode cc pc = .ok (.aconst_null, 1)) (hp : pc0 = pc)  (kk : GJ Ω p l e R s m args below meth c nL Q I k n (pc + 1) L (.null :: st)) : GJ Ω p l e R s m args below meth c nL Q I k n pc0 L st := by
  subst hp
  exact fun H locs ls hI hS hl => lv_null X.1 X.2.1 d (kk H locs ls hI hS hl)
theorem g_fconst0 (X : Fx Ω p l s m args meth c own cc nL ret)  (d : decode cc pc = .ok (.fconst 0, 1)) (hp : pc0 = pc)  (kk : GJ Ω p l e R s m args below meth c nL Q I k n (pc + 1) L (.float 0 :: st)) : GJ Ω p l e R s m args below meth c nL Q I k n pc0 L st := by
  subst hp
  exact fun H locs ls hI hS hl => lv_fconst0 X.1 X.2.1 d (kk H locs ls hI hS hl)
theorem g_dconst0 (X : Fx Ω p l s m args meth c own cc nL ret)  (d : decode cc pc = .ok (.dconst 0, 1)) (hp : pc0 = pc)  (kk : GJ Ω p l e R s m args below meth c nL Q I k n (pc + 1) L (.double 0 :: st)) : GJ Ω p l e R s m args below meth c nL Q I k n pc0 L st := by
  subst hp
  exact fun H locs ls hI hS hl => lv_dconst0 X.1 X.2.1 d (kk H locs ls hI hS hl)
theorem g_iload_n (X : Fx Ω p l s m args meth c own cc nL ret) {j : Fin 4} {x : Int32} (d : decode cc pc = .ok (.iload_n j, 1)) (hp : pc0 = pc) (hx : L[(j : Nat)]? = some (some (.int x))) (kk : GJ Ω p l e R s m args below meth c nL Q I k n (pc + 1) L (.int x :: st)) : GJ Ω p l e R s m args below meth c nL Q I k n pc0 L st := by
  subst hp
  exact fun H locs ls hI hS hl => lv_iload_n X.1 X.2.1 d rfl (lvo_at hl hx) (kk H locs ls hI hS hl)
theorem g_iload (X : Fx Ω p l s m args meth c own cc nL ret) {j : Nat} {x : Int32} (d : decode cc pc = .ok (.iload j, 2)) (hp : pc0 = pc) (hx : L[j]? = some (some (.int x))) (kk : GJ Ω p l e R s m args below meth c nL Q I k n (pc + 2) L (.int x :: st)) : GJ Ω p l e R s m args below meth c nL Q I k n pc0 L st := by
  subst hp
  exact fun H locs ls hI hS hl => lv_iload X.1 X.2.1 d (lvo_at hl hx) (kk H locs ls hI hS hl)
theorem g_fload_n (X : Fx Ω p l s m args meth c own cc nL ret) {j : Fin 4} {x : UInt32} (d : decode cc pc = .ok (.fload_n j, 1)) (hp : pc0 = pc) (hx : L[(j : Nat)]? = some (some (.float x))) (kk : GJ Ω p l e R s m args below meth c nL Q I k n (pc + 1) L (.float x :: st)) : GJ Ω p l e R s m args below meth c nL Q I k n pc0 L st := by
  subst hp
  exact fun H locs ls hI hS hl => lv_fload_n X.1 X.2.1 d rfl (lvo_at hl hx) (kk H locs ls hI hS hl)
theorem g_fload (X : Fx Ω p l s m args meth c own cc nL ret) {j : Nat} {x : UInt32} (d : decode cc pc = .ok (.fload j, 2)) (hp : pc0 = pc) (hx : L[j]? = some (some (.float x))) (kk : GJ Ω p l e R s m args below meth c nL Q I k n (pc + 2) L (.float x :: st)) : GJ Ω p l e R s m args below meth c nL Q I k n pc0 L st := by
  subst hp
  exact fun H locs ls hI hS hl => lv_fload X.1 X.2.1 d (lvo_at hl hx) (kk H locs ls hI hS hl)
theorem g_dload_n (X : Fx Ω p l s m args meth c own cc nL ret) {j : Fin 4} {x : UInt64} (d : decode cc pc = .ok (.dload_n j, 1)) (hp : pc0 = pc) (hx : L[(j : Nat)]? = some (some (.double x))) (kk : GJ Ω p l e R s m args below meth c nL Q I k n (pc + 1) L (.double x :: st)) : GJ Ω p l e R s m args below meth c nL Q I k n pc0 L st := by
  subst hp
  exact fun H locs ls hI hS hl => lv_dload_n X.1 X.2.1 d rfl (lvo_at hl hx) (kk H locs ls hI hS hl)
theorem g_dload (X : Fx Ω p l s m args meth c own cc nL ret) {j : Nat} {x : UInt64} (d : decode cc pc = .ok (.dload j, 2)) (hp : pc0 = pc) (hx : L[j]? = some (some (.double x))) (kk : GJ Ω p l e R s m args below meth c nL Q I k n (pc + 2) L (.double x :: st)) : GJ Ω p l e R s m args below meth c nL Q I k n pc0 L st := by
  subst hp
  exact fun H locs ls hI hS hl => lv_dload X.1 X.2.1 d (lvo_at hl hx) (kk H locs ls hI hS hl)
theorem g_lload_n (X : Fx Ω p l s m args meth c own cc nL ret) {j : Fin 4} {x : Int64} (d : decode cc pc = .ok (.lload_n j, 1)) (hp : pc0 = pc) (hx : L[(j : Nat)]? = some (some (.long x))) (kk : GJ Ω p l e R s m args below meth c nL Q I k n (pc + 1) L (.long x :: st)) : GJ Ω p l e R s m args below meth c nL Q I k n pc0 L st := by
  subst hp
  exact fun H locs ls hI hS hl => lv_lload_n X.1 X.2.1 d rfl (lvo_at hl hx) (kk H locs ls hI hS hl)
theorem g_lload (X : Fx Ω p l s m args meth c own cc nL ret) {j : Nat} {x : Int64} (d : decode cc pc = .ok (.lload j, 2)) (hp : pc0 = pc) (hx : L[j]? = some (some (.long x))) (kk : GJ Ω p l e R s m args below meth c nL Q I k n (pc + 2) L (.long x :: st)) : GJ Ω p l e R s m args below meth c nL Q I k n pc0 L st := by
  subst hp
  exact fun H locs ls hI hS hl => lv_lload X.1 X.2.1 d (lvo_at hl hx) (kk H locs ls hI hS hl)
theorem g_aload_n (X : Fx Ω p l s m args meth c own cc nL ret) {j : Fin 4} {x : Nat} (d : decode cc pc = .ok (.aload_n j, 1)) (hp : pc0 = pc) (hx : L[(j : Nat)]? = some (some (.ref x))) (kk : GJ Ω p l e R s m args below meth c nL Q I k n (pc + 1) L (.ref x :: st)) : GJ Ω p l e R s m args below meth c nL Q I k n pc0 L st := by
  subst hp
  exact fun H locs ls hI hS hl => lv_aload_n X.1 X.2.1 d rfl (lvo_at hl hx) (kk H locs ls hI hS hl)
theorem g_aload (X : Fx Ω p l s m args meth c own cc nL ret) {j : Nat} {x : Nat} (d : decode cc pc = .ok (.aload j, 2)) (hp : pc0 = pc) (hx : L[j]? = some (some (.ref x))) (kk : GJ Ω p l e R s m args below meth c nL Q I k n (pc + 2) L (.ref x :: st)) : GJ Ω p l e R s m args below meth c nL Q I k n pc0 L st := by
  subst hp
  exact fun H locs ls hI hS hl => lv_aload X.1 X.2.1 d (lvo_at hl hx) (kk H locs ls hI hS hl)
theorem g_aload_nN (X : Fx Ω p l s m args meth c own cc nL ret) {j : Fin 4} (d : decode cc pc = .ok (.aload_n j, 1)) (hp : pc0 = pc) (hx : L[(j : Nat)]? = some (some .null)) (kk : GJ Ω p l e R s m args below meth c nL Q I k n (pc + 1) L (.null :: st)) : GJ Ω p l e R s m args below meth c nL Q I k n pc0 L st := by
  subst hp
  exact fun H locs ls hI hS hl => lv_aload_nN X.1 X.2.1 d rfl (lvo_at hl hx) (kk H locs ls hI hS hl)
theorem g_aloadN (X : Fx Ω p l s m args meth c own cc nL ret) {j : Nat} (d : decode cc pc = .ok (.aload j, 2)) (hp : pc0 = pc) (hx : L[j]? = some (some .null)) (kk : GJ Ω p l e R s m args below meth c nL Q I k n (pc + 2) L (.null :: st)) : GJ Ω p l e R s m args below meth c nL Q I k n pc0 L st := by
  subst hp
  exact fun H locs ls hI hS hl => lv_aloadN X.1 X.2.1 d (lvo_at hl hx) (kk H locs ls hI hS hl)
theorem g_aload_nq (X : Fx Ω p l s m args meth c own cc nL ret) {j : Fin 4} {x : Option Nat} (d : decode cc pc = .ok (.aload_n j, 1)) (hp : pc0 = pc) (hx : L[(j : Nat)]? = some (some (va_rf x))) (kk : GJ Ω p l e R s m args below meth c nL Q I k n (pc + 1) L (va_rf x :: st)) : GJ Ω p l e R s m args below meth c nL Q I k n pc0 L st := by
  subst hp
  intro H locs ls hI hS hl
  cases x with
  | none => exact lv_aload_nN X.1 X.2.1 d rfl (lvo_at hl hx) (kk H locs ls hI hS hl)
  | some x => exact lv_aload_n X.1 X.2.1 d rfl (lvo_at hl hx) (kk H locs ls hI hS hl)
theorem g_aloadq (X : Fx Ω p l s m args meth c own cc nL ret) {j : Nat} {x : Option Nat} (d : decode cc pc = .ok (.aload j, 2)) (hp : pc0 = pc) (hx : L[j]? = some (some (va_rf x))) (kk : GJ Ω p l e R s m args below meth c nL Q I k n (pc + 2) L (va_rf x :: st)) : GJ Ω p l e R s m args below meth c nL Q I k n pc0 L st := by
  subst hp
  intro H locs ls hI hS hl
  cases x with
  | none => exact lv_aloadN X.1 X.2.1 d (lvo_at hl hx) (kk H locs ls hI hS hl)
  | some x => exact lv_aload X.1 X.2.1 d (lvo_at hl hx) (kk H locs ls hI hS hl)
theorem g_istore_n (X : Fx Ω p l s m args meth c own cc nL ret) {j : Fin 4} {x : Int32} {L' : List (Option Value)} (d : decode cc pc = .ok (.istore_n j, 1)) (hp : pc0 = pc) (hn : (j : Nat) < nL) (hok : okst L (j : Nat) = true) (hL : (L.set (j : Nat) (some (.int x))) = L') (kk : GJ Ω p l e R s m args below meth c nL Q I k n (pc + 1) L' st) : GJ Ω p l e R s m args below meth c nL Q I k n pc0 L (.int x :: st) := by
  subst hp
  subst hL
  exact fun H locs ls hI hS hl => lv_istore_n X.1 X.2.1 d rfl hl hn rfl (fun ls1 hl1 => kk H locs ls1 hI hS (lvo_set1 hok hl1))
theorem g_istore (X : Fx Ω p l s m args meth c own cc nL ret) {j : Nat} {x : Int32} {L' : List (Option Value)} (d : decode cc pc = .ok (.istore j, 2)) (hp : pc0 = pc) (hn : j < nL) (hok : okst L j = true) (hL : (L.set j (some (.int x))) = L') (kk : GJ Ω p l e R s m args below meth c nL Q I k n (pc + 2) L' st) : GJ Ω p l e R s m args below meth c nL Q I k n pc0 L (.int x :: st) := by
  subst hp
  subst hL
  exact fun H locs ls hI hS hl => lv_istore X.1 X.2.1 d hl hn rfl (fun ls1 hl1 => kk H locs ls1 hI hS (lvo_set1 hok hl1))
theorem g_fstore_n (X : Fx Ω p l s m args meth c own cc nL ret) {j : Fin 4} {x : UInt32} {L' : List (Option Value)} (d : decode cc pc = .ok (.fstore_n j, 1)) (hp : pc0 = pc) (hn : (j : Nat) < nL) (hok : okst L (j : Nat) = true) (hL : (L.set (j : Nat) (some (.float x))) = L') (kk : GJ Ω p l e R s m args below meth c nL Q I k n (pc + 1) L' st) : GJ Ω p l e R s m args below meth c nL Q I k n pc0 L (.float x :: st) := by
  subst hp
  subst hL
  exact fun H locs ls hI hS hl => lv_fstore_n X.1 X.2.1 d rfl hl hn rfl (fun ls1 hl1 => kk H locs ls1 hI hS (lvo_set1 hok hl1))
theorem g_fstore (X : Fx Ω p l s m args meth c own cc nL ret) {j : Nat} {x : UInt32} {L' : List (Option Value)} (d : decode cc pc = .ok (.fstore j, 2)) (hp : pc0 = pc) (hn : j < nL) (hok : okst L j = true) (hL : (L.set j (some (.float x))) = L') (kk : GJ Ω p l e R s m args below meth c nL Q I k n (pc + 2) L' st) : GJ Ω p l e R s m args below meth c nL Q I k n pc0 L (.float x :: st) := by
  subst hp
  subst hL
  exact fun H locs ls hI hS hl => lv_fstore X.1 X.2.1 d hl hn rfl (fun ls1 hl1 => kk H locs ls1 hI hS (lvo_set1 hok hl1))
theorem g_dstore_n (X : Fx Ω p l s m args meth c own cc nL ret) {j : Fin 4} {x : UInt64} {L' : List (Option Value)} (d : decode cc pc = .ok (.dstore_n j, 1)) (hp : pc0 = pc) (hn : (j : Nat) + 1 < nL) (hok : okst L (j : Nat) = true) (hL : ((L.set (j : Nat) (some (.double x))).set ((j : Nat) + 1) none) = L') (kk : GJ Ω p l e R s m args below meth c nL Q I k n (pc + 1) L' st) : GJ Ω p l e R s m args below meth c nL Q I k n pc0 L (.double x :: st) := by
  subst hp
  subst hL
  exact fun H locs ls hI hS hl => lv_dstore_n X.1 X.2.1 d rfl hl hn rfl (fun ls1 hl1 => kk H locs ls1 hI hS (lvo_set2 hok hl1))
theorem g_dstore (X : Fx Ω p l s m args meth c own cc nL ret) {j : Nat} {x : UInt64} {L' : List (Option Value)} (d : decode cc pc = .ok (.dstore j, 2)) (hp : pc0 = pc) (hn : j + 1 < nL) (hok : okst L j = true) (hL : ((L.set j (some (.double x))).set (j + 1) none) = L') (kk : GJ Ω p l e R s m args below meth c nL Q I k n (pc + 2) L' st) : GJ Ω p l e R s m args below meth c nL Q I k n pc0 L (.double x :: st) := by
  subst hp
  subst hL
  exact fun H locs ls hI hS hl => lv_dstore X.1 X.2.1 d hl hn rfl (fun ls1 hl1 => kk H locs ls1 hI hS (lvo_set2 hok hl1))
theorem g_lstore_n (X : Fx Ω p l s m args meth c own cc nL ret) {j : Fin 4} {x : Int64} {L' : List (Option Value)} (d : decode cc pc = .ok (.lstore_n j, 1)) (hp : pc0 = pc) (hn : (j : Nat) + 1 < nL) (hok : okst L (j : Nat) = true) (hL : ((L.set (j : Nat) (some (.long x))).set ((j : Nat) + 1) none) = L') (kk : GJ Ω p l e R s m args below meth c nL Q I k n (pc + 1) L' st) : GJ Ω p l e R s m args below meth c nL Q I k n pc0 L (.long x :: st) := by
  subst hp
  subst hL
  exact fun H locs ls hI hS hl => lv_lstore_n X.1 X.2.1 d rfl hl hn rfl (fun ls1 hl1 => kk H locs ls1 hI hS (lvo_set2 hok hl1))
theorem g_lstore (X : Fx Ω p l s m args meth c own cc nL ret) {j : Nat} {x : Int64} {L' : List (Option Value)} (d : decode cc pc = .ok (.lstore j, 2)) (hp : pc0 = pc) (hn : j + 1 < nL) (hok : okst L j = true) (hL : ((L.set j (some (.long x))).set (j + 1) none) = L') (kk : GJ Ω p l e R s m args below meth c nL Q I k n (pc + 2) L' st) : GJ Ω p l e R s m args below meth c nL Q I k n pc0 L (.long x :: st) := by
  subst hp
  subst hL
  exact fun H locs ls hI hS hl => lv_lstore X.1 X.2.1 d hl hn rfl (fun ls1 hl1 => kk H locs ls1 hI hS (lvo_set2 hok hl1))
theorem g_astore_n (X : Fx Ω p l s m args meth c own cc nL ret) {j : Fin 4} {x : Nat} {L' : List (Option Value)} (d : decode cc pc = .ok (.astore_n j, 1)) (hp : pc0 = pc) (hn : (j : Nat) < nL) (hok : okst L (j : Nat) = true) (hL : (L.set (j : Nat) (some (.ref x))) = L') (kk : GJ Ω p l e R s m args below meth c nL Q I k n (pc + 1) L' st) : GJ Ω p l e R s m args below meth c nL Q I k n pc0 L (.ref x :: st) := by
  subst hp
  subst hL
  exact fun H locs ls hI hS hl => lv_astore_n X.1 X.2.1 d rfl hl hn rfl (fun ls1 hl1 => kk H locs ls1 hI hS (lvo_set1 hok hl1))
theorem g_astore (X : Fx Ω p l s m args meth c own cc nL ret) {j : Nat} {x : Nat} {L' : List (Option Value)} (d : decode cc pc = .ok (.astore j, 2)) (hp : pc0 = pc) (hn : j < nL) (hok : okst L j = true) (hL : (L.set j (some (.ref x))) = L') (kk : GJ Ω p l e R s m args below meth c nL Q I k n (pc + 2) L' st) : GJ Ω p l e R s m args below meth c nL Q I k n pc0 L (.ref x :: st) := by
  subst hp
  subst hL
  exact fun H locs ls hI hS hl => lv_astore X.1 X.2.1 d hl hn rfl (fun ls1 hl1 => kk H locs ls1 hI hS (lvo_set1 hok hl1))
theorem g_astore_nN (X : Fx Ω p l s m args meth c own cc nL ret) {j : Fin 4} {L' : List (Option Value)} (d : decode cc pc = .ok (.astore_n j, 1)) (hp : pc0 = pc) (hn : (j : Nat) < nL) (hok : okst L (j : Nat) = true) (hL : (L.set (j : Nat) (some .null)) = L') (kk : GJ Ω p l e R s m args below meth c nL Q I k n (pc + 1) L' st) : GJ Ω p l e R s m args below meth c nL Q I k n pc0 L (.null :: st) := by
  subst hp
  subst hL
  exact fun H locs ls hI hS hl => lv_astore_nN X.1 X.2.1 d rfl hl hn rfl (fun ls1 hl1 => kk H locs ls1 hI hS (lvo_set1 hok hl1))
theorem g_astoreN (X : Fx Ω p l s m args meth c own cc nL ret) {j : Nat} {L' : List (Option Value)} (d : decode cc pc = .ok (.astore j, 2)) (hp : pc0 = pc) (hn : j < nL) (hok : okst L j = true) (hL : (L.set j (some .null)) = L') (kk : GJ Ω p l e R s m args below meth c nL Q I k n (pc + 2) L' st) : GJ Ω p l e R s m args below meth c nL Q I k n pc0 L (.null :: st) := by
  subst hp
  subst hL
  exact fun H locs ls hI hS hl => lv_astoreN X.1 X.2.1 d hl hn rfl (fun ls1 hl1 => kk H locs ls1 hI hS (lvo_set1 hok hl1))
theorem g_astore_nq (X : Fx Ω p l s m args meth c own cc nL ret) {j : Fin 4} {x : Option Nat} {L' : List (Option Value)} (d : decode cc pc = .ok (.astore_n j, 1)) (hp : pc0 = pc) (hn : (j : Nat) < nL) (hok : okst L (j : Nat) = true) (hL : (L.set (j : Nat) (some (va_rf x))) = L') (kk : GJ Ω p l e R s m args below meth c nL Q I k n (pc + 1) L' st) : GJ Ω p l e R s m args below meth c nL Q I k n pc0 L (va_rf x :: st) := by
  subst hp
  subst hL
  intro H locs ls hI hS hl
  cases x with
  | none => exact lv_astore_nN X.1 X.2.1 d rfl hl hn rfl (fun ls1 hl1 => kk H locs ls1 hI hS (lvo_set1 hok hl1))
  | some x => exact lv_astore_n X.1 X.2.1 d rfl hl hn rfl (fun ls1 hl1 => kk H locs ls1 hI hS (lvo_set1 hok hl1))
theorem g_astoreq (X : Fx Ω p l s m args meth c own cc nL ret) {j : Nat} {x : Option Nat} {L' : List (Option Value)} (d : decode cc pc = .ok (.astore j, 2)) (hp : pc0 = pc) (hn : j < nL) (hok : okst L j = true) (hL : (L.set j (some (va_rf x))) = L') (kk : GJ Ω p l e R s m args below meth c nL Q I k n (pc + 2) L' st) : GJ Ω p l e R s m args below meth c nL Q I k n pc0 L (va_rf x :: st) := by
  subst hp
  subst hL
  intro H locs ls hI hS hl
  cases x with
  | none => exact lv_astoreN X.1 X.2.1 d hl hn rfl (fun ls1 hl1 => kk H locs ls1 hI hS (lvo_set1 hok hl1))
  | some x => exact lv_astore X.1 X.2.1 d hl hn rfl (fun ls1 hl1 => kk H locs ls1 hI hS (lvo_set1 hok hl1))
theorem g_iinc (X : Fx Ω p l s m args meth c own cc nL ret) {j : Nat} {z : Int} {x v : Int32} {L' : List (Option Value)} (d : decode cc pc = .ok (.iinc j z, 3)) (hp : pc0 = pc) (hx : L[j]? = some (some (.int x))) (hv : x + Int32.ofInt z = v) (hn : j < nL) (hok : okst L j = true) (hL : (L.set j (some (.int v))) = L') (kk : GJ Ω p l e R s m args below meth c nL Q I k n (pc + 3) L' st) : GJ Ω p l e R s m args below meth c nL Q I k n pc0 L st := by
  subst hp
  subst hL
  intro H locs ls hI hS hl
  obtain ⟨i, hi⟩ := List.getElem?_of_mem ((lvo_mem L 0 j (.int x)).mpr ⟨Nat.zero_le _, hx⟩)
  exact lv_iinc X.1 X.2.1 d hl (k := i) hi hv hn rfl (fun ls1 hl1 => kk H locs ls1 hI hS (lvo_set1 hok hl1))
theorem g_iadd (X : Fx Ω p l s m args meth c own cc nL ret) {x y z : Int32} (d : decode cc pc = .ok (.iadd, 1)) (hp : pc0 = pc) (hv : x + y = z) (kk : GJ Ω p l e R s m args below meth c nL Q I k n (pc + 1) L (.int z :: st)) : GJ Ω p l e R s m args below meth c nL Q I k n pc0 L (.int y :: .int x :: st) := by
  subst hp
  subst hv
  exact fun H locs ls hI hS hl => lv_iadd X.1 X.2.1 d (kk H locs ls hI hS hl)
theorem g_isub (X : Fx Ω p l s m args meth c own cc nL ret) {x y z : Int32} (d : decode cc pc = .ok (.isub, 1)) (hp : pc0 = pc) (hv : x - y = z) (kk : GJ Ω p l e R s m args below meth c nL Q I k n (pc + 1) L (.int z :: st)) : GJ Ω p l e R s m args below meth c nL Q I k n pc0 L (.int y :: .int x :: st) := by
  subst hp
  subst hv
  exact fun H locs ls hI hS hl => lv_isub X.1 X.2.1 d (kk H locs ls hI hS hl)
theorem g_imul (X : Fx Ω p l s m args meth c own cc nL ret) {x y z : Int32} (d : decode cc pc = .ok (.imul, 1)) (hp : pc0 = pc) (hv : x * y = z) (kk : GJ Ω p l e R s m args below meth c nL Q I k n (pc + 1) L (.int z :: st)) : GJ Ω p l e R s m args below meth c nL Q I k n pc0 L (.int y :: .int x :: st) := by
  subst hp
  subst hv
  exact fun H locs ls hI hS hl => lv_imul X.1 X.2.1 d (kk H locs ls hI hS hl)
theorem g_iand (X : Fx Ω p l s m args meth c own cc nL ret) {x y z : Int32} (d : decode cc pc = .ok (.iand, 1)) (hp : pc0 = pc) (hv : x &&& y = z) (kk : GJ Ω p l e R s m args below meth c nL Q I k n (pc + 1) L (.int z :: st)) : GJ Ω p l e R s m args below meth c nL Q I k n pc0 L (.int y :: .int x :: st) := by
  subst hp
  subst hv
  exact fun H locs ls hI hS hl => lv_iand X.1 X.2.1 d (kk H locs ls hI hS hl)
theorem g_ior (X : Fx Ω p l s m args meth c own cc nL ret) {x y z : Int32} (d : decode cc pc = .ok (.ior, 1)) (hp : pc0 = pc) (hv : x ||| y = z) (kk : GJ Ω p l e R s m args below meth c nL Q I k n (pc + 1) L (.int z :: st)) : GJ Ω p l e R s m args below meth c nL Q I k n pc0 L (.int y :: .int x :: st) := by
  subst hp
  subst hv
  exact fun H locs ls hI hS hl => lv_ior X.1 X.2.1 d (kk H locs ls hI hS hl)
theorem g_ixor (X : Fx Ω p l s m args meth c own cc nL ret) {x y z : Int32} (d : decode cc pc = .ok (.ixor, 1)) (hp : pc0 = pc) (hv : x ^^^ y = z) (kk : GJ Ω p l e R s m args below meth c nL Q I k n (pc + 1) L (.int z :: st)) : GJ Ω p l e R s m args below meth c nL Q I k n pc0 L (.int y :: .int x :: st) := by
  subst hp
  subst hv
  exact fun H locs ls hI hS hl => lv_ixor X.1 X.2.1 d (kk H locs ls hI hS hl)
theorem g_idiv (X : Fx Ω p l s m args meth c own cc nL ret) {x y z : Int32} (d : decode cc pc = .ok (.idiv, 1)) (hp : pc0 = pc) (hy : ¬ y = 0) (hv : x / y = z) (kk : GJ Ω p l e R s m args below meth c nL Q I k n (pc + 1) L (.int z :: st)) : GJ Ω p l e R s m args below meth c nL Q I k n pc0 L (.int y :: .int x :: st) := by
  subst hp
  subst hv
  exact fun H locs ls hI hS hl => lv_idiv X.1 X.2.1 d hy (kk H locs ls hI hS hl)
theorem g_irem (X : Fx Ω p l s m args meth c own cc nL ret) {x y z : Int32} (d : decode cc pc = .ok (.irem, 1)) (hp : pc0 = pc) (hy : ¬ y = 0) (hv : x - x / y * y = z) (kk : GJ Ω p l e R s m args below meth c nL Q I k n (pc + 1) L (.int z :: st)) : GJ Ω p l e R s m args below meth c nL Q I k n pc0 L (.int y :: .int x :: st) := by
  subst hp
  subst hv
  exact fun H locs ls hI hS hl => lv_irem X.1 X.2.1 d hy (kk H locs ls hI hS hl)
theorem g_ineg (X : Fx Ω p l s m args meth c own cc nL ret) {x z : Int32} (d : decode cc pc = .ok (.ineg, 1)) (hp : pc0 = pc) (hv : -x = z) (kk : GJ Ω p l e R s m args below meth c nL Q I k n (pc + 1) L (.int z :: st)) : GJ Ω p l e R s m args below meth c nL Q I k n pc0 L (.int x :: st) := by
  subst hp
  subst hv
  exact fun H locs ls hI hS hl => lv_ineg X.1 X.2.1 d (kk H locs ls hI hS hl)
theorem g_ishl (X : Fx Ω p l s m args meth c own cc nL ret) {x y z : Int32} (d : decode cc pc = .ok (.ishl, 1)) (hp : pc0 = pc) (hv : x <<< (y &&& 31) = z) (kk : GJ Ω p l e R s m args below meth c nL Q I k n (pc + 1) L (.int z :: st)) : GJ Ω p l e R s m args below meth c nL Q I k n pc0 L (.int y :: .int x :: st) := by
  subst hp
  subst hv
  exact fun H locs ls hI hS hl => lv_ishl X.1 X.2.1 d (kk H locs ls hI hS hl)
theorem g_ishr (X : Fx Ω p l s m args meth c own cc nL ret) {x y z : Int32} (d : decode cc pc = .ok (.ishr, 1)) (hp : pc0 = pc) (hv : x >>> (y &&& 31) = z) (kk : GJ Ω p l e R s m args below meth c nL Q I k n (pc + 1) L (.int z :: st)) : GJ Ω p l e R s m args below meth c nL Q I k n pc0 L (.int y :: .int x :: st) := by
  subst hp
  subst hv
  exact fun H locs ls hI hS hl => lv_ishr X.1 X.2.1 d (kk H locs ls hI hS hl)
theorem g_iushr (X : Fx Ω p l s m args meth c own cc nL ret) {x y z : Int32} (d : decode cc pc = .ok (.iushr, 1)) (hp : pc0 = pc) (hv : (x.toUInt32 >>> (y.toUInt32 &&& Int32.toUInt32 31)).toInt32 = z) (kk : GJ Ω p l e R s m args below meth c nL Q I k n (pc + 1) L (.int z :: st)) : GJ Ω p l e R s m args below meth c nL Q I k n pc0 L (.int y :: .int x :: st) := by
  subst hp
  exact fun H locs ls hI hS hl => lv_iushr X.1 X.2.1 d hv (kk H locs ls hI hS hl)
theorem g_i2l (X : Fx Ω p l s m args meth c own cc nL ret) {x : Int32} {z : Int64} (d : decode cc pc = .ok (.i2l, 1)) (hp : pc0 = pc) (hv : x.toInt64 = z) (kk : GJ Ω p l e R s m args below meth c nL Q I k n (pc + 1) L (.long z :: st)) : GJ Ω p l e R s m args below meth c nL Q I k n pc0 L (.int x :: st) := by
  subst hp
  exact fun H locs ls hI hS hl => lv_i2l X.1 X.2.1 d hv (kk H locs ls hI hS hl)
theorem g_i2b (X : Fx Ω p l s m args meth c own cc nL ret) {x z : Int32} (d : decode cc pc = .ok (.i2b, 1)) (hp : pc0 = pc) (hv : x.toInt8.toInt32 = z) (kk : GJ Ω p l e R s m args below meth c nL Q I k n (pc + 1) L (.int z :: st)) : GJ Ω p l e R s m args below meth c nL Q I k n pc0 L (.int x :: st) := by
  subst hp
  exact fun H locs ls hI hS hl => lv_i2b X.1 X.2.1 d hv (kk H locs ls hI hS hl)
theorem g_i2c (X : Fx Ω p l s m args meth c own cc nL ret) {x z : Int32} (d : decode cc pc = .ok (.i2c, 1)) (hp : pc0 = pc) (hv : (x.toUInt32 % 65536).toInt32 = z) (kk : GJ Ω p l e R s m args below meth c nL Q I k n (pc + 1) L (.int z :: st)) : GJ Ω p l e R s m args below meth c nL Q I k n pc0 L (.int x :: st) := by
  subst hp
  exact fun H locs ls hI hS hl => lv_i2c X.1 X.2.1 d hv (kk H locs ls hI hS hl)
theorem g_i2f (X : Fx Ω p l s m args meth c own cc nL ret) {x : Int32} (d : decode cc pc = .ok (.i2f, 1)) (hp : pc0 = pc)  (kk : GJ Ω p l e R s m args below meth c nL Q I k n (pc + 1) L (.float (FP.i2f x) :: st)) : GJ Ω p l e R s m args below meth c nL Q I k n pc0 L (.int x :: st) := by
  subst hp
  exact fun H locs ls hI hS hl => lv_i2f X.1 X.2.1 d (kk H locs ls hI hS hl)
theorem g_i2d (X : Fx Ω p l s m args meth c own cc nL ret) {x : Int32} (d : decode cc pc = .ok (.i2d, 1)) (hp : pc0 = pc)  (kk : GJ Ω p l e R s m args below meth c nL Q I k n (pc + 1) L (.double (FP.i2d x) :: st)) : GJ Ω p l e R s m args below meth c nL Q I k n pc0 L (.int x :: st) := by
  subst hp
  exact fun H locs ls hI hS hl => lv_i2d X.1 X.2.1 d (kk H locs ls hI hS hl)
theorem g_f2d (X : Fx Ω p l s m args meth c own cc nL ret) {x : UInt32} (d : decode cc pc = .ok (.f2d, 1)) (hp : pc0 = pc) (hne : vf_n64 (FP.f2d x)) (kk : GJ Ω p l e R s m args below meth c nL Q I k n (pc + 1) L (.double (FP.f2d x) :: st)) : GJ Ω p l e R s m args below meth c nL Q I k n pc0 L (.float x :: st) := by
  subst hp
  exact fun H locs ls hI hS hl => lv_f2d X.1 X.2.1 d hne (kk H locs ls hI hS hl)
theorem g_fdiv (X : Fx Ω p l s m args meth c own cc nL ret) {x y : UInt32} (d : decode cc pc = .ok (.fdiv, 1)) (hp : pc0 = pc) (hne : vf_n32 (FP.fdiv x y)) (kk : GJ Ω p l e R s m args below meth c nL Q I k n (pc + 1) L (.float (FP.fdiv x y) :: st)) : GJ Ω p l e R s m args below meth c nL Q I k n pc0 L (.float y :: .float x :: st) := by
  subst hp
  exact fun H locs ls hI hS hl => lv_fdiv X.1 X.2.1 d hne (kk H locs ls hI hS hl)
theorem g_ddiv (X : Fx Ω p l s m args meth c own cc nL ret) {x y : UInt64} (d : decode cc pc = .ok (.ddiv, 1)) (hp : pc0 = pc) (hne : vf_n64 (FP.ddiv x y)) (kk : GJ Ω p l e R s m args below meth c nL Q I k n (pc + 1) L (.double (FP.ddiv x y) :: st)) : GJ Ω p l e R s m args below meth c nL Q I k n pc0 L (.double y :: .double x :: st) := by
  subst hp
  exact fun H locs ls hI hS hl => lv_ddiv X.1 X.2.1 d hne (kk H locs ls hI hS hl)
theorem g_dcmp (X : Fx Ω p l s m args meth c own cc nL ret) {x y : UInt64} {op : CmpOp} (d : decode cc pc = .ok (.dcmp op, 1)) (hp : pc0 = pc)  (kk : GJ Ω p l e R s m args below meth c nL Q I k n (pc + 1) L (.int (Op.cmpValue (FP.dcmp x y) op) :: st)) : GJ Ω p l e R s m args below meth c nL Q I k n pc0 L (.double y :: .double x :: st) := by
  subst hp
  exact fun H locs ls hI hS hl => lv_dcmp X.1 X.2.1 d (kk H locs ls hI hS hl)
theorem g_fcmp (X : Fx Ω p l s m args meth c own cc nL ret) {x y : UInt32} {op : CmpOp} (d : decode cc pc = .ok (.fcmp op, 1)) (hp : pc0 = pc)  (kk : GJ Ω p l e R s m args below meth c nL Q I k n (pc + 1) L (.int (Op.cmpValue (FP.fcmp x y) op) :: st)) : GJ Ω p l e R s m args below meth c nL Q I k n pc0 L (.float y :: .float x :: st) := by
  subst hp
  exact fun H locs ls hI hS hl => lv_fcmp X.1 X.2.1 d (kk H locs ls hI hS hl)
theorem g_dup (X : Fx Ω p l s m args meth c own cc nL ret) {a : Value} (d : decode cc pc = .ok (.dup, 1)) (hp : pc0 = pc) (ha : a.category = 1) (kk : GJ Ω p l e R s m args below meth c nL Q I k n (pc + 1) L (a :: a :: st)) : GJ Ω p l e R s m args below meth c nL Q I k n pc0 L (a :: st) := by
  subst hp
  exact fun H locs ls hI hS hl => lv_dup X.1 X.2.1 d ha (kk H locs ls hI hS hl)
theorem g_pop (X : Fx Ω p l s m args meth c own cc nL ret) {a : Value} (d : decode cc pc = .ok (.pop, 1)) (hp : pc0 = pc) (ha : a.category = 1) (kk : GJ Ω p l e R s m args below meth c nL Q I k n (pc + 1) L st) : GJ Ω p l e R s m args below meth c nL Q I k n pc0 L (a :: st) := by
  subst hp
  exact fun H locs ls hI hS hl => lv_pop X.1 X.2.1 d ha (kk H locs ls hI hS hl)
theorem g_dup_x1 (X : Fx Ω p l s m args meth c own cc nL ret) {a b : Value} (d : decode cc pc = .ok (.dup_x1, 1)) (hp : pc0 = pc) (ha : a.category = 1) (hb : b.category = 1) (kk : GJ Ω p l e R s m args below meth c nL Q I k n (pc + 1) L (a :: b :: a :: st)) : GJ Ω p l e R s m args below meth c nL Q I k n pc0 L (a :: b :: st) := by
  subst hp
  exact fun H locs ls hI hS hl => lv_dup_x1 X.1 X.2.1 d ha hb (kk H locs ls hI hS hl)
theorem g_dup2 (X : Fx Ω p l s m args meth c own cc nL ret) {a b : Value} (d : decode cc pc = .ok (.dup2, 1)) (hp : pc0 = pc) (ha : a.category = 1) (hb : b.category = 1) (kk : GJ Ω p l e R s m args below meth c nL Q I k n (pc + 1) L (a :: b :: a :: b :: st)) : GJ Ω p l e R s m args below meth c nL Q I k n pc0 L (a :: b :: st) := by
  subst hp
  exact fun H locs ls hI hS hl => lv_dup2_11 X.1 X.2.1 d ha hb (kk H locs ls hI hS hl)
theorem g_if_eq (X : Fx Ω p l s m args meth c own cc nL ret) {x : Int32} {off : Int} {tgt : Nat} (d : decode cc pc = .ok (.ifCond .eq off, 3)) (hp : pc0 = pc) (ht : (pc : Int) + off = (tgt : Int)) (kt : x = 0 → GJ Ω p l e R s m args below meth c nL Q I k n tgt L st) (kf : ¬ x = 0 → GJ Ω p l e R s m args below meth c nL Q I k n (pc + 3) L st) : GJ Ω p l e R s m args below meth c nL Q I k n pc0 L (.int x :: st) := by
  subst hp
  exact fun H locs ls hI hS hl => lv_if_eq X.1 X.2.1 d ht (fun h => kt h H locs ls hI hS hl) (fun h => kf h H locs ls hI hS hl)
theorem g_if_ne (X : Fx Ω p l s m args meth c own cc nL ret) {x : Int32} {off : Int} {tgt : Nat} (d : decode cc pc = .ok (.ifCond .ne off, 3)) (hp : pc0 = pc) (ht : (pc : Int) + off = (tgt : Int)) (kt : ¬ x = 0 → GJ Ω p l e R s m args below meth c nL Q I k n tgt L st) (kf : x = 0 → GJ Ω p l e R s m args below meth c nL Q I k n (pc + 3) L st) : GJ Ω p l e R s m args below meth c nL Q I k n pc0 L (.int x :: st) := by
  subst hp
  exact fun H locs ls hI hS hl => lv_if_ne X.1 X.2.1 d ht (fun h => kt h H locs ls hI hS hl) (fun h => kf h H locs ls hI hS hl)
theorem g_if_lt (X : Fx Ω p l s m args meth c own cc nL ret) {x : Int32} {off : Int} {tgt : Nat} (d : decode cc pc = .ok (.ifCond .lt off, 3)) (hp : pc0 = pc) (ht : (pc : Int) + off = (tgt : Int)) (kt : x < 0 → GJ Ω p l e R s m args below meth c nL Q I k n tgt L st) (kf : ¬ x < 0 → GJ Ω p l e R s m args below meth c nL Q I k n (pc + 3) L st) : GJ Ω p l e R s m args below meth c nL Q I k n pc0 L (.int x :: st) := by
  subst hp
  exact fun H locs ls hI hS hl => lv_if_lt X.1 X.2.1 d ht (fun h => kt h H locs ls hI hS hl) (fun h => kf h H locs ls hI hS hl)
theorem g_if_ge (X : Fx Ω p l s m args meth c own cc nL ret) {x : Int32} {off : Int} {tgt : Nat} (d : decode cc pc = .ok (.ifCond .ge off, 3)) (hp : pc0 = pc) (ht : (pc : Int) + off = (tgt : Int)) (kt : 0 ≤ x → GJ Ω p l e R s m args below meth c nL Q I k n tgt L st) (kf : ¬ 0 ≤ x → GJ Ω p l e R s m args below meth c nL Q I k n (pc + 3) L st) : GJ Ω p l e R s m args below meth c nL Q I k n pc0 L (.int x :: st) := by
  subst hp
  exact fun H locs ls hI hS hl => lv_if_ge X.1 X.2.1 d ht (fun h => kt h H locs ls hI hS hl) (fun h => kf h H locs ls hI hS hl)
theorem g_if_gt (X : Fx Ω p l s m args meth c own cc nL ret) {x : Int32} {off : Int} {tgt : Nat} (d : decode cc pc = .ok (.ifCond .gt off, 3)) (hp : pc0 = pc) (ht : (pc : Int) + off = (tgt : Int)) (kt : 0 < x → GJ Ω p l e R s m args below meth c nL Q I k n tgt L st) (kf : ¬ 0 < x → GJ Ω p l e R s m args below meth c nL Q I k n (pc + 3) L st) : GJ Ω p l e R s m args below meth c nL Q I k n pc0 L (.int x :: st) := by
  subst hp
  exact fun H locs ls hI hS hl => lv_if_gt X.1 X.2.1 d ht (fun h => kt h H locs ls hI hS hl) (fun h => kf h H locs ls hI hS hl)
theorem g_if_le (X : Fx Ω p l s m args meth c own cc nL ret) {x : Int32} {off : Int} {tgt : Nat} (d : decode cc pc = .ok (.ifCond .le off, 3)) (hp : pc0 = pc) (ht : (pc : Int) + off = (tgt : Int)) (kt : x ≤ 0 → GJ Ω p l e R s m args below meth c nL Q I k n tgt L st) (kf : ¬ x ≤ 0 → GJ Ω p l e R s m args below meth c nL Q I k n (pc + 3) L st) : GJ Ω p l e R s m args below meth c nL Q I k n pc0 L (.int x :: st) := by
  subst hp
  exact fun H locs ls hI hS hl => lv_if_le X.1 X.2.1 d ht (fun h => kt h H locs ls hI hS hl) (fun h => kf h H locs ls hI hS hl)
theorem g_icmp_eq (X : Fx Ω p l s m args meth c own cc nL ret) {x y : Int32} {off : Int} {tgt : Nat} (d : decode cc pc = .ok (.if_icmp .eq off, 3)) (hp : pc0 = pc) (ht : (pc : Int) + off = (tgt : Int)) (kt : x = y → GJ Ω p l e R s m args below meth c nL Q I k n tgt L st) (kf : ¬ x = y → GJ Ω p l e R s m args below meth c nL Q I k n (pc + 3) L st) : GJ Ω p l e R s m args below meth c nL Q I k n pc0 L (.int y :: .int x :: st) := by
  subst hp
  exact fun H locs ls hI hS hl => lv_icmp_eq X.1 X.2.1 d ht (fun h => kt h H locs ls hI hS hl) (fun h => kf h H locs ls hI hS hl)
theorem g_icmp_ne (X : Fx Ω p l s m args meth c own cc nL ret) {x y : Int32} {off : Int} {tgt : Nat} (d : decode cc pc = .ok (.if_icmp .ne off, 3)) (hp : pc0 = pc) (ht : (pc : Int) + off = (tgt : Int)) (kt : ¬ x = y → GJ Ω p l e R s m args below meth c nL Q I k n tgt L st) (kf : x = y → GJ Ω p l e R s m args below meth c nL Q I k n (pc + 3) L st) : GJ Ω p l e R s m args below meth c nL Q I k n pc0 L (.int y :: .int x :: st) := by
  subst hp
  exact fun H locs ls hI hS hl => lv_icmp_ne X.1 X.2.1 d ht (fun h => kt h H locs ls hI hS hl) (fun h => kf h H locs ls hI hS hl)
theorem g_icmp_lt (X : Fx Ω p l s m args meth c own cc nL ret) {x y : Int32} {off : Int} {tgt : Nat} (d : decode cc pc = .ok (.if_icmp .lt off, 3)) (hp : pc0 = pc) (ht : (pc : Int) + off = (tgt : Int)) (kt : x < y → GJ Ω p l e R s m args below meth c nL Q I k n tgt L st) (kf : ¬ x < y → GJ Ω p l e R s m args below meth c nL Q I k n (pc + 3) L st) : GJ Ω p l e R s m args below meth c nL Q I k n pc0 L (.int y :: .int x :: st) := by
  subst hp
  exact fun H locs ls hI hS hl => lv_icmp_lt X.1 X.2.1 d ht (fun h => kt h H locs ls hI hS hl) (fun h => kf h H locs ls hI hS hl)
theorem g_icmp_ge (X : Fx Ω p l s m args meth c own cc nL ret) {x y : Int32} {off : Int} {tgt : Nat} (d : decode cc pc = .ok (.if_icmp .ge off, 3)) (hp : pc0 = pc) (ht : (pc : Int) + off = (tgt : Int)) (kt : y ≤ x → GJ Ω p l e R s m args below meth c nL Q I k n tgt L st) (kf : ¬ y ≤ x → GJ Ω p l e R s m args below meth c nL Q I k n (pc + 3) L st) : GJ Ω p l e R s m args below meth c nL Q I k n pc0 L (.int y :: .int x :: st) := by
  subst hp
  exact fun H locs ls hI hS hl => lv_icmp_ge X.1 X.2.1 d ht (fun h => kt h H locs ls hI hS hl) (fun h => kf h H locs ls hI hS hl)
theorem g_icmp_gt (X : Fx Ω p l s m args meth c own cc nL ret) {x y : Int32} {off : Int} {tgt : Nat} (d : decode cc pc = .ok (.if_icmp .gt off, 3)) (hp : pc0 = pc) (ht : (pc : Int) + off = (tgt : Int)) (kt : y < x → GJ Ω p l e R s m args below meth c nL Q I k n tgt L st) (kf : ¬ y < x → GJ Ω p l e R s m args below meth c nL Q I k n (pc + 3) L st) : GJ Ω p l e R s m args below meth c nL Q I k n pc0 L (.int y :: .int x :: st) := by
  subst hp
  exact fun H locs ls hI hS hl => lv_icmp_gt X.1 X.2.1 d ht (fun h => kt h H locs ls hI hS hl) (fun h => kf h H locs ls hI hS hl)
theorem g_icmp_le (X : Fx Ω p l s m args meth c own cc nL ret) {x y : Int32} {off : Int} {tgt : Nat} (d : decode cc pc = .ok (.if_icmp .le off, 3)) (hp : pc0 = pc) (ht : (pc : Int) + off = (tgt : Int)) (kt : x ≤ y → GJ Ω p l e R s m args below meth c nL Q I k n tgt L st) (kf : ¬ x ≤ y → GJ Ω p l e R s m args below meth c nL Q I k n (pc + 3) L st) : GJ Ω p l e R s m args below meth c nL Q I k n pc0 L (.int y :: .int x :: st) := by
  subst hp
  exact fun H locs ls hI hS hl => lv_icmp_le X.1 X.2.1 d ht (fun h => kt h H locs ls hI hS hl) (fun h => kf h H locs ls hI hS hl)
theorem g_goto (X : Fx Ω p l s m args meth c own cc nL ret) {off : Int} {tgt : Nat} (d : decode cc pc = .ok (.goto off, 3)) (hp : pc0 = pc) (ht : (pc : Int) + off = (tgt : Int)) (kk : GJ Ω p l e R s m args below meth c nL Q I k n tgt L st) : GJ Ω p l e R s m args below meth c nL Q I k n pc0 L st := by
  subst hp
  exact fun H locs ls hI hS hl => lv_goto X.1 X.2.1 d ht (kk H locs ls hI hS hl)
theorem g_ifnull (X : Fx Ω p l s m args meth c own cc nL ret) {x : Option Nat} {off : Int} {tgt : Nat} (d : decode cc pc = .ok (.ifnull off, 3)) (hp : pc0 = pc) (ht : (pc : Int) + off = (tgt : Int)) (kt : x = none → GJ Ω p l e R s m args below meth c nL Q I k n tgt L st) (kf : ∀ y, x = some y → GJ Ω p l e R s m args below meth c nL Q I k n (pc + 3) L st) : GJ Ω p l e R s m args below meth c nL Q I k n pc0 L (va_rf x :: st) := by
  subst hp
  intro H locs ls hI hS hl
  cases x with
  | none => exact lv_ifnullN X.1 X.2.1 d ht (kt rfl H locs ls hI hS hl)
  | some x => exact lv_ifnull X.1 X.2.1 d (kf x rfl H locs ls hI hS hl)
theorem g_ifnonnull (X : Fx Ω p l s m args meth c own cc nL ret) {x : Option Nat} {off : Int} {tgt : Nat} (d : decode cc pc = .ok (.ifnonnull off, 3)) (hp : pc0 = pc) (ht : (pc : Int) + off = (tgt : Int)) (kt : ∀ y, x = some y → GJ Ω p l e R s m args below meth c nL Q I k n tgt L st) (kf : x = none → GJ Ω p l e R s m args below meth c nL Q I k n (pc + 3) L st) : GJ Ω p l e R s m args below meth c nL Q I k n pc0 L (va_rf x :: st) := by
  subst hp
  intro H locs ls hI hS hl
  cases x with
  | none => exact lv_ifnonnullN X.1 X.2.1 d (kf rfl H locs ls hI hS hl)
  | some x => exact lv_ifnonnull X.1 X.2.1 d ht (kt x rfl H locs ls hI hS hl)
theorem g_lookup (X : Fx Ω p l s m args meth c own cc nL ret) {dflt : Int} {ps : Array (Int × Int)} {len : Nat} {x : Int32} {off : Int} {tgt : Nat} (d : decode cc pc = .ok (.lookupswitch dflt ps, len)) (hp : pc0 = pc) (hs : (ps.toList.zip (ps.toList.drop 1)).all (fun (a, next) => a.1 < next.1) = true) (ho : Op.lookupswitch.offset ps.toList dflt x.toInt = off) (ht : (pc : Int) + off = (tgt : Int)) (kk : GJ Ω p l e R s m args below meth c nL Q I k n tgt L st) : GJ Ω p l e R s m args below meth c nL Q I k n pc0 L (.int x :: st) := by
  subst hp
  exact fun H locs ls hI hS hl => lv_lookup X.1 X.2.1 d hs ho ht (kk H locs ls hI hS hl)
theorem g_tableOut (X : Fx Ω p l s m args meth c own cc nL ret) {dflt lo hi : Int} {offs : Array Int} {len : Nat} {x : Int32} {tgt : Nat} (d : decode cc pc = .ok (.tableswitch dflt lo hi offs, len)) (hp : pc0 = pc) (h : x.toInt < lo ∨ hi < x.toInt) (ht : (pc : Int) + dflt = (tgt : Int)) (kk : GJ Ω p l e R s m args below meth c nL Q I k n tgt L st) : GJ Ω p l e R s m args below meth c nL Q I k n pc0 L (.int x :: st) := by
  subst hp
  exact fun H locs ls hI hS hl => lv_tableOut X.1 X.2.1 d h ht (kk H locs ls hI hS hl)
theorem g_tableIn (X : Fx Ω p l s m args meth c own cc nL ret) {dflt lo hi : Int} {offs : Array Int} {len : Nat} {x : Int32} {off : Int} {tgt : Nat} (d : decode cc pc = .ok (.tableswitch dflt lo hi offs, len)) (hp : pc0 = pc) (h1 : ¬ x.toInt < lo) (h2 : ¬ hi < x.toInt) (ho : offs[(x.toInt - lo).toNat]? = some off) (ht : (pc : Int) + off = (tgt : Int)) (kk : GJ Ω p l e R s m args below meth c nL Q I k n tgt L st) : GJ Ω p l e R s m args below meth c nL Q I k n pc0 L (.int x :: st) := by
  subst hp
  exact fun H locs ls hI hS hl => lv_tableIn X.1 X.2.1 d h1 h2 ho ht (kk H locs ls hI hS hl)
end ROWS
