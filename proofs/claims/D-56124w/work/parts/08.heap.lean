/-! HEAP: h : address ↦ cell; the rows that read and write it -/
abbrev RH : Type := Nat → Option va_E
def hu {α : Type} (h : Nat → Option α) (a : Nat) (e : α) : Nat → Option α := fun j => if j = a then some e else h j
theorem hu_s {α : Type} (h : Nat → Option α) (a : Nat) (e : α) : hu h a e a = some e := by simp [hu]
theorem hu_n {α : Type} {h : Nat → Option α} {a b : Nat} {e : α} (hb : b ≠ a) : hu h a e b = h b := by simp [hu, hb]
abbrev cO (ci : Nat) (fs : List Value) : va_E := .inr (ci, fs)
abbrev cI (Ω : Om) (t n : Nat) (f : Nat → Int32) : va_E := .inl (Ω.2.1 t, n, .inl f)
abbrev cJ (Ω : Om) (n : Nat) (f : Nat → Int64) : va_E := .inl (Ω.2.1 3, n, .inr (.inl f))
abbrev cD (Ω : Om) (n : Nat) (f : Nat → UInt64) : va_E := .inl (Ω.2.1 4, n, .inr (.inr (.inr (.inl f))))
abbrev cQ (Ω : Om) (n : Nat) (f : Nat → Option Nat) : va_E := .inl (Ω.2.1 5, n, .inr (.inr (.inr (.inr f))))
/-- the heap H holds what h says (and perhaps more) -/
def hR (Ω : Om) (h : RH) (H : Heap) : Prop := ∃ (L : List Nat) (f : Nat → va_E), va_P Ω.1 vwCl (va_pl L f) H ∧ va_D (oA Ω) (va_pl L f) ∧ ∀ q e, h q = some e → q ∈ L ∧ f q = e
theorem pl_at {L : List Nat} {f : Nat → va_E} {a : Nat} (h : a ∈ L) : ∃ k : Nat, (va_pl L f)[k]? = some (a, f a) := va_pl_get (X := []) h
theorem pl_mem {L : List Nat} {f : Nat → va_E} {k : Nat} {q : Nat × va_E} (h : (va_pl L f)[k]? = some q) : q.1 ∈ L ∧ q.2 = f q.1 := by
  obtain ⟨a, ha, he⟩ := List.mem_map.mp (List.mem_of_getElem? h)
  rw [← he]
  exact ⟨ha, rfl⟩
theorem hR.at {Ω : Om} {h : RH} {H : Heap} (hh : hR Ω h H) {a : Nat} {e : va_E} (he : h a = some e) : va_at Ω.1 vwCl (a, e) H := by
  obtain ⟨L, f, hP, -, hx⟩ := hh
  obtain ⟨h1, h2⟩ := hx a e he
  obtain ⟨k, hk⟩ := pl_at (f := f) h1
  rw [h2] at hk
  exact hP k _ hk
theorem hR.lt {Ω : Om} {h : RH} {H : Heap} (hh : hR Ω h H) {a : Nat} {e : va_E} (he : h a = some e) : a < H.size := (hh.at he).lt
theorem hR.own {Ω : Om} {h : RH} {H : Heap} (hh : hR Ω h H) {a : Nat} {e : va_E} (he : h a = some e) : oA Ω a := by
  obtain ⟨L, f, -, hD, hx⟩ := hh
  obtain ⟨h1, h2⟩ := hx a e he
  obtain ⟨k, hk⟩ := pl_at (f := f) h1
  exact hD.2 k _ hk
theorem hR.sub {Ω : Om} {h h' : RH} {H : Heap} (hh : hR Ω h H) (hs : ∀ q e, h' q = some e → h q = some e) : hR Ω h' H := by
  obtain ⟨L, f, hP, hD, hx⟩ := hh
  exact ⟨L, f, hP, hD, fun q e he => hx q e (hs q e he)⟩
theorem hR.none {Ω : Om} {H : Heap} (h : RH) (hh : ∀ q, h q = Option.none) : hR Ω h H := ⟨[], fun _ => .inr (0, []), fun k q hk => by simp [va_pl] at hk, ⟨fun i j p q hi => by simp [va_pl] at hi, fun k q hk => by simp [va_pl] at hk⟩, fun q e he => by rw [hh] at he; cases he⟩
/-- a class's object as a receiver -/
theorem hR.recv {Ω : Om} {h : RH} {H : Heap} {s : State} {H0 : Heap} (hK : KK Ω s H0) (hh : hR Ω h H) {a ci : Nat} {fs : List Value} {q : vw_C} (he : h a = some (.inr (ci, fs))) (hc : vwCl[ci]? = some q) : ∃ cell : Cell, H[a]? = some cell ∧ cell.vm.isStatics = false ∧ s.vm.findClass q.1 = some cell.cls := by
  obtain ⟨L, f, hP, -, hx⟩ := hh
  obtain ⟨h1, h2⟩ := hx a _ he
  obtain ⟨k, hk⟩ := pl_at (f := f) h1
  rw [h2] at hk
  exact va_recv hK.1 hP hc hk
/-- things that may stand in an array of objects -/
def okO (Ω : Om) (h : RH) (y : Nat) : Prop := (∃ ci fs, h y = some (.inr (ci, fs)) ∧ (ci = 1 ∨ ci = 4 ∨ ci = 6 ∨ ci = 7 ∨ ci = 8)) ∨ ∃ j, j < 256 ∧ y = oM Ω j
theorem okO.mono {Ω : Om} {h h' : RH} {y : Nat} (ho : okO Ω h y) (hx : ∀ ci fs, h y = some (.inr (ci, fs)) → ∃ fs', h' y = some (.inr (ci, fs'))) : okO Ω h' y := by
  rcases ho with ⟨ci, fs, h1, h2⟩ | h1
  · obtain ⟨fs', h3⟩ := hx ci fs h1
    exact Or.inl ⟨ci, fs', h3, h2⟩
  · exact Or.inr h1
theorem ok_cast : ∀ ci, ci = 1 ∨ ci = 4 ∨ ci = 6 ∨ ci = 7 ∨ ci = 8 → ∃ q : vw_C, vwCl[ci]? = some q ∧ (Cond.castable q.1 "java/lang/Object") ∈ lw_tbl := by
  intro ci h
  rcases h with rfl | rfl | rfl | rfl | rfl
  · exact ⟨_, rfl, q2396⟩
  · exact ⟨_, rfl, q2405⟩
  · exact ⟨_, rfl, q2403⟩
  · exact ⟨_, rfl, q2409⟩
  · exact ⟨_, rfl, q2412⟩
theorem okO.any {Ω : Om} {h : RH} {y : Nat} {s : State} {H0 H : Heap} {locs : List Loc} (hK : KK Ω s s.heap) (hh : hR Ω h H) (hS : va_S (oA Ω) s.heap H locs) (ho : okO Ω h y) : va_Any "java/lang/Object" s H y := by
  rcases ho with ⟨ci, fs, h1, h2⟩ | ⟨j, hj, rfl⟩
  · obtain ⟨q, hq, hw⟩ := ok_cast ci h2
    obtain ⟨L, f, hP, -, hx⟩ := hh
    obtain ⟨g1, g2⟩ := hx y _ h1
    obtain ⟨k, hk⟩ := pl_at (f := f) g1
    rw [g2] at hk
    exact va_rAny hK.1 hP hk hq (fun comp c0 e1 e2 => vb_asgC (hK.2.2.1 _ hw rfl) comp c0 e1 e2)
  · obtain ⟨cell, e1, e2, e3, e4⟩ := hK.2.2.2.2.2.2.2.2.1.1 j hj
    obtain ⟨kC, hkC, -⟩ := Vm.findClass_spec e3
    exact ⟨cell, by rw [hS.2.1 _ (Array.getElem?_eq_some_iff.mp e1).1 e4]; exact e1, e2, ⟨kC, hkC⟩, fun comp hc => vb_asgC (hK.2.2.1 _ q2410 rfl) comp _ hc e3⟩
/-- a cell written -/
theorem hR.upd {Ω : Om} {h : RH} {L : List Nat} {f : Nat → va_E} {H1 : Heap} {a k : Nat} {e0 e : va_E} (hD : va_D (oA Ω) (va_pl L f)) (hx : ∀ q e, h q = some e → q ∈ L ∧ f q = e) (he : h a = some e0) (hk : (va_pl L f)[k]? = some (a, f a)) (hP1 : va_P Ω.1 vwCl ((va_pl L f).set k (a, e)) H1) (hD1 : va_D (oA Ω) ((va_pl L f).set k (a, e))) : hR Ω (hu h a e) H1 := by
  have hs : (va_pl L f).set k (a, e) = va_pl L (va_up f a e) := va_pl_set (X := []) hD (hx a e0 he).1 hk
  rw [hs] at hP1 hD1
  refine ⟨L, va_up f a e, hP1, hD1, fun q e' hq => ?_⟩
  by_cases hqa : q = a
  · subst hqa
    rw [hu_s] at hq
    cases hq
    exact ⟨(hx q e0 he).1, va_up_self _ _ _⟩
  · rw [hu_n hqa] at hq
    exact ⟨(hx q e' hq).1, by rw [va_up_ne _ _ hqa]; exact (hx q e' hq).2⟩
/-- a cell made -/
theorem hR.new {Ω : Om} {h : RH} {L : List Nat} {f : Nat → va_E} {H1 : Heap} {q : Nat} {e : va_E} (hx : ∀ q e, h q = some e → q ∈ L ∧ f q = e) (hP1 : va_P Ω.1 vwCl (va_pl L f ++ [(q, e)]) H1) (hD1 : va_D (oA Ω) (va_pl L f ++ [(q, e)])) : h q = Option.none ∧ hR Ω (hu h q e) H1 := by
  have hn : q ∉ L := by
    intro hq
    obtain ⟨k, hk⟩ := pl_at (f := f) hq
    have hkl : k < (va_pl L f).length := (List.getElem?_eq_some_iff.mp hk).1
    have h1 : (va_pl L f ++ [(q, e)])[k]? = some (q, f q) := by rw [List.getElem?_append_left hkl]; exact hk
    have h2 : (va_pl L f ++ [(q, e)])[(va_pl L f).length]? = some (q, e) := by rw [List.getElem?_append_right (Nat.le_refl _)]; simp
    have := hD1.1 k _ _ _ h1 h2 rfl
    omega
  have hpl : va_pl L f ++ [(q, e)] = va_pl (L ++ [q]) (va_up f q e) := by
    unfold va_pl
    rw [List.map_append]
    congr 1
    · refine List.map_congr_left fun a ha => ?_
      have hz : a ≠ q := fun z => hn (by rw [← z]; exact ha)
      rw [va_up_ne _ _ hz]
    · simp [va_up_self]
  rw [hpl] at hP1 hD1
  refine ⟨?_, L ++ [q], va_up f q e, hP1, hD1, fun a e' ha => ?_⟩
  · cases hq : h q with
    | none => rfl
    | some z => exact absurd (hx q z hq).1 hn
  · by_cases haq : a = q
    · subst haq
      rw [hu_s] at ha
      cases ha
      exact ⟨List.mem_append_right _ List.mem_cons_self, va_up_self _ _ _⟩
    · rw [hu_n haq] at ha
      exact ⟨List.mem_append_left _ (hx a e' ha).1, by rw [va_up_ne _ _ haq]; exact (hx a e' ha).2⟩
theorem oA_ge {Ω : Om} {s : State} (hK : KK Ω s s.heap) : ∀ q : Nat, s.heap.size ≤ q → oA Ω q := fun q h => Nat.le_trans hK.2.1 h
section HROWS
variable {Ω : Om} {p : Program} {l : Launch} {e : Env} {R : Room} {s : State} {m : MethodId} {args : Array Value} {below : List Frame} {meth : Method} {c : Code} {Q : State → Prop} {own : String} {cc : ByteArray} {nL : Nat} {ret : Option FieldType} {k n pc pc0 : Nat} {L : List (Option Value)} {st : List Value} {h : RH}

theorem g_get (X : Fx Ω p l s m args meth c own cc nL ret) {a index ci N : Nat} {T : u_T} {C ref : String} {fs : List Value} {v : Value} (d : decode cc pc = .ok (.getfield index, 3)) (hp : pc0 = pc) (hin : ∀ w ∈ u_ws C T N, w ∈ lw_all) (hc : vwCl[ci]? = some (C, T, N)) (i : Nat) (hi : i < N) (hlink : Cond.fieldLink own index ref (T i).2.1 (T i).2.2.1 ∈ lw_all) (hsame : ∀ x, s.fieldFound? (T i).1 (T i).2.1 (T i).2.2.1 = some x → s.fieldFound? ref (T i).2.1 (T i).2.2.1 = some x) (he : h a = some (.inr (ci, fs))) (hv : fs[i]? = some v) (kk : GJ Ω p l e R s m args below meth c nL Q (hR Ω h) k n (pc + 3) L (v :: st)) : GJ Ω p l e R s m args below meth c nL Q (hR Ω h) k n pc0 L (.ref a :: st) := by
  subst hp
  intro H locs ls hI hS hl
  obtain ⟨L0, f0, hP, hD, hx⟩ := hI
  obtain ⟨g1, g2⟩ := hx a _ he
  obtain ⟨q0, hq0⟩ := pl_at (f := f0) g1
  have hq1 := hq0
  rw [g2] at hq1
  exact va_get X.1 X.2.1 (Ts := lw_all) X.2.2.2.2.2.2.1 hin X.2.2.2.2.2.1 X.2.2.2.2.2.2.2.1.1 hP q0 hq1 hc i hi (X.2.2.2.2.2.2.1 _ hlink) hsame hv d (kk H locs ls ⟨L0, f0, hP, hD, hx⟩ hS hl)
theorem g_put (X : Fx Ω p l s m args meth c own cc nL ret) {a index ci N : Nat} {T : u_T} {C ref : String} {fs : List Value} {v : Value} {ty : FieldType} {h' : RH} (d : decode cc pc = .ok (.putfield index, 3)) (hp : pc0 = pc) (hin : ∀ w ∈ u_ws C T N, w ∈ lw_all) {ty0 : Nat → FieldType} (hty : ∀ k, k < N → parseFieldDescriptor (T k).2.2.1 = some (ty0 k)) (hnm : ∀ a, a < N → ∀ b, b < N → a ≠ b → (T a).2.1 ≠ (T b).2.1) (hc : vwCl[ci]? = some (C, T, N)) (i : Nat) (hi : i < N) (hlink : Cond.fieldLink own index ref (T i).2.1 (T i).2.2.1 ∈ lw_all) (hsame : ∀ x, s.fieldFound? (T i).1 (T i).2.1 (T i).2.2.1 = some x → s.fieldFound? ref (T i).2.1 (T i).2.2.1 = some x) (hfin : (T i).2.2.2 = false) (hd : parseFieldDescriptor (T i).2.2.1 = some ty) (hn : narrow ty v = v) (hfit : fits ty v = true) (he : h a = some (.inr (ci, fs))) (hlen : i < fs.length) (hh : hu h a (.inr (ci, fs.set i v)) = h') (kk : GJ Ω p l e R s m args below meth c nL Q (hR Ω h') k n (pc + 3) L st) : GJ Ω p l e R s m args below meth c nL Q (hR Ω h) k n pc0 L (v :: .ref a :: st) := by
  subst hh
  subst hp
  intro H locs ls hI hS hl
  obtain ⟨L0, f0, hP, hD, hx⟩ := hI
  obtain ⟨g1, g2⟩ := hx a _ he
  obtain ⟨q0, hq0⟩ := pl_at (f := f0) g1
  have hq1 := hq0
  rw [g2] at hq1
  exact va_put X.1 X.2.1 (Ts := lw_all) X.2.2.2.2.2.2.1 hin ty0 hty hnm X.2.2.2.2.2.1 X.2.2.2.2.2.2.2.1.1 hP hD hS q0 hq1 hc i hi (X.2.2.2.2.2.2.1 _ hlink) hsame hfin hd hn hfit hlen d (fun H1 locs1 hP1 hD1 hS1 => kk H1 locs1 ls (hR.upd hD hx he hq0 hP1 hD1) hS1 hl)
theorem g_getN (X : Fx Ω p l s m args meth c own cc nL ret) {a index ci N : Nat} {T : u_T} {C ref : String} {fs : List Value} {v : Value} (d : decode cc pc = .ok (.getfield index, 3)) (hp : pc0 = pc) (hin : ∀ w ∈ u_ws C T N, w ∈ lw_all) (hc : vwCl[ci]? = some (C, T, N)) (i : Nat) (hi : i < N) (host : String) (hlink : Cond.fieldLinkNest own index ref (T i).2.1 (T i).2.2.1 host ∈ lw_tbl) (hsame : ∀ x, s.fieldFound? (T i).1 (T i).2.1 (T i).2.2.1 = some x → s.fieldFound? ref (T i).2.1 (T i).2.2.1 = some x) (he : h a = some (.inr (ci, fs))) (hv : fs[i]? = some v) (kk : GJ Ω p l e R s m args below meth c nL Q (hR Ω h) k n (pc + 3) L (v :: st)) : GJ Ω p l e R s m args below meth c nL Q (hR Ω h) k n pc0 L (.ref a :: st) := by
  subst hp
  intro H locs ls hI hS hl
  obtain ⟨L0, f0, hP, hD, hx⟩ := hI
  obtain ⟨g1, g2⟩ := hx a _ he
  obtain ⟨q0, hq0⟩ := pl_at (f := f0) g1
  have hq1 := hq0
  rw [g2] at hq1
  exact va_getN X.1 X.2.1 (Ts := lw_all) X.2.2.2.2.2.2.1 hin X.2.2.2.2.2.1 X.2.2.2.2.2.2.2.1.1 hP q0 hq1 hc i hi (va_Nw.use rfl (X.2.2.2.2.2.2.2.1.2.2.1 _ hlink rfl)) hsame hv d (kk H locs ls ⟨L0, f0, hP, hD, hx⟩ hS hl)
theorem g_putN (X : Fx Ω p l s m args meth c own cc nL ret) {a index ci N : Nat} {T : u_T} {C ref : String} {fs : List Value} {v : Value} {ty : FieldType} {h' : RH} (d : decode cc pc = .ok (.putfield index, 3)) (hp : pc0 = pc) (hin : ∀ w ∈ u_ws C T N, w ∈ lw_all) {ty0 : Nat → FieldType} (hty : ∀ k, k < N → parseFieldDescriptor (T k).2.2.1 = some (ty0 k)) (hnm : ∀ a, a < N → ∀ b, b < N → a ≠ b → (T a).2.1 ≠ (T b).2.1) (hc : vwCl[ci]? = some (C, T, N)) (i : Nat) (hi : i < N) (host : String) (hlink : Cond.fieldLinkNest own index ref (T i).2.1 (T i).2.2.1 host ∈ lw_tbl) (hsame : ∀ x, s.fieldFound? (T i).1 (T i).2.1 (T i).2.2.1 = some x → s.fieldFound? ref (T i).2.1 (T i).2.2.1 = some x) (hfin : (T i).2.2.2 = false) (hd : parseFieldDescriptor (T i).2.2.1 = some ty) (hn : narrow ty v = v) (hfit : fits ty v = true) (he : h a = some (.inr (ci, fs))) (hlen : i < fs.length) (hh : hu h a (.inr (ci, fs.set i v)) = h') (kk : GJ Ω p l e R s m args below meth c nL Q (hR Ω h') k n (pc + 3) L st) : GJ Ω p l e R s m args below meth c nL Q (hR Ω h) k n pc0 L (v :: .ref a :: st) := by
  subst hh
  subst hp
  intro H locs ls hI hS hl
  obtain ⟨L0, f0, hP, hD, hx⟩ := hI
  obtain ⟨g1, g2⟩ := hx a _ he
  obtain ⟨q0, hq0⟩ := pl_at (f := f0) g1
  have hq1 := hq0
  rw [g2] at hq1
  exact va_putN X.1 X.2.1 (Ts := lw_all) X.2.2.2.2.2.2.1 hin ty0 hty hnm X.2.2.2.2.2.1 X.2.2.2.2.2.2.2.1.1 hP hD hS q0 hq1 hc i hi (va_Nw.use rfl (X.2.2.2.2.2.2.2.1.2.2.1 _ hlink rfl)) hsame hfin hd hn hfit hlen d (fun H1 locs1 hP1 hD1 hS1 => kk H1 locs1 ls (hR.upd hD hx he hq0 hP1 hD1) hS1 hl)
theorem g_putF (X : Fx Ω p l s m args meth c own cc nL ret) (hini : meth.name = "<init>") {a index ci N : Nat} {T : u_T} {C ref : String} {fs : List Value} {v : Value} {ty : FieldType} {h' : RH} (d : decode cc pc = .ok (.putfield index, 3)) (hp : pc0 = pc) (hin : ∀ w ∈ u_ws C T N, w ∈ lw_all) {ty0 : Nat → FieldType} (hty : ∀ k, k < N → parseFieldDescriptor (T k).2.2.1 = some (ty0 k)) (hnm : ∀ a, a < N → ∀ b, b < N → a ≠ b → (T a).2.1 ≠ (T b).2.1) (hc : vwCl[ci]? = some (C, T, N)) (i : Nat) (hi : i < N) (hlink : Cond.fieldLink own index ref (T i).2.1 (T i).2.2.1 ∈ lw_all) (hsame : ∀ x, s.fieldFound? (T i).1 (T i).2.1 (T i).2.2.1 = some x → s.fieldFound? ref (T i).2.1 (T i).2.2.1 = some x) (hfin : (T i).2.2.2 = true) (hdecl : (T i).1 = own) (hd : parseFieldDescriptor (T i).2.2.1 = some ty) (hn : narrow ty v = v) (hfit : fits ty v = true) (he : h a = some (.inr (ci, fs))) (hlen : i < fs.length) (hh : hu h a (.inr (ci, fs.set i v)) = h') (kk : GJ Ω p l e R s m args below meth c nL Q (hR Ω h') k n (pc + 3) L st) : GJ Ω p l e R s m args below meth c nL Q (hR Ω h) k n pc0 L (v :: .ref a :: st) := by
  subst hh
  subst hp
  intro H locs ls hI hS hl
  obtain ⟨L0, f0, hP, hD, hx⟩ := hI
  obtain ⟨g1, g2⟩ := hx a _ he
  obtain ⟨q0, hq0⟩ := pl_at (f := f0) g1
  have hq1 := hq0
  rw [g2] at hq1
  exact va_putF X.1 X.2.1 (Ts := lw_all) X.2.2.2.2.2.2.1 hin ty0 hty hnm X.2.2.2.2.2.1 X.2.2.2.2.2.2.2.1.1 hP hD hS q0 hq1 hc i hi (X.2.2.2.2.2.2.1 _ hlink) hsame hfin hini hdecl hd hn hfit hlen d (fun H1 locs1 hP1 hD1 hS1 => kk H1 locs1 ls (hR.upd hD hx he hq0 hP1 hD1) hS1 hl)
theorem g_new (X : Fx Ω p l s m args meth c own cc nL ret) {index ci N : Nat} {T : u_T} {C : String} {fs : List Value} (d : decode cc pc = .ok (.new index, 3)) (hp : pc0 = pc) (hin : ∀ w ∈ u_ws C T N, w ∈ lw_all) {ty0 : Nat → FieldType} (hty : ∀ k, k < N → parseFieldDescriptor (T k).2.2.1 = some (ty0 k)) (hcl : Cond.classLink own index C ∈ lw_all) (hinst : Cond.instantiable C N ∈ lw_all) (hini : Cond.initialized C ∈ lw_all) (hc : vwCl[ci]? = some (C, T, N)) (hfs : ∀ j, j < N → defaultValue (ty0 j) = vp_V fs j) (hk : k + 1 ≤ R.cells) (hn : n + N ≤ R.slots) (kk : ∀ q, h q = none → GJ Ω p l e R s m args below meth c nL Q (hR Ω (hu h q (.inr (ci, fs)))) (k + 1) (n + N) (pc + 3) L (.ref q :: st)) : GJ Ω p l e R s m args below meth c nL Q (hR Ω h) k n pc0 L st := by
  subst hp
  intro H locs ls hI hS hl
  obtain ⟨L0, f0, hP, hD, hx⟩ := hI
  exact va_new X.1 X.2.1 (Ts := lw_all) X.2.2.2.2.2.2.1 hin ty0 hty X.2.2.2.2.2.1 (X.2.2.2.2.2.2.1 _ hcl) (X.2.2.2.2.2.2.1 _ hinst) (X.2.2.2.2.2.2.1 _ hini) X.2.2.2.2.2.2.2.1.1 hP hD hS (oA_ge X.2.2.2.2.2.2.2.1) hc hfs hk hn d (fun q H1 hP1 hD1 hS1 => kk q (hR.new hx hP1 hD1).1 H1 locs ls (hR.new hx hP1 hD1).2 hS1 hl)
theorem g_ial (X : Fx Ω p l s m args meth c own cc nL ret) {a N : Nat} {f : Nat → Int32} {i : Int32} {v : Int32} (d : decode cc pc = .ok (.iaload, 1)) (hp : pc0 = pc) (he : h a = some (cI Ω 0 N f)) (hi : vp_in i N) (hv : f i.toNatClampNeg = v) (kk : GJ Ω p l e R s m args below meth c nL Q (hR Ω h) k n (pc + 1) L (.int v :: st)) : GJ Ω p l e R s m args below meth c nL Q (hR Ω h) k n pc0 L (.int i :: .ref a :: st) := by
  subst hv
  subst hp
  intro H locs ls hI hS hl
  obtain ⟨L0, f0, hP, hD, hx⟩ := hI
  obtain ⟨g1, g2⟩ := hx a _ he
  obtain ⟨q0, hq0⟩ := pl_at (f := f0) g1
  have hq1 := hq0
  rw [g2] at hq1
  exact va_iald X.1 X.2.1 X.2.2.2.2.2.2.2.1.1 hP q0 0 hq1 rfl hi d (kk H locs ls ⟨L0, f0, hP, hD, hx⟩ hS hl)
theorem g_ias (X : Fx Ω p l s m args meth c own cc nL ret) {a N : Nat} {f : Nat → Int32} {i : Int32} {x : Int32} {h' : RH} (d : decode cc pc = .ok (.iastore, 1)) (hp : pc0 = pc) (he : h a = some (cI Ω 0 N f)) (hi : vp_in i N) (hh : hu h a (cI Ω 0 N (upd f i.toNatClampNeg x)) = h') (kk : GJ Ω p l e R s m args below meth c nL Q (hR Ω h') k n (pc + 1) L st) : GJ Ω p l e R s m args below meth c nL Q (hR Ω h) k n pc0 L (.int x :: .int i :: .ref a :: st) := by
  subst hh
  subst hp
  intro H locs ls hI hS hl
  obtain ⟨L0, f0, hP, hD, hx⟩ := hI
  obtain ⟨g1, g2⟩ := hx a _ he
  obtain ⟨q0, hq0⟩ := pl_at (f := f0) g1
  have hq1 := hq0
  rw [g2] at hq1
  exact va_iast X.1 X.2.1 X.2.2.2.2.2.2.2.1.1 hP hD hS q0 0 hq1 rfl hi d (fun H1 locs1 hP1 hD1 hS1 => kk H1 locs1 ls (hR.upd hD hx he hq0 hP1 hD1) hS1 hl)
theorem g_cal (X : Fx Ω p l s m args meth c own cc nL ret) {a N : Nat} {f : Nat → Int32} {i : Int32} {v : Int32} (d : decode cc pc = .ok (.caload, 1)) (hp : pc0 = pc) (he : h a = some (cI Ω 1 N f)) (hi : vp_in i N) (hv : f i.toNatClampNeg = v) (kk : GJ Ω p l e R s m args below meth c nL Q (hR Ω h) k n (pc + 1) L (.int v :: st)) : GJ Ω p l e R s m args below meth c nL Q (hR Ω h) k n pc0 L (.int i :: .ref a :: st) := by
  subst hv
  subst hp
  intro H locs ls hI hS hl
  obtain ⟨L0, f0, hP, hD, hx⟩ := hI
  obtain ⟨g1, g2⟩ := hx a _ he
  obtain ⟨q0, hq0⟩ := pl_at (f := f0) g1
  have hq1 := hq0
  rw [g2] at hq1
  exact va_cald X.1 X.2.1 X.2.2.2.2.2.2.2.1.1 hP q0 1 hq1 rfl hi d (kk H locs ls ⟨L0, f0, hP, hD, hx⟩ hS hl)
theorem g_cas (X : Fx Ω p l s m args meth c own cc nL ret) {a N : Nat} {f : Nat → Int32} {i : Int32} {x : Int32} {h' : RH} (d : decode cc pc = .ok (.castore, 1)) (hp : pc0 = pc) (he : h a = some (cI Ω 1 N f)) (hi : vp_in i N) (hh : hu h a (cI Ω 1 N (upd f i.toNatClampNeg (vp_nar .char x))) = h') (kk : GJ Ω p l e R s m args below meth c nL Q (hR Ω h') k n (pc + 1) L st) : GJ Ω p l e R s m args below meth c nL Q (hR Ω h) k n pc0 L (.int x :: .int i :: .ref a :: st) := by
  subst hh
  subst hp
  intro H locs ls hI hS hl
  obtain ⟨L0, f0, hP, hD, hx⟩ := hI
  obtain ⟨g1, g2⟩ := hx a _ he
  obtain ⟨q0, hq0⟩ := pl_at (f := f0) g1
  have hq1 := hq0
  rw [g2] at hq1
  exact va_cast X.1 X.2.1 X.2.2.2.2.2.2.2.1.1 hP hD hS q0 1 hq1 rfl hi d (fun H1 locs1 hP1 hD1 hS1 => kk H1 locs1 ls (hR.upd hD hx he hq0 hP1 hD1) hS1 hl)
theorem g_bal (X : Fx Ω p l s m args meth c own cc nL ret) {a N : Nat} {f : Nat → Int32} {i : Int32} {v : Int32} (d : decode cc pc = .ok (.baload, 1)) (hp : pc0 = pc) (he : h a = some (cI Ω 2 N f)) (hi : vp_in i N) (hv : f i.toNatClampNeg = v) (kk : GJ Ω p l e R s m args below meth c nL Q (hR Ω h) k n (pc + 1) L (.int v :: st)) : GJ Ω p l e R s m args below meth c nL Q (hR Ω h) k n pc0 L (.int i :: .ref a :: st) := by
  subst hv
  subst hp
  intro H locs ls hI hS hl
  obtain ⟨L0, f0, hP, hD, hx⟩ := hI
  obtain ⟨g1, g2⟩ := hx a _ he
  obtain ⟨q0, hq0⟩ := pl_at (f := f0) g1
  have hq1 := hq0
  rw [g2] at hq1
  exact va_bald X.1 X.2.1 X.2.2.2.2.2.2.2.1.1 hP q0 2 hq1 rfl hi d (kk H locs ls ⟨L0, f0, hP, hD, hx⟩ hS hl)
theorem g_bas (X : Fx Ω p l s m args meth c own cc nL ret) {a N : Nat} {f : Nat → Int32} {i : Int32} {x : Int32} {h' : RH} (d : decode cc pc = .ok (.bastore, 1)) (hp : pc0 = pc) (he : h a = some (cI Ω 2 N f)) (hi : vp_in i N) (hh : hu h a (cI Ω 2 N (upd f i.toNatClampNeg (vp_nar .byte x))) = h') (kk : GJ Ω p l e R s m args below meth c nL Q (hR Ω h') k n (pc + 1) L st) : GJ Ω p l e R s m args below meth c nL Q (hR Ω h) k n pc0 L (.int x :: .int i :: .ref a :: st) := by
  subst hh
  subst hp
  intro H locs ls hI hS hl
  obtain ⟨L0, f0, hP, hD, hx⟩ := hI
  obtain ⟨g1, g2⟩ := hx a _ he
  obtain ⟨q0, hq0⟩ := pl_at (f := f0) g1
  have hq1 := hq0
  rw [g2] at hq1
  exact va_bast X.1 X.2.1 X.2.2.2.2.2.2.2.1.1 hP hD hS q0 2 hq1 rfl hi d (fun H1 locs1 hP1 hD1 hS1 => kk H1 locs1 ls (hR.upd hD hx he hq0 hP1 hD1) hS1 hl)
theorem g_lal (X : Fx Ω p l s m args meth c own cc nL ret) {a N : Nat} {f : Nat → Int64} {i : Int32} {v : Int64} (d : decode cc pc = .ok (.laload, 1)) (hp : pc0 = pc) (he : h a = some (cJ Ω N f)) (hi : vp_in i N) (hv : f i.toNatClampNeg = v) (kk : GJ Ω p l e R s m args below meth c nL Q (hR Ω h) k n (pc + 1) L (.long v :: st)) : GJ Ω p l e R s m args below meth c nL Q (hR Ω h) k n pc0 L (.int i :: .ref a :: st) := by
  subst hv
  subst hp
  intro H locs ls hI hS hl
  obtain ⟨L0, f0, hP, hD, hx⟩ := hI
  obtain ⟨g1, g2⟩ := hx a _ he
  obtain ⟨q0, hq0⟩ := pl_at (f := f0) g1
  have hq1 := hq0
  rw [g2] at hq1
  exact va_lald X.1 X.2.1 X.2.2.2.2.2.2.2.1.1 hP q0 3 hq1 rfl hi d (kk H locs ls ⟨L0, f0, hP, hD, hx⟩ hS hl)
theorem g_las (X : Fx Ω p l s m args meth c own cc nL ret) {a N : Nat} {f : Nat → Int64} {i : Int32} {x : Int64} {h' : RH} (d : decode cc pc = .ok (.lastore, 1)) (hp : pc0 = pc) (he : h a = some (cJ Ω N f)) (hi : vp_in i N) (hh : hu h a (cJ Ω N (vp_updL f i.toNatClampNeg x)) = h') (kk : GJ Ω p l e R s m args below meth c nL Q (hR Ω h') k n (pc + 1) L st) : GJ Ω p l e R s m args below meth c nL Q (hR Ω h) k n pc0 L (.long x :: .int i :: .ref a :: st) := by
  subst hh
  subst hp
  intro H locs ls hI hS hl
  obtain ⟨L0, f0, hP, hD, hx⟩ := hI
  obtain ⟨g1, g2⟩ := hx a _ he
  obtain ⟨q0, hq0⟩ := pl_at (f := f0) g1
  have hq1 := hq0
  rw [g2] at hq1
  exact va_last X.1 X.2.1 X.2.2.2.2.2.2.2.1.1 hP hD hS q0 3 hq1 rfl hi d (fun H1 locs1 hP1 hD1 hS1 => kk H1 locs1 ls (hR.upd hD hx he hq0 hP1 hD1) hS1 hl)
theorem g_dal (X : Fx Ω p l s m args meth c own cc nL ret) {a N : Nat} {f : Nat → UInt64} {i : Int32} {v : UInt64} (d : decode cc pc = .ok (.daload, 1)) (hp : pc0 = pc) (he : h a = some (cD Ω N f)) (hi : vp_in i N) (hv : f i.toNatClampNeg = v) (kk : GJ Ω p l e R s m args below meth c nL Q (hR Ω h) k n (pc + 1) L (.double v :: st)) : GJ Ω p l e R s m args below meth c nL Q (hR Ω h) k n pc0 L (.int i :: .ref a :: st) := by
  subst hv
  subst hp
  intro H locs ls hI hS hl
  obtain ⟨L0, f0, hP, hD, hx⟩ := hI
  obtain ⟨g1, g2⟩ := hx a _ he
  obtain ⟨q0, hq0⟩ := pl_at (f := f0) g1
  have hq1 := hq0
  rw [g2] at hq1
  exact va_dald X.1 X.2.1 X.2.2.2.2.2.2.2.1.1 hP q0 4 hq1 rfl hi d (kk H locs ls ⟨L0, f0, hP, hD, hx⟩ hS hl)
theorem g_das (X : Fx Ω p l s m args meth c own cc nL ret) {a N : Nat} {f : Nat → UInt64} {i : Int32} {x : UInt64} {h' : RH} (d : decode cc pc = .ok (.dastore, 1)) (hp : pc0 = pc) (he : h a = some (cD Ω N f)) (hi : vp_in i N) (hh : hu h a (cD Ω N (vf_upd f i.toNatClampNeg x)) = h') (kk : GJ Ω p l e R s m args below meth c nL Q (hR Ω h') k n (pc + 1) L st) : GJ Ω p l e R s m args below meth c nL Q (hR Ω h) k n pc0 L (.double x :: .int i :: .ref a :: st) := by
  subst hh
  subst hp
  intro H locs ls hI hS hl
  obtain ⟨L0, f0, hP, hD, hx⟩ := hI
  obtain ⟨g1, g2⟩ := hx a _ he
  obtain ⟨q0, hq0⟩ := pl_at (f := f0) g1
  have hq1 := hq0
  rw [g2] at hq1
  exact va_dast X.1 X.2.1 X.2.2.2.2.2.2.2.1.1 hP hD hS q0 4 hq1 rfl hi d (fun H1 locs1 hP1 hD1 hS1 => kk H1 locs1 ls (hR.upd hD hx he hq0 hP1 hD1) hS1 hl)
theorem g_aal (X : Fx Ω p l s m args meth c own cc nL ret) {a N : Nat} {f : Nat → Option Nat} {i : Int32} {v : Option Nat} (d : decode cc pc = .ok (.aaload, 1)) (hp : pc0 = pc) (he : h a = some (cQ Ω N f)) (hi : vp_in i N) (hv : f i.toNatClampNeg = v) (kk : GJ Ω p l e R s m args below meth c nL Q (hR Ω h) k n (pc + 1) L (va_rf v :: st)) : GJ Ω p l e R s m args below meth c nL Q (hR Ω h) k n pc0 L (.int i :: .ref a :: st) := by
  subst hv
  subst hp
  intro H locs ls hI hS hl
  obtain ⟨L0, f0, hP, hD, hx⟩ := hI
  obtain ⟨g1, g2⟩ := hx a _ he
  obtain ⟨q0, hq0⟩ := pl_at (f := f0) g1
  have hq1 := hq0
  rw [g2] at hq1
  exact va_aldq X.1 X.2.1 X.2.2.2.2.2.2.2.1.1 hP q0 5 hq1 rfl hi d (kk H locs ls ⟨L0, f0, hP, hD, hx⟩ hS hl)
theorem g_aas (X : Fx Ω p l s m args meth c own cc nL ret) {a N y : Nat} {f : Nat → Option Nat} {i : Int32} {h' : RH} (d : decode cc pc = .ok (.aastore, 1)) (hp : pc0 = pc) (he : h a = some (cQ Ω N f)) (hy : okO Ω h y) (hi : vp_in i N) (hh : hu h a (cQ Ω N (va_up f i.toNatClampNeg (some y))) = h') (kk : GJ Ω p l e R s m args below meth c nL Q (hR Ω h') k n (pc + 1) L st) : GJ Ω p l e R s m args below meth c nL Q (hR Ω h) k n pc0 L (.ref y :: .int i :: .ref a :: st) := by
  subst hh
  subst hp
  intro H locs ls hI hS hl
  obtain ⟨L0, f0, hP, hD, hx⟩ := hI
  obtain ⟨g1, g2⟩ := hx a _ he
  obtain ⟨q0, hq0⟩ := pl_at (f := f0) g1
  have hq1 := hq0
  rw [g2] at hq1
  exact va_astqM X.1 X.2.1 X.2.2.2.2.2.2.2.1.1 hP hD hS q0 5 hq1 rfl (okO.any (H0 := H) X.2.2.2.2.2.2.2.1 ⟨L0, f0, hP, hD, hx⟩ hS hy) hi d (fun H1 locs1 hP1 hD1 hS1 => kk H1 locs1 ls (hR.upd hD hx he hq0 hP1 hD1) hS1 hl)
theorem g_aasN (X : Fx Ω p l s m args meth c own cc nL ret) {a N : Nat} {f : Nat → Option Nat} {i : Int32} {h' : RH} (d : decode cc pc = .ok (.aastore, 1)) (hp : pc0 = pc) (he : h a = some (cQ Ω N f)) (hi : vp_in i N) (hh : hu h a (cQ Ω N (va_up f i.toNatClampNeg none)) = h') (kk : GJ Ω p l e R s m args below meth c nL Q (hR Ω h') k n (pc + 1) L st) : GJ Ω p l e R s m args below meth c nL Q (hR Ω h) k n pc0 L (.null :: .int i :: .ref a :: st) := by
  subst hh
  subst hp
  intro H locs ls hI hS hl
  obtain ⟨L0, f0, hP, hD, hx⟩ := hI
  obtain ⟨g1, g2⟩ := hx a _ he
  obtain ⟨q0, hq0⟩ := pl_at (f := f0) g1
  have hq1 := hq0
  rw [g2] at hq1
  exact va_astqN X.1 X.2.1 X.2.2.2.2.2.2.2.1.1 hP hD hS q0 5 hq1 rfl hi d (fun H1 locs1 hP1 hD1 hS1 => kk H1 locs1 ls (hR.upd hD hx he hq0 hP1 hD1) hS1 hl)
theorem g_alen (X : Fx Ω p l s m args meth c own cc nL ret) {a t : Nat} {x : vp_A} {ty : FieldType} {v : Int32} (d : decode cc pc = .ok (.arraylength, 1)) (hp : pc0 = pc) (he : h a = some (.inl (Ω.2.1 t, x))) (ht : (oT Ω)[t]? = some (Ω.2.1 t, ty)) (hv : Int32.ofNat x.1 = v) (kk : GJ Ω p l e R s m args below meth c nL Q (hR Ω h) k n (pc + 1) L (.int v :: st)) : GJ Ω p l e R s m args below meth c nL Q (hR Ω h) k n pc0 L (.ref a :: st) := by
  subst hp
  intro H locs ls hI hS hl
  obtain ⟨L0, f0, hP, hD, hx⟩ := hI
  obtain ⟨g1, g2⟩ := hx a _ he
  obtain ⟨q0, hq0⟩ := pl_at (f := f0) g1
  have hq1 := hq0
  rw [g2] at hq1
  exact va_alen X.1 X.2.1 X.2.2.2.2.2.2.2.1.1 hP q0 t hq1 ht hv d (kk H locs ls ⟨L0, f0, hP, hD, hx⟩ hS hl)
theorem fx_arr {tys : List (ClassId × FieldType)} {cA cB : ClassId} {ty : FieldType} {U : State} (h1 : va_RA U cA ty) (h2 : va_RA U cB ty) : cA = cB := by
  cases ty with
  | object C =>
    obtain ⟨k1, c1, -, -, -, e1⟩ := h1
    obtain ⟨k2, c2, -, -, -, e2⟩ := h2
    exact Option.some.inj (e1.symm.trans e2)
  | _ => exact Option.some.inj ((show U.vm.findClass _ = some cA from h1).symm.trans (show U.vm.findClass _ = some cB from h2))
theorem fx_last {D : va_G} {cl : List vw_C} {Ω : Om} {cA : ClassId} {ty : FieldType} {t : Nat} {U : State} (h : va_K D cl (oT Ω ++ [(cA, ty)]) U) (ht : (oT Ω)[t]? = some (Ω.2.1 t, ty)) : cA = Ω.2.1 t := by
  refine fx_arr (tys := []) (h.2 6 (cA, ty) rfl).2 (h.2 t (Ω.2.1 t, ty) ?_).2
  have hl : t < (oT Ω).length := (List.getElem?_eq_some_iff.mp ht).1
  rw [List.getElem?_append_left hl]
  exact ht
theorem g_newa_int (X : Fx Ω p l s m args meth c own cc nL ret) {z : Int32} {N : Nat} (d : decode cc pc = .ok (.newarray .int, 2)) (hp : pc0 = pc) (hz : ¬ z < 0) (hN : z.toNatClampNeg = N) (hb : N * componentBytes .int ≤ 536870912) (hk : k + 1 ≤ R.cells) (hn : n + N ≤ R.slots) (kk : ∀ q, h q = none → GJ Ω p l e R s m args below meth c nL Q (hR Ω (hu h q (cI Ω 0 N (fun _ => 0)))) (k + 1) (n + N) (pc + 2) L (.ref q :: st)) : GJ Ω p l e R s m args below meth c nL Q (hR Ω h) k n pc0 L (.int z :: st) := by
  subst hp
  intro H locs ls hI hS hl
  obtain ⟨L0, f0, hP, hD, hx⟩ := hI
  refine va_newa (atype := .int) (a0 := (N, .inl (fun _ => 0))) X.1 X.2.1 (X.2.2.2.2.2.2.1 _ q429) rfl X.2.2.2.2.2.2.2.1.1 hP hD hS (oA_ge X.2.2.2.2.2.2.2.1) (fun cA => rfl) hz hN hb hk hn d (fun q cA H1 hK1 hP1 hD1 hS1 => ?_)
  obtain rfl := fx_last (t := 0) hK1 rfl
  exact kk q (hR.new hx hP1 hD1).1 H1 locs ls (hR.new hx hP1 hD1).2 hS1 hl
theorem g_newa_char (X : Fx Ω p l s m args meth c own cc nL ret) {z : Int32} {N : Nat} (d : decode cc pc = .ok (.newarray .char, 2)) (hp : pc0 = pc) (hz : ¬ z < 0) (hN : z.toNatClampNeg = N) (hb : N * componentBytes .char ≤ 536870912) (hk : k + 1 ≤ R.cells) (hn : n + N ≤ R.slots) (kk : ∀ q, h q = none → GJ Ω p l e R s m args below meth c nL Q (hR Ω (hu h q (cI Ω 1 N (fun _ => 0)))) (k + 1) (n + N) (pc + 2) L (.ref q :: st)) : GJ Ω p l e R s m args below meth c nL Q (hR Ω h) k n pc0 L (.int z :: st) := by
  subst hp
  intro H locs ls hI hS hl
  obtain ⟨L0, f0, hP, hD, hx⟩ := hI
  refine va_newa (atype := .char) (a0 := (N, .inl (fun _ => 0))) X.1 X.2.1 (X.2.2.2.2.2.2.1 _ q231) rfl X.2.2.2.2.2.2.2.1.1 hP hD hS (oA_ge X.2.2.2.2.2.2.2.1) (fun cA => rfl) hz hN hb hk hn d (fun q cA H1 hK1 hP1 hD1 hS1 => ?_)
  obtain rfl := fx_last (t := 1) hK1 rfl
  exact kk q (hR.new hx hP1 hD1).1 H1 locs ls (hR.new hx hP1 hD1).2 hS1 hl
theorem g_newa_byte (X : Fx Ω p l s m args meth c own cc nL ret) {z : Int32} {N : Nat} (d : decode cc pc = .ok (.newarray .byte, 2)) (hp : pc0 = pc) (hz : ¬ z < 0) (hN : z.toNatClampNeg = N) (hb : N * componentBytes .byte ≤ 536870912) (hk : k + 1 ≤ R.cells) (hn : n + N ≤ R.slots) (kk : ∀ q, h q = none → GJ Ω p l e R s m args below meth c nL Q (hR Ω (hu h q (cI Ω 2 N (fun _ => 0)))) (k + 1) (n + N) (pc + 2) L (.ref q :: st)) : GJ Ω p l e R s m args below meth c nL Q (hR Ω h) k n pc0 L (.int z :: st) := by
  subst hp
  intro H locs ls hI hS hl
  obtain ⟨L0, f0, hP, hD, hx⟩ := hI
  refine va_newa (atype := .byte) (a0 := (N, .inl (fun _ => 0))) X.1 X.2.1 (X.2.2.2.2.2.2.1 _ q232) rfl X.2.2.2.2.2.2.2.1.1 hP hD hS (oA_ge X.2.2.2.2.2.2.2.1) (fun cA => rfl) hz hN hb hk hn d (fun q cA H1 hK1 hP1 hD1 hS1 => ?_)
  obtain rfl := fx_last (t := 2) hK1 rfl
  exact kk q (hR.new hx hP1 hD1).1 H1 locs ls (hR.new hx hP1 hD1).2 hS1 hl
theorem g_newa_long (X : Fx Ω p l s m args meth c own cc nL ret) {z : Int32} {N : Nat} (d : decode cc pc = .ok (.newarray .long, 2)) (hp : pc0 = pc) (hz : ¬ z < 0) (hN : z.toNatClampNeg = N) (hb : N * componentBytes .long ≤ 536870912) (hk : k + 1 ≤ R.cells) (hn : n + N ≤ R.slots) (kk : ∀ q, h q = none → GJ Ω p l e R s m args below meth c nL Q (hR Ω (hu h q (cJ Ω N (fun _ => 0)))) (k + 1) (n + N) (pc + 2) L (.ref q :: st)) : GJ Ω p l e R s m args below meth c nL Q (hR Ω h) k n pc0 L (.int z :: st) := by
  subst hp
  intro H locs ls hI hS hl
  obtain ⟨L0, f0, hP, hD, hx⟩ := hI
  refine va_newa (atype := .long) (a0 := (N, .inr (.inl (fun _ => 0)))) X.1 X.2.1 (X.2.2.2.2.2.2.1 _ q2377) rfl X.2.2.2.2.2.2.2.1.1 hP hD hS (oA_ge X.2.2.2.2.2.2.2.1) (fun cA => rfl) hz hN hb hk hn d (fun q cA H1 hK1 hP1 hD1 hS1 => ?_)
  obtain rfl := fx_last (t := 3) hK1 rfl
  exact kk q (hR.new hx hP1 hD1).1 H1 locs ls (hR.new hx hP1 hD1).2 hS1 hl
theorem g_newa_double (X : Fx Ω p l s m args meth c own cc nL ret) {z : Int32} {N : Nat} (d : decode cc pc = .ok (.newarray .double, 2)) (hp : pc0 = pc) (hz : ¬ z < 0) (hN : z.toNatClampNeg = N) (hb : N * componentBytes .double ≤ 536870912) (hk : k + 1 ≤ R.cells) (hn : n + N ≤ R.slots) (kk : ∀ q, h q = none → GJ Ω p l e R s m args below meth c nL Q (hR Ω (hu h q (cD Ω N (fun _ => 0)))) (k + 1) (n + N) (pc + 2) L (.ref q :: st)) : GJ Ω p l e R s m args below meth c nL Q (hR Ω h) k n pc0 L (.int z :: st) := by
  subst hp
  intro H locs ls hI hS hl
  obtain ⟨L0, f0, hP, hD, hx⟩ := hI
  refine va_newa (atype := .double) (a0 := (N, .inr (.inr (.inr (.inl (fun _ => 0)))))) X.1 X.2.1 (X.2.2.2.2.2.2.1 _ q2378) rfl X.2.2.2.2.2.2.2.1.1 hP hD hS (oA_ge X.2.2.2.2.2.2.2.1) (fun cA => rfl) hz hN hb hk hn d (fun q cA H1 hK1 hP1 hD1 hS1 => ?_)
  obtain rfl := fx_last (t := 4) hK1 rfl
  exact kk q (hR.new hx hP1 hD1).1 H1 locs ls (hR.new hx hP1 hD1).2 hS1 hl
theorem g_newq (X : Fx Ω p l s m args meth c own cc nL ret) {z : Int32} {N index : Nat} (d : decode cc pc = .ok (.anewarray index, 3)) (hp : pc0 = pc) (hcl : Cond.classLink own index "java/lang/Object" ∈ lw_all) (hz : ¬ z < 0) (hN : z.toNatClampNeg = N) (hb : N * 4 ≤ 536870912) (hk : k + 1 ≤ R.cells) (hn : n + N ≤ R.slots) (kk : ∀ q, h q = none → GJ Ω p l e R s m args below meth c nL Q (hR Ω (hu h q (cQ Ω N (fun _ => none)))) (k + 1) (n + N) (pc + 3) L (.ref q :: st)) : GJ Ω p l e R s m args below meth c nL Q (hR Ω h) k n pc0 L (.int z :: st) := by
  subst hp
  intro H locs ls hI hS hl
  obtain ⟨L0, f0, hP, hD, hx⟩ := hI
  refine va_newq X.1 X.2.1 X.2.2.2.2.2.1 (X.2.2.2.2.2.2.1 _ hcl) X.2.2.2.2.2.2.2.1.2.2.2.2.1 X.2.2.2.2.2.2.2.1.1 hP hD hS (oA_ge X.2.2.2.2.2.2.2.1) hz hN hb hk hn d (fun q cA H1 hK1 hP1 hD1 hS1 => ?_)
  obtain rfl := fx_last (t := 5) hK1 rfl
  exact kk q (hR.new hx hP1 hD1).1 H1 locs ls (hR.new hx hP1 hD1).2 hS1 hl
end HROWS
