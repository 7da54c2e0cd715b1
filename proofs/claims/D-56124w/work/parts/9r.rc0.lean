/-! SLIDEPARK: carrying out a text -/
section PUTE
variable {p : Program} {l : Launch} {e : Env} {R : Room} {s : State} {m : MethodId} {args : Array Value} {below : List Frame} {meth : Method} {c : Code} {H H0 : Heap} {locs : List Loc} {cells slots : Nat} {Q : State → Prop} {cc : ByteArray} {pc : Nat} {ls : Array Slot} {rest : List Value} {D : va_G} {cl : List vw_C} {tys : List (ClassId × FieldType)} {ws : va_W} {A : Nat → Prop} {a : Nat}
theorem va_putE (hexec : p.tables.exec = Jvm.exec) (hb : c.code = cc) {own ref C : String} {T : u_T} {N ci index : Nat} {Ts : List Cond} (hts : ∀ w ∈ Ts, w.before args s = true) (hin : ∀ w ∈ u_ws C T N, w ∈ Ts) (ty0 : Nat → FieldType) (hty : ∀ k, k < N → parseFieldDescriptor (T k).2.2.1 = some (ty0 k)) (hnm : ∀ a, a < N → ∀ b, b < N → a ≠ b → (T a).2.1 ≠ (T b).2.1) (hown : s.vm.findClass own = some m.cls) (hK : va_K D cl tys s) (hP : va_P D cl ws H) (hD : va_D A ws) (hS0 : va_S A H0 H locs) (q0 : Nat) {fs : List Value} (he : ws[q0]? = some (a, .inr (ci, fs))) (hc : cl[ci]? = some (C, T, N)) (k : Nat) (hk : k < N) (hlink : (Cond.fieldLink own index ref (T k).2.1 (T k).2.2.1).before args s = true) (hsame : ∀ x, s.fieldFound? (T k).1 (T k).2.1 (T k).2.2.1 = some x → s.fieldFound? ref (T k).2.1 (T k).2.2.1 = some x) (hfin : (T k).2.2.2 = false) {ty : FieldType} {v : Value} (hd : parseFieldDescriptor (T k).2.2.1 = some ty) (hn : narrow ty v = v) (hfit : fits ty v = true) (hl : k < fs.length)
    (hdg : decode cc pc = .ok (.putfield index, 3)) (kk : ∀ (H1 : Heap) (locs1 : List Loc), (∀ q : Nat, q ≠ a → H1[q]? = H[q]?) → va_P D cl (ws.set q0 (a, .inr (ci, fs.set k v))) H1 → va_D A (ws.set q0 (a, .inr (ci, fs.set k v))) → va_S A H0 H1 locs1 → W p l e R s m args below meth c H1 locs1 cells slots Q (F0 m (pc + 3) ls rest)) : W p l e R s m args below meth c H locs cells slots Q (F0 m pc ls (v :: .ref a :: rest)) := by
  have hap := va_apart (own := own) hts hin ty0 hty hnm hK hc
  obtain ⟨r, h1, cell, q1, q2, q3, q4⟩ := hP q0 _ he
  have hr : r = (C, T, N) := Option.some.inj (h1.symm.trans hc)
  subst hr
  obtain ⟨hS, hfc, kC, hkC, hkind⟩ := hK.1 ci _ hc
  obtain ⟨cf, kf, fi, f, hi, hsl⟩ := hS k hk
  have hlay := hts _ (hin _ (u_in_lay hk))
  unfold u_lay at hlay
  rw [if_neg (by rw [hfin]; decide)] at hlay
  have hst := (u_facts hfc hkC (u_lays hts hin hk) hi).1
  have h6 := u_store hfc hkC hkind hlay hi hd hn hfit
  refine W.putK hexec hb (f := f) ⟨hown, hlink, ⟨_, _, _, hsame _ hi⟩, hst⟩ (by rw [q2]; exact h6) q1 q3 (by rw [hsl]; exact k2_hasslot (q4 k hk)) rfl rfl hdg fun H' e1 e2 e3 => ?_
  rw [hsl] at e1 ⊢
  exact kk H' _ (fun q hq => e3 q hq) (hP.set hD he ⟨_, hc, t_OB.to (V := updV (vp_V fs) k v) ⟨_, e1, q2, q3, t_set q4 hap hk v⟩ (fun j _ => vp_updV_set hl v j)⟩ e3) (hD.set he) (hS0.put e2 e3 (hD.2 q0 _ he))
end PUTE
/-- at q stands an object of the class E -/
def OX (s : State) (E : String) (q : Nat) (H : Heap) : Prop := ∃ cell : Cell, H[q]? = some cell ∧ cell.vm = .none ∧ s.vm.findClass E = some cell.cls
section RUN
variable {Ω : Om} {p : Program} {l : Launch} {e : Env} {R : Room} {s : State} {m : MethodId} {args : Array Value} {below : List Frame} {meth : Method} {c : Code} {Q : State → Prop} {own : String} {cc : ByteArray} {nL : Nat} {ret : Option FieldType} {I : Heap → Prop} {k n pc pc0 : Nat} {L : List (Option Value)} {st stk : List Value} {h : RH} {Γ : LH}
theorem GX.catchAnyX (X : Fx Ω p l s m args meth c own cc nL ret) {E : String} {q : Nat} (pre : List ExceptionTableEntry) (x : ExceptionTableEntry) (suf : List ExceptionTableEntry) (hsplit : c.exceptionTable.toList = pre ++ x :: suf)
    (hpass : ∀ z ∈ pre, covers z pc = false ∨ (z.catchType ≠ 0 ∧ ∃ nm : String, Cond.classLink own z.catchType nm ∈ lw_all ∧ (E, nm) ∈ ncl)) (hx : covers x pc = true) (h0 : x.catchType = 0) (kk : GJ Ω p l e R s m args below meth c nL Q (fun H => I H ∧ OX s E q H) k n x.handlerPc L [.ref q]) : GX Ω p l e R s m args below meth c nL Q I k n pc L st E q :=
  fun H locs ls ce hI hS hl hq hv hc => GX.catchAny (I := fun H => I H ∧ OX s E q H) X pre x suf hsplit hpass hx h0 kk H locs ls ce ⟨hI, ce, hq, hv, hc⟩ hS hl hq hv hc
theorem l_putE (X : Fx Ω p l s m args meth c own cc nL ret) {a index ci N : Nat} {T : u_T} {C ref : String} {fs : List Value} {v : Value} {ty : FieldType} {E : String} {q : Nat} (hCE : C ≠ E) (d : decode cc pc = .ok (.putfield index, 3)) (hp : pc0 = pc) (hin : ∀ w ∈ u_ws C T N, w ∈ lw_all) {ty0 : Nat → FieldType} (hty : ∀ k, k < N → parseFieldDescriptor (T k).2.2.1 = some (ty0 k)) (hnm : ∀ a, a < N → ∀ b, b < N → a ≠ b → (T a).2.1 ≠ (T b).2.1) (hc : vwCl[ci]? = some (C, T, N)) (i : Nat) (hi : i < N) (hlink : Cond.fieldLink own index ref (T i).2.1 (T i).2.2.1 ∈ lw_all) (hsame : ∀ x, s.fieldFound? (T i).1 (T i).2.1 (T i).2.2.1 = some x → s.fieldFound? ref (T i).2.1 (T i).2.2.1 = some x) (hfin : (T i).2.2.2 = false) (hd : parseFieldDescriptor (T i).2.2.1 = some ty) (hn : narrow ty v = v) (hfit : fits ty v = true) (he : Γ a = some (.inl (.inr (ci, fs)))) (hlen : i < fs.length) (kk : GJ Ω p l e R s m args below meth c nL Q (fun H => hL Ω (hu Γ a (.inl (.inr (ci, fs.set i v)))) H ∧ OX s E q H) k n (pc + 3) L st) : GJ Ω p l e R s m args below meth c nL Q (fun H => hL Ω Γ H ∧ OX s E q H) k n pc0 L (v :: .ref a :: st) := by
  subst hp
  intro H locs ls hI hS hl
  obtain ⟨⟨x, ok, hR0⟩, cq, o1, o2, o3⟩ := hI
  have hqa : q ≠ a := fun z => by
    obtain ⟨cell, r1, r2, r3⟩ := hR0.recv X.2.2.2.2.2.2.2.1 (cc_o he) hc
    subst z
    cases Option.some.inj (o1.symm.trans r1)
    obtain ⟨k1, h1, n1⟩ := Vm.findClass_spec r3
    obtain ⟨k2, h2, n2⟩ := Vm.findClass_spec o3
    cases Option.some.inj (h1.symm.trans h2)
    exact hCE (n1.symm.trans n2)
  obtain ⟨L0, f0, hP, hD, hx⟩ := hR0
  obtain ⟨g1, g2⟩ := hx a _ (cc_o he)
  obtain ⟨q0, hq0⟩ := pl_at (f := f0) g1
  have hq1 := hq0
  rw [g2] at hq1
  exact va_putE X.1 X.2.1 (Ts := lw_all) X.2.2.2.2.2.2.1 hin ty0 hty hnm X.2.2.2.2.2.1 X.2.2.2.2.2.2.2.1.1 hP hD hS q0 hq1 hc i hi (X.2.2.2.2.2.2.1 _ hlink) hsame hfin hd hn hfit hlen d (fun H1 locs1 hqq hP1 hD1 hS1 => kk H1 locs1 ls ⟨⟨x, ok_put ok he, by rw [cc_put he]; exact hR.upd hD hx (cc_o he) hq0 hP1 hD1⟩, cq, (hqq q hqa).trans o1, o2, o3⟩ hS1 hl)
/-- 'new E()' of the class 14, not thrown at once -/
theorem g_make0 (X : Fx Ω p l s m args meth c own cc nL ret) {names : List String} {ik ic : Nat} (d0 : decode cc pc = .ok (.new ik, 3)) (hp : pc0 = pc) (d3 : decode cc (pc + 3) = .ok (.dup, 1)) (d4 : decode cc (pc + 4) = .ok (.invokespecial ic, 3))
    (hcls : Bundle.fit RJ15 = true) (hnames : ∀ n ∈ names, Bundle.fit n = true) (hk : Cond.classLink own ik RJ15 ∈ lw_all) (hini : Cond.initialized RJ15 ∈ lw_all) (hat : ∀ w ∈ vx_at0 own ic RJ15 names, w ∈ lw_all ∨ (w ∈ lw_tbl ∧ nwk w = true))
    (hRf : names.length + 3 < R.frames) (hRl : (st.map fun v => v.category).sum + (13 * (names.length + 1) + 42) ≤ R.locals) (hRc : k + 1 ≤ R.cells) (hRs : n + 6 ≤ R.slots)
    (kk : ∀ q, h q = none → GJ Ω p l e R s m args below meth c nL Q (hR Ω (hu h q (.inr (14, [])))) (k + 1) (n + 6) (pc + 7) L (.ref q :: st)) : GJ Ω p l e R s m args below meth c nL Q (hR Ω h) k n pc0 L st := by
  subst hp
  intro H locs ls hI hS hl
  obtain ⟨L0, f0, hP, hD, hx⟩ := hI
  have hg : ∀ w ∈ vx_at0 own ic RJ15 names, w.before args s = true ∧ vx_ot w = true := by
    intro w hw
    rcases hat w hw with h1 | ⟨h1, h2⟩
    · exact ⟨X.2.2.2.2.2.2.1 _ h1, by unfold vx_ot; rw [(List.mem_filter.mp h1).2, Bool.or_true]⟩
    · have h3 : w.onTables = true := by cases w <;> first | rfl | exact absurd h2 (by simp [nwk])
      exact ⟨va_Nw.use h3 (X.2.2.2.2.2.2.2.1.2.2.1 _ h1 h2), by unfold vx_ot; rw [h3, Bool.true_or]⟩
  refine vx_make0 (names := names) (ci := 14) X.1 X.2.1 X.2.2.2.2.2.2.2.2 X.2.2.2.2.2.1 hcls hnames (X.2.2.2.2.2.2.1 _ hk) (X.2.2.2.2.2.2.1 _ hini) (fun w hw => (hg w hw).1) ?_ X.2.2.2.2.2.2.2.1.2.2.2.2.2.2.2.2.2.2.2.2.2.1 X.2.2.2.2.2.2.2.1.2.2.2.2.2.2.2.2.2.2.2.2.2.2 hS (hl.1.trans X.2.2.1.symm) d0 d3 d4 X.2.2.2.2.2.2.2.1.1 hP hD (oA_ge X.2.2.2.2.2.2.2.1) rfl hRf hRl hRc hRs (fun q H1 hP1 hD1 hS1 => ?_)
  · intro w hw
    rcases List.mem_cons.mp hw with h1 | h1
    · rw [h1]; rfl
    · rcases List.mem_cons.mp h1 with h1 | h1
      · rw [h1]; rfl
      · exact (hg w h1).2
  · obtain ⟨n1, n2⟩ := hR.new hx hP1 hD1
    exact kk q n1 H1 locs ls n2 hS1 hl
theorem l_make0 (X : Fx Ω p l s m args meth c own cc nL ret) {names : List String} {ik ic : Nat} (d0 : decode cc pc = .ok (.new ik, 3)) (hp : pc0 = pc) (d3 : decode cc (pc + 3) = .ok (.dup, 1)) (d4 : decode cc (pc + 4) = .ok (.invokespecial ic, 3))
    (hcls : Bundle.fit RJ15 = true) (hnames : ∀ n ∈ names, Bundle.fit n = true) (hk : Cond.classLink own ik RJ15 ∈ lw_all) (hini : Cond.initialized RJ15 ∈ lw_all) (hat : ∀ w ∈ vx_at0 own ic RJ15 names, w ∈ lw_all ∨ (w ∈ lw_tbl ∧ nwk w = true))
    (hRf : names.length + 3 < R.frames) (hRl : (st.map fun v => v.category).sum + (13 * (names.length + 1) + 42) ≤ R.locals) (hRc : k + 1 ≤ R.cells) (hRs : n + 6 ≤ R.slots)
    (kk : ∀ q, Γ q = none → GJ Ω p l e R s m args below meth c nL Q (hL Ω (hu Γ q (.inl (.inr (14, []))))) (k + 1) (n + 6) (pc + 7) L (.ref q :: st)) : GJ Ω p l e R s m args below meth c nL Q (hL Ω Γ) k n pc0 L st :=
  GJ.ex (fun x => GJ.and (fun ok => g_make0 X d0 hp d3 d4 hcls hnames hk hini hat hRf hRl hRc hRs (fun q hq => GJ.imp (fun H hH => ⟨x, ok_new ok hq, by rw [cc_new ok hq]; exact hH⟩) (kk q (cc_no ok hq).1))))
end RUN
