/-! MORE ROWS: constants of the world, natives, Math, casts, Object's constructor, throwing -/
theorem hR.grow {Ω : Om} {h : RH} {H H1 : Heap} (hh : hR Ω h H) (hq : ∀ q : Nat, q < H.size → H1[q]? = H[q]?) : hR Ω h H1 := by
  obtain ⟨L, f, hP, hD, hx⟩ := hh
  exact ⟨L, f, hP.kept (fun k q hk => hq q.1 (hP k q hk).lt), hD, hx⟩
section MROWS
variable {Ω : Om} {p : Program} {l : Launch} {e : Env} {R : Room} {s : State} {m : MethodId} {args : Array Value} {below : List Frame} {meth : Method} {c : Code} {Q : State → Prop} {own : String} {cc : ByteArray} {nL : Nat} {ret : Option FieldType} {I : Heap → Prop} {k n pc pc0 : Nat} {L : List (Option Value)} {st : List Value} {h : RH}
theorem g_objInit (X : Fx Ω p l s m args meth c own cc nL ret) {a idx : Nat} (d : decode cc pc = .ok (.invokespecial idx, 3)) (hp : pc0 = pc) (hl1 : Cond.methodLink own idx Lib.objectInit ∈ lw_all) (hf : 1 ≤ R.frames) (ho : (st.map fun v => v.category).sum + 12 ≤ R.locals) (kk : GJ Ω p l e R s m args below meth c nL Q I k n (pc + 3) L st) : GJ Ω p l e R s m args below meth c nL Q I k n pc0 L (.ref a :: st) := by
  subst hp
  intro H locs ls hI hS hl
  refine W.objInit X.1 X.2.1 X.2.2.2.2.2.1 (X.2.2.2.2.2.2.1 _ hl1) (X.2.2.2.2.2.2.1 _ q112) (X.2.2.2.2.2.2.1 _ q113) rfl (hl.1.trans X.2.2.1.symm) rfl d hf ?_ (kk H locs ls hI hS hl)
  have h0 : (F0 m pc0 ls (.ref a :: st)).monitorRoom = 0 := rfl
  omega
theorem g_gets (X : Fx Ω p l s m args meth c own cc nL ret) {C nm dsc ref : String} {v : Value} {index : Nat} (d : decode cc pc = .ok (.getstatic index, 3)) (hp : pc0 = pc) (hz : (C, nm, dsc, v) ∈ stl Ω) (hlink : Cond.fieldLink own index ref nm dsc ∈ lw_all) (hsame : ∀ x, s.fieldFound? C nm dsc = some x → s.fieldFound? ref nm dsc = some x) (kk : GJ Ω p l e R s m args below meth c nL Q I k n (pc + 3) L (v :: st)) : GJ Ω p l e R s m args below meth c nL Q I k n pc0 L st := by
  subst hp
  exact fun H locs ls hI hS hl => va_gets X.1 X.2.1 (X.2.2.2.2.2.2.2.1.2.2.2.2.2.2.2.2.2.1 _ hz) hS X.2.2.2.2.2.1 (X.2.2.2.2.2.2.1 _ hlink) hsame d (kk H locs ls hI hS hl)
theorem g_ldcS (X : Fx Ω p l s m args meth c own cc nL ret) {tx : String} {index j : Nat} (d : decode cc pc = .ok (.ldc index, 2)) (hp : pc0 = pc) (hz : (own, index, tx, j) ∈ srl) (kk : GJ Ω p l e R s m args below meth c nL Q I k n (pc + 2) L (.ref (oM Ω (300 + j)) :: st)) : GJ Ω p l e R s m args below meth c nL Q I k n pc0 L st := by
  subst hp
  exact fun H locs ls hI hS hl => va_ldcS X.1 X.2.1 X.2.2.2.2.2.1 (X.2.2.2.2.2.2.2.1.2.2.2.2.2.2.2.2.2.2.2.2.1 _ hz) d (kk H locs ls hI hS hl)
theorem g_ldcI (X : Fx Ω p l s m args meth c own cc nL ret) {index : Nat} {v : Int32} (d : decode cc pc = .ok (.ldc index, 2)) (hp : pc0 = pc) (hz : Cond.constant own index v ∈ lw_all) (kk : GJ Ω p l e R s m args below meth c nL Q I k n (pc + 2) L (.int v :: st)) : GJ Ω p l e R s m args below meth c nL Q I k n pc0 L st := by
  subst hp
  exact fun H locs ls hI hS hl => lv_ldc X.1 X.2.1 X.2.2.2.2.2.1 (X.2.2.2.2.2.2.1 _ hz) d (kk H locs ls hI hS hl)
theorem g_max (X : Fx Ω p l s m args meth c own cc nL ret) {x y z : Int32} {index : Nat} (d : decode cc pc = .ok (.invokestatic index, 3)) (hp : pc0 = pc) (hlink : Cond.methodLink own index Lib.Math.max.name ∈ lw_all) (hf : 1 ≤ R.frames) (ho : (st.map fun v => v.category).sum + 13 ≤ R.locals) (hc : k ≤ R.cells) (hs : n ≤ R.slots) (hv : (if x < y then y else x) = z) (kk : GJ Ω p l e R s m args below meth c nL Q I k n (pc + 3) L (.int z :: st)) : GJ Ω p l e R s m args below meth c nL Q I k n pc0 L (.int y :: .int x :: st) := by
  subst hp
  subst hv
  exact fun H locs ls hI hS hl => va_mmax X.1 X.2.1 (X.2.2.1.trans hl.1.symm) X.2.2.2.2.2.1 (X.2.2.2.2.2.2.1 _ hlink) (X.2.2.2.2.2.2.1 _ q431) (X.2.2.2.2.2.2.1 _ q81) (X.2.2.2.2.2.2.1 _ q432) hf ho hc hs d (kk H locs ls hI hS hl)
theorem g_min (X : Fx Ω p l s m args meth c own cc nL ret) {x y z : Int32} {index : Nat} (d : decode cc pc = .ok (.invokestatic index, 3)) (hp : pc0 = pc) (hlink : Cond.methodLink own index Lib.Math.min.name ∈ lw_all) (hf : 1 ≤ R.frames) (ho : (st.map fun v => v.category).sum + 13 ≤ R.locals) (hc : k ≤ R.cells) (hs : n ≤ R.slots) (hv : (if y < x then y else x) = z) (kk : GJ Ω p l e R s m args below meth c nL Q I k n (pc + 3) L (.int z :: st)) : GJ Ω p l e R s m args below meth c nL Q I k n pc0 L (.int y :: .int x :: st) := by
  subst hp
  subst hv
  exact fun H locs ls hI hS hl => va_mmin X.1 X.2.1 (X.2.2.1.trans hl.1.symm) X.2.2.2.2.2.1 (X.2.2.2.2.2.2.1 _ hlink) (X.2.2.2.2.2.2.1 _ q681) (X.2.2.2.2.2.2.1 _ q81) (X.2.2.2.2.2.2.1 _ q682) hf ho hc hs d (kk H locs ls hI hS hl)
/-- a cast to the object's own class -/
theorem g_cast (X : Fx Ω p l s m args meth c own cc nL ret) {a index : Nat} {nm : String} (d : decode cc pc = .ok (.checkcast index, 3)) (hp : pc0 = pc) (hlink : Cond.classLink own index nm ∈ lw_all) (hr : ∀ H, I H → ∃ cell : Cell, H[a]? = some cell ∧ cell.vm.isStatics = false ∧ s.vm.findClass nm = some cell.cls) (kk : GJ Ω p l e R s m args below meth c nL Q I k n (pc + 3) L (.ref a :: st)) : GJ Ω p l e R s m args below meth c nL Q I k n pc0 L (.ref a :: st) := by
  subst hp
  exact fun H locs ls hI hS hl => va_castE X.1 X.2.1 X.2.2.2.2.2.1 (X.2.2.2.2.2.2.1 _ hlink) (hr H hI) d (kk H locs ls hI hS hl)
theorem g_castY (X : Fx Ω p l s m args meth c own cc nL ret) {a index : Nat} {C nm : String} (d : decode cc pc = .ok (.checkcast index, 3)) (hp : pc0 = pc) (hlink : Cond.classLink own index nm ∈ lw_all) (hc : Cond.castable C nm ∈ lw_tbl) (hr : ∀ H, I H → ∃ cell : Cell, H[a]? = some cell ∧ cell.vm.isStatics = false ∧ s.vm.findClass C = some cell.cls) (kk : GJ Ω p l e R s m args below meth c nL Q I k n (pc + 3) L (.ref a :: st)) : GJ Ω p l e R s m args below meth c nL Q I k n pc0 L (.ref a :: st) := by
  subst hp
  exact fun H locs ls hI hS hl => va_castY X.1 X.2.1 X.2.2.2.2.2.1 (X.2.2.2.2.2.2.1 _ hlink) (X.2.2.2.2.2.2.2.1.2.2.1 _ hc rfl) (hr H hI) d (kk H locs ls hI hS hl)
theorem g_instE (X : Fx Ω p l s m args meth c own cc nL ret) {a index : Nat} {nm : String} (d : decode cc pc = .ok (.instanceof index, 3)) (hp : pc0 = pc) (hlink : Cond.classLink own index nm ∈ lw_all) (hr : ∀ H, I H → ∃ cell : Cell, H[a]? = some cell ∧ cell.vm.isStatics = false ∧ s.vm.findClass nm = some cell.cls) (kk : GJ Ω p l e R s m args below meth c nL Q I k n (pc + 3) L (.int 1 :: st)) : GJ Ω p l e R s m args below meth c nL Q I k n pc0 L (.ref a :: st) := by
  subst hp
  exact fun H locs ls hI hS hl => va_instE X.1 X.2.1 X.2.2.2.2.2.1 (X.2.2.2.2.2.2.1 _ hlink) (hr H hI) d (kk H locs ls hI hS hl)
/-- a cell of the world from before: the cached Integers' own field -/
theorem g_getOF (X : Fx Ω p l s m args meth c own cc nL ret) {nm dsc o ref : String} {v : Value} {q index : Nat} (d : decode cc pc = .ok (.getfield index, 3)) (hp : pc0 = pc) (hE : va_OF o nm dsc v q (oA Ω) s s.heap) (hlink : Cond.fieldLink own index ref nm dsc ∈ lw_all) (hsame : ∀ x, s.fieldFound? o nm dsc = some x → s.fieldFound? ref nm dsc = some x) (kk : GJ Ω p l e R s m args below meth c nL Q I k n (pc + 3) L (v :: st)) : GJ Ω p l e R s m args below meth c nL Q I k n pc0 L (.ref q :: st) := by
  subst hp
  exact fun H locs ls hI hS hl => vk_getf X.1 X.2.1 hE hS X.2.2.2.2.2.1 (X.2.2.2.2.2.2.1 _ hlink) hsame d (kk H locs ls hI hS hl)
theorem oI_recv (X : Fx Ω p l s m args meth c own cc nL ret) {H : Heap} {locs : List Loc} (hS : va_S (oA Ω) s.heap H locs) {j : Nat} (hj : j < 256) : ∃ cell : Cell, H[oM Ω j]? = some cell ∧ cell.vm.isStatics = false ∧ s.vm.findClass "java/lang/Integer" = some cell.cls := by
  obtain ⟨cell, h1, h2, h3, -⟩ := (X.2.2.2.2.2.2.2.1.2.2.2.2.2.2.2.2.1.1 j hj).kept hS.2.1
  exact ⟨cell, h1, h2, h3⟩
theorem g_copyI (X : Fx Ω p l s m args meth c own cc nL ret) {a b n0 n1 index : Nat} {f g : Nat → Int32} {sp dp z : Int32} {h' : RH} (d : decode cc pc = .ok (.invokestatic index, 3)) (hp : pc0 = pc) (hlink : Cond.methodLink own index arraycopyName ∈ lw_all) (h1 : ¬ sp < 0) (h2 : ¬ dp < 0) (h3 : ¬ z < 0) (h4 : sp.toNatClampNeg + z.toNatClampNeg ≤ n0) (h5 : dp.toNatClampNeg + z.toNatClampNeg ≤ n1) (hb : h b = some (cI Ω 0 n0 f)) (he : h a = some (cI Ω 0 n1 g)) (hf : 1 ≤ R.frames) (ho : (st.map fun v => v.category).sum + (nativeFrameWords "java/lang/System" "arraycopy" 5 + 11) ≤ R.locals) (hh : hu h a (cI Ω 0 n1 (va_cpy f g sp.toNatClampNeg dp.toNatClampNeg z.toNatClampNeg)) = h') (kk : GJ Ω p l e R s m args below meth c nL Q (hR Ω h') k n (pc + 3) L st) : GJ Ω p l e R s m args below meth c nL Q (hR Ω h) k n pc0 L (.int z :: .int dp :: .ref a :: .int sp :: .ref b :: st) := by
  subst hp
  subst hh
  intro H locs ls hI hS hl
  obtain ⟨L0, f0, hP, hD, hx⟩ := hI
  obtain ⟨u1, u2⟩ := hx b _ hb
  obtain ⟨q0, hq0⟩ := pl_at (f := f0) u1
  rw [u2] at hq0
  obtain ⟨g1, g2⟩ := hx a _ he
  obtain ⟨q1, hq1⟩ := pl_at (f := f0) g1
  have hq2 := hq1
  rw [g2] at hq2
  exact va_copyi X.1 X.2.1 (X.2.2.1.trans hl.1.symm) X.2.2.2.2.2.1 (X.2.2.2.2.2.2.1 _ hlink) (X.2.2.2.2.2.2.1 _ q685) (X.2.2.2.2.2.2.1 _ q684) (X.2.2.2.2.2.2.1 _ q83) X.2.2.2.2.2.2.2.1.1 hP hD hS q0 q1 0 0 hq0 hq2 rfl rfl rfl h1 h2 h3 h4 h5 (fun _ _ => rfl) hf ho d (fun H1 locs1 hP1 hD1 hS1 => kk H1 locs1 ls (hR.upd hD hx he hq1 hP1 hD1) hS1 hl)
theorem g_copyQ (X : Fx Ω p l s m args meth c own cc nL ret) {a b n0 n1 index : Nat} {f g : Nat → Option Nat} {sp dp z : Int32} {h' : RH} (d : decode cc pc = .ok (.invokestatic index, 3)) (hp : pc0 = pc) (hlink : Cond.methodLink own index arraycopyName ∈ lw_all) (h1 : ¬ sp < 0) (h2 : ¬ dp < 0) (h3 : ¬ z < 0) (h4 : sp.toNatClampNeg + z.toNatClampNeg ≤ n0) (h5 : dp.toNatClampNeg + z.toNatClampNeg ≤ n1) (hb : h b = some (cQ Ω n0 f)) (he : h a = some (cQ Ω n1 g)) (hel : ∀ i : Nat, i < z.toNatClampNeg → ∀ y : Nat, f (sp.toNatClampNeg + i) = some y → okO Ω h y) (hf : 1 ≤ R.frames) (ho : (st.map fun v => v.category).sum + (nativeFrameWords "java/lang/System" "arraycopy" 5 + 11) ≤ R.locals) (hh : hu h a (cQ Ω n1 (va_cpy f g sp.toNatClampNeg dp.toNatClampNeg z.toNatClampNeg)) = h') (kk : GJ Ω p l e R s m args below meth c nL Q (hR Ω h') k n (pc + 3) L st) : GJ Ω p l e R s m args below meth c nL Q (hR Ω h) k n pc0 L (.int z :: .int dp :: .ref a :: .int sp :: .ref b :: st) := by
  subst hp
  subst hh
  intro H locs ls hI hS hl
  obtain ⟨L0, f0, hP, hD, hx⟩ := hI
  obtain ⟨u1, u2⟩ := hx b _ hb
  obtain ⟨q0, hq0⟩ := pl_at (f := f0) u1
  rw [u2] at hq0
  obtain ⟨g1, g2⟩ := hx a _ he
  obtain ⟨q1, hq1⟩ := pl_at (f := f0) g1
  have hq2 := hq1
  rw [g2] at hq2
  exact va_copyM X.1 X.2.1 (X.2.2.1.trans hl.1.symm) X.2.2.2.2.2.1 (X.2.2.2.2.2.2.1 _ hlink) (X.2.2.2.2.2.2.1 _ q685) (X.2.2.2.2.2.2.1 _ q684) (X.2.2.2.2.2.2.1 _ q83) X.2.2.2.2.2.2.2.1.1 hP hD hS q0 q1 5 5 hq0 hq2 rfl rfl h1 h2 h3 h4 h5 (fun i hi y hy => okO.any (H0 := H) X.2.2.2.2.2.2.2.1 ⟨L0, f0, hP, hD, hx⟩ hS (hel i hi y hy)) hf ho d (fun H1 locs1 hP1 hD1 hS1 => kk H1 locs1 ls (hR.upd hD hx he hq1 hP1 hD1) hS1 hl)
/-- 'throw new E()', not caught here -/
theorem g_throw0 (X : Fx Ω p l s m args meth c own cc nL ret) {cls : String} {names : List String} {ik ic mc ms : Nat} {Qr : Option Value → Heap → Prop} {Xr : String → Nat → Heap → Prop} (d0 : decode cc pc = .ok (.new ik, 3)) (hp : pc0 = pc) (d3 : decode cc (pc + 3) = .ok (.dup, 1)) (d4 : decode cc (pc + 4) = .ok (.invokespecial ic, 3)) (d7 : decode cc (pc + 7) = .ok (.athrow, 1))
    (hcls : Bundle.fit cls = true) (hnames : ∀ n ∈ names, Bundle.fit n = true) (hk : Cond.classLink own ik cls ∈ lw_all) (hini : Cond.initialized cls ∈ lw_all) (hat : ∀ w ∈ vx_at0 own ic cls names, w ∈ lw_all ∨ (w ∈ lw_tbl ∧ nwk w = true)) (hout : ∀ x ∈ c.exceptionTable.toList, covers x (pc + 7) = false)
    (hRf : names.length + 3 < R.frames) (hRl : (st.map fun v => v.category).sum + (13 * (names.length + 1) + 42) ≤ R.locals) (hRc : k + 1 ≤ R.cells) (hRs : n + 6 ≤ R.slots) (hc : k + 1 ≤ mc) (hs : n + 6 ≤ ms)
    (hx : ∀ q H H1, I H → H.size ≤ H1.size → (∀ q : Nat, q < H.size → H1[q]? = H[q]?) → Xr cls q H1) : GJ Ω p l e R s m args below meth c nL (MM Ω below Qr Xr args s mc ms) I k n pc0 L st := by
  subst hp
  intro H locs ls hI hS hl
  have hg : ∀ w ∈ vx_at0 own ic cls names, w.before args s = true ∧ vx_ot w = true := by
    intro w hw
    rcases hat w hw with h1 | ⟨h1, h2⟩
    · exact ⟨X.2.2.2.2.2.2.1 _ h1, by unfold vx_ot; rw [(List.mem_filter.mp h1).2, Bool.or_true]⟩
    · have h3 : w.onTables = true := by cases w <;> first | rfl | exact absurd h2 (by simp [nwk])
      exact ⟨va_Nw.use h3 (X.2.2.2.2.2.2.2.1.2.2.1 _ h1 h2), by unfold vx_ot; rw [h3, Bool.true_or]⟩
  refine vx_throw0 (names := names) X.1 X.2.1 X.2.2.2.2.2.2.2.2 X.2.2.2.2.2.1 hcls hnames (X.2.2.2.2.2.2.1 _ hk) (X.2.2.2.2.2.2.1 _ hini) (fun w hw => (hg w hw).1) ?_ X.2.2.2.2.2.2.2.1.2.2.2.2.2.2.2.2.2.2.2.2.2.1 X.2.2.2.2.2.2.2.1.2.2.2.2.2.2.2.2.2.2.2.2.2.2 hS (hl.1.trans X.2.2.1.symm) d0 d3 d4 d7 hout hRf hRl hRc hRs X.2.2.2.2.1 ?_ hS.2.2 hc hs
  · intro w hw
    rcases List.mem_cons.mp hw with h1 | h1
    · rw [h1]; rfl
    · rcases List.mem_cons.mp h1 with h1 | h1
      · rw [h1]; rfl
      · exact (hg w h1).2
  · intro t ht hz hq q9
    exact ⟨hx q9 H t.heap hI hz hq, Nat.le_trans hS.1 hz, fun q g1 g2 => (hq q (Nat.lt_of_lt_of_le g1 hS.1)).trans (hS.2.1 q g1 g2)⟩
theorem g_athrow (X : Fx Ω p l s m args meth c own cc nL ret) {q : Nat} {E : String} (d : decode cc pc = .ok (.athrow, 1)) (hp : pc0 = pc) (hr : ∀ H, I H → ∃ cell : Cell, H[q]? = some cell ∧ cell.vm = .none ∧ s.vm.findClass E = some cell.cls) (kk : GX Ω p l e R s m args below meth c nL Q I k n pc L st E q) : GJ Ω p l e R s m args below meth c nL Q I k n pc0 L (.ref q :: st) := by
  subst hp
  intro H locs ls hI hS hl
  obtain ⟨ce, h1, h2, h3⟩ := hr H hI
  exact vx_athrow X.1 X.2.1 d (kk H locs ls ce hI hS hl h1 h2 h3)
end MROWS
