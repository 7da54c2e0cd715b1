/-! STRINGBUILDER: private methods of the superclass -/
theorem sel_priv {s : State} {args : Array Value} {C : String} {x0 y0 y : MethodName} (hy : y.cls ≠ "java/lang/invoke/MethodHandle" ∧ y.cls ≠ "java/lang/invoke/VarHandle") (h0 : (Cond.selects C x0 y0).before args s = true) (hc : y0.cls = y.cls) (hpriv : (Cond.privateMethod y).before args s = true) (hinst : (Cond.instanceMethod y).before args s = true) : (Cond.selects C y y).before args s = true := by
  obtain ⟨c, r, m0, h1, -, h3, -, k, hk, hki⟩ := Cond.selects_spec h0
  obtain ⟨mk, methM, hnamed, hmethM, -, -⟩ := Cond.instanceMethod_spec hinst
  have hfound : s.methodFound? y.cls y.name y.desc = some mk := State.methodFound?_of_named hnamed hy
  have e0 := findClass_of_methodNamed h3
  rw [hc, findClass_of_methodNamed hnamed] at e0
  have e1 : mk.cls = m0.cls := Option.some.inj e0
  have hsel : selectMethod {} s.vm c mk = .method mk := selectMethod_private hmethM (Cond.privateMethod_at hpriv mk methM hnamed hmethM)
  simp only [Cond.before, Cond.holds, Cond.value, h1, hfound, hnamed, hsel, e1, hk]
  simp
  exact hki
section SB0
variable {Ω : Om} {p : Program} {l : Launch} {e : Env} {R : Room} {s : State} {m : MethodId} {args : Array Value} {below : List Frame} {meth : Method} {c : Code} {Q : State → Prop} {own : String} {cc : ByteArray} {nL : Nat} {ret : Option FieldType} {I : Heap → Prop} {k n pc pc0 : Nat} {L : List (Option Value)} {st stk : List Value} {h : RH}
theorem g_copyB (X : Fx Ω p l s m args meth c own cc nL ret) {a b n0 n1 index : Nat} {f g : Nat → Int32} {sp dp z : Int32} {h' : RH} (d : decode cc pc = .ok (.invokestatic index, 3)) (hp : pc0 = pc) (hlink : Cond.methodLink own index arraycopyName ∈ lw_all) (h1 : ¬ sp < 0) (h2 : ¬ dp < 0) (h3 : ¬ z < 0) (h4 : sp.toNatClampNeg + z.toNatClampNeg ≤ n0) (h5 : dp.toNatClampNeg + z.toNatClampNeg ≤ n1) (hb : h b = some (cI Ω 2 n0 f)) (he : h a = some (cI Ω 2 n1 g)) (hel : ∀ i, i < z.toNatClampNeg → fits .byte (.int (f (sp.toNatClampNeg + i))) = true) (hf : 1 ≤ R.frames) (ho : (st.map fun v => v.category).sum + (nativeFrameWords "java/lang/System" "arraycopy" 5 + 11) ≤ R.locals) (hh : hu h a (cI Ω 2 n1 (va_cpy f g sp.toNatClampNeg dp.toNatClampNeg z.toNatClampNeg)) = h') (kk : GJ Ω p l e R s m args below meth c nL Q (hR Ω h') k n (pc + 3) L st) : GJ Ω p l e R s m args below meth c nL Q (hR Ω h) k n pc0 L (.int z :: .int dp :: .ref a :: .int sp :: .ref b :: st) := by
  subst hp
  subst hh
  intro H locs ls hI hS hl
  obtain ⟨L0, f0, hP, hD, hx⟩ := hI
  obtain ⟨u1, u2⟩ := hx b _ hb
  obtain ⟨q0, hq0⟩ := pl_at (f := f0) u1
  rw [u2] at hq0
  obtain ⟨g1, g2⟩ := hx a _ he
  obtain ⟨q1, hq1⟩ := pl_at (f := f0) g1
  have hq2 := hq1
  rw [g2] at hq2
  exact va_copyi X.1 X.2.1 (X.2.2.1.trans hl.1.symm) X.2.2.2.2.2.1 (X.2.2.2.2.2.2.1 _ hlink) (X.2.2.2.2.2.2.1 _ q685) (X.2.2.2.2.2.2.1 _ q684) (X.2.2.2.2.2.2.1 _ q83) X.2.2.2.2.2.2.2.1.1 hP hD hS q0 q1 2 2 hq0 hq2 rfl rfl rfl h1 h2 h3 h4 h5 hel hf ho d (fun H1 locs1 hP1 hD1 hS1 => kk H1 locs1 ls (hR.upd hD hx he hq1 hP1 hD1) hS1 hl)
variable {α : Type} {V : α → Option Value} {J : α → Heap → Prop} {x0 y0 y : MethodName} {bytes : ByteArray} {maxL d' index mc ms : Nat} {ry : Option FieldType} {b : Nat} {As : List Value} {I' : Heap → Prop} {C : String}
/-- a private method of the superclass, called on an object of the class C, of which some selection of that superclass's is known -/
theorem g_callP (X : Fx Ω p l s m args meth c own cc nL ret) (hM : CM Ω l y (ws_ y bytes maxL ry) d' mc ms (.ref b :: As) I' (QV V J) nX) (d : decode cc pc = .ok (.invokevirtual index, 3)) (hp : pc0 = pc) (hlk : Cond.methodLink own index y ∈ lw_all) (hsm : Cond.sameMethod y.cls y.cls y.name y.desc ∈ lw_all) (hsel : Cond.selects C x0 y0 ∈ lw_all) (h0 : y0.cls = y.cls) (hpr : Cond.privateMethod y ∈ lw_tbl) (hin : Cond.instanceMethod y ∈ lw_all) (hini : Cond.initialized y.cls ∈ lw_all) (hc : Cond.code y bytes maxL ry ∈ lw_all) (hy : y.cls ≠ "java/lang/invoke/MethodHandle" ∧ y.cls ≠ "java/lang/invoke/VarHandle" ∧ (parseMethodDescriptor y.desc).map (fun d => d.parameters.length) = some As.length) (hr : ∀ H, I H → ∃ cell : Cell, H[b]? = some cell ∧ cell.vm.isStatics = false ∧ s.vm.findClass C = some cell.cls) (hI : ∀ H, I H → I' H) (hR : d' + 1 ≤ R.frames ∧ 8 + (maxL + 11) + 40 * d' ≤ R.locals) (hf : k + mc ≤ R.cells ∧ n + ms ≤ R.slots) (hst : (st.map fun v => v.category).sum ≤ 8) (hstk : stk = As.reverse ++ .ref b :: st) (kk : ∀ x, GJ Ω p l e R s m args below meth c nL Q (J x) (k + mc) (n + ms) (pc + 3) L ((V x).toList ++ st)) : GJ Ω p l e R s m args below meth c nL Q I k n pc0 L stk := by
  subst hp
  subst hstk
  have hw := X.2.2.2.2.2.2.1
  have hG : GoodIn lw_all (ws_ y bytes maxL ry) := lw_meth hc
  have hcw : va_CU R s args own C y.cls index y y bytes maxL ry (ws_ y bytes maxL ry) (rmD d' mc ms) mc ms As.length :=
    ⟨⟨rfl, rfl, hR.1, hR.2, pay_in hw hG, List.mem_cons_self⟩, hw _ hc, hw _ hini, ⟨hy.1, hy.2.1⟩, fun sig h => by
        have h2 := hy.2.2
        rw [h] at h2
        exact (Option.some.inj h2).symm, hw _ hlk, hw _ hsm, va_Decl.of (hw _ hin) (hw _ hc),
      sel_priv ⟨hy.1, hy.2.1⟩ (hw _ hsel) h0 (va_Nw.use rfl (X.2.2.2.2.2.2.2.1.2.2.1 _ hpr rfl)) (hw _ hin), hw _ hin⟩
  exact g_run (fun H locs ls hH hS hl => vx_runU (As := As) (rest := st) X.call hM hcw (X.preV hS (hr H hH) (hI H hH)) rfl rfl hl.1 rfl (lv_room hst) d hf) (fun E q => GX.no) kk
variable {Γ : LH}
theorem l_copyB (X : Fx Ω p l s m args meth c own cc nL ret) {a b n0 n1 index : Nat} {f g : Nat → Int32} {sp dp z : Int32} {Γ' : LH} (d : decode cc pc = .ok (.invokestatic index, 3)) (hp : pc0 = pc) (hlink : Cond.methodLink own index arraycopyName ∈ lw_all) (h1 : ¬ sp < 0) (h2 : ¬ dp < 0) (h3 : ¬ z < 0) (h4 : sp.toNatClampNeg + z.toNatClampNeg ≤ n0) (h5 : dp.toNatClampNeg + z.toNatClampNeg ≤ n1) (hb : Γ b = some (.inl (cI Ω 2 n0 f))) (he : Γ a = some (.inl (cI Ω 2 n1 g))) (hel : ∀ i, i < z.toNatClampNeg → fits .byte (.int (f (sp.toNatClampNeg + i))) = true) (hf : 1 ≤ R.frames) (ho : (st.map fun v => v.category).sum + (nativeFrameWords "java/lang/System" "arraycopy" 5 + 11) ≤ R.locals) (hh : hu Γ a (.inl (cI Ω 2 n1 (va_cpy f g sp.toNatClampNeg dp.toNatClampNeg z.toNatClampNeg))) = Γ') (kk : GJ Ω p l e R s m args below meth c nL Q (hL Ω Γ') k n (pc + 3) L st) : GJ Ω p l e R s m args below meth c nL Q (hL Ω Γ) k n pc0 L (.int z :: .int dp :: .ref a :: .int sp :: .ref b :: st) := by
  subst hh
  exact GJ.ex (fun x => GJ.and (fun ok => g_copyB X d hp hlink h1 h2 h3 h4 h5 (cc_o hb) (cc_o he) hel hf ho rfl (GJ.imp (fun H hH => ⟨x, ok_put ok he, by rw [cc_put he]; exact hH⟩) kk)))
end SB0
