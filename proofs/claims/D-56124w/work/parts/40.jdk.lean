/-! JDK: rows over the constants -/
section JROWS
variable {Ω : Om} {p : Program} {l : Launch} {e : Env} {R : Room} {s : State} {m : MethodId} {args : Array Value} {below : List Frame} {meth : Method} {c : Code} {Q : State → Prop} {own : String} {cc : ByteArray} {nL : Nat} {ret : Option FieldType} {I : Heap → Prop} {k n pc pc0 : Nat} {L : List (Option Value)} {st stk : List Value}
variable {α : Type} {V : α → Option Value} {J : α → Heap → Prop} {y x : MethodName} {bytes : ByteArray} {maxL d' index mc ms : Nat} {ry : Option FieldType} {b : Nat} {As : List Value} {I' : Heap → Prop} {C host : String}
/-- a call on a constant -/
theorem g_callVk (X : Fx Ω p l s m args meth c own cc nL ret) (hM : CM Ω l y (ws_ y bytes maxL ry) d' mc ms (.ref b :: As) I' (QV V J) nX) (d : decode cc pc = .ok (.invokevirtual index, 3)) (hp : pc0 = pc) (hw : GoodIn lw_all (wsV own index C y (ws_ y bytes maxL ry))) (hy : y.cls = C ∧ y.cls ≠ "java/lang/invoke/MethodHandle" ∧ y.cls ≠ "java/lang/invoke/VarHandle" ∧ (parseMethodDescriptor y.desc).map (fun d => d.parameters.length) = some As.length) (hr : ∀ (H : Heap) (locs : List Loc), va_S (oA Ω) s.heap H locs → ∃ cell : Cell, H[b]? = some cell ∧ cell.vm.isStatics = false ∧ s.vm.findClass C = some cell.cls) (hI : ∀ H, I H → I' H) (hR : d' + 1 ≤ R.frames ∧ 8 + (maxL + 11) + 40 * d' ≤ R.locals) (hf : k + mc ≤ R.cells ∧ n + ms ≤ R.slots) (hst : (st.map fun v => v.category).sum ≤ 8) (hstk : stk = As.reverse ++ .ref b :: st) (kk : ∀ x, GJ Ω p l e R s m args below meth c nL Q (J x) (k + mc) (n + ms) (pc + 3) L ((V x).toList ++ st)) : GJ Ω p l e R s m args below meth c nL Q I k n pc0 L stk := by
  subst hp
  subst hstk
  exact g_run (fun H locs ls hH hS hl => vx_runV (As := As) (rest := st) X.call hM (cwV As.length X.2.2.2.2.2.2.1 hw rfl rfl rfl hy hR) (X.preV hS (hr H locs hS) (hI H hH)) rfl rfl hl.1 rfl (lv_room hst) d hf) (fun E q => GX.no) kk
theorem g_tb (X : Fx Ω p l s m args meth c own cc nL ret) {t N : Nat} {f : Nat → Value} {i : Int32} {v : Value} (d : decode cc pc = .ok (.baload, 1)) (hp : pc0 = pc) (hT : va_T .byte t N f (oA Ω) s s.heap) (hi : vp_in i N) (hv : f i.toNatClampNeg = v) (kk : GJ Ω p l e R s m args below meth c nL Q I k n (pc + 1) L (v :: st)) : GJ Ω p l e R s m args below meth c nL Q I k n pc0 L (.int i :: .ref t :: st) := by
  subst hp
  exact fun H locs ls hI hS hl => va_tb X.1 X.2.1 hT hS hi hv d (kk H locs ls hI hS hl)
theorem g_tq (X : Fx Ω p l s m args meth c own cc nL ret) {C : String} {t N : Nat} {f : Nat → Value} {i : Int32} {v : Value} (d : decode cc pc = .ok (.aaload, 1)) (hp : pc0 = pc) (hT : va_T (.object C) t N f (oA Ω) s s.heap) (hi : vp_in i N) (hv : f i.toNatClampNeg = v) (kk : GJ Ω p l e R s m args below meth c nL Q I k n (pc + 1) L (v :: st)) : GJ Ω p l e R s m args below meth c nL Q I k n pc0 L (.int i :: .ref t :: st) := by
  subst hp
  exact fun H locs ls hI hS hl => vb_tq X.1 X.2.1 hT hS hi hv d (kk H locs ls hI hS hl)
theorem g_tlen (X : Fx Ω p l s m args meth c own cc nL ret) {ty : FieldType} {t N : Nat} {f : Nat → Value} {v : Int32} (d : decode cc pc = .ok (.arraylength, 1)) (hp : pc0 = pc) (hT : va_T ty t N f (oA Ω) s s.heap) (hv : Int32.ofNat N = v) (kk : GJ Ω p l e R s m args below meth c nL Q I k n (pc + 1) L (.int v :: st)) : GJ Ω p l e R s m args below meth c nL Q I k n pc0 L (.ref t :: st) := by
  subst hp
  exact fun H locs ls hI hS hl => va_tlen X.1 X.2.1 hT hS hv d (kk H locs ls hI hS hl)
/-- a static of which only 'a reference or null' is known -/
theorem g_getsq (X : Fx Ω p l s m args meth c own cc nL ret) {C nm dsc ref : String} {index : Nat} (d : decode cc pc = .ok (.getstatic index, 3)) (hp : pc0 = pc) (hz : va_Zq C nm dsc (oA Ω) s s.heap) (hlink : Cond.fieldLink own index ref nm dsc ∈ lw_all) (hsame : ∀ x, s.fieldFound? C nm dsc = some x → s.fieldFound? ref nm dsc = some x) (kk : ∀ v : Value, (v = .null ∨ ∃ t, v = .ref t) → GJ Ω p l e R s m args below meth c nL Q I k n (pc + 3) L (v :: st)) : GJ Ω p l e R s m args below meth c nL Q I k n pc0 L st := by
  subst hp
  rcases hz with hz | ⟨t, hz⟩
  · exact fun H locs ls hI hS hl => va_gets X.1 X.2.1 hz hS X.2.2.2.2.2.1 (X.2.2.2.2.2.2.1 _ hlink) hsame d (kk _ (Or.inl rfl) H locs ls hI hS hl)
  · exact fun H locs ls hI hS hl => va_gets X.1 X.2.1 hz hS X.2.2.2.2.2.1 (X.2.2.2.2.2.2.1 _ hlink) hsame d (kk _ (Or.inr ⟨t, rfl⟩) H locs ls hI hS hl)
theorem Fx.str (X : Fx Ω p l s m args meth c own cc nL ret) {j : Nat} (hj : j < 8) : va_O "java/lang/String" (oM Ω (300 + j)) (oA Ω) s s.heap ∧ va_OF "java/lang/String" "coder" "B" (.int 0) (oM Ω (300 + j)) (oA Ω) s s.heap ∧ va_OF "java/lang/String" "value" "[B" (.ref (oM Ω (320 + j))) (oM Ω (300 + j)) (oA Ω) s s.heap ∧ va_T .byte (oM Ω (320 + j)) (sLen.getD j 0) (fun i => .int ((sByt.getD j []).getD i 0)) (oA Ω) s s.heap := X.2.2.2.2.2.2.2.1.2.2.2.2.2.2.2.2.2.2.2.1.1.1 j hj
theorem Fx.sio (X : Fx Ω p l s m args meth c own cc nL ret) : va_Zq "jdk/internal/util/Preconditions" "SIOOBE_FORMATTER" "Ljava/util/function/BiFunction;" (oA Ω) s s.heap := X.2.2.2.2.2.2.2.1.2.2.2.2.2.2.2.2.2.2.2.1.2
theorem oS_recv (X : Fx Ω p l s m args meth c own cc nL ret) {H : Heap} {locs : List Loc} (hS : va_S (oA Ω) s.heap H locs) {j : Nat} (hj : j < 8) : ∃ cell : Cell, H[oM Ω (300 + j)]? = some cell ∧ cell.vm.isStatics = false ∧ s.vm.findClass "java/lang/String" = some cell.cls := by
  obtain ⟨cell, h1, h2, h3, -⟩ := (X.str hj).1.kept hS.2.1
  exact ⟨cell, h1, h2, h3⟩
end JROWS
/-- the letters of the constants -/
def sCh (j k : Nat) : Nat := ((sByt.getD j []).getD k 0).toNatClampNeg
theorem sLen_le : ∀ j, j < 8 → sLen.getD j 0 ≤ 6 := by decide
theorem sCh_ok : ∀ j, j < 8 → ∀ k, k < 6 → k < sLen.getD j 0 → ((((sByt.getD j []).getD k 0) &&& 255).toUInt32 % 65536).toInt32 = nI (sCh j k) ∧ sCh j k < 128 := by decide +kernel
