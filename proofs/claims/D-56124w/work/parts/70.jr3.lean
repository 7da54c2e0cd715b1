/-! JDK: constants that are cast or asked for their class -/
section JR3
variable {Ω : Om} {p : Program} {l : Launch} {e : Env} {R : Room} {s : State} {m : MethodId} {args : Array Value} {below : List Frame} {meth : Method} {c : Code} {Q : State → Prop} {own : String} {cc : ByteArray} {nL : Nat} {ret : Option FieldType} {I : Heap → Prop} {k n pc pc0 : Nat} {L : List (Option Value)} {st : List Value}
theorem g_castK (X : Fx Ω p l s m args meth c own cc nL ret) {a index : Nat} {nm : String} (d : decode cc pc = .ok (.checkcast index, 3)) (hp : pc0 = pc) (hlink : Cond.classLink own index nm ∈ lw_all) (hr : ∀ (H : Heap) (locs : List Loc), va_S (oA Ω) s.heap H locs → ∃ cell : Cell, H[a]? = some cell ∧ cell.vm.isStatics = false ∧ s.vm.findClass nm = some cell.cls) (kk : GJ Ω p l e R s m args below meth c nL Q I k n (pc + 3) L (.ref a :: st)) : GJ Ω p l e R s m args below meth c nL Q I k n pc0 L (.ref a :: st) := by
  subst hp
  exact fun H locs ls hI hS hl => va_castE X.1 X.2.1 X.2.2.2.2.2.1 (X.2.2.2.2.2.2.1 _ hlink) (hr H locs hS) d (kk H locs ls hI hS hl)
theorem g_castYK (X : Fx Ω p l s m args meth c own cc nL ret) {a index : Nat} {C nm : String} (d : decode cc pc = .ok (.checkcast index, 3)) (hp : pc0 = pc) (hlink : Cond.classLink own index nm ∈ lw_all) (hc : Cond.castable C nm ∈ lw_tbl) (hr : ∀ (H : Heap) (locs : List Loc), va_S (oA Ω) s.heap H locs → ∃ cell : Cell, H[a]? = some cell ∧ cell.vm.isStatics = false ∧ s.vm.findClass C = some cell.cls) (kk : GJ Ω p l e R s m args below meth c nL Q I k n (pc + 3) L (.ref a :: st)) : GJ Ω p l e R s m args below meth c nL Q I k n pc0 L (.ref a :: st) := by
  subst hp
  exact fun H locs ls hI hS hl => va_castY X.1 X.2.1 X.2.2.2.2.2.1 (X.2.2.2.2.2.2.1 _ hlink) (X.2.2.2.2.2.2.2.1.2.2.1 _ hc rfl) (hr H locs hS) d (kk H locs ls hI hS hl)
theorem g_instEK (X : Fx Ω p l s m args meth c own cc nL ret) {a index : Nat} {nm : String} (d : decode cc pc = .ok (.instanceof index, 3)) (hp : pc0 = pc) (hlink : Cond.classLink own index nm ∈ lw_all) (hr : ∀ (H : Heap) (locs : List Loc), va_S (oA Ω) s.heap H locs → ∃ cell : Cell, H[a]? = some cell ∧ cell.vm.isStatics = false ∧ s.vm.findClass nm = some cell.cls) (kk : GJ Ω p l e R s m args below meth c nL Q I k n (pc + 3) L (.int 1 :: st)) : GJ Ω p l e R s m args below meth c nL Q I k n pc0 L (.ref a :: st) := by
  subst hp
  exact fun H locs ls hI hS hl => va_instE X.1 X.2.1 X.2.2.2.2.2.1 (X.2.2.2.2.2.2.1 _ hlink) (hr H locs hS) d (kk H locs ls hI hS hl)
end JR3
