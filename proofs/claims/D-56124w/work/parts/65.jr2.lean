/-! JDK: rows for class objects and for references that are compared -/
section JR2
variable {Ω : Om} {p : Program} {l : Launch} {e : Env} {R : Room} {s : State} {m : MethodId} {args : Array Value} {below : List Frame} {meth : Method} {c : Code} {Q : State → Prop} {own : String} {cc : ByteArray} {nL : Nat} {ret : Option FieldType} {I : Heap → Prop} {k n pc pc0 : Nat} {L : List (Option Value)} {st stk : List Value}
theorem g_ldcM (X : Fx Ω p l s m args meth c own cc nL ret) {C : String} {index mi : Nat} (d : decode cc pc = .ok (.ldc index, 2)) (hp : pc0 = pc) (hlink : Cond.classLink own index C ∈ lw_all) (hM : va_Mi C mi s) (kk : GJ Ω p l e R s m args below meth c nL Q I k n (pc + 2) L (.ref mi :: st)) : GJ Ω p l e R s m args below meth c nL Q I k n pc0 L st := by
  subst hp
  exact fun H locs ls hI hS hl => va_ldcM X.1 X.2.1 X.2.2.2.2.2.1 (X.2.2.2.2.2.2.1 _ hlink) hM d (kk H locs ls hI hS hl)
theorem hR.recvQ {h : RH} {H H0 : Heap} (hK : KK Ω s H0) (hh : hR Ω h H) {a N : Nat} {f : Nat → Option Nat} (he : h a = some (cQ Ω N f)) : ∃ cell : Cell, H[a]? = some cell ∧ cell.vm.isStatics = false ∧ s.vm.findClass "[Ljava/lang/Object;" = some cell.cls :=
  ⟨_, hh.at he, rfl, va_nmO ((hK.1.2 5 _ rfl).2) rfl⟩
theorem g_getC (X : Fx Ω p l s m args meth c own cc nL ret) {C : String} {a index mi : Nat} (d : decode cc pc = .ok (.invokevirtual index, 3)) (hp : pc0 = pc) (hlink : Cond.methodLink own index ⟨"java/lang/Object", "getClass", "()Ljava/lang/Class;"⟩ ∈ lw_all) (hsel : Cond.selects C ⟨"java/lang/Object", "getClass", "()Ljava/lang/Class;"⟩ ⟨"java/lang/Object", "getClass", "()Ljava/lang/Class;"⟩ ∈ lw_all) (hM : va_Mi C mi s) (hr : ∀ H, I H → ∃ cell : Cell, H[a]? = some cell ∧ cell.vm.isStatics = false ∧ s.vm.findClass C = some cell.cls) (hf : 1 ≤ R.frames) (ho : (st.map fun v => v.category).sum + 14 ≤ R.locals) (kk : GJ Ω p l e R s m args below meth c nL Q I k n (pc + 3) L (.ref mi :: st)) : GJ Ω p l e R s m args below meth c nL Q I k n pc0 L (.ref a :: st) := by
  subst hp
  intro H locs ls hI hS hl
  exact va_getC X.1 X.2.1 (X.2.2.1.trans hl.1.symm) X.2.2.2.2.2.1 (X.2.2.2.2.2.2.1 _ hlink) (va_tabs rfl rfl (X.2.2.2.2.2.2.2.1.2.2.1 _ q2422 rfl)) (X.2.2.2.2.2.2.1 _ hsel) (X.2.2.2.2.2.2.1 _ q647) (X.2.2.2.2.2.2.1 _ q673) hM (hr H hI) hf ho d (kk H locs ls hI hS hl)
theorem g_acmp_eq (X : Fx Ω p l s m args meth c own cc nL ret) {rx ry : Option Nat} {off : Int} {tgt : Nat} (d : decode cc pc = .ok (.if_acmp .eq off, 3)) (hp : pc0 = pc) (ht : (pc : Int) + off = (tgt : Int)) (kt : rx = ry → GJ Ω p l e R s m args below meth c nL Q I k n tgt L st) (kf : ¬ rx = ry → GJ Ω p l e R s m args below meth c nL Q I k n (pc + 3) L st) : GJ Ω p l e R s m args below meth c nL Q I k n pc0 L (va_rf ry :: va_rf rx :: st) := by
  subst hp
  exact fun H locs ls hI hS hl => lv_acmp_eq X.1 X.2.1 d ht (fun g => kt g H locs ls hI hS hl) (fun g => kf g H locs ls hI hS hl)
theorem g_acmp_ne (X : Fx Ω p l s m args meth c own cc nL ret) {rx ry : Option Nat} {off : Int} {tgt : Nat} (d : decode cc pc = .ok (.if_acmp .ne off, 3)) (hp : pc0 = pc) (ht : (pc : Int) + off = (tgt : Int)) (kt : ¬ rx = ry → GJ Ω p l e R s m args below meth c nL Q I k n tgt L st) (kf : rx = ry → GJ Ω p l e R s m args below meth c nL Q I k n (pc + 3) L st) : GJ Ω p l e R s m args below meth c nL Q I k n pc0 L (va_rf ry :: va_rf rx :: st) := by
  subst hp
  exact fun H locs ls hI hS hl => lv_acmp_ne X.1 X.2.1 d ht (fun g => kt g H locs ls hI hS hl) (fun g => kf g H locs ls hI hS hl)
end JR2
