/-! CLASS: what is required, an item of a list, a place in a line -/
section C6P
variable {Ω : Om} {p : Program} {l : Launch} {e : Env} {R : Room} {s : State} {m : MethodId} {args : Array Value} {below : List Frame} {meth : Method} {c : Code} {own : String} {cc : ByteArray} {nL : Nat} {ret : Option FieldType} {I : Heap → Prop} {k n pc mc ms : Nat} {L : List (Option Value)} {st : List Value} {Qr : Option Value → Heap → Prop} {Xr : String → Nat → Heap → Prop}
/-- what is thrown: one class, under a condition -/
abbrev xE (E : String) (P : Prop) (J : Heap → Prop) : String → Nat → Heap → Prop := fun E' _ H => E' = E ∧ P ∧ J H
/-- a callee's exception goes on -/
theorem GX.pass (X : Fx Ω p l s m args meth c own cc nL ret) (htab : ∀ x ∈ c.exceptionTable.toList, False) {E : String} {q : Nat} (hk : k ≤ mc) (hn : n ≤ ms) (hx : ∀ H, I H → Xr E q H) : GX Ω p l e R s m args below meth c nL (MM Ω below Qr Xr args s mc ms) I k n pc L st E q := GX.out X (fun x hx => (htab x hx).elim) hk hn hx
/-- a callee's exception that can't be -/
theorem GX.not {E E' : String} {q : Nat} {P : Prop} {Q : State → Prop} (h : ¬ P) : GX Ω p l e R s m args below meth c nL Q (fun H => E = E' ∧ P ∧ I H) k n pc L st E q := GX.and (fun _ => GX.and (fun hp => absurd hp h))
theorem hL.grow {Γ : LH} {H H1 : Heap} (hh : hL Ω Γ H) (hq : ∀ q : Nat, q < H.size → H1[q]? = H[q]?) : hL Ω Γ H1 := hh.elim (fun x h => ⟨x, h.1, h.2.grow hq⟩)
end C6P
section C6
variable {l : Launch} {Ω : Om} {Γ : LH} {a q y : Nat} {is xs : List Nat} {m0 : Int32}
set_option maxRecDepth 100000
theorem ct_X1_requireIndex (hst : l.stackTraces = false) {P : Prop} : CM Ω l yX1_requireIndex (ws_ yX1_requireIndex cX1_requireIndex 1 none) 6 1 6 [.int (bI P)] (hL Ω Γ) (QV (fun _ : PLift P => none) (fun _ => hL Ω Γ)) (xE "java/lang/IndexOutOfBoundsException" (¬ P) (hL Ω Γ)) := by
  refine CM.of (L := [some (.int (bI P))]) hst (by decide) (Nat.le_of_ble_eq_true rfl) rfl ?_
  intro p e s m below meth c X hnm htab
  refine g_iload_n X dX1_requireIndex_0 rfl rfl ?_
  refine g_if_ne (tgt := 12) X dX1_requireIndex_1 rfl (by decide) (fun c_1 => ?_) (fun c_1 => ?_)
  · refine g_vret X dX1_requireIndex_12 rfl (Nat.le_of_ble_eq_true rfl) (Nat.le_of_ble_eq_true rfl) (fun H hH => ⟨⟨bI_n0.mp c_1⟩, rfl, hH⟩)
  · refine g_throw0 X (names := ["java/lang/RuntimeException", "java/lang/Exception"]) dX1_requireIndex_4 rfl dX1_requireIndex_7 dX1_requireIndex_8 dX1_requireIndex_11 (by decide) (by decide) q898 q91 at0_X1_requireIndex (fun x hx => (htab x hx).elim) (Nat.le_of_ble_eq_true rfl) (Nat.le_of_ble_eq_true rfl) (Nat.le_of_ble_eq_true rfl) (Nat.le_of_ble_eq_true rfl) (Nat.le_of_ble_eq_true rfl) (Nat.le_of_ble_eq_true rfl) fun q H H1 hI hz hq => ⟨rfl, bI_0.mp c_1, hI.grow hq⟩
theorem ct_X1_requireArgument (hst : l.stackTraces = false) {P : Prop} : CM Ω l yX1_requireArgument (ws_ yX1_requireArgument cX1_requireArgument 1 none) 6 1 6 [.int (bI P)] (hL Ω Γ) (QV (fun _ : PLift P => none) (fun _ => hL Ω Γ)) (xE "java/lang/IllegalArgumentException" (¬ P) (hL Ω Γ)) := by
  refine CM.of (L := [some (.int (bI P))]) hst (by decide) (Nat.le_of_ble_eq_true rfl) rfl ?_
  intro p e s m below meth c X hnm htab
  refine g_iload_n X dX1_requireArgument_0 rfl rfl ?_
  refine g_if_ne (tgt := 12) X dX1_requireArgument_1 rfl (by decide) (fun c_1 => ?_) (fun c_1 => ?_)
  · refine g_vret X dX1_requireArgument_12 rfl (Nat.le_of_ble_eq_true rfl) (Nat.le_of_ble_eq_true rfl) (fun H hH => ⟨⟨bI_n0.mp c_1⟩, rfl, hH⟩)
  · refine g_throw0 X (names := ["java/lang/RuntimeException", "java/lang/Exception"]) dX1_requireArgument_4 rfl dX1_requireArgument_7 dX1_requireArgument_8 dX1_requireArgument_11 (by decide) (by decide) q776 q89 at0_X1_requireArgument (fun x hx => (htab x hx).elim) (Nat.le_of_ble_eq_true rfl) (Nat.le_of_ble_eq_true rfl) (Nat.le_of_ble_eq_true rfl) (Nat.le_of_ble_eq_true rfl) (Nat.le_of_ble_eq_true rfl) (Nat.le_of_ble_eq_true rfl) fun q H H1 hI hz hq => ⟨rfl, bI_0.mp c_1, hI.grow hq⟩
theorem ct_X1_requireState (hst : l.stackTraces = false) {P : Prop} : CM Ω l yX1_requireState (ws_ yX1_requireState cX1_requireState 1 none) 6 1 6 [.int (bI P)] (hL Ω Γ) (QV (fun _ : PLift P => none) (fun _ => hL Ω Γ)) (xE "java/lang/IllegalStateException" (¬ P) (hL Ω Γ)) := by
  refine CM.of (L := [some (.int (bI P))]) hst (by decide) (Nat.le_of_ble_eq_true rfl) rfl ?_
  intro p e s m below meth c X hnm htab
  refine g_iload_n X dX1_requireState_0 rfl rfl ?_
  refine g_if_ne (tgt := 12) X dX1_requireState_1 rfl (by decide) (fun c_1 => ?_) (fun c_1 => ?_)
  · refine g_vret X dX1_requireState_12 rfl (Nat.le_of_ble_eq_true rfl) (Nat.le_of_ble_eq_true rfl) (fun H hH => ⟨⟨bI_n0.mp c_1⟩, rfl, hH⟩)
  · refine g_throw0 X (names := ["java/lang/RuntimeException", "java/lang/Exception"]) dX1_requireState_4 rfl dX1_requireState_7 dX1_requireState_8 dX1_requireState_11 (by decide) (by decide) q794 q90 at0_X1_requireState (fun x hx => (htab x hx).elim) (Nat.le_of_ble_eq_true rfl) (Nat.le_of_ble_eq_true rfl) (Nat.le_of_ble_eq_true rfl) (Nat.le_of_ble_eq_true rfl) (Nat.le_of_ble_eq_true rfl) (Nat.le_of_ble_eq_true rfl) fun q H H1 hI hz hq => ⟨rfl, bI_0.mp c_1, hI.grow hq⟩
theorem ct_X1_requireElement (hst : l.stackTraces = false) {P : Prop} : CM Ω l yX1_requireElement (ws_ yX1_requireElement cX1_requireElement 1 none) 6 1 6 [.int (bI P)] (hL Ω Γ) (QV (fun _ : PLift P => none) (fun _ => hL Ω Γ)) (xE "java/util/NoSuchElementException" (¬ P) (hL Ω Γ)) := by
  refine CM.of (L := [some (.int (bI P))]) hst (by decide) (Nat.le_of_ble_eq_true rfl) rfl ?_
  intro p e s m below meth c X hnm htab
  refine g_iload_n X dX1_requireElement_0 rfl rfl ?_
  refine g_if_ne (tgt := 12) X dX1_requireElement_1 rfl (by decide) (fun c_1 => ?_) (fun c_1 => ?_)
  · refine g_vret X dX1_requireElement_12 rfl (Nat.le_of_ble_eq_true rfl) (Nat.le_of_ble_eq_true rfl) (fun H hH => ⟨⟨bI_n0.mp c_1⟩, rfl, hH⟩)
  · refine g_throw0 X (names := ["java/lang/RuntimeException", "java/lang/Exception"]) dX1_requireElement_4 rfl dX1_requireElement_7 dX1_requireElement_8 dX1_requireElement_11 (by decide) (by decide) q359 q99 at0_X1_requireElement (fun x hx => (htab x hx).elim) (Nat.le_of_ble_eq_true rfl) (Nat.le_of_ble_eq_true rfl) (Nat.le_of_ble_eq_true rfl) (Nat.le_of_ble_eq_true rfl) (Nat.le_of_ble_eq_true rfl) (Nat.le_of_ble_eq_true rfl) fun q H H1 hI hz hq => ⟨rfl, bI_0.mp c_1, hI.grow hq⟩
theorem ct_X1_requireSupported (hst : l.stackTraces = false) {P : Prop} : CM Ω l yX1_requireSupported (ws_ yX1_requireSupported cX1_requireSupported 1 none) 6 1 6 [.int (bI P)] (hL Ω Γ) (QV (fun _ : PLift P => none) (fun _ => hL Ω Γ)) (xE "java/lang/UnsupportedOperationException" (¬ P) (hL Ω Γ)) := by
  refine CM.of (L := [some (.int (bI P))]) hst (by decide) (Nat.le_of_ble_eq_true rfl) rfl ?_
  intro p e s m below meth c X hnm htab
  refine g_iload_n X dX1_requireSupported_0 rfl rfl ?_
  refine g_if_ne (tgt := 12) X dX1_requireSupported_1 rfl (by decide) (fun c_1 => ?_) (fun c_1 => ?_)
  · refine g_vret X dX1_requireSupported_12 rfl (Nat.le_of_ble_eq_true rfl) (Nat.le_of_ble_eq_true rfl) (fun H hH => ⟨⟨bI_n0.mp c_1⟩, rfl, hH⟩)
  · refine g_throw0 X (names := ["java/lang/RuntimeException", "java/lang/Exception"]) dX1_requireSupported_4 rfl dX1_requireSupported_7 dX1_requireSupported_8 dX1_requireSupported_11 (by decide) (by decide) q940 q93 at0_X1_requireSupported (fun x hx => (htab x hx).elim) (Nat.le_of_ble_eq_true rfl) (Nat.le_of_ble_eq_true rfl) (Nat.le_of_ble_eq_true rfl) (Nat.le_of_ble_eq_true rfl) (Nat.le_of_ble_eq_true rfl) (Nat.le_of_ble_eq_true rfl) fun q H H1 hI hz hq => ⟨rfl, bI_0.mp c_1, hI.grow hq⟩
theorem ct_X1_requireIndex_t (hst : l.stackTraces = false) : CM Ω l yX1_requireIndex (ws_ yX1_requireIndex cX1_requireIndex 1 none) 6 1 6 [.int (nI 1)] (hL Ω Γ) (QP none (hL Ω Γ)) nX := by
  have h := ct_X1_requireIndex (Ω := Ω) (Γ := Γ) hst (P := True)
  rw [bI_t trivial] at h
  exact h.imp (fun _ h => h) (fun r H h => h.elim (fun x h => ⟨(), h.1, h.2⟩)) (fun E q H h => h.2.1 trivial)
theorem ct_X1_requireIndex_f (hst : l.stackTraces = false) : CM Ω l yX1_requireIndex (ws_ yX1_requireIndex cX1_requireIndex 1 none) 6 1 6 [.int (nI 0)] (hL Ω Γ) (QV (fun _ : {u : Unit // False} => none) (fun _ => hL Ω Γ)) (xE "java/lang/IndexOutOfBoundsException" True (hL Ω Γ)) := by
  have h := ct_X1_requireIndex (Ω := Ω) (Γ := Γ) hst (P := False)
  rw [bI_f id] at h
  exact h.imp (fun _ h => h) (fun r H h => h.elim (fun x _ => x.down.elim)) (fun E q H h => ⟨h.1, trivial, h.2.2⟩)
theorem ct_X1_requireArgument_t (hst : l.stackTraces = false) : CM Ω l yX1_requireArgument (ws_ yX1_requireArgument cX1_requireArgument 1 none) 6 1 6 [.int (nI 1)] (hL Ω Γ) (QP none (hL Ω Γ)) nX := by
  have h := ct_X1_requireArgument (Ω := Ω) (Γ := Γ) hst (P := True)
  rw [bI_t trivial] at h
  exact h.imp (fun _ h => h) (fun r H h => h.elim (fun x h => ⟨(), h.1, h.2⟩)) (fun E q H h => h.2.1 trivial)
theorem ct_X1_requireArgument_f (hst : l.stackTraces = false) : CM Ω l yX1_requireArgument (ws_ yX1_requireArgument cX1_requireArgument 1 none) 6 1 6 [.int (nI 0)] (hL Ω Γ) (QV (fun _ : {u : Unit // False} => none) (fun _ => hL Ω Γ)) (xE "java/lang/IllegalArgumentException" True (hL Ω Γ)) := by
  have h := ct_X1_requireArgument (Ω := Ω) (Γ := Γ) hst (P := False)
  rw [bI_f id] at h
  exact h.imp (fun _ h => h) (fun r H h => h.elim (fun x _ => x.down.elim)) (fun E q H h => ⟨h.1, trivial, h.2.2⟩)
theorem ct_X1_requireState_t (hst : l.stackTraces = false) : CM Ω l yX1_requireState (ws_ yX1_requireState cX1_requireState 1 none) 6 1 6 [.int (nI 1)] (hL Ω Γ) (QP none (hL Ω Γ)) nX := by
  have h := ct_X1_requireState (Ω := Ω) (Γ := Γ) hst (P := True)
  rw [bI_t trivial] at h
  exact h.imp (fun _ h => h) (fun r H h => h.elim (fun x h => ⟨(), h.1, h.2⟩)) (fun E q H h => h.2.1 trivial)
theorem ct_X1_requireState_f (hst : l.stackTraces = false) : CM Ω l yX1_requireState (ws_ yX1_requireState cX1_requireState 1 none) 6 1 6 [.int (nI 0)] (hL Ω Γ) (QV (fun _ : {u : Unit // False} => none) (fun _ => hL Ω Γ)) (xE "java/lang/IllegalStateException" True (hL Ω Γ)) := by
  have h := ct_X1_requireState (Ω := Ω) (Γ := Γ) hst (P := False)
  rw [bI_f id] at h
  exact h.imp (fun _ h => h) (fun r H h => h.elim (fun x _ => x.down.elim)) (fun E q H h => ⟨h.1, trivial, h.2.2⟩)
theorem ct_X1_requireElement_t (hst : l.stackTraces = false) : CM Ω l yX1_requireElement (ws_ yX1_requireElement cX1_requireElement 1 none) 6 1 6 [.int (nI 1)] (hL Ω Γ) (QP none (hL Ω Γ)) nX := by
  have h := ct_X1_requireElement (Ω := Ω) (Γ := Γ) hst (P := True)
  rw [bI_t trivial] at h
  exact h.imp (fun _ h => h) (fun r H h => h.elim (fun x h => ⟨(), h.1, h.2⟩)) (fun E q H h => h.2.1 trivial)
theorem ct_X1_requireElement_f (hst : l.stackTraces = false) : CM Ω l yX1_requireElement (ws_ yX1_requireElement cX1_requireElement 1 none) 6 1 6 [.int (nI 0)] (hL Ω Γ) (QV (fun _ : {u : Unit // False} => none) (fun _ => hL Ω Γ)) (xE "java/util/NoSuchElementException" True (hL Ω Γ)) := by
  have h := ct_X1_requireElement (Ω := Ω) (Γ := Γ) hst (P := False)
  rw [bI_f id] at h
  exact h.imp (fun _ h => h) (fun r H h => h.elim (fun x _ => x.down.elim)) (fun E q H h => ⟨h.1, trivial, h.2.2⟩)
theorem ct_X1_requireSupported_t (hst : l.stackTraces = false) : CM Ω l yX1_requireSupported (ws_ yX1_requireSupported cX1_requireSupported 1 none) 6 1 6 [.int (nI 1)] (hL Ω Γ) (QP none (hL Ω Γ)) nX := by
  have h := ct_X1_requireSupported (Ω := Ω) (Γ := Γ) hst (P := True)
  rw [bI_t trivial] at h
  exact h.imp (fun _ h => h) (fun r H h => h.elim (fun x h => ⟨(), h.1, h.2⟩)) (fun E q H h => h.2.1 trivial)
theorem ct_X1_requireSupported_f (hst : l.stackTraces = false) : CM Ω l yX1_requireSupported (ws_ yX1_requireSupported cX1_requireSupported 1 none) 6 1 6 [.int (nI 0)] (hL Ω Γ) (QV (fun _ : {u : Unit // False} => none) (fun _ => hL Ω Γ)) (xE "java/lang/UnsupportedOperationException" True (hL Ω Γ)) := by
  have h := ct_X1_requireSupported (Ω := Ω) (Γ := Γ) hst (P := False)
  rw [bI_f id] at h
  exact h.imp (fun _ h => h) (fun r H h => h.elim (fun x _ => x.down.elim)) (fun E q H h => ⟨h.1, trivial, h.2.2⟩)
theorem ct_X1_requireNonZero (hst : l.stackTraces = false) {n : Nat} (hn : n < 2 ^ 31) : CM Ω l yX1_requireNonZero (ws_ yX1_requireNonZero cX1_requireNonZero 1 none) 6 1 6 [.int (nI n)] (hL Ω Γ) (QV (fun _ : PLift (0 < n) => none) (fun _ => hL Ω Γ)) (xE "java/lang/ArithmeticException" (n = 0) (hL Ω Γ)) := by
  refine CM.of (L := [some (.int (nI n))]) hst (by decide) (Nat.le_of_ble_eq_true rfl) rfl ?_
  intro p e s m below meth c X hnm htab
  refine g_iload_n X dX1_requireNonZero_0 rfl rfl ?_
  refine g_if_ne (tgt := 12) X dX1_requireNonZero_1 rfl (by decide) (fun c_1 => ?_) (fun c_1 => ?_)
  · refine g_vret X dX1_requireNonZero_12 rfl (Nat.le_of_ble_eq_true rfl) (Nat.le_of_ble_eq_true rfl) (fun H hH => ⟨⟨Nat.pos_of_ne_zero (fun e => c_1 (by rw [e]; rfl))⟩, rfl, hH⟩)
  · refine g_throw0 X (names := ["java/lang/RuntimeException", "java/lang/Exception"]) dX1_requireNonZero_4 rfl dX1_requireNonZero_7 dX1_requireNonZero_8 dX1_requireNonZero_11 (by decide) (by decide) q1431 q101 at0_X1_requireNonZero (fun x hx => (htab x hx).elim) (Nat.le_of_ble_eq_true rfl) (Nat.le_of_ble_eq_true rfl) (Nat.le_of_ble_eq_true rfl) (Nat.le_of_ble_eq_true rfl) (Nat.le_of_ble_eq_true rfl) (Nat.le_of_ble_eq_true rfl) fun q H H1 hI hz hq => ⟨rfl, (nI_c0 hn).mp c_1, hI.grow hq⟩
theorem ct_X1_item (hst : l.stackTraces = false) (he : Γ q = some (.inr (xs, m0))) (hl : xs.length ≤ 1000) {x : Int32} : CM Ω l yX1_item (ws_ yX1_item cX1_item 2 (some (.object "java/lang/Object"))) 10 1 6 [.ref q, .int x] (hL Ω Γ) (QV (fun y : {y : Nat // xs[iN x]? = some y ∧ (0 ≤ x ∧ x ≤ nI xs.length - 1)} => some (.ref y.1)) (fun _ => hL Ω Γ)) (xE "java/lang/IndexOutOfBoundsException" (¬ (0 ≤ x ∧ x ≤ nI xs.length - 1)) (hL Ω Γ)) := by
  by_cases hx : 0 ≤ x ∧ x ≤ nI xs.length - 1
  · obtain ⟨j, hj, rfl⟩ := (ixI (by omega)).mp hx
    have hy : xs[j]? = some xs[j] := List.getElem?_eq_getElem hj
    refine CM.of (L := [some (.ref q), some (.int (nI j))]) hst (by decide) (Nat.le_of_ble_eq_true rfl) rfl ?_
    intro p e s m below meth c X hnm htab
    refine g_iload_n X dX1_item_0 rfl rfl ?_
    refine g_iconst X dX1_item_1 rfl (v := (nI 0)) rfl ?_
    refine g_aload_n X dX1_item_2 rfl rfl ?_
    refine g_callV X (ct_J2_size hst he) dX1_item_3 rfl (lw_V q269 q270 q271 q70 q272) hyV_J2_size (fun H hH => hL.recvL X.2.2.2.2.2.2.2.1 hH he) (fun H hH => hH) ⟨Nat.le_of_ble_eq_true rfl, Nat.le_of_ble_eq_true rfl⟩ ⟨Nat.le_of_ble_eq_true rfl, Nat.le_of_ble_eq_true rfl⟩ (Nat.le_of_ble_eq_true rfl) rfl (fun x_3 => ?_)
    refine g_iconst X dX1_item_6 rfl (v := (nI 1)) rfl ?_
    refine g_isub X dX1_item_7 rfl rfl ?_
    refine g_callS X (ct_X1_isBetween hst) dX1_item_8 rfl (lw_S q894 q446 q66 q447) hyS_X1_isBetween (fun H hH => hH) ⟨Nat.le_of_ble_eq_true rfl, Nat.le_of_ble_eq_true rfl⟩ ⟨Nat.le_of_ble_eq_true rfl, Nat.le_of_ble_eq_true rfl⟩ (Nat.le_of_ble_eq_true rfl) rfl (fun x_8 => ?_)
    refine g_callSx X (ct_X1_requireIndex hst) dX1_item_11 rfl (lw_S q895 q896 q66 q897) hyS_X1_requireIndex (fun H hH => hH) ⟨Nat.le_of_ble_eq_true rfl, Nat.le_of_ble_eq_true rfl⟩ ⟨Nat.le_of_ble_eq_true rfl, Nat.le_of_ble_eq_true rfl⟩ (Nat.le_of_ble_eq_true rfl) rfl (fun E q => GX.not (fun h => h hx)) (fun x_11 => ?_)
    refine g_aload_n X dX1_item_14 rfl rfl ?_
    refine g_iload_n X dX1_item_15 rfl rfl ?_
    refine g_callV X (ct_J2_get hst he hy hl) dX1_item_16 rfl (lw_V q320 q295 q296 q70 q297) hyV_J2_get (fun H hH => hL.recvL X.2.2.2.2.2.2.2.1 hH he) (fun H hH => hH) ⟨Nat.le_of_ble_eq_true rfl, Nat.le_of_ble_eq_true rfl⟩ ⟨Nat.le_of_ble_eq_true rfl, Nat.le_of_ble_eq_true rfl⟩ (Nat.le_of_ble_eq_true rfl) rfl (fun x_16 => ?_)
    refine g_aret X (Or.inl ⟨_, rfl⟩) (Or.inr ⟨_, rfl⟩) dX1_item_19 rfl (Nat.le_of_ble_eq_true rfl) (Nat.le_of_ble_eq_true rfl) (fun H hH => ⟨⟨xs[j], by rw [iN_nI (by omega)]; exact hy, hx⟩, rfl, hH⟩)
  · refine CM.of (L := [some (.ref q), some (.int x)]) hst (by decide) (Nat.le_of_ble_eq_true rfl) rfl ?_
    intro p e s m below meth c X hnm htab
    refine g_iload_n X dX1_item_0 rfl rfl ?_
    refine g_iconst X dX1_item_1 rfl (v := (nI 0)) rfl ?_
    refine g_aload_n X dX1_item_2 rfl rfl ?_
    refine g_callV X (ct_J2_size hst he) dX1_item_3 rfl (lw_V q269 q270 q271 q70 q272) hyV_J2_size (fun H hH => hL.recvL X.2.2.2.2.2.2.2.1 hH he) (fun H hH => hH) ⟨Nat.le_of_ble_eq_true rfl, Nat.le_of_ble_eq_true rfl⟩ ⟨Nat.le_of_ble_eq_true rfl, Nat.le_of_ble_eq_true rfl⟩ (Nat.le_of_ble_eq_true rfl) rfl (fun x_3 => ?_)
    refine g_iconst X dX1_item_6 rfl (v := (nI 1)) rfl ?_
    refine g_isub X dX1_item_7 rfl rfl ?_
    refine g_callS X (ct_X1_isBetween hst) dX1_item_8 rfl (lw_S q894 q446 q66 q447) hyS_X1_isBetween (fun H hH => hH) ⟨Nat.le_of_ble_eq_true rfl, Nat.le_of_ble_eq_true rfl⟩ ⟨Nat.le_of_ble_eq_true rfl, Nat.le_of_ble_eq_true rfl⟩ (Nat.le_of_ble_eq_true rfl) rfl (fun x_8 => ?_)
    refine g_callSx X (ct_X1_requireIndex hst) dX1_item_11 rfl (lw_S q895 q896 q66 q897) hyS_X1_requireIndex (fun H hH => hH) ⟨Nat.le_of_ble_eq_true rfl, Nat.le_of_ble_eq_true rfl⟩ ⟨Nat.le_of_ble_eq_true rfl, Nat.le_of_ble_eq_true rfl⟩ (Nat.le_of_ble_eq_true rfl) rfl (fun E q => GX.pass X htab (Nat.le_of_ble_eq_true rfl) (Nat.le_of_ble_eq_true rfl) (fun H h => ⟨h.1, hx, h.2.2⟩)) (fun x0 => ?_)
    exact absurd x0.down hx
theorem ct_X6_at (hst : l.stackTraces = false) (ha : Γ a = some (.inl (.inr (5, [.ref q])))) (he : Γ q = some (.inr (xs, m0))) (hl : xs.length ≤ 1000) {x : Int32} : CM Ω l yX6_at (ws_ yX6_at cX6_at 2 (some (.object "java/lang/Object"))) 10 1 6 [.ref a, .int x] (hL Ω Γ) (QV (fun y : {y : Nat // xs[iN x]? = some y ∧ (0 ≤ x ∧ x ≤ nI xs.length - 1)} => some (.ref y.1)) (fun _ => hL Ω Γ)) (xE "java/util/NoSuchElementException" (¬ (0 ≤ x ∧ x ≤ nI xs.length - 1)) (hL Ω Γ)) := by
  by_cases hx : 0 ≤ x ∧ x ≤ nI xs.length - 1
  · obtain ⟨j, hj, rfl⟩ := (ixI (by omega)).mp hx
    have hy : xs[j]? = some xs[j] := List.getElem?_eq_getElem hj
    refine CM.of (L := [some (.ref a), some (.int (nI j))]) hst (by decide) (Nat.le_of_ble_eq_true rfl) rfl ?_
    intro p e s m below meth c X hnm htab
    refine g_iload_n X dX6_at_0 rfl rfl ?_
    refine g_iconst X dX6_at_1 rfl (v := (nI 0)) rfl ?_
    refine g_aload_n X dX6_at_2 rfl rfl ?_
    refine l_get X dX6_at_3 rfl in_X6 (ci := 5) rfl 0 (by decide) q706 (fun _ h => h) ha rfl ?_
    refine g_callV X (ct_J2_size hst he) dX6_at_6 rfl (lw_V q710 q270 q271 q70 q272) hyV_J2_size (fun H hH => hL.recvL X.2.2.2.2.2.2.2.1 hH he) (fun H hH => hH) ⟨Nat.le_of_ble_eq_true rfl, Nat.le_of_ble_eq_true rfl⟩ ⟨Nat.le_of_ble_eq_true rfl, Nat.le_of_ble_eq_true rfl⟩ (Nat.le_of_ble_eq_true rfl) rfl (fun x_6 => ?_)
    refine g_iconst X dX6_at_9 rfl (v := (nI 1)) rfl ?_
    refine g_isub X dX6_at_10 rfl rfl ?_
    refine g_callSN X "SlidePark" (ct_X1_isBetween hst) dX6_at_11 rfl q447 q66 q1279 q446 hyS_X1_isBetween (fun H hH => hH) ⟨Nat.le_of_ble_eq_true rfl, Nat.le_of_ble_eq_true rfl⟩ ⟨Nat.le_of_ble_eq_true rfl, Nat.le_of_ble_eq_true rfl⟩ (Nat.le_of_ble_eq_true rfl) rfl (fun x_11 => ?_)
    refine g_callSNx X "SlidePark" (ct_X1_requireElement hst) dX6_at_14 rfl q1120 q66 q1280 q1119 hyS_X1_requireElement (fun H hH => hH) ⟨Nat.le_of_ble_eq_true rfl, Nat.le_of_ble_eq_true rfl⟩ ⟨Nat.le_of_ble_eq_true rfl, Nat.le_of_ble_eq_true rfl⟩ (Nat.le_of_ble_eq_true rfl) rfl (fun E q => GX.not (fun h => h hx)) (fun x_14 => ?_)
    refine g_aload_n X dX6_at_17 rfl rfl ?_
    refine l_get X dX6_at_18 rfl in_X6 (ci := 5) rfl 0 (by decide) q706 (fun _ h => h) ha rfl ?_
    refine g_iload_n X dX6_at_21 rfl rfl ?_
    refine g_callV X (ct_J2_get hst he hy hl) dX6_at_22 rfl (lw_V q711 q295 q296 q70 q297) hyV_J2_get (fun H hH => hL.recvL X.2.2.2.2.2.2.2.1 hH he) (fun H hH => hH) ⟨Nat.le_of_ble_eq_true rfl, Nat.le_of_ble_eq_true rfl⟩ ⟨Nat.le_of_ble_eq_true rfl, Nat.le_of_ble_eq_true rfl⟩ (Nat.le_of_ble_eq_true rfl) rfl (fun x_22 => ?_)
    refine g_aret X (Or.inl ⟨_, rfl⟩) (Or.inr ⟨_, rfl⟩) dX6_at_25 rfl (Nat.le_of_ble_eq_true rfl) (Nat.le_of_ble_eq_true rfl) (fun H hH => ⟨⟨xs[j], by rw [iN_nI (by omega)]; exact hy, hx⟩, rfl, hH⟩)
  · refine CM.of (L := [some (.ref a), some (.int x)]) hst (by decide) (Nat.le_of_ble_eq_true rfl) rfl ?_
    intro p e s m below meth c X hnm htab
    refine g_iload_n X dX6_at_0 rfl rfl ?_
    refine g_iconst X dX6_at_1 rfl (v := (nI 0)) rfl ?_
    refine g_aload_n X dX6_at_2 rfl rfl ?_
    refine l_get X dX6_at_3 rfl in_X6 (ci := 5) rfl 0 (by decide) q706 (fun _ h => h) ha rfl ?_
    refine g_callV X (ct_J2_size hst he) dX6_at_6 rfl (lw_V q710 q270 q271 q70 q272) hyV_J2_size (fun H hH => hL.recvL X.2.2.2.2.2.2.2.1 hH he) (fun H hH => hH) ⟨Nat.le_of_ble_eq_true rfl, Nat.le_of_ble_eq_true rfl⟩ ⟨Nat.le_of_ble_eq_true rfl, Nat.le_of_ble_eq_true rfl⟩ (Nat.le_of_ble_eq_true rfl) rfl (fun x_6 => ?_)
    refine g_iconst X dX6_at_9 rfl (v := (nI 1)) rfl ?_
    refine g_isub X dX6_at_10 rfl rfl ?_
    refine g_callSN X "SlidePark" (ct_X1_isBetween hst) dX6_at_11 rfl q447 q66 q1279 q446 hyS_X1_isBetween (fun H hH => hH) ⟨Nat.le_of_ble_eq_true rfl, Nat.le_of_ble_eq_true rfl⟩ ⟨Nat.le_of_ble_eq_true rfl, Nat.le_of_ble_eq_true rfl⟩ (Nat.le_of_ble_eq_true rfl) rfl (fun x_11 => ?_)
    refine g_callSNx X "SlidePark" (ct_X1_requireElement hst) dX6_at_14 rfl q1120 q66 q1280 q1119 hyS_X1_requireElement (fun H hH => hH) ⟨Nat.le_of_ble_eq_true rfl, Nat.le_of_ble_eq_true rfl⟩ ⟨Nat.le_of_ble_eq_true rfl, Nat.le_of_ble_eq_true rfl⟩ (Nat.le_of_ble_eq_true rfl) rfl (fun E q => GX.pass X htab (Nat.le_of_ble_eq_true rfl) (Nat.le_of_ble_eq_true rfl) (fun H h => ⟨h.1, hx, h.2.2⟩)) (fun x0 => ?_)
    exact absurd x0.down hx
theorem ct_X3_size (hst : l.stackTraces = false) {v : Value} (ha : Γ a = some (.inl (.inr (2, [.ref q, v])))) (he : Γ q = some (.inr (xs, m0))) : CM Ω l yX3_size (ws_ yX3_size cX3_size 1 (some .int)) 3 0 0 [.ref a] (hL Ω Γ) (QP (some (.int (nI xs.length))) (hL Ω Γ)) nX := by
  refine CM.of (L := [some (.ref a)]) hst (by decide) (Nat.le_of_ble_eq_true rfl) rfl ?_
  intro p e s m below meth c X hnm htab
  refine g_aload_n X dX3_size_0 rfl rfl ?_
  refine l_get X dX3_size_1 rfl in_X3 (ci := 2) rfl 0 (by decide) q157 (fun _ h => h) ha rfl ?_
  refine g_callV X (ct_J2_size hst he) dX3_size_4 rfl (lw_V q464 q270 q271 q70 q272) hyV_J2_size (fun H hH => hL.recvL X.2.2.2.2.2.2.2.1 hH he) (fun H hH => hH) ⟨Nat.le_of_ble_eq_true rfl, Nat.le_of_ble_eq_true rfl⟩ ⟨Nat.le_of_ble_eq_true rfl, Nat.le_of_ble_eq_true rfl⟩ (Nat.le_of_ble_eq_true rfl) rfl (fun x_4 => ?_)
  refine g_iret X dX3_size_7 rfl (Nat.le_of_ble_eq_true rfl) (Nat.le_of_ble_eq_true rfl) (fun H hH => ⟨(), rfl, hH⟩)
theorem ct_X3_get (hst : l.stackTraces = false) {v : Value} (ha : Γ a = some (.inl (.inr (2, [.ref q, v])))) (he : Γ q = some (.inr (xs, m0))) (hl : xs.length ≤ 1000) {k : Nat} (hk : xs[k]? = some y) : CM Ω l yX3_get (ws_ yX3_get cX3_get 2 (some (.object "java/lang/Object"))) 6 0 0 [.ref a, .int (nI k)] (hL Ω Γ) (QP (some (.ref y)) (hL Ω Γ)) nX := by
  refine CM.of (L := [some (.ref a), some (.int (nI k))]) hst (by decide) (Nat.le_of_ble_eq_true rfl) rfl ?_
  intro p e s m below meth c X hnm htab
  refine g_aload_n X dX3_get_0 rfl rfl ?_
  refine l_get X dX3_get_1 rfl in_X3 (ci := 2) rfl 0 (by decide) q157 (fun _ h => h) ha rfl ?_
  refine g_iload_n X dX3_get_4 rfl rfl ?_
  refine g_callV X (ct_J2_get hst he hk hl) dX3_get_5 rfl (lw_V q478 q295 q296 q70 q297) hyV_J2_get (fun H hH => hL.recvL X.2.2.2.2.2.2.2.1 hH he) (fun H hH => hH) ⟨Nat.le_of_ble_eq_true rfl, Nat.le_of_ble_eq_true rfl⟩ ⟨Nat.le_of_ble_eq_true rfl, Nat.le_of_ble_eq_true rfl⟩ (Nat.le_of_ble_eq_true rfl) rfl (fun x_5 => ?_)
  refine g_aret X (Or.inl ⟨_, rfl⟩) (Or.inr ⟨_, rfl⟩) dX3_get_8 rfl (Nat.le_of_ble_eq_true rfl) (Nat.le_of_ble_eq_true rfl) (fun H hH => ⟨(), rfl, hH⟩)
theorem ct_X3_back (hst : l.stackTraces = false) {v : Value} (ha : Γ a = some (.inl (.inr (2, [.ref q, v])))) (he : Γ q = some (.inr (xs, m0))) (hl : xs.length ≤ 1000) {x : Int32} : CM Ω l yX3_back (ws_ yX3_back cX3_back 2 (some (.object "java/lang/Object"))) 10 1 6 [.ref a, .int x] (hL Ω Γ) (QV (fun y : {y : Nat // xs[xs.length - 1 - iN x]? = some y ∧ (0 ≤ x ∧ x ≤ nI xs.length - 1)} => some (.ref y.1)) (fun _ => hL Ω Γ)) (xE "java/util/NoSuchElementException" (¬ (0 ≤ x ∧ x ≤ nI xs.length - 1)) (hL Ω Γ)) := by
  by_cases hx : 0 ≤ x ∧ x ≤ nI xs.length - 1
  · obtain ⟨j, hj, rfl⟩ := (ixI (by omega)).mp hx
    have hy : xs[xs.length - 1 - j]? = some (xs[xs.length - 1 - j]'(by omega)) := List.getElem?_eq_getElem (by omega)
    refine CM.of (L := [some (.ref a), some (.int (nI j))]) hst (by decide) (Nat.le_of_ble_eq_true rfl) rfl ?_
    intro p e s m below meth c X hnm htab
    refine g_iload_n X dX3_back_0 rfl rfl ?_
    refine g_iconst X dX3_back_1 rfl (v := (nI 0)) rfl ?_
    refine g_aload_n X dX3_back_2 rfl rfl ?_
    refine l_get X dX3_back_3 rfl in_X3 (ci := 2) rfl 0 (by decide) q157 (fun _ h => h) ha rfl ?_
    refine g_callV X (ct_J2_size hst he) dX3_back_6 rfl (lw_V q464 q270 q271 q70 q272) hyV_J2_size (fun H hH => hL.recvL X.2.2.2.2.2.2.2.1 hH he) (fun H hH => hH) ⟨Nat.le_of_ble_eq_true rfl, Nat.le_of_ble_eq_true rfl⟩ ⟨Nat.le_of_ble_eq_true rfl, Nat.le_of_ble_eq_true rfl⟩ (Nat.le_of_ble_eq_true rfl) rfl (fun x_6 => ?_)
    refine g_iconst X dX3_back_9 rfl (v := (nI 1)) rfl ?_
    refine g_isub X dX3_back_10 rfl rfl ?_
    refine g_callSN X "SlidePark" (ct_X1_isBetween hst) dX3_back_11 rfl q447 q66 q1369 q446 hyS_X1_isBetween (fun H hH => hH) ⟨Nat.le_of_ble_eq_true rfl, Nat.le_of_ble_eq_true rfl⟩ ⟨Nat.le_of_ble_eq_true rfl, Nat.le_of_ble_eq_true rfl⟩ (Nat.le_of_ble_eq_true rfl) rfl (fun x_11 => ?_)
    refine g_callSNx X "SlidePark" (ct_X1_requireElement hst) dX3_back_14 rfl q1120 q66 q1370 q1119 hyS_X1_requireElement (fun H hH => hH) ⟨Nat.le_of_ble_eq_true rfl, Nat.le_of_ble_eq_true rfl⟩ ⟨Nat.le_of_ble_eq_true rfl, Nat.le_of_ble_eq_true rfl⟩ (Nat.le_of_ble_eq_true rfl) rfl (fun E q => GX.not (fun h => h hx)) (fun x_14 => ?_)
    refine g_aload_n X dX3_back_17 rfl rfl ?_
    refine l_get X dX3_back_18 rfl in_X3 (ci := 2) rfl 0 (by decide) q157 (fun _ h => h) ha rfl ?_
    refine g_aload_n X dX3_back_21 rfl rfl ?_
    refine l_get X dX3_back_22 rfl in_X3 (ci := 2) rfl 0 (by decide) q157 (fun _ h => h) ha rfl ?_
    refine g_callV X (ct_J2_size hst he) dX3_back_25 rfl (lw_V q464 q270 q271 q70 q272) hyV_J2_size (fun H hH => hL.recvL X.2.2.2.2.2.2.2.1 hH he) (fun H hH => hH) ⟨Nat.le_of_ble_eq_true rfl, Nat.le_of_ble_eq_true rfl⟩ ⟨Nat.le_of_ble_eq_true rfl, Nat.le_of_ble_eq_true rfl⟩ (Nat.le_of_ble_eq_true rfl) rfl (fun x_25 => ?_)
    refine g_iconst X dX3_back_28 rfl (v := (nI 1)) rfl ?_
    refine g_isub X dX3_back_29 rfl (pk_sub (by omega)) ?_
    refine g_iload_n X dX3_back_30 rfl rfl ?_
    refine g_isub X dX3_back_31 rfl (pk_sub (by omega)) ?_
    refine g_callV X (ct_J2_get hst he hy hl) dX3_back_32 rfl (lw_V q478 q295 q296 q70 q297) hyV_J2_get (fun H hH => hL.recvL X.2.2.2.2.2.2.2.1 hH he) (fun H hH => hH) ⟨Nat.le_of_ble_eq_true rfl, Nat.le_of_ble_eq_true rfl⟩ ⟨Nat.le_of_ble_eq_true rfl, Nat.le_of_ble_eq_true rfl⟩ (Nat.le_of_ble_eq_true rfl) rfl (fun x_32 => ?_)
    refine g_aret X (Or.inl ⟨_, rfl⟩) (Or.inr ⟨_, rfl⟩) dX3_back_35 rfl (Nat.le_of_ble_eq_true rfl) (Nat.le_of_ble_eq_true rfl) (fun H hH => ⟨⟨_, by rw [iN_nI (by omega)]; exact hy, hx⟩, rfl, hH⟩)
  · refine CM.of (L := [some (.ref a), some (.int x)]) hst (by decide) (Nat.le_of_ble_eq_true rfl) rfl ?_
    intro p e s m below meth c X hnm htab
    refine g_iload_n X dX3_back_0 rfl rfl ?_
    refine g_iconst X dX3_back_1 rfl (v := (nI 0)) rfl ?_
    refine g_aload_n X dX3_back_2 rfl rfl ?_
    refine l_get X dX3_back_3 rfl in_X3 (ci := 2) rfl 0 (by decide) q157 (fun _ h => h) ha rfl ?_
    refine g_callV X (ct_J2_size hst he) dX3_back_6 rfl (lw_V q464 q270 q271 q70 q272) hyV_J2_size (fun H hH => hL.recvL X.2.2.2.2.2.2.2.1 hH he) (fun H hH => hH) ⟨Nat.le_of_ble_eq_true rfl, Nat.le_of_ble_eq_true rfl⟩ ⟨Nat.le_of_ble_eq_true rfl, Nat.le_of_ble_eq_true rfl⟩ (Nat.le_of_ble_eq_true rfl) rfl (fun x_6 => ?_)
    refine g_iconst X dX3_back_9 rfl (v := (nI 1)) rfl ?_
    refine g_isub X dX3_back_10 rfl rfl ?_
    refine g_callSN X "SlidePark" (ct_X1_isBetween hst) dX3_back_11 rfl q447 q66 q1369 q446 hyS_X1_isBetween (fun H hH => hH) ⟨Nat.le_of_ble_eq_true rfl, Nat.le_of_ble_eq_true rfl⟩ ⟨Nat.le_of_ble_eq_true rfl, Nat.le_of_ble_eq_true rfl⟩ (Nat.le_of_ble_eq_true rfl) rfl (fun x_11 => ?_)
    refine g_callSNx X "SlidePark" (ct_X1_requireElement hst) dX3_back_14 rfl q1120 q66 q1370 q1119 hyS_X1_requireElement (fun H hH => hH) ⟨Nat.le_of_ble_eq_true rfl, Nat.le_of_ble_eq_true rfl⟩ ⟨Nat.le_of_ble_eq_true rfl, Nat.le_of_ble_eq_true rfl⟩ (Nat.le_of_ble_eq_true rfl) rfl (fun E q => GX.pass X htab (Nat.le_of_ble_eq_true rfl) (Nat.le_of_ble_eq_true rfl) (fun H h => ⟨h.1, hx, h.2.2⟩)) (fun x0 => ?_)
    exact absurd x0.down hx
theorem ct_X3_add (hst : l.stackTraces = false) {n : Nat} (ha : Γ a = some (.inl (.inr (2, [.ref q, .int (nI n)])))) (he : Γ q = some (.inr (xs, m0))) (hl : xs.length ≤ n) (hn : 0 < n ∧ n ≤ 40) (hE : ∀ z ∈ xs, okE Ω Γ z) (hy : okE Ω Γ y) : CM Ω l yX3_add (ws_ yX3_add cX3_add 2 none) 16 1 64 [.ref a, .ref y] (hL Ω Γ) (QV (fun _ : Int32 => none) (fun m' => hL Ω (hu Γ q (.inr ((if xs.length = n then xs.drop 1 else xs) ++ [y], m'))))) nX := by
  have hq : a ≠ q := neOL ha he
  by_cases h : xs.length = n
  · rw [if_pos h]
    have h0 : xs[0]? = some (xs[0]'(by omega)) := List.getElem?_eq_getElem (by omega)
    have ed : xs.drop 1 = xs.eraseIdx 0 := by cases xs <;> rfl
    have hlen : (xs.eraseIdx 0).length ≤ 40 := by rw [List.length_eraseIdx]; split <;> omega
    rw [ed]
    refine CM.of (L := [some (.ref a), some (.ref y)]) hst (by decide) (Nat.le_of_ble_eq_true rfl) rfl ?_
    intro p e s m below meth c X hnm htab
    refine g_aload_n X dX3_add_0 rfl rfl ?_
    refine l_get X dX3_add_1 rfl in_X3 (ci := 2) rfl 0 (by decide) q157 (fun _ h => h) ha rfl ?_
    refine g_callV X (ct_J2_size hst he) dX3_add_4 rfl (lw_V q464 q270 q271 q70 q272) hyV_J2_size (fun H hH => hL.recvL X.2.2.2.2.2.2.2.1 hH he) (fun H hH => hH) ⟨Nat.le_of_ble_eq_true rfl, Nat.le_of_ble_eq_true rfl⟩ ⟨Nat.le_of_ble_eq_true rfl, Nat.le_of_ble_eq_true rfl⟩ (Nat.le_of_ble_eq_true rfl) rfl (fun x_4 => ?_)
    refine g_aload_n X dX3_add_7 rfl rfl ?_
    refine l_get X dX3_add_8 rfl in_X3 (ci := 2) rfl 1 (by decide) q158 (fun _ h => h) ha rfl ?_
    rw [h]
    refine g_icmp_ne (tgt := 23) X dX3_add_11 rfl (by decide) (fun c => absurd rfl c) (fun c_11 => ?_)
    refine g_aload_n X dX3_add_14 rfl rfl ?_
    refine l_get X dX3_add_15 rfl in_X3 (ci := 2) rfl 0 (by decide) q157 (fun _ h => h) ha rfl ?_
    refine g_iconst X dX3_add_18 rfl (v := (nI 0)) rfl ?_
    refine g_callV X (ct_J2_remove hst he h0 (by omega) hE) dX3_add_19 rfl (lw_V q821 q822 q823 q70 q824) hyV_J2_remove (fun H hH => hL.recvL X.2.2.2.2.2.2.2.1 hH he) (fun H hH => hH) ⟨Nat.le_of_ble_eq_true rfl, Nat.le_of_ble_eq_true rfl⟩ ⟨Nat.le_of_ble_eq_true rfl, Nat.le_of_ble_eq_true rfl⟩ (Nat.le_of_ble_eq_true rfl) rfl (fun x_19 => ?_)
    refine g_pop X dX3_add_22 rfl rfl ?_
    have he1 : hu Γ q (.inr (xs.eraseIdx 0, m0 + nI 1)) q = some (.inr (xs.eraseIdx 0, m0 + nI 1)) := hu_s _ _ _
    refine g_aload_n X dX3_add_23 rfl rfl ?_
    refine l_get X dX3_add_24 rfl in_X3 (ci := 2) rfl 0 (by decide) q157 (fun _ h => h) ((hu_n hq).trans ha) rfl ?_
    refine g_aload_n X dX3_add_27 rfl rfl ?_
    refine g_callV X (ct_J2_add hst he1 hlen (fun z hz => (hE z (List.mem_of_mem_eraseIdx hz)).u he) (hy.u he)) dX3_add_28 rfl (lw_V q619 q620 q621 q70 q622) hyV_J2_add (fun H hH => hL.recvL X.2.2.2.2.2.2.2.1 hH he1) (fun H hH => hH) ⟨Nat.le_of_ble_eq_true rfl, Nat.le_of_ble_eq_true rfl⟩ ⟨Nat.le_of_ble_eq_true rfl, Nat.le_of_ble_eq_true rfl⟩ (Nat.le_of_ble_eq_true rfl) rfl (fun x_28 => ?_)
    refine g_pop X dX3_add_31 rfl rfl ?_
    refine g_vret X dX3_add_32 rfl (Nat.le_of_ble_eq_true rfl) (Nat.le_of_ble_eq_true rfl) (fun H hH => ⟨_, rfl, by rw [hu_hu] at hH; exact hH⟩)
  · rw [if_neg h]
    refine CM.of (L := [some (.ref a), some (.ref y)]) hst (by decide) (Nat.le_of_ble_eq_true rfl) rfl ?_
    intro p e s m below meth c X hnm htab
    refine g_aload_n X dX3_add_0 rfl rfl ?_
    refine l_get X dX3_add_1 rfl in_X3 (ci := 2) rfl 0 (by decide) q157 (fun _ h => h) ha rfl ?_
    refine g_callV X (ct_J2_size hst he) dX3_add_4 rfl (lw_V q464 q270 q271 q70 q272) hyV_J2_size (fun H hH => hL.recvL X.2.2.2.2.2.2.2.1 hH he) (fun H hH => hH) ⟨Nat.le_of_ble_eq_true rfl, Nat.le_of_ble_eq_true rfl⟩ ⟨Nat.le_of_ble_eq_true rfl, Nat.le_of_ble_eq_true rfl⟩ (Nat.le_of_ble_eq_true rfl) rfl (fun x_4 => ?_)
    refine g_aload_n X dX3_add_7 rfl rfl ?_
    refine l_get X dX3_add_8 rfl in_X3 (ci := 2) rfl 1 (by decide) q158 (fun _ h => h) ha rfl ?_
    refine g_icmp_ne (tgt := 23) X dX3_add_11 rfl (by decide) (fun c_11 => ?_) (fun c => absurd ((nI_eq (by omega) (by omega)).mp c) h)
    refine g_aload_n X dX3_add_23 rfl rfl ?_
    refine l_get X dX3_add_24 rfl in_X3 (ci := 2) rfl 0 (by decide) q157 (fun _ h => h) ha rfl ?_
    refine g_aload_n X dX3_add_27 rfl rfl ?_
    refine g_callV X (ct_J2_add hst he (by omega) hE hy) dX3_add_28 rfl (lw_V q619 q620 q621 q70 q622) hyV_J2_add (fun H hH => hL.recvL X.2.2.2.2.2.2.2.1 hH he) (fun H hH => hH) ⟨Nat.le_of_ble_eq_true rfl, Nat.le_of_ble_eq_true rfl⟩ ⟨Nat.le_of_ble_eq_true rfl, Nat.le_of_ble_eq_true rfl⟩ (Nat.le_of_ble_eq_true rfl) rfl (fun x_28 => ?_)
    refine g_pop X dX3_add_31 rfl rfl ?_
    refine g_vret X dX3_add_32 rfl (Nat.le_of_ble_eq_true rfl) (Nat.le_of_ble_eq_true rfl) (fun H hH => ⟨_, rfl, hH⟩)
theorem ct_X3_takeLast (hst : l.stackTraces = false) {v : Value} (ha : Γ a = some (.inl (.inr (2, [.ref q, v])))) (he : Γ q = some (.inr (xs, m0))) (hl : xs.length ≤ 1000) (h0 : 0 < xs.length) (hy : xs[xs.length - 1]? = some y) (hE : ∀ z ∈ xs, okE Ω Γ z) : CM Ω l yX3_takeLast (ws_ yX3_takeLast cX3_takeLast 1 (some (.object "java/lang/Object"))) 6 0 0 [.ref a] (hL Ω Γ) (QP (some (.ref y)) (hL Ω (hu Γ q (.inr (xs.eraseIdx (xs.length - 1), m0 + nI 1))))) nX := by
  refine CM.of (L := [some (.ref a)]) hst (by decide) (Nat.le_of_ble_eq_true rfl) rfl ?_
  intro p e s m below meth c X hnm htab
  refine g_aload_n X dX3_takeLast_0 rfl rfl ?_
  refine l_get X dX3_takeLast_1 rfl in_X3 (ci := 2) rfl 0 (by decide) q157 (fun _ h => h) ha rfl ?_
  refine g_aload_n X dX3_takeLast_4 rfl rfl ?_
  refine l_get X dX3_takeLast_5 rfl in_X3 (ci := 2) rfl 0 (by decide) q157 (fun _ h => h) ha rfl ?_
  refine g_callV X (ct_J2_size hst he) dX3_takeLast_8 rfl (lw_V q464 q270 q271 q70 q272) hyV_J2_size (fun H hH => hL.recvL X.2.2.2.2.2.2.2.1 hH he) (fun H hH => hH) ⟨Nat.le_of_ble_eq_true rfl, Nat.le_of_ble_eq_true rfl⟩ ⟨Nat.le_of_ble_eq_true rfl, Nat.le_of_ble_eq_true rfl⟩ (Nat.le_of_ble_eq_true rfl) rfl (fun x_8 => ?_)
  refine g_iconst X dX3_takeLast_11 rfl (v := (nI 1)) rfl ?_
  refine g_isub X dX3_takeLast_12 rfl (pk_sub (by omega)) ?_
  refine g_callV X (ct_J2_remove hst he hy hl hE) dX3_takeLast_13 rfl (lw_V q821 q822 q823 q70 q824) hyV_J2_remove (fun H hH => hL.recvL X.2.2.2.2.2.2.2.1 hH he) (fun H hH => hH) ⟨Nat.le_of_ble_eq_true rfl, Nat.le_of_ble_eq_true rfl⟩ ⟨Nat.le_of_ble_eq_true rfl, Nat.le_of_ble_eq_true rfl⟩ (Nat.le_of_ble_eq_true rfl) rfl (fun x_13 => ?_)
  refine g_aret X (Or.inl ⟨_, rfl⟩) (Or.inr ⟨_, rfl⟩) dX3_takeLast_16 rfl (Nat.le_of_ble_eq_true rfl) (Nat.le_of_ble_eq_true rfl) (fun H hH => ⟨(), rfl, hH⟩)
theorem ct_X3_clear (hst : l.stackTraces = false) {v : Value} (ha : Γ a = some (.inl (.inr (2, [.ref q, v])))) (he : Γ q = some (.inr (xs, m0))) (hl : xs.length ≤ 1000) : CM Ω l yX3_clear (ws_ yX3_clear cX3_clear 1 none) 4 0 0 [.ref a] (hL Ω Γ) (QP none (hL Ω (hu Γ q (.inr ([], m0 + nI 1))))) nX := by
  refine CM.of (L := [some (.ref a)]) hst (by decide) (Nat.le_of_ble_eq_true rfl) rfl ?_
  intro p e s m below meth c X hnm htab
  refine g_aload_n X dX3_clear_0 rfl rfl ?_
  refine l_get X dX3_clear_1 rfl in_X3 (ci := 2) rfl 0 (by decide) q157 (fun _ h => h) ha rfl ?_
  refine g_callV X (ct_J2_clear hst he hl) dX3_clear_4 rfl (lw_V q1906 q1907 q1908 q70 q1909) hyV_J2_clear (fun H hH => hL.recvL X.2.2.2.2.2.2.2.1 hH he) (fun H hH => hH) ⟨Nat.le_of_ble_eq_true rfl, Nat.le_of_ble_eq_true rfl⟩ ⟨Nat.le_of_ble_eq_true rfl, Nat.le_of_ble_eq_true rfl⟩ (Nat.le_of_ble_eq_true rfl) rfl (fun x_4 => ?_)
  refine g_vret X dX3_clear_7 rfl (Nat.le_of_ble_eq_true rfl) (Nat.le_of_ble_eq_true rfl) (fun H hH => ⟨(), rfl, hH⟩)
theorem ct_X3_init (hst : l.stackTraces = false) {n : Int32} (ha : Γ a = some (.inl (.inr (2, [.null, .int 0])))) : CM Ω l yX3_init (ws_ yX3_init cX3_init 2 none) 8 1 3 [.ref a, .int n] (hL Ω Γ) (QV (fun _ : {q : Nat // Γ q = none} => none) (fun q => hL Ω (hu (hu Γ q.1 (.inr ([], 0))) a (.inl (.inr (2, [.ref q.1, .int n])))))) nX := by
  refine CM.of (L := [some (.ref a), some (.int n)]) hst (by decide) (Nat.le_of_ble_eq_true rfl) rfl ?_
  intro p e s m below meth c X hnm htab
  refine g_aload_n X dX3_init_0 rfl rfl ?_
  refine g_objInit X dX3_init_1 rfl q154 (Nat.le_of_ble_eq_true rfl) (Nat.le_of_ble_eq_true rfl) ?_
  refine g_aload_n X dX3_init_4 rfl rfl ?_
  refine l_new X dX3_init_5 rfl (fs := [.int 0, .null, .int 0]) in_J2 tyJ2_ok q155 q121 q70 (ci := 11) rfl (by decide) (Nat.le_of_ble_eq_true rfl) (Nat.le_of_ble_eq_true rfl) (fun q1 nq => ?_)
  have hq : a ≠ q1 := fun e => by rw [← e, ha] at nq; simp at nq
  refine g_dup X dX3_init_8 rfl rfl ?_
  refine g_callI X (ct_J2_init hst (hu_s _ _ _)) dX3_init_9 rfl q124 q70 q156 q123 rfl hyS_J2_init (fun H hH => hH) ⟨Nat.le_of_ble_eq_true rfl, Nat.le_of_ble_eq_true rfl⟩ ⟨Nat.le_of_ble_eq_true rfl, Nat.le_of_ble_eq_true rfl⟩ (Nat.le_of_ble_eq_true rfl) rfl (fun x_9 => ?_)
  refine l_putF X hnm dX3_init_12 rfl in_X3 tyX3_ok nmX3 (ci := 2) rfl 0 (by decide) q157 (fun _ h => h) rfl rfl rfl rfl rfl ((hu_n hq).trans ((hu_n hq).trans ha)) (Nat.le_of_ble_eq_true rfl) rfl ?_
  refine g_aload_n X dX3_init_15 rfl rfl ?_
  refine g_iload_n X dX3_init_16 rfl rfl ?_
  refine l_putF X hnm dX3_init_17 rfl in_X3 tyX3_ok nmX3 (ci := 2) rfl 1 (by decide) q158 (fun _ h => h) rfl rfl rfl rfl rfl (hu_s _ _ _) (Nat.le_of_ble_eq_true rfl) rfl ?_
  refine g_vret X dX3_init_20 rfl (Nat.le_of_ble_eq_true rfl) (Nat.le_of_ble_eq_true rfl) (fun H hH => ⟨⟨q1, nq⟩, rfl, by rw [hu_hu, hu_hu] at hH; exact hH⟩)
end C6
