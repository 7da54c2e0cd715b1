/-! EXCEPTIONS as objects: MalformedException made and thrown; a handler for any -/
theorem hu_self {α : Type} {h : Nat → Option α} {q : Nat} {d : α} (hq : h q = some d) : hu h q d = h := funext (fun j => by
  by_cases g : j = q
  · rw [g, hu_s, hq]
  · exact hu_n g)
theorem hR.recvN {Ω : Om} {h : RH} {H : Heap} {s : State} {H0 : Heap} (hK : KK Ω s H0) (hh : hR Ω h H) {a ci : Nat} {fs : List Value} {q : vw_C} (he : h a = some (.inr (ci, fs))) (hc : vwCl[ci]? = some q) : ∃ cell : Cell, H[a]? = some cell ∧ cell.vm = .none ∧ s.vm.findClass q.1 = some cell.cls := by
  obtain ⟨q', h1, cell, g1, g2, g3, -⟩ := hh.at he
  exact ⟨cell, g1, g3, by rw [g2]; exact (hK.1.1 ci q hc).2.1⟩
theorem hL.recvN {Ω : Om} {Γ : LH} {H : Heap} {s : State} {H0 : Heap} (hK : KK Ω s H0) (hh : hL Ω Γ H) {a ci : Nat} {fs : List Value} {q : vw_C} (he : Γ a = some (.inl (.inr (ci, fs)))) (hc : vwCl[ci]? = some q) : ∃ cell : Cell, H[a]? = some cell ∧ cell.vm = .none ∧ s.vm.findClass q.1 = some cell.cls := by
  obtain ⟨x, ok, h1⟩ := hh
  exact h1.recvN hK (cc_o he) hc
section EXR
variable {Ω : Om} {p : Program} {l : Launch} {e : Env} {R : Room} {s : State} {m : MethodId} {args : Array Value} {below : List Frame} {meth : Method} {c : Code} {Q : State → Prop} {own : String} {cc : ByteArray} {nL : Nat} {ret : Option FieldType} {I : Heap → Prop} {k n pc pc0 : Nat} {L : List (Option Value)} {st stk : List Value}
/-- caught by a row that takes anything -/
theorem GX.catchAny (X : Fx Ω p l s m args meth c own cc nL ret) {E : String} {q : Nat} (pre : List ExceptionTableEntry) (x : ExceptionTableEntry) (suf : List ExceptionTableEntry) (hsplit : c.exceptionTable.toList = pre ++ x :: suf)
    (hpass : ∀ z ∈ pre, covers z pc = false ∨ (z.catchType ≠ 0 ∧ ∃ nm : String, Cond.classLink own z.catchType nm ∈ lw_all ∧ (E, nm) ∈ ncl)) (hx : covers x pc = true) (h0 : x.catchType = 0) (kk : GJ Ω p l e R s m args below meth c nL Q I k n x.handlerPc L [.ref q]) : GX Ω p l e R s m args below meth c nL Q I k n pc L st E q := by
  intro H locs ls ce hI hS hl hq hv hc T hT Y
  have hpl : e.platform.magicAccessors = ({} : Platform).magicAccessors := by rw [Y.admits.platform]
  obtain ⟨vm', X', st1⟩ := Y.thenCaughtThrough q (g := F0 m pc ls st) rfl (Steps.refl _) (by rw [hT]; exact hq) (by rw [hv]; rfl) (by obtain ⟨k9, h9, -⟩ := Vm.findClass_spec hc; exact ⟨k9, h9⟩) pre x suf hsplit
    (fun z hz => by
      rcases hpass z hz with h | ⟨hz0, nm, hl1, hn1⟩
      · exact Or.inl h
      · obtain ⟨c6, hc6, hcl6⟩ := Cond.classLink_spec X.2.2.2.2.2.1 (X.2.2.2.2.2.2.1 _ hl1) e.platform hpl
        obtain ⟨a8, b8, h1, h2, h3⟩ := X.2.2.2.2.2.2.2.1.2.2.2.2.2.2.2.1 _ hn1
        cases Option.some.inj (h1.symm.trans hc)
        cases Option.some.inj (h2.symm.trans hc6)
        exact Or.inr ⟨hz0, _, hcl6, h3⟩) hx (Or.inl h0)
  obtain ⟨t, a1, b1⟩ := kk H locs ls hI hS hl (T.setVm vm') hT X'
  exact ⟨t, st1.trans a1, b1⟩
end EXR
theorem nq_n {v : Value} {ty : FieldType} (h : v = .null ∨ ∃ t, v = .ref t) : narrow ty v = v := by
  rcases h with rfl | ⟨t, rfl⟩ <;> cases ty <;> rfl
theorem nq_o {v : Value} {nm : String} (h : v = .null ∨ ∃ t, v = .ref t) : fits (.object nm) v = true := by
  rcases h with rfl | ⟨t, rfl⟩ <;> rfl
theorem nq_a {v : Value} {ty : FieldType} (h : v = .null ∨ ∃ t, v = .ref t) : fits (.array ty) v = true := by
  rcases h with rfl | ⟨t, rfl⟩ <;> rfl
abbrev mlZ : List Value := [.null, .null, .null, .null, .null, .int 0, .int 0]
abbrev mlF (a : Nat) : List Value := [.null, .null, .null, .null, .null, .int 0, .int (nI a)]
section EXC
variable {l : Launch} {Ω : Om} {Γ : LH} {q a : Nat}
set_option maxRecDepth 100000
theorem ct_J12_init_3 (hst : l.stackTraces = false) (hx : isO Γ q 10 mlZ) : CM Ω l yJ12_init_3 (ws_ yJ12_init_3 cJ12_init_3 5 none) 3 0 0 [.ref q, .null, .null, .int (nI 0), .int (nI 0)] (hL Ω Γ) (QP none (hL Ω Γ)) nX := by
  refine CM.of (L := [some (.ref q), some (.null), some (.null), some (.int (nI 0)), some (.int (nI 0))]) hst (by decide) (Nat.le_of_ble_eq_true rfl) rfl ?_
  intro p e s m below meth c X hnm htab
  refine g_aload_n X dJ12_init_3_0 rfl rfl ?_
  refine g_objInit X dJ12_init_3_1 rfl q384 (Nat.le_of_ble_eq_true rfl) (Nat.le_of_ble_eq_true rfl) ?_
  refine g_aload_n X dJ12_init_3_4 rfl rfl ?_
  refine g_aload_n X dJ12_init_3_5 rfl rfl ?_
  refine l_put X dJ12_init_3_6 rfl in_X11 tyX11_ok nmX11 (ci := 10) rfl 0 (by decide) q418 (fun _ h => h) rfl rfl rfl rfl hx (Nat.le_of_ble_eq_true rfl) rfl ?_
  refine g_aload_n X dJ12_init_3_9 rfl rfl ?_
  refine g_getsq X dJ12_init_3_10 rfl X.2.2.2.2.2.2.2.1.2.2.2.2.2.2.2.2.2.2.2.2.2.1.1 q385 (fun _ h => h) (fun v1 hv1 => ?_)
  refine l_put X dJ12_init_3_13 rfl in_X11 tyX11_ok nmX11 (ci := 10) rfl 1 (by decide) q419 (fun _ h => h) rfl rfl (nq_n hv1) (nq_a hv1) (hu_s _ _ _) (Nat.le_of_ble_eq_true rfl) rfl ?_
  refine g_aload_n X dJ12_init_3_16 rfl rfl ?_
  refine g_getsq X dJ12_init_3_17 rfl X.2.2.2.2.2.2.2.1.2.2.2.2.2.2.2.2.2.2.2.2.2.2.1 q387 (fun _ h => h) (fun v2 hv2 => ?_)
  refine l_put X dJ12_init_3_20 rfl in_X11 tyX11_ok nmX11 (ci := 10) rfl 2 (by decide) q420 (fun _ h => h) rfl rfl (nq_n hv2) (nq_o hv2) (hu_s _ _ _) (Nat.le_of_ble_eq_true rfl) rfl ?_
  refine g_iload X dJ12_init_3_23 rfl rfl ?_
  refine g_if_eq (tgt := 36) X dJ12_init_3_25 rfl (by decide) (fun c_25 => ?_) (fun c => absurd rfl c)
  refine g_aload_n X dJ12_init_3_36 rfl rfl ?_
  refine g_null X dJ12_init_3_37 rfl ?_
  refine l_put X dJ12_init_3_38 rfl in_X11 tyX11_ok nmX11 (ci := 10) rfl 1 (by decide) q419 (fun _ h => h) rfl rfl rfl rfl (hu_s _ _ _) (Nat.le_of_ble_eq_true rfl) rfl ?_
  refine g_aload_n X dJ12_init_3_41 rfl rfl ?_
  refine g_aload_nN X dJ12_init_3_42 rfl rfl ?_
  refine l_put X dJ12_init_3_43 rfl in_X11 tyX11_ok nmX11 (ci := 10) rfl 3 (by decide) q417 (fun _ h => h) rfl rfl rfl rfl (hu_s _ _ _) (Nat.le_of_ble_eq_true rfl) rfl ?_
  refine g_aload_n X dJ12_init_3_46 rfl rfl ?_
  refine g_aload_nN X dJ12_init_3_47 rfl rfl ?_
  refine l_put X dJ12_init_3_48 rfl in_X11 tyX11_ok nmX11 (ci := 10) rfl 0 (by decide) q418 (fun _ h => h) rfl rfl rfl rfl (hu_s _ _ _) (Nat.le_of_ble_eq_true rfl) rfl ?_
  refine g_iload_n X dJ12_init_3_51 rfl rfl ?_
  refine g_if_ne (tgt := 60) X dJ12_init_3_52 rfl (by decide) (fun c => absurd rfl c) (fun c_52 => ?_)
  refine g_aload_n X dJ12_init_3_55 rfl rfl ?_
  refine g_null X dJ12_init_3_56 rfl ?_
  refine l_put X dJ12_init_3_57 rfl in_X11 tyX11_ok nmX11 (ci := 10) rfl 2 (by decide) q420 (fun _ h => h) rfl rfl rfl rfl (hu_s _ _ _) (Nat.le_of_ble_eq_true rfl) rfl ?_
  refine g_vret X dJ12_init_3_60 rfl (by first | exact Nat.le_of_ble_eq_true rfl | omega | (dsimp only [rmD]; omega)) (by first | exact Nat.le_of_ble_eq_true rfl | omega | (dsimp only [rmD]; omega)) (fun H hH => ⟨(), rfl, by simp only [hu_hu] at hH; exact (hu_self hx) ▸ (show hL Ω (hu Γ q (.inl (.inr (10, mlZ)))) _ from hH)⟩)
theorem ct_J13_init_3 (hst : l.stackTraces = false) (hx : isO Γ q 10 mlZ) : CM Ω l yJ13_init_3 (ws_ yJ13_init_3 cJ13_init_3 5 none) 5 0 0 [.ref q, .null, .null, .int (nI 0), .int (nI 0)] (hL Ω Γ) (QP none (hL Ω Γ)) nX := by
  refine CM.of (L := [some (.ref q), some (.null), some (.null), some (.int (nI 0)), some (.int (nI 0))]) hst (by decide) (Nat.le_of_ble_eq_true rfl) rfl ?_
  intro p e s m below meth c X hnm htab
  refine g_aload_n X dJ13_init_3_0 rfl rfl ?_
  refine g_aload_nN X dJ13_init_3_1 rfl rfl ?_
  refine g_aload_nN X dJ13_init_3_2 rfl rfl ?_
  refine g_iload_n X dJ13_init_3_3 rfl rfl ?_
  refine g_iload X dJ13_init_3_4 rfl rfl ?_
  refine g_callI X (ct_J12_init_3 hst hx) dJ13_init_3_6 rfl q1579 q86 q1577 q1578 rfl hyS_J12_init_3 (fun H hH => hH) ⟨Nat.le_of_ble_eq_true rfl, Nat.le_of_ble_eq_true rfl⟩ ⟨by first | exact Nat.le_of_ble_eq_true rfl | omega | (dsimp only [rmD]; omega), by first | exact Nat.le_of_ble_eq_true rfl | omega | (dsimp only [rmD]; omega)⟩ (Nat.le_of_ble_eq_true rfl) rfl (fun x_6 => ?_)
  refine g_vret X dJ13_init_3_9 rfl (by first | exact Nat.le_of_ble_eq_true rfl | omega | (dsimp only [rmD]; omega)) (by first | exact Nat.le_of_ble_eq_true rfl | omega | (dsimp only [rmD]; omega)) (fun H hH => ⟨(), rfl, hH⟩)
theorem ct_X11_init (hst : l.stackTraces = false) (hx : isO Γ q 10 mlZ) : CM Ω l yX11_init (ws_ yX11_init cX11_init 2 none) 7 0 0 [.ref q, .int (nI a)] (hL Ω Γ) (QP none (hL Ω (hu Γ q (.inl (.inr (10, mlF a)))))) nX := by
  refine CM.of (L := [some (.ref q), some (.int (nI a))]) hst (by decide) (Nat.le_of_ble_eq_true rfl) rfl ?_
  intro p e s m below meth c X hnm htab
  refine g_aload_n X dX11_init_0 rfl rfl ?_
  refine g_null X dX11_init_1 rfl ?_
  refine g_null X dX11_init_2 rfl ?_
  refine g_iconst X dX11_init_3 rfl (v := (nI 0)) rfl ?_
  refine g_iconst X dX11_init_4 rfl (v := (nI 0)) rfl ?_
  refine g_callI X (ct_J13_init_3 hst hx) dX11_init_5 rfl q1576 q87 q1574 q1575 rfl hyS_J13_init_3 (fun H hH => hH) ⟨Nat.le_of_ble_eq_true rfl, Nat.le_of_ble_eq_true rfl⟩ ⟨by first | exact Nat.le_of_ble_eq_true rfl | omega | (dsimp only [rmD]; omega), by first | exact Nat.le_of_ble_eq_true rfl | omega | (dsimp only [rmD]; omega)⟩ (Nat.le_of_ble_eq_true rfl) rfl (fun x_5 => ?_)
  refine g_aload_n X dX11_init_8 rfl rfl ?_
  refine g_iload_n X dX11_init_9 rfl rfl ?_
  refine l_putF X hnm dX11_init_10 rfl in_X11 tyX11_ok nmX11 (ci := 10) rfl 6 (by decide) q1580 (fun _ h => h) rfl rfl rfl rfl rfl hx (Nat.le_of_ble_eq_true rfl) rfl ?_
  refine g_vret X dX11_init_13 rfl (by first | exact Nat.le_of_ble_eq_true rfl | omega | (dsimp only [rmD]; omega)) (by first | exact Nat.le_of_ble_eq_true rfl | omega | (dsimp only [rmD]; omega)) (fun H hH => ⟨(), rfl, hH⟩)
end EXC
