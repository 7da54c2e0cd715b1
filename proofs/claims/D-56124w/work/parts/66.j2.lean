/-! JDK: Arrays.copyOf of references, newLength -/
section J2C
variable {l : Launch} {Ω : Om} {h : RH} {I : Heap → Prop} {b : Nat} {n0 N0 : Nat} {f : Nat → Option Nat}
set_option maxRecDepth 100000
theorem ct_J11_copyOf_2 (hst : l.stackTraces = false) (hb : h b = some (cQ Ω n0 f)) (hO : ∀ i y, f i = some y → okO Ω h y) (hn : n0 ≤ N0) (hN : N0 ≤ 1000) : CM Ω l yJ11_copyOf_2 (ws_ yJ11_copyOf_2 cJ11_copyOf_2 4 (some (.array (.object "java/lang/Object")))) 3 1 N0 [.ref b, .int (nI N0), .ref (oM Ω 258)] (hR Ω h) (QV (fun q : {q : Nat // h q = none} => some (.ref q.1)) (fun q => hR Ω (hu h q.1 (cQ Ω N0 (va_cpy f (fun _ => none) 0 0 n0))))) nX := by
  refine CM.of (L := [some (.ref b), some (.int (nI N0)), some (.ref (oM Ω 258)), none]) hst (by decide) (Nat.le_of_ble_eq_true rfl) rfl ?_
  intro p e s m below meth c X hnm htab
  refine g_aload_n X dJ11_copyOf_2_0 rfl rfl ?_
  refine g_ldcM X dJ11_copyOf_2_1 rfl q677 X.2.2.2.2.2.2.2.1.2.2.2.2.2.2.1 ?_
  refine g_acmp_ne X (rx := some (oM Ω 258)) (ry := some (oM Ω 258)) (tgt := 13) dJ11_copyOf_2_3 rfl (by decide) (fun g => absurd rfl g) (fun _ => ?_)
  refine g_iload_n X dJ11_copyOf_2_6 rfl rfl ?_
  refine g_newq X dJ11_copyOf_2_7 rfl q679 (nI_pos (by omega)) (nI_clamp (by omega)) (by omega) (Nat.le_of_ble_eq_true rfl) (by show 0 + N0 ≤ N0; omega) (fun q0 nq => ?_)
  have hq : b ≠ q0 := fun e => by rw [e, nq] at hb; simp at hb
  have d1 : hu h q0 (cQ Ω N0 (fun _ => none)) b = some (cQ Ω n0 f) := (hu_n hq).trans hb
  refine g_goto (tgt := 24) X dJ11_copyOf_2_10 rfl (by decide) ?_
  refine g_astore_n X dJ11_copyOf_2_24 rfl (by decide) rfl rfl ?_
  refine g_aload_n X dJ11_copyOf_2_25 rfl rfl ?_
  refine g_iconst X dJ11_copyOf_2_26 rfl (v := (nI 0)) rfl ?_
  refine g_aload_n X dJ11_copyOf_2_27 rfl rfl ?_
  refine g_iconst X dJ11_copyOf_2_28 rfl (v := (nI 0)) rfl ?_
  refine g_aload_n X dJ11_copyOf_2_29 rfl rfl ?_
  refine g_alen X (t := 5) dJ11_copyOf_2_30 rfl d1 rfl rfl ?_
  refine g_iload_n X dJ11_copyOf_2_31 rfl rfl ?_
  refine g_min X dJ11_copyOf_2_32 rfl q680 (Nat.le_of_ble_eq_true rfl) (Nat.le_of_ble_eq_true rfl) (Nat.le_of_ble_eq_true rfl) (by show 0 + N0 ≤ N0; omega) ((mn_nI (by omega) (by omega)).trans (congrArg nI (Nat.min_eq_left hn))) ?_
  refine g_copyQ X dJ11_copyOf_2_35 rfl q683 (nI_pos (by omega)) (nI_pos (by omega)) (nI_pos (by omega)) (c2_le (nI_clamp (by omega)) (nI_clamp (by omega)) (by omega)) (c2_le (nI_clamp (by omega)) (nI_clamp (by omega)) (by omega)) d1 (hu_s _ _ _) (fun i _ y hy => (hO _ y hy).mono (fun ci fs h1 => ⟨fs, (hu_n (fun e => by rw [e, nq] at h1; simp at h1)).trans h1⟩)) (Nat.le_of_ble_eq_true rfl) (Nat.le_of_ble_eq_true rfl) rfl ?_
  refine g_aload_n X dJ11_copyOf_2_38 rfl rfl ?_
  refine g_aret X (Or.inr ⟨_, rfl⟩) (Or.inr ⟨_, rfl⟩) dJ11_copyOf_2_39 rfl (Nat.le_of_ble_eq_true rfl) (by show 0 + N0 ≤ N0; omega) (fun H hH => ⟨⟨q0, nq⟩, rfl, by rw [nI_clamp (n := 0) (by omega), nI_clamp (n := n0) (by omega), hu_hu] at hH; exact hH⟩)
theorem ct_J11_copyOf (hst : l.stackTraces = false) (hb : h b = some (cQ Ω n0 f)) (hO : ∀ i y, f i = some y → okO Ω h y) (hn : n0 ≤ N0) (hN : N0 ≤ 1000) : CM Ω l yJ11_copyOf (ws_ yJ11_copyOf cJ11_copyOf 2 (some (.array (.object "java/lang/Object")))) 5 1 N0 [.ref b, .int (nI N0)] (hR Ω h) (QV (fun q : {q : Nat // h q = none} => some (.ref q.1)) (fun q => hR Ω (hu h q.1 (cQ Ω N0 (va_cpy f (fun _ => none) 0 0 n0))))) nX := by
  refine CM.of (L := [some (.ref b), some (.int (nI N0))]) hst (by decide) (Nat.le_of_ble_eq_true rfl) rfl ?_
  intro p e s m below meth c X hnm htab
  refine g_aload_n X dJ11_copyOf_0 rfl rfl ?_
  refine g_iload_n X dJ11_copyOf_1 rfl rfl ?_
  refine g_aload_n X dJ11_copyOf_2 rfl rfl ?_
  refine g_getC X (C := "[Ljava/lang/Object;") dJ11_copyOf_3 rfl q646 q2421 X.2.2.2.2.2.2.2.1.2.2.2.2.2.2.1 (fun H hH => hR.recvQ X.2.2.2.2.2.2.2.1 hH hb) (Nat.le_of_ble_eq_true rfl) (Nat.le_of_ble_eq_true rfl) ?_
  refine g_callS X (ct_J11_copyOf_2 hst hb hO hn hN) dJ11_copyOf_6 rfl (lw_S q674 q675 q82 q676) hyS_J11_copyOf_2 (fun H hH => hH) ⟨Nat.le_of_ble_eq_true rfl, Nat.le_of_ble_eq_true rfl⟩ ⟨by show 0 + 1 ≤ 1; omega, by show 0 + N0 ≤ N0; omega⟩ (Nat.le_of_ble_eq_true rfl) rfl (fun x0 => ?_)
  refine g_aret X (Or.inr ⟨_, rfl⟩) (Or.inr ⟨_, rfl⟩) dJ11_copyOf_9 rfl (Nat.le_of_ble_eq_true rfl) (by show 0 + N0 ≤ N0; omega) (fun H hH => ⟨x0, rfl, hH⟩)
end J2C
