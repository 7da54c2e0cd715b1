/-! Integer over the cached ones -/
section INT
variable {l : Launch} {Ω : Om} {I : Heap → Prop}
set_option maxRecDepth 100000
theorem nI_m128 {n : Nat} (h : n < 1000) : ¬ nI n < -128 := by
  rw [Int32.lt_iff_toInt_lt, nI_toInt (by omega), show (-128 : Int32).toInt = -128 by decide]
  omega
theorem nI_127 {n : Nat} (h : n ≤ 127) : ¬ (127 : Int32) < nI n := by
  rw [Int32.lt_iff_toInt_lt, nI_toInt (by omega), show (127 : Int32).toInt = 127 by decide]
  omega
theorem ct_J21_valueOf (hst : l.stackTraces = false) {n : Nat} (hn : n ≤ 127) : CM Ω l yJ21_valueOf (ws_ yJ21_valueOf cJ21_valueOf 1 (some (.object "java/lang/Integer"))) 1 0 0 [.int (nI n)] I (QP (some (.ref (oM Ω (n + 128)))) I) nX := by
  refine CM.of (L := [some (.int (nI n))]) hst (by decide) (Nat.le_of_ble_eq_true rfl) rfl ?_
  intro p e s m below meth c X hnm htab
  refine g_iload_n X dJ21_valueOf_0 rfl rfl ?_
  refine g_bipush X dJ21_valueOf_1 rfl (v := (-128)) (by decide) ?_
  refine g_icmp_lt (tgt := 23) X dJ21_valueOf_3 rfl (by decide) (fun c => absurd c (nI_m128 (by omega))) (fun c_3 => ?_)
  refine g_iload_n X dJ21_valueOf_6 rfl rfl ?_
  refine g_gets X (v := .int 127) dJ21_valueOf_7 rfl (by simp [stl]) q1026 (fun _ h => h) ?_
  refine g_icmp_gt (tgt := 23) X dJ21_valueOf_10 rfl (by decide) (fun c => absurd c (nI_127 hn)) (fun c_10 => ?_)
  refine g_gets X (v := .ref (oM Ω 257)) dJ21_valueOf_13 rfl (by simp [stl]) q1028 (fun _ h => h) ?_
  refine g_iload_n X dJ21_valueOf_16 rfl rfl ?_
  refine g_sipush X dJ21_valueOf_17 rfl (v := (nI 128)) (by decide) ?_
  refine g_iadd X dJ21_valueOf_20 rfl (by first | exact nI_add _ _ | rfl) ?_
  refine g_tq X dJ21_valueOf_21 rfl (X.2.2.2.2.2.2.2.1.2.2.2.2.2.2.2.2.2.2.1 (.object "java/lang/Integer", oM Ω 257, 256, fun j => .ref (oM Ω j)) List.mem_cons_self) (show vp_in (nI (n + 128)) 256 from vp_in_nI (by omega) (by omega)) (ix_v (by omega) rfl) ?_
  refine g_aret X (Or.inl ⟨_, rfl⟩) (Or.inr ⟨_, rfl⟩) dJ21_valueOf_22 rfl (Nat.le_of_ble_eq_true rfl) (Nat.le_of_ble_eq_true rfl) (fun H hH => ⟨(), rfl, hH⟩)
theorem vb_nI {n : Nat} (_ : n ≤ 127) : vb_c (n + 128) = nI n := by
  show nI (n + 128) - nI 128 = _
  rw [pk_sub (by omega), Nat.add_sub_cancel]
theorem ct_J21_intValue (hst : l.stackTraces = false) {n : Nat} (hn : n ≤ 127) : CM Ω l yJ21_intValue (ws_ yJ21_intValue cJ21_intValue 1 (some .int)) 1 0 0 [.ref (oM Ω (n + 128))] I (QP (some (.int (nI n))) I) nX := by
  rw [← vb_nI hn]
  refine CM.of (L := [some (.ref (oM Ω (n + 128)))]) hst (by decide) (Nat.le_of_ble_eq_true rfl) rfl ?_
  intro p e s m below meth c X hnm htab
  refine g_aload_n X dJ21_intValue_0 rfl rfl ?_
  refine g_getOF X dJ21_intValue_1 rfl (X.2.2.2.2.2.2.2.1.2.2.2.2.2.2.2.2.1.2 (n + 128) (by omega)) q1039 (fun _ h => h) ?_
  refine g_iret X dJ21_intValue_4 rfl (Nat.le_of_ble_eq_true rfl) (Nat.le_of_ble_eq_true rfl) (fun H hH => ⟨(), rfl, hH⟩)
end INT
