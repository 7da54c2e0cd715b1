/-! JDK: String over the constants, checkIndex -/
section J1
variable {l : Launch} {Ω : Om} {I : Heap → Prop}
set_option maxRecDepth 100000
theorem ct_J5_coder (hst : l.stackTraces = false) {j : Nat} (hj : j < 8) : CM Ω l yJ5_coder (ws_ yJ5_coder cJ5_coder 1 (some .byte)) 1 0 0 [.ref (oM Ω (300 + j))] I (QP (some (.int 0)) I) nX := by
  refine CM.of (L := [some (.ref (oM Ω (300 + j)))]) hst (by decide) (Nat.le_of_ble_eq_true rfl) rfl ?_
  intro p e s m below meth c X hnm htab
  refine g_gets X (v := .int 1) dJ5_coder_0 rfl (by simp [stl]) q1090 (fun _ h => h) ?_
  refine g_if_eq (tgt := 13) X dJ5_coder_3 rfl (by decide) (fun c => absurd c (by decide)) (fun c_3 => ?_)
  refine g_aload_n X dJ5_coder_6 rfl rfl ?_
  refine g_getOF X dJ5_coder_7 rfl (X.str hj).2.1 q1810 (fun _ h => h) ?_
  refine g_goto (tgt := 14) X dJ5_coder_10 rfl (by decide) ?_
  refine g_zret X dJ5_coder_14 rfl rfl (Nat.le_of_ble_eq_true rfl) (Nat.le_of_ble_eq_true rfl) (fun H hH => ⟨(), rfl, hH⟩)
theorem ct_J5_isLatin1 (hst : l.stackTraces = false) {j : Nat} (hj : j < 8) : CM Ω l yJ5_isLatin1 (ws_ yJ5_isLatin1 cJ5_isLatin1 1 (some .boolean)) 1 0 0 [.ref (oM Ω (300 + j))] I (QP (some (.int (nI 1))) I) nX := by
  refine CM.of (L := [some (.ref (oM Ω (300 + j)))]) hst (by decide) (Nat.le_of_ble_eq_true rfl) rfl ?_
  intro p e s m below meth c X hnm htab
  refine g_gets X (v := .int 1) dJ5_isLatin1_0 rfl (by simp [stl]) q1090 (fun _ h => h) ?_
  refine g_if_eq (tgt := 17) X dJ5_isLatin1_3 rfl (by decide) (fun c => absurd c (by decide)) (fun c_3 => ?_)
  refine g_aload_n X dJ5_isLatin1_6 rfl rfl ?_
  refine g_getOF X dJ5_isLatin1_7 rfl (X.str hj).2.1 q1810 (fun _ h => h) ?_
  refine g_if_ne (tgt := 17) X dJ5_isLatin1_10 rfl (by decide) (fun c => absurd rfl c) (fun c_10 => ?_)
  refine g_iconst X dJ5_isLatin1_13 rfl (v := (nI 1)) rfl ?_
  refine g_goto (tgt := 18) X dJ5_isLatin1_14 rfl (by decide) ?_
  refine g_zret X dJ5_isLatin1_18 rfl rfl (Nat.le_of_ble_eq_true rfl) (Nat.le_of_ble_eq_true rfl) (fun H hH => ⟨(), rfl, hH⟩)
theorem ct_J5_length (hst : l.stackTraces = false) {j : Nat} (hj : j < 8) : CM Ω l yJ5_length (ws_ yJ5_length cJ5_length 1 (some .int)) 2 0 0 [.ref (oM Ω (300 + j))] I (QP (some (.int (nI (sLen.getD j 0)))) I) nX := by
  have hsh : nI (sLen.getD j 0) >>> ((0 : Int32) &&& 31) = nI (sLen.getD j 0) := by
    rw [show ((0 : Int32) &&& 31) = 0 by decide]
    simp
  refine CM.of (L := [some (.ref (oM Ω (300 + j)))]) hst (by decide) (Nat.le_of_ble_eq_true rfl) rfl ?_
  intro p e s m below meth c X hnm htab
  refine g_aload_n X dJ5_length_0 rfl rfl ?_
  refine g_getOF X dJ5_length_1 rfl (X.str hj).2.2.1 q1809 (fun _ h => h) ?_
  refine g_tlen X dJ5_length_4 rfl (X.str hj).2.2.2 rfl ?_
  refine g_aload_n X dJ5_length_5 rfl rfl ?_
  refine g_callVk X (ct_J5_coder hst hj) dJ5_length_6 rfl (lw_V q1513 q1514 q1515 q74 q1516) hyV_J5_coder (fun H locs hS => oS_recv X hS hj) (fun H hH => hH) ⟨Nat.le_of_ble_eq_true rfl, Nat.le_of_ble_eq_true rfl⟩ ⟨Nat.le_of_ble_eq_true rfl, Nat.le_of_ble_eq_true rfl⟩ (Nat.le_of_ble_eq_true rfl) rfl (fun x_6 => ?_)
  refine g_ishr X dJ5_length_9 rfl hsh ?_
  refine g_iret X dJ5_length_10 rfl (Nat.le_of_ble_eq_true rfl) (Nat.le_of_ble_eq_true rfl) (fun H hH => ⟨(), rfl, hH⟩)
theorem ct_J8_checkIndex (hst : l.stackTraces = false) {k n : Nat} (hk : k < n) (hn : n < 2 ^ 31) {z : Value} (hz : z = .null ∨ ∃ t, z = .ref t) : CM Ω l yJ8_checkIndex (ws_ yJ8_checkIndex cJ8_checkIndex 3 (some .int)) 1 0 0 [.int (nI k), .int (nI n), z] I (QP (some (.int (nI k))) I) nX := by
  rcases hz with rfl | ⟨t, rfl⟩
  · refine CM.of (L := [some (.int (nI k)), some (.int (nI n)), some (.null)]) hst (by decide) (Nat.le_of_ble_eq_true rfl) rfl ?_
    intro p e s m below meth c X hnm htab
    refine g_iload_n X dJ8_checkIndex_0 rfl rfl ?_
    refine g_if_lt (tgt := 9) X dJ8_checkIndex_1 rfl (by decide) (fun c => absurd c (nI_pos (by omega))) (fun c_1 => ?_)
    refine g_iload_n X dJ8_checkIndex_4 rfl rfl ?_
    refine g_iload_n X dJ8_checkIndex_5 rfl rfl ?_
    refine g_icmp_lt (tgt := 16) X dJ8_checkIndex_6 rfl (by decide) (fun c_6 => ?_) (fun c => absurd (nI_lt hk hn) c)
    refine g_iload_n X dJ8_checkIndex_16 rfl rfl ?_
    refine g_iret X dJ8_checkIndex_17 rfl (Nat.le_of_ble_eq_true rfl) (Nat.le_of_ble_eq_true rfl) (fun H hH => ⟨(), rfl, hH⟩)
  · refine CM.of (L := [some (.int (nI k)), some (.int (nI n)), some (.ref t)]) hst (by decide) (Nat.le_of_ble_eq_true rfl) rfl ?_
    intro p e s m below meth c X hnm htab
    refine g_iload_n X dJ8_checkIndex_0 rfl rfl ?_
    refine g_if_lt (tgt := 9) X dJ8_checkIndex_1 rfl (by decide) (fun c => absurd c (nI_pos (by omega))) (fun c_1 => ?_)
    refine g_iload_n X dJ8_checkIndex_4 rfl rfl ?_
    refine g_iload_n X dJ8_checkIndex_5 rfl rfl ?_
    refine g_icmp_lt (tgt := 16) X dJ8_checkIndex_6 rfl (by decide) (fun c_6 => ?_) (fun c => absurd (nI_lt hk hn) c)
    refine g_iload_n X dJ8_checkIndex_16 rfl rfl ?_
    refine g_iret X dJ8_checkIndex_17 rfl (Nat.le_of_ble_eq_true rfl) (Nat.le_of_ble_eq_true rfl) (fun H hH => ⟨(), rfl, hH⟩)
theorem ct_J7_checkIndex (hst : l.stackTraces = false) {k n : Nat} (hk : k < n) (hn : n < 2 ^ 31) : CM Ω l yJ7_checkIndex (ws_ yJ7_checkIndex cJ7_checkIndex 2 (some .int)) 2 0 0 [.int (nI k), .int (nI n)] I (QP (some (.int (nI k))) I) nX := by
  refine CM.of (L := [some (.int (nI k)), some (.int (nI n))]) hst (by decide) (Nat.le_of_ble_eq_true rfl) rfl ?_
  intro p e s m below meth c X hnm htab
  refine g_iload_n X dJ7_checkIndex_0 rfl rfl ?_
  refine g_iload_n X dJ7_checkIndex_1 rfl rfl ?_
  refine g_null X dJ7_checkIndex_2 rfl ?_
  refine g_callS X (ct_J8_checkIndex hst hk hn (Or.inl rfl)) dJ7_checkIndex_3 rfl (lw_S q301 q302 q78 q303) hyS_J8_checkIndex (fun H hH => hH) ⟨Nat.le_of_ble_eq_true rfl, Nat.le_of_ble_eq_true rfl⟩ ⟨Nat.le_of_ble_eq_true rfl, Nat.le_of_ble_eq_true rfl⟩ (Nat.le_of_ble_eq_true rfl) rfl (fun x_3 => ?_)
  refine g_iret X dJ7_checkIndex_6 rfl (Nat.le_of_ble_eq_true rfl) (Nat.le_of_ble_eq_true rfl) (fun H hH => ⟨(), rfl, hH⟩)
theorem ct_J5_checkIndex (hst : l.stackTraces = false) {k n : Nat} (hk : k < n) (hn : n < 2 ^ 31) : CM Ω l yJ5_checkIndex (ws_ yJ5_checkIndex cJ5_checkIndex 2 none) 2 0 0 [.int (nI k), .int (nI n)] I (QP none I) nX := by
  refine CM.of (L := [some (.int (nI k)), some (.int (nI n))]) hst (by decide) (Nat.le_of_ble_eq_true rfl) rfl ?_
  intro p e s m below meth c X hnm htab
  refine g_iload_n X dJ5_checkIndex_0 rfl rfl ?_
  refine g_iload_n X dJ5_checkIndex_1 rfl rfl ?_
  refine g_getsq X dJ5_checkIndex_2 rfl X.sio q1531 (fun _ h => h) (fun z hz => ?_)
  refine g_callS X (ct_J8_checkIndex hst hk hn hz) dJ5_checkIndex_5 rfl (lw_S q1533 q302 q78 q303) hyS_J8_checkIndex (fun H hH => hH) ⟨Nat.le_of_ble_eq_true rfl, Nat.le_of_ble_eq_true rfl⟩ ⟨Nat.le_of_ble_eq_true rfl, Nat.le_of_ble_eq_true rfl⟩ (Nat.le_of_ble_eq_true rfl) rfl (fun x_5 => ?_)
  refine g_pop X dJ5_checkIndex_8 rfl rfl ?_
  refine g_vret X dJ5_checkIndex_9 rfl (Nat.le_of_ble_eq_true rfl) (Nat.le_of_ble_eq_true rfl) (fun H hH => ⟨(), rfl, hH⟩)
theorem ct_J22_charAt (hst : l.stackTraces = false) {j k : Nat} (hj : j < 8) (hk : k < sLen.getD j 0) : CM Ω l yJ22_charAt (ws_ yJ22_charAt cJ22_charAt 2 (some .char)) 3 0 0 [.ref (oM Ω (320 + j)), .int (nI k)] I (QP (some (.int (nI (sCh j k)))) I) nX := by
  have h6 := sLen_le j hj
  have hc := sCh_ok j hj k (by omega) hk
  refine CM.of (L := [some (.ref (oM Ω (320 + j))), some (.int (nI k))]) hst (by decide) (Nat.le_of_ble_eq_true rfl) rfl ?_
  intro p e s m below meth c X hnm htab
  refine g_iload_n X dJ22_charAt_0 rfl rfl ?_
  refine g_aload_n X dJ22_charAt_1 rfl rfl ?_
  refine g_tlen X dJ22_charAt_2 rfl (X.str hj).2.2.2 rfl ?_
  refine g_callS X (ct_J5_checkIndex hst hk (by omega)) dJ22_charAt_3 rfl (lw_S q1528 q1529 q74 q1530) hyS_J5_checkIndex (fun H hH => hH) ⟨Nat.le_of_ble_eq_true rfl, Nat.le_of_ble_eq_true rfl⟩ ⟨Nat.le_of_ble_eq_true rfl, Nat.le_of_ble_eq_true rfl⟩ (Nat.le_of_ble_eq_true rfl) rfl (fun x_3 => ?_)
  refine g_aload_n X dJ22_charAt_6 rfl rfl ?_
  refine g_iload_n X dJ22_charAt_7 rfl rfl ?_
  refine g_tb X dJ22_charAt_8 rfl (X.str hj).2.2.2 (vp_in_nI (by omega) (by omega)) (by rw [nI_clamp (by omega)]) ?_
  refine g_sipush X dJ22_charAt_9 rfl (v := (nI 255)) (by decide) ?_
  refine g_iand X dJ22_charAt_12 rfl rfl ?_
  refine g_i2c X dJ22_charAt_13 rfl hc.1 ?_
  refine g_zret X dJ22_charAt_14 rfl (congrArg Value.int (nI_c16 (by omega))) (Nat.le_of_ble_eq_true rfl) (Nat.le_of_ble_eq_true rfl) (fun H hH => ⟨(), rfl, hH⟩)
theorem ct_J5_charAt (hst : l.stackTraces = false) {j k : Nat} (hj : j < 8) (hk : k < sLen.getD j 0) : CM Ω l yJ5_charAt (ws_ yJ5_charAt cJ5_charAt 2 (some .char)) 4 0 0 [.ref (oM Ω (300 + j)), .int (nI k)] I (QP (some (.int (nI (sCh j k)))) I) nX := by
  have h6 := sLen_le j hj
  have hc := sCh_ok j hj k (by omega) hk
  refine CM.of (L := [some (.ref (oM Ω (300 + j))), some (.int (nI k))]) hst (by decide) (Nat.le_of_ble_eq_true rfl) rfl ?_
  intro p e s m below meth c X hnm htab
  refine g_aload_n X dJ5_charAt_0 rfl rfl ?_
  refine g_callVk X (ct_J5_isLatin1 hst hj) dJ5_charAt_1 rfl (lw_V q1521 q1522 q1523 q74 q1524) hyV_J5_isLatin1 (fun H locs hS => oS_recv X hS hj) (fun H hH => hH) ⟨Nat.le_of_ble_eq_true rfl, Nat.le_of_ble_eq_true rfl⟩ ⟨Nat.le_of_ble_eq_true rfl, Nat.le_of_ble_eq_true rfl⟩ (Nat.le_of_ble_eq_true rfl) rfl (fun x_1 => ?_)
  refine g_if_eq (tgt := 16) X dJ5_charAt_4 rfl (by decide) (fun c => absurd c (by decide)) (fun c_4 => ?_)
  refine g_aload_n X dJ5_charAt_7 rfl rfl ?_
  refine g_getOF X dJ5_charAt_8 rfl (X.str hj).2.2.1 q1809 (fun _ h => h) ?_
  refine g_iload_n X dJ5_charAt_11 rfl rfl ?_
  refine g_callS X (ct_J22_charAt hst hj hk) dJ5_charAt_12 rfl (lw_S q1525 q1526 q98 q1527) hyS_J22_charAt (fun H hH => hH) ⟨Nat.le_of_ble_eq_true rfl, Nat.le_of_ble_eq_true rfl⟩ ⟨Nat.le_of_ble_eq_true rfl, Nat.le_of_ble_eq_true rfl⟩ (Nat.le_of_ble_eq_true rfl) rfl (fun x_12 => ?_)
  refine g_zret X dJ5_charAt_15 rfl (congrArg Value.int (nI_c16 (by omega))) (Nat.le_of_ble_eq_true rfl) (Nat.le_of_ble_eq_true rfl) (fun H hH => ⟨(), rfl, hH⟩)
end J1
