/-! Integer.equals over the cached ones -/
section INT2
variable {l : Launch} {Ω : Om} {I : Heap → Prop}
set_option maxRecDepth 100000
theorem ct_J21_equals (hst : l.stackTraces = false) {n k : Nat} (hn : n ≤ 127) (hk : k ≤ 127) : CM Ω l yJ21_equals (ws_ yJ21_equals cJ21_equals 2 (some .boolean)) 3 0 0 [.ref (oM Ω (n + 128)), .ref (oM Ω (k + 128))] I (QP (some (.int (bI (n = k)))) I) nX := by
  have hof : nI n = vb_c (n + 128) := (vb_nI hn).symm
  refine CM.of (L := [some (.ref (oM Ω (n + 128))), some (.ref (oM Ω (k + 128)))]) hst (by decide) (Nat.le_of_ble_eq_true rfl) rfl ?_
  intro p e s m below meth c X hnm htab
  have ho : va_OF "java/lang/Integer" "value" "I" (.int (nI n)) (oM Ω (n + 128)) (oA Ω) s s.heap := by rw [hof]; exact X.2.2.2.2.2.2.2.1.2.2.2.2.2.2.2.2.1.2 (n + 128) (by omega)
  by_cases h : n = k
  · rw [bI_t h]
    refine g_aload_n X dJ21_equals_0 rfl rfl ?_
    refine g_instEK X dJ21_equals_1 rfl q1030 (fun H locs hS => oI_recv X hS (by omega)) ?_
    refine g_if_eq (tgt := 27) X dJ21_equals_4 rfl (by decide) (fun c => absurd c (by decide)) (fun c_4 => ?_)
    refine g_aload_n X dJ21_equals_7 rfl rfl ?_
    refine g_getOF X dJ21_equals_8 rfl ho q1039 (fun _ h => h) ?_
    refine g_aload_n X dJ21_equals_11 rfl rfl ?_
    refine g_castK X dJ21_equals_12 rfl q1030 (fun H locs hS => oI_recv X hS (by omega)) ?_
    refine g_callVk X (ct_J21_intValue hst hk) dJ21_equals_15 rfl (lw_V q1082 q1083 q1084 q96 q1085) hyV_J21_intValue (fun H locs hS => oI_recv X hS (by omega)) (fun H hH => hH) ⟨Nat.le_of_ble_eq_true rfl, Nat.le_of_ble_eq_true rfl⟩ ⟨Nat.le_of_ble_eq_true rfl, Nat.le_of_ble_eq_true rfl⟩ (Nat.le_of_ble_eq_true rfl) rfl (fun x_15 => ?_)
    refine g_icmp_ne (tgt := 25) X dJ21_equals_18 rfl (by decide) (fun c => absurd (by rw [h]) c) (fun c_18 => ?_)
    refine g_iconst X dJ21_equals_21 rfl (v := (nI 1)) rfl ?_
    refine g_goto (tgt := 26) X dJ21_equals_22 rfl (by decide) ?_
    refine g_zret X dJ21_equals_26 rfl rfl (Nat.le_of_ble_eq_true rfl) (Nat.le_of_ble_eq_true rfl) (fun H hH => ⟨(), rfl, hH⟩)
  · rw [bI_f h]
    refine g_aload_n X dJ21_equals_0 rfl rfl ?_
    refine g_instEK X dJ21_equals_1 rfl q1030 (fun H locs hS => oI_recv X hS (by omega)) ?_
    refine g_if_eq (tgt := 27) X dJ21_equals_4 rfl (by decide) (fun c => absurd c (by decide)) (fun c_4 => ?_)
    refine g_aload_n X dJ21_equals_7 rfl rfl ?_
    refine g_getOF X dJ21_equals_8 rfl ho q1039 (fun _ h => h) ?_
    refine g_aload_n X dJ21_equals_11 rfl rfl ?_
    refine g_castK X dJ21_equals_12 rfl q1030 (fun H locs hS => oI_recv X hS (by omega)) ?_
    refine g_callVk X (ct_J21_intValue hst hk) dJ21_equals_15 rfl (lw_V q1082 q1083 q1084 q96 q1085) hyV_J21_intValue (fun H locs hS => oI_recv X hS (by omega)) (fun H hH => hH) ⟨Nat.le_of_ble_eq_true rfl, Nat.le_of_ble_eq_true rfl⟩ ⟨Nat.le_of_ble_eq_true rfl, Nat.le_of_ble_eq_true rfl⟩ (Nat.le_of_ble_eq_true rfl) rfl (fun x_15 => ?_)
    refine g_icmp_ne (tgt := 25) X dJ21_equals_18 rfl (by decide) (fun c_18 => ?_) (fun c => absurd ((nI_eq (by omega) (by omega)).mp c) h)
    refine g_iconst X dJ21_equals_25 rfl (v := (nI 0)) rfl ?_
    refine g_zret X dJ21_equals_26 rfl rfl (Nat.le_of_ble_eq_true rfl) (Nat.le_of_ble_eq_true rfl) (fun H hH => ⟨(), rfl, hH⟩)
end INT2
