/-! MODEL, leaves -/
section M1
variable {l : Launch} {Ω : Om} {h : RH} {a : Nat} {ad : Nat → Nat} {v : Nat → Int32} {F : Nat → Nat → Int32} {σ : St}
set_option maxRecDepth 100000
theorem ct_X4_slide (hst : l.stackTraces = false) (hd : mDi a ad) {i w : Nat} {r : Int32} (hb : 8 + 9 * i + w < 158) (hr : F 0 (8 + 9 * i + w) = r) : CM Ω l yX4_slide (ws_ yX4_slide cX4_slide 3 (some .int)) 1 0 0 [.ref a, .int (nI i), .int (nI w)] (hR Ω (mW Ω h a ad v F)) (QP (some (.int r)) (hR Ω (mW Ω h a ad v F))) nX := by
  refine CM.of (L := [some (.ref a), some (.int (nI i)), some (.int (nI w))]) hst (by decide) (Nat.le_of_ble_eq_true rfl) rfl ?_
  intro p e s m below meth c X hnm htab
  refine g_aload_n X dX4_slide_0 rfl rfl ?_
  refine g_get X dX4_slide_1 rfl in_X4 (ci := 3) rfl 0 (by decide) q1916 (fun _ h => h) mW_a rfl ?_
  refine g_bipush X dX4_slide_4 rfl (v := (nI 8)) (by decide) ?_
  refine g_bipush X dX4_slide_6 rfl (v := (nI 9)) (by decide) ?_
  refine g_iload_n X dX4_slide_8 rfl rfl ?_
  refine g_imul X dX4_slide_9 rfl (by first | exact pk_mul _ _ | rfl) ?_
  refine g_iadd X dX4_slide_10 rfl (by first | exact nI_add _ _ | rfl) ?_
  refine g_iload_n X dX4_slide_11 rfl rfl ?_
  refine g_iadd X dX4_slide_12 rfl (by first | exact nI_add _ _ | rfl) ?_
  refine g_ial X dX4_slide_13 rfl (mW_0 hd) (vp_in_nI (by omega) (by decide)) (ix_v (by omega) hr) ?_
  refine g_iret X dX4_slide_14 rfl (Nat.le_of_ble_eq_true rfl) (Nat.le_of_ble_eq_true rfl) (fun H hH => ⟨(), rfl, hH⟩)
theorem ct_X4_guest (hst : l.stackTraces = false) (hd : mDi a ad) {i w : Nat} {r : Int32} (hb : 44 + 3 * i + w < 158) (hr : F 0 (44 + 3 * i + w) = r) : CM Ω l yX4_guest (ws_ yX4_guest cX4_guest 3 (some .int)) 1 0 0 [.ref a, .int (nI i), .int (nI w)] (hR Ω (mW Ω h a ad v F)) (QP (some (.int r)) (hR Ω (mW Ω h a ad v F))) nX := by
  refine CM.of (L := [some (.ref a), some (.int (nI i)), some (.int (nI w))]) hst (by decide) (Nat.le_of_ble_eq_true rfl) rfl ?_
  intro p e s m below meth c X hnm htab
  refine g_aload_n X dX4_guest_0 rfl rfl ?_
  refine g_get X dX4_guest_1 rfl in_X4 (ci := 3) rfl 0 (by decide) q1916 (fun _ h => h) mW_a rfl ?_
  refine g_bipush X dX4_guest_4 rfl (v := (nI 44)) (by decide) ?_
  refine g_iconst X dX4_guest_6 rfl (v := (nI 3)) rfl ?_
  refine g_iload_n X dX4_guest_7 rfl rfl ?_
  refine g_imul X dX4_guest_8 rfl (by first | exact pk_mul _ _ | rfl) ?_
  refine g_iadd X dX4_guest_9 rfl (by first | exact nI_add _ _ | rfl) ?_
  refine g_iload_n X dX4_guest_10 rfl rfl ?_
  refine g_iadd X dX4_guest_11 rfl (by first | exact nI_add _ _ | rfl) ?_
  refine g_ial X dX4_guest_12 rfl (mW_0 hd) (vp_in_nI (by omega) (by decide)) (ix_v (by omega) hr) ?_
  refine g_iret X dX4_guest_13 rfl (Nat.le_of_ble_eq_true rfl) (Nat.le_of_ble_eq_true rfl) (fun H hH => ⟨(), rfl, hH⟩)
theorem ct_X4_booking (hst : l.stackTraces = false) (hd : mDi a ad) {i w : Nat} {r : Int32} (hb : 74 + 3 * i + w < 158) (hr : F 0 (74 + 3 * i + w) = r) : CM Ω l yX4_booking (ws_ yX4_booking cX4_booking 3 (some .int)) 1 0 0 [.ref a, .int (nI i), .int (nI w)] (hR Ω (mW Ω h a ad v F)) (QP (some (.int r)) (hR Ω (mW Ω h a ad v F))) nX := by
  refine CM.of (L := [some (.ref a), some (.int (nI i)), some (.int (nI w))]) hst (by decide) (Nat.le_of_ble_eq_true rfl) rfl ?_
  intro p e s m below meth c X hnm htab
  refine g_aload_n X dX4_booking_0 rfl rfl ?_
  refine g_get X dX4_booking_1 rfl in_X4 (ci := 3) rfl 0 (by decide) q1916 (fun _ h => h) mW_a rfl ?_
  refine g_bipush X dX4_booking_4 rfl (v := (nI 74)) (by decide) ?_
  refine g_iconst X dX4_booking_6 rfl (v := (nI 3)) rfl ?_
  refine g_iload_n X dX4_booking_7 rfl rfl ?_
  refine g_imul X dX4_booking_8 rfl (by first | exact pk_mul _ _ | rfl) ?_
  refine g_iadd X dX4_booking_9 rfl (by first | exact nI_add _ _ | rfl) ?_
  refine g_iload_n X dX4_booking_10 rfl rfl ?_
  refine g_iadd X dX4_booking_11 rfl (by first | exact nI_add _ _ | rfl) ?_
  refine g_ial X dX4_booking_12 rfl (mW_0 hd) (vp_in_nI (by omega) (by decide)) (ix_v (by omega) hr) ?_
  refine g_iret X dX4_booking_13 rfl (Nat.le_of_ble_eq_true rfl) (Nat.le_of_ble_eq_true rfl) (fun H hH => ⟨(), rfl, hH⟩)
theorem ct_X4_in (hst : l.stackTraces = false) {I : Heap → Prop} {x y z : Int32} : CM Ω l yX4_in (ws_ yX4_in cX4_in 3 (some .boolean)) 1 0 0 [.int x, .int y, .int z] I (QP (some (.int (bI (y ≤ x ∧ x ≤ z)))) I) nX := by
  refine CM.of (L := [some (.int x), some (.int y), some (.int z)]) hst (by decide) (Nat.le_of_ble_eq_true rfl) rfl ?_
  intro p e s m below meth c X hnm htab
  refine g_iload_n X dX4_in_0 rfl rfl ?_
  refine g_iload_n X dX4_in_1 rfl rfl ?_
  refine g_icmp_lt (tgt := 14) X dX4_in_2 rfl (by decide) (fun c_2 => ?_) (fun c_2 => ?_)
  · refine g_iconst X dX4_in_14 rfl (v := (nI 0)) rfl ?_
    refine g_zret X dX4_in_15 rfl rfl (Nat.le_of_ble_eq_true rfl) (Nat.le_of_ble_eq_true rfl) (fun H hH => ?_)
    exact ⟨(), by rw [bI_f (fun g => Int32.not_le.mpr c_2 g.1)], hH⟩
  · refine g_iload_n X dX4_in_5 rfl rfl ?_
    refine g_iload_n X dX4_in_6 rfl rfl ?_
    refine g_icmp_gt (tgt := 14) X dX4_in_7 rfl (by decide) (fun c_7 => ?_) (fun c_7 => ?_)
    · refine g_iconst X dX4_in_14 rfl (v := (nI 0)) rfl ?_
      refine g_zret X dX4_in_15 rfl rfl (Nat.le_of_ble_eq_true rfl) (Nat.le_of_ble_eq_true rfl) (fun H hH => ?_)
      exact ⟨(), by rw [bI_f (fun g => Int32.not_le.mpr c_7 g.2)], hH⟩
    · refine g_iconst X dX4_in_10 rfl (v := (nI 1)) rfl ?_
      refine g_goto (tgt := 15) X dX4_in_11 rfl (by decide) ?_
      refine g_zret X dX4_in_15 rfl rfl (Nat.le_of_ble_eq_true rfl) (Nat.le_of_ble_eq_true rfl) (fun H hH => ?_)
      exact ⟨(), by rw [bI_t ⟨Int32.not_lt.mp c_2, Int32.not_lt.mp c_7⟩], hH⟩
theorem ct_X4_startOf (hst : l.stackTraces = false) (hd : mDi a ad) (hM : MR (F 0) σ) (hB : Bd σ) {i : Nat} (hi : i < nB σ) : CM Ω l yX4_startOf (ws_ yX4_startOf cX4_startOf 2 (some .int)) 3 0 0 [.ref a, .int (nI i)] (hR Ω (mW Ω h a ad v F)) (QP (some (.int (nI (boT σ i)))) (hR Ω (mW Ω h a ad v F))) nX := by
  have b1 := hB.1
  have e1 := (hM.2.2.2.2.1 i hi).2.2
  refine CM.of (L := [some (.ref a), some (.int (nI i))]) hst (by decide) (Nat.le_of_ble_eq_true rfl) rfl ?_
  intro p e s m below meth c X hnm htab
  refine g_aload_n X dX4_startOf_0 rfl rfl ?_
  refine g_iload_n X dX4_startOf_1 rfl rfl ?_
  refine g_iconst X dX4_startOf_2 rfl (v := (nI 2)) rfl ?_
  refine g_callV X (ct_X4_booking hst hd (by omega) e1) dX4_startOf_3 rfl (lw_V q2036 q2038 qs37 q76 q2039) hyV_X4_booking (fun H hH => hR.recv X.2.2.2.2.2.2.2.1 hH mW_a rfl) (fun H hH => hH) ⟨Nat.le_of_ble_eq_true rfl, Nat.le_of_ble_eq_true rfl⟩ ⟨Nat.le_of_ble_eq_true rfl, Nat.le_of_ble_eq_true rfl⟩ (Nat.le_of_ble_eq_true rfl) rfl (fun x_3 => ?_)
  refine g_iret X dX4_startOf_6 rfl (Nat.le_of_ble_eq_true rfl) (Nat.le_of_ble_eq_true rfl) (fun H hH => ⟨(), rfl, hH⟩)
theorem ct_X4_endOf (hst : l.stackTraces = false) (hd : mDi a ad) (hM : MR (F 0) σ) (hB : Bd σ) {i : Nat} (hi : i < nB σ) : CM Ω l yX4_endOf (ws_ yX4_endOf cX4_endOf 2 (some .int)) 5 0 0 [.ref a, .int (nI i)] (hR Ω (mW Ω h a ad v F)) (QP (some (.int (nI (boE σ i)))) (hR Ω (mW Ω h a ad v F))) nX := by
  have b1 := hB.1
  have b5 := hB.2.2.2.2.1 i hi
  have e1 := (hM.2.2.2.2.1 i hi).2.1
  have e2 := (hM.2.1 (boS σ i) b5.2.1).1
  refine CM.of (L := [some (.ref a), some (.int (nI i))]) hst (by decide) (Nat.le_of_ble_eq_true rfl) rfl ?_
  intro p e s m below meth c X hnm htab
  refine g_aload_n X dX4_endOf_0 rfl rfl ?_
  refine g_iload_n X dX4_endOf_1 rfl rfl ?_
  refine g_callV X (ct_X4_startOf hst hd hM hB hi) dX4_endOf_2 rfl (lw_V q2040 q2042 qs38 q76 q2043) hyV_X4_startOf (fun H hH => hR.recv X.2.2.2.2.2.2.2.1 hH mW_a rfl) (fun H hH => hH) ⟨Nat.le_of_ble_eq_true rfl, Nat.le_of_ble_eq_true rfl⟩ ⟨Nat.le_of_ble_eq_true rfl, Nat.le_of_ble_eq_true rfl⟩ (Nat.le_of_ble_eq_true rfl) rfl (fun x_2 => ?_)
  refine g_aload_n X dX4_endOf_5 rfl rfl ?_
  refine g_aload_n X dX4_endOf_6 rfl rfl ?_
  refine g_iload_n X dX4_endOf_7 rfl rfl ?_
  refine g_iconst X dX4_endOf_8 rfl (v := (nI 1)) rfl ?_
  refine g_callV X (ct_X4_booking hst hd (by omega) e1) dX4_endOf_9 rfl (lw_V q2036 q2038 qs37 q76 q2039) hyV_X4_booking (fun H hH => hR.recv X.2.2.2.2.2.2.2.1 hH mW_a rfl) (fun H hH => hH) ⟨Nat.le_of_ble_eq_true rfl, Nat.le_of_ble_eq_true rfl⟩ ⟨Nat.le_of_ble_eq_true rfl, Nat.le_of_ble_eq_true rfl⟩ (Nat.le_of_ble_eq_true rfl) rfl (fun x_9 => ?_)
  refine g_iconst X dX4_endOf_12 rfl (v := (nI 0)) rfl ?_
  refine g_callV X (ct_X4_slide hst hd (by omega) e2) dX4_endOf_13 rfl (lw_V q2028 q2030 qs35 q76 q2031) hyV_X4_slide (fun H hH => hR.recv X.2.2.2.2.2.2.2.1 hH mW_a rfl) (fun H hH => hH) ⟨Nat.le_of_ble_eq_true rfl, Nat.le_of_ble_eq_true rfl⟩ ⟨Nat.le_of_ble_eq_true rfl, Nat.le_of_ble_eq_true rfl⟩ (Nat.le_of_ble_eq_true rfl) rfl (fun x_13 => ?_)
  refine g_iadd X dX4_endOf_16 rfl (by first | exact nI_add _ _ | rfl) ?_
  refine g_iret X dX4_endOf_17 rfl (Nat.le_of_ble_eq_true rfl) (Nat.le_of_ble_eq_true rfl) (fun H hH => ⟨(), rfl, hH⟩)
theorem ct_X4_isSlide (hst : l.stackTraces = false) (hd : mDi a ad) (hM : MR (F 0) σ) {x : Int32} : CM Ω l yX4_isSlide (ws_ yX4_isSlide cX4_isSlide 2 (some .boolean)) 3 0 0 [.ref a, .int x] (hR Ω (mW Ω h a ad v F)) (QP (some (.int (bI (0 ≤ x ∧ x ≤ nI (nS σ) - 1)))) (hR Ω (mW Ω h a ad v F))) nX := by
  have e1 := hM.1.1
  refine CM.of (L := [some (.ref a), some (.int x)]) hst (by decide) (Nat.le_of_ble_eq_true rfl) rfl ?_
  intro p e s m below meth c X hnm htab
  refine g_iload_n X dX4_isSlide_0 rfl rfl ?_
  refine g_iconst X dX4_isSlide_1 rfl (v := (nI 0)) rfl ?_
  refine g_aload_n X dX4_isSlide_2 rfl rfl ?_
  refine g_get X dX4_isSlide_3 rfl in_X4 (ci := 3) rfl 0 (by decide) q1916 (fun _ h => h) mW_a rfl ?_
  refine g_iconst X dX4_isSlide_6 rfl (v := (nI 0)) rfl ?_
  refine g_ial X dX4_isSlide_7 rfl (mW_0 hd) (vp_in_nI (by omega) (by decide)) (ix_v (by omega) e1) ?_
  refine g_iconst X dX4_isSlide_8 rfl (v := (nI 1)) rfl ?_
  refine g_isub X dX4_isSlide_9 rfl rfl ?_
  refine g_callS X (ct_X4_in hst) dX4_isSlide_10 rfl (lw_S q1985 q1986 q76 q1987) hyS_X4_in (fun H hH => hH) ⟨Nat.le_of_ble_eq_true rfl, Nat.le_of_ble_eq_true rfl⟩ ⟨Nat.le_of_ble_eq_true rfl, Nat.le_of_ble_eq_true rfl⟩ (Nat.le_of_ble_eq_true rfl) rfl (fun x_10 => ?_)
  refine g_zret X dX4_isSlide_13 rfl bI_nar (Nat.le_of_ble_eq_true rfl) (Nat.le_of_ble_eq_true rfl) (fun H hH => ⟨(), rfl, hH⟩)
theorem ct_X4_isGuest (hst : l.stackTraces = false) (hd : mDi a ad) (hM : MR (F 0) σ) {x : Int32} : CM Ω l yX4_isGuest (ws_ yX4_isGuest cX4_isGuest 2 (some .boolean)) 3 0 0 [.ref a, .int x] (hR Ω (mW Ω h a ad v F)) (QP (some (.int (bI (0 ≤ x ∧ x ≤ nI (nG σ) - 1)))) (hR Ω (mW Ω h a ad v F))) nX := by
  have e1 := hM.1.2.1
  refine CM.of (L := [some (.ref a), some (.int x)]) hst (by decide) (Nat.le_of_ble_eq_true rfl) rfl ?_
  intro p e s m below meth c X hnm htab
  refine g_iload_n X dX4_isGuest_0 rfl rfl ?_
  refine g_iconst X dX4_isGuest_1 rfl (v := (nI 0)) rfl ?_
  refine g_aload_n X dX4_isGuest_2 rfl rfl ?_
  refine g_get X dX4_isGuest_3 rfl in_X4 (ci := 3) rfl 0 (by decide) q1916 (fun _ h => h) mW_a rfl ?_
  refine g_iconst X dX4_isGuest_6 rfl (v := (nI 1)) rfl ?_
  refine g_ial X dX4_isGuest_7 rfl (mW_0 hd) (vp_in_nI (by omega) (by decide)) (ix_v (by omega) e1) ?_
  refine g_iconst X dX4_isGuest_8 rfl (v := (nI 1)) rfl ?_
  refine g_isub X dX4_isGuest_9 rfl rfl ?_
  refine g_callS X (ct_X4_in hst) dX4_isGuest_10 rfl (lw_S q1985 q1986 q76 q1987) hyS_X4_in (fun H hH => hH) ⟨Nat.le_of_ble_eq_true rfl, Nat.le_of_ble_eq_true rfl⟩ ⟨Nat.le_of_ble_eq_true rfl, Nat.le_of_ble_eq_true rfl⟩ (Nat.le_of_ble_eq_true rfl) rfl (fun x_10 => ?_)
  refine g_zret X dX4_isGuest_13 rfl bI_nar (Nat.le_of_ble_eq_true rfl) (Nat.le_of_ble_eq_true rfl) (fun H hH => ⟨(), rfl, hH⟩)
theorem ct_X4_isBooking (hst : l.stackTraces = false) (hd : mDi a ad) (hM : MR (F 0) σ) {x : Int32} : CM Ω l yX4_isBooking (ws_ yX4_isBooking cX4_isBooking 2 (some .boolean)) 3 0 0 [.ref a, .int x] (hR Ω (mW Ω h a ad v F)) (QP (some (.int (bI (0 ≤ x ∧ x ≤ nI (nB σ) - 1)))) (hR Ω (mW Ω h a ad v F))) nX := by
  have e1 := hM.1.2.2.1
  refine CM.of (L := [some (.ref a), some (.int x)]) hst (by decide) (Nat.le_of_ble_eq_true rfl) rfl ?_
  intro p e s m below meth c X hnm htab
  refine g_iload_n X dX4_isBooking_0 rfl rfl ?_
  refine g_iconst X dX4_isBooking_1 rfl (v := (nI 0)) rfl ?_
  refine g_aload_n X dX4_isBooking_2 rfl rfl ?_
  refine g_get X dX4_isBooking_3 rfl in_X4 (ci := 3) rfl 0 (by decide) q1916 (fun _ h => h) mW_a rfl ?_
  refine g_iconst X dX4_isBooking_6 rfl (v := (nI 2)) rfl ?_
  refine g_ial X dX4_isBooking_7 rfl (mW_0 hd) (vp_in_nI (by omega) (by decide)) (ix_v (by omega) e1) ?_
  refine g_iconst X dX4_isBooking_8 rfl (v := (nI 1)) rfl ?_
  refine g_isub X dX4_isBooking_9 rfl rfl ?_
  refine g_callS X (ct_X4_in hst) dX4_isBooking_10 rfl (lw_S q1985 q1986 q76 q1987) hyS_X4_in (fun H hH => hH) ⟨Nat.le_of_ble_eq_true rfl, Nat.le_of_ble_eq_true rfl⟩ ⟨Nat.le_of_ble_eq_true rfl, Nat.le_of_ble_eq_true rfl⟩ (Nat.le_of_ble_eq_true rfl) rfl (fun x_10 => ?_)
  refine g_zret X dX4_isBooking_13 rfl bI_nar (Nat.le_of_ble_eq_true rfl) (Nat.le_of_ble_eq_true rfl) (fun H hH => ⟨(), rfl, hH⟩)
theorem ct_X4_isStart (hst : l.stackTraces = false) (hd : mDi a ad) (hM : MR (F 0) σ) {x : Int32} : CM Ω l yX4_isStart (ws_ yX4_isStart cX4_isStart 2 (some .boolean)) 3 0 0 [.ref a, .int x] (hR Ω (mW Ω h a ad v F)) (QP (some (.int (bI (nI (sM σ) ≤ x ∧ x ≤ nI (sM σ + 120))))) (hR Ω (mW Ω h a ad v F))) nX := by
  have e1 := hM.1.2.2.2.1
  refine CM.of (L := [some (.ref a), some (.int x)]) hst (by decide) (Nat.le_of_ble_eq_true rfl) rfl ?_
  intro p e s m below meth c X hnm htab
  refine g_iload_n X dX4_isStart_0 rfl rfl ?_
  refine g_aload_n X dX4_isStart_1 rfl rfl ?_
  refine g_get X dX4_isStart_2 rfl in_X4 (ci := 3) rfl 0 (by decide) q1916 (fun _ h => h) mW_a rfl ?_
  refine g_iconst X dX4_isStart_5 rfl (v := (nI 3)) rfl ?_
  refine g_ial X dX4_isStart_6 rfl (mW_0 hd) (vp_in_nI (by omega) (by decide)) (ix_v (by omega) e1) ?_
  refine g_aload_n X dX4_isStart_7 rfl rfl ?_
  refine g_get X dX4_isStart_8 rfl in_X4 (ci := 3) rfl 0 (by decide) q1916 (fun _ h => h) mW_a rfl ?_
  refine g_iconst X dX4_isStart_11 rfl (v := (nI 3)) rfl ?_
  refine g_ial X dX4_isStart_12 rfl (mW_0 hd) (vp_in_nI (by omega) (by decide)) (ix_v (by omega) e1) ?_
  refine g_bipush X dX4_isStart_13 rfl (v := (nI 120)) (by decide) ?_
  refine g_iadd X dX4_isStart_15 rfl (by first | exact nI_add _ _ | rfl) ?_
  refine g_callS X (ct_X4_in hst) dX4_isStart_16 rfl (lw_S q1985 q1986 q76 q1987) hyS_X4_in (fun H hH => hH) ⟨Nat.le_of_ble_eq_true rfl, Nat.le_of_ble_eq_true rfl⟩ ⟨Nat.le_of_ble_eq_true rfl, Nat.le_of_ble_eq_true rfl⟩ (Nat.le_of_ble_eq_true rfl) rfl (fun x_16 => ?_)
  refine g_zret X dX4_isStart_19 rfl bI_nar (Nat.le_of_ble_eq_true rfl) (Nat.le_of_ble_eq_true rfl) (fun H hH => ⟨(), rfl, hH⟩)
theorem ct_X4_isThere (hst : l.stackTraces = false) {P : Prop} {t : Int32} (ht : bI (¬ P) = t) : CM Ω l yX4_isThere (ws_ yX4_isThere cX4_isThere 2 (some .boolean)) 1 0 0 [.ref a, .int (bI P)] (hR Ω (mW Ω h a ad v F)) (QP (some (.int (bI P))) (hR Ω (mW Ω h a ad (vU v 6 t) F))) nX := by
  refine CM.of (L := [some (.ref a), some (.int (bI P))]) hst (by decide) (Nat.le_of_ble_eq_true rfl) rfl ?_
  intro p e s m below meth c X hnm htab
  refine g_aload_n X dX4_isThere_0 rfl rfl ?_
  subst ht
  refine GJ.cutv 10 (bI (¬ P)) ?_ (fun hj => ?_)
  · refine g_put X dX4_isThere_10 rfl in_X4 tyX4_ok nmX4 (ci := 3) rfl 6 (by decide) q1922 (fun _ h => h) rfl rfl rfl rfl mW_a (Nat.le_of_ble_eq_true rfl) mW_u6 ?_
    refine g_iload_n X dX4_isThere_13 rfl rfl ?_
    refine g_zret X dX4_isThere_14 rfl bI_nar (Nat.le_of_ble_eq_true rfl) (Nat.le_of_ble_eq_true rfl) (fun H hH => ⟨(), rfl, hH⟩)
  · refine g_iload_n X dX4_isThere_1 rfl rfl ?_
    refine g_if_eq (tgt := 9) X dX4_isThere_2 rfl (by decide) (fun c_2 => ?_) (fun c_2 => ?_)
    · refine g_iconst X dX4_isThere_9 rfl (v := (nI 1)) rfl ?_
      exact GJ.top (bI_t (bI_0.mp c_2)).symm hj
    · refine g_iconst X dX4_isThere_5 rfl (v := (nI 0)) rfl ?_
      refine g_goto (tgt := 10) X dX4_isThere_6 rfl (by decide) ?_
      exact GJ.top (bI_f (fun g => g (bI_n0.mp c_2))).symm hj
theorem ct_X4_fails (hst : l.stackTraces = false) {x : Int32} : CM Ω l yX4_fails (ws_ yX4_fails cX4_fails 2 (some .int)) 1 0 0 [.ref a, .int x] (hR Ω (mW Ω h a ad v F)) (QP (some (.int (nI 0))) (hR Ω (mW Ω h a ad (vU v 6 x) F))) nX := by
  refine CM.of (L := [some (.ref a), some (.int x)]) hst (by decide) (Nat.le_of_ble_eq_true rfl) rfl ?_
  intro p e s m below meth c X hnm htab
  refine g_aload_n X dX4_fails_0 rfl rfl ?_
  refine g_iload_n X dX4_fails_1 rfl rfl ?_
  refine g_put X dX4_fails_2 rfl in_X4 tyX4_ok nmX4 (ci := 3) rfl 6 (by decide) q1922 (fun _ h => h) rfl rfl rfl rfl mW_a (Nat.le_of_ble_eq_true rfl) mW_u6 ?_
  refine g_iconst X dX4_fails_5 rfl (v := (nI 0)) rfl ?_
  refine g_iret X dX4_fails_6 rfl (Nat.le_of_ble_eq_true rfl) (Nat.le_of_ble_eq_true rfl) (fun H hH => ⟨(), rfl, hH⟩)
theorem ct_X4_thrown (hst : l.stackTraces = false) : CM Ω l yX4_thrown (ws_ yX4_thrown cX4_thrown 1 (some .int)) 1 0 0 [.ref a] (hR Ω (mW Ω h a ad v F)) (QP (some (.int (v 6))) (hR Ω (mW Ω h a ad v F))) nX := by
  refine CM.of (L := [some (.ref a)]) hst (by decide) (Nat.le_of_ble_eq_true rfl) rfl ?_
  intro p e s m below meth c X hnm htab
  refine g_aload_n X dX4_thrown_0 rfl rfl ?_
  refine g_get X dX4_thrown_1 rfl in_X4 (ci := 3) rfl 6 (by decide) q1922 (fun _ h => h) mW_a rfl ?_
  refine g_iret X dX4_thrown_4 rfl (Nat.le_of_ble_eq_true rfl) (Nat.le_of_ble_eq_true rfl) (fun H hH => ⟨(), rfl, hH⟩)
theorem ct_X4_queued (hst : l.stackTraces = false) (hd : mDi a ad) {i w : Nat} {r : Int32} (hb : 8 + 9 * i + (4 + w) < 158) (hr : F 0 (8 + 9 * i + (4 + w)) = r) : CM Ω l yX4_queued (ws_ yX4_queued cX4_queued 3 (some .int)) 3 0 0 [.ref a, .int (nI i), .int (nI w)] (hR Ω (mW Ω h a ad v F)) (QP (some (.int r)) (hR Ω (mW Ω h a ad v F))) nX := by
  refine CM.of (L := [some (.ref a), some (.int (nI i)), some (.int (nI w))]) hst (by decide) (Nat.le_of_ble_eq_true rfl) rfl ?_
  intro p e s m below meth c X hnm htab
  refine g_aload_n X dX4_queued_0 rfl rfl ?_
  refine g_iload_n X dX4_queued_1 rfl rfl ?_
  refine g_iconst X dX4_queued_2 rfl (v := (nI 4)) rfl ?_
  refine g_iload_n X dX4_queued_3 rfl rfl ?_
  refine g_iadd X dX4_queued_4 rfl (by first | exact nI_add _ _ | rfl) ?_
  refine g_callV X (ct_X4_slide hst hd hb hr) dX4_queued_5 rfl (lw_V q2028 q2030 qs35 q76 q2031) hyV_X4_slide (fun H hH => hR.recv X.2.2.2.2.2.2.2.1 hH mW_a rfl) (fun H hH => hH) ⟨Nat.le_of_ble_eq_true rfl, Nat.le_of_ble_eq_true rfl⟩ ⟨Nat.le_of_ble_eq_true rfl, Nat.le_of_ble_eq_true rfl⟩ (Nat.le_of_ble_eq_true rfl) rfl (fun x_5 => ?_)
  refine g_iret X dX4_queued_8 rfl (Nat.le_of_ble_eq_true rfl) (Nat.le_of_ble_eq_true rfl) (fun H hH => ⟨(), rfl, hH⟩)
end M1
