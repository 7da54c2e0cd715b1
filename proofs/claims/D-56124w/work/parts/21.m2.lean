/-! MODEL, questions -/
section M2
variable {l : Launch} {Ω : Om} {h : RH} {a : Nat} {ad : Nat → Nat} {v : Nat → Int32} {F : Nat → Nat → Int32} {σ : St}
set_option maxRecDepth 100000
theorem ct_X4_minute (hst : l.stackTraces = false) (hd : mDi a ad) (hM : MR (F 0) σ) : CM Ω l yX4_minute (ws_ yX4_minute cX4_minute 1 (some .int)) 1 0 0 [.ref a] (hR Ω (mW Ω h a ad v F)) (QP (some (.int (nI (sM σ)))) (hR Ω (mW Ω h a ad (vU v 6 (nI 0)) F))) nX := by
  have e1 := hM.1.2.2.2.1
  refine CM.of (L := [some (.ref a)]) hst (by decide) (Nat.le_of_ble_eq_true rfl) rfl ?_
  intro p e s m below meth c X hnm htab
  refine g_aload_n X dX4_minute_0 rfl rfl ?_
  refine g_iconst X dX4_minute_1 rfl (v := (nI 0)) rfl ?_
  refine g_put X dX4_minute_2 rfl in_X4 tyX4_ok nmX4 (ci := 3) rfl 6 (by decide) q1922 (fun _ h => h) rfl rfl rfl rfl mW_a (Nat.le_of_ble_eq_true rfl) mW_u6 ?_
  refine g_aload_n X dX4_minute_5 rfl rfl ?_
  refine g_get X dX4_minute_6 rfl in_X4 (ci := 3) rfl 0 (by decide) q1916 (fun _ h => h) mW_a rfl ?_
  refine g_iconst X dX4_minute_9 rfl (v := (nI 3)) rfl ?_
  refine g_ial X dX4_minute_10 rfl (mW_0 hd) (vp_in_nI (by omega) (by decide)) (ix_v (by omega) e1) ?_
  refine g_iret X dX4_minute_11 rfl (Nat.le_of_ble_eq_true rfl) (Nat.le_of_ble_eq_true rfl) (fun H hH => ⟨(), rfl, hH⟩)
theorem ct_X4_slideCount (hst : l.stackTraces = false) (hd : mDi a ad) (hM : MR (F 0) σ) : CM Ω l yX4_slideCount (ws_ yX4_slideCount cX4_slideCount 1 (some .int)) 1 0 0 [.ref a] (hR Ω (mW Ω h a ad v F)) (QP (some (.int (nI (nS σ)))) (hR Ω (mW Ω h a ad (vU v 6 (nI 0)) F))) nX := by
  have e1 := hM.1.1
  refine CM.of (L := [some (.ref a)]) hst (by decide) (Nat.le_of_ble_eq_true rfl) rfl ?_
  intro p e s m below meth c X hnm htab
  refine g_aload_n X dX4_slideCount_0 rfl rfl ?_
  refine g_iconst X dX4_slideCount_1 rfl (v := (nI 0)) rfl ?_
  refine g_put X dX4_slideCount_2 rfl in_X4 tyX4_ok nmX4 (ci := 3) rfl 6 (by decide) q1922 (fun _ h => h) rfl rfl rfl rfl mW_a (Nat.le_of_ble_eq_true rfl) mW_u6 ?_
  refine g_aload_n X dX4_slideCount_5 rfl rfl ?_
  refine g_get X dX4_slideCount_6 rfl in_X4 (ci := 3) rfl 0 (by decide) q1916 (fun _ h => h) mW_a rfl ?_
  refine g_iconst X dX4_slideCount_9 rfl (v := (nI 0)) rfl ?_
  refine g_ial X dX4_slideCount_10 rfl (mW_0 hd) (vp_in_nI (by omega) (by decide)) (ix_v (by omega) e1) ?_
  refine g_iret X dX4_slideCount_11 rfl (Nat.le_of_ble_eq_true rfl) (Nat.le_of_ble_eq_true rfl) (fun H hH => ⟨(), rfl, hH⟩)
theorem ct_X4_guestCount (hst : l.stackTraces = false) (hd : mDi a ad) (hM : MR (F 0) σ) : CM Ω l yX4_guestCount (ws_ yX4_guestCount cX4_guestCount 1 (some .int)) 1 0 0 [.ref a] (hR Ω (mW Ω h a ad v F)) (QP (some (.int (nI (nG σ)))) (hR Ω (mW Ω h a ad (vU v 6 (nI 0)) F))) nX := by
  have e1 := hM.1.2.1
  refine CM.of (L := [some (.ref a)]) hst (by decide) (Nat.le_of_ble_eq_true rfl) rfl ?_
  intro p e s m below meth c X hnm htab
  refine g_aload_n X dX4_guestCount_0 rfl rfl ?_
  refine g_iconst X dX4_guestCount_1 rfl (v := (nI 0)) rfl ?_
  refine g_put X dX4_guestCount_2 rfl in_X4 tyX4_ok nmX4 (ci := 3) rfl 6 (by decide) q1922 (fun _ h => h) rfl rfl rfl rfl mW_a (Nat.le_of_ble_eq_true rfl) mW_u6 ?_
  refine g_aload_n X dX4_guestCount_5 rfl rfl ?_
  refine g_get X dX4_guestCount_6 rfl in_X4 (ci := 3) rfl 0 (by decide) q1916 (fun _ h => h) mW_a rfl ?_
  refine g_iconst X dX4_guestCount_9 rfl (v := (nI 1)) rfl ?_
  refine g_ial X dX4_guestCount_10 rfl (mW_0 hd) (vp_in_nI (by omega) (by decide)) (ix_v (by omega) e1) ?_
  refine g_iret X dX4_guestCount_11 rfl (Nat.le_of_ble_eq_true rfl) (Nat.le_of_ble_eq_true rfl) (fun H hH => ⟨(), rfl, hH⟩)
theorem ct_X4_bookingCount (hst : l.stackTraces = false) (hd : mDi a ad) (hM : MR (F 0) σ) : CM Ω l yX4_bookingCount (ws_ yX4_bookingCount cX4_bookingCount 1 (some .int)) 1 0 0 [.ref a] (hR Ω (mW Ω h a ad v F)) (QP (some (.int (nI (nB σ)))) (hR Ω (mW Ω h a ad (vU v 6 (nI 0)) F))) nX := by
  have e1 := hM.1.2.2.1
  refine CM.of (L := [some (.ref a)]) hst (by decide) (Nat.le_of_ble_eq_true rfl) rfl ?_
  intro p e s m below meth c X hnm htab
  refine g_aload_n X dX4_bookingCount_0 rfl rfl ?_
  refine g_iconst X dX4_bookingCount_1 rfl (v := (nI 0)) rfl ?_
  refine g_put X dX4_bookingCount_2 rfl in_X4 tyX4_ok nmX4 (ci := 3) rfl 6 (by decide) q1922 (fun _ h => h) rfl rfl rfl rfl mW_a (Nat.le_of_ble_eq_true rfl) mW_u6 ?_
  refine g_aload_n X dX4_bookingCount_5 rfl rfl ?_
  refine g_get X dX4_bookingCount_6 rfl in_X4 (ci := 3) rfl 0 (by decide) q1916 (fun _ h => h) mW_a rfl ?_
  refine g_iconst X dX4_bookingCount_9 rfl (v := (nI 2)) rfl ?_
  refine g_ial X dX4_bookingCount_10 rfl (mW_0 hd) (vp_in_nI (by omega) (by decide)) (ix_v (by omega) e1) ?_
  refine g_iret X dX4_bookingCount_11 rfl (Nat.le_of_ble_eq_true rfl) (Nat.le_of_ble_eq_true rfl) (fun H hH => ⟨(), rfl, hH⟩)
theorem ct_X4_finishCount (hst : l.stackTraces = false) (hd : mDi a ad) (hM : MR (F 0) σ) : CM Ω l yX4_finishCount (ws_ yX4_finishCount cX4_finishCount 1 (some .int)) 1 0 0 [.ref a] (hR Ω (mW Ω h a ad v F)) (QP (some (.int (nI (nF σ)))) (hR Ω (mW Ω h a ad (vU v 6 (nI 0)) F))) nX := by
  have e1 := hM.1.2.2.2.2.1
  refine CM.of (L := [some (.ref a)]) hst (by decide) (Nat.le_of_ble_eq_true rfl) rfl ?_
  intro p e s m below meth c X hnm htab
  refine g_aload_n X dX4_finishCount_0 rfl rfl ?_
  refine g_iconst X dX4_finishCount_1 rfl (v := (nI 0)) rfl ?_
  refine g_put X dX4_finishCount_2 rfl in_X4 tyX4_ok nmX4 (ci := 3) rfl 6 (by decide) q1922 (fun _ h => h) rfl rfl rfl rfl mW_a (Nat.le_of_ble_eq_true rfl) mW_u6 ?_
  refine g_aload_n X dX4_finishCount_5 rfl rfl ?_
  refine g_get X dX4_finishCount_6 rfl in_X4 (ci := 3) rfl 0 (by decide) q1916 (fun _ h => h) mW_a rfl ?_
  refine g_iconst X dX4_finishCount_9 rfl (v := (nI 4)) rfl ?_
  refine g_ial X dX4_finishCount_10 rfl (mW_0 hd) (vp_in_nI (by omega) (by decide)) (ix_v (by omega) e1) ?_
  refine g_iret X dX4_finishCount_11 rfl (Nat.le_of_ble_eq_true rfl) (Nat.le_of_ble_eq_true rfl) (fun H hH => ⟨(), rfl, hH⟩)
theorem ct_X4_splashes (hst : l.stackTraces = false) (hd : mDi a ad) (hM : MR (F 0) σ) : CM Ω l yX4_splashes (ws_ yX4_splashes cX4_splashes 1 (some .int)) 1 0 0 [.ref a] (hR Ω (mW Ω h a ad v F)) (QP (some (.int (sP σ))) (hR Ω (mW Ω h a ad (vU v 6 (nI 0)) F))) nX := by
  have e1 := hM.1.2.2.2.2.2.1
  refine CM.of (L := [some (.ref a)]) hst (by decide) (Nat.le_of_ble_eq_true rfl) rfl ?_
  intro p e s m below meth c X hnm htab
  refine g_aload_n X dX4_splashes_0 rfl rfl ?_
  refine g_iconst X dX4_splashes_1 rfl (v := (nI 0)) rfl ?_
  refine g_put X dX4_splashes_2 rfl in_X4 tyX4_ok nmX4 (ci := 3) rfl 6 (by decide) q1922 (fun _ h => h) rfl rfl rfl rfl mW_a (Nat.le_of_ble_eq_true rfl) mW_u6 ?_
  refine g_aload_n X dX4_splashes_5 rfl rfl ?_
  refine g_get X dX4_splashes_6 rfl in_X4 (ci := 3) rfl 0 (by decide) q1916 (fun _ h => h) mW_a rfl ?_
  refine g_iconst X dX4_splashes_9 rfl (v := (nI 5)) rfl ?_
  refine g_ial X dX4_splashes_10 rfl (mW_0 hd) (vp_in_nI (by omega) (by decide)) (ix_v (by omega) e1) ?_
  refine g_iret X dX4_splashes_11 rfl (Nat.le_of_ble_eq_true rfl) (Nat.le_of_ble_eq_true rfl) (fun H hH => ⟨(), rfl, hH⟩)
theorem ct_X4_refundedCoins (hst : l.stackTraces = false) (hd : mDi a ad) (hM : MR (F 0) σ) : CM Ω l yX4_refundedCoins (ws_ yX4_refundedCoins cX4_refundedCoins 1 (some .int)) 1 0 0 [.ref a] (hR Ω (mW Ω h a ad v F)) (QP (some (.int (sR σ))) (hR Ω (mW Ω h a ad (vU v 6 (nI 0)) F))) nX := by
  have e1 := hM.1.2.2.2.2.2.2.1
  refine CM.of (L := [some (.ref a)]) hst (by decide) (Nat.le_of_ble_eq_true rfl) rfl ?_
  intro p e s m below meth c X hnm htab
  refine g_aload_n X dX4_refundedCoins_0 rfl rfl ?_
  refine g_iconst X dX4_refundedCoins_1 rfl (v := (nI 0)) rfl ?_
  refine g_put X dX4_refundedCoins_2 rfl in_X4 tyX4_ok nmX4 (ci := 3) rfl 6 (by decide) q1922 (fun _ h => h) rfl rfl rfl rfl mW_a (Nat.le_of_ble_eq_true rfl) mW_u6 ?_
  refine g_aload_n X dX4_refundedCoins_5 rfl rfl ?_
  refine g_get X dX4_refundedCoins_6 rfl in_X4 (ci := 3) rfl 0 (by decide) q1916 (fun _ h => h) mW_a rfl ?_
  refine g_bipush X dX4_refundedCoins_9 rfl (v := (nI 6)) (by decide) ?_
  refine g_ial X dX4_refundedCoins_11 rfl (mW_0 hd) (vp_in_nI (by omega) (by decide)) (ix_v (by omega) e1) ?_
  refine g_iret X dX4_refundedCoins_12 rfl (Nat.le_of_ble_eq_true rfl) (Nat.le_of_ble_eq_true rfl) (fun H hH => ⟨(), rfl, hH⟩)
theorem ct_X4_officeCoins (hst : l.stackTraces = false) (hd : mDi a ad) (hM : MR (F 0) σ) : CM Ω l yX4_officeCoins (ws_ yX4_officeCoins cX4_officeCoins 1 (some .int)) 1 0 0 [.ref a] (hR Ω (mW Ω h a ad v F)) (QP (some (.int (sO σ))) (hR Ω (mW Ω h a ad (vU v 6 (nI 0)) F))) nX := by
  have e1 := hM.1.2.2.2.2.2.2.2
  refine CM.of (L := [some (.ref a)]) hst (by decide) (Nat.le_of_ble_eq_true rfl) rfl ?_
  intro p e s m below meth c X hnm htab
  refine g_aload_n X dX4_officeCoins_0 rfl rfl ?_
  refine g_iconst X dX4_officeCoins_1 rfl (v := (nI 0)) rfl ?_
  refine g_put X dX4_officeCoins_2 rfl in_X4 tyX4_ok nmX4 (ci := 3) rfl 6 (by decide) q1922 (fun _ h => h) rfl rfl rfl rfl mW_a (Nat.le_of_ble_eq_true rfl) mW_u6 ?_
  refine g_aload_n X dX4_officeCoins_5 rfl rfl ?_
  refine g_get X dX4_officeCoins_6 rfl in_X4 (ci := 3) rfl 0 (by decide) q1916 (fun _ h => h) mW_a rfl ?_
  refine g_bipush X dX4_officeCoins_9 rfl (v := (nI 7)) (by decide) ?_
  refine g_ial X dX4_officeCoins_11 rfl (mW_0 hd) (vp_in_nI (by omega) (by decide)) (ix_v (by omega) e1) ?_
  refine g_iret X dX4_officeCoins_12 rfl (Nat.le_of_ble_eq_true rfl) (Nat.le_of_ble_eq_true rfl) (fun H hH => ⟨(), rfl, hH⟩)
theorem ct_X4_duration (hst : l.stackTraces = false) (hd : mDi a ad) (hM : MR (F 0) σ) (hB : Bd σ) {x : Int32} : CM Ω l yX4_duration (ws_ yX4_duration cX4_duration 2 (some .int)) 6 0 0 [.ref a, .int x] (hR Ω (mW Ω h a ad v F)) (QP (some (.int (qA (qSl σ (slD σ) x)))) (hR Ω (mW Ω h a ad (vU v 6 (qT (qSl σ (slD σ) x))) F))) nX := by
  have b1 := hB.1
  by_cases hx : okS σ x
  · obtain ⟨j, hj, rfl⟩ := (ixI (by omega)).mp hx
    rw [qSl, cH_t hx, iN_nI (by omega)]
    refine CM.of (L := [some (.ref a), some (.int (nI j))]) hst (by decide) (Nat.le_of_ble_eq_true rfl) rfl ?_
    intro p e s m below meth c X hnm htab
    refine g_aload_n X dX4_duration_0 rfl rfl ?_
    refine g_aload_n X dX4_duration_1 rfl rfl ?_
    refine g_iload_n X dX4_duration_2 rfl rfl ?_
    refine g_callV X (ct_X4_isSlide hst hd hM) dX4_duration_3 rfl (lw_V q2016 q2018 qs32 q76 q2019) hyV_X4_isSlide (fun H hH => hR.recv X.2.2.2.2.2.2.2.1 hH mW_a rfl) (fun H hH => hH) ⟨Nat.le_of_ble_eq_true rfl, Nat.le_of_ble_eq_true rfl⟩ ⟨Nat.le_of_ble_eq_true rfl, Nat.le_of_ble_eq_true rfl⟩ (Nat.le_of_ble_eq_true rfl) rfl (fun x_3 => ?_)
    refine g_callV X (ct_X4_isThere hst (bI_f (fun g => g hx))) dX4_duration_6 rfl (lw_V q2134 q2136 qs54 q76 q2137) hyV_X4_isThere (fun H hH => hR.recv X.2.2.2.2.2.2.2.1 hH mW_a rfl) (fun H hH => hH) ⟨Nat.le_of_ble_eq_true rfl, Nat.le_of_ble_eq_true rfl⟩ ⟨Nat.le_of_ble_eq_true rfl, Nat.le_of_ble_eq_true rfl⟩ (Nat.le_of_ble_eq_true rfl) rfl (fun x_6 => ?_)
    refine g_if_eq (tgt := 21) X dX4_duration_9 rfl (by decide) (fun c => absurd hx (bI_0.mp c)) (fun c_9 => ?_)
    refine g_aload_n X dX4_duration_12 rfl rfl ?_
    refine g_iload_n X dX4_duration_13 rfl rfl ?_
    refine g_iconst X dX4_duration_14 rfl (v := (nI 0)) rfl ?_
    refine g_callV X (ct_X4_slide hst hd (by omega) (hM.2.1 j hj).1) dX4_duration_15 rfl (lw_V q2028 q2030 qs35 q76 q2031) hyV_X4_slide (fun H hH => hR.recv X.2.2.2.2.2.2.2.1 hH mW_a rfl) (fun H hH => hH) ⟨Nat.le_of_ble_eq_true rfl, Nat.le_of_ble_eq_true rfl⟩ ⟨Nat.le_of_ble_eq_true rfl, Nat.le_of_ble_eq_true rfl⟩ (Nat.le_of_ble_eq_true rfl) rfl (fun x_15 => ?_)
    refine g_goto (tgt := 22) X dX4_duration_18 rfl (by decide) ?_
    refine g_iret X dX4_duration_22 rfl (Nat.le_of_ble_eq_true rfl) (Nat.le_of_ble_eq_true rfl) (fun H hH => ⟨(), rfl, hH⟩)
  · rw [qSl, cH_f hx]
    refine CM.of (L := [some (.ref a), some (.int x)]) hst (by decide) (Nat.le_of_ble_eq_true rfl) rfl ?_
    intro p e s m below meth c X hnm htab
    refine g_aload_n X dX4_duration_0 rfl rfl ?_
    refine g_aload_n X dX4_duration_1 rfl rfl ?_
    refine g_iload_n X dX4_duration_2 rfl rfl ?_
    refine g_callV X (ct_X4_isSlide hst hd hM) dX4_duration_3 rfl (lw_V q2016 q2018 qs32 q76 q2019) hyV_X4_isSlide (fun H hH => hR.recv X.2.2.2.2.2.2.2.1 hH mW_a rfl) (fun H hH => hH) ⟨Nat.le_of_ble_eq_true rfl, Nat.le_of_ble_eq_true rfl⟩ ⟨Nat.le_of_ble_eq_true rfl, Nat.le_of_ble_eq_true rfl⟩ (Nat.le_of_ble_eq_true rfl) rfl (fun x_3 => ?_)
    refine g_callV X (ct_X4_isThere hst (bI_t hx)) dX4_duration_6 rfl (lw_V q2134 q2136 qs54 q76 q2137) hyV_X4_isThere (fun H hH => hR.recv X.2.2.2.2.2.2.2.1 hH mW_a rfl) (fun H hH => hH) ⟨Nat.le_of_ble_eq_true rfl, Nat.le_of_ble_eq_true rfl⟩ ⟨Nat.le_of_ble_eq_true rfl, Nat.le_of_ble_eq_true rfl⟩ (Nat.le_of_ble_eq_true rfl) rfl (fun x_6 => ?_)
    refine g_if_eq (tgt := 21) X dX4_duration_9 rfl (by decide) (fun c_9 => ?_) (fun c => absurd (bI_n0.mp c) hx)
    refine g_iconst X dX4_duration_21 rfl (v := (nI 0)) rfl ?_
    refine g_iret X dX4_duration_22 rfl (Nat.le_of_ble_eq_true rfl) (Nat.le_of_ble_eq_true rfl) (fun H hH => ⟨(), rfl, hH⟩)
theorem ct_X4_price (hst : l.stackTraces = false) (hd : mDi a ad) (hM : MR (F 0) σ) (hB : Bd σ) {x : Int32} : CM Ω l yX4_price (ws_ yX4_price cX4_price 2 (some .int)) 6 0 0 [.ref a, .int x] (hR Ω (mW Ω h a ad v F)) (QP (some (.int (qA (qSl σ (slP σ) x)))) (hR Ω (mW Ω h a ad (vU v 6 (qT (qSl σ (slP σ) x))) F))) nX := by
  have b1 := hB.1
  by_cases hx : okS σ x
  · obtain ⟨j, hj, rfl⟩ := (ixI (by omega)).mp hx
    rw [qSl, cH_t hx, iN_nI (by omega)]
    refine CM.of (L := [some (.ref a), some (.int (nI j))]) hst (by decide) (Nat.le_of_ble_eq_true rfl) rfl ?_
    intro p e s m below meth c X hnm htab
    refine g_aload_n X dX4_price_0 rfl rfl ?_
    refine g_aload_n X dX4_price_1 rfl rfl ?_
    refine g_iload_n X dX4_price_2 rfl rfl ?_
    refine g_callV X (ct_X4_isSlide hst hd hM) dX4_price_3 rfl (lw_V q2016 q2018 qs32 q76 q2019) hyV_X4_isSlide (fun H hH => hR.recv X.2.2.2.2.2.2.2.1 hH mW_a rfl) (fun H hH => hH) ⟨Nat.le_of_ble_eq_true rfl, Nat.le_of_ble_eq_true rfl⟩ ⟨Nat.le_of_ble_eq_true rfl, Nat.le_of_ble_eq_true rfl⟩ (Nat.le_of_ble_eq_true rfl) rfl (fun x_3 => ?_)
    refine g_callV X (ct_X4_isThere hst (bI_f (fun g => g hx))) dX4_price_6 rfl (lw_V q2134 q2136 qs54 q76 q2137) hyV_X4_isThere (fun H hH => hR.recv X.2.2.2.2.2.2.2.1 hH mW_a rfl) (fun H hH => hH) ⟨Nat.le_of_ble_eq_true rfl, Nat.le_of_ble_eq_true rfl⟩ ⟨Nat.le_of_ble_eq_true rfl, Nat.le_of_ble_eq_true rfl⟩ (Nat.le_of_ble_eq_true rfl) rfl (fun x_6 => ?_)
    refine g_if_eq (tgt := 21) X dX4_price_9 rfl (by decide) (fun c => absurd hx (bI_0.mp c)) (fun c_9 => ?_)
    refine g_aload_n X dX4_price_12 rfl rfl ?_
    refine g_iload_n X dX4_price_13 rfl rfl ?_
    refine g_iconst X dX4_price_14 rfl (v := (nI 1)) rfl ?_
    refine g_callV X (ct_X4_slide hst hd (by omega) (hM.2.1 j hj).2.1) dX4_price_15 rfl (lw_V q2028 q2030 qs35 q76 q2031) hyV_X4_slide (fun H hH => hR.recv X.2.2.2.2.2.2.2.1 hH mW_a rfl) (fun H hH => hH) ⟨Nat.le_of_ble_eq_true rfl, Nat.le_of_ble_eq_true rfl⟩ ⟨Nat.le_of_ble_eq_true rfl, Nat.le_of_ble_eq_true rfl⟩ (Nat.le_of_ble_eq_true rfl) rfl (fun x_15 => ?_)
    refine g_goto (tgt := 22) X dX4_price_18 rfl (by decide) ?_
    refine g_iret X dX4_price_22 rfl (Nat.le_of_ble_eq_true rfl) (Nat.le_of_ble_eq_true rfl) (fun H hH => ⟨(), rfl, hH⟩)
  · rw [qSl, cH_f hx]
    refine CM.of (L := [some (.ref a), some (.int x)]) hst (by decide) (Nat.le_of_ble_eq_true rfl) rfl ?_
    intro p e s m below meth c X hnm htab
    refine g_aload_n X dX4_price_0 rfl rfl ?_
    refine g_aload_n X dX4_price_1 rfl rfl ?_
    refine g_iload_n X dX4_price_2 rfl rfl ?_
    refine g_callV X (ct_X4_isSlide hst hd hM) dX4_price_3 rfl (lw_V q2016 q2018 qs32 q76 q2019) hyV_X4_isSlide (fun H hH => hR.recv X.2.2.2.2.2.2.2.1 hH mW_a rfl) (fun H hH => hH) ⟨Nat.le_of_ble_eq_true rfl, Nat.le_of_ble_eq_true rfl⟩ ⟨Nat.le_of_ble_eq_true rfl, Nat.le_of_ble_eq_true rfl⟩ (Nat.le_of_ble_eq_true rfl) rfl (fun x_3 => ?_)
    refine g_callV X (ct_X4_isThere hst (bI_t hx)) dX4_price_6 rfl (lw_V q2134 q2136 qs54 q76 q2137) hyV_X4_isThere (fun H hH => hR.recv X.2.2.2.2.2.2.2.1 hH mW_a rfl) (fun H hH => hH) ⟨Nat.le_of_ble_eq_true rfl, Nat.le_of_ble_eq_true rfl⟩ ⟨Nat.le_of_ble_eq_true rfl, Nat.le_of_ble_eq_true rfl⟩ (Nat.le_of_ble_eq_true rfl) rfl (fun x_6 => ?_)
    refine g_if_eq (tgt := 21) X dX4_price_9 rfl (by decide) (fun c_9 => ?_) (fun c => absurd (bI_n0.mp c) hx)
    refine g_iconst X dX4_price_21 rfl (v := (nI 0)) rfl ?_
    refine g_iret X dX4_price_22 rfl (Nat.le_of_ble_eq_true rfl) (Nat.le_of_ble_eq_true rfl) (fun H hH => ⟨(), rfl, hH⟩)
theorem ct_X4_wetness (hst : l.stackTraces = false) (hd : mDi a ad) (hM : MR (F 0) σ) (hB : Bd σ) {x : Int32} : CM Ω l yX4_wetness (ws_ yX4_wetness cX4_wetness 2 (some .int)) 6 0 0 [.ref a, .int x] (hR Ω (mW Ω h a ad v F)) (QP (some (.int (qA (qSl σ (slW σ) x)))) (hR Ω (mW Ω h a ad (vU v 6 (qT (qSl σ (slW σ) x))) F))) nX := by
  have b1 := hB.1
  by_cases hx : okS σ x
  · obtain ⟨j, hj, rfl⟩ := (ixI (by omega)).mp hx
    rw [qSl, cH_t hx, iN_nI (by omega)]
    refine CM.of (L := [some (.ref a), some (.int (nI j))]) hst (by decide) (Nat.le_of_ble_eq_true rfl) rfl ?_
    intro p e s m below meth c X hnm htab
    refine g_aload_n X dX4_wetness_0 rfl rfl ?_
    refine g_aload_n X dX4_wetness_1 rfl rfl ?_
    refine g_iload_n X dX4_wetness_2 rfl rfl ?_
    refine g_callV X (ct_X4_isSlide hst hd hM) dX4_wetness_3 rfl (lw_V q2016 q2018 qs32 q76 q2019) hyV_X4_isSlide (fun H hH => hR.recv X.2.2.2.2.2.2.2.1 hH mW_a rfl) (fun H hH => hH) ⟨Nat.le_of_ble_eq_true rfl, Nat.le_of_ble_eq_true rfl⟩ ⟨Nat.le_of_ble_eq_true rfl, Nat.le_of_ble_eq_true rfl⟩ (Nat.le_of_ble_eq_true rfl) rfl (fun x_3 => ?_)
    refine g_callV X (ct_X4_isThere hst (bI_f (fun g => g hx))) dX4_wetness_6 rfl (lw_V q2134 q2136 qs54 q76 q2137) hyV_X4_isThere (fun H hH => hR.recv X.2.2.2.2.2.2.2.1 hH mW_a rfl) (fun H hH => hH) ⟨Nat.le_of_ble_eq_true rfl, Nat.le_of_ble_eq_true rfl⟩ ⟨Nat.le_of_ble_eq_true rfl, Nat.le_of_ble_eq_true rfl⟩ (Nat.le_of_ble_eq_true rfl) rfl (fun x_6 => ?_)
    refine g_if_eq (tgt := 21) X dX4_wetness_9 rfl (by decide) (fun c => absurd hx (bI_0.mp c)) (fun c_9 => ?_)
    refine g_aload_n X dX4_wetness_12 rfl rfl ?_
    refine g_iload_n X dX4_wetness_13 rfl rfl ?_
    refine g_iconst X dX4_wetness_14 rfl (v := (nI 2)) rfl ?_
    refine g_callV X (ct_X4_slide hst hd (by omega) (hM.2.1 j hj).2.2.1) dX4_wetness_15 rfl (lw_V q2028 q2030 qs35 q76 q2031) hyV_X4_slide (fun H hH => hR.recv X.2.2.2.2.2.2.2.1 hH mW_a rfl) (fun H hH => hH) ⟨Nat.le_of_ble_eq_true rfl, Nat.le_of_ble_eq_true rfl⟩ ⟨Nat.le_of_ble_eq_true rfl, Nat.le_of_ble_eq_true rfl⟩ (Nat.le_of_ble_eq_true rfl) rfl (fun x_15 => ?_)
    refine g_goto (tgt := 22) X dX4_wetness_18 rfl (by decide) ?_
    refine g_iret X dX4_wetness_22 rfl (Nat.le_of_ble_eq_true rfl) (Nat.le_of_ble_eq_true rfl) (fun H hH => ⟨(), rfl, hH⟩)
  · rw [qSl, cH_f hx]
    refine CM.of (L := [some (.ref a), some (.int x)]) hst (by decide) (Nat.le_of_ble_eq_true rfl) rfl ?_
    intro p e s m below meth c X hnm htab
    refine g_aload_n X dX4_wetness_0 rfl rfl ?_
    refine g_aload_n X dX4_wetness_1 rfl rfl ?_
    refine g_iload_n X dX4_wetness_2 rfl rfl ?_
    refine g_callV X (ct_X4_isSlide hst hd hM) dX4_wetness_3 rfl (lw_V q2016 q2018 qs32 q76 q2019) hyV_X4_isSlide (fun H hH => hR.recv X.2.2.2.2.2.2.2.1 hH mW_a rfl) (fun H hH => hH) ⟨Nat.le_of_ble_eq_true rfl, Nat.le_of_ble_eq_true rfl⟩ ⟨Nat.le_of_ble_eq_true rfl, Nat.le_of_ble_eq_true rfl⟩ (Nat.le_of_ble_eq_true rfl) rfl (fun x_3 => ?_)
    refine g_callV X (ct_X4_isThere hst (bI_t hx)) dX4_wetness_6 rfl (lw_V q2134 q2136 qs54 q76 q2137) hyV_X4_isThere (fun H hH => hR.recv X.2.2.2.2.2.2.2.1 hH mW_a rfl) (fun H hH => hH) ⟨Nat.le_of_ble_eq_true rfl, Nat.le_of_ble_eq_true rfl⟩ ⟨Nat.le_of_ble_eq_true rfl, Nat.le_of_ble_eq_true rfl⟩ (Nat.le_of_ble_eq_true rfl) rfl (fun x_6 => ?_)
    refine g_if_eq (tgt := 21) X dX4_wetness_9 rfl (by decide) (fun c_9 => ?_) (fun c => absurd (bI_n0.mp c) hx)
    refine g_iconst X dX4_wetness_21 rfl (v := (nI 0)) rfl ?_
    refine g_iret X dX4_wetness_22 rfl (Nat.le_of_ble_eq_true rfl) (Nat.le_of_ble_eq_true rfl) (fun H hH => ⟨(), rfl, hH⟩)
theorem ct_X4_queueLength (hst : l.stackTraces = false) (hd : mDi a ad) (hM : MR (F 0) σ) (hB : Bd σ) {x : Int32} : CM Ω l yX4_queueLength (ws_ yX4_queueLength cX4_queueLength 2 (some .int)) 6 0 0 [.ref a, .int x] (hR Ω (mW Ω h a ad v F)) (QP (some (.int (qA (qSl σ (fun i => (slQ σ i).length) x)))) (hR Ω (mW Ω h a ad (vU v 6 (qT (qSl σ (fun i => (slQ σ i).length) x))) F))) nX := by
  have b1 := hB.1
  by_cases hx : okS σ x
  · obtain ⟨j, hj, rfl⟩ := (ixI (by omega)).mp hx
    rw [qSl, cH_t hx, iN_nI (by omega)]
    refine CM.of (L := [some (.ref a), some (.int (nI j))]) hst (by decide) (Nat.le_of_ble_eq_true rfl) rfl ?_
    intro p e s m below meth c X hnm htab
    refine g_aload_n X dX4_queueLength_0 rfl rfl ?_
    refine g_aload_n X dX4_queueLength_1 rfl rfl ?_
    refine g_iload_n X dX4_queueLength_2 rfl rfl ?_
    refine g_callV X (ct_X4_isSlide hst hd hM) dX4_queueLength_3 rfl (lw_V q2016 q2018 qs32 q76 q2019) hyV_X4_isSlide (fun H hH => hR.recv X.2.2.2.2.2.2.2.1 hH mW_a rfl) (fun H hH => hH) ⟨Nat.le_of_ble_eq_true rfl, Nat.le_of_ble_eq_true rfl⟩ ⟨Nat.le_of_ble_eq_true rfl, Nat.le_of_ble_eq_true rfl⟩ (Nat.le_of_ble_eq_true rfl) rfl (fun x_3 => ?_)
    refine g_callV X (ct_X4_isThere hst (bI_f (fun g => g hx))) dX4_queueLength_6 rfl (lw_V q2134 q2136 qs54 q76 q2137) hyV_X4_isThere (fun H hH => hR.recv X.2.2.2.2.2.2.2.1 hH mW_a rfl) (fun H hH => hH) ⟨Nat.le_of_ble_eq_true rfl, Nat.le_of_ble_eq_true rfl⟩ ⟨Nat.le_of_ble_eq_true rfl, Nat.le_of_ble_eq_true rfl⟩ (Nat.le_of_ble_eq_true rfl) rfl (fun x_6 => ?_)
    refine g_if_eq (tgt := 21) X dX4_queueLength_9 rfl (by decide) (fun c => absurd hx (bI_0.mp c)) (fun c_9 => ?_)
    refine g_aload_n X dX4_queueLength_12 rfl rfl ?_
    refine g_iload_n X dX4_queueLength_13 rfl rfl ?_
    refine g_iconst X dX4_queueLength_14 rfl (v := (nI 3)) rfl ?_
    refine g_callV X (ct_X4_slide hst hd (by omega) (hM.2.1 j hj).2.2.2) dX4_queueLength_15 rfl (lw_V q2028 q2030 qs35 q76 q2031) hyV_X4_slide (fun H hH => hR.recv X.2.2.2.2.2.2.2.1 hH mW_a rfl) (fun H hH => hH) ⟨Nat.le_of_ble_eq_true rfl, Nat.le_of_ble_eq_true rfl⟩ ⟨Nat.le_of_ble_eq_true rfl, Nat.le_of_ble_eq_true rfl⟩ (Nat.le_of_ble_eq_true rfl) rfl (fun x_15 => ?_)
    refine g_goto (tgt := 22) X dX4_queueLength_18 rfl (by decide) ?_
    refine g_iret X dX4_queueLength_22 rfl (Nat.le_of_ble_eq_true rfl) (Nat.le_of_ble_eq_true rfl) (fun H hH => ⟨(), rfl, hH⟩)
  · rw [qSl, cH_f hx]
    refine CM.of (L := [some (.ref a), some (.int x)]) hst (by decide) (Nat.le_of_ble_eq_true rfl) rfl ?_
    intro p e s m below meth c X hnm htab
    refine g_aload_n X dX4_queueLength_0 rfl rfl ?_
    refine g_aload_n X dX4_queueLength_1 rfl rfl ?_
    refine g_iload_n X dX4_queueLength_2 rfl rfl ?_
    refine g_callV X (ct_X4_isSlide hst hd hM) dX4_queueLength_3 rfl (lw_V q2016 q2018 qs32 q76 q2019) hyV_X4_isSlide (fun H hH => hR.recv X.2.2.2.2.2.2.2.1 hH mW_a rfl) (fun H hH => hH) ⟨Nat.le_of_ble_eq_true rfl, Nat.le_of_ble_eq_true rfl⟩ ⟨Nat.le_of_ble_eq_true rfl, Nat.le_of_ble_eq_true rfl⟩ (Nat.le_of_ble_eq_true rfl) rfl (fun x_3 => ?_)
    refine g_callV X (ct_X4_isThere hst (bI_t hx)) dX4_queueLength_6 rfl (lw_V q2134 q2136 qs54 q76 q2137) hyV_X4_isThere (fun H hH => hR.recv X.2.2.2.2.2.2.2.1 hH mW_a rfl) (fun H hH => hH) ⟨Nat.le_of_ble_eq_true rfl, Nat.le_of_ble_eq_true rfl⟩ ⟨Nat.le_of_ble_eq_true rfl, Nat.le_of_ble_eq_true rfl⟩ (Nat.le_of_ble_eq_true rfl) rfl (fun x_6 => ?_)
    refine g_if_eq (tgt := 21) X dX4_queueLength_9 rfl (by decide) (fun c_9 => ?_) (fun c => absurd (bI_n0.mp c) hx)
    refine g_iconst X dX4_queueLength_21 rfl (v := (nI 0)) rfl ?_
    refine g_iret X dX4_queueLength_22 rfl (Nat.le_of_ble_eq_true rfl) (Nat.le_of_ble_eq_true rfl) (fun H hH => ⟨(), rfl, hH⟩)
theorem ct_X4_coins (hst : l.stackTraces = false) (hd : mDi a ad) (hM : MR (F 0) σ) (hB : Bd σ) {x : Int32} : CM Ω l yX4_coins (ws_ yX4_coins cX4_coins 2 (some .int)) 6 0 0 [.ref a, .int x] (hR Ω (mW Ω h a ad v F)) (QP (some (.int (qA (qGu σ (guC σ) x)))) (hR Ω (mW Ω h a ad (vU v 6 (qT (qGu σ (guC σ) x))) F))) nX := by
  have b1 := hB.1
  by_cases hx : okG σ x
  · obtain ⟨j, hj, rfl⟩ := (ixI (by omega)).mp hx
    rw [qGu, cH_t hx, iN_nI (by omega)]
    refine CM.of (L := [some (.ref a), some (.int (nI j))]) hst (by decide) (Nat.le_of_ble_eq_true rfl) rfl ?_
    intro p e s m below meth c X hnm htab
    refine g_aload_n X dX4_coins_0 rfl rfl ?_
    refine g_aload_n X dX4_coins_1 rfl rfl ?_
    refine g_iload_n X dX4_coins_2 rfl rfl ?_
    refine g_callV X (ct_X4_isGuest hst hd hM) dX4_coins_3 rfl (lw_V q2012 q2014 qs31 q76 q2015) hyV_X4_isGuest (fun H hH => hR.recv X.2.2.2.2.2.2.2.1 hH mW_a rfl) (fun H hH => hH) ⟨Nat.le_of_ble_eq_true rfl, Nat.le_of_ble_eq_true rfl⟩ ⟨Nat.le_of_ble_eq_true rfl, Nat.le_of_ble_eq_true rfl⟩ (Nat.le_of_ble_eq_true rfl) rfl (fun x_3 => ?_)
    refine g_callV X (ct_X4_isThere hst (bI_f (fun g => g hx))) dX4_coins_6 rfl (lw_V q2134 q2136 qs54 q76 q2137) hyV_X4_isThere (fun H hH => hR.recv X.2.2.2.2.2.2.2.1 hH mW_a rfl) (fun H hH => hH) ⟨Nat.le_of_ble_eq_true rfl, Nat.le_of_ble_eq_true rfl⟩ ⟨Nat.le_of_ble_eq_true rfl, Nat.le_of_ble_eq_true rfl⟩ (Nat.le_of_ble_eq_true rfl) rfl (fun x_6 => ?_)
    refine g_if_eq (tgt := 21) X dX4_coins_9 rfl (by decide) (fun c => absurd hx (bI_0.mp c)) (fun c_9 => ?_)
    refine g_aload_n X dX4_coins_12 rfl rfl ?_
    refine g_iload_n X dX4_coins_13 rfl rfl ?_
    refine g_iconst X dX4_coins_14 rfl (v := (nI 0)) rfl ?_
    refine g_callV X (ct_X4_guest hst hd (by omega) (hM.2.2.2.1 j hj).1) dX4_coins_15 rfl (lw_V q2024 q2026 qs34 q76 q2027) hyV_X4_guest (fun H hH => hR.recv X.2.2.2.2.2.2.2.1 hH mW_a rfl) (fun H hH => hH) ⟨Nat.le_of_ble_eq_true rfl, Nat.le_of_ble_eq_true rfl⟩ ⟨Nat.le_of_ble_eq_true rfl, Nat.le_of_ble_eq_true rfl⟩ (Nat.le_of_ble_eq_true rfl) rfl (fun x_15 => ?_)
    refine g_goto (tgt := 22) X dX4_coins_18 rfl (by decide) ?_
    refine g_iret X dX4_coins_22 rfl (Nat.le_of_ble_eq_true rfl) (Nat.le_of_ble_eq_true rfl) (fun H hH => ⟨(), rfl, hH⟩)
  · rw [qGu, cH_f hx]
    refine CM.of (L := [some (.ref a), some (.int x)]) hst (by decide) (Nat.le_of_ble_eq_true rfl) rfl ?_
    intro p e s m below meth c X hnm htab
    refine g_aload_n X dX4_coins_0 rfl rfl ?_
    refine g_aload_n X dX4_coins_1 rfl rfl ?_
    refine g_iload_n X dX4_coins_2 rfl rfl ?_
    refine g_callV X (ct_X4_isGuest hst hd hM) dX4_coins_3 rfl (lw_V q2012 q2014 qs31 q76 q2015) hyV_X4_isGuest (fun H hH => hR.recv X.2.2.2.2.2.2.2.1 hH mW_a rfl) (fun H hH => hH) ⟨Nat.le_of_ble_eq_true rfl, Nat.le_of_ble_eq_true rfl⟩ ⟨Nat.le_of_ble_eq_true rfl, Nat.le_of_ble_eq_true rfl⟩ (Nat.le_of_ble_eq_true rfl) rfl (fun x_3 => ?_)
    refine g_callV X (ct_X4_isThere hst (bI_t hx)) dX4_coins_6 rfl (lw_V q2134 q2136 qs54 q76 q2137) hyV_X4_isThere (fun H hH => hR.recv X.2.2.2.2.2.2.2.1 hH mW_a rfl) (fun H hH => hH) ⟨Nat.le_of_ble_eq_true rfl, Nat.le_of_ble_eq_true rfl⟩ ⟨Nat.le_of_ble_eq_true rfl, Nat.le_of_ble_eq_true rfl⟩ (Nat.le_of_ble_eq_true rfl) rfl (fun x_6 => ?_)
    refine g_if_eq (tgt := 21) X dX4_coins_9 rfl (by decide) (fun c_9 => ?_) (fun c => absurd (bI_n0.mp c) hx)
    refine g_iconst X dX4_coins_21 rfl (v := (nI 0)) rfl ?_
    refine g_iret X dX4_coins_22 rfl (Nat.le_of_ble_eq_true rfl) (Nat.le_of_ble_eq_true rfl) (fun H hH => ⟨(), rfl, hH⟩)
theorem ct_X4_rides (hst : l.stackTraces = false) (hd : mDi a ad) (hM : MR (F 0) σ) (hB : Bd σ) {x : Int32} : CM Ω l yX4_rides (ws_ yX4_rides cX4_rides 2 (some .int)) 6 0 0 [.ref a, .int x] (hR Ω (mW Ω h a ad v F)) (QP (some (.int (qA (qGu σ (guR σ) x)))) (hR Ω (mW Ω h a ad (vU v 6 (qT (qGu σ (guR σ) x))) F))) nX := by
  have b1 := hB.1
  by_cases hx : okG σ x
  · obtain ⟨j, hj, rfl⟩ := (ixI (by omega)).mp hx
    rw [qGu, cH_t hx, iN_nI (by omega)]
    refine CM.of (L := [some (.ref a), some (.int (nI j))]) hst (by decide) (Nat.le_of_ble_eq_true rfl) rfl ?_
    intro p e s m below meth c X hnm htab
    refine g_aload_n X dX4_rides_0 rfl rfl ?_
    refine g_aload_n X dX4_rides_1 rfl rfl ?_
    refine g_iload_n X dX4_rides_2 rfl rfl ?_
    refine g_callV X (ct_X4_isGuest hst hd hM) dX4_rides_3 rfl (lw_V q2012 q2014 qs31 q76 q2015) hyV_X4_isGuest (fun H hH => hR.recv X.2.2.2.2.2.2.2.1 hH mW_a rfl) (fun H hH => hH) ⟨Nat.le_of_ble_eq_true rfl, Nat.le_of_ble_eq_true rfl⟩ ⟨Nat.le_of_ble_eq_true rfl, Nat.le_of_ble_eq_true rfl⟩ (Nat.le_of_ble_eq_true rfl) rfl (fun x_3 => ?_)
    refine g_callV X (ct_X4_isThere hst (bI_f (fun g => g hx))) dX4_rides_6 rfl (lw_V q2134 q2136 qs54 q76 q2137) hyV_X4_isThere (fun H hH => hR.recv X.2.2.2.2.2.2.2.1 hH mW_a rfl) (fun H hH => hH) ⟨Nat.le_of_ble_eq_true rfl, Nat.le_of_ble_eq_true rfl⟩ ⟨Nat.le_of_ble_eq_true rfl, Nat.le_of_ble_eq_true rfl⟩ (Nat.le_of_ble_eq_true rfl) rfl (fun x_6 => ?_)
    refine g_if_eq (tgt := 21) X dX4_rides_9 rfl (by decide) (fun c => absurd hx (bI_0.mp c)) (fun c_9 => ?_)
    refine g_aload_n X dX4_rides_12 rfl rfl ?_
    refine g_iload_n X dX4_rides_13 rfl rfl ?_
    refine g_iconst X dX4_rides_14 rfl (v := (nI 1)) rfl ?_
    refine g_callV X (ct_X4_guest hst hd (by omega) (hM.2.2.2.1 j hj).2.1) dX4_rides_15 rfl (lw_V q2024 q2026 qs34 q76 q2027) hyV_X4_guest (fun H hH => hR.recv X.2.2.2.2.2.2.2.1 hH mW_a rfl) (fun H hH => hH) ⟨Nat.le_of_ble_eq_true rfl, Nat.le_of_ble_eq_true rfl⟩ ⟨Nat.le_of_ble_eq_true rfl, Nat.le_of_ble_eq_true rfl⟩ (Nat.le_of_ble_eq_true rfl) rfl (fun x_15 => ?_)
    refine g_goto (tgt := 22) X dX4_rides_18 rfl (by decide) ?_
    refine g_iret X dX4_rides_22 rfl (Nat.le_of_ble_eq_true rfl) (Nat.le_of_ble_eq_true rfl) (fun H hH => ⟨(), rfl, hH⟩)
  · rw [qGu, cH_f hx]
    refine CM.of (L := [some (.ref a), some (.int x)]) hst (by decide) (Nat.le_of_ble_eq_true rfl) rfl ?_
    intro p e s m below meth c X hnm htab
    refine g_aload_n X dX4_rides_0 rfl rfl ?_
    refine g_aload_n X dX4_rides_1 rfl rfl ?_
    refine g_iload_n X dX4_rides_2 rfl rfl ?_
    refine g_callV X (ct_X4_isGuest hst hd hM) dX4_rides_3 rfl (lw_V q2012 q2014 qs31 q76 q2015) hyV_X4_isGuest (fun H hH => hR.recv X.2.2.2.2.2.2.2.1 hH mW_a rfl) (fun H hH => hH) ⟨Nat.le_of_ble_eq_true rfl, Nat.le_of_ble_eq_true rfl⟩ ⟨Nat.le_of_ble_eq_true rfl, Nat.le_of_ble_eq_true rfl⟩ (Nat.le_of_ble_eq_true rfl) rfl (fun x_3 => ?_)
    refine g_callV X (ct_X4_isThere hst (bI_t hx)) dX4_rides_6 rfl (lw_V q2134 q2136 qs54 q76 q2137) hyV_X4_isThere (fun H hH => hR.recv X.2.2.2.2.2.2.2.1 hH mW_a rfl) (fun H hH => hH) ⟨Nat.le_of_ble_eq_true rfl, Nat.le_of_ble_eq_true rfl⟩ ⟨Nat.le_of_ble_eq_true rfl, Nat.le_of_ble_eq_true rfl⟩ (Nat.le_of_ble_eq_true rfl) rfl (fun x_6 => ?_)
    refine g_if_eq (tgt := 21) X dX4_rides_9 rfl (by decide) (fun c_9 => ?_) (fun c => absurd (bI_n0.mp c) hx)
    refine g_iconst X dX4_rides_21 rfl (v := (nI 0)) rfl ?_
    refine g_iret X dX4_rides_22 rfl (Nat.le_of_ble_eq_true rfl) (Nat.le_of_ble_eq_true rfl) (fun H hH => ⟨(), rfl, hH⟩)
theorem ct_X4_bookedGuest (hst : l.stackTraces = false) (hd : mDi a ad) (hM : MR (F 0) σ) (hB : Bd σ) {x : Int32} : CM Ω l yX4_bookedGuest (ws_ yX4_bookedGuest cX4_bookedGuest 2 (some .int)) 6 0 0 [.ref a, .int x] (hR Ω (mW Ω h a ad v F)) (QP (some (.int (qA (qBo σ (boG σ) x)))) (hR Ω (mW Ω h a ad (vU v 6 (qT (qBo σ (boG σ) x))) F))) nX := by
  have b1 := hB.1
  by_cases hx : okB σ x
  · obtain ⟨j, hj, rfl⟩ := (ixI (by omega)).mp hx
    rw [qBo, cH_t hx, iN_nI (by omega)]
    refine CM.of (L := [some (.ref a), some (.int (nI j))]) hst (by decide) (Nat.le_of_ble_eq_true rfl) rfl ?_
    intro p e s m below meth c X hnm htab
    refine g_aload_n X dX4_bookedGuest_0 rfl rfl ?_
    refine g_aload_n X dX4_bookedGuest_1 rfl rfl ?_
    refine g_iload_n X dX4_bookedGuest_2 rfl rfl ?_
    refine g_callV X (ct_X4_isBooking hst hd hM) dX4_bookedGuest_3 rfl (lw_V q2064 q2066 qs43 q76 q2067) hyV_X4_isBooking (fun H hH => hR.recv X.2.2.2.2.2.2.2.1 hH mW_a rfl) (fun H hH => hH) ⟨Nat.le_of_ble_eq_true rfl, Nat.le_of_ble_eq_true rfl⟩ ⟨Nat.le_of_ble_eq_true rfl, Nat.le_of_ble_eq_true rfl⟩ (Nat.le_of_ble_eq_true rfl) rfl (fun x_3 => ?_)
    refine g_callV X (ct_X4_isThere hst (bI_f (fun g => g hx))) dX4_bookedGuest_6 rfl (lw_V q2134 q2136 qs54 q76 q2137) hyV_X4_isThere (fun H hH => hR.recv X.2.2.2.2.2.2.2.1 hH mW_a rfl) (fun H hH => hH) ⟨Nat.le_of_ble_eq_true rfl, Nat.le_of_ble_eq_true rfl⟩ ⟨Nat.le_of_ble_eq_true rfl, Nat.le_of_ble_eq_true rfl⟩ (Nat.le_of_ble_eq_true rfl) rfl (fun x_6 => ?_)
    refine g_if_eq (tgt := 21) X dX4_bookedGuest_9 rfl (by decide) (fun c => absurd hx (bI_0.mp c)) (fun c_9 => ?_)
    refine g_aload_n X dX4_bookedGuest_12 rfl rfl ?_
    refine g_iload_n X dX4_bookedGuest_13 rfl rfl ?_
    refine g_iconst X dX4_bookedGuest_14 rfl (v := (nI 0)) rfl ?_
    refine g_callV X (ct_X4_booking hst hd (by omega) (hM.2.2.2.2.1 j hj).1) dX4_bookedGuest_15 rfl (lw_V q2036 q2038 qs37 q76 q2039) hyV_X4_booking (fun H hH => hR.recv X.2.2.2.2.2.2.2.1 hH mW_a rfl) (fun H hH => hH) ⟨Nat.le_of_ble_eq_true rfl, Nat.le_of_ble_eq_true rfl⟩ ⟨Nat.le_of_ble_eq_true rfl, Nat.le_of_ble_eq_true rfl⟩ (Nat.le_of_ble_eq_true rfl) rfl (fun x_15 => ?_)
    refine g_goto (tgt := 22) X dX4_bookedGuest_18 rfl (by decide) ?_
    refine g_iret X dX4_bookedGuest_22 rfl (Nat.le_of_ble_eq_true rfl) (Nat.le_of_ble_eq_true rfl) (fun H hH => ⟨(), rfl, hH⟩)
  · rw [qBo, cH_f hx]
    refine CM.of (L := [some (.ref a), some (.int x)]) hst (by decide) (Nat.le_of_ble_eq_true rfl) rfl ?_
    intro p e s m below meth c X hnm htab
    refine g_aload_n X dX4_bookedGuest_0 rfl rfl ?_
    refine g_aload_n X dX4_bookedGuest_1 rfl rfl ?_
    refine g_iload_n X dX4_bookedGuest_2 rfl rfl ?_
    refine g_callV X (ct_X4_isBooking hst hd hM) dX4_bookedGuest_3 rfl (lw_V q2064 q2066 qs43 q76 q2067) hyV_X4_isBooking (fun H hH => hR.recv X.2.2.2.2.2.2.2.1 hH mW_a rfl) (fun H hH => hH) ⟨Nat.le_of_ble_eq_true rfl, Nat.le_of_ble_eq_true rfl⟩ ⟨Nat.le_of_ble_eq_true rfl, Nat.le_of_ble_eq_true rfl⟩ (Nat.le_of_ble_eq_true rfl) rfl (fun x_3 => ?_)
    refine g_callV X (ct_X4_isThere hst (bI_t hx)) dX4_bookedGuest_6 rfl (lw_V q2134 q2136 qs54 q76 q2137) hyV_X4_isThere (fun H hH => hR.recv X.2.2.2.2.2.2.2.1 hH mW_a rfl) (fun H hH => hH) ⟨Nat.le_of_ble_eq_true rfl, Nat.le_of_ble_eq_true rfl⟩ ⟨Nat.le_of_ble_eq_true rfl, Nat.le_of_ble_eq_true rfl⟩ (Nat.le_of_ble_eq_true rfl) rfl (fun x_6 => ?_)
    refine g_if_eq (tgt := 21) X dX4_bookedGuest_9 rfl (by decide) (fun c_9 => ?_) (fun c => absurd (bI_n0.mp c) hx)
    refine g_iconst X dX4_bookedGuest_21 rfl (v := (nI 0)) rfl ?_
    refine g_iret X dX4_bookedGuest_22 rfl (Nat.le_of_ble_eq_true rfl) (Nat.le_of_ble_eq_true rfl) (fun H hH => ⟨(), rfl, hH⟩)
theorem ct_X4_bookedSlide (hst : l.stackTraces = false) (hd : mDi a ad) (hM : MR (F 0) σ) (hB : Bd σ) {x : Int32} : CM Ω l yX4_bookedSlide (ws_ yX4_bookedSlide cX4_bookedSlide 2 (some .int)) 6 0 0 [.ref a, .int x] (hR Ω (mW Ω h a ad v F)) (QP (some (.int (qA (qBo σ (boS σ) x)))) (hR Ω (mW Ω h a ad (vU v 6 (qT (qBo σ (boS σ) x))) F))) nX := by
  have b1 := hB.1
  by_cases hx : okB σ x
  · obtain ⟨j, hj, rfl⟩ := (ixI (by omega)).mp hx
    rw [qBo, cH_t hx, iN_nI (by omega)]
    refine CM.of (L := [some (.ref a), some (.int (nI j))]) hst (by decide) (Nat.le_of_ble_eq_true rfl) rfl ?_
    intro p e s m below meth c X hnm htab
    refine g_aload_n X dX4_bookedSlide_0 rfl rfl ?_
    refine g_aload_n X dX4_bookedSlide_1 rfl rfl ?_
    refine g_iload_n X dX4_bookedSlide_2 rfl rfl ?_
    refine g_callV X (ct_X4_isBooking hst hd hM) dX4_bookedSlide_3 rfl (lw_V q2064 q2066 qs43 q76 q2067) hyV_X4_isBooking (fun H hH => hR.recv X.2.2.2.2.2.2.2.1 hH mW_a rfl) (fun H hH => hH) ⟨Nat.le_of_ble_eq_true rfl, Nat.le_of_ble_eq_true rfl⟩ ⟨Nat.le_of_ble_eq_true rfl, Nat.le_of_ble_eq_true rfl⟩ (Nat.le_of_ble_eq_true rfl) rfl (fun x_3 => ?_)
    refine g_callV X (ct_X4_isThere hst (bI_f (fun g => g hx))) dX4_bookedSlide_6 rfl (lw_V q2134 q2136 qs54 q76 q2137) hyV_X4_isThere (fun H hH => hR.recv X.2.2.2.2.2.2.2.1 hH mW_a rfl) (fun H hH => hH) ⟨Nat.le_of_ble_eq_true rfl, Nat.le_of_ble_eq_true rfl⟩ ⟨Nat.le_of_ble_eq_true rfl, Nat.le_of_ble_eq_true rfl⟩ (Nat.le_of_ble_eq_true rfl) rfl (fun x_6 => ?_)
    refine g_if_eq (tgt := 21) X dX4_bookedSlide_9 rfl (by decide) (fun c => absurd hx (bI_0.mp c)) (fun c_9 => ?_)
    refine g_aload_n X dX4_bookedSlide_12 rfl rfl ?_
    refine g_iload_n X dX4_bookedSlide_13 rfl rfl ?_
    refine g_iconst X dX4_bookedSlide_14 rfl (v := (nI 1)) rfl ?_
    refine g_callV X (ct_X4_booking hst hd (by omega) (hM.2.2.2.2.1 j hj).2.1) dX4_bookedSlide_15 rfl (lw_V q2036 q2038 qs37 q76 q2039) hyV_X4_booking (fun H hH => hR.recv X.2.2.2.2.2.2.2.1 hH mW_a rfl) (fun H hH => hH) ⟨Nat.le_of_ble_eq_true rfl, Nat.le_of_ble_eq_true rfl⟩ ⟨Nat.le_of_ble_eq_true rfl, Nat.le_of_ble_eq_true rfl⟩ (Nat.le_of_ble_eq_true rfl) rfl (fun x_15 => ?_)
    refine g_goto (tgt := 22) X dX4_bookedSlide_18 rfl (by decide) ?_
    refine g_iret X dX4_bookedSlide_22 rfl (Nat.le_of_ble_eq_true rfl) (Nat.le_of_ble_eq_true rfl) (fun H hH => ⟨(), rfl, hH⟩)
  · rw [qBo, cH_f hx]
    refine CM.of (L := [some (.ref a), some (.int x)]) hst (by decide) (Nat.le_of_ble_eq_true rfl) rfl ?_
    intro p e s m below meth c X hnm htab
    refine g_aload_n X dX4_bookedSlide_0 rfl rfl ?_
    refine g_aload_n X dX4_bookedSlide_1 rfl rfl ?_
    refine g_iload_n X dX4_bookedSlide_2 rfl rfl ?_
    refine g_callV X (ct_X4_isBooking hst hd hM) dX4_bookedSlide_3 rfl (lw_V q2064 q2066 qs43 q76 q2067) hyV_X4_isBooking (fun H hH => hR.recv X.2.2.2.2.2.2.2.1 hH mW_a rfl) (fun H hH => hH) ⟨Nat.le_of_ble_eq_true rfl, Nat.le_of_ble_eq_true rfl⟩ ⟨Nat.le_of_ble_eq_true rfl, Nat.le_of_ble_eq_true rfl⟩ (Nat.le_of_ble_eq_true rfl) rfl (fun x_3 => ?_)
    refine g_callV X (ct_X4_isThere hst (bI_t hx)) dX4_bookedSlide_6 rfl (lw_V q2134 q2136 qs54 q76 q2137) hyV_X4_isThere (fun H hH => hR.recv X.2.2.2.2.2.2.2.1 hH mW_a rfl) (fun H hH => hH) ⟨Nat.le_of_ble_eq_true rfl, Nat.le_of_ble_eq_true rfl⟩ ⟨Nat.le_of_ble_eq_true rfl, Nat.le_of_ble_eq_true rfl⟩ (Nat.le_of_ble_eq_true rfl) rfl (fun x_6 => ?_)
    refine g_if_eq (tgt := 21) X dX4_bookedSlide_9 rfl (by decide) (fun c_9 => ?_) (fun c => absurd (bI_n0.mp c) hx)
    refine g_iconst X dX4_bookedSlide_21 rfl (v := (nI 0)) rfl ?_
    refine g_iret X dX4_bookedSlide_22 rfl (Nat.le_of_ble_eq_true rfl) (Nat.le_of_ble_eq_true rfl) (fun H hH => ⟨(), rfl, hH⟩)
theorem ct_X4_start (hst : l.stackTraces = false) (hd : mDi a ad) (hM : MR (F 0) σ) (hB : Bd σ) {x : Int32} : CM Ω l yX4_start (ws_ yX4_start cX4_start 2 (some .int)) 6 0 0 [.ref a, .int x] (hR Ω (mW Ω h a ad v F)) (QP (some (.int (qA (qBo σ (boT σ) x)))) (hR Ω (mW Ω h a ad (vU v 6 (qT (qBo σ (boT σ) x))) F))) nX := by
  have b1 := hB.1
  by_cases hx : okB σ x
  · obtain ⟨j, hj, rfl⟩ := (ixI (by omega)).mp hx
    rw [qBo, cH_t hx, iN_nI (by omega)]
    refine CM.of (L := [some (.ref a), some (.int (nI j))]) hst (by decide) (Nat.le_of_ble_eq_true rfl) rfl ?_
    intro p e s m below meth c X hnm htab
    refine g_aload_n X dX4_start_0 rfl rfl ?_
    refine g_aload_n X dX4_start_1 rfl rfl ?_
    refine g_iload_n X dX4_start_2 rfl rfl ?_
    refine g_callV X (ct_X4_isBooking hst hd hM) dX4_start_3 rfl (lw_V q2064 q2066 qs43 q76 q2067) hyV_X4_isBooking (fun H hH => hR.recv X.2.2.2.2.2.2.2.1 hH mW_a rfl) (fun H hH => hH) ⟨Nat.le_of_ble_eq_true rfl, Nat.le_of_ble_eq_true rfl⟩ ⟨Nat.le_of_ble_eq_true rfl, Nat.le_of_ble_eq_true rfl⟩ (Nat.le_of_ble_eq_true rfl) rfl (fun x_3 => ?_)
    refine g_callV X (ct_X4_isThere hst (bI_f (fun g => g hx))) dX4_start_6 rfl (lw_V q2134 q2136 qs54 q76 q2137) hyV_X4_isThere (fun H hH => hR.recv X.2.2.2.2.2.2.2.1 hH mW_a rfl) (fun H hH => hH) ⟨Nat.le_of_ble_eq_true rfl, Nat.le_of_ble_eq_true rfl⟩ ⟨Nat.le_of_ble_eq_true rfl, Nat.le_of_ble_eq_true rfl⟩ (Nat.le_of_ble_eq_true rfl) rfl (fun x_6 => ?_)
    refine g_if_eq (tgt := 20) X dX4_start_9 rfl (by decide) (fun c => absurd hx (bI_0.mp c)) (fun c_9 => ?_)
    refine g_aload_n X dX4_start_12 rfl rfl ?_
    refine g_iload_n X dX4_start_13 rfl rfl ?_
    refine g_callV X (ct_X4_startOf hst hd hM hB hj) dX4_start_14 rfl (lw_V q2040 q2042 qs38 q76 q2043) hyV_X4_startOf (fun H hH => hR.recv X.2.2.2.2.2.2.2.1 hH mW_a rfl) (fun H hH => hH) ⟨Nat.le_of_ble_eq_true rfl, Nat.le_of_ble_eq_true rfl⟩ ⟨Nat.le_of_ble_eq_true rfl, Nat.le_of_ble_eq_true rfl⟩ (Nat.le_of_ble_eq_true rfl) rfl (fun x_14 => ?_)
    refine g_goto (tgt := 21) X dX4_start_17 rfl (by decide) ?_
    refine g_iret X dX4_start_21 rfl (Nat.le_of_ble_eq_true rfl) (Nat.le_of_ble_eq_true rfl) (fun H hH => ⟨(), rfl, hH⟩)
  · rw [qBo, cH_f hx]
    refine CM.of (L := [some (.ref a), some (.int x)]) hst (by decide) (Nat.le_of_ble_eq_true rfl) rfl ?_
    intro p e s m below meth c X hnm htab
    refine g_aload_n X dX4_start_0 rfl rfl ?_
    refine g_aload_n X dX4_start_1 rfl rfl ?_
    refine g_iload_n X dX4_start_2 rfl rfl ?_
    refine g_callV X (ct_X4_isBooking hst hd hM) dX4_start_3 rfl (lw_V q2064 q2066 qs43 q76 q2067) hyV_X4_isBooking (fun H hH => hR.recv X.2.2.2.2.2.2.2.1 hH mW_a rfl) (fun H hH => hH) ⟨Nat.le_of_ble_eq_true rfl, Nat.le_of_ble_eq_true rfl⟩ ⟨Nat.le_of_ble_eq_true rfl, Nat.le_of_ble_eq_true rfl⟩ (Nat.le_of_ble_eq_true rfl) rfl (fun x_3 => ?_)
    refine g_callV X (ct_X4_isThere hst (bI_t hx)) dX4_start_6 rfl (lw_V q2134 q2136 qs54 q76 q2137) hyV_X4_isThere (fun H hH => hR.recv X.2.2.2.2.2.2.2.1 hH mW_a rfl) (fun H hH => hH) ⟨Nat.le_of_ble_eq_true rfl, Nat.le_of_ble_eq_true rfl⟩ ⟨Nat.le_of_ble_eq_true rfl, Nat.le_of_ble_eq_true rfl⟩ (Nat.le_of_ble_eq_true rfl) rfl (fun x_6 => ?_)
    refine g_if_eq (tgt := 20) X dX4_start_9 rfl (by decide) (fun c_9 => ?_) (fun c => absurd (bI_n0.mp c) hx)
    refine g_iconst X dX4_start_20 rfl (v := (nI 0)) rfl ?_
    refine g_iret X dX4_start_21 rfl (Nat.le_of_ble_eq_true rfl) (Nat.le_of_ble_eq_true rfl) (fun H hH => ⟨(), rfl, hH⟩)
end M2
