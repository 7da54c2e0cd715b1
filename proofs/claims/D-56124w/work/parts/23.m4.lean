/-! MODEL, more questions -/
section M4
variable {l : Launch} {Ω : Om} {h : RH} {a : Nat} {ad : Nat → Nat} {v : Nat → Int32} {F : Nat → Nat → Int32} {σ : St}
set_option maxRecDepth 100000
theorem ct_X4_rider (hst : l.stackTraces = false) (hd : mDi a ad) (hM : MR (F 0) σ) (hB : Bd σ) {x : Int32} : CM Ω l yX4_rider (ws_ yX4_rider cX4_rider 3 (some .int)) 10 0 0 [.ref a, .int x] (hR Ω (mW Ω h a ad v F)) (QP (some (.int (qA (qRider σ x)))) (hR Ω (mW Ω h a ad (vU v 6 (qT (qRider σ x))) F))) nX := by
  have b1 := hB.1
  by_cases hx : okS σ x
  · obtain ⟨j, hj, rfl⟩ := (ixI (by omega)).mp hx
    rw [qRider, cH_t hx, iN_nI (by omega)]
    have hor := lst_or (fun k => boS σ k = j ∧ boT σ k ≤ sM σ ∧ sM σ < boE σ k) (-1) (nB σ)
    by_cases hb : aBusy σ j (sM σ)
    · rw [cH_t hb]
      rcases hor with ⟨h1, -⟩ | ⟨k, hk, -, h3⟩
      · exact absurd hb h1
      · have h4 : aDur σ j (sM σ) = nI k := h3
        rw [h4, iN_nI (by omega)]
        have e5 := hM.2.2.2.2.1 k hk
        refine CM.of (L := [some (.ref a), some (.int (nI j)), none]) hst (by decide) (Nat.le_of_ble_eq_true rfl) rfl ?_
        intro p e s m below meth c X hnm htab
        refine g_aload_n X dX4_rider_0 rfl rfl ?_
        refine g_iload_n X dX4_rider_1 rfl rfl ?_
        refine g_callV X (ct_X4_isSlide hst hd hM) dX4_rider_2 rfl (lw_V q2016 q2018 qs32 q76 q2019) hyV_X4_isSlide (fun H hH => hR.recv X.2.2.2.2.2.2.2.1 hH mW_a rfl) (fun H hH => hH) ⟨Nat.le_of_ble_eq_true rfl, Nat.le_of_ble_eq_true rfl⟩ ⟨Nat.le_of_ble_eq_true rfl, Nat.le_of_ble_eq_true rfl⟩ (Nat.le_of_ble_eq_true rfl) rfl (fun x_2 => ?_)
        refine g_if_eq (tgt := 22) X dX4_rider_5 rfl (by decide) (fun c => absurd hx (bI_0.mp c)) (fun c_5 => ?_)
        refine g_aload_n X dX4_rider_8 rfl rfl ?_
        refine g_iload_n X dX4_rider_9 rfl rfl ?_
        refine g_aload_n X dX4_rider_10 rfl rfl ?_
        refine g_get X dX4_rider_11 rfl in_X4 (ci := 3) rfl 0 (by decide) q1916 (fun _ h => h) mW_a rfl ?_
        refine g_iconst X dX4_rider_14 rfl (v := (nI 3)) rfl ?_
        refine g_ial X dX4_rider_15 rfl (mW_0 hd) (vp_in_nI (by omega) (by decide)) (ix_v (by omega) hM.1.2.2.2.1) ?_
        refine g_callV X (ct_X4_during hst hd hM hB (by omega) (by omega)) dX4_rider_16 rfl (lw_V q2108 q2110 qs51 q76 q2111) hyV_X4_during (fun H hH => hR.recv X.2.2.2.2.2.2.2.1 hH mW_a rfl) (fun H hH => hH) ⟨Nat.le_of_ble_eq_true rfl, Nat.le_of_ble_eq_true rfl⟩ ⟨Nat.le_of_ble_eq_true rfl, Nat.le_of_ble_eq_true rfl⟩ (Nat.le_of_ble_eq_true rfl) rfl (fun x_16 => ?_)
        refine g_goto (tgt := 23) X dX4_rider_19 rfl (by decide) ?_
        refine g_istore_n X dX4_rider_23 rfl (by decide) rfl rfl ?_
        refine g_aload_n X dX4_rider_24 rfl rfl ?_
        refine g_aload_n X dX4_rider_25 rfl rfl ?_
        refine g_iload_n X dX4_rider_26 rfl rfl ?_
        refine g_callV X (ct_X4_isSlide hst hd hM) dX4_rider_27 rfl (lw_V q2016 q2018 qs32 q76 q2019) hyV_X4_isSlide (fun H hH => hR.recv X.2.2.2.2.2.2.2.1 hH mW_a rfl) (fun H hH => hH) ⟨Nat.le_of_ble_eq_true rfl, Nat.le_of_ble_eq_true rfl⟩ ⟨Nat.le_of_ble_eq_true rfl, Nat.le_of_ble_eq_true rfl⟩ (Nat.le_of_ble_eq_true rfl) rfl (fun x_27 => ?_)
        refine g_if_ne (tgt := 37) X dX4_rider_30 rfl (by decide) (fun c_30 => ?_) (fun c => absurd hx (bI_0.mp c))
        rw [h4]
        refine g_iload_n X dX4_rider_37 rfl rfl ?_
        refine g_if_ge (tgt := 45) X dX4_rider_38 rfl (by decide) (fun c_38 => ?_) (fun c => absurd (nI_pos' (by omega)) c)
        refine g_iconst X dX4_rider_45 rfl (v := (nI 0)) rfl ?_
        refine g_put X dX4_rider_46 rfl in_X4 tyX4_ok nmX4 (ci := 3) rfl 6 (by decide) q1922 (fun _ h => h) rfl rfl rfl rfl mW_a (Nat.le_of_ble_eq_true rfl) mW_u6 ?_
        refine g_aload_n X dX4_rider_49 rfl rfl ?_
        refine g_get X dX4_rider_50 rfl in_X4 (ci := 3) rfl 6 (by decide) q1922 (fun _ h => h) mW_a rfl ?_
        refine g_if_le (tgt := 60) X dX4_rider_53 rfl (by decide) (fun c_53 => ?_) (fun c => absurd (by rw [vU_s]; decide) c)
        refine g_aload_n X dX4_rider_60 rfl rfl ?_
        refine g_iload_n X dX4_rider_61 rfl rfl ?_
        refine g_iconst X dX4_rider_62 rfl (v := (nI 0)) rfl ?_
        refine g_callV X (ct_X4_booking hst hd (by omega) e5.1) dX4_rider_63 rfl (lw_V q2036 q2038 qs37 q76 q2039) hyV_X4_booking (fun H hH => hR.recv X.2.2.2.2.2.2.2.1 hH mW_a rfl) (fun H hH => hH) ⟨Nat.le_of_ble_eq_true rfl, Nat.le_of_ble_eq_true rfl⟩ ⟨Nat.le_of_ble_eq_true rfl, Nat.le_of_ble_eq_true rfl⟩ (Nat.le_of_ble_eq_true rfl) rfl (fun x_63 => ?_)
        refine g_iret X dX4_rider_66 rfl (Nat.le_of_ble_eq_true rfl) (Nat.le_of_ble_eq_true rfl) (fun H hH => ⟨(), rfl, hH⟩)
    · rw [cH_f hb]
      rcases hor with ⟨-, h3⟩ | ⟨k, hk, h2, -⟩
      · have h4 : aDur σ j (sM σ) = -1 := h3
        refine CM.of (L := [some (.ref a), some (.int (nI j)), none]) hst (by decide) (Nat.le_of_ble_eq_true rfl) rfl ?_
        intro p e s m below meth c X hnm htab
        refine g_aload_n X dX4_rider_0 rfl rfl ?_
        refine g_iload_n X dX4_rider_1 rfl rfl ?_
        refine g_callV X (ct_X4_isSlide hst hd hM) dX4_rider_2 rfl (lw_V q2016 q2018 qs32 q76 q2019) hyV_X4_isSlide (fun H hH => hR.recv X.2.2.2.2.2.2.2.1 hH mW_a rfl) (fun H hH => hH) ⟨Nat.le_of_ble_eq_true rfl, Nat.le_of_ble_eq_true rfl⟩ ⟨Nat.le_of_ble_eq_true rfl, Nat.le_of_ble_eq_true rfl⟩ (Nat.le_of_ble_eq_true rfl) rfl (fun x_2 => ?_)
        refine g_if_eq (tgt := 22) X dX4_rider_5 rfl (by decide) (fun c => absurd hx (bI_0.mp c)) (fun c_5 => ?_)
        refine g_aload_n X dX4_rider_8 rfl rfl ?_
        refine g_iload_n X dX4_rider_9 rfl rfl ?_
        refine g_aload_n X dX4_rider_10 rfl rfl ?_
        refine g_get X dX4_rider_11 rfl in_X4 (ci := 3) rfl 0 (by decide) q1916 (fun _ h => h) mW_a rfl ?_
        refine g_iconst X dX4_rider_14 rfl (v := (nI 3)) rfl ?_
        refine g_ial X dX4_rider_15 rfl (mW_0 hd) (vp_in_nI (by omega) (by decide)) (ix_v (by omega) hM.1.2.2.2.1) ?_
        refine g_callV X (ct_X4_during hst hd hM hB (by omega) (by omega)) dX4_rider_16 rfl (lw_V q2108 q2110 qs51 q76 q2111) hyV_X4_during (fun H hH => hR.recv X.2.2.2.2.2.2.2.1 hH mW_a rfl) (fun H hH => hH) ⟨Nat.le_of_ble_eq_true rfl, Nat.le_of_ble_eq_true rfl⟩ ⟨Nat.le_of_ble_eq_true rfl, Nat.le_of_ble_eq_true rfl⟩ (Nat.le_of_ble_eq_true rfl) rfl (fun x_16 => ?_)
        refine g_goto (tgt := 23) X dX4_rider_19 rfl (by decide) ?_
        refine g_istore_n X dX4_rider_23 rfl (by decide) rfl rfl ?_
        refine g_aload_n X dX4_rider_24 rfl rfl ?_
        refine g_aload_n X dX4_rider_25 rfl rfl ?_
        refine g_iload_n X dX4_rider_26 rfl rfl ?_
        refine g_callV X (ct_X4_isSlide hst hd hM) dX4_rider_27 rfl (lw_V q2016 q2018 qs32 q76 q2019) hyV_X4_isSlide (fun H hH => hR.recv X.2.2.2.2.2.2.2.1 hH mW_a rfl) (fun H hH => hH) ⟨Nat.le_of_ble_eq_true rfl, Nat.le_of_ble_eq_true rfl⟩ ⟨Nat.le_of_ble_eq_true rfl, Nat.le_of_ble_eq_true rfl⟩ (Nat.le_of_ble_eq_true rfl) rfl (fun x_27 => ?_)
        refine g_if_ne (tgt := 37) X dX4_rider_30 rfl (by decide) (fun c_30 => ?_) (fun c => absurd hx (bI_0.mp c))
        rw [h4]
        refine g_iload_n X dX4_rider_37 rfl rfl ?_
        refine g_if_ge (tgt := 45) X dX4_rider_38 rfl (by decide) (fun c => absurd c (by decide)) (fun c_38 => ?_)
        refine g_iconst X dX4_rider_41 rfl (v := (nI 2)) rfl ?_
        refine g_goto (tgt := 46) X dX4_rider_42 rfl (by decide) ?_
        refine g_put X dX4_rider_46 rfl in_X4 tyX4_ok nmX4 (ci := 3) rfl 6 (by decide) q1922 (fun _ h => h) rfl rfl rfl rfl mW_a (Nat.le_of_ble_eq_true rfl) mW_u6 ?_
        refine g_aload_n X dX4_rider_49 rfl rfl ?_
        refine g_get X dX4_rider_50 rfl in_X4 (ci := 3) rfl 6 (by decide) q1922 (fun _ h => h) mW_a rfl ?_
        refine g_if_le (tgt := 60) X dX4_rider_53 rfl (by decide) (fun c => absurd c (by rw [vU_s]; decide)) (fun c_53 => ?_)
        refine g_iconst X dX4_rider_56 rfl (v := (nI 0)) rfl ?_
        refine g_goto (tgt := 66) X dX4_rider_57 rfl (by decide) ?_
        refine g_iret X dX4_rider_66 rfl (Nat.le_of_ble_eq_true rfl) (Nat.le_of_ble_eq_true rfl) (fun H hH => ⟨(), rfl, hH⟩)
      · exact absurd ⟨k, hk, h2⟩ hb
  · rw [qRider, cH_f hx]
    refine CM.of (L := [some (.ref a), some (.int x), none]) hst (by decide) (Nat.le_of_ble_eq_true rfl) rfl ?_
    intro p e s m below meth c X hnm htab
    refine g_aload_n X dX4_rider_0 rfl rfl ?_
    refine g_iload_n X dX4_rider_1 rfl rfl ?_
    refine g_callV X (ct_X4_isSlide hst hd hM) dX4_rider_2 rfl (lw_V q2016 q2018 qs32 q76 q2019) hyV_X4_isSlide (fun H hH => hR.recv X.2.2.2.2.2.2.2.1 hH mW_a rfl) (fun H hH => hH) ⟨Nat.le_of_ble_eq_true rfl, Nat.le_of_ble_eq_true rfl⟩ ⟨Nat.le_of_ble_eq_true rfl, Nat.le_of_ble_eq_true rfl⟩ (Nat.le_of_ble_eq_true rfl) rfl (fun x_2 => ?_)
    refine g_if_eq (tgt := 22) X dX4_rider_5 rfl (by decide) (fun c_5 => ?_) (fun c => absurd (bI_n0.mp c) hx)
    refine g_iconst X dX4_rider_22 rfl (v := (-1)) rfl ?_
    refine g_istore_n X dX4_rider_23 rfl (by decide) rfl rfl ?_
    refine g_aload_n X dX4_rider_24 rfl rfl ?_
    refine g_aload_n X dX4_rider_25 rfl rfl ?_
    refine g_iload_n X dX4_rider_26 rfl rfl ?_
    refine g_callV X (ct_X4_isSlide hst hd hM) dX4_rider_27 rfl (lw_V q2016 q2018 qs32 q76 q2019) hyV_X4_isSlide (fun H hH => hR.recv X.2.2.2.2.2.2.2.1 hH mW_a rfl) (fun H hH => hH) ⟨Nat.le_of_ble_eq_true rfl, Nat.le_of_ble_eq_true rfl⟩ ⟨Nat.le_of_ble_eq_true rfl, Nat.le_of_ble_eq_true rfl⟩ (Nat.le_of_ble_eq_true rfl) rfl (fun x_27 => ?_)
    refine g_if_ne (tgt := 37) X dX4_rider_30 rfl (by decide) (fun c => absurd (bI_n0.mp c) hx) (fun c_30 => ?_)
    refine g_iconst X dX4_rider_33 rfl (v := (nI 1)) rfl ?_
    refine g_goto (tgt := 46) X dX4_rider_34 rfl (by decide) ?_
    refine g_put X dX4_rider_46 rfl in_X4 tyX4_ok nmX4 (ci := 3) rfl 6 (by decide) q1922 (fun _ h => h) rfl rfl rfl rfl mW_a (Nat.le_of_ble_eq_true rfl) mW_u6 ?_
    refine g_aload_n X dX4_rider_49 rfl rfl ?_
    refine g_get X dX4_rider_50 rfl in_X4 (ci := 3) rfl 6 (by decide) q1922 (fun _ h => h) mW_a rfl ?_
    refine g_if_le (tgt := 60) X dX4_rider_53 rfl (by decide) (fun c => absurd c (by rw [vU_s]; decide)) (fun c_53 => ?_)
    refine g_iconst X dX4_rider_56 rfl (v := (nI 0)) rfl ?_
    refine g_goto (tgt := 66) X dX4_rider_57 rfl (by decide) ?_
    refine g_iret X dX4_rider_66 rfl (Nat.le_of_ble_eq_true rfl) (Nat.le_of_ble_eq_true rfl) (fun H hH => ⟨(), rfl, hH⟩)
theorem ct_X4_queueOf (hst : l.stackTraces = false) (hd : mDi a ad) (hM : MR (F 0) σ) (hB : Bd σ) {x : Int32} : CM Ω l yX4_queueOf (ws_ yX4_queueOf cX4_queueOf 2 (some .int)) 10 0 0 [.ref a, .int x] (hR Ω (mW Ω h a ad v F)) (QP (some (.int (qA (qQue σ x)))) (hR Ω (mW Ω h a ad (vU v 6 (qT (qQue σ x))) F))) nX := by
  have b1 := hB.1
  by_cases hx : okG σ x
  · obtain ⟨j, hj, rfl⟩ := (ixI (by omega)).mp hx
    rw [qQue, cH_t hx, iN_nI (by omega)]
    have e5 := hM.2.2.2.1 j hj
    have hw : wai σ j ≤ 4 := wai_le
    by_cases hb : wai σ j = 0
    · rw [cH_t hb]
      have e6 := e5.2.2
      rw [hb] at e6
      refine CM.of (L := [some (.ref a), some (.int (nI j))]) hst (by decide) (Nat.le_of_ble_eq_true rfl) rfl ?_
      intro p e s m below meth c X hnm htab
      refine g_aload_n X dX4_queueOf_0 rfl rfl ?_
      refine g_aload_n X dX4_queueOf_1 rfl rfl ?_
      refine g_iload_n X dX4_queueOf_2 rfl rfl ?_
      refine g_callV X (ct_X4_isGuest hst hd hM) dX4_queueOf_3 rfl (lw_V q2012 q2014 qs31 q76 q2015) hyV_X4_isGuest (fun H hH => hR.recv X.2.2.2.2.2.2.2.1 hH mW_a rfl) (fun H hH => hH) ⟨Nat.le_of_ble_eq_true rfl, Nat.le_of_ble_eq_true rfl⟩ ⟨Nat.le_of_ble_eq_true rfl, Nat.le_of_ble_eq_true rfl⟩ (Nat.le_of_ble_eq_true rfl) rfl (fun x_3 => ?_)
      refine g_if_ne (tgt := 13) X dX4_queueOf_6 rfl (by decide) (fun c_6 => ?_) (fun c => absurd hx (bI_0.mp c))
      refine g_aload_n X dX4_queueOf_13 rfl rfl ?_
      refine g_iload_n X dX4_queueOf_14 rfl rfl ?_
      refine g_iconst X dX4_queueOf_15 rfl (v := (nI 2)) rfl ?_
      refine g_callV X (ct_X4_guest hst hd (by omega) e6) dX4_queueOf_16 rfl (lw_V q2024 q2026 qs34 q76 q2027) hyV_X4_guest (fun H hH => hR.recv X.2.2.2.2.2.2.2.1 hH mW_a rfl) (fun H hH => hH) ⟨Nat.le_of_ble_eq_true rfl, Nat.le_of_ble_eq_true rfl⟩ ⟨Nat.le_of_ble_eq_true rfl, Nat.le_of_ble_eq_true rfl⟩ (Nat.le_of_ble_eq_true rfl) rfl (fun x_16 => ?_)
      refine g_if_ne (tgt := 26) X dX4_queueOf_19 rfl (by decide) (fun c => absurd rfl c) (fun c_19 => ?_)
      refine g_iconst X dX4_queueOf_22 rfl (v := (nI 2)) rfl ?_
      refine g_goto (tgt := 27) X dX4_queueOf_23 rfl (by decide) ?_
      refine g_put X dX4_queueOf_27 rfl in_X4 tyX4_ok nmX4 (ci := 3) rfl 6 (by decide) q1922 (fun _ h => h) rfl rfl rfl rfl mW_a (Nat.le_of_ble_eq_true rfl) mW_u6 ?_
      refine g_aload_n X dX4_queueOf_30 rfl rfl ?_
      refine g_get X dX4_queueOf_31 rfl in_X4 (ci := 3) rfl 6 (by decide) q1922 (fun _ h => h) mW_a rfl ?_
      refine g_if_le (tgt := 41) X dX4_queueOf_34 rfl (by decide) (fun c => absurd c (by rw [vU_s]; decide)) (fun c_34 => ?_)
      refine g_iconst X dX4_queueOf_37 rfl (v := (nI 0)) rfl ?_
      refine g_goto (tgt := 49) X dX4_queueOf_38 rfl (by decide) ?_
      refine g_iret X dX4_queueOf_49 rfl (Nat.le_of_ble_eq_true rfl) (Nat.le_of_ble_eq_true rfl) (fun H hH => ⟨(), rfl, hH⟩)
    · rw [cH_f hb]
      refine CM.of (L := [some (.ref a), some (.int (nI j))]) hst (by decide) (Nat.le_of_ble_eq_true rfl) rfl ?_
      intro p e s m below meth c X hnm htab
      refine g_aload_n X dX4_queueOf_0 rfl rfl ?_
      refine g_aload_n X dX4_queueOf_1 rfl rfl ?_
      refine g_iload_n X dX4_queueOf_2 rfl rfl ?_
      refine g_callV X (ct_X4_isGuest hst hd hM) dX4_queueOf_3 rfl (lw_V q2012 q2014 qs31 q76 q2015) hyV_X4_isGuest (fun H hH => hR.recv X.2.2.2.2.2.2.2.1 hH mW_a rfl) (fun H hH => hH) ⟨Nat.le_of_ble_eq_true rfl, Nat.le_of_ble_eq_true rfl⟩ ⟨Nat.le_of_ble_eq_true rfl, Nat.le_of_ble_eq_true rfl⟩ (Nat.le_of_ble_eq_true rfl) rfl (fun x_3 => ?_)
      refine g_if_ne (tgt := 13) X dX4_queueOf_6 rfl (by decide) (fun c_6 => ?_) (fun c => absurd hx (bI_0.mp c))
      refine g_aload_n X dX4_queueOf_13 rfl rfl ?_
      refine g_iload_n X dX4_queueOf_14 rfl rfl ?_
      refine g_iconst X dX4_queueOf_15 rfl (v := (nI 2)) rfl ?_
      refine g_callV X (ct_X4_guest hst hd (by omega) e5.2.2) dX4_queueOf_16 rfl (lw_V q2024 q2026 qs34 q76 q2027) hyV_X4_guest (fun H hH => hR.recv X.2.2.2.2.2.2.2.1 hH mW_a rfl) (fun H hH => hH) ⟨Nat.le_of_ble_eq_true rfl, Nat.le_of_ble_eq_true rfl⟩ ⟨Nat.le_of_ble_eq_true rfl, Nat.le_of_ble_eq_true rfl⟩ (Nat.le_of_ble_eq_true rfl) rfl (fun x_16 => ?_)
      refine g_if_ne (tgt := 26) X dX4_queueOf_19 rfl (by decide) (fun c_19 => ?_) (fun c => absurd ((nI_c0 (by omega)).mp c) hb)
      refine g_iconst X dX4_queueOf_26 rfl (v := (nI 0)) rfl ?_
      refine g_put X dX4_queueOf_27 rfl in_X4 tyX4_ok nmX4 (ci := 3) rfl 6 (by decide) q1922 (fun _ h => h) rfl rfl rfl rfl mW_a (Nat.le_of_ble_eq_true rfl) mW_u6 ?_
      refine g_aload_n X dX4_queueOf_30 rfl rfl ?_
      refine g_get X dX4_queueOf_31 rfl in_X4 (ci := 3) rfl 6 (by decide) q1922 (fun _ h => h) mW_a rfl ?_
      refine g_if_le (tgt := 41) X dX4_queueOf_34 rfl (by decide) (fun c_34 => ?_) (fun c => absurd (by rw [vU_s]; decide) c)
      refine g_aload_n X dX4_queueOf_41 rfl rfl ?_
      refine g_iload_n X dX4_queueOf_42 rfl rfl ?_
      refine g_iconst X dX4_queueOf_43 rfl (v := (nI 2)) rfl ?_
      refine g_callV X (ct_X4_guest hst hd (by omega) e5.2.2) dX4_queueOf_44 rfl (lw_V q2024 q2026 qs34 q76 q2027) hyV_X4_guest (fun H hH => hR.recv X.2.2.2.2.2.2.2.1 hH mW_a rfl) (fun H hH => hH) ⟨Nat.le_of_ble_eq_true rfl, Nat.le_of_ble_eq_true rfl⟩ ⟨Nat.le_of_ble_eq_true rfl, Nat.le_of_ble_eq_true rfl⟩ (Nat.le_of_ble_eq_true rfl) rfl (fun x_44 => ?_)
      refine g_iconst X dX4_queueOf_47 rfl (v := (nI 1)) rfl ?_
      refine g_isub X dX4_queueOf_48 rfl (pk_sub (by omega)) ?_
      refine g_iret X dX4_queueOf_49 rfl (Nat.le_of_ble_eq_true rfl) (Nat.le_of_ble_eq_true rfl) (fun H hH => ⟨(), rfl, hH⟩)
  · rw [qQue, cH_f hx]
    refine CM.of (L := [some (.ref a), some (.int x)]) hst (by decide) (Nat.le_of_ble_eq_true rfl) rfl ?_
    intro p e s m below meth c X hnm htab
    refine g_aload_n X dX4_queueOf_0 rfl rfl ?_
    refine g_aload_n X dX4_queueOf_1 rfl rfl ?_
    refine g_iload_n X dX4_queueOf_2 rfl rfl ?_
    refine g_callV X (ct_X4_isGuest hst hd hM) dX4_queueOf_3 rfl (lw_V q2012 q2014 qs31 q76 q2015) hyV_X4_isGuest (fun H hH => hR.recv X.2.2.2.2.2.2.2.1 hH mW_a rfl) (fun H hH => hH) ⟨Nat.le_of_ble_eq_true rfl, Nat.le_of_ble_eq_true rfl⟩ ⟨Nat.le_of_ble_eq_true rfl, Nat.le_of_ble_eq_true rfl⟩ (Nat.le_of_ble_eq_true rfl) rfl (fun x_3 => ?_)
    refine g_if_ne (tgt := 13) X dX4_queueOf_6 rfl (by decide) (fun c => absurd (bI_n0.mp c) hx) (fun c_6 => ?_)
    refine g_iconst X dX4_queueOf_9 rfl (v := (nI 1)) rfl ?_
    refine g_goto (tgt := 27) X dX4_queueOf_10 rfl (by decide) ?_
    refine g_put X dX4_queueOf_27 rfl in_X4 tyX4_ok nmX4 (ci := 3) rfl 6 (by decide) q1922 (fun _ h => h) rfl rfl rfl rfl mW_a (Nat.le_of_ble_eq_true rfl) mW_u6 ?_
    refine g_aload_n X dX4_queueOf_30 rfl rfl ?_
    refine g_get X dX4_queueOf_31 rfl in_X4 (ci := 3) rfl 6 (by decide) q1922 (fun _ h => h) mW_a rfl ?_
    refine g_if_le (tgt := 41) X dX4_queueOf_34 rfl (by decide) (fun c => absurd c (by rw [vU_s]; decide)) (fun c_34 => ?_)
    refine g_iconst X dX4_queueOf_37 rfl (v := (nI 0)) rfl ?_
    refine g_goto (tgt := 49) X dX4_queueOf_38 rfl (by decide) ?_
    refine g_iret X dX4_queueOf_49 rfl (Nat.le_of_ble_eq_true rfl) (Nat.le_of_ble_eq_true rfl) (fun H hH => ⟨(), rfl, hH⟩)
theorem ct_X4_queuedGuest (hst : l.stackTraces = false) (hd : mDi a ad) (hM : MR (F 0) σ) (hB : Bd σ) {x y : Int32} : CM Ω l yX4_queuedGuest (ws_ yX4_queuedGuest cX4_queuedGuest 3 (some .int)) 10 0 0 [.ref a, .int x, .int y] (hR Ω (mW Ω h a ad v F)) (QP (some (.int (qA (qQgu σ x y)))) (hR Ω (mW Ω h a ad (vU v 6 (qT (qQgu σ x y))) F))) nX := by
  have b1 := hB.1
  by_cases hx : okS σ x
  · obtain ⟨j, hj, rfl⟩ := (ixI (by omega)).mp hx
    rw [qQgu, cH_t hx, iN_nI (by omega)]
    have e5 := hM.2.1 j hj
    have b5 := hB.2.1 j hj
    by_cases hb : 0 ≤ y ∧ y ≤ nI (slQ σ j).length - 1
    · rw [cH_t hb]
      obtain ⟨q, hq, rfl⟩ := (ixI (by omega)).mp hb
      rw [iN_nI (by omega)]
      have e6 := hM.2.2.1 j hj q hq
      refine CM.of (L := [some (.ref a), some (.int (nI j)), some (.int (nI q))]) hst (by decide) (Nat.le_of_ble_eq_true rfl) rfl ?_
      intro p e s m below meth c X hnm htab
      refine g_aload_n X dX4_queuedGuest_0 rfl rfl ?_
      refine g_aload_n X dX4_queuedGuest_1 rfl rfl ?_
      refine g_iload_n X dX4_queuedGuest_2 rfl rfl ?_
      refine g_callV X (ct_X4_isSlide hst hd hM) dX4_queuedGuest_3 rfl (lw_V q2016 q2018 qs32 q76 q2019) hyV_X4_isSlide (fun H hH => hR.recv X.2.2.2.2.2.2.2.1 hH mW_a rfl) (fun H hH => hH) ⟨Nat.le_of_ble_eq_true rfl, Nat.le_of_ble_eq_true rfl⟩ ⟨Nat.le_of_ble_eq_true rfl, Nat.le_of_ble_eq_true rfl⟩ (Nat.le_of_ble_eq_true rfl) rfl (fun x_3 => ?_)
      refine g_if_ne (tgt := 13) X dX4_queuedGuest_6 rfl (by decide) (fun c_6 => ?_) (fun c => absurd hx (bI_0.mp c))
      refine g_iload_n X dX4_queuedGuest_13 rfl rfl ?_
      refine g_iconst X dX4_queuedGuest_14 rfl (v := (nI 0)) rfl ?_
      refine g_aload_n X dX4_queuedGuest_15 rfl rfl ?_
      refine g_iload_n X dX4_queuedGuest_16 rfl rfl ?_
      refine g_iconst X dX4_queuedGuest_17 rfl (v := (nI 3)) rfl ?_
      refine g_callV X (ct_X4_slide hst hd (by omega) e5.2.2.2) dX4_queuedGuest_18 rfl (lw_V q2028 q2030 qs35 q76 q2031) hyV_X4_slide (fun H hH => hR.recv X.2.2.2.2.2.2.2.1 hH mW_a rfl) (fun H hH => hH) ⟨Nat.le_of_ble_eq_true rfl, Nat.le_of_ble_eq_true rfl⟩ ⟨Nat.le_of_ble_eq_true rfl, Nat.le_of_ble_eq_true rfl⟩ (Nat.le_of_ble_eq_true rfl) rfl (fun x_18 => ?_)
      refine g_iconst X dX4_queuedGuest_21 rfl (v := (nI 1)) rfl ?_
      refine g_isub X dX4_queuedGuest_22 rfl rfl ?_
      refine g_callS X (ct_X4_in hst) dX4_queuedGuest_23 rfl (lw_S q1985 q1986 q76 q1987) hyS_X4_in (fun H hH => hH) ⟨Nat.le_of_ble_eq_true rfl, Nat.le_of_ble_eq_true rfl⟩ ⟨Nat.le_of_ble_eq_true rfl, Nat.le_of_ble_eq_true rfl⟩ (Nat.le_of_ble_eq_true rfl) rfl (fun x_23 => ?_)
      refine g_if_ne (tgt := 33) X dX4_queuedGuest_26 rfl (by decide) (fun c_26 => ?_) (fun c => absurd hb (bI_0.mp c))
      refine g_iconst X dX4_queuedGuest_33 rfl (v := (nI 0)) rfl ?_
      refine g_put X dX4_queuedGuest_34 rfl in_X4 tyX4_ok nmX4 (ci := 3) rfl 6 (by decide) q1922 (fun _ h => h) rfl rfl rfl rfl mW_a (Nat.le_of_ble_eq_true rfl) mW_u6 ?_
      refine g_aload_n X dX4_queuedGuest_37 rfl rfl ?_
      refine g_get X dX4_queuedGuest_38 rfl in_X4 (ci := 3) rfl 6 (by decide) q1922 (fun _ h => h) mW_a rfl ?_
      refine g_if_le (tgt := 48) X dX4_queuedGuest_41 rfl (by decide) (fun c_41 => ?_) (fun c => absurd (by rw [vU_s]; decide) c)
      refine g_aload_n X dX4_queuedGuest_48 rfl rfl ?_
      refine g_iload_n X dX4_queuedGuest_49 rfl rfl ?_
      refine g_iload_n X dX4_queuedGuest_50 rfl rfl ?_
      refine g_callV X (ct_X4_queued hst hd (by omega) e6) dX4_queuedGuest_51 rfl (lw_V q2104 q2106 qs50 q76 q2107) hyV_X4_queued (fun H hH => hR.recv X.2.2.2.2.2.2.2.1 hH mW_a rfl) (fun H hH => hH) ⟨Nat.le_of_ble_eq_true rfl, Nat.le_of_ble_eq_true rfl⟩ ⟨Nat.le_of_ble_eq_true rfl, Nat.le_of_ble_eq_true rfl⟩ (Nat.le_of_ble_eq_true rfl) rfl (fun x_51 => ?_)
      refine g_iret X dX4_queuedGuest_54 rfl (Nat.le_of_ble_eq_true rfl) (Nat.le_of_ble_eq_true rfl) (fun H hH => ⟨(), rfl, hH⟩)
    · rw [cH_f hb]
      refine CM.of (L := [some (.ref a), some (.int (nI j)), some (.int y)]) hst (by decide) (Nat.le_of_ble_eq_true rfl) rfl ?_
      intro p e s m below meth c X hnm htab
      refine g_aload_n X dX4_queuedGuest_0 rfl rfl ?_
      refine g_aload_n X dX4_queuedGuest_1 rfl rfl ?_
      refine g_iload_n X dX4_queuedGuest_2 rfl rfl ?_
      refine g_callV X (ct_X4_isSlide hst hd hM) dX4_queuedGuest_3 rfl (lw_V q2016 q2018 qs32 q76 q2019) hyV_X4_isSlide (fun H hH => hR.recv X.2.2.2.2.2.2.2.1 hH mW_a rfl) (fun H hH => hH) ⟨Nat.le_of_ble_eq_true rfl, Nat.le_of_ble_eq_true rfl⟩ ⟨Nat.le_of_ble_eq_true rfl, Nat.le_of_ble_eq_true rfl⟩ (Nat.le_of_ble_eq_true rfl) rfl (fun x_3 => ?_)
      refine g_if_ne (tgt := 13) X dX4_queuedGuest_6 rfl (by decide) (fun c_6 => ?_) (fun c => absurd hx (bI_0.mp c))
      refine g_iload_n X dX4_queuedGuest_13 rfl rfl ?_
      refine g_iconst X dX4_queuedGuest_14 rfl (v := (nI 0)) rfl ?_
      refine g_aload_n X dX4_queuedGuest_15 rfl rfl ?_
      refine g_iload_n X dX4_queuedGuest_16 rfl rfl ?_
      refine g_iconst X dX4_queuedGuest_17 rfl (v := (nI 3)) rfl ?_
      refine g_callV X (ct_X4_slide hst hd (by omega) e5.2.2.2) dX4_queuedGuest_18 rfl (lw_V q2028 q2030 qs35 q76 q2031) hyV_X4_slide (fun H hH => hR.recv X.2.2.2.2.2.2.2.1 hH mW_a rfl) (fun H hH => hH) ⟨Nat.le_of_ble_eq_true rfl, Nat.le_of_ble_eq_true rfl⟩ ⟨Nat.le_of_ble_eq_true rfl, Nat.le_of_ble_eq_true rfl⟩ (Nat.le_of_ble_eq_true rfl) rfl (fun x_18 => ?_)
      refine g_iconst X dX4_queuedGuest_21 rfl (v := (nI 1)) rfl ?_
      refine g_isub X dX4_queuedGuest_22 rfl rfl ?_
      refine g_callS X (ct_X4_in hst) dX4_queuedGuest_23 rfl (lw_S q1985 q1986 q76 q1987) hyS_X4_in (fun H hH => hH) ⟨Nat.le_of_ble_eq_true rfl, Nat.le_of_ble_eq_true rfl⟩ ⟨Nat.le_of_ble_eq_true rfl, Nat.le_of_ble_eq_true rfl⟩ (Nat.le_of_ble_eq_true rfl) rfl (fun x_23 => ?_)
      refine g_if_ne (tgt := 33) X dX4_queuedGuest_26 rfl (by decide) (fun c => absurd (bI_n0.mp c) hb) (fun c_26 => ?_)
      refine g_iconst X dX4_queuedGuest_29 rfl (v := (nI 2)) rfl ?_
      refine g_goto (tgt := 34) X dX4_queuedGuest_30 rfl (by decide) ?_
      refine g_put X dX4_queuedGuest_34 rfl in_X4 tyX4_ok nmX4 (ci := 3) rfl 6 (by decide) q1922 (fun _ h => h) rfl rfl rfl rfl mW_a (Nat.le_of_ble_eq_true rfl) mW_u6 ?_
      refine g_aload_n X dX4_queuedGuest_37 rfl rfl ?_
      refine g_get X dX4_queuedGuest_38 rfl in_X4 (ci := 3) rfl 6 (by decide) q1922 (fun _ h => h) mW_a rfl ?_
      refine g_if_le (tgt := 48) X dX4_queuedGuest_41 rfl (by decide) (fun c => absurd c (by rw [vU_s]; decide)) (fun c_41 => ?_)
      refine g_iconst X dX4_queuedGuest_44 rfl (v := (nI 0)) rfl ?_
      refine g_goto (tgt := 54) X dX4_queuedGuest_45 rfl (by decide) ?_
      refine g_iret X dX4_queuedGuest_54 rfl (Nat.le_of_ble_eq_true rfl) (Nat.le_of_ble_eq_true rfl) (fun H hH => ⟨(), rfl, hH⟩)
  · rw [qQgu, cH_f hx]
    refine CM.of (L := [some (.ref a), some (.int x), some (.int y)]) hst (by decide) (Nat.le_of_ble_eq_true rfl) rfl ?_
    intro p e s m below meth c X hnm htab
    refine g_aload_n X dX4_queuedGuest_0 rfl rfl ?_
    refine g_aload_n X dX4_queuedGuest_1 rfl rfl ?_
    refine g_iload_n X dX4_queuedGuest_2 rfl rfl ?_
    refine g_callV X (ct_X4_isSlide hst hd hM) dX4_queuedGuest_3 rfl (lw_V q2016 q2018 qs32 q76 q2019) hyV_X4_isSlide (fun H hH => hR.recv X.2.2.2.2.2.2.2.1 hH mW_a rfl) (fun H hH => hH) ⟨Nat.le_of_ble_eq_true rfl, Nat.le_of_ble_eq_true rfl⟩ ⟨Nat.le_of_ble_eq_true rfl, Nat.le_of_ble_eq_true rfl⟩ (Nat.le_of_ble_eq_true rfl) rfl (fun x_3 => ?_)
    refine g_if_ne (tgt := 13) X dX4_queuedGuest_6 rfl (by decide) (fun c => absurd (bI_n0.mp c) hx) (fun c_6 => ?_)
    refine g_iconst X dX4_queuedGuest_9 rfl (v := (nI 1)) rfl ?_
    refine g_goto (tgt := 34) X dX4_queuedGuest_10 rfl (by decide) ?_
    refine g_put X dX4_queuedGuest_34 rfl in_X4 tyX4_ok nmX4 (ci := 3) rfl 6 (by decide) q1922 (fun _ h => h) rfl rfl rfl rfl mW_a (Nat.le_of_ble_eq_true rfl) mW_u6 ?_
    refine g_aload_n X dX4_queuedGuest_37 rfl rfl ?_
    refine g_get X dX4_queuedGuest_38 rfl in_X4 (ci := 3) rfl 6 (by decide) q1922 (fun _ h => h) mW_a rfl ?_
    refine g_if_le (tgt := 48) X dX4_queuedGuest_41 rfl (by decide) (fun c => absurd c (by rw [vU_s]; decide)) (fun c_41 => ?_)
    refine g_iconst X dX4_queuedGuest_44 rfl (v := (nI 0)) rfl ?_
    refine g_goto (tgt := 54) X dX4_queuedGuest_45 rfl (by decide) ?_
    refine g_iret X dX4_queuedGuest_54 rfl (Nat.le_of_ble_eq_true rfl) (Nat.le_of_ble_eq_true rfl) (fun H hH => ⟨(), rfl, hH⟩)
theorem ct_X4_hasStarted (hst : l.stackTraces = false) (hd : mDi a ad) (hM : MR (F 0) σ) (hB : Bd σ) {x : Int32} : CM Ω l yX4_hasStarted (ws_ yX4_hasStarted cX4_hasStarted 2 (some .boolean)) 10 0 0 [.ref a, .int x] (hR Ω (mW Ω h a ad v F)) (QP (some (.int (qA (qStd σ x)))) (hR Ω (mW Ω h a ad (vU v 6 (qT (qStd σ x))) F))) nX := by
  have b1 := hB.1
  by_cases hx : okB σ x
  · obtain ⟨j, hj, rfl⟩ := (ixI (by omega)).mp hx
    rw [qStd, cH_t hx, iN_nI (by omega)]
    have b5 := hB.2.2.2.2.1 j hj
    refine CM.of (L := [some (.ref a), some (.int (nI j))]) hst (by decide) (Nat.le_of_ble_eq_true rfl) rfl ?_
    intro p e s m below meth c X hnm htab
    refine g_aload_n X dX4_hasStarted_0 rfl rfl ?_
    refine g_aload_n X dX4_hasStarted_1 rfl rfl ?_
    refine g_iload_n X dX4_hasStarted_2 rfl rfl ?_
    refine g_callV X (ct_X4_isBooking hst hd hM) dX4_hasStarted_3 rfl (lw_V q2064 q2066 qs43 q76 q2067) hyV_X4_isBooking (fun H hH => hR.recv X.2.2.2.2.2.2.2.1 hH mW_a rfl) (fun H hH => hH) ⟨Nat.le_of_ble_eq_true rfl, Nat.le_of_ble_eq_true rfl⟩ ⟨Nat.le_of_ble_eq_true rfl, Nat.le_of_ble_eq_true rfl⟩ (Nat.le_of_ble_eq_true rfl) rfl (fun x_3 => ?_)
    refine g_callV X (ct_X4_isThere hst (bI_f (fun g => g hx))) dX4_hasStarted_6 rfl (lw_V q2134 q2136 qs54 q76 q2137) hyV_X4_isThere (fun H hH => hR.recv X.2.2.2.2.2.2.2.1 hH mW_a rfl) (fun H hH => hH) ⟨Nat.le_of_ble_eq_true rfl, Nat.le_of_ble_eq_true rfl⟩ ⟨Nat.le_of_ble_eq_true rfl, Nat.le_of_ble_eq_true rfl⟩ (Nat.le_of_ble_eq_true rfl) rfl (fun x_6 => ?_)
    refine g_if_eq (tgt := 30) X dX4_hasStarted_9 rfl (by decide) (fun c => absurd hx (bI_0.mp c)) (fun c_9 => ?_)
    refine g_aload_n X dX4_hasStarted_12 rfl rfl ?_
    refine g_iload_n X dX4_hasStarted_13 rfl rfl ?_
    refine g_callV X (ct_X4_startOf hst hd hM hB hj) dX4_hasStarted_14 rfl (lw_V q2040 q2042 qs38 q76 q2043) hyV_X4_startOf (fun H hH => hR.recv X.2.2.2.2.2.2.2.1 hH mW_a rfl) (fun H hH => hH) ⟨Nat.le_of_ble_eq_true rfl, Nat.le_of_ble_eq_true rfl⟩ ⟨Nat.le_of_ble_eq_true rfl, Nat.le_of_ble_eq_true rfl⟩ (Nat.le_of_ble_eq_true rfl) rfl (fun x_14 => ?_)
    refine g_aload_n X dX4_hasStarted_17 rfl rfl ?_
    refine g_get X dX4_hasStarted_18 rfl in_X4 (ci := 3) rfl 0 (by decide) q1916 (fun _ h => h) mW_a rfl ?_
    refine g_iconst X dX4_hasStarted_21 rfl (v := (nI 3)) rfl ?_
    refine g_ial X dX4_hasStarted_22 rfl (mW_0 hd) (vp_in_nI (by omega) (by decide)) (ix_v (by omega) hM.1.2.2.2.1) ?_
    refine g_icmp_gt (tgt := 30) X dX4_hasStarted_23 rfl (by decide) (fun c_23 => ?_) (fun c_23 => ?_)
    · rw [nI_ltI (by omega) (by omega)] at c_23
      refine g_iconst X dX4_hasStarted_30 rfl (v := (nI 0)) rfl ?_
      refine g_zret X dX4_hasStarted_31 rfl rfl (Nat.le_of_ble_eq_true rfl) (Nat.le_of_ble_eq_true rfl) (fun H hH => ⟨(), by rw [qA, bI_f (by omega)], hH⟩)
    · rw [nI_ltI (by omega) (by omega)] at c_23
      refine g_iconst X dX4_hasStarted_26 rfl (v := (nI 1)) rfl ?_
      refine g_goto (tgt := 31) X dX4_hasStarted_27 rfl (by decide) ?_
      refine g_zret X dX4_hasStarted_31 rfl rfl (Nat.le_of_ble_eq_true rfl) (Nat.le_of_ble_eq_true rfl) (fun H hH => ⟨(), by rw [qA, bI_t (by omega)], hH⟩)
  · rw [qStd, cH_f hx]
    refine CM.of (L := [some (.ref a), some (.int x)]) hst (by decide) (Nat.le_of_ble_eq_true rfl) rfl ?_
    intro p e s m below meth c X hnm htab
    refine g_aload_n X dX4_hasStarted_0 rfl rfl ?_
    refine g_aload_n X dX4_hasStarted_1 rfl rfl ?_
    refine g_iload_n X dX4_hasStarted_2 rfl rfl ?_
    refine g_callV X (ct_X4_isBooking hst hd hM) dX4_hasStarted_3 rfl (lw_V q2064 q2066 qs43 q76 q2067) hyV_X4_isBooking (fun H hH => hR.recv X.2.2.2.2.2.2.2.1 hH mW_a rfl) (fun H hH => hH) ⟨Nat.le_of_ble_eq_true rfl, Nat.le_of_ble_eq_true rfl⟩ ⟨Nat.le_of_ble_eq_true rfl, Nat.le_of_ble_eq_true rfl⟩ (Nat.le_of_ble_eq_true rfl) rfl (fun x_3 => ?_)
    refine g_callV X (ct_X4_isThere hst (bI_t hx)) dX4_hasStarted_6 rfl (lw_V q2134 q2136 qs54 q76 q2137) hyV_X4_isThere (fun H hH => hR.recv X.2.2.2.2.2.2.2.1 hH mW_a rfl) (fun H hH => hH) ⟨Nat.le_of_ble_eq_true rfl, Nat.le_of_ble_eq_true rfl⟩ ⟨Nat.le_of_ble_eq_true rfl, Nat.le_of_ble_eq_true rfl⟩ (Nat.le_of_ble_eq_true rfl) rfl (fun x_6 => ?_)
    refine g_if_eq (tgt := 30) X dX4_hasStarted_9 rfl (by decide) (fun c_9 => ?_) (fun c => absurd (bI_n0.mp c) hx)
    refine g_iconst X dX4_hasStarted_30 rfl (v := (nI 0)) rfl ?_
    refine g_zret X dX4_hasStarted_31 rfl rfl (Nat.le_of_ble_eq_true rfl) (Nat.le_of_ble_eq_true rfl) (fun H hH => ⟨(), rfl, hH⟩)
theorem ct_X4_bookingByStart (hst : l.stackTraces = false) (hd : mDi a ad) (hM : MR (F 0) σ) (hB : Bd σ) {x : Int32} : CM Ω l yX4_bookingByStart (ws_ yX4_bookingByStart cX4_bookingByStart 2 (some .int)) 10 0 0 [.ref a, .int x] (hR Ω (mW Ω h a ad v F)) (QP (some (.int (qA (qRnk σ x)))) (hR Ω (mW Ω h a ad (vU v 6 (qT (qRnk σ x))) F))) nX := by
  have b1 := hB.1
  by_cases hx : okB σ x
  · rw [qRnk, cH_t hx]
    refine CM.of (L := [some (.ref a), some (.int x)]) hst (by decide) (Nat.le_of_ble_eq_true rfl) rfl ?_
    intro p e s m below meth c X hnm htab
    refine g_aload_n X dX4_bookingByStart_0 rfl rfl ?_
    refine g_aload_n X dX4_bookingByStart_1 rfl rfl ?_
    refine g_iload_n X dX4_bookingByStart_2 rfl rfl ?_
    refine g_callV X (ct_X4_isBooking hst hd hM) dX4_bookingByStart_3 rfl (lw_V q2064 q2066 qs43 q76 q2067) hyV_X4_isBooking (fun H hH => hR.recv X.2.2.2.2.2.2.2.1 hH mW_a rfl) (fun H hH => hH) ⟨Nat.le_of_ble_eq_true rfl, Nat.le_of_ble_eq_true rfl⟩ ⟨Nat.le_of_ble_eq_true rfl, Nat.le_of_ble_eq_true rfl⟩ (Nat.le_of_ble_eq_true rfl) rfl (fun x_3 => ?_)
    refine g_callV X (ct_X4_isThere hst (bI_f (fun g => g hx))) dX4_bookingByStart_6 rfl (lw_V q2134 q2136 qs54 q76 q2137) hyV_X4_isThere (fun H hH => hR.recv X.2.2.2.2.2.2.2.1 hH mW_a rfl) (fun H hH => hH) ⟨Nat.le_of_ble_eq_true rfl, Nat.le_of_ble_eq_true rfl⟩ ⟨Nat.le_of_ble_eq_true rfl, Nat.le_of_ble_eq_true rfl⟩ (Nat.le_of_ble_eq_true rfl) rfl (fun x_6 => ?_)
    refine g_if_eq (tgt := 20) X dX4_bookingByStart_9 rfl (by decide) (fun c => absurd hx (bI_0.mp c)) (fun c_9 => ?_)
    refine g_aload_n X dX4_bookingByStart_12 rfl rfl ?_
    refine g_iload_n X dX4_bookingByStart_13 rfl rfl ?_
    refine g_callV X (ct_X4_ranked hst hd hM hB) dX4_bookingByStart_14 rfl (lw_V q2194 q2196 qs55 q76 q2197) hyV_X4_ranked (fun H hH => hR.recv X.2.2.2.2.2.2.2.1 hH mW_a rfl) (fun H hH => hH) ⟨Nat.le_of_ble_eq_true rfl, Nat.le_of_ble_eq_true rfl⟩ ⟨Nat.le_of_ble_eq_true rfl, Nat.le_of_ble_eq_true rfl⟩ (Nat.le_of_ble_eq_true rfl) rfl (fun x_14 => ?_)
    refine g_goto (tgt := 21) X dX4_bookingByStart_17 rfl (by decide) ?_
    refine g_iret X dX4_bookingByStart_21 rfl (Nat.le_of_ble_eq_true rfl) (Nat.le_of_ble_eq_true rfl) (fun H hH => ⟨(), rfl, hH⟩)
  · rw [qRnk, cH_f hx]
    refine CM.of (L := [some (.ref a), some (.int x)]) hst (by decide) (Nat.le_of_ble_eq_true rfl) rfl ?_
    intro p e s m below meth c X hnm htab
    refine g_aload_n X dX4_bookingByStart_0 rfl rfl ?_
    refine g_aload_n X dX4_bookingByStart_1 rfl rfl ?_
    refine g_iload_n X dX4_bookingByStart_2 rfl rfl ?_
    refine g_callV X (ct_X4_isBooking hst hd hM) dX4_bookingByStart_3 rfl (lw_V q2064 q2066 qs43 q76 q2067) hyV_X4_isBooking (fun H hH => hR.recv X.2.2.2.2.2.2.2.1 hH mW_a rfl) (fun H hH => hH) ⟨Nat.le_of_ble_eq_true rfl, Nat.le_of_ble_eq_true rfl⟩ ⟨Nat.le_of_ble_eq_true rfl, Nat.le_of_ble_eq_true rfl⟩ (Nat.le_of_ble_eq_true rfl) rfl (fun x_3 => ?_)
    refine g_callV X (ct_X4_isThere hst (bI_t hx)) dX4_bookingByStart_6 rfl (lw_V q2134 q2136 qs54 q76 q2137) hyV_X4_isThere (fun H hH => hR.recv X.2.2.2.2.2.2.2.1 hH mW_a rfl) (fun H hH => hH) ⟨Nat.le_of_ble_eq_true rfl, Nat.le_of_ble_eq_true rfl⟩ ⟨Nat.le_of_ble_eq_true rfl, Nat.le_of_ble_eq_true rfl⟩ (Nat.le_of_ble_eq_true rfl) rfl (fun x_6 => ?_)
    refine g_if_eq (tgt := 20) X dX4_bookingByStart_9 rfl (by decide) (fun c_9 => ?_) (fun c => absurd (bI_n0.mp c) hx)
    refine g_iconst X dX4_bookingByStart_20 rfl (v := (nI 0)) rfl ?_
    refine g_iret X dX4_bookingByStart_21 rfl (Nat.le_of_ble_eq_true rfl) (Nat.le_of_ble_eq_true rfl) (fun H hH => ⟨(), rfl, hH⟩)
theorem ct_X4_isFree (hst : l.stackTraces = false) (hd : mDi a ad) (hM : MR (F 0) σ) (hB : Bd σ) {x y : Int32} : CM Ω l yX4_isFree (ws_ yX4_isFree cX4_isFree 3 (some .boolean)) 10 0 0 [.ref a, .int x, .int y] (hR Ω (mW Ω h a ad v F)) (QP (some (.int (qA (qFre σ x y)))) (hR Ω (mW Ω h a ad (vU v 6 (qT (qFre σ x y))) F))) nX := by
  have b1 := hB.1
  by_cases hx : okS σ x
  · obtain ⟨j, hj, rfl⟩ := (ixI (by omega)).mp hx
    rw [qFre, cH_t hx, iN_nI (by omega)]
    by_cases hy : okT σ y
    · rw [cH_t hy]
      obtain ⟨t, ht1, ht2, rfl⟩ := (rgI (by omega) (by omega)).mp hy
      rw [iN_nI (by omega)]
      refine CM.of (L := [some (.ref a), some (.int (nI j)), some (.int (nI t))]) hst (by decide) (Nat.le_of_ble_eq_true rfl) rfl ?_
      intro p e s m below meth c X hnm htab
      refine g_aload_n X dX4_isFree_0 rfl rfl ?_
      refine g_aload_n X dX4_isFree_1 rfl rfl ?_
      refine g_iload_n X dX4_isFree_2 rfl rfl ?_
      refine g_callV X (ct_X4_isSlide hst hd hM) dX4_isFree_3 rfl (lw_V q2016 q2018 qs32 q76 q2019) hyV_X4_isSlide (fun H hH => hR.recv X.2.2.2.2.2.2.2.1 hH mW_a rfl) (fun H hH => hH) ⟨Nat.le_of_ble_eq_true rfl, Nat.le_of_ble_eq_true rfl⟩ ⟨Nat.le_of_ble_eq_true rfl, Nat.le_of_ble_eq_true rfl⟩ (Nat.le_of_ble_eq_true rfl) rfl (fun x_3 => ?_)
      refine g_if_ne (tgt := 13) X dX4_isFree_6 rfl (by decide) (fun c_6 => ?_) (fun c => absurd hx (bI_0.mp c))
      refine g_aload_n X dX4_isFree_13 rfl rfl ?_
      refine g_iload_n X dX4_isFree_14 rfl rfl ?_
      refine g_callV X (ct_X4_isStart hst hd hM) dX4_isFree_15 rfl (lw_V q2020 q2022 qs33 q76 q2023) hyV_X4_isStart (fun H hH => hR.recv X.2.2.2.2.2.2.2.1 hH mW_a rfl) (fun H hH => hH) ⟨Nat.le_of_ble_eq_true rfl, Nat.le_of_ble_eq_true rfl⟩ ⟨Nat.le_of_ble_eq_true rfl, Nat.le_of_ble_eq_true rfl⟩ (Nat.le_of_ble_eq_true rfl) rfl (fun x_15 => ?_)
      refine g_if_ne (tgt := 25) X dX4_isFree_18 rfl (by decide) (fun c_18 => ?_) (fun c => absurd hy (bI_0.mp c))
      refine g_iconst X dX4_isFree_25 rfl (v := (nI 0)) rfl ?_
      refine g_put X dX4_isFree_26 rfl in_X4 tyX4_ok nmX4 (ci := 3) rfl 6 (by decide) q1922 (fun _ h => h) rfl rfl rfl rfl mW_a (Nat.le_of_ble_eq_true rfl) mW_u6 ?_
      refine g_aload_n X dX4_isFree_29 rfl rfl ?_
      refine g_get X dX4_isFree_30 rfl in_X4 (ci := 3) rfl 6 (by decide) q1922 (fun _ h => h) mW_a rfl ?_
      refine g_if_ne (tgt := 50) X dX4_isFree_33 rfl (by decide) (fun c => absurd (by rw [vU_s]; rfl) c) (fun c_33 => ?_)
      refine g_aload_n X dX4_isFree_36 rfl rfl ?_
      refine g_iconst X dX4_isFree_37 rfl (v := (-1)) rfl ?_
      refine g_iload_n X dX4_isFree_38 rfl rfl ?_
      refine g_iload_n X dX4_isFree_39 rfl rfl ?_
      refine g_callV X (ct_X4_clashes hst hd hM hB hj (by omega)) dX4_isFree_40 rfl (lw_V q2032 q2034 qs36 q76 q2035) hyV_X4_clashes (fun H hH => hR.recv X.2.2.2.2.2.2.2.1 hH mW_a rfl) (fun H hH => hH) ⟨Nat.le_of_ble_eq_true rfl, Nat.le_of_ble_eq_true rfl⟩ ⟨Nat.le_of_ble_eq_true rfl, Nat.le_of_ble_eq_true rfl⟩ (Nat.le_of_ble_eq_true rfl) rfl (fun x_40 => ?_)
      refine g_if_ne (tgt := 50) X dX4_isFree_43 rfl (by decide) (fun c_43 => ?_) (fun c_43 => ?_)
      · have c_43 := bI_n0.mp c_43
        refine g_iconst X dX4_isFree_50 rfl (v := (nI 0)) rfl ?_
        refine g_zret X dX4_isFree_51 rfl rfl (Nat.le_of_ble_eq_true rfl) (Nat.le_of_ble_eq_true rfl) (fun H hH => ⟨(), by rw [qA, bI_f (fun g => g c_43)], hH⟩)
      · have c_43 := bI_0.mp c_43
        refine g_iconst X dX4_isFree_46 rfl (v := (nI 1)) rfl ?_
        refine g_goto (tgt := 51) X dX4_isFree_47 rfl (by decide) ?_
        refine g_zret X dX4_isFree_51 rfl rfl (Nat.le_of_ble_eq_true rfl) (Nat.le_of_ble_eq_true rfl) (fun H hH => ⟨(), by rw [qA, bI_t c_43], hH⟩)
    · rw [cH_f hy]
      refine CM.of (L := [some (.ref a), some (.int (nI j)), some (.int y)]) hst (by decide) (Nat.le_of_ble_eq_true rfl) rfl ?_
      intro p e s m below meth c X hnm htab
      refine g_aload_n X dX4_isFree_0 rfl rfl ?_
      refine g_aload_n X dX4_isFree_1 rfl rfl ?_
      refine g_iload_n X dX4_isFree_2 rfl rfl ?_
      refine g_callV X (ct_X4_isSlide hst hd hM) dX4_isFree_3 rfl (lw_V q2016 q2018 qs32 q76 q2019) hyV_X4_isSlide (fun H hH => hR.recv X.2.2.2.2.2.2.2.1 hH mW_a rfl) (fun H hH => hH) ⟨Nat.le_of_ble_eq_true rfl, Nat.le_of_ble_eq_true rfl⟩ ⟨Nat.le_of_ble_eq_true rfl, Nat.le_of_ble_eq_true rfl⟩ (Nat.le_of_ble_eq_true rfl) rfl (fun x_3 => ?_)
      refine g_if_ne (tgt := 13) X dX4_isFree_6 rfl (by decide) (fun c_6 => ?_) (fun c => absurd hx (bI_0.mp c))
      refine g_aload_n X dX4_isFree_13 rfl rfl ?_
      refine g_iload_n X dX4_isFree_14 rfl rfl ?_
      refine g_callV X (ct_X4_isStart hst hd hM) dX4_isFree_15 rfl (lw_V q2020 q2022 qs33 q76 q2023) hyV_X4_isStart (fun H hH => hR.recv X.2.2.2.2.2.2.2.1 hH mW_a rfl) (fun H hH => hH) ⟨Nat.le_of_ble_eq_true rfl, Nat.le_of_ble_eq_true rfl⟩ ⟨Nat.le_of_ble_eq_true rfl, Nat.le_of_ble_eq_true rfl⟩ (Nat.le_of_ble_eq_true rfl) rfl (fun x_15 => ?_)
      refine g_if_ne (tgt := 25) X dX4_isFree_18 rfl (by decide) (fun c => absurd (bI_n0.mp c) hy) (fun c_18 => ?_)
      refine g_iconst X dX4_isFree_21 rfl (v := (nI 2)) rfl ?_
      refine g_goto (tgt := 26) X dX4_isFree_22 rfl (by decide) ?_
      refine g_put X dX4_isFree_26 rfl in_X4 tyX4_ok nmX4 (ci := 3) rfl 6 (by decide) q1922 (fun _ h => h) rfl rfl rfl rfl mW_a (Nat.le_of_ble_eq_true rfl) mW_u6 ?_
      refine g_aload_n X dX4_isFree_29 rfl rfl ?_
      refine g_get X dX4_isFree_30 rfl in_X4 (ci := 3) rfl 6 (by decide) q1922 (fun _ h => h) mW_a rfl ?_
      refine g_if_ne (tgt := 50) X dX4_isFree_33 rfl (by decide) (fun c_33 => ?_) (fun c => absurd c (by rw [vU_s]; decide))
      refine g_iconst X dX4_isFree_50 rfl (v := (nI 0)) rfl ?_
      refine g_zret X dX4_isFree_51 rfl rfl (Nat.le_of_ble_eq_true rfl) (Nat.le_of_ble_eq_true rfl) (fun H hH => ⟨(), rfl, hH⟩)
  · rw [qFre, cH_f hx]
    refine CM.of (L := [some (.ref a), some (.int x), some (.int y)]) hst (by decide) (Nat.le_of_ble_eq_true rfl) rfl ?_
    intro p e s m below meth c X hnm htab
    refine g_aload_n X dX4_isFree_0 rfl rfl ?_
    refine g_aload_n X dX4_isFree_1 rfl rfl ?_
    refine g_iload_n X dX4_isFree_2 rfl rfl ?_
    refine g_callV X (ct_X4_isSlide hst hd hM) dX4_isFree_3 rfl (lw_V q2016 q2018 qs32 q76 q2019) hyV_X4_isSlide (fun H hH => hR.recv X.2.2.2.2.2.2.2.1 hH mW_a rfl) (fun H hH => hH) ⟨Nat.le_of_ble_eq_true rfl, Nat.le_of_ble_eq_true rfl⟩ ⟨Nat.le_of_ble_eq_true rfl, Nat.le_of_ble_eq_true rfl⟩ (Nat.le_of_ble_eq_true rfl) rfl (fun x_3 => ?_)
    refine g_if_ne (tgt := 13) X dX4_isFree_6 rfl (by decide) (fun c => absurd (bI_n0.mp c) hx) (fun c_6 => ?_)
    refine g_iconst X dX4_isFree_9 rfl (v := (nI 1)) rfl ?_
    refine g_goto (tgt := 26) X dX4_isFree_10 rfl (by decide) ?_
    refine g_put X dX4_isFree_26 rfl in_X4 tyX4_ok nmX4 (ci := 3) rfl 6 (by decide) q1922 (fun _ h => h) rfl rfl rfl rfl mW_a (Nat.le_of_ble_eq_true rfl) mW_u6 ?_
    refine g_aload_n X dX4_isFree_29 rfl rfl ?_
    refine g_get X dX4_isFree_30 rfl in_X4 (ci := 3) rfl 6 (by decide) q1922 (fun _ h => h) mW_a rfl ?_
    refine g_if_ne (tgt := 50) X dX4_isFree_33 rfl (by decide) (fun c_33 => ?_) (fun c => absurd c (by rw [vU_s]; decide))
    refine g_iconst X dX4_isFree_50 rfl (v := (nI 0)) rfl ?_
    refine g_zret X dX4_isFree_51 rfl rfl (Nat.le_of_ble_eq_true rfl) (Nat.le_of_ble_eq_true rfl) (fun H hH => ⟨(), rfl, hH⟩)
theorem ct_X4_finish (hst : l.stackTraces = false) (hd : mDi a ad) (hM : MR (F 0) σ) (hB : Bd σ) {x : Int32} {w : Nat} {f : Nat → Nat} (hw : w < 3) (hf : ∀ k, k < nF σ → F 0 (110 + 3 * k + w) = nI (f (nF σ - 1 - k))) : CM Ω l yX4_finish (ws_ yX4_finish cX4_finish 3 (some .int)) 9 0 0 [.ref a, .int x, .int (nI w)] (hR Ω (mW Ω h a ad v F)) (QP (some (.int (qA (qFin σ f x)))) (hR Ω (mW Ω h a ad (vU v 6 (qT (qFin σ f x))) F))) nX := by
  have b1 := hB.1
  by_cases hx : 0 ≤ x ∧ x ≤ nI (nF σ) - 1
  · obtain ⟨j, hj, rfl⟩ := (ixI (by omega)).mp hx
    rw [qFin, cH_t hx, iN_nI (by omega)]
    have e5 := hf j hj
    refine CM.of (L := [some (.ref a), some (.int (nI j)), some (.int (nI w))]) hst (by decide) (Nat.le_of_ble_eq_true rfl) rfl ?_
    intro p e s m below meth c X hnm htab
    refine g_aload_n X dX4_finish_0 rfl rfl ?_
    refine g_iload_n X dX4_finish_1 rfl rfl ?_
    refine g_iconst X dX4_finish_2 rfl (v := (nI 0)) rfl ?_
    refine g_aload_n X dX4_finish_3 rfl rfl ?_
    refine g_get X dX4_finish_4 rfl in_X4 (ci := 3) rfl 0 (by decide) q1916 (fun _ h => h) mW_a rfl ?_
    refine g_iconst X dX4_finish_7 rfl (v := (nI 4)) rfl ?_
    refine g_ial X dX4_finish_8 rfl (mW_0 hd) (vp_in_nI (by omega) (by decide)) (ix_v (by omega) hM.1.2.2.2.2.1) ?_
    refine g_iconst X dX4_finish_9 rfl (v := (nI 1)) rfl ?_
    refine g_isub X dX4_finish_10 rfl rfl ?_
    refine g_callS X (ct_X4_in hst) dX4_finish_11 rfl (lw_S q1985 q1986 q76 q1987) hyS_X4_in (fun H hH => hH) ⟨Nat.le_of_ble_eq_true rfl, Nat.le_of_ble_eq_true rfl⟩ ⟨Nat.le_of_ble_eq_true rfl, Nat.le_of_ble_eq_true rfl⟩ (Nat.le_of_ble_eq_true rfl) rfl (fun x_11 => ?_)
    refine g_callV X (ct_X4_isThere hst (bI_f (fun g => g hx))) dX4_finish_14 rfl (lw_V q2134 q2136 qs54 q76 q2137) hyV_X4_isThere (fun H hH => hR.recv X.2.2.2.2.2.2.2.1 hH mW_a rfl) (fun H hH => hH) ⟨Nat.le_of_ble_eq_true rfl, Nat.le_of_ble_eq_true rfl⟩ ⟨Nat.le_of_ble_eq_true rfl, Nat.le_of_ble_eq_true rfl⟩ (Nat.le_of_ble_eq_true rfl) rfl (fun x_14 => ?_)
    refine g_if_eq (tgt := 36) X dX4_finish_17 rfl (by decide) (fun c => absurd hx (bI_0.mp c)) (fun c_17 => ?_)
    refine g_aload_n X dX4_finish_20 rfl rfl ?_
    refine g_get X dX4_finish_21 rfl in_X4 (ci := 3) rfl 0 (by decide) q1916 (fun _ h => h) mW_a rfl ?_
    refine g_bipush X dX4_finish_24 rfl (v := (nI 110)) (by decide) ?_
    refine g_iconst X dX4_finish_26 rfl (v := (nI 3)) rfl ?_
    refine g_iload_n X dX4_finish_27 rfl rfl ?_
    refine g_imul X dX4_finish_28 rfl (by first | exact pk_mul _ _ | rfl) ?_
    refine g_iadd X dX4_finish_29 rfl (by first | exact nI_add _ _ | rfl) ?_
    refine g_iload_n X dX4_finish_30 rfl rfl ?_
    refine g_iadd X dX4_finish_31 rfl (by first | exact nI_add _ _ | rfl) ?_
    refine g_ial X dX4_finish_32 rfl (mW_0 hd) (vp_in_nI (by omega) (by decide)) (ix_v (by omega) e5) ?_
    refine g_goto (tgt := 37) X dX4_finish_33 rfl (by decide) ?_
    refine g_iret X dX4_finish_37 rfl (Nat.le_of_ble_eq_true rfl) (Nat.le_of_ble_eq_true rfl) (fun H hH => ⟨(), rfl, hH⟩)
  · rw [qFin, cH_f hx]
    refine CM.of (L := [some (.ref a), some (.int x), some (.int (nI w))]) hst (by decide) (Nat.le_of_ble_eq_true rfl) rfl ?_
    intro p e s m below meth c X hnm htab
    refine g_aload_n X dX4_finish_0 rfl rfl ?_
    refine g_iload_n X dX4_finish_1 rfl rfl ?_
    refine g_iconst X dX4_finish_2 rfl (v := (nI 0)) rfl ?_
    refine g_aload_n X dX4_finish_3 rfl rfl ?_
    refine g_get X dX4_finish_4 rfl in_X4 (ci := 3) rfl 0 (by decide) q1916 (fun _ h => h) mW_a rfl ?_
    refine g_iconst X dX4_finish_7 rfl (v := (nI 4)) rfl ?_
    refine g_ial X dX4_finish_8 rfl (mW_0 hd) (vp_in_nI (by omega) (by decide)) (ix_v (by omega) hM.1.2.2.2.2.1) ?_
    refine g_iconst X dX4_finish_9 rfl (v := (nI 1)) rfl ?_
    refine g_isub X dX4_finish_10 rfl rfl ?_
    refine g_callS X (ct_X4_in hst) dX4_finish_11 rfl (lw_S q1985 q1986 q76 q1987) hyS_X4_in (fun H hH => hH) ⟨Nat.le_of_ble_eq_true rfl, Nat.le_of_ble_eq_true rfl⟩ ⟨Nat.le_of_ble_eq_true rfl, Nat.le_of_ble_eq_true rfl⟩ (Nat.le_of_ble_eq_true rfl) rfl (fun x_11 => ?_)
    refine g_callV X (ct_X4_isThere hst (bI_t hx)) dX4_finish_14 rfl (lw_V q2134 q2136 qs54 q76 q2137) hyV_X4_isThere (fun H hH => hR.recv X.2.2.2.2.2.2.2.1 hH mW_a rfl) (fun H hH => hH) ⟨Nat.le_of_ble_eq_true rfl, Nat.le_of_ble_eq_true rfl⟩ ⟨Nat.le_of_ble_eq_true rfl, Nat.le_of_ble_eq_true rfl⟩ (Nat.le_of_ble_eq_true rfl) rfl (fun x_14 => ?_)
    refine g_if_eq (tgt := 36) X dX4_finish_17 rfl (by decide) (fun c_17 => ?_) (fun c => absurd (bI_n0.mp c) hx)
    refine g_iconst X dX4_finish_36 rfl (v := (nI 0)) rfl ?_
    refine g_iret X dX4_finish_37 rfl (Nat.le_of_ble_eq_true rfl) (Nat.le_of_ble_eq_true rfl) (fun H hH => ⟨(), rfl, hH⟩)
theorem ct_X4_finishedGuest (hst : l.stackTraces = false) (hd : mDi a ad) (hM : MR (F 0) σ) (hB : Bd σ) {x : Int32} : CM Ω l yX4_finishedGuest (ws_ yX4_finishedGuest cX4_finishedGuest 2 (some .int)) 10 0 0 [.ref a, .int x] (hR Ω (mW Ω h a ad v F)) (QP (some (.int (qA (qFin σ (fiG σ) x)))) (hR Ω (mW Ω h a ad (vU v 6 (qT (qFin σ (fiG σ) x))) F))) nX := by
  refine CM.of (L := [some (.ref a), some (.int x)]) hst (by decide) (Nat.le_of_ble_eq_true rfl) rfl ?_
  intro p e s m below meth c X hnm htab
  refine g_aload_n X dX4_finishedGuest_0 rfl rfl ?_
  refine g_iload_n X dX4_finishedGuest_1 rfl rfl ?_
  refine g_iconst X dX4_finishedGuest_2 rfl (v := (nI 0)) rfl ?_
  refine g_callV X (ct_X4_finish hst hd hM hB (by decide) (fun k hk => (hM.2.2.2.2.2 k hk).1)) dX4_finishedGuest_3 rfl (lw_V q2238 q2240 qs56 q76 q2241) hyV_X4_finish (fun H hH => hR.recv X.2.2.2.2.2.2.2.1 hH mW_a rfl) (fun H hH => hH) ⟨Nat.le_of_ble_eq_true rfl, Nat.le_of_ble_eq_true rfl⟩ ⟨Nat.le_of_ble_eq_true rfl, Nat.le_of_ble_eq_true rfl⟩ (Nat.le_of_ble_eq_true rfl) rfl (fun x_3 => ?_)
  refine g_iret X dX4_finishedGuest_6 rfl (Nat.le_of_ble_eq_true rfl) (Nat.le_of_ble_eq_true rfl) (fun H hH => ⟨(), rfl, hH⟩)
theorem ct_X4_finishedSlide (hst : l.stackTraces = false) (hd : mDi a ad) (hM : MR (F 0) σ) (hB : Bd σ) {x : Int32} : CM Ω l yX4_finishedSlide (ws_ yX4_finishedSlide cX4_finishedSlide 2 (some .int)) 10 0 0 [.ref a, .int x] (hR Ω (mW Ω h a ad v F)) (QP (some (.int (qA (qFin σ (fiS σ) x)))) (hR Ω (mW Ω h a ad (vU v 6 (qT (qFin σ (fiS σ) x))) F))) nX := by
  refine CM.of (L := [some (.ref a), some (.int x)]) hst (by decide) (Nat.le_of_ble_eq_true rfl) rfl ?_
  intro p e s m below meth c X hnm htab
  refine g_aload_n X dX4_finishedSlide_0 rfl rfl ?_
  refine g_iload_n X dX4_finishedSlide_1 rfl rfl ?_
  refine g_iconst X dX4_finishedSlide_2 rfl (v := (nI 1)) rfl ?_
  refine g_callV X (ct_X4_finish hst hd hM hB (by decide) (fun k hk => (hM.2.2.2.2.2 k hk).2.1)) dX4_finishedSlide_3 rfl (lw_V q2238 q2240 qs56 q76 q2241) hyV_X4_finish (fun H hH => hR.recv X.2.2.2.2.2.2.2.1 hH mW_a rfl) (fun H hH => hH) ⟨Nat.le_of_ble_eq_true rfl, Nat.le_of_ble_eq_true rfl⟩ ⟨Nat.le_of_ble_eq_true rfl, Nat.le_of_ble_eq_true rfl⟩ (Nat.le_of_ble_eq_true rfl) rfl (fun x_3 => ?_)
  refine g_iret X dX4_finishedSlide_6 rfl (Nat.le_of_ble_eq_true rfl) (Nat.le_of_ble_eq_true rfl) (fun H hH => ⟨(), rfl, hH⟩)
theorem ct_X4_finishMinute (hst : l.stackTraces = false) (hd : mDi a ad) (hM : MR (F 0) σ) (hB : Bd σ) {x : Int32} : CM Ω l yX4_finishMinute (ws_ yX4_finishMinute cX4_finishMinute 2 (some .int)) 10 0 0 [.ref a, .int x] (hR Ω (mW Ω h a ad v F)) (QP (some (.int (qA (qFin σ (fiM σ) x)))) (hR Ω (mW Ω h a ad (vU v 6 (qT (qFin σ (fiM σ) x))) F))) nX := by
  refine CM.of (L := [some (.ref a), some (.int x)]) hst (by decide) (Nat.le_of_ble_eq_true rfl) rfl ?_
  intro p e s m below meth c X hnm htab
  refine g_aload_n X dX4_finishMinute_0 rfl rfl ?_
  refine g_iload_n X dX4_finishMinute_1 rfl rfl ?_
  refine g_iconst X dX4_finishMinute_2 rfl (v := (nI 2)) rfl ?_
  refine g_callV X (ct_X4_finish hst hd hM hB (by decide) (fun k hk => (hM.2.2.2.2.2 k hk).2.2)) dX4_finishMinute_3 rfl (lw_V q2238 q2240 qs56 q76 q2241) hyV_X4_finish (fun H hH => hR.recv X.2.2.2.2.2.2.2.1 hH mW_a rfl) (fun H hH => hH) ⟨Nat.le_of_ble_eq_true rfl, Nat.le_of_ble_eq_true rfl⟩ ⟨Nat.le_of_ble_eq_true rfl, Nat.le_of_ble_eq_true rfl⟩ (Nat.le_of_ble_eq_true rfl) rfl (fun x_3 => ?_)
  refine g_iret X dX4_finishMinute_6 rfl (Nat.le_of_ble_eq_true rfl) (Nat.le_of_ble_eq_true rfl) (fun H hH => ⟨(), rfl, hH⟩)
theorem ct_X4_isConsistent (hst : l.stackTraces = false) : CM Ω l yX4_isConsistent (ws_ yX4_isConsistent cX4_isConsistent 1 (some .boolean)) 1 0 0 [.ref a] (hR Ω (mW Ω h a ad v F)) (QP (some (.int (nI 1))) (hR Ω (mW Ω h a ad (vU v 6 (nI 0)) F))) nX := by
  refine CM.of (L := [some (.ref a)]) hst (by decide) (Nat.le_of_ble_eq_true rfl) rfl ?_
  intro p e s m below meth c X hnm htab
  refine g_aload_n X dX4_isConsistent_0 rfl rfl ?_
  refine g_iconst X dX4_isConsistent_1 rfl (v := (nI 0)) rfl ?_
  refine g_put X dX4_isConsistent_2 rfl in_X4 tyX4_ok nmX4 (ci := 3) rfl 6 (by decide) q1922 (fun _ h => h) rfl rfl rfl rfl mW_a (Nat.le_of_ble_eq_true rfl) mW_u6 ?_
  refine g_iconst X dX4_isConsistent_5 rfl (v := (nI 1)) rfl ?_
  refine g_zret X dX4_isConsistent_6 rfl rfl (Nat.le_of_ble_eq_true rfl) (Nat.le_of_ble_eq_true rfl) (fun H hH => ⟨(), rfl, hH⟩)
end M4
