/-! MODEL, searches -/
section M5
variable {l : Launch} {Ω : Om} {h : RH} {a : Nat} {ad : Nat → Nat} {v : Nat → Int32} {F : Nat → Nat → Int32} {σ : St}
set_option maxRecDepth 100000
theorem ct_X4_firstFree (hst : l.stackTraces = false) (hd : mDi a ad) (hM : MR (F 0) σ) (hB : Bd σ) {x y : Int32} : CM Ω l yX4_firstFree (ws_ yX4_firstFree cX4_firstFree 4 (some .int)) 10 0 0 [.ref a, .int x, .int y] (hR Ω (mW Ω h a ad v F)) (QP (some (.int (qA (qFF σ x y)))) (hR Ω (mW Ω h a ad (vU v 6 (qT (qFF σ x y))) F))) nX := by
  have b1 := hB.1
  by_cases hx : okS σ x
  · obtain ⟨j, hj, rfl⟩ := (ixI (by omega)).mp hx
    rw [qFF, cH_t hx, iN_nI (by omega)]
    by_cases hy : okT σ y
    · rw [cH_t hy]
      obtain ⟨t0, ht1, ht2, rfl⟩ := (rgI (by omega) (by omega)).mp hy
      rw [iN_nI (by omega)]
      generalize hQ : aFF σ j t0 (sM σ + 121 - t0) = r
      refine CM.of (L := [some (.ref a), some (.int (nI j)), some (.int (nI t0)), none]) hst (by decide) (Nat.le_of_ble_eq_true rfl) rfl ?_
      intro p e s m below meth c X hnm htab
      refine g_aload_n X dX4_firstFree_0 rfl rfl ?_
      refine g_aload_n X dX4_firstFree_1 rfl rfl ?_
      refine g_iload_n X dX4_firstFree_2 rfl rfl ?_
      refine g_callV X (ct_X4_isSlide hst hd hM) dX4_firstFree_3 rfl (lw_V q2016 q2018 qs32 q76 q2019) hyV_X4_isSlide (fun H hH => hR.recv X.2.2.2.2.2.2.2.1 hH mW_a rfl) (fun H hH => hH) ⟨Nat.le_of_ble_eq_true rfl, Nat.le_of_ble_eq_true rfl⟩ ⟨Nat.le_of_ble_eq_true rfl, Nat.le_of_ble_eq_true rfl⟩ (Nat.le_of_ble_eq_true rfl) rfl (fun x_3 => ?_)
      refine g_if_ne (tgt := 13) X dX4_firstFree_6 rfl (by decide) (fun c_6 => ?_) (fun c => absurd hx (bI_0.mp c))
      refine g_aload_n X dX4_firstFree_13 rfl rfl ?_
      refine g_iload_n X dX4_firstFree_14 rfl rfl ?_
      refine g_callV X (ct_X4_isStart hst hd hM) dX4_firstFree_15 rfl (lw_V q2020 q2022 qs33 q76 q2023) hyV_X4_isStart (fun H hH => hR.recv X.2.2.2.2.2.2.2.1 hH mW_a rfl) (fun H hH => hH) ⟨Nat.le_of_ble_eq_true rfl, Nat.le_of_ble_eq_true rfl⟩ ⟨Nat.le_of_ble_eq_true rfl, Nat.le_of_ble_eq_true rfl⟩ (Nat.le_of_ble_eq_true rfl) rfl (fun x_15 => ?_)
      refine g_if_ne (tgt := 25) X dX4_firstFree_18 rfl (by decide) (fun c_18 => ?_) (fun c => absurd hy (bI_0.mp c))
      refine g_iconst X dX4_firstFree_25 rfl (v := (nI 0)) rfl ?_
      refine g_put X dX4_firstFree_26 rfl in_X4 tyX4_ok nmX4 (ci := 3) rfl 6 (by decide) q1922 (fun _ h => h) rfl rfl rfl rfl mW_a (Nat.le_of_ble_eq_true rfl) mW_u6 ?_
      refine g_aload_n X dX4_firstFree_29 rfl rfl ?_
      refine g_get X dX4_firstFree_30 rfl in_X4 (ci := 3) rfl 6 (by decide) q1922 (fun _ h => h) mW_a rfl ?_
      refine g_if_le (tgt := 38) X dX4_firstFree_33 rfl (by decide) (fun c_33 => ?_) (fun c => absurd (by rw [vU_s]; decide) c)
      refine g_iload_n X dX4_firstFree_38 rfl rfl ?_
      refine g_istore_n X dX4_firstFree_39 rfl (by decide) rfl rfl ?_
      refine GJ.loc ((fun (t : Nat) => [some (.ref a), some (.int (nI j)), some (.int (nI t0)), some (.int (nI t))]) t0) (lvle_c rfl (lvle_c rfl (lvle_c rfl (lvle_c rfl lvle_e)))) ?_
      refine GJ.loopP (fun (t : Nat) => [some (.ref a), some (.int (nI j)), some (.int (nI t0)), some (.int (nI t))]) (fun (t : Nat) => (sM σ + 121 - t)) (fun (t : Nat) => (sM σ ≤ t ∧ t ≤ sM σ + 121 ∧ aFF σ j t (sM σ + 121 - t) = r)) t0 ⟨ht1, by omega, hQ⟩ ?_
      intro t hk ih
      obtain ⟨i1, i2, i3⟩ := hk
      have hok : okT σ (nI t) ↔ t ≤ sM σ + 120 := by
        unfold okT
        rw [nI_leI (by omega) (by omega), nI_leI (by omega) (by omega)]
        omega
      refine g_aload_n X dX4_firstFree_40 rfl rfl ?_
      refine g_iload_n X dX4_firstFree_41 rfl rfl ?_
      refine g_callV X (ct_X4_isStart hst hd hM) dX4_firstFree_42 rfl (lw_V q2020 q2022 qs33 q76 q2023) hyV_X4_isStart (fun H hH => hR.recv X.2.2.2.2.2.2.2.1 hH mW_a rfl) (fun H hH => hH) ⟨Nat.le_of_ble_eq_true rfl, Nat.le_of_ble_eq_true rfl⟩ ⟨Nat.le_of_ble_eq_true rfl, Nat.le_of_ble_eq_true rfl⟩ (Nat.le_of_ble_eq_true rfl) rfl (fun x_42 => ?_)
      refine g_if_eq (tgt := 64) X dX4_firstFree_45 rfl (by decide) (fun c_45 => ?_) (fun c_45 => ?_)
      · have c_45 := bI_0.mp c_45
        have i4 : t = sM σ + 121 := by
          rcases Nat.lt_or_ge t (sM σ + 121) with g | g
          · exact absurd (hok.mpr (by omega)) c_45
          · omega
        have i5 : r = none := by rw [← i3, i4, Nat.sub_self]; rfl
        subst i5
        refine g_aload_n X dX4_firstFree_64 rfl rfl ?_
        refine g_aload_n X dX4_firstFree_65 rfl rfl ?_
        refine g_iload_n X dX4_firstFree_66 rfl rfl ?_
        refine g_callV X (ct_X4_isStart hst hd hM) dX4_firstFree_67 rfl (lw_V q2020 q2022 qs33 q76 q2023) hyV_X4_isStart (fun H hH => hR.recv X.2.2.2.2.2.2.2.1 hH mW_a rfl) (fun H hH => hH) ⟨Nat.le_of_ble_eq_true rfl, Nat.le_of_ble_eq_true rfl⟩ ⟨Nat.le_of_ble_eq_true rfl, Nat.le_of_ble_eq_true rfl⟩ (Nat.le_of_ble_eq_true rfl) rfl (fun x_67 => ?_)
        refine g_if_eq (tgt := 77) X dX4_firstFree_70 rfl (by decide) (fun c_70 => ?_) (fun c => absurd (bI_n0.mp c) c_45)
        refine g_iconst X dX4_firstFree_77 rfl (v := (nI 3)) rfl ?_
        refine g_put X dX4_firstFree_78 rfl in_X4 tyX4_ok nmX4 (ci := 3) rfl 6 (by decide) q1922 (fun _ h => h) rfl rfl rfl rfl mW_a (Nat.le_of_ble_eq_true rfl) mW_u6 ?_
        refine g_aload_n X dX4_firstFree_81 rfl rfl ?_
        refine g_get X dX4_firstFree_82 rfl in_X4 (ci := 3) rfl 6 (by decide) q1922 (fun _ h => h) mW_a rfl ?_
        refine g_if_le (tgt := 92) X dX4_firstFree_85 rfl (by decide) (fun c => absurd c (by rw [vU_s]; decide)) (fun c_85 => ?_)
        rw [vU_vU]
        refine g_iconst X dX4_firstFree_88 rfl (v := (nI 0)) rfl ?_
        refine g_goto (tgt := 93) X dX4_firstFree_89 rfl (by decide) ?_
        refine g_iret X dX4_firstFree_93 rfl (Nat.le_of_ble_eq_true rfl) (Nat.le_of_ble_eq_true rfl) (fun H hH => ⟨(), rfl, hH⟩)
      · have c_45 := bI_n0.mp c_45
        refine g_aload_n X dX4_firstFree_48 rfl rfl ?_
        refine g_iconst X dX4_firstFree_49 rfl (v := (-1)) rfl ?_
        refine g_iload_n X dX4_firstFree_50 rfl rfl ?_
        refine g_iload_n X dX4_firstFree_51 rfl rfl ?_
        refine g_callV X (ct_X4_clashes hst hd hM hB hj (by omega)) dX4_firstFree_52 rfl (lw_V q2032 q2034 qs36 q76 q2035) hyV_X4_clashes (fun H hH => hR.recv X.2.2.2.2.2.2.2.1 hH mW_a rfl) (fun H hH => hH) ⟨Nat.le_of_ble_eq_true rfl, Nat.le_of_ble_eq_true rfl⟩ ⟨Nat.le_of_ble_eq_true rfl, Nat.le_of_ble_eq_true rfl⟩ (Nat.le_of_ble_eq_true rfl) rfl (fun x_52 => ?_)
        refine g_if_eq (tgt := 64) X dX4_firstFree_55 rfl (by decide) (fun c_55 => ?_) (fun c_55 => ?_)
        · have c_55 := bI_0.mp c_55
          have i5 : r = some t := by
            rw [← i3, show sM σ + 121 - t = (sM σ + 120 - t) + 1 by have := hok.mp c_45; omega, aFF, cH_f c_55]
          subst i5
          refine g_aload_n X dX4_firstFree_64 rfl rfl ?_
          refine g_aload_n X dX4_firstFree_65 rfl rfl ?_
          refine g_iload_n X dX4_firstFree_66 rfl rfl ?_
          refine g_callV X (ct_X4_isStart hst hd hM) dX4_firstFree_67 rfl (lw_V q2020 q2022 qs33 q76 q2023) hyV_X4_isStart (fun H hH => hR.recv X.2.2.2.2.2.2.2.1 hH mW_a rfl) (fun H hH => hH) ⟨Nat.le_of_ble_eq_true rfl, Nat.le_of_ble_eq_true rfl⟩ ⟨Nat.le_of_ble_eq_true rfl, Nat.le_of_ble_eq_true rfl⟩ (Nat.le_of_ble_eq_true rfl) rfl (fun x_67 => ?_)
          refine g_if_eq (tgt := 77) X dX4_firstFree_70 rfl (by decide) (fun c => absurd c_45 (bI_0.mp c)) (fun c_70 => ?_)
          refine g_iconst X dX4_firstFree_73 rfl (v := (nI 0)) rfl ?_
          refine g_goto (tgt := 78) X dX4_firstFree_74 rfl (by decide) ?_
          refine g_put X dX4_firstFree_78 rfl in_X4 tyX4_ok nmX4 (ci := 3) rfl 6 (by decide) q1922 (fun _ h => h) rfl rfl rfl rfl mW_a (Nat.le_of_ble_eq_true rfl) mW_u6 ?_
          refine g_aload_n X dX4_firstFree_81 rfl rfl ?_
          refine g_get X dX4_firstFree_82 rfl in_X4 (ci := 3) rfl 6 (by decide) q1922 (fun _ h => h) mW_a rfl ?_
          refine g_if_le (tgt := 92) X dX4_firstFree_85 rfl (by decide) (fun c_85 => ?_) (fun c => absurd (by rw [vU_s]; decide) c)
          rw [vU_vU]
          refine g_iload_n X dX4_firstFree_92 rfl rfl ?_
          refine g_iret X dX4_firstFree_93 rfl (Nat.le_of_ble_eq_true rfl) (Nat.le_of_ble_eq_true rfl) (fun H hH => ⟨(), rfl, hH⟩)
        · have c_55 := bI_n0.mp c_55
          have i6 := hok.mp c_45
          refine g_iinc X dX4_firstFree_58 rfl rfl (by first | exact nI_1 _ | rfl) (by decide) rfl rfl ?_
          refine g_goto (tgt := 40) X dX4_firstFree_61 rfl (by decide) ?_
          refine GJ.loc [some (.ref a), some (.int (nI j)), some (.int (nI t0)), some (.int (nI (t + 1)))] (lvle_c rfl (lvle_c rfl (lvle_c rfl (lvle_c rfl lvle_e)))) ?_
          refine ih (t + 1) ⟨by omega, by omega, ?_⟩ (by omega)
          rw [← i3, show sM σ + 121 - t = (sM σ + 121 - (t + 1)) + 1 by omega, aFF, cH_t c_55]
    · rw [cH_f hy]
      refine CM.of (L := [some (.ref a), some (.int (nI j)), some (.int y), none]) hst (by decide) (Nat.le_of_ble_eq_true rfl) rfl ?_
      intro p e s m below meth c X hnm htab
      refine g_aload_n X dX4_firstFree_0 rfl rfl ?_
      refine g_aload_n X dX4_firstFree_1 rfl rfl ?_
      refine g_iload_n X dX4_firstFree_2 rfl rfl ?_
      refine g_callV X (ct_X4_isSlide hst hd hM) dX4_firstFree_3 rfl (lw_V q2016 q2018 qs32 q76 q2019) hyV_X4_isSlide (fun H hH => hR.recv X.2.2.2.2.2.2.2.1 hH mW_a rfl) (fun H hH => hH) ⟨Nat.le_of_ble_eq_true rfl, Nat.le_of_ble_eq_true rfl⟩ ⟨Nat.le_of_ble_eq_true rfl, Nat.le_of_ble_eq_true rfl⟩ (Nat.le_of_ble_eq_true rfl) rfl (fun x_3 => ?_)
      refine g_if_ne (tgt := 13) X dX4_firstFree_6 rfl (by decide) (fun c_6 => ?_) (fun c => absurd hx (bI_0.mp c))
      refine g_aload_n X dX4_firstFree_13 rfl rfl ?_
      refine g_iload_n X dX4_firstFree_14 rfl rfl ?_
      refine g_callV X (ct_X4_isStart hst hd hM) dX4_firstFree_15 rfl (lw_V q2020 q2022 qs33 q76 q2023) hyV_X4_isStart (fun H hH => hR.recv X.2.2.2.2.2.2.2.1 hH mW_a rfl) (fun H hH => hH) ⟨Nat.le_of_ble_eq_true rfl, Nat.le_of_ble_eq_true rfl⟩ ⟨Nat.le_of_ble_eq_true rfl, Nat.le_of_ble_eq_true rfl⟩ (Nat.le_of_ble_eq_true rfl) rfl (fun x_15 => ?_)
      refine g_if_ne (tgt := 25) X dX4_firstFree_18 rfl (by decide) (fun c => absurd (bI_n0.mp c) hy) (fun c_18 => ?_)
      refine g_iconst X dX4_firstFree_21 rfl (v := (nI 2)) rfl ?_
      refine g_goto (tgt := 26) X dX4_firstFree_22 rfl (by decide) ?_
      refine g_put X dX4_firstFree_26 rfl in_X4 tyX4_ok nmX4 (ci := 3) rfl 6 (by decide) q1922 (fun _ h => h) rfl rfl rfl rfl mW_a (Nat.le_of_ble_eq_true rfl) mW_u6 ?_
      refine g_aload_n X dX4_firstFree_29 rfl rfl ?_
      refine g_get X dX4_firstFree_30 rfl in_X4 (ci := 3) rfl 6 (by decide) q1922 (fun _ h => h) mW_a rfl ?_
      refine g_if_le (tgt := 38) X dX4_firstFree_33 rfl (by decide) (fun c => absurd c (by rw [vU_s]; decide)) (fun c_33 => ?_)
      refine g_iconst X dX4_firstFree_36 rfl (v := (nI 0)) rfl ?_
      refine g_iret X dX4_firstFree_37 rfl (Nat.le_of_ble_eq_true rfl) (Nat.le_of_ble_eq_true rfl) (fun H hH => ⟨(), rfl, hH⟩)
  · rw [qFF, cH_f hx]
    refine CM.of (L := [some (.ref a), some (.int x), some (.int y), none]) hst (by decide) (Nat.le_of_ble_eq_true rfl) rfl ?_
    intro p e s m below meth c X hnm htab
    refine g_aload_n X dX4_firstFree_0 rfl rfl ?_
    refine g_aload_n X dX4_firstFree_1 rfl rfl ?_
    refine g_iload_n X dX4_firstFree_2 rfl rfl ?_
    refine g_callV X (ct_X4_isSlide hst hd hM) dX4_firstFree_3 rfl (lw_V q2016 q2018 qs32 q76 q2019) hyV_X4_isSlide (fun H hH => hR.recv X.2.2.2.2.2.2.2.1 hH mW_a rfl) (fun H hH => hH) ⟨Nat.le_of_ble_eq_true rfl, Nat.le_of_ble_eq_true rfl⟩ ⟨Nat.le_of_ble_eq_true rfl, Nat.le_of_ble_eq_true rfl⟩ (Nat.le_of_ble_eq_true rfl) rfl (fun x_3 => ?_)
    refine g_if_ne (tgt := 13) X dX4_firstFree_6 rfl (by decide) (fun c => absurd (bI_n0.mp c) hx) (fun c_6 => ?_)
    refine g_iconst X dX4_firstFree_9 rfl (v := (nI 1)) rfl ?_
    refine g_goto (tgt := 26) X dX4_firstFree_10 rfl (by decide) ?_
    refine g_put X dX4_firstFree_26 rfl in_X4 tyX4_ok nmX4 (ci := 3) rfl 6 (by decide) q1922 (fun _ h => h) rfl rfl rfl rfl mW_a (Nat.le_of_ble_eq_true rfl) mW_u6 ?_
    refine g_aload_n X dX4_firstFree_29 rfl rfl ?_
    refine g_get X dX4_firstFree_30 rfl in_X4 (ci := 3) rfl 6 (by decide) q1922 (fun _ h => h) mW_a rfl ?_
    refine g_if_le (tgt := 38) X dX4_firstFree_33 rfl (by decide) (fun c => absurd c (by rw [vU_s]; decide)) (fun c_33 => ?_)
    refine g_iconst X dX4_firstFree_36 rfl (v := (nI 0)) rfl ?_
    refine g_iret X dX4_firstFree_37 rfl (Nat.le_of_ble_eq_true rfl) (Nat.le_of_ble_eq_true rfl) (fun H hH => ⟨(), rfl, hH⟩)
theorem ct_X4_firstFreeByGaps (hst : l.stackTraces = false) (hd : mDi a ad) (hM : MR (F 0) σ) (hB : Bd σ) {x y : Int32} : CM Ω l yX4_firstFreeByGaps (ws_ yX4_firstFreeByGaps cX4_firstFreeByGaps 3 (some .int)) 12 0 0 [.ref a, .int x, .int y] (hR Ω (mW Ω h a ad v F)) (QP (some (.int (qA (qFF σ x y)))) (hR Ω (mW Ω h a ad (vU v 6 (qT (qFF σ x y))) F))) nX := by
  refine CM.of (L := [some (.ref a), some (.int x), some (.int y)]) hst (by decide) (Nat.le_of_ble_eq_true rfl) rfl ?_
  intro p e s m below meth c X hnm htab
  refine g_aload_n X dX4_firstFreeByGaps_0 rfl rfl ?_
  refine g_iload_n X dX4_firstFreeByGaps_1 rfl rfl ?_
  refine g_iload_n X dX4_firstFreeByGaps_2 rfl rfl ?_
  refine g_callV X (ct_X4_firstFree hst hd hM hB) dX4_firstFreeByGaps_3 rfl (lw_V q2210 q2203 q2204 q76 q2205) hyV_X4_firstFree (fun H hH => hR.recv X.2.2.2.2.2.2.2.1 hH mW_a rfl) (fun H hH => hH) ⟨Nat.le_of_ble_eq_true rfl, Nat.le_of_ble_eq_true rfl⟩ ⟨Nat.le_of_ble_eq_true rfl, Nat.le_of_ble_eq_true rfl⟩ (Nat.le_of_ble_eq_true rfl) rfl (fun x_3 => ?_)
  refine g_iret X dX4_firstFreeByGaps_6 rfl (Nat.le_of_ble_eq_true rfl) (Nat.le_of_ble_eq_true rfl) (fun H hH => ⟨(), rfl, hH⟩)
theorem ct_X4_mostAtOnce (hst : l.stackTraces = false) (hd : mDi a ad) (hM : MR (F 0) σ) (hB : Bd σ) : CM Ω l yX4_mostAtOnce (ws_ yX4_mostAtOnce cX4_mostAtOnce 5 (some .int)) 10 0 0 [.ref a] (hR Ω (mW Ω h a ad v F)) (QP (some (.int (nI (aOnce σ)))) (hR Ω (mW Ω h a ad (vU v 6 (nI 0)) F))) nX := by
  have b1 := hB.1
  have e0 := hM.1.2.2.1
  refine CM.of (L := [some (.ref a), none, none, none, none]) hst (by decide) (Nat.le_of_ble_eq_true rfl) rfl ?_
  intro p e s m below meth c X hnm htab
  refine g_aload_n X dX4_mostAtOnce_0 rfl rfl ?_
  refine g_iconst X dX4_mostAtOnce_1 rfl (v := (nI 0)) rfl ?_
  refine g_put X dX4_mostAtOnce_2 rfl in_X4 tyX4_ok nmX4 (ci := 3) rfl 6 (by decide) q1922 (fun _ h => h) rfl rfl rfl rfl mW_a (Nat.le_of_ble_eq_true rfl) mW_u6 ?_
  refine g_iconst X dX4_mostAtOnce_5 rfl (v := (nI 0)) rfl ?_
  refine g_istore_n X dX4_mostAtOnce_6 rfl (by decide) rfl rfl ?_
  refine g_iconst X dX4_mostAtOnce_7 rfl (v := (nI 0)) rfl ?_
  refine g_istore_n X dX4_mostAtOnce_8 rfl (by decide) rfl rfl ?_
  unfold aOnce
  generalize hP : (fun one k => boT σ k ≤ boT σ one ∧ boT σ one < boE σ k) = P
  have hPk : ∀ one k, P one k ↔ (boT σ k ≤ boT σ one ∧ boT σ one < boE σ k) := fun one k => by rw [← hP]
  have hP2 : (fun one m => max m (cN (fun k => boT σ k ≤ boT σ one ∧ boT σ one < boE σ k) (nB σ))) = (fun one m => max m (cN (P one) (nB σ))) := by rw [← hP]
  rw [hP2]
  have hle : ∀ n, ff (fun one m => max m (cN (P one) (nB σ))) 0 n ≤ 12 := by
    intro n
    induction n with
    | zero => exact Nat.zero_le _
    | succ n ih => rw [ff_s]; have := cN_le (P n) (nB σ); omega
  refine GJ.loc ((fun (k : Nat) => [some (.ref a), some (.int (nI (ff (fun one m => max m (cN (P one) (nB σ))) 0 k))), some (.int (nI k)), none, none]) 0) (lvle_c rfl (lvle_c rfl (lvle_c rfl (lvle_n (lvle_n lvle_e))))) ?_
  refine GJ.loopP (fun (k : Nat) => [some (.ref a), some (.int (nI (ff (fun one m => max m (cN (P one) (nB σ))) 0 k))), some (.int (nI k)), none, none]) (fun (k : Nat) => (nB σ - k)) (fun (k : Nat) => (k ≤ nB σ)) 0 (Nat.zero_le _) ?_
  intro k hk ih
  have hlk := hle k
  refine g_iload_n X dX4_mostAtOnce_9 rfl rfl ?_
  refine g_aload_n X dX4_mostAtOnce_10 rfl rfl ?_
  refine g_get X dX4_mostAtOnce_11 rfl in_X4 (ci := 3) rfl 0 (by decide) q1916 (fun _ h => h) mW_a rfl ?_
  refine g_iconst X dX4_mostAtOnce_14 rfl (v := (nI 2)) rfl ?_
  refine g_ial X dX4_mostAtOnce_15 rfl (mW_0 hd) (vp_in_nI (by omega) (by decide)) (ix_v (by omega) e0) ?_
  refine g_icmp_ge (tgt := 86) X dX4_mostAtOnce_16 rfl (by decide) (fun c_16 => ?_) (fun c_16 => ?_)
  · rw [nI_leI (by omega) (by omega)] at c_16
    obtain rfl : k = nB σ := by omega
    refine g_iload_n X dX4_mostAtOnce_86 rfl rfl ?_
    refine g_iret X dX4_mostAtOnce_87 rfl (Nat.le_of_ble_eq_true rfl) (Nat.le_of_ble_eq_true rfl) (fun H hH => ⟨(), rfl, hH⟩)
  · rw [nI_leI (by omega) (by omega)] at c_16
    have hk2 : k < nB σ := by omega
    have b5 := hB.2.2.2.2.1 k hk2
    refine g_iconst X dX4_mostAtOnce_19 rfl (v := (nI 0)) rfl ?_
    refine g_istore_n X dX4_mostAtOnce_20 rfl (by decide) rfl rfl ?_
    refine g_iconst X dX4_mostAtOnce_21 rfl (v := (nI 0)) rfl ?_
    refine g_istore X dX4_mostAtOnce_22 rfl (by decide) rfl rfl ?_
    refine GJ.loc ((fun (j : Nat) => [some (.ref a), some (.int (nI (ff (fun one m => max m (cN (P one) (nB σ))) 0 k))), some (.int (nI k)), some (.int (nI (cN (P k) j))), some (.int (nI j))]) 0) (lvle_c rfl (lvle_c rfl (lvle_c rfl (lvle_c rfl (lvle_c rfl lvle_e))))) ?_
    refine GJ.loopP (fun (j : Nat) => [some (.ref a), some (.int (nI (ff (fun one m => max m (cN (P one) (nB σ))) 0 k))), some (.int (nI k)), some (.int (nI (cN (P k) j))), some (.int (nI j))]) (fun (j : Nat) => (nB σ - j)) (fun (j : Nat) => (j ≤ nB σ)) 0 (Nat.zero_le _) ?_
    intro j hj ihj
    have hcj := cN_le (P k) j
    refine g_iload X dX4_mostAtOnce_24 rfl rfl ?_
    refine g_aload_n X dX4_mostAtOnce_26 rfl rfl ?_
    refine g_get X dX4_mostAtOnce_27 rfl in_X4 (ci := 3) rfl 0 (by decide) q1916 (fun _ h => h) mW_a rfl ?_
    refine g_iconst X dX4_mostAtOnce_30 rfl (v := (nI 2)) rfl ?_
    refine g_ial X dX4_mostAtOnce_31 rfl (mW_0 hd) (vp_in_nI (by omega) (by decide)) (ix_v (by omega) e0) ?_
    refine g_icmp_ge (tgt := 74) X dX4_mostAtOnce_32 rfl (by decide) (fun c_32 => ?_) (fun c_32 => ?_)
    · rw [nI_leI (by omega) (by omega)] at c_32
      obtain rfl : j = nB σ := by omega
      refine g_iload_n X dX4_mostAtOnce_74 rfl rfl ?_
      refine g_iload_n X dX4_mostAtOnce_75 rfl rfl ?_
      refine g_max X dX4_mostAtOnce_76 rfl q2117 (Nat.le_of_ble_eq_true rfl) (Nat.le_of_ble_eq_true rfl) (Nat.le_of_ble_eq_true rfl) (Nat.le_of_ble_eq_true rfl) (mx_nI (by omega) (by omega)) ?_
      refine g_istore_n X dX4_mostAtOnce_79 rfl (by decide) rfl rfl ?_
      refine g_iinc X dX4_mostAtOnce_80 rfl rfl (by first | exact nI_1 _ | rfl) (by decide) rfl rfl ?_
      refine g_goto (tgt := 9) X dX4_mostAtOnce_83 rfl (by decide) ?_
      refine GJ.loc [some (.ref a), some (.int (nI (ff (fun one m => max m (cN (P one) (nB σ))) 0 (k + 1)))), some (.int (nI (k + 1))), none, none] (lvle_c rfl (lvle_c rfl (lvle_c rfl (lvle_n (lvle_n lvle_e))))) ?_
      exact ih (k + 1) (by omega) (by omega)
    · rw [nI_leI (by omega) (by omega)] at c_32
      have hj2 : j < nB σ := by omega
      have b6 := hB.2.2.2.2.1 j hj2
      have b7 := hB.2.1 _ b6.2.1
      have e6 : boE σ j = boT σ j + slD σ (boS σ j) := rfl
      refine g_iload_n X dX4_mostAtOnce_35 rfl rfl ?_
      refine GJ.cutv 66 (bI (P k j)) ?_ (fun hj => ?_)
      · refine g_iadd X dX4_mostAtOnce_66 rfl cN_ad0 ?_
        refine g_istore_n X dX4_mostAtOnce_67 rfl (by decide) rfl rfl ?_
        refine g_iinc X dX4_mostAtOnce_68 rfl rfl (by first | exact nI_1 _ | rfl) (by decide) rfl rfl ?_
        refine g_goto (tgt := 24) X dX4_mostAtOnce_71 rfl (by decide) ?_
        refine GJ.loc [some (.ref a), some (.int (nI (ff (fun one m => max m (cN (P one) (nB σ))) 0 k))), some (.int (nI k)), some (.int (nI (cN (P k) (j + 1)))), some (.int (nI (j + 1)))] (lvle_c rfl (lvle_c rfl (lvle_c rfl (lvle_c rfl (lvle_c rfl lvle_e))))) ?_
        exact ihj (j + 1) (by omega) (by omega)
      · refine g_aload_n X dX4_mostAtOnce_36 rfl rfl ?_
        refine g_iload_n X dX4_mostAtOnce_37 rfl rfl ?_
        refine g_callV X (ct_X4_startOf hst hd hM hB hk2) dX4_mostAtOnce_38 rfl (lw_V q2040 q2042 qs38 q76 q2043) hyV_X4_startOf (fun H hH => hR.recv X.2.2.2.2.2.2.2.1 hH mW_a rfl) (fun H hH => hH) ⟨Nat.le_of_ble_eq_true rfl, Nat.le_of_ble_eq_true rfl⟩ ⟨Nat.le_of_ble_eq_true rfl, Nat.le_of_ble_eq_true rfl⟩ (Nat.le_of_ble_eq_true rfl) rfl (fun x_38 => ?_)
        refine g_aload_n X dX4_mostAtOnce_41 rfl rfl ?_
        refine g_iload X dX4_mostAtOnce_42 rfl rfl ?_
        refine g_callV X (ct_X4_startOf hst hd hM hB hj2) dX4_mostAtOnce_44 rfl (lw_V q2040 q2042 qs38 q76 q2043) hyV_X4_startOf (fun H hH => hR.recv X.2.2.2.2.2.2.2.1 hH mW_a rfl) (fun H hH => hH) ⟨Nat.le_of_ble_eq_true rfl, Nat.le_of_ble_eq_true rfl⟩ ⟨Nat.le_of_ble_eq_true rfl, Nat.le_of_ble_eq_true rfl⟩ (Nat.le_of_ble_eq_true rfl) rfl (fun x_44 => ?_)
        refine g_aload_n X dX4_mostAtOnce_47 rfl rfl ?_
        refine g_iload X dX4_mostAtOnce_48 rfl rfl ?_
        refine g_callV X (ct_X4_endOf hst hd hM hB hj2) dX4_mostAtOnce_50 rfl (lw_V q2044 q2046 qs39 q76 q2047) hyV_X4_endOf (fun H hH => hR.recv X.2.2.2.2.2.2.2.1 hH mW_a rfl) (fun H hH => hH) ⟨Nat.le_of_ble_eq_true rfl, Nat.le_of_ble_eq_true rfl⟩ ⟨Nat.le_of_ble_eq_true rfl, Nat.le_of_ble_eq_true rfl⟩ (Nat.le_of_ble_eq_true rfl) rfl (fun x_50 => ?_)
        refine g_iconst X dX4_mostAtOnce_53 rfl (v := (nI 1)) rfl ?_
        refine g_isub X dX4_mostAtOnce_54 rfl (pk_sub (by omega)) ?_
        refine g_callS X (ct_X4_in hst) dX4_mostAtOnce_55 rfl (lw_S q1985 q1986 q76 q1987) hyS_X4_in (fun H hH => hH) ⟨Nat.le_of_ble_eq_true rfl, Nat.le_of_ble_eq_true rfl⟩ ⟨Nat.le_of_ble_eq_true rfl, Nat.le_of_ble_eq_true rfl⟩ (Nat.le_of_ble_eq_true rfl) rfl (fun x_55 => ?_)
        refine g_if_eq (tgt := 65) X dX4_mostAtOnce_58 rfl (by decide) (fun c_58 => ?_) (fun c_58 => ?_)
        · have c_58 := bI_0.mp c_58
          rw [nI_leI (by omega) (by omega), nI_leI (by omega) (by omega)] at c_58
          refine g_iconst X dX4_mostAtOnce_65 rfl (v := (nI 0)) rfl ?_
          exact GJ.top (bI_f (fun g => c_58 (by have := (hPk k j).mp g; omega))).symm hj
        · have c_58 := bI_n0.mp c_58
          rw [nI_leI (by omega) (by omega), nI_leI (by omega) (by omega)] at c_58
          refine g_iconst X dX4_mostAtOnce_61 rfl (v := (nI 1)) rfl ?_
          refine g_goto (tgt := 66) X dX4_mostAtOnce_62 rfl (by decide) ?_
          exact GJ.top (bI_t ((hPk k j).mpr (by omega))).symm hj
theorem ct_X4_mostAtOnceBySweep (hst : l.stackTraces = false) (hd : mDi a ad) (hM : MR (F 0) σ) (hB : Bd σ) : CM Ω l yX4_mostAtOnceBySweep (ws_ yX4_mostAtOnceBySweep cX4_mostAtOnceBySweep 1 (some .int)) 12 0 0 [.ref a] (hR Ω (mW Ω h a ad v F)) (QP (some (.int (nI (aOnce σ)))) (hR Ω (mW Ω h a ad (vU v 6 (nI 0)) F))) nX := by
  refine CM.of (L := [some (.ref a)]) hst (by decide) (Nat.le_of_ble_eq_true rfl) rfl ?_
  intro p e s m below meth c X hnm htab
  refine g_aload_n X dX4_mostAtOnceBySweep_0 rfl rfl ?_
  refine g_callV X (ct_X4_mostAtOnce hst hd hM hB) dX4_mostAtOnceBySweep_1 rfl (lw_V q2229 q2222 q2223 q76 q2224) hyV_X4_mostAtOnce (fun H hH => hR.recv X.2.2.2.2.2.2.2.1 hH mW_a rfl) (fun H hH => hH) ⟨Nat.le_of_ble_eq_true rfl, Nat.le_of_ble_eq_true rfl⟩ ⟨Nat.le_of_ble_eq_true rfl, Nat.le_of_ble_eq_true rfl⟩ (Nat.le_of_ble_eq_true rfl) rfl (fun x_1 => ?_)
  refine g_iret X dX4_mostAtOnceBySweep_4 rfl (Nat.le_of_ble_eq_true rfl) (Nat.le_of_ble_eq_true rfl) (fun H hH => ⟨(), rfl, hH⟩)
theorem ct_X4_photoFinishes (hst : l.stackTraces = false) (hd : mDi a ad) (hM : MR (F 0) σ) (hB : Bd σ) : CM Ω l yX4_photoFinishes (ws_ yX4_photoFinishes cX4_photoFinishes 4 (some .int)) 10 0 0 [.ref a] (hR Ω (mW Ω h a ad v F)) (QP (some (.int (nI (aPho σ)))) (hR Ω (mW Ω h a ad (vU v 6 (nI 0)) F))) nX := by
  have b1 := hB.1
  have e0 := hM.1.2.2.2.2.1
  refine CM.of (L := [some (.ref a), none, none, none]) hst (by decide) (Nat.le_of_ble_eq_true rfl) rfl ?_
  intro p e s m below meth c X hnm htab
  refine g_aload_n X dX4_photoFinishes_0 rfl rfl ?_
  refine g_iconst X dX4_photoFinishes_1 rfl (v := (nI 0)) rfl ?_
  refine g_put X dX4_photoFinishes_2 rfl in_X4 tyX4_ok nmX4 (ci := 3) rfl 6 (by decide) q1922 (fun _ h => h) rfl rfl rfl rfl mW_a (Nat.le_of_ble_eq_true rfl) mW_u6 ?_
  refine g_iconst X dX4_photoFinishes_5 rfl (v := (nI 0)) rfl ?_
  refine g_istore_n X dX4_photoFinishes_6 rfl (by decide) rfl rfl ?_
  refine g_iconst X dX4_photoFinishes_7 rfl (v := (nI 0)) rfl ?_
  refine g_istore_n X dX4_photoFinishes_8 rfl (by decide) rfl rfl ?_
  unfold aPho
  generalize hP : (fun one k => fiM σ (nF σ - 1 - one) = fiM σ (nF σ - 1 - k)) = P
  have hPk : ∀ one k, P one k ↔ (fiM σ (nF σ - 1 - one) = fiM σ (nF σ - 1 - k)) := fun one k => by rw [← hP]
  have hP2 : (fun one m => m + cN (fun k => fiM σ (nF σ - 1 - one) = fiM σ (nF σ - 1 - k)) one) = (fun one m => m + cN (P one) one) := by rw [← hP]
  rw [hP2]
  have hle : ∀ n, ff (fun one m => m + cN (P one) one) 0 n ≤ n * n := by
    intro n
    induction n with
    | zero => exact Nat.zero_le _
    | succ n ih => rw [ff_s]; have := cN_le (P n) n; have h9 : (n + 1) * (n + 1) = n * n + 2 * n + 1 := by rw [Nat.add_mul, Nat.mul_add]; omega
                   omega
  refine GJ.loc ((fun (k : Nat) => [some (.ref a), some (.int (nI (ff (fun one m => m + cN (P one) one) 0 k))), some (.int (nI k)), none]) 0) (lvle_c rfl (lvle_c rfl (lvle_c rfl (lvle_n lvle_e)))) ?_
  refine GJ.loopP (fun (k : Nat) => [some (.ref a), some (.int (nI (ff (fun one m => m + cN (P one) one) 0 k))), some (.int (nI k)), none]) (fun (k : Nat) => (nF σ - k)) (fun (k : Nat) => (k ≤ nF σ)) 0 (Nat.zero_le _) ?_
  intro k hk ih
  refine g_iload_n X dX4_photoFinishes_9 rfl rfl ?_
  refine g_aload_n X dX4_photoFinishes_10 rfl rfl ?_
  refine g_get X dX4_photoFinishes_11 rfl in_X4 (ci := 3) rfl 0 (by decide) q1916 (fun _ h => h) mW_a rfl ?_
  refine g_iconst X dX4_photoFinishes_14 rfl (v := (nI 4)) rfl ?_
  refine g_ial X dX4_photoFinishes_15 rfl (mW_0 hd) (vp_in_nI (by omega) (by decide)) (ix_v (by omega) e0) ?_
  refine g_icmp_ge (tgt := 75) X dX4_photoFinishes_16 rfl (by decide) (fun c_16 => ?_) (fun c_16 => ?_)
  · rw [nI_leI (by omega) (by omega)] at c_16
    obtain rfl : k = nF σ := by omega
    refine g_iload_n X dX4_photoFinishes_75 rfl rfl ?_
    refine g_iret X dX4_photoFinishes_76 rfl (Nat.le_of_ble_eq_true rfl) (Nat.le_of_ble_eq_true rfl) (fun H hH => ⟨(), rfl, hH⟩)
  · rw [nI_leI (by omega) (by omega)] at c_16
    have hk2 : k < nF σ := by omega
    have e5 := (hM.2.2.2.2.2 k hk2).2.2
    have b5 := (hB.2.2.2.2.2 (nF σ - 1 - k) (by omega)).2.2
    refine g_iconst X dX4_photoFinishes_19 rfl (v := (nI 0)) rfl ?_
    refine g_istore_n X dX4_photoFinishes_20 rfl (by decide) rfl rfl ?_
    refine GJ.loc ((fun (j : Nat) => [some (.ref a), some (.int (nI (ff (fun one m => m + cN (P one) one) 0 k + cN (P k) j))), some (.int (nI k)), some (.int (nI j))]) 0) (lvle_c rfl (lvle_c rfl (lvle_c rfl (lvle_c rfl lvle_e)))) ?_
    refine GJ.loopP (fun (j : Nat) => [some (.ref a), some (.int (nI (ff (fun one m => m + cN (P one) one) 0 k + cN (P k) j))), some (.int (nI k)), some (.int (nI j))]) (fun (j : Nat) => (k - j)) (fun (j : Nat) => (j ≤ k)) 0 (Nat.zero_le _) ?_
    intro j hj ihj
    refine g_iload_n X dX4_photoFinishes_21 rfl rfl ?_
    refine g_iload_n X dX4_photoFinishes_22 rfl rfl ?_
    refine g_icmp_ge (tgt := 69) X dX4_photoFinishes_23 rfl (by decide) (fun c_23 => ?_) (fun c_23 => ?_)
    · rw [nI_leI (by omega) (by omega)] at c_23
      obtain rfl : j = k := by omega
      refine g_iinc X dX4_photoFinishes_69 rfl rfl (by first | exact nI_1 _ | rfl) (by decide) rfl rfl ?_
      refine g_goto (tgt := 9) X dX4_photoFinishes_72 rfl (by decide) ?_
      refine GJ.loc [some (.ref a), some (.int (nI (ff (fun one m => m + cN (P one) one) 0 (j + 1)))), some (.int (nI (j + 1))), none] (lvle_c rfl (lvle_c rfl (lvle_c rfl (lvle_n lvle_e)))) ?_
      exact ih (j + 1) (by omega) (by omega)
    · rw [nI_leI (by omega) (by omega)] at c_23
      have hj2 : j < nF σ := by omega
      have e6 := (hM.2.2.2.2.2 j hj2).2.2
      have b6 := (hB.2.2.2.2.2 (nF σ - 1 - j) (by omega)).2.2
      refine g_iload_n X dX4_photoFinishes_26 rfl rfl ?_
      refine GJ.cutv 61 (bI (P k j)) ?_ (fun hj => ?_)
      · refine g_iadd X dX4_photoFinishes_61 rfl cN_add ?_
        refine g_istore_n X dX4_photoFinishes_62 rfl (by decide) rfl rfl ?_
        refine g_iinc X dX4_photoFinishes_63 rfl rfl (by first | exact nI_1 _ | rfl) (by decide) rfl rfl ?_
        refine g_goto (tgt := 21) X dX4_photoFinishes_66 rfl (by decide) ?_
        refine GJ.loc [some (.ref a), some (.int (nI (ff (fun one m => m + cN (P one) one) 0 k + cN (P k) (j + 1)))), some (.int (nI k)), some (.int (nI (j + 1)))] (lvle_c rfl (lvle_c rfl (lvle_c rfl (lvle_c rfl lvle_e)))) ?_
        exact ihj (j + 1) (by omega) (by omega)
      · refine g_aload_n X dX4_photoFinishes_27 rfl rfl ?_
        refine g_get X dX4_photoFinishes_28 rfl in_X4 (ci := 3) rfl 0 (by decide) q1916 (fun _ h => h) mW_a rfl ?_
        refine g_bipush X dX4_photoFinishes_31 rfl (v := (nI 110)) (by decide) ?_
        refine g_iconst X dX4_photoFinishes_33 rfl (v := (nI 3)) rfl ?_
        refine g_iload_n X dX4_photoFinishes_34 rfl rfl ?_
        refine g_imul X dX4_photoFinishes_35 rfl (by first | exact pk_mul _ _ | rfl) ?_
        refine g_iadd X dX4_photoFinishes_36 rfl (by first | exact nI_add _ _ | rfl) ?_
        refine g_iconst X dX4_photoFinishes_37 rfl (v := (nI 2)) rfl ?_
        refine g_iadd X dX4_photoFinishes_38 rfl (by first | exact nI_add _ _ | rfl) ?_
        refine g_ial X dX4_photoFinishes_39 rfl (mW_0 hd) (vp_in_nI (by omega) (by decide)) (ix_v (by omega) e5) ?_
        refine g_aload_n X dX4_photoFinishes_40 rfl rfl ?_
        refine g_get X dX4_photoFinishes_41 rfl in_X4 (ci := 3) rfl 0 (by decide) q1916 (fun _ h => h) mW_a rfl ?_
        refine g_bipush X dX4_photoFinishes_44 rfl (v := (nI 110)) (by decide) ?_
        refine g_iconst X dX4_photoFinishes_46 rfl (v := (nI 3)) rfl ?_
        refine g_iload_n X dX4_photoFinishes_47 rfl rfl ?_
        refine g_imul X dX4_photoFinishes_48 rfl (by first | exact pk_mul _ _ | rfl) ?_
        refine g_iadd X dX4_photoFinishes_49 rfl (by first | exact nI_add _ _ | rfl) ?_
        refine g_iconst X dX4_photoFinishes_50 rfl (v := (nI 2)) rfl ?_
        refine g_iadd X dX4_photoFinishes_51 rfl (by first | exact nI_add _ _ | rfl) ?_
        refine g_ial X dX4_photoFinishes_52 rfl (mW_0 hd) (vp_in_nI (by omega) (by decide)) (ix_v (by omega) e6) ?_
        refine g_icmp_ne (tgt := 60) X dX4_photoFinishes_53 rfl (by decide) (fun c_53 => ?_) (fun c_53 => ?_)
        · rw [nI_eq (by omega) (by omega)] at c_53
          refine g_iconst X dX4_photoFinishes_60 rfl (v := (nI 0)) rfl ?_
          exact GJ.top (bI_f (fun g => c_53 ((hPk k j).mp g))).symm hj
        · rw [nI_eq (by omega) (by omega)] at c_53
          refine g_iconst X dX4_photoFinishes_56 rfl (v := (nI 1)) rfl ?_
          refine g_goto (tgt := 61) X dX4_photoFinishes_57 rfl (by decide) ?_
          exact GJ.top (bI_t ((hPk k j).mpr c_53)).symm hj
theorem ct_X4_photoFinishesByRuns (hst : l.stackTraces = false) (hd : mDi a ad) (hM : MR (F 0) σ) (hB : Bd σ) : CM Ω l yX4_photoFinishesByRuns (ws_ yX4_photoFinishesByRuns cX4_photoFinishesByRuns 1 (some .int)) 12 0 0 [.ref a] (hR Ω (mW Ω h a ad v F)) (QP (some (.int (nI (aPho σ)))) (hR Ω (mW Ω h a ad (vU v 6 (nI 0)) F))) nX := by
  refine CM.of (L := [some (.ref a)]) hst (by decide) (Nat.le_of_ble_eq_true rfl) rfl ?_
  intro p e s m below meth c X hnm htab
  refine g_aload_n X dX4_photoFinishesByRuns_0 rfl rfl ?_
  refine g_callV X (ct_X4_photoFinishes hst hd hM hB) dX4_photoFinishesByRuns_1 rfl (lw_V q2258 q2251 q2252 q76 q2253) hyV_X4_photoFinishes (fun H hH => hR.recv X.2.2.2.2.2.2.2.1 hH mW_a rfl) (fun H hH => hH) ⟨Nat.le_of_ble_eq_true rfl, Nat.le_of_ble_eq_true rfl⟩ ⟨Nat.le_of_ble_eq_true rfl, Nat.le_of_ble_eq_true rfl⟩ (Nat.le_of_ble_eq_true rfl) rfl (fun x_1 => ?_)
  refine g_iret X dX4_photoFinishesByRuns_4 rfl (Nat.le_of_ble_eq_true rfl) (Nat.le_of_ble_eq_true rfl) (fun H hH => ⟨(), rfl, hH⟩)
end M5
