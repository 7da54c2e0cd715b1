/-! MODEL: the two quotients -/
section M19
variable {l : Launch} {Ω : Om} {h : RH} {a : Nat} {ad : Nat → Nat} {v : Nat → Int32} {F : Nat → Nat → Int32} {σ : St}
set_option maxRecDepth 100000
theorem ct_X4_meanCoins (hst : l.stackTraces = false) (hd : mDi a ad) (hM : MR (F 0) σ) (hB : Bd σ) : CM Ω l yX4_meanCoins (ws_ yX4_meanCoins cX4_meanCoins 4 (some .double)) 4 0 0 [.ref a] (hR Ω (mW Ω h a ad v F)) (QP (some (.double (qMean σ))) (hR Ω (mW Ω h a ad (vU v 6 (cH (0 < nG σ) (nI 0) (nI 1))) F))) nX := by
  have b1 := hB.1
  refine CM.of (L := [some (.ref a), none, none, none]) hst (by decide) (Nat.le_of_ble_eq_true rfl) rfl ?_
  intro p e s m below meth c X hnm htab
  refine g_aload_n X dX4_meanCoins_0 rfl rfl ?_
  refine g_get X dX4_meanCoins_1 rfl in_X4 (ci := 3) rfl 0 (by decide) q1916 (fun _ h => h) mW_a rfl ?_
  refine g_iconst X dX4_meanCoins_4 rfl (v := (nI 1)) rfl ?_
  refine g_ial X dX4_meanCoins_5 rfl (mW_0 hd) (vp_in_nI (by omega) (by decide)) (ix_v (by omega) hM.1.2.1) ?_
  refine g_istore_n X dX4_meanCoins_6 rfl (by decide) rfl rfl ?_
  refine g_iconst X dX4_meanCoins_7 rfl (v := (nI 0)) rfl ?_
  refine g_istore_n X dX4_meanCoins_8 rfl (by decide) rfl rfl ?_
  refine g_iconst X dX4_meanCoins_9 rfl (v := (nI 0)) rfl ?_
  refine g_istore_n X dX4_meanCoins_10 rfl (by decide) rfl rfl ?_
  refine GJ.loc ((fun (k : Nat) => [some (.ref a), some (.int (nI (nG σ))), some (.int (nI (aSum σ k))), some (.int (nI k))]) 0) (lvle_c rfl (lvle_c rfl (lvle_c rfl (lvle_c rfl lvle_e)))) ?_
  refine GJ.loopP (fun (k : Nat) => [some (.ref a), some (.int (nI (nG σ))), some (.int (nI (aSum σ k))), some (.int (nI k))]) (fun (k : Nat) => (nG σ - k)) (fun (k : Nat) => (k ≤ nG σ)) 0 (Nat.zero_le _) ?_
  intro k hk ih
  refine g_iload_n X dX4_meanCoins_11 rfl rfl ?_
  refine g_iload_n X dX4_meanCoins_12 rfl rfl ?_
  refine g_icmp_ge (tgt := 31) X dX4_meanCoins_13 rfl (by decide) (fun c_13 => ?_) (fun c_13 => ?_)
  · rw [nI_leI (by omega) (by omega)] at c_13
    obtain rfl : k = nG σ := by omega
    have hs := aSum_le hB (nG σ) (Nat.le_refl _)
    by_cases h0 : 0 < nG σ
    · rw [qMean, cH_t h0, cH_t h0]
      refine g_aload_n X dX4_meanCoins_31 rfl rfl ?_
      refine g_iload_n X dX4_meanCoins_32 rfl rfl ?_
      refine g_if_le (tgt := 40) X dX4_meanCoins_33 rfl (by decide) (fun c => absurd ((nI_le0 (by omega)).mp c) (by omega)) (fun c_33 => ?_)
      refine g_iconst X dX4_meanCoins_36 rfl (v := (nI 1)) rfl ?_
      refine g_goto (tgt := 41) X dX4_meanCoins_37 rfl (by decide) ?_
      refine g_callV X (ct_X4_isThereV hst (P := 0 < nG σ) (bI_t h0) (bI_f (fun g => g h0))) dX4_meanCoins_41 rfl (lw_V q2134 q2136 qs54 q76 q2137) hyV_X4_isThere (fun H hH => hR.recv X.2.2.2.2.2.2.2.1 hH mW_a rfl) (fun H hH => hH) ⟨Nat.le_of_ble_eq_true rfl, Nat.le_of_ble_eq_true rfl⟩ ⟨Nat.le_of_ble_eq_true rfl, Nat.le_of_ble_eq_true rfl⟩ (Nat.le_of_ble_eq_true rfl) rfl (fun x_41 => ?_)
      refine g_if_eq (tgt := 55) X dX4_meanCoins_44 rfl (by decide) (fun c => absurd c (by decide)) (fun c_44 => ?_)
      refine g_iload_n X dX4_meanCoins_47 rfl rfl ?_
      refine g_i2d X dX4_meanCoins_48 rfl ?_
      refine g_iload_n X dX4_meanCoins_49 rfl rfl ?_
      refine g_i2d X dX4_meanCoins_50 rfl ?_
      refine g_ddiv X dX4_meanCoins_51 rfl (dd_ok _ (by omega) h0 _ (by omega)) ?_
      refine g_goto (tgt := 56) X dX4_meanCoins_52 rfl (by decide) ?_
      refine g_dret X dX4_meanCoins_56 rfl (Nat.le_of_ble_eq_true rfl) (Nat.le_of_ble_eq_true rfl) (fun H hH => ⟨(), rfl, hH⟩)
    · rw [qMean, cH_f h0, cH_f h0]
      refine g_aload_n X dX4_meanCoins_31 rfl rfl ?_
      refine g_iload_n X dX4_meanCoins_32 rfl rfl ?_
      refine g_if_le (tgt := 40) X dX4_meanCoins_33 rfl (by decide) (fun c_33 => ?_) (fun c => absurd ((nI_le0 (by omega)).mpr (by omega)) c)
      refine g_iconst X dX4_meanCoins_40 rfl (v := (nI 0)) rfl ?_
      refine g_callV X (ct_X4_isThereV hst (P := 0 < nG σ) (bI_f h0) (bI_t h0)) dX4_meanCoins_41 rfl (lw_V q2134 q2136 qs54 q76 q2137) hyV_X4_isThere (fun H hH => hR.recv X.2.2.2.2.2.2.2.1 hH mW_a rfl) (fun H hH => hH) ⟨Nat.le_of_ble_eq_true rfl, Nat.le_of_ble_eq_true rfl⟩ ⟨Nat.le_of_ble_eq_true rfl, Nat.le_of_ble_eq_true rfl⟩ (Nat.le_of_ble_eq_true rfl) rfl (fun x_41 => ?_)
      refine g_if_eq (tgt := 55) X dX4_meanCoins_44 rfl (by decide) (fun c_44 => ?_) (fun c => absurd rfl c)
      refine g_dconst0 X dX4_meanCoins_55 rfl ?_
      refine g_dret X dX4_meanCoins_56 rfl (Nat.le_of_ble_eq_true rfl) (Nat.le_of_ble_eq_true rfl) (fun H hH => ⟨(), rfl, hH⟩)
  · rw [nI_leI (by omega) (by omega)] at c_13
    have e5 := (hM.2.2.2.1 k (by omega)).1
    refine g_iload_n X dX4_meanCoins_16 rfl rfl ?_
    refine g_aload_n X dX4_meanCoins_17 rfl rfl ?_
    refine g_iload_n X dX4_meanCoins_18 rfl rfl ?_
    refine g_iconst X dX4_meanCoins_19 rfl (v := (nI 0)) rfl ?_
    refine g_callV X (ct_X4_guest hst hd (by omega) e5) dX4_meanCoins_20 rfl (lw_V q2024 q2026 qs34 q76 q2027) hyV_X4_guest (fun H hH => hR.recv X.2.2.2.2.2.2.2.1 hH mW_a rfl) (fun H hH => hH) ⟨Nat.le_of_ble_eq_true rfl, Nat.le_of_ble_eq_true rfl⟩ ⟨Nat.le_of_ble_eq_true rfl, Nat.le_of_ble_eq_true rfl⟩ (Nat.le_of_ble_eq_true rfl) rfl (fun x_20 => ?_)
    refine g_iadd X dX4_meanCoins_23 rfl (by first | exact nI_add _ _ | rfl) ?_
    refine g_istore_n X dX4_meanCoins_24 rfl (by decide) rfl rfl ?_
    refine g_iinc X dX4_meanCoins_25 rfl rfl (by first | exact nI_1 _ | rfl) (by decide) rfl rfl ?_
    refine g_goto (tgt := 11) X dX4_meanCoins_28 rfl (by decide) ?_
    refine GJ.loc [some (.ref a), some (.int (nI (nG σ))), some (.int (nI (aSum σ (k + 1)))), some (.int (nI (k + 1)))] (lvle_c rfl (lvle_c rfl (lvle_c rfl (lvle_c rfl lvle_e)))) ?_
    exact ih (k + 1) (by omega) (by omega)
theorem ct_X4_busyShare (hst : l.stackTraces = false) (hd : mDi a ad) (hM : MR (F 0) σ) (hB : Bd σ) : CM Ω l yX4_busyShare (ws_ yX4_busyShare cX4_busyShare 4 (some .float)) 10 0 0 [.ref a] (hR Ω (mW Ω h a ad v F)) (QP (some (.float (qShare σ))) (hR Ω (mW Ω h a ad (vU v 6 (cH (0 < nS σ) (nI 0) (nI 1))) F))) nX := by
  have b1 := hB.1
  refine CM.of (L := [some (.ref a), none, none, none]) hst (by decide) (Nat.le_of_ble_eq_true rfl) rfl ?_
  intro p e s m below meth c X hnm htab
  refine g_aload_n X dX4_busyShare_0 rfl rfl ?_
  refine g_get X dX4_busyShare_1 rfl in_X4 (ci := 3) rfl 0 (by decide) q1916 (fun _ h => h) mW_a rfl ?_
  refine g_iconst X dX4_busyShare_4 rfl (v := (nI 0)) rfl ?_
  refine g_ial X dX4_busyShare_5 rfl (mW_0 hd) (vp_in_nI (by omega) (by decide)) (ix_v (by omega) hM.1.1) ?_
  refine g_istore_n X dX4_busyShare_6 rfl (by decide) rfl rfl ?_
  refine g_iconst X dX4_busyShare_7 rfl (v := (nI 0)) rfl ?_
  refine g_istore_n X dX4_busyShare_8 rfl (by decide) rfl rfl ?_
  refine g_iconst X dX4_busyShare_9 rfl (v := (nI 0)) rfl ?_
  refine g_istore_n X dX4_busyShare_10 rfl (by decide) rfl rfl ?_
  refine GJ.loc ((fun (k : Nat) => [some (.ref a), some (.int (nI (nS σ))), some (.int (nI (aBus σ k))), some (.int (nI k))]) 0) (lvle_c rfl (lvle_c rfl (lvle_c rfl (lvle_c rfl lvle_e)))) ?_
  refine GJ.loopP (fun (k : Nat) => [some (.ref a), some (.int (nI (nS σ))), some (.int (nI (aBus σ k))), some (.int (nI k))]) (fun (k : Nat) => (nS σ - k)) (fun (k : Nat) => (k ≤ nS σ)) 0 (Nat.zero_le _) ?_
  intro k hk ih
  have hbl : aBus σ k ≤ k := cN_le _ k
  refine g_iload_n X dX4_busyShare_11 rfl rfl ?_
  refine g_iload_n X dX4_busyShare_12 rfl rfl ?_
  refine g_icmp_ge (tgt := 44) X dX4_busyShare_13 rfl (by decide) (fun c_13 => ?_) (fun c_13 => ?_)
  · rw [nI_leI (by omega) (by omega)] at c_13
    obtain rfl : k = nS σ := by omega
    by_cases h0 : 0 < nS σ
    · rw [qShare, cH_t h0, cH_t h0]
      refine g_aload_n X dX4_busyShare_44 rfl rfl ?_
      refine g_iload_n X dX4_busyShare_45 rfl rfl ?_
      refine g_if_le (tgt := 53) X dX4_busyShare_46 rfl (by decide) (fun c => absurd ((nI_le0 (by omega)).mp c) (by omega)) (fun c_46 => ?_)
      refine g_iconst X dX4_busyShare_49 rfl (v := (nI 1)) rfl ?_
      refine g_goto (tgt := 54) X dX4_busyShare_50 rfl (by decide) ?_
      refine g_callV X (ct_X4_isThereV hst (P := 0 < nS σ) (bI_t h0) (bI_f (fun g => g h0))) dX4_busyShare_54 rfl (lw_V q2134 q2136 qs54 q76 q2137) hyV_X4_isThere (fun H hH => hR.recv X.2.2.2.2.2.2.2.1 hH mW_a rfl) (fun H hH => hH) ⟨Nat.le_of_ble_eq_true rfl, Nat.le_of_ble_eq_true rfl⟩ ⟨Nat.le_of_ble_eq_true rfl, Nat.le_of_ble_eq_true rfl⟩ (Nat.le_of_ble_eq_true rfl) rfl (fun x_54 => ?_)
      refine g_if_eq (tgt := 68) X dX4_busyShare_57 rfl (by decide) (fun c => absurd c (by decide)) (fun c_57 => ?_)
      refine g_iload_n X dX4_busyShare_60 rfl rfl ?_
      refine g_i2f X dX4_busyShare_61 rfl ?_
      refine g_iload_n X dX4_busyShare_62 rfl rfl ?_
      refine g_i2f X dX4_busyShare_63 rfl ?_
      refine g_fdiv X dX4_busyShare_64 rfl (fd_ok _ (by omega) h0 _ (by omega)) ?_
      refine g_goto (tgt := 69) X dX4_busyShare_65 rfl (by decide) ?_
      refine g_fret X dX4_busyShare_69 rfl (Nat.le_of_ble_eq_true rfl) (Nat.le_of_ble_eq_true rfl) (fun H hH => ⟨(), rfl, hH⟩)
    · rw [qShare, cH_f h0, cH_f h0]
      refine g_aload_n X dX4_busyShare_44 rfl rfl ?_
      refine g_iload_n X dX4_busyShare_45 rfl rfl ?_
      refine g_if_le (tgt := 53) X dX4_busyShare_46 rfl (by decide) (fun c_46 => ?_) (fun c => absurd ((nI_le0 (by omega)).mpr (by omega)) c)
      refine g_iconst X dX4_busyShare_53 rfl (v := (nI 0)) rfl ?_
      refine g_callV X (ct_X4_isThereV hst (P := 0 < nS σ) (bI_f h0) (bI_t h0)) dX4_busyShare_54 rfl (lw_V q2134 q2136 qs54 q76 q2137) hyV_X4_isThere (fun H hH => hR.recv X.2.2.2.2.2.2.2.1 hH mW_a rfl) (fun H hH => hH) ⟨Nat.le_of_ble_eq_true rfl, Nat.le_of_ble_eq_true rfl⟩ ⟨Nat.le_of_ble_eq_true rfl, Nat.le_of_ble_eq_true rfl⟩ (Nat.le_of_ble_eq_true rfl) rfl (fun x_54 => ?_)
      refine g_if_eq (tgt := 68) X dX4_busyShare_57 rfl (by decide) (fun c_57 => ?_) (fun c => absurd rfl c)
      refine g_fconst0 X dX4_busyShare_68 rfl ?_
      refine g_fret X dX4_busyShare_69 rfl (Nat.le_of_ble_eq_true rfl) (Nat.le_of_ble_eq_true rfl) (fun H hH => ⟨(), rfl, hH⟩)
  · rw [nI_leI (by omega) (by omega)] at c_13
    refine g_iload_n X dX4_busyShare_16 rfl rfl ?_
    refine g_aload_n X dX4_busyShare_17 rfl rfl ?_
    refine g_iload_n X dX4_busyShare_18 rfl rfl ?_
    refine g_aload_n X dX4_busyShare_19 rfl rfl ?_
    refine g_get X dX4_busyShare_20 rfl in_X4 (ci := 3) rfl 0 (by decide) q1916 (fun _ h => h) mW_a rfl ?_
    refine g_iconst X dX4_busyShare_23 rfl (v := (nI 3)) rfl ?_
    refine g_ial X dX4_busyShare_24 rfl (mW_0 hd) (vp_in_nI (by omega) (by decide)) (ix_v (by omega) hM.1.2.2.2.1) ?_
    refine g_callV X (ct_X4_during hst hd hM hB (by omega) (by omega)) dX4_busyShare_25 rfl (lw_V q2108 q2110 qs51 q76 q2111) hyV_X4_during (fun H hH => hR.recv X.2.2.2.2.2.2.2.1 hH mW_a rfl) (fun H hH => hH) ⟨Nat.le_of_ble_eq_true rfl, Nat.le_of_ble_eq_true rfl⟩ ⟨Nat.le_of_ble_eq_true rfl, Nat.le_of_ble_eq_true rfl⟩ (Nat.le_of_ble_eq_true rfl) rfl (fun x_25 => ?_)
    have hor := lst_or (fun j => boS σ j = k ∧ boT σ j ≤ sM σ ∧ sM σ < boE σ j) (-1) (nB σ)
    by_cases hbz : aBusy σ k (sM σ)
    · have hs : aBus σ (k + 1) = aBus σ k + 1 := cN_t hbz
      rcases hor with ⟨h1, -⟩ | ⟨j, hj, -, h3⟩
      · exact absurd hbz h1
      · rw [show aDur σ k (sM σ) = nI j from h3]
        refine g_if_lt (tgt := 35) X dX4_busyShare_28 rfl (by decide) (fun c => absurd (nI_pos' (by omega)) (Int32.not_le.mpr c)) (fun c_28 => ?_)
        refine g_iconst X dX4_busyShare_31 rfl (v := (nI 1)) rfl ?_
        refine g_goto (tgt := 36) X dX4_busyShare_32 rfl (by decide) ?_
        refine g_iadd X dX4_busyShare_36 rfl (by first | exact nI_add _ _ | rfl) ?_
        refine g_istore_n X dX4_busyShare_37 rfl (by decide) rfl rfl ?_
        refine g_iinc X dX4_busyShare_38 rfl rfl (by first | exact nI_1 _ | rfl) (by decide) rfl rfl ?_
        refine g_goto (tgt := 11) X dX4_busyShare_41 rfl (by decide) ?_
        refine GJ.loc [some (.ref a), some (.int (nI (nS σ))), some (.int (nI (aBus σ (k + 1)))), some (.int (nI (k + 1)))] (lvle_c rfl (lvle_c rfl (lvle_c (by rw [hs]) (lvle_c rfl lvle_e)))) ?_
        exact ih (k + 1) (by omega) (by omega)
    · have hs : aBus σ (k + 1) = aBus σ k := cN_f hbz
      rcases hor with ⟨-, h3⟩ | ⟨j, hj, h2, -⟩
      · rw [show aDur σ k (sM σ) = -1 from h3]
        refine g_if_lt (tgt := 35) X dX4_busyShare_28 rfl (by decide) (fun c_28 => ?_) (fun c => absurd (by decide) c)
        refine g_iconst X dX4_busyShare_35 rfl (v := (nI 0)) rfl ?_
        refine g_iadd X dX4_busyShare_36 rfl (by first | exact nI_add _ _ | rfl) ?_
        refine g_istore_n X dX4_busyShare_37 rfl (by decide) rfl rfl ?_
        refine g_iinc X dX4_busyShare_38 rfl rfl (by first | exact nI_1 _ | rfl) (by decide) rfl rfl ?_
        refine g_goto (tgt := 11) X dX4_busyShare_41 rfl (by decide) ?_
        refine GJ.loc [some (.ref a), some (.int (nI (nS σ))), some (.int (nI (aBus σ (k + 1)))), some (.int (nI (k + 1)))] (lvle_c rfl (lvle_c rfl (lvle_c (by rw [hs]; rfl) (lvle_c rfl lvle_e)))) ?_
        exact ih (k + 1) (by omega) (by omega)
      · exact absurd ⟨j, hj, h2⟩ hbz
end M19
