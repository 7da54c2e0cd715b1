/-! MODEL: a minute, minutes -/
section M10
variable {l : Launch} {Ω : Om} {h : RH} {a : Nat} {ad : Nat → Nat} {v : Nat → Int32} {F : Nat → Nat → Int32} {f : Nat → Int32} {σ : St}
set_option maxRecDepth 100000
theorem ct_X4_passesOne (hst : l.stackTraces = false) (hd : mDi a ad) (hM : MR f σ) {R : Nat} (W : Wf R σ) (hm : sM σ + 1 ≤ 100000) (hr : R + 12 ≤ 2000000) : CM Ω l yX4_passesOne (ws_ yX4_passesOne cX4_passesOne 4 (some .int)) 14 0 0 [.ref a] (hR Ω (mW Ω h a ad v (FU F 0 f))) (QV (fun _ : {f' : Nat → Int32 // MR f' (aMinute σ).2} => some (.int (nI (aMinute σ).1))) (fun f' => hR Ω (mW Ω h a ad v (FU F 0 f'.1)))) nX := by
  have b1 := W.1
  refine CM.of (L := [some (.ref a), none, none, none]) hst (by decide) (Nat.le_of_ble_eq_true rfl) rfl ?_
  intro p e s m below meth c X hnm htab
  refine g_iconst X dX4_passesOne_0 rfl (v := (nI 0)) rfl ?_
  refine g_istore_n X dX4_passesOne_1 rfl (by decide) rfl rfl ?_
  -- the calls
  refine GJ.loc ((fun x : Nat × (Nat → Int32) => [some (.ref a), some (.int (nI x.1)), none, none]) (0, f)) (lvle_c rfl (lvle_c rfl (lvle_n (lvle_n lvle_e)))) ?_
  refine GJ.loop (fun x : Nat × (Nat → Int32) => hR Ω (mW Ω h a ad v (FU F 0 x.2))) (fun _ => 0) (fun _ => 0) (fun x : Nat × (Nat → Int32) => [some (.ref a), some (.int (nI x.1)), none, none]) (fun x => nS σ - x.1) (fun x => x.1 ≤ nS σ ∧ MR x.2 (aC σ x.1)) (0, f) ⟨Nat.zero_le _, hM⟩ ?_
  rintro ⟨k, fk⟩ ⟨hk1, hk2⟩ ih
  dsimp only at hk1 hk2 ih ⊢
  obtain ⟨w1, w2, w3⟩ := aC_all W k hk1
  have e0 := hk2.1.1
  rw [w2] at e0
  refine g_iload_n X dX4_passesOne_2 rfl rfl ?_
  refine g_aload_n X dX4_passesOne_3 rfl rfl ?_
  refine g_get X dX4_passesOne_4 rfl in_X4 (ci := 3) rfl 0 (by decide) q1916 (fun _ h => h) mW_a rfl ?_
  refine g_iconst X dX4_passesOne_7 rfl (v := (nI 0)) rfl ?_
  refine g_ial X dX4_passesOne_8 rfl (mW_0z hd) (vp_in_nI (by omega) (by decide)) (ix_v (by omega) e0) ?_
  refine g_icmp_ge (tgt := 23) X dX4_passesOne_9 rfl (by decide) (fun c_9 => ?_) (fun c_9 => ?_)
  rotate_left
  · rw [nI_leI (by omega) (by omega)] at c_9
    refine g_aload_n X dX4_passesOne_12 rfl rfl ?_
    refine g_iload_n X dX4_passesOne_13 rfl rfl ?_
    refine g_callV X (ct_X4_calls hst hd hk2 w1 (by omega) (by omega) (by omega)) dX4_passesOne_14 rfl (lw_V q2100 q2102 qs49 q76 q2103) hyV_X4_calls (fun H hH => hR.recv X.2.2.2.2.2.2.2.1 hH mW_a rfl) (fun H hH => hH) ⟨Nat.le_of_ble_eq_true rfl, Nat.le_of_ble_eq_true rfl⟩ ⟨Nat.le_of_ble_eq_true rfl, Nat.le_of_ble_eq_true rfl⟩ (Nat.le_of_ble_eq_true rfl) rfl (fun x => ?_)
    refine g_iinc X dX4_passesOne_17 rfl rfl (by first | exact nI_1 _ | rfl) (by decide) rfl rfl ?_
    refine g_goto (tgt := 2) X dX4_passesOne_20 rfl (by decide) ?_
    refine GJ.loc [some (.ref a), some (.int (nI (k + 1))), none, none] (lvle_c rfl (lvle_c rfl (lvle_n (lvle_n lvle_e)))) ?_
    exact ih (k + 1, x.1) ⟨by dsimp only; omega, x.2⟩ (by dsimp only; omega)
  rw [nI_leI (by omega) (by omega)] at c_9
  obtain rfl : k = nS σ := by omega
  clear ih
  have hm2 : MR (upd fk 3 (nI (sM (aMin1 σ) + 1))) (aMin2 (aMin1 σ)) := MR_M (n := sM (aMin1 σ) + 1) hk2 w1.cp
  have W2 : Wf R (aMin2 (aMin1 σ)) := Wf_min w1
  have e3 : fk 3 = nI (sM (aMin1 σ)) := hk2.1.2.2.2.1
  have n2 : nS (aMin2 (aMin1 σ)) = nS σ := w2
  have m2 : sM (aMin2 (aMin1 σ)) = sM σ + 1 := by show sM (aMin1 σ) + 1 = _; rw [show sM (aMin1 σ) = sM σ from w3]
  refine g_aload_n X dX4_passesOne_23 rfl rfl ?_
  refine g_get X dX4_passesOne_24 rfl in_X4 (ci := 3) rfl 0 (by decide) q1916 (fun _ h => h) mW_a rfl ?_
  refine g_iconst X dX4_passesOne_27 rfl (v := (nI 3)) rfl ?_
  refine g_dup2 X dX4_passesOne_28 rfl rfl rfl ?_
  refine g_ial X dX4_passesOne_29 rfl (mW_0z hd) (vp_in_nI (by omega) (by decide)) (ix_v (by omega) e3) ?_
  refine g_iconst X dX4_passesOne_30 rfl (v := (nI 1)) rfl ?_
  refine g_iadd X dX4_passesOne_31 rfl (by first | exact nI_add _ _ | rfl) ?_
  refine g_ias X dX4_passesOne_32 rfl (mW_0z hd) (vp_in_nI (by omega) (by decide)) (mW_i0 hd (nI_clamp (by omega))) ?_
  refine g_iconst X dX4_passesOne_33 rfl (v := (nI 0)) rfl ?_
  refine g_istore_n X dX4_passesOne_34 rfl (by decide) rfl rfl ?_
  -- the drying
  refine GJ.loc ((fun x : Nat × (Nat → Int32) => [some (.ref a), some (.int (nI x.1)), none, none]) (0, upd fk 3 (nI (sM (aMin1 σ) + 1)))) (lvle_c rfl (lvle_c rfl (lvle_n (lvle_n lvle_e)))) ?_
  refine GJ.loop (fun x : Nat × (Nat → Int32) => hR Ω (mW Ω h a ad v (FU F 0 x.2))) (fun _ => 0) (fun _ => 0) (fun x : Nat × (Nat → Int32) => [some (.ref a), some (.int (nI x.1)), none, none]) (fun x => nS σ - x.1) (fun x => x.1 ≤ nS σ ∧ MR x.2 (aD (aMin2 (aMin1 σ)) x.1)) (0, upd fk 3 (nI (sM (aMin1 σ) + 1))) ⟨Nat.zero_le _, hm2⟩ ?_
  rintro ⟨k, gk⟩ ⟨hj1, hj2⟩ ih
  dsimp only at hj1 hj2 ih ⊢
  obtain ⟨v1, v2, v3⟩ := aD_all W2 k (by rw [n2]; exact hj1)
  have e0 := hj2.1.1
  rw [v2, n2] at e0
  have e3 := hj2.1.2.2.2.1
  rw [v3, m2] at e3
  refine g_iload_n X dX4_passesOne_35 rfl rfl ?_
  refine g_aload_n X dX4_passesOne_36 rfl rfl ?_
  refine g_get X dX4_passesOne_37 rfl in_X4 (ci := 3) rfl 0 (by decide) q1916 (fun _ h => h) mW_a rfl ?_
  refine g_iconst X dX4_passesOne_40 rfl (v := (nI 0)) rfl ?_
  refine g_ial X dX4_passesOne_41 rfl (mW_0z hd) (vp_in_nI (by omega) (by decide)) (ix_v (by omega) e0) ?_
  refine g_icmp_ge (tgt := 80) X dX4_passesOne_42 rfl (by decide) (fun c_42 => ?_) (fun c_42 => ?_)
  rotate_left
  · rw [nI_leI (by omega) (by omega)] at c_42
    have hs : k < nS (aD (aMin2 (aMin1 σ)) k) := by rw [v2, n2]; omega
    have v4 : sM (aD (aMin2 (aMin1 σ)) k) = sM σ + 1 := by rw [v3, m2]
    have e5 := hj2.2.1 k hs
    have b5 := v1.2.1 k hs
    have hB := v1.bd (by omega) (by omega)
    refine g_aload_n X dX4_passesOne_45 rfl rfl ?_
    refine g_iload_n X dX4_passesOne_46 rfl rfl ?_
    refine g_aload_n X dX4_passesOne_47 rfl rfl ?_
    refine g_get X dX4_passesOne_48 rfl in_X4 (ci := 3) rfl 0 (by decide) q1916 (fun _ h => h) mW_a rfl ?_
    refine g_iconst X dX4_passesOne_51 rfl (v := (nI 3)) rfl ?_
    refine g_ial X dX4_passesOne_52 rfl (mW_0z hd) (vp_in_nI (by omega) (by decide)) (ix_v (by omega) e3) ?_
    refine g_iconst X dX4_passesOne_53 rfl (v := (nI 1)) rfl ?_
    refine g_isub X dX4_passesOne_54 rfl (pk_sub (by omega)) ?_
    refine g_callV X (ct_X4_during hst hd hj2 hB (by have := v1.1.1; omega) (by omega)) dX4_passesOne_55 rfl (lw_V q2108 q2110 qs51 q76 q2111) hyV_X4_during (fun H hH => hR.recv X.2.2.2.2.2.2.2.1 hH mW_a rfl) (fun H hH => hH) ⟨Nat.le_of_ble_eq_true rfl, Nat.le_of_ble_eq_true rfl⟩ ⟨Nat.le_of_ble_eq_true rfl, Nat.le_of_ble_eq_true rfl⟩ (Nat.le_of_ble_eq_true rfl) rfl (fun x_55 => ?_)
    have hor := lst_or (fun j => boS (aD (aMin2 (aMin1 σ)) k) j = k ∧ boT (aD (aMin2 (aMin1 σ)) k) j ≤ sM σ + 1 - 1 ∧ sM σ + 1 - 1 < boE (aD (aMin2 (aMin1 σ)) k) j) (-1) (nB (aD (aMin2 (aMin1 σ)) k))
    by_cases hbz : aBusy (aD (aMin2 (aMin1 σ)) k) k (sM σ + 1 - 1)
    · have hd' : aD (aMin2 (aMin1 σ)) (k + 1) = aD (aMin2 (aMin1 σ)) k := by show aDry (aD (aMin2 (aMin1 σ)) k) k = _; unfold aDry; rw [v4, cH_t hbz]
      rcases hor with ⟨h1, -⟩ | ⟨j, hj, -, h3⟩
      · exact absurd hbz h1
      · have hjb := v1.1.2.2.1
        rw [show aDur (aD (aMin2 (aMin1 σ)) k) k (sM σ + 1 - 1) = nI j from h3]
        refine g_if_ge (tgt := 74) X dX4_passesOne_58 rfl (by decide) (fun c_58 => ?_) (fun c => absurd (nI_pos' (by omega)) c)
        refine g_iinc X dX4_passesOne_74 rfl rfl (by first | exact nI_1 _ | rfl) (by decide) rfl rfl ?_
        refine g_goto (tgt := 35) X dX4_passesOne_77 rfl (by decide) ?_
        refine GJ.loc [some (.ref a), some (.int (nI (k + 1))), none, none] (lvle_c rfl (lvle_c rfl (lvle_n (lvle_n lvle_e)))) ?_
        exact ih (k + 1, gk) ⟨by dsimp only; omega, by rw [hd']; exact hj2⟩ (by dsimp only; omega)
    · have hd' : aD (aMin2 (aMin1 σ)) (k + 1) = aWet (aD (aMin2 (aMin1 σ)) k) k (slW (aD (aMin2 (aMin1 σ)) k) k - 1) := by show aDry (aD (aMin2 (aMin1 σ)) k) k = _; unfold aDry; rw [v4, cH_f hbz]
      have hmw := MR_wet (n := slW (aD (aMin2 (aMin1 σ)) k) k - 1) hj2 v1.cp hs
      have h9 : min 9 (slW (aD (aMin2 (aMin1 σ)) k) k - 1) = slW (aD (aMin2 (aMin1 σ)) k) k - 1 := by omega
      rcases hor with ⟨-, h3⟩ | ⟨j, hj, h2, -⟩
      · rw [show aDur (aD (aMin2 (aMin1 σ)) k) k (sM σ + 1 - 1) = -1 from h3]
        refine g_if_ge (tgt := 74) X dX4_passesOne_58 rfl (by decide) (fun c => absurd c (by decide)) (fun c_58 => ?_)
        refine g_aload_n X dX4_passesOne_61 rfl rfl ?_
        refine g_iload_n X dX4_passesOne_62 rfl rfl ?_
        refine g_aload_n X dX4_passesOne_63 rfl rfl ?_
        refine g_iload_n X dX4_passesOne_64 rfl rfl ?_
        refine g_iconst X dX4_passesOne_65 rfl (v := (nI 2)) rfl ?_
        refine g_callV X (ct_X4_slide hst hd (by omega) e5.2.2.1) dX4_passesOne_66 rfl (lw_V q2028 q2030 qs35 q76 q2031) hyV_X4_slide (fun H hH => hR.recv X.2.2.2.2.2.2.2.1 hH mW_a rfl) (fun H hH => hH) ⟨Nat.le_of_ble_eq_true rfl, Nat.le_of_ble_eq_true rfl⟩ ⟨Nat.le_of_ble_eq_true rfl, Nat.le_of_ble_eq_true rfl⟩ (Nat.le_of_ble_eq_true rfl) rfl (fun x_66 => ?_)
        refine g_iconst X dX4_passesOne_69 rfl (v := (nI 1)) rfl ?_
        refine g_isub X dX4_passesOne_70 rfl rfl ?_
        refine g_callV X (ct_X4_wets hst hd (by omega) (dry_v (by omega))) dX4_passesOne_71 rfl (lw_V q2112 q2114 qs52 q76 q2115) hyV_X4_wets (fun H hH => hR.recv X.2.2.2.2.2.2.2.1 hH mW_a rfl) (fun H hH => hH) ⟨Nat.le_of_ble_eq_true rfl, Nat.le_of_ble_eq_true rfl⟩ ⟨Nat.le_of_ble_eq_true rfl, Nat.le_of_ble_eq_true rfl⟩ (Nat.le_of_ble_eq_true rfl) rfl (fun x_71 => ?_)
        refine g_iinc X dX4_passesOne_74 rfl rfl (by first | exact nI_1 _ | rfl) (by decide) rfl rfl ?_
        refine g_goto (tgt := 35) X dX4_passesOne_77 rfl (by decide) ?_
        rw [h9]
        refine GJ.loc [some (.ref a), some (.int (nI (k + 1))), none, none] (lvle_c rfl (lvle_c rfl (lvle_n (lvle_n lvle_e)))) ?_
        exact ih (k + 1, _) ⟨by dsimp only; omega, by rw [hd']; exact hmw⟩ (by dsimp only; omega)
      · exact absurd ⟨j, hj, h2⟩ hbz
  rw [nI_leI (by omega) (by omega)] at c_42
  obtain rfl : k = nS σ := by omega
  clear ih
  have hM3 : MR gk (aM3 σ) := by
    have : aM3 σ = aD (aMin2 (aMin1 σ)) (nS σ) := by show aD (aMin2 (aMin1 σ)) (nS (aMin2 (aMin1 σ))) = _; rw [n2]
    rw [this]; exact hj2
  obtain ⟨u1, u2, u3⟩ := aM3_all W
  refine g_iconst X dX4_passesOne_80 rfl (v := (nI 0)) rfl ?_
  refine g_istore_n X dX4_passesOne_81 rfl (by decide) rfl rfl ?_
  refine g_iconst X dX4_passesOne_82 rfl (v := (nI 0)) rfl ?_
  refine g_istore_n X dX4_passesOne_83 rfl (by decide) rfl rfl ?_
  -- the finishes
  refine GJ.loc ((fun x : Nat × Nat × Nat × St × (Nat → Int32) => [some (.ref a), some (.int (nI x.2.1)), some (.int (nI x.1)), none]) (0, 0, nB (aM3 σ), aM3 σ, gk)) (lvle_c rfl (lvle_c rfl (lvle_c rfl (lvle_n lvle_e)))) ?_
  refine GJ.loop (fun x : Nat × Nat × Nat × St × (Nat → Int32) => hR Ω (mW Ω h a ad v (FU F 0 x.2.2.2.2))) (fun _ => 0) (fun _ => 0) (fun x : Nat × Nat × Nat × St × (Nat → Int32) => [some (.ref a), some (.int (nI x.2.1)), some (.int (nI x.1)), none]) (fun x => nB x.2.2.2.1 - x.1) (fun x => MR x.2.2.2.2 x.2.2.2.1 ∧ Wf (R + x.2.1) x.2.2.2.1 ∧ sM x.2.2.2.1 = sM σ + 1 ∧ x.1 ≤ nB x.2.2.2.1 ∧ x.2.1 + nB x.2.2.2.1 ≤ 12 ∧ nB x.2.2.2.1 - x.1 ≤ x.2.2.1 ∧ aFins x.2.2.1 x.1 x.2.1 x.2.2.2.1 = aMinute σ) (0, 0, nB (aM3 σ), aM3 σ, gk) ⟨hM3, u1, u3, Nat.zero_le _, by have := u1.1.2.2.1; dsimp only; omega, Nat.sub_le _ _, rfl⟩ ?_
  rintro ⟨b, c0, n0, τ, ft⟩ ⟨i1, i2, i3, i4, i5, i6, i7⟩ ih
  dsimp only at i1 i2 i3 i4 i5 i6 i7 ih ⊢
  have hB := i2.bd (by omega) (by omega)
  have e2 := i1.1.2.2.1
  have e3 := i1.1.2.2.2.1
  refine g_iload_n X dX4_passesOne_84 rfl rfl ?_
  refine g_aload_n X dX4_passesOne_85 rfl rfl ?_
  refine g_get X dX4_passesOne_86 rfl in_X4 (ci := 3) rfl 0 (by decide) q1916 (fun _ h => h) mW_a rfl ?_
  refine g_iconst X dX4_passesOne_89 rfl (v := (nI 2)) rfl ?_
  refine g_ial X dX4_passesOne_90 rfl (mW_0z hd) (vp_in_nI (by omega) (by decide)) (ix_v (by omega) e2) ?_
  refine g_icmp_ge (tgt := 150) X dX4_passesOne_91 rfl (by decide) (fun c_91 => ?_) (fun c_91 => ?_)
  · rw [nI_leI (by omega) (by omega)] at c_91
    rw [aFins_end (by omega)] at i7
    refine g_iload_n X dX4_passesOne_150 rfl rfl ?_
    refine g_iret X dX4_passesOne_151 rfl (Nat.le_of_ble_eq_true rfl) (Nat.le_of_ble_eq_true rfl) (fun H hH => ⟨⟨ft, by rw [← i7]; exact i1⟩, by show _ = some (Value.int (nI (aMinute σ).1)); rw [← i7], hH⟩)
  · rw [nI_leI (by omega) (by omega)] at c_91
    have hb : b < nB τ := by omega
    have b7 := hB.2.2.2.2.1 b hb
    have b8 := hB.2.1 _ b7.2.1
    have b9 : boE τ b = boT τ b + slD τ (boS τ b) := rfl
    rw [aFins_go hb (by omega)] at i7
    refine g_aload_n X dX4_passesOne_94 rfl rfl ?_
    refine g_iload_n X dX4_passesOne_95 rfl rfl ?_
    refine g_callV X (ct_X4_endOf hst hd i1 hB hb) dX4_passesOne_96 rfl (lw_V q2044 q2046 qs39 q76 q2047) hyV_X4_endOf (fun H hH => hR.recv X.2.2.2.2.2.2.2.1 hH mW_a rfl) (fun H hH => hH) ⟨Nat.le_of_ble_eq_true rfl, Nat.le_of_ble_eq_true rfl⟩ ⟨Nat.le_of_ble_eq_true rfl, Nat.le_of_ble_eq_true rfl⟩ (Nat.le_of_ble_eq_true rfl) rfl (fun x_96 => ?_)
    refine g_aload_n X dX4_passesOne_99 rfl rfl ?_
    refine g_get X dX4_passesOne_100 rfl in_X4 (ci := 3) rfl 0 (by decide) q1916 (fun _ h => h) mW_a rfl ?_
    refine g_iconst X dX4_passesOne_103 rfl (v := (nI 3)) rfl ?_
    refine g_ial X dX4_passesOne_104 rfl (mW_0z hd) (vp_in_nI (by omega) (by decide)) (ix_v (by omega) e3) ?_
    refine g_icmp_ne (tgt := 112) X dX4_passesOne_105 rfl (by decide) (fun c_105 => ?_) (fun c_105 => ?_)
    · rw [nI_eq (by omega) (by omega)] at c_105
      rw [cH_f c_105] at i7
      refine g_iconst X dX4_passesOne_112 rfl (v := (nI 0)) rfl ?_
      refine g_istore_n X dX4_passesOne_113 rfl (by decide) rfl rfl ?_
      refine g_iload_n X dX4_passesOne_114 rfl rfl ?_
      refine g_if_eq (tgt := 123) X dX4_passesOne_115 rfl (by decide) (fun c_115 => ?_) (fun c => absurd rfl c)
      refine g_iload_n X dX4_passesOne_123 rfl rfl ?_
      refine g_iload_n X dX4_passesOne_124 rfl rfl ?_
      refine g_if_eq (tgt := 132) X dX4_passesOne_125 rfl (by decide) (fun c_125 => ?_) (fun c => absurd rfl c)
      refine g_iconst X dX4_passesOne_132 rfl (v := (nI 0)) rfl ?_
      refine g_iadd X dX4_passesOne_133 rfl (by first | exact nI_add _ _ | rfl) ?_
      refine g_istore_n X dX4_passesOne_134 rfl (by decide) rfl rfl ?_
      refine g_iload_n X dX4_passesOne_135 rfl rfl ?_
      refine g_iload_n X dX4_passesOne_136 rfl rfl ?_
      refine g_if_eq (tgt := 144) X dX4_passesOne_137 rfl (by decide) (fun c_137 => ?_) (fun c => absurd rfl c)
      refine g_iconst X dX4_passesOne_144 rfl (v := (nI 1)) rfl ?_
      refine g_iadd X dX4_passesOne_145 rfl (by first | exact nI_add _ _ | rfl) ?_
      refine g_istore_n X dX4_passesOne_146 rfl (by decide) rfl rfl ?_
      refine g_goto (tgt := 84) X dX4_passesOne_147 rfl (by decide) ?_
      refine GJ.loc [some (.ref a), some (.int (nI c0)), some (.int (nI (b + 1))), none] (lvle_c rfl (lvle_c rfl (lvle_c rfl (lvle_n lvle_e)))) ?_
      exact ih (b + 1, c0, n0 - 1, τ, ft) ⟨i1, i2, i3, by dsimp only; omega, i5, by dsimp only; omega, i7⟩ (by dsimp only; omega)
    · rw [nI_eq (by omega) (by omega)] at c_105
      rw [cH_t c_105] at i7
      have hnb := nB_finish hb
      refine g_iconst X dX4_passesOne_108 rfl (v := (nI 1)) rfl ?_
      refine g_goto (tgt := 113) X dX4_passesOne_109 rfl (by decide) ?_
      refine g_istore_n X dX4_passesOne_113 rfl (by decide) rfl rfl ?_
      refine g_iload_n X dX4_passesOne_114 rfl rfl ?_
      refine g_if_eq (tgt := 123) X dX4_passesOne_115 rfl (by decide) (fun c => absurd c (by decide)) (fun c_115 => ?_)
      refine g_aload_n X dX4_passesOne_118 rfl rfl ?_
      refine g_iload_n X dX4_passesOne_119 rfl rfl ?_
      refine g_callV X (ct_X4_finishes hst hd i1 hB hb) dX4_passesOne_120 rfl (lw_V q2118 q2120 qs53 q76 q2121) hyV_X4_finishes (fun H hH => hR.recv X.2.2.2.2.2.2.2.1 hH mW_a rfl) (fun H hH => hH) ⟨Nat.le_of_ble_eq_true rfl, Nat.le_of_ble_eq_true rfl⟩ ⟨Nat.le_of_ble_eq_true rfl, Nat.le_of_ble_eq_true rfl⟩ (Nat.le_of_ble_eq_true rfl) rfl (fun x => ?_)
      refine g_iload_n X dX4_passesOne_123 rfl rfl ?_
      refine g_iload_n X dX4_passesOne_124 rfl rfl ?_
      refine g_if_eq (tgt := 132) X dX4_passesOne_125 rfl (by decide) (fun c => absurd c (by decide)) (fun c_125 => ?_)
      refine g_iconst X dX4_passesOne_128 rfl (v := (nI 1)) rfl ?_
      refine g_goto (tgt := 133) X dX4_passesOne_129 rfl (by decide) ?_
      refine g_iadd X dX4_passesOne_133 rfl (by first | exact nI_add _ _ | rfl) ?_
      refine g_istore_n X dX4_passesOne_134 rfl (by decide) rfl rfl ?_
      refine g_iload_n X dX4_passesOne_135 rfl rfl ?_
      refine g_iload_n X dX4_passesOne_136 rfl rfl ?_
      refine g_if_eq (tgt := 144) X dX4_passesOne_137 rfl (by decide) (fun c => absurd c (by decide)) (fun c_137 => ?_)
      refine g_iconst X dX4_passesOne_140 rfl (v := (nI 0)) rfl ?_
      refine g_goto (tgt := 145) X dX4_passesOne_141 rfl (by decide) ?_
      refine g_iadd X dX4_passesOne_145 rfl (by first | exact nI_add _ _ | rfl) ?_
      refine g_istore_n X dX4_passesOne_146 rfl (by decide) rfl rfl ?_
      refine g_goto (tgt := 84) X dX4_passesOne_147 rfl (by decide) ?_
      refine GJ.loc [some (.ref a), some (.int (nI (c0 + 1))), some (.int (nI b)), none] (lvle_c rfl (lvle_c rfl (lvle_c rfl (lvle_n lvle_e)))) ?_
      exact ih (b, c0 + 1, n0 - 1, aFinish τ b, x.1) ⟨x.2, Wf_finish i2 hb, sM_finish.trans i3, by dsimp only; omega, by dsimp only; omega, by dsimp only; omega, i7⟩ (by dsimp only; omega)
theorem ct_X4_doPass (hst : l.stackTraces = false) (hd : mDi a ad) (hM : MR f σ) {R : Nat} (W : Wf R σ) (hm : sM σ + 60 ≤ 100000) (hr : R + 720 ≤ 2000000) {x : Int32} : CM Ω l yX4_doPass (ws_ yX4_doPass cX4_doPass 4 (some .int)) 16 0 0 [.ref a, .int x] (hR Ω (mW Ω h a ad v (FU F 0 f))) (DO Ω h a ad v F f (aPass σ x)) nX := by
  by_cases h1 : nI 1 ≤ x ∧ x ≤ nI 60
  · obtain ⟨n, hn1, hn2, rfl⟩ := (rgI (by omega) (by omega)).mp h1
    have e : aPass σ (nI n) = .inr (aMins n σ) := by unfold aPass; rw [cH_f (fun k => k h1), iN_nI (by omega)]
    rw [e]
    refine CM.of (L := [some (.ref a), some (.int (nI n)), none, none]) hst (by decide) (Nat.le_of_ble_eq_true rfl) rfl ?_
    intro p e s m below meth c X hnm htab
    refine g_iload_n X dX4_doPass_0 rfl rfl ?_
    refine g_iconst X dX4_doPass_1 rfl (v := (nI 1)) rfl ?_
    refine g_bipush X dX4_doPass_2 rfl (v := (nI 60)) (by decide) ?_
    refine g_callS X (ct_X4_in hst) dX4_doPass_4 rfl (lw_S q1985 q1986 q76 q1987) hyS_X4_in (fun H hH => hH) ⟨Nat.le_of_ble_eq_true rfl, Nat.le_of_ble_eq_true rfl⟩ ⟨Nat.le_of_ble_eq_true rfl, Nat.le_of_ble_eq_true rfl⟩ (Nat.le_of_ble_eq_true rfl) rfl (fun x_4 => ?_)
    refine g_if_ne (tgt := 16) X dX4_doPass_7 rfl (by decide) (fun c_7 => ?_) (fun c => absurd (h1) (bI_0.mp c))
    refine g_iconst X dX4_doPass_16 rfl (v := (nI 0)) rfl ?_
    refine g_istore_n X dX4_doPass_17 rfl (by decide) rfl rfl ?_
    refine g_iconst X dX4_doPass_18 rfl (v := (nI 0)) rfl ?_
    refine g_istore_n X dX4_doPass_19 rfl (by decide) rfl rfl ?_
    refine GJ.loc ((fun x : Nat × (Nat → Int32) => [some (.ref a), some (.int (nI n)), some (.int (nI (aMins x.1 σ).1)), some (.int (nI x.1))]) (0, f)) (lvle_c rfl (lvle_c rfl (lvle_c rfl (lvle_c rfl lvle_e)))) ?_
    refine GJ.loop (fun x : Nat × (Nat → Int32) => hR Ω (mW Ω h a ad v (FU F 0 x.2))) (fun _ => 0) (fun _ => 0) (fun x : Nat × (Nat → Int32) => [some (.ref a), some (.int (nI n)), some (.int (nI (aMins x.1 σ).1)), some (.int (nI x.1))]) (fun x => n - x.1) (fun x => x.1 ≤ n ∧ MR x.2 (aMins x.1 σ).2) (0, f) ⟨Nat.zero_le _, hM⟩ ?_
    rintro ⟨k, fk⟩ ⟨hk1, hk2⟩ ih
    dsimp only at hk1 hk2 ih ⊢
    obtain ⟨w1, w2, w3⟩ := Wf_mins W k
    refine g_iload_n X dX4_doPass_20 rfl rfl ?_
    refine g_iload_n X dX4_doPass_21 rfl rfl ?_
    refine g_icmp_ge (tgt := 38) X dX4_doPass_22 rfl (by decide) (fun c_22 => ?_) (fun c_22 => ?_)
    · rw [nI_leI (by omega) (by omega)] at c_22
      obtain rfl : k = n := by omega
      refine g_iload_n X dX4_doPass_38 rfl rfl ?_
      refine g_iret X dX4_doPass_39 rfl (Nat.le_of_ble_eq_true rfl) (Nat.le_of_ble_eq_true rfl) (fun H hH => ⟨⟨fk, hk2⟩, rfl, hH⟩)
    · rw [nI_leI (by omega) (by omega)] at c_22
      refine g_iload_n X dX4_doPass_25 rfl rfl ?_
      refine g_aload_n X dX4_doPass_26 rfl rfl ?_
      refine g_callV X (ct_X4_passesOne hst hd hk2 w1 (by omega) (by omega)) dX4_doPass_27 rfl (lw_V q2096 q2098 qs48 q76 q2099) hyV_X4_passesOne (fun H hH => hR.recv X.2.2.2.2.2.2.2.1 hH mW_a rfl) (fun H hH => hH) ⟨Nat.le_of_ble_eq_true rfl, Nat.le_of_ble_eq_true rfl⟩ ⟨Nat.le_of_ble_eq_true rfl, Nat.le_of_ble_eq_true rfl⟩ (Nat.le_of_ble_eq_true rfl) rfl (fun x => ?_)
      refine g_iadd X dX4_doPass_30 rfl (by first | exact nI_add _ _ | rfl) ?_
      refine g_istore_n X dX4_doPass_31 rfl (by decide) rfl rfl ?_
      refine g_iinc X dX4_doPass_32 rfl rfl (by first | exact nI_1 _ | rfl) (by decide) rfl rfl ?_
      refine g_goto (tgt := 20) X dX4_doPass_35 rfl (by decide) ?_
      refine GJ.loc [some (.ref a), some (.int (nI n)), some (.int (nI (aMins (k + 1) σ).1)), some (.int (nI (k + 1)))] (lvle_c rfl (lvle_c rfl (lvle_c rfl (lvle_c rfl lvle_e)))) ?_
      exact ih (k + 1, x.1) ⟨by dsimp only; omega, x.2⟩ (by dsimp only; omega)
  · have e : aPass σ x = .inl 1 := by unfold aPass; rw [cH_t h1]
    rw [e]
    refine CM.of (L := [some (.ref a), some (.int x), none, none]) hst (by decide) (Nat.le_of_ble_eq_true rfl) rfl ?_
    intro p e s m below meth c X hnm htab
    refine g_iload_n X dX4_doPass_0 rfl rfl ?_
    refine g_iconst X dX4_doPass_1 rfl (v := (nI 1)) rfl ?_
    refine g_bipush X dX4_doPass_2 rfl (v := (nI 60)) (by decide) ?_
    refine g_callS X (ct_X4_in hst) dX4_doPass_4 rfl (lw_S q1985 q1986 q76 q1987) hyS_X4_in (fun H hH => hH) ⟨Nat.le_of_ble_eq_true rfl, Nat.le_of_ble_eq_true rfl⟩ ⟨Nat.le_of_ble_eq_true rfl, Nat.le_of_ble_eq_true rfl⟩ (Nat.le_of_ble_eq_true rfl) rfl (fun x_4 => ?_)
    refine g_if_ne (tgt := 16) X dX4_doPass_7 rfl (by decide) (fun c => absurd (bI_n0.mp c) (h1)) (fun c_7 => ?_)
    refine g_aload_n X dX4_doPass_10 rfl rfl ?_
    refine g_iconst X dX4_doPass_11 rfl (v := (nI 1)) rfl ?_
    refine g_callV X (ct_X4_fails hst) dX4_doPass_12 rfl (lw_V q1988 q1990 qs27 q76 q1991) hyV_X4_fails (fun H hH => hR.recv X.2.2.2.2.2.2.2.1 hH mW_a rfl) (fun H hH => hH) ⟨Nat.le_of_ble_eq_true rfl, Nat.le_of_ble_eq_true rfl⟩ ⟨Nat.le_of_ble_eq_true rfl, Nat.le_of_ble_eq_true rfl⟩ (Nat.le_of_ble_eq_true rfl) rfl (fun x_12 => ?_)
    refine g_iret X dX4_doPass_15 rfl (Nat.le_of_ble_eq_true rfl) (Nat.le_of_ble_eq_true rfl) (fun H hH => ⟨⟨f, rfl⟩, rfl, hH⟩)
end M10
