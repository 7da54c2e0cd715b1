/-! MODEL, the ops -/
section M8
variable {l : Launch} {Ω : Om} {h : RH} {a : Nat} {ad : Nat → Nat} {v : Nat → Int32} {F : Nat → Nat → Int32} {f : Nat → Int32} {σ : St}
set_option maxRecDepth 100000
theorem ct_X4_doAddGuest (hst : l.stackTraces = false) (hd : mDi a ad) (hM : MR f σ) (hB : Bd σ) : CM Ω l yX4_doAddGuest (ws_ yX4_doAddGuest cX4_doAddGuest 2 (some .int)) 4 0 0 [.ref a] (hR Ω (mW Ω h a ad v (FU F 0 f))) (DO Ω h a ad v F f (aAddG σ)) nX := by
  have b1 := hB.1
  by_cases h1 : nG σ = 10
  · have e : aAddG σ = .inl 1 := by unfold aAddG; rw [cH_t h1]
    rw [e]
    refine CM.of (L := [some (.ref a), none]) hst (by decide) (Nat.le_of_ble_eq_true rfl) rfl ?_
    intro p e s m below meth c X hnm htab
    refine g_aload_n X dX4_doAddGuest_0 rfl rfl ?_
    refine g_get X dX4_doAddGuest_1 rfl in_X4 (ci := 3) rfl 0 (by decide) q1916 (fun _ h => h) mW_a rfl ?_
    refine g_iconst X dX4_doAddGuest_4 rfl (v := (nI 1)) rfl ?_
    refine g_ial X dX4_doAddGuest_5 rfl (mW_0z hd) (vp_in_nI (by omega) (by decide)) (ix_v (by omega) hM.1.2.1) ?_
    refine g_istore_n X dX4_doAddGuest_6 rfl (by decide) rfl rfl ?_
    refine g_iload_n X dX4_doAddGuest_7 rfl rfl ?_
    refine g_bipush X dX4_doAddGuest_8 rfl (v := (nI 10)) (by decide) ?_
    refine g_icmp_ne (tgt := 19) X dX4_doAddGuest_10 rfl (by decide) (fun c => absurd (by rw [h1]) c) (fun c_10 => ?_)
    refine g_aload_n X dX4_doAddGuest_13 rfl rfl ?_
    refine g_iconst X dX4_doAddGuest_14 rfl (v := (nI 1)) rfl ?_
    refine g_callV X (ct_X4_fails hst) dX4_doAddGuest_15 rfl (lw_V q1988 q1990 qs27 q76 q1991) hyV_X4_fails (fun H hH => hR.recv X.2.2.2.2.2.2.2.1 hH mW_a rfl) (fun H hH => hH) ⟨Nat.le_of_ble_eq_true rfl, Nat.le_of_ble_eq_true rfl⟩ ⟨Nat.le_of_ble_eq_true rfl, Nat.le_of_ble_eq_true rfl⟩ (Nat.le_of_ble_eq_true rfl) rfl (fun x_15 => ?_)
    refine g_iret X dX4_doAddGuest_18 rfl (Nat.le_of_ble_eq_true rfl) (Nat.le_of_ble_eq_true rfl) (fun H hH => ⟨⟨f, rfl⟩, rfl, hH⟩)
  · have e : aAddG σ = .inr (nG σ, uG σ (sG σ ++ [(50, 0)])) := by unfold aAddG; rw [cH_f h1]
    rw [e]
    refine CM.of (L := [some (.ref a), none]) hst (by decide) (Nat.le_of_ble_eq_true rfl) rfl ?_
    intro p e s m below meth c X hnm htab
    refine g_aload_n X dX4_doAddGuest_0 rfl rfl ?_
    refine g_get X dX4_doAddGuest_1 rfl in_X4 (ci := 3) rfl 0 (by decide) q1916 (fun _ h => h) mW_a rfl ?_
    refine g_iconst X dX4_doAddGuest_4 rfl (v := (nI 1)) rfl ?_
    refine g_ial X dX4_doAddGuest_5 rfl (mW_0z hd) (vp_in_nI (by omega) (by decide)) (ix_v (by omega) hM.1.2.1) ?_
    refine g_istore_n X dX4_doAddGuest_6 rfl (by decide) rfl rfl ?_
    refine g_iload_n X dX4_doAddGuest_7 rfl rfl ?_
    refine g_bipush X dX4_doAddGuest_8 rfl (v := (nI 10)) (by decide) ?_
    refine g_icmp_ne (tgt := 19) X dX4_doAddGuest_10 rfl (by decide) (fun c_10 => ?_) (fun c => absurd ((nI_eq (by omega) (by omega)).mp c) h1)
    refine g_aload_n X dX4_doAddGuest_19 rfl rfl ?_
    refine g_get X dX4_doAddGuest_20 rfl in_X4 (ci := 3) rfl 0 (by decide) q1916 (fun _ h => h) mW_a rfl ?_
    refine g_bipush X dX4_doAddGuest_23 rfl (v := (nI 44)) (by decide) ?_
    refine g_iconst X dX4_doAddGuest_25 rfl (v := (nI 3)) rfl ?_
    refine g_iload_n X dX4_doAddGuest_26 rfl rfl ?_
    refine g_imul X dX4_doAddGuest_27 rfl (by first | exact pk_mul _ _ | rfl) ?_
    refine g_iadd X dX4_doAddGuest_28 rfl (by first | exact nI_add _ _ | rfl) ?_
    refine g_bipush X dX4_doAddGuest_29 rfl (v := (nI 50)) (by decide) ?_
    refine g_ias X dX4_doAddGuest_31 rfl (mW_0z hd) (vp_in_nI (by omega) (by decide)) (mW_i0 hd (nI_clamp (by omega))) ?_
    refine g_aload_n X dX4_doAddGuest_32 rfl rfl ?_
    refine g_get X dX4_doAddGuest_33 rfl in_X4 (ci := 3) rfl 0 (by decide) q1916 (fun _ h => h) mW_a rfl ?_
    refine g_bipush X dX4_doAddGuest_36 rfl (v := (nI 44)) (by decide) ?_
    refine g_iconst X dX4_doAddGuest_38 rfl (v := (nI 3)) rfl ?_
    refine g_iload_n X dX4_doAddGuest_39 rfl rfl ?_
    refine g_imul X dX4_doAddGuest_40 rfl (by first | exact pk_mul _ _ | rfl) ?_
    refine g_iadd X dX4_doAddGuest_41 rfl (by first | exact nI_add _ _ | rfl) ?_
    refine g_iconst X dX4_doAddGuest_42 rfl (v := (nI 1)) rfl ?_
    refine g_iadd X dX4_doAddGuest_43 rfl (by first | exact nI_add _ _ | rfl) ?_
    refine g_iconst X dX4_doAddGuest_44 rfl (v := (nI 0)) rfl ?_
    refine g_ias X dX4_doAddGuest_45 rfl (mW_0z hd) (vp_in_nI (by omega) (by decide)) (mW_i0 hd (nI_clamp (by omega))) ?_
    refine g_aload_n X dX4_doAddGuest_46 rfl rfl ?_
    refine g_get X dX4_doAddGuest_47 rfl in_X4 (ci := 3) rfl 0 (by decide) q1916 (fun _ h => h) mW_a rfl ?_
    refine g_bipush X dX4_doAddGuest_50 rfl (v := (nI 44)) (by decide) ?_
    refine g_iconst X dX4_doAddGuest_52 rfl (v := (nI 3)) rfl ?_
    refine g_iload_n X dX4_doAddGuest_53 rfl rfl ?_
    refine g_imul X dX4_doAddGuest_54 rfl (by first | exact pk_mul _ _ | rfl) ?_
    refine g_iadd X dX4_doAddGuest_55 rfl (by first | exact nI_add _ _ | rfl) ?_
    refine g_iconst X dX4_doAddGuest_56 rfl (v := (nI 2)) rfl ?_
    refine g_iadd X dX4_doAddGuest_57 rfl (by first | exact nI_add _ _ | rfl) ?_
    refine g_iconst X dX4_doAddGuest_58 rfl (v := (nI 0)) rfl ?_
    refine g_ias X dX4_doAddGuest_59 rfl (mW_0z hd) (vp_in_nI (by omega) (by decide)) (mW_i0 hd (nI_clamp (by omega))) ?_
    refine g_aload_n X dX4_doAddGuest_60 rfl rfl ?_
    refine g_get X dX4_doAddGuest_61 rfl in_X4 (ci := 3) rfl 0 (by decide) q1916 (fun _ h => h) mW_a rfl ?_
    refine g_iconst X dX4_doAddGuest_64 rfl (v := (nI 1)) rfl ?_
    refine g_dup2 X dX4_doAddGuest_65 rfl rfl rfl ?_
    refine g_ial X dX4_doAddGuest_66 rfl (mW_0z hd) (vp_in_nI (by omega) (by decide)) (ix_v (by omega) ((upd_n (by omega)).trans ((upd_n (by omega)).trans ((upd_n (by omega)).trans hM.1.2.1)))) ?_
    refine g_iconst X dX4_doAddGuest_67 rfl (v := (nI 1)) rfl ?_
    refine g_iadd X dX4_doAddGuest_68 rfl (by first | exact nI_add _ _ | rfl) ?_
    refine g_ias X dX4_doAddGuest_69 rfl (mW_0z hd) (vp_in_nI (by omega) (by decide)) (mW_i0 hd (nI_clamp (by omega))) ?_
    refine g_iload_n X dX4_doAddGuest_70 rfl rfl ?_
    refine g_iret X dX4_doAddGuest_71 rfl (Nat.le_of_ble_eq_true rfl) (Nat.le_of_ble_eq_true rfl) (fun H hH => ⟨⟨_, MR_addG hM hB.cp (by omega) (wai_new hB)⟩, rfl, hH⟩)
theorem ct_X4_doBuildSlide (hst : l.stackTraces = false) (hd : mDi a ad) (hM : MR f σ) (hB : Bd σ) {d p : Int32} : CM Ω l yX4_doBuildSlide (ws_ yX4_doBuildSlide cX4_doBuildSlide 5 (some .int)) 4 0 0 [.ref a, .int d, .int p] (hR Ω (mW Ω h a ad v (FU F 0 f))) (DO Ω h a ad v F f (aBuild σ d p)) nX := by
  have b1 := hB.1
  by_cases h1 : nI 1 ≤ d ∧ d ≤ nI 9
  · by_cases h2 : nI 1 ≤ p ∧ p ≤ nI 9
    · by_cases h3 : nS σ = 4
      · have e : aBuild σ d p = .inl 2 := by unfold aBuild; rw [cH_f (fun g => g ⟨h1, h2⟩), cH_t h3]
        rw [e]
        refine CM.of (L := [some (.ref a), some (.int d), some (.int p), none, none]) hst (by decide) (Nat.le_of_ble_eq_true rfl) rfl ?_
        intro p e s m below meth c X hnm htab
        refine g_aload_n X dX4_doBuildSlide_0 rfl rfl ?_
        refine g_get X dX4_doBuildSlide_1 rfl in_X4 (ci := 3) rfl 0 (by decide) q1916 (fun _ h => h) mW_a rfl ?_
        refine g_iconst X dX4_doBuildSlide_4 rfl (v := (nI 0)) rfl ?_
        refine g_ial X dX4_doBuildSlide_5 rfl (mW_0z hd) (vp_in_nI (by omega) (by decide)) (ix_v (by omega) hM.1.1) ?_
        refine g_istore_n X dX4_doBuildSlide_6 rfl (by decide) rfl rfl ?_
        refine g_iload_n X dX4_doBuildSlide_7 rfl rfl ?_
        refine g_iconst X dX4_doBuildSlide_8 rfl (v := (nI 1)) rfl ?_
        refine g_bipush X dX4_doBuildSlide_9 rfl (v := (nI 9)) (by decide) ?_
        refine g_callS X (ct_X4_in hst) dX4_doBuildSlide_11 rfl (lw_S q1985 q1986 q76 q1987) hyS_X4_in (fun H hH => hH) ⟨Nat.le_of_ble_eq_true rfl, Nat.le_of_ble_eq_true rfl⟩ ⟨Nat.le_of_ble_eq_true rfl, Nat.le_of_ble_eq_true rfl⟩ (Nat.le_of_ble_eq_true rfl) rfl (fun x_11 => ?_)
        refine g_if_eq (tgt := 27) X dX4_doBuildSlide_14 rfl (by decide) (fun c => absurd (h1) (bI_0.mp c)) (fun c_14 => ?_)
        refine g_iload_n X dX4_doBuildSlide_17 rfl rfl ?_
        refine g_iconst X dX4_doBuildSlide_18 rfl (v := (nI 1)) rfl ?_
        refine g_bipush X dX4_doBuildSlide_19 rfl (v := (nI 9)) (by decide) ?_
        refine g_callS X (ct_X4_in hst) dX4_doBuildSlide_21 rfl (lw_S q1985 q1986 q76 q1987) hyS_X4_in (fun H hH => hH) ⟨Nat.le_of_ble_eq_true rfl, Nat.le_of_ble_eq_true rfl⟩ ⟨Nat.le_of_ble_eq_true rfl, Nat.le_of_ble_eq_true rfl⟩ (Nat.le_of_ble_eq_true rfl) rfl (fun x_21 => ?_)
        refine g_if_ne (tgt := 33) X dX4_doBuildSlide_24 rfl (by decide) (fun c_24 => ?_) (fun c => absurd (h2) (bI_0.mp c))
        refine g_iload_n X dX4_doBuildSlide_33 rfl rfl ?_
        refine g_iconst X dX4_doBuildSlide_34 rfl (v := (nI 4)) rfl ?_
        refine g_icmp_ne (tgt := 44) X dX4_doBuildSlide_35 rfl (by decide) (fun c => absurd (by rw [h3]) c) (fun c_35 => ?_)
        refine g_aload_n X dX4_doBuildSlide_38 rfl rfl ?_
        refine g_iconst X dX4_doBuildSlide_39 rfl (v := (nI 2)) rfl ?_
        refine g_callV X (ct_X4_fails hst) dX4_doBuildSlide_40 rfl (lw_V q1988 q1990 qs27 q76 q1991) hyV_X4_fails (fun H hH => hR.recv X.2.2.2.2.2.2.2.1 hH mW_a rfl) (fun H hH => hH) ⟨Nat.le_of_ble_eq_true rfl, Nat.le_of_ble_eq_true rfl⟩ ⟨Nat.le_of_ble_eq_true rfl, Nat.le_of_ble_eq_true rfl⟩ (Nat.le_of_ble_eq_true rfl) rfl (fun x_40 => ?_)
        refine g_iret X dX4_doBuildSlide_43 rfl (Nat.le_of_ble_eq_true rfl) (Nat.le_of_ble_eq_true rfl) (fun H hH => ⟨⟨f, rfl⟩, rfl, hH⟩)
      · have e : aBuild σ d p = .inr (nS σ, uS σ (sS σ ++ [(iN d, iN p, 0, [])])) := by unfold aBuild; rw [cH_f (fun g => g ⟨h1, h2⟩), cH_f h3]
        rw [e]
        obtain ⟨d0, -, h5, rfl⟩ := (rgI (by omega) (by omega)).mp h1
        obtain ⟨p0, -, h6, rfl⟩ := (rgI (by omega) (by omega)).mp h2
        rw [iN_nI (by omega), iN_nI (by omega)]
        refine CM.of (L := [some (.ref a), some (.int (nI d0)), some (.int (nI p0)), none, none]) hst (by decide) (Nat.le_of_ble_eq_true rfl) rfl ?_
        intro p e s m below meth c X hnm htab
        refine g_aload_n X dX4_doBuildSlide_0 rfl rfl ?_
        refine g_get X dX4_doBuildSlide_1 rfl in_X4 (ci := 3) rfl 0 (by decide) q1916 (fun _ h => h) mW_a rfl ?_
        refine g_iconst X dX4_doBuildSlide_4 rfl (v := (nI 0)) rfl ?_
        refine g_ial X dX4_doBuildSlide_5 rfl (mW_0z hd) (vp_in_nI (by omega) (by decide)) (ix_v (by omega) hM.1.1) ?_
        refine g_istore_n X dX4_doBuildSlide_6 rfl (by decide) rfl rfl ?_
        refine g_iload_n X dX4_doBuildSlide_7 rfl rfl ?_
        refine g_iconst X dX4_doBuildSlide_8 rfl (v := (nI 1)) rfl ?_
        refine g_bipush X dX4_doBuildSlide_9 rfl (v := (nI 9)) (by decide) ?_
        refine g_callS X (ct_X4_in hst) dX4_doBuildSlide_11 rfl (lw_S q1985 q1986 q76 q1987) hyS_X4_in (fun H hH => hH) ⟨Nat.le_of_ble_eq_true rfl, Nat.le_of_ble_eq_true rfl⟩ ⟨Nat.le_of_ble_eq_true rfl, Nat.le_of_ble_eq_true rfl⟩ (Nat.le_of_ble_eq_true rfl) rfl (fun x_11 => ?_)
        refine g_if_eq (tgt := 27) X dX4_doBuildSlide_14 rfl (by decide) (fun c => absurd (h1) (bI_0.mp c)) (fun c_14 => ?_)
        refine g_iload_n X dX4_doBuildSlide_17 rfl rfl ?_
        refine g_iconst X dX4_doBuildSlide_18 rfl (v := (nI 1)) rfl ?_
        refine g_bipush X dX4_doBuildSlide_19 rfl (v := (nI 9)) (by decide) ?_
        refine g_callS X (ct_X4_in hst) dX4_doBuildSlide_21 rfl (lw_S q1985 q1986 q76 q1987) hyS_X4_in (fun H hH => hH) ⟨Nat.le_of_ble_eq_true rfl, Nat.le_of_ble_eq_true rfl⟩ ⟨Nat.le_of_ble_eq_true rfl, Nat.le_of_ble_eq_true rfl⟩ (Nat.le_of_ble_eq_true rfl) rfl (fun x_21 => ?_)
        refine g_if_ne (tgt := 33) X dX4_doBuildSlide_24 rfl (by decide) (fun c_24 => ?_) (fun c => absurd (h2) (bI_0.mp c))
        refine g_iload_n X dX4_doBuildSlide_33 rfl rfl ?_
        refine g_iconst X dX4_doBuildSlide_34 rfl (v := (nI 4)) rfl ?_
        refine g_icmp_ne (tgt := 44) X dX4_doBuildSlide_35 rfl (by decide) (fun c_35 => ?_) (fun c => absurd ((nI_eq (by omega) (by omega)).mp c) h3)
        refine g_iconst X dX4_doBuildSlide_44 rfl (v := (nI 0)) rfl ?_
        refine g_istore X dX4_doBuildSlide_45 rfl (by decide) rfl rfl ?_
        refine GJ.imp (I' := hR Ω (mW Ω h a ad v (FU F 0 (zF f (8 + 9 * nS σ) 0)))) (fun H hH => by rw [zF_0]; exact hH) ?_
        refine GJ.loc ((fun k : Nat => [some (.ref a), some (.int (nI d0)), some (.int (nI p0)), some (.int (nI (nS σ))), some (.int (nI k))]) 0) (lvle_c rfl (lvle_c rfl (lvle_c rfl (lvle_c rfl (lvle_c rfl lvle_e))))) ?_
        refine GJ.loop (fun k : Nat => hR Ω (mW Ω h a ad v (FU F 0 (zF f (8 + 9 * nS σ) k)))) (fun _ => 0) (fun _ => 0) (fun k : Nat => [some (.ref a), some (.int (nI d0)), some (.int (nI p0)), some (.int (nI (nS σ))), some (.int (nI k))]) (fun k => 9 - k) (fun k => k ≤ 9) 0 (Nat.zero_le _) ?_
        intro k hk ih
        refine g_iload X dX4_doBuildSlide_47 rfl rfl ?_
        refine g_bipush X dX4_doBuildSlide_49 rfl (v := (nI 9)) (by decide) ?_
        refine g_icmp_ge (tgt := 76) X dX4_doBuildSlide_51 rfl (by decide) (fun c_51 => ?_) (fun c_51 => ?_)
        · rw [nI_leI (by omega) (by omega)] at c_51
          obtain rfl : k = 9 := by omega
          refine g_aload_n X dX4_doBuildSlide_76 rfl rfl ?_
          refine g_get X dX4_doBuildSlide_77 rfl in_X4 (ci := 3) rfl 0 (by decide) q1916 (fun _ h => h) mW_a rfl ?_
          refine g_bipush X dX4_doBuildSlide_80 rfl (v := (nI 8)) (by decide) ?_
          refine g_bipush X dX4_doBuildSlide_82 rfl (v := (nI 9)) (by decide) ?_
          refine g_iload_n X dX4_doBuildSlide_84 rfl rfl ?_
          refine g_imul X dX4_doBuildSlide_85 rfl (by first | exact pk_mul _ _ | rfl) ?_
          refine g_iadd X dX4_doBuildSlide_86 rfl (by first | exact nI_add _ _ | rfl) ?_
          refine g_iload_n X dX4_doBuildSlide_87 rfl rfl ?_
          refine g_ias X dX4_doBuildSlide_88 rfl (mW_0z hd) (vp_in_nI (by omega) (by decide)) (mW_i0 hd (nI_clamp (by omega))) ?_
          refine g_aload_n X dX4_doBuildSlide_89 rfl rfl ?_
          refine g_get X dX4_doBuildSlide_90 rfl in_X4 (ci := 3) rfl 0 (by decide) q1916 (fun _ h => h) mW_a rfl ?_
          refine g_bipush X dX4_doBuildSlide_93 rfl (v := (nI 8)) (by decide) ?_
          refine g_bipush X dX4_doBuildSlide_95 rfl (v := (nI 9)) (by decide) ?_
          refine g_iload_n X dX4_doBuildSlide_97 rfl rfl ?_
          refine g_imul X dX4_doBuildSlide_98 rfl (by first | exact pk_mul _ _ | rfl) ?_
          refine g_iadd X dX4_doBuildSlide_99 rfl (by first | exact nI_add _ _ | rfl) ?_
          refine g_iconst X dX4_doBuildSlide_100 rfl (v := (nI 1)) rfl ?_
          refine g_iadd X dX4_doBuildSlide_101 rfl (by first | exact nI_add _ _ | rfl) ?_
          refine g_iload_n X dX4_doBuildSlide_102 rfl rfl ?_
          refine g_ias X dX4_doBuildSlide_103 rfl (mW_0z hd) (vp_in_nI (by omega) (by decide)) (mW_i0 hd (nI_clamp (by omega))) ?_
          refine g_aload_n X dX4_doBuildSlide_104 rfl rfl ?_
          refine g_get X dX4_doBuildSlide_105 rfl in_X4 (ci := 3) rfl 0 (by decide) q1916 (fun _ h => h) mW_a rfl ?_
          refine g_iconst X dX4_doBuildSlide_108 rfl (v := (nI 0)) rfl ?_
          refine g_dup2 X dX4_doBuildSlide_109 rfl rfl rfl ?_
          refine g_ial X dX4_doBuildSlide_110 rfl (mW_0z hd) (vp_in_nI (by omega) (by decide)) (ix_v (by omega) ((upd_n (by omega)).trans ((upd_n (by omega)).trans ((zF_o (by omega)).trans hM.1.1)))) ?_
          refine g_iconst X dX4_doBuildSlide_111 rfl (v := (nI 1)) rfl ?_
          refine g_iadd X dX4_doBuildSlide_112 rfl (by first | exact nI_add _ _ | rfl) ?_
          refine g_ias X dX4_doBuildSlide_113 rfl (mW_0z hd) (vp_in_nI (by omega) (by decide)) (mW_i0 hd (nI_clamp (by omega))) ?_
          refine g_iload_n X dX4_doBuildSlide_114 rfl rfl ?_
          refine g_iret X dX4_doBuildSlide_115 rfl (Nat.le_of_ble_eq_true rfl) (Nat.le_of_ble_eq_true rfl) (fun H hH => ⟨⟨_, MR_build hM hB.cp (by omega)⟩, rfl, hH⟩)
        · rw [nI_leI (by omega) (by omega)] at c_51
          refine g_aload_n X dX4_doBuildSlide_54 rfl rfl ?_
          refine g_get X dX4_doBuildSlide_55 rfl in_X4 (ci := 3) rfl 0 (by decide) q1916 (fun _ h => h) mW_a rfl ?_
          refine g_bipush X dX4_doBuildSlide_58 rfl (v := (nI 8)) (by decide) ?_
          refine g_bipush X dX4_doBuildSlide_60 rfl (v := (nI 9)) (by decide) ?_
          refine g_iload_n X dX4_doBuildSlide_62 rfl rfl ?_
          refine g_imul X dX4_doBuildSlide_63 rfl (by first | exact pk_mul _ _ | rfl) ?_
          refine g_iadd X dX4_doBuildSlide_64 rfl (by first | exact nI_add _ _ | rfl) ?_
          refine g_iload X dX4_doBuildSlide_65 rfl rfl ?_
          refine g_iadd X dX4_doBuildSlide_67 rfl (by first | exact nI_add _ _ | rfl) ?_
          refine g_iconst X dX4_doBuildSlide_68 rfl (v := (nI 0)) rfl ?_
          refine g_ias X dX4_doBuildSlide_69 rfl (mW_0z hd) (vp_in_nI (by omega) (by decide)) (mW_i0 hd (nI_clamp (by omega))) ?_
          refine g_iinc X dX4_doBuildSlide_70 rfl rfl (by first | exact nI_1 _ | rfl) (by decide) rfl rfl ?_
          refine g_goto (tgt := 47) X dX4_doBuildSlide_73 rfl (by decide) ?_
          refine GJ.loc [some (.ref a), some (.int (nI d0)), some (.int (nI p0)), some (.int (nI (nS σ))), some (.int (nI (k + 1)))] (lvle_c rfl (lvle_c rfl (lvle_c rfl (lvle_c rfl (lvle_c rfl lvle_e))))) ?_
          rw [zF_s]
          exact ih (k + 1) (by omega) (by omega)
    · have e : aBuild σ d p = .inl 1 := by unfold aBuild; rw [cH_t (fun g => h2 g.2)]
      rw [e]
      refine CM.of (L := [some (.ref a), some (.int d), some (.int p), none, none]) hst (by decide) (Nat.le_of_ble_eq_true rfl) rfl ?_
      intro p e s m below meth c X hnm htab
      refine g_aload_n X dX4_doBuildSlide_0 rfl rfl ?_
      refine g_get X dX4_doBuildSlide_1 rfl in_X4 (ci := 3) rfl 0 (by decide) q1916 (fun _ h => h) mW_a rfl ?_
      refine g_iconst X dX4_doBuildSlide_4 rfl (v := (nI 0)) rfl ?_
      refine g_ial X dX4_doBuildSlide_5 rfl (mW_0z hd) (vp_in_nI (by omega) (by decide)) (ix_v (by omega) hM.1.1) ?_
      refine g_istore_n X dX4_doBuildSlide_6 rfl (by decide) rfl rfl ?_
      refine g_iload_n X dX4_doBuildSlide_7 rfl rfl ?_
      refine g_iconst X dX4_doBuildSlide_8 rfl (v := (nI 1)) rfl ?_
      refine g_bipush X dX4_doBuildSlide_9 rfl (v := (nI 9)) (by decide) ?_
      refine g_callS X (ct_X4_in hst) dX4_doBuildSlide_11 rfl (lw_S q1985 q1986 q76 q1987) hyS_X4_in (fun H hH => hH) ⟨Nat.le_of_ble_eq_true rfl, Nat.le_of_ble_eq_true rfl⟩ ⟨Nat.le_of_ble_eq_true rfl, Nat.le_of_ble_eq_true rfl⟩ (Nat.le_of_ble_eq_true rfl) rfl (fun x_11 => ?_)
      refine g_if_eq (tgt := 27) X dX4_doBuildSlide_14 rfl (by decide) (fun c => absurd (h1) (bI_0.mp c)) (fun c_14 => ?_)
      refine g_iload_n X dX4_doBuildSlide_17 rfl rfl ?_
      refine g_iconst X dX4_doBuildSlide_18 rfl (v := (nI 1)) rfl ?_
      refine g_bipush X dX4_doBuildSlide_19 rfl (v := (nI 9)) (by decide) ?_
      refine g_callS X (ct_X4_in hst) dX4_doBuildSlide_21 rfl (lw_S q1985 q1986 q76 q1987) hyS_X4_in (fun H hH => hH) ⟨Nat.le_of_ble_eq_true rfl, Nat.le_of_ble_eq_true rfl⟩ ⟨Nat.le_of_ble_eq_true rfl, Nat.le_of_ble_eq_true rfl⟩ (Nat.le_of_ble_eq_true rfl) rfl (fun x_21 => ?_)
      refine g_if_ne (tgt := 33) X dX4_doBuildSlide_24 rfl (by decide) (fun c => absurd (bI_n0.mp c) (h2)) (fun c_24 => ?_)
      refine g_aload_n X dX4_doBuildSlide_27 rfl rfl ?_
      refine g_iconst X dX4_doBuildSlide_28 rfl (v := (nI 1)) rfl ?_
      refine g_callV X (ct_X4_fails hst) dX4_doBuildSlide_29 rfl (lw_V q1988 q1990 qs27 q76 q1991) hyV_X4_fails (fun H hH => hR.recv X.2.2.2.2.2.2.2.1 hH mW_a rfl) (fun H hH => hH) ⟨Nat.le_of_ble_eq_true rfl, Nat.le_of_ble_eq_true rfl⟩ ⟨Nat.le_of_ble_eq_true rfl, Nat.le_of_ble_eq_true rfl⟩ (Nat.le_of_ble_eq_true rfl) rfl (fun x_29 => ?_)
      refine g_iret X dX4_doBuildSlide_32 rfl (Nat.le_of_ble_eq_true rfl) (Nat.le_of_ble_eq_true rfl) (fun H hH => ⟨⟨f, rfl⟩, rfl, hH⟩)
  · have e : aBuild σ d p = .inl 1 := by unfold aBuild; rw [cH_t (fun g => h1 g.1)]
    rw [e]
    refine CM.of (L := [some (.ref a), some (.int d), some (.int p), none, none]) hst (by decide) (Nat.le_of_ble_eq_true rfl) rfl ?_
    intro p e s m below meth c X hnm htab
    refine g_aload_n X dX4_doBuildSlide_0 rfl rfl ?_
    refine g_get X dX4_doBuildSlide_1 rfl in_X4 (ci := 3) rfl 0 (by decide) q1916 (fun _ h => h) mW_a rfl ?_
    refine g_iconst X dX4_doBuildSlide_4 rfl (v := (nI 0)) rfl ?_
    refine g_ial X dX4_doBuildSlide_5 rfl (mW_0z hd) (vp_in_nI (by omega) (by decide)) (ix_v (by omega) hM.1.1) ?_
    refine g_istore_n X dX4_doBuildSlide_6 rfl (by decide) rfl rfl ?_
    refine g_iload_n X dX4_doBuildSlide_7 rfl rfl ?_
    refine g_iconst X dX4_doBuildSlide_8 rfl (v := (nI 1)) rfl ?_
    refine g_bipush X dX4_doBuildSlide_9 rfl (v := (nI 9)) (by decide) ?_
    refine g_callS X (ct_X4_in hst) dX4_doBuildSlide_11 rfl (lw_S q1985 q1986 q76 q1987) hyS_X4_in (fun H hH => hH) ⟨Nat.le_of_ble_eq_true rfl, Nat.le_of_ble_eq_true rfl⟩ ⟨Nat.le_of_ble_eq_true rfl, Nat.le_of_ble_eq_true rfl⟩ (Nat.le_of_ble_eq_true rfl) rfl (fun x_11 => ?_)
    refine g_if_eq (tgt := 27) X dX4_doBuildSlide_14 rfl (by decide) (fun c_14 => ?_) (fun c => absurd (bI_n0.mp c) (h1))
    refine g_aload_n X dX4_doBuildSlide_27 rfl rfl ?_
    refine g_iconst X dX4_doBuildSlide_28 rfl (v := (nI 1)) rfl ?_
    refine g_callV X (ct_X4_fails hst) dX4_doBuildSlide_29 rfl (lw_V q1988 q1990 qs27 q76 q1991) hyV_X4_fails (fun H hH => hR.recv X.2.2.2.2.2.2.2.1 hH mW_a rfl) (fun H hH => hH) ⟨Nat.le_of_ble_eq_true rfl, Nat.le_of_ble_eq_true rfl⟩ ⟨Nat.le_of_ble_eq_true rfl, Nat.le_of_ble_eq_true rfl⟩ (Nat.le_of_ble_eq_true rfl) rfl (fun x_29 => ?_)
    refine g_iret X dX4_doBuildSlide_32 rfl (Nat.le_of_ble_eq_true rfl) (Nat.le_of_ble_eq_true rfl) (fun H hH => ⟨⟨f, rfl⟩, rfl, hH⟩)
theorem ct_X4_doBook (hst : l.stackTraces = false) (hd : mDi a ad) (hM : MR f σ) (hB : Bd σ) {x y z : Int32} : CM Ω l yX4_doBook (ws_ yX4_doBook cX4_doBook 4 (some .int)) 12 0 0 [.ref a, .int x, .int y, .int z] (hR Ω (mW Ω h a ad v (FU F 0 f))) (DO Ω h a ad v F f (aBook σ x y z)) nX := by
  have b1 := hB.1
  by_cases h1 : okG σ x
  · by_cases h2 : okS σ y
    · by_cases h3 : okT σ z
      · obtain ⟨g, hg, rfl⟩ := (ixI (by omega)).mp h1
        obtain ⟨s, hs, rfl⟩ := (ixI (by omega)).mp h2
        obtain ⟨t, ht, ht2, rfl⟩ := (rgI (by omega) (by omega)).mp h3
        have e0 : aBook σ (nI g) (nI s) (nI t) = cH (nB σ = 12 ∨ guC σ g < slP σ s) (.inl 3) (cH (aCl σ (nI g) s t) (.inl 4) (.inr (nB σ, aMake σ g s t))) := by unfold aBook; rw [cH_f (fun k => k ⟨h1, h2⟩), cH_f (fun k => k h3), iN_nI (by omega), iN_nI (by omega), iN_nI (by omega)]
        rw [e0]
        have e2 := hM.1.2.2.1
        have e5 := (hM.2.2.2.1 g hg).1
        have b5 := hB.2.2.2.1 g hg
        have e6 := (hM.2.1 s hs).2.1
        have b6 := hB.2.1 s hs
        by_cases h4 : nB σ = 12
        · rw [cH_t (Or.inl h4)]
          refine CM.of (L := [some (.ref a), some (.int (nI g)), some (.int (nI s)), some (.int (nI t))]) hst (by decide) (Nat.le_of_ble_eq_true rfl) rfl ?_
          intro p e s m below meth c X hnm htab
          refine g_aload_n X dX4_doBook_0 rfl rfl ?_
          refine g_iload_n X dX4_doBook_1 rfl rfl ?_
          refine g_callV X (ct_X4_isGuest hst hd hM) dX4_doBook_2 rfl (lw_V q2012 q2014 qs31 q76 q2015) hyV_X4_isGuest (fun H hH => hR.recv X.2.2.2.2.2.2.2.1 hH mW_a rfl) (fun H hH => hH) ⟨Nat.le_of_ble_eq_true rfl, Nat.le_of_ble_eq_true rfl⟩ ⟨Nat.le_of_ble_eq_true rfl, Nat.le_of_ble_eq_true rfl⟩ (Nat.le_of_ble_eq_true rfl) rfl (fun x_2 => ?_)
          refine g_if_eq (tgt := 16) X dX4_doBook_5 rfl (by decide) (fun c => absurd (h1) (bI_0.mp c)) (fun c_5 => ?_)
          refine g_aload_n X dX4_doBook_8 rfl rfl ?_
          refine g_iload_n X dX4_doBook_9 rfl rfl ?_
          refine g_callV X (ct_X4_isSlide hst hd hM) dX4_doBook_10 rfl (lw_V q2016 q2018 qs32 q76 q2019) hyV_X4_isSlide (fun H hH => hR.recv X.2.2.2.2.2.2.2.1 hH mW_a rfl) (fun H hH => hH) ⟨Nat.le_of_ble_eq_true rfl, Nat.le_of_ble_eq_true rfl⟩ ⟨Nat.le_of_ble_eq_true rfl, Nat.le_of_ble_eq_true rfl⟩ (Nat.le_of_ble_eq_true rfl) rfl (fun x_10 => ?_)
          refine g_if_ne (tgt := 22) X dX4_doBook_13 rfl (by decide) (fun c_13 => ?_) (fun c => absurd (h2) (bI_0.mp c))
          refine g_aload_n X dX4_doBook_22 rfl rfl ?_
          refine g_iload_n X dX4_doBook_23 rfl rfl ?_
          refine g_callV X (ct_X4_isStart hst hd hM) dX4_doBook_24 rfl (lw_V q2020 q2022 qs33 q76 q2023) hyV_X4_isStart (fun H hH => hR.recv X.2.2.2.2.2.2.2.1 hH mW_a rfl) (fun H hH => hH) ⟨Nat.le_of_ble_eq_true rfl, Nat.le_of_ble_eq_true rfl⟩ ⟨Nat.le_of_ble_eq_true rfl, Nat.le_of_ble_eq_true rfl⟩ (Nat.le_of_ble_eq_true rfl) rfl (fun x_24 => ?_)
          refine g_if_ne (tgt := 36) X dX4_doBook_27 rfl (by decide) (fun c_27 => ?_) (fun c => absurd (h3) (bI_0.mp c))
          refine g_aload_n X dX4_doBook_36 rfl rfl ?_
          refine g_get X dX4_doBook_37 rfl in_X4 (ci := 3) rfl 0 (by decide) q1916 (fun _ h => h) mW_a rfl ?_
          refine g_iconst X dX4_doBook_40 rfl (v := (nI 2)) rfl ?_
          refine g_ial X dX4_doBook_41 rfl (mW_0z hd) (vp_in_nI (by omega) (by decide)) (ix_v (by omega) e2) ?_
          refine g_bipush X dX4_doBook_42 rfl (v := (nI 12)) (by decide) ?_
          refine g_icmp_eq (tgt := 62) X dX4_doBook_44 rfl (by decide) (fun c_44 => ?_) (fun c => absurd (by rw [h4]) c)
          refine g_aload_n X dX4_doBook_62 rfl rfl ?_
          refine g_iconst X dX4_doBook_63 rfl (v := (nI 3)) rfl ?_
          refine g_callV X (ct_X4_fails hst) dX4_doBook_64 rfl (lw_V q1988 q1990 qs27 q76 q1991) hyV_X4_fails (fun H hH => hR.recv X.2.2.2.2.2.2.2.1 hH mW_a rfl) (fun H hH => hH) ⟨Nat.le_of_ble_eq_true rfl, Nat.le_of_ble_eq_true rfl⟩ ⟨Nat.le_of_ble_eq_true rfl, Nat.le_of_ble_eq_true rfl⟩ (Nat.le_of_ble_eq_true rfl) rfl (fun x_64 => ?_)
          refine g_iret X dX4_doBook_67 rfl (Nat.le_of_ble_eq_true rfl) (Nat.le_of_ble_eq_true rfl) (fun H hH => ⟨⟨f, rfl⟩, rfl, hH⟩)
        · by_cases h5 : guC σ g < slP σ s
          · rw [cH_t (Or.inr h5)]
            refine CM.of (L := [some (.ref a), some (.int (nI g)), some (.int (nI s)), some (.int (nI t))]) hst (by decide) (Nat.le_of_ble_eq_true rfl) rfl ?_
            intro p e s m below meth c X hnm htab
            refine g_aload_n X dX4_doBook_0 rfl rfl ?_
            refine g_iload_n X dX4_doBook_1 rfl rfl ?_
            refine g_callV X (ct_X4_isGuest hst hd hM) dX4_doBook_2 rfl (lw_V q2012 q2014 qs31 q76 q2015) hyV_X4_isGuest (fun H hH => hR.recv X.2.2.2.2.2.2.2.1 hH mW_a rfl) (fun H hH => hH) ⟨Nat.le_of_ble_eq_true rfl, Nat.le_of_ble_eq_true rfl⟩ ⟨Nat.le_of_ble_eq_true rfl, Nat.le_of_ble_eq_true rfl⟩ (Nat.le_of_ble_eq_true rfl) rfl (fun x_2 => ?_)
            refine g_if_eq (tgt := 16) X dX4_doBook_5 rfl (by decide) (fun c => absurd (h1) (bI_0.mp c)) (fun c_5 => ?_)
            refine g_aload_n X dX4_doBook_8 rfl rfl ?_
            refine g_iload_n X dX4_doBook_9 rfl rfl ?_
            refine g_callV X (ct_X4_isSlide hst hd hM) dX4_doBook_10 rfl (lw_V q2016 q2018 qs32 q76 q2019) hyV_X4_isSlide (fun H hH => hR.recv X.2.2.2.2.2.2.2.1 hH mW_a rfl) (fun H hH => hH) ⟨Nat.le_of_ble_eq_true rfl, Nat.le_of_ble_eq_true rfl⟩ ⟨Nat.le_of_ble_eq_true rfl, Nat.le_of_ble_eq_true rfl⟩ (Nat.le_of_ble_eq_true rfl) rfl (fun x_10 => ?_)
            refine g_if_ne (tgt := 22) X dX4_doBook_13 rfl (by decide) (fun c_13 => ?_) (fun c => absurd (h2) (bI_0.mp c))
            refine g_aload_n X dX4_doBook_22 rfl rfl ?_
            refine g_iload_n X dX4_doBook_23 rfl rfl ?_
            refine g_callV X (ct_X4_isStart hst hd hM) dX4_doBook_24 rfl (lw_V q2020 q2022 qs33 q76 q2023) hyV_X4_isStart (fun H hH => hR.recv X.2.2.2.2.2.2.2.1 hH mW_a rfl) (fun H hH => hH) ⟨Nat.le_of_ble_eq_true rfl, Nat.le_of_ble_eq_true rfl⟩ ⟨Nat.le_of_ble_eq_true rfl, Nat.le_of_ble_eq_true rfl⟩ (Nat.le_of_ble_eq_true rfl) rfl (fun x_24 => ?_)
            refine g_if_ne (tgt := 36) X dX4_doBook_27 rfl (by decide) (fun c_27 => ?_) (fun c => absurd (h3) (bI_0.mp c))
            refine g_aload_n X dX4_doBook_36 rfl rfl ?_
            refine g_get X dX4_doBook_37 rfl in_X4 (ci := 3) rfl 0 (by decide) q1916 (fun _ h => h) mW_a rfl ?_
            refine g_iconst X dX4_doBook_40 rfl (v := (nI 2)) rfl ?_
            refine g_ial X dX4_doBook_41 rfl (mW_0z hd) (vp_in_nI (by omega) (by decide)) (ix_v (by omega) e2) ?_
            refine g_bipush X dX4_doBook_42 rfl (v := (nI 12)) (by decide) ?_
            refine g_icmp_eq (tgt := 62) X dX4_doBook_44 rfl (by decide) (fun c => absurd ((nI_eq (by omega) (by omega)).mp c) h4) (fun c_44 => ?_)
            refine g_aload_n X dX4_doBook_47 rfl rfl ?_
            refine g_iload_n X dX4_doBook_48 rfl rfl ?_
            refine g_iconst X dX4_doBook_49 rfl (v := (nI 0)) rfl ?_
            refine g_callV X (ct_X4_guest hst hd (by omega) e5) dX4_doBook_50 rfl (lw_V q2024 q2026 qs34 q76 q2027) hyV_X4_guest (fun H hH => hR.recv X.2.2.2.2.2.2.2.1 hH mW_a rfl) (fun H hH => hH) ⟨Nat.le_of_ble_eq_true rfl, Nat.le_of_ble_eq_true rfl⟩ ⟨Nat.le_of_ble_eq_true rfl, Nat.le_of_ble_eq_true rfl⟩ (Nat.le_of_ble_eq_true rfl) rfl (fun x_50 => ?_)
            refine g_aload_n X dX4_doBook_53 rfl rfl ?_
            refine g_iload_n X dX4_doBook_54 rfl rfl ?_
            refine g_iconst X dX4_doBook_55 rfl (v := (nI 1)) rfl ?_
            refine g_callV X (ct_X4_slide hst hd (by omega) e6) dX4_doBook_56 rfl (lw_V q2028 q2030 qs35 q76 q2031) hyV_X4_slide (fun H hH => hR.recv X.2.2.2.2.2.2.2.1 hH mW_a rfl) (fun H hH => hH) ⟨Nat.le_of_ble_eq_true rfl, Nat.le_of_ble_eq_true rfl⟩ ⟨Nat.le_of_ble_eq_true rfl, Nat.le_of_ble_eq_true rfl⟩ (Nat.le_of_ble_eq_true rfl) rfl (fun x_56 => ?_)
            refine g_icmp_ge (tgt := 68) X dX4_doBook_59 rfl (by decide) (fun c => absurd ((nI_leI (by omega) (by omega)).mp c) (by omega)) (fun c_59 => ?_)
            refine g_aload_n X dX4_doBook_62 rfl rfl ?_
            refine g_iconst X dX4_doBook_63 rfl (v := (nI 3)) rfl ?_
            refine g_callV X (ct_X4_fails hst) dX4_doBook_64 rfl (lw_V q1988 q1990 qs27 q76 q1991) hyV_X4_fails (fun H hH => hR.recv X.2.2.2.2.2.2.2.1 hH mW_a rfl) (fun H hH => hH) ⟨Nat.le_of_ble_eq_true rfl, Nat.le_of_ble_eq_true rfl⟩ ⟨Nat.le_of_ble_eq_true rfl, Nat.le_of_ble_eq_true rfl⟩ (Nat.le_of_ble_eq_true rfl) rfl (fun x_64 => ?_)
            refine g_iret X dX4_doBook_67 rfl (Nat.le_of_ble_eq_true rfl) (Nat.le_of_ble_eq_true rfl) (fun H hH => ⟨⟨f, rfl⟩, rfl, hH⟩)
          · rw [cH_f (by omega)]
            by_cases h6 : aCl σ (nI g) s t
            · rw [cH_t h6]
              refine CM.of (L := [some (.ref a), some (.int (nI g)), some (.int (nI s)), some (.int (nI t))]) hst (by decide) (Nat.le_of_ble_eq_true rfl) rfl ?_
              intro p e s m below meth c X hnm htab
              refine g_aload_n X dX4_doBook_0 rfl rfl ?_
              refine g_iload_n X dX4_doBook_1 rfl rfl ?_
              refine g_callV X (ct_X4_isGuest hst hd hM) dX4_doBook_2 rfl (lw_V q2012 q2014 qs31 q76 q2015) hyV_X4_isGuest (fun H hH => hR.recv X.2.2.2.2.2.2.2.1 hH mW_a rfl) (fun H hH => hH) ⟨Nat.le_of_ble_eq_true rfl, Nat.le_of_ble_eq_true rfl⟩ ⟨Nat.le_of_ble_eq_true rfl, Nat.le_of_ble_eq_true rfl⟩ (Nat.le_of_ble_eq_true rfl) rfl (fun x_2 => ?_)
              refine g_if_eq (tgt := 16) X dX4_doBook_5 rfl (by decide) (fun c => absurd (h1) (bI_0.mp c)) (fun c_5 => ?_)
              refine g_aload_n X dX4_doBook_8 rfl rfl ?_
              refine g_iload_n X dX4_doBook_9 rfl rfl ?_
              refine g_callV X (ct_X4_isSlide hst hd hM) dX4_doBook_10 rfl (lw_V q2016 q2018 qs32 q76 q2019) hyV_X4_isSlide (fun H hH => hR.recv X.2.2.2.2.2.2.2.1 hH mW_a rfl) (fun H hH => hH) ⟨Nat.le_of_ble_eq_true rfl, Nat.le_of_ble_eq_true rfl⟩ ⟨Nat.le_of_ble_eq_true rfl, Nat.le_of_ble_eq_true rfl⟩ (Nat.le_of_ble_eq_true rfl) rfl (fun x_10 => ?_)
              refine g_if_ne (tgt := 22) X dX4_doBook_13 rfl (by decide) (fun c_13 => ?_) (fun c => absurd (h2) (bI_0.mp c))
              refine g_aload_n X dX4_doBook_22 rfl rfl ?_
              refine g_iload_n X dX4_doBook_23 rfl rfl ?_
              refine g_callV X (ct_X4_isStart hst hd hM) dX4_doBook_24 rfl (lw_V q2020 q2022 qs33 q76 q2023) hyV_X4_isStart (fun H hH => hR.recv X.2.2.2.2.2.2.2.1 hH mW_a rfl) (fun H hH => hH) ⟨Nat.le_of_ble_eq_true rfl, Nat.le_of_ble_eq_true rfl⟩ ⟨Nat.le_of_ble_eq_true rfl, Nat.le_of_ble_eq_true rfl⟩ (Nat.le_of_ble_eq_true rfl) rfl (fun x_24 => ?_)
              refine g_if_ne (tgt := 36) X dX4_doBook_27 rfl (by decide) (fun c_27 => ?_) (fun c => absurd (h3) (bI_0.mp c))
              refine g_aload_n X dX4_doBook_36 rfl rfl ?_
              refine g_get X dX4_doBook_37 rfl in_X4 (ci := 3) rfl 0 (by decide) q1916 (fun _ h => h) mW_a rfl ?_
              refine g_iconst X dX4_doBook_40 rfl (v := (nI 2)) rfl ?_
              refine g_ial X dX4_doBook_41 rfl (mW_0z hd) (vp_in_nI (by omega) (by decide)) (ix_v (by omega) e2) ?_
              refine g_bipush X dX4_doBook_42 rfl (v := (nI 12)) (by decide) ?_
              refine g_icmp_eq (tgt := 62) X dX4_doBook_44 rfl (by decide) (fun c => absurd ((nI_eq (by omega) (by omega)).mp c) h4) (fun c_44 => ?_)
              refine g_aload_n X dX4_doBook_47 rfl rfl ?_
              refine g_iload_n X dX4_doBook_48 rfl rfl ?_
              refine g_iconst X dX4_doBook_49 rfl (v := (nI 0)) rfl ?_
              refine g_callV X (ct_X4_guest hst hd (by omega) e5) dX4_doBook_50 rfl (lw_V q2024 q2026 qs34 q76 q2027) hyV_X4_guest (fun H hH => hR.recv X.2.2.2.2.2.2.2.1 hH mW_a rfl) (fun H hH => hH) ⟨Nat.le_of_ble_eq_true rfl, Nat.le_of_ble_eq_true rfl⟩ ⟨Nat.le_of_ble_eq_true rfl, Nat.le_of_ble_eq_true rfl⟩ (Nat.le_of_ble_eq_true rfl) rfl (fun x_50 => ?_)
              refine g_aload_n X dX4_doBook_53 rfl rfl ?_
              refine g_iload_n X dX4_doBook_54 rfl rfl ?_
              refine g_iconst X dX4_doBook_55 rfl (v := (nI 1)) rfl ?_
              refine g_callV X (ct_X4_slide hst hd (by omega) e6) dX4_doBook_56 rfl (lw_V q2028 q2030 qs35 q76 q2031) hyV_X4_slide (fun H hH => hR.recv X.2.2.2.2.2.2.2.1 hH mW_a rfl) (fun H hH => hH) ⟨Nat.le_of_ble_eq_true rfl, Nat.le_of_ble_eq_true rfl⟩ ⟨Nat.le_of_ble_eq_true rfl, Nat.le_of_ble_eq_true rfl⟩ (Nat.le_of_ble_eq_true rfl) rfl (fun x_56 => ?_)
              refine g_icmp_ge (tgt := 68) X dX4_doBook_59 rfl (by decide) (fun c_59 => ?_) (fun c => absurd ((nI_leI (by omega) (by omega)).mpr (by omega)) c)
              refine g_aload_n X dX4_doBook_68 rfl rfl ?_
              refine g_iload_n X dX4_doBook_69 rfl rfl ?_
              refine g_iload_n X dX4_doBook_70 rfl rfl ?_
              refine g_iload_n X dX4_doBook_71 rfl rfl ?_
              refine g_callV X (ct_X4_clashes hst hd hM hB hs (by omega)) dX4_doBook_72 rfl (lw_V q2032 q2034 qs36 q76 q2035) hyV_X4_clashes (fun H hH => hR.recv X.2.2.2.2.2.2.2.1 hH mW_a rfl) (fun H hH => hH) ⟨Nat.le_of_ble_eq_true rfl, Nat.le_of_ble_eq_true rfl⟩ ⟨Nat.le_of_ble_eq_true rfl, Nat.le_of_ble_eq_true rfl⟩ (Nat.le_of_ble_eq_true rfl) rfl (fun x_72 => ?_)
              refine g_if_eq (tgt := 84) X dX4_doBook_75 rfl (by decide) (fun c => absurd (h6) (bI_0.mp c)) (fun c_75 => ?_)
              refine g_aload_n X dX4_doBook_78 rfl rfl ?_
              refine g_iconst X dX4_doBook_79 rfl (v := (nI 4)) rfl ?_
              refine g_callV X (ct_X4_fails hst) dX4_doBook_80 rfl (lw_V q1988 q1990 qs27 q76 q1991) hyV_X4_fails (fun H hH => hR.recv X.2.2.2.2.2.2.2.1 hH mW_a rfl) (fun H hH => hH) ⟨Nat.le_of_ble_eq_true rfl, Nat.le_of_ble_eq_true rfl⟩ ⟨Nat.le_of_ble_eq_true rfl, Nat.le_of_ble_eq_true rfl⟩ (Nat.le_of_ble_eq_true rfl) rfl (fun x_80 => ?_)
              refine g_iret X dX4_doBook_83 rfl (Nat.le_of_ble_eq_true rfl) (Nat.le_of_ble_eq_true rfl) (fun H hH => ⟨⟨f, rfl⟩, rfl, hH⟩)
            · rw [cH_f h6]
              refine CM.of (L := [some (.ref a), some (.int (nI g)), some (.int (nI s)), some (.int (nI t))]) hst (by decide) (Nat.le_of_ble_eq_true rfl) rfl ?_
              intro p e s m below meth c X hnm htab
              refine g_aload_n X dX4_doBook_0 rfl rfl ?_
              refine g_iload_n X dX4_doBook_1 rfl rfl ?_
              refine g_callV X (ct_X4_isGuest hst hd hM) dX4_doBook_2 rfl (lw_V q2012 q2014 qs31 q76 q2015) hyV_X4_isGuest (fun H hH => hR.recv X.2.2.2.2.2.2.2.1 hH mW_a rfl) (fun H hH => hH) ⟨Nat.le_of_ble_eq_true rfl, Nat.le_of_ble_eq_true rfl⟩ ⟨Nat.le_of_ble_eq_true rfl, Nat.le_of_ble_eq_true rfl⟩ (Nat.le_of_ble_eq_true rfl) rfl (fun x_2 => ?_)
              refine g_if_eq (tgt := 16) X dX4_doBook_5 rfl (by decide) (fun c => absurd (h1) (bI_0.mp c)) (fun c_5 => ?_)
              refine g_aload_n X dX4_doBook_8 rfl rfl ?_
              refine g_iload_n X dX4_doBook_9 rfl rfl ?_
              refine g_callV X (ct_X4_isSlide hst hd hM) dX4_doBook_10 rfl (lw_V q2016 q2018 qs32 q76 q2019) hyV_X4_isSlide (fun H hH => hR.recv X.2.2.2.2.2.2.2.1 hH mW_a rfl) (fun H hH => hH) ⟨Nat.le_of_ble_eq_true rfl, Nat.le_of_ble_eq_true rfl⟩ ⟨Nat.le_of_ble_eq_true rfl, Nat.le_of_ble_eq_true rfl⟩ (Nat.le_of_ble_eq_true rfl) rfl (fun x_10 => ?_)
              refine g_if_ne (tgt := 22) X dX4_doBook_13 rfl (by decide) (fun c_13 => ?_) (fun c => absurd (h2) (bI_0.mp c))
              refine g_aload_n X dX4_doBook_22 rfl rfl ?_
              refine g_iload_n X dX4_doBook_23 rfl rfl ?_
              refine g_callV X (ct_X4_isStart hst hd hM) dX4_doBook_24 rfl (lw_V q2020 q2022 qs33 q76 q2023) hyV_X4_isStart (fun H hH => hR.recv X.2.2.2.2.2.2.2.1 hH mW_a rfl) (fun H hH => hH) ⟨Nat.le_of_ble_eq_true rfl, Nat.le_of_ble_eq_true rfl⟩ ⟨Nat.le_of_ble_eq_true rfl, Nat.le_of_ble_eq_true rfl⟩ (Nat.le_of_ble_eq_true rfl) rfl (fun x_24 => ?_)
              refine g_if_ne (tgt := 36) X dX4_doBook_27 rfl (by decide) (fun c_27 => ?_) (fun c => absurd (h3) (bI_0.mp c))
              refine g_aload_n X dX4_doBook_36 rfl rfl ?_
              refine g_get X dX4_doBook_37 rfl in_X4 (ci := 3) rfl 0 (by decide) q1916 (fun _ h => h) mW_a rfl ?_
              refine g_iconst X dX4_doBook_40 rfl (v := (nI 2)) rfl ?_
              refine g_ial X dX4_doBook_41 rfl (mW_0z hd) (vp_in_nI (by omega) (by decide)) (ix_v (by omega) e2) ?_
              refine g_bipush X dX4_doBook_42 rfl (v := (nI 12)) (by decide) ?_
              refine g_icmp_eq (tgt := 62) X dX4_doBook_44 rfl (by decide) (fun c => absurd ((nI_eq (by omega) (by omega)).mp c) h4) (fun c_44 => ?_)
              refine g_aload_n X dX4_doBook_47 rfl rfl ?_
              refine g_iload_n X dX4_doBook_48 rfl rfl ?_
              refine g_iconst X dX4_doBook_49 rfl (v := (nI 0)) rfl ?_
              refine g_callV X (ct_X4_guest hst hd (by omega) e5) dX4_doBook_50 rfl (lw_V q2024 q2026 qs34 q76 q2027) hyV_X4_guest (fun H hH => hR.recv X.2.2.2.2.2.2.2.1 hH mW_a rfl) (fun H hH => hH) ⟨Nat.le_of_ble_eq_true rfl, Nat.le_of_ble_eq_true rfl⟩ ⟨Nat.le_of_ble_eq_true rfl, Nat.le_of_ble_eq_true rfl⟩ (Nat.le_of_ble_eq_true rfl) rfl (fun x_50 => ?_)
              refine g_aload_n X dX4_doBook_53 rfl rfl ?_
              refine g_iload_n X dX4_doBook_54 rfl rfl ?_
              refine g_iconst X dX4_doBook_55 rfl (v := (nI 1)) rfl ?_
              refine g_callV X (ct_X4_slide hst hd (by omega) e6) dX4_doBook_56 rfl (lw_V q2028 q2030 qs35 q76 q2031) hyV_X4_slide (fun H hH => hR.recv X.2.2.2.2.2.2.2.1 hH mW_a rfl) (fun H hH => hH) ⟨Nat.le_of_ble_eq_true rfl, Nat.le_of_ble_eq_true rfl⟩ ⟨Nat.le_of_ble_eq_true rfl, Nat.le_of_ble_eq_true rfl⟩ (Nat.le_of_ble_eq_true rfl) rfl (fun x_56 => ?_)
              refine g_icmp_ge (tgt := 68) X dX4_doBook_59 rfl (by decide) (fun c_59 => ?_) (fun c => absurd ((nI_leI (by omega) (by omega)).mpr (by omega)) c)
              refine g_aload_n X dX4_doBook_68 rfl rfl ?_
              refine g_iload_n X dX4_doBook_69 rfl rfl ?_
              refine g_iload_n X dX4_doBook_70 rfl rfl ?_
              refine g_iload_n X dX4_doBook_71 rfl rfl ?_
              refine g_callV X (ct_X4_clashes hst hd hM hB hs (by omega)) dX4_doBook_72 rfl (lw_V q2032 q2034 qs36 q76 q2035) hyV_X4_clashes (fun H hH => hR.recv X.2.2.2.2.2.2.2.1 hH mW_a rfl) (fun H hH => hH) ⟨Nat.le_of_ble_eq_true rfl, Nat.le_of_ble_eq_true rfl⟩ ⟨Nat.le_of_ble_eq_true rfl, Nat.le_of_ble_eq_true rfl⟩ (Nat.le_of_ble_eq_true rfl) rfl (fun x_72 => ?_)
              refine g_if_eq (tgt := 84) X dX4_doBook_75 rfl (by decide) (fun c_75 => ?_) (fun c => absurd (bI_n0.mp c) (h6))
              refine g_aload_n X dX4_doBook_84 rfl rfl ?_
              refine g_iload_n X dX4_doBook_85 rfl rfl ?_
              refine g_iload_n X dX4_doBook_86 rfl rfl ?_
              refine g_iload_n X dX4_doBook_87 rfl rfl ?_
              refine g_callV X (ct_X4_makes hst hd hM hB hg hs (by omega) (by omega)) dX4_doBook_88 rfl (lw_V q2048 q2050 qs40 q76 q2051) hyV_X4_makes (fun H hH => hR.recv X.2.2.2.2.2.2.2.1 hH mW_a rfl) (fun H hH => hH) ⟨Nat.le_of_ble_eq_true rfl, Nat.le_of_ble_eq_true rfl⟩ ⟨Nat.le_of_ble_eq_true rfl, Nat.le_of_ble_eq_true rfl⟩ (Nat.le_of_ble_eq_true rfl) rfl (fun x => ?_)
              refine g_iret X dX4_doBook_91 rfl (Nat.le_of_ble_eq_true rfl) (Nat.le_of_ble_eq_true rfl) (fun H hH => ⟨x, rfl, hH⟩)
      · have e : aBook σ x y z = .inl 2 := by unfold aBook; rw [cH_f (fun k => k ⟨h1, h2⟩), cH_t h3]
        rw [e]
        refine CM.of (L := [some (.ref a), some (.int x), some (.int y), some (.int z)]) hst (by decide) (Nat.le_of_ble_eq_true rfl) rfl ?_
        intro p e s m below meth c X hnm htab
        refine g_aload_n X dX4_doBook_0 rfl rfl ?_
        refine g_iload_n X dX4_doBook_1 rfl rfl ?_
        refine g_callV X (ct_X4_isGuest hst hd hM) dX4_doBook_2 rfl (lw_V q2012 q2014 qs31 q76 q2015) hyV_X4_isGuest (fun H hH => hR.recv X.2.2.2.2.2.2.2.1 hH mW_a rfl) (fun H hH => hH) ⟨Nat.le_of_ble_eq_true rfl, Nat.le_of_ble_eq_true rfl⟩ ⟨Nat.le_of_ble_eq_true rfl, Nat.le_of_ble_eq_true rfl⟩ (Nat.le_of_ble_eq_true rfl) rfl (fun x_2 => ?_)
        refine g_if_eq (tgt := 16) X dX4_doBook_5 rfl (by decide) (fun c => absurd (h1) (bI_0.mp c)) (fun c_5 => ?_)
        refine g_aload_n X dX4_doBook_8 rfl rfl ?_
        refine g_iload_n X dX4_doBook_9 rfl rfl ?_
        refine g_callV X (ct_X4_isSlide hst hd hM) dX4_doBook_10 rfl (lw_V q2016 q2018 qs32 q76 q2019) hyV_X4_isSlide (fun H hH => hR.recv X.2.2.2.2.2.2.2.1 hH mW_a rfl) (fun H hH => hH) ⟨Nat.le_of_ble_eq_true rfl, Nat.le_of_ble_eq_true rfl⟩ ⟨Nat.le_of_ble_eq_true rfl, Nat.le_of_ble_eq_true rfl⟩ (Nat.le_of_ble_eq_true rfl) rfl (fun x_10 => ?_)
        refine g_if_ne (tgt := 22) X dX4_doBook_13 rfl (by decide) (fun c_13 => ?_) (fun c => absurd (h2) (bI_0.mp c))
        refine g_aload_n X dX4_doBook_22 rfl rfl ?_
        refine g_iload_n X dX4_doBook_23 rfl rfl ?_
        refine g_callV X (ct_X4_isStart hst hd hM) dX4_doBook_24 rfl (lw_V q2020 q2022 qs33 q76 q2023) hyV_X4_isStart (fun H hH => hR.recv X.2.2.2.2.2.2.2.1 hH mW_a rfl) (fun H hH => hH) ⟨Nat.le_of_ble_eq_true rfl, Nat.le_of_ble_eq_true rfl⟩ ⟨Nat.le_of_ble_eq_true rfl, Nat.le_of_ble_eq_true rfl⟩ (Nat.le_of_ble_eq_true rfl) rfl (fun x_24 => ?_)
        refine g_if_ne (tgt := 36) X dX4_doBook_27 rfl (by decide) (fun c => absurd (bI_n0.mp c) (h3)) (fun c_27 => ?_)
        refine g_aload_n X dX4_doBook_30 rfl rfl ?_
        refine g_iconst X dX4_doBook_31 rfl (v := (nI 2)) rfl ?_
        refine g_callV X (ct_X4_fails hst) dX4_doBook_32 rfl (lw_V q1988 q1990 qs27 q76 q1991) hyV_X4_fails (fun H hH => hR.recv X.2.2.2.2.2.2.2.1 hH mW_a rfl) (fun H hH => hH) ⟨Nat.le_of_ble_eq_true rfl, Nat.le_of_ble_eq_true rfl⟩ ⟨Nat.le_of_ble_eq_true rfl, Nat.le_of_ble_eq_true rfl⟩ (Nat.le_of_ble_eq_true rfl) rfl (fun x_32 => ?_)
        refine g_iret X dX4_doBook_35 rfl (Nat.le_of_ble_eq_true rfl) (Nat.le_of_ble_eq_true rfl) (fun H hH => ⟨⟨f, rfl⟩, rfl, hH⟩)
    · have e : aBook σ x y z = .inl 1 := by unfold aBook; rw [cH_t (fun k => h2 k.2)]
      rw [e]
      refine CM.of (L := [some (.ref a), some (.int x), some (.int y), some (.int z)]) hst (by decide) (Nat.le_of_ble_eq_true rfl) rfl ?_
      intro p e s m below meth c X hnm htab
      refine g_aload_n X dX4_doBook_0 rfl rfl ?_
      refine g_iload_n X dX4_doBook_1 rfl rfl ?_
      refine g_callV X (ct_X4_isGuest hst hd hM) dX4_doBook_2 rfl (lw_V q2012 q2014 qs31 q76 q2015) hyV_X4_isGuest (fun H hH => hR.recv X.2.2.2.2.2.2.2.1 hH mW_a rfl) (fun H hH => hH) ⟨Nat.le_of_ble_eq_true rfl, Nat.le_of_ble_eq_true rfl⟩ ⟨Nat.le_of_ble_eq_true rfl, Nat.le_of_ble_eq_true rfl⟩ (Nat.le_of_ble_eq_true rfl) rfl (fun x_2 => ?_)
      refine g_if_eq (tgt := 16) X dX4_doBook_5 rfl (by decide) (fun c => absurd (h1) (bI_0.mp c)) (fun c_5 => ?_)
      refine g_aload_n X dX4_doBook_8 rfl rfl ?_
      refine g_iload_n X dX4_doBook_9 rfl rfl ?_
      refine g_callV X (ct_X4_isSlide hst hd hM) dX4_doBook_10 rfl (lw_V q2016 q2018 qs32 q76 q2019) hyV_X4_isSlide (fun H hH => hR.recv X.2.2.2.2.2.2.2.1 hH mW_a rfl) (fun H hH => hH) ⟨Nat.le_of_ble_eq_true rfl, Nat.le_of_ble_eq_true rfl⟩ ⟨Nat.le_of_ble_eq_true rfl, Nat.le_of_ble_eq_true rfl⟩ (Nat.le_of_ble_eq_true rfl) rfl (fun x_10 => ?_)
      refine g_if_ne (tgt := 22) X dX4_doBook_13 rfl (by decide) (fun c => absurd (bI_n0.mp c) (h2)) (fun c_13 => ?_)
      refine g_aload_n X dX4_doBook_16 rfl rfl ?_
      refine g_iconst X dX4_doBook_17 rfl (v := (nI 1)) rfl ?_
      refine g_callV X (ct_X4_fails hst) dX4_doBook_18 rfl (lw_V q1988 q1990 qs27 q76 q1991) hyV_X4_fails (fun H hH => hR.recv X.2.2.2.2.2.2.2.1 hH mW_a rfl) (fun H hH => hH) ⟨Nat.le_of_ble_eq_true rfl, Nat.le_of_ble_eq_true rfl⟩ ⟨Nat.le_of_ble_eq_true rfl, Nat.le_of_ble_eq_true rfl⟩ (Nat.le_of_ble_eq_true rfl) rfl (fun x_18 => ?_)
      refine g_iret X dX4_doBook_21 rfl (Nat.le_of_ble_eq_true rfl) (Nat.le_of_ble_eq_true rfl) (fun H hH => ⟨⟨f, rfl⟩, rfl, hH⟩)
  · have e : aBook σ x y z = .inl 1 := by unfold aBook; rw [cH_t (fun k => h1 k.1)]
    rw [e]
    refine CM.of (L := [some (.ref a), some (.int x), some (.int y), some (.int z)]) hst (by decide) (Nat.le_of_ble_eq_true rfl) rfl ?_
    intro p e s m below meth c X hnm htab
    refine g_aload_n X dX4_doBook_0 rfl rfl ?_
    refine g_iload_n X dX4_doBook_1 rfl rfl ?_
    refine g_callV X (ct_X4_isGuest hst hd hM) dX4_doBook_2 rfl (lw_V q2012 q2014 qs31 q76 q2015) hyV_X4_isGuest (fun H hH => hR.recv X.2.2.2.2.2.2.2.1 hH mW_a rfl) (fun H hH => hH) ⟨Nat.le_of_ble_eq_true rfl, Nat.le_of_ble_eq_true rfl⟩ ⟨Nat.le_of_ble_eq_true rfl, Nat.le_of_ble_eq_true rfl⟩ (Nat.le_of_ble_eq_true rfl) rfl (fun x_2 => ?_)
    refine g_if_eq (tgt := 16) X dX4_doBook_5 rfl (by decide) (fun c_5 => ?_) (fun c => absurd (bI_n0.mp c) (h1))
    refine g_aload_n X dX4_doBook_16 rfl rfl ?_
    refine g_iconst X dX4_doBook_17 rfl (v := (nI 1)) rfl ?_
    refine g_callV X (ct_X4_fails hst) dX4_doBook_18 rfl (lw_V q1988 q1990 qs27 q76 q1991) hyV_X4_fails (fun H hH => hR.recv X.2.2.2.2.2.2.2.1 hH mW_a rfl) (fun H hH => hH) ⟨Nat.le_of_ble_eq_true rfl, Nat.le_of_ble_eq_true rfl⟩ ⟨Nat.le_of_ble_eq_true rfl, Nat.le_of_ble_eq_true rfl⟩ (Nat.le_of_ble_eq_true rfl) rfl (fun x_18 => ?_)
    refine g_iret X dX4_doBook_21 rfl (Nat.le_of_ble_eq_true rfl) (Nat.le_of_ble_eq_true rfl) (fun H hH => ⟨⟨f, rfl⟩, rfl, hH⟩)
theorem ct_X4_doCancel (hst : l.stackTraces = false) (hd : mDi a ad) (hM : MR f σ) (hB : Bd σ) {x : Int32} : CM Ω l yX4_doCancel (ws_ yX4_doCancel cX4_doCancel 4 (some .int)) 8 0 0 [.ref a, .int x] (hR Ω (mW Ω h a ad v (FU F 0 f))) (DO Ω h a ad v F f (aCanc σ x)) nX := by
  have b1 := hB.1
  by_cases h1 : okB σ x
  · obtain ⟨b, hb, rfl⟩ := (ixI (by omega)).mp h1
    have b5 := hB.2.2.2.2.1 b hb
    have e5 := hM.2.2.2.2.1 b hb
    by_cases h2 : boT σ b ≤ sM σ
    · have e : aCanc σ (nI b) = .inl 2 := by unfold aCanc; rw [cH_f (fun k => k h1), iN_nI (by omega), cH_t h2]
      rw [e]
      refine CM.of (L := [some (.ref a), some (.int (nI b)), none, none]) hst (by decide) (Nat.le_of_ble_eq_true rfl) rfl ?_
      intro p e s m below meth c X hnm htab
      refine g_aload_n X dX4_doCancel_0 rfl rfl ?_
      refine g_iload_n X dX4_doCancel_1 rfl rfl ?_
      refine g_callV X (ct_X4_isBooking hst hd hM) dX4_doCancel_2 rfl (lw_V q2064 q2066 qs43 q76 q2067) hyV_X4_isBooking (fun H hH => hR.recv X.2.2.2.2.2.2.2.1 hH mW_a rfl) (fun H hH => hH) ⟨Nat.le_of_ble_eq_true rfl, Nat.le_of_ble_eq_true rfl⟩ ⟨Nat.le_of_ble_eq_true rfl, Nat.le_of_ble_eq_true rfl⟩ (Nat.le_of_ble_eq_true rfl) rfl (fun x_2 => ?_)
      refine g_if_ne (tgt := 14) X dX4_doCancel_5 rfl (by decide) (fun c_5 => ?_) (fun c => absurd (h1) (bI_0.mp c))
      refine g_aload_n X dX4_doCancel_14 rfl rfl ?_
      refine g_iload_n X dX4_doCancel_15 rfl rfl ?_
      refine g_callV X (ct_X4_startOf hst hd hM hB hb) dX4_doCancel_16 rfl (lw_V q2040 q2042 qs38 q76 q2043) hyV_X4_startOf (fun H hH => hR.recv X.2.2.2.2.2.2.2.1 hH mW_a rfl) (fun H hH => hH) ⟨Nat.le_of_ble_eq_true rfl, Nat.le_of_ble_eq_true rfl⟩ ⟨Nat.le_of_ble_eq_true rfl, Nat.le_of_ble_eq_true rfl⟩ (Nat.le_of_ble_eq_true rfl) rfl (fun x_16 => ?_)
      refine g_aload_n X dX4_doCancel_19 rfl rfl ?_
      refine g_get X dX4_doCancel_20 rfl in_X4 (ci := 3) rfl 0 (by decide) q1916 (fun _ h => h) mW_a rfl ?_
      refine g_iconst X dX4_doCancel_23 rfl (v := (nI 3)) rfl ?_
      refine g_ial X dX4_doCancel_24 rfl (mW_0z hd) (vp_in_nI (by omega) (by decide)) (ix_v (by omega) hM.1.2.2.2.1) ?_
      refine g_icmp_gt (tgt := 34) X dX4_doCancel_25 rfl (by decide) (fun c => absurd ((nI_ltI (by omega) (by omega)).mp c) (by omega)) (fun c_25 => ?_)
      refine g_aload_n X dX4_doCancel_28 rfl rfl ?_
      refine g_iconst X dX4_doCancel_29 rfl (v := (nI 2)) rfl ?_
      refine g_callV X (ct_X4_fails hst) dX4_doCancel_30 rfl (lw_V q1988 q1990 qs27 q76 q1991) hyV_X4_fails (fun H hH => hR.recv X.2.2.2.2.2.2.2.1 hH mW_a rfl) (fun H hH => hH) ⟨Nat.le_of_ble_eq_true rfl, Nat.le_of_ble_eq_true rfl⟩ ⟨Nat.le_of_ble_eq_true rfl, Nat.le_of_ble_eq_true rfl⟩ (Nat.le_of_ble_eq_true rfl) rfl (fun x_30 => ?_)
      refine g_iret X dX4_doCancel_33 rfl (Nat.le_of_ble_eq_true rfl) (Nat.le_of_ble_eq_true rfl) (fun H hH => ⟨⟨f, rfl⟩, rfl, hH⟩)
    · have e : aCanc σ (nI b) = .inr (guC σ (boG σ b) + slP σ (boS σ b), aDrop (aBack σ (boG σ b) (slP σ (boS σ b))) b) := by unfold aCanc; rw [cH_f (fun k => k h1), iN_nI (by omega), cH_f h2]
      rw [e]
      have e6 := (hM.2.1 _ b5.2.1).2.1
      have hm1 := MR_back (n := slP σ (boS σ b)) hM hB.cp b5.1
      have hC1 : Cp (aBack σ (boG σ b) (slP σ (boS σ b))) := cpG (y := guR σ (boG σ b)) hB.cp
      have hb' : b < nB (aBack σ (boG σ b) (slP σ (boS σ b))) := hb
      have hm2 := MR_drop hm1 hC1 hb'
      have e8 := (hm2.2.2.2.1 (boG σ b) (show boG σ b < nG (uG σ ((sG σ).set (boG σ b) (guC σ (boG σ b) + slP σ (boS σ b), guR σ (boG σ b)))) by rw [nG_set]; exact b5.1)).1
      have e9 : guC (aDrop (aBack σ (boG σ b) (slP σ (boS σ b))) b) (boG σ b) = guC σ (boG σ b) + slP σ (boS σ b) := (guC_set (y := guR σ (boG σ b)) b5.1).trans (if_pos rfl)
      rw [e9] at e8
      refine CM.of (L := [some (.ref a), some (.int (nI b)), none, none]) hst (by decide) (Nat.le_of_ble_eq_true rfl) rfl ?_
      intro p e s m below meth c X hnm htab
      refine g_aload_n X dX4_doCancel_0 rfl rfl ?_
      refine g_iload_n X dX4_doCancel_1 rfl rfl ?_
      refine g_callV X (ct_X4_isBooking hst hd hM) dX4_doCancel_2 rfl (lw_V q2064 q2066 qs43 q76 q2067) hyV_X4_isBooking (fun H hH => hR.recv X.2.2.2.2.2.2.2.1 hH mW_a rfl) (fun H hH => hH) ⟨Nat.le_of_ble_eq_true rfl, Nat.le_of_ble_eq_true rfl⟩ ⟨Nat.le_of_ble_eq_true rfl, Nat.le_of_ble_eq_true rfl⟩ (Nat.le_of_ble_eq_true rfl) rfl (fun x_2 => ?_)
      refine g_if_ne (tgt := 14) X dX4_doCancel_5 rfl (by decide) (fun c_5 => ?_) (fun c => absurd (h1) (bI_0.mp c))
      refine g_aload_n X dX4_doCancel_14 rfl rfl ?_
      refine g_iload_n X dX4_doCancel_15 rfl rfl ?_
      refine g_callV X (ct_X4_startOf hst hd hM hB hb) dX4_doCancel_16 rfl (lw_V q2040 q2042 qs38 q76 q2043) hyV_X4_startOf (fun H hH => hR.recv X.2.2.2.2.2.2.2.1 hH mW_a rfl) (fun H hH => hH) ⟨Nat.le_of_ble_eq_true rfl, Nat.le_of_ble_eq_true rfl⟩ ⟨Nat.le_of_ble_eq_true rfl, Nat.le_of_ble_eq_true rfl⟩ (Nat.le_of_ble_eq_true rfl) rfl (fun x_16 => ?_)
      refine g_aload_n X dX4_doCancel_19 rfl rfl ?_
      refine g_get X dX4_doCancel_20 rfl in_X4 (ci := 3) rfl 0 (by decide) q1916 (fun _ h => h) mW_a rfl ?_
      refine g_iconst X dX4_doCancel_23 rfl (v := (nI 3)) rfl ?_
      refine g_ial X dX4_doCancel_24 rfl (mW_0z hd) (vp_in_nI (by omega) (by decide)) (ix_v (by omega) hM.1.2.2.2.1) ?_
      refine g_icmp_gt (tgt := 34) X dX4_doCancel_25 rfl (by decide) (fun c_25 => ?_) (fun c => absurd ((nI_ltI (by omega) (by omega)).mpr (by omega)) c)
      refine g_aload_n X dX4_doCancel_34 rfl rfl ?_
      refine g_iload_n X dX4_doCancel_35 rfl rfl ?_
      refine g_iconst X dX4_doCancel_36 rfl (v := (nI 0)) rfl ?_
      refine g_callV X (ct_X4_booking hst hd (by omega) e5.1) dX4_doCancel_37 rfl (lw_V q2036 q2038 qs37 q76 q2039) hyV_X4_booking (fun H hH => hR.recv X.2.2.2.2.2.2.2.1 hH mW_a rfl) (fun H hH => hH) ⟨Nat.le_of_ble_eq_true rfl, Nat.le_of_ble_eq_true rfl⟩ ⟨Nat.le_of_ble_eq_true rfl, Nat.le_of_ble_eq_true rfl⟩ (Nat.le_of_ble_eq_true rfl) rfl (fun x_37 => ?_)
      refine g_istore_n X dX4_doCancel_40 rfl (by decide) rfl rfl ?_
      refine g_aload_n X dX4_doCancel_41 rfl rfl ?_
      refine g_aload_n X dX4_doCancel_42 rfl rfl ?_
      refine g_iload_n X dX4_doCancel_43 rfl rfl ?_
      refine g_iconst X dX4_doCancel_44 rfl (v := (nI 1)) rfl ?_
      refine g_callV X (ct_X4_booking hst hd (by omega) e5.2.1) dX4_doCancel_45 rfl (lw_V q2036 q2038 qs37 q76 q2039) hyV_X4_booking (fun H hH => hR.recv X.2.2.2.2.2.2.2.1 hH mW_a rfl) (fun H hH => hH) ⟨Nat.le_of_ble_eq_true rfl, Nat.le_of_ble_eq_true rfl⟩ ⟨Nat.le_of_ble_eq_true rfl, Nat.le_of_ble_eq_true rfl⟩ (Nat.le_of_ble_eq_true rfl) rfl (fun x_45 => ?_)
      refine g_iconst X dX4_doCancel_48 rfl (v := (nI 1)) rfl ?_
      refine g_callV X (ct_X4_slide hst hd (by omega) e6) dX4_doCancel_49 rfl (lw_V q2028 q2030 qs35 q76 q2031) hyV_X4_slide (fun H hH => hR.recv X.2.2.2.2.2.2.2.1 hH mW_a rfl) (fun H hH => hH) ⟨Nat.le_of_ble_eq_true rfl, Nat.le_of_ble_eq_true rfl⟩ ⟨Nat.le_of_ble_eq_true rfl, Nat.le_of_ble_eq_true rfl⟩ (Nat.le_of_ble_eq_true rfl) rfl (fun x_49 => ?_)
      refine g_istore_n X dX4_doCancel_52 rfl (by decide) rfl rfl ?_
      refine g_aload_n X dX4_doCancel_53 rfl rfl ?_
      refine g_iload_n X dX4_doCancel_54 rfl rfl ?_
      refine g_iload_n X dX4_doCancel_55 rfl rfl ?_
      refine g_ineg X dX4_doCancel_56 rfl rfl ?_
      refine g_callV X (ct_X4_pays hst hd (by omega)) dX4_doCancel_57 rfl (lw_V q2052 q2054 qs41 q76 q2055) hyV_X4_pays (fun H hH => hR.recv X.2.2.2.2.2.2.2.1 hH mW_a rfl) (fun H hH => hH) ⟨Nat.le_of_ble_eq_true rfl, Nat.le_of_ble_eq_true rfl⟩ ⟨Nat.le_of_ble_eq_true rfl, Nat.le_of_ble_eq_true rfl⟩ (Nat.le_of_ble_eq_true rfl) rfl (fun x_57 => ?_)
      refine g_aload_n X dX4_doCancel_60 rfl rfl ?_
      refine g_get X dX4_doCancel_61 rfl in_X4 (ci := 3) rfl 0 (by decide) q1916 (fun _ h => h) mW_a rfl ?_
      refine g_bipush X dX4_doCancel_64 rfl (v := (nI 6)) (by decide) ?_
      refine g_dup2 X dX4_doCancel_66 rfl rfl rfl ?_
      refine g_ial X dX4_doCancel_67 rfl (mW_0z hd) (vp_in_nI (by omega) (by decide)) (ix_v (by omega) ((upd_n (by omega)).trans (upd_n (by omega)))) ?_
      refine g_iload_n X dX4_doCancel_68 rfl rfl ?_
      refine g_iadd X dX4_doCancel_69 rfl (by first | exact nI_add _ _ | rfl) ?_
      refine g_ias X dX4_doCancel_70 rfl (mW_0z hd) (vp_in_nI (by omega) (by decide)) (mW_i0 hd (nI_clamp (by omega))) ?_
      refine g_aload_n X dX4_doCancel_71 rfl rfl ?_
      refine g_iload_n X dX4_doCancel_72 rfl rfl ?_
      refine g_callV X (ct_X4_drops hst hd hm1 hC1 hb') dX4_doCancel_73 rfl (lw_V q2068 q2070 qs44 q76 q2071) hyV_X4_drops (fun H hH => hR.recv X.2.2.2.2.2.2.2.1 hH mW_a rfl) (fun H hH => hH) ⟨Nat.le_of_ble_eq_true rfl, Nat.le_of_ble_eq_true rfl⟩ ⟨Nat.le_of_ble_eq_true rfl, Nat.le_of_ble_eq_true rfl⟩ (Nat.le_of_ble_eq_true rfl) rfl (fun x_73 => ?_)
      refine g_aload_n X dX4_doCancel_76 rfl rfl ?_
      refine g_iload_n X dX4_doCancel_77 rfl rfl ?_
      refine g_iconst X dX4_doCancel_78 rfl (v := (nI 0)) rfl ?_
      refine g_callV X (ct_X4_guest hst hd (by omega) e8) dX4_doCancel_79 rfl (lw_V q2024 q2026 qs34 q76 q2027) hyV_X4_guest (fun H hH => hR.recv X.2.2.2.2.2.2.2.1 hH mW_a rfl) (fun H hH => hH) ⟨Nat.le_of_ble_eq_true rfl, Nat.le_of_ble_eq_true rfl⟩ ⟨Nat.le_of_ble_eq_true rfl, Nat.le_of_ble_eq_true rfl⟩ (Nat.le_of_ble_eq_true rfl) rfl (fun x_79 => ?_)
      refine g_iret X dX4_doCancel_82 rfl (Nat.le_of_ble_eq_true rfl) (Nat.le_of_ble_eq_true rfl) (fun H hH => ⟨⟨_, hm2⟩, rfl, hH⟩)
  · have e : aCanc σ x = .inl 1 := by unfold aCanc; rw [cH_t h1]
    rw [e]
    refine CM.of (L := [some (.ref a), some (.int x), none, none]) hst (by decide) (Nat.le_of_ble_eq_true rfl) rfl ?_
    intro p e s m below meth c X hnm htab
    refine g_aload_n X dX4_doCancel_0 rfl rfl ?_
    refine g_iload_n X dX4_doCancel_1 rfl rfl ?_
    refine g_callV X (ct_X4_isBooking hst hd hM) dX4_doCancel_2 rfl (lw_V q2064 q2066 qs43 q76 q2067) hyV_X4_isBooking (fun H hH => hR.recv X.2.2.2.2.2.2.2.1 hH mW_a rfl) (fun H hH => hH) ⟨Nat.le_of_ble_eq_true rfl, Nat.le_of_ble_eq_true rfl⟩ ⟨Nat.le_of_ble_eq_true rfl, Nat.le_of_ble_eq_true rfl⟩ (Nat.le_of_ble_eq_true rfl) rfl (fun x_2 => ?_)
    refine g_if_ne (tgt := 14) X dX4_doCancel_5 rfl (by decide) (fun c => absurd (bI_n0.mp c) (h1)) (fun c_5 => ?_)
    refine g_aload_n X dX4_doCancel_8 rfl rfl ?_
    refine g_iconst X dX4_doCancel_9 rfl (v := (nI 1)) rfl ?_
    refine g_callV X (ct_X4_fails hst) dX4_doCancel_10 rfl (lw_V q1988 q1990 qs27 q76 q1991) hyV_X4_fails (fun H hH => hR.recv X.2.2.2.2.2.2.2.1 hH mW_a rfl) (fun H hH => hH) ⟨Nat.le_of_ble_eq_true rfl, Nat.le_of_ble_eq_true rfl⟩ ⟨Nat.le_of_ble_eq_true rfl, Nat.le_of_ble_eq_true rfl⟩ (Nat.le_of_ble_eq_true rfl) rfl (fun x_10 => ?_)
    refine g_iret X dX4_doCancel_13 rfl (Nat.le_of_ble_eq_true rfl) (Nat.le_of_ble_eq_true rfl) (fun H hH => ⟨⟨f, rfl⟩, rfl, hH⟩)
theorem ct_X4_doJoin (hst : l.stackTraces = false) (hd : mDi a ad) (hM : MR f σ) (hB : Bd σ) {x y : Int32} : CM Ω l yX4_doJoin (ws_ yX4_doJoin cX4_doJoin 5 (some .int)) 8 0 0 [.ref a, .int x, .int y] (hR Ω (mW Ω h a ad v (FU F 0 f))) (DO Ω h a ad v F f (aJoin σ x y)) nX := by
  have b1 := hB.1
  by_cases h1 : okG σ x
  · by_cases h2 : okS σ y
    · obtain ⟨g, hg, rfl⟩ := (ixI (by omega)).mp h1
      obtain ⟨s, hs, rfl⟩ := (ixI (by omega)).mp h2
      have e0 : aJoin σ (nI g) (nI s) = cH (0 < wai σ g) (.inl 2) (cH ((slQ σ s).length = 5) (.inl 3) (.inr ((slQ σ s).length + 1, aQue σ s (slQ σ s ++ [g])))) := by unfold aJoin; rw [cH_f (fun k => k ⟨h1, h2⟩), iN_nI (by omega), iN_nI (by omega)]
      rw [e0]
      have e5 := (hM.2.2.2.1 g hg).2.2
      have e6 := (hM.2.1 s hs).2.2.2
      have b6 := hB.2.1 s hs
      have hw : wai σ g ≤ 4 := wai_le
      by_cases h3 : 0 < wai σ g
      · rw [cH_t h3]
        refine CM.of (L := [some (.ref a), some (.int (nI g)), some (.int (nI s)), none, none]) hst (by decide) (Nat.le_of_ble_eq_true rfl) rfl ?_
        intro p e s m below meth c X hnm htab
        refine g_aload_n X dX4_doJoin_0 rfl rfl ?_
        refine g_iload_n X dX4_doJoin_1 rfl rfl ?_
        refine g_callV X (ct_X4_isGuest hst hd hM) dX4_doJoin_2 rfl (lw_V q2012 q2014 qs31 q76 q2015) hyV_X4_isGuest (fun H hH => hR.recv X.2.2.2.2.2.2.2.1 hH mW_a rfl) (fun H hH => hH) ⟨Nat.le_of_ble_eq_true rfl, Nat.le_of_ble_eq_true rfl⟩ ⟨Nat.le_of_ble_eq_true rfl, Nat.le_of_ble_eq_true rfl⟩ (Nat.le_of_ble_eq_true rfl) rfl (fun x_2 => ?_)
        refine g_if_eq (tgt := 16) X dX4_doJoin_5 rfl (by decide) (fun c => absurd (h1) (bI_0.mp c)) (fun c_5 => ?_)
        refine g_aload_n X dX4_doJoin_8 rfl rfl ?_
        refine g_iload_n X dX4_doJoin_9 rfl rfl ?_
        refine g_callV X (ct_X4_isSlide hst hd hM) dX4_doJoin_10 rfl (lw_V q2016 q2018 qs32 q76 q2019) hyV_X4_isSlide (fun H hH => hR.recv X.2.2.2.2.2.2.2.1 hH mW_a rfl) (fun H hH => hH) ⟨Nat.le_of_ble_eq_true rfl, Nat.le_of_ble_eq_true rfl⟩ ⟨Nat.le_of_ble_eq_true rfl, Nat.le_of_ble_eq_true rfl⟩ (Nat.le_of_ble_eq_true rfl) rfl (fun x_10 => ?_)
        refine g_if_ne (tgt := 22) X dX4_doJoin_13 rfl (by decide) (fun c_13 => ?_) (fun c => absurd (h2) (bI_0.mp c))
        refine g_aload_n X dX4_doJoin_22 rfl rfl ?_
        refine g_iload_n X dX4_doJoin_23 rfl rfl ?_
        refine g_iconst X dX4_doJoin_24 rfl (v := (nI 2)) rfl ?_
        refine g_callV X (ct_X4_guest hst hd (by omega) e5) dX4_doJoin_25 rfl (lw_V q2024 q2026 qs34 q76 q2027) hyV_X4_guest (fun H hH => hR.recv X.2.2.2.2.2.2.2.1 hH mW_a rfl) (fun H hH => hH) ⟨Nat.le_of_ble_eq_true rfl, Nat.le_of_ble_eq_true rfl⟩ ⟨Nat.le_of_ble_eq_true rfl, Nat.le_of_ble_eq_true rfl⟩ (Nat.le_of_ble_eq_true rfl) rfl (fun x_25 => ?_)
        refine g_if_le (tgt := 37) X dX4_doJoin_28 rfl (by decide) (fun c => absurd ((nI_le0 (by omega)).mp c) (by omega)) (fun c_28 => ?_)
        refine g_aload_n X dX4_doJoin_31 rfl rfl ?_
        refine g_iconst X dX4_doJoin_32 rfl (v := (nI 2)) rfl ?_
        refine g_callV X (ct_X4_fails hst) dX4_doJoin_33 rfl (lw_V q1988 q1990 qs27 q76 q1991) hyV_X4_fails (fun H hH => hR.recv X.2.2.2.2.2.2.2.1 hH mW_a rfl) (fun H hH => hH) ⟨Nat.le_of_ble_eq_true rfl, Nat.le_of_ble_eq_true rfl⟩ ⟨Nat.le_of_ble_eq_true rfl, Nat.le_of_ble_eq_true rfl⟩ (Nat.le_of_ble_eq_true rfl) rfl (fun x_33 => ?_)
        refine g_iret X dX4_doJoin_36 rfl (Nat.le_of_ble_eq_true rfl) (Nat.le_of_ble_eq_true rfl) (fun H hH => ⟨⟨f, rfl⟩, rfl, hH⟩)
      · rw [cH_f h3]
        by_cases h4 : (slQ σ s).length = 5
        · rw [cH_t h4]
          refine CM.of (L := [some (.ref a), some (.int (nI g)), some (.int (nI s)), none, none]) hst (by decide) (Nat.le_of_ble_eq_true rfl) rfl ?_
          intro p e s m below meth c X hnm htab
          refine g_aload_n X dX4_doJoin_0 rfl rfl ?_
          refine g_iload_n X dX4_doJoin_1 rfl rfl ?_
          refine g_callV X (ct_X4_isGuest hst hd hM) dX4_doJoin_2 rfl (lw_V q2012 q2014 qs31 q76 q2015) hyV_X4_isGuest (fun H hH => hR.recv X.2.2.2.2.2.2.2.1 hH mW_a rfl) (fun H hH => hH) ⟨Nat.le_of_ble_eq_true rfl, Nat.le_of_ble_eq_true rfl⟩ ⟨Nat.le_of_ble_eq_true rfl, Nat.le_of_ble_eq_true rfl⟩ (Nat.le_of_ble_eq_true rfl) rfl (fun x_2 => ?_)
          refine g_if_eq (tgt := 16) X dX4_doJoin_5 rfl (by decide) (fun c => absurd (h1) (bI_0.mp c)) (fun c_5 => ?_)
          refine g_aload_n X dX4_doJoin_8 rfl rfl ?_
          refine g_iload_n X dX4_doJoin_9 rfl rfl ?_
          refine g_callV X (ct_X4_isSlide hst hd hM) dX4_doJoin_10 rfl (lw_V q2016 q2018 qs32 q76 q2019) hyV_X4_isSlide (fun H hH => hR.recv X.2.2.2.2.2.2.2.1 hH mW_a rfl) (fun H hH => hH) ⟨Nat.le_of_ble_eq_true rfl, Nat.le_of_ble_eq_true rfl⟩ ⟨Nat.le_of_ble_eq_true rfl, Nat.le_of_ble_eq_true rfl⟩ (Nat.le_of_ble_eq_true rfl) rfl (fun x_10 => ?_)
          refine g_if_ne (tgt := 22) X dX4_doJoin_13 rfl (by decide) (fun c_13 => ?_) (fun c => absurd (h2) (bI_0.mp c))
          refine g_aload_n X dX4_doJoin_22 rfl rfl ?_
          refine g_iload_n X dX4_doJoin_23 rfl rfl ?_
          refine g_iconst X dX4_doJoin_24 rfl (v := (nI 2)) rfl ?_
          refine g_callV X (ct_X4_guest hst hd (by omega) e5) dX4_doJoin_25 rfl (lw_V q2024 q2026 qs34 q76 q2027) hyV_X4_guest (fun H hH => hR.recv X.2.2.2.2.2.2.2.1 hH mW_a rfl) (fun H hH => hH) ⟨Nat.le_of_ble_eq_true rfl, Nat.le_of_ble_eq_true rfl⟩ ⟨Nat.le_of_ble_eq_true rfl, Nat.le_of_ble_eq_true rfl⟩ (Nat.le_of_ble_eq_true rfl) rfl (fun x_25 => ?_)
          refine g_if_le (tgt := 37) X dX4_doJoin_28 rfl (by decide) (fun c_28 => ?_) (fun c => absurd ((nI_le0 (by omega)).mpr (by omega)) c)
          refine g_aload_n X dX4_doJoin_37 rfl rfl ?_
          refine g_iload_n X dX4_doJoin_38 rfl rfl ?_
          refine g_iconst X dX4_doJoin_39 rfl (v := (nI 3)) rfl ?_
          refine g_callV X (ct_X4_slide hst hd (by omega) e6) dX4_doJoin_40 rfl (lw_V q2028 q2030 qs35 q76 q2031) hyV_X4_slide (fun H hH => hR.recv X.2.2.2.2.2.2.2.1 hH mW_a rfl) (fun H hH => hH) ⟨Nat.le_of_ble_eq_true rfl, Nat.le_of_ble_eq_true rfl⟩ ⟨Nat.le_of_ble_eq_true rfl, Nat.le_of_ble_eq_true rfl⟩ (Nat.le_of_ble_eq_true rfl) rfl (fun x_40 => ?_)
          refine g_istore_n X dX4_doJoin_43 rfl (by decide) rfl rfl ?_
          refine g_iload_n X dX4_doJoin_44 rfl rfl ?_
          refine g_iconst X dX4_doJoin_45 rfl (v := (nI 5)) rfl ?_
          refine g_icmp_ne (tgt := 55) X dX4_doJoin_46 rfl (by decide) (fun c => absurd (by rw [h4]) c) (fun c_46 => ?_)
          refine g_aload_n X dX4_doJoin_49 rfl rfl ?_
          refine g_iconst X dX4_doJoin_50 rfl (v := (nI 3)) rfl ?_
          refine g_callV X (ct_X4_fails hst) dX4_doJoin_51 rfl (lw_V q1988 q1990 qs27 q76 q1991) hyV_X4_fails (fun H hH => hR.recv X.2.2.2.2.2.2.2.1 hH mW_a rfl) (fun H hH => hH) ⟨Nat.le_of_ble_eq_true rfl, Nat.le_of_ble_eq_true rfl⟩ ⟨Nat.le_of_ble_eq_true rfl, Nat.le_of_ble_eq_true rfl⟩ (Nat.le_of_ble_eq_true rfl) rfl (fun x_51 => ?_)
          refine g_iret X dX4_doJoin_54 rfl (Nat.le_of_ble_eq_true rfl) (Nat.le_of_ble_eq_true rfl) (fun H hH => ⟨⟨f, rfl⟩, rfl, hH⟩)
        · rw [cH_f h4]
          refine CM.of (L := [some (.ref a), some (.int (nI g)), some (.int (nI s)), none, none]) hst (by decide) (Nat.le_of_ble_eq_true rfl) rfl ?_
          intro p e s m below meth c X hnm htab
          refine g_aload_n X dX4_doJoin_0 rfl rfl ?_
          refine g_iload_n X dX4_doJoin_1 rfl rfl ?_
          refine g_callV X (ct_X4_isGuest hst hd hM) dX4_doJoin_2 rfl (lw_V q2012 q2014 qs31 q76 q2015) hyV_X4_isGuest (fun H hH => hR.recv X.2.2.2.2.2.2.2.1 hH mW_a rfl) (fun H hH => hH) ⟨Nat.le_of_ble_eq_true rfl, Nat.le_of_ble_eq_true rfl⟩ ⟨Nat.le_of_ble_eq_true rfl, Nat.le_of_ble_eq_true rfl⟩ (Nat.le_of_ble_eq_true rfl) rfl (fun x_2 => ?_)
          refine g_if_eq (tgt := 16) X dX4_doJoin_5 rfl (by decide) (fun c => absurd (h1) (bI_0.mp c)) (fun c_5 => ?_)
          refine g_aload_n X dX4_doJoin_8 rfl rfl ?_
          refine g_iload_n X dX4_doJoin_9 rfl rfl ?_
          refine g_callV X (ct_X4_isSlide hst hd hM) dX4_doJoin_10 rfl (lw_V q2016 q2018 qs32 q76 q2019) hyV_X4_isSlide (fun H hH => hR.recv X.2.2.2.2.2.2.2.1 hH mW_a rfl) (fun H hH => hH) ⟨Nat.le_of_ble_eq_true rfl, Nat.le_of_ble_eq_true rfl⟩ ⟨Nat.le_of_ble_eq_true rfl, Nat.le_of_ble_eq_true rfl⟩ (Nat.le_of_ble_eq_true rfl) rfl (fun x_10 => ?_)
          refine g_if_ne (tgt := 22) X dX4_doJoin_13 rfl (by decide) (fun c_13 => ?_) (fun c => absurd (h2) (bI_0.mp c))
          refine g_aload_n X dX4_doJoin_22 rfl rfl ?_
          refine g_iload_n X dX4_doJoin_23 rfl rfl ?_
          refine g_iconst X dX4_doJoin_24 rfl (v := (nI 2)) rfl ?_
          refine g_callV X (ct_X4_guest hst hd (by omega) e5) dX4_doJoin_25 rfl (lw_V q2024 q2026 qs34 q76 q2027) hyV_X4_guest (fun H hH => hR.recv X.2.2.2.2.2.2.2.1 hH mW_a rfl) (fun H hH => hH) ⟨Nat.le_of_ble_eq_true rfl, Nat.le_of_ble_eq_true rfl⟩ ⟨Nat.le_of_ble_eq_true rfl, Nat.le_of_ble_eq_true rfl⟩ (Nat.le_of_ble_eq_true rfl) rfl (fun x_25 => ?_)
          refine g_if_le (tgt := 37) X dX4_doJoin_28 rfl (by decide) (fun c_28 => ?_) (fun c => absurd ((nI_le0 (by omega)).mpr (by omega)) c)
          refine g_aload_n X dX4_doJoin_37 rfl rfl ?_
          refine g_iload_n X dX4_doJoin_38 rfl rfl ?_
          refine g_iconst X dX4_doJoin_39 rfl (v := (nI 3)) rfl ?_
          refine g_callV X (ct_X4_slide hst hd (by omega) e6) dX4_doJoin_40 rfl (lw_V q2028 q2030 qs35 q76 q2031) hyV_X4_slide (fun H hH => hR.recv X.2.2.2.2.2.2.2.1 hH mW_a rfl) (fun H hH => hH) ⟨Nat.le_of_ble_eq_true rfl, Nat.le_of_ble_eq_true rfl⟩ ⟨Nat.le_of_ble_eq_true rfl, Nat.le_of_ble_eq_true rfl⟩ (Nat.le_of_ble_eq_true rfl) rfl (fun x_40 => ?_)
          refine g_istore_n X dX4_doJoin_43 rfl (by decide) rfl rfl ?_
          refine g_iload_n X dX4_doJoin_44 rfl rfl ?_
          refine g_iconst X dX4_doJoin_45 rfl (v := (nI 5)) rfl ?_
          refine g_icmp_ne (tgt := 55) X dX4_doJoin_46 rfl (by decide) (fun c_46 => ?_) (fun c => absurd ((nI_eq (by omega) (by omega)).mp c) h4)
          refine g_bipush X dX4_doJoin_55 rfl (v := (nI 8)) (by decide) ?_
          refine g_bipush X dX4_doJoin_57 rfl (v := (nI 9)) (by decide) ?_
          refine g_iload_n X dX4_doJoin_59 rfl rfl ?_
          refine g_imul X dX4_doJoin_60 rfl (by first | exact pk_mul _ _ | rfl) ?_
          refine g_iadd X dX4_doJoin_61 rfl (by first | exact nI_add _ _ | rfl) ?_
          refine g_istore X dX4_doJoin_62 rfl (by decide) rfl rfl ?_
          refine g_aload_n X dX4_doJoin_64 rfl rfl ?_
          refine g_get X dX4_doJoin_65 rfl in_X4 (ci := 3) rfl 0 (by decide) q1916 (fun _ h => h) mW_a rfl ?_
          refine g_iload X dX4_doJoin_68 rfl rfl ?_
          refine g_iconst X dX4_doJoin_70 rfl (v := (nI 4)) rfl ?_
          refine g_iadd X dX4_doJoin_71 rfl (by first | exact nI_add _ _ | rfl) ?_
          refine g_iload_n X dX4_doJoin_72 rfl rfl ?_
          refine g_iadd X dX4_doJoin_73 rfl (by first | exact nI_add _ _ | rfl) ?_
          refine g_iload_n X dX4_doJoin_74 rfl rfl ?_
          refine g_ias X dX4_doJoin_75 rfl (mW_0z hd) (vp_in_nI (by omega) (by decide)) (mW_i0 hd (nI_clamp (by omega))) ?_
          refine g_aload_n X dX4_doJoin_76 rfl rfl ?_
          refine g_get X dX4_doJoin_77 rfl in_X4 (ci := 3) rfl 0 (by decide) q1916 (fun _ h => h) mW_a rfl ?_
          refine g_iload X dX4_doJoin_80 rfl rfl ?_
          refine g_iconst X dX4_doJoin_82 rfl (v := (nI 3)) rfl ?_
          refine g_iadd X dX4_doJoin_83 rfl (by first | exact nI_add _ _ | rfl) ?_
          refine g_dup2 X dX4_doJoin_84 rfl rfl rfl ?_
          refine g_ial X dX4_doJoin_85 rfl (mW_0z hd) (vp_in_nI (by omega) (by decide)) (ix_v (by omega) ((upd_n (by omega)).trans e6)) ?_
          refine g_iconst X dX4_doJoin_86 rfl (v := (nI 1)) rfl ?_
          refine g_iadd X dX4_doJoin_87 rfl (by first | exact nI_add _ _ | rfl) ?_
          refine g_ias X dX4_doJoin_88 rfl (mW_0z hd) (vp_in_nI (by omega) (by decide)) (mW_i0 hd (nI_clamp (by omega))) ?_
          refine g_aload_n X dX4_doJoin_89 rfl rfl ?_
          refine g_get X dX4_doJoin_90 rfl in_X4 (ci := 3) rfl 0 (by decide) q1916 (fun _ h => h) mW_a rfl ?_
          refine g_bipush X dX4_doJoin_93 rfl (v := (nI 44)) (by decide) ?_
          refine g_iconst X dX4_doJoin_95 rfl (v := (nI 3)) rfl ?_
          refine g_iload_n X dX4_doJoin_96 rfl rfl ?_
          refine g_imul X dX4_doJoin_97 rfl (by first | exact pk_mul _ _ | rfl) ?_
          refine g_iadd X dX4_doJoin_98 rfl (by first | exact nI_add _ _ | rfl) ?_
          refine g_iconst X dX4_doJoin_99 rfl (v := (nI 2)) rfl ?_
          refine g_iadd X dX4_doJoin_100 rfl (by first | exact nI_add _ _ | rfl) ?_
          refine g_iload_n X dX4_doJoin_101 rfl rfl ?_
          refine g_iconst X dX4_doJoin_102 rfl (v := (nI 1)) rfl ?_
          refine g_iadd X dX4_doJoin_103 rfl (by first | exact nI_add _ _ | rfl) ?_
          refine g_ias X dX4_doJoin_104 rfl (mW_0z hd) (vp_in_nI (by omega) (by decide)) (mW_i0 hd (nI_clamp (by omega))) ?_
          refine g_iload_n X dX4_doJoin_105 rfl rfl ?_
          refine g_iconst X dX4_doJoin_106 rfl (v := (nI 1)) rfl ?_
          refine g_iadd X dX4_doJoin_107 rfl (by first | exact nI_add _ _ | rfl) ?_
          refine g_iret X dX4_doJoin_108 rfl (Nat.le_of_ble_eq_true rfl) (Nat.le_of_ble_eq_true rfl) (fun H hH => ⟨⟨_, MR_join hM hB.cp hg hs (by omega) (by omega)⟩, rfl, hH⟩)
    · have e : aJoin σ x y = .inl 1 := by unfold aJoin; rw [cH_t (fun k => h2 k.2)]
      rw [e]
      refine CM.of (L := [some (.ref a), some (.int x), some (.int y), none, none]) hst (by decide) (Nat.le_of_ble_eq_true rfl) rfl ?_
      intro p e s m below meth c X hnm htab
      refine g_aload_n X dX4_doJoin_0 rfl rfl ?_
      refine g_iload_n X dX4_doJoin_1 rfl rfl ?_
      refine g_callV X (ct_X4_isGuest hst hd hM) dX4_doJoin_2 rfl (lw_V q2012 q2014 qs31 q76 q2015) hyV_X4_isGuest (fun H hH => hR.recv X.2.2.2.2.2.2.2.1 hH mW_a rfl) (fun H hH => hH) ⟨Nat.le_of_ble_eq_true rfl, Nat.le_of_ble_eq_true rfl⟩ ⟨Nat.le_of_ble_eq_true rfl, Nat.le_of_ble_eq_true rfl⟩ (Nat.le_of_ble_eq_true rfl) rfl (fun x_2 => ?_)
      refine g_if_eq (tgt := 16) X dX4_doJoin_5 rfl (by decide) (fun c => absurd (h1) (bI_0.mp c)) (fun c_5 => ?_)
      refine g_aload_n X dX4_doJoin_8 rfl rfl ?_
      refine g_iload_n X dX4_doJoin_9 rfl rfl ?_
      refine g_callV X (ct_X4_isSlide hst hd hM) dX4_doJoin_10 rfl (lw_V q2016 q2018 qs32 q76 q2019) hyV_X4_isSlide (fun H hH => hR.recv X.2.2.2.2.2.2.2.1 hH mW_a rfl) (fun H hH => hH) ⟨Nat.le_of_ble_eq_true rfl, Nat.le_of_ble_eq_true rfl⟩ ⟨Nat.le_of_ble_eq_true rfl, Nat.le_of_ble_eq_true rfl⟩ (Nat.le_of_ble_eq_true rfl) rfl (fun x_10 => ?_)
      refine g_if_ne (tgt := 22) X dX4_doJoin_13 rfl (by decide) (fun c => absurd (bI_n0.mp c) (h2)) (fun c_13 => ?_)
      refine g_aload_n X dX4_doJoin_16 rfl rfl ?_
      refine g_iconst X dX4_doJoin_17 rfl (v := (nI 1)) rfl ?_
      refine g_callV X (ct_X4_fails hst) dX4_doJoin_18 rfl (lw_V q1988 q1990 qs27 q76 q1991) hyV_X4_fails (fun H hH => hR.recv X.2.2.2.2.2.2.2.1 hH mW_a rfl) (fun H hH => hH) ⟨Nat.le_of_ble_eq_true rfl, Nat.le_of_ble_eq_true rfl⟩ ⟨Nat.le_of_ble_eq_true rfl, Nat.le_of_ble_eq_true rfl⟩ (Nat.le_of_ble_eq_true rfl) rfl (fun x_18 => ?_)
      refine g_iret X dX4_doJoin_21 rfl (Nat.le_of_ble_eq_true rfl) (Nat.le_of_ble_eq_true rfl) (fun H hH => ⟨⟨f, rfl⟩, rfl, hH⟩)
  · have e : aJoin σ x y = .inl 1 := by unfold aJoin; rw [cH_t (fun k => h1 k.1)]
    rw [e]
    refine CM.of (L := [some (.ref a), some (.int x), some (.int y), none, none]) hst (by decide) (Nat.le_of_ble_eq_true rfl) rfl ?_
    intro p e s m below meth c X hnm htab
    refine g_aload_n X dX4_doJoin_0 rfl rfl ?_
    refine g_iload_n X dX4_doJoin_1 rfl rfl ?_
    refine g_callV X (ct_X4_isGuest hst hd hM) dX4_doJoin_2 rfl (lw_V q2012 q2014 qs31 q76 q2015) hyV_X4_isGuest (fun H hH => hR.recv X.2.2.2.2.2.2.2.1 hH mW_a rfl) (fun H hH => hH) ⟨Nat.le_of_ble_eq_true rfl, Nat.le_of_ble_eq_true rfl⟩ ⟨Nat.le_of_ble_eq_true rfl, Nat.le_of_ble_eq_true rfl⟩ (Nat.le_of_ble_eq_true rfl) rfl (fun x_2 => ?_)
    refine g_if_eq (tgt := 16) X dX4_doJoin_5 rfl (by decide) (fun c_5 => ?_) (fun c => absurd (bI_n0.mp c) (h1))
    refine g_aload_n X dX4_doJoin_16 rfl rfl ?_
    refine g_iconst X dX4_doJoin_17 rfl (v := (nI 1)) rfl ?_
    refine g_callV X (ct_X4_fails hst) dX4_doJoin_18 rfl (lw_V q1988 q1990 qs27 q76 q1991) hyV_X4_fails (fun H hH => hR.recv X.2.2.2.2.2.2.2.1 hH mW_a rfl) (fun H hH => hH) ⟨Nat.le_of_ble_eq_true rfl, Nat.le_of_ble_eq_true rfl⟩ ⟨Nat.le_of_ble_eq_true rfl, Nat.le_of_ble_eq_true rfl⟩ (Nat.le_of_ble_eq_true rfl) rfl (fun x_18 => ?_)
    refine g_iret X dX4_doJoin_21 rfl (Nat.le_of_ble_eq_true rfl) (Nat.le_of_ble_eq_true rfl) (fun H hH => ⟨⟨f, rfl⟩, rfl, hH⟩)
end M8
