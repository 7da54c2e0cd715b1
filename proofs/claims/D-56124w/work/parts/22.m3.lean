/-! MODEL, loops over bookings -/
section M3
variable {l : Launch} {Ω : Om} {h : RH} {a : Nat} {ad : Nat → Nat} {v : Nat → Int32} {F : Nat → Nat → Int32} {σ : St}
set_option maxRecDepth 100000
theorem ct_X4_clashes (hst : l.stackTraces = false) (hd : mDi a ad) (hM : MR (F 0) σ) (hB : Bd σ) {gv : Int32} {s0 t0 : Nat} (hs : s0 < nS σ) (ht : t0 < 200000) : CM Ω l yX4_clashes (ws_ yX4_clashes cX4_clashes 8 (some .boolean)) 8 0 0 [.ref a, .int gv, .int (nI s0), .int (nI t0)] (hR Ω (mW Ω h a ad v F)) (QP (some (.int (bI (aCl σ gv s0 t0)))) (hR Ω (mW Ω h a ad v F))) nX := by
  have b1 := hB.1
  have b2 := hB.2.1 s0 hs
  have e0 := hM.1.2.2.1
  have e2 := (hM.2.1 s0 hs).1
  refine CM.of (L := [some (.ref a), some (.int gv), some (.int (nI s0)), some (.int (nI t0)), none, none, none, none]) hst (by decide) (Nat.le_of_ble_eq_true rfl) rfl ?_
  intro p e s m below meth c X hnm htab
  refine g_iconst X dX4_clashes_0 rfl (v := (nI 0)) rfl ?_
  refine g_istore X dX4_clashes_1 rfl (by decide) rfl rfl ?_
  refine g_iload_n X dX4_clashes_3 rfl rfl ?_
  refine g_aload_n X dX4_clashes_4 rfl rfl ?_
  refine g_iload_n X dX4_clashes_5 rfl rfl ?_
  refine g_iconst X dX4_clashes_6 rfl (v := (nI 0)) rfl ?_
  refine g_callV X (ct_X4_slide hst hd (by omega) e2) dX4_clashes_7 rfl (lw_V q2028 q2030 qs35 q76 q2031) hyV_X4_slide (fun H hH => hR.recv X.2.2.2.2.2.2.2.1 hH mW_a rfl) (fun H hH => hH) ⟨Nat.le_of_ble_eq_true rfl, Nat.le_of_ble_eq_true rfl⟩ ⟨Nat.le_of_ble_eq_true rfl, Nat.le_of_ble_eq_true rfl⟩ (Nat.le_of_ble_eq_true rfl) rfl (fun x_7 => ?_)
  refine g_iadd X dX4_clashes_10 rfl (by first | exact nI_add _ _ | rfl) ?_
  refine g_istore X dX4_clashes_11 rfl (by decide) rfl rfl ?_
  refine g_iconst X dX4_clashes_13 rfl (v := (nI 0)) rfl ?_
  refine g_istore X dX4_clashes_14 rfl (by decide) rfl rfl ?_
  unfold aCl
  generalize hP : (fun k => (boS σ k = s0 ∨ nI (boG σ k) = gv) ∧ ovl σ k s0 t0) = P
  have hPk : ∀ k, P k ↔ ((boS σ k = s0 ∨ nI (boG σ k) = gv) ∧ boT σ k < t0 + slD σ s0 ∧ t0 < boE σ k) := fun k => by rw [← hP]; exact Iff.rfl
  refine GJ.loc ((fun (k : Nat) => [some (.ref a), some (.int gv), some (.int (nI s0)), some (.int (nI t0)), some (.int (bI (aN P k))), some (.int (nI (t0 + slD σ s0))), some (.int (nI k)), none]) 0) (lvle_c rfl (lvle_c rfl (lvle_c rfl (lvle_c rfl (lvle_c (by rw [bI_f aN_0]) (lvle_c rfl (lvle_c rfl (lvle_n lvle_e)))))))) ?_
  refine GJ.loopP (fun (k : Nat) => [some (.ref a), some (.int gv), some (.int (nI s0)), some (.int (nI t0)), some (.int (bI (aN P k))), some (.int (nI (t0 + slD σ s0))), some (.int (nI k)), none]) (fun (k : Nat) => (nB σ - k)) (fun (k : Nat) => (k ≤ nB σ)) 0 (Nat.zero_le _) ?_
  intro k hk ih
  refine g_iload X dX4_clashes_16 rfl rfl ?_
  refine g_aload_n X dX4_clashes_18 rfl rfl ?_
  refine g_get X dX4_clashes_19 rfl in_X4 (ci := 3) rfl 0 (by decide) q1916 (fun _ h => h) mW_a rfl ?_
  refine g_iconst X dX4_clashes_22 rfl (v := (nI 2)) rfl ?_
  refine g_ial X dX4_clashes_23 rfl (mW_0 hd) (vp_in_nI (by omega) (by decide)) (ix_v (by omega) e0) ?_
  refine g_icmp_ge (tgt := 100) X dX4_clashes_24 rfl (by decide) (fun c_24 => ?_) (fun c_24 => ?_)
  · rw [nI_leI (by omega) (by omega)] at c_24
    obtain rfl : k = nB σ := by omega
    refine g_iload X dX4_clashes_100 rfl rfl ?_
    refine g_zret X dX4_clashes_102 rfl bI_nar (Nat.le_of_ble_eq_true rfl) (Nat.le_of_ble_eq_true rfl) (fun H hH => ⟨(), rfl, hH⟩)
  · rw [nI_leI (by omega) (by omega)] at c_24
    have hk2 : k < nB σ := by omega
    have b5 := hB.2.2.2.2.1 k hk2
    have b6 := hB.2.1 _ b5.2.1
    have e5 := hM.2.2.2.2.1 k hk2
    have e6 : boE σ k = boT σ k + slD σ (boS σ k) := rfl
    refine GJ.cutv 54 (bI (boS σ k = s0 ∨ nI (boG σ k) = gv)) ?_ (fun hj => ?_)
    · refine g_istore X dX4_clashes_54 rfl (by decide) rfl rfl ?_
      refine GJ.cutv 92 (bI (aN P (k + 1))) ?_ (fun hj => ?_)
      · refine g_istore X dX4_clashes_92 rfl (by decide) rfl rfl ?_
        refine g_iinc X dX4_clashes_94 rfl rfl (by first | exact nI_1 _ | rfl) (by decide) rfl rfl ?_
        refine g_goto (tgt := 16) X dX4_clashes_97 rfl (by decide) ?_
        refine GJ.loc [some (.ref a), some (.int gv), some (.int (nI s0)), some (.int (nI t0)), some (.int (bI (aN P (k + 1)))), some (.int (nI (t0 + slD σ s0))), some (.int (nI (k + 1))), none] (lvle_c rfl (lvle_c rfl (lvle_c rfl (lvle_c rfl (lvle_c rfl (lvle_c rfl (lvle_c rfl (lvle_n lvle_e)))))))) ?_
        exact ih (k + 1) (by omega) (by omega)
      · refine g_iload X dX4_clashes_56 rfl rfl ?_
        refine g_if_ne (tgt := 87) X dX4_clashes_58 rfl (by decide) (fun c_58 => ?_) (fun c_58 => ?_)
        · refine g_iconst X dX4_clashes_87 rfl (v := (nI 1)) rfl ?_
          refine g_goto (tgt := 92) X dX4_clashes_88 rfl (by decide) ?_
          exact GJ.top (bI_t (aN_s.mpr (Or.inl (bI_n0.mp c_58)))).symm hj
        · have c_58 := bI_0.mp c_58
          refine g_iload X dX4_clashes_61 rfl rfl ?_
          refine g_if_eq (tgt := 91) X dX4_clashes_63 rfl (by decide) (fun c_63 => ?_) (fun c_63 => ?_)
          · refine g_iconst X dX4_clashes_91 rfl (v := (nI 0)) rfl ?_
            have c_63 := bI_0.mp c_63
            exact GJ.top (bI_f (fun g => (aN_s.mp g).elim c_58 (fun g => c_63 ((hPk k).mp g).1))).symm hj
          · have c_63 := bI_n0.mp c_63
            refine g_aload_n X dX4_clashes_66 rfl rfl ?_
            refine g_iload X dX4_clashes_67 rfl rfl ?_
            refine g_callV X (ct_X4_startOf hst hd hM hB hk2) dX4_clashes_69 rfl (lw_V q2040 q2042 qs38 q76 q2043) hyV_X4_startOf (fun H hH => hR.recv X.2.2.2.2.2.2.2.1 hH mW_a rfl) (fun H hH => hH) ⟨Nat.le_of_ble_eq_true rfl, Nat.le_of_ble_eq_true rfl⟩ ⟨Nat.le_of_ble_eq_true rfl, Nat.le_of_ble_eq_true rfl⟩ (Nat.le_of_ble_eq_true rfl) rfl (fun x_69 => ?_)
            refine g_iload X dX4_clashes_72 rfl rfl ?_
            refine g_icmp_ge (tgt := 91) X dX4_clashes_74 rfl (by decide) (fun c_74 => ?_) (fun c_74 => ?_)
            · rw [nI_leI (by omega) (by omega)] at c_74
              refine g_iconst X dX4_clashes_91 rfl (v := (nI 0)) rfl ?_
              exact GJ.top (bI_f (fun g => (aN_s.mp g).elim c_58 (fun g => absurd ((hPk k).mp g).2.1 (by omega)))).symm hj
            · rw [nI_leI (by omega) (by omega)] at c_74
              refine g_iload_n X dX4_clashes_77 rfl rfl ?_
              refine g_aload_n X dX4_clashes_78 rfl rfl ?_
              refine g_iload X dX4_clashes_79 rfl rfl ?_
              refine g_callV X (ct_X4_endOf hst hd hM hB hk2) dX4_clashes_81 rfl (lw_V q2044 q2046 qs39 q76 q2047) hyV_X4_endOf (fun H hH => hR.recv X.2.2.2.2.2.2.2.1 hH mW_a rfl) (fun H hH => hH) ⟨Nat.le_of_ble_eq_true rfl, Nat.le_of_ble_eq_true rfl⟩ ⟨Nat.le_of_ble_eq_true rfl, Nat.le_of_ble_eq_true rfl⟩ (Nat.le_of_ble_eq_true rfl) rfl (fun x_81 => ?_)
              refine g_icmp_ge (tgt := 91) X dX4_clashes_84 rfl (by decide) (fun c_84 => ?_) (fun c_84 => ?_)
              · rw [nI_leI (by omega) (by omega)] at c_84
                refine g_iconst X dX4_clashes_91 rfl (v := (nI 0)) rfl ?_
                exact GJ.top (bI_f (fun g => (aN_s.mp g).elim c_58 (fun g => absurd ((hPk k).mp g).2.2 (by omega)))).symm hj
              · rw [nI_leI (by omega) (by omega)] at c_84
                refine g_iconst X dX4_clashes_87 rfl (v := (nI 1)) rfl ?_
                refine g_goto (tgt := 92) X dX4_clashes_88 rfl (by decide) ?_
                exact GJ.top (bI_t (aN_s.mpr (Or.inr ((hPk k).mpr ⟨c_63, by omega, by omega⟩)))).symm hj
    · refine g_aload_n X dX4_clashes_27 rfl rfl ?_
      refine g_iload X dX4_clashes_28 rfl rfl ?_
      refine g_iconst X dX4_clashes_30 rfl (v := (nI 1)) rfl ?_
      refine g_callV X (ct_X4_booking hst hd (by omega) e5.2.1) dX4_clashes_31 rfl (lw_V q2036 q2038 qs37 q76 q2039) hyV_X4_booking (fun H hH => hR.recv X.2.2.2.2.2.2.2.1 hH mW_a rfl) (fun H hH => hH) ⟨Nat.le_of_ble_eq_true rfl, Nat.le_of_ble_eq_true rfl⟩ ⟨Nat.le_of_ble_eq_true rfl, Nat.le_of_ble_eq_true rfl⟩ (Nat.le_of_ble_eq_true rfl) rfl (fun x_31 => ?_)
      refine g_iload_n X dX4_clashes_34 rfl rfl ?_
      refine g_icmp_eq (tgt := 49) X dX4_clashes_35 rfl (by decide) (fun c_35 => ?_) (fun c_35 => ?_)
      · rw [nI_eq (by omega) (by omega)] at c_35
        refine g_iconst X dX4_clashes_49 rfl (v := (nI 1)) rfl ?_
        refine g_goto (tgt := 54) X dX4_clashes_50 rfl (by decide) ?_
        exact GJ.top (bI_t (Or.inl c_35)).symm hj
      · rw [nI_eq (by omega) (by omega)] at c_35
        refine g_aload_n X dX4_clashes_38 rfl rfl ?_
        refine g_iload X dX4_clashes_39 rfl rfl ?_
        refine g_iconst X dX4_clashes_41 rfl (v := (nI 0)) rfl ?_
        refine g_callV X (ct_X4_booking hst hd (by omega) e5.1) dX4_clashes_42 rfl (lw_V q2036 q2038 qs37 q76 q2039) hyV_X4_booking (fun H hH => hR.recv X.2.2.2.2.2.2.2.1 hH mW_a rfl) (fun H hH => hH) ⟨Nat.le_of_ble_eq_true rfl, Nat.le_of_ble_eq_true rfl⟩ ⟨Nat.le_of_ble_eq_true rfl, Nat.le_of_ble_eq_true rfl⟩ (Nat.le_of_ble_eq_true rfl) rfl (fun x_42 => ?_)
        refine g_iload_n X dX4_clashes_45 rfl rfl ?_
        refine g_icmp_ne (tgt := 53) X dX4_clashes_46 rfl (by decide) (fun c_46 => ?_) (fun c_46 => ?_)
        · refine g_iconst X dX4_clashes_53 rfl (v := (nI 0)) rfl ?_
          exact GJ.top (bI_f (fun g => g.elim c_35 c_46)).symm hj
        · refine g_iconst X dX4_clashes_49 rfl (v := (nI 1)) rfl ?_
          refine g_goto (tgt := 54) X dX4_clashes_50 rfl (by decide) ?_
          exact GJ.top (bI_t (Or.inr c_46)).symm hj
theorem ct_X4_during (hst : l.stackTraces = false) (hd : mDi a ad) (hM : MR (F 0) σ) (hB : Bd σ) {s0 t0 : Nat} (hs : s0 < 100) (ht : t0 < 200000) : CM Ω l yX4_during (ws_ yX4_during cX4_during 5 (some .int)) 8 0 0 [.ref a, .int (nI s0), .int (nI t0)] (hR Ω (mW Ω h a ad v F)) (QP (some (.int (aDur σ s0 t0))) (hR Ω (mW Ω h a ad v F))) nX := by
  have b1 := hB.1
  have e0 := hM.1.2.2.1
  refine CM.of (L := [some (.ref a), some (.int (nI s0)), some (.int (nI t0)), none, none]) hst (by decide) (Nat.le_of_ble_eq_true rfl) rfl ?_
  intro p e s m below meth c X hnm htab
  refine g_iconst X dX4_during_0 rfl (v := (-1)) rfl ?_
  refine g_istore_n X dX4_during_1 rfl (by decide) rfl rfl ?_
  refine g_iconst X dX4_during_2 rfl (v := (nI 0)) rfl ?_
  refine g_istore X dX4_during_3 rfl (by decide) rfl rfl ?_
  unfold aDur
  generalize hP : (fun k => boS σ k = s0 ∧ boT σ k ≤ t0 ∧ t0 < boE σ k) = P
  have hPk : ∀ k, P k ↔ (boS σ k = s0 ∧ boT σ k ≤ t0 ∧ t0 < boE σ k) := fun k => by rw [← hP]
  refine GJ.loc ((fun (k : Nat) => [some (.ref a), some (.int (nI s0)), some (.int (nI t0)), some (.int (lst P (-1) k)), some (.int (nI k))]) 0) (lvle_c rfl (lvle_c rfl (lvle_c rfl (lvle_c rfl (lvle_c rfl lvle_e))))) ?_
  refine GJ.loopP (fun (k : Nat) => [some (.ref a), some (.int (nI s0)), some (.int (nI t0)), some (.int (lst P (-1) k)), some (.int (nI k))]) (fun (k : Nat) => (nB σ - k)) (fun (k : Nat) => (k ≤ nB σ)) 0 (Nat.zero_le _) ?_
  intro k hk ih
  refine g_iload X dX4_during_5 rfl rfl ?_
  refine g_aload_n X dX4_during_7 rfl rfl ?_
  refine g_get X dX4_during_8 rfl in_X4 (ci := 3) rfl 0 (by decide) q1916 (fun _ h => h) mW_a rfl ?_
  refine g_iconst X dX4_during_11 rfl (v := (nI 2)) rfl ?_
  refine g_ial X dX4_during_12 rfl (mW_0 hd) (vp_in_nI (by omega) (by decide)) (ix_v (by omega) e0) ?_
  refine g_icmp_ge (tgt := 61) X dX4_during_13 rfl (by decide) (fun c_13 => ?_) (fun c_13 => ?_)
  · rw [nI_leI (by omega) (by omega)] at c_13
    obtain rfl : k = nB σ := by omega
    refine g_iload_n X dX4_during_61 rfl rfl ?_
    refine g_iret X dX4_during_62 rfl (Nat.le_of_ble_eq_true rfl) (Nat.le_of_ble_eq_true rfl) (fun H hH => ⟨(), rfl, hH⟩)
  · rw [nI_leI (by omega) (by omega)] at c_13
    have hk2 : k < nB σ := by omega
    have b5 := hB.2.2.2.2.1 k hk2
    have b6 := hB.2.1 _ b5.2.1
    have e5 := hM.2.2.2.2.1 k hk2
    have e6 : boE σ k = boT σ k + slD σ (boS σ k) := rfl
    refine GJ.cutv 54 (lst P (-1) (k + 1)) ?_ (fun hj => ?_)
    · refine g_istore_n X dX4_during_54 rfl (by decide) rfl rfl ?_
      refine g_iinc X dX4_during_55 rfl rfl (by first | exact nI_1 _ | rfl) (by decide) rfl rfl ?_
      refine g_goto (tgt := 5) X dX4_during_58 rfl (by decide) ?_
      refine GJ.loc [some (.ref a), some (.int (nI s0)), some (.int (nI t0)), some (.int (lst P (-1) (k + 1))), some (.int (nI (k + 1)))] (lvle_c rfl (lvle_c rfl (lvle_c rfl (lvle_c rfl (lvle_c rfl lvle_e))))) ?_
      exact ih (k + 1) (by omega) (by omega)
    · refine g_aload_n X dX4_during_16 rfl rfl ?_
      refine g_iload X dX4_during_17 rfl rfl ?_
      refine g_iconst X dX4_during_19 rfl (v := (nI 1)) rfl ?_
      refine g_callV X (ct_X4_booking hst hd (by omega) e5.2.1) dX4_during_20 rfl (lw_V q2036 q2038 qs37 q76 q2039) hyV_X4_booking (fun H hH => hR.recv X.2.2.2.2.2.2.2.1 hH mW_a rfl) (fun H hH => hH) ⟨Nat.le_of_ble_eq_true rfl, Nat.le_of_ble_eq_true rfl⟩ ⟨Nat.le_of_ble_eq_true rfl, Nat.le_of_ble_eq_true rfl⟩ (Nat.le_of_ble_eq_true rfl) rfl (fun x_20 => ?_)
      refine g_iload_n X dX4_during_23 rfl rfl ?_
      refine g_icmp_ne (tgt := 53) X dX4_during_24 rfl (by decide) (fun c_24 => ?_) (fun c_24 => ?_)
      · rw [nI_eq (by omega) (by omega)] at c_24
        refine g_iload_n X dX4_during_53 rfl rfl ?_
        exact GJ.top (lst_f (fun g => c_24 ((hPk k).mp g).1)).symm hj
      · rw [nI_eq (by omega) (by omega)] at c_24
        refine g_iload_n X dX4_during_27 rfl rfl ?_
        refine g_aload_n X dX4_during_28 rfl rfl ?_
        refine g_iload X dX4_during_29 rfl rfl ?_
        refine g_callV X (ct_X4_startOf hst hd hM hB hk2) dX4_during_31 rfl (lw_V q2040 q2042 qs38 q76 q2043) hyV_X4_startOf (fun H hH => hR.recv X.2.2.2.2.2.2.2.1 hH mW_a rfl) (fun H hH => hH) ⟨Nat.le_of_ble_eq_true rfl, Nat.le_of_ble_eq_true rfl⟩ ⟨Nat.le_of_ble_eq_true rfl, Nat.le_of_ble_eq_true rfl⟩ (Nat.le_of_ble_eq_true rfl) rfl (fun x_31 => ?_)
        refine g_aload_n X dX4_during_34 rfl rfl ?_
        refine g_iload X dX4_during_35 rfl rfl ?_
        refine g_callV X (ct_X4_endOf hst hd hM hB hk2) dX4_during_37 rfl (lw_V q2044 q2046 qs39 q76 q2047) hyV_X4_endOf (fun H hH => hR.recv X.2.2.2.2.2.2.2.1 hH mW_a rfl) (fun H hH => hH) ⟨Nat.le_of_ble_eq_true rfl, Nat.le_of_ble_eq_true rfl⟩ ⟨Nat.le_of_ble_eq_true rfl, Nat.le_of_ble_eq_true rfl⟩ (Nat.le_of_ble_eq_true rfl) rfl (fun x_37 => ?_)
        refine g_iconst X dX4_during_40 rfl (v := (nI 1)) rfl ?_
        refine g_isub X dX4_during_41 rfl (pk_sub (by omega)) ?_
        refine g_callS X (ct_X4_in hst) dX4_during_42 rfl (lw_S q1985 q1986 q76 q1987) hyS_X4_in (fun H hH => hH) ⟨Nat.le_of_ble_eq_true rfl, Nat.le_of_ble_eq_true rfl⟩ ⟨Nat.le_of_ble_eq_true rfl, Nat.le_of_ble_eq_true rfl⟩ (Nat.le_of_ble_eq_true rfl) rfl (fun x_42 => ?_)
        refine g_if_eq (tgt := 53) X dX4_during_45 rfl (by decide) (fun c_45 => ?_) (fun c_45 => ?_)
        · have c_45 := bI_0.mp c_45
          rw [nI_leI (by omega) (by omega), nI_leI (by omega) (by omega)] at c_45
          refine g_iload_n X dX4_during_53 rfl rfl ?_
          exact GJ.top (lst_f (fun g => c_45 (by have := (hPk k).mp g; omega))).symm hj
        · have c_45 := bI_n0.mp c_45
          rw [nI_leI (by omega) (by omega), nI_leI (by omega) (by omega)] at c_45
          refine g_iload X dX4_during_48 rfl rfl ?_
          refine g_goto (tgt := 54) X dX4_during_50 rfl (by decide) ?_
          exact GJ.top (lst_t ((hPk k).mpr (by omega))).symm hj
theorem cN_add {P : Nat → Prop} {m n : Nat} : nI (m + cN P n) + bI (P n) = nI (m + cN P (n + 1)) := by
  by_cases h : P n
  · rw [cN_t h, bI_t h, nI_add, Nat.add_assoc]
  · rw [cN_f h, bI_f h, nI_add, Nat.add_zero]
theorem cN_ad0 {P : Nat → Prop} {n : Nat} : nI (cN P n) + bI (P n) = nI (cN P (n + 1)) := by
  have := cN_add (P := P) (m := 0) (n := n)
  simpa using this
theorem ct_X4_ranked (hst : l.stackTraces = false) (hd : mDi a ad) (hM : MR (F 0) σ) (hB : Bd σ) {r : Int32} : CM Ω l yX4_ranked (ws_ yX4_ranked cX4_ranked 7 (some .int)) 8 0 0 [.ref a, .int r] (hR Ω (mW Ω h a ad v F)) (QP (some (.int (aRnk σ r))) (hR Ω (mW Ω h a ad v F))) nX := by
  have b1 := hB.1
  have e0 := hM.1.2.2.1
  refine CM.of (L := [some (.ref a), some (.int r), none, none, none, none, none]) hst (by decide) (Nat.le_of_ble_eq_true rfl) rfl ?_
  intro p e s m below meth c X hnm htab
  refine g_iconst X dX4_ranked_0 rfl (v := (-1)) rfl ?_
  refine g_istore_n X dX4_ranked_1 rfl (by decide) rfl rfl ?_
  refine g_iconst X dX4_ranked_2 rfl (v := (nI 0)) rfl ?_
  refine g_istore_n X dX4_ranked_3 rfl (by decide) rfl rfl ?_
  unfold aRnk
  generalize hP : (fun one => nI (cN (rkB σ one) (nB σ)) = r) = P
  have hPk : ∀ k, P k ↔ nI (cN (rkB σ k) (nB σ)) = r := fun k => by rw [← hP]
  refine GJ.loc ((fun (k : Nat) => [some (.ref a), some (.int r), some (.int (lst P (-1) k)), some (.int (nI k)), none, none, none]) 0) (lvle_c rfl (lvle_c rfl (lvle_c rfl (lvle_c rfl (lvle_n (lvle_n (lvle_n lvle_e))))))) ?_
  refine GJ.loopP (fun (k : Nat) => [some (.ref a), some (.int r), some (.int (lst P (-1) k)), some (.int (nI k)), none, none, none]) (fun (k : Nat) => (nB σ - k)) (fun (k : Nat) => (k ≤ nB σ)) 0 (Nat.zero_le _) ?_
  intro k hk ih
  refine g_iload_n X dX4_ranked_4 rfl rfl ?_
  refine g_aload_n X dX4_ranked_5 rfl rfl ?_
  refine g_get X dX4_ranked_6 rfl in_X4 (ci := 3) rfl 0 (by decide) q1916 (fun _ h => h) mW_a rfl ?_
  refine g_iconst X dX4_ranked_9 rfl (v := (nI 2)) rfl ?_
  refine g_ial X dX4_ranked_10 rfl (mW_0 hd) (vp_in_nI (by omega) (by decide)) (ix_v (by omega) e0) ?_
  refine g_icmp_ge (tgt := 105) X dX4_ranked_11 rfl (by decide) (fun c_11 => ?_) (fun c_11 => ?_)
  · rw [nI_leI (by omega) (by omega)] at c_11
    obtain rfl : k = nB σ := by omega
    refine g_iload_n X dX4_ranked_105 rfl rfl ?_
    refine g_iret X dX4_ranked_106 rfl (Nat.le_of_ble_eq_true rfl) (Nat.le_of_ble_eq_true rfl) (fun H hH => ⟨(), rfl, hH⟩)
  · rw [nI_leI (by omega) (by omega)] at c_11
    have hk2 : k < nB σ := by omega
    have b5 := hB.2.2.2.2.1 k hk2
    have e5 := hM.2.2.2.2.1 k hk2
    refine g_iconst X dX4_ranked_14 rfl (v := (nI 0)) rfl ?_
    refine g_istore X dX4_ranked_15 rfl (by decide) rfl rfl ?_
    refine g_iconst X dX4_ranked_17 rfl (v := (nI 0)) rfl ?_
    refine g_istore X dX4_ranked_18 rfl (by decide) rfl rfl ?_
    refine GJ.loc ((fun (j : Nat) => [some (.ref a), some (.int r), some (.int (lst P (-1) k)), some (.int (nI k)), some (.int (nI (cN (rkB σ k) j))), some (.int (nI j)), none]) 0) (lvle_c rfl (lvle_c rfl (lvle_c rfl (lvle_c rfl (lvle_c rfl (lvle_c rfl (lvle_n lvle_e))))))) ?_
    refine GJ.loopP (fun (j : Nat) => [some (.ref a), some (.int r), some (.int (lst P (-1) k)), some (.int (nI k)), some (.int (nI (cN (rkB σ k) j))), some (.int (nI j)), none]) (fun (j : Nat) => (nB σ - j)) (fun (j : Nat) => (j ≤ nB σ)) 0 (Nat.zero_le _) ?_
    intro j hj ihj
    refine g_iload X dX4_ranked_20 rfl rfl ?_
    refine g_aload_n X dX4_ranked_22 rfl rfl ?_
    refine g_get X dX4_ranked_23 rfl in_X4 (ci := 3) rfl 0 (by decide) q1916 (fun _ h => h) mW_a rfl ?_
    refine g_iconst X dX4_ranked_26 rfl (v := (nI 2)) rfl ?_
    refine g_ial X dX4_ranked_27 rfl (mW_0 hd) (vp_in_nI (by omega) (by decide)) (ix_v (by omega) e0) ?_
    refine g_icmp_ge (tgt := 87) X dX4_ranked_28 rfl (by decide) (fun c_28 => ?_) (fun c_28 => ?_)
    · rw [nI_leI (by omega) (by omega)] at c_28
      obtain rfl : j = nB σ := by omega
      refine GJ.cutv 98 (lst P (-1) (k + 1)) ?_ (fun hj => ?_)
      · refine g_istore_n X dX4_ranked_98 rfl (by decide) rfl rfl ?_
        refine g_iinc X dX4_ranked_99 rfl rfl (by first | exact nI_1 _ | rfl) (by decide) rfl rfl ?_
        refine g_goto (tgt := 4) X dX4_ranked_102 rfl (by decide) ?_
        refine GJ.loc [some (.ref a), some (.int r), some (.int (lst P (-1) (k + 1))), some (.int (nI (k + 1))), none, none, none] (lvle_c rfl (lvle_c rfl (lvle_c rfl (lvle_c rfl (lvle_n (lvle_n (lvle_n lvle_e))))))) ?_
        exact ih (k + 1) (by omega) (by omega)
      · refine g_iload X dX4_ranked_87 rfl rfl ?_
        refine g_iload_n X dX4_ranked_89 rfl rfl ?_
        refine g_icmp_ne (tgt := 97) X dX4_ranked_90 rfl (by decide) (fun c_90 => ?_) (fun c_90 => ?_)
        · refine g_iload_n X dX4_ranked_97 rfl rfl ?_
          exact GJ.top (lst_f (fun g => c_90 ((hPk k).mp g))).symm hj
        · refine g_iload_n X dX4_ranked_93 rfl rfl ?_
          refine g_goto (tgt := 98) X dX4_ranked_94 rfl (by decide) ?_
          exact GJ.top (lst_t ((hPk k).mpr c_90)).symm hj
    · rw [nI_leI (by omega) (by omega)] at c_28
      have hj2 : j < nB σ := by omega
      have b6 := hB.2.2.2.2.1 j hj2
      have e6 := hM.2.2.2.2.1 j hj2
      refine g_aload_n X dX4_ranked_31 rfl rfl ?_
      refine g_iload_n X dX4_ranked_32 rfl rfl ?_
      refine g_callV X (ct_X4_startOf hst hd hM hB hk2) dX4_ranked_33 rfl (lw_V q2040 q2042 qs38 q76 q2043) hyV_X4_startOf (fun H hH => hR.recv X.2.2.2.2.2.2.2.1 hH mW_a rfl) (fun H hH => hH) ⟨Nat.le_of_ble_eq_true rfl, Nat.le_of_ble_eq_true rfl⟩ ⟨Nat.le_of_ble_eq_true rfl, Nat.le_of_ble_eq_true rfl⟩ (Nat.le_of_ble_eq_true rfl) rfl (fun x_33 => ?_)
      refine g_aload_n X dX4_ranked_36 rfl rfl ?_
      refine g_iload X dX4_ranked_37 rfl rfl ?_
      refine g_callV X (ct_X4_startOf hst hd hM hB hj2) dX4_ranked_39 rfl (lw_V q2040 q2042 qs38 q76 q2043) hyV_X4_startOf (fun H hH => hR.recv X.2.2.2.2.2.2.2.1 hH mW_a rfl) (fun H hH => hH) ⟨Nat.le_of_ble_eq_true rfl, Nat.le_of_ble_eq_true rfl⟩ ⟨Nat.le_of_ble_eq_true rfl, Nat.le_of_ble_eq_true rfl⟩ (Nat.le_of_ble_eq_true rfl) rfl (fun x_39 => ?_)
      refine g_isub X dX4_ranked_42 rfl rfl ?_
      refine g_istore X dX4_ranked_43 rfl (by decide) rfl rfl ?_
      refine g_iload X dX4_ranked_45 rfl rfl ?_
      refine GJ.cutv 78 (bI (rkB σ k j)) ?_ (fun hj => ?_)
      · refine g_iadd X dX4_ranked_78 rfl cN_ad0 ?_
        refine g_istore X dX4_ranked_79 rfl (by decide) rfl rfl ?_
        refine g_iinc X dX4_ranked_81 rfl rfl (by first | exact nI_1 _ | rfl) (by decide) rfl rfl ?_
        refine g_goto (tgt := 20) X dX4_ranked_84 rfl (by decide) ?_
        refine GJ.loc [some (.ref a), some (.int r), some (.int (lst P (-1) k)), some (.int (nI k)), some (.int (nI (cN (rkB σ k) (j + 1)))), some (.int (nI (j + 1))), none] (lvle_c rfl (lvle_c rfl (lvle_c rfl (lvle_c rfl (lvle_c rfl (lvle_c rfl (lvle_n lvle_e))))))) ?_
        exact ihj (j + 1) (by omega) (by omega)
      · refine g_iload X dX4_ranked_47 rfl rfl ?_
        refine g_if_gt (tgt := 73) X dX4_ranked_49 rfl (by decide) (fun c_49 => ?_) (fun c_49 => ?_)
        · rw [nI_sub_pos (by omega) (by omega)] at c_49
          refine g_iconst X dX4_ranked_73 rfl (v := (nI 1)) rfl ?_
          refine g_goto (tgt := 78) X dX4_ranked_74 rfl (by decide) ?_
          exact GJ.top (bI_t (Or.inl c_49)).symm hj
        · rw [nI_sub_pos (by omega) (by omega)] at c_49
          refine g_iload X dX4_ranked_52 rfl rfl ?_
          refine g_if_ne (tgt := 77) X dX4_ranked_54 rfl (by decide) (fun c_54 => ?_) (fun c_54 => ?_)
          · rw [nI_sub_z (by omega) (by omega)] at c_54
            refine g_iconst X dX4_ranked_77 rfl (v := (nI 0)) rfl ?_
            exact GJ.top (bI_f (fun g => g.elim c_49 (fun g => c_54 g.1))).symm hj
          · rw [nI_sub_z (by omega) (by omega)] at c_54
            refine g_aload_n X dX4_ranked_57 rfl rfl ?_
            refine g_iload X dX4_ranked_58 rfl rfl ?_
            refine g_iconst X dX4_ranked_60 rfl (v := (nI 1)) rfl ?_
            refine g_callV X (ct_X4_booking hst hd (by omega) e6.2.1) dX4_ranked_61 rfl (lw_V q2036 q2038 qs37 q76 q2039) hyV_X4_booking (fun H hH => hR.recv X.2.2.2.2.2.2.2.1 hH mW_a rfl) (fun H hH => hH) ⟨Nat.le_of_ble_eq_true rfl, Nat.le_of_ble_eq_true rfl⟩ ⟨Nat.le_of_ble_eq_true rfl, Nat.le_of_ble_eq_true rfl⟩ (Nat.le_of_ble_eq_true rfl) rfl (fun x_61 => ?_)
            refine g_aload_n X dX4_ranked_64 rfl rfl ?_
            refine g_iload_n X dX4_ranked_65 rfl rfl ?_
            refine g_iconst X dX4_ranked_66 rfl (v := (nI 1)) rfl ?_
            refine g_callV X (ct_X4_booking hst hd (by omega) e5.2.1) dX4_ranked_67 rfl (lw_V q2036 q2038 qs37 q76 q2039) hyV_X4_booking (fun H hH => hR.recv X.2.2.2.2.2.2.2.1 hH mW_a rfl) (fun H hH => hH) ⟨Nat.le_of_ble_eq_true rfl, Nat.le_of_ble_eq_true rfl⟩ ⟨Nat.le_of_ble_eq_true rfl, Nat.le_of_ble_eq_true rfl⟩ (Nat.le_of_ble_eq_true rfl) rfl (fun x_67 => ?_)
            refine g_icmp_ge (tgt := 77) X dX4_ranked_70 rfl (by decide) (fun c_70 => ?_) (fun c_70 => ?_)
            · rw [nI_leI (by omega) (by omega)] at c_70
              refine g_iconst X dX4_ranked_77 rfl (v := (nI 0)) rfl ?_
              exact GJ.top (bI_f (fun g => g.elim c_49 (fun g => absurd g.2 (by omega)))).symm hj
            · rw [nI_leI (by omega) (by omega)] at c_70
              refine g_iconst X dX4_ranked_73 rfl (v := (nI 1)) rfl ?_
              refine g_goto (tgt := 78) X dX4_ranked_74 rfl (by decide) ?_
              exact GJ.top (bI_t (Or.inr ⟨c_54, by omega⟩)).symm hj
end M3
