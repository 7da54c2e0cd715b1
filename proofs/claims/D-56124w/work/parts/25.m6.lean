/-! MODEL, rankings, watching, means -/
section M6
variable {l : Launch} {Ω : Om} {h : RH} {a : Nat} {ad : Nat → Nat} {v : Nat → Int32} {F : Nat → Nat → Int32} {σ : St}
set_option maxRecDepth 100000
theorem ct_X4_guestByRides (hst : l.stackTraces = false) (hd : mDi a ad) (hM : MR (F 0) σ) (hB : Bd σ) {x : Int32} : CM Ω l yX4_guestByRides (ws_ yX4_guestByRides cX4_guestByRides 9 (some .int)) 10 0 0 [.ref a, .int x] (hR Ω (mW Ω h a ad v F)) (QP (some (.int (qA (qRkG σ x)))) (hR Ω (mW Ω h a ad (vU v 6 (qT (qRkG σ x))) F))) nX := by
  have b1 := hB.1
  have e0 := hM.1.2.1
  by_cases hx : okG σ x
  · rw [qRkG, cH_t hx]
    generalize hP : (fun one => nI (cN (rkG σ one) (nG σ)) = x) = P
    have hPk : ∀ k, P k ↔ nI (cN (rkG σ k) (nG σ)) = x := fun k => by rw [← hP]
    refine CM.of (L := [some (.ref a), some (.int x), none, none, none, none, none, none, none]) hst (by decide) (Nat.le_of_ble_eq_true rfl) rfl ?_
    intro p e s m below meth c X hnm htab
    refine g_iconst X dX4_guestByRides_0 rfl (v := (nI 0)) rfl ?_
    refine g_istore_n X dX4_guestByRides_1 rfl (by decide) rfl rfl ?_
    refine g_aload_n X dX4_guestByRides_2 rfl rfl ?_
    refine g_aload_n X dX4_guestByRides_3 rfl rfl ?_
    refine g_iload_n X dX4_guestByRides_4 rfl rfl ?_
    refine g_callV X (ct_X4_isGuest hst hd hM) dX4_guestByRides_5 rfl (lw_V q2012 q2014 qs31 q76 q2015) hyV_X4_isGuest (fun H hH => hR.recv X.2.2.2.2.2.2.2.1 hH mW_a rfl) (fun H hH => hH) ⟨Nat.le_of_ble_eq_true rfl, Nat.le_of_ble_eq_true rfl⟩ ⟨Nat.le_of_ble_eq_true rfl, Nat.le_of_ble_eq_true rfl⟩ (Nat.le_of_ble_eq_true rfl) rfl (fun x_5 => ?_)
    refine g_callV X (ct_X4_isThere hst (bI_f (fun g => g hx))) dX4_guestByRides_8 rfl (lw_V q2134 q2136 qs54 q76 q2137) hyV_X4_isThere (fun H hH => hR.recv X.2.2.2.2.2.2.2.1 hH mW_a rfl) (fun H hH => hH) ⟨Nat.le_of_ble_eq_true rfl, Nat.le_of_ble_eq_true rfl⟩ ⟨Nat.le_of_ble_eq_true rfl, Nat.le_of_ble_eq_true rfl⟩ (Nat.le_of_ble_eq_true rfl) rfl (fun x_8 => ?_)
    refine g_istore_n X dX4_guestByRides_11 rfl (by decide) rfl rfl ?_
    refine g_iconst X dX4_guestByRides_12 rfl (v := (nI 0)) rfl ?_
    refine g_istore X dX4_guestByRides_13 rfl (by decide) rfl rfl ?_
    refine GJ.loc ((fun (k : Nat) => [some (.ref a), some (.int x), some (.int (lst P (nI 0) k)), some (.int (bI (okG σ x))), some (.int (nI k)), none, none, none, none]) 0) (lvle_c rfl (lvle_c rfl (lvle_c rfl (lvle_c rfl (lvle_c rfl (lvle_n (lvle_n (lvle_n (lvle_n lvle_e))))))))) ?_
    refine GJ.loopP (fun (k : Nat) => [some (.ref a), some (.int x), some (.int (lst P (nI 0) k)), some (.int (bI (okG σ x))), some (.int (nI k)), none, none, none, none]) (fun (k : Nat) => (nG σ - k)) (fun (k : Nat) => (k ≤ nG σ)) 0 (Nat.zero_le _) ?_
    intro k hk ih
    refine g_iload X dX4_guestByRides_15 rfl rfl ?_
    refine g_aload_n X dX4_guestByRides_17 rfl rfl ?_
    refine g_get X dX4_guestByRides_18 rfl in_X4 (ci := 3) rfl 0 (by decide) q1916 (fun _ h => h) mW_a rfl ?_
    refine g_iconst X dX4_guestByRides_21 rfl (v := (nI 1)) rfl ?_
    refine g_ial X dX4_guestByRides_22 rfl (mW_0 hd) (vp_in_nI (by omega) (by decide)) (ix_v (by omega) e0) ?_
    refine g_icmp_ge (tgt := 143) X dX4_guestByRides_23 rfl (by decide) (fun c_23 => ?_) (fun c_23 => ?_)
    · rw [nI_leI (by omega) (by omega)] at c_23
      obtain rfl : k = nG σ := by omega
      refine g_iload_n X dX4_guestByRides_143 rfl rfl ?_
      refine g_iret X dX4_guestByRides_144 rfl (Nat.le_of_ble_eq_true rfl) (Nat.le_of_ble_eq_true rfl) (fun H hH => ⟨(), rfl, hH⟩)
    · rw [nI_leI (by omega) (by omega)] at c_23
      have hk2 : k < nG σ := by omega
      have b5 := hB.2.2.2.1 k hk2
      have e5 := hM.2.2.2.1 k hk2
      refine g_iload_n X dX4_guestByRides_26 rfl rfl ?_
      refine g_if_eq (tgt := 143) X dX4_guestByRides_27 rfl (by decide) (fun c => absurd hx (bI_0.mp c)) (fun c_27 => ?_)
      refine g_iconst X dX4_guestByRides_30 rfl (v := (nI 0)) rfl ?_
      refine g_istore X dX4_guestByRides_31 rfl (by decide) rfl rfl ?_
      refine g_iconst X dX4_guestByRides_33 rfl (v := (nI 0)) rfl ?_
      refine g_istore X dX4_guestByRides_34 rfl (by decide) rfl rfl ?_
      refine GJ.loc ((fun (j : Nat) => [some (.ref a), some (.int x), some (.int (lst P (nI 0) k)), some (.int (bI (okG σ x))), some (.int (nI k)), some (.int (nI (cN (rkG σ k) j))), some (.int (nI j)), none, none]) 0) (lvle_c rfl (lvle_c rfl (lvle_c rfl (lvle_c rfl (lvle_c rfl (lvle_c rfl (lvle_c rfl (lvle_n (lvle_n lvle_e))))))))) ?_
      refine GJ.loopP (fun (j : Nat) => [some (.ref a), some (.int x), some (.int (lst P (nI 0) k)), some (.int (bI (okG σ x))), some (.int (nI k)), some (.int (nI (cN (rkG σ k) j))), some (.int (nI j)), none, none]) (fun (j : Nat) => (nG σ - j)) (fun (j : Nat) => (j ≤ nG σ)) 0 (Nat.zero_le _) ?_
      intro j hj ihj
      refine g_iload X dX4_guestByRides_36 rfl rfl ?_
      refine g_aload_n X dX4_guestByRides_38 rfl rfl ?_
      refine g_get X dX4_guestByRides_39 rfl in_X4 (ci := 3) rfl 0 (by decide) q1916 (fun _ h => h) mW_a rfl ?_
      refine g_iconst X dX4_guestByRides_42 rfl (v := (nI 1)) rfl ?_
      refine g_ial X dX4_guestByRides_43 rfl (mW_0 hd) (vp_in_nI (by omega) (by decide)) (ix_v (by omega) e0) ?_
      refine g_icmp_ge (tgt := 124) X dX4_guestByRides_44 rfl (by decide) (fun c_44 => ?_) (fun c_44 => ?_)
      · rw [nI_leI (by omega) (by omega)] at c_44
        obtain rfl : j = nG σ := by omega
        refine GJ.cutv 136 (lst P (nI 0) (k + 1)) ?_ (fun hj => ?_)
        · refine g_istore_n X dX4_guestByRides_136 rfl (by decide) rfl rfl ?_
          refine g_iinc X dX4_guestByRides_137 rfl rfl (by first | exact nI_1 _ | rfl) (by decide) rfl rfl ?_
          refine g_goto (tgt := 15) X dX4_guestByRides_140 rfl (by decide) ?_
          refine GJ.loc [some (.ref a), some (.int x), some (.int (lst P (nI 0) (k + 1))), some (.int (bI (okG σ x))), some (.int (nI (k + 1))), none, none, none, none] (lvle_c rfl (lvle_c rfl (lvle_c rfl (lvle_c rfl (lvle_c rfl (lvle_n (lvle_n (lvle_n (lvle_n lvle_e))))))))) ?_
          exact ih (k + 1) (by omega) (by omega)
        · refine g_iload X dX4_guestByRides_124 rfl rfl ?_
          refine g_iload_n X dX4_guestByRides_126 rfl rfl ?_
          refine g_icmp_ne (tgt := 135) X dX4_guestByRides_127 rfl (by decide) (fun c_127 => ?_) (fun c_127 => ?_)
          · refine g_iload_n X dX4_guestByRides_135 rfl rfl ?_
            exact GJ.top (lst_f (fun g => c_127 ((hPk k).mp g))).symm hj
          · refine g_iload X dX4_guestByRides_130 rfl rfl ?_
            refine g_goto (tgt := 136) X dX4_guestByRides_132 rfl (by decide) ?_
            exact GJ.top (lst_t ((hPk k).mpr c_127)).symm hj
      · rw [nI_leI (by omega) (by omega)] at c_44
        have hj2 : j < nG σ := by omega
        have b6 := hB.2.2.2.1 j hj2
        have e6 := hM.2.2.2.1 j hj2
        refine g_aload_n X dX4_guestByRides_47 rfl rfl ?_
        refine g_iload X dX4_guestByRides_48 rfl rfl ?_
        refine g_iconst X dX4_guestByRides_50 rfl (v := (nI 1)) rfl ?_
        refine g_callV X (ct_X4_guest hst hd (by omega) e6.2.1) dX4_guestByRides_51 rfl (lw_V q2024 q2026 qs34 q76 q2027) hyV_X4_guest (fun H hH => hR.recv X.2.2.2.2.2.2.2.1 hH mW_a rfl) (fun H hH => hH) ⟨Nat.le_of_ble_eq_true rfl, Nat.le_of_ble_eq_true rfl⟩ ⟨Nat.le_of_ble_eq_true rfl, Nat.le_of_ble_eq_true rfl⟩ (Nat.le_of_ble_eq_true rfl) rfl (fun x_51 => ?_)
        refine g_aload_n X dX4_guestByRides_54 rfl rfl ?_
        refine g_iload X dX4_guestByRides_55 rfl rfl ?_
        refine g_iconst X dX4_guestByRides_57 rfl (v := (nI 1)) rfl ?_
        refine g_callV X (ct_X4_guest hst hd (by omega) e5.2.1) dX4_guestByRides_58 rfl (lw_V q2024 q2026 qs34 q76 q2027) hyV_X4_guest (fun H hH => hR.recv X.2.2.2.2.2.2.2.1 hH mW_a rfl) (fun H hH => hH) ⟨Nat.le_of_ble_eq_true rfl, Nat.le_of_ble_eq_true rfl⟩ ⟨Nat.le_of_ble_eq_true rfl, Nat.le_of_ble_eq_true rfl⟩ (Nat.le_of_ble_eq_true rfl) rfl (fun x_58 => ?_)
        refine g_isub X dX4_guestByRides_61 rfl rfl ?_
        refine g_istore X dX4_guestByRides_62 rfl (by decide) rfl rfl ?_
        refine g_aload_n X dX4_guestByRides_64 rfl rfl ?_
        refine g_iload X dX4_guestByRides_65 rfl rfl ?_
        refine g_iconst X dX4_guestByRides_67 rfl (v := (nI 0)) rfl ?_
        refine g_callV X (ct_X4_guest hst hd (by omega) e6.1) dX4_guestByRides_68 rfl (lw_V q2024 q2026 qs34 q76 q2027) hyV_X4_guest (fun H hH => hR.recv X.2.2.2.2.2.2.2.1 hH mW_a rfl) (fun H hH => hH) ⟨Nat.le_of_ble_eq_true rfl, Nat.le_of_ble_eq_true rfl⟩ ⟨Nat.le_of_ble_eq_true rfl, Nat.le_of_ble_eq_true rfl⟩ (Nat.le_of_ble_eq_true rfl) rfl (fun x_68 => ?_)
        refine g_aload_n X dX4_guestByRides_71 rfl rfl ?_
        refine g_iload X dX4_guestByRides_72 rfl rfl ?_
        refine g_iconst X dX4_guestByRides_74 rfl (v := (nI 0)) rfl ?_
        refine g_callV X (ct_X4_guest hst hd (by omega) e5.1) dX4_guestByRides_75 rfl (lw_V q2024 q2026 qs34 q76 q2027) hyV_X4_guest (fun H hH => hR.recv X.2.2.2.2.2.2.2.1 hH mW_a rfl) (fun H hH => hH) ⟨Nat.le_of_ble_eq_true rfl, Nat.le_of_ble_eq_true rfl⟩ ⟨Nat.le_of_ble_eq_true rfl, Nat.le_of_ble_eq_true rfl⟩ (Nat.le_of_ble_eq_true rfl) rfl (fun x_75 => ?_)
        refine g_isub X dX4_guestByRides_78 rfl rfl ?_
        refine g_istore X dX4_guestByRides_79 rfl (by decide) rfl rfl ?_
        refine g_iload X dX4_guestByRides_81 rfl rfl ?_
        refine GJ.cutv 115 (bI (rkG σ k j)) ?_ (fun hj => ?_)
        · refine g_iadd X dX4_guestByRides_115 rfl cN_ad0 ?_
          refine g_istore X dX4_guestByRides_116 rfl (by decide) rfl rfl ?_
          refine g_iinc X dX4_guestByRides_118 rfl rfl (by first | exact nI_1 _ | rfl) (by decide) rfl rfl ?_
          refine g_goto (tgt := 36) X dX4_guestByRides_121 rfl (by decide) ?_
          refine GJ.loc [some (.ref a), some (.int x), some (.int (lst P (nI 0) k)), some (.int (bI (okG σ x))), some (.int (nI k)), some (.int (nI (cN (rkG σ k) (j + 1)))), some (.int (nI (j + 1))), none, none] (lvle_c rfl (lvle_c rfl (lvle_c rfl (lvle_c rfl (lvle_c rfl (lvle_c rfl (lvle_c rfl (lvle_n (lvle_n lvle_e))))))))) ?_
          exact ihj (j + 1) (by omega) (by omega)
        · have yes : rkG σ k j → GJ Ω p l e (rmD 10 0 0) s m _ below meth c _ _ _ _ _ 115 _ _ := fun g => GJ.top (bI_t g).symm hj
          have no : ¬ rkG σ k j → GJ Ω p l e (rmD 10 0 0) s m _ below meth c _ _ _ _ _ 115 _ _ := fun g => GJ.top (bI_f g).symm hj
          refine g_iload X dX4_guestByRides_83 rfl rfl ?_
          refine g_if_gt (tgt := 110) X dX4_guestByRides_85 rfl (by decide) (fun c_85 => ?_) (fun c_85 => ?_)
          · rw [nI_sub_pos (by omega) (by omega)] at c_85
            refine g_iconst X dX4_guestByRides_110 rfl (v := (nI 1)) rfl ?_
            refine g_goto (tgt := 115) X dX4_guestByRides_111 rfl (by decide) ?_
            exact yes (Or.inl c_85)
          · rw [nI_sub_pos (by omega) (by omega)] at c_85
            refine g_iload X dX4_guestByRides_88 rfl rfl ?_
            refine g_if_ne (tgt := 114) X dX4_guestByRides_90 rfl (by decide) (fun c_90 => ?_) (fun c_90 => ?_)
            · rw [nI_sub_z (by omega) (by omega)] at c_90
              refine g_iconst X dX4_guestByRides_114 rfl (v := (nI 0)) rfl ?_
              exact no (fun g => by unfold rkG at g; omega)
            · rw [nI_sub_z (by omega) (by omega)] at c_90
              refine g_iload X dX4_guestByRides_93 rfl rfl ?_
              refine g_if_gt (tgt := 110) X dX4_guestByRides_95 rfl (by decide) (fun c_95 => ?_) (fun c_95 => ?_)
              · rw [nI_sub_pos (by omega) (by omega)] at c_95
                refine g_iconst X dX4_guestByRides_110 rfl (v := (nI 1)) rfl ?_
                refine g_goto (tgt := 115) X dX4_guestByRides_111 rfl (by decide) ?_
                exact yes (Or.inr ⟨c_90, Or.inl c_95⟩)
              · rw [nI_sub_pos (by omega) (by omega)] at c_95
                refine g_iload X dX4_guestByRides_98 rfl rfl ?_
                refine g_if_ne (tgt := 114) X dX4_guestByRides_100 rfl (by decide) (fun c_100 => ?_) (fun c_100 => ?_)
                · rw [nI_sub_z (by omega) (by omega)] at c_100
                  refine g_iconst X dX4_guestByRides_114 rfl (v := (nI 0)) rfl ?_
                  exact no (fun g => by unfold rkG at g; omega)
                · rw [nI_sub_z (by omega) (by omega)] at c_100
                  refine g_iload X dX4_guestByRides_103 rfl rfl ?_
                  refine g_iload X dX4_guestByRides_105 rfl rfl ?_
                  refine g_icmp_ge (tgt := 114) X dX4_guestByRides_107 rfl (by decide) (fun c_107 => ?_) (fun c_107 => ?_)
                  · rw [nI_leI (by omega) (by omega)] at c_107
                    refine g_iconst X dX4_guestByRides_114 rfl (v := (nI 0)) rfl ?_
                    exact no (fun g => by unfold rkG at g; omega)
                  · rw [nI_leI (by omega) (by omega)] at c_107
                    refine g_iconst X dX4_guestByRides_110 rfl (v := (nI 1)) rfl ?_
                    refine g_goto (tgt := 115) X dX4_guestByRides_111 rfl (by decide) ?_
                    exact yes (Or.inr ⟨c_90, Or.inr ⟨c_100, by omega⟩⟩)
  · rw [qRkG, cH_f hx]
    refine CM.of (L := [some (.ref a), some (.int x), none, none, none, none, none, none, none]) hst (by decide) (Nat.le_of_ble_eq_true rfl) rfl ?_
    intro p e s m below meth c X hnm htab
    refine g_iconst X dX4_guestByRides_0 rfl (v := (nI 0)) rfl ?_
    refine g_istore_n X dX4_guestByRides_1 rfl (by decide) rfl rfl ?_
    refine g_aload_n X dX4_guestByRides_2 rfl rfl ?_
    refine g_aload_n X dX4_guestByRides_3 rfl rfl ?_
    refine g_iload_n X dX4_guestByRides_4 rfl rfl ?_
    refine g_callV X (ct_X4_isGuest hst hd hM) dX4_guestByRides_5 rfl (lw_V q2012 q2014 qs31 q76 q2015) hyV_X4_isGuest (fun H hH => hR.recv X.2.2.2.2.2.2.2.1 hH mW_a rfl) (fun H hH => hH) ⟨Nat.le_of_ble_eq_true rfl, Nat.le_of_ble_eq_true rfl⟩ ⟨Nat.le_of_ble_eq_true rfl, Nat.le_of_ble_eq_true rfl⟩ (Nat.le_of_ble_eq_true rfl) rfl (fun x_5 => ?_)
    refine g_callV X (ct_X4_isThere hst (bI_t hx)) dX4_guestByRides_8 rfl (lw_V q2134 q2136 qs54 q76 q2137) hyV_X4_isThere (fun H hH => hR.recv X.2.2.2.2.2.2.2.1 hH mW_a rfl) (fun H hH => hH) ⟨Nat.le_of_ble_eq_true rfl, Nat.le_of_ble_eq_true rfl⟩ ⟨Nat.le_of_ble_eq_true rfl, Nat.le_of_ble_eq_true rfl⟩ (Nat.le_of_ble_eq_true rfl) rfl (fun x_8 => ?_)
    refine g_istore_n X dX4_guestByRides_11 rfl (by decide) rfl rfl ?_
    refine g_iconst X dX4_guestByRides_12 rfl (v := (nI 0)) rfl ?_
    refine g_istore X dX4_guestByRides_13 rfl (by decide) rfl rfl ?_
    refine g_iload X dX4_guestByRides_15 rfl rfl ?_
    refine g_aload_n X dX4_guestByRides_17 rfl rfl ?_
    refine g_get X dX4_guestByRides_18 rfl in_X4 (ci := 3) rfl 0 (by decide) q1916 (fun _ h => h) mW_a rfl ?_
    refine g_iconst X dX4_guestByRides_21 rfl (v := (nI 1)) rfl ?_
    refine g_ial X dX4_guestByRides_22 rfl (mW_0 hd) (vp_in_nI (by omega) (by decide)) (ix_v (by omega) e0) ?_
    refine g_icmp_ge (tgt := 143) X dX4_guestByRides_23 rfl (by decide) (fun c_23 => ?_) (fun c_23 => ?_)
    · refine g_iload_n X dX4_guestByRides_143 rfl rfl ?_
      refine g_iret X dX4_guestByRides_144 rfl (Nat.le_of_ble_eq_true rfl) (Nat.le_of_ble_eq_true rfl) (fun H hH => ⟨(), rfl, hH⟩)
    · refine g_iload_n X dX4_guestByRides_26 rfl rfl ?_
      refine g_if_eq (tgt := 143) X dX4_guestByRides_27 rfl (by decide) (fun c_27 => ?_) (fun c => absurd (bI_n0.mp c) hx)
      refine g_iload_n X dX4_guestByRides_143 rfl rfl ?_
      refine g_iret X dX4_guestByRides_144 rfl (Nat.le_of_ble_eq_true rfl) (Nat.le_of_ble_eq_true rfl) (fun H hH => ⟨(), rfl, hH⟩)
theorem ct_X4_slideByWetness (hst : l.stackTraces = false) (hd : mDi a ad) (hM : MR (F 0) σ) (hB : Bd σ) {x : Int32} : CM Ω l yX4_slideByWetness (ws_ yX4_slideByWetness cX4_slideByWetness 8 (some .int)) 10 0 0 [.ref a, .int x] (hR Ω (mW Ω h a ad v F)) (QP (some (.int (qA (qRkS σ x)))) (hR Ω (mW Ω h a ad (vU v 6 (qT (qRkS σ x))) F))) nX := by
  have b1 := hB.1
  have e0 := hM.1.1
  by_cases hx : okS σ x
  · rw [qRkS, cH_t hx]
    generalize hP : (fun one => nI (cN (rkS σ one) (nS σ)) = x) = P
    have hPk : ∀ k, P k ↔ nI (cN (rkS σ k) (nS σ)) = x := fun k => by rw [← hP]
    refine CM.of (L := [some (.ref a), some (.int x), none, none, none, none, none, none]) hst (by decide) (Nat.le_of_ble_eq_true rfl) rfl ?_
    intro p e s m below meth c X hnm htab
    refine g_iconst X dX4_slideByWetness_0 rfl (v := (nI 0)) rfl ?_
    refine g_istore_n X dX4_slideByWetness_1 rfl (by decide) rfl rfl ?_
    refine g_aload_n X dX4_slideByWetness_2 rfl rfl ?_
    refine g_aload_n X dX4_slideByWetness_3 rfl rfl ?_
    refine g_iload_n X dX4_slideByWetness_4 rfl rfl ?_
    refine g_callV X (ct_X4_isSlide hst hd hM) dX4_slideByWetness_5 rfl (lw_V q2016 q2018 qs32 q76 q2019) hyV_X4_isSlide (fun H hH => hR.recv X.2.2.2.2.2.2.2.1 hH mW_a rfl) (fun H hH => hH) ⟨Nat.le_of_ble_eq_true rfl, Nat.le_of_ble_eq_true rfl⟩ ⟨Nat.le_of_ble_eq_true rfl, Nat.le_of_ble_eq_true rfl⟩ (Nat.le_of_ble_eq_true rfl) rfl (fun x_5 => ?_)
    refine g_callV X (ct_X4_isThere hst (bI_f (fun g => g hx))) dX4_slideByWetness_8 rfl (lw_V q2134 q2136 qs54 q76 q2137) hyV_X4_isThere (fun H hH => hR.recv X.2.2.2.2.2.2.2.1 hH mW_a rfl) (fun H hH => hH) ⟨Nat.le_of_ble_eq_true rfl, Nat.le_of_ble_eq_true rfl⟩ ⟨Nat.le_of_ble_eq_true rfl, Nat.le_of_ble_eq_true rfl⟩ (Nat.le_of_ble_eq_true rfl) rfl (fun x_8 => ?_)
    refine g_istore_n X dX4_slideByWetness_11 rfl (by decide) rfl rfl ?_
    refine g_iconst X dX4_slideByWetness_12 rfl (v := (nI 0)) rfl ?_
    refine g_istore X dX4_slideByWetness_13 rfl (by decide) rfl rfl ?_
    refine GJ.loc ((fun (k : Nat) => [some (.ref a), some (.int x), some (.int (lst P (nI 0) k)), some (.int (bI (okS σ x))), some (.int (nI k)), none, none, none]) 0) (lvle_c rfl (lvle_c rfl (lvle_c rfl (lvle_c rfl (lvle_c rfl (lvle_n (lvle_n (lvle_n lvle_e)))))))) ?_
    refine GJ.loopP (fun (k : Nat) => [some (.ref a), some (.int x), some (.int (lst P (nI 0) k)), some (.int (bI (okS σ x))), some (.int (nI k)), none, none, none]) (fun (k : Nat) => (nS σ - k)) (fun (k : Nat) => (k ≤ nS σ)) 0 (Nat.zero_le _) ?_
    intro k hk ih
    refine g_iload X dX4_slideByWetness_15 rfl rfl ?_
    refine g_aload_n X dX4_slideByWetness_17 rfl rfl ?_
    refine g_get X dX4_slideByWetness_18 rfl in_X4 (ci := 3) rfl 0 (by decide) q1916 (fun _ h => h) mW_a rfl ?_
    refine g_iconst X dX4_slideByWetness_21 rfl (v := (nI 0)) rfl ?_
    refine g_ial X dX4_slideByWetness_22 rfl (mW_0 hd) (vp_in_nI (by omega) (by decide)) (ix_v (by omega) e0) ?_
    refine g_icmp_ge (tgt := 116) X dX4_slideByWetness_23 rfl (by decide) (fun c_23 => ?_) (fun c_23 => ?_)
    · rw [nI_leI (by omega) (by omega)] at c_23
      obtain rfl : k = nS σ := by omega
      refine g_iload_n X dX4_slideByWetness_116 rfl rfl ?_
      refine g_iret X dX4_slideByWetness_117 rfl (Nat.le_of_ble_eq_true rfl) (Nat.le_of_ble_eq_true rfl) (fun H hH => ⟨(), rfl, hH⟩)
    · rw [nI_leI (by omega) (by omega)] at c_23
      have hk2 : k < nS σ := by omega
      have b5 := hB.2.1 k hk2
      have e5 := hM.2.1 k hk2
      refine g_iload_n X dX4_slideByWetness_26 rfl rfl ?_
      refine g_if_eq (tgt := 116) X dX4_slideByWetness_27 rfl (by decide) (fun c => absurd hx (bI_0.mp c)) (fun c_27 => ?_)
      refine g_iconst X dX4_slideByWetness_30 rfl (v := (nI 0)) rfl ?_
      refine g_istore X dX4_slideByWetness_31 rfl (by decide) rfl rfl ?_
      refine g_iconst X dX4_slideByWetness_33 rfl (v := (nI 0)) rfl ?_
      refine g_istore X dX4_slideByWetness_34 rfl (by decide) rfl rfl ?_
      refine GJ.loc ((fun (j : Nat) => [some (.ref a), some (.int x), some (.int (lst P (nI 0) k)), some (.int (bI (okS σ x))), some (.int (nI k)), some (.int (nI (cN (rkS σ k) j))), some (.int (nI j)), none]) 0) (lvle_c rfl (lvle_c rfl (lvle_c rfl (lvle_c rfl (lvle_c rfl (lvle_c rfl (lvle_c rfl (lvle_n lvle_e)))))))) ?_
      refine GJ.loopP (fun (j : Nat) => [some (.ref a), some (.int x), some (.int (lst P (nI 0) k)), some (.int (bI (okS σ x))), some (.int (nI k)), some (.int (nI (cN (rkS σ k) j))), some (.int (nI j)), none]) (fun (j : Nat) => (nS σ - j)) (fun (j : Nat) => (j ≤ nS σ)) 0 (Nat.zero_le _) ?_
      intro j hj ihj
      refine g_iload X dX4_slideByWetness_36 rfl rfl ?_
      refine g_aload_n X dX4_slideByWetness_38 rfl rfl ?_
      refine g_get X dX4_slideByWetness_39 rfl in_X4 (ci := 3) rfl 0 (by decide) q1916 (fun _ h => h) mW_a rfl ?_
      refine g_iconst X dX4_slideByWetness_42 rfl (v := (nI 0)) rfl ?_
      refine g_ial X dX4_slideByWetness_43 rfl (mW_0 hd) (vp_in_nI (by omega) (by decide)) (ix_v (by omega) e0) ?_
      refine g_icmp_ge (tgt := 97) X dX4_slideByWetness_44 rfl (by decide) (fun c_44 => ?_) (fun c_44 => ?_)
      · rw [nI_leI (by omega) (by omega)] at c_44
        obtain rfl : j = nS σ := by omega
        refine GJ.cutv 109 (lst P (nI 0) (k + 1)) ?_ (fun hj => ?_)
        · refine g_istore_n X dX4_slideByWetness_109 rfl (by decide) rfl rfl ?_
          refine g_iinc X dX4_slideByWetness_110 rfl rfl (by first | exact nI_1 _ | rfl) (by decide) rfl rfl ?_
          refine g_goto (tgt := 15) X dX4_slideByWetness_113 rfl (by decide) ?_
          refine GJ.loc [some (.ref a), some (.int x), some (.int (lst P (nI 0) (k + 1))), some (.int (bI (okS σ x))), some (.int (nI (k + 1))), none, none, none] (lvle_c rfl (lvle_c rfl (lvle_c rfl (lvle_c rfl (lvle_c rfl (lvle_n (lvle_n (lvle_n lvle_e)))))))) ?_
          exact ih (k + 1) (by omega) (by omega)
        · refine g_iload X dX4_slideByWetness_97 rfl rfl ?_
          refine g_iload_n X dX4_slideByWetness_99 rfl rfl ?_
          refine g_icmp_ne (tgt := 108) X dX4_slideByWetness_100 rfl (by decide) (fun c_100 => ?_) (fun c_100 => ?_)
          · refine g_iload_n X dX4_slideByWetness_108 rfl rfl ?_
            exact GJ.top (lst_f (fun g => c_100 ((hPk k).mp g))).symm hj
          · refine g_iload X dX4_slideByWetness_103 rfl rfl ?_
            refine g_goto (tgt := 109) X dX4_slideByWetness_105 rfl (by decide) ?_
            exact GJ.top (lst_t ((hPk k).mpr c_100)).symm hj
      · rw [nI_leI (by omega) (by omega)] at c_44
        have hj2 : j < nS σ := by omega
        have b6 := hB.2.1 j hj2
        have e6 := hM.2.1 j hj2
        refine g_aload_n X dX4_slideByWetness_47 rfl rfl ?_
        refine g_iload X dX4_slideByWetness_48 rfl rfl ?_
        refine g_iconst X dX4_slideByWetness_50 rfl (v := (nI 2)) rfl ?_
        refine g_callV X (ct_X4_slide hst hd (by omega) e6.2.2.1) dX4_slideByWetness_51 rfl (lw_V q2028 q2030 qs35 q76 q2031) hyV_X4_slide (fun H hH => hR.recv X.2.2.2.2.2.2.2.1 hH mW_a rfl) (fun H hH => hH) ⟨Nat.le_of_ble_eq_true rfl, Nat.le_of_ble_eq_true rfl⟩ ⟨Nat.le_of_ble_eq_true rfl, Nat.le_of_ble_eq_true rfl⟩ (Nat.le_of_ble_eq_true rfl) rfl (fun x_51 => ?_)
        refine g_aload_n X dX4_slideByWetness_54 rfl rfl ?_
        refine g_iload X dX4_slideByWetness_55 rfl rfl ?_
        refine g_iconst X dX4_slideByWetness_57 rfl (v := (nI 2)) rfl ?_
        refine g_callV X (ct_X4_slide hst hd (by omega) e5.2.2.1) dX4_slideByWetness_58 rfl (lw_V q2028 q2030 qs35 q76 q2031) hyV_X4_slide (fun H hH => hR.recv X.2.2.2.2.2.2.2.1 hH mW_a rfl) (fun H hH => hH) ⟨Nat.le_of_ble_eq_true rfl, Nat.le_of_ble_eq_true rfl⟩ ⟨Nat.le_of_ble_eq_true rfl, Nat.le_of_ble_eq_true rfl⟩ (Nat.le_of_ble_eq_true rfl) rfl (fun x_58 => ?_)
        refine g_isub X dX4_slideByWetness_61 rfl rfl ?_
        refine g_istore X dX4_slideByWetness_62 rfl (by decide) rfl rfl ?_
        refine g_iload X dX4_slideByWetness_64 rfl rfl ?_
        refine GJ.cutv 88 (bI (rkS σ k j)) ?_ (fun hj => ?_)
        · refine g_iadd X dX4_slideByWetness_88 rfl cN_ad0 ?_
          refine g_istore X dX4_slideByWetness_89 rfl (by decide) rfl rfl ?_
          refine g_iinc X dX4_slideByWetness_91 rfl rfl (by first | exact nI_1 _ | rfl) (by decide) rfl rfl ?_
          refine g_goto (tgt := 36) X dX4_slideByWetness_94 rfl (by decide) ?_
          refine GJ.loc [some (.ref a), some (.int x), some (.int (lst P (nI 0) k)), some (.int (bI (okS σ x))), some (.int (nI k)), some (.int (nI (cN (rkS σ k) (j + 1)))), some (.int (nI (j + 1))), none] (lvle_c rfl (lvle_c rfl (lvle_c rfl (lvle_c rfl (lvle_c rfl (lvle_c rfl (lvle_c rfl (lvle_n lvle_e)))))))) ?_
          exact ihj (j + 1) (by omega) (by omega)
        · have yes : rkS σ k j → GJ Ω p l e (rmD 10 0 0) s m _ below meth c _ _ _ _ _ 88 _ _ := fun g => GJ.top (bI_t g).symm hj
          have no : ¬ rkS σ k j → GJ Ω p l e (rmD 10 0 0) s m _ below meth c _ _ _ _ _ 88 _ _ := fun g => GJ.top (bI_f g).symm hj
          refine g_iload X dX4_slideByWetness_66 rfl rfl ?_
          refine g_if_gt (tgt := 83) X dX4_slideByWetness_68 rfl (by decide) (fun c_68 => ?_) (fun c_68 => ?_)
          · rw [nI_sub_pos (by omega) (by omega)] at c_68
            refine g_iconst X dX4_slideByWetness_83 rfl (v := (nI 1)) rfl ?_
            refine g_goto (tgt := 88) X dX4_slideByWetness_84 rfl (by decide) ?_
            exact yes (Or.inl c_68)
          · rw [nI_sub_pos (by omega) (by omega)] at c_68
            refine g_iload X dX4_slideByWetness_71 rfl rfl ?_
            refine g_if_ne (tgt := 87) X dX4_slideByWetness_73 rfl (by decide) (fun c_73 => ?_) (fun c_73 => ?_)
            · rw [nI_sub_z (by omega) (by omega)] at c_73
              refine g_iconst X dX4_slideByWetness_87 rfl (v := (nI 0)) rfl ?_
              exact no (fun g => by unfold rkS at g; omega)
            · rw [nI_sub_z (by omega) (by omega)] at c_73
              refine g_iload X dX4_slideByWetness_76 rfl rfl ?_
              refine g_iload X dX4_slideByWetness_78 rfl rfl ?_
              refine g_icmp_ge (tgt := 87) X dX4_slideByWetness_80 rfl (by decide) (fun c_80 => ?_) (fun c_80 => ?_)
              · rw [nI_leI (by omega) (by omega)] at c_80
                refine g_iconst X dX4_slideByWetness_87 rfl (v := (nI 0)) rfl ?_
                exact no (fun g => by unfold rkS at g; omega)
              · rw [nI_leI (by omega) (by omega)] at c_80
                refine g_iconst X dX4_slideByWetness_83 rfl (v := (nI 1)) rfl ?_
                refine g_goto (tgt := 88) X dX4_slideByWetness_84 rfl (by decide) ?_
                exact yes (Or.inr ⟨c_73, by omega⟩)
  · rw [qRkS, cH_f hx]
    refine CM.of (L := [some (.ref a), some (.int x), none, none, none, none, none, none]) hst (by decide) (Nat.le_of_ble_eq_true rfl) rfl ?_
    intro p e s m below meth c X hnm htab
    refine g_iconst X dX4_slideByWetness_0 rfl (v := (nI 0)) rfl ?_
    refine g_istore_n X dX4_slideByWetness_1 rfl (by decide) rfl rfl ?_
    refine g_aload_n X dX4_slideByWetness_2 rfl rfl ?_
    refine g_aload_n X dX4_slideByWetness_3 rfl rfl ?_
    refine g_iload_n X dX4_slideByWetness_4 rfl rfl ?_
    refine g_callV X (ct_X4_isSlide hst hd hM) dX4_slideByWetness_5 rfl (lw_V q2016 q2018 qs32 q76 q2019) hyV_X4_isSlide (fun H hH => hR.recv X.2.2.2.2.2.2.2.1 hH mW_a rfl) (fun H hH => hH) ⟨Nat.le_of_ble_eq_true rfl, Nat.le_of_ble_eq_true rfl⟩ ⟨Nat.le_of_ble_eq_true rfl, Nat.le_of_ble_eq_true rfl⟩ (Nat.le_of_ble_eq_true rfl) rfl (fun x_5 => ?_)
    refine g_callV X (ct_X4_isThere hst (bI_t hx)) dX4_slideByWetness_8 rfl (lw_V q2134 q2136 qs54 q76 q2137) hyV_X4_isThere (fun H hH => hR.recv X.2.2.2.2.2.2.2.1 hH mW_a rfl) (fun H hH => hH) ⟨Nat.le_of_ble_eq_true rfl, Nat.le_of_ble_eq_true rfl⟩ ⟨Nat.le_of_ble_eq_true rfl, Nat.le_of_ble_eq_true rfl⟩ (Nat.le_of_ble_eq_true rfl) rfl (fun x_8 => ?_)
    refine g_istore_n X dX4_slideByWetness_11 rfl (by decide) rfl rfl ?_
    refine g_iconst X dX4_slideByWetness_12 rfl (v := (nI 0)) rfl ?_
    refine g_istore X dX4_slideByWetness_13 rfl (by decide) rfl rfl ?_
    refine g_iload X dX4_slideByWetness_15 rfl rfl ?_
    refine g_aload_n X dX4_slideByWetness_17 rfl rfl ?_
    refine g_get X dX4_slideByWetness_18 rfl in_X4 (ci := 3) rfl 0 (by decide) q1916 (fun _ h => h) mW_a rfl ?_
    refine g_iconst X dX4_slideByWetness_21 rfl (v := (nI 0)) rfl ?_
    refine g_ial X dX4_slideByWetness_22 rfl (mW_0 hd) (vp_in_nI (by omega) (by decide)) (ix_v (by omega) e0) ?_
    refine g_icmp_ge (tgt := 116) X dX4_slideByWetness_23 rfl (by decide) (fun c_23 => ?_) (fun c_23 => ?_)
    · refine g_iload_n X dX4_slideByWetness_116 rfl rfl ?_
      refine g_iret X dX4_slideByWetness_117 rfl (Nat.le_of_ble_eq_true rfl) (Nat.le_of_ble_eq_true rfl) (fun H hH => ⟨(), rfl, hH⟩)
    · refine g_iload_n X dX4_slideByWetness_26 rfl rfl ?_
      refine g_if_eq (tgt := 116) X dX4_slideByWetness_27 rfl (by decide) (fun c_27 => ?_) (fun c => absurd (bI_n0.mp c) hx)
      refine g_iload_n X dX4_slideByWetness_116 rfl rfl ?_
      refine g_iret X dX4_slideByWetness_117 rfl (Nat.le_of_ble_eq_true rfl) (Nat.le_of_ble_eq_true rfl) (fun H hH => ⟨(), rfl, hH⟩)
theorem ct_X4_mostWatched (hst : l.stackTraces = false) (hd : mDi a ad) (hM : MR (F 0) σ) (hB : Bd σ) : CM Ω l yX4_mostWatched (ws_ yX4_mostWatched cX4_mostWatched 6 (some .int)) 10 0 0 [.ref a] (hR Ω (mW Ω h a ad v F)) (QP (some (.int (nI (aWatch σ)))) (hR Ω (mW Ω h a ad (vU v 6 (nI 0)) F))) nX := by
  have b1 := hB.1
  have e0 := hM.1.2.2.1
  have b5 := hB.2.2.2.2.1
  have hE : ∀ k, k < nB σ → boT σ k < boE σ k ∧ boE σ k < 200000 := fun k hk => by
    have := hB.2.1 _ (b5 k hk).2.1
    have := b5 k hk
    have e6 : boE σ k = boT σ k + slD σ (boS σ k) := rfl
    omega
  have hMx : (2147483647 : Int32) = nI 2147483647 := by decide
  refine CM.of (L := [some (.ref a), none, none, none, none, none]) hst (by decide) (Nat.le_of_ble_eq_true rfl) rfl ?_
  intro p e s m below meth c X hnm htab
  refine g_aload_n X dX4_mostWatched_0 rfl rfl ?_
  refine g_iconst X dX4_mostWatched_1 rfl (v := (nI 0)) rfl ?_
  refine g_put X dX4_mostWatched_2 rfl in_X4 tyX4_ok nmX4 (ci := 3) rfl 6 (by decide) q1922 (fun _ h => h) rfl rfl rfl rfl mW_a (Nat.le_of_ble_eq_true rfl) mW_u6 ?_
  refine g_iconst X dX4_mostWatched_5 rfl (v := (nI 0)) rfl ?_
  refine g_istore_n X dX4_mostWatched_6 rfl (by decide) rfl rfl ?_
  refine g_iconst X dX4_mostWatched_7 rfl (v := (-1)) rfl ?_
  refine g_istore_n X dX4_mostWatched_8 rfl (by decide) rfl rfl ?_
  refine g_iconst X dX4_mostWatched_9 rfl (v := (nI 1)) rfl ?_
  refine g_istore_n X dX4_mostWatched_10 rfl (by decide) rfl rfl ?_
  refine GJ.loc ((fun (x : Nat × Nat × Int32 × Nat) => [some (.ref a), some (.int (nI x.2.2.2)), some (.int x.2.2.1), some (.int (nI 1)), none, none]) (nB σ + 1, 0, (-1), 0)) (lvle_c rfl (lvle_c rfl (lvle_c rfl (lvle_c rfl (lvle_n (lvle_n lvle_e)))))) ?_
  refine GJ.loopP (fun (x : Nat × Nat × Int32 × Nat) => [some (.ref a), some (.int (nI x.2.2.2)), some (.int x.2.2.1), some (.int (nI 1)), none, none]) (fun x => x.1) (fun x => aWat σ x.1 x.2.1 x.2.2.2 = aWatch σ ∧ cN (fun k => x.2.1 ≤ boT σ k) (nB σ) < x.1 ∧ (∀ k, k < nB σ → (x.2.2.1 ≤ nI (boT σ k) ↔ x.2.1 ≤ boT σ k)) ∧ x.2.2.2 + x.1 ≤ 100) (nB σ + 1, 0, (-1), 0) ⟨rfl, Nat.lt_succ_of_le (cN_le _ _), fun k hk => ⟨fun _ => Nat.zero_le _, fun _ => ?_⟩, by show 0 + (nB σ + 1) ≤ 100; omega⟩ ?_
  · exact Int32.le_of_lt (Int32.lt_of_lt_of_le nI_m1lt (nI_pos' (by have := b5 k hk; omega)))
  rintro ⟨n, lo, lv, cnt⟩ ⟨i1, i2, i3, i4⟩ ih
  dsimp only at i1 i2 i3 i4 ih ⊢
  refine g_iload_n X dX4_mostWatched_11 rfl rfl ?_
  refine g_if_eq (tgt := 98) X dX4_mostWatched_12 rfl (by decide) (fun c => absurd c (by decide)) (fun c_12 => ?_)
  refine g_ldcI X dX4_mostWatched_15 rfl q2215 ?_
  refine g_istore X dX4_mostWatched_17 rfl (by decide) rfl rfl ?_
  refine g_iconst X dX4_mostWatched_19 rfl (v := (nI 0)) rfl ?_
  refine g_istore X dX4_mostWatched_20 rfl (by decide) rfl rfl ?_
  rw [hMx]
  refine GJ.loc ((fun (k : Nat) => [some (.ref a), some (.int (nI cnt)), some (.int lv), some (.int (nI 1)), some (.int (nI (aBest σ lo k))), some (.int (nI k))]) 0) (lvle_c rfl (lvle_c rfl (lvle_c rfl (lvle_c rfl (lvle_c rfl (lvle_c rfl lvle_e)))))) ?_
  refine GJ.loopP (fun (k : Nat) => [some (.ref a), some (.int (nI cnt)), some (.int lv), some (.int (nI 1)), some (.int (nI (aBest σ lo k))), some (.int (nI k))]) (fun (k : Nat) => (nB σ - k)) (fun (k : Nat) => (k ≤ nB σ)) 0 (Nat.zero_le _) ?_
  intro k hk ihk
  have hbl := aBest_le σ lo k
  refine g_iload X dX4_mostWatched_22 rfl rfl ?_
  refine g_aload_n X dX4_mostWatched_24 rfl rfl ?_
  refine g_get X dX4_mostWatched_25 rfl in_X4 (ci := 3) rfl 0 (by decide) q1916 (fun _ h => h) mW_a rfl ?_
  refine g_iconst X dX4_mostWatched_28 rfl (v := (nI 2)) rfl ?_
  refine g_ial X dX4_mostWatched_29 rfl (mW_0 hd) (vp_in_nI (by omega) (by decide)) (ix_v (by omega) e0) ?_
  refine g_icmp_ge (tgt := 67) X dX4_mostWatched_30 rfl (by decide) (fun c_30 => ?_) (fun c_30 => ?_)
  · rw [nI_leI (by omega) (by omega)] at c_30
    obtain rfl : k = nB σ := by omega
    refine GJ.cutv 79 (bI (aBest σ lo (nB σ) < 2147483647)) ?_ (fun hj => ?_)
    · by_cases hlt : aBest σ lo (nB σ) < 2147483647
      · rw [bI_t hlt]
        obtain ⟨n', rfl⟩ : ∃ n', n = n' + 1 := ⟨n - 1, by omega⟩
        rw [aWat, cH_t hlt] at i1
        refine g_istore_n X dX4_mostWatched_79 rfl (by decide) rfl rfl ?_
        refine g_iload_n X dX4_mostWatched_80 rfl rfl ?_
        refine g_iload_n X dX4_mostWatched_81 rfl rfl ?_
        refine g_if_eq (tgt := 89) X dX4_mostWatched_82 rfl (by decide) (fun c => absurd c (by decide)) (fun c_82 => ?_)
        refine g_iconst X dX4_mostWatched_85 rfl (v := (nI 1)) rfl ?_
        refine g_goto (tgt := 90) X dX4_mostWatched_86 rfl (by decide) ?_
        refine g_iadd X dX4_mostWatched_90 rfl (by first | exact nI_add _ _ | rfl) ?_
        refine g_istore_n X dX4_mostWatched_91 rfl (by decide) rfl rfl ?_
        refine g_iload X dX4_mostWatched_92 rfl rfl ?_
        refine g_istore_n X dX4_mostWatched_94 rfl (by decide) rfl rfl ?_
        refine g_goto (tgt := 11) X dX4_mostWatched_95 rfl (by decide) ?_
        refine GJ.loc [some (.ref a), some (.int (nI (cnt + 1))), some (.int (nI (aBest σ lo (nB σ)))), some (.int (nI 1)), none, none] (lvle_c rfl (lvle_c rfl (lvle_c rfl (lvle_c rfl (lvle_n (lvle_n lvle_e)))))) ?_
        refine ih (n', aBest σ lo (nB σ), nI (aBest σ lo (nB σ)), cnt + 1) ⟨i1, ?_, fun k hk => ?_, by show cnt + 1 + n' ≤ 100; omega⟩ (Nat.lt_succ_self n')
        · show cN (fun k => aBest σ lo (nB σ) ≤ boT σ k) (nB σ) < n'
          rcases aBest_or σ lo (nB σ) with ⟨g1, -⟩ | ⟨k, g1, g2, g3, g4⟩
          · omega
          · have := cN_lt (P := fun k => aBest σ lo (nB σ) ≤ boT σ k) (P' := fun k => lo ≤ boT σ k) (n := nB σ) (fun j hj h9 => by have := hE k g1; omega) g1 g2 (by have := hE k g1; omega)
            omega
        · have := b5 k hk
          exact nI_leI (by have := hbl; omega) (by omega)
      · rw [bI_f hlt]
        have i5 : aWatch σ = cnt := by
          rw [← i1]
          cases n with
          | zero => rfl
          | succ n => rw [aWat, cH_f hlt]
        rw [i5]
        refine g_istore_n X dX4_mostWatched_79 rfl (by decide) rfl rfl ?_
        refine g_iload_n X dX4_mostWatched_80 rfl rfl ?_
        refine g_iload_n X dX4_mostWatched_81 rfl rfl ?_
        refine g_if_eq (tgt := 89) X dX4_mostWatched_82 rfl (by decide) (fun c_82 => ?_) (fun c => absurd rfl c)
        refine g_iconst X dX4_mostWatched_89 rfl (v := (nI 0)) rfl ?_
        refine g_iadd X dX4_mostWatched_90 rfl (by first | exact nI_add _ _ | rfl) ?_
        refine g_istore_n X dX4_mostWatched_91 rfl (by decide) rfl rfl ?_
        refine g_iload X dX4_mostWatched_92 rfl rfl ?_
        refine g_istore_n X dX4_mostWatched_94 rfl (by decide) rfl rfl ?_
        refine g_goto (tgt := 11) X dX4_mostWatched_95 rfl (by decide) ?_
        refine g_iload_n X dX4_mostWatched_11 rfl rfl ?_
        refine g_if_eq (tgt := 98) X dX4_mostWatched_12 rfl (by decide) (fun c_12 => ?_) (fun c => absurd rfl c)
        refine g_iload_n X dX4_mostWatched_98 rfl rfl ?_
        refine g_iret X dX4_mostWatched_99 rfl (Nat.le_of_ble_eq_true rfl) (Nat.le_of_ble_eq_true rfl) (fun H hH => ⟨(), rfl, hH⟩)
    · refine g_iload X dX4_mostWatched_67 rfl rfl ?_
      refine g_ldcI X dX4_mostWatched_69 rfl q2215 ?_
      rw [hMx]
      refine g_icmp_ge (tgt := 78) X dX4_mostWatched_71 rfl (by decide) (fun c_71 => ?_) (fun c_71 => ?_)
      · rw [nI_leI (by omega) (by omega)] at c_71
        refine g_iconst X dX4_mostWatched_78 rfl (v := (nI 0)) rfl ?_
        exact GJ.top (bI_f (by omega)).symm hj
      · rw [nI_leI (by omega) (by omega)] at c_71
        refine g_iconst X dX4_mostWatched_74 rfl (v := (nI 1)) rfl ?_
        refine g_goto (tgt := 79) X dX4_mostWatched_75 rfl (by decide) ?_
        exact GJ.top (bI_t (by omega)).symm hj
  · rw [nI_leI (by omega) (by omega)] at c_30
    have hk2 : k < nB σ := by omega
    have hEk := hE k hk2
    refine GJ.cutv 59 (aBest σ lo (k + 1) |> nI) ?_ (fun hj => ?_)
    · refine g_istore X dX4_mostWatched_59 rfl (by decide) rfl rfl ?_
      refine g_iinc X dX4_mostWatched_61 rfl rfl (by first | exact nI_1 _ | rfl) (by decide) rfl rfl ?_
      refine g_goto (tgt := 22) X dX4_mostWatched_64 rfl (by decide) ?_
      refine GJ.loc [some (.ref a), some (.int (nI cnt)), some (.int lv), some (.int (nI 1)), some (.int (nI (aBest σ lo (k + 1)))), some (.int (nI (k + 1)))] (lvle_c rfl (lvle_c rfl (lvle_c rfl (lvle_c rfl (lvle_c rfl (lvle_c rfl lvle_e)))))) ?_
      exact ihk (k + 1) (by omega) (by omega)
    · refine g_aload_n X dX4_mostWatched_33 rfl rfl ?_
      refine g_iload X dX4_mostWatched_34 rfl rfl ?_
      refine g_callV X (ct_X4_startOf hst hd hM hB hk2) dX4_mostWatched_36 rfl (lw_V q2040 q2042 qs38 q76 q2043) hyV_X4_startOf (fun H hH => hR.recv X.2.2.2.2.2.2.2.1 hH mW_a rfl) (fun H hH => hH) ⟨Nat.le_of_ble_eq_true rfl, Nat.le_of_ble_eq_true rfl⟩ ⟨Nat.le_of_ble_eq_true rfl, Nat.le_of_ble_eq_true rfl⟩ (Nat.le_of_ble_eq_true rfl) rfl (fun x_36 => ?_)
      refine g_iload_n X dX4_mostWatched_39 rfl rfl ?_
      refine g_icmp_lt (tgt := 57) X dX4_mostWatched_40 rfl (by decide) (fun c_40 => ?_) (fun c_40 => ?_)
      · have c_40 : ¬ lo ≤ boT σ k := fun g => absurd c_40 (Int32.not_lt.mpr ((i3 k hk2).mpr g))
        refine g_iload X dX4_mostWatched_57 rfl rfl ?_
        exact GJ.top (congrArg nI (show cH (lo ≤ boT σ k) (min (aBest σ lo k) (boE σ k)) (aBest σ lo k) = _ from cH_f c_40)).symm hj
      · have c_40 : lo ≤ boT σ k := (i3 k hk2).mp (Int32.not_lt.mp c_40)
        refine g_iload X dX4_mostWatched_43 rfl rfl ?_
        refine g_aload_n X dX4_mostWatched_45 rfl rfl ?_
        refine g_iload X dX4_mostWatched_46 rfl rfl ?_
        refine g_callV X (ct_X4_endOf hst hd hM hB hk2) dX4_mostWatched_48 rfl (lw_V q2044 q2046 qs39 q76 q2047) hyV_X4_endOf (fun H hH => hR.recv X.2.2.2.2.2.2.2.1 hH mW_a rfl) (fun H hH => hH) ⟨Nat.le_of_ble_eq_true rfl, Nat.le_of_ble_eq_true rfl⟩ ⟨Nat.le_of_ble_eq_true rfl, Nat.le_of_ble_eq_true rfl⟩ (Nat.le_of_ble_eq_true rfl) rfl (fun x_48 => ?_)
        refine g_min X dX4_mostWatched_51 rfl q2116 (Nat.le_of_ble_eq_true rfl) (Nat.le_of_ble_eq_true rfl) (Nat.le_of_ble_eq_true rfl) (Nat.le_of_ble_eq_true rfl) (mn_nI (by omega) (by omega)) ?_
        refine g_goto (tgt := 59) X dX4_mostWatched_54 rfl (by decide) ?_
        exact GJ.top (congrArg nI (show cH (lo ≤ boT σ k) (min (aBest σ lo k) (boE σ k)) (aBest σ lo k) = _ from cH_t c_40)).symm hj
theorem ct_X4_mostWatchedByTable (hst : l.stackTraces = false) (hd : mDi a ad) (hM : MR (F 0) σ) (hB : Bd σ) : CM Ω l yX4_mostWatchedByTable (ws_ yX4_mostWatchedByTable cX4_mostWatchedByTable 1 (some .int)) 12 0 0 [.ref a] (hR Ω (mW Ω h a ad v F)) (QP (some (.int (nI (aWatch σ)))) (hR Ω (mW Ω h a ad (vU v 6 (nI 0)) F))) nX := by
  refine CM.of (L := [some (.ref a)]) hst (by decide) (Nat.le_of_ble_eq_true rfl) rfl ?_
  intro p e s m below meth c X hnm htab
  refine g_aload_n X dX4_mostWatchedByTable_0 rfl rfl ?_
  refine g_callV X (ct_X4_mostWatched hst hd hM hB) dX4_mostWatchedByTable_1 rfl (lw_V q2220 q2212 q2213 q76 q2214) hyV_X4_mostWatched (fun H hH => hR.recv X.2.2.2.2.2.2.2.1 hH mW_a rfl) (fun H hH => hH) ⟨Nat.le_of_ble_eq_true rfl, Nat.le_of_ble_eq_true rfl⟩ ⟨Nat.le_of_ble_eq_true rfl, Nat.le_of_ble_eq_true rfl⟩ (Nat.le_of_ble_eq_true rfl) rfl (fun x_1 => ?_)
  refine g_iret X dX4_mostWatchedByTable_4 rfl (Nat.le_of_ble_eq_true rfl) (Nat.le_of_ble_eq_true rfl) (fun H hH => ⟨(), rfl, hH⟩)
end M6
