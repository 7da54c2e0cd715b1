/-! MODEL: the text of a slide -/
/-- what is written of a booking -/
def wrB (σ : St) (j k : Nat) : List Nat := if boS σ k = j then [32] ++ dec (boG σ k) ++ [64] ++ dec (boT σ k) else []
noncomputable def wrR (σ : St) (j : Nat) : Nat → List Nat := ff (fun r acc => acc ++ wrB σ j (iN (aRnk σ (nI r)))) (dec (slD σ j) ++ [109] ++ dec (slP σ j) ++ [99] ++ dec (slW σ j) ++ [119])
noncomputable def wrS (σ : St) (j : Nat) : List Nat := wrR σ j (nB σ)
theorem wrB_len {σ : St} (hB : Bd σ) {j k : Nat} (hk : k < nB σ) : (wrB σ j k).length ≤ 9 := by
  have b1 := hB.1
  have b5 := hB.2.2.2.2.1 k hk
  have d1 := dec_len 0 (boG σ k) (by omega)
  have d2 := dec_len 5 (boT σ k) (by omega)
  unfold wrB
  by_cases h : boS σ k = j
  · rw [if_pos h]
    simp only [List.length_append, List.length_singleton]
    omega
  · rw [if_neg h]; exact Nat.zero_le _
theorem wrR_len {σ : St} {R : Nat} (hB : Bd σ) (hD : DJ σ) (hW : Wf R σ) {j : Nat} (hj : j < nS σ) : ∀ r, r ≤ nB σ → (wrR σ j r).length ≤ 6 + 9 * r
  | 0, _ => by
    have b := hB.2.1 j hj
    have d1 := dec_len 0 (slD σ j) (by omega)
    have d2 := dec_len 0 (slP σ j) (by omega)
    have d3 := dec_len 0 (slW σ j) (by omega)
    show (dec (slD σ j) ++ [109] ++ dec (slP σ j) ++ [99] ++ dec (slW σ j) ++ [119]).length ≤ _
    simp only [List.length_append, List.length_singleton]
    omega
  | r + 1, h => by
    have ih := wrR_len hB hD hW hj r (by omega)
    obtain ⟨k, hk, -, h2⟩ := aRnk_at hD hW (r := r) (by omega)
    have b1 := hB.1
    have hl := wrB_len hB (j := j) hk
    show (wrR σ j r ++ wrB σ j (iN (aRnk σ (nI r)))).length ≤ _
    rw [h2, iN_nI (by omega), List.length_append]
    omega
section M13
variable {l : Launch} {Ω : Om} {h : RH} {a : Nat} {ad : Nat → Nat} {v : Nat → Int32} {F : Nat → Nat → Int32} {σ : St}
set_option maxRecDepth 100000
theorem ct_X4_writeSlide_f (hst : l.stackTraces = false) (hd : mDi a ad) (hM : MR (F 0) σ) {x : Int32} (hx : ¬ okS σ x) : CM Ω l yX4_writeSlide (ws_ yX4_writeSlide cX4_writeSlide 4 (some .int)) 12 0 0 [.ref a, .int x] (hR Ω (mW Ω h a ad v F)) (QP (some (.int (nI 0))) (hR Ω (mW Ω h a ad (vU v 6 (nI 1)) F))) nX := by
  refine CM.of (L := [some (.ref a), some (.int x), none, none]) hst (by decide) (Nat.le_of_ble_eq_true rfl) rfl ?_
  intro p e s m below meth c X hnm htab
  refine g_aload_n X dX4_writeSlide_0 rfl rfl ?_
  refine g_aload_n X dX4_writeSlide_1 rfl rfl ?_
  refine g_iload_n X dX4_writeSlide_2 rfl rfl ?_
  refine g_callV X (ct_X4_isSlide hst hd hM) dX4_writeSlide_3 rfl (lw_V q2016 q2018 qs32 q76 q2019) hyV_X4_isSlide (fun H hH => hR.recv X.2.2.2.2.2.2.2.1 hH mW_a rfl) (fun H hH => hH) ⟨Nat.le_of_ble_eq_true rfl, Nat.le_of_ble_eq_true rfl⟩ ⟨Nat.le_of_ble_eq_true rfl, Nat.le_of_ble_eq_true rfl⟩ (Nat.le_of_ble_eq_true rfl) rfl (fun x_3 => ?_)
  refine g_callV X (ct_X4_isThere hst (bI_t hx)) dX4_writeSlide_6 rfl (lw_V q2134 q2136 qs54 q76 q2137) hyV_X4_isThere (fun H hH => hR.recv X.2.2.2.2.2.2.2.1 hH mW_a rfl) (fun H hH => hH) ⟨Nat.le_of_ble_eq_true rfl, Nat.le_of_ble_eq_true rfl⟩ ⟨Nat.le_of_ble_eq_true rfl, Nat.le_of_ble_eq_true rfl⟩ (Nat.le_of_ble_eq_true rfl) rfl (fun x_6 => ?_)
  refine g_if_ne (tgt := 14) X dX4_writeSlide_9 rfl (by decide) (fun c => absurd (bI_n0.mp c) (hx)) (fun c_9 => ?_)
  refine g_iconst X dX4_writeSlide_12 rfl (v := (nI 0)) rfl ?_
  refine g_iret X dX4_writeSlide_13 rfl (Nat.le_of_ble_eq_true rfl) (Nat.le_of_ble_eq_true rfl) (fun H hH => ⟨(), rfl, hH⟩)
theorem ct_X4_writeSlide_t (hst : l.stackTraces = false) (hd : mDi a ad) (hM : MR (F 0) σ) (hB : Bd σ) {R : Nat} (hW : Wf R σ) (hD : DJ σ) {j : Nat} (hj : j < nS σ) : CM Ω l yX4_writeSlide (ws_ yX4_writeSlide cX4_writeSlide 4 (some .int)) 12 0 0 [.ref a, .int (nI j)] (hR Ω (mW Ω h a ad v F)) (QP (some (.int (nI (wrS σ j).length))) (hR Ω (OW Ω h a ad (vU v 6 (nI 0)) F (wrS σ j)))) nX := by
  have b1 := hB.1
  have b2 := hB.2.1 j hj
  have e2 := hM.2.1 j hj
  have hx : okS σ (nI j) := (ixI (by omega)).mpr ⟨j, hj, rfl⟩
  have d1 := dec_len 0 (slD σ j) (by omega)
  have d2 := dec_len 0 (slP σ j) (by omega)
  have d3 := dec_len 0 (slW σ j) (by omega)
  refine CM.of (L := [some (.ref a), some (.int (nI j)), none, none]) hst (by decide) (Nat.le_of_ble_eq_true rfl) rfl ?_
  intro p e s m below meth c X hnm htab
  refine g_aload_n X dX4_writeSlide_0 rfl rfl ?_
  refine g_aload_n X dX4_writeSlide_1 rfl rfl ?_
  refine g_iload_n X dX4_writeSlide_2 rfl rfl ?_
  refine g_callV X (ct_X4_isSlide hst hd hM) dX4_writeSlide_3 rfl (lw_V q2016 q2018 qs32 q76 q2019) hyV_X4_isSlide (fun H hH => hR.recv X.2.2.2.2.2.2.2.1 hH mW_a rfl) (fun H hH => hH) ⟨Nat.le_of_ble_eq_true rfl, Nat.le_of_ble_eq_true rfl⟩ ⟨Nat.le_of_ble_eq_true rfl, Nat.le_of_ble_eq_true rfl⟩ (Nat.le_of_ble_eq_true rfl) rfl (fun x_3 => ?_)
  refine g_callV X (ct_X4_isThere hst (bI_f (fun g => g hx))) dX4_writeSlide_6 rfl (lw_V q2134 q2136 qs54 q76 q2137) hyV_X4_isThere (fun H hH => hR.recv X.2.2.2.2.2.2.2.1 hH mW_a rfl) (fun H hH => hH) ⟨Nat.le_of_ble_eq_true rfl, Nat.le_of_ble_eq_true rfl⟩ ⟨Nat.le_of_ble_eq_true rfl, Nat.le_of_ble_eq_true rfl⟩ (Nat.le_of_ble_eq_true rfl) rfl (fun x_6 => ?_)
  refine g_if_ne (tgt := 14) X dX4_writeSlide_9 rfl (by decide) (fun c_9 => ?_) (fun c => absurd (hx) (bI_0.mp c))
  refine g_aload_n X dX4_writeSlide_14 rfl rfl ?_
  refine g_iconst X dX4_writeSlide_15 rfl (v := (nI 0)) rfl ?_
  refine g_put X dX4_writeSlide_16 rfl in_X4 tyX4_ok nmX4 (ci := 3) rfl 8 (by decide) q1924 (fun _ h => h) rfl rfl rfl rfl mW_a (Nat.le_of_ble_eq_true rfl) mW_u8 ?_
  refine GJ.imp (I' := hR Ω (OW Ω h a ad (vU v 6 (nI 0)) F [])) (fun H hH => by unfold OW; rw [oF_0, FU_self]; exact hH) ?_
  refine g_aload_n X dX4_writeSlide_19 rfl rfl ?_
  refine g_aload_n X dX4_writeSlide_20 rfl rfl ?_
  refine g_iload_n X dX4_writeSlide_21 rfl rfl ?_
  refine g_iconst X dX4_writeSlide_22 rfl (v := (nI 0)) rfl ?_
  refine g_callV X (ct_X4_slide (i := j) (w := 0) hst hd (by omega) (show FU F 4 _ 0 (8 + 9 * j + 0) = _ from e2.1)) dX4_writeSlide_23 rfl (lw_V q2028 q2030 qs35 q76 q2031) hyV_X4_slide (fun H hH => hR.recv X.2.2.2.2.2.2.2.1 hH mW_a rfl) (fun H hH => hH) ⟨Nat.le_of_ble_eq_true rfl, Nat.le_of_ble_eq_true rfl⟩ ⟨Nat.le_of_ble_eq_true rfl, Nat.le_of_ble_eq_true rfl⟩ (Nat.le_of_ble_eq_true rfl) rfl (fun x_23 => ?_)
  refine g_callV X (ct_X4_saysNumber hst hd 0 (slD σ j) [] (by omega) (by omega) (by decide)) dX4_writeSlide_26 rfl (lw_V q2299 q2301 qs57 q76 q2302) hyV_X4_saysNumber (fun H hH => hR.recv X.2.2.2.2.2.2.2.1 hH mW_a rfl) (fun H hH => hH) ⟨Nat.le_of_ble_eq_true rfl, Nat.le_of_ble_eq_true rfl⟩ ⟨Nat.le_of_ble_eq_true rfl, Nat.le_of_ble_eq_true rfl⟩ (Nat.le_of_ble_eq_true rfl) rfl (fun x_26 => ?_)
  refine g_aload_n X dX4_writeSlide_29 rfl rfl ?_
  refine g_bipush X dX4_writeSlide_30 rfl (v := (nI 109)) (by decide) ?_
  refine g_callV X (ct_X4_says hst hd (by simp only [List.length_append, List.length_singleton, List.length_nil]; omega) (by omega)) dX4_writeSlide_32 rfl (lw_V q2303 q2305 qs58 q76 q2306) hyV_X4_says (fun H hH => hR.recv X.2.2.2.2.2.2.2.1 hH mW_a rfl) (fun H hH => hH) ⟨Nat.le_of_ble_eq_true rfl, Nat.le_of_ble_eq_true rfl⟩ ⟨Nat.le_of_ble_eq_true rfl, Nat.le_of_ble_eq_true rfl⟩ (Nat.le_of_ble_eq_true rfl) rfl (fun x_32 => ?_)
  refine g_aload_n X dX4_writeSlide_35 rfl rfl ?_
  refine g_aload_n X dX4_writeSlide_36 rfl rfl ?_
  refine g_iload_n X dX4_writeSlide_37 rfl rfl ?_
  refine g_iconst X dX4_writeSlide_38 rfl (v := (nI 1)) rfl ?_
  refine g_callV X (ct_X4_slide hst hd (by omega) (show FU F 4 _ 0 _ = _ from e2.2.1)) dX4_writeSlide_39 rfl (lw_V q2028 q2030 qs35 q76 q2031) hyV_X4_slide (fun H hH => hR.recv X.2.2.2.2.2.2.2.1 hH mW_a rfl) (fun H hH => hH) ⟨Nat.le_of_ble_eq_true rfl, Nat.le_of_ble_eq_true rfl⟩ ⟨Nat.le_of_ble_eq_true rfl, Nat.le_of_ble_eq_true rfl⟩ (Nat.le_of_ble_eq_true rfl) rfl (fun x_39 => ?_)
  refine g_callV X (ct_X4_saysNumber hst hd 0 (slP σ j) _ (by omega) (by omega) (by simp only [List.length_append, List.length_singleton, List.length_nil]; omega)) dX4_writeSlide_42 rfl (lw_V q2299 q2301 qs57 q76 q2302) hyV_X4_saysNumber (fun H hH => hR.recv X.2.2.2.2.2.2.2.1 hH mW_a rfl) (fun H hH => hH) ⟨Nat.le_of_ble_eq_true rfl, Nat.le_of_ble_eq_true rfl⟩ ⟨Nat.le_of_ble_eq_true rfl, Nat.le_of_ble_eq_true rfl⟩ (Nat.le_of_ble_eq_true rfl) rfl (fun x_42 => ?_)
  refine g_aload_n X dX4_writeSlide_45 rfl rfl ?_
  refine g_bipush X dX4_writeSlide_46 rfl (v := (nI 99)) (by decide) ?_
  refine g_callV X (ct_X4_says hst hd (by simp only [List.length_append, List.length_singleton, List.length_nil]; omega) (by omega)) dX4_writeSlide_48 rfl (lw_V q2303 q2305 qs58 q76 q2306) hyV_X4_says (fun H hH => hR.recv X.2.2.2.2.2.2.2.1 hH mW_a rfl) (fun H hH => hH) ⟨Nat.le_of_ble_eq_true rfl, Nat.le_of_ble_eq_true rfl⟩ ⟨Nat.le_of_ble_eq_true rfl, Nat.le_of_ble_eq_true rfl⟩ (Nat.le_of_ble_eq_true rfl) rfl (fun x_48 => ?_)
  refine g_aload_n X dX4_writeSlide_51 rfl rfl ?_
  refine g_aload_n X dX4_writeSlide_52 rfl rfl ?_
  refine g_iload_n X dX4_writeSlide_53 rfl rfl ?_
  refine g_iconst X dX4_writeSlide_54 rfl (v := (nI 2)) rfl ?_
  refine g_callV X (ct_X4_slide hst hd (by omega) (show FU F 4 _ 0 _ = _ from e2.2.2.1)) dX4_writeSlide_55 rfl (lw_V q2028 q2030 qs35 q76 q2031) hyV_X4_slide (fun H hH => hR.recv X.2.2.2.2.2.2.2.1 hH mW_a rfl) (fun H hH => hH) ⟨Nat.le_of_ble_eq_true rfl, Nat.le_of_ble_eq_true rfl⟩ ⟨Nat.le_of_ble_eq_true rfl, Nat.le_of_ble_eq_true rfl⟩ (Nat.le_of_ble_eq_true rfl) rfl (fun x_55 => ?_)
  refine g_callV X (ct_X4_saysNumber hst hd 0 (slW σ j) _ (by omega) (by omega) (by simp only [List.length_append, List.length_singleton, List.length_nil]; omega)) dX4_writeSlide_58 rfl (lw_V q2299 q2301 qs57 q76 q2302) hyV_X4_saysNumber (fun H hH => hR.recv X.2.2.2.2.2.2.2.1 hH mW_a rfl) (fun H hH => hH) ⟨Nat.le_of_ble_eq_true rfl, Nat.le_of_ble_eq_true rfl⟩ ⟨Nat.le_of_ble_eq_true rfl, Nat.le_of_ble_eq_true rfl⟩ (Nat.le_of_ble_eq_true rfl) rfl (fun x_58 => ?_)
  refine g_aload_n X dX4_writeSlide_61 rfl rfl ?_
  refine g_bipush X dX4_writeSlide_62 rfl (v := (nI 119)) (by decide) ?_
  refine g_callV X (ct_X4_says hst hd (by simp only [List.length_append, List.length_singleton, List.length_nil]; omega) (by omega)) dX4_writeSlide_64 rfl (lw_V q2303 q2305 qs58 q76 q2306) hyV_X4_says (fun H hH => hR.recv X.2.2.2.2.2.2.2.1 hH mW_a rfl) (fun H hH => hH) ⟨Nat.le_of_ble_eq_true rfl, Nat.le_of_ble_eq_true rfl⟩ ⟨Nat.le_of_ble_eq_true rfl, Nat.le_of_ble_eq_true rfl⟩ (Nat.le_of_ble_eq_true rfl) rfl (fun x_64 => ?_)
  refine g_iconst X dX4_writeSlide_67 rfl (v := (nI 0)) rfl ?_
  refine g_istore_n X dX4_writeSlide_68 rfl (by decide) rfl rfl ?_
  refine GJ.imp (I' := hR Ω (OW Ω h a ad (vU v 6 (nI 0)) F (wrR σ j 0))) (fun H hH => hH) ?_
  refine GJ.loc ((fun r : Nat => [some (.ref a), some (.int (nI j)), some (.int (nI r)), none]) 0) (lvle_c rfl (lvle_c rfl (lvle_c rfl (lvle_n lvle_e)))) ?_
  refine GJ.loop (fun r : Nat => hR Ω (OW Ω h a ad (vU v 6 (nI 0)) F (wrR σ j r))) (fun _ => 0) (fun _ => 0) (fun r : Nat => [some (.ref a), some (.int (nI j)), some (.int (nI r)), none]) (fun r => nB σ - r) (fun r => r ≤ nB σ) 0 (Nat.zero_le _) ?_
  intro r hr ih
  have hl := wrR_len hB hD hW hj r hr
  refine g_iload_n X dX4_writeSlide_69 rfl rfl ?_
  refine g_aload_n X dX4_writeSlide_70 rfl rfl ?_
  refine g_get X dX4_writeSlide_71 rfl in_X4 (ci := 3) rfl 0 (by decide) q1916 (fun _ h => h) mW_a rfl ?_
  refine g_iconst X dX4_writeSlide_74 rfl (v := (nI 2)) rfl ?_
  refine g_ial X dX4_writeSlide_75 rfl (mW_0 hd) (vp_in_nI (by omega) (by decide)) (ix_v (by omega) hM.1.2.2.1) ?_
  refine g_icmp_ge (tgt := 132) X dX4_writeSlide_76 rfl (by decide) (fun c_76 => ?_) (fun c_76 => ?_)
  · rw [nI_leI (by omega) (by omega)] at c_76
    obtain rfl : r = nB σ := by omega
    refine g_aload_n X dX4_writeSlide_132 rfl rfl ?_
    refine g_get X dX4_writeSlide_133 rfl in_X4 (ci := 3) rfl 8 (by decide) q1924 (fun _ h => h) mW_a (gv vU_s) ?_
    refine g_iret X dX4_writeSlide_136 rfl (Nat.le_of_ble_eq_true rfl) (Nat.le_of_ble_eq_true rfl) (fun H hH => ⟨(), rfl, hH⟩)
  · rw [nI_leI (by omega) (by omega)] at c_76
    obtain ⟨k, hk, h1, h2⟩ := aRnk_at hD hW (r := r) (by omega)
    have b5 := hB.2.2.2.2.1 k hk
    have e5 := hM.2.2.2.2.1 k hk
    have g1 := dec_len 0 (boG σ k) (by omega)
    have g2 := dec_len 5 (boT σ k) (by omega)
    have es : wrR σ j (r + 1) = wrR σ j r ++ wrB σ j k := by show wrR σ j r ++ wrB σ j (iN (aRnk σ (nI r))) = _; rw [h2, iN_nI (by omega)]
    refine g_aload_n X dX4_writeSlide_79 rfl rfl ?_
    refine g_iload_n X dX4_writeSlide_80 rfl rfl ?_
    refine g_callV X (ct_X4_ranked hst hd (show MR (FU F 4 _ 0) σ from hM) hB) dX4_writeSlide_81 rfl (lw_V q2194 q2196 qs55 q76 q2197) hyV_X4_ranked (fun H hH => hR.recv X.2.2.2.2.2.2.2.1 hH mW_a rfl) (fun H hH => hH) ⟨Nat.le_of_ble_eq_true rfl, Nat.le_of_ble_eq_true rfl⟩ ⟨Nat.le_of_ble_eq_true rfl, Nat.le_of_ble_eq_true rfl⟩ (Nat.le_of_ble_eq_true rfl) rfl (fun x_81 => ?_)
    rw [h2]
    refine g_istore_n X dX4_writeSlide_84 rfl (by decide) rfl rfl ?_
    refine g_aload_n X dX4_writeSlide_85 rfl rfl ?_
    refine g_iload_n X dX4_writeSlide_86 rfl rfl ?_
    refine g_iconst X dX4_writeSlide_87 rfl (v := (nI 1)) rfl ?_
    refine g_callV X (ct_X4_booking hst hd (by omega) (show FU F 4 _ 0 _ = _ from e5.2.1)) dX4_writeSlide_88 rfl (lw_V q2036 q2038 qs37 q76 q2039) hyV_X4_booking (fun H hH => hR.recv X.2.2.2.2.2.2.2.1 hH mW_a rfl) (fun H hH => hH) ⟨Nat.le_of_ble_eq_true rfl, Nat.le_of_ble_eq_true rfl⟩ ⟨Nat.le_of_ble_eq_true rfl, Nat.le_of_ble_eq_true rfl⟩ (Nat.le_of_ble_eq_true rfl) rfl (fun x_88 => ?_)
    refine g_iload_n X dX4_writeSlide_91 rfl rfl ?_
    refine g_icmp_ne (tgt := 126) X dX4_writeSlide_92 rfl (by decide) (fun c_92 => ?_) (fun c_92 => ?_)
    · rw [nI_eq (by omega) (by omega)] at c_92
      refine g_iinc X dX4_writeSlide_126 rfl rfl (by first | exact nI_1 _ | rfl) (by decide) rfl rfl ?_
      refine g_goto (tgt := 69) X dX4_writeSlide_129 rfl (by decide) ?_
      refine GJ.loc [some (.ref a), some (.int (nI j)), some (.int (nI (r + 1))), none] (lvle_c rfl (lvle_c rfl (lvle_c rfl (lvle_n lvle_e)))) ?_
      have h3 : wrR σ j (r + 1) = wrR σ j r := by rw [es]; unfold wrB; rw [if_neg c_92, List.append_nil]
      have := ih (r + 1) (by omega) (by omega)
      rw [h3] at this
      exact this
    · rw [nI_eq (by omega) (by omega)] at c_92
      refine g_aload_n X dX4_writeSlide_95 rfl rfl ?_
      refine g_bipush X dX4_writeSlide_96 rfl (v := (nI 32)) (by decide) ?_
      refine g_callV X (ct_X4_says hst hd (by omega) (by omega)) dX4_writeSlide_98 rfl (lw_V q2303 q2305 qs58 q76 q2306) hyV_X4_says (fun H hH => hR.recv X.2.2.2.2.2.2.2.1 hH mW_a rfl) (fun H hH => hH) ⟨Nat.le_of_ble_eq_true rfl, Nat.le_of_ble_eq_true rfl⟩ ⟨Nat.le_of_ble_eq_true rfl, Nat.le_of_ble_eq_true rfl⟩ (Nat.le_of_ble_eq_true rfl) rfl (fun x_98 => ?_)
      refine g_aload_n X dX4_writeSlide_101 rfl rfl ?_
      refine g_aload_n X dX4_writeSlide_102 rfl rfl ?_
      refine g_iload_n X dX4_writeSlide_103 rfl rfl ?_
      refine g_iconst X dX4_writeSlide_104 rfl (v := (nI 0)) rfl ?_
      refine g_callV X (ct_X4_booking (i := k) (w := 0) hst hd (by omega) (show FU F 4 _ 0 (74 + 3 * k + 0) = _ from e5.1)) dX4_writeSlide_105 rfl (lw_V q2036 q2038 qs37 q76 q2039) hyV_X4_booking (fun H hH => hR.recv X.2.2.2.2.2.2.2.1 hH mW_a rfl) (fun H hH => hH) ⟨Nat.le_of_ble_eq_true rfl, Nat.le_of_ble_eq_true rfl⟩ ⟨Nat.le_of_ble_eq_true rfl, Nat.le_of_ble_eq_true rfl⟩ (Nat.le_of_ble_eq_true rfl) rfl (fun x_105 => ?_)
      refine g_callV X (ct_X4_saysNumber hst hd 0 (boG σ k) _ (by omega) (by omega) (by simp only [List.length_append, List.length_singleton, List.length_nil]; omega)) dX4_writeSlide_108 rfl (lw_V q2299 q2301 qs57 q76 q2302) hyV_X4_saysNumber (fun H hH => hR.recv X.2.2.2.2.2.2.2.1 hH mW_a rfl) (fun H hH => hH) ⟨Nat.le_of_ble_eq_true rfl, Nat.le_of_ble_eq_true rfl⟩ ⟨Nat.le_of_ble_eq_true rfl, Nat.le_of_ble_eq_true rfl⟩ (Nat.le_of_ble_eq_true rfl) rfl (fun x_108 => ?_)
      refine g_aload_n X dX4_writeSlide_111 rfl rfl ?_
      refine g_bipush X dX4_writeSlide_112 rfl (v := (nI 64)) (by decide) ?_
      refine g_callV X (ct_X4_says hst hd (by simp only [List.length_append, List.length_singleton, List.length_nil]; omega) (by omega)) dX4_writeSlide_114 rfl (lw_V q2303 q2305 qs58 q76 q2306) hyV_X4_says (fun H hH => hR.recv X.2.2.2.2.2.2.2.1 hH mW_a rfl) (fun H hH => hH) ⟨Nat.le_of_ble_eq_true rfl, Nat.le_of_ble_eq_true rfl⟩ ⟨Nat.le_of_ble_eq_true rfl, Nat.le_of_ble_eq_true rfl⟩ (Nat.le_of_ble_eq_true rfl) rfl (fun x_114 => ?_)
      refine g_aload_n X dX4_writeSlide_117 rfl rfl ?_
      refine g_aload_n X dX4_writeSlide_118 rfl rfl ?_
      refine g_iload_n X dX4_writeSlide_119 rfl rfl ?_
      refine g_callV X (ct_X4_startOf hst hd (show MR (FU F 4 _ 0) σ from hM) hB hk) dX4_writeSlide_120 rfl (lw_V q2040 q2042 qs38 q76 q2043) hyV_X4_startOf (fun H hH => hR.recv X.2.2.2.2.2.2.2.1 hH mW_a rfl) (fun H hH => hH) ⟨Nat.le_of_ble_eq_true rfl, Nat.le_of_ble_eq_true rfl⟩ ⟨Nat.le_of_ble_eq_true rfl, Nat.le_of_ble_eq_true rfl⟩ (Nat.le_of_ble_eq_true rfl) rfl (fun x_120 => ?_)
      refine g_callV X (ct_X4_saysNumber hst hd 5 (boT σ k) _ (by omega) (by omega) (by simp only [List.length_append, List.length_singleton, List.length_nil]; omega)) dX4_writeSlide_123 rfl (lw_V q2299 q2301 qs57 q76 q2302) hyV_X4_saysNumber (fun H hH => hR.recv X.2.2.2.2.2.2.2.1 hH mW_a rfl) (fun H hH => hH) ⟨Nat.le_of_ble_eq_true rfl, Nat.le_of_ble_eq_true rfl⟩ ⟨Nat.le_of_ble_eq_true rfl, Nat.le_of_ble_eq_true rfl⟩ (Nat.le_of_ble_eq_true rfl) rfl (fun x_123 => ?_)
      refine g_iinc X dX4_writeSlide_126 rfl rfl (by first | exact nI_1 _ | rfl) (by decide) rfl rfl ?_
      refine g_goto (tgt := 69) X dX4_writeSlide_129 rfl (by decide) ?_
      refine GJ.loc [some (.ref a), some (.int (nI j)), some (.int (nI (r + 1))), none] (lvle_c rfl (lvle_c rfl (lvle_c rfl (lvle_n lvle_e)))) ?_
      have h3 : wrR σ j (r + 1) = wrR σ j r ++ [32] ++ dec (boG σ k) ++ [64] ++ dec (boT σ k) := by rw [es]; unfold wrB; rw [if_pos c_92]; simp only [List.append_assoc]
      have := ih (r + 1) (by omega) (by omega)
      rw [h3] at this
      exact this
end M13
