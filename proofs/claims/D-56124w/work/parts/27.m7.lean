/-! MODEL, steps of the ops -/
section M7
variable {l : Launch} {Ω : Om} {h : RH} {a : Nat} {ad : Nat → Nat} {v : Nat → Int32} {F : Nat → Nat → Int32} {f : Nat → Int32} {σ : St}
set_option maxRecDepth 100000
theorem ct_X4_pays (hst : l.stackTraces = false) (hd : mDi a ad) {g : Nat} (hg : g < 10) {c : Int32} : CM Ω l yX4_pays (ws_ yX4_pays cX4_pays 3 none) 1 0 0 [.ref a, .int (nI g), .int c] (hR Ω (mW Ω h a ad v (FU F 0 f))) (QP none (hR Ω (mW Ω h a ad v (FU F 0 (pyF f g c))))) nX := by
  refine CM.of (L := [some (.ref a), some (.int (nI g)), some (.int c)]) hst (by decide) (Nat.le_of_ble_eq_true rfl) rfl ?_
  intro p e s m below meth c X hnm htab
  refine g_aload_n X dX4_pays_0 rfl rfl ?_
  refine g_get X dX4_pays_1 rfl in_X4 (ci := 3) rfl 0 (by decide) q1916 (fun _ h => h) mW_a rfl ?_
  refine g_bipush X dX4_pays_4 rfl (v := (nI 44)) (by decide) ?_
  refine g_iconst X dX4_pays_6 rfl (v := (nI 3)) rfl ?_
  refine g_iload_n X dX4_pays_7 rfl rfl ?_
  refine g_imul X dX4_pays_8 rfl (by first | exact pk_mul _ _ | rfl) ?_
  refine g_iadd X dX4_pays_9 rfl (by first | exact nI_add _ _ | rfl) ?_
  refine g_dup2 X dX4_pays_10 rfl rfl rfl ?_
  refine g_ial X dX4_pays_11 rfl (mW_0z hd) (vp_in_nI (by omega) (by decide)) (ix_v (by omega) rfl) ?_
  refine g_iload_n X dX4_pays_12 rfl rfl ?_
  refine g_isub X dX4_pays_13 rfl rfl ?_
  refine g_ias X dX4_pays_14 rfl (mW_0z hd) (vp_in_nI (by omega) (by decide)) (mW_i0 hd (nI_clamp (by omega))) ?_
  refine g_aload_n X dX4_pays_15 rfl rfl ?_
  refine g_get X dX4_pays_16 rfl in_X4 (ci := 3) rfl 0 (by decide) q1916 (fun _ h => h) mW_a rfl ?_
  refine g_bipush X dX4_pays_19 rfl (v := (nI 7)) (by decide) ?_
  refine g_dup2 X dX4_pays_21 rfl rfl rfl ?_
  refine g_ial X dX4_pays_22 rfl (mW_0z hd) (vp_in_nI (by omega) (by decide)) (ix_v (by omega) (upd_n (by omega))) ?_
  refine g_iload_n X dX4_pays_23 rfl rfl ?_
  refine g_iadd X dX4_pays_24 rfl (by first | exact nI_add _ _ | rfl) ?_
  refine g_ias X dX4_pays_25 rfl (mW_0z hd) (vp_in_nI (by omega) (by decide)) (mW_i0 hd (nI_clamp (by omega))) ?_
  refine g_vret X dX4_pays_26 rfl (Nat.le_of_ble_eq_true rfl) (Nat.le_of_ble_eq_true rfl) (fun H hH => ⟨(), rfl, hH⟩)
theorem ct_X4_wets (hst : l.stackTraces = false) (hd : mDi a ad) {i w : Nat} {x : Int32} (hi : i < 4) (hx : (if nI 0 < (if x < nI 9 then x else nI 9) then (if x < nI 9 then x else nI 9) else nI 0) = nI w) : CM Ω l yX4_wets (ws_ yX4_wets cX4_wets 3 none) 3 0 0 [.ref a, .int (nI i), .int x] (hR Ω (mW Ω h a ad v (FU F 0 f))) (QP none (hR Ω (mW Ω h a ad v (FU F 0 (upd f (8 + 9 * i + 2) (nI w)))))) nX := by
  refine CM.of (L := [some (.ref a), some (.int (nI i)), some (.int x)]) hst (by decide) (Nat.le_of_ble_eq_true rfl) rfl ?_
  intro p e s m below meth c X hnm htab
  refine g_aload_n X dX4_wets_0 rfl rfl ?_
  refine g_get X dX4_wets_1 rfl in_X4 (ci := 3) rfl 0 (by decide) q1916 (fun _ h => h) mW_a rfl ?_
  refine g_bipush X dX4_wets_4 rfl (v := (nI 8)) (by decide) ?_
  refine g_bipush X dX4_wets_6 rfl (v := (nI 9)) (by decide) ?_
  refine g_iload_n X dX4_wets_8 rfl rfl ?_
  refine g_imul X dX4_wets_9 rfl (by first | exact pk_mul _ _ | rfl) ?_
  refine g_iadd X dX4_wets_10 rfl (by first | exact nI_add _ _ | rfl) ?_
  refine g_iconst X dX4_wets_11 rfl (v := (nI 2)) rfl ?_
  refine g_iadd X dX4_wets_12 rfl (by first | exact nI_add _ _ | rfl) ?_
  refine g_iconst X dX4_wets_13 rfl (v := (nI 0)) rfl ?_
  refine g_bipush X dX4_wets_14 rfl (v := (nI 9)) (by decide) ?_
  refine g_iload_n X dX4_wets_16 rfl rfl ?_
  refine g_min X dX4_wets_17 rfl q2116 (Nat.le_of_ble_eq_true rfl) (Nat.le_of_ble_eq_true rfl) (Nat.le_of_ble_eq_true rfl) (Nat.le_of_ble_eq_true rfl) rfl ?_
  refine g_max X dX4_wets_20 rfl q2117 (Nat.le_of_ble_eq_true rfl) (Nat.le_of_ble_eq_true rfl) (Nat.le_of_ble_eq_true rfl) (Nat.le_of_ble_eq_true rfl) hx ?_
  refine g_ias X dX4_wets_23 rfl (mW_0z hd) (vp_in_nI (by omega) (by decide)) (mW_i0 hd (nI_clamp (by omega))) ?_
  refine g_vret X dX4_wets_24 rfl (Nat.le_of_ble_eq_true rfl) (Nat.le_of_ble_eq_true rfl) (fun H hH => ⟨(), rfl, hH⟩)
theorem ct_X4_makes (hst : l.stackTraces = false) (hd : mDi a ad) (hM : MR f σ) (hB : Bd σ) {g s t : Nat} (hg : g < nG σ) (hs : s < nS σ) (hc : slP σ s ≤ guC σ g) (hn : nB σ < 12) : CM Ω l yX4_makes (ws_ yX4_makes cX4_makes 5 (some .int)) 5 0 0 [.ref a, .int (nI g), .int (nI s), .int (nI t)] (hR Ω (mW Ω h a ad v (FU F 0 f))) (QV (fun _ : {f' : Nat → Int32 // MR f' (aMake σ g s t)} => some (.int (nI (nB σ)))) (fun f' => hR Ω (mW Ω h a ad v (FU F 0 f'.1)))) nX := by
  have b1 := hB.1
  have e1 := (hM.2.1 s hs).2.1
  have hp := MR_pay hM hB.cp hg hc
  have hm := MR_make (g := g) (s := s) (t := t) hp (cpG hB.cp) hn
  have e2 : pyF f g (nI (slP σ s)) 2 = nI (nB σ) := hp.1.2.2.1
  refine CM.of (L := [some (.ref a), some (.int (nI g)), some (.int (nI s)), some (.int (nI t)), none]) hst (by decide) (Nat.le_of_ble_eq_true rfl) rfl ?_
  intro p e s m below meth c X hnm htab
  refine g_aload_n X dX4_makes_0 rfl rfl ?_
  refine g_get X dX4_makes_1 rfl in_X4 (ci := 3) rfl 0 (by decide) q1916 (fun _ h => h) mW_a rfl ?_
  refine g_iconst X dX4_makes_4 rfl (v := (nI 2)) rfl ?_
  refine g_ial X dX4_makes_5 rfl (mW_0z hd) (vp_in_nI (by omega) (by decide)) (ix_v (by omega) hM.1.2.2.1) ?_
  refine g_istore X dX4_makes_6 rfl (by decide) rfl rfl ?_
  refine g_aload_n X dX4_makes_8 rfl rfl ?_
  refine g_iload_n X dX4_makes_9 rfl rfl ?_
  refine g_aload_n X dX4_makes_10 rfl rfl ?_
  refine g_iload_n X dX4_makes_11 rfl rfl ?_
  refine g_iconst X dX4_makes_12 rfl (v := (nI 1)) rfl ?_
  refine g_callV X (ct_X4_slide hst hd (by omega) e1) dX4_makes_13 rfl (lw_V q2028 q2030 qs35 q76 q2031) hyV_X4_slide (fun H hH => hR.recv X.2.2.2.2.2.2.2.1 hH mW_a rfl) (fun H hH => hH) ⟨Nat.le_of_ble_eq_true rfl, Nat.le_of_ble_eq_true rfl⟩ ⟨Nat.le_of_ble_eq_true rfl, Nat.le_of_ble_eq_true rfl⟩ (Nat.le_of_ble_eq_true rfl) rfl (fun x_13 => ?_)
  refine g_callV X (ct_X4_pays hst hd (by omega)) dX4_makes_16 rfl (lw_V q2052 q2054 qs41 q76 q2055) hyV_X4_pays (fun H hH => hR.recv X.2.2.2.2.2.2.2.1 hH mW_a rfl) (fun H hH => hH) ⟨Nat.le_of_ble_eq_true rfl, Nat.le_of_ble_eq_true rfl⟩ ⟨Nat.le_of_ble_eq_true rfl, Nat.le_of_ble_eq_true rfl⟩ (Nat.le_of_ble_eq_true rfl) rfl (fun x_16 => ?_)
  refine g_aload_n X dX4_makes_19 rfl rfl ?_
  refine g_get X dX4_makes_20 rfl in_X4 (ci := 3) rfl 0 (by decide) q1916 (fun _ h => h) mW_a rfl ?_
  refine g_bipush X dX4_makes_23 rfl (v := (nI 74)) (by decide) ?_
  refine g_iconst X dX4_makes_25 rfl (v := (nI 3)) rfl ?_
  refine g_iload X dX4_makes_26 rfl rfl ?_
  refine g_imul X dX4_makes_28 rfl (by first | exact pk_mul _ _ | rfl) ?_
  refine g_iadd X dX4_makes_29 rfl (by first | exact nI_add _ _ | rfl) ?_
  refine g_iload_n X dX4_makes_30 rfl rfl ?_
  refine g_ias X dX4_makes_31 rfl (mW_0z hd) (vp_in_nI (by omega) (by decide)) (mW_i0 hd (nI_clamp (by omega))) ?_
  refine g_aload_n X dX4_makes_32 rfl rfl ?_
  refine g_get X dX4_makes_33 rfl in_X4 (ci := 3) rfl 0 (by decide) q1916 (fun _ h => h) mW_a rfl ?_
  refine g_bipush X dX4_makes_36 rfl (v := (nI 74)) (by decide) ?_
  refine g_iconst X dX4_makes_38 rfl (v := (nI 3)) rfl ?_
  refine g_iload X dX4_makes_39 rfl rfl ?_
  refine g_imul X dX4_makes_41 rfl (by first | exact pk_mul _ _ | rfl) ?_
  refine g_iadd X dX4_makes_42 rfl (by first | exact nI_add _ _ | rfl) ?_
  refine g_iconst X dX4_makes_43 rfl (v := (nI 1)) rfl ?_
  refine g_iadd X dX4_makes_44 rfl (by first | exact nI_add _ _ | rfl) ?_
  refine g_iload_n X dX4_makes_45 rfl rfl ?_
  refine g_ias X dX4_makes_46 rfl (mW_0z hd) (vp_in_nI (by omega) (by decide)) (mW_i0 hd (nI_clamp (by omega))) ?_
  refine g_aload_n X dX4_makes_47 rfl rfl ?_
  refine g_get X dX4_makes_48 rfl in_X4 (ci := 3) rfl 0 (by decide) q1916 (fun _ h => h) mW_a rfl ?_
  refine g_bipush X dX4_makes_51 rfl (v := (nI 74)) (by decide) ?_
  refine g_iconst X dX4_makes_53 rfl (v := (nI 3)) rfl ?_
  refine g_iload X dX4_makes_54 rfl rfl ?_
  refine g_imul X dX4_makes_56 rfl (by first | exact pk_mul _ _ | rfl) ?_
  refine g_iadd X dX4_makes_57 rfl (by first | exact nI_add _ _ | rfl) ?_
  refine g_iconst X dX4_makes_58 rfl (v := (nI 2)) rfl ?_
  refine g_iadd X dX4_makes_59 rfl (by first | exact nI_add _ _ | rfl) ?_
  refine g_iload_n X dX4_makes_60 rfl rfl ?_
  refine g_ias X dX4_makes_61 rfl (mW_0z hd) (vp_in_nI (by omega) (by decide)) (mW_i0 hd (nI_clamp (by omega))) ?_
  refine g_aload_n X dX4_makes_62 rfl rfl ?_
  refine g_get X dX4_makes_63 rfl in_X4 (ci := 3) rfl 0 (by decide) q1916 (fun _ h => h) mW_a rfl ?_
  refine g_iconst X dX4_makes_66 rfl (v := (nI 2)) rfl ?_
  refine g_dup2 X dX4_makes_67 rfl rfl rfl ?_
  refine g_ial X dX4_makes_68 rfl (mW_0z hd) (vp_in_nI (by omega) (by decide)) (ix_v (by omega) ((upd_n (by omega)).trans ((upd_n (by omega)).trans ((upd_n (by omega)).trans e2)))) ?_
  refine g_iconst X dX4_makes_69 rfl (v := (nI 1)) rfl ?_
  refine g_iadd X dX4_makes_70 rfl (by first | exact nI_add _ _ | rfl) ?_
  refine g_ias X dX4_makes_71 rfl (mW_0z hd) (vp_in_nI (by omega) (by decide)) (mW_i0 hd (nI_clamp (by omega))) ?_
  refine g_iload X dX4_makes_72 rfl rfl ?_
  refine g_iret X dX4_makes_74 rfl (Nat.le_of_ble_eq_true rfl) (Nat.le_of_ble_eq_true rfl) (fun H hH => ⟨⟨_, hm⟩, rfl, hH⟩)
theorem ct_X4_drops (hst : l.stackTraces = false) (hd : mDi a ad) (hM : MR f σ) (hC : Cp σ) {b : Nat} (hb : b < nB σ) : CM Ω l yX4_drops (ws_ yX4_drops cX4_drops 3 none) 2 0 0 [.ref a, .int (nI b)] (hR Ω (mW Ω h a ad v (FU F 0 f))) (QP none (hR Ω (mW Ω h a ad v (FU F 0 (drF f (nB σ) b))))) nX := by
  have c3 := hC.2.2.1
  refine CM.of (L := [some (.ref a), some (.int (nI b)), none]) hst (by decide) (Nat.le_of_ble_eq_true rfl) rfl ?_
  intro p e s m below meth c X hnm htab
  refine g_aload_n X dX4_drops_0 rfl rfl ?_
  refine g_get X dX4_drops_1 rfl in_X4 (ci := 3) rfl 0 (by decide) q1916 (fun _ h => h) mW_a rfl ?_
  refine g_iconst X dX4_drops_4 rfl (v := (nI 2)) rfl ?_
  refine g_dup2 X dX4_drops_5 rfl rfl rfl ?_
  refine g_ial X dX4_drops_6 rfl (mW_0z hd) (vp_in_nI (by omega) (by decide)) (ix_v (by omega) hM.1.2.2.1) ?_
  refine g_iconst X dX4_drops_7 rfl (v := (nI 1)) rfl ?_
  refine g_isub X dX4_drops_8 rfl (pk_sub (by omega)) ?_
  refine g_ias X dX4_drops_9 rfl (mW_0z hd) (vp_in_nI (by omega) (by decide)) (mW_i0 hd (nI_clamp (by omega))) ?_
  refine g_bipush X dX4_drops_10 rfl (v := (nI 74)) (by decide) ?_
  refine g_iconst X dX4_drops_12 rfl (v := (nI 3)) rfl ?_
  refine g_iload_n X dX4_drops_13 rfl rfl ?_
  refine g_imul X dX4_drops_14 rfl (by first | exact pk_mul _ _ | rfl) ?_
  refine g_iadd X dX4_drops_15 rfl (by first | exact nI_add _ _ | rfl) ?_
  refine g_istore_n X dX4_drops_16 rfl (by decide) rfl rfl ?_
  refine g_aload_n X dX4_drops_17 rfl rfl ?_
  refine g_get X dX4_drops_18 rfl in_X4 (ci := 3) rfl 0 (by decide) q1916 (fun _ h => h) mW_a rfl ?_
  refine g_iload_n X dX4_drops_21 rfl rfl ?_
  refine g_iconst X dX4_drops_22 rfl (v := (nI 3)) rfl ?_
  refine g_iadd X dX4_drops_23 rfl (by first | exact nI_add _ _ | rfl) ?_
  refine g_aload_n X dX4_drops_24 rfl rfl ?_
  refine g_get X dX4_drops_25 rfl in_X4 (ci := 3) rfl 0 (by decide) q1916 (fun _ h => h) mW_a rfl ?_
  refine g_iload_n X dX4_drops_28 rfl rfl ?_
  refine g_iconst X dX4_drops_29 rfl (v := (nI 3)) rfl ?_
  refine g_aload_n X dX4_drops_30 rfl rfl ?_
  refine g_get X dX4_drops_31 rfl in_X4 (ci := 3) rfl 0 (by decide) q1916 (fun _ h => h) mW_a rfl ?_
  refine g_iconst X dX4_drops_34 rfl (v := (nI 2)) rfl ?_
  refine g_ial X dX4_drops_35 rfl (mW_0z hd) (vp_in_nI (by omega) (by decide)) (ix_v (by omega) upd_s) ?_
  refine g_iload_n X dX4_drops_36 rfl rfl ?_
  refine g_isub X dX4_drops_37 rfl (pk_sub (by omega)) ?_
  refine g_imul X dX4_drops_38 rfl (by first | exact pk_mul _ _ | rfl) ?_
  refine g_copyI X dX4_drops_39 rfl q1980 (nI_pos (by omega)) (nI_pos (by omega)) (nI_pos (by omega)) (c2_le (nI_clamp (by omega)) (nI_clamp (by omega)) (by omega)) (c2_le (nI_clamp (by omega)) (nI_clamp (by omega)) (by omega)) (mW_0z hd) (mW_0z hd)  (Nat.le_of_ble_eq_true rfl) (Nat.le_of_ble_eq_true rfl) (mW_c0 hd (nI_clamp (by omega)) (nI_clamp (by omega)) (nI_clamp (by omega))) ?_
  refine g_vret X dX4_drops_42 rfl (Nat.le_of_ble_eq_true rfl) (Nat.le_of_ble_eq_true rfl) (fun H hH => ⟨(), rfl, hH⟩)
end M7
