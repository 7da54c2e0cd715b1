/-! MODEL: carrying out a command -/
section M17
variable {l : Launch} {Ω : Om} {h : RH} {a : Nat} {ad : Nat → Nat} {v : Nat → Int32} {F : Nat → Nat → Int32} {f g : Nat → Int32} {σ : St}
set_option maxRecDepth 100000
abbrev DV (Ω : Om) (h : RH) (a : Nat) (ad : Nat → Nat) (v : Nat → Int32) (F : Nat → Nat → Int32) (f : Nat → Int32) (R : Res) : Option Value → Heap → Prop := QV (fun _ : {f' : Nat → Int32 // rM R f f'} => none) (fun f' => hR Ω (mW Ω h a ad (rV R v) (FU F 0 f'.1)))
theorem ct_X4_does (hst : l.stackTraces = false) (hd : mDi a ad) (hM : MR f σ) {R : Nat} (W : Wf R σ) (hm : sM σ + 60 ≤ 100000) (hr : R + 720 ≤ 2000000) {k : Nat} (hk : k < 50) {c0 : Cmd} (hc : CE g k c0.1 c0.2) (hx : (F 6) = g) : CM Ω l yX4_does (ws_ yX4_does cX4_does 5 none) 18 0 0 [.ref a, .int (nI k)] (hR Ω (mW Ω h a ad v (FU F 0 f))) (DV Ω h a ad v F f (aDoes σ c0)) nX := by
  have hB := W.bd (by omega) (by omega)
  obtain ⟨kv, m⟩ := c0
  obtain ⟨g0, g1, g2, g3⟩ := hc
  dsimp only at g0 g1 g2 g3
  subst hx
  by_cases hkv : isK kv
  · rcases hkv with rfl | rfl | rfl | rfl | rfl | rfl
    · rw [does_98]
      refine CM.of (L := [some (.ref a), some (.int (nI k)), none, none, none]) hst (by decide) (Nat.le_of_ble_eq_true rfl) rfl ?_
      intro p e s m below meth c X hnm htab
      refine g_aload_n X dX4_does_0 rfl rfl ?_
      refine g_get X dX4_does_1 rfl in_X4 (ci := 3) rfl 15 (by decide) q1931 (fun _ h => h) mW_a rfl ?_
      refine g_iconst X dX4_does_4 rfl (v := (nI 4)) rfl ?_
      refine g_iload_n X dX4_does_5 rfl rfl ?_
      refine g_imul X dX4_does_6 rfl (by first | exact pk_mul _ _ | rfl) ?_
      refine g_iconst X dX4_does_7 rfl (v := (nI 1)) rfl ?_
      refine g_iadd X dX4_does_8 rfl (by first | exact nI_add _ _ | rfl) ?_
      refine g_ial X dX4_does_9 rfl (mW_6 hd) (vp_in_nI (by omega) (by decide)) (ix_v (by omega) (g1 (Or.inr (Or.inr rfl))).1) ?_
      refine g_istore_n X dX4_does_10 rfl (by decide) rfl rfl ?_
      refine g_aload_n X dX4_does_11 rfl rfl ?_
      refine g_get X dX4_does_12 rfl in_X4 (ci := 3) rfl 15 (by decide) q1931 (fun _ h => h) mW_a rfl ?_
      refine g_iconst X dX4_does_15 rfl (v := (nI 4)) rfl ?_
      refine g_iload_n X dX4_does_16 rfl rfl ?_
      refine g_imul X dX4_does_17 rfl (by first | exact pk_mul _ _ | rfl) ?_
      refine g_iconst X dX4_does_18 rfl (v := (nI 2)) rfl ?_
      refine g_iadd X dX4_does_19 rfl (by first | exact nI_add _ _ | rfl) ?_
      refine g_ial X dX4_does_20 rfl (mW_6 hd) (vp_in_nI (by omega) (by decide)) (ix_v (by omega) (g1 (Or.inr (Or.inr rfl))).2) ?_
      refine g_istore_n X dX4_does_21 rfl (by decide) rfl rfl ?_
      refine g_aload_n X dX4_does_22 rfl rfl ?_
      refine g_get X dX4_does_23 rfl in_X4 (ci := 3) rfl 15 (by decide) q1931 (fun _ h => h) mW_a rfl ?_
      refine g_iconst X dX4_does_26 rfl (v := (nI 4)) rfl ?_
      refine g_iload_n X dX4_does_27 rfl rfl ?_
      refine g_imul X dX4_does_28 rfl (by first | exact pk_mul _ _ | rfl) ?_
      refine g_ial X dX4_does_29 rfl (mW_6 hd) (vp_in_nI (by omega) (by decide)) (ix_v (by omega) g0) ?_
      refine g_lookup (off := 80) (tgt := 110) X dX4_does_30 rfl (by decide) (by decide) (by decide) ?_
      refine g_aload_n X dX4_does_110 rfl rfl ?_
      refine g_iload_n X dX4_does_111 rfl rfl ?_
      refine g_iload_n X dX4_does_112 rfl rfl ?_
      refine g_aload_n X dX4_does_113 rfl rfl ?_
      refine g_get X dX4_does_114 rfl in_X4 (ci := 3) rfl 15 (by decide) q1931 (fun _ h => h) mW_a rfl ?_
      refine g_iconst X dX4_does_117 rfl (v := (nI 4)) rfl ?_
      refine g_iload_n X dX4_does_118 rfl rfl ?_
      refine g_imul X dX4_does_119 rfl (by first | exact pk_mul _ _ | rfl) ?_
      refine g_iconst X dX4_does_120 rfl (v := (nI 3)) rfl ?_
      refine g_iadd X dX4_does_121 rfl (by first | exact nI_add _ _ | rfl) ?_
      refine g_ial X dX4_does_122 rfl (mW_6 hd) (vp_in_nI (by omega) (by decide)) (ix_v (by omega) (g2 rfl)) ?_
      refine g_callV X (ct_X4_doBook hst hd hM hB) dX4_does_123 rfl (lw_V q2008 q2010 qs30 q76 q2011) hyV_X4_doBook (fun H hH => hR.recv X.2.2.2.2.2.2.2.1 hH mW_a rfl) (fun H hH => hH) ⟨Nat.le_of_ble_eq_true rfl, Nat.le_of_ble_eq_true rfl⟩ ⟨Nat.le_of_ble_eq_true rfl, Nat.le_of_ble_eq_true rfl⟩ (Nat.le_of_ble_eq_true rfl) rfl (fun x0 => ?_)
      refine g_istore X dX4_does_126 rfl (by decide) rfl rfl ?_
      refine g_goto (tgt := 167) X dX4_does_128 rfl (by decide) ?_
      refine g_vret X dX4_does_167 rfl (Nat.le_of_ble_eq_true rfl) (Nat.le_of_ble_eq_true rfl) (fun H hH => ⟨x0, rfl, hH⟩)
    · rw [does_99]
      refine CM.of (L := [some (.ref a), some (.int (nI k)), none, none, none]) hst (by decide) (Nat.le_of_ble_eq_true rfl) rfl ?_
      intro p e s m below meth c X hnm htab
      refine g_aload_n X dX4_does_0 rfl rfl ?_
      refine g_get X dX4_does_1 rfl in_X4 (ci := 3) rfl 15 (by decide) q1931 (fun _ h => h) mW_a rfl ?_
      refine g_iconst X dX4_does_4 rfl (v := (nI 4)) rfl ?_
      refine g_iload_n X dX4_does_5 rfl rfl ?_
      refine g_imul X dX4_does_6 rfl (by first | exact pk_mul _ _ | rfl) ?_
      refine g_iconst X dX4_does_7 rfl (v := (nI 1)) rfl ?_
      refine g_iadd X dX4_does_8 rfl (by first | exact nI_add _ _ | rfl) ?_
      refine g_ial X dX4_does_9 rfl (mW_6 hd) (vp_in_nI (by omega) (by decide)) (ix_v (by omega) (g3 (Or.inl rfl))) ?_
      refine g_istore_n X dX4_does_10 rfl (by decide) rfl rfl ?_
      refine g_aload_n X dX4_does_11 rfl rfl ?_
      refine g_get X dX4_does_12 rfl in_X4 (ci := 3) rfl 15 (by decide) q1931 (fun _ h => h) mW_a rfl ?_
      refine g_iconst X dX4_does_15 rfl (v := (nI 4)) rfl ?_
      refine g_iload_n X dX4_does_16 rfl rfl ?_
      refine g_imul X dX4_does_17 rfl (by first | exact pk_mul _ _ | rfl) ?_
      refine g_iconst X dX4_does_18 rfl (v := (nI 2)) rfl ?_
      refine g_iadd X dX4_does_19 rfl (by first | exact nI_add _ _ | rfl) ?_
      refine g_ial X dX4_does_20 rfl (mW_6 hd) (vp_in_nI (by omega) (by decide)) (ix_v (by omega) rfl) ?_
      refine g_istore_n X dX4_does_21 rfl (by decide) rfl rfl ?_
      refine g_aload_n X dX4_does_22 rfl rfl ?_
      refine g_get X dX4_does_23 rfl in_X4 (ci := 3) rfl 15 (by decide) q1931 (fun _ h => h) mW_a rfl ?_
      refine g_iconst X dX4_does_26 rfl (v := (nI 4)) rfl ?_
      refine g_iload_n X dX4_does_27 rfl rfl ?_
      refine g_imul X dX4_does_28 rfl (by first | exact pk_mul _ _ | rfl) ?_
      refine g_ial X dX4_does_29 rfl (mW_6 hd) (vp_in_nI (by omega) (by decide)) (ix_v (by omega) g0) ?_
      refine g_lookup (off := 101) (tgt := 131) X dX4_does_30 rfl (by decide) (by decide) (by decide) ?_
      refine g_aload_n X dX4_does_131 rfl rfl ?_
      refine g_iload_n X dX4_does_132 rfl rfl ?_
      refine g_callV X (ct_X4_doCancel hst hd hM hB) dX4_does_133 rfl (lw_V q2060 q2062 qs42 q76 q2063) hyV_X4_doCancel (fun H hH => hR.recv X.2.2.2.2.2.2.2.1 hH mW_a rfl) (fun H hH => hH) ⟨Nat.le_of_ble_eq_true rfl, Nat.le_of_ble_eq_true rfl⟩ ⟨Nat.le_of_ble_eq_true rfl, Nat.le_of_ble_eq_true rfl⟩ (Nat.le_of_ble_eq_true rfl) rfl (fun x0 => ?_)
      refine g_istore X dX4_does_136 rfl (by decide) rfl rfl ?_
      refine g_goto (tgt := 167) X dX4_does_138 rfl (by decide) ?_
      refine g_vret X dX4_does_167 rfl (Nat.le_of_ble_eq_true rfl) (Nat.le_of_ble_eq_true rfl) (fun H hH => ⟨x0, rfl, hH⟩)
    · rw [does_108]
      refine CM.of (L := [some (.ref a), some (.int (nI k)), none, none, none]) hst (by decide) (Nat.le_of_ble_eq_true rfl) rfl ?_
      intro p e s m below meth c X hnm htab
      refine g_aload_n X dX4_does_0 rfl rfl ?_
      refine g_get X dX4_does_1 rfl in_X4 (ci := 3) rfl 15 (by decide) q1931 (fun _ h => h) mW_a rfl ?_
      refine g_iconst X dX4_does_4 rfl (v := (nI 4)) rfl ?_
      refine g_iload_n X dX4_does_5 rfl rfl ?_
      refine g_imul X dX4_does_6 rfl (by first | exact pk_mul _ _ | rfl) ?_
      refine g_iconst X dX4_does_7 rfl (v := (nI 1)) rfl ?_
      refine g_iadd X dX4_does_8 rfl (by first | exact nI_add _ _ | rfl) ?_
      refine g_ial X dX4_does_9 rfl (mW_6 hd) (vp_in_nI (by omega) (by decide)) (ix_v (by omega) (g3 (Or.inr (Or.inl rfl)))) ?_
      refine g_istore_n X dX4_does_10 rfl (by decide) rfl rfl ?_
      refine g_aload_n X dX4_does_11 rfl rfl ?_
      refine g_get X dX4_does_12 rfl in_X4 (ci := 3) rfl 15 (by decide) q1931 (fun _ h => h) mW_a rfl ?_
      refine g_iconst X dX4_does_15 rfl (v := (nI 4)) rfl ?_
      refine g_iload_n X dX4_does_16 rfl rfl ?_
      refine g_imul X dX4_does_17 rfl (by first | exact pk_mul _ _ | rfl) ?_
      refine g_iconst X dX4_does_18 rfl (v := (nI 2)) rfl ?_
      refine g_iadd X dX4_does_19 rfl (by first | exact nI_add _ _ | rfl) ?_
      refine g_ial X dX4_does_20 rfl (mW_6 hd) (vp_in_nI (by omega) (by decide)) (ix_v (by omega) rfl) ?_
      refine g_istore_n X dX4_does_21 rfl (by decide) rfl rfl ?_
      refine g_aload_n X dX4_does_22 rfl rfl ?_
      refine g_get X dX4_does_23 rfl in_X4 (ci := 3) rfl 15 (by decide) q1931 (fun _ h => h) mW_a rfl ?_
      refine g_iconst X dX4_does_26 rfl (v := (nI 4)) rfl ?_
      refine g_iload_n X dX4_does_27 rfl rfl ?_
      refine g_imul X dX4_does_28 rfl (by first | exact pk_mul _ _ | rfl) ?_
      refine g_ial X dX4_does_29 rfl (mW_6 hd) (vp_in_nI (by omega) (by decide)) (ix_v (by omega) g0) ?_
      refine g_lookup (off := 111) (tgt := 141) X dX4_does_30 rfl (by decide) (by decide) (by decide) ?_
      refine g_aload_n X dX4_does_141 rfl rfl ?_
      refine g_iload_n X dX4_does_142 rfl rfl ?_
      refine g_callV X (ct_X4_doLeave hst hd hM hB W.2.2.2.1) dX4_does_143 rfl (lw_V q2084 q2086 qs46 q76 q2087) hyV_X4_doLeave (fun H hH => hR.recv X.2.2.2.2.2.2.2.1 hH mW_a rfl) (fun H hH => hH) ⟨Nat.le_of_ble_eq_true rfl, Nat.le_of_ble_eq_true rfl⟩ ⟨Nat.le_of_ble_eq_true rfl, Nat.le_of_ble_eq_true rfl⟩ (Nat.le_of_ble_eq_true rfl) rfl (fun x0 => ?_)
      refine g_istore X dX4_does_146 rfl (by decide) rfl rfl ?_
      refine g_goto (tgt := 167) X dX4_does_148 rfl (by decide) ?_
      refine g_vret X dX4_does_167 rfl (Nat.le_of_ble_eq_true rfl) (Nat.le_of_ble_eq_true rfl) (fun H hH => ⟨x0, rfl, hH⟩)
    · rw [does_113]
      refine CM.of (L := [some (.ref a), some (.int (nI k)), none, none, none]) hst (by decide) (Nat.le_of_ble_eq_true rfl) rfl ?_
      intro p e s m below meth c X hnm htab
      refine g_aload_n X dX4_does_0 rfl rfl ?_
      refine g_get X dX4_does_1 rfl in_X4 (ci := 3) rfl 15 (by decide) q1931 (fun _ h => h) mW_a rfl ?_
      refine g_iconst X dX4_does_4 rfl (v := (nI 4)) rfl ?_
      refine g_iload_n X dX4_does_5 rfl rfl ?_
      refine g_imul X dX4_does_6 rfl (by first | exact pk_mul _ _ | rfl) ?_
      refine g_iconst X dX4_does_7 rfl (v := (nI 1)) rfl ?_
      refine g_iadd X dX4_does_8 rfl (by first | exact nI_add _ _ | rfl) ?_
      refine g_ial X dX4_does_9 rfl (mW_6 hd) (vp_in_nI (by omega) (by decide)) (ix_v (by omega) (g1 (Or.inr (Or.inl rfl))).1) ?_
      refine g_istore_n X dX4_does_10 rfl (by decide) rfl rfl ?_
      refine g_aload_n X dX4_does_11 rfl rfl ?_
      refine g_get X dX4_does_12 rfl in_X4 (ci := 3) rfl 15 (by decide) q1931 (fun _ h => h) mW_a rfl ?_
      refine g_iconst X dX4_does_15 rfl (v := (nI 4)) rfl ?_
      refine g_iload_n X dX4_does_16 rfl rfl ?_
      refine g_imul X dX4_does_17 rfl (by first | exact pk_mul _ _ | rfl) ?_
      refine g_iconst X dX4_does_18 rfl (v := (nI 2)) rfl ?_
      refine g_iadd X dX4_does_19 rfl (by first | exact nI_add _ _ | rfl) ?_
      refine g_ial X dX4_does_20 rfl (mW_6 hd) (vp_in_nI (by omega) (by decide)) (ix_v (by omega) (g1 (Or.inr (Or.inl rfl))).2) ?_
      refine g_istore_n X dX4_does_21 rfl (by decide) rfl rfl ?_
      refine g_aload_n X dX4_does_22 rfl rfl ?_
      refine g_get X dX4_does_23 rfl in_X4 (ci := 3) rfl 15 (by decide) q1931 (fun _ h => h) mW_a rfl ?_
      refine g_iconst X dX4_does_26 rfl (v := (nI 4)) rfl ?_
      refine g_iload_n X dX4_does_27 rfl rfl ?_
      refine g_imul X dX4_does_28 rfl (by first | exact pk_mul _ _ | rfl) ?_
      refine g_ial X dX4_does_29 rfl (mW_6 hd) (vp_in_nI (by omega) (by decide)) (ix_v (by omega) g0) ?_
      refine g_lookup (off := 69) (tgt := 99) X dX4_does_30 rfl (by decide) (by decide) (by decide) ?_
      refine g_aload_n X dX4_does_99 rfl rfl ?_
      refine g_iload_n X dX4_does_100 rfl rfl ?_
      refine g_iload_n X dX4_does_101 rfl rfl ?_
      refine g_callV X (ct_X4_doJoin hst hd hM hB) dX4_does_102 rfl (lw_V q2076 q2078 qs45 q76 q2079) hyV_X4_doJoin (fun H hH => hR.recv X.2.2.2.2.2.2.2.1 hH mW_a rfl) (fun H hH => hH) ⟨Nat.le_of_ble_eq_true rfl, Nat.le_of_ble_eq_true rfl⟩ ⟨Nat.le_of_ble_eq_true rfl, Nat.le_of_ble_eq_true rfl⟩ (Nat.le_of_ble_eq_true rfl) rfl (fun x0 => ?_)
      refine g_istore X dX4_does_105 rfl (by decide) rfl rfl ?_
      refine g_goto (tgt := 167) X dX4_does_107 rfl (by decide) ?_
      refine g_vret X dX4_does_167 rfl (Nat.le_of_ble_eq_true rfl) (Nat.le_of_ble_eq_true rfl) (fun H hH => ⟨x0, rfl, hH⟩)
    · rw [does_115]
      refine CM.of (L := [some (.ref a), some (.int (nI k)), none, none, none]) hst (by decide) (Nat.le_of_ble_eq_true rfl) rfl ?_
      intro p e s m below meth c X hnm htab
      refine g_aload_n X dX4_does_0 rfl rfl ?_
      refine g_get X dX4_does_1 rfl in_X4 (ci := 3) rfl 15 (by decide) q1931 (fun _ h => h) mW_a rfl ?_
      refine g_iconst X dX4_does_4 rfl (v := (nI 4)) rfl ?_
      refine g_iload_n X dX4_does_5 rfl rfl ?_
      refine g_imul X dX4_does_6 rfl (by first | exact pk_mul _ _ | rfl) ?_
      refine g_iconst X dX4_does_7 rfl (v := (nI 1)) rfl ?_
      refine g_iadd X dX4_does_8 rfl (by first | exact nI_add _ _ | rfl) ?_
      refine g_ial X dX4_does_9 rfl (mW_6 hd) (vp_in_nI (by omega) (by decide)) (ix_v (by omega) (g1 (Or.inl rfl)).1) ?_
      refine g_istore_n X dX4_does_10 rfl (by decide) rfl rfl ?_
      refine g_aload_n X dX4_does_11 rfl rfl ?_
      refine g_get X dX4_does_12 rfl in_X4 (ci := 3) rfl 15 (by decide) q1931 (fun _ h => h) mW_a rfl ?_
      refine g_iconst X dX4_does_15 rfl (v := (nI 4)) rfl ?_
      refine g_iload_n X dX4_does_16 rfl rfl ?_
      refine g_imul X dX4_does_17 rfl (by first | exact pk_mul _ _ | rfl) ?_
      refine g_iconst X dX4_does_18 rfl (v := (nI 2)) rfl ?_
      refine g_iadd X dX4_does_19 rfl (by first | exact nI_add _ _ | rfl) ?_
      refine g_ial X dX4_does_20 rfl (mW_6 hd) (vp_in_nI (by omega) (by decide)) (ix_v (by omega) (g1 (Or.inl rfl)).2) ?_
      refine g_istore_n X dX4_does_21 rfl (by decide) rfl rfl ?_
      refine g_aload_n X dX4_does_22 rfl rfl ?_
      refine g_get X dX4_does_23 rfl in_X4 (ci := 3) rfl 15 (by decide) q1931 (fun _ h => h) mW_a rfl ?_
      refine g_iconst X dX4_does_26 rfl (v := (nI 4)) rfl ?_
      refine g_iload_n X dX4_does_27 rfl rfl ?_
      refine g_imul X dX4_does_28 rfl (by first | exact pk_mul _ _ | rfl) ?_
      refine g_ial X dX4_does_29 rfl (mW_6 hd) (vp_in_nI (by omega) (by decide)) (ix_v (by omega) g0) ?_
      refine g_lookup (off := 58) (tgt := 88) X dX4_does_30 rfl (by decide) (by decide) (by decide) ?_
      refine g_aload_n X dX4_does_88 rfl rfl ?_
      refine g_iload_n X dX4_does_89 rfl rfl ?_
      refine g_iload_n X dX4_does_90 rfl rfl ?_
      refine g_callV X (ct_X4_doBuildSlide hst hd hM hB) dX4_does_91 rfl (lw_V q1981 q1983 qs26 q76 q1984) hyV_X4_doBuildSlide (fun H hH => hR.recv X.2.2.2.2.2.2.2.1 hH mW_a rfl) (fun H hH => hH) ⟨Nat.le_of_ble_eq_true rfl, Nat.le_of_ble_eq_true rfl⟩ ⟨Nat.le_of_ble_eq_true rfl, Nat.le_of_ble_eq_true rfl⟩ (Nat.le_of_ble_eq_true rfl) rfl (fun x0 => ?_)
      refine g_istore X dX4_does_94 rfl (by decide) rfl rfl ?_
      refine g_goto (tgt := 167) X dX4_does_96 rfl (by decide) ?_
      refine g_vret X dX4_does_167 rfl (Nat.le_of_ble_eq_true rfl) (Nat.le_of_ble_eq_true rfl) (fun H hH => ⟨x0, rfl, hH⟩)
    · rw [does_119]
      refine CM.of (L := [some (.ref a), some (.int (nI k)), none, none, none]) hst (by decide) (Nat.le_of_ble_eq_true rfl) rfl ?_
      intro p e s m below meth c X hnm htab
      refine g_aload_n X dX4_does_0 rfl rfl ?_
      refine g_get X dX4_does_1 rfl in_X4 (ci := 3) rfl 15 (by decide) q1931 (fun _ h => h) mW_a rfl ?_
      refine g_iconst X dX4_does_4 rfl (v := (nI 4)) rfl ?_
      refine g_iload_n X dX4_does_5 rfl rfl ?_
      refine g_imul X dX4_does_6 rfl (by first | exact pk_mul _ _ | rfl) ?_
      refine g_iconst X dX4_does_7 rfl (v := (nI 1)) rfl ?_
      refine g_iadd X dX4_does_8 rfl (by first | exact nI_add _ _ | rfl) ?_
      refine g_ial X dX4_does_9 rfl (mW_6 hd) (vp_in_nI (by omega) (by decide)) (ix_v (by omega) (g3 (Or.inr (Or.inr rfl)))) ?_
      refine g_istore_n X dX4_does_10 rfl (by decide) rfl rfl ?_
      refine g_aload_n X dX4_does_11 rfl rfl ?_
      refine g_get X dX4_does_12 rfl in_X4 (ci := 3) rfl 15 (by decide) q1931 (fun _ h => h) mW_a rfl ?_
      refine g_iconst X dX4_does_15 rfl (v := (nI 4)) rfl ?_
      refine g_iload_n X dX4_does_16 rfl rfl ?_
      refine g_imul X dX4_does_17 rfl (by first | exact pk_mul _ _ | rfl) ?_
      refine g_iconst X dX4_does_18 rfl (v := (nI 2)) rfl ?_
      refine g_iadd X dX4_does_19 rfl (by first | exact nI_add _ _ | rfl) ?_
      refine g_ial X dX4_does_20 rfl (mW_6 hd) (vp_in_nI (by omega) (by decide)) (ix_v (by omega) rfl) ?_
      refine g_istore_n X dX4_does_21 rfl (by decide) rfl rfl ?_
      refine g_aload_n X dX4_does_22 rfl rfl ?_
      refine g_get X dX4_does_23 rfl in_X4 (ci := 3) rfl 15 (by decide) q1931 (fun _ h => h) mW_a rfl ?_
      refine g_iconst X dX4_does_26 rfl (v := (nI 4)) rfl ?_
      refine g_iload_n X dX4_does_27 rfl rfl ?_
      refine g_imul X dX4_does_28 rfl (by first | exact pk_mul _ _ | rfl) ?_
      refine g_ial X dX4_does_29 rfl (mW_6 hd) (vp_in_nI (by omega) (by decide)) (ix_v (by omega) g0) ?_
      refine g_lookup (off := 121) (tgt := 151) X dX4_does_30 rfl (by decide) (by decide) (by decide) ?_
      refine g_aload_n X dX4_does_151 rfl rfl ?_
      refine g_iload_n X dX4_does_152 rfl rfl ?_
      refine g_callV X (ct_X4_doPass hst hd hM W hm hr) dX4_does_153 rfl (lw_V q2092 q2094 qs47 q76 q2095) hyV_X4_doPass (fun H hH => hR.recv X.2.2.2.2.2.2.2.1 hH mW_a rfl) (fun H hH => hH) ⟨Nat.le_of_ble_eq_true rfl, Nat.le_of_ble_eq_true rfl⟩ ⟨Nat.le_of_ble_eq_true rfl, Nat.le_of_ble_eq_true rfl⟩ (Nat.le_of_ble_eq_true rfl) rfl (fun x0 => ?_)
      refine g_istore X dX4_does_156 rfl (by decide) rfl rfl ?_
      refine g_goto (tgt := 167) X dX4_does_158 rfl (by decide) ?_
      refine g_vret X dX4_does_167 rfl (Nat.le_of_ble_eq_true rfl) (Nat.le_of_ble_eq_true rfl) (fun H hH => ⟨x0, rfl, hH⟩)
  · rw [does_d hkv]
    refine CM.of (L := [some (.ref a), some (.int (nI k)), none, none, none]) hst (by decide) (Nat.le_of_ble_eq_true rfl) rfl ?_
    intro p e s m below meth c X hnm htab
    refine g_aload_n X dX4_does_0 rfl rfl ?_
    refine g_get X dX4_does_1 rfl in_X4 (ci := 3) rfl 15 (by decide) q1931 (fun _ h => h) mW_a rfl ?_
    refine g_iconst X dX4_does_4 rfl (v := (nI 4)) rfl ?_
    refine g_iload_n X dX4_does_5 rfl rfl ?_
    refine g_imul X dX4_does_6 rfl (by first | exact pk_mul _ _ | rfl) ?_
    refine g_iconst X dX4_does_7 rfl (v := (nI 1)) rfl ?_
    refine g_iadd X dX4_does_8 rfl (by first | exact nI_add _ _ | rfl) ?_
    refine g_ial X dX4_does_9 rfl (mW_6 hd) (vp_in_nI (by omega) (by decide)) (ix_v (by omega) rfl) ?_
    refine g_istore_n X dX4_does_10 rfl (by decide) rfl rfl ?_
    refine g_aload_n X dX4_does_11 rfl rfl ?_
    refine g_get X dX4_does_12 rfl in_X4 (ci := 3) rfl 15 (by decide) q1931 (fun _ h => h) mW_a rfl ?_
    refine g_iconst X dX4_does_15 rfl (v := (nI 4)) rfl ?_
    refine g_iload_n X dX4_does_16 rfl rfl ?_
    refine g_imul X dX4_does_17 rfl (by first | exact pk_mul _ _ | rfl) ?_
    refine g_iconst X dX4_does_18 rfl (v := (nI 2)) rfl ?_
    refine g_iadd X dX4_does_19 rfl (by first | exact nI_add _ _ | rfl) ?_
    refine g_ial X dX4_does_20 rfl (mW_6 hd) (vp_in_nI (by omega) (by decide)) (ix_v (by omega) rfl) ?_
    refine g_istore_n X dX4_does_21 rfl (by decide) rfl rfl ?_
    refine g_aload_n X dX4_does_22 rfl rfl ?_
    refine g_get X dX4_does_23 rfl in_X4 (ci := 3) rfl 15 (by decide) q1931 (fun _ h => h) mW_a rfl ?_
    refine g_iconst X dX4_does_26 rfl (v := (nI 4)) rfl ?_
    refine g_iload_n X dX4_does_27 rfl rfl ?_
    refine g_imul X dX4_does_28 rfl (by first | exact pk_mul _ _ | rfl) ?_
    refine g_ial X dX4_does_29 rfl (mW_6 hd) (vp_in_nI (by omega) (by decide)) (ix_v (by omega) g0) ?_
    refine g_lookup (off := 131) (tgt := 161) X dX4_does_30 rfl (by decide) (lk_d _ _ _ _ _ _ _ hkv) (by decide) ?_
    refine g_aload_n X dX4_does_161 rfl rfl ?_
    refine g_callV X (ct_X4_doAddGuest hst hd hM hB) dX4_does_162 rfl (lw_V q2000 q2002 qs29 q76 q2003) hyV_X4_doAddGuest (fun H hH => hR.recv X.2.2.2.2.2.2.2.1 hH mW_a rfl) (fun H hH => hH) ⟨Nat.le_of_ble_eq_true rfl, Nat.le_of_ble_eq_true rfl⟩ ⟨Nat.le_of_ble_eq_true rfl, Nat.le_of_ble_eq_true rfl⟩ (Nat.le_of_ble_eq_true rfl) rfl (fun x0 => ?_)
    refine g_istore X dX4_does_165 rfl (by decide) rfl rfl ?_
    refine g_vret X dX4_does_167 rfl (Nat.le_of_ble_eq_true rfl) (Nat.le_of_ble_eq_true rfl) (fun H hH => ⟨x0, rfl, hH⟩)
end M17
