/-! MODEL: leaving, calls, finishes -/
section M9
variable {l : Launch} {Ω : Om} {h : RH} {a : Nat} {ad : Nat → Nat} {v : Nat → Int32} {F : Nat → Nat → Int32} {f : Nat → Int32} {σ : St}
set_option maxRecDepth 100000
theorem ct_X4_doLeave (hst : l.stackTraces = false) (hd : mDi a ad) (hM : MR f σ) (hB : Bd σ) (hQ : QI σ) {x : Int32} : CM Ω l yX4_doLeave (ws_ yX4_doLeave cX4_doLeave 6 (some .int)) 6 0 0 [.ref a, .int x] (hR Ω (mW Ω h a ad v (FU F 0 f))) (DO Ω h a ad v F f (aLeave σ x)) nX := by
  have b1 := hB.1
  by_cases h1 : okG σ x
  · obtain ⟨g, hg, rfl⟩ := (ixI (by omega)).mp h1
    have e5 := (hM.2.2.2.1 g hg).2.2
    have hw : wai σ g ≤ 4 := wai_le
    by_cases h3 : wai σ g = 0
    · have e : aLeave σ (nI g) = .inl 2 := by unfold aLeave; rw [cH_f (fun k => k h1), iN_nI (by omega), cH_t h3]
      rw [e]
      rw [h3] at e5
      refine CM.of (L := [some (.ref a), some (.int (nI g)), none, none, none, none]) hst (by decide) (Nat.le_of_ble_eq_true rfl) rfl ?_
      intro p e s m below meth c X hnm htab
      refine g_aload_n X dX4_doLeave_0 rfl rfl ?_
      refine g_iload_n X dX4_doLeave_1 rfl rfl ?_
      refine g_callV X (ct_X4_isGuest hst hd hM) dX4_doLeave_2 rfl (lw_V q2012 q2014 qs31 q76 q2015) hyV_X4_isGuest (fun H hH => hR.recv X.2.2.2.2.2.2.2.1 hH mW_a rfl) (fun H hH => hH) ⟨Nat.le_of_ble_eq_true rfl, Nat.le_of_ble_eq_true rfl⟩ ⟨Nat.le_of_ble_eq_true rfl, Nat.le_of_ble_eq_true rfl⟩ (Nat.le_of_ble_eq_true rfl) rfl (fun x_2 => ?_)
      refine g_if_ne (tgt := 14) X dX4_doLeave_5 rfl (by decide) (fun c_5 => ?_) (fun c => absurd (h1) (bI_0.mp c))
      refine g_aload_n X dX4_doLeave_14 rfl rfl ?_
      refine g_iload_n X dX4_doLeave_15 rfl rfl ?_
      refine g_iconst X dX4_doLeave_16 rfl (v := (nI 2)) rfl ?_
      refine g_callV X (ct_X4_guest hst hd (by omega) e5) dX4_doLeave_17 rfl (lw_V q2024 q2026 qs34 q76 q2027) hyV_X4_guest (fun H hH => hR.recv X.2.2.2.2.2.2.2.1 hH mW_a rfl) (fun H hH => hH) ⟨Nat.le_of_ble_eq_true rfl, Nat.le_of_ble_eq_true rfl⟩ ⟨Nat.le_of_ble_eq_true rfl, Nat.le_of_ble_eq_true rfl⟩ (Nat.le_of_ble_eq_true rfl) rfl (fun x_17 => ?_)
      refine g_iconst X dX4_doLeave_20 rfl (v := (nI 1)) rfl ?_
      refine g_isub X dX4_doLeave_21 rfl rfl ?_
      refine g_istore_n X dX4_doLeave_22 rfl (by decide) rfl rfl ?_
      refine g_iload_n X dX4_doLeave_23 rfl rfl ?_
      refine g_if_ge (tgt := 33) X dX4_doLeave_24 rfl (by decide) (fun c => absurd c (by decide)) (fun c_24 => ?_)
      refine g_aload_n X dX4_doLeave_27 rfl rfl ?_
      refine g_iconst X dX4_doLeave_28 rfl (v := (nI 2)) rfl ?_
      refine g_callV X (ct_X4_fails hst) dX4_doLeave_29 rfl (lw_V q1988 q1990 qs27 q76 q1991) hyV_X4_fails (fun H hH => hR.recv X.2.2.2.2.2.2.2.1 hH mW_a rfl) (fun H hH => hH) ⟨Nat.le_of_ble_eq_true rfl, Nat.le_of_ble_eq_true rfl⟩ ⟨Nat.le_of_ble_eq_true rfl, Nat.le_of_ble_eq_true rfl⟩ (Nat.le_of_ble_eq_true rfl) rfl (fun x_29 => ?_)
      refine g_iret X dX4_doLeave_32 rfl (Nat.le_of_ble_eq_true rfl) (Nat.le_of_ble_eq_true rfl) (fun H hH => ⟨⟨f, rfl⟩, rfl, hH⟩)
    · obtain ⟨z0, hs0⟩ : ∃ z0, wai σ g = z0 + 1 := ⟨wai σ g - 1, by omega⟩
      obtain ⟨hs, hm⟩ := wai_some hs0
      have e : aLeave σ (nI g) = .inr (z0, aQue σ z0 ((slQ σ z0).erase g)) := by unfold aLeave; rw [cH_f (fun k => k h1), iN_nI (by omega), cH_f h3, hs0]; rfl
      rw [e]
      rw [hs0] at e5
      have e6 := (hM.2.1 z0 hs).2.2.2
      have b6 := hB.2.1 z0 hs
      refine CM.of (L := [some (.ref a), some (.int (nI g)), none, none, none, none]) hst (by decide) (Nat.le_of_ble_eq_true rfl) rfl ?_
      intro p e s m below meth c X hnm htab
      refine g_aload_n X dX4_doLeave_0 rfl rfl ?_
      refine g_iload_n X dX4_doLeave_1 rfl rfl ?_
      refine g_callV X (ct_X4_isGuest hst hd hM) dX4_doLeave_2 rfl (lw_V q2012 q2014 qs31 q76 q2015) hyV_X4_isGuest (fun H hH => hR.recv X.2.2.2.2.2.2.2.1 hH mW_a rfl) (fun H hH => hH) ⟨Nat.le_of_ble_eq_true rfl, Nat.le_of_ble_eq_true rfl⟩ ⟨Nat.le_of_ble_eq_true rfl, Nat.le_of_ble_eq_true rfl⟩ (Nat.le_of_ble_eq_true rfl) rfl (fun x_2 => ?_)
      refine g_if_ne (tgt := 14) X dX4_doLeave_5 rfl (by decide) (fun c_5 => ?_) (fun c => absurd (h1) (bI_0.mp c))
      refine g_aload_n X dX4_doLeave_14 rfl rfl ?_
      refine g_iload_n X dX4_doLeave_15 rfl rfl ?_
      refine g_iconst X dX4_doLeave_16 rfl (v := (nI 2)) rfl ?_
      refine g_callV X (ct_X4_guest hst hd (by omega) e5) dX4_doLeave_17 rfl (lw_V q2024 q2026 qs34 q76 q2027) hyV_X4_guest (fun H hH => hR.recv X.2.2.2.2.2.2.2.1 hH mW_a rfl) (fun H hH => hH) ⟨Nat.le_of_ble_eq_true rfl, Nat.le_of_ble_eq_true rfl⟩ ⟨Nat.le_of_ble_eq_true rfl, Nat.le_of_ble_eq_true rfl⟩ (Nat.le_of_ble_eq_true rfl) rfl (fun x_17 => ?_)
      refine g_iconst X dX4_doLeave_20 rfl (v := (nI 1)) rfl ?_
      refine g_isub X dX4_doLeave_21 rfl (pk_sub (by omega)) ?_
      refine g_istore_n X dX4_doLeave_22 rfl (by decide) rfl rfl ?_
      refine g_iload_n X dX4_doLeave_23 rfl rfl ?_
      refine g_if_ge (tgt := 33) X dX4_doLeave_24 rfl (by decide) (fun c_24 => ?_) (fun c => absurd (nI_pos' (by omega)) c)
      refine g_bipush X dX4_doLeave_33 rfl (v := (nI 8)) (by decide) ?_
      refine g_bipush X dX4_doLeave_35 rfl (v := (nI 9)) (by decide) ?_
      refine g_iload_n X dX4_doLeave_37 rfl rfl ?_
      refine g_imul X dX4_doLeave_38 rfl (by first | exact pk_mul _ _ | rfl) ?_
      refine g_iadd X dX4_doLeave_39 rfl (by first | exact nI_add _ _ | rfl) ?_
      refine g_istore_n X dX4_doLeave_40 rfl (by decide) rfl rfl ?_
      refine g_iconst X dX4_doLeave_41 rfl (v := (nI 0)) rfl ?_
      refine g_istore X dX4_doLeave_42 rfl (by decide) rfl rfl ?_
      refine g_iconst X dX4_doLeave_44 rfl (v := (nI 0)) rfl ?_
      refine g_istore X dX4_doLeave_45 rfl (by decide) rfl rfl ?_
      refine GJ.loc ((fun x : Nat × (Nat → Int32) => [some (.ref a), some (.int (nI g)), some (.int (nI z0)), some (.int (nI (8 + 9 * z0))), some (.int (nI (lvL (slQ σ z0) g x.1).length)), some (.int (nI x.1))]) (0, f)) (lvle_c rfl (lvle_c rfl (lvle_c rfl (lvle_c rfl (lvle_c (by unfold lvL; simp) (lvle_c rfl lvle_e)))))) ?_
      refine GJ.loop (fun x : Nat × (Nat → Int32) => hR Ω (mW Ω h a ad v (FU F 0 x.2))) (fun _ => 0) (fun _ => 0) (fun x : Nat × (Nat → Int32) => [some (.ref a), some (.int (nI g)), some (.int (nI z0)), some (.int (nI (8 + 9 * z0))), some (.int (nI (lvL (slQ σ z0) g x.1).length)), some (.int (nI x.1))]) (fun x => (slQ σ z0).length - x.1) (fun x => LI f (slQ σ z0) (8 + 9 * z0 + 4) g x.1 x.2) (0, f) LI_0 ?_
      rintro ⟨k, fk⟩ hk ih
      dsimp only at hk ih ⊢
      have e7 : fk (8 + 9 * z0 + 3) = nI (slQ σ z0).length := (hk.2.1 _ (by omega)).trans e6
      have hl := lvL_le (q := slQ σ z0) (g := g) (k := k)
      have hk1 := hk.1
      refine g_iload X dX4_doLeave_47 rfl rfl ?_
      refine g_aload_n X dX4_doLeave_49 rfl rfl ?_
      refine g_get X dX4_doLeave_50 rfl in_X4 (ci := 3) rfl 0 (by decide) q1916 (fun _ h => h) mW_a rfl ?_
      refine g_iload_n X dX4_doLeave_53 rfl rfl ?_
      refine g_iconst X dX4_doLeave_54 rfl (v := (nI 3)) rfl ?_
      refine g_iadd X dX4_doLeave_55 rfl (by first | exact nI_add _ _ | rfl) ?_
      refine g_ial X dX4_doLeave_56 rfl (mW_0z hd) (vp_in_nI (by omega) (by decide)) (ix_v (by omega) e7) ?_
      refine g_icmp_ge (tgt := 113) X dX4_doLeave_57 rfl (by decide) (fun c_57 => ?_) (fun c_57 => ?_)
      · rw [nI_leI (by omega) (by omega)] at c_57
        have hke : k = (slQ σ z0).length := by omega
        have hle := lvL_end (g := g) (hQ z0 hs).1 hke
        rw [hle]
        refine g_aload_n X dX4_doLeave_113 rfl rfl ?_
        refine g_get X dX4_doLeave_114 rfl in_X4 (ci := 3) rfl 0 (by decide) q1916 (fun _ h => h) mW_a rfl ?_
        refine g_iload_n X dX4_doLeave_117 rfl rfl ?_
        refine g_iconst X dX4_doLeave_118 rfl (v := (nI 3)) rfl ?_
        refine g_iadd X dX4_doLeave_119 rfl (by first | exact nI_add _ _ | rfl) ?_
        refine g_iload X dX4_doLeave_120 rfl rfl ?_
        refine g_ias X dX4_doLeave_122 rfl (mW_0z hd) (vp_in_nI (by omega) (by decide)) (mW_i0 hd (nI_clamp (by omega))) ?_
        refine g_aload_n X dX4_doLeave_123 rfl rfl ?_
        refine g_get X dX4_doLeave_124 rfl in_X4 (ci := 3) rfl 0 (by decide) q1916 (fun _ h => h) mW_a rfl ?_
        refine g_bipush X dX4_doLeave_127 rfl (v := (nI 44)) (by decide) ?_
        refine g_iconst X dX4_doLeave_129 rfl (v := (nI 3)) rfl ?_
        refine g_iload_n X dX4_doLeave_130 rfl rfl ?_
        refine g_imul X dX4_doLeave_131 rfl (by first | exact pk_mul _ _ | rfl) ?_
        refine g_iadd X dX4_doLeave_132 rfl (by first | exact nI_add _ _ | rfl) ?_
        refine g_iconst X dX4_doLeave_133 rfl (v := (nI 2)) rfl ?_
        refine g_iadd X dX4_doLeave_134 rfl (by first | exact nI_add _ _ | rfl) ?_
        refine g_iconst X dX4_doLeave_135 rfl (v := (nI 0)) rfl ?_
        refine g_ias X dX4_doLeave_136 rfl (mW_0z hd) (vp_in_nI (by omega) (by decide)) (mW_i0 hd (nI_clamp (by omega))) ?_
        refine g_iload_n X dX4_doLeave_137 rfl rfl ?_
        refine g_iret X dX4_doLeave_138 rfl (Nat.le_of_ble_eq_true rfl) (Nat.le_of_ble_eq_true rfl) (fun H hH => ⟨⟨_, MR_leave hM hB.cp hQ hg hs hs0 (fun j hj => hk.2.1 j (by omega)) (fun j hj => (hk.2.2 j (by rw [hle]; exact hj)).trans (by rw [hle]))⟩, rfl, hH⟩)
      · rw [nI_leI (by omega) (by omega)] at c_57
        have hkl : k < (slQ σ z0).length := by omega
        have e8 : fk (8 + 9 * z0 + 4 + k) = nI ((slQ σ z0).getD k 0) := by
          rw [hk.2.1 _ (by omega), show 8 + 9 * z0 + 4 + k = 8 + 9 * z0 + (4 + k) by omega]; exact hM.2.2.1 z0 hs k hkl
        have b3 : (slQ σ z0).getD k 0 < nG σ := hB.2.2.1 z0 hs _ (by rw [List.getD_eq_getElem?_getD, List.getElem?_eq_getElem hkl]; exact List.getElem_mem hkl)
        have hst2 := LI_s hk hkl
        refine g_aload_n X dX4_doLeave_60 rfl rfl ?_
        refine g_get X dX4_doLeave_61 rfl in_X4 (ci := 3) rfl 0 (by decide) q1916 (fun _ h => h) mW_a rfl ?_
        refine g_iload_n X dX4_doLeave_64 rfl rfl ?_
        refine g_iconst X dX4_doLeave_65 rfl (v := (nI 4)) rfl ?_
        refine g_iadd X dX4_doLeave_66 rfl (by first | exact nI_add _ _ | rfl) ?_
        refine g_iload X dX4_doLeave_67 rfl rfl ?_
        refine g_iadd X dX4_doLeave_69 rfl (by first | exact nI_add _ _ | rfl) ?_
        refine g_aload_n X dX4_doLeave_70 rfl rfl ?_
        refine g_get X dX4_doLeave_71 rfl in_X4 (ci := 3) rfl 0 (by decide) q1916 (fun _ h => h) mW_a rfl ?_
        refine g_iload_n X dX4_doLeave_74 rfl rfl ?_
        refine g_iconst X dX4_doLeave_75 rfl (v := (nI 4)) rfl ?_
        refine g_iadd X dX4_doLeave_76 rfl (by first | exact nI_add _ _ | rfl) ?_
        refine g_iload X dX4_doLeave_77 rfl rfl ?_
        refine g_iadd X dX4_doLeave_79 rfl (by first | exact nI_add _ _ | rfl) ?_
        refine g_ial X dX4_doLeave_80 rfl (mW_0z hd) (vp_in_nI (by omega) (by decide)) (ix_v (by omega) e8) ?_
        refine g_ias X dX4_doLeave_81 rfl (mW_0z hd) (vp_in_nI (by omega) (by decide)) (mW_i0 hd (nI_clamp (by omega))) ?_
        refine g_iload X dX4_doLeave_82 rfl rfl ?_
        refine g_aload_n X dX4_doLeave_84 rfl rfl ?_
        refine g_get X dX4_doLeave_85 rfl in_X4 (ci := 3) rfl 0 (by decide) q1916 (fun _ h => h) mW_a rfl ?_
        refine g_iload_n X dX4_doLeave_88 rfl rfl ?_
        refine g_iconst X dX4_doLeave_89 rfl (v := (nI 4)) rfl ?_
        refine g_iadd X dX4_doLeave_90 rfl (by first | exact nI_add _ _ | rfl) ?_
        refine g_iload X dX4_doLeave_91 rfl rfl ?_
        refine g_iadd X dX4_doLeave_93 rfl (by first | exact nI_add _ _ | rfl) ?_
        refine g_ial X dX4_doLeave_94 rfl (mW_0z hd) (vp_in_nI (by omega) (by decide)) (ix_v (by omega) (upd_same e8)) ?_
        refine g_iload_n X dX4_doLeave_95 rfl rfl ?_
        refine g_icmp_ne (tgt := 103) X dX4_doLeave_96 rfl (by decide) (fun c_96 => ?_) (fun c_96 => ?_)
        · rw [nI_eq (by omega) (by omega)] at c_96
          refine g_iconst X dX4_doLeave_103 rfl (v := (nI 1)) rfl ?_
          refine g_iadd X dX4_doLeave_104 rfl (by first | exact nI_add _ _ | rfl) ?_
          refine g_istore X dX4_doLeave_105 rfl (by decide) rfl rfl ?_
          refine g_iinc X dX4_doLeave_107 rfl rfl (by first | exact nI_1 _ | rfl) (by decide) rfl rfl ?_
          refine g_goto (tgt := 47) X dX4_doLeave_110 rfl (by decide) ?_
          refine GJ.loc [some (.ref a), some (.int (nI g)), some (.int (nI z0)), some (.int (nI (8 + 9 * z0))), some (.int (nI (lvL (slQ σ z0) g (k + 1)).length)), some (.int (nI (k + 1)))] (lvle_c rfl (lvle_c rfl (lvle_c rfl (lvle_c rfl (lvle_c (by rw [lvL_s hkl, if_neg c_96, List.length_append]; rfl) (lvle_c rfl lvle_e)))))) ?_
          exact ih (k + 1, _) hst2 (by dsimp only; omega)
        · rw [nI_eq (by omega) (by omega)] at c_96
          refine g_iconst X dX4_doLeave_99 rfl (v := (nI 0)) rfl ?_
          refine g_goto (tgt := 104) X dX4_doLeave_100 rfl (by decide) ?_
          refine g_iadd X dX4_doLeave_104 rfl (by first | exact nI_add _ _ | rfl) ?_
          refine g_istore X dX4_doLeave_105 rfl (by decide) rfl rfl ?_
          refine g_iinc X dX4_doLeave_107 rfl rfl (by first | exact nI_1 _ | rfl) (by decide) rfl rfl ?_
          refine g_goto (tgt := 47) X dX4_doLeave_110 rfl (by decide) ?_
          refine GJ.loc [some (.ref a), some (.int (nI g)), some (.int (nI z0)), some (.int (nI (8 + 9 * z0))), some (.int (nI (lvL (slQ σ z0) g (k + 1)).length)), some (.int (nI (k + 1)))] (lvle_c rfl (lvle_c rfl (lvle_c rfl (lvle_c rfl (lvle_c (by rw [lvL_s hkl, if_pos c_96]; rfl) (lvle_c rfl lvle_e)))))) ?_
          exact ih (k + 1, _) hst2 (by dsimp only; omega)
  · have e : aLeave σ x = .inl 1 := by unfold aLeave; rw [cH_t h1]
    rw [e]
    refine CM.of (L := [some (.ref a), some (.int x), none, none, none, none]) hst (by decide) (Nat.le_of_ble_eq_true rfl) rfl ?_
    intro p e s m below meth c X hnm htab
    refine g_aload_n X dX4_doLeave_0 rfl rfl ?_
    refine g_iload_n X dX4_doLeave_1 rfl rfl ?_
    refine g_callV X (ct_X4_isGuest hst hd hM) dX4_doLeave_2 rfl (lw_V q2012 q2014 qs31 q76 q2015) hyV_X4_isGuest (fun H hH => hR.recv X.2.2.2.2.2.2.2.1 hH mW_a rfl) (fun H hH => hH) ⟨Nat.le_of_ble_eq_true rfl, Nat.le_of_ble_eq_true rfl⟩ ⟨Nat.le_of_ble_eq_true rfl, Nat.le_of_ble_eq_true rfl⟩ (Nat.le_of_ble_eq_true rfl) rfl (fun x_2 => ?_)
    refine g_if_ne (tgt := 14) X dX4_doLeave_5 rfl (by decide) (fun c => absurd (bI_n0.mp c) (h1)) (fun c_5 => ?_)
    refine g_aload_n X dX4_doLeave_8 rfl rfl ?_
    refine g_iconst X dX4_doLeave_9 rfl (v := (nI 1)) rfl ?_
    refine g_callV X (ct_X4_fails hst) dX4_doLeave_10 rfl (lw_V q1988 q1990 qs27 q76 q1991) hyV_X4_fails (fun H hH => hR.recv X.2.2.2.2.2.2.2.1 hH mW_a rfl) (fun H hH => hH) ⟨Nat.le_of_ble_eq_true rfl, Nat.le_of_ble_eq_true rfl⟩ ⟨Nat.le_of_ble_eq_true rfl, Nat.le_of_ble_eq_true rfl⟩ (Nat.le_of_ble_eq_true rfl) rfl (fun x_10 => ?_)
    refine g_iret X dX4_doLeave_13 rfl (Nat.le_of_ble_eq_true rfl) (Nat.le_of_ble_eq_true rfl) (fun H hH => ⟨⟨f, rfl⟩, rfl, hH⟩)
theorem ct_X4_doLeaveR (hst : l.stackTraces = false) (hd : mDi a ad) (hM : MR f σ) (hB : Bd σ) (hQ : QI σ) {x : Int32} {R : Res} (hr : aLeave σ x = R) : CM Ω l yX4_doLeave (ws_ yX4_doLeave cX4_doLeave 6 (some .int)) 6 0 0 [.ref a, .int x] (hR Ω (mW Ω h a ad v (FU F 0 f))) (DO Ω h a ad v F f R) nX := by
  subst hr
  exact ct_X4_doLeave hst hd hM hB hQ
theorem ct_X4_calls (hst : l.stackTraces = false) (hd : mDi a ad) (hM : MR f σ) {R : Nat} (W : Wf R σ) (hm : sM σ ≤ 100000) (hr : R ≤ 2000000) {z0 : Nat} (hs : z0 < nS σ) : CM Ω l yX4_calls (ws_ yX4_calls cX4_calls 6 none) 11 0 0 [.ref a, .int (nI z0)] (hR Ω (mW Ω h a ad v (FU F 0 f))) (QV (fun _ : {f' : Nat → Int32 // MR f' (aCall σ z0)} => none) (fun f' => hR Ω (mW Ω h a ad v (FU F 0 f'.1)))) nX := by
  have hB := W.bd hm hr
  have b1 := hB.1
  have e2 := hM.2.1 z0 hs
  have b2 := hB.2.1 z0 hs
  cases hq : slQ σ z0 with
  | nil =>
    rw [aCall_nil hq]
    have e3 := e2.2.2.2
    rw [hq] at e3
    refine CM.of (L := [some (.ref a), some (.int (nI z0)), none, none, none, none]) hst (by decide) (Nat.le_of_ble_eq_true rfl) rfl ?_
    intro p e s m below meth c X hnm htab
    refine g_aload_n X dX4_calls_0 rfl rfl ?_
    refine g_iload_n X dX4_calls_1 rfl rfl ?_
    refine g_iconst X dX4_calls_2 rfl (v := (nI 3)) rfl ?_
    refine g_callV X (ct_X4_slide hst hd (by omega) e3) dX4_calls_3 rfl (lw_V q2028 q2030 qs35 q76 q2031) hyV_X4_slide (fun H hH => hR.recv X.2.2.2.2.2.2.2.1 hH mW_a rfl) (fun H hH => hH) ⟨Nat.le_of_ble_eq_true rfl, Nat.le_of_ble_eq_true rfl⟩ ⟨Nat.le_of_ble_eq_true rfl, Nat.le_of_ble_eq_true rfl⟩ (Nat.le_of_ble_eq_true rfl) rfl (fun x_3 => ?_)
    refine g_if_ne (tgt := 10) X dX4_calls_6 rfl (by decide) (fun c => absurd rfl c) (fun c_6 => ?_)
    refine g_vret X dX4_calls_9 rfl (Nat.le_of_ble_eq_true rfl) (Nat.le_of_ble_eq_true rfl) (fun H hH => ⟨⟨f, hM⟩, rfl, hH⟩)
  | cons g r =>
    have hmem : g ∈ slQ σ z0 := by rw [hq]; exact List.mem_cons_self
    have hg : g < nG σ := hB.2.2.1 z0 hs g hmem
    have hw : wai σ g = z0 + 1 := W.2.2.2.1.wai hs hmem
    have e3 := e2.2.2.2
    have e4 := hM.2.2.1 z0 hs 0 (by rw [hq]; exact Nat.succ_pos _)
    have e4 : f (8 + 9 * z0 + (4 + 0)) = nI g := by rw [e4, hq]; rfl
    have e5 := hM.2.2.2.1 g hg
    have b5 := hB.2.2.2.1 g hg
    have hl5 : (slQ σ z0).length ≠ 0 := by rw [hq]; exact Nat.succ_ne_zero _
    have hle : aLeave σ (nI g) = .inr (z0, aQue σ z0 r) := by
      unfold aLeave
      rw [cH_f (fun k => k ((ixI (by omega)).mpr ⟨g, hg, rfl⟩)), iN_nI (by omega), cH_f (by omega), hw]
      show Sum.inr (z0, aQue σ z0 ((slQ σ z0).erase g)) = _
      rw [erase_hd hq]
    rw [aCall_cons hq]
    by_cases h1 : guC σ g < slP σ z0
    · rw [cH_t h1]
      refine CM.of (L := [some (.ref a), some (.int (nI z0)), none, none, none, none]) hst (by decide) (Nat.le_of_ble_eq_true rfl) rfl ?_
      intro p e s m below meth c X hnm htab
      refine g_aload_n X dX4_calls_0 rfl rfl ?_
      refine g_iload_n X dX4_calls_1 rfl rfl ?_
      refine g_iconst X dX4_calls_2 rfl (v := (nI 3)) rfl ?_
      refine g_callV X (ct_X4_slide hst hd (by omega) e3) dX4_calls_3 rfl (lw_V q2028 q2030 qs35 q76 q2031) hyV_X4_slide (fun H hH => hR.recv X.2.2.2.2.2.2.2.1 hH mW_a rfl) (fun H hH => hH) ⟨Nat.le_of_ble_eq_true rfl, Nat.le_of_ble_eq_true rfl⟩ ⟨Nat.le_of_ble_eq_true rfl, Nat.le_of_ble_eq_true rfl⟩ (Nat.le_of_ble_eq_true rfl) rfl (fun x_3 => ?_)
      refine g_if_ne (tgt := 10) X dX4_calls_6 rfl (by decide) (fun c_6 => ?_) (fun c => absurd ((nI_c0 (by omega)).mp c) hl5)
      refine g_aload_n X dX4_calls_10 rfl rfl ?_
      refine g_iload_n X dX4_calls_11 rfl rfl ?_
      refine g_iconst X dX4_calls_12 rfl (v := (nI 0)) rfl ?_
      refine g_callV X (ct_X4_queued hst hd (by omega) e4) dX4_calls_13 rfl (lw_V q2104 q2106 qs50 q76 q2107) hyV_X4_queued (fun H hH => hR.recv X.2.2.2.2.2.2.2.1 hH mW_a rfl) (fun H hH => hH) ⟨Nat.le_of_ble_eq_true rfl, Nat.le_of_ble_eq_true rfl⟩ ⟨Nat.le_of_ble_eq_true rfl, Nat.le_of_ble_eq_true rfl⟩ (Nat.le_of_ble_eq_true rfl) rfl (fun x_13 => ?_)
      refine g_istore_n X dX4_calls_16 rfl (by decide) rfl rfl ?_
      refine g_aload_n X dX4_calls_17 rfl rfl ?_
      refine g_iload_n X dX4_calls_18 rfl rfl ?_
      refine g_iconst X dX4_calls_19 rfl (v := (nI 0)) rfl ?_
      refine g_callV X (ct_X4_guest hst hd (by omega) e5.1) dX4_calls_20 rfl (lw_V q2024 q2026 qs34 q76 q2027) hyV_X4_guest (fun H hH => hR.recv X.2.2.2.2.2.2.2.1 hH mW_a rfl) (fun H hH => hH) ⟨Nat.le_of_ble_eq_true rfl, Nat.le_of_ble_eq_true rfl⟩ ⟨Nat.le_of_ble_eq_true rfl, Nat.le_of_ble_eq_true rfl⟩ (Nat.le_of_ble_eq_true rfl) rfl (fun x_20 => ?_)
      refine g_aload_n X dX4_calls_23 rfl rfl ?_
      refine g_iload_n X dX4_calls_24 rfl rfl ?_
      refine g_iconst X dX4_calls_25 rfl (v := (nI 1)) rfl ?_
      refine g_callV X (ct_X4_slide hst hd (by omega) e2.2.1) dX4_calls_26 rfl (lw_V q2028 q2030 qs35 q76 q2031) hyV_X4_slide (fun H hH => hR.recv X.2.2.2.2.2.2.2.1 hH mW_a rfl) (fun H hH => hH) ⟨Nat.le_of_ble_eq_true rfl, Nat.le_of_ble_eq_true rfl⟩ ⟨Nat.le_of_ble_eq_true rfl, Nat.le_of_ble_eq_true rfl⟩ (Nat.le_of_ble_eq_true rfl) rfl (fun x_26 => ?_)
      refine g_icmp_ge (tgt := 36) X dX4_calls_29 rfl (by decide) (fun c => absurd ((nI_leI (by omega) (by omega)).mp c) (by omega)) (fun c_29 => ?_)
      refine g_iconst X dX4_calls_32 rfl (v := (nI 1)) rfl ?_
      refine g_goto (tgt := 37) X dX4_calls_33 rfl (by decide) ?_
      refine g_istore_n X dX4_calls_37 rfl (by decide) rfl rfl ?_
      refine g_iload_n X dX4_calls_38 rfl rfl ?_
      refine g_if_ne (tgt := 72) X dX4_calls_39 rfl (by decide) (fun c_39 => ?_) (fun c => absurd c (by decide))
      refine g_iconst X dX4_calls_72 rfl (v := (nI 0)) rfl ?_
      refine g_istore X dX4_calls_73 rfl (by decide) rfl rfl ?_
      refine g_iload_n X dX4_calls_75 rfl rfl ?_
      refine g_if_ne (tgt := 84) X dX4_calls_76 rfl (by decide) (fun c_76 => ?_) (fun c => absurd c (by decide))
      refine g_aload_n X dX4_calls_84 rfl rfl ?_
      refine g_iload_n X dX4_calls_85 rfl rfl ?_
      refine g_callV X (ct_X4_doLeaveR hst hd hM hB W.2.2.2.1 hle) dX4_calls_86 rfl (lw_V q2084 q2086 qs46 q76 q2087) hyV_X4_doLeave (fun H hH => hR.recv X.2.2.2.2.2.2.2.1 hH mW_a rfl) (fun H hH => hH) ⟨Nat.le_of_ble_eq_true rfl, Nat.le_of_ble_eq_true rfl⟩ ⟨Nat.le_of_ble_eq_true rfl, Nat.le_of_ble_eq_true rfl⟩ (Nat.le_of_ble_eq_true rfl) rfl (fun x => ?_)
      refine g_istore X dX4_calls_89 rfl (by decide) rfl rfl ?_
      refine g_iload X dX4_calls_91 rfl rfl ?_
      refine g_if_eq (tgt := 110) X dX4_calls_93 rfl (by decide) (fun c_93 => ?_) (fun c => absurd rfl c)
      refine g_vret X dX4_calls_110 rfl (Nat.le_of_ble_eq_true rfl) (Nat.le_of_ble_eq_true rfl) (fun H hH => ⟨⟨x.1, x.2⟩, rfl, hH⟩)
    · rw [cH_f h1]
      by_cases h2 : nB σ < 12 ∧ ¬ aCl σ (nI g) z0 (sM σ)
      · rw [cH_t h2]
        have W1 : Wf R (aQue σ z0 r) := by have := Wf_leave W hs hw; rw [erase_hd hq] at this; exact this
        have hB1 : Bd (aQue σ z0 r) := W1.bd hm hr
        have hs1 : z0 < nS (aQue σ z0 r) := by rw [nS_que]; exact hs
        have hc1 : slP (aQue σ z0 r) z0 ≤ guC σ g := by rw [slP_que hs]; omega
        refine CM.of (L := [some (.ref a), some (.int (nI z0)), none, none, none, none]) hst (by decide) (Nat.le_of_ble_eq_true rfl) rfl ?_
        intro p e s m below meth c X hnm htab
        refine g_aload_n X dX4_calls_0 rfl rfl ?_
        refine g_iload_n X dX4_calls_1 rfl rfl ?_
        refine g_iconst X dX4_calls_2 rfl (v := (nI 3)) rfl ?_
        refine g_callV X (ct_X4_slide hst hd (by omega) e3) dX4_calls_3 rfl (lw_V q2028 q2030 qs35 q76 q2031) hyV_X4_slide (fun H hH => hR.recv X.2.2.2.2.2.2.2.1 hH mW_a rfl) (fun H hH => hH) ⟨Nat.le_of_ble_eq_true rfl, Nat.le_of_ble_eq_true rfl⟩ ⟨Nat.le_of_ble_eq_true rfl, Nat.le_of_ble_eq_true rfl⟩ (Nat.le_of_ble_eq_true rfl) rfl (fun x_3 => ?_)
        refine g_if_ne (tgt := 10) X dX4_calls_6 rfl (by decide) (fun c_6 => ?_) (fun c => absurd ((nI_c0 (by omega)).mp c) hl5)
        refine g_aload_n X dX4_calls_10 rfl rfl ?_
        refine g_iload_n X dX4_calls_11 rfl rfl ?_
        refine g_iconst X dX4_calls_12 rfl (v := (nI 0)) rfl ?_
        refine g_callV X (ct_X4_queued hst hd (by omega) e4) dX4_calls_13 rfl (lw_V q2104 q2106 qs50 q76 q2107) hyV_X4_queued (fun H hH => hR.recv X.2.2.2.2.2.2.2.1 hH mW_a rfl) (fun H hH => hH) ⟨Nat.le_of_ble_eq_true rfl, Nat.le_of_ble_eq_true rfl⟩ ⟨Nat.le_of_ble_eq_true rfl, Nat.le_of_ble_eq_true rfl⟩ (Nat.le_of_ble_eq_true rfl) rfl (fun x_13 => ?_)
        refine g_istore_n X dX4_calls_16 rfl (by decide) rfl rfl ?_
        refine g_aload_n X dX4_calls_17 rfl rfl ?_
        refine g_iload_n X dX4_calls_18 rfl rfl ?_
        refine g_iconst X dX4_calls_19 rfl (v := (nI 0)) rfl ?_
        refine g_callV X (ct_X4_guest hst hd (by omega) e5.1) dX4_calls_20 rfl (lw_V q2024 q2026 qs34 q76 q2027) hyV_X4_guest (fun H hH => hR.recv X.2.2.2.2.2.2.2.1 hH mW_a rfl) (fun H hH => hH) ⟨Nat.le_of_ble_eq_true rfl, Nat.le_of_ble_eq_true rfl⟩ ⟨Nat.le_of_ble_eq_true rfl, Nat.le_of_ble_eq_true rfl⟩ (Nat.le_of_ble_eq_true rfl) rfl (fun x_20 => ?_)
        refine g_aload_n X dX4_calls_23 rfl rfl ?_
        refine g_iload_n X dX4_calls_24 rfl rfl ?_
        refine g_iconst X dX4_calls_25 rfl (v := (nI 1)) rfl ?_
        refine g_callV X (ct_X4_slide hst hd (by omega) e2.2.1) dX4_calls_26 rfl (lw_V q2028 q2030 qs35 q76 q2031) hyV_X4_slide (fun H hH => hR.recv X.2.2.2.2.2.2.2.1 hH mW_a rfl) (fun H hH => hH) ⟨Nat.le_of_ble_eq_true rfl, Nat.le_of_ble_eq_true rfl⟩ ⟨Nat.le_of_ble_eq_true rfl, Nat.le_of_ble_eq_true rfl⟩ (Nat.le_of_ble_eq_true rfl) rfl (fun x_26 => ?_)
        refine g_icmp_ge (tgt := 36) X dX4_calls_29 rfl (by decide) (fun c_29 => ?_) (fun c => absurd ((nI_leI (by omega) (by omega)).mpr (by omega)) c)
        refine g_iconst X dX4_calls_36 rfl (v := (nI 0)) rfl ?_
        refine g_istore_n X dX4_calls_37 rfl (by decide) rfl rfl ?_
        refine g_iload_n X dX4_calls_38 rfl rfl ?_
        refine g_if_ne (tgt := 72) X dX4_calls_39 rfl (by decide) (fun c => absurd rfl c) (fun c_39 => ?_)
        refine g_aload_n X dX4_calls_42 rfl rfl ?_
        refine g_get X dX4_calls_43 rfl in_X4 (ci := 3) rfl 0 (by decide) q1916 (fun _ h => h) mW_a rfl ?_
        refine g_iconst X dX4_calls_46 rfl (v := (nI 2)) rfl ?_
        refine g_ial X dX4_calls_47 rfl (mW_0z hd) (vp_in_nI (by omega) (by decide)) (ix_v (by omega) hM.1.2.2.1) ?_
        refine g_bipush X dX4_calls_48 rfl (v := (nI 12)) (by decide) ?_
        refine g_icmp_ge (tgt := 72) X dX4_calls_50 rfl (by decide) (fun c => absurd ((nI_leI (by omega) (by omega)).mp c) (by omega)) (fun c_50 => ?_)
        refine g_aload_n X dX4_calls_53 rfl rfl ?_
        refine g_iload_n X dX4_calls_54 rfl rfl ?_
        refine g_iload_n X dX4_calls_55 rfl rfl ?_
        refine g_aload_n X dX4_calls_56 rfl rfl ?_
        refine g_get X dX4_calls_57 rfl in_X4 (ci := 3) rfl 0 (by decide) q1916 (fun _ h => h) mW_a rfl ?_
        refine g_iconst X dX4_calls_60 rfl (v := (nI 3)) rfl ?_
        refine g_ial X dX4_calls_61 rfl (mW_0z hd) (vp_in_nI (by omega) (by decide)) (ix_v (by omega) hM.1.2.2.2.1) ?_
        refine g_callV X (ct_X4_clashes hst hd hM hB hs (by omega)) dX4_calls_62 rfl (lw_V q2032 q2034 qs36 q76 q2035) hyV_X4_clashes (fun H hH => hR.recv X.2.2.2.2.2.2.2.1 hH mW_a rfl) (fun H hH => hH) ⟨Nat.le_of_ble_eq_true rfl, Nat.le_of_ble_eq_true rfl⟩ ⟨Nat.le_of_ble_eq_true rfl, Nat.le_of_ble_eq_true rfl⟩ (Nat.le_of_ble_eq_true rfl) rfl (fun x_62 => ?_)
        refine g_if_ne (tgt := 72) X dX4_calls_65 rfl (by decide) (fun c => absurd (bI_n0.mp c) (h2.2)) (fun c_65 => ?_)
        refine g_iconst X dX4_calls_68 rfl (v := (nI 1)) rfl ?_
        refine g_goto (tgt := 73) X dX4_calls_69 rfl (by decide) ?_
        refine g_istore X dX4_calls_73 rfl (by decide) rfl rfl ?_
        refine g_iload_n X dX4_calls_75 rfl rfl ?_
        refine g_if_ne (tgt := 84) X dX4_calls_76 rfl (by decide) (fun c => absurd rfl c) (fun c_76 => ?_)
        refine g_iload X dX4_calls_79 rfl rfl ?_
        refine g_if_eq (tgt := 91) X dX4_calls_81 rfl (by decide) (fun c => absurd c (by decide)) (fun c_81 => ?_)
        refine g_aload_n X dX4_calls_84 rfl rfl ?_
        refine g_iload_n X dX4_calls_85 rfl rfl ?_
        refine g_callV X (ct_X4_doLeaveR hst hd hM hB W.2.2.2.1 hle) dX4_calls_86 rfl (lw_V q2084 q2086 qs46 q76 q2087) hyV_X4_doLeave (fun H hH => hR.recv X.2.2.2.2.2.2.2.1 hH mW_a rfl) (fun H hH => hH) ⟨Nat.le_of_ble_eq_true rfl, Nat.le_of_ble_eq_true rfl⟩ ⟨Nat.le_of_ble_eq_true rfl, Nat.le_of_ble_eq_true rfl⟩ (Nat.le_of_ble_eq_true rfl) rfl (fun x => ?_)
        refine g_istore X dX4_calls_89 rfl (by decide) rfl rfl ?_
        have hm1 : MR x.1 (aQue σ z0 r) := x.2
        refine g_iload X dX4_calls_91 rfl rfl ?_
        refine g_if_eq (tgt := 110) X dX4_calls_93 rfl (by decide) (fun c => absurd c (by decide)) (fun c_93 => ?_)
        refine g_aload_n X dX4_calls_96 rfl rfl ?_
        refine g_iload_n X dX4_calls_97 rfl rfl ?_
        refine g_iload_n X dX4_calls_98 rfl rfl ?_
        refine g_aload_n X dX4_calls_99 rfl rfl ?_
        refine g_get X dX4_calls_100 rfl in_X4 (ci := 3) rfl 0 (by decide) q1916 (fun _ h => h) mW_a rfl ?_
        refine g_iconst X dX4_calls_103 rfl (v := (nI 3)) rfl ?_
        refine g_ial X dX4_calls_104 rfl (mW_0z hd) (vp_in_nI (by omega) (by decide)) (ix_v (by omega) hm1.1.2.2.2.1) ?_
        refine g_callV X (ct_X4_makes hst hd hm1 hB1 (g := g) (s := z0) hg hs1 hc1 h2.1) dX4_calls_105 rfl (lw_V q2048 q2050 qs40 q76 q2051) hyV_X4_makes (fun H hH => hR.recv X.2.2.2.2.2.2.2.1 hH mW_a rfl) (fun H hH => hH) ⟨Nat.le_of_ble_eq_true rfl, Nat.le_of_ble_eq_true rfl⟩ ⟨Nat.le_of_ble_eq_true rfl, Nat.le_of_ble_eq_true rfl⟩ (Nat.le_of_ble_eq_true rfl) rfl (fun y => ?_)
        refine g_istore X dX4_calls_108 rfl (by decide) rfl rfl ?_
        refine g_vret X dX4_calls_110 rfl (Nat.le_of_ble_eq_true rfl) (Nat.le_of_ble_eq_true rfl) (fun H hH => ⟨y, rfl, hH⟩)
      · rw [cH_f h2]
        refine CM.of (L := [some (.ref a), some (.int (nI z0)), none, none, none, none]) hst (by decide) (Nat.le_of_ble_eq_true rfl) rfl ?_
        intro p e s m below meth c X hnm htab
        refine g_aload_n X dX4_calls_0 rfl rfl ?_
        refine g_iload_n X dX4_calls_1 rfl rfl ?_
        refine g_iconst X dX4_calls_2 rfl (v := (nI 3)) rfl ?_
        refine g_callV X (ct_X4_slide hst hd (by omega) e3) dX4_calls_3 rfl (lw_V q2028 q2030 qs35 q76 q2031) hyV_X4_slide (fun H hH => hR.recv X.2.2.2.2.2.2.2.1 hH mW_a rfl) (fun H hH => hH) ⟨Nat.le_of_ble_eq_true rfl, Nat.le_of_ble_eq_true rfl⟩ ⟨Nat.le_of_ble_eq_true rfl, Nat.le_of_ble_eq_true rfl⟩ (Nat.le_of_ble_eq_true rfl) rfl (fun x_3 => ?_)
        refine g_if_ne (tgt := 10) X dX4_calls_6 rfl (by decide) (fun c_6 => ?_) (fun c => absurd ((nI_c0 (by omega)).mp c) hl5)
        refine g_aload_n X dX4_calls_10 rfl rfl ?_
        refine g_iload_n X dX4_calls_11 rfl rfl ?_
        refine g_iconst X dX4_calls_12 rfl (v := (nI 0)) rfl ?_
        refine g_callV X (ct_X4_queued hst hd (by omega) e4) dX4_calls_13 rfl (lw_V q2104 q2106 qs50 q76 q2107) hyV_X4_queued (fun H hH => hR.recv X.2.2.2.2.2.2.2.1 hH mW_a rfl) (fun H hH => hH) ⟨Nat.le_of_ble_eq_true rfl, Nat.le_of_ble_eq_true rfl⟩ ⟨Nat.le_of_ble_eq_true rfl, Nat.le_of_ble_eq_true rfl⟩ (Nat.le_of_ble_eq_true rfl) rfl (fun x_13 => ?_)
        refine g_istore_n X dX4_calls_16 rfl (by decide) rfl rfl ?_
        refine g_aload_n X dX4_calls_17 rfl rfl ?_
        refine g_iload_n X dX4_calls_18 rfl rfl ?_
        refine g_iconst X dX4_calls_19 rfl (v := (nI 0)) rfl ?_
        refine g_callV X (ct_X4_guest hst hd (by omega) e5.1) dX4_calls_20 rfl (lw_V q2024 q2026 qs34 q76 q2027) hyV_X4_guest (fun H hH => hR.recv X.2.2.2.2.2.2.2.1 hH mW_a rfl) (fun H hH => hH) ⟨Nat.le_of_ble_eq_true rfl, Nat.le_of_ble_eq_true rfl⟩ ⟨Nat.le_of_ble_eq_true rfl, Nat.le_of_ble_eq_true rfl⟩ (Nat.le_of_ble_eq_true rfl) rfl (fun x_20 => ?_)
        refine g_aload_n X dX4_calls_23 rfl rfl ?_
        refine g_iload_n X dX4_calls_24 rfl rfl ?_
        refine g_iconst X dX4_calls_25 rfl (v := (nI 1)) rfl ?_
        refine g_callV X (ct_X4_slide hst hd (by omega) e2.2.1) dX4_calls_26 rfl (lw_V q2028 q2030 qs35 q76 q2031) hyV_X4_slide (fun H hH => hR.recv X.2.2.2.2.2.2.2.1 hH mW_a rfl) (fun H hH => hH) ⟨Nat.le_of_ble_eq_true rfl, Nat.le_of_ble_eq_true rfl⟩ ⟨Nat.le_of_ble_eq_true rfl, Nat.le_of_ble_eq_true rfl⟩ (Nat.le_of_ble_eq_true rfl) rfl (fun x_26 => ?_)
        refine g_icmp_ge (tgt := 36) X dX4_calls_29 rfl (by decide) (fun c_29 => ?_) (fun c => absurd ((nI_leI (by omega) (by omega)).mpr (by omega)) c)
        refine g_iconst X dX4_calls_36 rfl (v := (nI 0)) rfl ?_
        refine g_istore_n X dX4_calls_37 rfl (by decide) rfl rfl ?_
        refine g_iload_n X dX4_calls_38 rfl rfl ?_
        refine g_if_ne (tgt := 72) X dX4_calls_39 rfl (by decide) (fun c => absurd rfl c) (fun c_39 => ?_)
        refine g_aload_n X dX4_calls_42 rfl rfl ?_
        refine g_get X dX4_calls_43 rfl in_X4 (ci := 3) rfl 0 (by decide) q1916 (fun _ h => h) mW_a rfl ?_
        refine g_iconst X dX4_calls_46 rfl (v := (nI 2)) rfl ?_
        refine g_ial X dX4_calls_47 rfl (mW_0z hd) (vp_in_nI (by omega) (by decide)) (ix_v (by omega) hM.1.2.2.1) ?_
        refine g_bipush X dX4_calls_48 rfl (v := (nI 12)) (by decide) ?_
        refine g_icmp_ge (tgt := 72) X dX4_calls_50 rfl (by decide) (fun c_50 => ?_) (fun c_50 => ?_)
        · refine g_iconst X dX4_calls_72 rfl (v := (nI 0)) rfl ?_
          refine g_istore X dX4_calls_73 rfl (by decide) rfl rfl ?_
          refine g_iload_n X dX4_calls_75 rfl rfl ?_
          refine g_if_ne (tgt := 84) X dX4_calls_76 rfl (by decide) (fun c => absurd rfl c) (fun c_76 => ?_)
          refine g_iload X dX4_calls_79 rfl rfl ?_
          refine g_if_eq (tgt := 91) X dX4_calls_81 rfl (by decide) (fun c_81 => ?_) (fun c => absurd rfl c)
          refine g_iload X dX4_calls_91 rfl rfl ?_
          refine g_if_eq (tgt := 110) X dX4_calls_93 rfl (by decide) (fun c_93 => ?_) (fun c => absurd rfl c)
          refine g_vret X dX4_calls_110 rfl (Nat.le_of_ble_eq_true rfl) (Nat.le_of_ble_eq_true rfl) (fun H hH => ⟨⟨f, hM⟩, rfl, hH⟩)
        · have c_50 : nB σ < 12 := Nat.lt_of_not_le (fun z => c_50 ((nI_leI (by omega) (by omega)).mpr z))
          have h3 : aCl σ (nI g) z0 (sM σ) := Classical.byContradiction (fun z => h2 ⟨c_50, z⟩)
          refine g_aload_n X dX4_calls_53 rfl rfl ?_
          refine g_iload_n X dX4_calls_54 rfl rfl ?_
          refine g_iload_n X dX4_calls_55 rfl rfl ?_
          refine g_aload_n X dX4_calls_56 rfl rfl ?_
          refine g_get X dX4_calls_57 rfl in_X4 (ci := 3) rfl 0 (by decide) q1916 (fun _ h => h) mW_a rfl ?_
          refine g_iconst X dX4_calls_60 rfl (v := (nI 3)) rfl ?_
          refine g_ial X dX4_calls_61 rfl (mW_0z hd) (vp_in_nI (by omega) (by decide)) (ix_v (by omega) hM.1.2.2.2.1) ?_
          refine g_callV X (ct_X4_clashes hst hd hM hB hs (by omega)) dX4_calls_62 rfl (lw_V q2032 q2034 qs36 q76 q2035) hyV_X4_clashes (fun H hH => hR.recv X.2.2.2.2.2.2.2.1 hH mW_a rfl) (fun H hH => hH) ⟨Nat.le_of_ble_eq_true rfl, Nat.le_of_ble_eq_true rfl⟩ ⟨Nat.le_of_ble_eq_true rfl, Nat.le_of_ble_eq_true rfl⟩ (Nat.le_of_ble_eq_true rfl) rfl (fun x_62 => ?_)
          refine g_if_ne (tgt := 72) X dX4_calls_65 rfl (by decide) (fun c_65 => ?_) (fun c => absurd (h3) (bI_0.mp c))
          refine g_iconst X dX4_calls_72 rfl (v := (nI 0)) rfl ?_
          refine g_istore X dX4_calls_73 rfl (by decide) rfl rfl ?_
          refine g_iload_n X dX4_calls_75 rfl rfl ?_
          refine g_if_ne (tgt := 84) X dX4_calls_76 rfl (by decide) (fun c => absurd rfl c) (fun c_76 => ?_)
          refine g_iload X dX4_calls_79 rfl rfl ?_
          refine g_if_eq (tgt := 91) X dX4_calls_81 rfl (by decide) (fun c_81 => ?_) (fun c => absurd rfl c)
          refine g_iload X dX4_calls_91 rfl rfl ?_
          refine g_if_eq (tgt := 110) X dX4_calls_93 rfl (by decide) (fun c_93 => ?_) (fun c => absurd rfl c)
          refine g_vret X dX4_calls_110 rfl (Nat.le_of_ble_eq_true rfl) (Nat.le_of_ble_eq_true rfl) (fun H hH => ⟨⟨f, hM⟩, rfl, hH⟩)
theorem ct_X4_finishes (hst : l.stackTraces = false) (hd : mDi a ad) (hM : MR f σ) (hB : Bd σ) {b : Nat} (hb : b < nB σ) : CM Ω l yX4_finishes (ws_ yX4_finishes cX4_finishes 6 none) 6 0 0 [.ref a, .int (nI b)] (hR Ω (mW Ω h a ad v (FU F 0 f))) (QV (fun _ : {f' : Nat → Int32 // MR f' (aFinish σ b)} => none) (fun f' => hR Ω (mW Ω h a ad v (FU F 0 f'.1)))) nX := by
  have b1 := hB.1
  have b5 := hB.2.2.2.2.1 b hb
  have e5 := hM.2.2.2.2.1 b hb
  have e2 := hM.2.1 _ b5.2.1
  have b2 := hB.2.1 _ b5.2.1
  have b3 := hB.2.2.2.1 _ b5.1
  unfold aFinish
  generalize hg : boG σ b = g at *
  generalize hs : boS σ b = z0 at *
  obtain ⟨f1, f2, f3, f4, f5⟩ := aFin1_fr (σ := σ) (g := g) (s := z0)
  refine CM.of (L := [some (.ref a), some (.int (nI b)), none, none, none, none]) hst (by decide) (Nat.le_of_ble_eq_true rfl) rfl ?_
  intro p e s m below meth c X hnm htab
  refine g_aload_n X dX4_finishes_0 rfl rfl ?_
  refine g_iload_n X dX4_finishes_1 rfl rfl ?_
  refine g_iconst X dX4_finishes_2 rfl (v := (nI 0)) rfl ?_
  refine g_callV X (ct_X4_booking hst hd (by omega) e5.1) dX4_finishes_3 rfl (lw_V q2036 q2038 qs37 q76 q2039) hyV_X4_booking (fun H hH => hR.recv X.2.2.2.2.2.2.2.1 hH mW_a rfl) (fun H hH => hH) ⟨Nat.le_of_ble_eq_true rfl, Nat.le_of_ble_eq_true rfl⟩ ⟨Nat.le_of_ble_eq_true rfl, Nat.le_of_ble_eq_true rfl⟩ (Nat.le_of_ble_eq_true rfl) rfl (fun x_3 => ?_)
  refine g_istore_n X dX4_finishes_6 rfl (by decide) rfl rfl ?_
  refine g_aload_n X dX4_finishes_7 rfl rfl ?_
  refine g_iload_n X dX4_finishes_8 rfl rfl ?_
  refine g_iconst X dX4_finishes_9 rfl (v := (nI 1)) rfl ?_
  refine g_callV X (ct_X4_booking hst hd (by omega) e5.2.1) dX4_finishes_10 rfl (lw_V q2036 q2038 qs37 q76 q2039) hyV_X4_booking (fun H hH => hR.recv X.2.2.2.2.2.2.2.1 hH mW_a rfl) (fun H hH => hH) ⟨Nat.le_of_ble_eq_true rfl, Nat.le_of_ble_eq_true rfl⟩ ⟨Nat.le_of_ble_eq_true rfl, Nat.le_of_ble_eq_true rfl⟩ (Nat.le_of_ble_eq_true rfl) rfl (fun x_10 => ?_)
  refine g_istore_n X dX4_finishes_13 rfl (by decide) rfl rfl ?_
  refine g_aload_n X dX4_finishes_14 rfl rfl ?_
  refine g_iload_n X dX4_finishes_15 rfl rfl ?_
  refine g_iconst X dX4_finishes_16 rfl (v := (nI 2)) rfl ?_
  refine g_callV X (ct_X4_slide hst hd (by omega) e2.2.2.1) dX4_finishes_17 rfl (lw_V q2028 q2030 qs35 q76 q2031) hyV_X4_slide (fun H hH => hR.recv X.2.2.2.2.2.2.2.1 hH mW_a rfl) (fun H hH => hH) ⟨Nat.le_of_ble_eq_true rfl, Nat.le_of_ble_eq_true rfl⟩ ⟨Nat.le_of_ble_eq_true rfl, Nat.le_of_ble_eq_true rfl⟩ (Nat.le_of_ble_eq_true rfl) rfl (fun x_17 => ?_)
  refine g_istore X dX4_finishes_20 rfl (by decide) rfl rfl ?_
  refine GJ.loc [some (.ref a), some (.int (nI b)), some (.int (nI g)), some (.int (nI z0)), some (.int (nI (slW σ z0))), none] (lvle_c rfl (lvle_c rfl (lvle_c rfl (lvle_c rfl (lvle_c rfl (lvle_n lvle_e)))))) ?_
  refine GJ.cutF (α := {x : Nat → Int32 // MR x (aFin1 σ g z0)}) 68 (fun _ => [some (.ref a), some (.int (nI b)), some (.int (nI g)), some (.int (nI z0)), some (.int (nI (slW σ z0))), none]) (fun x => hR Ω (mW Ω h a ad v (FU F 0 x.1))) (fun x => ?_) (fun tail => ?_)
  · obtain ⟨n1, hm1⟩ := x
    dsimp only
    have hC1 : Cp (aFin1 σ g z0) := ⟨by show (sS (aFin1 σ g z0)).length ≤ 4; rw [f1]; exact b1.1, by rw [f5]; exact b1.2.1, by show (sB (aFin1 σ g z0)).length ≤ 12; rw [f2]; exact b1.2.2.1, by show (sF (aFin1 σ g z0)).length ≤ 16; rw [f3]; exact b1.2.2.2.1, by unfold slQ nS; rw [f1]; exact hB.cp.2.2.2.2⟩
    have hs1 : z0 < nS (aFin1 σ g z0) := by show z0 < (sS (aFin1 σ g z0)).length; rw [f1]; exact b5.2.1
    have hw1 : slW (aFin1 σ g z0) z0 = slW σ z0 := by unfold slW; rw [f1]
    have hg1 : g < nG (aFin1 σ g z0) := by rw [f5]; exact b5.1
    have hb1 : b < nB (aFin1 σ g z0) := by show b < (sB (aFin1 σ g z0)).length; rw [f2]; exact hb
    have hr1 : guR (aFin1 σ g z0) g = guR σ g := by
      by_cases h5 : 5 ≤ slW σ z0
      · rw [aFin1_t h5]; exact (guR_set (y := guR σ g) b5.1).trans (if_pos rfl)
      · rw [aFin1_f h5]
    have hm2 := MR_wet (n := min 9 (slW σ z0 + 2)) hm1 hC1 hs1
    have hm3 := MR_fin (g := g) (s := z0) (m := sM (aFin1 σ g z0)) hm2 (cpW hC1 hs1)
    have hm4 : MR (upd (fiF (upd n1 (8 + 9 * z0 + 2) (nI (min 9 (slW σ z0 + 2)))) g z0 (sM (aFin1 σ g z0)) (nF (aFin1 σ g z0))) (44 + 3 * g + 1) (nI (guR (aFin1 σ g z0) g + 1))) (aFin2 (aFin1 σ g z0) g z0) := by
      rw [aFin2_eq, hw1]
      refine MR_G hm3 (cpF (cpW hC1 hs1)) hg1 ?_ upd_s (fun j _ hj => upd_n hj)
      rw [upd_n (by omega)]
      exact (hm3.2.2.2.1 g hg1).1
    have hC4 : Cp (aFin2 (aFin1 σ g z0) g z0) := by
      rw [aFin2_eq, hw1]
      exact cpG (cpF (cpW hC1 hs1))
    have hb4 : b < nB (aFin2 (aFin1 σ g z0) g z0) := hb1
    have d1 := hC1.2.2.2.1
    have d2 := hC1.2.1
    refine g_aload_n X dX4_finishes_68 rfl rfl ?_
    refine g_iload_n X dX4_finishes_69 rfl rfl ?_
    refine g_iload X dX4_finishes_70 rfl rfl ?_
    refine g_iconst X dX4_finishes_72 rfl (v := (nI 2)) rfl ?_
    refine g_iadd X dX4_finishes_73 rfl (by first | exact nI_add _ _ | rfl) ?_
    refine g_callV X (ct_X4_wets hst hd (by omega) (wet_v (by omega))) dX4_finishes_74 rfl (lw_V q2112 q2114 qs52 q76 q2115) hyV_X4_wets (fun H hH => hR.recv X.2.2.2.2.2.2.2.1 hH mW_a rfl) (fun H hH => hH) ⟨Nat.le_of_ble_eq_true rfl, Nat.le_of_ble_eq_true rfl⟩ ⟨Nat.le_of_ble_eq_true rfl, Nat.le_of_ble_eq_true rfl⟩ (Nat.le_of_ble_eq_true rfl) rfl (fun x_74 => ?_)
    refine g_aload_n X dX4_finishes_77 rfl rfl ?_
    refine g_get X dX4_finishes_78 rfl in_X4 (ci := 3) rfl 0 (by decide) q1916 (fun _ h => h) mW_a rfl ?_
    refine g_bipush X dX4_finishes_81 rfl (v := (nI 110)) (by decide) ?_
    refine g_aload_n X dX4_finishes_83 rfl rfl ?_
    refine g_get X dX4_finishes_84 rfl in_X4 (ci := 3) rfl 0 (by decide) q1916 (fun _ h => h) mW_a rfl ?_
    refine g_bipush X dX4_finishes_87 rfl (v := (nI 113)) (by decide) ?_
    refine g_bipush X dX4_finishes_89 rfl (v := (nI 45)) (by decide) ?_
    refine g_copyI X dX4_finishes_91 rfl q1980 (nI_pos (by omega)) (nI_pos (by omega)) (nI_pos (by omega)) (c2_le (nI_clamp (by omega)) (nI_clamp (by omega)) (by omega)) (c2_le (nI_clamp (by omega)) (nI_clamp (by omega)) (by omega)) (mW_0z hd) (mW_0z hd)  (Nat.le_of_ble_eq_true rfl) (Nat.le_of_ble_eq_true rfl) (mW_c0 hd (nI_clamp (by omega)) (nI_clamp (by omega)) (nI_clamp (by omega))) ?_
    refine g_aload_n X dX4_finishes_94 rfl rfl ?_
    refine g_get X dX4_finishes_95 rfl in_X4 (ci := 3) rfl 0 (by decide) q1916 (fun _ h => h) mW_a rfl ?_
    refine g_bipush X dX4_finishes_98 rfl (v := (nI 110)) (by decide) ?_
    refine g_iload_n X dX4_finishes_100 rfl rfl ?_
    refine g_ias X dX4_finishes_101 rfl (mW_0z hd) (vp_in_nI (by omega) (by decide)) (mW_i0 hd (nI_clamp (by omega))) ?_
    refine g_aload_n X dX4_finishes_102 rfl rfl ?_
    refine g_get X dX4_finishes_103 rfl in_X4 (ci := 3) rfl 0 (by decide) q1916 (fun _ h => h) mW_a rfl ?_
    refine g_bipush X dX4_finishes_106 rfl (v := (nI 111)) (by decide) ?_
    refine g_iload_n X dX4_finishes_108 rfl rfl ?_
    refine g_ias X dX4_finishes_109 rfl (mW_0z hd) (vp_in_nI (by omega) (by decide)) (mW_i0 hd (nI_clamp (by omega))) ?_
    refine g_aload_n X dX4_finishes_110 rfl rfl ?_
    refine g_get X dX4_finishes_111 rfl in_X4 (ci := 3) rfl 0 (by decide) q1916 (fun _ h => h) mW_a rfl ?_
    refine g_bipush X dX4_finishes_114 rfl (v := (nI 112)) (by decide) ?_
    refine g_aload_n X dX4_finishes_116 rfl rfl ?_
    refine g_get X dX4_finishes_117 rfl in_X4 (ci := 3) rfl 0 (by decide) q1916 (fun _ h => h) mW_a rfl ?_
    refine g_iconst X dX4_finishes_120 rfl (v := (nI 3)) rfl ?_
    refine g_ial X dX4_finishes_121 rfl (mW_0z hd) (vp_in_nI (by omega) (by decide)) (ix_v (by omega) ((upd_n (by omega)).trans ((upd_n (by omega)).trans ((pk_cpy_out (by omega)).trans ((upd_n (by omega)).trans hm1.1.2.2.2.1))))) ?_
    refine g_ias X dX4_finishes_122 rfl (mW_0z hd) (vp_in_nI (by omega) (by decide)) (mW_i0 hd (nI_clamp (by omega))) ?_
    refine g_aload_n X dX4_finishes_123 rfl rfl ?_
    refine g_get X dX4_finishes_124 rfl in_X4 (ci := 3) rfl 0 (by decide) q1916 (fun _ h => h) mW_a rfl ?_
    refine g_iconst X dX4_finishes_127 rfl (v := (nI 4)) rfl ?_
    refine g_bipush X dX4_finishes_128 rfl (v := (nI 16)) (by decide) ?_
    refine g_aload_n X dX4_finishes_130 rfl rfl ?_
    refine g_get X dX4_finishes_131 rfl in_X4 (ci := 3) rfl 0 (by decide) q1916 (fun _ h => h) mW_a rfl ?_
    refine g_iconst X dX4_finishes_134 rfl (v := (nI 4)) rfl ?_
    refine g_ial X dX4_finishes_135 rfl (mW_0z hd) (vp_in_nI (by omega) (by decide)) (ix_v (by omega) ((upd_n (by omega)).trans ((upd_n (by omega)).trans ((upd_n (by omega)).trans ((pk_cpy_out (by omega)).trans ((upd_n (by omega)).trans hm1.1.2.2.2.2.1)))))) ?_
    refine g_iconst X dX4_finishes_136 rfl (v := (nI 1)) rfl ?_
    refine g_iadd X dX4_finishes_137 rfl (by first | exact nI_add _ _ | rfl) ?_
    refine g_min X dX4_finishes_138 rfl q2116 (Nat.le_of_ble_eq_true rfl) (Nat.le_of_ble_eq_true rfl) (Nat.le_of_ble_eq_true rfl) (Nat.le_of_ble_eq_true rfl) (mn_nI (by omega) (by omega)) ?_
    refine g_ias X dX4_finishes_141 rfl (mW_0z hd) (vp_in_nI (by omega) (by decide)) (mW_i0 hd (nI_clamp (by omega))) ?_
    refine g_aload_n X dX4_finishes_142 rfl rfl ?_
    refine g_get X dX4_finishes_143 rfl in_X4 (ci := 3) rfl 0 (by decide) q1916 (fun _ h => h) mW_a rfl ?_
    refine g_bipush X dX4_finishes_146 rfl (v := (nI 44)) (by decide) ?_
    refine g_iconst X dX4_finishes_148 rfl (v := (nI 3)) rfl ?_
    refine g_iload_n X dX4_finishes_149 rfl rfl ?_
    refine g_imul X dX4_finishes_150 rfl (by first | exact pk_mul _ _ | rfl) ?_
    refine g_iadd X dX4_finishes_151 rfl (by first | exact nI_add _ _ | rfl) ?_
    refine g_iconst X dX4_finishes_152 rfl (v := (nI 1)) rfl ?_
    refine g_iadd X dX4_finishes_153 rfl (by first | exact nI_add _ _ | rfl) ?_
    refine g_dup2 X dX4_finishes_154 rfl rfl rfl ?_
    refine g_ial X dX4_finishes_155 rfl (mW_0z hd) (vp_in_nI (by omega) (by decide)) (ix_v (by omega) ((upd_n (by omega)).trans ((upd_n (by omega)).trans ((upd_n (by omega)).trans ((upd_n (by omega)).trans ((pk_cpy_out (by omega)).trans ((upd_n (by omega)).trans (hm1.2.2.2.1 g hg1).2.1))))))) ?_
    refine g_iconst X dX4_finishes_156 rfl (v := (nI 1)) rfl ?_
    refine g_iadd X dX4_finishes_157 rfl (by first | exact nI_add _ _ | rfl) ?_
    refine g_ias X dX4_finishes_158 rfl (mW_0z hd) (vp_in_nI (by omega) (by decide)) (mW_i0 hd (nI_clamp (by omega))) ?_
    refine g_aload_n X dX4_finishes_159 rfl rfl ?_
    refine g_iload_n X dX4_finishes_160 rfl rfl ?_
    refine g_callV X (ct_X4_drops hst hd hm4 hC4 hb4) dX4_finishes_161 rfl (lw_V q2068 q2070 qs44 q76 q2071) hyV_X4_drops (fun H hH => hR.recv X.2.2.2.2.2.2.2.1 hH mW_a rfl) (fun H hH => hH) ⟨Nat.le_of_ble_eq_true rfl, Nat.le_of_ble_eq_true rfl⟩ ⟨Nat.le_of_ble_eq_true rfl, Nat.le_of_ble_eq_true rfl⟩ (Nat.le_of_ble_eq_true rfl) rfl (fun x_161 => ?_)
    refine g_vret X dX4_finishes_164 rfl (Nat.le_of_ble_eq_true rfl) (Nat.le_of_ble_eq_true rfl) (fun H hH => ⟨⟨_, MR_drop hm4 hC4 hb4⟩, rfl, hH⟩)
  · by_cases h5 : 5 ≤ slW σ z0
    · have hm1 := MR_P (w := sP σ + nI 1) (MR_back (n := slP σ z0 / 2) hM hB.cp b5.1) (cpG (y := guR σ g) hB.cp)
      rw [← aFin1_t h5] at hm1
      refine g_iload X dX4_finishes_22 rfl rfl ?_
      refine g_iconst X dX4_finishes_24 rfl (v := (nI 5)) rfl ?_
      refine g_icmp_lt (tgt := 68) X dX4_finishes_25 rfl (by decide) (fun c => absurd ((nI_ltI (by omega) (by omega)).mp c) (by omega)) (fun c_25 => ?_)
      refine g_aload_n X dX4_finishes_28 rfl rfl ?_
      refine g_iload_n X dX4_finishes_29 rfl rfl ?_
      refine g_iconst X dX4_finishes_30 rfl (v := (nI 1)) rfl ?_
      refine g_callV X (ct_X4_slide hst hd (by omega) e2.2.1) dX4_finishes_31 rfl (lw_V q2028 q2030 qs35 q76 q2031) hyV_X4_slide (fun H hH => hR.recv X.2.2.2.2.2.2.2.1 hH mW_a rfl) (fun H hH => hH) ⟨Nat.le_of_ble_eq_true rfl, Nat.le_of_ble_eq_true rfl⟩ ⟨Nat.le_of_ble_eq_true rfl, Nat.le_of_ble_eq_true rfl⟩ (Nat.le_of_ble_eq_true rfl) rfl (fun x_31 => ?_)
      refine g_iconst X dX4_finishes_34 rfl (v := (nI 2)) rfl ?_
      refine g_idiv X dX4_finishes_35 rfl (by decide) (pk_div (by omega) (by omega) (by omega)) ?_
      refine g_istore X dX4_finishes_36 rfl (by decide) rfl rfl ?_
      refine g_aload_n X dX4_finishes_38 rfl rfl ?_
      refine g_iload_n X dX4_finishes_39 rfl rfl ?_
      refine g_iload X dX4_finishes_40 rfl rfl ?_
      refine g_ineg X dX4_finishes_42 rfl rfl ?_
      refine g_callV X (ct_X4_pays hst hd (by omega)) dX4_finishes_43 rfl (lw_V q2052 q2054 qs41 q76 q2055) hyV_X4_pays (fun H hH => hR.recv X.2.2.2.2.2.2.2.1 hH mW_a rfl) (fun H hH => hH) ⟨Nat.le_of_ble_eq_true rfl, Nat.le_of_ble_eq_true rfl⟩ ⟨Nat.le_of_ble_eq_true rfl, Nat.le_of_ble_eq_true rfl⟩ (Nat.le_of_ble_eq_true rfl) rfl (fun x_43 => ?_)
      refine g_aload_n X dX4_finishes_46 rfl rfl ?_
      refine g_get X dX4_finishes_47 rfl in_X4 (ci := 3) rfl 0 (by decide) q1916 (fun _ h => h) mW_a rfl ?_
      refine g_bipush X dX4_finishes_50 rfl (v := (nI 6)) (by decide) ?_
      refine g_dup2 X dX4_finishes_52 rfl rfl rfl ?_
      refine g_ial X dX4_finishes_53 rfl (mW_0z hd) (vp_in_nI (by omega) (by decide)) (ix_v (by omega) ((upd_n (by omega)).trans (upd_n (by omega)))) ?_
      refine g_iload X dX4_finishes_54 rfl rfl ?_
      refine g_iadd X dX4_finishes_56 rfl (by first | exact nI_add _ _ | rfl) ?_
      refine g_ias X dX4_finishes_57 rfl (mW_0z hd) (vp_in_nI (by omega) (by decide)) (mW_i0 hd (nI_clamp (by omega))) ?_
      refine g_aload_n X dX4_finishes_58 rfl rfl ?_
      refine g_get X dX4_finishes_59 rfl in_X4 (ci := 3) rfl 0 (by decide) q1916 (fun _ h => h) mW_a rfl ?_
      refine g_iconst X dX4_finishes_62 rfl (v := (nI 5)) rfl ?_
      refine g_dup2 X dX4_finishes_63 rfl rfl rfl ?_
      refine g_ial X dX4_finishes_64 rfl (mW_0z hd) (vp_in_nI (by omega) (by decide)) (ix_v (by omega) ((upd_n (by omega)).trans ((upd_n (by omega)).trans ((upd_n (by omega)).trans hM.1.2.2.2.2.2.1)))) ?_
      refine g_iconst X dX4_finishes_65 rfl (v := (nI 1)) rfl ?_
      refine g_iadd X dX4_finishes_66 rfl (by first | exact nI_add _ _ | rfl) ?_
      refine g_ias X dX4_finishes_67 rfl (mW_0z hd) (vp_in_nI (by omega) (by decide)) (mW_i0 hd (nI_clamp (by omega))) ?_
      refine GJ.loc [some (.ref a), some (.int (nI b)), some (.int (nI g)), some (.int (nI z0)), some (.int (nI (slW σ z0))), none] (lvle_c rfl (lvle_c rfl (lvle_c rfl (lvle_c rfl (lvle_c rfl (lvle_n lvle_e)))))) ?_
      exact tail ⟨_, hm1⟩
    · refine g_iload X dX4_finishes_22 rfl rfl ?_
      refine g_iconst X dX4_finishes_24 rfl (v := (nI 5)) rfl ?_
      refine g_icmp_lt (tgt := 68) X dX4_finishes_25 rfl (by decide) (fun c_25 => ?_) (fun c => absurd ((nI_ltI (by omega) (by omega)).mpr (by omega)) c)
      exact tail ⟨f, by rw [aFin1_f h5]; exact hM⟩
end M9
