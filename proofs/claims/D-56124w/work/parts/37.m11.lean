/-! MODEL: keep, ends, the public ops, undo, save, restore -/
section M11
variable {l : Launch} {Ω : Om} {h : RH} {a : Nat} {ad : Nat → Nat} {v : Nat → Int32} {F : Nat → Nat → Int32} {w : Wl}
set_option maxRecDepth 100000
theorem ct_X4_keep (hst : l.stackTraces = false) (hd : mDi a ad) : CM Ω l yX4_keep (ws_ yX4_keep cX4_keep 1 none) 2 0 0 [.ref a] (hR Ω (mW Ω h a ad v F)) (QP none (hR Ω (mW Ω h a ad (vU v 6 (nI 0)) (FU F 1 (va_cpy (F 0) (F 1) 0 0 158))))) nX := by
  refine CM.of (L := [some (.ref a)]) hst (by decide) (Nat.le_of_ble_eq_true rfl) rfl ?_
  intro p e s m below meth c X hnm htab
  refine g_aload_n X dX4_keep_0 rfl rfl ?_
  refine g_iconst X dX4_keep_1 rfl (v := (nI 0)) rfl ?_
  refine g_put X dX4_keep_2 rfl in_X4 tyX4_ok nmX4 (ci := 3) rfl 6 (by decide) q1922 (fun _ h => h) rfl rfl rfl rfl mW_a (Nat.le_of_ble_eq_true rfl) mW_u6 ?_
  refine g_aload_n X dX4_keep_5 rfl rfl ?_
  refine g_get X dX4_keep_6 rfl in_X4 (ci := 3) rfl 0 (by decide) q1916 (fun _ h => h) mW_a rfl ?_
  refine g_iconst X dX4_keep_9 rfl (v := (nI 0)) rfl ?_
  refine g_aload_n X dX4_keep_10 rfl rfl ?_
  refine g_get X dX4_keep_11 rfl in_X4 (ci := 3) rfl 1 (by decide) q1917 (fun _ h => h) mW_a rfl ?_
  refine g_iconst X dX4_keep_14 rfl (v := (nI 0)) rfl ?_
  refine g_sipush X dX4_keep_15 rfl (v := (nI 158)) (by decide) ?_
  refine g_copyI X dX4_keep_18 rfl q1980 (nI_pos (by omega)) (nI_pos (by omega)) (nI_pos (by omega)) (c2_le (nI_clamp (by omega)) (nI_clamp (by omega)) (by omega)) (c2_le (nI_clamp (by omega)) (nI_clamp (by omega)) (by omega)) (mW_0 hd) (mW_1 hd)  (Nat.le_of_ble_eq_true rfl) (Nat.le_of_ble_eq_true rfl) (mW_c1 hd (nI_clamp (by omega)) (nI_clamp (by omega)) (nI_clamp (by omega))) ?_
  refine g_vret X dX4_keep_21 rfl (Nat.le_of_ble_eq_true rfl) (Nat.le_of_ble_eq_true rfl) (fun H hH => ⟨(), rfl, hH⟩)
theorem ct_X4_ends (hst : l.stackTraces = false) (hd : mDi a ad) {Rz : Res} {R M : Nat} (hW : WA R M w) (hv : v 6 = nI (tR Rz)) (hz : okR Rz) (hF : rF Rz (F 0)) (hF1 : MR (F 1) w.1) (hP : MP v F w) : CM Ω l yX4_ends (ws_ yX4_ends cX4_ends 2 (some .int)) 2 0 0 [.ref a, .int (rI Rz)] (hR Ω (mW Ω h a ad v F)) (PO Ω h a ad v F (wR w Rz) (rI Rz) (tR Rz)) nX := by
  cases Rz with
  | inl c0 =>
    have hv : v 6 = nI c0 := hv
    have hc : 0 < c0 ∧ c0 < 100 := hz
    refine CM.of (L := [some (.ref a), some (.int (rI (.inl c0)))]) hst (by decide) (Nat.le_of_ble_eq_true rfl) rfl ?_
    intro p e s m below meth c X hnm htab
    refine g_aload_n X dX4_ends_0 rfl rfl ?_
    refine g_get X dX4_ends_1 rfl in_X4 (ci := 3) rfl 6 (by decide) q1922 (fun _ h => h) mW_a (gv hv) ?_
    refine g_if_le (tgt := 25) X dX4_ends_4 rfl (by decide) (fun c => absurd ((nI_le0 (by omega)).mp c) (by omega)) (fun c_4 => ?_)
    refine g_aload_n X dX4_ends_7 rfl rfl ?_
    refine g_get X dX4_ends_8 rfl in_X4 (ci := 3) rfl 1 (by decide) q1917 (fun _ h => h) mW_a rfl ?_
    refine g_iconst X dX4_ends_11 rfl (v := (nI 0)) rfl ?_
    refine g_aload_n X dX4_ends_12 rfl rfl ?_
    refine g_get X dX4_ends_13 rfl in_X4 (ci := 3) rfl 0 (by decide) q1916 (fun _ h => h) mW_a rfl ?_
    refine g_iconst X dX4_ends_16 rfl (v := (nI 0)) rfl ?_
    refine g_sipush X dX4_ends_17 rfl (v := (nI 158)) (by decide) ?_
    refine g_copyI X dX4_ends_20 rfl q1980 (nI_pos (by omega)) (nI_pos (by omega)) (nI_pos (by omega)) (c2_le (nI_clamp (by omega)) (nI_clamp (by omega)) (by omega)) (c2_le (nI_clamp (by omega)) (nI_clamp (by omega)) (by omega)) (mW_1 hd) (mW_0 hd)  (Nat.le_of_ble_eq_true rfl) (Nat.le_of_ble_eq_true rfl) (mW_ca hd (nI_clamp (by omega)) (nI_clamp (by omega)) (nI_clamp (by omega))) ?_
    refine g_iconst X dX4_ends_23 rfl (v := (nI 0)) rfl ?_
    refine g_iret X dX4_ends_24 rfl (Nat.le_of_ble_eq_true rfl) (Nat.le_of_ble_eq_true rfl) (fun H hH => ⟨⟨(v, FU F 0 (va_cpy (F 1) (F 0) 0 0 158)), ⟨MR_cg hF1 hW.1.1.cp (fun j hj => cpy0 hj), MP_F hP rfl rfl⟩, hv, fun j hj => FU_n (by omega), fun _ _ _ _ => rfl⟩, rfl, hH⟩)
  | inr x =>
    have hv : v 6 = nI 0 := hv
    have hM : MR (F 0) x.2 := hF
    have h8 := hW.2.1
    have hp := hP.1
    by_cases e8 : w.2.1.length = 8
    · have ep : aPush w.2.1 w.1 = w.2.1.drop 1 ++ [w.1] := by unfold aPush; rw [if_pos e8]
      have hl : (w.2.1.drop 1).length = 7 := by rw [List.length_drop, e8]
      rw [e8] at hp
      have hPA : PA (va_cpy (F 1) (va_cpy (F 3) (F 3) 158 0 1106) 0 (158 * (8 - 1)) 158) (aPush w.2.1 w.1) := by
        rw [ep, show 8 - 1 = (w.2.1.drop 1).length by rw [hl]]
        exact PA_push (PA_drop hP.2.1 hW.pc e8) (fun k hk => by rw [getD_d1]; exact hW.pc (k + 1) (by rw [hl] at hk; omega)) hF1 hW.1.1.cp
      have hl2 : (aPush w.2.1 w.1).length = 8 := by rw [aPush_len h8, e8]; rfl
      have q5 : vU (vU v 5 (nI (8 - 1))) 5 (nI (8 - 1 + 1)) 5 = nI (aPush w.2.1 w.1).length := by rw [hl2]; exact vU_s
      have q3 : vU (vU v 5 (nI (8 - 1))) 5 (nI (8 - 1 + 1)) 3 = bI (w.2.2.isSome = true) := by rw [vU_n (by decide), vU_n (by decide)]; exact hP.2.2.1
      have q6 : vU (vU v 5 (nI (8 - 1))) 5 (nI (8 - 1 + 1)) 6 = nI 0 := by rw [vU_n (by decide), vU_n (by decide)]; exact hv
      refine CM.of (L := [some (.ref a), some (.int (rI (.inr x)))]) hst (by decide) (Nat.le_of_ble_eq_true rfl) rfl ?_
      intro p e s m below meth c X hnm htab
      refine g_aload_n X dX4_ends_0 rfl rfl ?_
      refine g_get X dX4_ends_1 rfl in_X4 (ci := 3) rfl 6 (by decide) q1922 (fun _ h => h) mW_a (gv hv) ?_
      refine g_if_le (tgt := 25) X dX4_ends_4 rfl (by decide) (fun c_4 => ?_) (fun c => absurd (by decide) c)
      refine g_aload_n X dX4_ends_25 rfl rfl ?_
      refine g_get X dX4_ends_26 rfl in_X4 (ci := 3) rfl 5 (by decide) q1921 (fun _ h => h) mW_a (gv hp) ?_
      refine g_bipush X dX4_ends_29 rfl (v := (nI 8)) (by decide) ?_
      refine g_icmp_ne (tgt := 62) X dX4_ends_31 rfl (by decide) (fun c => absurd rfl c) (fun c_31 => ?_)
      refine g_aload_n X dX4_ends_34 rfl rfl ?_
      refine g_get X dX4_ends_35 rfl in_X4 (ci := 3) rfl 4 (by decide) q1920 (fun _ h => h) mW_a rfl ?_
      refine g_sipush X dX4_ends_38 rfl (v := (nI 158)) (by decide) ?_
      refine g_aload_n X dX4_ends_41 rfl rfl ?_
      refine g_get X dX4_ends_42 rfl in_X4 (ci := 3) rfl 4 (by decide) q1920 (fun _ h => h) mW_a rfl ?_
      refine g_iconst X dX4_ends_45 rfl (v := (nI 0)) rfl ?_
      refine g_sipush X dX4_ends_46 rfl (v := (nI 1106)) (by decide) ?_
      refine g_copyI X dX4_ends_49 rfl q1980 (nI_pos (by omega)) (nI_pos (by omega)) (nI_pos (by omega)) (c2_le (nI_clamp (by omega)) (nI_clamp (by omega)) (by omega)) (c2_le (nI_clamp (by omega)) (nI_clamp (by omega)) (by omega)) (mW_3 hd) (mW_3 hd)  (Nat.le_of_ble_eq_true rfl) (Nat.le_of_ble_eq_true rfl) (mW_c3 hd (nI_clamp (by omega)) (nI_clamp (by omega)) (nI_clamp (by omega))) ?_
      refine g_aload_n X dX4_ends_52 rfl rfl ?_
      refine g_dup X dX4_ends_53 rfl rfl ?_
      refine g_get X dX4_ends_54 rfl in_X4 (ci := 3) rfl 5 (by decide) q1921 (fun _ h => h) mW_a (gv hp) ?_
      refine g_iconst X dX4_ends_57 rfl (v := (nI 1)) rfl ?_
      refine g_isub X dX4_ends_58 rfl (pk_sub (by omega)) ?_
      refine g_put X dX4_ends_59 rfl in_X4 tyX4_ok nmX4 (ci := 3) rfl 5 (by decide) q1921 (fun _ h => h) rfl rfl rfl rfl mW_a (Nat.le_of_ble_eq_true rfl) mW_u5 ?_
      refine g_aload_n X dX4_ends_62 rfl rfl ?_
      refine g_get X dX4_ends_63 rfl in_X4 (ci := 3) rfl 1 (by decide) q1917 (fun _ h => h) mW_a rfl ?_
      refine g_iconst X dX4_ends_66 rfl (v := (nI 0)) rfl ?_
      refine g_aload_n X dX4_ends_67 rfl rfl ?_
      refine g_get X dX4_ends_68 rfl in_X4 (ci := 3) rfl 4 (by decide) q1920 (fun _ h => h) mW_a rfl ?_
      refine g_sipush X dX4_ends_71 rfl (v := (nI 158)) (by decide) ?_
      refine g_aload_n X dX4_ends_74 rfl rfl ?_
      refine g_get X dX4_ends_75 rfl in_X4 (ci := 3) rfl 5 (by decide) q1921 (fun _ h => h) mW_a (gv vU_s) ?_
      refine g_imul X dX4_ends_78 rfl (by first | exact pk_mul _ _ | rfl) ?_
      refine g_sipush X dX4_ends_79 rfl (v := (nI 158)) (by decide) ?_
      refine g_copyI X dX4_ends_82 rfl q1980 (nI_pos (by omega)) (nI_pos (by omega)) (nI_pos (by omega)) (c2_le (nI_clamp (by omega)) (nI_clamp (by omega)) (by omega)) (c2_le (nI_clamp (by omega)) (nI_clamp (by omega)) (by omega)) (mW_1 hd) (mW_3 hd)  (Nat.le_of_ble_eq_true rfl) (Nat.le_of_ble_eq_true rfl) (mW_c3 hd (nI_clamp (by omega)) (nI_clamp (by omega)) (nI_clamp (by omega))) ?_
      refine g_aload_n X dX4_ends_85 rfl rfl ?_
      refine g_dup X dX4_ends_86 rfl rfl ?_
      refine g_get X dX4_ends_87 rfl in_X4 (ci := 3) rfl 5 (by decide) q1921 (fun _ h => h) mW_a (gv vU_s) ?_
      refine g_iconst X dX4_ends_90 rfl (v := (nI 1)) rfl ?_
      refine g_iadd X dX4_ends_91 rfl (by first | exact nI_add _ _ | rfl) ?_
      refine g_put X dX4_ends_92 rfl in_X4 tyX4_ok nmX4 (ci := 3) rfl 5 (by decide) q1921 (fun _ h => h) rfl rfl rfl rfl mW_a (Nat.le_of_ble_eq_true rfl) mW_u5 ?_
      refine g_iload_n X dX4_ends_95 rfl rfl ?_
      refine g_iret X dX4_ends_96 rfl (Nat.le_of_ble_eq_true rfl) (Nat.le_of_ble_eq_true rfl) (fun H hH => ⟨⟨(vU (vU v 5 (nI (8 - 1))) 5 (nI (8 - 1 + 1)), FU (FU F 3 (va_cpy (F 3) (F 3) 158 0 1106)) 3 (va_cpy (F 1) (va_cpy (F 3) (F 3) 158 0 1106) 0 (158 * (8 - 1)) 158)), ⟨hM, q5, hPA, q3, hP.2.2.2⟩, q6, fun j hj => (FU_n (by omega)).trans (FU_n (by omega)), fun i _ h5 _ => (vU_n h5).trans (vU_n h5)⟩, rfl, hH⟩)
    · have ep : aPush w.2.1 w.1 = w.2.1 ++ [w.1] := by unfold aPush; rw [if_neg e8]
      have hPA : PA (va_cpy (F 1) (F 3) 0 (158 * w.2.1.length) 158) (aPush w.2.1 w.1) := by
        rw [ep]
        exact PA_push hP.2.1 hW.pc hF1 hW.1.1.cp
      have hl2 : (aPush w.2.1 w.1).length = w.2.1.length + 1 := by rw [aPush_len h8]; omega
      have q5 : vU v 5 (nI (w.2.1.length + 1)) 5 = nI (aPush w.2.1 w.1).length := by rw [hl2]; exact vU_s
      have q3 : vU v 5 (nI (w.2.1.length + 1)) 3 = bI (w.2.2.isSome = true) := by rw [vU_n (by decide)]; exact hP.2.2.1
      have q6 : vU v 5 (nI (w.2.1.length + 1)) 6 = nI 0 := by rw [vU_n (by decide)]; exact hv
      refine CM.of (L := [some (.ref a), some (.int (rI (.inr x)))]) hst (by decide) (Nat.le_of_ble_eq_true rfl) rfl ?_
      intro p e s m below meth c X hnm htab
      refine g_aload_n X dX4_ends_0 rfl rfl ?_
      refine g_get X dX4_ends_1 rfl in_X4 (ci := 3) rfl 6 (by decide) q1922 (fun _ h => h) mW_a (gv hv) ?_
      refine g_if_le (tgt := 25) X dX4_ends_4 rfl (by decide) (fun c_4 => ?_) (fun c => absurd (by decide) c)
      refine g_aload_n X dX4_ends_25 rfl rfl ?_
      refine g_get X dX4_ends_26 rfl in_X4 (ci := 3) rfl 5 (by decide) q1921 (fun _ h => h) mW_a (gv hp) ?_
      refine g_bipush X dX4_ends_29 rfl (v := (nI 8)) (by decide) ?_
      refine g_icmp_ne (tgt := 62) X dX4_ends_31 rfl (by decide) (fun c_31 => ?_) (fun c => absurd ((nI_eq (by omega) (by omega)).mp c) e8)
      refine g_aload_n X dX4_ends_62 rfl rfl ?_
      refine g_get X dX4_ends_63 rfl in_X4 (ci := 3) rfl 1 (by decide) q1917 (fun _ h => h) mW_a rfl ?_
      refine g_iconst X dX4_ends_66 rfl (v := (nI 0)) rfl ?_
      refine g_aload_n X dX4_ends_67 rfl rfl ?_
      refine g_get X dX4_ends_68 rfl in_X4 (ci := 3) rfl 4 (by decide) q1920 (fun _ h => h) mW_a rfl ?_
      refine g_sipush X dX4_ends_71 rfl (v := (nI 158)) (by decide) ?_
      refine g_aload_n X dX4_ends_74 rfl rfl ?_
      refine g_get X dX4_ends_75 rfl in_X4 (ci := 3) rfl 5 (by decide) q1921 (fun _ h => h) mW_a (gv hp) ?_
      refine g_imul X dX4_ends_78 rfl (by first | exact pk_mul _ _ | rfl) ?_
      refine g_sipush X dX4_ends_79 rfl (v := (nI 158)) (by decide) ?_
      refine g_copyI X dX4_ends_82 rfl q1980 (nI_pos (by omega)) (nI_pos (by omega)) (nI_pos (by omega)) (c2_le (nI_clamp (by omega)) (nI_clamp (by omega)) (by omega)) (c2_le (nI_clamp (by omega)) (nI_clamp (by omega)) (by omega)) (mW_1 hd) (mW_3 hd)  (Nat.le_of_ble_eq_true rfl) (Nat.le_of_ble_eq_true rfl) (mW_c3 hd (nI_clamp (by omega)) (nI_clamp (by omega)) (nI_clamp (by omega))) ?_
      refine g_aload_n X dX4_ends_85 rfl rfl ?_
      refine g_dup X dX4_ends_86 rfl rfl ?_
      refine g_get X dX4_ends_87 rfl in_X4 (ci := 3) rfl 5 (by decide) q1921 (fun _ h => h) mW_a (gv hp) ?_
      refine g_iconst X dX4_ends_90 rfl (v := (nI 1)) rfl ?_
      refine g_iadd X dX4_ends_91 rfl (by first | exact nI_add _ _ | rfl) ?_
      refine g_put X dX4_ends_92 rfl in_X4 tyX4_ok nmX4 (ci := 3) rfl 5 (by decide) q1921 (fun _ h => h) rfl rfl rfl rfl mW_a (Nat.le_of_ble_eq_true rfl) mW_u5 ?_
      refine g_iload_n X dX4_ends_95 rfl rfl ?_
      refine g_iret X dX4_ends_96 rfl (Nat.le_of_ble_eq_true rfl) (Nat.le_of_ble_eq_true rfl) (fun H hH => ⟨⟨(vU v 5 (nI (w.2.1.length + 1)), FU F 3 (va_cpy (F 1) (F 3) 0 (158 * w.2.1.length) 158)), ⟨hM, q5, hPA, q3, hP.2.2.2⟩, q6, fun j hj => FU_n (by omega), fun i _ h5 _ => vU_n h5⟩, rfl, hH⟩)
theorem rF_of {R : Res} {f f' : Nat → Int32} (hr : rM R f f') : rF R f' := by
  cases R with
  | inl c => trivial
  | inr x => exact hr
theorem okR_cH {P : Prop} {x y : Res} (h1 : okR x) (h2 : okR y) : okR (cH P x y) := by
  by_cases h : P
  · rw [cH_t h]; exact h1
  · rw [cH_f h]; exact h2
theorem okR_l {c : Nat} (h : 0 < c ∧ c < 100) : okR (.inl c) := h
theorem okR_r {x : Nat × St} : okR (.inr x) := trivial
theorem ok_aBuild {σ : St} {x y : Int32} : okR (aBuild σ x y) := okR_cH (okR_l (by decide)) (okR_cH (okR_l (by decide)) okR_r)
theorem ok_aAddG {σ : St} : okR (aAddG σ) := okR_cH (okR_l (by decide)) okR_r
theorem ok_aBook {σ : St} {x y z : Int32} : okR (aBook σ x y z) := okR_cH (okR_l (by decide)) (okR_cH (okR_l (by decide)) (okR_cH (okR_l (by decide)) (okR_cH (okR_l (by decide)) okR_r)))
theorem ok_aCanc {σ : St} {x : Int32} : okR (aCanc σ x) := okR_cH (okR_l (by decide)) (okR_cH (okR_l (by decide)) okR_r)
theorem ok_aJoin {σ : St} {x y : Int32} : okR (aJoin σ x y) := okR_cH (okR_l (by decide)) (okR_cH (okR_l (by decide)) (okR_cH (okR_l (by decide)) okR_r))
theorem ok_aLeave {σ : St} {x : Int32} : okR (aLeave σ x) := okR_cH (okR_l (by decide)) (okR_cH (okR_l (by decide)) okR_r)
theorem ok_aPass {σ : St} {x : Int32} : okR (aPass σ x) := okR_cH (okR_l (by decide)) okR_r
theorem FR_tr {R : Res} {v : Nat → Int32} {F : Nat → Nat → Int32} {x : (Nat → Int32) × (Nat → Nat → Int32)} {g f' : Nat → Int32} (h : FR (rV R (vU v 6 (nI 0))) (FU (FU F 1 g) 0 f') x) : FR v F x := ⟨fun j hj => (h.1 j hj).trans ((FU_n (by omega)).trans (FU_n (by omega))), fun i h1 h2 h3 => (h.2 i h1 h2 h3).trans ((rV_n h3).trans (vU_n h3))⟩
theorem ct_X4_buildSlide (hst : l.stackTraces = false) (hd : mDi a ad) {R M : Nat} (hA : MA v F w) (hW : WA R M w) (hm : M + 60 ≤ 100000) (hr : R + 720 ≤ 2000000) {x : Int32} {y : Int32} : CM Ω l yX4_buildSlide (ws_ yX4_buildSlide cX4_buildSlide 3 (some .int)) 14 0 0 [.ref a, .int x, .int y] (hR Ω (mW Ω h a ad v F)) (PO Ω h a ad v F (wR w (aBuild w.1 x y)) (rI (aBuild w.1 x y)) (tR (aBuild w.1 x y))) nX := by
  have hB := hW.1.1.bd (by have := hW.1.2; omega) (by omega)
  have hok : okR (aBuild w.1 x y) := ok_aBuild
  refine CM.of (L := [some (.ref a), some (.int x), some (.int y)]) hst (by decide) (Nat.le_of_ble_eq_true rfl) rfl ?_
  intro p e s m below meth c X hnm htab
  refine g_aload_n X dX4_buildSlide_0 rfl rfl ?_
  refine g_callV X (ct_X4_keep hst hd) dX4_buildSlide_1 rfl (lw_V q1976 q1978 qs25 q76 q1979) hyV_X4_keep (fun H hH => hR.recv X.2.2.2.2.2.2.2.1 hH mW_a rfl) (fun H hH => hH) ⟨Nat.le_of_ble_eq_true rfl, Nat.le_of_ble_eq_true rfl⟩ ⟨Nat.le_of_ble_eq_true rfl, Nat.le_of_ble_eq_true rfl⟩ (Nat.le_of_ble_eq_true rfl) rfl (fun x_1 => ?_)
  refine g_aload_n X dX4_buildSlide_4 rfl rfl ?_
  refine GJ.imp (I' := hR Ω (mW Ω h a ad (vU v 6 (nI 0)) (FU (FU F 1 (va_cpy (F 0) (F 1) 0 0 158)) 0 (F 0)))) (fun H hH => by rw [show FU (FU F 1 (va_cpy (F 0) (F 1) 0 0 158)) 0 (F 0) = FU F 1 (va_cpy (F 0) (F 1) 0 0 158) from FU_0]; exact hH) ?_
  refine g_aload_n X dX4_buildSlide_5 rfl rfl ?_
  refine g_iload_n X dX4_buildSlide_6 rfl rfl ?_
  refine g_iload_n X dX4_buildSlide_7 rfl rfl ?_
  refine g_callV X (ct_X4_doBuildSlide hst hd hA.1 hB) dX4_buildSlide_8 rfl (lw_V q1981 q1983 qs26 q76 q1984) hyV_X4_doBuildSlide (fun H hH => hR.recv X.2.2.2.2.2.2.2.1 hH mW_a rfl) (fun H hH => hH) ⟨Nat.le_of_ble_eq_true rfl, Nat.le_of_ble_eq_true rfl⟩ ⟨Nat.le_of_ble_eq_true rfl, Nat.le_of_ble_eq_true rfl⟩ (Nat.le_of_ble_eq_true rfl) rfl (fun x0 => ?_)
  have hrF : rF (aBuild w.1 x y) x0.1 := rF_of x0.2
  have hMP : MP (rV (aBuild w.1 x y) (vU v 6 (nI 0))) (FU (FU F 1 (va_cpy (F 0) (F 1) 0 0 158)) 0 x0.1) w := MP_r (MP_v6 (MP_F hA.2 rfl rfl))
  refine g_callV X (ct_X4_ends hst hd hW (rV_6 vU_s) hok hrF (MR_cg hA.1 hW.1.1.cp (fun j hj => cpy0 hj)) hMP) dX4_buildSlide_11 rfl (lw_V q1992 q1994 qs28 q76 q1995) hyV_X4_ends (fun H hH => hR.recv X.2.2.2.2.2.2.2.1 hH mW_a rfl) (fun H hH => hH) ⟨Nat.le_of_ble_eq_true rfl, Nat.le_of_ble_eq_true rfl⟩ ⟨Nat.le_of_ble_eq_true rfl, Nat.le_of_ble_eq_true rfl⟩ (Nat.le_of_ble_eq_true rfl) rfl (fun y0 => ?_)
  refine g_iret X dX4_buildSlide_14 rfl (Nat.le_of_ble_eq_true rfl) (Nat.le_of_ble_eq_true rfl) (fun H hH => ⟨⟨y0.1, y0.2.1, y0.2.2.1, FR_tr y0.2.2.2⟩, rfl, hH⟩)
theorem ct_X4_addGuest (hst : l.stackTraces = false) (hd : mDi a ad) {R M : Nat} (hA : MA v F w) (hW : WA R M w) (hm : M + 60 ≤ 100000) (hr : R + 720 ≤ 2000000)  : CM Ω l yX4_addGuest (ws_ yX4_addGuest cX4_addGuest 1 (some .int)) 14 0 0 [.ref a] (hR Ω (mW Ω h a ad v F)) (PO Ω h a ad v F (wR w (aAddG w.1)) (rI (aAddG w.1)) (tR (aAddG w.1))) nX := by
  have hB := hW.1.1.bd (by have := hW.1.2; omega) (by omega)
  have hok : okR (aAddG w.1) := ok_aAddG
  refine CM.of (L := [some (.ref a)]) hst (by decide) (Nat.le_of_ble_eq_true rfl) rfl ?_
  intro p e s m below meth c X hnm htab
  refine g_aload_n X dX4_addGuest_0 rfl rfl ?_
  refine g_callV X (ct_X4_keep hst hd) dX4_addGuest_1 rfl (lw_V q1976 q1978 qs25 q76 q1979) hyV_X4_keep (fun H hH => hR.recv X.2.2.2.2.2.2.2.1 hH mW_a rfl) (fun H hH => hH) ⟨Nat.le_of_ble_eq_true rfl, Nat.le_of_ble_eq_true rfl⟩ ⟨Nat.le_of_ble_eq_true rfl, Nat.le_of_ble_eq_true rfl⟩ (Nat.le_of_ble_eq_true rfl) rfl (fun x_1 => ?_)
  refine g_aload_n X dX4_addGuest_4 rfl rfl ?_
  refine GJ.imp (I' := hR Ω (mW Ω h a ad (vU v 6 (nI 0)) (FU (FU F 1 (va_cpy (F 0) (F 1) 0 0 158)) 0 (F 0)))) (fun H hH => by rw [show FU (FU F 1 (va_cpy (F 0) (F 1) 0 0 158)) 0 (F 0) = FU F 1 (va_cpy (F 0) (F 1) 0 0 158) from FU_0]; exact hH) ?_
  refine g_aload_n X dX4_addGuest_5 rfl rfl ?_
  refine g_callV X (ct_X4_doAddGuest hst hd hA.1 hB) dX4_addGuest_6 rfl (lw_V q2000 q2002 qs29 q76 q2003) hyV_X4_doAddGuest (fun H hH => hR.recv X.2.2.2.2.2.2.2.1 hH mW_a rfl) (fun H hH => hH) ⟨Nat.le_of_ble_eq_true rfl, Nat.le_of_ble_eq_true rfl⟩ ⟨Nat.le_of_ble_eq_true rfl, Nat.le_of_ble_eq_true rfl⟩ (Nat.le_of_ble_eq_true rfl) rfl (fun x0 => ?_)
  have hrF : rF (aAddG w.1) x0.1 := rF_of x0.2
  have hMP : MP (rV (aAddG w.1) (vU v 6 (nI 0))) (FU (FU F 1 (va_cpy (F 0) (F 1) 0 0 158)) 0 x0.1) w := MP_r (MP_v6 (MP_F hA.2 rfl rfl))
  refine g_callV X (ct_X4_ends hst hd hW (rV_6 vU_s) hok hrF (MR_cg hA.1 hW.1.1.cp (fun j hj => cpy0 hj)) hMP) dX4_addGuest_9 rfl (lw_V q1992 q1994 qs28 q76 q1995) hyV_X4_ends (fun H hH => hR.recv X.2.2.2.2.2.2.2.1 hH mW_a rfl) (fun H hH => hH) ⟨Nat.le_of_ble_eq_true rfl, Nat.le_of_ble_eq_true rfl⟩ ⟨Nat.le_of_ble_eq_true rfl, Nat.le_of_ble_eq_true rfl⟩ (Nat.le_of_ble_eq_true rfl) rfl (fun y0 => ?_)
  refine g_iret X dX4_addGuest_12 rfl (Nat.le_of_ble_eq_true rfl) (Nat.le_of_ble_eq_true rfl) (fun H hH => ⟨⟨y0.1, y0.2.1, y0.2.2.1, FR_tr y0.2.2.2⟩, rfl, hH⟩)
theorem ct_X4_book (hst : l.stackTraces = false) (hd : mDi a ad) {R M : Nat} (hA : MA v F w) (hW : WA R M w) (hm : M + 60 ≤ 100000) (hr : R + 720 ≤ 2000000) {x : Int32} {y : Int32} {z : Int32} : CM Ω l yX4_book (ws_ yX4_book cX4_book 4 (some .int)) 16 0 0 [.ref a, .int x, .int y, .int z] (hR Ω (mW Ω h a ad v F)) (PO Ω h a ad v F (wR w (aBook w.1 x y z)) (rI (aBook w.1 x y z)) (tR (aBook w.1 x y z))) nX := by
  have hB := hW.1.1.bd (by have := hW.1.2; omega) (by omega)
  have hok : okR (aBook w.1 x y z) := ok_aBook
  refine CM.of (L := [some (.ref a), some (.int x), some (.int y), some (.int z)]) hst (by decide) (Nat.le_of_ble_eq_true rfl) rfl ?_
  intro p e s m below meth c X hnm htab
  refine g_aload_n X dX4_book_0 rfl rfl ?_
  refine g_callV X (ct_X4_keep hst hd) dX4_book_1 rfl (lw_V q1976 q1978 qs25 q76 q1979) hyV_X4_keep (fun H hH => hR.recv X.2.2.2.2.2.2.2.1 hH mW_a rfl) (fun H hH => hH) ⟨Nat.le_of_ble_eq_true rfl, Nat.le_of_ble_eq_true rfl⟩ ⟨Nat.le_of_ble_eq_true rfl, Nat.le_of_ble_eq_true rfl⟩ (Nat.le_of_ble_eq_true rfl) rfl (fun x_1 => ?_)
  refine g_aload_n X dX4_book_4 rfl rfl ?_
  refine GJ.imp (I' := hR Ω (mW Ω h a ad (vU v 6 (nI 0)) (FU (FU F 1 (va_cpy (F 0) (F 1) 0 0 158)) 0 (F 0)))) (fun H hH => by rw [show FU (FU F 1 (va_cpy (F 0) (F 1) 0 0 158)) 0 (F 0) = FU F 1 (va_cpy (F 0) (F 1) 0 0 158) from FU_0]; exact hH) ?_
  refine g_aload_n X dX4_book_5 rfl rfl ?_
  refine g_iload_n X dX4_book_6 rfl rfl ?_
  refine g_iload_n X dX4_book_7 rfl rfl ?_
  refine g_iload_n X dX4_book_8 rfl rfl ?_
  refine g_callV X (ct_X4_doBook hst hd hA.1 hB) dX4_book_9 rfl (lw_V q2008 q2010 qs30 q76 q2011) hyV_X4_doBook (fun H hH => hR.recv X.2.2.2.2.2.2.2.1 hH mW_a rfl) (fun H hH => hH) ⟨Nat.le_of_ble_eq_true rfl, Nat.le_of_ble_eq_true rfl⟩ ⟨Nat.le_of_ble_eq_true rfl, Nat.le_of_ble_eq_true rfl⟩ (Nat.le_of_ble_eq_true rfl) rfl (fun x0 => ?_)
  have hrF : rF (aBook w.1 x y z) x0.1 := rF_of x0.2
  have hMP : MP (rV (aBook w.1 x y z) (vU v 6 (nI 0))) (FU (FU F 1 (va_cpy (F 0) (F 1) 0 0 158)) 0 x0.1) w := MP_r (MP_v6 (MP_F hA.2 rfl rfl))
  refine g_callV X (ct_X4_ends hst hd hW (rV_6 vU_s) hok hrF (MR_cg hA.1 hW.1.1.cp (fun j hj => cpy0 hj)) hMP) dX4_book_12 rfl (lw_V q1992 q1994 qs28 q76 q1995) hyV_X4_ends (fun H hH => hR.recv X.2.2.2.2.2.2.2.1 hH mW_a rfl) (fun H hH => hH) ⟨Nat.le_of_ble_eq_true rfl, Nat.le_of_ble_eq_true rfl⟩ ⟨Nat.le_of_ble_eq_true rfl, Nat.le_of_ble_eq_true rfl⟩ (Nat.le_of_ble_eq_true rfl) rfl (fun y0 => ?_)
  refine g_iret X dX4_book_15 rfl (Nat.le_of_ble_eq_true rfl) (Nat.le_of_ble_eq_true rfl) (fun H hH => ⟨⟨y0.1, y0.2.1, y0.2.2.1, FR_tr y0.2.2.2⟩, rfl, hH⟩)
theorem ct_X4_cancel (hst : l.stackTraces = false) (hd : mDi a ad) {R M : Nat} (hA : MA v F w) (hW : WA R M w) (hm : M + 60 ≤ 100000) (hr : R + 720 ≤ 2000000) {x : Int32} : CM Ω l yX4_cancel (ws_ yX4_cancel cX4_cancel 2 (some .int)) 16 0 0 [.ref a, .int x] (hR Ω (mW Ω h a ad v F)) (PO Ω h a ad v F (wR w (aCanc w.1 x)) (rI (aCanc w.1 x)) (tR (aCanc w.1 x))) nX := by
  have hB := hW.1.1.bd (by have := hW.1.2; omega) (by omega)
  have hok : okR (aCanc w.1 x) := ok_aCanc
  refine CM.of (L := [some (.ref a), some (.int x)]) hst (by decide) (Nat.le_of_ble_eq_true rfl) rfl ?_
  intro p e s m below meth c X hnm htab
  refine g_aload_n X dX4_cancel_0 rfl rfl ?_
  refine g_callV X (ct_X4_keep hst hd) dX4_cancel_1 rfl (lw_V q1976 q1978 qs25 q76 q1979) hyV_X4_keep (fun H hH => hR.recv X.2.2.2.2.2.2.2.1 hH mW_a rfl) (fun H hH => hH) ⟨Nat.le_of_ble_eq_true rfl, Nat.le_of_ble_eq_true rfl⟩ ⟨Nat.le_of_ble_eq_true rfl, Nat.le_of_ble_eq_true rfl⟩ (Nat.le_of_ble_eq_true rfl) rfl (fun x_1 => ?_)
  refine g_aload_n X dX4_cancel_4 rfl rfl ?_
  refine GJ.imp (I' := hR Ω (mW Ω h a ad (vU v 6 (nI 0)) (FU (FU F 1 (va_cpy (F 0) (F 1) 0 0 158)) 0 (F 0)))) (fun H hH => by rw [show FU (FU F 1 (va_cpy (F 0) (F 1) 0 0 158)) 0 (F 0) = FU F 1 (va_cpy (F 0) (F 1) 0 0 158) from FU_0]; exact hH) ?_
  refine g_aload_n X dX4_cancel_5 rfl rfl ?_
  refine g_iload_n X dX4_cancel_6 rfl rfl ?_
  refine g_callV X (ct_X4_doCancel hst hd hA.1 hB) dX4_cancel_7 rfl (lw_V q2060 q2062 qs42 q76 q2063) hyV_X4_doCancel (fun H hH => hR.recv X.2.2.2.2.2.2.2.1 hH mW_a rfl) (fun H hH => hH) ⟨Nat.le_of_ble_eq_true rfl, Nat.le_of_ble_eq_true rfl⟩ ⟨Nat.le_of_ble_eq_true rfl, Nat.le_of_ble_eq_true rfl⟩ (Nat.le_of_ble_eq_true rfl) rfl (fun x0 => ?_)
  have hrF : rF (aCanc w.1 x) x0.1 := rF_of x0.2
  have hMP : MP (rV (aCanc w.1 x) (vU v 6 (nI 0))) (FU (FU F 1 (va_cpy (F 0) (F 1) 0 0 158)) 0 x0.1) w := MP_r (MP_v6 (MP_F hA.2 rfl rfl))
  refine g_callV X (ct_X4_ends hst hd hW (rV_6 vU_s) hok hrF (MR_cg hA.1 hW.1.1.cp (fun j hj => cpy0 hj)) hMP) dX4_cancel_10 rfl (lw_V q1992 q1994 qs28 q76 q1995) hyV_X4_ends (fun H hH => hR.recv X.2.2.2.2.2.2.2.1 hH mW_a rfl) (fun H hH => hH) ⟨Nat.le_of_ble_eq_true rfl, Nat.le_of_ble_eq_true rfl⟩ ⟨Nat.le_of_ble_eq_true rfl, Nat.le_of_ble_eq_true rfl⟩ (Nat.le_of_ble_eq_true rfl) rfl (fun y0 => ?_)
  refine g_iret X dX4_cancel_13 rfl (Nat.le_of_ble_eq_true rfl) (Nat.le_of_ble_eq_true rfl) (fun H hH => ⟨⟨y0.1, y0.2.1, y0.2.2.1, FR_tr y0.2.2.2⟩, rfl, hH⟩)
theorem ct_X4_joinQueue (hst : l.stackTraces = false) (hd : mDi a ad) {R M : Nat} (hA : MA v F w) (hW : WA R M w) (hm : M + 60 ≤ 100000) (hr : R + 720 ≤ 2000000) {x : Int32} {y : Int32} : CM Ω l yX4_joinQueue (ws_ yX4_joinQueue cX4_joinQueue 3 (some .int)) 16 0 0 [.ref a, .int x, .int y] (hR Ω (mW Ω h a ad v F)) (PO Ω h a ad v F (wR w (aJoin w.1 x y)) (rI (aJoin w.1 x y)) (tR (aJoin w.1 x y))) nX := by
  have hB := hW.1.1.bd (by have := hW.1.2; omega) (by omega)
  have hok : okR (aJoin w.1 x y) := ok_aJoin
  refine CM.of (L := [some (.ref a), some (.int x), some (.int y)]) hst (by decide) (Nat.le_of_ble_eq_true rfl) rfl ?_
  intro p e s m below meth c X hnm htab
  refine g_aload_n X dX4_joinQueue_0 rfl rfl ?_
  refine g_callV X (ct_X4_keep hst hd) dX4_joinQueue_1 rfl (lw_V q1976 q1978 qs25 q76 q1979) hyV_X4_keep (fun H hH => hR.recv X.2.2.2.2.2.2.2.1 hH mW_a rfl) (fun H hH => hH) ⟨Nat.le_of_ble_eq_true rfl, Nat.le_of_ble_eq_true rfl⟩ ⟨Nat.le_of_ble_eq_true rfl, Nat.le_of_ble_eq_true rfl⟩ (Nat.le_of_ble_eq_true rfl) rfl (fun x_1 => ?_)
  refine g_aload_n X dX4_joinQueue_4 rfl rfl ?_
  refine GJ.imp (I' := hR Ω (mW Ω h a ad (vU v 6 (nI 0)) (FU (FU F 1 (va_cpy (F 0) (F 1) 0 0 158)) 0 (F 0)))) (fun H hH => by rw [show FU (FU F 1 (va_cpy (F 0) (F 1) 0 0 158)) 0 (F 0) = FU F 1 (va_cpy (F 0) (F 1) 0 0 158) from FU_0]; exact hH) ?_
  refine g_aload_n X dX4_joinQueue_5 rfl rfl ?_
  refine g_iload_n X dX4_joinQueue_6 rfl rfl ?_
  refine g_iload_n X dX4_joinQueue_7 rfl rfl ?_
  refine g_callV X (ct_X4_doJoin hst hd hA.1 hB) dX4_joinQueue_8 rfl (lw_V q2076 q2078 qs45 q76 q2079) hyV_X4_doJoin (fun H hH => hR.recv X.2.2.2.2.2.2.2.1 hH mW_a rfl) (fun H hH => hH) ⟨Nat.le_of_ble_eq_true rfl, Nat.le_of_ble_eq_true rfl⟩ ⟨Nat.le_of_ble_eq_true rfl, Nat.le_of_ble_eq_true rfl⟩ (Nat.le_of_ble_eq_true rfl) rfl (fun x0 => ?_)
  have hrF : rF (aJoin w.1 x y) x0.1 := rF_of x0.2
  have hMP : MP (rV (aJoin w.1 x y) (vU v 6 (nI 0))) (FU (FU F 1 (va_cpy (F 0) (F 1) 0 0 158)) 0 x0.1) w := MP_r (MP_v6 (MP_F hA.2 rfl rfl))
  refine g_callV X (ct_X4_ends hst hd hW (rV_6 vU_s) hok hrF (MR_cg hA.1 hW.1.1.cp (fun j hj => cpy0 hj)) hMP) dX4_joinQueue_11 rfl (lw_V q1992 q1994 qs28 q76 q1995) hyV_X4_ends (fun H hH => hR.recv X.2.2.2.2.2.2.2.1 hH mW_a rfl) (fun H hH => hH) ⟨Nat.le_of_ble_eq_true rfl, Nat.le_of_ble_eq_true rfl⟩ ⟨Nat.le_of_ble_eq_true rfl, Nat.le_of_ble_eq_true rfl⟩ (Nat.le_of_ble_eq_true rfl) rfl (fun y0 => ?_)
  refine g_iret X dX4_joinQueue_14 rfl (Nat.le_of_ble_eq_true rfl) (Nat.le_of_ble_eq_true rfl) (fun H hH => ⟨⟨y0.1, y0.2.1, y0.2.2.1, FR_tr y0.2.2.2⟩, rfl, hH⟩)
theorem ct_X4_leaveQueue (hst : l.stackTraces = false) (hd : mDi a ad) {R M : Nat} (hA : MA v F w) (hW : WA R M w) (hm : M + 60 ≤ 100000) (hr : R + 720 ≤ 2000000) {x : Int32} : CM Ω l yX4_leaveQueue (ws_ yX4_leaveQueue cX4_leaveQueue 2 (some .int)) 16 0 0 [.ref a, .int x] (hR Ω (mW Ω h a ad v F)) (PO Ω h a ad v F (wR w (aLeave w.1 x)) (rI (aLeave w.1 x)) (tR (aLeave w.1 x))) nX := by
  have hB := hW.1.1.bd (by have := hW.1.2; omega) (by omega)
  have hok : okR (aLeave w.1 x) := ok_aLeave
  refine CM.of (L := [some (.ref a), some (.int x)]) hst (by decide) (Nat.le_of_ble_eq_true rfl) rfl ?_
  intro p e s m below meth c X hnm htab
  refine g_aload_n X dX4_leaveQueue_0 rfl rfl ?_
  refine g_callV X (ct_X4_keep hst hd) dX4_leaveQueue_1 rfl (lw_V q1976 q1978 qs25 q76 q1979) hyV_X4_keep (fun H hH => hR.recv X.2.2.2.2.2.2.2.1 hH mW_a rfl) (fun H hH => hH) ⟨Nat.le_of_ble_eq_true rfl, Nat.le_of_ble_eq_true rfl⟩ ⟨Nat.le_of_ble_eq_true rfl, Nat.le_of_ble_eq_true rfl⟩ (Nat.le_of_ble_eq_true rfl) rfl (fun x_1 => ?_)
  refine g_aload_n X dX4_leaveQueue_4 rfl rfl ?_
  refine GJ.imp (I' := hR Ω (mW Ω h a ad (vU v 6 (nI 0)) (FU (FU F 1 (va_cpy (F 0) (F 1) 0 0 158)) 0 (F 0)))) (fun H hH => by rw [show FU (FU F 1 (va_cpy (F 0) (F 1) 0 0 158)) 0 (F 0) = FU F 1 (va_cpy (F 0) (F 1) 0 0 158) from FU_0]; exact hH) ?_
  refine g_aload_n X dX4_leaveQueue_5 rfl rfl ?_
  refine g_iload_n X dX4_leaveQueue_6 rfl rfl ?_
  refine g_callV X (ct_X4_doLeave hst hd hA.1 hB hW.1.1.2.2.2.1) dX4_leaveQueue_7 rfl (lw_V q2084 q2086 qs46 q76 q2087) hyV_X4_doLeave (fun H hH => hR.recv X.2.2.2.2.2.2.2.1 hH mW_a rfl) (fun H hH => hH) ⟨Nat.le_of_ble_eq_true rfl, Nat.le_of_ble_eq_true rfl⟩ ⟨Nat.le_of_ble_eq_true rfl, Nat.le_of_ble_eq_true rfl⟩ (Nat.le_of_ble_eq_true rfl) rfl (fun x0 => ?_)
  have hrF : rF (aLeave w.1 x) x0.1 := rF_of x0.2
  have hMP : MP (rV (aLeave w.1 x) (vU v 6 (nI 0))) (FU (FU F 1 (va_cpy (F 0) (F 1) 0 0 158)) 0 x0.1) w := MP_r (MP_v6 (MP_F hA.2 rfl rfl))
  refine g_callV X (ct_X4_ends hst hd hW (rV_6 vU_s) hok hrF (MR_cg hA.1 hW.1.1.cp (fun j hj => cpy0 hj)) hMP) dX4_leaveQueue_10 rfl (lw_V q1992 q1994 qs28 q76 q1995) hyV_X4_ends (fun H hH => hR.recv X.2.2.2.2.2.2.2.1 hH mW_a rfl) (fun H hH => hH) ⟨Nat.le_of_ble_eq_true rfl, Nat.le_of_ble_eq_true rfl⟩ ⟨Nat.le_of_ble_eq_true rfl, Nat.le_of_ble_eq_true rfl⟩ (Nat.le_of_ble_eq_true rfl) rfl (fun y0 => ?_)
  refine g_iret X dX4_leaveQueue_13 rfl (Nat.le_of_ble_eq_true rfl) (Nat.le_of_ble_eq_true rfl) (fun H hH => ⟨⟨y0.1, y0.2.1, y0.2.2.1, FR_tr y0.2.2.2⟩, rfl, hH⟩)
theorem ct_X4_passMinutes (hst : l.stackTraces = false) (hd : mDi a ad) {R M : Nat} (hA : MA v F w) (hW : WA R M w) (hm : M + 60 ≤ 100000) (hr : R + 720 ≤ 2000000) {x : Int32} : CM Ω l yX4_passMinutes (ws_ yX4_passMinutes cX4_passMinutes 2 (some .int)) 20 0 0 [.ref a, .int x] (hR Ω (mW Ω h a ad v F)) (PO Ω h a ad v F (wR w (aPass w.1 x)) (rI (aPass w.1 x)) (tR (aPass w.1 x))) nX := by
  have hB := hW.1.1.bd (by have := hW.1.2; omega) (by omega)
  have hok : okR (aPass w.1 x) := ok_aPass
  refine CM.of (L := [some (.ref a), some (.int x)]) hst (by decide) (Nat.le_of_ble_eq_true rfl) rfl ?_
  intro p e s m below meth c X hnm htab
  refine g_aload_n X dX4_passMinutes_0 rfl rfl ?_
  refine g_callV X (ct_X4_keep hst hd) dX4_passMinutes_1 rfl (lw_V q1976 q1978 qs25 q76 q1979) hyV_X4_keep (fun H hH => hR.recv X.2.2.2.2.2.2.2.1 hH mW_a rfl) (fun H hH => hH) ⟨Nat.le_of_ble_eq_true rfl, Nat.le_of_ble_eq_true rfl⟩ ⟨Nat.le_of_ble_eq_true rfl, Nat.le_of_ble_eq_true rfl⟩ (Nat.le_of_ble_eq_true rfl) rfl (fun x_1 => ?_)
  refine g_aload_n X dX4_passMinutes_4 rfl rfl ?_
  refine GJ.imp (I' := hR Ω (mW Ω h a ad (vU v 6 (nI 0)) (FU (FU F 1 (va_cpy (F 0) (F 1) 0 0 158)) 0 (F 0)))) (fun H hH => by rw [show FU (FU F 1 (va_cpy (F 0) (F 1) 0 0 158)) 0 (F 0) = FU F 1 (va_cpy (F 0) (F 1) 0 0 158) from FU_0]; exact hH) ?_
  refine g_aload_n X dX4_passMinutes_5 rfl rfl ?_
  refine g_iload_n X dX4_passMinutes_6 rfl rfl ?_
  refine g_callV X (ct_X4_doPass hst hd hA.1 hW.1.1 (by have := hW.1.2; omega) hr) dX4_passMinutes_7 rfl (lw_V q2092 q2094 qs47 q76 q2095) hyV_X4_doPass (fun H hH => hR.recv X.2.2.2.2.2.2.2.1 hH mW_a rfl) (fun H hH => hH) ⟨Nat.le_of_ble_eq_true rfl, Nat.le_of_ble_eq_true rfl⟩ ⟨Nat.le_of_ble_eq_true rfl, Nat.le_of_ble_eq_true rfl⟩ (Nat.le_of_ble_eq_true rfl) rfl (fun x0 => ?_)
  have hrF : rF (aPass w.1 x) x0.1 := rF_of x0.2
  have hMP : MP (rV (aPass w.1 x) (vU v 6 (nI 0))) (FU (FU F 1 (va_cpy (F 0) (F 1) 0 0 158)) 0 x0.1) w := MP_r (MP_v6 (MP_F hA.2 rfl rfl))
  refine g_callV X (ct_X4_ends hst hd hW (rV_6 vU_s) hok hrF (MR_cg hA.1 hW.1.1.cp (fun j hj => cpy0 hj)) hMP) dX4_passMinutes_10 rfl (lw_V q1992 q1994 qs28 q76 q1995) hyV_X4_ends (fun H hH => hR.recv X.2.2.2.2.2.2.2.1 hH mW_a rfl) (fun H hH => hH) ⟨Nat.le_of_ble_eq_true rfl, Nat.le_of_ble_eq_true rfl⟩ ⟨Nat.le_of_ble_eq_true rfl, Nat.le_of_ble_eq_true rfl⟩ (Nat.le_of_ble_eq_true rfl) rfl (fun y0 => ?_)
  refine g_iret X dX4_passMinutes_13 rfl (Nat.le_of_ble_eq_true rfl) (Nat.le_of_ble_eq_true rfl) (fun H hH => ⟨⟨y0.1, y0.2.1, y0.2.2.1, FR_tr y0.2.2.2⟩, rfl, hH⟩)
end M11
