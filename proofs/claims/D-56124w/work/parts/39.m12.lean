/-! MODEL: undo, save, restore, small texts -/
section M12
variable {l : Launch} {Ω : Om} {h : RH} {a : Nat} {ad : Nat → Nat} {v : Nat → Int32} {F : Nat → Nat → Int32} {w : Wl}
set_option maxRecDepth 100000
theorem ct_X4_undoCount (hst : l.stackTraces = false) (hd : mDi a ad) (hA : MA v F w) : CM Ω l yX4_undoCount (ws_ yX4_undoCount cX4_undoCount 1 (some .int)) 1 0 0 [.ref a] (hR Ω (mW Ω h a ad v F)) (QP (some (.int (nI w.2.1.length))) (hR Ω (mW Ω h a ad (vU v 6 (nI 0)) F))) nX := by
  have e5 : vU v 6 (nI 0) 5 = nI w.2.1.length := (vU_n (by decide)).trans hA.2.1
  refine CM.of (L := [some (.ref a)]) hst (by decide) (Nat.le_of_ble_eq_true rfl) rfl ?_
  intro p e s m below meth c X hnm htab
  refine g_aload_n X dX4_undoCount_0 rfl rfl ?_
  refine g_iconst X dX4_undoCount_1 rfl (v := (nI 0)) rfl ?_
  refine g_put X dX4_undoCount_2 rfl in_X4 tyX4_ok nmX4 (ci := 3) rfl 6 (by decide) q1922 (fun _ h => h) rfl rfl rfl rfl mW_a (Nat.le_of_ble_eq_true rfl) mW_u6 ?_
  refine g_aload_n X dX4_undoCount_5 rfl rfl ?_
  refine g_get X dX4_undoCount_6 rfl in_X4 (ci := 3) rfl 5 (by decide) q1921 (fun _ h => h) mW_a (gv e5) ?_
  refine g_iret X dX4_undoCount_9 rfl (Nat.le_of_ble_eq_true rfl) (Nat.le_of_ble_eq_true rfl) (fun H hH => ⟨(), rfl, hH⟩)
theorem ct_X4_undo (hst : l.stackTraces = false) (hd : mDi a ad) {R M : Nat} (hA : MA v F w) (hW : WA R M w) : CM Ω l yX4_undo (ws_ yX4_undo cX4_undo 1 (some .int)) 2 0 0 [.ref a] (hR Ω (mW Ω h a ad v F)) (PO Ω h a ad v F (rwW w (aUndo w)) (rwI (aUndo w)) (rwT (aUndo w))) nX := by
  have h8 := hW.2.1
  have hp := hA.2.1
  by_cases h0 : w.2.1.length = 0
  · have e : aUndo w = .inl 1 := if_pos h0
    rw [e]
    have q : MP (vU v 6 (nI 1)) F w := MP_v6 hA.2
    refine CM.of (L := [some (.ref a)]) hst (by decide) (Nat.le_of_ble_eq_true rfl) rfl ?_
    intro p e s m below meth c X hnm htab
    refine g_aload_n X dX4_undo_0 rfl rfl ?_
    refine g_aload_n X dX4_undo_1 rfl rfl ?_
    refine g_get X dX4_undo_2 rfl in_X4 (ci := 3) rfl 5 (by decide) q1921 (fun _ h => h) mW_a (gv hp) ?_
    refine g_if_ne (tgt := 12) X dX4_undo_5 rfl (by decide) (fun c => absurd ((nI_c0 (by omega)).mpr h0) c) (fun c_5 => ?_)
    refine g_iconst X dX4_undo_8 rfl (v := (nI 1)) rfl ?_
    refine g_goto (tgt := 13) X dX4_undo_9 rfl (by decide) ?_
    refine g_put X dX4_undo_13 rfl in_X4 tyX4_ok nmX4 (ci := 3) rfl 6 (by decide) q1922 (fun _ h => h) rfl rfl rfl rfl mW_a (Nat.le_of_ble_eq_true rfl) mW_u6 ?_
    refine g_aload_n X dX4_undo_16 rfl rfl ?_
    refine g_get X dX4_undo_17 rfl in_X4 (ci := 3) rfl 6 (by decide) q1922 (fun _ h => h) mW_a (gv vU_s) ?_
    refine g_if_le (tgt := 25) X dX4_undo_20 rfl (by decide) (fun c => absurd c (by decide)) (fun c_20 => ?_)
    refine g_iconst X dX4_undo_23 rfl (v := (nI 0)) rfl ?_
    refine g_iret X dX4_undo_24 rfl (Nat.le_of_ble_eq_true rfl) (Nat.le_of_ble_eq_true rfl) (fun H hH => ⟨⟨(vU v 6 (nI 1), F), ⟨hA.1, q⟩, (by show vU v 6 (nI 1) 6 = nI 1; exact vU_s), fun _ _ => rfl, fun i _ _ h6 => vU_n h6⟩, rfl, hH⟩)
  · obtain ⟨n, hn⟩ : ∃ n, w.2.1.length = n + 1 := ⟨w.2.1.length - 1, by omega⟩
    have e : aUndo w = .inr (n, (w.2.1.getD n st0, w.2.1.take n, w.2.2)) := by unfold aUndo; rw [if_neg h0, hn]; rfl
    rw [e]
    have e5 : vU v 6 (nI 0) 5 = nI (n + 1) := by rw [vU_n (by decide), hp, hn]
    have q5 : vU (vU v 6 (nI 0)) 5 (nI (n + 1 - 1)) 5 = nI n := vU_s
    have hl : (w.2.1.take n).length = n := by rw [List.length_take]; omega
    have hc := hW.2.2.1 n (by omega)
    have q1 : MR (va_cpy (F 3) (F 0) (158 * n) 0 158) (w.2.1.getD n st0) := MR_cg (hA.2.2.1 n (by omega)) hc.1.cp (fun j hj => by rw [pk_cpy_in (Nat.zero_le _) (by omega), Nat.sub_zero])
    have q2 : MP (vU (vU v 6 (nI 0)) 5 (nI (n + 1 - 1))) (FU F 0 (va_cpy (F 3) (F 0) (158 * n) 0 158)) (w.2.1.getD n st0, w.2.1.take n, w.2.2) := by
      refine ⟨by rw [q5]; show nI n = nI (w.2.1.take n).length; rw [hl], fun k hk => ?_, ?_, hA.2.2.2.2⟩
      · have hk : k < (w.2.1.take n).length := hk
        rw [hl] at hk
        show MR (fun j => F 3 (158 * k + j)) ((w.2.1.take n).getD k st0)
        rw [getD_take hk]
        exact hA.2.2.1 k (by omega)
      · rw [vU_n (by decide), vU_n (by decide)]; exact hA.2.2.2.1
    refine CM.of (L := [some (.ref a)]) hst (by decide) (Nat.le_of_ble_eq_true rfl) rfl ?_
    intro p e s m below meth c X hnm htab
    refine g_aload_n X dX4_undo_0 rfl rfl ?_
    refine g_aload_n X dX4_undo_1 rfl rfl ?_
    refine g_get X dX4_undo_2 rfl in_X4 (ci := 3) rfl 5 (by decide) q1921 (fun _ h => h) mW_a (gv hp) ?_
    refine g_if_ne (tgt := 12) X dX4_undo_5 rfl (by decide) (fun c_5 => ?_) (fun c => absurd ((nI_c0 (by omega)).mp c) h0)
    refine g_iconst X dX4_undo_12 rfl (v := (nI 0)) rfl ?_
    refine g_put X dX4_undo_13 rfl in_X4 tyX4_ok nmX4 (ci := 3) rfl 6 (by decide) q1922 (fun _ h => h) rfl rfl rfl rfl mW_a (Nat.le_of_ble_eq_true rfl) mW_u6 ?_
    refine g_aload_n X dX4_undo_16 rfl rfl ?_
    refine g_get X dX4_undo_17 rfl in_X4 (ci := 3) rfl 6 (by decide) q1922 (fun _ h => h) mW_a (gv vU_s) ?_
    refine g_if_le (tgt := 25) X dX4_undo_20 rfl (by decide) (fun c_20 => ?_) (fun c => absurd (by decide) c)
    refine g_aload_n X dX4_undo_25 rfl rfl ?_
    refine g_dup X dX4_undo_26 rfl rfl ?_
    refine g_get X dX4_undo_27 rfl in_X4 (ci := 3) rfl 5 (by decide) q1921 (fun _ h => h) mW_a (gv e5) ?_
    refine g_iconst X dX4_undo_30 rfl (v := (nI 1)) rfl ?_
    refine g_isub X dX4_undo_31 rfl (pk_sub (by omega)) ?_
    refine g_put X dX4_undo_32 rfl in_X4 tyX4_ok nmX4 (ci := 3) rfl 5 (by decide) q1921 (fun _ h => h) rfl rfl rfl rfl mW_a (Nat.le_of_ble_eq_true rfl) mW_u5 ?_
    refine g_aload_n X dX4_undo_35 rfl rfl ?_
    refine g_get X dX4_undo_36 rfl in_X4 (ci := 3) rfl 4 (by decide) q1920 (fun _ h => h) mW_a rfl ?_
    refine g_sipush X dX4_undo_39 rfl (v := (nI 158)) (by decide) ?_
    refine g_aload_n X dX4_undo_42 rfl rfl ?_
    refine g_get X dX4_undo_43 rfl in_X4 (ci := 3) rfl 5 (by decide) q1921 (fun _ h => h) mW_a (gv q5) ?_
    refine g_imul X dX4_undo_46 rfl (by first | exact pk_mul _ _ | rfl) ?_
    refine g_aload_n X dX4_undo_47 rfl rfl ?_
    refine g_get X dX4_undo_48 rfl in_X4 (ci := 3) rfl 0 (by decide) q1916 (fun _ h => h) mW_a rfl ?_
    refine g_iconst X dX4_undo_51 rfl (v := (nI 0)) rfl ?_
    refine g_sipush X dX4_undo_52 rfl (v := (nI 158)) (by decide) ?_
    refine g_copyI X dX4_undo_55 rfl q1980 (nI_pos (by omega)) (nI_pos (by omega)) (nI_pos (by omega)) (c2_le (nI_clamp (by omega)) (nI_clamp (by omega)) (by omega)) (c2_le (nI_clamp (by omega)) (nI_clamp (by omega)) (by omega)) (mW_3 hd) (mW_0 hd)  (Nat.le_of_ble_eq_true rfl) (Nat.le_of_ble_eq_true rfl) (mW_ca hd (nI_clamp (by omega)) (nI_clamp (by omega)) (nI_clamp (by omega))) ?_
    refine g_aload_n X dX4_undo_58 rfl rfl ?_
    refine g_get X dX4_undo_59 rfl in_X4 (ci := 3) rfl 5 (by decide) q1921 (fun _ h => h) mW_a (gv q5) ?_
    refine g_iret X dX4_undo_62 rfl (Nat.le_of_ble_eq_true rfl) (Nat.le_of_ble_eq_true rfl) (fun H hH => ⟨⟨(vU (vU v 6 (nI 0)) 5 (nI (n + 1 - 1)), FU F 0 (va_cpy (F 3) (F 0) (158 * n) 0 158)), ⟨q1, q2⟩, (by show vU (vU v 6 (nI 0)) 5 (nI (n + 1 - 1)) 6 = nI 0; rw [vU_n (by decide), vU_s]), fun j hj => FU_n (by omega), fun i _ h5 h6 => (vU_n h5).trans (vU_n h6)⟩, rfl, hH⟩)
theorem ct_X4_save (hst : l.stackTraces = false) (hd : mDi a ad) {R M : Nat} (hA : MA v F w) (hW : WA R M w) : CM Ω l yX4_save (ws_ yX4_save cX4_save 1 (some .int)) 2 0 0 [.ref a] (hR Ω (mW Ω h a ad v F)) (PO Ω h a ad v F (rwW w (aSave w)) (rwI (aSave w)) (rwT (aSave w))) nX := by
  have q1 : MR (va_cpy (F 0) (F 2) 0 0 158) w.1 := MR_cg hA.1 hW.1.1.cp (fun j hj => cpy0 hj)
  have q2 : MP (vU (vU v 6 (nI 0)) 3 (nI 1)) (FU F 2 (va_cpy (F 0) (F 2) 0 0 158)) (w.1, w.2.1, some w.1) := by
    refine ⟨?_, hA.2.2.1, ?_, fun σ hs => ?_⟩
    · rw [vU_n (by decide), vU_n (by decide)]; exact hA.2.1
    · rw [vU_s]; exact (bI_t rfl).symm
    · obtain rfl : w.1 = σ := Option.some.inj hs
      exact q1
  refine CM.of (L := [some (.ref a)]) hst (by decide) (Nat.le_of_ble_eq_true rfl) rfl ?_
  intro p e s m below meth c X hnm htab
  refine g_aload_n X dX4_save_0 rfl rfl ?_
  refine g_iconst X dX4_save_1 rfl (v := (nI 0)) rfl ?_
  refine g_put X dX4_save_2 rfl in_X4 tyX4_ok nmX4 (ci := 3) rfl 6 (by decide) q1922 (fun _ h => h) rfl rfl rfl rfl mW_a (Nat.le_of_ble_eq_true rfl) mW_u6 ?_
  refine g_aload_n X dX4_save_5 rfl rfl ?_
  refine g_get X dX4_save_6 rfl in_X4 (ci := 3) rfl 0 (by decide) q1916 (fun _ h => h) mW_a rfl ?_
  refine g_iconst X dX4_save_9 rfl (v := (nI 0)) rfl ?_
  refine g_aload_n X dX4_save_10 rfl rfl ?_
  refine g_get X dX4_save_11 rfl in_X4 (ci := 3) rfl 2 (by decide) q1918 (fun _ h => h) mW_a rfl ?_
  refine g_iconst X dX4_save_14 rfl (v := (nI 0)) rfl ?_
  refine g_sipush X dX4_save_15 rfl (v := (nI 158)) (by decide) ?_
  refine g_copyI X dX4_save_18 rfl q1980 (nI_pos (by omega)) (nI_pos (by omega)) (nI_pos (by omega)) (c2_le (nI_clamp (by omega)) (nI_clamp (by omega)) (by omega)) (c2_le (nI_clamp (by omega)) (nI_clamp (by omega)) (by omega)) (mW_0 hd) (mW_2 hd)  (Nat.le_of_ble_eq_true rfl) (Nat.le_of_ble_eq_true rfl) (mW_c2 hd (nI_clamp (by omega)) (nI_clamp (by omega)) (nI_clamp (by omega))) ?_
  refine g_aload_n X dX4_save_21 rfl rfl ?_
  refine g_iconst X dX4_save_22 rfl (v := (nI 1)) rfl ?_
  refine g_put X dX4_save_23 rfl in_X4 tyX4_ok nmX4 (ci := 3) rfl 3 (by decide) q1919 (fun _ h => h) rfl rfl rfl rfl mW_a (Nat.le_of_ble_eq_true rfl) mW_u3 ?_
  refine g_aload_n X dX4_save_26 rfl rfl ?_
  refine g_get X dX4_save_27 rfl in_X4 (ci := 3) rfl 0 (by decide) q1916 (fun _ h => h) mW_a rfl ?_
  refine g_iconst X dX4_save_30 rfl (v := (nI 2)) rfl ?_
  refine g_ial X dX4_save_31 rfl (mW_0 hd) (vp_in_nI (by omega) (by decide)) (ix_v (by omega) hA.1.1.2.2.1) ?_
  refine g_iret X dX4_save_32 rfl (Nat.le_of_ble_eq_true rfl) (Nat.le_of_ble_eq_true rfl) (fun H hH => ⟨⟨(vU (vU v 6 (nI 0)) 3 (nI 1), FU F 2 (va_cpy (F 0) (F 2) 0 0 158)), ⟨hA.1, q2⟩, (by show vU (vU v 6 (nI 0)) 3 (nI 1) 6 = nI 0; rw [vU_n (by decide), vU_s]), fun j hj => FU_n (by omega), fun i h3 _ h6 => (vU_n h3).trans (vU_n h6)⟩, rfl, hH⟩)
theorem ct_X4_restore (hst : l.stackTraces = false) (hd : mDi a ad) {R M : Nat} (hA : MA v F w) (hW : WA R M w) : CM Ω l yX4_restore (ws_ yX4_restore cX4_restore 1 (some .int)) 2 0 0 [.ref a] (hR Ω (mW Ω h a ad v F)) (PO Ω h a ad v F (rwW w (aRest w)) (rwI (aRest w)) (rwT (aRest w))) nX := by
  obtain ⟨σ0, p0, s0⟩ := w
  have hp := hA.2.2.2.1
  cases s0 with
  | none =>
    have hp : v 3 = nI 0 := hp.trans (bI_f (fun g => Bool.noConfusion g))
    have q : MP (vU v 6 (nI 1)) F (σ0, p0, none) := MP_v6 hA.2
    refine CM.of (L := [some (.ref a)]) hst (by decide) (Nat.le_of_ble_eq_true rfl) rfl ?_
    intro p e s m below meth c X hnm htab
    refine g_aload_n X dX4_restore_0 rfl rfl ?_
    refine g_aload_n X dX4_restore_1 rfl rfl ?_
    refine g_get X dX4_restore_2 rfl in_X4 (ci := 3) rfl 3 (by decide) q1919 (fun _ h => h) mW_a (gv hp) ?_
    refine g_if_eq (tgt := 12) X dX4_restore_5 rfl (by decide) (fun c_5 => ?_) (fun c => absurd rfl c)
    refine g_iconst X dX4_restore_12 rfl (v := (nI 1)) rfl ?_
    refine g_put X dX4_restore_13 rfl in_X4 tyX4_ok nmX4 (ci := 3) rfl 6 (by decide) q1922 (fun _ h => h) rfl rfl rfl rfl mW_a (Nat.le_of_ble_eq_true rfl) mW_u6 ?_
    refine g_aload_n X dX4_restore_16 rfl rfl ?_
    refine g_get X dX4_restore_17 rfl in_X4 (ci := 3) rfl 6 (by decide) q1922 (fun _ h => h) mW_a (gv vU_s) ?_
    refine g_if_le (tgt := 25) X dX4_restore_20 rfl (by decide) (fun c => absurd c (by decide)) (fun c_20 => ?_)
    refine g_iconst X dX4_restore_23 rfl (v := (nI 0)) rfl ?_
    refine g_iret X dX4_restore_24 rfl (Nat.le_of_ble_eq_true rfl) (Nat.le_of_ble_eq_true rfl) (fun H hH => ⟨⟨(vU v 6 (nI 1), F), ⟨hA.1, q⟩, (by show vU v 6 (nI 1) 6 = nI 1; exact vU_s), fun _ _ => rfl, fun i _ _ h6 => vU_n h6⟩, rfl, hH⟩)
  | some σ =>
    have hp : v 3 = nI 1 := hp.trans (bI_t rfl)
    have hc := hW.2.2.2 σ rfl
    have q1 : MR (va_cpy (F 2) (F 0) 0 0 158) σ := MR_cg (hA.2.2.2.2 σ rfl) hc.1.cp (fun j hj => cpy0 hj)
    have q2 : MP (vU (vU v 6 (nI 0)) 5 (nI 0)) (FU F 0 (va_cpy (F 2) (F 0) 0 0 158)) (σ, [], some σ) := by
      refine ⟨vU_s, fun k hk => absurd hk (Nat.not_lt_zero k), ?_, hA.2.2.2.2⟩
      rw [vU_n (by decide), vU_n (by decide)]; exact hA.2.2.2.1
    refine CM.of (L := [some (.ref a)]) hst (by decide) (Nat.le_of_ble_eq_true rfl) rfl ?_
    intro p e s m below meth c X hnm htab
    refine g_aload_n X dX4_restore_0 rfl rfl ?_
    refine g_aload_n X dX4_restore_1 rfl rfl ?_
    refine g_get X dX4_restore_2 rfl in_X4 (ci := 3) rfl 3 (by decide) q1919 (fun _ h => h) mW_a (gv hp) ?_
    refine g_if_eq (tgt := 12) X dX4_restore_5 rfl (by decide) (fun c => absurd c (by decide)) (fun c_5 => ?_)
    refine g_iconst X dX4_restore_8 rfl (v := (nI 0)) rfl ?_
    refine g_goto (tgt := 13) X dX4_restore_9 rfl (by decide) ?_
    refine g_put X dX4_restore_13 rfl in_X4 tyX4_ok nmX4 (ci := 3) rfl 6 (by decide) q1922 (fun _ h => h) rfl rfl rfl rfl mW_a (Nat.le_of_ble_eq_true rfl) mW_u6 ?_
    refine g_aload_n X dX4_restore_16 rfl rfl ?_
    refine g_get X dX4_restore_17 rfl in_X4 (ci := 3) rfl 6 (by decide) q1922 (fun _ h => h) mW_a (gv vU_s) ?_
    refine g_if_le (tgt := 25) X dX4_restore_20 rfl (by decide) (fun c_20 => ?_) (fun c => absurd (by decide) c)
    refine g_aload_n X dX4_restore_25 rfl rfl ?_
    refine g_get X dX4_restore_26 rfl in_X4 (ci := 3) rfl 2 (by decide) q1918 (fun _ h => h) mW_a rfl ?_
    refine g_iconst X dX4_restore_29 rfl (v := (nI 0)) rfl ?_
    refine g_aload_n X dX4_restore_30 rfl rfl ?_
    refine g_get X dX4_restore_31 rfl in_X4 (ci := 3) rfl 0 (by decide) q1916 (fun _ h => h) mW_a rfl ?_
    refine g_iconst X dX4_restore_34 rfl (v := (nI 0)) rfl ?_
    refine g_sipush X dX4_restore_35 rfl (v := (nI 158)) (by decide) ?_
    refine g_copyI X dX4_restore_38 rfl q1980 (nI_pos (by omega)) (nI_pos (by omega)) (nI_pos (by omega)) (c2_le (nI_clamp (by omega)) (nI_clamp (by omega)) (by omega)) (c2_le (nI_clamp (by omega)) (nI_clamp (by omega)) (by omega)) (mW_2 hd) (mW_0 hd)  (Nat.le_of_ble_eq_true rfl) (Nat.le_of_ble_eq_true rfl) (mW_ca hd (nI_clamp (by omega)) (nI_clamp (by omega)) (nI_clamp (by omega))) ?_
    refine g_aload_n X dX4_restore_41 rfl rfl ?_
    refine g_iconst X dX4_restore_42 rfl (v := (nI 0)) rfl ?_
    refine g_put X dX4_restore_43 rfl in_X4 tyX4_ok nmX4 (ci := 3) rfl 5 (by decide) q1921 (fun _ h => h) rfl rfl rfl rfl mW_a (Nat.le_of_ble_eq_true rfl) mW_u5 ?_
    refine g_aload_n X dX4_restore_46 rfl rfl ?_
    refine g_get X dX4_restore_47 rfl in_X4 (ci := 3) rfl 0 (by decide) q1916 (fun _ h => h) mW_a rfl ?_
    refine g_iconst X dX4_restore_50 rfl (v := (nI 2)) rfl ?_
    refine g_ial X dX4_restore_51 rfl (mW_0 hd) (vp_in_nI (by omega) (by decide)) (ix_v (by omega) q1.1.2.2.1) ?_
    refine g_iret X dX4_restore_52 rfl (Nat.le_of_ble_eq_true rfl) (Nat.le_of_ble_eq_true rfl) (fun H hH => ⟨⟨(vU (vU v 6 (nI 0)) 5 (nI 0), FU F 0 (va_cpy (F 2) (F 0) 0 0 158)), ⟨q1, q2⟩, (by show vU (vU v 6 (nI 0)) 5 (nI 0) 6 = nI 0; rw [vU_n (by decide), vU_s]), fun j hj => FU_n (by omega), fun i _ h5 h6 => (vU_n h5).trans (vU_n h6)⟩, rfl, hH⟩)
theorem ct_X4_isThereV (hst : l.stackTraces = false) {P : Prop} {x t : Int32} (hx : bI P = x) (ht : bI (¬ P) = t) : CM Ω l yX4_isThere (ws_ yX4_isThere cX4_isThere 2 (some .boolean)) 1 0 0 [.ref a, .int x] (hR Ω (mW Ω h a ad v F)) (QP (some (.int x)) (hR Ω (mW Ω h a ad (vU v 6 t) F))) nX := by
  subst hx
  exact ct_X4_isThere hst ht
theorem ct_X4_errorPosition (hst : l.stackTraces = false) {er : Int32} (he : v 13 = er) : CM Ω l yX4_errorPosition (ws_ yX4_errorPosition cX4_errorPosition 1 (some .int)) 4 0 0 [.ref a] (hR Ω (mW Ω h a ad v F)) (QP (some (.int (cH (0 ≤ er) er (nI 0)))) (hR Ω (mW Ω h a ad (vU v 6 (cH (0 ≤ er) (nI 0) (nI 1))) F))) nX := by
  have e2 : ∀ y, vU v 6 y 13 = er := fun y => (vU_n (by decide)).trans he
  by_cases h0 : 0 ≤ er
  · rw [cH_t h0, cH_t h0]
    refine CM.of (L := [some (.ref a)]) hst (by decide) (Nat.le_of_ble_eq_true rfl) rfl ?_
    intro p e s m below meth c X hnm htab
    refine g_aload_n X dX4_errorPosition_0 rfl rfl ?_
    refine g_aload_n X dX4_errorPosition_1 rfl rfl ?_
    refine g_get X dX4_errorPosition_2 rfl in_X4 (ci := 3) rfl 13 (by decide) q1929 (fun _ h => h) mW_a (gv he) ?_
    refine g_if_lt (tgt := 12) X dX4_errorPosition_5 rfl (by decide) (fun c => absurd h0 (Int32.not_le.mpr c)) (fun c_5 => ?_)
    refine g_iconst X dX4_errorPosition_8 rfl (v := (nI 1)) rfl ?_
    refine g_goto (tgt := 13) X dX4_errorPosition_9 rfl (by decide) ?_
    refine g_callV X (ct_X4_isThereV hst (bI_t h0) (bI_f (fun g => g h0))) dX4_errorPosition_13 rfl (lw_V q2134 q2136 qs54 q76 q2137) hyV_X4_isThere (fun H hH => hR.recv X.2.2.2.2.2.2.2.1 hH mW_a rfl) (fun H hH => hH) ⟨Nat.le_of_ble_eq_true rfl, Nat.le_of_ble_eq_true rfl⟩ ⟨Nat.le_of_ble_eq_true rfl, Nat.le_of_ble_eq_true rfl⟩ (Nat.le_of_ble_eq_true rfl) rfl (fun x_13 => ?_)
    refine g_if_eq (tgt := 26) X dX4_errorPosition_16 rfl (by decide) (fun c => absurd c (by decide)) (fun c_16 => ?_)
    refine g_aload_n X dX4_errorPosition_19 rfl rfl ?_
    refine g_get X dX4_errorPosition_20 rfl in_X4 (ci := 3) rfl 13 (by decide) q1929 (fun _ h => h) mW_a (gv (e2 _)) ?_
    refine g_goto (tgt := 27) X dX4_errorPosition_23 rfl (by decide) ?_
    refine g_iret X dX4_errorPosition_27 rfl (Nat.le_of_ble_eq_true rfl) (Nat.le_of_ble_eq_true rfl) (fun H hH => ⟨(), rfl, hH⟩)
  · rw [cH_f h0, cH_f h0]
    refine CM.of (L := [some (.ref a)]) hst (by decide) (Nat.le_of_ble_eq_true rfl) rfl ?_
    intro p e s m below meth c X hnm htab
    refine g_aload_n X dX4_errorPosition_0 rfl rfl ?_
    refine g_aload_n X dX4_errorPosition_1 rfl rfl ?_
    refine g_get X dX4_errorPosition_2 rfl in_X4 (ci := 3) rfl 13 (by decide) q1929 (fun _ h => h) mW_a (gv he) ?_
    refine g_if_lt (tgt := 12) X dX4_errorPosition_5 rfl (by decide) (fun c_5 => ?_) (fun c => absurd (Int32.not_le.mp h0) c)
    refine g_iconst X dX4_errorPosition_12 rfl (v := (nI 0)) rfl ?_
    refine g_callV X (ct_X4_isThereV hst (bI_f h0) (bI_t h0)) dX4_errorPosition_13 rfl (lw_V q2134 q2136 qs54 q76 q2137) hyV_X4_isThere (fun H hH => hR.recv X.2.2.2.2.2.2.2.1 hH mW_a rfl) (fun H hH => hH) ⟨Nat.le_of_ble_eq_true rfl, Nat.le_of_ble_eq_true rfl⟩ ⟨Nat.le_of_ble_eq_true rfl, Nat.le_of_ble_eq_true rfl⟩ (Nat.le_of_ble_eq_true rfl) rfl (fun x_13 => ?_)
    refine g_if_eq (tgt := 26) X dX4_errorPosition_16 rfl (by decide) (fun c_16 => ?_) (fun c => absurd rfl c)
    refine g_iconst X dX4_errorPosition_26 rfl (v := (nI 0)) rfl ?_
    refine g_iret X dX4_errorPosition_27 rfl (Nat.le_of_ble_eq_true rfl) (Nat.le_of_ble_eq_true rfl) (fun H hH => ⟨(), rfl, hH⟩)
theorem ct_X4_failedCommand (hst : l.stackTraces = false) {er : Int32} (he : v 14 = er) : CM Ω l yX4_failedCommand (ws_ yX4_failedCommand cX4_failedCommand 1 (some .int)) 4 0 0 [.ref a] (hR Ω (mW Ω h a ad v F)) (QP (some (.int (cH (0 ≤ er) er (nI 0)))) (hR Ω (mW Ω h a ad (vU v 6 (cH (0 ≤ er) (nI 0) (nI 1))) F))) nX := by
  have e2 : ∀ y, vU v 6 y 14 = er := fun y => (vU_n (by decide)).trans he
  by_cases h0 : 0 ≤ er
  · rw [cH_t h0, cH_t h0]
    refine CM.of (L := [some (.ref a)]) hst (by decide) (Nat.le_of_ble_eq_true rfl) rfl ?_
    intro p e s m below meth c X hnm htab
    refine g_aload_n X dX4_failedCommand_0 rfl rfl ?_
    refine g_aload_n X dX4_failedCommand_1 rfl rfl ?_
    refine g_get X dX4_failedCommand_2 rfl in_X4 (ci := 3) rfl 14 (by decide) q1930 (fun _ h => h) mW_a (gv he) ?_
    refine g_if_lt (tgt := 12) X dX4_failedCommand_5 rfl (by decide) (fun c => absurd h0 (Int32.not_le.mpr c)) (fun c_5 => ?_)
    refine g_iconst X dX4_failedCommand_8 rfl (v := (nI 1)) rfl ?_
    refine g_goto (tgt := 13) X dX4_failedCommand_9 rfl (by decide) ?_
    refine g_callV X (ct_X4_isThereV hst (bI_t h0) (bI_f (fun g => g h0))) dX4_failedCommand_13 rfl (lw_V q2134 q2136 qs54 q76 q2137) hyV_X4_isThere (fun H hH => hR.recv X.2.2.2.2.2.2.2.1 hH mW_a rfl) (fun H hH => hH) ⟨Nat.le_of_ble_eq_true rfl, Nat.le_of_ble_eq_true rfl⟩ ⟨Nat.le_of_ble_eq_true rfl, Nat.le_of_ble_eq_true rfl⟩ (Nat.le_of_ble_eq_true rfl) rfl (fun x_13 => ?_)
    refine g_if_eq (tgt := 26) X dX4_failedCommand_16 rfl (by decide) (fun c => absurd c (by decide)) (fun c_16 => ?_)
    refine g_aload_n X dX4_failedCommand_19 rfl rfl ?_
    refine g_get X dX4_failedCommand_20 rfl in_X4 (ci := 3) rfl 14 (by decide) q1930 (fun _ h => h) mW_a (gv (e2 _)) ?_
    refine g_goto (tgt := 27) X dX4_failedCommand_23 rfl (by decide) ?_
    refine g_iret X dX4_failedCommand_27 rfl (Nat.le_of_ble_eq_true rfl) (Nat.le_of_ble_eq_true rfl) (fun H hH => ⟨(), rfl, hH⟩)
  · rw [cH_f h0, cH_f h0]
    refine CM.of (L := [some (.ref a)]) hst (by decide) (Nat.le_of_ble_eq_true rfl) rfl ?_
    intro p e s m below meth c X hnm htab
    refine g_aload_n X dX4_failedCommand_0 rfl rfl ?_
    refine g_aload_n X dX4_failedCommand_1 rfl rfl ?_
    refine g_get X dX4_failedCommand_2 rfl in_X4 (ci := 3) rfl 14 (by decide) q1930 (fun _ h => h) mW_a (gv he) ?_
    refine g_if_lt (tgt := 12) X dX4_failedCommand_5 rfl (by decide) (fun c_5 => ?_) (fun c => absurd (Int32.not_le.mp h0) c)
    refine g_iconst X dX4_failedCommand_12 rfl (v := (nI 0)) rfl ?_
    refine g_callV X (ct_X4_isThereV hst (bI_f h0) (bI_t h0)) dX4_failedCommand_13 rfl (lw_V q2134 q2136 qs54 q76 q2137) hyV_X4_isThere (fun H hH => hR.recv X.2.2.2.2.2.2.2.1 hH mW_a rfl) (fun H hH => hH) ⟨Nat.le_of_ble_eq_true rfl, Nat.le_of_ble_eq_true rfl⟩ ⟨Nat.le_of_ble_eq_true rfl, Nat.le_of_ble_eq_true rfl⟩ (Nat.le_of_ble_eq_true rfl) rfl (fun x_13 => ?_)
    refine g_if_eq (tgt := 26) X dX4_failedCommand_16 rfl (by decide) (fun c_16 => ?_) (fun c => absurd rfl c)
    refine g_iconst X dX4_failedCommand_26 rfl (v := (nI 0)) rfl ?_
    refine g_iret X dX4_failedCommand_27 rfl (Nat.le_of_ble_eq_true rfl) (Nat.le_of_ble_eq_true rfl) (fun H hH => ⟨(), rfl, hH⟩)
theorem ct_X4_feed (hst : l.stackTraces = false) (hd : mDi a ad) {out inp : List Nat} {er fa : Int32} (hT : TX v F out inp er fa) {c0 : Nat} (hc : c0 < 65536) : CM Ω l yX4_feed (ws_ yX4_feed cX4_feed 2 (some .int)) 1 0 0 [.ref a, .int (nI c0)] (hR Ω (mW Ω h a ad v F)) (PF Ω h a ad v F (fun v' F' => TX v' F' out (if inp.length = 60 then inp else inp ++ [c0]) er fa ∧ v' 6 = (if inp.length = 60 then nI 1 else nI 0)) (if inp.length = 60 then nI 0 else nI (inp.length + 1))) nX := by
  have h1 := hT.2.1.1
  have h2 := hT.2.1.2.1
  by_cases h6 : inp.length = 60
  · rw [if_pos h6, if_pos h6, if_pos h6]
    have q : TX (vU v 6 (nI 1)) F out inp er fa := TX_6 hT
    refine CM.of (L := [some (.ref a), some (.int (nI c0))]) hst (by decide) (Nat.le_of_ble_eq_true rfl) rfl ?_
    intro p e s m below meth c X hnm htab
    refine g_aload_n X dX4_feed_0 rfl rfl ?_
    refine g_aload_n X dX4_feed_1 rfl rfl ?_
    refine g_get X dX4_feed_2 rfl in_X4 (ci := 3) rfl 10 (by decide) q1926 (fun _ h => h) mW_a (gv h1) ?_
    refine g_bipush X dX4_feed_5 rfl (v := (nI 60)) (by decide) ?_
    refine g_icmp_ne (tgt := 14) X dX4_feed_7 rfl (by decide) (fun c => absurd (by rw [h6]) c) (fun c_7 => ?_)
    refine g_iconst X dX4_feed_10 rfl (v := (nI 1)) rfl ?_
    refine g_goto (tgt := 15) X dX4_feed_11 rfl (by decide) ?_
    refine g_put X dX4_feed_15 rfl in_X4 tyX4_ok nmX4 (ci := 3) rfl 6 (by decide) q1922 (fun _ h => h) rfl rfl rfl rfl mW_a (Nat.le_of_ble_eq_true rfl) mW_u6 ?_
    refine g_aload_n X dX4_feed_18 rfl rfl ?_
    refine g_get X dX4_feed_19 rfl in_X4 (ci := 3) rfl 6 (by decide) q1922 (fun _ h => h) mW_a (gv vU_s) ?_
    refine g_if_le (tgt := 27) X dX4_feed_22 rfl (by decide) (fun c => absurd c (by decide)) (fun c_22 => ?_)
    refine g_iconst X dX4_feed_25 rfl (v := (nI 0)) rfl ?_
    refine g_iret X dX4_feed_26 rfl (Nat.le_of_ble_eq_true rfl) (Nat.le_of_ble_eq_true rfl) (fun H hH => ⟨⟨(vU v 6 (nI 1), F), ⟨q, (by show vU v 6 (nI 1) 6 = nI 1; exact vU_s)⟩, fun _ _ => rfl, fun i hi _ => vU_n hi⟩, rfl, hH⟩)
  · rw [if_neg h6, if_neg h6, if_neg h6]
    have e10 : vU v 6 (nI 0) 10 = nI inp.length := (vU_n (by decide)).trans h1
    have q1 : TX (vU (vU v 6 (nI 0)) 10 (nI (inp.length + 1))) (FU F 5 (upd (F 5) inp.length (nI c0))) out (inp ++ [c0]) er fa := by
      refine ⟨⟨by rw [vU_n (by decide), vU_n (by decide)]; exact hT.1.1, hT.1.2⟩, ⟨by rw [vU_s, List.length_append]; rfl, by rw [List.length_append]; show inp.length + 1 ≤ 60; omega, fun k hk => ?_⟩, by rw [vU_n (by decide), vU_n (by decide)]; exact hT.2.2.1, by rw [vU_n (by decide), vU_n (by decide)]; exact hT.2.2.2⟩
      rw [List.length_append] at hk
      have hk : k < inp.length + 1 := hk
      rw [getD_app]
      show upd (F 5) inp.length (nI c0) k = _ ∧ _
      by_cases e : k = inp.length
      · rw [if_pos e, upd_e e]; exact ⟨rfl, hc⟩
      · rw [if_neg e, upd_n e]; exact hT.2.1.2.2 k (by omega)
    have q6 : vU (vU v 6 (nI 0)) 10 (nI (inp.length + 1)) 6 = nI 0 := by rw [vU_n (by decide), vU_s]
    refine CM.of (L := [some (.ref a), some (.int (nI c0))]) hst (by decide) (Nat.le_of_ble_eq_true rfl) rfl ?_
    intro p e s m below meth c X hnm htab
    refine g_aload_n X dX4_feed_0 rfl rfl ?_
    refine g_aload_n X dX4_feed_1 rfl rfl ?_
    refine g_get X dX4_feed_2 rfl in_X4 (ci := 3) rfl 10 (by decide) q1926 (fun _ h => h) mW_a (gv h1) ?_
    refine g_bipush X dX4_feed_5 rfl (v := (nI 60)) (by decide) ?_
    refine g_icmp_ne (tgt := 14) X dX4_feed_7 rfl (by decide) (fun c_7 => ?_) (fun c => absurd ((nI_eq (by omega) (by omega)).mp c) h6)
    refine g_iconst X dX4_feed_14 rfl (v := (nI 0)) rfl ?_
    refine g_put X dX4_feed_15 rfl in_X4 tyX4_ok nmX4 (ci := 3) rfl 6 (by decide) q1922 (fun _ h => h) rfl rfl rfl rfl mW_a (Nat.le_of_ble_eq_true rfl) mW_u6 ?_
    refine g_aload_n X dX4_feed_18 rfl rfl ?_
    refine g_get X dX4_feed_19 rfl in_X4 (ci := 3) rfl 6 (by decide) q1922 (fun _ h => h) mW_a (gv vU_s) ?_
    refine g_if_le (tgt := 27) X dX4_feed_22 rfl (by decide) (fun c_22 => ?_) (fun c => absurd (by decide) c)
    refine g_aload_n X dX4_feed_27 rfl rfl ?_
    refine g_get X dX4_feed_28 rfl in_X4 (ci := 3) rfl 9 (by decide) q1925 (fun _ h => h) mW_a rfl ?_
    refine g_aload_n X dX4_feed_31 rfl rfl ?_
    refine g_get X dX4_feed_32 rfl in_X4 (ci := 3) rfl 10 (by decide) q1926 (fun _ h => h) mW_a (gv e10) ?_
    refine g_iload_n X dX4_feed_35 rfl rfl ?_
    refine g_cas X dX4_feed_36 rfl (mW_5 hd) (vp_in_nI (by omega) (by decide)) (mW_5c hd (nI_clamp (by omega)) (vp_c16 hc)) ?_
    refine g_aload_n X dX4_feed_37 rfl rfl ?_
    refine g_dup X dX4_feed_38 rfl rfl ?_
    refine g_get X dX4_feed_39 rfl in_X4 (ci := 3) rfl 10 (by decide) q1926 (fun _ h => h) mW_a (gv e10) ?_
    refine g_iconst X dX4_feed_42 rfl (v := (nI 1)) rfl ?_
    refine g_iadd X dX4_feed_43 rfl (by first | exact nI_add _ _ | rfl) ?_
    refine g_put X dX4_feed_44 rfl in_X4 tyX4_ok nmX4 (ci := 3) rfl 10 (by decide) q1926 (fun _ h => h) rfl rfl rfl rfl mW_a (Nat.le_of_ble_eq_true rfl) mW_u10 ?_
    refine g_aload_n X dX4_feed_47 rfl rfl ?_
    refine g_get X dX4_feed_48 rfl in_X4 (ci := 3) rfl 10 (by decide) q1926 (fun _ h => h) mW_a (gv vU_s) ?_
    refine g_iret X dX4_feed_51 rfl (Nat.le_of_ble_eq_true rfl) (Nat.le_of_ble_eq_true rfl) (fun H hH => ⟨⟨(vU (vU v 6 (nI 0)) 10 (nI (inp.length + 1)), FU F 5 (upd (F 5) inp.length (nI c0))), ⟨q1, q6⟩, fun j hj => FU_n (by omega), fun i hi hi2 => (vU_n hi2).trans (vU_n hi)⟩, rfl, hH⟩)
theorem ct_X4_outputChar (hst : l.stackTraces = false) (hd : mDi a ad) {out inp : List Nat} {er fa : Int32} (hT : TX v F out inp er fa) {x : Int32} : CM Ω l yX4_outputChar (ws_ yX4_outputChar cX4_outputChar 2 (some .char)) 4 0 0 [.ref a, .int x] (hR Ω (mW Ω h a ad v F)) (QP (some (.int (cH (0 ≤ x ∧ x ≤ nI out.length - 1) (nI (out.getD (iN x) 0)) (nI 32)))) (hR Ω (mW Ω h a ad (vU v 6 (cH (0 ≤ x ∧ x ≤ nI out.length - 1) (nI 0) (nI 1))) F))) nX := by
  have h1 := hT.1.1
  have h2 := hT.1.2.1
  by_cases h0 : 0 ≤ x ∧ x ≤ nI out.length - 1
  · rw [cH_t h0, cH_t h0]
    obtain ⟨k, hk, rfl⟩ := (ixI (by omega)).mp h0
    rw [iN_nI (by omega)]
    have e4 := hT.1.2.2 k hk
    refine CM.of (L := [some (.ref a), some (.int (nI k))]) hst (by decide) (Nat.le_of_ble_eq_true rfl) rfl ?_
    intro p e s m below meth c X hnm htab
    refine g_aload_n X dX4_outputChar_0 rfl rfl ?_
    refine g_iload_n X dX4_outputChar_1 rfl rfl ?_
    refine g_iconst X dX4_outputChar_2 rfl (v := (nI 0)) rfl ?_
    refine g_aload_n X dX4_outputChar_3 rfl rfl ?_
    refine g_get X dX4_outputChar_4 rfl in_X4 (ci := 3) rfl 8 (by decide) q1924 (fun _ h => h) mW_a (gv h1) ?_
    refine g_iconst X dX4_outputChar_7 rfl (v := (nI 1)) rfl ?_
    refine g_isub X dX4_outputChar_8 rfl rfl ?_
    refine g_callS X (ct_X4_in hst) dX4_outputChar_9 rfl (lw_S q1985 q1986 q76 q1987) hyS_X4_in (fun H hH => hH) ⟨Nat.le_of_ble_eq_true rfl, Nat.le_of_ble_eq_true rfl⟩ ⟨Nat.le_of_ble_eq_true rfl, Nat.le_of_ble_eq_true rfl⟩ (Nat.le_of_ble_eq_true rfl) rfl (fun x_9 => ?_)
    refine g_callV X (ct_X4_isThereV hst (P := 0 ≤ nI k ∧ nI k ≤ nI out.length - 1) rfl (bI_f (fun g => g h0))) dX4_outputChar_12 rfl (lw_V q2134 q2136 qs54 q76 q2137) hyV_X4_isThere (fun H hH => hR.recv X.2.2.2.2.2.2.2.1 hH mW_a rfl) (fun H hH => hH) ⟨Nat.le_of_ble_eq_true rfl, Nat.le_of_ble_eq_true rfl⟩ ⟨Nat.le_of_ble_eq_true rfl, Nat.le_of_ble_eq_true rfl⟩ (Nat.le_of_ble_eq_true rfl) rfl (fun x_12 => ?_)
    refine g_if_eq (tgt := 27) X dX4_outputChar_15 rfl (by decide) (fun c => absurd (h0) (bI_0.mp c)) (fun c_15 => ?_)
    refine g_aload_n X dX4_outputChar_18 rfl rfl ?_
    refine g_get X dX4_outputChar_19 rfl in_X4 (ci := 3) rfl 7 (by decide) q1923 (fun _ h => h) mW_a rfl ?_
    refine g_iload_n X dX4_outputChar_22 rfl rfl ?_
    refine g_cal X dX4_outputChar_23 rfl (mW_4 hd) (vp_in_nI (by omega) (by decide)) (ix_v (by omega) e4.1) ?_
    refine g_goto (tgt := 29) X dX4_outputChar_24 rfl (by decide) ?_
    refine g_zret X dX4_outputChar_29 rfl (congrArg Value.int (nI_c16 e4.2)) (Nat.le_of_ble_eq_true rfl) (Nat.le_of_ble_eq_true rfl) (fun H hH => ⟨(), rfl, hH⟩)
  · rw [cH_f h0, cH_f h0]
    refine CM.of (L := [some (.ref a), some (.int x)]) hst (by decide) (Nat.le_of_ble_eq_true rfl) rfl ?_
    intro p e s m below meth c X hnm htab
    refine g_aload_n X dX4_outputChar_0 rfl rfl ?_
    refine g_iload_n X dX4_outputChar_1 rfl rfl ?_
    refine g_iconst X dX4_outputChar_2 rfl (v := (nI 0)) rfl ?_
    refine g_aload_n X dX4_outputChar_3 rfl rfl ?_
    refine g_get X dX4_outputChar_4 rfl in_X4 (ci := 3) rfl 8 (by decide) q1924 (fun _ h => h) mW_a (gv h1) ?_
    refine g_iconst X dX4_outputChar_7 rfl (v := (nI 1)) rfl ?_
    refine g_isub X dX4_outputChar_8 rfl rfl ?_
    refine g_callS X (ct_X4_in hst) dX4_outputChar_9 rfl (lw_S q1985 q1986 q76 q1987) hyS_X4_in (fun H hH => hH) ⟨Nat.le_of_ble_eq_true rfl, Nat.le_of_ble_eq_true rfl⟩ ⟨Nat.le_of_ble_eq_true rfl, Nat.le_of_ble_eq_true rfl⟩ (Nat.le_of_ble_eq_true rfl) rfl (fun x_9 => ?_)
    refine g_callV X (ct_X4_isThereV hst (P := 0 ≤ x ∧ x ≤ nI out.length - 1) rfl (bI_t h0)) dX4_outputChar_12 rfl (lw_V q2134 q2136 qs54 q76 q2137) hyV_X4_isThere (fun H hH => hR.recv X.2.2.2.2.2.2.2.1 hH mW_a rfl) (fun H hH => hH) ⟨Nat.le_of_ble_eq_true rfl, Nat.le_of_ble_eq_true rfl⟩ ⟨Nat.le_of_ble_eq_true rfl, Nat.le_of_ble_eq_true rfl⟩ (Nat.le_of_ble_eq_true rfl) rfl (fun x_12 => ?_)
    refine g_if_eq (tgt := 27) X dX4_outputChar_15 rfl (by decide) (fun c_15 => ?_) (fun c => absurd (bI_n0.mp c) (h0))
    refine g_bipush X dX4_outputChar_27 rfl (v := (nI 32)) (by decide) ?_
    refine g_zret X dX4_outputChar_29 rfl rfl (Nat.le_of_ble_eq_true rfl) (Nat.le_of_ble_eq_true rfl) (fun H hH => ⟨(), rfl, hH⟩)
theorem ct_X4_says (hst : l.stackTraces = false) (hd : mDi a ad) {out : List Nat} (ho : out.length < 180) {c0 : Nat} (hc : c0 < 65536) : CM Ω l yX4_says (ws_ yX4_says cX4_says 2 none) 1 0 0 [.ref a, .int (nI c0)] (hR Ω (OW Ω h a ad v F out)) (QP none (hR Ω (OW Ω h a ad v F (out ++ [c0])))) nX := by
  refine CM.of (L := [some (.ref a), some (.int (nI c0))]) hst (by decide) (Nat.le_of_ble_eq_true rfl) rfl ?_
  intro p e s m below meth c X hnm htab
  refine g_aload_n X dX4_says_0 rfl rfl ?_
  refine g_get X dX4_says_1 rfl in_X4 (ci := 3) rfl 7 (by decide) q1923 (fun _ h => h) mW_a rfl ?_
  refine g_aload_n X dX4_says_4 rfl rfl ?_
  refine g_get X dX4_says_5 rfl in_X4 (ci := 3) rfl 8 (by decide) q1924 (fun _ h => h) mW_a (gv vU_s) ?_
  refine g_iload_n X dX4_says_8 rfl rfl ?_
  refine g_cas X dX4_says_9 rfl (mW_4 hd) (vp_in_nI (by omega) (by decide)) (mW_4c hd (nI_clamp (by omega)) (vp_c16 hc)) ?_
  refine g_aload_n X dX4_says_10 rfl rfl ?_
  refine g_dup X dX4_says_11 rfl rfl ?_
  refine g_get X dX4_says_12 rfl in_X4 (ci := 3) rfl 8 (by decide) q1924 (fun _ h => h) mW_a (gv vU_s) ?_
  refine g_iconst X dX4_says_15 rfl (v := (nI 1)) rfl ?_
  refine g_iadd X dX4_says_16 rfl (by first | exact nI_add _ _ | rfl) ?_
  refine g_put X dX4_says_17 rfl in_X4 tyX4_ok nmX4 (ci := 3) rfl 8 (by decide) q1924 (fun _ h => h) rfl rfl rfl rfl mW_a (Nat.le_of_ble_eq_true rfl) mW_u8 ?_
  refine g_vret X dX4_says_20 rfl (Nat.le_of_ble_eq_true rfl) (Nat.le_of_ble_eq_true rfl) (fun H hH => ⟨(), rfl, by rw [← OW_s]; exact hH⟩)
theorem ct_X4_saysNumber (hst : l.stackTraces = false) (hd : mDi a ad) : ∀ (k n : Nat) (out : List Nat), n < 10 ^ (k + 1) → n < 2 ^ 30 → out.length + k < 180 → CM Ω l yX4_saysNumber (ws_ yX4_saysNumber cX4_saysNumber 2 none) (k + 2) 0 0 [.ref a, .int (nI n)] (hR Ω (OW Ω h a ad v F out)) (QP none (hR Ω (OW Ω h a ad v F (out ++ dec n)))) nX
  | 0, n, out, hn, hn2, ho => by
    have h9 : n ≤ 9 := by omega
    rw [dec_s h9]
    refine CM.of (L := [some (.ref a), some (.int (nI n))]) hst (by decide) (Nat.le_of_ble_eq_true rfl) rfl ?_
    intro p e s m below meth c X hnm htab
    refine g_iload_n X dX4_saysNumber_0 rfl rfl ?_
    refine g_bipush X dX4_saysNumber_1 rfl (v := (nI 9)) (by decide) ?_
    refine g_icmp_le (tgt := 14) X dX4_saysNumber_3 rfl (by decide) (fun c_3 => ?_) (fun c => absurd ((nI_leI (by omega) (by omega)).mpr h9) c)
    refine g_aload_n X dX4_saysNumber_14 rfl rfl ?_
    refine g_bipush X dX4_saysNumber_15 rfl (v := (nI 48)) (by decide) ?_
    refine g_iload_n X dX4_saysNumber_17 rfl rfl ?_
    refine g_bipush X dX4_saysNumber_18 rfl (v := (nI 10)) (by decide) ?_
    refine g_irem X dX4_saysNumber_20 rfl (by decide) (pk_rem (by omega) (by omega) (by omega)) ?_
    refine g_iadd X dX4_saysNumber_21 rfl (by first | exact nI_add _ _ | rfl) ?_
    refine g_i2c X dX4_saysNumber_22 rfl (nI_c16 (by omega)) ?_
    refine g_callV X (ct_X4_says hst hd (by omega) (by omega)) dX4_saysNumber_23 rfl (lw_V q2303 q2305 qs58 q76 q2306) hyV_X4_says (fun H hH => hR.recv X.2.2.2.2.2.2.2.1 hH mW_a rfl) (fun H hH => hH) ⟨Nat.le_of_ble_eq_true rfl, Nat.le_of_ble_eq_true rfl⟩ ⟨Nat.le_of_ble_eq_true rfl, Nat.le_of_ble_eq_true rfl⟩ (Nat.le_of_ble_eq_true rfl) rfl (fun x_23 => ?_)
    refine g_vret X dX4_saysNumber_26 rfl (Nat.le_of_ble_eq_true rfl) (Nat.le_of_ble_eq_true rfl) (fun H hH => ⟨(), rfl, hH⟩)
  | k + 1, n, out, hn, hn2, ho => by
    by_cases h9 : n ≤ 9
    · rw [dec_s h9]
      refine CM.of (L := [some (.ref a), some (.int (nI n))]) hst (by decide) (Nat.le_of_ble_eq_true rfl) rfl ?_
      intro p e s m below meth c X hnm htab
      refine g_iload_n X dX4_saysNumber_0 rfl rfl ?_
      refine g_bipush X dX4_saysNumber_1 rfl (v := (nI 9)) (by decide) ?_
      refine g_icmp_le (tgt := 14) X dX4_saysNumber_3 rfl (by decide) (fun c_3 => ?_) (fun c => absurd ((nI_leI (by omega) (by omega)).mpr h9) c)
      refine g_aload_n X dX4_saysNumber_14 rfl rfl ?_
      refine g_bipush X dX4_saysNumber_15 rfl (v := (nI 48)) (by decide) ?_
      refine g_iload_n X dX4_saysNumber_17 rfl rfl ?_
      refine g_bipush X dX4_saysNumber_18 rfl (v := (nI 10)) (by decide) ?_
      refine g_irem X dX4_saysNumber_20 rfl (by decide) (pk_rem (by omega) (by omega) (by omega)) ?_
      refine g_iadd X dX4_saysNumber_21 rfl (by first | exact nI_add _ _ | rfl) ?_
      refine g_i2c X dX4_saysNumber_22 rfl (nI_c16 (by omega)) ?_
      refine g_callV X (ct_X4_says hst hd (by omega) (by omega)) dX4_saysNumber_23 rfl (lw_V q2303 q2305 qs58 q76 q2306) hyV_X4_says (fun H hH => hR.recv X.2.2.2.2.2.2.2.1 hH mW_a rfl) (fun H hH => hH) ⟨by show 1 + 1 ≤ k + 1 + 2; omega, by show 8 + (2 + 11) + 40 * 1 ≤ 40 * (k + 1 + 2); omega⟩ ⟨Nat.le_of_ble_eq_true rfl, Nat.le_of_ble_eq_true rfl⟩ (Nat.le_of_ble_eq_true rfl) rfl (fun x_23 => ?_)
      refine g_vret X dX4_saysNumber_26 rfl (Nat.le_of_ble_eq_true rfl) (Nat.le_of_ble_eq_true rfl) (fun H hH => ⟨(), rfl, hH⟩)
    · rw [dec_m h9, ← List.append_assoc]
      have hl : (out ++ dec (n / 10)).length < 180 := by
        rw [List.length_append]
        have := dec_len k (n / 10) (by rw [Nat.pow_succ] at hn; omega)
        omega
      refine CM.of (L := [some (.ref a), some (.int (nI n))]) hst (by decide) (Nat.le_of_ble_eq_true rfl) rfl ?_
      intro p e s m below meth c X hnm htab
      refine g_iload_n X dX4_saysNumber_0 rfl rfl ?_
      refine g_bipush X dX4_saysNumber_1 rfl (v := (nI 9)) (by decide) ?_
      refine g_icmp_le (tgt := 14) X dX4_saysNumber_3 rfl (by decide) (fun c => absurd ((nI_leI (by omega) (by omega)).mp c) h9) (fun c_3 => ?_)
      refine g_aload_n X dX4_saysNumber_6 rfl rfl ?_
      refine g_iload_n X dX4_saysNumber_7 rfl rfl ?_
      refine g_bipush X dX4_saysNumber_8 rfl (v := (nI 10)) (by decide) ?_
      refine g_idiv X dX4_saysNumber_10 rfl (by decide) (pk_div (by omega) (by omega) (by omega)) ?_
      refine g_callV X (ct_X4_saysNumber hst hd k (n / 10) out (by rw [Nat.pow_succ] at hn; omega) (by omega) (by omega)) dX4_saysNumber_11 rfl (lw_V q2299 q2301 qs57 q76 q2302) hyV_X4_saysNumber (fun H hH => hR.recv X.2.2.2.2.2.2.2.1 hH mW_a rfl) (fun H hH => hH) ⟨by show k + 2 + 1 ≤ k + 1 + 2; omega, by show 8 + (2 + 11) + 40 * (k + 2) ≤ 40 * (k + 1 + 2); omega⟩ ⟨Nat.le_of_ble_eq_true rfl, Nat.le_of_ble_eq_true rfl⟩ (Nat.le_of_ble_eq_true rfl) rfl (fun x_11 => ?_)
      refine g_aload_n X dX4_saysNumber_14 rfl rfl ?_
      refine g_bipush X dX4_saysNumber_15 rfl (v := (nI 48)) (by decide) ?_
      refine g_iload_n X dX4_saysNumber_17 rfl rfl ?_
      refine g_bipush X dX4_saysNumber_18 rfl (v := (nI 10)) (by decide) ?_
      refine g_irem X dX4_saysNumber_20 rfl (by decide) (pk_rem (by omega) (by omega) (by omega)) ?_
      refine g_iadd X dX4_saysNumber_21 rfl (by first | exact nI_add _ _ | rfl) ?_
      refine g_i2c X dX4_saysNumber_22 rfl (nI_c16 (by omega)) ?_
      refine g_callV X (ct_X4_says hst hd hl (by omega)) dX4_saysNumber_23 rfl (lw_V q2303 q2305 qs58 q76 q2306) hyV_X4_says (fun H hH => hR.recv X.2.2.2.2.2.2.2.1 hH mW_a rfl) (fun H hH => hH) ⟨by show 1 + 1 ≤ k + 1 + 2; omega, by show 8 + (2 + 11) + 40 * 1 ≤ 40 * (k + 1 + 2); omega⟩ ⟨Nat.le_of_ble_eq_true rfl, Nat.le_of_ble_eq_true rfl⟩ (Nat.le_of_ble_eq_true rfl) rfl (fun x_23 => ?_)
      refine g_vret X dX4_saysNumber_26 rfl (Nat.le_of_ble_eq_true rfl) (Nat.le_of_ble_eq_true rfl) (fun H hH => ⟨(), rfl, hH⟩)
end M12
