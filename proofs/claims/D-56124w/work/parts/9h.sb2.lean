/-! STRINGBUILDER: the methods, by the text -/
theorem TB_keep {out : List Nat} {cap cap' : Nat} {f f' : Nat → Int32} (h : TB out cap f) (h1 : cap ≤ cap') (h2 : cap' ≤ 1000) (hf : sb_Fit f') (hk : ∀ j, j < cap → f' j = f j) : TB out cap' f' :=
  ⟨Nat.le_trans h.1 h1, Nat.le_trans h.2.1 h1, h2, hf, fun k hk' => by rw [hk k (Nat.lt_of_lt_of_le hk' h.1)]; exact h.2.2.2.2 k hk'⟩
theorem TB_nil {out : List Nat} {cap : Nat} {f : Nat → Int32} (h : TB out cap f) : TB [] cap f := ⟨Nat.zero_le _, h.2.1, h.2.2.1, h.2.2.2.1, fun k hk => absurd hk (Nat.not_lt_zero _)⟩
theorem TB_app {out t : List Nat} {cap : Nat} {f f' : Nat → Int32} (h : TB out cap f) (hl : out.length + t.length ≤ cap) (hf : sb_Fit f') (hk : ∀ j, j < out.length → f' j = f j) (ht : ∀ i, i < t.length → f' (out.length + i) = sb_b (t.getD i 0) ∧ t.getD i 0 < 128) : TB (out ++ t) cap f' := by
  refine ⟨by rw [List.length_append]; exact hl, h.2.1, h.2.2.1, hf, fun k hk' => ?_⟩
  rw [List.length_append] at hk'
  by_cases hlt : k < out.length
  · rw [List.getD_eq_getElem?_getD, List.getElem?_append_left hlt, ← List.getD_eq_getElem?_getD, hk k hlt]
    exact h.2.2.2.2 k hlt
  · rw [List.getD_eq_getElem?_getD, List.getElem?_append_right (by omega), ← List.getD_eq_getElem?_getD]
    have := ht (k - out.length) (by omega)
    rw [show out.length + (k - out.length) = k by omega] at this
    exact this
section SB2
variable {l : Launch} {Ω : Om} {Γ : LH} {I : Heap → Prop} {b v n cap : Nat} {f : Nat → Int32} {mb n0 : Int32} {out : List Nat}
set_option maxRecDepth 100000
/-- what a method leaves: the text out' in b -/
abbrev SBy (Ω : Om) (Γ : LH) (b v : Nat) (out : List Nat) (y : LH × Nat) : Prop := SBo Ω y.1 b y.2 out ∧ SBK b v Γ y.1 y.2
theorem ct_J3_init (hst : l.stackTraces = false) (hx : isO Γ b 13 [.null, .int 0, .int 0, .int 0]) : CM Ω l yJ3_init (ws_ yJ3_init cJ3_init 2 none) 3 1 16 [.ref b, .int (nI 16)] (hL Ω Γ) (QV (fun _ : {y : LH × Nat // SBo Ω y.1 b y.2 [] ∧ (∀ q u, Γ q = some u → q ≠ b → y.1 q = some u) ∧ Γ y.2 = none} => none) (fun y => hL Ω y.1.1)) nX := by
  refine CM.of (L := [some (.ref b), some (.int (nI 16))]) hst (by decide) (Nat.le_of_ble_eq_true rfl) rfl ?_
  intro p e s m below meth c X hnm htab
  refine g_aload_n X dJ3_init_0 rfl rfl ?_
  refine g_objInit X dJ3_init_1 rfl q207 (Nat.le_of_ble_eq_true rfl) (Nat.le_of_ble_eq_true rfl) ?_
  refine g_gets X (v := .int 1) dJ3_init_4 rfl (by simp [stl]) q208 (fun _ h => h) ?_
  refine g_if_eq (tgt := 25) X dJ3_init_7 rfl (by decide) (fun c => absurd c (by decide)) (fun c_7 => ?_)
  refine g_aload_n X dJ3_init_10 rfl rfl ?_
  refine g_iload_n X dJ3_init_11 rfl rfl ?_
  refine l_newa_byte X dJ3_init_12 rfl (by decide) (show (nI 16).toNatClampNeg = 16 by decide) (by decide) (by first | exact Nat.le_of_ble_eq_true rfl | omega | (dsimp only [rmD]; omega)) (by first | exact Nat.le_of_ble_eq_true rfl | omega | (dsimp only [rmD]; omega)) (fun q nq => ?_)
  have hq : b ≠ q := fun g => by rw [g] at hx; rw [isO, nq] at hx; simp at hx
  have d1 : isO (hu Γ q (.inl (cI Ω 2 16 (fun _ => 0)))) b 13 [.null, .int 0, .int 0, .int 0] := (hu_n hq).trans hx
  refine l_put X dJ3_init_14 rfl in_J4 tyJ4_ok nmJ4 (ci := 13) rfl 0 (by decide) q217 (fun _ h => h) rfl rfl rfl rfl d1 (Nat.le_of_ble_eq_true rfl) rfl ?_
  refine g_aload_n X dJ3_init_17 rfl rfl ?_
  refine g_iconst X dJ3_init_18 rfl (v := (nI 0)) rfl ?_
  refine l_put X dJ3_init_19 rfl in_J4 tyJ4_ok nmJ4 (ci := 13) rfl 1 (by decide) q218 (fun _ h => h) rfl rfl rfl rfl (hu_s _ _ _) (Nat.le_of_ble_eq_true rfl) rfl ?_
  refine g_goto (tgt := 38) X dJ3_init_22 rfl (by decide) ?_
  refine g_vret X dJ3_init_38 rfl (by first | exact Nat.le_of_ble_eq_true rfl | omega | (dsimp only [rmD]; omega)) (by first | exact Nat.le_of_ble_eq_true rfl | omega | (dsimp only [rmD]; omega)) (fun H hH => ?_)
  refine ⟨⟨(_, q), ⟨⟨0, hu_s _ _ _⟩, 16, fun _ => 0, (hu_n (fun g => hq g.symm)).trans ((hu_n (fun g => hq g.symm)).trans (hu_s _ _ _)), Nat.zero_le _, by decide, by decide, sb_fit0, fun k hk => absurd hk (Nat.not_lt_zero _)⟩, fun q' u hq' hn => (hu_n hn).trans ((hu_n hn).trans ((hu_n (fun g => by rw [g, nq] at hq'; simp at hq')).trans hq')), nq⟩, rfl, hH⟩
theorem ct_J3_length (hst : l.stackTraces = false) (hx : isO Γ b 13 [.ref v, .int 0, .int mb, .int n0]) : CM Ω l yJ3_length (ws_ yJ3_length cJ3_length 1 (some .int)) 2 0 0 [.ref b] (hL Ω Γ) (QP (some (.int n0)) (hL Ω Γ)) nX := by
  refine CM.of (L := [some (.ref b)]) hst (by decide) (Nat.le_of_ble_eq_true rfl) rfl ?_
  intro p e s m below meth c X hnm htab
  refine g_aload_n X dJ3_length_0 rfl rfl ?_
  refine l_get X dJ3_length_1 rfl in_J4 (ci := 13) rfl 3 (by decide) q221 (fun _ h => h) hx rfl ?_
  refine g_iret X dJ3_length_4 rfl (by first | exact Nat.le_of_ble_eq_true rfl | omega | (dsimp only [rmD]; omega)) (by first | exact Nat.le_of_ble_eq_true rfl | omega | (dsimp only [rmD]; omega)) (fun H hH => ⟨(), rfl, hH⟩)
theorem ct_J3_charAt (hst : l.stackTraces = false) (hS : SBo Ω Γ b v out) {i : Nat} (hi : i < out.length) : CM Ω l yJ3_charAt (ws_ yJ3_charAt cJ3_charAt 5 (some .char)) 5 0 0 [.ref b, .int (nI i)] (hL Ω Γ) (QP (some (.int (nI (out.getD i 0)))) (hL Ω Γ)) nX := by
  obtain ⟨⟨mb, hx⟩, cap, f, ha, t1, t2, t3, t4, t5⟩ := hS
  obtain ⟨g1, g2⟩ := t5 i hi
  obtain ⟨b1, b2, -⟩ := sb_byte (out.getD i 0) (by omega)
  refine CM.of (L := [some (.ref b), some (.int (nI i)), none, none, none]) hst (by decide) (Nat.le_of_ble_eq_true rfl) rfl ?_
  intro p e s m below meth c X hnm htab
  refine g_aload_n X dJ3_charAt_0 rfl rfl ?_
  refine l_get X dJ3_charAt_1 rfl in_J4 (ci := 13) rfl 1 (by decide) q218 (fun _ h => h) hx rfl ?_
  refine g_istore_n X dJ3_charAt_4 rfl (by decide) rfl rfl ?_
  refine g_aload_n X dJ3_charAt_5 rfl rfl ?_
  refine l_get X dJ3_charAt_6 rfl in_J4 (ci := 13) rfl 0 (by decide) q217 (fun _ h => h) hx rfl ?_
  refine g_astore_n X dJ3_charAt_9 rfl (by decide) rfl rfl ?_
  refine g_aload_n X dJ3_charAt_10 rfl rfl ?_
  refine l_get X dJ3_charAt_11 rfl in_J4 (ci := 13) rfl 3 (by decide) q221 (fun _ h => h) hx rfl ?_
  refine g_aload_n X dJ3_charAt_14 rfl rfl ?_
  refine l_alen X (t := 2) dJ3_charAt_15 rfl ha rfl rfl ?_
  refine g_iload_n X dJ3_charAt_16 rfl rfl ?_
  refine g_ishr X dJ3_charAt_17 rfl (sb_shr0 _) ?_
  refine g_min X dJ3_charAt_18 rfl q1881 (Nat.le_of_ble_eq_true rfl) (Nat.le_of_ble_eq_true rfl) (by first | exact Nat.le_of_ble_eq_true rfl | omega | (dsimp only [rmD]; omega)) (by first | exact Nat.le_of_ble_eq_true rfl | omega | (dsimp only [rmD]; omega)) (if_neg (nI_nlt t1 (by omega))) ?_
  refine g_istore X dJ3_charAt_21 rfl (by decide) rfl rfl ?_
  refine g_iload_n X dJ3_charAt_23 rfl rfl ?_
  refine g_iload X dJ3_charAt_24 rfl rfl ?_
  refine g_callS X (ct_J5_checkIndex hst hi (by omega)) dJ3_charAt_26 rfl (lw_S q1882 q1529 q74 q1530) hyS_J5_checkIndex (fun H hH => hH) ⟨Nat.le_of_ble_eq_true rfl, Nat.le_of_ble_eq_true rfl⟩ ⟨by first | exact Nat.le_of_ble_eq_true rfl | omega | (dsimp only [rmD]; omega), by first | exact Nat.le_of_ble_eq_true rfl | omega | (dsimp only [rmD]; omega)⟩ (Nat.le_of_ble_eq_true rfl) rfl (fun x_26 => ?_)
  refine g_iload_n X dJ3_charAt_29 rfl rfl ?_
  refine g_if_ne (tgt := 42) X dJ3_charAt_30 rfl (by decide) (fun c => absurd rfl c) (fun c_30 => ?_)
  refine g_aload_n X dJ3_charAt_33 rfl rfl ?_
  refine g_iload_n X dJ3_charAt_34 rfl rfl ?_
  refine l_bal X dJ3_charAt_35 rfl ha (vp_in_nI (by omega) (by omega)) (ix_v (by omega) g1) ?_
  refine g_sipush X dJ3_charAt_36 rfl (v := 255) (by decide) ?_
  refine g_iand X dJ3_charAt_39 rfl b1 ?_
  refine g_i2c X dJ3_charAt_40 rfl b2 ?_
  refine g_zret X dJ3_charAt_41 rfl (pk_charN (by omega)).1 (by first | exact Nat.le_of_ble_eq_true rfl | omega | (dsimp only [rmD]; omega)) (by first | exact Nat.le_of_ble_eq_true rfl | omega | (dsimp only [rmD]; omega)) (fun H hH => ⟨(), rfl, hH⟩)
theorem ct_J3_setLength (hst : l.stackTraces = false) (hS : SBo Ω Γ b v out) : CM Ω l yJ3_setLength (ws_ yJ3_setLength cJ3_setLength 2 none) 8 1 802 [.ref b, .int (nI 0)] (hL Ω Γ) (QV (fun _ : {y : LH × Nat // SBy Ω Γ b v [] y} => none) (fun y => hL Ω y.1.1)) nX := by
  obtain ⟨⟨mb, hx⟩, cap, f, ha, t⟩ := hS
  obtain ⟨t1, t2, t3, t4, t5⟩ := t
  refine CM.of (L := [some (.ref b), some (.int (nI 0))]) hst (by decide) (Nat.le_of_ble_eq_true rfl) rfl ?_
  intro p e s m below meth c X hnm htab
  refine g_iload_n X dJ3_setLength_0 rfl rfl ?_
  refine g_if_ge (tgt := 13) X dJ3_setLength_1 rfl (by decide) (fun c_1 => ?_) (fun c => absurd (show (0 : Int32) ≤ nI 0 by decide) c)
  refine g_aload_n X dJ3_setLength_13 rfl rfl ?_
  refine g_iload_n X dJ3_setLength_14 rfl rfl ?_
  refine g_callP X (C := "java/lang/StringBuilder") (ct_J3_ensureCapacityInternal hst ⟨hx, ha, t4, t2, t3⟩ (by decide)) dJ3_setLength_15 rfl q1653 q2383 q1676 rfl q1654 q1655 q72 q1656 ⟨by decide, by decide, (show _ = some 1 by decide +kernel)⟩ (fun H hH => hL.recv X.2.2.2.2.2.2.2.1 hH (hx) rfl) (fun H hH => hH) ⟨Nat.le_of_ble_eq_true rfl, Nat.le_of_ble_eq_true rfl⟩ ⟨by first | exact Nat.le_of_ble_eq_true rfl | omega | (dsimp only [rmD]; omega), by first | exact Nat.le_of_ble_eq_true rfl | omega | (dsimp only [rmD]; omega)⟩ (Nat.le_of_ble_eq_true rfl) rfl (fun y1 => ?_)
  obtain ⟨⟨G, v1, c1, f1⟩, ⟨h1, h2, h3, h4, h5⟩, h6, h7, h8, h9⟩ := y1
  dsimp only at h1 h2 h3 h4 h5 h6 h7 h8 h9 ⊢
  have tn : TB [] c1 f1 := ⟨Nat.zero_le _, h4, h5, h3, fun k hk => absurd hk (Nat.not_lt_zero _)⟩
  have hvb : v1 ≠ b := fun g => by rw [g] at h2; have h1' := h1; rw [isO, h2] at h1'; simp at h1'
  refine g_aload_n X dJ3_setLength_18 rfl rfl ?_
  refine l_get X dJ3_setLength_19 rfl in_J4 (ci := 13) rfl 3 (by decide) q221 (fun _ h => h) h1 rfl ?_
  refine g_iload_n X dJ3_setLength_22 rfl rfl ?_
  refine g_icmp_ge (tgt := 63) X dJ3_setLength_23 rfl (by decide) (fun c_23 => ?_) (fun c => absurd ((nI_leI (by omega) (by omega)).mpr (Nat.zero_le _)) c)
  refine g_aload_n X dJ3_setLength_63 rfl rfl ?_
  refine l_get X dJ3_setLength_64 rfl in_J4 (ci := 13) rfl 3 (by decide) q221 (fun _ h => h) h1 rfl ?_
  refine g_iload_n X dJ3_setLength_67 rfl rfl ?_
  refine g_icmp_le (tgt := 76) X dJ3_setLength_68 rfl (by decide) (fun c_68 => ?_) (fun c_68 => ?_)
  · refine g_aload_n X dJ3_setLength_76 rfl rfl ?_
    refine g_iload_n X dJ3_setLength_77 rfl rfl ?_
    refine l_put X dJ3_setLength_78 rfl in_J4 tyJ4_ok nmJ4 (ci := 13) rfl 3 (by decide) q221 (fun _ h => h) rfl rfl rfl rfl h1 (Nat.le_of_ble_eq_true rfl) rfl ?_
    refine g_vret X dJ3_setLength_81 rfl (by first | exact Nat.le_of_ble_eq_true rfl | omega | (dsimp only [rmD]; omega)) (by first | exact Nat.le_of_ble_eq_true rfl | omega | (dsimp only [rmD]; omega)) (fun H hH => ?_)
    exact ⟨⟨(_, v1), ⟨⟨mb, hu_s _ _ _⟩, c1, f1, (hu_n hvb).trans h2, tn⟩, h9.put rfl⟩, rfl, hH⟩
  · refine g_aload_n X dJ3_setLength_71 rfl rfl ?_
    refine g_iconst X dJ3_setLength_72 rfl (v := (nI 1)) rfl ?_
    refine l_put X dJ3_setLength_73 rfl in_J4 tyJ4_ok nmJ4 (ci := 13) rfl 2 (by decide) q219 (fun _ h => h) rfl rfl rfl rfl h1 (Nat.le_of_ble_eq_true rfl) rfl ?_
    refine g_aload_n X dJ3_setLength_76 rfl rfl ?_
    refine g_iload_n X dJ3_setLength_77 rfl rfl ?_
    refine l_put X dJ3_setLength_78 rfl in_J4 tyJ4_ok nmJ4 (ci := 13) rfl 3 (by decide) q221 (fun _ h => h) rfl rfl rfl rfl (hu_s _ _ _) (Nat.le_of_ble_eq_true rfl) rfl ?_
    refine g_vret X dJ3_setLength_81 rfl (by first | exact Nat.le_of_ble_eq_true rfl | omega | (dsimp only [rmD]; omega)) (by first | exact Nat.le_of_ble_eq_true rfl | omega | (dsimp only [rmD]; omega)) (fun H hH => ?_)
    exact ⟨⟨(_, v1), ⟨⟨1, hu_s _ _ _⟩, c1, f1, (hu_n hvb).trans ((hu_n hvb).trans h2), tn⟩, (h9.put rfl).put rfl⟩, rfl, hH⟩
theorem ct_J3_append_3 (hst : l.stackTraces = false) (hS : SBo Ω Γ b v out) (hl : out.length < 400) {u : Nat} (hu1 : u < 128) : CM Ω l yJ3_append_3 (ws_ yJ3_append_3 cJ3_append_3 2 (some (.object "java/lang/AbstractStringBuilder"))) 8 1 802 [.ref b, .int (nI u)] (hL Ω Γ) (QV (fun _ : {y : LH × Nat // SBy Ω Γ b v (out ++ [u]) y} => some (.ref b)) (fun y => hL Ω y.1.1)) nX := by
  obtain ⟨⟨mb, hx⟩, cap, f, ha, t⟩ := hS
  have t' := t
  obtain ⟨t1, t2, t3, t4, t5⟩ := t'
  refine CM.of (L := [some (.ref b), some (.int (nI u))]) hst (by decide) (Nat.le_of_ble_eq_true rfl) rfl ?_
  intro p e s m below meth c X hnm htab
  refine g_aload_n X dJ3_append_3_0 rfl rfl ?_
  refine g_aload_n X dJ3_append_3_1 rfl rfl ?_
  refine l_get X dJ3_append_3_2 rfl in_J4 (ci := 13) rfl 3 (by decide) q221 (fun _ h => h) hx rfl ?_
  refine g_iconst X dJ3_append_3_5 rfl (v := (nI 1)) rfl ?_
  refine g_iadd X dJ3_append_3_6 rfl (by first | exact nI_add _ _ | rfl) ?_
  refine g_callP X (C := "java/lang/StringBuilder") (ct_J3_ensureCapacityInternal hst ⟨hx, ha, t4, t2, t3⟩ (by omega)) dJ3_append_3_7 rfl q1653 q2383 q1676 rfl q1654 q1655 q72 q1656 ⟨by decide, by decide, (show _ = some 1 by decide +kernel)⟩ (fun H hH => hL.recv X.2.2.2.2.2.2.2.1 hH (hx) rfl) (fun H hH => hH) ⟨Nat.le_of_ble_eq_true rfl, Nat.le_of_ble_eq_true rfl⟩ ⟨by first | exact Nat.le_of_ble_eq_true rfl | omega | (dsimp only [rmD]; omega), by first | exact Nat.le_of_ble_eq_true rfl | omega | (dsimp only [rmD]; omega)⟩ (Nat.le_of_ble_eq_true rfl) rfl (fun y1 => ?_)
  obtain ⟨⟨G, v1, c1, f1⟩, ⟨h1, h2, h3, h4, h5⟩, h6, h7, h8, h9⟩ := y1
  dsimp only at h1 h2 h3 h4 h5 h6 h7 h8 h9 ⊢
  have hvb : v1 ≠ b := fun g => by rw [g] at h2; have h1' := h1; rw [isO, h2] at h1'; simp at h1'
  refine g_aload_n X dJ3_append_3_10 rfl rfl ?_
  refine g_callU X (owner := "java/lang/AbstractStringBuilder") (ct_J3_isLatin1 hst h1) dJ3_append_3_11 rfl (lw_app (by simp only [List.forall_mem_cons, List.not_mem_nil, false_imp_iff, implies_true, and_true]; exact ⟨q1673, q1675, q1676, q1674, q72⟩) (lw_meth q1677)) rfl ⟨by decide, by decide, (show _ = some 0 by decide +kernel)⟩ (fun H hH => hL.recv X.2.2.2.2.2.2.2.1 hH (h1) rfl) (fun H hH => hH) ⟨Nat.le_of_ble_eq_true rfl, Nat.le_of_ble_eq_true rfl⟩ ⟨by first | exact Nat.le_of_ble_eq_true rfl | omega | (dsimp only [rmD]; omega), by first | exact Nat.le_of_ble_eq_true rfl | omega | (dsimp only [rmD]; omega)⟩ (Nat.le_of_ble_eq_true rfl) rfl (fun x_11 => ?_)
  refine g_if_eq (tgt := 45) X dJ3_append_3_14 rfl (by decide) (fun c => absurd c (by decide)) (fun c_14 => ?_)
  refine g_iload_n X dJ3_append_3_17 rfl rfl ?_
  refine g_callS X (ct_J22_canEncode hst hu1) dJ3_append_3_18 rfl (lw_S q1858 q1859 q98 q1860) hyS_J22_canEncode (fun H hH => hH) ⟨Nat.le_of_ble_eq_true rfl, Nat.le_of_ble_eq_true rfl⟩ ⟨by first | exact Nat.le_of_ble_eq_true rfl | omega | (dsimp only [rmD]; omega), by first | exact Nat.le_of_ble_eq_true rfl | omega | (dsimp only [rmD]; omega)⟩ (Nat.le_of_ble_eq_true rfl) rfl (fun x_18 => ?_)
  refine g_if_eq (tgt := 45) X dJ3_append_3_21 rfl (by decide) (fun c => absurd c (by decide)) (fun c_21 => ?_)
  refine g_aload_n X dJ3_append_3_24 rfl rfl ?_
  refine l_get X dJ3_append_3_25 rfl in_J4 (ci := 13) rfl 0 (by decide) q217 (fun _ h => h) h1 rfl ?_
  refine g_aload_n X dJ3_append_3_28 rfl rfl ?_
  refine g_dup X dJ3_append_3_29 rfl rfl ?_
  refine l_get X dJ3_append_3_30 rfl in_J4 (ci := 13) rfl 3 (by decide) q221 (fun _ h => h) h1 rfl ?_
  refine g_dup_x1 X dJ3_append_3_33 rfl rfl rfl ?_
  refine g_iconst X dJ3_append_3_34 rfl (v := (nI 1)) rfl ?_
  refine g_iadd X dJ3_append_3_35 rfl (by first | exact nI_add _ _ | rfl) ?_
  refine l_put X dJ3_append_3_36 rfl in_J4 tyJ4_ok nmJ4 (ci := 13) rfl 3 (by decide) q221 (fun _ h => h) rfl rfl rfl rfl h1 (Nat.le_of_ble_eq_true rfl) rfl ?_
  have d1 : hu G b (.inl (.inr (13, [.ref v1, .int 0, .int mb, .int (nI (out.length + 1))]))) v1 = some (.inl (cI Ω 2 c1 f1)) := (hu_n hvb).trans h2
  refine g_iload_n X dJ3_append_3_39 rfl rfl ?_
  refine g_i2b X dJ3_append_3_40 rfl (rfl : (nI u).toInt8.toInt32 = sb_b u) ?_
  refine l_bas X dJ3_append_3_41 rfl d1 (vp_in_nI (by omega) (by omega)) (congrArg (fun z : Nat → Int32 => hu (α := LE) _ v1 (.inl (cI Ω 2 c1 z))) (show upd f1 (nI out.length).toNatClampNeg (vp_nar .byte (sb_b u)) = upd f1 out.length (sb_b u) by rw [nI_clamp (by omega), show vp_nar .byte (sb_b u) = sb_b u from pk_vb _])) ?_
  refine g_goto (tgt := 75) X dJ3_append_3_42 rfl (by decide) ?_
  refine g_aload_n X dJ3_append_3_75 rfl rfl ?_
  refine g_aret X (Or.inl ⟨_, rfl⟩) (Or.inr ⟨_, rfl⟩) dJ3_append_3_76 rfl (by first | exact Nat.le_of_ble_eq_true rfl | omega | (dsimp only [rmD]; omega)) (by first | exact Nat.le_of_ble_eq_true rfl | omega | (dsimp only [rmD]; omega)) (fun H hH => ?_)
  refine ⟨⟨(_, v1), ⟨⟨mb, ?_⟩, c1, upd f1 out.length (sb_b u), hu_s _ _ _, ?_⟩, (h9.put rfl).putv rfl⟩, rfl, hH⟩
  · rw [List.length_append]; exact (hu_n (fun g => hvb g.symm)).trans (hu_s _ _ _)
  · refine TB_app (TB_keep t h6 h5 h3 h8) (by simpa using h7) (sb_fitU h3 (sb_fitB u)) (fun j hj => pk_un (by omega)) (fun i hi => ?_)
    have hi : i < 1 := hi
    obtain rfl : i = 0 := by omega
    exact ⟨pk_us, hu1⟩
theorem ct_J3_append_2 (hst : l.stackTraces = false) (hS : SBo Ω Γ b v out) (hl : out.length < 390) {w : Nat} (hw : w < 1000000) : CM Ω l yJ3_append_2 (ws_ yJ3_append_2 cJ3_append_2 4 (some (.object "java/lang/AbstractStringBuilder"))) 8 1 802 [.ref b, .int (nI w)] (hL Ω Γ) (QV (fun _ : {y : LH × Nat // SBy Ω Γ b v (out ++ dec w) y} => some (.ref b)) (fun y => hL Ω y.1.1)) nX := by
  obtain ⟨⟨mb, hx⟩, cap, f, ha, t⟩ := hS
  have t' := t
  obtain ⟨t1, t2, t3, t4, t5⟩ := t'
  have hd := sb_dg_in w
  have hdl := dec_dg (w + 1) w (by omega) (by omega)
  refine CM.of (L := [some (.ref b), some (.int (nI w)), none, none]) hst (by decide) (Nat.le_of_ble_eq_true rfl) rfl ?_
  intro p e s m below meth c X hnm htab
  refine g_aload_n X dJ3_append_2_0 rfl rfl ?_
  refine l_get X dJ3_append_2_1 rfl in_J4 (ci := 13) rfl 3 (by decide) q221 (fun _ h => h) hx rfl ?_
  refine g_istore_n X dJ3_append_2_4 rfl (by decide) rfl rfl ?_
  refine g_iload_n X dJ3_append_2_5 rfl rfl ?_
  refine g_iload_n X dJ3_append_2_6 rfl rfl ?_
  refine g_callS X (ct_J21_stringSize hst hw) dJ3_append_2_7 rfl (lw_S q1735 q1736 q96 q1737) hyS_J21_stringSize (fun H hH => hH) ⟨Nat.le_of_ble_eq_true rfl, Nat.le_of_ble_eq_true rfl⟩ ⟨by first | exact Nat.le_of_ble_eq_true rfl | omega | (dsimp only [rmD]; omega), by first | exact Nat.le_of_ble_eq_true rfl | omega | (dsimp only [rmD]; omega)⟩ (Nat.le_of_ble_eq_true rfl) rfl (fun x_7 => ?_)
  refine g_iadd X dJ3_append_2_10 rfl (by first | exact nI_add _ _ | rfl) ?_
  refine g_istore_n X dJ3_append_2_11 rfl (by decide) rfl rfl ?_
  refine g_aload_n X dJ3_append_2_12 rfl rfl ?_
  refine g_iload_n X dJ3_append_2_13 rfl rfl ?_
  refine g_callP X (C := "java/lang/StringBuilder") (ct_J3_ensureCapacityInternal hst ⟨hx, ha, t4, t2, t3⟩ (by omega)) dJ3_append_2_14 rfl q1653 q2383 q1676 rfl q1654 q1655 q72 q1656 ⟨by decide, by decide, (show _ = some 1 by decide +kernel)⟩ (fun H hH => hL.recv X.2.2.2.2.2.2.2.1 hH (hx) rfl) (fun H hH => hH) ⟨Nat.le_of_ble_eq_true rfl, Nat.le_of_ble_eq_true rfl⟩ ⟨by first | exact Nat.le_of_ble_eq_true rfl | omega | (dsimp only [rmD]; omega), by first | exact Nat.le_of_ble_eq_true rfl | omega | (dsimp only [rmD]; omega)⟩ (Nat.le_of_ble_eq_true rfl) rfl (fun y1 => ?_)
  obtain ⟨⟨G, v1, c1, f1⟩, ⟨h1, h2, h3, h4, h5⟩, h6, h7, h8, h9⟩ := y1
  dsimp only at h1 h2 h3 h4 h5 h6 h7 h8 h9 ⊢
  have hvb : v1 ≠ b := fun g => by rw [g] at h2; have h1' := h1; rw [isO, h2] at h1'; simp at h1'
  refine g_aload_n X dJ3_append_2_17 rfl rfl ?_
  refine g_callU X (owner := "java/lang/AbstractStringBuilder") (ct_J3_isLatin1 hst h1) dJ3_append_2_18 rfl (lw_app (by simp only [List.forall_mem_cons, List.not_mem_nil, false_imp_iff, implies_true, and_true]; exact ⟨q1673, q1675, q1676, q1674, q72⟩) (lw_meth q1677)) rfl ⟨by decide, by decide, (show _ = some 0 by decide +kernel)⟩ (fun H hH => hL.recv X.2.2.2.2.2.2.2.1 hH (h1) rfl) (fun H hH => hH) ⟨Nat.le_of_ble_eq_true rfl, Nat.le_of_ble_eq_true rfl⟩ ⟨by first | exact Nat.le_of_ble_eq_true rfl | omega | (dsimp only [rmD]; omega), by first | exact Nat.le_of_ble_eq_true rfl | omega | (dsimp only [rmD]; omega)⟩ (Nat.le_of_ble_eq_true rfl) rfl (fun x_18 => ?_)
  refine g_if_eq (tgt := 37) X dJ3_append_2_21 rfl (by decide) (fun c => absurd c (by decide)) (fun c_21 => ?_)
  refine g_iload_n X dJ3_append_2_24 rfl rfl ?_
  refine g_iload_n X dJ3_append_2_25 rfl rfl ?_
  refine g_aload_n X dJ3_append_2_26 rfl rfl ?_
  refine l_get X dJ3_append_2_27 rfl in_J4 (ci := 13) rfl 0 (by decide) q217 (fun _ h => h) h1 rfl ?_
  refine g_callS X (ct_J21_getChars (n := out.length) hst h2 hw rfl h7 h5) dJ3_append_2_30 rfl (lw_S q1738 q1739 q96 q1740) hyS_J21_getChars (fun H hH => hH) ⟨Nat.le_of_ble_eq_true rfl, Nat.le_of_ble_eq_true rfl⟩ ⟨by first | exact Nat.le_of_ble_eq_true rfl | omega | (dsimp only [rmD]; omega), by first | exact Nat.le_of_ble_eq_true rfl | omega | (dsimp only [rmD]; omega)⟩ (Nat.le_of_ble_eq_true rfl) rfl (fun y2 => ?_)
  obtain ⟨f2, g1, g2, g3⟩ := y2
  dsimp only at g1 g2 g3 ⊢
  have d1 : isO (hu G v1 (.inl (cI Ω 2 c1 f2))) b 13 [.ref v1, .int 0, .int mb, .int (nI out.length)] := (hu_n (fun g => hvb g.symm)).trans h1
  refine g_pop X dJ3_append_2_33 rfl rfl ?_
  refine g_goto (tgt := 48) X dJ3_append_2_34 rfl (by decide) ?_
  refine g_aload_n X dJ3_append_2_48 rfl rfl ?_
  refine g_iload_n X dJ3_append_2_49 rfl rfl ?_
  refine l_put X dJ3_append_2_50 rfl in_J4 tyJ4_ok nmJ4 (ci := 13) rfl 3 (by decide) q221 (fun _ h => h) rfl rfl rfl rfl d1 (Nat.le_of_ble_eq_true rfl) rfl ?_
  refine g_aload_n X dJ3_append_2_53 rfl rfl ?_
  refine g_aret X (Or.inl ⟨_, rfl⟩) (Or.inr ⟨_, rfl⟩) dJ3_append_2_54 rfl (by first | exact Nat.le_of_ble_eq_true rfl | omega | (dsimp only [rmD]; omega)) (by first | exact Nat.le_of_ble_eq_true rfl | omega | (dsimp only [rmD]; omega)) (fun H hH => ?_)
  refine ⟨⟨(_, v1), ⟨⟨mb, ?_⟩, c1, f2, (hu_n hvb).trans (hu_s _ _ _), ?_⟩, (h9.putv rfl).put rfl⟩, rfl, hH⟩
  · rw [List.length_append, hdl]; exact hu_s _ _ _
  · refine TB_app (TB_keep t h6 h5 h3 h8) (by rw [hdl]; exact h7) (g3 h3) (fun j hj => g1 j (Or.inl hj)) (fun i hi => ?_)
    rw [hdl] at hi
    have e1 := g2 (sb_dg w - 1 - i) (by omega)
    have e2 := dec_at (w + 1) w (by omega) (by omega) (sb_dg w - 1 - i) (by omega)
    rw [show sb_dg w - 1 - (sb_dg w - 1 - i) = i by omega] at e2
    rw [show out.length + sb_dg w - 1 - (sb_dg w - 1 - i) = out.length + i by omega] at e1
    rw [e1, e2]
    exact ⟨rfl, by have := Nat.mod_lt (w / 10 ^ (sb_dg w - 1 - i)) (show 0 < 10 by decide); omega⟩
theorem ct_J4_init (hst : l.stackTraces = false) (hx : isO Γ b 13 [.null, .int 0, .int 0, .int 0]) : CM Ω l yJ4_init (ws_ yJ4_init cJ4_init 1 none) 5 1 16 [.ref b] (hL Ω Γ) (QV (fun _ : {y : LH × Nat // SBo Ω y.1 b y.2 [] ∧ (∀ q u, Γ q = some u → q ≠ b → y.1 q = some u) ∧ Γ y.2 = none} => none) (fun y => hL Ω y.1.1)) nX := by
  refine CM.of (L := [some (.ref b)]) hst (by decide) (Nat.le_of_ble_eq_true rfl) rfl ?_
  intro p e s m below meth c X hnm htab
  refine g_aload_n X dJ4_init_0 rfl rfl ?_
  refine g_bipush X dJ4_init_1 rfl (v := (nI 16)) (by decide) ?_
  refine g_callI X (ct_J3_init hst hx) dJ4_init_3 rfl q206 q72 q204 q205 rfl hyS_J3_init (fun H hH => hH) ⟨Nat.le_of_ble_eq_true rfl, Nat.le_of_ble_eq_true rfl⟩ ⟨by first | exact Nat.le_of_ble_eq_true rfl | omega | (dsimp only [rmD]; omega), by first | exact Nat.le_of_ble_eq_true rfl | omega | (dsimp only [rmD]; omega)⟩ (Nat.le_of_ble_eq_true rfl) rfl (fun y1 => ?_)
  refine g_vret X dJ4_init_6 rfl (by first | exact Nat.le_of_ble_eq_true rfl | omega | (dsimp only [rmD]; omega)) (by first | exact Nat.le_of_ble_eq_true rfl | omega | (dsimp only [rmD]; omega)) (fun H hH => ⟨y1, rfl, hH⟩)
theorem ct_J4_setLength (hst : l.stackTraces = false) (hS : SBo Ω Γ b v out) : CM Ω l yJ4_setLength (ws_ yJ4_setLength cJ4_setLength 2 none) 10 1 802 [.ref b, .int (nI 0)] (hL Ω Γ) (QV (fun _ : {y : LH × Nat // SBy Ω Γ b v [] y} => none) (fun y => hL Ω y.1.1)) nX := by
  refine CM.of (L := [some (.ref b), some (.int (nI 0))]) hst (by decide) (Nat.le_of_ble_eq_true rfl) rfl ?_
  intro p e s m below meth c X hnm htab
  refine g_aload_n X dJ4_setLength_0 rfl rfl ?_
  refine g_iload_n X dJ4_setLength_1 rfl rfl ?_
  refine g_callSU X (ct_J3_setLength hst hS) dJ4_setLength_2 rfl (classAt_of (X.2.2.2.2.2.2.1 _ q200)) (lw_app (by simp only [List.forall_mem_cons, List.not_mem_nil, false_imp_iff, implies_true, and_true]; exact ⟨q1631, q2380, q230, q1632, q72⟩) (lw_meth q1633)) ⟨by decide, (show _ = some 1 by decide +kernel)⟩ (fun H hH => hS.1.elim (fun mb hx => hL.recv X.2.2.2.2.2.2.2.1 hH (hx) rfl)) (fun H hH => hH) ⟨Nat.le_of_ble_eq_true rfl, Nat.le_of_ble_eq_true rfl⟩ ⟨by first | exact Nat.le_of_ble_eq_true rfl | omega | (dsimp only [rmD]; omega), by first | exact Nat.le_of_ble_eq_true rfl | omega | (dsimp only [rmD]; omega)⟩ (Nat.le_of_ble_eq_true rfl) rfl (fun y1 => ?_)
  refine g_vret X dJ4_setLength_5 rfl (by first | exact Nat.le_of_ble_eq_true rfl | omega | (dsimp only [rmD]; omega)) (by first | exact Nat.le_of_ble_eq_true rfl | omega | (dsimp only [rmD]; omega)) (fun H hH => ⟨y1, rfl, hH⟩)
theorem ct_J4_append_2 (hst : l.stackTraces = false) (hS : SBo Ω Γ b v out) (hl : out.length < 390) {w : Nat} (hw : w < 1000000) : CM Ω l yJ4_append_2 (ws_ yJ4_append_2 cJ4_append_2 2 (some (.object "java/lang/StringBuilder"))) 10 1 802 [.ref b, .int (nI w)] (hL Ω Γ) (QV (fun _ : {y : LH × Nat // SBy Ω Γ b v (out ++ dec w) y} => some (.ref b)) (fun y => hL Ω y.1.1)) nX := by
  refine CM.of (L := [some (.ref b), some (.int (nI w))]) hst (by decide) (Nat.le_of_ble_eq_true rfl) rfl ?_
  intro p e s m below meth c X hnm htab
  refine g_aload_n X dJ4_append_2_0 rfl rfl ?_
  refine g_iload_n X dJ4_append_2_1 rfl rfl ?_
  refine g_callSU X (ct_J3_append_2 hst hS hl hw) dJ4_append_2_2 rfl (classAt_of (X.2.2.2.2.2.2.1 _ q200)) (lw_app (by simp only [List.forall_mem_cons, List.not_mem_nil, false_imp_iff, implies_true, and_true]; exact ⟨q1732, q2388, q230, q1733, q72⟩) (lw_meth q1734)) ⟨by decide, (show _ = some 1 by decide +kernel)⟩ (fun H hH => hS.1.elim (fun mb hx => hL.recv X.2.2.2.2.2.2.2.1 hH (hx) rfl)) (fun H hH => hH) ⟨Nat.le_of_ble_eq_true rfl, Nat.le_of_ble_eq_true rfl⟩ ⟨by first | exact Nat.le_of_ble_eq_true rfl | omega | (dsimp only [rmD]; omega), by first | exact Nat.le_of_ble_eq_true rfl | omega | (dsimp only [rmD]; omega)⟩ (Nat.le_of_ble_eq_true rfl) rfl (fun y1 => ?_)
  refine g_pop X dJ4_append_2_5 rfl rfl ?_
  refine g_aload_n X dJ4_append_2_6 rfl rfl ?_
  refine g_aret X (Or.inl ⟨_, rfl⟩) (Or.inr ⟨_, rfl⟩) dJ4_append_2_7 rfl (by first | exact Nat.le_of_ble_eq_true rfl | omega | (dsimp only [rmD]; omega)) (by first | exact Nat.le_of_ble_eq_true rfl | omega | (dsimp only [rmD]; omega)) (fun H hH => ⟨y1, rfl, hH⟩)
theorem ct_J4_append_3 (hst : l.stackTraces = false) (hS : SBo Ω Γ b v out) (hl : out.length < 400) {u : Nat} (hu1 : u < 128) : CM Ω l yJ4_append_3 (ws_ yJ4_append_3 cJ4_append_3 2 (some (.object "java/lang/StringBuilder"))) 10 1 802 [.ref b, .int (nI u)] (hL Ω Γ) (QV (fun _ : {y : LH × Nat // SBy Ω Γ b v (out ++ [u]) y} => some (.ref b)) (fun y => hL Ω y.1.1)) nX := by
  refine CM.of (L := [some (.ref b), some (.int (nI u))]) hst (by decide) (Nat.le_of_ble_eq_true rfl) rfl ?_
  intro p e s m below meth c X hnm htab
  refine g_aload_n X dJ4_append_3_0 rfl rfl ?_
  refine g_iload_n X dJ4_append_3_1 rfl rfl ?_
  refine g_callSU X (ct_J3_append_3 hst hS hl hu1) dJ4_append_3_2 rfl (classAt_of (X.2.2.2.2.2.2.1 _ q200)) (lw_app (by simp only [List.forall_mem_cons, List.not_mem_nil, false_imp_iff, implies_true, and_true]; exact ⟨q1855, q2389, q230, q1856, q72⟩) (lw_meth q1857)) ⟨by decide, (show _ = some 1 by decide +kernel)⟩ (fun H hH => hS.1.elim (fun mb hx => hL.recv X.2.2.2.2.2.2.2.1 hH (hx) rfl)) (fun H hH => hH) ⟨Nat.le_of_ble_eq_true rfl, Nat.le_of_ble_eq_true rfl⟩ ⟨by first | exact Nat.le_of_ble_eq_true rfl | omega | (dsimp only [rmD]; omega), by first | exact Nat.le_of_ble_eq_true rfl | omega | (dsimp only [rmD]; omega)⟩ (Nat.le_of_ble_eq_true rfl) rfl (fun y1 => ?_)
  refine g_pop X dJ4_append_3_5 rfl rfl ?_
  refine g_aload_n X dJ4_append_3_6 rfl rfl ?_
  refine g_aret X (Or.inl ⟨_, rfl⟩) (Or.inr ⟨_, rfl⟩) dJ4_append_3_7 rfl (by first | exact Nat.le_of_ble_eq_true rfl | omega | (dsimp only [rmD]; omega)) (by first | exact Nat.le_of_ble_eq_true rfl | omega | (dsimp only [rmD]; omega)) (fun H hH => ⟨y1, rfl, hH⟩)
theorem ct_J4_length (hst : l.stackTraces = false) (hS : SBo Ω Γ b v out) : CM Ω l yJ4_length (ws_ yJ4_length cJ4_length 1 (some .int)) 4 0 0 [.ref b] (hL Ω Γ) (QP (some (.int (nI out.length))) (hL Ω Γ)) nX := by
  obtain ⟨⟨mb, hx⟩, -⟩ := hS
  refine CM.of (L := [some (.ref b)]) hst (by decide) (Nat.le_of_ble_eq_true rfl) rfl ?_
  intro p e s m below meth c X hnm htab
  refine g_aload_n X dJ4_length_0 rfl rfl ?_
  refine g_callSU X (ct_J3_length hst hx) dJ4_length_1 rfl (classAt_of (X.2.2.2.2.2.2.1 _ q200)) (lw_app (by simp only [List.forall_mem_cons, List.not_mem_nil, false_imp_iff, implies_true, and_true]; exact ⟨q1776, q1772, q230, q1771, q72⟩) (lw_meth q1777)) ⟨by decide, (show _ = some 0 by decide +kernel)⟩ (fun H hH => hL.recv X.2.2.2.2.2.2.2.1 hH (hx) rfl) (fun H hH => hH) ⟨Nat.le_of_ble_eq_true rfl, Nat.le_of_ble_eq_true rfl⟩ ⟨by first | exact Nat.le_of_ble_eq_true rfl | omega | (dsimp only [rmD]; omega), by first | exact Nat.le_of_ble_eq_true rfl | omega | (dsimp only [rmD]; omega)⟩ (Nat.le_of_ble_eq_true rfl) rfl (fun x_1 => ?_)
  refine g_iret X dJ4_length_4 rfl (by first | exact Nat.le_of_ble_eq_true rfl | omega | (dsimp only [rmD]; omega)) (by first | exact Nat.le_of_ble_eq_true rfl | omega | (dsimp only [rmD]; omega)) (fun H hH => ⟨(), rfl, hH⟩)
theorem ct_J4_charAt (hst : l.stackTraces = false) (hS : SBo Ω Γ b v out) {i : Nat} (hi : i < out.length) (hc : out.getD i 0 < 128) : CM Ω l yJ4_charAt (ws_ yJ4_charAt cJ4_charAt 2 (some .char)) 7 0 0 [.ref b, .int (nI i)] (hL Ω Γ) (QP (some (.int (nI (out.getD i 0)))) (hL Ω Γ)) nX := by
  refine CM.of (L := [some (.ref b), some (.int (nI i))]) hst (by decide) (Nat.le_of_ble_eq_true rfl) rfl ?_
  intro p e s m below meth c X hnm htab
  refine g_aload_n X dJ4_charAt_0 rfl rfl ?_
  refine g_iload_n X dJ4_charAt_1 rfl rfl ?_
  refine g_callSU X (ct_J3_charAt hst hS hi) dJ4_charAt_2 rfl (classAt_of (X.2.2.2.2.2.2.1 _ q200)) (lw_app (by simp only [List.forall_mem_cons, List.not_mem_nil, false_imp_iff, implies_true, and_true]; exact ⟨q1878, q2391, q230, q1879, q72⟩) (lw_meth q1880)) ⟨by decide, (show _ = some 1 by decide +kernel)⟩ (fun H hH => hS.1.elim (fun mb hx => hL.recv X.2.2.2.2.2.2.2.1 hH (hx) rfl)) (fun H hH => hH) ⟨Nat.le_of_ble_eq_true rfl, Nat.le_of_ble_eq_true rfl⟩ ⟨by first | exact Nat.le_of_ble_eq_true rfl | omega | (dsimp only [rmD]; omega), by first | exact Nat.le_of_ble_eq_true rfl | omega | (dsimp only [rmD]; omega)⟩ (Nat.le_of_ble_eq_true rfl) rfl (fun x_2 => ?_)
  refine g_zret X dJ4_charAt_5 rfl (pk_charN (by omega)).1 (by first | exact Nat.le_of_ble_eq_true rfl | omega | (dsimp only [rmD]; omega)) (by first | exact Nat.le_of_ble_eq_true rfl | omega | (dsimp only [rmD]; omega)) (fun H hH => ⟨(), rfl, hH⟩)
end SB2
