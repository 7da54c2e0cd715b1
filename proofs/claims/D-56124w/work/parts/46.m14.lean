/-! MODEL: reading -/
section M14
variable {l : Launch} {Ω : Om} {h : RH} {a : Nat} {ad : Nat → Nat} {v : Nat → Int32} {F : Nat → Nat → Int32} {inp : List Nat} {b : Nat} {ok : Bool}
set_option maxRecDepth 100000
theorem ct_X4_behind (hst : l.stackTraces = false) (hd : mDi a ad) (hP : PS v F inp b ok) (hb : b ≤ inp.length) : CM Ω l yX4_behind (ws_ yX4_behind cX4_behind 1 (some .int)) 1 0 0 [.ref a] (hR Ω (mW Ω h a ad v F)) (QP (some (.int (bh inp b))) (hR Ω (mW Ω h a ad v F))) nX := by
  have h1 := hP.1.1
  have h2 := hP.1.2.1
  have h3 := hP.2.1
  by_cases hlt : b < inp.length
  · rw [bh_t hlt]
    refine CM.of (L := [some (.ref a)]) hst (by decide) (Nat.le_of_ble_eq_true rfl) rfl ?_
    intro p e s m below meth c X hnm htab
    refine g_aload_n X dX4_behind_0 rfl rfl ?_
    refine g_get X dX4_behind_1 rfl in_X4 (ci := 3) rfl 11 (by decide) q1927 (fun _ h => h) mW_a (gv h3) ?_
    refine g_aload_n X dX4_behind_4 rfl rfl ?_
    refine g_get X dX4_behind_5 rfl in_X4 (ci := 3) rfl 10 (by decide) q1926 (fun _ h => h) mW_a (gv h1) ?_
    refine g_icmp_ge (tgt := 23) X dX4_behind_8 rfl (by decide) (fun c => absurd ((nI_leI (by omega) (by omega)).mp c) (by omega)) (fun c_8 => ?_)
    refine g_aload_n X dX4_behind_11 rfl rfl ?_
    refine g_get X dX4_behind_12 rfl in_X4 (ci := 3) rfl 9 (by decide) q1925 (fun _ h => h) mW_a rfl ?_
    refine g_aload_n X dX4_behind_15 rfl rfl ?_
    refine g_get X dX4_behind_16 rfl in_X4 (ci := 3) rfl 11 (by decide) q1927 (fun _ h => h) mW_a (gv h3) ?_
    refine g_cal X dX4_behind_19 rfl (mW_5 hd) (vp_in_nI (by omega) (by decide)) (ix_v (by omega) (hP.1.2.2 b hlt).1) ?_
    refine g_goto (tgt := 24) X dX4_behind_20 rfl (by decide) ?_
    refine g_iret X dX4_behind_24 rfl (Nat.le_of_ble_eq_true rfl) (Nat.le_of_ble_eq_true rfl) (fun H hH => ⟨(), rfl, hH⟩)
  · rw [bh_f hlt]
    refine CM.of (L := [some (.ref a)]) hst (by decide) (Nat.le_of_ble_eq_true rfl) rfl ?_
    intro p e s m below meth c X hnm htab
    refine g_aload_n X dX4_behind_0 rfl rfl ?_
    refine g_get X dX4_behind_1 rfl in_X4 (ci := 3) rfl 11 (by decide) q1927 (fun _ h => h) mW_a (gv h3) ?_
    refine g_aload_n X dX4_behind_4 rfl rfl ?_
    refine g_get X dX4_behind_5 rfl in_X4 (ci := 3) rfl 10 (by decide) q1926 (fun _ h => h) mW_a (gv h1) ?_
    refine g_icmp_ge (tgt := 23) X dX4_behind_8 rfl (by decide) (fun c_8 => ?_) (fun c => absurd ((nI_leI (by omega) (by omega)).mpr (by omega)) c)
    refine g_iconst X dX4_behind_23 rfl (v := (-1)) rfl ?_
    refine g_iret X dX4_behind_24 rfl (Nat.le_of_ble_eq_true rfl) (Nat.le_of_ble_eq_true rfl) (fun H hH => ⟨(), rfl, hH⟩)
theorem ct_X4_isDigit (hst : l.stackTraces = false) (hd : mDi a ad) (hP : PS v F inp b ok) (hb : b ≤ inp.length) : CM Ω l yX4_isDigit (ws_ yX4_isDigit cX4_isDigit 1 (some .boolean)) 3 0 0 [.ref a] (hR Ω (mW Ω h a ad v F)) (QP (some (.int (bI (ok = true ∧ dgt inp b ≠ none)))) (hR Ω (mW Ω h a ad v F))) nX := by
  have h12 := hP.2.2
  cases ok with
  | false =>
    rw [bI_f (fun g => Bool.noConfusion g.1)]
    have h12 : v 12 = nI 1 := h12
    refine CM.of (L := [some (.ref a)]) hst (by decide) (Nat.le_of_ble_eq_true rfl) rfl ?_
    intro p e s m below meth c X hnm htab
    refine g_aload_n X dX4_isDigit_0 rfl rfl ?_
    refine g_get X dX4_isDigit_1 rfl in_X4 (ci := 3) rfl 12 (by decide) q1928 (fun _ h => h) mW_a (gv h12) ?_
    refine g_if_ne (tgt := 25) X dX4_isDigit_4 rfl (by decide) (fun c_4 => ?_) (fun c => absurd c (by decide))
    refine g_iconst X dX4_isDigit_25 rfl (v := (nI 0)) rfl ?_
    refine g_zret X dX4_isDigit_26 rfl rfl (Nat.le_of_ble_eq_true rfl) (Nat.le_of_ble_eq_true rfl) (fun H hH => ⟨(), rfl, hH⟩)
  | true =>
    have h12 : v 12 = nI 0 := h12
    by_cases hdg : dgt inp b ≠ none
    · rw [bI_t ⟨rfl, hdg⟩]
      refine CM.of (L := [some (.ref a)]) hst (by decide) (Nat.le_of_ble_eq_true rfl) rfl ?_
      intro p e s m below meth c X hnm htab
      refine g_aload_n X dX4_isDigit_0 rfl rfl ?_
      refine g_get X dX4_isDigit_1 rfl in_X4 (ci := 3) rfl 12 (by decide) q1928 (fun _ h => h) mW_a (gv h12) ?_
      refine g_if_ne (tgt := 25) X dX4_isDigit_4 rfl (by decide) (fun c => absurd rfl c) (fun c_4 => ?_)
      refine g_aload_n X dX4_isDigit_7 rfl rfl ?_
      refine g_callV X (ct_X4_behind hst hd hP hb) dX4_isDigit_8 rfl (lw_V q2323 q2325 qs60 q76 q2326) hyV_X4_behind (fun H hH => hR.recv X.2.2.2.2.2.2.2.1 hH mW_a rfl) (fun H hH => hH) ⟨Nat.le_of_ble_eq_true rfl, Nat.le_of_ble_eq_true rfl⟩ ⟨Nat.le_of_ble_eq_true rfl, Nat.le_of_ble_eq_true rfl⟩ (Nat.le_of_ble_eq_true rfl) rfl (fun x_8 => ?_)
      refine g_bipush X dX4_isDigit_11 rfl (v := (nI 48)) (by decide) ?_
      refine g_bipush X dX4_isDigit_13 rfl (v := (nI 57)) (by decide) ?_
      refine g_callS X (ct_X4_in hst) dX4_isDigit_15 rfl (lw_S q1985 q1986 q76 q1987) hyS_X4_in (fun H hH => hH) ⟨Nat.le_of_ble_eq_true rfl, Nat.le_of_ble_eq_true rfl⟩ ⟨Nat.le_of_ble_eq_true rfl, Nat.le_of_ble_eq_true rfl⟩ (Nat.le_of_ble_eq_true rfl) rfl (fun x_15 => ?_)
      refine g_if_eq (tgt := 25) X dX4_isDigit_18 rfl (by decide) (fun c => absurd (((dgt_in hP.b).mpr hdg)) (bI_0.mp c)) (fun c_18 => ?_)
      refine g_iconst X dX4_isDigit_21 rfl (v := (nI 1)) rfl ?_
      refine g_goto (tgt := 26) X dX4_isDigit_22 rfl (by decide) ?_
      refine g_zret X dX4_isDigit_26 rfl rfl (Nat.le_of_ble_eq_true rfl) (Nat.le_of_ble_eq_true rfl) (fun H hH => ⟨(), rfl, hH⟩)
    · rw [bI_f (fun g => hdg g.2)]
      refine CM.of (L := [some (.ref a)]) hst (by decide) (Nat.le_of_ble_eq_true rfl) rfl ?_
      intro p e s m below meth c X hnm htab
      refine g_aload_n X dX4_isDigit_0 rfl rfl ?_
      refine g_get X dX4_isDigit_1 rfl in_X4 (ci := 3) rfl 12 (by decide) q1928 (fun _ h => h) mW_a (gv h12) ?_
      refine g_if_ne (tgt := 25) X dX4_isDigit_4 rfl (by decide) (fun c => absurd rfl c) (fun c_4 => ?_)
      refine g_aload_n X dX4_isDigit_7 rfl rfl ?_
      refine g_callV X (ct_X4_behind hst hd hP hb) dX4_isDigit_8 rfl (lw_V q2323 q2325 qs60 q76 q2326) hyV_X4_behind (fun H hH => hR.recv X.2.2.2.2.2.2.2.1 hH mW_a rfl) (fun H hH => hH) ⟨Nat.le_of_ble_eq_true rfl, Nat.le_of_ble_eq_true rfl⟩ ⟨Nat.le_of_ble_eq_true rfl, Nat.le_of_ble_eq_true rfl⟩ (Nat.le_of_ble_eq_true rfl) rfl (fun x_8 => ?_)
      refine g_bipush X dX4_isDigit_11 rfl (v := (nI 48)) (by decide) ?_
      refine g_bipush X dX4_isDigit_13 rfl (v := (nI 57)) (by decide) ?_
      refine g_callS X (ct_X4_in hst) dX4_isDigit_15 rfl (lw_S q1985 q1986 q76 q1987) hyS_X4_in (fun H hH => hH) ⟨Nat.le_of_ble_eq_true rfl, Nat.le_of_ble_eq_true rfl⟩ ⟨Nat.le_of_ble_eq_true rfl, Nat.le_of_ble_eq_true rfl⟩ (Nat.le_of_ble_eq_true rfl) rfl (fun x_15 => ?_)
      refine g_if_eq (tgt := 25) X dX4_isDigit_18 rfl (by decide) (fun c_18 => ?_) (fun c => absurd (bI_n0.mp c) ((fun g => hdg ((dgt_in hP.b).mp g))))
      refine g_iconst X dX4_isDigit_25 rfl (v := (nI 0)) rfl ?_
      refine g_zret X dX4_isDigit_26 rfl rfl (Nat.le_of_ble_eq_true rfl) (Nat.le_of_ble_eq_true rfl) (fun H hH => ⟨(), rfl, hH⟩)
theorem ct_X4_skip (hst : l.stackTraces = false) (hd : mDi a ad) (hP : PS v F inp b ok) (hb : b ≤ inp.length) {j : Nat} (hj : j < 8) : CM Ω l yX4_skip (ws_ yX4_skip cX4_skip 3 none) 5 0 0 [.ref a, .ref (oM Ω (300 + j))] (hR Ω (mW Ω h a ad v F)) (QV (fun _ : {v' : Nat → Int32 // PS v' F inp (skS inp (sTx j) b ok).1 (skS inp (sTx j) b ok).2 ∧ PV v v'} => none) (fun v' => hR Ω (mW Ω h a ad v'.1 F))) nX := by
  have hl := (sTx_ok j hj).1
  have h6 := sLen_le j hj
  have hll := hP.1.2.1
  generalize hfin : skS inp (sTx j) b ok = fin
  refine CM.of (L := [some (.ref a), some (.ref (oM Ω (300 + j))), none]) hst (by decide) (Nat.le_of_ble_eq_true rfl) rfl ?_
  intro p e s m below meth c X hnm htab
  refine g_iconst X dX4_skip_0 rfl (v := (nI 0)) rfl ?_
  refine g_istore_n X dX4_skip_1 rfl (by decide) rfl rfl ?_
  refine GJ.loc ((fun x : Nat × Nat × Bool × (Nat → Int32) => [some (.ref a), some (.ref (oM Ω (300 + j))), some (.int (nI x.1))]) (0, b, ok, v)) (lvle_c rfl (lvle_c rfl (lvle_c rfl lvle_e))) ?_
  refine GJ.loop (fun x : Nat × Nat × Bool × (Nat → Int32) => hR Ω (mW Ω h a ad x.2.2.2 F)) (fun _ => 0) (fun _ => 0) (fun x : Nat × Nat × Bool × (Nat → Int32) => [some (.ref a), some (.ref (oM Ω (300 + j))), some (.int (nI x.1))]) (fun x => sLen.getD j 0 - x.1) (fun x => x.1 ≤ sLen.getD j 0 ∧ x.2.1 ≤ inp.length ∧ PS x.2.2.2 F inp x.2.1 x.2.2.1 ∧ PV v x.2.2.2 ∧ skS inp ((sTx j).drop x.1) x.2.1 x.2.2.1 = fin) (0, b, ok, v) ⟨Nat.zero_le _, hb, hP, PV.rf, hfin⟩ ?_
  rintro ⟨k, a1, o1, v1⟩ ⟨i1, i2, i3, i4, i5⟩ ih
  dsimp only at i1 i2 i3 i4 i5 ih ⊢
  refine g_iload_n X dX4_skip_2 rfl rfl ?_
  refine g_aload_n X dX4_skip_3 rfl rfl ?_
  refine g_callVk X (ct_J5_length hst hj) dX4_skip_4 rfl (lw_V q2333 q1510 q1511 q74 q1512) hyV_J5_length (fun H locs hS => oS_recv X hS hj) (fun H hH => hH) ⟨Nat.le_of_ble_eq_true rfl, Nat.le_of_ble_eq_true rfl⟩ ⟨Nat.le_of_ble_eq_true rfl, Nat.le_of_ble_eq_true rfl⟩ (Nat.le_of_ble_eq_true rfl) rfl (fun x_4 => ?_)
  refine g_icmp_ge (tgt := 65) X dX4_skip_7 rfl (by decide) (fun c_7 => ?_) (fun c_7 => ?_)
  · rw [nI_leI (by omega) (by omega)] at c_7
    have hk : k = (sTx j).length := by omega
    rw [hk, List.drop_length, skS_end] at i5
    refine g_vret X dX4_skip_65 rfl (Nat.le_of_ble_eq_true rfl) (Nat.le_of_ble_eq_true rfl) (fun H hH => ⟨⟨v1, by rw [← i5]; exact i3, i4⟩, rfl, hH⟩)
  · rw [nI_leI (by omega) (by omega)] at c_7
    have hk : k < sLen.getD j 0 := by omega
    have h12 := i3.2.2
    have h11 := i3.2.1
    cases o1 with
    | false =>
      have h12 : v1 12 = nI 1 := h12
      refine g_aload_n X dX4_skip_10 rfl rfl ?_
      refine g_get X dX4_skip_11 rfl in_X4 (ci := 3) rfl 12 (by decide) q1928 (fun _ h => h) mW_a (gv h12) ?_
      refine g_if_ne (tgt := 65) X dX4_skip_14 rfl (by decide) (fun c_14 => ?_) (fun c => absurd c (by decide))
      refine g_vret X dX4_skip_65 rfl (Nat.le_of_ble_eq_true rfl) (Nat.le_of_ble_eq_true rfl) (fun H hH => ⟨⟨v1, by rw [← i5]; exact i3, i4⟩, rfl, hH⟩)
    | true =>
      have h12 : v1 12 = nI 0 := h12
      have hch := (sTx_ok j hj).2 k (by omega) hk
      refine g_aload_n X dX4_skip_10 rfl rfl ?_
      refine g_get X dX4_skip_11 rfl in_X4 (ci := 3) rfl 12 (by decide) q1928 (fun _ h => h) mW_a (gv h12) ?_
      refine g_if_ne (tgt := 65) X dX4_skip_14 rfl (by decide) (fun c => absurd rfl c) (fun c_14 => ?_)
      refine g_aload_n X dX4_skip_17 rfl rfl ?_
      refine g_aload_n X dX4_skip_18 rfl rfl ?_
      refine g_callV X (ct_X4_behind hst hd i3 i2) dX4_skip_19 rfl (lw_V q2323 q2325 qs60 q76 q2326) hyV_X4_behind (fun H hH => hR.recv X.2.2.2.2.2.2.2.1 hH mW_a rfl) (fun H hH => hH) ⟨Nat.le_of_ble_eq_true rfl, Nat.le_of_ble_eq_true rfl⟩ ⟨Nat.le_of_ble_eq_true rfl, Nat.le_of_ble_eq_true rfl⟩ (Nat.le_of_ble_eq_true rfl) rfl (fun x_19 => ?_)
      refine g_aload_n X dX4_skip_22 rfl rfl ?_
      refine g_iload_n X dX4_skip_23 rfl rfl ?_
      refine g_callVk X (ct_J5_charAt hst hj hk) dX4_skip_24 rfl (lw_V q2334 q1518 q1519 q74 q1520) hyV_J5_charAt (fun H locs hS => oS_recv X hS hj) (fun H hH => hH) ⟨Nat.le_of_ble_eq_true rfl, Nat.le_of_ble_eq_true rfl⟩ ⟨Nat.le_of_ble_eq_true rfl, Nat.le_of_ble_eq_true rfl⟩ (Nat.le_of_ble_eq_true rfl) rfl (fun x_24 => ?_)
      refine g_icmp_eq (tgt := 34) X dX4_skip_27 rfl (by decide) (fun c_27 => ?_) (fun c_27 => ?_)
      · rw [bh_eq i3.b (by omega), hch.1] at c_27
        rw [skS_t (by omega) c_27] at i5
        have hlt : a1 < inp.length := (List.getElem?_eq_some_iff.mp c_27).1
        have g11 : vU v1 12 (nI 0) 11 = nI a1 := (vU_n (by decide)).trans h11
        refine g_iconst X dX4_skip_34 rfl (v := (nI 0)) rfl ?_
        refine g_put X dX4_skip_35 rfl in_X4 tyX4_ok nmX4 (ci := 3) rfl 12 (by decide) q1928 (fun _ h => h) rfl rfl rfl rfl mW_a (Nat.le_of_ble_eq_true rfl) mW_u12 ?_
        refine g_aload_n X dX4_skip_38 rfl rfl ?_
        refine g_dup X dX4_skip_39 rfl rfl ?_
        refine g_get X dX4_skip_40 rfl in_X4 (ci := 3) rfl 11 (by decide) q1927 (fun _ h => h) mW_a (gv g11) ?_
        refine g_aload_n X dX4_skip_43 rfl rfl ?_
        refine g_get X dX4_skip_44 rfl in_X4 (ci := 3) rfl 12 (by decide) q1928 (fun _ h => h) mW_a (gv vU_s) ?_
        refine g_if_eq (tgt := 54) X dX4_skip_47 rfl (by decide) (fun c_47 => ?_) (fun c => absurd rfl c)
        refine g_iconst X dX4_skip_54 rfl (v := (nI 1)) rfl ?_
        refine g_iadd X dX4_skip_55 rfl (by first | exact nI_add _ _ | rfl) ?_
        refine g_put X dX4_skip_56 rfl in_X4 tyX4_ok nmX4 (ci := 3) rfl 11 (by decide) q1927 (fun _ h => h) rfl rfl rfl rfl mW_a (Nat.le_of_ble_eq_true rfl) mW_u11 ?_
        refine g_iinc X dX4_skip_59 rfl rfl (by first | exact nI_1 _ | rfl) (by decide) rfl rfl ?_
        refine g_goto (tgt := 2) X dX4_skip_62 rfl (by decide) ?_
        refine GJ.loc [some (.ref a), some (.ref (oM Ω (300 + j))), some (.int (nI (k + 1)))] (lvle_c rfl (lvle_c rfl (lvle_c rfl lvle_e))) ?_
        exact ih (k + 1, a1 + 1, true, vU (vU v1 12 (nI 0)) 11 (nI (a1 + 1))) ⟨by dsimp only; omega, by dsimp only; omega, (i3.w (ok' := true) rfl).a, i4.tr ((PV.u (Or.inr rfl)).tr (PV.u (Or.inl rfl))), i5⟩ (by dsimp only; omega)
      · rw [bh_eq i3.b (by omega), hch.1] at c_27
        rw [skS_n (by omega) c_27] at i5
        have g11 : vU v1 12 (nI 1) 11 = nI a1 := (vU_n (by decide)).trans h11
        refine g_iconst X dX4_skip_30 rfl (v := (nI 1)) rfl ?_
        refine g_goto (tgt := 35) X dX4_skip_31 rfl (by decide) ?_
        refine g_put X dX4_skip_35 rfl in_X4 tyX4_ok nmX4 (ci := 3) rfl 12 (by decide) q1928 (fun _ h => h) rfl rfl rfl rfl mW_a (Nat.le_of_ble_eq_true rfl) mW_u12 ?_
        refine g_aload_n X dX4_skip_38 rfl rfl ?_
        refine g_dup X dX4_skip_39 rfl rfl ?_
        refine g_get X dX4_skip_40 rfl in_X4 (ci := 3) rfl 11 (by decide) q1927 (fun _ h => h) mW_a (gv g11) ?_
        refine g_aload_n X dX4_skip_43 rfl rfl ?_
        refine g_get X dX4_skip_44 rfl in_X4 (ci := 3) rfl 12 (by decide) q1928 (fun _ h => h) mW_a (gv vU_s) ?_
        refine g_if_eq (tgt := 54) X dX4_skip_47 rfl (by decide) (fun c => absurd c (by decide)) (fun c_47 => ?_)
        refine g_iconst X dX4_skip_50 rfl (v := (nI 0)) rfl ?_
        refine g_goto (tgt := 55) X dX4_skip_51 rfl (by decide) ?_
        refine g_iadd X dX4_skip_55 rfl (by first | exact nI_add _ _ | rfl) ?_
        refine g_put X dX4_skip_56 rfl in_X4 tyX4_ok nmX4 (ci := 3) rfl 11 (by decide) q1927 (fun _ h => h) rfl rfl rfl rfl mW_a (Nat.le_of_ble_eq_true rfl) mW_u11 ?_
        refine g_iinc X dX4_skip_59 rfl rfl (by first | exact nI_1 _ | rfl) (by decide) rfl rfl ?_
        refine g_goto (tgt := 2) X dX4_skip_62 rfl (by decide) ?_
        refine GJ.loc [some (.ref a), some (.ref (oM Ω (300 + j))), some (.int (nI (k + 1)))] (lvle_c rfl (lvle_c rfl (lvle_c rfl lvle_e))) ?_
        exact ih (k + 1, a1, false, vU (vU v1 12 (nI 1)) 11 (nI (a1 + 0))) ⟨by dsimp only; omega, i2, (i3.w (ok' := false) rfl).a, i4.tr ((PV.u (Or.inr rfl)).tr (PV.u (Or.inl rfl))), i5⟩ (by dsimp only; omega)
end M14
