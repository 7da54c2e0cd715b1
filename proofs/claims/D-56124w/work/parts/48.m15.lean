/-! MODEL: reading numbers -/
section M15
variable {l : Launch} {Ω : Om} {h : RH} {a : Nat} {ad : Nat → Nat} {v : Nat → Int32} {F : Nat → Nat → Int32} {inp : List Nat} {b : Nat} {ok : Bool}
set_option maxRecDepth 100000
theorem ct_X4_readNumber (hst : l.stackTraces = false) (hd : mDi a ad) (hP : PS v F inp b ok) (hb : b ≤ inp.length) {most : Nat} (h0 : 0 < most) (h4 : most ≤ 4) : CM Ω l yX4_readNumber (ws_ yX4_readNumber cX4_readNumber 4 (some .int)) 7 0 0 [.ref a, .int (nI most)] (hR Ω (mW Ω h a ad v F)) (QV (fun _ : {v' : Nat → Int32 // PS v' F inp (nuS inp most b ok).1 (nuS inp most b ok).2.1 ∧ PV v v'} => some (.int (nI (nuS inp most b ok).2.2))) (fun v' => hR Ω (mW Ω h a ad v'.1 F))) nX := by
  have hll := hP.1.2.1
  have hle := skS_le (cs := sTx 7) (ok := ok) hb
  rw [nuS_R]
  refine CM.of (L := [some (.ref a), some (.int (nI most)), none, none]) hst (by decide) (Nat.le_of_ble_eq_true rfl) rfl ?_
  intro p e s m below meth c X hnm htab
  refine g_aload_n X dX4_readNumber_0 rfl rfl ?_
  refine g_ldcS X (tx := " ") (j := 7) dX4_readNumber_1 rfl (by decide) ?_
  refine g_callV X (ct_X4_skip hst hd hP hb (j := 7) (by decide)) dX4_readNumber_3 rfl (lw_V q2329 q2331 qs61 q76 q2332) hyV_X4_skip (fun H hH => hR.recv X.2.2.2.2.2.2.2.1 hH mW_a rfl) (fun H hH => hH) ⟨Nat.le_of_ble_eq_true rfl, Nat.le_of_ble_eq_true rfl⟩ ⟨Nat.le_of_ble_eq_true rfl, Nat.le_of_ble_eq_true rfl⟩ (Nat.le_of_ble_eq_true rfl) rfl (fun x => ?_)
  obtain ⟨v1, p1, p2⟩ := x
  dsimp only
  generalize hs : skS inp (sTx 7) b ok = s1 at *
  obtain ⟨a1, o1⟩ := s1
  dsimp only at p1 hle ⊢
  have h12 := p1.2.2
  cases o1 with
  | false =>
    have h12 : v1 12 = nI 1 := h12
    have q1 : PS (vU v1 12 (nI 1)) F inp a1 false := p1.w rfl
    refine g_aload_n X dX4_readNumber_6 rfl rfl ?_
    refine g_aload_n X dX4_readNumber_7 rfl rfl ?_
    refine g_get X dX4_readNumber_8 rfl in_X4 (ci := 3) rfl 12 (by decide) q1928 (fun _ h => h) mW_a (gv h12) ?_
    refine g_if_ne (tgt := 21) X dX4_readNumber_11 rfl (by decide) (fun c_11 => ?_) (fun c => absurd c (by decide))
    refine g_iconst X dX4_readNumber_21 rfl (v := (nI 1)) rfl ?_
    refine g_goto (tgt := 26) X dX4_readNumber_22 rfl (by decide) ?_
    refine g_put X dX4_readNumber_26 rfl in_X4 tyX4_ok nmX4 (ci := 3) rfl 12 (by decide) q1928 (fun _ h => h) rfl rfl rfl rfl mW_a (Nat.le_of_ble_eq_true rfl) mW_u12 ?_
    refine g_iconst X dX4_readNumber_29 rfl (v := (nI 0)) rfl ?_
    refine g_istore_n X dX4_readNumber_30 rfl (by decide) rfl rfl ?_
    refine g_iconst X dX4_readNumber_31 rfl (v := (nI 0)) rfl ?_
    refine g_istore_n X dX4_readNumber_32 rfl (by decide) rfl rfl ?_
    refine g_iload_n X dX4_readNumber_33 rfl rfl ?_
    refine g_iload_n X dX4_readNumber_34 rfl rfl ?_
    refine g_icmp_ge (tgt := 79) X dX4_readNumber_35 rfl (by decide) (fun c => absurd ((nI_leI (by omega) (by omega)).mp c) (by omega)) (fun c_35 => ?_)
    refine g_aload_n X dX4_readNumber_38 rfl rfl ?_
    refine g_callV X (ct_X4_isDigit hst hd q1 hle) dX4_readNumber_39 rfl (lw_V q2340 q2342 qs63 q76 q2343) hyV_X4_isDigit (fun H hH => hR.recv X.2.2.2.2.2.2.2.1 hH mW_a rfl) (fun H hH => hH) ⟨Nat.le_of_ble_eq_true rfl, Nat.le_of_ble_eq_true rfl⟩ ⟨Nat.le_of_ble_eq_true rfl, Nat.le_of_ble_eq_true rfl⟩ (Nat.le_of_ble_eq_true rfl) rfl (fun x_39 => ?_)
    refine g_if_eq (tgt := 79) X dX4_readNumber_42 rfl (by decide) (fun c_42 => ?_) (fun c => absurd (bI_n0.mp c) ((fun g => Bool.noConfusion g.1)))
    refine g_iload_n X dX4_readNumber_79 rfl rfl ?_
    refine g_iret X dX4_readNumber_80 rfl (Nat.le_of_ble_eq_true rfl) (Nat.le_of_ble_eq_true rfl) (fun H hH => ⟨⟨_, q1, p2.tr (PV.u (Or.inr rfl))⟩, rfl, hH⟩)
  | true =>
    have h12 : v1 12 = nI 0 := h12
    cases hdg : dgt inp a1 with
    | none =>
      have en : nuR inp most (a1, true) = (a1, false, 0) := by unfold nuR; rw [if_pos rfl]; dsimp only; rw [hdg]
      rw [en]
      have q1 : PS (vU v1 12 (nI 1)) F inp a1 false := p1.w rfl
      refine g_aload_n X dX4_readNumber_6 rfl rfl ?_
      refine g_aload_n X dX4_readNumber_7 rfl rfl ?_
      refine g_get X dX4_readNumber_8 rfl in_X4 (ci := 3) rfl 12 (by decide) q1928 (fun _ h => h) mW_a (gv h12) ?_
      refine g_if_ne (tgt := 21) X dX4_readNumber_11 rfl (by decide) (fun c => absurd rfl c) (fun c_11 => ?_)
      refine g_aload_n X dX4_readNumber_14 rfl rfl ?_
      refine g_callV X (ct_X4_isDigit hst hd p1 hle) dX4_readNumber_15 rfl (lw_V q2340 q2342 qs63 q76 q2343) hyV_X4_isDigit (fun H hH => hR.recv X.2.2.2.2.2.2.2.1 hH mW_a rfl) (fun H hH => hH) ⟨Nat.le_of_ble_eq_true rfl, Nat.le_of_ble_eq_true rfl⟩ ⟨Nat.le_of_ble_eq_true rfl, Nat.le_of_ble_eq_true rfl⟩ (Nat.le_of_ble_eq_true rfl) rfl (fun x_15 => ?_)
      refine g_if_ne (tgt := 25) X dX4_readNumber_18 rfl (by decide) (fun c => absurd (bI_n0.mp c) ((fun g => g.2 hdg))) (fun c_18 => ?_)
      refine g_iconst X dX4_readNumber_21 rfl (v := (nI 1)) rfl ?_
      refine g_goto (tgt := 26) X dX4_readNumber_22 rfl (by decide) ?_
      refine g_put X dX4_readNumber_26 rfl in_X4 tyX4_ok nmX4 (ci := 3) rfl 12 (by decide) q1928 (fun _ h => h) rfl rfl rfl rfl mW_a (Nat.le_of_ble_eq_true rfl) mW_u12 ?_
      refine g_iconst X dX4_readNumber_29 rfl (v := (nI 0)) rfl ?_
      refine g_istore_n X dX4_readNumber_30 rfl (by decide) rfl rfl ?_
      refine g_iconst X dX4_readNumber_31 rfl (v := (nI 0)) rfl ?_
      refine g_istore_n X dX4_readNumber_32 rfl (by decide) rfl rfl ?_
      refine g_iload_n X dX4_readNumber_33 rfl rfl ?_
      refine g_iload_n X dX4_readNumber_34 rfl rfl ?_
      refine g_icmp_ge (tgt := 79) X dX4_readNumber_35 rfl (by decide) (fun c => absurd ((nI_leI (by omega) (by omega)).mp c) (by omega)) (fun c_35 => ?_)
      refine g_aload_n X dX4_readNumber_38 rfl rfl ?_
      refine g_callV X (ct_X4_isDigit hst hd q1 hle) dX4_readNumber_39 rfl (lw_V q2340 q2342 qs63 q76 q2343) hyV_X4_isDigit (fun H hH => hR.recv X.2.2.2.2.2.2.2.1 hH mW_a rfl) (fun H hH => hH) ⟨Nat.le_of_ble_eq_true rfl, Nat.le_of_ble_eq_true rfl⟩ ⟨Nat.le_of_ble_eq_true rfl, Nat.le_of_ble_eq_true rfl⟩ (Nat.le_of_ble_eq_true rfl) rfl (fun x_39 => ?_)
      refine g_if_eq (tgt := 79) X dX4_readNumber_42 rfl (by decide) (fun c_42 => ?_) (fun c => absurd (bI_n0.mp c) ((fun g => Bool.noConfusion g.1)))
      refine g_iload_n X dX4_readNumber_79 rfl rfl ?_
      refine g_iret X dX4_readNumber_80 rfl (Nat.le_of_ble_eq_true rfl) (Nat.le_of_ble_eq_true rfl) (fun H hH => ⟨⟨_, q1, p2.tr (PV.u (Or.inr rfl))⟩, rfl, hH⟩)
    | some d0 =>
      generalize hfin : rdD inp most a1 0 = fin
      have en : nuR inp most (a1, true) = (fin.1, true, fin.2) := by unfold nuR; rw [if_pos rfl]; dsimp only; rw [hdg]; dsimp only; rw [hfin]
      rw [en]
      have q1 : PS (vU v1 12 (nI 0)) F inp a1 true := p1.w rfl
      refine g_aload_n X dX4_readNumber_6 rfl rfl ?_
      refine g_aload_n X dX4_readNumber_7 rfl rfl ?_
      refine g_get X dX4_readNumber_8 rfl in_X4 (ci := 3) rfl 12 (by decide) q1928 (fun _ h => h) mW_a (gv h12) ?_
      refine g_if_ne (tgt := 21) X dX4_readNumber_11 rfl (by decide) (fun c => absurd rfl c) (fun c_11 => ?_)
      refine g_aload_n X dX4_readNumber_14 rfl rfl ?_
      refine g_callV X (ct_X4_isDigit hst hd p1 hle) dX4_readNumber_15 rfl (lw_V q2340 q2342 qs63 q76 q2343) hyV_X4_isDigit (fun H hH => hR.recv X.2.2.2.2.2.2.2.1 hH mW_a rfl) (fun H hH => hH) ⟨Nat.le_of_ble_eq_true rfl, Nat.le_of_ble_eq_true rfl⟩ ⟨Nat.le_of_ble_eq_true rfl, Nat.le_of_ble_eq_true rfl⟩ (Nat.le_of_ble_eq_true rfl) rfl (fun x_15 => ?_)
      refine g_if_ne (tgt := 25) X dX4_readNumber_18 rfl (by decide) (fun c_18 => ?_) (fun c => absurd (⟨rfl, by rw [hdg]; simp⟩) (bI_0.mp c))
      refine g_iconst X dX4_readNumber_25 rfl (v := (nI 0)) rfl ?_
      refine g_put X dX4_readNumber_26 rfl in_X4 tyX4_ok nmX4 (ci := 3) rfl 12 (by decide) q1928 (fun _ h => h) rfl rfl rfl rfl mW_a (Nat.le_of_ble_eq_true rfl) mW_u12 ?_
      refine g_iconst X dX4_readNumber_29 rfl (v := (nI 0)) rfl ?_
      refine g_istore_n X dX4_readNumber_30 rfl (by decide) rfl rfl ?_
      refine g_iconst X dX4_readNumber_31 rfl (v := (nI 0)) rfl ?_
      refine g_istore_n X dX4_readNumber_32 rfl (by decide) rfl rfl ?_
      refine GJ.loc ((fun x : Nat × Nat × Nat × (Nat → Int32) => [some (.ref a), some (.int (nI most)), some (.int (nI x.2.2.1)), some (.int (nI x.1))]) (0, a1, 0, vU v1 12 (nI 0))) (lvle_c rfl (lvle_c rfl (lvle_c rfl (lvle_c rfl lvle_e)))) ?_
      refine GJ.loop (fun x : Nat × Nat × Nat × (Nat → Int32) => hR Ω (mW Ω h a ad x.2.2.2 F)) (fun _ => 0) (fun _ => 0) (fun x : Nat × Nat × Nat × (Nat → Int32) => [some (.ref a), some (.int (nI most)), some (.int (nI x.2.2.1)), some (.int (nI x.1))]) (fun x => most - x.1) (fun x => x.1 ≤ most ∧ x.2.1 ≤ inp.length ∧ PS x.2.2.2 F inp x.2.1 true ∧ PV v x.2.2.2 ∧ x.2.2.1 < 10 ^ x.1 ∧ rdD inp (most - x.1) x.2.1 x.2.2.1 = fin) (0, a1, 0, vU v1 12 (nI 0)) ⟨Nat.zero_le _, hle, q1, p2.tr (PV.u (Or.inr rfl)), (show (0 : Nat) < 10 ^ 0 by decide), hfin⟩ ?_
      rintro ⟨k, a2, n2, v2⟩ ⟨i1, i2, i3, i4, i5, i6⟩ ih
      dsimp only at i1 i2 i3 i4 i5 i6 ih ⊢
      have hn2 : n2 < 10 ^ 4 := Nat.lt_of_lt_of_le i5 (Nat.pow_le_pow_right (by omega) (by omega))
      refine g_iload_n X dX4_readNumber_33 rfl rfl ?_
      refine g_iload_n X dX4_readNumber_34 rfl rfl ?_
      refine g_icmp_ge (tgt := 79) X dX4_readNumber_35 rfl (by decide) (fun c_35 => ?_) (fun c_35 => ?_)
      · rw [nI_leI (by omega) (by omega)] at c_35
        rw [show most - k = 0 by omega] at i6
        have e6 : fin = (a2, n2) := i6.symm
        rw [e6]
        refine g_iload_n X dX4_readNumber_79 rfl rfl ?_
        refine g_iret X dX4_readNumber_80 rfl (Nat.le_of_ble_eq_true rfl) (Nat.le_of_ble_eq_true rfl) (fun H hH => ⟨⟨v2, i3, i4⟩, rfl, hH⟩)
      · rw [nI_leI (by omega) (by omega)] at c_35
        cases hdg2 : dgt inp a2 with
        | none =>
          rw [rdD_none hdg2] at i6
          rw [← i6]
          refine g_aload_n X dX4_readNumber_38 rfl rfl ?_
          refine g_callV X (ct_X4_isDigit hst hd i3 i2) dX4_readNumber_39 rfl (lw_V q2340 q2342 qs63 q76 q2343) hyV_X4_isDigit (fun H hH => hR.recv X.2.2.2.2.2.2.2.1 hH mW_a rfl) (fun H hH => hH) ⟨Nat.le_of_ble_eq_true rfl, Nat.le_of_ble_eq_true rfl⟩ ⟨Nat.le_of_ble_eq_true rfl, Nat.le_of_ble_eq_true rfl⟩ (Nat.le_of_ble_eq_true rfl) rfl (fun x_39 => ?_)
          refine g_if_eq (tgt := 79) X dX4_readNumber_42 rfl (by decide) (fun c_42 => ?_) (fun c => absurd (bI_n0.mp c) ((fun g => g.2 hdg2)))
          refine g_iload_n X dX4_readNumber_79 rfl rfl ?_
          refine g_iret X dX4_readNumber_80 rfl (Nat.le_of_ble_eq_true rfl) (Nat.le_of_ble_eq_true rfl) (fun H hH => ⟨⟨v2, i3, i4⟩, rfl, hH⟩)
        | some d =>
          obtain ⟨u1, u2, u3⟩ := dgt_some hdg2
          rw [show most - k = (most - (k + 1)) + 1 by omega, rdD_some hdg2] at i6
          have h11 := i3.2.1
          have h5 := (i3.1.2.2 a2 u1).1
          rw [u2] at h5
          have hn3 : 10 * n2 + d < 10 ^ (k + 1) := by rw [Nat.pow_succ]; omega
          refine g_aload_n X dX4_readNumber_38 rfl rfl ?_
          refine g_callV X (ct_X4_isDigit hst hd i3 i2) dX4_readNumber_39 rfl (lw_V q2340 q2342 qs63 q76 q2343) hyV_X4_isDigit (fun H hH => hR.recv X.2.2.2.2.2.2.2.1 hH mW_a rfl) (fun H hH => hH) ⟨Nat.le_of_ble_eq_true rfl, Nat.le_of_ble_eq_true rfl⟩ ⟨Nat.le_of_ble_eq_true rfl, Nat.le_of_ble_eq_true rfl⟩ (Nat.le_of_ble_eq_true rfl) rfl (fun x_39 => ?_)
          refine g_if_eq (tgt := 79) X dX4_readNumber_42 rfl (by decide) (fun c => absurd (⟨rfl, by rw [hdg2]; simp⟩) (bI_0.mp c)) (fun c_42 => ?_)
          refine g_bipush X dX4_readNumber_45 rfl (v := (nI 10)) (by decide) ?_
          refine g_iload_n X dX4_readNumber_47 rfl rfl ?_
          refine g_imul X dX4_readNumber_48 rfl (by first | exact pk_mul _ _ | rfl) ?_
          refine g_aload_n X dX4_readNumber_49 rfl rfl ?_
          refine g_get X dX4_readNumber_50 rfl in_X4 (ci := 3) rfl 9 (by decide) q1925 (fun _ h => h) mW_a rfl ?_
          refine g_aload_n X dX4_readNumber_53 rfl rfl ?_
          refine g_get X dX4_readNumber_54 rfl in_X4 (ci := 3) rfl 11 (by decide) q1927 (fun _ h => h) mW_a (gv h11) ?_
          refine g_cal X dX4_readNumber_57 rfl (mW_5 hd) (vp_in_nI (by omega) (by decide)) (ix_v (by omega) h5) ?_
          refine g_iadd X dX4_readNumber_58 rfl (by first | exact nI_add _ _ | rfl) ?_
          refine g_bipush X dX4_readNumber_59 rfl (v := (nI 48)) (by decide) ?_
          refine g_isub X dX4_readNumber_61 rfl ((pk_sub (by omega)).trans (congrArg nI (show 10 * n2 + (48 + d) - 48 = 10 * n2 + d by omega))) ?_
          refine g_istore_n X dX4_readNumber_62 rfl (by decide) rfl rfl ?_
          refine g_aload_n X dX4_readNumber_63 rfl rfl ?_
          refine g_dup X dX4_readNumber_64 rfl rfl ?_
          refine g_get X dX4_readNumber_65 rfl in_X4 (ci := 3) rfl 11 (by decide) q1927 (fun _ h => h) mW_a (gv h11) ?_
          refine g_iconst X dX4_readNumber_68 rfl (v := (nI 1)) rfl ?_
          refine g_iadd X dX4_readNumber_69 rfl (by first | exact nI_add _ _ | rfl) ?_
          refine g_put X dX4_readNumber_70 rfl in_X4 tyX4_ok nmX4 (ci := 3) rfl 11 (by decide) q1927 (fun _ h => h) rfl rfl rfl rfl mW_a (Nat.le_of_ble_eq_true rfl) mW_u11 ?_
          refine g_iinc X dX4_readNumber_73 rfl rfl (by first | exact nI_1 _ | rfl) (by decide) rfl rfl ?_
          refine g_goto (tgt := 33) X dX4_readNumber_76 rfl (by decide) ?_
          refine GJ.loc [some (.ref a), some (.int (nI most)), some (.int (nI (10 * n2 + d))), some (.int (nI (k + 1)))] (lvle_c rfl (lvle_c rfl (lvle_c rfl (lvle_c rfl lvle_e)))) ?_
          exact ih (k + 1, a2 + 1, 10 * n2 + d, vU v2 11 (nI (a2 + 1))) ⟨by dsimp only; omega, by dsimp only; omega, i3.a, i4.tr (PV.u (Or.inl rfl)), hn3, i6⟩ (by dsimp only; omega)
end M15
