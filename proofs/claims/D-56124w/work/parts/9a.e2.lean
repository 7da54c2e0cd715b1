/-! STATE: runs, the sweep, the bookings of a slide, gaps, the table -/
section E2
variable {l : Launch} {Ω : Om} {Γ0 Γ Γ' : LH} {a q y : Nat} {A : Ad} {σ : St} {xs : List Nat} {m0 : Int32}
set_option maxRecDepth 100000
/-- the run behind the first k finishes -/
noncomputable def rnB (σ : St) (k : Nat) : Nat := match k with | 0 => 0 | j + 1 => rnF σ j
theorem ct_X2_photosByRuns (hst : l.stackTraces = false) (hS : SR Ω Γ0 Γ a A σ) (hB : Bd σ) : CM Ω l yX2_photosByRuns (ws_ yX2_photosByRuns cX2_photosByRuns 5 (some .int)) 10 0 0 [.ref a] (hL Ω Γ) (QP (some (.int (nI (rnP σ (nF σ))))) (hL Ω Γ)) nX := by
  obtain ⟨mL, hmL⟩ := hS.lL
  have b1 := hB.1
  have hcF := hS.cF
  refine CM.of (L := [some (.ref a), none, none, none, none]) hst (by decide) (Nat.le_of_ble_eq_true rfl) rfl ?_
  intro p e s m below meth c X hnm htab
  refine g_iconst X dX2_photosByRuns_0 rfl (v := (nI 0)) rfl ?_
  refine g_istore_n X dX2_photosByRuns_1 rfl (by decide) rfl rfl ?_
  refine g_iconst X dX2_photosByRuns_2 rfl (v := (nI 0)) rfl ?_
  refine g_istore_n X dX2_photosByRuns_3 rfl (by decide) rfl rfl ?_
  refine g_iconst X dX2_photosByRuns_4 rfl (v := (nI 0)) rfl ?_
  refine g_istore_n X dX2_photosByRuns_5 rfl (by decide) rfl rfl ?_
  refine GJ.loc ((fun (k : Nat) => [some (.ref a), some (.int (nI (rnP σ k))), some (.int (nI (rnB σ k))), some (.int (nI k)), none]) 0) (lvle_c rfl (lvle_c rfl (lvle_c rfl (lvle_c rfl (lvle_n lvle_e))))) ?_
  refine GJ.loopP (fun (k : Nat) => [some (.ref a), some (.int (nI (rnP σ k))), some (.int (nI (rnB σ k))), some (.int (nI k)), none]) (fun (k : Nat) => (nF σ - k)) (fun (k : Nat) => (k ≤ nF σ)) 0 (Nat.zero_le _) ?_
  intro k hk ih
  refine g_iload_n X dX2_photosByRuns_6 rfl rfl ?_
  refine g_aload_n X dX2_photosByRuns_7 rfl rfl ?_
  refine l_get X dX2_photosByRuns_8 rfl in_X2 (ci := 1) rfl 3 (by decide) q170 (fun _ h => h) hS.st rfl ?_
  refine g_callV X (ct_X3_size hst hS.lF hmL) dX2_photosByRuns_11 rfl (lw_V q473 q461 q462 q71 q463) hyV_X3_size (fun H hH => hL.recv X.2.2.2.2.2.2.2.1 hH (hS.lF) rfl) (fun H hH => hH) ⟨Nat.le_of_ble_eq_true rfl, Nat.le_of_ble_eq_true rfl⟩ ⟨by first | exact Nat.le_of_ble_eq_true rfl | omega | (dsimp only [rmD]; omega), by first | exact Nat.le_of_ble_eq_true rfl | omega | (dsimp only [rmD]; omega)⟩ (Nat.le_of_ble_eq_true rfl) rfl (fun x_11 => ?_)
  refine g_icmp_ge (tgt := 84) X dX2_photosByRuns_14 rfl (by decide) (fun c_14 => ?_) (fun c_14 => ?_)
  · rw [nI_leI (by omega) (by omega)] at c_14
    obtain rfl : k = nF σ := by omega
    refine g_iload_n X dX2_photosByRuns_84 rfl rfl ?_
    refine g_iret X dX2_photosByRuns_85 rfl (by first | exact Nat.le_of_ble_eq_true rfl | omega | (dsimp only [rmD]; omega)) (by first | exact Nat.le_of_ble_eq_true rfl | omega | (dsimp only [rmD]; omega)) (fun H hH => ⟨(), rfl, hH⟩)
  · rw [nI_leI (by omega) (by omega)] at c_14
    have hlt : k < nF σ := by omega
    cases k with
    | zero =>
      refine g_iload_n X dX2_photosByRuns_17 rfl rfl ?_
      refine g_if_le (tgt := 58) X dX2_photosByRuns_18 rfl (by decide) (fun c_18 => ?_) (fun c => absurd (by decide) c)
      refine g_iconst X dX2_photosByRuns_58 rfl (v := (nI 0)) rfl ?_
      refine g_istore X dX2_photosByRuns_59 rfl (by decide) rfl rfl ?_
      refine g_iload X dX2_photosByRuns_61 rfl rfl ?_
      refine g_if_eq (tgt := 72) X dX2_photosByRuns_63 rfl (by decide) (fun c_63 => ?_) (fun c => absurd rfl c)
      refine g_iconst X dX2_photosByRuns_72 rfl (v := (nI 0)) rfl ?_
      refine g_istore_n X dX2_photosByRuns_73 rfl (by decide) rfl rfl ?_
      refine g_iload_n X dX2_photosByRuns_74 rfl rfl ?_
      refine g_iload_n X dX2_photosByRuns_75 rfl rfl ?_
      refine g_iadd X dX2_photosByRuns_76 rfl (by first | exact nI_add _ _ | rfl) ?_
      refine g_istore_n X dX2_photosByRuns_77 rfl (by decide) rfl rfl ?_
      refine g_iinc X dX2_photosByRuns_78 rfl rfl (by first | exact nI_1 _ | rfl) (by decide) rfl rfl ?_
      refine g_goto (tgt := 6) X dX2_photosByRuns_81 rfl (by decide) ?_
      refine GJ.loc [some (.ref a), some (.int (nI (rnP σ 1))), some (.int (nI (rnB σ 1))), some (.int (nI 1)), none] (lvle_c rfl (lvle_c rfl (lvle_c rfl (lvle_c rfl (lvle_n lvle_e))))) ?_
      exact ih 1 (by omega) (by omega)
    | succ j =>
      obtain ⟨zb, z1, z2⟩ := hS.fi hlt
      obtain ⟨yb, y1, y2⟩ := hS.fi (i := j) (by omega)
      have fz := (hB.2.2.2.2.2 _ hlt).2.2
      have fy := (hB.2.2.2.2.2 j (by omega)).2.2
      have e1 : rnF σ (j + 1) = cH (fiM σ (j + 1) = fiM σ j) (rnF σ j + 1) 0 := rfl
      refine g_iload_n X dX2_photosByRuns_17 rfl rfl ?_
      refine g_if_le (tgt := 58) X dX2_photosByRuns_18 rfl (by decide) (fun c => absurd ((nI_le0 (by omega)).mp c) (by omega)) (fun c_18 => ?_)
      refine g_aload_n X dX2_photosByRuns_21 rfl rfl ?_
      refine l_get X dX2_photosByRuns_22 rfl in_X2 (ci := 1) rfl 3 (by decide) q170 (fun _ h => h) hS.st rfl ?_
      refine g_iload_n X dX2_photosByRuns_25 rfl rfl ?_
      refine g_callV X (ct_X3_get hst hS.lF hmL (by omega) z1) dX2_photosByRuns_26 rfl (lw_V q474 q475 q476 q71 q477) hyV_X3_get (fun H hH => hL.recv X.2.2.2.2.2.2.2.1 hH (hS.lF) rfl) (fun H hH => hH) ⟨Nat.le_of_ble_eq_true rfl, Nat.le_of_ble_eq_true rfl⟩ ⟨by first | exact Nat.le_of_ble_eq_true rfl | omega | (dsimp only [rmD]; omega), by first | exact Nat.le_of_ble_eq_true rfl | omega | (dsimp only [rmD]; omega)⟩ (Nat.le_of_ble_eq_true rfl) rfl (fun x_26 => ?_)
      refine g_cast X dX2_photosByRuns_29 rfl q479 (fun H hH => hL.recv X.2.2.2.2.2.2.2.1 hH (z2) rfl) ?_
      refine l_getN X dX2_photosByRuns_32 rfl in_X9 (ci := 8) rfl 2 (by decide) "SlidePark" q1203 (fun _ h => h) z2 rfl ?_
      refine g_aload_n X dX2_photosByRuns_35 rfl rfl ?_
      refine l_get X dX2_photosByRuns_36 rfl in_X2 (ci := 1) rfl 3 (by decide) q170 (fun _ h => h) hS.st rfl ?_
      refine g_iload_n X dX2_photosByRuns_39 rfl rfl ?_
      refine g_iconst X dX2_photosByRuns_40 rfl (v := (nI 1)) rfl ?_
      refine g_isub X dX2_photosByRuns_41 rfl (pk_sub (by omega)) ?_
      refine g_callV X (ct_X3_get hst hS.lF hmL (by omega) (show (laF A)[j + 1 - 1]? = some yb from y1)) dX2_photosByRuns_42 rfl (lw_V q474 q475 q476 q71 q477) hyV_X3_get (fun H hH => hL.recv X.2.2.2.2.2.2.2.1 hH (hS.lF) rfl) (fun H hH => hH) ⟨Nat.le_of_ble_eq_true rfl, Nat.le_of_ble_eq_true rfl⟩ ⟨by first | exact Nat.le_of_ble_eq_true rfl | omega | (dsimp only [rmD]; omega), by first | exact Nat.le_of_ble_eq_true rfl | omega | (dsimp only [rmD]; omega)⟩ (Nat.le_of_ble_eq_true rfl) rfl (fun x_42 => ?_)
      refine g_cast X dX2_photosByRuns_45 rfl q479 (fun H hH => hL.recv X.2.2.2.2.2.2.2.1 hH (y2) rfl) ?_
      refine l_getN X dX2_photosByRuns_48 rfl in_X9 (ci := 8) rfl 2 (by decide) "SlidePark" q1203 (fun _ h => h) y2 rfl ?_
      refine g_icmp_ne (tgt := 58) X dX2_photosByRuns_51 rfl (by decide) (fun c_51 => ?_) (fun c_51 => ?_)
      · rw [nI_eq (by omega) (by omega)] at c_51
        rw [cH_f c_51] at e1
        refine g_iconst X dX2_photosByRuns_58 rfl (v := (nI 0)) rfl ?_
        refine g_istore X dX2_photosByRuns_59 rfl (by decide) rfl rfl ?_
        refine g_iload X dX2_photosByRuns_61 rfl rfl ?_
        refine g_if_eq (tgt := 72) X dX2_photosByRuns_63 rfl (by decide) (fun c_63 => ?_) (fun c => absurd rfl c)
        refine g_iconst X dX2_photosByRuns_72 rfl (v := (nI 0)) rfl ?_
        refine g_istore_n X dX2_photosByRuns_73 rfl (by decide) rfl rfl ?_
        refine g_iload_n X dX2_photosByRuns_74 rfl rfl ?_
        refine g_iload_n X dX2_photosByRuns_75 rfl rfl ?_
        refine g_iadd X dX2_photosByRuns_76 rfl (by first | exact nI_add _ _ | rfl) ?_
        refine g_istore_n X dX2_photosByRuns_77 rfl (by decide) rfl rfl ?_
        refine g_iinc X dX2_photosByRuns_78 rfl rfl (by first | exact nI_1 _ | rfl) (by decide) rfl rfl ?_
        refine g_goto (tgt := 6) X dX2_photosByRuns_81 rfl (by decide) ?_
        refine GJ.loc [some (.ref a), some (.int (nI (rnP σ (j + 1 + 1)))), some (.int (nI (rnB σ (j + 1 + 1)))), some (.int (nI (j + 1 + 1))), none] (lvle_c rfl (lvle_c (by rw [show rnP σ (j + 1 + 1) = rnP σ (j + 1) + rnF σ (j + 1) from rfl, e1]; try rfl) (lvle_c (by rw [show rnB σ (j + 1 + 1) = rnF σ (j + 1) from rfl, e1]; try rfl) (lvle_c rfl (lvle_n lvle_e))))) ?_
        exact ih (j + 1 + 1) (by omega) (by omega)
      · rw [nI_eq (by omega) (by omega)] at c_51
        rw [cH_t c_51] at e1
        refine g_iconst X dX2_photosByRuns_54 rfl (v := (nI 1)) rfl ?_
        refine g_goto (tgt := 59) X dX2_photosByRuns_55 rfl (by decide) ?_
        refine g_istore X dX2_photosByRuns_59 rfl (by decide) rfl rfl ?_
        refine g_iload X dX2_photosByRuns_61 rfl rfl ?_
        refine g_if_eq (tgt := 72) X dX2_photosByRuns_63 rfl (by decide) (fun c => absurd c (by decide)) (fun c_63 => ?_)
        refine g_iload_n X dX2_photosByRuns_66 rfl rfl ?_
        refine g_iconst X dX2_photosByRuns_67 rfl (v := (nI 1)) rfl ?_
        refine g_iadd X dX2_photosByRuns_68 rfl (by first | exact nI_add _ _ | rfl) ?_
        refine g_goto (tgt := 73) X dX2_photosByRuns_69 rfl (by decide) ?_
        refine g_istore_n X dX2_photosByRuns_73 rfl (by decide) rfl rfl ?_
        refine g_iload_n X dX2_photosByRuns_74 rfl rfl ?_
        refine g_iload_n X dX2_photosByRuns_75 rfl rfl ?_
        refine g_iadd X dX2_photosByRuns_76 rfl (by first | exact nI_add _ _ | rfl) ?_
        refine g_istore_n X dX2_photosByRuns_77 rfl (by decide) rfl rfl ?_
        refine g_iinc X dX2_photosByRuns_78 rfl rfl (by first | exact nI_1 _ | rfl) (by decide) rfl rfl ?_
        refine g_goto (tgt := 6) X dX2_photosByRuns_81 rfl (by decide) ?_
        refine GJ.loc [some (.ref a), some (.int (nI (rnP σ (j + 1 + 1)))), some (.int (nI (rnB σ (j + 1 + 1)))), some (.int (nI (j + 1 + 1))), none] (lvle_c rfl (lvle_c (by rw [show rnP σ (j + 1 + 1) = rnP σ (j + 1) + rnF σ (j + 1) from rfl, e1]; try rfl) (lvle_c (by rw [show rnB σ (j + 1 + 1) = rnF σ (j + 1) from rfl, e1]; try rfl) (lvle_c rfl (lvle_n lvle_e))))) ?_
        exact ih (j + 1 + 1) (by omega) (by omega)
theorem sw_ix {t m x : Nat} (h : x + m = t + 9) : nI t - (nI m - nI 9) = nI x := by
  rw [Int32.sub_eq_add_neg, Int32.neg_sub, Int32.sub_eq_add_neg, ← Int32.add_assoc, nI_add, ← h, ← nI_add, Int32.add_assoc, Int32.add_right_neg, Int32.add_zero]
theorem ct_X2_mostAtOnceBySweep (hst : l.stackTraces = false) (hS : SR Ω Γ0 Γ a A σ) (hB : Bd σ) (hN : NE σ) : CM Ω l yX2_mostAtOnceBySweep (ws_ yX2_mostAtOnceBySweep cX2_mostAtOnceBySweep 6 (some .int)) 10 1 140 [.ref a] (hL Ω Γ) (QV (fun _ : {G : LH // Ex Γ G} => some (.int (nI (mxF (fun i => oNX σ (nB σ) (i + 1)) 140)))) (fun G => hL Ω G.1)) nX := by
  have b1 := hB.1
  have hcB := hS.cB
  have hix : ∀ k, k < nB σ → isX σ k < ieX σ k := fun k hk => (NE_ix hN hB hk).1
  refine CM.of (L := [some (.ref a), none, none, none, none, none]) hst (by decide) (Nat.le_of_ble_eq_true rfl) rfl ?_
  intro p e s m below meth c X hnm htab
  refine g_aload_n X dX2_mostAtOnceBySweep_0 rfl rfl ?_
  refine l_get X dX2_mostAtOnceBySweep_1 rfl in_X2 (ci := 1) rfl 4 (by decide) q172 (fun _ h => h) hS.st rfl ?_
  refine g_bipush X dX2_mostAtOnceBySweep_4 rfl (v := (nI 9)) (by decide) ?_
  refine g_isub X dX2_mostAtOnceBySweep_6 rfl rfl ?_
  refine g_istore_n X dX2_mostAtOnceBySweep_7 rfl (by decide) rfl rfl ?_
  refine g_sipush X dX2_mostAtOnceBySweep_8 rfl (v := (nI 140)) (by decide) ?_
  refine l_newa_int X dX2_mostAtOnceBySweep_11 rfl (by decide) rfl (by decide) (by first | exact Nat.le_of_ble_eq_true rfl | omega | (dsimp only [rmD]; omega)) (by first | exact Nat.le_of_ble_eq_true rfl | omega | (dsimp only [rmD]; omega)) (fun qa na => ?_)
  refine g_astore_n X dX2_mostAtOnceBySweep_13 rfl (by decide) rfl rfl ?_
  refine g_iconst X dX2_mostAtOnceBySweep_14 rfl (v := (nI 0)) rfl ?_
  refine g_istore_n X dX2_mostAtOnceBySweep_15 rfl (by decide) rfl rfl ?_
  refine GJ.imp (I' := (fun k : Nat => hL Ω (hu Γ qa (.inl (cI Ω 0 140 (swA σ k))))) 0) (fun H hH => hH) ?_
  refine GJ.loc ((fun k : Nat => [some (.ref a), some (.int (nI (sM σ) - nI 9)), some (.ref qa), some (.int (nI k)), none, none]) 0) (lvle_c rfl (lvle_c rfl (lvle_c rfl (lvle_c rfl (lvle_n (lvle_n lvle_e)))))) ?_
  refine GJ.loop (fun k : Nat => hL Ω (hu Γ qa (.inl (cI Ω 0 140 (swA σ k))))) (fun _ => 1) (fun _ => 140) (fun k : Nat => [some (.ref a), some (.int (nI (sM σ) - nI 9)), some (.ref qa), some (.int (nI k)), none, none]) (fun k => nB σ - k) (fun k => k ≤ nB σ) 0 (Nat.zero_le _) ?_
  intro k hk ih
  try dsimp only at hk ih ⊢
  have S1 : SR Ω Γ0 (hu Γ qa (.inl (cI Ω 0 140 (swA σ k)))) a A σ := hS.new na
  obtain ⟨mB, hmB⟩ := S1.lB
  refine g_iload_n X dX2_mostAtOnceBySweep_16 rfl rfl ?_
  refine g_aload_n X dX2_mostAtOnceBySweep_17 rfl rfl ?_
  refine l_get X dX2_mostAtOnceBySweep_18 rfl in_X2 (ci := 1) rfl 2 (by decide) q168 (fun _ h => h) S1.st rfl ?_
  refine g_callV X (ct_J2_size hst hmB) dX2_mostAtOnceBySweep_21 rfl (lw_V q293 q270 q271 q70 q272) hyV_J2_size (fun H hH => hL.recvL X.2.2.2.2.2.2.2.1 hH (hmB)) (fun H hH => hH) ⟨Nat.le_of_ble_eq_true rfl, Nat.le_of_ble_eq_true rfl⟩ ⟨by first | exact Nat.le_of_ble_eq_true rfl | omega | (dsimp only [rmD]; omega), by first | exact Nat.le_of_ble_eq_true rfl | omega | (dsimp only [rmD]; omega)⟩ (Nat.le_of_ble_eq_true rfl) rfl (fun x_21 => ?_)
  refine g_icmp_ge (tgt := 77) X dX2_mostAtOnceBySweep_24 rfl (by decide) (fun c_24 => ?_) (fun c_24 => ?_)
  · rw [nI_leI (by omega) (by omega)] at c_24
    obtain rfl : k = nB σ := by omega
    clear ih
    refine g_iconst X dX2_mostAtOnceBySweep_77 rfl (v := (nI 0)) rfl ?_
    refine g_istore_n X dX2_mostAtOnceBySweep_78 rfl (by decide) rfl rfl ?_
    refine g_iconst X dX2_mostAtOnceBySweep_79 rfl (v := (nI 0)) rfl ?_
    refine g_istore X dX2_mostAtOnceBySweep_80 rfl (by decide) rfl rfl ?_
    refine g_iconst X dX2_mostAtOnceBySweep_82 rfl (v := (nI 0)) rfl ?_
    refine g_istore X dX2_mostAtOnceBySweep_83 rfl (by decide) rfl rfl ?_
    refine GJ.loc ((fun i : Nat => [some (.ref a), some (.int (nI (sM σ) - nI 9)), some (.ref qa), some (.int (nI (mxF (fun i => oNX σ (nB σ) (i + 1)) i))), some (.int (nI (oNX σ (nB σ) i))), some (.int (nI i))]) 0) (lvle_c rfl (lvle_c rfl (lvle_c rfl (lvle_c rfl (lvle_c (by unfold oNX; rw [cN_none (fun k _ h => absurd h.1 (Nat.not_lt_zero _))]; try rfl) (lvle_c rfl lvle_e)))))) ?_
    refine GJ.loopP (fun i : Nat => [some (.ref a), some (.int (nI (sM σ) - nI 9)), some (.ref qa), some (.int (nI (mxF (fun i => oNX σ (nB σ) (i + 1)) i))), some (.int (nI (oNX σ (nB σ) i))), some (.int (nI i))]) (fun i => 140 - i) (fun i => i ≤ 140) 0 (Nat.zero_le _) ?_
    intro i hi ih
    try dsimp only at hi ih ⊢
    have hq : hu Γ qa (.inl (cI Ω 0 140 (swA σ (nB σ)))) qa = some (.inl (cI Ω 0 140 (swA σ (nB σ)))) := hu_s _ _ _
    have m12 : ∀ n, oNX σ (nB σ) n ≤ 12 := fun n => Nat.le_trans (cN_le _ _) b1.2.2.1
    have x12 : mxF (fun i => oNX σ (nB σ) (i + 1)) i ≤ 12 := mxF_le (fun j _ => m12 _)
    have o12 := m12 (i + 1)
    have ev : nI (oNX σ (nB σ) i) + swA σ (nB σ) i = nI (oNX σ (nB σ) (i + 1)) := by rw [← psX_sw hix (Nat.le_refl _), ← psX_sw hix (Nat.le_refl _), psX_s]
    refine g_iload X dX2_mostAtOnceBySweep_85 rfl rfl ?_
    refine g_aload_n X dX2_mostAtOnceBySweep_87 rfl rfl ?_
    refine l_alen X (t := 0) dX2_mostAtOnceBySweep_88 rfl hq rfl (show _ = nI 140 from rfl) ?_
    refine g_icmp_ge (tgt := 114) X dX2_mostAtOnceBySweep_89 rfl (by decide) (fun c_89 => ?_) (fun c_89 => ?_)
    · rw [nI_leI (by omega) (by omega)] at c_89
      obtain rfl : i = 140 := by omega
      refine g_iload_n X dX2_mostAtOnceBySweep_114 rfl rfl ?_
      refine g_iret X dX2_mostAtOnceBySweep_115 rfl (by first | exact Nat.le_of_ble_eq_true rfl | omega | (dsimp only [rmD]; omega)) (by first | exact Nat.le_of_ble_eq_true rfl | omega | (dsimp only [rmD]; omega)) (fun H hH => ⟨⟨_, Ex.new na⟩, rfl, hH⟩)
    · rw [nI_leI (by omega) (by omega)] at c_89
      refine g_iload X dX2_mostAtOnceBySweep_92 rfl rfl ?_
      refine g_aload_n X dX2_mostAtOnceBySweep_94 rfl rfl ?_
      refine g_iload X dX2_mostAtOnceBySweep_95 rfl rfl ?_
      refine l_ial X dX2_mostAtOnceBySweep_97 rfl hq (vp_in_nI (by omega) (by decide)) (ix_v (by omega) rfl) ?_
      refine g_iadd X dX2_mostAtOnceBySweep_98 rfl ev ?_
      refine g_istore X dX2_mostAtOnceBySweep_99 rfl (by decide) rfl rfl ?_
      refine g_iload_n X dX2_mostAtOnceBySweep_101 rfl rfl ?_
      refine g_iload X dX2_mostAtOnceBySweep_102 rfl rfl ?_
      refine g_max X dX2_mostAtOnceBySweep_104 rfl q430 (Nat.le_of_ble_eq_true rfl) (Nat.le_of_ble_eq_true rfl) (by first | exact Nat.le_of_ble_eq_true rfl | omega | (dsimp only [rmD]; omega)) (by first | exact Nat.le_of_ble_eq_true rfl | omega | (dsimp only [rmD]; omega)) (mx_nI (by omega) (by omega)) ?_
      refine g_istore_n X dX2_mostAtOnceBySweep_107 rfl (by decide) rfl rfl ?_
      refine g_iinc X dX2_mostAtOnceBySweep_108 rfl rfl (by first | exact nI_1 _ | rfl) (by decide) rfl rfl ?_
      refine g_goto (tgt := 85) X dX2_mostAtOnceBySweep_111 rfl (by decide) ?_
      refine GJ.loc [some (.ref a), some (.int (nI (sM σ) - nI 9)), some (.ref qa), some (.int (nI (mxF (fun i => oNX σ (nB σ) (i + 1)) (i + 1)))), some (.int (nI (oNX σ (nB σ) (i + 1)))), some (.int (nI (i + 1)))] (lvle_c rfl (lvle_c rfl (lvle_c rfl (lvle_c rfl (lvle_c rfl (lvle_c rfl lvle_e)))))) ?_
      exact ih (i + 1) (by omega) (by omega)
  · rw [nI_leI (by omega) (by omega)] at c_24
    have hlt : k < nB σ := by omega
    obtain ⟨yb, y1, y2⟩ := S1.bo hlt
    have xk := NE_ix hN hB hlt
    have hq : hu Γ qa (.inl (cI Ω 0 140 (swA σ k))) qa = some (.inl (cI Ω 0 140 (swA σ k))) := hu_s _ _ _
    refine g_aload_n X dX2_mostAtOnceBySweep_27 rfl rfl ?_
    refine g_aload_n X dX2_mostAtOnceBySweep_28 rfl rfl ?_
    refine l_get X dX2_mostAtOnceBySweep_29 rfl in_X2 (ci := 1) rfl 2 (by decide) q168 (fun _ h => h) S1.st rfl ?_
    refine g_iload_n X dX2_mostAtOnceBySweep_32 rfl rfl ?_
    refine g_callV X (ct_J2_get hst hmB y1 (by omega)) dX2_mostAtOnceBySweep_33 rfl (lw_V q294 q295 q296 q70 q297) hyV_J2_get (fun H hH => hL.recvL X.2.2.2.2.2.2.2.1 hH (hmB)) (fun H hH => hH) ⟨Nat.le_of_ble_eq_true rfl, Nat.le_of_ble_eq_true rfl⟩ ⟨by first | exact Nat.le_of_ble_eq_true rfl | omega | (dsimp only [rmD]; omega), by first | exact Nat.le_of_ble_eq_true rfl | omega | (dsimp only [rmD]; omega)⟩ (Nat.le_of_ble_eq_true rfl) rfl (fun x_33 => ?_)
    refine g_cast X dX2_mostAtOnceBySweep_36 rfl q308 (fun H hH => hL.recv X.2.2.2.2.2.2.2.1 hH (y2) rfl) ?_
    refine l_getN X dX2_mostAtOnceBySweep_39 rfl in_X8 (ci := 7) rfl 2 (by decide) "SlidePark" q975 (fun _ h => h) y2 rfl ?_
    refine g_iload_n X dX2_mostAtOnceBySweep_42 rfl rfl ?_
    refine g_isub X dX2_mostAtOnceBySweep_43 rfl (sw_ix xk.2.2.1) ?_
    refine g_dup2 X dX2_mostAtOnceBySweep_44 rfl rfl rfl ?_
    refine l_ial X dX2_mostAtOnceBySweep_45 rfl hq (vp_in_nI (by omega) (by decide)) (ix_v (by omega) rfl) ?_
    refine g_iconst X dX2_mostAtOnceBySweep_46 rfl (v := (nI 1)) rfl ?_
    refine g_iadd X dX2_mostAtOnceBySweep_47 rfl rfl ?_
    refine l_ias X dX2_mostAtOnceBySweep_48 rfl hq (vp_in_nI (by omega) (by decide)) rfl ?_
    rw [nI_clamp (by omega), hu_hu]
    have S2 : SR Ω Γ0 (hu Γ qa (.inl (cI Ω 0 140 (upd (swA σ k) (isX σ k) (swA σ k (isX σ k) + nI 1))))) a A σ := hS.new na
    obtain ⟨mB2, hmB2⟩ := S2.lB
    have y4 := S2.2.2.2.2.1.2 k yb y1
    have hq2 : hu Γ qa (.inl (cI Ω 0 140 (upd (swA σ k) (isX σ k) (swA σ k (isX σ k) + nI 1)))) qa = some (.inl (cI Ω 0 140 (upd (swA σ k) (isX σ k) (swA σ k (isX σ k) + nI 1)))) := hu_s _ _ _
    refine g_aload_n X dX2_mostAtOnceBySweep_49 rfl rfl ?_
    refine g_aload_n X dX2_mostAtOnceBySweep_50 rfl rfl ?_
    refine l_get X dX2_mostAtOnceBySweep_51 rfl in_X2 (ci := 1) rfl 2 (by decide) q168 (fun _ h => h) S2.st rfl ?_
    refine g_iload_n X dX2_mostAtOnceBySweep_54 rfl rfl ?_
    refine g_callV X (ct_J2_get hst hmB2 y1 (by omega)) dX2_mostAtOnceBySweep_55 rfl (lw_V q294 q295 q296 q70 q297) hyV_J2_get (fun H hH => hL.recvL X.2.2.2.2.2.2.2.1 hH (hmB2)) (fun H hH => hH) ⟨Nat.le_of_ble_eq_true rfl, Nat.le_of_ble_eq_true rfl⟩ ⟨by first | exact Nat.le_of_ble_eq_true rfl | omega | (dsimp only [rmD]; omega), by first | exact Nat.le_of_ble_eq_true rfl | omega | (dsimp only [rmD]; omega)⟩ (Nat.le_of_ble_eq_true rfl) rfl (fun x_55 => ?_)
    refine g_cast X dX2_mostAtOnceBySweep_58 rfl q308 (fun H hH => hL.recv X.2.2.2.2.2.2.2.1 hH (y4) rfl) ?_
    refine l_getN X dX2_mostAtOnceBySweep_61 rfl in_X8 (ci := 7) rfl 3 (by decide) "SlidePark" q978 (fun _ h => h) y4 rfl ?_
    refine g_iload_n X dX2_mostAtOnceBySweep_64 rfl rfl ?_
    refine g_isub X dX2_mostAtOnceBySweep_65 rfl (sw_ix xk.2.2.2.1) ?_
    refine g_dup2 X dX2_mostAtOnceBySweep_66 rfl rfl rfl ?_
    refine l_ial X dX2_mostAtOnceBySweep_67 rfl hq2 (vp_in_nI (by omega) (by decide)) (ix_v (by omega) rfl) ?_
    refine g_iconst X dX2_mostAtOnceBySweep_68 rfl (v := (nI 1)) rfl ?_
    refine g_isub X dX2_mostAtOnceBySweep_69 rfl rfl ?_
    refine l_ias X dX2_mostAtOnceBySweep_70 rfl hq2 (vp_in_nI (by omega) (by decide)) rfl ?_
    rw [nI_clamp (by omega), hu_hu]
    refine g_iinc X dX2_mostAtOnceBySweep_71 rfl rfl (by first | exact nI_1 _ | rfl) (by decide) rfl rfl ?_
    refine g_goto (tgt := 16) X dX2_mostAtOnceBySweep_74 rfl (by decide) ?_
    refine GJ.loc [some (.ref a), some (.int (nI (sM σ) - nI 9)), some (.ref qa), some (.int (nI (k + 1))), none, none] (lvle_c rfl (lvle_c rfl (lvle_c rfl (lvle_c rfl (lvle_n (lvle_n lvle_e)))))) ?_
    exact ih (k + 1) (by omega) (by omega)
theorem ct_X1_atRank_A (hst : l.stackTraces = false) (hS : SR Ω Γ0 Γ a A σ) (hB : Bd σ) (hD : DJ σ) {r : Nat} (hr : r < nB σ) : CM Ω l yX1_atRank (ws_ yX1_atRank cX1_atRank 5 (some .int)) 16 1 6 [.ref (qdB A), .int (nI r)] (hL Ω Γ) (QP (some (.int (nI (rkA σ r)))) (hL Ω Γ)) nX := by
  have b1 := hB.1
  obtain ⟨a1, a2, a3⟩ := rkA_at hD hB hr
  refine (ct_X1_atRank_B hst hS hB (r := nI r)).imp (fun _ h => h) (fun v H h => ?_) (fun E q H h => ?_)
  · obtain ⟨⟨k, k1, k2, k3⟩, e, hH⟩ := h
    have := (aRnk_C hD hB k1 k2).2
    refine ⟨(), ?_, hH⟩
    rw [e]
    show some (Value.int (nI k)) = _
    rw [← this, a3]
  · exact h.2.1 _ a1 (by rw [a2])
/-- the bookings' addresses -/
def adX (A : Ad) (k : Nat) : Nat := (laB A).getD k 0
theorem adX_at (hS : SR Ω Γ0 Γ a A σ) {k : Nat} (hk : k < nB σ) : (laB A)[k]? = some (adX A k) := by
  obtain ⟨y, y1, -⟩ := hS.bo hk
  unfold adX
  rw [List.getD_eq_getElem?_getD, y1]; rfl
theorem ct_X2_ofSlide (hst : l.stackTraces = false) (hS : SR Ω Γ0 Γ a A σ) (hB : Bd σ) (hD : DJ σ) {s0 : Nat} (hs : s0 < nS σ) : CM Ω l yX2_ofSlide (ws_ yX2_ofSlide cX2_ofSlide 5 (some (.object "java/util/ArrayList"))) 20 25 843 [.ref a, .int (nI s0)] (hL Ω Γ) (QV (fun y : {y : LH × Nat // Ex Γ y.1 ∧ ∃ m, y.1 y.2 = some (.inr ((ofL σ s0 (nB σ)).map (adX A), m))} => some (.ref y.1.2)) (fun y => hL Ω y.1.1)) nX := by
  have b1 := hB.1
  have hcB := hS.cB
  refine CM.of (L := [some (.ref a), some (.int (nI s0)), none, none, none]) hst (by decide) (Nat.le_of_ble_eq_true rfl) rfl ?_
  intro p e s m below meth c X hnm htab
  refine l_new X dX2_ofSlide_0 rfl (fs := [.int 0, .null, .int 0]) in_J2 tyJ2_ok q120 q121 q70 (ci := 11) rfl (by decide) (by first | exact Nat.le_of_ble_eq_true rfl | omega | (dsimp only [rmD]; omega)) (by first | exact Nat.le_of_ble_eq_true rfl | omega | (dsimp only [rmD]; omega)) (fun qb nb => ?_)
  refine g_dup X dX2_ofSlide_3 rfl rfl ?_
  refine g_callI X (ct_J2_init hst (hu_s _ _ _)) dX2_ofSlide_4 rfl q124 q70 q122 q123 rfl hyS_J2_init (fun H hH => hH) ⟨Nat.le_of_ble_eq_true rfl, Nat.le_of_ble_eq_true rfl⟩ ⟨by first | exact Nat.le_of_ble_eq_true rfl | omega | (dsimp only [rmD]; omega), by first | exact Nat.le_of_ble_eq_true rfl | omega | (dsimp only [rmD]; omega)⟩ (Nat.le_of_ble_eq_true rfl) rfl (fun x_4 => ?_)
  refine g_astore_n X dX2_ofSlide_7 rfl (by decide) rfl rfl ?_
  refine g_iconst X dX2_ofSlide_8 rfl (v := (nI 0)) rfl ?_
  refine g_istore_n X dX2_ofSlide_9 rfl (by decide) rfl rfl ?_
  rw [hu_hu]
  refine GJ.imp (I' := (fun x : Nat × Int32 => hL Ω (hu Γ qb (.inr ((ofL σ s0 x.1).map (adX A), x.2)))) (0, 0)) (fun H hH => hH) ?_
  refine GJ.loc ((fun x : Nat × Int32 => [some (.ref a), some (.int (nI s0)), some (.ref qb), some (.int (nI x.1)), none]) (0, 0)) (lvle_c rfl (lvle_c rfl (lvle_c rfl (lvle_c rfl (lvle_n lvle_e))))) ?_
  refine GJ.wide (k' := (fun x : Nat × Int32 => 1 + 2 * x.1) (0, 0)) (n' := (fun x : Nat × Int32 => 3 + 70 * x.1) (0, 0)) (Nat.le_of_ble_eq_true rfl) (Nat.le_of_ble_eq_true rfl) ?_
  refine GJ.loop (fun x : Nat × Int32 => hL Ω (hu Γ qb (.inr ((ofL σ s0 x.1).map (adX A), x.2)))) (fun x => 1 + 2 * x.1) (fun x => 3 + 70 * x.1) (fun x : Nat × Int32 => [some (.ref a), some (.int (nI s0)), some (.ref qb), some (.int (nI x.1)), none]) (fun x => nB σ - x.1) (fun x => x.1 ≤ nB σ) (0, 0) (Nat.zero_le _) ?_
  rintro ⟨k, mk⟩ hk ih
  try dsimp only at hk ih ⊢
  have S1 : SR Ω Γ0 (hu Γ qb (.inr ((ofL σ s0 k).map (adX A), mk))) a A σ := hS.new nb
  obtain ⟨mB, hmB⟩ := S1.lB
  have hq : hu Γ qb (.inr ((ofL σ s0 k).map (adX A), mk)) qb = some (.inr ((ofL σ s0 k).map (adX A), mk)) := hu_s _ _ _
  refine g_iload_n X dX2_ofSlide_10 rfl rfl ?_
  refine g_aload_n X dX2_ofSlide_11 rfl rfl ?_
  refine l_get X dX2_ofSlide_12 rfl in_X2 (ci := 1) rfl 2 (by decide) q168 (fun _ h => h) S1.st rfl ?_
  refine g_callV X (ct_J2_size hst hmB) dX2_ofSlide_15 rfl (lw_V q293 q270 q271 q70 q272) hyV_J2_size (fun H hH => hL.recvL X.2.2.2.2.2.2.2.1 hH (hmB)) (fun H hH => hH) ⟨Nat.le_of_ble_eq_true rfl, Nat.le_of_ble_eq_true rfl⟩ ⟨by first | exact Nat.le_of_ble_eq_true rfl | omega | (dsimp only [rmD]; omega), by first | exact Nat.le_of_ble_eq_true rfl | omega | (dsimp only [rmD]; omega)⟩ (Nat.le_of_ble_eq_true rfl) rfl (fun x_15 => ?_)
  refine g_icmp_ge (tgt := 63) X dX2_ofSlide_18 rfl (by decide) (fun c_18 => ?_) (fun c_18 => ?_)
  · rw [nI_leI (by omega) (by omega)] at c_18
    obtain rfl : k = nB σ := by omega
    refine g_aload_n X dX2_ofSlide_63 rfl rfl ?_
    refine g_aret X (Or.inl ⟨_, rfl⟩) (Or.inr ⟨_, rfl⟩) dX2_ofSlide_64 rfl (show 1 + 2 * nB σ ≤ 25 by omega) (show 3 + 70 * nB σ ≤ 843 by omega) (fun H hH => ⟨⟨(_, qb), Ex.new nb, mk, hq⟩, rfl, hH⟩)
  · rw [nI_leI (by omega) (by omega)] at c_18
    have hlt : k < nB σ := by omega
    obtain ⟨a1, a2, -⟩ := rkA_at hD hB hlt
    have y1 := adX_at S1 a1
    have y2 := S1.2.2.2.2.1.2 _ _ y1
    have bb := hB.bo a1
    have hlen := ofL_len (σ := σ) (s := s0) (n := k)
    have eo : ofL σ s0 (k + 1) = if boS σ (rkA σ k) = s0 then ofL σ s0 k ++ [rkA σ k] else ofL σ s0 k := rfl
    have hE : ∀ z ∈ (ofL σ s0 k).map (adX A), okE Ω (hu Γ qb (.inr ((ofL σ s0 k).map (adX A), mk))) z := fun z hz => by
      obtain ⟨j, hj, e⟩ := List.mem_map.mp hz
      have := ((ofL_mem hD hB (by omega) j).mp hj).1
      rw [← e]
      exact S1.eB _ (List.mem_of_getElem? (adX_at S1 this))
    refine g_aload_n X dX2_ofSlide_21 rfl rfl ?_
    refine l_get X dX2_ofSlide_22 rfl in_X2 (ci := 1) rfl 2 (by decide) q168 (fun _ h => h) S1.st rfl ?_
    refine g_aload_n X dX2_ofSlide_25 rfl rfl ?_
    refine l_get X dX2_ofSlide_26 rfl in_X2 (ci := 1) rfl 2 (by decide) q168 (fun _ h => h) S1.st rfl ?_
    refine g_iload_n X dX2_ofSlide_29 rfl rfl ?_
    refine g_callSN X "SlidePark" (ct_X1_atRank_A hst S1 hB hD hlt) dX2_ofSlide_30 rfl q319 q66 q317 q318 hyS_X1_atRank (fun H hH => hH) ⟨Nat.le_of_ble_eq_true rfl, Nat.le_of_ble_eq_true rfl⟩ ⟨show 1 + 2 * k + 1 ≤ 25 by omega, show 3 + 70 * k + 6 ≤ 843 by omega⟩ (Nat.le_of_ble_eq_true rfl) rfl (fun x_30 => ?_)
    refine g_callV X (ct_J2_get hst hmB y1 (by omega)) dX2_ofSlide_33 rfl (lw_V q294 q295 q296 q70 q297) hyV_J2_get (fun H hH => hL.recvL X.2.2.2.2.2.2.2.1 hH (hmB)) (fun H hH => hH) ⟨Nat.le_of_ble_eq_true rfl, Nat.le_of_ble_eq_true rfl⟩ ⟨show 1 + 2 * k + 1 + 0 ≤ 25 by omega, show 3 + 70 * k + 6 + 0 ≤ 843 by omega⟩ (Nat.le_of_ble_eq_true rfl) rfl (fun x_33 => ?_)
    refine g_cast X dX2_ofSlide_36 rfl q308 (fun H hH => hL.recv X.2.2.2.2.2.2.2.1 hH (y2) rfl) ?_
    refine g_astore X dX2_ofSlide_39 rfl (by decide) rfl rfl ?_
    refine g_aload X dX2_ofSlide_41 rfl rfl ?_
    refine l_getN X dX2_ofSlide_43 rfl in_X8 (ci := 7) rfl 1 (by decide) "SlidePark" q972 (fun _ h => h) y2 rfl ?_
    refine g_iload_n X dX2_ofSlide_46 rfl rfl ?_
    refine g_icmp_ne (tgt := 57) X dX2_ofSlide_47 rfl (by decide) (fun c_47 => ?_) (fun c_47 => ?_)
    · rw [nI_eq (by omega) (by omega)] at c_47
      rw [if_neg c_47] at eo
      refine g_iinc X dX2_ofSlide_57 rfl rfl (by first | exact nI_1 _ | rfl) (by decide) rfl rfl ?_
      refine g_goto (tgt := 10) X dX2_ofSlide_60 rfl (by decide) ?_
      refine GJ.loc [some (.ref a), some (.int (nI s0)), some (.ref qb), some (.int (nI (k + 1))), none] (lvle_c rfl (lvle_c rfl (lvle_c rfl (lvle_c rfl (lvle_n lvle_e))))) ?_
      refine GJ.imp (I' := hL Ω (hu Γ qb (.inr ((ofL σ s0 (k + 1)).map (adX A), mk)))) (fun H hH => by rw [eo]; exact hH) ?_
      exact GJ.wide (show 1 + 2 * k + 1 + 0 ≤ 1 + 2 * (k + 1) by omega) (show 3 + 70 * k + 6 + 0 ≤ 3 + 70 * (k + 1) by omega) (ih (k + 1, mk) (by dsimp only; omega) (by dsimp only; omega))
    · rw [nI_eq (by omega) (by omega)] at c_47
      rw [if_pos c_47] at eo
      refine g_aload_n X dX2_ofSlide_50 rfl rfl ?_
      refine g_aload X dX2_ofSlide_51 rfl rfl ?_
      refine g_callV X (ct_J2_add hst hq (by rw [List.length_map]; omega) hE (S1.eB _ (List.mem_of_getElem? y1))) dX2_ofSlide_53 rfl (lw_V q757 q620 q621 q70 q622) hyV_J2_add (fun H hH => hL.recvL X.2.2.2.2.2.2.2.1 hH (hq)) (fun H hH => hH) ⟨Nat.le_of_ble_eq_true rfl, Nat.le_of_ble_eq_true rfl⟩ ⟨show 1 + 2 * k + 1 + 0 + 1 ≤ 25 by omega, show 3 + 70 * k + 6 + 0 + 64 ≤ 843 by omega⟩ (Nat.le_of_ble_eq_true rfl) rfl (fun x_53 => ?_)
      refine g_pop X dX2_ofSlide_56 rfl rfl ?_
      refine g_iinc X dX2_ofSlide_57 rfl rfl (by first | exact nI_1 _ | rfl) (by decide) rfl rfl ?_
      refine g_goto (tgt := 10) X dX2_ofSlide_60 rfl (by decide) ?_
      rw [hu_hu]
      refine GJ.loc [some (.ref a), some (.int (nI s0)), some (.ref qb), some (.int (nI (k + 1))), none] (lvle_c rfl (lvle_c rfl (lvle_c rfl (lvle_c rfl (lvle_n lvle_e))))) ?_
      refine GJ.imp (I' := hL Ω (hu Γ qb (.inr ((ofL σ s0 (k + 1)).map (adX A), mk + nI 1)))) (fun H hH => by rw [eo, List.map_append]; exact hH) ?_
      exact GJ.wide (show 1 + 2 * k + 1 + 0 + 1 ≤ 1 + 2 * (k + 1) by omega) (show 3 + 70 * k + 6 + 0 + 64 ≤ 3 + 70 * (k + 1) by omega) (ih (k + 1, mk + nI 1) (by dsimp only; omega) (by dsimp only; omega))
theorem gpL_tk {d u k : Nat} {l : List Nat} (hk : k < l.length) : gpL σ d (l.take (k + 1)) u = gp1 σ d (l[k]'hk) (gpL σ d (l.take k) u) := by
  rw [← tak_s (List.getElem?_eq_getElem hk), gpL_app]
theorem ct_X2_firstFreeByGaps (hst : l.stackTraces = false) (hS : SR Ω Γ0 Γ a A σ) (hB : Bd σ) (hD : DJ σ) {s0 t : Nat} (hs : s0 < nS σ) (ht : t ≤ sM σ + 120) : CM Ω l yX2_firstFreeByGaps (ws_ yX2_firstFreeByGaps cX2_firstFreeByGaps 7 (some .int)) 24 25 843 [.ref a, .int (nI s0), .int (nI t)] (hL Ω Γ) (QV (fun _ : {G : LH // Ex Γ G} => some (.int (ffI σ s0 t (sM σ + 121 - t)))) (fun G => hL Ω G.1)) nX := by
  have b1 := hB.1
  have bs := hB.2.1 s0 hs
  rw [gaps_eq hD hB ht]
  have hmem : ∀ k, k ∈ ofL σ s0 (nB σ) → k < nB σ := fun k hk => ((ofL_mem hD hB (Nat.le_refl _) k).mp hk).1
  have hlen := ofL_len (σ := σ) (s := s0) (n := nB σ)
  have hgle : ∀ k, gpL σ (slD σ s0) ((ofL σ s0 (nB σ)).take k) t ≤ 200000 := fun k => gpL_le hB (fun j hj => hmem j (List.mem_of_mem_take hj)) (by omega)
  refine CM.of (L := [some (.ref a), some (.int (nI s0)), some (.int (nI t)), none, none, none, none]) hst (by decide) (Nat.le_of_ble_eq_true rfl) rfl ?_
  intro p e s m below meth c X hnm htab
  refine g_aload_n X dX2_firstFreeByGaps_0 rfl rfl ?_
  refine g_iload_n X dX2_firstFreeByGaps_1 rfl rfl ?_
  refine g_callV X (ct_X2_ofSlide hst hS hB hD hs) dX2_firstFreeByGaps_2 rfl (lw_V q1354 q1355 q1356 q67 q1357) hyV_X2_ofSlide (fun H hH => hL.recv X.2.2.2.2.2.2.2.1 hH (hS.st) rfl) (fun H hH => hH) ⟨Nat.le_of_ble_eq_true rfl, Nat.le_of_ble_eq_true rfl⟩ ⟨by first | exact Nat.le_of_ble_eq_true rfl | omega | (dsimp only [rmD]; omega), by first | exact Nat.le_of_ble_eq_true rfl | omega | (dsimp only [rmD]; omega)⟩ (Nat.le_of_ble_eq_true rfl) rfl (fun x0 => ?_)
  obtain ⟨⟨G, qi⟩, e1, mi, hqi⟩ := x0
  dsimp only at e1 hqi ⊢
  have S1 := hS.mono e1
  obtain ⟨mS, hmS⟩ := S1.lS
  obtain ⟨x, x1, x2, x3, -⟩ := S1.sl hs
  have hcS := S1.cS2
  have hml : ((ofL σ s0 (nB σ)).map (adX A)).length = (ofL σ s0 (nB σ)).length := List.length_map ..
  refine g_astore_n X dX2_firstFreeByGaps_5 rfl (by decide) rfl rfl ?_
  refine g_aload_n X dX2_firstFreeByGaps_6 rfl rfl ?_
  refine l_get X dX2_firstFreeByGaps_7 rfl in_X2 (ci := 1) rfl 0 (by decide) q164 (fun _ h => h) S1.st rfl ?_
  refine g_iload_n X dX2_firstFreeByGaps_10 rfl rfl ?_
  refine g_callV X (ct_J2_get hst hmS x2 (by omega)) dX2_firstFreeByGaps_11 rfl (lw_V q294 q295 q296 q70 q297) hyV_J2_get (fun H hH => hL.recvL X.2.2.2.2.2.2.2.1 hH (hmS)) (fun H hH => hH) ⟨Nat.le_of_ble_eq_true rfl, Nat.le_of_ble_eq_true rfl⟩ ⟨by first | exact Nat.le_of_ble_eq_true rfl | omega | (dsimp only [rmD]; omega), by first | exact Nat.le_of_ble_eq_true rfl | omega | (dsimp only [rmD]; omega)⟩ (Nat.le_of_ble_eq_true rfl) rfl (fun x_11 => ?_)
  refine g_cast X dX2_firstFreeByGaps_14 rfl q809 (fun H hH => hL.recv X.2.2.2.2.2.2.2.1 hH (x3) rfl) ?_
  refine l_getN X dX2_firstFreeByGaps_17 rfl in_X7 (ci := 6) rfl 0 (by decide) "SlidePark" q730 (fun _ h => h) x3 rfl ?_
  refine g_istore X dX2_firstFreeByGaps_20 rfl (by decide) rfl rfl ?_
  refine g_iload_n X dX2_firstFreeByGaps_22 rfl rfl ?_
  refine g_istore X dX2_firstFreeByGaps_23 rfl (by decide) rfl rfl ?_
  refine g_iconst X dX2_firstFreeByGaps_25 rfl (v := (nI 0)) rfl ?_
  refine g_istore X dX2_firstFreeByGaps_26 rfl (by decide) rfl rfl ?_
  refine GJ.loc ((fun (k : Nat) => [some (.ref a), some (.int (nI s0)), some (.int (nI t)), some (.ref qi), some (.int (nI (slD σ s0))), some (.int (nI (gpL σ (slD σ s0) ((ofL σ s0 (nB σ)).take k) t))), some (.int (nI k))]) 0) (lvle_c rfl (lvle_c rfl (lvle_c rfl (lvle_c rfl (lvle_c rfl (lvle_c rfl (lvle_c rfl lvle_e))))))) ?_
  refine GJ.loopP (fun (k : Nat) => [some (.ref a), some (.int (nI s0)), some (.int (nI t)), some (.ref qi), some (.int (nI (slD σ s0))), some (.int (nI (gpL σ (slD σ s0) ((ofL σ s0 (nB σ)).take k) t))), some (.int (nI k))]) (fun (k : Nat) => ((ofL σ s0 (nB σ)).length - k)) (fun (k : Nat) => (k ≤ (ofL σ s0 (nB σ)).length)) 0 (Nat.zero_le _) ?_
  intro k hk ih
  have hgk := hgle k
  refine g_iload X dX2_firstFreeByGaps_28 rfl rfl ?_
  refine g_aload_n X dX2_firstFreeByGaps_30 rfl rfl ?_
  refine g_callV X (ct_J2_size hst hqi) dX2_firstFreeByGaps_31 rfl (lw_V q293 q270 q271 q70 q272) hyV_J2_size (fun H hH => hL.recvL X.2.2.2.2.2.2.2.1 hH (hqi)) (fun H hH => hH) ⟨Nat.le_of_ble_eq_true rfl, Nat.le_of_ble_eq_true rfl⟩ ⟨by first | exact Nat.le_of_ble_eq_true rfl | omega | (dsimp only [rmD]; omega), by first | exact Nat.le_of_ble_eq_true rfl | omega | (dsimp only [rmD]; omega)⟩ (Nat.le_of_ble_eq_true rfl) rfl (fun x_31 => ?_)
  refine g_icmp_ge (tgt := 84) X dX2_firstFreeByGaps_34 rfl (by decide) (fun c_34 => ?_) (fun c_34 => ?_)
  · rw [nI_leI (by omega) (by omega), hml] at c_34
    rw [tak_n c_34] at hgk ⊢
    refine g_iload X dX2_firstFreeByGaps_84 rfl rfl ?_
    refine g_aload_n X dX2_firstFreeByGaps_86 rfl rfl ?_
    refine l_get X dX2_firstFreeByGaps_87 rfl in_X2 (ci := 1) rfl 4 (by decide) q172 (fun _ h => h) S1.st rfl ?_
    refine g_bipush X dX2_firstFreeByGaps_90 rfl (v := (nI 120)) (by decide) ?_
    refine g_iadd X dX2_firstFreeByGaps_92 rfl (by first | exact nI_add _ _ | rfl) ?_
    refine g_icmp_gt (tgt := 101) X dX2_firstFreeByGaps_93 rfl (by decide) (fun c_93 => ?_) (fun c_93 => ?_)
    · rw [nI_ltI (by omega) (by omega)] at c_93
      rw [if_neg (by omega)]
      refine g_iconst X dX2_firstFreeByGaps_101 rfl (v := (-1)) rfl ?_
      refine g_iret X dX2_firstFreeByGaps_102 rfl (by first | exact Nat.le_of_ble_eq_true rfl | omega | (dsimp only [rmD]; omega)) (by first | exact Nat.le_of_ble_eq_true rfl | omega | (dsimp only [rmD]; omega)) (fun H hH => ⟨⟨G, e1⟩, rfl, hH⟩)
    · rw [nI_ltI (by omega) (by omega)] at c_93
      rw [if_pos (by omega)]
      refine g_iload X dX2_firstFreeByGaps_96 rfl rfl ?_
      refine g_goto (tgt := 102) X dX2_firstFreeByGaps_98 rfl (by decide) ?_
      refine g_iret X dX2_firstFreeByGaps_102 rfl (by first | exact Nat.le_of_ble_eq_true rfl | omega | (dsimp only [rmD]; omega)) (by first | exact Nat.le_of_ble_eq_true rfl | omega | (dsimp only [rmD]; omega)) (fun H hH => ⟨⟨G, e1⟩, rfl, hH⟩)
  · rw [nI_leI (by omega) (by omega), hml] at c_34
    have hlt : k < (ofL σ s0 (nB σ)).length := by omega
    have hb := hmem _ (List.getElem_mem hlt)
    have bb := hB.bo hb
    have hy : ((ofL σ s0 (nB σ)).map (adX A))[k]? = some (adX A ((ofL σ s0 (nB σ))[k]'hlt)) := by rw [List.getElem?_map, List.getElem?_eq_getElem hlt]; rfl
    have oy := S1.2.2.2.2.1.2 _ _ (adX_at S1 hb)
    have eg := gpL_tk (σ := σ) (d := slD σ s0) (u := t) hlt
    generalize hg : gpL σ (slD σ s0) ((ofL σ s0 (nB σ)).take k) t = g at eg hgk
    generalize hkb : (ofL σ s0 (nB σ))[k]'hlt = kb at eg hb bb hy oy
    refine g_aload_n X dX2_firstFreeByGaps_37 rfl rfl ?_
    refine g_iload X dX2_firstFreeByGaps_38 rfl rfl ?_
    refine g_callV X (ct_J2_get hst hqi hy (by omega)) dX2_firstFreeByGaps_40 rfl (lw_V q294 q295 q296 q70 q297) hyV_J2_get (fun H hH => hL.recvL X.2.2.2.2.2.2.2.1 hH (hqi)) (fun H hH => hH) ⟨Nat.le_of_ble_eq_true rfl, Nat.le_of_ble_eq_true rfl⟩ ⟨by first | exact Nat.le_of_ble_eq_true rfl | omega | (dsimp only [rmD]; omega), by first | exact Nat.le_of_ble_eq_true rfl | omega | (dsimp only [rmD]; omega)⟩ (Nat.le_of_ble_eq_true rfl) rfl (fun x_40 => ?_)
    refine g_cast X dX2_firstFreeByGaps_43 rfl q308 (fun H hH => hL.recv X.2.2.2.2.2.2.2.1 hH (oy) rfl) ?_
    refine g_iload X dX2_firstFreeByGaps_46 rfl rfl ?_
    refine g_iload X dX2_firstFreeByGaps_48 rfl rfl ?_
    refine g_iload X dX2_firstFreeByGaps_50 rfl rfl ?_
    refine g_iadd X dX2_firstFreeByGaps_52 rfl (by first | exact nI_add _ _ | rfl) ?_
    refine g_callV X (ct_X8_overlaps hst (by omega) (by omega) (by omega) (by omega) oy) dX2_firstFreeByGaps_53 rfl (lw_V q929 q930 q931 q94 q932) hyV_X8_overlaps (fun H hH => hL.recv X.2.2.2.2.2.2.2.1 hH (oy) rfl) (fun H hH => hH) ⟨Nat.le_of_ble_eq_true rfl, Nat.le_of_ble_eq_true rfl⟩ ⟨by first | exact Nat.le_of_ble_eq_true rfl | omega | (dsimp only [rmD]; omega), by first | exact Nat.le_of_ble_eq_true rfl | omega | (dsimp only [rmD]; omega)⟩ (Nat.le_of_ble_eq_true rfl) rfl (fun x_53 => ?_)
    refine g_if_eq (tgt := 74) X dX2_firstFreeByGaps_56 rfl (by decide) (fun c_56 => ?_) (fun c_56 => ?_)
    · have hn := bI_0.mp c_56
      unfold gp1 at eg
      rw [cH_f hn] at eg
      refine g_iload X dX2_firstFreeByGaps_74 rfl rfl ?_
      refine g_istore X dX2_firstFreeByGaps_76 rfl (by decide) rfl rfl ?_
      refine g_iinc X dX2_firstFreeByGaps_78 rfl rfl (by first | exact nI_1 _ | rfl) (by decide) rfl rfl ?_
      refine g_goto (tgt := 28) X dX2_firstFreeByGaps_81 rfl (by decide) ?_
      refine GJ.loc [some (.ref a), some (.int (nI s0)), some (.int (nI t)), some (.ref qi), some (.int (nI (slD σ s0))), some (.int (nI (gpL σ (slD σ s0) ((ofL σ s0 (nB σ)).take (k + 1)) t))), some (.int (nI (k + 1)))] (lvle_c rfl (lvle_c rfl (lvle_c rfl (lvle_c rfl (lvle_c rfl (lvle_c (by rw [eg]; try rfl) (lvle_c rfl lvle_e))))))) ?_
      exact ih (k + 1) (by omega) (by omega)
    · have hp := bI_n0.mp c_56
      unfold gp1 at eg
      rw [cH_t hp] at eg
      refine g_aload_n X dX2_firstFreeByGaps_59 rfl rfl ?_
      refine g_iload X dX2_firstFreeByGaps_60 rfl rfl ?_
      refine g_callV X (ct_J2_get hst hqi hy (by omega)) dX2_firstFreeByGaps_62 rfl (lw_V q294 q295 q296 q70 q297) hyV_J2_get (fun H hH => hL.recvL X.2.2.2.2.2.2.2.1 hH (hqi)) (fun H hH => hH) ⟨Nat.le_of_ble_eq_true rfl, Nat.le_of_ble_eq_true rfl⟩ ⟨by first | exact Nat.le_of_ble_eq_true rfl | omega | (dsimp only [rmD]; omega), by first | exact Nat.le_of_ble_eq_true rfl | omega | (dsimp only [rmD]; omega)⟩ (Nat.le_of_ble_eq_true rfl) rfl (fun x_62 => ?_)
      refine g_cast X dX2_firstFreeByGaps_65 rfl q308 (fun H hH => hL.recv X.2.2.2.2.2.2.2.1 hH (oy) rfl) ?_
      refine l_getN X dX2_firstFreeByGaps_68 rfl in_X8 (ci := 7) rfl 3 (by decide) "SlidePark" q978 (fun _ h => h) oy rfl ?_
      refine g_goto (tgt := 76) X dX2_firstFreeByGaps_71 rfl (by decide) ?_
      refine g_istore X dX2_firstFreeByGaps_76 rfl (by decide) rfl rfl ?_
      refine g_iinc X dX2_firstFreeByGaps_78 rfl rfl (by first | exact nI_1 _ | rfl) (by decide) rfl rfl ?_
      refine g_goto (tgt := 28) X dX2_firstFreeByGaps_81 rfl (by decide) ?_
      refine GJ.loc [some (.ref a), some (.int (nI s0)), some (.int (nI t)), some (.ref qi), some (.int (nI (slD σ s0))), some (.int (nI (gpL σ (slD σ s0) ((ofL σ s0 (nB σ)).take (k + 1)) t))), some (.int (nI (k + 1)))] (lvle_c rfl (lvle_c rfl (lvle_c rfl (lvle_c rfl (lvle_c rfl (lvle_c (by rw [eg]; try rfl) (lvle_c rfl lvle_e))))))) ?_
      exact ih (k + 1) (by omega) (by omega)
theorem ctF_12 : ∀ r, ctF σ r ≤ r + 1 ∧ ∀ n, n ≤ r → chF σ (ctF σ) r n ≤ r + 1 := by
  intro r
  induction r using Nat.strongRecOn with
  | ind r ih =>
    have key : ∀ n, n ≤ r → chF σ (ctF σ) r n ≤ r + 1 := by
      intro n
      induction n with
      | zero => intro _; show 1 ≤ r + 1; omega
      | succ n ihn =>
        intro hn
        rw [chF_s]
        have h1 := ihn (by omega)
        have h2 := (ih n (by omega)).1
        by_cases h : boE σ (rkA σ n) ≤ boT σ (rkA σ r)
        · rw [cH_t h]; omega
        · rw [cH_f h]; exact h1
    exact ⟨by rw [ctF_eq]; exact key r (Nat.le_refl _), key⟩
theorem upd_u {f : Nat → Int32} {k : Nat} {x z : Int32} : upd (upd f k x) k z = upd f k z := by
  funext j
  by_cases h : j = k
  · rw [upd_e h, upd_e h]
  · rw [upd_n h, upd_n h, upd_n h]
theorem tb_r {r : Nat} : upd (fun j => nI (tbF σ r j)) r (nI (chF σ (ctF σ) r r)) = fun j => nI (tbF σ (r + 1) j) := by
  funext j
  have e : tbF σ (r + 1) j = if j = r then chF σ (tbF σ r) r r else tbF σ r j := rfl
  rw [e]
  by_cases h : j = r
  · rw [upd_e h, if_pos h, chF_congr (fun o ho => tbF_st ho)]
  · rw [upd_n h, if_neg h]
theorem ct_X2_mostWatchedByTable (hst : l.stackTraces = false) (hS : SR Ω Γ0 Γ a A σ) (hB : Bd σ) (hD : DJ σ) : CM Ω l yX2_mostWatchedByTable (ws_ yX2_mostWatchedByTable cX2_mostWatchedByTable 7 (some .int)) 20 160 960 [.ref a] (hL Ω Γ) (QV (fun _ : {G : LH // Ex Γ G} => some (.int (nI (mxF (ctF σ) (nB σ))))) (fun G => hL Ω G.1)) nX := by
  have b1 := hB.1
  have hcB := hS.cB
  obtain ⟨mB0, hmB0⟩ := hS.lB
  have h12 := ctF_12 (σ := σ)
  refine CM.of (L := [some (.ref a), none, none, none, none, none, none]) hst (by decide) (Nat.le_of_ble_eq_true rfl) rfl ?_
  intro p e s m below meth c X hnm htab
  refine g_aload_n X dX2_mostWatchedByTable_0 rfl rfl ?_
  refine l_get X dX2_mostWatchedByTable_1 rfl in_X2 (ci := 1) rfl 2 (by decide) q168 (fun _ h => h) hS.st rfl ?_
  refine g_callV X (ct_J2_size hst hmB0) dX2_mostWatchedByTable_4 rfl (lw_V q293 q270 q271 q70 q272) hyV_J2_size (fun H hH => hL.recvL X.2.2.2.2.2.2.2.1 hH (hmB0)) (fun H hH => hH) ⟨Nat.le_of_ble_eq_true rfl, Nat.le_of_ble_eq_true rfl⟩ ⟨by first | exact Nat.le_of_ble_eq_true rfl | omega | (dsimp only [rmD]; omega), by first | exact Nat.le_of_ble_eq_true rfl | omega | (dsimp only [rmD]; omega)⟩ (Nat.le_of_ble_eq_true rfl) rfl (fun x_4 => ?_)
  refine l_newa_int X dX2_mostWatchedByTable_7 rfl (nI_pos (by omega)) (nI_clamp (by omega)) (by show (laB A).length * 4 ≤ 536870912; omega) (by first | exact Nat.le_of_ble_eq_true rfl | omega | (dsimp only [rmD]; omega)) (show 0 + 0 + (laB A).length ≤ 960 by omega) (fun qa na => ?_)
  refine g_astore_n X dX2_mostWatchedByTable_9 rfl (by decide) rfl rfl ?_
  refine g_iconst X dX2_mostWatchedByTable_10 rfl (v := (nI 0)) rfl ?_
  refine g_istore_n X dX2_mostWatchedByTable_11 rfl (by decide) rfl rfl ?_
  refine g_iconst X dX2_mostWatchedByTable_12 rfl (v := (nI 0)) rfl ?_
  refine g_istore_n X dX2_mostWatchedByTable_13 rfl (by decide) rfl rfl ?_
  refine GJ.imp (I' := (fun r : Nat => hL Ω (hu Γ qa (.inl (cI Ω 0 (nB σ) (fun j => nI (tbF σ r j)))))) 0) (fun H hH => by rw [← hcB]; exact hH) ?_
  refine GJ.loc ((fun r : Nat => [some (.ref a), some (.ref qa), some (.int (nI (mxF (ctF σ) r))), some (.int (nI r)), none, none, none]) 0) (lvle_c rfl (lvle_c rfl (lvle_c rfl (lvle_c rfl (lvle_n (lvle_n (lvle_n lvle_e))))))) ?_
  refine GJ.wide (k' := (fun r : Nat => 1 + 13 * r) 0) (n' := (fun r : Nat => 12 + 78 * r) 0) (by show 0 + 0 + 1 ≤ 1 + 13 * 0; omega) (by show 0 + 0 + (laB A).length ≤ 12 + 78 * 0; omega) ?_
  refine GJ.loop (fun r : Nat => hL Ω (hu Γ qa (.inl (cI Ω 0 (nB σ) (fun j => nI (tbF σ r j)))))) (fun r => 1 + 13 * r) (fun r => 12 + 78 * r) (fun r : Nat => [some (.ref a), some (.ref qa), some (.int (nI (mxF (ctF σ) r))), some (.int (nI r)), none, none, none]) (fun r => nB σ - r) (fun r => r ≤ nB σ) 0 (Nat.zero_le _) ?_
  intro r hr ih
  try dsimp only at hr ih ⊢
  have S1 : SR Ω Γ0 (hu Γ qa (.inl (cI Ω 0 (nB σ) (fun j => nI (tbF σ r j))))) a A σ := hS.new na
  obtain ⟨mB, hmB⟩ := S1.lB
  have hq : hu Γ qa (.inl (cI Ω 0 (nB σ) (fun j => nI (tbF σ r j)))) qa = some (.inl (cI Ω 0 (nB σ) (fun j => nI (tbF σ r j)))) := hu_s _ _ _
  refine g_iload_n X dX2_mostWatchedByTable_14 rfl rfl ?_
  refine g_aload_n X dX2_mostWatchedByTable_15 rfl rfl ?_
  refine l_alen X (t := 0) dX2_mostWatchedByTable_16 rfl hq rfl (show _ = nI (nB σ) from rfl) ?_
  refine g_icmp_ge (tgt := 136) X dX2_mostWatchedByTable_17 rfl (by decide) (fun c_17 => ?_) (fun c_17 => ?_)
  · rw [nI_leI (by omega) (by omega)] at c_17
    obtain rfl : r = nB σ := by omega
    refine g_iload_n X dX2_mostWatchedByTable_136 rfl rfl ?_
    refine g_iret X dX2_mostWatchedByTable_137 rfl (show 1 + 13 * nB σ ≤ 160 by omega) (show 12 + 78 * nB σ ≤ 960 by omega) (fun H hH => ⟨⟨_, Ex.new na⟩, rfl, hH⟩)
  · rw [nI_leI (by omega) (by omega)] at c_17
    have hlt : r < nB σ := by omega
    obtain ⟨a1, a2, -⟩ := rkA_at hD hB hlt
    have y1 := adX_at S1 a1
    have y2 := S1.2.2.2.2.1.2 _ _ y1
    have bb := hB.bo a1
    refine g_aload_n X dX2_mostWatchedByTable_20 rfl rfl ?_
    refine l_get X dX2_mostWatchedByTable_21 rfl in_X2 (ci := 1) rfl 2 (by decide) q168 (fun _ h => h) S1.st rfl ?_
    refine g_aload_n X dX2_mostWatchedByTable_24 rfl rfl ?_
    refine l_get X dX2_mostWatchedByTable_25 rfl in_X2 (ci := 1) rfl 2 (by decide) q168 (fun _ h => h) S1.st rfl ?_
    refine g_iload_n X dX2_mostWatchedByTable_28 rfl rfl ?_
    refine g_callSN X "SlidePark" (ct_X1_atRank_A hst S1 hB hD hlt) dX2_mostWatchedByTable_29 rfl q319 q66 q317 q318 hyS_X1_atRank (fun H hH => hH) ⟨Nat.le_of_ble_eq_true rfl, Nat.le_of_ble_eq_true rfl⟩ ⟨show 1 + 13 * r + 1 ≤ 160 by omega, show 12 + 78 * r + 6 ≤ 960 by omega⟩ (Nat.le_of_ble_eq_true rfl) rfl (fun x_29 => ?_)
    refine g_callV X (ct_J2_get hst hmB y1 (by omega)) dX2_mostWatchedByTable_32 rfl (lw_V q294 q295 q296 q70 q297) hyV_J2_get (fun H hH => hL.recvL X.2.2.2.2.2.2.2.1 hH (hmB)) (fun H hH => hH) ⟨Nat.le_of_ble_eq_true rfl, Nat.le_of_ble_eq_true rfl⟩ ⟨show 1 + 13 * r + 1 + 0 ≤ 160 by omega, show 12 + 78 * r + 6 + 0 ≤ 960 by omega⟩ (Nat.le_of_ble_eq_true rfl) rfl (fun x_32 => ?_)
    refine g_cast X dX2_mostWatchedByTable_35 rfl q308 (fun H hH => hL.recv X.2.2.2.2.2.2.2.1 hH (y2) rfl) ?_
    refine g_astore X dX2_mostWatchedByTable_38 rfl (by decide) rfl rfl ?_
    refine g_aload_n X dX2_mostWatchedByTable_40 rfl rfl ?_
    refine g_iload_n X dX2_mostWatchedByTable_41 rfl rfl ?_
    refine g_iconst X dX2_mostWatchedByTable_42 rfl (v := (nI 1)) rfl ?_
    refine l_ias X dX2_mostWatchedByTable_43 rfl hq (vp_in_nI (by omega) (by omega)) rfl ?_
    rw [nI_clamp (by omega), hu_hu]
    refine g_iconst X dX2_mostWatchedByTable_44 rfl (v := (nI 0)) rfl ?_
    refine g_istore X dX2_mostWatchedByTable_45 rfl (by decide) rfl rfl ?_
    refine GJ.imp (I' := (fun o : Nat => hL Ω (hu Γ qa (.inl (cI Ω 0 (nB σ) (upd (fun j => nI (tbF σ r j)) r (nI (chF σ (ctF σ) r o))))))) 0) (fun H hH => hH) ?_
    refine GJ.loc ((fun o : Nat => [some (.ref a), some (.ref qa), some (.int (nI (mxF (ctF σ) r))), some (.int (nI r)), some (.ref (adX A (rkA σ r))), some (.int (nI o)), none]) 0) (lvle_c rfl (lvle_c rfl (lvle_c rfl (lvle_c rfl (lvle_c rfl (lvle_c rfl (lvle_n lvle_e))))))) ?_
    refine GJ.wide (k' := (fun o : Nat => 1 + 13 * r + 1 + o) 0) (n' := (fun o : Nat => 12 + 78 * r + 6 + 6 * o) 0) (show 1 + 13 * r + 1 + 0 ≤ 1 + 13 * r + 1 + 0 by omega) (show 12 + 78 * r + 6 + 0 ≤ 12 + 78 * r + 6 + 6 * 0 by omega) ?_
    refine GJ.loop (fun o : Nat => hL Ω (hu Γ qa (.inl (cI Ω 0 (nB σ) (upd (fun j => nI (tbF σ r j)) r (nI (chF σ (ctF σ) r o))))))) (fun o => 1 + 13 * r + 1 + o) (fun o => 12 + 78 * r + 6 + 6 * o) (fun o : Nat => [some (.ref a), some (.ref qa), some (.int (nI (mxF (ctF σ) r))), some (.int (nI r)), some (.ref (adX A (rkA σ r))), some (.int (nI o)), none]) (fun o => r - o) (fun o => o ≤ r) 0 (Nat.zero_le _) ?_
    intro o ho ih2
    try dsimp only at ho ih2 ⊢
    have hc12 := (h12 r).2 o ho
    have S2 : SR Ω Γ0 (hu Γ qa (.inl (cI Ω 0 (nB σ) (upd (fun j => nI (tbF σ r j)) r (nI (chF σ (ctF σ) r o)))))) a A σ := hS.new na
    have hq2 : hu Γ qa (.inl (cI Ω 0 (nB σ) (upd (fun j => nI (tbF σ r j)) r (nI (chF σ (ctF σ) r o))))) qa = some (.inl (cI Ω 0 (nB σ) (upd (fun j => nI (tbF σ r j)) r (nI (chF σ (ctF σ) r o))))) := hu_s _ _ _
    refine g_iload X dX2_mostWatchedByTable_47 rfl rfl ?_
    refine g_iload_n X dX2_mostWatchedByTable_49 rfl rfl ?_
    refine g_icmp_ge (tgt := 122) X dX2_mostWatchedByTable_50 rfl (by decide) (fun c_50 => ?_) (fun c_50 => ?_)
    · rw [nI_leI (by omega) (by omega)] at c_50
      obtain rfl : o = r := by omega
      clear ih2
      have hmx : mxF (ctF σ) o ≤ 100 := mxF_le (fun i hi => by have := (h12 i).1; omega)
      have hco := (h12 o).1
      have ev : upd (fun j => nI (tbF σ o j)) o (nI (chF σ (ctF σ) o o)) o = nI (ctF σ o) := by rw [upd_s, ← ctF_eq]
      refine g_iload_n X dX2_mostWatchedByTable_122 rfl rfl ?_
      refine g_aload_n X dX2_mostWatchedByTable_123 rfl rfl ?_
      refine g_iload_n X dX2_mostWatchedByTable_124 rfl rfl ?_
      refine l_ial X dX2_mostWatchedByTable_125 rfl hq2 (vp_in_nI (by omega) (by omega)) (ix_v (by omega) ev) ?_
      refine g_max X dX2_mostWatchedByTable_126 rfl q430 (Nat.le_of_ble_eq_true rfl) (Nat.le_of_ble_eq_true rfl) (show 1 + 13 * o + 1 + o ≤ 160 by omega) (show 12 + 78 * o + 6 + 6 * o ≤ 960 by omega) (show _ = nI (mxF (ctF σ) (o + 1)) by rw [mx_nI (by omega) (by omega), mxF_s]) ?_
      refine g_istore_n X dX2_mostWatchedByTable_129 rfl (by decide) rfl rfl ?_
      refine g_iinc X dX2_mostWatchedByTable_130 rfl rfl (by first | exact nI_1 _ | rfl) (by decide) rfl rfl ?_
      refine g_goto (tgt := 14) X dX2_mostWatchedByTable_133 rfl (by decide) ?_
      rw [tb_r]
      refine GJ.loc [some (.ref a), some (.ref qa), some (.int (nI (mxF (ctF σ) (o + 1)))), some (.int (nI (o + 1))), none, none, none] (lvle_c rfl (lvle_c rfl (lvle_c rfl (lvle_c rfl (lvle_n (lvle_n (lvle_n lvle_e))))))) ?_
      exact GJ.wide (show 1 + 13 * o + 1 + o ≤ 1 + 13 * (o + 1) by omega) (show 12 + 78 * o + 6 + 6 * o ≤ 12 + 78 * (o + 1) by omega) (ih (o + 1) (by omega) (by omega))
    · rw [nI_leI (by omega) (by omega)] at c_50
      have hor : o < r := by omega
      obtain ⟨a3, a4, -⟩ := rkA_at hD hB (r := o) (by omega)
      obtain ⟨mB2, hmB2⟩ := S2.lB
      have y3 := adX_at S2 a3
      have y4 := S2.2.2.2.2.1.2 _ _ y3
      have y5 := S2.2.2.2.2.1.2 _ _ y1
      have bo := hB.bo a3
      have eo := (h12 o).1
      have e1 : chF σ (ctF σ) r (o + 1) = cH (boE σ (rkA σ o) ≤ boT σ (rkA σ r)) (max (chF σ (ctF σ) r o) (ctF σ o + 1)) (chF σ (ctF σ) r o) := rfl
      have ev1 : upd (fun j => nI (tbF σ r j)) r (nI (chF σ (ctF σ) r o)) r = nI (chF σ (ctF σ) r o) := upd_s
      have ev2 : upd (fun j => nI (tbF σ r j)) r (nI (chF σ (ctF σ) r o)) o = nI (ctF σ o) := by rw [upd_n (by omega)]; show nI (tbF σ r o) = _; rw [tbF_st hor]
      refine g_aload_n X dX2_mostWatchedByTable_53 rfl rfl ?_
      refine l_get X dX2_mostWatchedByTable_54 rfl in_X2 (ci := 1) rfl 2 (by decide) q168 (fun _ h => h) S2.st rfl ?_
      refine g_aload_n X dX2_mostWatchedByTable_57 rfl rfl ?_
      refine l_get X dX2_mostWatchedByTable_58 rfl in_X2 (ci := 1) rfl 2 (by decide) q168 (fun _ h => h) S2.st rfl ?_
      refine g_iload X dX2_mostWatchedByTable_61 rfl rfl ?_
      refine g_callSN X "SlidePark" (ct_X1_atRank_A hst S2 hB hD (r := o) (by omega)) dX2_mostWatchedByTable_63 rfl q319 q66 q317 q318 hyS_X1_atRank (fun H hH => hH) ⟨Nat.le_of_ble_eq_true rfl, Nat.le_of_ble_eq_true rfl⟩ ⟨show 1 + 13 * r + 1 + o + 1 ≤ 160 by omega, show 12 + 78 * r + 6 + 6 * o + 6 ≤ 960 by omega⟩ (Nat.le_of_ble_eq_true rfl) rfl (fun x_63 => ?_)
      refine g_callV X (ct_J2_get hst hmB2 y3 (by omega)) dX2_mostWatchedByTable_66 rfl (lw_V q294 q295 q296 q70 q297) hyV_J2_get (fun H hH => hL.recvL X.2.2.2.2.2.2.2.1 hH (hmB2)) (fun H hH => hH) ⟨Nat.le_of_ble_eq_true rfl, Nat.le_of_ble_eq_true rfl⟩ ⟨show 1 + 13 * r + 1 + o + 1 + 0 ≤ 160 by omega, show 12 + 78 * r + 6 + 6 * o + 6 + 0 ≤ 960 by omega⟩ (Nat.le_of_ble_eq_true rfl) rfl (fun x_66 => ?_)
      refine g_cast X dX2_mostWatchedByTable_69 rfl q308 (fun H hH => hL.recv X.2.2.2.2.2.2.2.1 hH (y4) rfl) ?_
      refine l_getN X dX2_mostWatchedByTable_72 rfl in_X8 (ci := 7) rfl 3 (by decide) "SlidePark" q978 (fun _ h => h) y4 rfl ?_
      refine g_aload X dX2_mostWatchedByTable_75 rfl rfl ?_
      refine l_getN X dX2_mostWatchedByTable_77 rfl in_X8 (ci := 7) rfl 2 (by decide) "SlidePark" q975 (fun _ h => h) y5 rfl ?_
      refine g_icmp_gt (tgt := 87) X dX2_mostWatchedByTable_80 rfl (by decide) (fun c_80 => ?_) (fun c_80 => ?_)
      · rw [nI_ltI (by omega) (by omega)] at c_80
        rw [cH_f (by omega)] at e1
        refine g_iconst X dX2_mostWatchedByTable_87 rfl (v := (nI 0)) rfl ?_
        refine g_istore X dX2_mostWatchedByTable_88 rfl (by decide) rfl rfl ?_
        refine g_aload_n X dX2_mostWatchedByTable_90 rfl rfl ?_
        refine g_iload_n X dX2_mostWatchedByTable_91 rfl rfl ?_
        refine g_iload X dX2_mostWatchedByTable_92 rfl rfl ?_
        refine g_if_eq (tgt := 112) X dX2_mostWatchedByTable_94 rfl (by decide) (fun c_94 => ?_) (fun c => absurd rfl c)
        refine g_aload_n X dX2_mostWatchedByTable_112 rfl rfl ?_
        refine g_iload_n X dX2_mostWatchedByTable_113 rfl rfl ?_
        refine l_ial X dX2_mostWatchedByTable_114 rfl hq2 (vp_in_nI (by omega) (by omega)) (ix_v (by omega) ev1) ?_
        refine l_ias X dX2_mostWatchedByTable_115 rfl hq2 (vp_in_nI (by omega) (by omega)) rfl ?_
        rw [nI_clamp (by omega), hu_hu, upd_u, ← e1]
        refine g_iinc X dX2_mostWatchedByTable_116 rfl rfl (by first | exact nI_1 _ | rfl) (by decide) rfl rfl ?_
        refine g_goto (tgt := 47) X dX2_mostWatchedByTable_119 rfl (by decide) ?_
        refine GJ.loc [some (.ref a), some (.ref qa), some (.int (nI (mxF (ctF σ) r))), some (.int (nI r)), some (.ref (adX A (rkA σ r))), some (.int (nI (o + 1))), none] (lvle_c rfl (lvle_c rfl (lvle_c rfl (lvle_c rfl (lvle_c rfl (lvle_c rfl (lvle_n lvle_e))))))) ?_
        exact GJ.wide (show 1 + 13 * r + 1 + o + 1 + 0 ≤ 1 + 13 * r + 1 + (o + 1) by omega) (show 12 + 78 * r + 6 + 6 * o + 6 + 0 ≤ 12 + 78 * r + 6 + 6 * (o + 1) by omega) (ih2 (o + 1) (by omega) (by omega))
      · rw [nI_ltI (by omega) (by omega)] at c_80
        rw [cH_t (by omega)] at e1
        refine g_iconst X dX2_mostWatchedByTable_83 rfl (v := (nI 1)) rfl ?_
        refine g_goto (tgt := 88) X dX2_mostWatchedByTable_84 rfl (by decide) ?_
        refine g_istore X dX2_mostWatchedByTable_88 rfl (by decide) rfl rfl ?_
        refine g_aload_n X dX2_mostWatchedByTable_90 rfl rfl ?_
        refine g_iload_n X dX2_mostWatchedByTable_91 rfl rfl ?_
        refine g_iload X dX2_mostWatchedByTable_92 rfl rfl ?_
        refine g_if_eq (tgt := 112) X dX2_mostWatchedByTable_94 rfl (by decide) (fun c => absurd c (by decide)) (fun c_94 => ?_)
        refine g_aload_n X dX2_mostWatchedByTable_97 rfl rfl ?_
        refine g_iload_n X dX2_mostWatchedByTable_98 rfl rfl ?_
        refine l_ial X dX2_mostWatchedByTable_99 rfl hq2 (vp_in_nI (by omega) (by omega)) (ix_v (by omega) ev1) ?_
        refine g_aload_n X dX2_mostWatchedByTable_100 rfl rfl ?_
        refine g_iload X dX2_mostWatchedByTable_101 rfl rfl ?_
        refine l_ial X dX2_mostWatchedByTable_103 rfl hq2 (vp_in_nI (by omega) (by omega)) (ix_v (by omega) ev2) ?_
        refine g_iconst X dX2_mostWatchedByTable_104 rfl (v := (nI 1)) rfl ?_
        refine g_iadd X dX2_mostWatchedByTable_105 rfl (by first | exact nI_add _ _ | rfl) ?_
        refine g_max X dX2_mostWatchedByTable_106 rfl q430 (Nat.le_of_ble_eq_true rfl) (Nat.le_of_ble_eq_true rfl) (show 1 + 13 * r + 1 + o + 1 + 0 ≤ 160 by omega) (show 12 + 78 * r + 6 + 6 * o + 6 + 0 ≤ 960 by omega) (mx_nI (by omega) (by omega)) ?_
        refine g_goto (tgt := 115) X dX2_mostWatchedByTable_109 rfl (by decide) ?_
        refine l_ias X dX2_mostWatchedByTable_115 rfl hq2 (vp_in_nI (by omega) (by omega)) rfl ?_
        rw [nI_clamp (by omega), hu_hu, upd_u, ← e1]
        refine g_iinc X dX2_mostWatchedByTable_116 rfl rfl (by first | exact nI_1 _ | rfl) (by decide) rfl rfl ?_
        refine g_goto (tgt := 47) X dX2_mostWatchedByTable_119 rfl (by decide) ?_
        refine GJ.loc [some (.ref a), some (.ref qa), some (.int (nI (mxF (ctF σ) r))), some (.int (nI r)), some (.ref (adX A (rkA σ r))), some (.int (nI (o + 1))), none] (lvle_c rfl (lvle_c rfl (lvle_c rfl (lvle_c rfl (lvle_c rfl (lvle_c rfl (lvle_n lvle_e))))))) ?_
        exact GJ.wide (show 1 + 13 * r + 1 + o + 1 + 0 ≤ 1 + 13 * r + 1 + (o + 1) by omega) (show 12 + 78 * r + 6 + 6 * o + 6 + 0 ≤ 12 + 78 * r + 6 + 6 * (o + 1) by omega) (ih2 (o + 1) (by omega) (by omega))
end E2
