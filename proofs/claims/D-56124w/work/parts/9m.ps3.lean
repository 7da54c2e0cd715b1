/-! PARSER of the class: the word and its numbers -/
theorem rdJ_1 {inp : List Nat} {a : Nat} : rdJ inp 1 a = ((( nuS inp 4 (nuS inp 1 (nuS inp 1 a true).1 (nuS inp 1 a true).2.1).1 (nuS inp 1 (nuS inp 1 a true).1 (nuS inp 1 a true).2.1).2.1).1, (nuS inp 4 (nuS inp 1 (nuS inp 1 a true).1 (nuS inp 1 a true).2.1).1 (nuS inp 1 (nuS inp 1 a true).1 (nuS inp 1 a true).2.1).2.1).2.1), (nuS inp 1 a true).2.2, (nuS inp 1 (nuS inp 1 a true).1 (nuS inp 1 a true).2.1).2.2, (nuS inp 4 (nuS inp 1 (nuS inp 1 a true).1 (nuS inp 1 a true).2.1).1 (nuS inp 1 (nuS inp 1 a true).1 (nuS inp 1 a true).2.1).2.1).2.2) := rfl
theorem rdJ_2 {inp : List Nat} {a : Nat} : rdJ inp 2 a = (((nuS inp 2 a true).1, (nuS inp 2 a true).2.1), (nuS inp 2 a true).2.2, 0, 0) := rfl
theorem rdJ_4 {inp : List Nat} {a : Nat} : rdJ inp 4 a = (((nuS inp 1 a true).1, (nuS inp 1 a true).2.1), (nuS inp 1 a true).2.2, 0, 0) := rfl
theorem rdJ_5 {inp : List Nat} {a : Nat} : rdJ inp 5 a = (if inp[a]? = some 32 then (((nuS inp 2 a true).1, (nuS inp 2 a true).2.1), (nuS inp 2 a true).2.2, 0, 0) else ((a, true), 1, 0, 0)) := rfl
theorem rdJ_3 {inp : List Nat} {a : Nat} : rdJ inp 3 a = (((nuS inp 1 (nuS inp 1 a true).1 (nuS inp 1 a true).2.1).1, (nuS inp 1 (nuS inp 1 a true).1 (nuS inp 1 a true).2.1).2.1), (nuS inp 1 a true).2.2, (nuS inp 1 (nuS inp 1 a true).1 (nuS inp 1 a true).2.1).2.2, 0) := rfl
theorem rdJ_6 {inp : List Nat} {a : Nat} : rdJ inp 6 a = (((nuS inp 1 (nuS inp 1 a true).1 (nuS inp 1 a true).2.1).1, (nuS inp 1 (nuS inp 1 a true).1 (nuS inp 1 a true).2.1).2.1), (nuS inp 1 a true).2.2, (nuS inp 1 (nuS inp 1 a true).1 (nuS inp 1 a true).2.1).2.2, 0) := rfl
section PS3
variable {l : Launch} {Ω : Om} {Γ : LH} {x pa a : Nat} {C : CT} {t : Tx} {o : Nat × Nat × Nat}
set_option maxRecDepth 100000
theorem ct_X10_keyword (hst : l.stackTraces = false) (hP : PI Ω Γ pa x C t) (ha : a ≤ t.2.1.length) : CM Ω l yX10_keyword (ws_ yX10_keyword cX10_keyword 1 (some (.object "java/lang/String"))) 3 0 0 [.ref pa] (hL Ω (PH Γ pa x a o)) (QP (some (.ref (oM Ω (300 + kwJ (bh t.2.1 a))))) (hL Ω (PH Γ pa x a o))) nX := by
  have hP' := hP
  obtain ⟨hx, hn, hni, hl60, f, hf, hf2⟩ := hP'
  refine CM.of (L := [some (.ref pa)]) hst (by decide) (Nat.le_of_ble_eq_true rfl) rfl ?_
  intro p e s m below meth c X hnm htab
  refine g_aload_n X dX10_keyword_0 rfl rfl ?_
  refine l_get X dX10_keyword_1 rfl in_X10 (ci := 9) rfl 0 (by decide) q1465 (fun _ h => h) PH_s rfl ?_
  refine g_aload_n X dX10_keyword_4 rfl rfl ?_
  refine l_get X dX10_keyword_5 rfl in_X10 (ci := 9) rfl 4 (by decide) q1469 (fun _ h => h) PH_s rfl ?_
  refine l_getN X dX10_keyword_8 rfl in_X1 (ci := 0) rfl 4 (by decide) "SlidePark" q238 (fun _ h => h) ((PH_n hn).trans hx) rfl ?_
  refine g_icmp_ge (tgt := 29) X dX10_keyword_11 rfl (by decide) (fun c_11 => ?_) (fun c_11 => ?_)
  · rw [nI_leI (by omega) (by omega)] at c_11
    rw [bh_f (by omega), show kwJ (-1) = 6 by decide]
    refine g_bipush X dX10_keyword_29 rfl (v := (nI 32)) (by decide) ?_
    refine g_lookup (off := 75) (tgt := 106) X dX10_keyword_31 rfl (by decide) (by decide) (by decide) ?_
    refine g_ldcS X (tx := "slide") (j := 6) dX10_keyword_106 rfl (by decide) ?_
    refine g_aret X (Or.inl ⟨_, rfl⟩) (Or.inr ⟨_, rfl⟩) dX10_keyword_108 rfl (by first | exact Nat.le_of_ble_eq_true rfl | omega | (dsimp only [rmD]; omega)) (by first | exact Nat.le_of_ble_eq_true rfl | omega | (dsimp only [rmD]; omega)) (fun H hH => ⟨(), rfl, hH⟩)
  · rw [nI_leI (by omega) (by omega)] at c_11
    have ha' : a < t.2.1.length := by omega
    refine g_aload_n X dX10_keyword_14 rfl rfl ?_
    refine l_get X dX10_keyword_15 rfl in_X10 (ci := 9) rfl 4 (by decide) q1469 (fun _ h => h) PH_s rfl ?_
    refine l_getN X dX10_keyword_18 rfl in_X1 (ci := 0) rfl 3 (by decide) "SlidePark" q237 (fun _ h => h) ((PH_n hn).trans hx) rfl ?_
    refine g_aload_n X dX10_keyword_21 rfl rfl ?_
    refine l_get X dX10_keyword_22 rfl in_X10 (ci := 9) rfl 0 (by decide) q1465 (fun _ h => h) PH_s rfl ?_
    refine l_cal X dX10_keyword_25 rfl ((PH_n hni).trans hf) (vp_in_nI (by omega) (by omega)) (ix_v (by omega) ((hf2 a ha').1.trans (bh_t ha').symm)) ?_
    refine g_goto (tgt := 31) X dX10_keyword_26 rfl (by decide) ?_
    generalize bh t.2.1 a = k
    by_cases hK : isK2 k
    · rcases hK with e | e | e | e | e | e
      · subst e
        rw [show kwJ (nI 98) = 1 by decide]
        refine g_lookup (off := 60) (tgt := 91) X dX10_keyword_31 rfl (by decide) (by decide) (by decide) ?_
        refine g_ldcS X (tx := "book") (j := 1) dX10_keyword_91 rfl (by decide) ?_
        refine g_aret X (Or.inl ⟨_, rfl⟩) (Or.inr ⟨_, rfl⟩) dX10_keyword_93 rfl (by first | exact Nat.le_of_ble_eq_true rfl | omega | (dsimp only [rmD]; omega)) (by first | exact Nat.le_of_ble_eq_true rfl | omega | (dsimp only [rmD]; omega)) (fun H hH => ⟨(), rfl, hH⟩)
      · subst e
        rw [show kwJ (nI 99) = 2 by decide]
        refine g_lookup (off := 63) (tgt := 94) X dX10_keyword_31 rfl (by decide) (by decide) (by decide) ?_
        refine g_ldcS X (tx := "cancel") (j := 2) dX10_keyword_94 rfl (by decide) ?_
        refine g_aret X (Or.inl ⟨_, rfl⟩) (Or.inr ⟨_, rfl⟩) dX10_keyword_96 rfl (by first | exact Nat.le_of_ble_eq_true rfl | omega | (dsimp only [rmD]; omega)) (by first | exact Nat.le_of_ble_eq_true rfl | omega | (dsimp only [rmD]; omega)) (fun H hH => ⟨(), rfl, hH⟩)
      · subst e
        rw [show kwJ (nI 103) = 0 by decide]
        refine g_lookup (off := 57) (tgt := 88) X dX10_keyword_31 rfl (by decide) (by decide) (by decide) ?_
        refine g_ldcS X (tx := "guest") (j := 0) dX10_keyword_88 rfl (by decide) ?_
        refine g_aret X (Or.inl ⟨_, rfl⟩) (Or.inr ⟨_, rfl⟩) dX10_keyword_90 rfl (by first | exact Nat.le_of_ble_eq_true rfl | omega | (dsimp only [rmD]; omega)) (by first | exact Nat.le_of_ble_eq_true rfl | omega | (dsimp only [rmD]; omega)) (fun H hH => ⟨(), rfl, hH⟩)
      · subst e
        rw [show kwJ (nI 108) = 4 by decide]
        refine g_lookup (off := 69) (tgt := 100) X dX10_keyword_31 rfl (by decide) (by decide) (by decide) ?_
        refine g_ldcS X (tx := "leave") (j := 4) dX10_keyword_100 rfl (by decide) ?_
        refine g_aret X (Or.inl ⟨_, rfl⟩) (Or.inr ⟨_, rfl⟩) dX10_keyword_102 rfl (by first | exact Nat.le_of_ble_eq_true rfl | omega | (dsimp only [rmD]; omega)) (by first | exact Nat.le_of_ble_eq_true rfl | omega | (dsimp only [rmD]; omega)) (fun H hH => ⟨(), rfl, hH⟩)
      · subst e
        rw [show kwJ (nI 113) = 3 by decide]
        refine g_lookup (off := 66) (tgt := 97) X dX10_keyword_31 rfl (by decide) (by decide) (by decide) ?_
        refine g_ldcS X (tx := "queue") (j := 3) dX10_keyword_97 rfl (by decide) ?_
        refine g_aret X (Or.inl ⟨_, rfl⟩) (Or.inr ⟨_, rfl⟩) dX10_keyword_99 rfl (by first | exact Nat.le_of_ble_eq_true rfl | omega | (dsimp only [rmD]; omega)) (by first | exact Nat.le_of_ble_eq_true rfl | omega | (dsimp only [rmD]; omega)) (fun H hH => ⟨(), rfl, hH⟩)
      · subst e
        rw [show kwJ (nI 119) = 5 by decide]
        refine g_lookup (off := 72) (tgt := 103) X dX10_keyword_31 rfl (by decide) (by decide) (by decide) ?_
        refine g_ldcS X (tx := "wait") (j := 5) dX10_keyword_103 rfl (by decide) ?_
        refine g_aret X (Or.inl ⟨_, rfl⟩) (Or.inr ⟨_, rfl⟩) dX10_keyword_105 rfl (by first | exact Nat.le_of_ble_eq_true rfl | omega | (dsimp only [rmD]; omega)) (by first | exact Nat.le_of_ble_eq_true rfl | omega | (dsimp only [rmD]; omega)) (fun H hH => ⟨(), rfl, hH⟩)
    · rw [kwJ_d hK]
      refine g_lookup (off := 75) (tgt := 106) X dX10_keyword_31 rfl (by decide) (lk_d2 _ _ _ _ _ _ _ hK) (by decide) ?_
      refine g_ldcS X (tx := "slide") (j := 6) dX10_keyword_106 rfl (by decide) ?_
      refine g_aret X (Or.inl ⟨_, rfl⟩) (Or.inr ⟨_, rfl⟩) dX10_keyword_108 rfl (by first | exact Nat.le_of_ble_eq_true rfl | omega | (dsimp only [rmD]; omega)) (by first | exact Nat.le_of_ble_eq_true rfl | omega | (dsimp only [rmD]; omega)) (fun H hH => ⟨(), rfl, hH⟩)
abbrev RNo (Ω : Om) (Γ : LH) (pa x : Nat) (inp : List Nat) (j a : Nat) : Option Value → Heap → Prop := QV (fun _ : {y : Nat × Nat × Nat // (rdJ inp j a).1.2 = true ∧ (rdJ inp j a).1.1 ≤ inp.length ∧ rlv j (rdJ inp j a).2 y} => none) (fun y => hL Ω (PH Γ pa x (rdJ inp j a).1.1 y.1))
abbrev RNx (Ω : Om) (Γ : LH) (pa x : Nat) (inp : List Nat) (j a : Nat) : String → Nat → Heap → Prop := MX Ω Γ pa x (rdJ inp j a).1.1 ((rdJ inp j a).1.2 = false)
theorem ct_X10_readNumbers (hst : l.stackTraces = false) (hP : PI Ω Γ pa x C t) (ha : a ≤ t.2.1.length) {j : Nat} (hj : j < 7) : CM Ω l yX10_readNumbers (ws_ yX10_readNumbers cX10_readNumbers 2 none) 14 6 42 [.ref pa, .int (nI (sCh j 0))] (hL Ω (PH Γ pa x a o)) (RNo Ω Γ pa x t.2.1 j a) (RNx Ω Γ pa x t.2.1 j a) := by
  have hj' : j = 1 ∨ j = 2 ∨ j = 0 ∨ j = 4 ∨ j = 5 ∨ j = 3 ∨ j = 6 := by omega
  rcases hj' with rfl | rfl | rfl | rfl | rfl | rfl | rfl
  · rw [show sCh 1 0 = 98 by decide]
    refine CM.of (L := [some (.ref pa), some (.int (nI 98))]) hst (by decide) (Nat.le_of_ble_eq_true rfl) rfl ?_
    intro p e s m below meth c X hnm htab
    refine g_iload_n X dX10_readNumbers_0 rfl rfl ?_
    refine g_lookup (off := 54) (tgt := 55) X dX10_readNumbers_1 rfl (by decide) (by decide) (by decide) ?_
    refine g_aload_n X dX10_readNumbers_55 rfl rfl ?_
    refine g_aload_n X dX10_readNumbers_56 rfl rfl ?_
    refine g_iconst X dX10_readNumbers_57 rfl (v := (nI 1)) rfl ?_
    refine g_callVx X (ct_X10_number (a := a) (most := 0) hst hP ha (by decide)) dX10_readNumbers_58 rfl (lw_V q1590 q1592 qs23 q103 q1593) hyV_X10_number (fun H hH => hL.recv X.2.2.2.2.2.2.2.1 hH (PH_s) rfl) (fun H hH => hH) ⟨Nat.le_of_ble_eq_true rfl, Nat.le_of_ble_eq_true rfl⟩ ⟨by first | exact Nat.le_of_ble_eq_true rfl | omega | (dsimp only [rmD]; omega), by first | exact Nat.le_of_ble_eq_true rfl | omega | (dsimp only [rmD]; omega)⟩ (Nat.le_of_ble_eq_true rfl) rfl (fun E q => GX.pass X htab (by first | exact Nat.le_of_ble_eq_true rfl | omega) (by first | exact Nat.le_of_ble_eq_true rfl | omega) (fun H h => h.to (fun g => by rw [rdJ_1]; simp only [nuS_n g, nuS_f]; exact ⟨trivial, trivial⟩))) (fun n1 => ?_)
    have e1 := nuS_y (most := 1) n1.2.1
    refine l_put X dX10_readNumbers_61 rfl in_X10 tyX10_ok nmX10 (ci := 9) rfl 1 (by decide) q1466 (fun _ h => h) rfl rfl rfl rfl PH_s (Nat.le_of_ble_eq_true rfl) (PH_u n1.1.1 (n1.1.2, o.2.1, o.2.2)) ?_
    refine g_aload_n X dX10_readNumbers_64 rfl rfl ?_
    refine g_aload_n X dX10_readNumbers_65 rfl rfl ?_
    refine g_iconst X dX10_readNumbers_66 rfl (v := (nI 1)) rfl ?_
    refine g_callVx X (ct_X10_number (a := n1.1.1) (most := 0) hst hP n1.2.2 (by decide)) dX10_readNumbers_67 rfl (lw_V q1590 q1592 qs23 q103 q1593) hyV_X10_number (fun H hH => hL.recv X.2.2.2.2.2.2.2.1 hH (PH_s) rfl) (fun H hH => hH) ⟨Nat.le_of_ble_eq_true rfl, Nat.le_of_ble_eq_true rfl⟩ ⟨by first | exact Nat.le_of_ble_eq_true rfl | omega | (dsimp only [rmD]; omega), by first | exact Nat.le_of_ble_eq_true rfl | omega | (dsimp only [rmD]; omega)⟩ (Nat.le_of_ble_eq_true rfl) rfl (fun E q => GX.pass X htab (by first | exact Nat.le_of_ble_eq_true rfl | omega) (by first | exact Nat.le_of_ble_eq_true rfl | omega) (fun H h => h.to (fun g => by rw [rdJ_1]; simp only [e1, nuS_n g, nuS_f]; exact ⟨trivial, trivial⟩))) (fun n2 => ?_)
    have e2 := nuS_y (most := 1) n2.2.1
    refine l_put X dX10_readNumbers_70 rfl in_X10 tyX10_ok nmX10 (ci := 9) rfl 2 (by decide) q1467 (fun _ h => h) rfl rfl rfl rfl PH_s (Nat.le_of_ble_eq_true rfl) (PH_u n2.1.1 (n1.1.2, n2.1.2, o.2.2)) ?_
    refine g_aload_n X dX10_readNumbers_73 rfl rfl ?_
    refine g_aload_n X dX10_readNumbers_74 rfl rfl ?_
    refine g_iconst X dX10_readNumbers_75 rfl (v := (nI 4)) rfl ?_
    refine g_callVx X (ct_X10_number (a := n2.1.1) (most := 3) hst hP n2.2.2 (by decide)) dX10_readNumbers_76 rfl (lw_V q1590 q1592 qs23 q103 q1593) hyV_X10_number (fun H hH => hL.recv X.2.2.2.2.2.2.2.1 hH (PH_s) rfl) (fun H hH => hH) ⟨Nat.le_of_ble_eq_true rfl, Nat.le_of_ble_eq_true rfl⟩ ⟨by first | exact Nat.le_of_ble_eq_true rfl | omega | (dsimp only [rmD]; omega), by first | exact Nat.le_of_ble_eq_true rfl | omega | (dsimp only [rmD]; omega)⟩ (Nat.le_of_ble_eq_true rfl) rfl (fun E q => GX.pass X htab (by first | exact Nat.le_of_ble_eq_true rfl | omega) (by first | exact Nat.le_of_ble_eq_true rfl | omega) (fun H h => h.to (fun g => by rw [rdJ_1]; simp only [e1, e2, nuS_n g, nuS_f]; exact ⟨trivial, trivial⟩))) (fun n3 => ?_)
    have e3 := nuS_y (most := 4) n3.2.1
    refine l_put X dX10_readNumbers_79 rfl in_X10 tyX10_ok nmX10 (ci := 9) rfl 3 (by decide) q1468 (fun _ h => h) rfl rfl rfl rfl PH_s (Nat.le_of_ble_eq_true rfl) (PH_u n3.1.1 (n1.1.2, n2.1.2, n3.1.2)) ?_
    have er : rdJ t.2.1 1 a = ((n3.1.1, true), n1.1.2, n2.1.2, n3.1.2) := by rw [rdJ_1]; simp only [e1, e2, e3]
    refine g_goto (tgt := 154) X dX10_readNumbers_82 rfl (by decide) ?_
    refine g_vret X dX10_readNumbers_154 rfl (by first | exact Nat.le_of_ble_eq_true rfl | omega | (dsimp only [rmD]; omega)) (by first | exact Nat.le_of_ble_eq_true rfl | omega | (dsimp only [rmD]; omega)) (fun H hH => ⟨⟨(n1.1.2, n2.1.2, n3.1.2), by rw [er], by rw [er]; exact n3.2.2, by rw [er]; exact ⟨fun _ => rfl, fun _ => rfl, fun _ => rfl⟩⟩, rfl, (congrArg (fun z : Nat => hL Ω (PH Γ pa x z (n1.1.2, n2.1.2, n3.1.2)) H) (congrArg (fun z : Rd => z.1.1) er)).mpr hH⟩)
  · rw [show sCh 2 0 = 99 by decide]
    refine CM.of (L := [some (.ref pa), some (.int (nI 99))]) hst (by decide) (Nat.le_of_ble_eq_true rfl) rfl ?_
    intro p e s m below meth c X hnm htab
    refine g_iload_n X dX10_readNumbers_0 rfl rfl ?_
    refine g_lookup (off := 84) (tgt := 85) X dX10_readNumbers_1 rfl (by decide) (by decide) (by decide) ?_
    refine g_aload_n X dX10_readNumbers_85 rfl rfl ?_
    refine g_aload_n X dX10_readNumbers_86 rfl rfl ?_
    refine g_iconst X dX10_readNumbers_87 rfl (v := (nI 2)) rfl ?_
    refine g_callVx X (ct_X10_number (a := a) (most := 1) hst hP ha (by decide)) dX10_readNumbers_88 rfl (lw_V q1590 q1592 qs23 q103 q1593) hyV_X10_number (fun H hH => hL.recv X.2.2.2.2.2.2.2.1 hH (PH_s) rfl) (fun H hH => hH) ⟨Nat.le_of_ble_eq_true rfl, Nat.le_of_ble_eq_true rfl⟩ ⟨by first | exact Nat.le_of_ble_eq_true rfl | omega | (dsimp only [rmD]; omega), by first | exact Nat.le_of_ble_eq_true rfl | omega | (dsimp only [rmD]; omega)⟩ (Nat.le_of_ble_eq_true rfl) rfl (fun E q => GX.pass X htab (by first | exact Nat.le_of_ble_eq_true rfl | omega) (by first | exact Nat.le_of_ble_eq_true rfl | omega) (fun H h => h.to (fun g => by rw [rdJ_2]; simp only [nuS_n g, nuS_f]; exact ⟨trivial, trivial⟩))) (fun n1 => ?_)
    have e1 := nuS_y (most := 2) n1.2.1
    refine l_put X dX10_readNumbers_91 rfl in_X10 tyX10_ok nmX10 (ci := 9) rfl 1 (by decide) q1466 (fun _ h => h) rfl rfl rfl rfl PH_s (Nat.le_of_ble_eq_true rfl) (PH_u n1.1.1 (n1.1.2, o.2.1, o.2.2)) ?_
    have er : rdJ t.2.1 2 a = ((n1.1.1, true), n1.1.2, 0, 0) := by rw [rdJ_2]; simp only [e1]
    refine g_goto (tgt := 154) X dX10_readNumbers_94 rfl (by decide) ?_
    refine g_vret X dX10_readNumbers_154 rfl (by first | exact Nat.le_of_ble_eq_true rfl | omega | (dsimp only [rmD]; omega)) (by first | exact Nat.le_of_ble_eq_true rfl | omega | (dsimp only [rmD]; omega)) (fun H hH => ⟨⟨(n1.1.2, o.2.1, o.2.2), by rw [er], by rw [er]; exact n1.2.2, by rw [er]; exact ⟨fun _ => rfl, fun g => absurd g (by decide), fun g => absurd g (by decide)⟩⟩, rfl, (congrArg (fun z : Nat => hL Ω (PH Γ pa x z (n1.1.2, o.2.1, o.2.2)) H) (congrArg (fun z : Rd => z.1.1) er)).mpr hH⟩)
  · rw [show sCh 0 0 = 103 by decide]
    refine CM.of (L := [some (.ref pa), some (.int (nI 103))]) hst (by decide) (Nat.le_of_ble_eq_true rfl) rfl ?_
    intro p e s m below meth c X hnm htab
    refine g_iload_n X dX10_readNumbers_0 rfl rfl ?_
    refine g_lookup (off := 51) (tgt := 52) X dX10_readNumbers_1 rfl (by decide) (by decide) (by decide) ?_
    refine g_goto (tgt := 154) X dX10_readNumbers_52 rfl (by decide) ?_
    refine g_vret X dX10_readNumbers_154 rfl (by first | exact Nat.le_of_ble_eq_true rfl | omega | (dsimp only [rmD]; omega)) (by first | exact Nat.le_of_ble_eq_true rfl | omega | (dsimp only [rmD]; omega)) (fun H hH => ⟨⟨o, rfl, ha, fun g => absurd rfl g, fun g => absurd g (by decide), fun g => absurd g (by decide)⟩, rfl, hH⟩)
  · rw [show sCh 4 0 = 108 by decide]
    refine CM.of (L := [some (.ref pa), some (.int (nI 108))]) hst (by decide) (Nat.le_of_ble_eq_true rfl) rfl ?_
    intro p e s m below meth c X hnm htab
    refine g_iload_n X dX10_readNumbers_0 rfl rfl ?_
    refine g_lookup (off := 96) (tgt := 97) X dX10_readNumbers_1 rfl (by decide) (by decide) (by decide) ?_
    refine g_aload_n X dX10_readNumbers_97 rfl rfl ?_
    refine g_aload_n X dX10_readNumbers_98 rfl rfl ?_
    refine g_iconst X dX10_readNumbers_99 rfl (v := (nI 1)) rfl ?_
    refine g_callVx X (ct_X10_number (a := a) (most := 0) hst hP ha (by decide)) dX10_readNumbers_100 rfl (lw_V q1590 q1592 qs23 q103 q1593) hyV_X10_number (fun H hH => hL.recv X.2.2.2.2.2.2.2.1 hH (PH_s) rfl) (fun H hH => hH) ⟨Nat.le_of_ble_eq_true rfl, Nat.le_of_ble_eq_true rfl⟩ ⟨by first | exact Nat.le_of_ble_eq_true rfl | omega | (dsimp only [rmD]; omega), by first | exact Nat.le_of_ble_eq_true rfl | omega | (dsimp only [rmD]; omega)⟩ (Nat.le_of_ble_eq_true rfl) rfl (fun E q => GX.pass X htab (by first | exact Nat.le_of_ble_eq_true rfl | omega) (by first | exact Nat.le_of_ble_eq_true rfl | omega) (fun H h => h.to (fun g => by rw [rdJ_4]; simp only [nuS_n g, nuS_f]; exact ⟨trivial, trivial⟩))) (fun n1 => ?_)
    have e1 := nuS_y (most := 1) n1.2.1
    refine l_put X dX10_readNumbers_103 rfl in_X10 tyX10_ok nmX10 (ci := 9) rfl 1 (by decide) q1466 (fun _ h => h) rfl rfl rfl rfl PH_s (Nat.le_of_ble_eq_true rfl) (PH_u n1.1.1 (n1.1.2, o.2.1, o.2.2)) ?_
    have er : rdJ t.2.1 4 a = ((n1.1.1, true), n1.1.2, 0, 0) := by rw [rdJ_4]; simp only [e1]
    refine g_goto (tgt := 154) X dX10_readNumbers_106 rfl (by decide) ?_
    refine g_vret X dX10_readNumbers_154 rfl (by first | exact Nat.le_of_ble_eq_true rfl | omega | (dsimp only [rmD]; omega)) (by first | exact Nat.le_of_ble_eq_true rfl | omega | (dsimp only [rmD]; omega)) (fun H hH => ⟨⟨(n1.1.2, o.2.1, o.2.2), by rw [er], by rw [er]; exact n1.2.2, by rw [er]; exact ⟨fun _ => rfl, fun g => absurd g (by decide), fun g => absurd g (by decide)⟩⟩, rfl, (congrArg (fun z : Nat => hL Ω (PH Γ pa x z (n1.1.2, o.2.1, o.2.2)) H) (congrArg (fun z : Rd => z.1.1) er)).mpr hH⟩)
  · rw [show sCh 5 0 = 119 by decide]
    refine CM.of (L := [some (.ref pa), some (.int (nI 119))]) hst (by decide) (Nat.le_of_ble_eq_true rfl) rfl ?_
    intro p e s m below meth c X hnm htab
    refine g_iload_n X dX10_readNumbers_0 rfl rfl ?_
    refine g_lookup (off := 108) (tgt := 109) X dX10_readNumbers_1 rfl (by decide) (by decide) (by decide) ?_
    refine g_aload_n X dX10_readNumbers_109 rfl rfl ?_
    refine g_aload_n X dX10_readNumbers_110 rfl rfl ?_
    refine g_bipush X dX10_readNumbers_111 rfl (v := (nI 32)) (by decide) ?_
    refine g_bipush X dX10_readNumbers_113 rfl (v := (nI 32)) (by decide) ?_
    refine g_callV X (ct_X10_sees (lo := 32) (hi := 32) hst hP ha (by decide)) dX10_readNumbers_115 rfl (lw_V q1557 q1559 qs21 q103 q1560) hyV_X10_sees (fun H hH => hL.recv X.2.2.2.2.2.2.2.1 hH (PH_s) rfl) (fun H hH => hH) ⟨Nat.le_of_ble_eq_true rfl, Nat.le_of_ble_eq_true rfl⟩ ⟨by first | exact Nat.le_of_ble_eq_true rfl | omega | (dsimp only [rmD]; omega), by first | exact Nat.le_of_ble_eq_true rfl | omega | (dsimp only [rmD]; omega)⟩ (Nat.le_of_ble_eq_true rfl) rfl (fun x_115 => ?_)
    refine g_if_eq (tgt := 129) X dX10_readNumbers_118 rfl (by decide) (fun c_118 => ?_) (fun c_118 => ?_)
    · rw [bI_0, bh_one hP (by decide)] at c_118
      have er : rdJ t.2.1 5 a = ((a, true), 1, 0, 0) := by rw [rdJ_5, if_neg c_118]
      refine g_iconst X dX10_readNumbers_129 rfl (v := (nI 1)) rfl ?_
      refine l_put X dX10_readNumbers_130 rfl in_X10 tyX10_ok nmX10 (ci := 9) rfl 1 (by decide) q1466 (fun _ h => h) rfl rfl rfl rfl PH_s (Nat.le_of_ble_eq_true rfl) (PH_u a (1, o.2.1, o.2.2)) ?_
      refine g_goto (tgt := 154) X dX10_readNumbers_133 rfl (by decide) ?_
      refine g_vret X dX10_readNumbers_154 rfl (by first | exact Nat.le_of_ble_eq_true rfl | omega | (dsimp only [rmD]; omega)) (by first | exact Nat.le_of_ble_eq_true rfl | omega | (dsimp only [rmD]; omega)) (fun H hH => ⟨⟨(1, o.2.1, o.2.2), by rw [er], by rw [er]; exact ha, by rw [er]; exact ⟨fun _ => rfl, fun g => absurd g (by decide), fun g => absurd g (by decide)⟩⟩, rfl, (congrArg (fun z : Nat => hL Ω (PH Γ pa x z (1, o.2.1, o.2.2)) H) (congrArg (fun z : Rd => z.1.1) er)).mpr hH⟩)
    · rw [bI_0, Classical.not_not, bh_one hP (by decide)] at c_118
      refine g_aload_n X dX10_readNumbers_121 rfl rfl ?_
      refine g_iconst X dX10_readNumbers_122 rfl (v := (nI 2)) rfl ?_
      refine g_callVx X (ct_X10_number (a := a) (most := 1) hst hP ha (by decide)) dX10_readNumbers_123 rfl (lw_V q1590 q1592 qs23 q103 q1593) hyV_X10_number (fun H hH => hL.recv X.2.2.2.2.2.2.2.1 hH (PH_s) rfl) (fun H hH => hH) ⟨Nat.le_of_ble_eq_true rfl, Nat.le_of_ble_eq_true rfl⟩ ⟨by first | exact Nat.le_of_ble_eq_true rfl | omega | (dsimp only [rmD]; omega), by first | exact Nat.le_of_ble_eq_true rfl | omega | (dsimp only [rmD]; omega)⟩ (Nat.le_of_ble_eq_true rfl) rfl (fun E q => GX.pass X htab (by first | exact Nat.le_of_ble_eq_true rfl | omega) (by first | exact Nat.le_of_ble_eq_true rfl | omega) (fun H h => h.to (fun g => by rw [rdJ_5, if_pos c_118]; simp only [nuS_n g]; exact ⟨trivial, trivial⟩))) (fun n1 => ?_)
      refine g_goto (tgt := 130) X dX10_readNumbers_126 rfl (by decide) ?_
      have e1 := nuS_y (most := 2) n1.2.1
      have er : rdJ t.2.1 5 a = ((n1.1.1, true), n1.1.2, 0, 0) := by rw [rdJ_5, if_pos c_118, e1]
      refine l_put X dX10_readNumbers_130 rfl in_X10 tyX10_ok nmX10 (ci := 9) rfl 1 (by decide) q1466 (fun _ h => h) rfl rfl rfl rfl PH_s (Nat.le_of_ble_eq_true rfl) (PH_u n1.1.1 (n1.1.2, o.2.1, o.2.2)) ?_
      refine g_goto (tgt := 154) X dX10_readNumbers_133 rfl (by decide) ?_
      refine g_vret X dX10_readNumbers_154 rfl (by first | exact Nat.le_of_ble_eq_true rfl | omega | (dsimp only [rmD]; omega)) (by first | exact Nat.le_of_ble_eq_true rfl | omega | (dsimp only [rmD]; omega)) (fun H hH => ⟨⟨(n1.1.2, o.2.1, o.2.2), by rw [er], by rw [er]; exact n1.2.2, by rw [er]; exact ⟨fun _ => rfl, fun g => absurd g (by decide), fun g => absurd g (by decide)⟩⟩, rfl, (congrArg (fun z : Nat => hL Ω (PH Γ pa x z (n1.1.2, o.2.1, o.2.2)) H) (congrArg (fun z : Rd => z.1.1) er)).mpr hH⟩)
  · rw [show sCh 3 0 = 113 by decide]
    refine CM.of (L := [some (.ref pa), some (.int (nI 113))]) hst (by decide) (Nat.le_of_ble_eq_true rfl) rfl ?_
    intro p e s m below meth c X hnm htab
    refine g_iload_n X dX10_readNumbers_0 rfl rfl ?_
    refine g_lookup (off := 135) (tgt := 136) X dX10_readNumbers_1 rfl (by decide) (by decide) (by decide) ?_
    refine g_aload_n X dX10_readNumbers_136 rfl rfl ?_
    refine g_aload_n X dX10_readNumbers_137 rfl rfl ?_
    refine g_iconst X dX10_readNumbers_138 rfl (v := (nI 1)) rfl ?_
    refine g_callVx X (ct_X10_number (a := a) (most := 0) hst hP ha (by decide)) dX10_readNumbers_139 rfl (lw_V q1590 q1592 qs23 q103 q1593) hyV_X10_number (fun H hH => hL.recv X.2.2.2.2.2.2.2.1 hH (PH_s) rfl) (fun H hH => hH) ⟨Nat.le_of_ble_eq_true rfl, Nat.le_of_ble_eq_true rfl⟩ ⟨by first | exact Nat.le_of_ble_eq_true rfl | omega | (dsimp only [rmD]; omega), by first | exact Nat.le_of_ble_eq_true rfl | omega | (dsimp only [rmD]; omega)⟩ (Nat.le_of_ble_eq_true rfl) rfl (fun E q => GX.pass X htab (by first | exact Nat.le_of_ble_eq_true rfl | omega) (by first | exact Nat.le_of_ble_eq_true rfl | omega) (fun H h => h.to (fun g => by rw [rdJ_3]; simp only [nuS_n g, nuS_f]; exact ⟨trivial, trivial⟩))) (fun n1 => ?_)
    have e1 := nuS_y (most := 1) n1.2.1
    refine l_put X dX10_readNumbers_142 rfl in_X10 tyX10_ok nmX10 (ci := 9) rfl 1 (by decide) q1466 (fun _ h => h) rfl rfl rfl rfl PH_s (Nat.le_of_ble_eq_true rfl) (PH_u n1.1.1 (n1.1.2, o.2.1, o.2.2)) ?_
    refine g_aload_n X dX10_readNumbers_145 rfl rfl ?_
    refine g_aload_n X dX10_readNumbers_146 rfl rfl ?_
    refine g_iconst X dX10_readNumbers_147 rfl (v := (nI 1)) rfl ?_
    refine g_callVx X (ct_X10_number (a := n1.1.1) (most := 0) hst hP n1.2.2 (by decide)) dX10_readNumbers_148 rfl (lw_V q1590 q1592 qs23 q103 q1593) hyV_X10_number (fun H hH => hL.recv X.2.2.2.2.2.2.2.1 hH (PH_s) rfl) (fun H hH => hH) ⟨Nat.le_of_ble_eq_true rfl, Nat.le_of_ble_eq_true rfl⟩ ⟨by first | exact Nat.le_of_ble_eq_true rfl | omega | (dsimp only [rmD]; omega), by first | exact Nat.le_of_ble_eq_true rfl | omega | (dsimp only [rmD]; omega)⟩ (Nat.le_of_ble_eq_true rfl) rfl (fun E q => GX.pass X htab (by first | exact Nat.le_of_ble_eq_true rfl | omega) (by first | exact Nat.le_of_ble_eq_true rfl | omega) (fun H h => h.to (fun g => by rw [rdJ_3]; simp only [e1, nuS_n g, nuS_f]; exact ⟨trivial, trivial⟩))) (fun n2 => ?_)
    have e2 := nuS_y (most := 1) n2.2.1
    refine l_put X dX10_readNumbers_151 rfl in_X10 tyX10_ok nmX10 (ci := 9) rfl 2 (by decide) q1467 (fun _ h => h) rfl rfl rfl rfl PH_s (Nat.le_of_ble_eq_true rfl) (PH_u n2.1.1 (n1.1.2, n2.1.2, o.2.2)) ?_
    have er : rdJ t.2.1 3 a = ((n2.1.1, true), n1.1.2, n2.1.2, 0) := by rw [rdJ_3]; simp only [e1, e2]
    refine g_vret X dX10_readNumbers_154 rfl (by first | exact Nat.le_of_ble_eq_true rfl | omega | (dsimp only [rmD]; omega)) (by first | exact Nat.le_of_ble_eq_true rfl | omega | (dsimp only [rmD]; omega)) (fun H hH => ⟨⟨(n1.1.2, n2.1.2, o.2.2), by rw [er], by rw [er]; exact n2.2.2, by rw [er]; exact ⟨fun _ => rfl, fun _ => rfl, fun g => absurd g (by decide)⟩⟩, rfl, (congrArg (fun z : Nat => hL Ω (PH Γ pa x z (n1.1.2, n2.1.2, o.2.2)) H) (congrArg (fun z : Rd => z.1.1) er)).mpr hH⟩)
  · rw [show sCh 6 0 = 115 by decide]
    refine CM.of (L := [some (.ref pa), some (.int (nI 115))]) hst (by decide) (Nat.le_of_ble_eq_true rfl) rfl ?_
    intro p e s m below meth c X hnm htab
    refine g_iload_n X dX10_readNumbers_0 rfl rfl ?_
    refine g_lookup (off := 135) (tgt := 136) X dX10_readNumbers_1 rfl (by decide) (by decide) (by decide) ?_
    refine g_aload_n X dX10_readNumbers_136 rfl rfl ?_
    refine g_aload_n X dX10_readNumbers_137 rfl rfl ?_
    refine g_iconst X dX10_readNumbers_138 rfl (v := (nI 1)) rfl ?_
    refine g_callVx X (ct_X10_number (a := a) (most := 0) hst hP ha (by decide)) dX10_readNumbers_139 rfl (lw_V q1590 q1592 qs23 q103 q1593) hyV_X10_number (fun H hH => hL.recv X.2.2.2.2.2.2.2.1 hH (PH_s) rfl) (fun H hH => hH) ⟨Nat.le_of_ble_eq_true rfl, Nat.le_of_ble_eq_true rfl⟩ ⟨by first | exact Nat.le_of_ble_eq_true rfl | omega | (dsimp only [rmD]; omega), by first | exact Nat.le_of_ble_eq_true rfl | omega | (dsimp only [rmD]; omega)⟩ (Nat.le_of_ble_eq_true rfl) rfl (fun E q => GX.pass X htab (by first | exact Nat.le_of_ble_eq_true rfl | omega) (by first | exact Nat.le_of_ble_eq_true rfl | omega) (fun H h => h.to (fun g => by rw [rdJ_6]; simp only [nuS_n g, nuS_f]; exact ⟨trivial, trivial⟩))) (fun n1 => ?_)
    have e1 := nuS_y (most := 1) n1.2.1
    refine l_put X dX10_readNumbers_142 rfl in_X10 tyX10_ok nmX10 (ci := 9) rfl 1 (by decide) q1466 (fun _ h => h) rfl rfl rfl rfl PH_s (Nat.le_of_ble_eq_true rfl) (PH_u n1.1.1 (n1.1.2, o.2.1, o.2.2)) ?_
    refine g_aload_n X dX10_readNumbers_145 rfl rfl ?_
    refine g_aload_n X dX10_readNumbers_146 rfl rfl ?_
    refine g_iconst X dX10_readNumbers_147 rfl (v := (nI 1)) rfl ?_
    refine g_callVx X (ct_X10_number (a := n1.1.1) (most := 0) hst hP n1.2.2 (by decide)) dX10_readNumbers_148 rfl (lw_V q1590 q1592 qs23 q103 q1593) hyV_X10_number (fun H hH => hL.recv X.2.2.2.2.2.2.2.1 hH (PH_s) rfl) (fun H hH => hH) ⟨Nat.le_of_ble_eq_true rfl, Nat.le_of_ble_eq_true rfl⟩ ⟨by first | exact Nat.le_of_ble_eq_true rfl | omega | (dsimp only [rmD]; omega), by first | exact Nat.le_of_ble_eq_true rfl | omega | (dsimp only [rmD]; omega)⟩ (Nat.le_of_ble_eq_true rfl) rfl (fun E q => GX.pass X htab (by first | exact Nat.le_of_ble_eq_true rfl | omega) (by first | exact Nat.le_of_ble_eq_true rfl | omega) (fun H h => h.to (fun g => by rw [rdJ_6]; simp only [e1, nuS_n g, nuS_f]; exact ⟨trivial, trivial⟩))) (fun n2 => ?_)
    have e2 := nuS_y (most := 1) n2.2.1
    refine l_put X dX10_readNumbers_151 rfl in_X10 tyX10_ok nmX10 (ci := 9) rfl 2 (by decide) q1467 (fun _ h => h) rfl rfl rfl rfl PH_s (Nat.le_of_ble_eq_true rfl) (PH_u n2.1.1 (n1.1.2, n2.1.2, o.2.2)) ?_
    have er : rdJ t.2.1 6 a = ((n2.1.1, true), n1.1.2, n2.1.2, 0) := by rw [rdJ_6]; simp only [e1, e2]
    refine g_vret X dX10_readNumbers_154 rfl (by first | exact Nat.le_of_ble_eq_true rfl | omega | (dsimp only [rmD]; omega)) (by first | exact Nat.le_of_ble_eq_true rfl | omega | (dsimp only [rmD]; omega)) (fun H hH => ⟨⟨(n1.1.2, n2.1.2, o.2.2), by rw [er], by rw [er]; exact n2.2.2, by rw [er]; exact ⟨fun _ => rfl, fun _ => rfl, fun g => absurd g (by decide)⟩⟩, rfl, (congrArg (fun z : Nat => hL Ω (PH Γ pa x z (n1.1.2, n2.1.2, o.2.2)) H) (congrArg (fun z : Rd => z.1.1) er)).mpr hH⟩)
end PS3
