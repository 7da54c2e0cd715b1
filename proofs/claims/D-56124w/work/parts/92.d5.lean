/-! STATE: cancel, join, leave -/
section D5
variable {l : Launch} {Ω : Om} {Γ0 Γ Γ' : LH} {a q y : Nat} {A : Ad} {σ : St} {xs : List Nat} {m0 : Int32}
set_option maxRecDepth 100000
theorem ct_X2_cancel (hst : l.stackTraces = false) (hS : SR Ω Γ0 Γ a A σ) (hx : Ex Γ0 Γ) (hB : Bd σ) {u : Int32} : CM Ω l yX2_cancel (ws_ yX2_cancel cX2_cancel 3 (some .int)) 16 8 100 [.ref a, .int u] (hL Ω Γ) (SO Ω Γ0 a (aCanc σ u)) (xR nmCa (aCanc σ u) (hL Ω Γ)) := by
  have b1 := hB.1
  refine CM.of (L := [some (.ref a), some (.int u), none]) hst (by decide) (Nat.le_of_ble_eq_true rfl) rfl ?_
  intro p e s m below meth c X hnm htab
  refine g_aload_n X dX2_cancel_0 rfl rfl ?_
  refine g_iload_n X dX2_cancel_1 rfl rfl ?_
  refine g_callVx X (ct_X2_booking hst hS b1.2.2.1) dX2_cancel_2 rfl (lw_V q999 q1000 q1001 q67 q1002) hyV_X2_booking (fun H hH => hL.recv X.2.2.2.2.2.2.2.1 hH (hS.st) rfl) (fun H hH => hH) ⟨Nat.le_of_ble_eq_true rfl, Nat.le_of_ble_eq_true rfl⟩ ⟨by first | exact Nat.le_of_ble_eq_true rfl | omega | (dsimp only [rmD]; omega), by first | exact Nat.le_of_ble_eq_true rfl | omega | (dsimp only [rmD]; omega)⟩ (Nat.le_of_ble_eq_true rfl) rfl (fun E q => GX.pass X htab (by first | exact Nat.le_of_ble_eq_true rfl | omega) (by first | exact Nat.le_of_ble_eq_true rfl | omega) (fun H h => ⟨1, aCanc_1 h.2.1, h.1, h.2.2⟩)) (fun xg => ?_)
  obtain ⟨yb, g1, g2⟩ := xg
  obtain ⟨k0, hk0, rfl⟩ := (ixI (by omega)).mp g2
  have r2 := fun h2 => aCanc_2 (σ := σ) g2 h2
  have r3 := fun h2 => aCanc_3 (σ := σ) g2 h2
  rw [iN_nI (by omega)] at r2 r3 g1
  have ob := hS.2.2.2.2.1.2 k0 yb g1
  have bb := hB.bo hk0
  have bs := hB.2.1 _ bb.2.1
  have bg := hB.2.2.2.1 _ bb.1
  obtain ⟨mS, hmS⟩ := hS.lS
  obtain ⟨x, x1, x2, x3, -⟩ := hS.sl bb.2.1
  have hcS := hS.cS2
  have hcB := hS.cB
  have hcG := hS.cG
  dsimp only
  by_cases h2 : boT σ k0 ≤ sM σ
  · refine g_astore_n X dX2_cancel_5 rfl (by decide) rfl rfl ?_
    refine g_aload_n X dX2_cancel_6 rfl rfl ?_
    refine l_getN X dX2_cancel_7 rfl in_X8 (ci := 7) rfl 2 (by decide) "SlidePark" q975 (fun _ h => h) ob rfl ?_
    refine g_aload_n X dX2_cancel_10 rfl rfl ?_
    refine l_get X dX2_cancel_11 rfl in_X2 (ci := 1) rfl 4 (by decide) q172 (fun _ h => h) hS.st rfl ?_
    refine g_icmp_le (tgt := 21) X dX2_cancel_14 rfl (by decide) (fun c_14 => ?_) (fun c => absurd ((nI_leI (by omega) (by omega)).mpr h2) c)
    refine g_iconst X dX2_cancel_21 rfl (v := (nI 0)) rfl ?_
    refine g_callSNx X "SlidePark" (ct_X1_requireState_f hst) dX2_cancel_22 rfl q793 q66 q791 q792 hyS_X1_requireState (fun H hH => hH) ⟨Nat.le_of_ble_eq_true rfl, Nat.le_of_ble_eq_true rfl⟩ ⟨by first | exact Nat.le_of_ble_eq_true rfl | omega | (dsimp only [rmD]; omega), by first | exact Nat.le_of_ble_eq_true rfl | omega | (dsimp only [rmD]; omega)⟩ (Nat.le_of_ble_eq_true rfl) rfl (fun E q => GX.pass X htab (by first | exact Nat.le_of_ble_eq_true rfl | omega) (by first | exact Nat.le_of_ble_eq_true rfl | omega) (fun H h => ⟨2, r2 h2, h.1, h.2.2⟩)) (fun x0 => ?_)
    exact x0.2.elim
  · refine g_astore_n X dX2_cancel_5 rfl (by decide) rfl rfl ?_
    refine g_aload_n X dX2_cancel_6 rfl rfl ?_
    refine l_getN X dX2_cancel_7 rfl in_X8 (ci := 7) rfl 2 (by decide) "SlidePark" q975 (fun _ h => h) ob rfl ?_
    refine g_aload_n X dX2_cancel_10 rfl rfl ?_
    refine l_get X dX2_cancel_11 rfl in_X2 (ci := 1) rfl 4 (by decide) q172 (fun _ h => h) hS.st rfl ?_
    refine g_icmp_le (tgt := 21) X dX2_cancel_14 rfl (by decide) (fun c => absurd ((nI_leI (by omega) (by omega)).mp c) h2) (fun c_14 => ?_)
    refine g_iconst X dX2_cancel_17 rfl (v := (nI 1)) rfl ?_
    refine g_goto (tgt := 22) X dX2_cancel_18 rfl (by decide) ?_
    refine g_callSN X "SlidePark" (ct_X1_requireState_t hst) dX2_cancel_22 rfl q793 q66 q791 q792 hyS_X1_requireState (fun H hH => hH) ⟨Nat.le_of_ble_eq_true rfl, Nat.le_of_ble_eq_true rfl⟩ ⟨by first | exact Nat.le_of_ble_eq_true rfl | omega | (dsimp only [rmD]; omega), by first | exact Nat.le_of_ble_eq_true rfl | omega | (dsimp only [rmD]; omega)⟩ (Nat.le_of_ble_eq_true rfl) rfl (fun x_22 => ?_)
    refine g_aload_n X dX2_cancel_25 rfl rfl ?_
    refine g_aload_n X dX2_cancel_26 rfl rfl ?_
    refine l_getN X dX2_cancel_27 rfl in_X8 (ci := 7) rfl 0 (by decide) "SlidePark" q969 (fun _ h => h) ob rfl ?_
    refine g_aload_n X dX2_cancel_30 rfl rfl ?_
    refine l_get X dX2_cancel_31 rfl in_X2 (ci := 1) rfl 0 (by decide) q164 (fun _ h => h) hS.st rfl ?_
    refine g_aload_n X dX2_cancel_34 rfl rfl ?_
    refine l_getN X dX2_cancel_35 rfl in_X8 (ci := 7) rfl 1 (by decide) "SlidePark" q972 (fun _ h => h) ob rfl ?_
    refine g_callV X (ct_J2_get hst hmS x2 (by omega)) dX2_cancel_38 rfl (lw_V q294 q295 q296 q70 q297) hyV_J2_get (fun H hH => hL.recvL X.2.2.2.2.2.2.2.1 hH (hmS)) (fun H hH => hH) ⟨Nat.le_of_ble_eq_true rfl, Nat.le_of_ble_eq_true rfl⟩ ⟨by first | exact Nat.le_of_ble_eq_true rfl | omega | (dsimp only [rmD]; omega), by first | exact Nat.le_of_ble_eq_true rfl | omega | (dsimp only [rmD]; omega)⟩ (Nat.le_of_ble_eq_true rfl) rfl (fun x_38 => ?_)
    refine g_cast X dX2_cancel_41 rfl q809 (fun H hH => hL.recv X.2.2.2.2.2.2.2.1 hH (x3) rfl) ?_
    refine l_getN X dX2_cancel_44 rfl in_X7 (ci := 6) rfl 1 (by decide) "SlidePark" q733 (fun _ h => h) x3 rfl ?_
    refine g_callV X (ct_X2_payBack hst hS hx b1.2.1 bb.1) dX2_cancel_47 rfl (lw_V q1003 q1005 qs12 q67 q1006) hyV_X2_payBack (fun H hH => hL.recv X.2.2.2.2.2.2.2.1 hH (hS.st) rfl) (fun H hH => hH) ⟨Nat.le_of_ble_eq_true rfl, Nat.le_of_ble_eq_true rfl⟩ ⟨by first | exact Nat.le_of_ble_eq_true rfl | omega | (dsimp only [rmD]; omega), by first | exact Nat.le_of_ble_eq_true rfl | omega | (dsimp only [rmD]; omega)⟩ (Nat.le_of_ble_eq_true rfl) rfl (fun x1 => ?_)
    obtain ⟨G, e1, S1, kb⟩ := x1
    have ob1 := kb _ _ ob
    obtain ⟨mB, hmB⟩ := S1.lB
    have S2 := S1.eraB (k := k0) (m := mB + nI 1) hk0
    have ob2 : isO (hu G (qdB A) (.inr ((laB A).eraseIdx k0, mB + nI 1))) yb 7 (boF σ k0) := kpO_L hmB _ _ ob1
    obtain ⟨mG, hmG⟩ := S2.lG
    obtain ⟨yg, y1, y2⟩ := S2.gu (i := boG σ k0) (by show boG σ k0 < ((sG σ).set (boG σ k0) (guC σ (boG σ k0) + slP σ (boS σ k0), guR σ (boG σ k0))).length; rw [List.length_set]; exact bb.1)
    have eg : guC (aDrop (aBack σ (boG σ k0) (slP σ (boS σ k0))) k0) (boG σ k0) = guC σ (boG σ k0) + slP σ (boS σ k0) := by
      show (((sG σ).set (boG σ k0) (guC σ (boG σ k0) + slP σ (boS σ k0), guR σ (boG σ k0))).getD (boG σ k0) (0, 0)).1 = _
      rw [getD_set bb.1, if_pos rfl]
    dsimp only
    refine g_aload_n X dX2_cancel_50 rfl rfl ?_
    refine l_get X dX2_cancel_51 rfl in_X2 (ci := 1) rfl 2 (by decide) q168 (fun _ h => h) S1.st rfl ?_
    refine g_iload_n X dX2_cancel_54 rfl rfl ?_
    refine g_callV X (ct_J2_remove hst hmB g1 (by omega) S1.eB) dX2_cancel_55 rfl (lw_V q1007 q822 q823 q70 q824) hyV_J2_remove (fun H hH => hL.recvL X.2.2.2.2.2.2.2.1 hH (hmB)) (fun H hH => hH) ⟨Nat.le_of_ble_eq_true rfl, Nat.le_of_ble_eq_true rfl⟩ ⟨by first | exact Nat.le_of_ble_eq_true rfl | omega | (dsimp only [rmD]; omega), by first | exact Nat.le_of_ble_eq_true rfl | omega | (dsimp only [rmD]; omega)⟩ (Nat.le_of_ble_eq_true rfl) rfl (fun x_55 => ?_)
    refine g_pop X dX2_cancel_58 rfl rfl ?_
    refine g_aload_n X dX2_cancel_59 rfl rfl ?_
    refine l_get X dX2_cancel_60 rfl in_X2 (ci := 1) rfl 1 (by decide) q166 (fun _ h => h) S2.st rfl ?_
    refine g_aload_n X dX2_cancel_63 rfl rfl ?_
    refine l_getN X dX2_cancel_64 rfl in_X8 (ci := 7) rfl 0 (by decide) "SlidePark" q969 (fun _ h => h) ob2 rfl ?_
    refine g_callV X (ct_J2_get hst hmG y1 (by show (laG A).length ≤ 1000; omega)) dX2_cancel_67 rfl (lw_V q294 q295 q296 q70 q297) hyV_J2_get (fun H hH => hL.recvL X.2.2.2.2.2.2.2.1 hH (hmG)) (fun H hH => hH) ⟨Nat.le_of_ble_eq_true rfl, Nat.le_of_ble_eq_true rfl⟩ ⟨by first | exact Nat.le_of_ble_eq_true rfl | omega | (dsimp only [rmD]; omega), by first | exact Nat.le_of_ble_eq_true rfl | omega | (dsimp only [rmD]; omega)⟩ (Nat.le_of_ble_eq_true rfl) rfl (fun x_67 => ?_)
    refine g_cast X dX2_cancel_70 rfl q841 (fun H hH => hL.recv X.2.2.2.2.2.2.2.1 hH (y2) rfl) ?_
    refine l_getN X dX2_cancel_73 rfl in_X5 (ci := 4) rfl 0 (by decide) "SlidePark" q597 (fun _ h => h) y2 (show _ = some (Value.int (nI (guC σ (boG σ k0) + slP σ (boS σ k0)))) by rw [← eg]; rfl) ?_
    refine g_iret X dX2_cancel_76 rfl (by first | exact Nat.le_of_ble_eq_true rfl | omega | (dsimp only [rmD]; omega)) (by first | exact Nat.le_of_ble_eq_true rfl | omega | (dsimp only [rmD]; omega)) (fun H hH => ⟨⟨(_, _, _, _), r3 h2, e1.put S1.2.1.2.2.1.2, S2⟩, rfl, hH⟩)
theorem ct_X2_join (hst : l.stackTraces = false) (hS : SR Ω Γ0 Γ a A σ) (hx : Ex Γ0 Γ) (hB : Bd σ) {u v : Int32} : CM Ω l yX2_join (ws_ yX2_join cX2_join 4 (some .int)) 20 12 140 [.ref a, .int u, .int v] (hL Ω Γ) (SO Ω Γ0 a (aJoin σ u v)) (xR nmJo (aJoin σ u v) (hL Ω Γ)) := by
  have b1 := hB.1
  refine CM.of (L := [some (.ref a), some (.int u), some (.int v), none]) hst (by decide) (Nat.le_of_ble_eq_true rfl) rfl ?_
  intro p e s m below meth c X hnm htab
  refine g_aload_n X dX2_join_0 rfl rfl ?_
  refine g_iload_n X dX2_join_1 rfl rfl ?_
  refine g_callVx X (ct_X2_guest hst hS b1.2.1) dX2_join_2 rfl (lw_V q887 q888 q889 q67 q890) hyV_X2_guest (fun H hH => hL.recv X.2.2.2.2.2.2.2.1 hH (hS.st) rfl) (fun H hH => hH) ⟨Nat.le_of_ble_eq_true rfl, Nat.le_of_ble_eq_true rfl⟩ ⟨by first | exact Nat.le_of_ble_eq_true rfl | omega | (dsimp only [rmD]; omega), by first | exact Nat.le_of_ble_eq_true rfl | omega | (dsimp only [rmD]; omega)⟩ (Nat.le_of_ble_eq_true rfl) rfl (fun E q => GX.pass X htab (by first | exact Nat.le_of_ble_eq_true rfl | omega) (by first | exact Nat.le_of_ble_eq_true rfl | omega) (fun H h => ⟨1, aJoin_1 (fun g => h.2.1 g.1), h.1, h.2.2⟩)) (fun xg => ?_)
  obtain ⟨yg, g1, g2⟩ := xg
  refine g_pop X dX2_join_5 rfl rfl ?_
  refine g_aload_n X dX2_join_6 rfl rfl ?_
  refine g_iload_n X dX2_join_7 rfl rfl ?_
  refine g_callVx X (ct_X2_slide hst hS b1.1) dX2_join_8 rfl (lw_V q913 q914 q915 q67 q916) hyV_X2_slide (fun H hH => hL.recv X.2.2.2.2.2.2.2.1 hH (hS.st) rfl) (fun H hH => hH) ⟨Nat.le_of_ble_eq_true rfl, Nat.le_of_ble_eq_true rfl⟩ ⟨by first | exact Nat.le_of_ble_eq_true rfl | omega | (dsimp only [rmD]; omega), by first | exact Nat.le_of_ble_eq_true rfl | omega | (dsimp only [rmD]; omega)⟩ (Nat.le_of_ble_eq_true rfl) rfl (fun E q => GX.pass X htab (by first | exact Nat.le_of_ble_eq_true rfl | omega) (by first | exact Nat.le_of_ble_eq_true rfl | omega) (fun H h => ⟨1, aJoin_1 (fun g => h.2.1 g.2), h.1, h.2.2⟩)) (fun xs => ?_)
  obtain ⟨ys, s1, s2⟩ := xs
  obtain ⟨g0, hg0, rfl⟩ := (ixI (by omega)).mp g2
  obtain ⟨s0, hs0, rfl⟩ := (ixI (by omega)).mp s2
  have r2 := fun h2 => aJoin_2 (σ := σ) ⟨g2, s2⟩ h2
  have r3 := fun h2 h3 => aJoin_3 (σ := σ) ⟨g2, s2⟩ h2 h3
  have r4 := fun h2 h3 => aJoin_4 (σ := σ) ⟨g2, s2⟩ h2 h3
  rw [iN_nI (by omega)] at r2
  rw [iN_nI (by omega), iN_nI (by omega)] at r3 r4
  rw [iN_nI (by omega)] at g1 s1
  obtain ⟨⟨o1, o2⟩, o3, ⟨mq, o4⟩, o5⟩ := hS.2.2.1.2 s0 ys s1
  have bs := hB.2.1 s0 hs0
  have bq := hB.2.2.1 s0 hs0
  have hlq : (iAd Ω (slQ σ s0)).length = (slQ σ s0).length := iAd_len
  dsimp only
  rcases qoI_or (σ := σ) (g := g0) with ⟨w1, w2⟩ | ⟨i, w1, w2⟩
  · have h2 : ¬ 0 < wai σ g0 := by omega
    refine l_getN X dX2_join_11 rfl in_X7 (ci := 6) rfl 2 (by decide) "SlidePark" q736 (fun _ h => h) o1 rfl ?_
    refine g_astore_n X dX2_join_14 rfl (by decide) rfl rfl ?_
    refine g_aload_n X dX2_join_15 rfl rfl ?_
    refine g_iload_n X dX2_join_16 rfl rfl ?_
    refine g_callV X (ct_X2_queueOf hst hS hB hg0) dX2_join_17 rfl (lw_V q1019 q1020 q1021 q67 q1022) hyV_X2_queueOf (fun H hH => hL.recv X.2.2.2.2.2.2.2.1 hH (hS.st) rfl) (fun H hH => hH) ⟨Nat.le_of_ble_eq_true rfl, Nat.le_of_ble_eq_true rfl⟩ ⟨by first | exact Nat.le_of_ble_eq_true rfl | omega | (dsimp only [rmD]; omega), by first | exact Nat.le_of_ble_eq_true rfl | omega | (dsimp only [rmD]; omega)⟩ (Nat.le_of_ble_eq_true rfl) rfl (fun x_17 => ?_)
    rw [w2]
    by_cases h3 : (slQ σ s0).length = 5
    · refine g_iconst X dX2_join_20 rfl (v := (-1)) rfl ?_
      refine g_icmp_ne (tgt := 28) X dX2_join_21 rfl (by decide) (fun c => absurd rfl c) (fun c_21 => ?_)
      refine g_iconst X dX2_join_24 rfl (v := (nI 1)) rfl ?_
      refine g_goto (tgt := 29) X dX2_join_25 rfl (by decide) ?_
      refine g_callSN X "SlidePark" (ct_X1_requireState_t hst) dX2_join_29 rfl q793 q66 q791 q792 hyS_X1_requireState (fun H hH => hH) ⟨Nat.le_of_ble_eq_true rfl, Nat.le_of_ble_eq_true rfl⟩ ⟨by first | exact Nat.le_of_ble_eq_true rfl | omega | (dsimp only [rmD]; omega), by first | exact Nat.le_of_ble_eq_true rfl | omega | (dsimp only [rmD]; omega)⟩ (Nat.le_of_ble_eq_true rfl) rfl (fun x_29 => ?_)
      refine g_aload_n X dX2_join_32 rfl rfl ?_
      refine g_callV X (ct_X6_size hst o3 o4) dX2_join_33 rfl (lw_V q1098 q1099 q1100 q84 q1101) hyV_X6_size (fun H hH => hL.recv X.2.2.2.2.2.2.2.1 hH (o3) rfl) (fun H hH => hH) ⟨Nat.le_of_ble_eq_true rfl, Nat.le_of_ble_eq_true rfl⟩ ⟨by first | exact Nat.le_of_ble_eq_true rfl | omega | (dsimp only [rmD]; omega), by first | exact Nat.le_of_ble_eq_true rfl | omega | (dsimp only [rmD]; omega)⟩ (Nat.le_of_ble_eq_true rfl) rfl (fun x_33 => ?_)
      refine g_iconst X dX2_join_36 rfl (v := (nI 5)) rfl ?_
      refine g_icmp_ge (tgt := 44) X dX2_join_37 rfl (by decide) (fun c_37 => ?_) (fun c => absurd ((nI_leI (by omega) (by omega)).mpr (by omega)) c)
      refine g_iconst X dX2_join_44 rfl (v := (nI 0)) rfl ?_
      refine g_callSNx X "SlidePark" (ct_X1_requireSupported_f hst) dX2_join_45 rfl q939 q66 q937 q938 hyS_X1_requireSupported (fun H hH => hH) ⟨Nat.le_of_ble_eq_true rfl, Nat.le_of_ble_eq_true rfl⟩ ⟨by first | exact Nat.le_of_ble_eq_true rfl | omega | (dsimp only [rmD]; omega), by first | exact Nat.le_of_ble_eq_true rfl | omega | (dsimp only [rmD]; omega)⟩ (Nat.le_of_ble_eq_true rfl) rfl (fun E q => GX.pass X htab (by first | exact Nat.le_of_ble_eq_true rfl | omega) (by first | exact Nat.le_of_ble_eq_true rfl | omega) (fun H h => ⟨3, r3 h2 h3, h.1, h.2.2⟩)) (fun x0 => ?_)
      exact x0.2.elim
    · have hE : ∀ z ∈ iAd Ω (slQ σ s0), okE Ω Γ z := fun z hz => by
        obtain ⟨n, hn, e⟩ := List.mem_map.mp hz
        exact Or.inr ⟨n + 128, by have := bq n hn; omega, e.symm⟩
      have S1 := hS.setQ (m := mq + nI 1) (is := slQ σ s0 ++ [g0]) s1
      have e1 : iAd Ω (slQ σ s0 ++ [g0]) = iAd Ω (slQ σ s0) ++ [oM Ω (g0 + 128)] := List.map_append ..
      rw [e1] at S1
      have o3' : isO (hu Γ ys.2.2 (.inr (iAd Ω (slQ σ s0) ++ [oM Ω (g0 + 128)], mq + nI 1))) ys.2.1 5 [.ref ys.2.2] := kpO_L o4 _ _ o3
      have o4' : hu Γ ys.2.2 (.inr (iAd Ω (slQ σ s0) ++ [oM Ω (g0 + 128)], mq + nI 1)) ys.2.2 = some (.inr (iAd Ω (slQ σ s0) ++ [oM Ω (g0 + 128)], mq + nI 1)) := hu_s _ _ _
      have hl2 : (iAd Ω (slQ σ s0) ++ [oM Ω (g0 + 128)]).length = (slQ σ s0).length + 1 := by rw [List.length_append, hlq]; rfl
      refine g_iconst X dX2_join_20 rfl (v := (-1)) rfl ?_
      refine g_icmp_ne (tgt := 28) X dX2_join_21 rfl (by decide) (fun c => absurd rfl c) (fun c_21 => ?_)
      refine g_iconst X dX2_join_24 rfl (v := (nI 1)) rfl ?_
      refine g_goto (tgt := 29) X dX2_join_25 rfl (by decide) ?_
      refine g_callSN X "SlidePark" (ct_X1_requireState_t hst) dX2_join_29 rfl q793 q66 q791 q792 hyS_X1_requireState (fun H hH => hH) ⟨Nat.le_of_ble_eq_true rfl, Nat.le_of_ble_eq_true rfl⟩ ⟨by first | exact Nat.le_of_ble_eq_true rfl | omega | (dsimp only [rmD]; omega), by first | exact Nat.le_of_ble_eq_true rfl | omega | (dsimp only [rmD]; omega)⟩ (Nat.le_of_ble_eq_true rfl) rfl (fun x_29 => ?_)
      refine g_aload_n X dX2_join_32 rfl rfl ?_
      refine g_callV X (ct_X6_size hst o3 o4) dX2_join_33 rfl (lw_V q1098 q1099 q1100 q84 q1101) hyV_X6_size (fun H hH => hL.recv X.2.2.2.2.2.2.2.1 hH (o3) rfl) (fun H hH => hH) ⟨Nat.le_of_ble_eq_true rfl, Nat.le_of_ble_eq_true rfl⟩ ⟨by first | exact Nat.le_of_ble_eq_true rfl | omega | (dsimp only [rmD]; omega), by first | exact Nat.le_of_ble_eq_true rfl | omega | (dsimp only [rmD]; omega)⟩ (Nat.le_of_ble_eq_true rfl) rfl (fun x_33 => ?_)
      refine g_iconst X dX2_join_36 rfl (v := (nI 5)) rfl ?_
      refine g_icmp_ge (tgt := 44) X dX2_join_37 rfl (by decide) (fun c => absurd ((nI_leI (by omega) (by omega)).mp c) (by omega)) (fun c_37 => ?_)
      refine g_iconst X dX2_join_40 rfl (v := (nI 1)) rfl ?_
      refine g_goto (tgt := 45) X dX2_join_41 rfl (by decide) ?_
      refine g_callSN X "SlidePark" (ct_X1_requireSupported_t hst) dX2_join_45 rfl q939 q66 q937 q938 hyS_X1_requireSupported (fun H hH => hH) ⟨Nat.le_of_ble_eq_true rfl, Nat.le_of_ble_eq_true rfl⟩ ⟨by first | exact Nat.le_of_ble_eq_true rfl | omega | (dsimp only [rmD]; omega), by first | exact Nat.le_of_ble_eq_true rfl | omega | (dsimp only [rmD]; omega)⟩ (Nat.le_of_ble_eq_true rfl) rfl (fun x_45 => ?_)
      refine g_aload_n X dX2_join_48 rfl rfl ?_
      refine g_iload_n X dX2_join_49 rfl rfl ?_
      refine g_callS X (ct_J21_valueOf hst (by omega)) dX2_join_50 rfl (lw_S q1023 q1024 q96 q1025) hyS_J21_valueOf (fun H hH => hH) ⟨Nat.le_of_ble_eq_true rfl, Nat.le_of_ble_eq_true rfl⟩ ⟨by first | exact Nat.le_of_ble_eq_true rfl | omega | (dsimp only [rmD]; omega), by first | exact Nat.le_of_ble_eq_true rfl | omega | (dsimp only [rmD]; omega)⟩ (Nat.le_of_ble_eq_true rfl) rfl (fun x_50 => ?_)
      refine g_callV X (ct_X6_join hst o3 o4 (by omega) hE (Or.inr ⟨g0 + 128, by omega, rfl⟩)) dX2_join_53 rfl (lw_V q1102 q1103 q1104 q84 q1105) hyV_X6_join (fun H hH => hL.recv X.2.2.2.2.2.2.2.1 hH (o3) rfl) (fun H hH => hH) ⟨Nat.le_of_ble_eq_true rfl, Nat.le_of_ble_eq_true rfl⟩ ⟨by first | exact Nat.le_of_ble_eq_true rfl | omega | (dsimp only [rmD]; omega), by first | exact Nat.le_of_ble_eq_true rfl | omega | (dsimp only [rmD]; omega)⟩ (Nat.le_of_ble_eq_true rfl) rfl (fun x_53 => ?_)
      refine g_aload_n X dX2_join_56 rfl rfl ?_
      refine g_callV X (ct_X6_size hst o3' o4') dX2_join_57 rfl (lw_V q1098 q1099 q1100 q84 q1101) hyV_X6_size (fun H hH => hL.recv X.2.2.2.2.2.2.2.1 hH (o3') rfl) (fun H hH => hH) ⟨Nat.le_of_ble_eq_true rfl, Nat.le_of_ble_eq_true rfl⟩ ⟨by first | exact Nat.le_of_ble_eq_true rfl | omega | (dsimp only [rmD]; omega), by first | exact Nat.le_of_ble_eq_true rfl | omega | (dsimp only [rmD]; omega)⟩ (Nat.le_of_ble_eq_true rfl) rfl (fun x_57 => ?_)
      refine g_iret X dX2_join_60 rfl (by first | exact Nat.le_of_ble_eq_true rfl | omega | (dsimp only [rmD]; omega)) (by first | exact Nat.le_of_ble_eq_true rfl | omega | (dsimp only [rmD]; omega)) (fun H hH => ⟨⟨(_, _, _, _), r4 h2 h3, hx.put o5, S1⟩, by rw [hl2], hH⟩)
  · have h2 : 0 < wai σ g0 := by omega
    have hwl := wai_leS (σ := σ) (g := g0)
    refine l_getN X dX2_join_11 rfl in_X7 (ci := 6) rfl 2 (by decide) "SlidePark" q736 (fun _ h => h) o1 rfl ?_
    refine g_astore_n X dX2_join_14 rfl (by decide) rfl rfl ?_
    refine g_aload_n X dX2_join_15 rfl rfl ?_
    refine g_iload_n X dX2_join_16 rfl rfl ?_
    refine g_callV X (ct_X2_queueOf hst hS hB hg0) dX2_join_17 rfl (lw_V q1019 q1020 q1021 q67 q1022) hyV_X2_queueOf (fun H hH => hL.recv X.2.2.2.2.2.2.2.1 hH (hS.st) rfl) (fun H hH => hH) ⟨Nat.le_of_ble_eq_true rfl, Nat.le_of_ble_eq_true rfl⟩ ⟨by first | exact Nat.le_of_ble_eq_true rfl | omega | (dsimp only [rmD]; omega), by first | exact Nat.le_of_ble_eq_true rfl | omega | (dsimp only [rmD]; omega)⟩ (Nat.le_of_ble_eq_true rfl) rfl (fun x_17 => ?_)
    rw [w2]
    refine g_iconst X dX2_join_20 rfl (v := (-1)) rfl ?_
    refine g_icmp_ne (tgt := 28) X dX2_join_21 rfl (by decide) (fun c_21 => ?_) (fun c => absurd c (nI_m1 (by omega)))
    refine g_iconst X dX2_join_28 rfl (v := (nI 0)) rfl ?_
    refine g_callSNx X "SlidePark" (ct_X1_requireState_f hst) dX2_join_29 rfl q793 q66 q791 q792 hyS_X1_requireState (fun H hH => hH) ⟨Nat.le_of_ble_eq_true rfl, Nat.le_of_ble_eq_true rfl⟩ ⟨by first | exact Nat.le_of_ble_eq_true rfl | omega | (dsimp only [rmD]; omega), by first | exact Nat.le_of_ble_eq_true rfl | omega | (dsimp only [rmD]; omega)⟩ (Nat.le_of_ble_eq_true rfl) rfl (fun E q => GX.pass X htab (by first | exact Nat.le_of_ble_eq_true rfl | omega) (by first | exact Nat.le_of_ble_eq_true rfl | omega) (fun H h => ⟨2, r2 h2, h.1, h.2.2⟩)) (fun x0 => ?_)
    exact x0.2.elim
theorem ct_X2_leave (hst : l.stackTraces = false) (hS : SR Ω Γ0 Γ a A σ) (hx : Ex Γ0 Γ) (hB : Bd σ) {u : Int32} : CM Ω l yX2_leave (ws_ yX2_leave cX2_leave 3 (some .int)) 20 8 100 [.ref a, .int u] (hL Ω Γ) (SO Ω Γ0 a (aLeave σ u)) (xR nmLe (aLeave σ u) (hL Ω Γ)) := by
  have b1 := hB.1
  refine CM.of (L := [some (.ref a), some (.int u), none]) hst (by decide) (Nat.le_of_ble_eq_true rfl) rfl ?_
  intro p e s m below meth c X hnm htab
  refine g_aload_n X dX2_leave_0 rfl rfl ?_
  refine g_iload_n X dX2_leave_1 rfl rfl ?_
  refine g_callVx X (ct_X2_guest hst hS b1.2.1) dX2_leave_2 rfl (lw_V q887 q888 q889 q67 q890) hyV_X2_guest (fun H hH => hL.recv X.2.2.2.2.2.2.2.1 hH (hS.st) rfl) (fun H hH => hH) ⟨Nat.le_of_ble_eq_true rfl, Nat.le_of_ble_eq_true rfl⟩ ⟨by first | exact Nat.le_of_ble_eq_true rfl | omega | (dsimp only [rmD]; omega), by first | exact Nat.le_of_ble_eq_true rfl | omega | (dsimp only [rmD]; omega)⟩ (Nat.le_of_ble_eq_true rfl) rfl (fun E q => GX.pass X htab (by first | exact Nat.le_of_ble_eq_true rfl | omega) (by first | exact Nat.le_of_ble_eq_true rfl | omega) (fun H h => ⟨1, aLeave_1 h.2.1, h.1, h.2.2⟩)) (fun xg => ?_)
  obtain ⟨yg, g1, g2⟩ := xg
  obtain ⟨g0, hg0, rfl⟩ := (ixI (by omega)).mp g2
  have r2 := fun h2 => aLeave_2 (σ := σ) g2 h2
  have r3 := fun h2 => aLeave_3 (σ := σ) g2 h2
  rw [iN_nI (by omega)] at r2 r3 g1
  dsimp only
  rcases qoI_or (σ := σ) (g := g0) with ⟨w1, w2⟩ | ⟨i, w1, w2⟩
  · refine g_pop X dX2_leave_5 rfl rfl ?_
    refine g_aload_n X dX2_leave_6 rfl rfl ?_
    refine g_iload_n X dX2_leave_7 rfl rfl ?_
    refine g_callV X (ct_X2_queueOf hst hS hB hg0) dX2_leave_8 rfl (lw_V q1019 q1020 q1021 q67 q1022) hyV_X2_queueOf (fun H hH => hL.recv X.2.2.2.2.2.2.2.1 hH (hS.st) rfl) (fun H hH => hH) ⟨Nat.le_of_ble_eq_true rfl, Nat.le_of_ble_eq_true rfl⟩ ⟨by first | exact Nat.le_of_ble_eq_true rfl | omega | (dsimp only [rmD]; omega), by first | exact Nat.le_of_ble_eq_true rfl | omega | (dsimp only [rmD]; omega)⟩ (Nat.le_of_ble_eq_true rfl) rfl (fun x_8 => ?_)
    rw [w2]
    refine g_istore_n X dX2_leave_11 rfl (by decide) rfl rfl ?_
    refine g_iload_n X dX2_leave_12 rfl rfl ?_
    refine g_iconst X dX2_leave_13 rfl (v := (-1)) rfl ?_
    refine g_icmp_eq (tgt := 21) X dX2_leave_14 rfl (by decide) (fun c_14 => ?_) (fun c => absurd rfl c)
    refine g_iconst X dX2_leave_21 rfl (v := (nI 0)) rfl ?_
    refine g_callSNx X "SlidePark" (ct_X1_requireElement_f hst) dX2_leave_22 rfl q1120 q66 q1118 q1119 hyS_X1_requireElement (fun H hH => hH) ⟨Nat.le_of_ble_eq_true rfl, Nat.le_of_ble_eq_true rfl⟩ ⟨by first | exact Nat.le_of_ble_eq_true rfl | omega | (dsimp only [rmD]; omega), by first | exact Nat.le_of_ble_eq_true rfl | omega | (dsimp only [rmD]; omega)⟩ (Nat.le_of_ble_eq_true rfl) rfl (fun E q => GX.pass X htab (by first | exact Nat.le_of_ble_eq_true rfl | omega) (by first | exact Nat.le_of_ble_eq_true rfl | omega) (fun H h => ⟨2, r2 w1, h.1, h.2.2⟩)) (fun x0 => ?_)
    exact x0.2.elim
  · have h2 : ¬ wai σ g0 = 0 := by omega
    obtain ⟨hi, hm⟩ := wai_some w1
    have r3 := r3 h2
    rw [w1, Nat.add_sub_cancel] at r3
    obtain ⟨mS, hmS⟩ := hS.lS
    obtain ⟨x, x1, x2, x3, x4, mq, x5⟩ := hS.sl hi
    have hcS := hS.cS2
    have bs := hB.2.1 i hi
    have bq := hB.2.2.1 i hi
    have o5 := (hS.2.2.1.2 i x x1).2.2.2
    have S1 := hS.setQ (m := mq + nI 1) (is := (slQ σ i).erase g0) x1
    refine g_pop X dX2_leave_5 rfl rfl ?_
    refine g_aload_n X dX2_leave_6 rfl rfl ?_
    refine g_iload_n X dX2_leave_7 rfl rfl ?_
    refine g_callV X (ct_X2_queueOf hst hS hB hg0) dX2_leave_8 rfl (lw_V q1019 q1020 q1021 q67 q1022) hyV_X2_queueOf (fun H hH => hL.recv X.2.2.2.2.2.2.2.1 hH (hS.st) rfl) (fun H hH => hH) ⟨Nat.le_of_ble_eq_true rfl, Nat.le_of_ble_eq_true rfl⟩ ⟨by first | exact Nat.le_of_ble_eq_true rfl | omega | (dsimp only [rmD]; omega), by first | exact Nat.le_of_ble_eq_true rfl | omega | (dsimp only [rmD]; omega)⟩ (Nat.le_of_ble_eq_true rfl) rfl (fun x_8 => ?_)
    rw [w2]
    refine g_istore_n X dX2_leave_11 rfl (by decide) rfl rfl ?_
    refine g_iload_n X dX2_leave_12 rfl rfl ?_
    refine g_iconst X dX2_leave_13 rfl (v := (-1)) rfl ?_
    refine g_icmp_eq (tgt := 21) X dX2_leave_14 rfl (by decide) (fun c => absurd c (nI_m1 (by omega))) (fun c_14 => ?_)
    refine g_iconst X dX2_leave_17 rfl (v := (nI 1)) rfl ?_
    refine g_goto (tgt := 22) X dX2_leave_18 rfl (by decide) ?_
    refine g_callSN X "SlidePark" (ct_X1_requireElement_t hst) dX2_leave_22 rfl q1120 q66 q1118 q1119 hyS_X1_requireElement (fun H hH => hH) ⟨Nat.le_of_ble_eq_true rfl, Nat.le_of_ble_eq_true rfl⟩ ⟨by first | exact Nat.le_of_ble_eq_true rfl | omega | (dsimp only [rmD]; omega), by first | exact Nat.le_of_ble_eq_true rfl | omega | (dsimp only [rmD]; omega)⟩ (Nat.le_of_ble_eq_true rfl) rfl (fun x_22 => ?_)
    refine g_aload_n X dX2_leave_25 rfl rfl ?_
    refine l_get X dX2_leave_26 rfl in_X2 (ci := 1) rfl 0 (by decide) q164 (fun _ h => h) hS.st rfl ?_
    refine g_iload_n X dX2_leave_29 rfl rfl ?_
    refine g_callV X (ct_J2_get hst hmS x2 (by omega)) dX2_leave_30 rfl (lw_V q294 q295 q296 q70 q297) hyV_J2_get (fun H hH => hL.recvL X.2.2.2.2.2.2.2.1 hH (hmS)) (fun H hH => hH) ⟨Nat.le_of_ble_eq_true rfl, Nat.le_of_ble_eq_true rfl⟩ ⟨by first | exact Nat.le_of_ble_eq_true rfl | omega | (dsimp only [rmD]; omega), by first | exact Nat.le_of_ble_eq_true rfl | omega | (dsimp only [rmD]; omega)⟩ (Nat.le_of_ble_eq_true rfl) rfl (fun x_30 => ?_)
    refine g_cast X dX2_leave_33 rfl q809 (fun H hH => hL.recv X.2.2.2.2.2.2.2.1 hH (x3) rfl) ?_
    refine l_getN X dX2_leave_36 rfl in_X7 (ci := 6) rfl 2 (by decide) "SlidePark" q736 (fun _ h => h) x3 rfl ?_
    refine g_iload_n X dX2_leave_39 rfl rfl ?_
    refine g_callS X (ct_J21_valueOf hst (by omega)) dX2_leave_40 rfl (lw_S q1023 q1024 q96 q1025) hyS_J21_valueOf (fun H hH => hH) ⟨Nat.le_of_ble_eq_true rfl, Nat.le_of_ble_eq_true rfl⟩ ⟨by first | exact Nat.le_of_ble_eq_true rfl | omega | (dsimp only [rmD]; omega), by first | exact Nat.le_of_ble_eq_true rfl | omega | (dsimp only [rmD]; omega)⟩ (Nat.le_of_ble_eq_true rfl) rfl (fun x_40 => ?_)
    refine g_callV X (ct_X6_remove hst x4 x5 (by omega) (fun n hn => by have := bq n hn; omega) (by omega) hm) dX2_leave_43 rfl (lw_V q1121 q1122 q1123 q84 q1124) hyV_X6_remove (fun H hH => hL.recv X.2.2.2.2.2.2.2.1 hH (x4) rfl) (fun H hH => hH) ⟨Nat.le_of_ble_eq_true rfl, Nat.le_of_ble_eq_true rfl⟩ ⟨by first | exact Nat.le_of_ble_eq_true rfl | omega | (dsimp only [rmD]; omega), by first | exact Nat.le_of_ble_eq_true rfl | omega | (dsimp only [rmD]; omega)⟩ (Nat.le_of_ble_eq_true rfl) rfl (fun x_43 => ?_)
    refine g_pop X dX2_leave_46 rfl rfl ?_
    refine g_iload_n X dX2_leave_47 rfl rfl ?_
    refine g_iret X dX2_leave_48 rfl (by first | exact Nat.le_of_ble_eq_true rfl | omega | (dsimp only [rmD]; omega)) (by first | exact Nat.le_of_ble_eq_true rfl | omega | (dsimp only [rmD]; omega)) (fun H hH => ⟨⟨(_, _, _, _), r3, hx.put o5, S1⟩, rfl, hH⟩)
end D5
