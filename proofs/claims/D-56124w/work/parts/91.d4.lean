/-! STATE: build, addGuest, book -/
section D4
variable {l : Launch} {Ω : Om} {Γ0 Γ Γ' : LH} {a q y : Nat} {A : Ad} {σ : St} {xs : List Nat} {m0 : Int32}
set_option maxRecDepth 100000
theorem ct_X2_build (hst : l.stackTraces = false) (hS : SR Ω Γ0 Γ a A σ) (hx : Ex Γ0 Γ) (hB : Bd σ) {u w : Int32} : CM Ω l yX2_build (ws_ yX2_build cX2_build 3 (some .int)) 16 10 120 [.ref a, .int u, .int w] (hL Ω Γ) (SO Ω Γ0 a (aBuild σ u w)) (xR nmBu (aBuild σ u w) (hL Ω Γ)) := by
  obtain ⟨mS, hmS⟩ := hS.lS
  have b1 := hB.1
  have hcS := hS.cS2
  refine CM.of (L := [some (.ref a), some (.int u), some (.int w)]) hst (by decide) (Nat.le_of_ble_eq_true rfl) rfl ?_
  intro p e s m below meth c X hnm htab
  refine GJ.cutv 25 (bI ((nI 1 ≤ u ∧ u ≤ nI 9) ∧ (nI 1 ≤ w ∧ w ≤ nI 9))) ?_ (fun hj => ?_)
  · by_cases hP : (nI 1 ≤ u ∧ u ≤ nI 9) ∧ (nI 1 ≤ w ∧ w ≤ nI 9)
    · refine g_callSNx X "SlidePark" (ct_X1_requireArgument hst) dX2_build_25 rfl q775 q66 q773 q774 hyS_X1_requireArgument (fun H hH => hH) ⟨Nat.le_of_ble_eq_true rfl, Nat.le_of_ble_eq_true rfl⟩ ⟨by first | exact Nat.le_of_ble_eq_true rfl | omega | (dsimp only [rmD]; omega), by first | exact Nat.le_of_ble_eq_true rfl | omega | (dsimp only [rmD]; omega)⟩ (Nat.le_of_ble_eq_true rfl) rfl (fun E q => GX.not (fun h => h hP)) (fun x_25 => ?_)
      refine GJ.cutv 44 (bI (nS σ < 4)) ?_ (fun hj => ?_)
      · by_cases h4 : nS σ = 4
        · refine g_callSNx X "SlidePark" (ct_X1_requireState hst) dX2_build_44 rfl q793 q66 q791 q792 hyS_X1_requireState (fun H hH => hH) ⟨Nat.le_of_ble_eq_true rfl, Nat.le_of_ble_eq_true rfl⟩ ⟨by first | exact Nat.le_of_ble_eq_true rfl | omega | (dsimp only [rmD]; omega), by first | exact Nat.le_of_ble_eq_true rfl | omega | (dsimp only [rmD]; omega)⟩ (Nat.le_of_ble_eq_true rfl) rfl (fun E q => GX.pass X htab (by first | exact Nat.le_of_ble_eq_true rfl | omega) (by first | exact Nat.le_of_ble_eq_true rfl | omega) (fun H h => ⟨2, aBuild_2 hP h4, h.1, h.2.2⟩)) (fun x0 => ?_)
          exact absurd x0.down (by omega)
        · have hlt : nS σ < 4 := by omega
          obtain ⟨u0, hu0, hu1, rfl⟩ := (rgI (by decide) (by decide)).mp hP.1
          obtain ⟨w0, hw0, hw1, rfl⟩ := (rgI (by decide) (by decide)).mp hP.2
          have r3 := aBuild_3 hP h4
          rw [iN_nI (by omega), iN_nI (by omega)] at r3
          refine g_callSNx X "SlidePark" (ct_X1_requireState hst) dX2_build_44 rfl q793 q66 q791 q792 hyS_X1_requireState (fun H hH => hH) ⟨Nat.le_of_ble_eq_true rfl, Nat.le_of_ble_eq_true rfl⟩ ⟨by first | exact Nat.le_of_ble_eq_true rfl | omega | (dsimp only [rmD]; omega), by first | exact Nat.le_of_ble_eq_true rfl | omega | (dsimp only [rmD]; omega)⟩ (Nat.le_of_ble_eq_true rfl) rfl (fun E q => GX.not (fun h => h hlt)) (fun x_44 => ?_)
          refine g_aload_n X dX2_build_47 rfl rfl ?_
          refine l_get X dX2_build_48 rfl in_X2 (ci := 1) rfl 0 (by decide) q164 (fun _ h => h) hS.st rfl ?_
          refine l_new X dX2_build_51 rfl (fs := [.int 0, .int 0, .null, .int 0]) in_X7 tyX7_ok q809 q723 q85 (ci := 6) rfl (by decide) (by first | exact Nat.le_of_ble_eq_true rfl | omega | (dsimp only [rmD]; omega)) (by first | exact Nat.le_of_ble_eq_true rfl | omega | (dsimp only [rmD]; omega)) (fun q1 n1 => ?_)
          refine g_dup X dX2_build_54 rfl rfl ?_
          refine g_iload_n X dX2_build_55 rfl rfl ?_
          refine g_iload_n X dX2_build_56 rfl rfl ?_
          refine l_new X dX2_build_57 rfl (fs := [.null]) in_X6 tyX6_ok q810 q699 q84 (ci := 5) rfl (by decide) (by first | exact Nat.le_of_ble_eq_true rfl | omega | (dsimp only [rmD]; omega)) (by first | exact Nat.le_of_ble_eq_true rfl | omega | (dsimp only [rmD]; omega)) (fun q2 n2 => ?_)
          refine g_dup X dX2_build_60 rfl rfl ?_
          refine g_callIN X "SlidePark" (ct_X6_init hst (hu_s _ _ _)) dX2_build_61 rfl q702 q84 q811 q701 rfl hyS_X6_init (fun H hH => hH) ⟨Nat.le_of_ble_eq_true rfl, Nat.le_of_ble_eq_true rfl⟩ ⟨by first | exact Nat.le_of_ble_eq_true rfl | omega | (dsimp only [rmD]; omega), by first | exact Nat.le_of_ble_eq_true rfl | omega | (dsimp only [rmD]; omega)⟩ (Nat.le_of_ble_eq_true rfl) rfl (fun x0 => ?_)
          obtain ⟨q3, n3⟩ := x0
          dsimp only
          have d12 : q1 ≠ q2 := fun e => by rw [← e, hu_s] at n2; simp at n2
          have n2' : Γ q2 = none := by rw [← n2]; exact (hu_n d12.symm).symm
          have d23 : q2 ≠ q3 := fun e => by rw [← e, hu_s] at n3; simp at n3
          have n3a := n3
          rw [hu_n d23.symm] at n3a
          have d13 : q1 ≠ q3 := fun e => by rw [← e, hu_s] at n3a; simp at n3a
          have n3' : Γ q3 = none := by rw [← n3a]; exact (hu_n d13.symm).symm
          generalize hG : hu (hu (hu (hu Γ q1 _) q2 _) q3 _) q2 _ = G3
          have c1 : G3 q1 = some (.inl (.inr (6, [.int 0, .int 0, .null, .int 0]))) := by rw [← hG]; exact (hu_n d12).trans ((hu_n d13).trans ((hu_n d12).trans (hu_s _ _ _)))
          have c2 : isO G3 q2 5 [.ref q3] := by rw [← hG]; exact hu_s _ _ _
          have c3 : G3 q3 = some (.inr ([], 0)) := by rw [← hG]; exact (hu_n d23.symm).trans (hu_s _ _ _)
          have E3 : Ex Γ G3 := by rw [← hG]; exact (((Ex.rf.put n1).put n2').put n3').put n2'
          refine g_callI X (ct_X7_init hst c1) dX2_build_64 rfl q727 q85 q812 q726 rfl hyS_X7_init (fun H hH => hH) ⟨Nat.le_of_ble_eq_true rfl, Nat.le_of_ble_eq_true rfl⟩ ⟨by first | exact Nat.le_of_ble_eq_true rfl | omega | (dsimp only [rmD]; omega), by first | exact Nat.le_of_ble_eq_true rfl | omega | (dsimp only [rmD]; omega)⟩ (Nat.le_of_ble_eq_true rfl) rfl (fun x_64 => ?_)
          have E4 : Ex Γ (hu G3 q1 (.inl (.inr (6, [.int (nI u0), .int (nI w0), .ref q2, .int 0])))) := E3.put n1
          have S4 := hS.mono E4
          have h6 : isO (hu G3 q1 (.inl (.inr (6, [.int (nI u0), .int (nI w0), .ref q2, .int 0])))) q1 6 [.int (nI u0), .int (nI w0), .ref q2, .int (nI 0)] := hu_s _ _ _
          have hm4 := E4 _ _ hmS
          obtain ⟨mg, hmg⟩ := hS.lG
          obtain ⟨mb, hmb⟩ := hS.lB
          obtain ⟨ml, hml⟩ := hS.lL
          have S5 := S4.addS (x := (q1, q2, q3)) (m := mS + nI 1) h6 (hx.no n1) ((hu_n d12.symm).trans c2) ⟨⟨0, (hu_n d13.symm).trans c3⟩, hx.no n3'⟩ (fun i z hz => ⟨neN (hS.2.2.1.2 i z hz).1.1 n1, (hS.2.2.1.2 i z hz).2.2.1.elim (fun m9 h9 => neN h9 n3')⟩) ⟨(neN hmS n3').symm, (neN hmg n3').symm, (neN hmb n3').symm, (neN hml n3').symm⟩ (fun k hk => (hB.bo hk).2.1)
          obtain ⟨m5, hm5⟩ := S5.lS
          have hc5 := S5.cS2
          have hn5 : nS (uS σ (sS σ ++ [(u0, w0, 0, [])])) = nS σ + 1 := by show (sS σ ++ _).length = _; rw [List.length_append]; rfl
          refine g_callV X (ct_J2_add hst hm4 (by omega) S4.eS (Or.inl ⟨6, _, h6, by simp⟩)) dX2_build_67 rfl (lw_V q757 q620 q621 q70 q622) hyV_J2_add (fun H hH => hL.recvL X.2.2.2.2.2.2.2.1 hH (hm4)) (fun H hH => hH) ⟨Nat.le_of_ble_eq_true rfl, Nat.le_of_ble_eq_true rfl⟩ ⟨by first | exact Nat.le_of_ble_eq_true rfl | omega | (dsimp only [rmD]; omega), by first | exact Nat.le_of_ble_eq_true rfl | omega | (dsimp only [rmD]; omega)⟩ (Nat.le_of_ble_eq_true rfl) rfl (fun x_67 => ?_)
          refine g_pop X dX2_build_70 rfl rfl ?_
          refine g_aload_n X dX2_build_71 rfl rfl ?_
          refine l_get X dX2_build_72 rfl in_X2 (ci := 1) rfl 0 (by decide) q164 (fun _ h => h) S5.st rfl ?_
          refine g_callV X (ct_J2_size hst hm5) dX2_build_75 rfl (lw_V q293 q270 q271 q70 q272) hyV_J2_size (fun H hH => hL.recvL X.2.2.2.2.2.2.2.1 hH (hm5)) (fun H hH => hH) ⟨Nat.le_of_ble_eq_true rfl, Nat.le_of_ble_eq_true rfl⟩ ⟨by first | exact Nat.le_of_ble_eq_true rfl | omega | (dsimp only [rmD]; omega), by first | exact Nat.le_of_ble_eq_true rfl | omega | (dsimp only [rmD]; omega)⟩ (Nat.le_of_ble_eq_true rfl) rfl (fun x_75 => ?_)
          refine g_iconst X dX2_build_78 rfl (v := (nI 1)) rfl ?_
          refine g_isub X dX2_build_79 rfl (show _ = nI (nS σ) by rw [hc5, hn5, pk_sub (by omega)]; rfl) ?_
          refine g_iret X dX2_build_80 rfl (by first | exact Nat.le_of_ble_eq_true rfl | omega | (dsimp only [rmD]; omega)) (by first | exact Nat.le_of_ble_eq_true rfl | omega | (dsimp only [rmD]; omega)) (fun H hH => ⟨⟨(_, _, nS σ, _), r3, (hx.tr E4).put S4.2.1.1.2, S5⟩, rfl, hH⟩)
      · refine g_aload_n X dX2_build_28 rfl rfl ?_
        refine l_get X dX2_build_29 rfl in_X2 (ci := 1) rfl 0 (by decide) q164 (fun _ h => h) hS.st rfl ?_
        refine g_callV X (ct_J2_size hst hmS) dX2_build_32 rfl (lw_V q293 q270 q271 q70 q272) hyV_J2_size (fun H hH => hL.recvL X.2.2.2.2.2.2.2.1 hH (hmS)) (fun H hH => hH) ⟨Nat.le_of_ble_eq_true rfl, Nat.le_of_ble_eq_true rfl⟩ ⟨by first | exact Nat.le_of_ble_eq_true rfl | omega | (dsimp only [rmD]; omega), by first | exact Nat.le_of_ble_eq_true rfl | omega | (dsimp only [rmD]; omega)⟩ (Nat.le_of_ble_eq_true rfl) rfl (fun x_32 => ?_)
        refine g_iconst X dX2_build_35 rfl (v := (nI 4)) rfl ?_
        refine g_icmp_ge (tgt := 43) X dX2_build_36 rfl (by decide) (fun c_36 => ?_) (fun c_36 => ?_)
        · rw [nI_leI (by omega) (by omega), hcS] at c_36
          refine g_iconst X dX2_build_43 rfl (v := (nI 0)) rfl ?_
          exact GJ.top (bI_f (by omega)).symm hj
        · rw [nI_leI (by omega) (by omega), hcS] at c_36
          refine g_iconst X dX2_build_39 rfl (v := (nI 1)) rfl ?_
          refine g_goto (tgt := 44) X dX2_build_40 rfl (by decide) ?_
          exact GJ.top (bI_t (by omega)).symm hj
    · refine g_callSNx X "SlidePark" (ct_X1_requireArgument hst) dX2_build_25 rfl q775 q66 q773 q774 hyS_X1_requireArgument (fun H hH => hH) ⟨Nat.le_of_ble_eq_true rfl, Nat.le_of_ble_eq_true rfl⟩ ⟨by first | exact Nat.le_of_ble_eq_true rfl | omega | (dsimp only [rmD]; omega), by first | exact Nat.le_of_ble_eq_true rfl | omega | (dsimp only [rmD]; omega)⟩ (Nat.le_of_ble_eq_true rfl) rfl (fun E q => GX.pass X htab (by first | exact Nat.le_of_ble_eq_true rfl | omega) (by first | exact Nat.le_of_ble_eq_true rfl | omega) (fun H h => ⟨1, aBuild_1 hP, h.1, h.2.2⟩)) (fun x0 => ?_)
      exact absurd x0.down hP
  · refine g_iload_n X dX2_build_0 rfl rfl ?_
    refine g_iconst X dX2_build_1 rfl (v := (nI 1)) rfl ?_
    refine g_bipush X dX2_build_2 rfl (v := (nI 9)) (by decide) ?_
    refine g_callSN X "SlidePark" (ct_X1_isBetween hst) dX2_build_4 rfl q447 q66 q772 q446 hyS_X1_isBetween (fun H hH => hH) ⟨Nat.le_of_ble_eq_true rfl, Nat.le_of_ble_eq_true rfl⟩ ⟨by first | exact Nat.le_of_ble_eq_true rfl | omega | (dsimp only [rmD]; omega), by first | exact Nat.le_of_ble_eq_true rfl | omega | (dsimp only [rmD]; omega)⟩ (Nat.le_of_ble_eq_true rfl) rfl (fun x_4 => ?_)
    refine g_if_eq (tgt := 24) X dX2_build_7 rfl (by decide) (fun c_7 => ?_) (fun c_7 => ?_)
    · have h1 := bI_0.mp c_7
      refine g_iconst X dX2_build_24 rfl (v := (nI 0)) rfl ?_
      exact GJ.top (bI_f (fun g => h1 g.1)).symm hj
    · have h1 := bI_n0.mp c_7
      refine g_iload_n X dX2_build_10 rfl rfl ?_
      refine g_iconst X dX2_build_11 rfl (v := (nI 1)) rfl ?_
      refine g_bipush X dX2_build_12 rfl (v := (nI 9)) (by decide) ?_
      refine g_callSN X "SlidePark" (ct_X1_isBetween hst) dX2_build_14 rfl q447 q66 q772 q446 hyS_X1_isBetween (fun H hH => hH) ⟨Nat.le_of_ble_eq_true rfl, Nat.le_of_ble_eq_true rfl⟩ ⟨by first | exact Nat.le_of_ble_eq_true rfl | omega | (dsimp only [rmD]; omega), by first | exact Nat.le_of_ble_eq_true rfl | omega | (dsimp only [rmD]; omega)⟩ (Nat.le_of_ble_eq_true rfl) rfl (fun x_14 => ?_)
      refine g_if_eq (tgt := 24) X dX2_build_17 rfl (by decide) (fun c_17 => ?_) (fun c_17 => ?_)
      · have h2 := bI_0.mp c_17
        refine g_iconst X dX2_build_24 rfl (v := (nI 0)) rfl ?_
        exact GJ.top (bI_f (fun g => h2 g.2)).symm hj
      · have h2 := bI_n0.mp c_17
        refine g_iconst X dX2_build_20 rfl (v := (nI 1)) rfl ?_
        refine g_goto (tgt := 25) X dX2_build_21 rfl (by decide) ?_
        exact GJ.top (bI_t ⟨h1, h2⟩).symm hj
theorem ct_X2_addGuest (hst : l.stackTraces = false) (hS : SR Ω Γ0 Γ a A σ) (hx : Ex Γ0 Γ) (hB : Bd σ) : CM Ω l yX2_addGuest (ws_ yX2_addGuest cX2_addGuest 1 (some .int)) 16 8 100 [.ref a] (hL Ω Γ) (SO Ω Γ0 a (aAddG σ)) (xR nmAd (aAddG σ) (hL Ω Γ)) := by
  obtain ⟨mG, hmG⟩ := hS.lG
  have b1 := hB.1
  have hcG := hS.cG
  refine CM.of (L := [some (.ref a)]) hst (by decide) (Nat.le_of_ble_eq_true rfl) rfl ?_
  intro p e s m below meth c X hnm htab
  refine GJ.cutv 17 (bI (nG σ < 10)) ?_ (fun hj => ?_)
  · by_cases h10 : nG σ = 10
    · refine g_callSNx X "SlidePark" (ct_X1_requireState hst) dX2_addGuest_17 rfl q793 q66 q791 q792 hyS_X1_requireState (fun H hH => hH) ⟨Nat.le_of_ble_eq_true rfl, Nat.le_of_ble_eq_true rfl⟩ ⟨by first | exact Nat.le_of_ble_eq_true rfl | omega | (dsimp only [rmD]; omega), by first | exact Nat.le_of_ble_eq_true rfl | omega | (dsimp only [rmD]; omega)⟩ (Nat.le_of_ble_eq_true rfl) rfl (fun E q => GX.pass X htab (by first | exact Nat.le_of_ble_eq_true rfl | omega) (by first | exact Nat.le_of_ble_eq_true rfl | omega) (fun H h => ⟨1, aAddG_1 h10, h.1, h.2.2⟩)) (fun x0 => ?_)
      exact absurd x0.down (by omega)
    · have hlt : nG σ < 10 := by omega
      refine g_callSNx X "SlidePark" (ct_X1_requireState hst) dX2_addGuest_17 rfl q793 q66 q791 q792 hyS_X1_requireState (fun H hH => hH) ⟨Nat.le_of_ble_eq_true rfl, Nat.le_of_ble_eq_true rfl⟩ ⟨by first | exact Nat.le_of_ble_eq_true rfl | omega | (dsimp only [rmD]; omega), by first | exact Nat.le_of_ble_eq_true rfl | omega | (dsimp only [rmD]; omega)⟩ (Nat.le_of_ble_eq_true rfl) rfl (fun E q => GX.not (fun h => h hlt)) (fun x_17 => ?_)
      refine g_aload_n X dX2_addGuest_20 rfl rfl ?_
      refine l_get X dX2_addGuest_21 rfl in_X2 (ci := 1) rfl 1 (by decide) q166 (fun _ h => h) hS.st rfl ?_
      refine l_new X dX2_addGuest_24 rfl (fs := [.int 0, .int 0]) in_X5 tyX5_ok q841 q591 q79 (ci := 4) rfl (by decide) (by first | exact Nat.le_of_ble_eq_true rfl | omega | (dsimp only [rmD]; omega)) (by first | exact Nat.le_of_ble_eq_true rfl | omega | (dsimp only [rmD]; omega)) (fun yg ng => ?_)
      refine g_dup X dX2_addGuest_27 rfl rfl ?_
      refine g_callIN X "SlidePark" (ct_X5_init hst (hu_s _ _ _)) dX2_addGuest_28 rfl q594 q79 q842 q593 rfl hyS_X5_init (fun H hH => hH) ⟨Nat.le_of_ble_eq_true rfl, Nat.le_of_ble_eq_true rfl⟩ ⟨by first | exact Nat.le_of_ble_eq_true rfl | omega | (dsimp only [rmD]; omega), by first | exact Nat.le_of_ble_eq_true rfl | omega | (dsimp only [rmD]; omega)⟩ (Nat.le_of_ble_eq_true rfl) rfl (fun x_28 => ?_)
      rw [hu_hu]
      have S2 : SR Ω Γ0 (hu Γ yg (.inl (.inr (4, [.int (nI 50), .int 0])))) a A σ := hS.new ng
      have e2 : Ex Γ0 (hu Γ yg (.inl (.inr (4, [.int (nI 50), .int 0])))) := hx.put (hx.no ng)
      have hyg : isO (hu Γ yg (.inl (.inr (4, [.int (nI 50), .int 0])))) yg 4 [.int (nI 50), .int (nI 0)] := hu_s _ _ _
      have hni : yg ∉ laG A := fun hm => by
        obtain ⟨i, hi⟩ := mem_ix hm
        have := (hS.2.2.2.1.2 i yg hi).1
        rw [show Γ yg = _ from this] at ng; simp at ng
      obtain ⟨mG2, hmG2⟩ := S2.lG
      have S3 := S2.addG (m := mG2 + nI 1) hyg (hx.no ng) hni
      obtain ⟨mG3, hmG3⟩ := S3.lG
      have hlen : (laG A ++ [yg]).length = nG σ + 1 := by rw [List.length_append, hcG]; rfl
      refine g_callV X (ct_J2_add hst hmG2 (by omega) S2.eG (Or.inl ⟨4, _, hyg, by simp⟩)) dX2_addGuest_31 rfl (lw_V q757 q620 q621 q70 q622) hyV_J2_add (fun H hH => hL.recvL X.2.2.2.2.2.2.2.1 hH (hmG2)) (fun H hH => hH) ⟨Nat.le_of_ble_eq_true rfl, Nat.le_of_ble_eq_true rfl⟩ ⟨by first | exact Nat.le_of_ble_eq_true rfl | omega | (dsimp only [rmD]; omega), by first | exact Nat.le_of_ble_eq_true rfl | omega | (dsimp only [rmD]; omega)⟩ (Nat.le_of_ble_eq_true rfl) rfl (fun x_31 => ?_)
      refine g_pop X dX2_addGuest_34 rfl rfl ?_
      refine g_aload_n X dX2_addGuest_35 rfl rfl ?_
      refine l_get X dX2_addGuest_36 rfl in_X2 (ci := 1) rfl 1 (by decide) q166 (fun _ h => h) S3.st rfl ?_
      refine g_callV X (ct_J2_size hst hmG3) dX2_addGuest_39 rfl (lw_V q293 q270 q271 q70 q272) hyV_J2_size (fun H hH => hL.recvL X.2.2.2.2.2.2.2.1 hH (hmG3)) (fun H hH => hH) ⟨Nat.le_of_ble_eq_true rfl, Nat.le_of_ble_eq_true rfl⟩ ⟨by first | exact Nat.le_of_ble_eq_true rfl | omega | (dsimp only [rmD]; omega), by first | exact Nat.le_of_ble_eq_true rfl | omega | (dsimp only [rmD]; omega)⟩ (Nat.le_of_ble_eq_true rfl) rfl (fun x_39 => ?_)
      refine g_iconst X dX2_addGuest_42 rfl (v := (nI 1)) rfl ?_
      refine g_isub X dX2_addGuest_43 rfl (show _ = nI (nG σ) by rw [show (laG (adrG A (laG A ++ [yg]))).length = nG σ + 1 from hlen, pk_sub (by omega)]; rfl) ?_
      refine g_iret X dX2_addGuest_44 rfl (by first | exact Nat.le_of_ble_eq_true rfl | omega | (dsimp only [rmD]; omega)) (by first | exact Nat.le_of_ble_eq_true rfl | omega | (dsimp only [rmD]; omega)) (fun H hH => ⟨⟨(_, _, nG σ, _), aAddG_2 h10, e2.put S2.2.1.2.1.2, S3⟩, rfl, hH⟩)
  · refine g_aload_n X dX2_addGuest_0 rfl rfl ?_
    refine l_get X dX2_addGuest_1 rfl in_X2 (ci := 1) rfl 1 (by decide) q166 (fun _ h => h) hS.st rfl ?_
    refine g_callV X (ct_J2_size hst hmG) dX2_addGuest_4 rfl (lw_V q293 q270 q271 q70 q272) hyV_J2_size (fun H hH => hL.recvL X.2.2.2.2.2.2.2.1 hH (hmG)) (fun H hH => hH) ⟨Nat.le_of_ble_eq_true rfl, Nat.le_of_ble_eq_true rfl⟩ ⟨by first | exact Nat.le_of_ble_eq_true rfl | omega | (dsimp only [rmD]; omega), by first | exact Nat.le_of_ble_eq_true rfl | omega | (dsimp only [rmD]; omega)⟩ (Nat.le_of_ble_eq_true rfl) rfl (fun x_4 => ?_)
    refine g_bipush X dX2_addGuest_7 rfl (v := (nI 10)) (by decide) ?_
    refine g_icmp_ge (tgt := 16) X dX2_addGuest_9 rfl (by decide) (fun c_9 => ?_) (fun c_9 => ?_)
    · rw [nI_leI (by omega) (by omega), hcG] at c_9
      refine g_iconst X dX2_addGuest_16 rfl (v := (nI 0)) rfl ?_
      exact GJ.top (bI_f (by omega)).symm hj
    · rw [nI_leI (by omega) (by omega), hcG] at c_9
      refine g_iconst X dX2_addGuest_12 rfl (v := (nI 1)) rfl ?_
      refine g_goto (tgt := 17) X dX2_addGuest_13 rfl (by decide) ?_
      exact GJ.top (bI_t (by omega)).symm hj
theorem ct_X2_book (hst : l.stackTraces = false) (hS : SR Ω Γ0 Γ a A σ) (hx : Ex Γ0 Γ) (hB : Bd σ) {u v w : Int32} : CM Ω l yX2_book (ws_ yX2_book cX2_book 6 (some .int)) 18 12 140 [.ref a, .int u, .int v, .int w] (hL Ω Γ) (SO Ω Γ0 a (aBook σ u v w)) (xR nmBk (aBook σ u v w) (hL Ω Γ)) := by
  obtain ⟨mB, hmB⟩ := hS.lB
  have b1 := hB.1
  have hcB := hS.cB
  refine CM.of (L := [some (.ref a), some (.int u), some (.int v), some (.int w), none, none]) hst (by decide) (Nat.le_of_ble_eq_true rfl) rfl ?_
  intro p e s m below meth c X hnm htab
  refine g_aload_n X dX2_book_0 rfl rfl ?_
  refine g_iload_n X dX2_book_1 rfl rfl ?_
  refine g_callVx X (ct_X2_guest hst hS b1.2.1) dX2_book_2 rfl (lw_V q887 q888 q889 q67 q890) hyV_X2_guest (fun H hH => hL.recv X.2.2.2.2.2.2.2.1 hH (hS.st) rfl) (fun H hH => hH) ⟨Nat.le_of_ble_eq_true rfl, Nat.le_of_ble_eq_true rfl⟩ ⟨by first | exact Nat.le_of_ble_eq_true rfl | omega | (dsimp only [rmD]; omega), by first | exact Nat.le_of_ble_eq_true rfl | omega | (dsimp only [rmD]; omega)⟩ (Nat.le_of_ble_eq_true rfl) rfl (fun E q => GX.pass X htab (by first | exact Nat.le_of_ble_eq_true rfl | omega) (by first | exact Nat.le_of_ble_eq_true rfl | omega) (fun H h => ⟨1, aBook_1 (fun g => h.2.1 g.1), h.1, h.2.2⟩)) (fun xg => ?_)
  refine g_astore X dX2_book_5 rfl (by decide) rfl rfl ?_
  obtain ⟨yg, g1, g2⟩ := xg
  refine g_aload_n X dX2_book_7 rfl rfl ?_
  refine g_iload_n X dX2_book_8 rfl rfl ?_
  refine g_callVx X (ct_X2_slide hst hS b1.1) dX2_book_9 rfl (lw_V q913 q914 q915 q67 q916) hyV_X2_slide (fun H hH => hL.recv X.2.2.2.2.2.2.2.1 hH (hS.st) rfl) (fun H hH => hH) ⟨Nat.le_of_ble_eq_true rfl, Nat.le_of_ble_eq_true rfl⟩ ⟨by first | exact Nat.le_of_ble_eq_true rfl | omega | (dsimp only [rmD]; omega), by first | exact Nat.le_of_ble_eq_true rfl | omega | (dsimp only [rmD]; omega)⟩ (Nat.le_of_ble_eq_true rfl) rfl (fun E q => GX.pass X htab (by first | exact Nat.le_of_ble_eq_true rfl | omega) (by first | exact Nat.le_of_ble_eq_true rfl | omega) (fun H h => ⟨1, aBook_1 (fun g => h.2.1 g.2), h.1, h.2.2⟩)) (fun xs => ?_)
  refine g_astore X dX2_book_12 rfl (by decide) rfl rfl ?_
  obtain ⟨ys, s1, s2⟩ := xs
  refine g_aload_n X dX2_book_14 rfl rfl ?_
  refine g_iload_n X dX2_book_15 rfl rfl ?_
  refine g_callVx X (ct_X2_requireStart hst hS) dX2_book_16 rfl (lw_V q917 q918 q919 q67 q920) hyV_X2_requireStart (fun H hH => hL.recv X.2.2.2.2.2.2.2.1 hH (hS.st) rfl) (fun H hH => hH) ⟨Nat.le_of_ble_eq_true rfl, Nat.le_of_ble_eq_true rfl⟩ ⟨by first | exact Nat.le_of_ble_eq_true rfl | omega | (dsimp only [rmD]; omega), by first | exact Nat.le_of_ble_eq_true rfl | omega | (dsimp only [rmD]; omega)⟩ (Nat.le_of_ble_eq_true rfl) rfl (fun E q => GX.pass X htab (by first | exact Nat.le_of_ble_eq_true rfl | omega) (by first | exact Nat.le_of_ble_eq_true rfl | omega) (fun H h => ⟨2, aBook_2 ⟨g2, s2⟩ h.2.1, h.1, h.2.2⟩)) (fun xt => ?_)
  obtain ⟨t2⟩ := xt
  obtain ⟨g0, hg0, rfl⟩ := (ixI (by omega)).mp g2
  obtain ⟨s0, hs0, rfl⟩ := (ixI (by omega)).mp s2
  obtain ⟨t0, ht0, ht1, rfl⟩ := (rgI (by omega) (by omega)).mp t2
  have r3 := fun h3 => aBook_3 (σ := σ) ⟨g2, s2⟩ t2 h3
  have r4 := fun h3 h4 => aBook_4 (σ := σ) ⟨g2, s2⟩ t2 h3 h4
  have r5 := fun h3 h4 => aBook_5 (σ := σ) ⟨g2, s2⟩ t2 h3 h4
  rw [iN_nI (by omega), iN_nI (by omega)] at r3
  rw [iN_nI (by omega), iN_nI (by omega), iN_nI (by omega)] at r4 r5
  rw [iN_nI (by omega)] at g1 s1
  have og := (hS.2.2.2.1.2 g0 yg g1).1
  have os := (hS.2.2.1.2 s0 ys s1).1.1
  have bs := hB.2.1 s0 hs0
  have bg := hB.2.2.2.1 g0 hg0
  dsimp only
  refine GJ.cutv 49 (bI (nB σ < 12 ∧ slP σ s0 ≤ guC σ g0)) ?_ (fun hj => ?_)
  · by_cases h3 : nB σ < 12 ∧ slP σ s0 ≤ guC σ g0
    · have h3' : ¬ (nB σ = 12 ∨ guC σ g0 < slP σ s0) := by omega
      by_cases h4 : aCl σ (nI g0) s0 t0
      · refine g_callSNx X "SlidePark" (ct_X1_requireState hst) dX2_book_49 rfl q793 q66 q791 q792 hyS_X1_requireState (fun H hH => hH) ⟨Nat.le_of_ble_eq_true rfl, Nat.le_of_ble_eq_true rfl⟩ ⟨by first | exact Nat.le_of_ble_eq_true rfl | omega | (dsimp only [rmD]; omega), by first | exact Nat.le_of_ble_eq_true rfl | omega | (dsimp only [rmD]; omega)⟩ (Nat.le_of_ble_eq_true rfl) rfl (fun E q => GX.not (fun h => h h3)) (fun x_49 => ?_)
        refine g_aload_n X dX2_book_52 rfl rfl ?_
        refine g_iload_n X dX2_book_53 rfl rfl ?_
        refine g_iload_n X dX2_book_54 rfl rfl ?_
        refine g_iload_n X dX2_book_55 rfl rfl ?_
        refine g_callV X (ct_X2_areFree hst hS hB hg0 hs0 (by omega)) dX2_book_56 rfl (lw_V q921 q923 qs8 q67 q924) hyV_X2_areFree (fun H hH => hL.recv X.2.2.2.2.2.2.2.1 hH (hS.st) rfl) (fun H hH => hH) ⟨Nat.le_of_ble_eq_true rfl, Nat.le_of_ble_eq_true rfl⟩ ⟨by first | exact Nat.le_of_ble_eq_true rfl | omega | (dsimp only [rmD]; omega), by first | exact Nat.le_of_ble_eq_true rfl | omega | (dsimp only [rmD]; omega)⟩ (Nat.le_of_ble_eq_true rfl) rfl (fun x_56 => ?_)
        refine g_callSNx X "SlidePark" (ct_X1_requireSupported hst) dX2_book_59 rfl q939 q66 q937 q938 hyS_X1_requireSupported (fun H hH => hH) ⟨Nat.le_of_ble_eq_true rfl, Nat.le_of_ble_eq_true rfl⟩ ⟨by first | exact Nat.le_of_ble_eq_true rfl | omega | (dsimp only [rmD]; omega), by first | exact Nat.le_of_ble_eq_true rfl | omega | (dsimp only [rmD]; omega)⟩ (Nat.le_of_ble_eq_true rfl) rfl (fun E q => GX.pass X htab (by first | exact Nat.le_of_ble_eq_true rfl | omega) (by first | exact Nat.le_of_ble_eq_true rfl | omega) (fun H h => ⟨4, r4 h3' h4, h.1, h.2.2⟩)) (fun x0 => ?_)
        exact absurd h4 x0.down
      · refine g_callSNx X "SlidePark" (ct_X1_requireState hst) dX2_book_49 rfl q793 q66 q791 q792 hyS_X1_requireState (fun H hH => hH) ⟨Nat.le_of_ble_eq_true rfl, Nat.le_of_ble_eq_true rfl⟩ ⟨by first | exact Nat.le_of_ble_eq_true rfl | omega | (dsimp only [rmD]; omega), by first | exact Nat.le_of_ble_eq_true rfl | omega | (dsimp only [rmD]; omega)⟩ (Nat.le_of_ble_eq_true rfl) rfl (fun E q => GX.not (fun h => h h3)) (fun x_49 => ?_)
        refine g_aload_n X dX2_book_52 rfl rfl ?_
        refine g_iload_n X dX2_book_53 rfl rfl ?_
        refine g_iload_n X dX2_book_54 rfl rfl ?_
        refine g_iload_n X dX2_book_55 rfl rfl ?_
        refine g_callV X (ct_X2_areFree hst hS hB hg0 hs0 (by omega)) dX2_book_56 rfl (lw_V q921 q923 qs8 q67 q924) hyV_X2_areFree (fun H hH => hL.recv X.2.2.2.2.2.2.2.1 hH (hS.st) rfl) (fun H hH => hH) ⟨Nat.le_of_ble_eq_true rfl, Nat.le_of_ble_eq_true rfl⟩ ⟨by first | exact Nat.le_of_ble_eq_true rfl | omega | (dsimp only [rmD]; omega), by first | exact Nat.le_of_ble_eq_true rfl | omega | (dsimp only [rmD]; omega)⟩ (Nat.le_of_ble_eq_true rfl) rfl (fun x_56 => ?_)
        refine g_callSNx X "SlidePark" (ct_X1_requireSupported hst) dX2_book_59 rfl q939 q66 q937 q938 hyS_X1_requireSupported (fun H hH => hH) ⟨Nat.le_of_ble_eq_true rfl, Nat.le_of_ble_eq_true rfl⟩ ⟨by first | exact Nat.le_of_ble_eq_true rfl | omega | (dsimp only [rmD]; omega), by first | exact Nat.le_of_ble_eq_true rfl | omega | (dsimp only [rmD]; omega)⟩ (Nat.le_of_ble_eq_true rfl) rfl (fun E q => GX.not (fun h => h h4)) (fun x_59 => ?_)
        refine g_aload_n X dX2_book_62 rfl rfl ?_
        refine g_iload_n X dX2_book_63 rfl rfl ?_
        refine g_iload_n X dX2_book_64 rfl rfl ?_
        refine g_iload_n X dX2_book_65 rfl rfl ?_
        refine g_callV X (ct_X2_makeBooking hst hS hx hB hg0 hs0 (by omega) h3.2 h3.1) dX2_book_66 rfl (lw_V q955 q957 qs10 q67 q958) hyV_X2_makeBooking (fun H hH => hL.recv X.2.2.2.2.2.2.2.1 hH (hS.st) rfl) (fun H hH => hH) ⟨Nat.le_of_ble_eq_true rfl, Nat.le_of_ble_eq_true rfl⟩ ⟨by first | exact Nat.le_of_ble_eq_true rfl | omega | (dsimp only [rmD]; omega), by first | exact Nat.le_of_ble_eq_true rfl | omega | (dsimp only [rmD]; omega)⟩ (Nat.le_of_ble_eq_true rfl) rfl (fun x0 => ?_)
        refine g_iret X dX2_book_69 rfl (by first | exact Nat.le_of_ble_eq_true rfl | omega | (dsimp only [rmD]; omega)) (by first | exact Nat.le_of_ble_eq_true rfl | omega | (dsimp only [rmD]; omega)) (fun H hH => ⟨⟨(_, _, _, _), r5 h3' h4, x0.2.1, x0.2.2⟩, rfl, hH⟩)
    · refine g_callSNx X "SlidePark" (ct_X1_requireState hst) dX2_book_49 rfl q793 q66 q791 q792 hyS_X1_requireState (fun H hH => hH) ⟨Nat.le_of_ble_eq_true rfl, Nat.le_of_ble_eq_true rfl⟩ ⟨by first | exact Nat.le_of_ble_eq_true rfl | omega | (dsimp only [rmD]; omega), by first | exact Nat.le_of_ble_eq_true rfl | omega | (dsimp only [rmD]; omega)⟩ (Nat.le_of_ble_eq_true rfl) rfl (fun E q => GX.pass X htab (by first | exact Nat.le_of_ble_eq_true rfl | omega) (by first | exact Nat.le_of_ble_eq_true rfl | omega) (fun H h => ⟨3, r3 (by omega), h.1, h.2.2⟩)) (fun x0 => ?_)
      exact absurd x0.down h3
  · refine g_aload_n X dX2_book_19 rfl rfl ?_
    refine l_get X dX2_book_20 rfl in_X2 (ci := 1) rfl 2 (by decide) q168 (fun _ h => h) hS.st rfl ?_
    refine g_callV X (ct_J2_size hst hmB) dX2_book_23 rfl (lw_V q293 q270 q271 q70 q272) hyV_J2_size (fun H hH => hL.recvL X.2.2.2.2.2.2.2.1 hH (hmB)) (fun H hH => hH) ⟨Nat.le_of_ble_eq_true rfl, Nat.le_of_ble_eq_true rfl⟩ ⟨by first | exact Nat.le_of_ble_eq_true rfl | omega | (dsimp only [rmD]; omega), by first | exact Nat.le_of_ble_eq_true rfl | omega | (dsimp only [rmD]; omega)⟩ (Nat.le_of_ble_eq_true rfl) rfl (fun x_23 => ?_)
    refine g_bipush X dX2_book_26 rfl (v := (nI 12)) (by decide) ?_
    refine g_icmp_ge (tgt := 48) X dX2_book_28 rfl (by decide) (fun c_28 => ?_) (fun c_28 => ?_)
    · rw [nI_leI (by omega) (by omega)] at c_28
      refine g_iconst X dX2_book_48 rfl (v := (nI 0)) rfl ?_
      exact GJ.top (bI_f (by omega)).symm hj
    · rw [nI_leI (by omega) (by omega)] at c_28
      refine g_aload X dX2_book_31 rfl rfl ?_
      refine l_getN X dX2_book_33 rfl in_X5 (ci := 4) rfl 0 (by decide) "SlidePark" q597 (fun _ h => h) og rfl ?_
      refine g_aload X dX2_book_36 rfl rfl ?_
      refine l_getN X dX2_book_38 rfl in_X7 (ci := 6) rfl 1 (by decide) "SlidePark" q733 (fun _ h => h) os rfl ?_
      refine g_icmp_lt (tgt := 48) X dX2_book_41 rfl (by decide) (fun c_41 => ?_) (fun c_41 => ?_)
      · rw [nI_ltI (by omega) (by omega)] at c_41
        refine g_iconst X dX2_book_48 rfl (v := (nI 0)) rfl ?_
        exact GJ.top (bI_f (by omega)).symm hj
      · rw [nI_ltI (by omega) (by omega)] at c_41
        refine g_iconst X dX2_book_44 rfl (v := (nI 1)) rfl ?_
        refine g_goto (tgt := 49) X dX2_book_45 rfl (by decide) ?_
        exact GJ.top (bI_t (by omega)).symm hj
end D4
