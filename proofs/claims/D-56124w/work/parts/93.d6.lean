/-! STATE: a minute -/
section D6
variable {l : Launch} {Ω : Om} {Γ0 Γ Γ' : LH} {a q y : Nat} {A : Ad} {σ : St} {xs : List Nat} {m0 : Int32}
set_option maxRecDepth 100000
theorem iAd_okE {is : List Nat} (h : ∀ n ∈ is, n ≤ 127) : ∀ z ∈ iAd Ω is, okE Ω Γ z := fun z hz => by
  obtain ⟨n, hn, e⟩ := List.mem_map.mp hz
  exact Or.inr ⟨n + 128, by have := h n hn; omega, e.symm⟩
theorem ct_X2_callFirst (hst : l.stackTraces = false) (hS : SR Ω Γ0 Γ a A σ) (hx : Ex Γ0 Γ) {R : Nat} (W : Wf R σ) (hm : sM σ ≤ 100000) (hr : R ≤ 2000000) {s0 g0 : Nat} {r : List Nat} (hs : s0 < nS σ) (hq : slQ σ s0 = g0 :: r) : CM Ω l yX2_callFirst (ws_ yX2_callFirst cX2_callFirst 4 none) 20 2 68 [.ref a, .int (nI s0)] (hL Ω Γ) (SP Ω Γ0 a (aCall σ s0) none) nX := by
  have hB := W.bd hm hr
  have b1 := hB.1
  have hmem : g0 ∈ slQ σ s0 := by rw [hq]; exact List.mem_cons_self
  have hg := W.2.2.1 s0 hs g0 hmem
  have W1 := Wf_leave W hs (W.2.2.2.1.wai hs hmem)
  rw [erase_hd hq] at W1
  obtain ⟨mS, hmS⟩ := hS.lS
  obtain ⟨mG, hmG⟩ := hS.lG
  obtain ⟨mB, hmB⟩ := hS.lB
  obtain ⟨x, x1, x2, x3, x4, mq, x5⟩ := hS.sl hs
  obtain ⟨yg, y1, y2⟩ := hS.gu hg
  have hcS := hS.cS2
  have hcG := hS.cG
  have hcB := hS.cB
  have bs := hB.2.1 s0 hs
  have bg := hB.2.2.2.1 g0 hg
  have o5 := (hS.2.2.1.2 s0 x x1).2.2.2
  have bq : ∀ n ∈ slQ σ s0, n ≤ 127 := fun n hn => by have := hB.2.2.1 s0 hs n hn; omega
  have hlq : (iAd Ω (slQ σ s0)).length ≤ 1000 := by rw [iAd_len]; omega
  have h0 : (iAd Ω (slQ σ s0))[0]? = some (oM Ω (g0 + 128)) := by rw [hq]; rfl
  have er : (iAd Ω (slQ σ s0)).eraseIdx 0 = iAd Ω r := by rw [hq]; rfl
  have S1 := hS.setQ (m := mq + nI 1) (is := r) x1
  have E1 : Ex Γ0 (hu Γ x.2.2 (.inr (iAd Ω r, mq + nI 1))) := hx.put o5
  rw [aCall_cons hq]
  refine CM.of (L := [some (.ref a), some (.int (nI s0)), none, none]) hst (by decide) (Nat.le_of_ble_eq_true rfl) rfl ?_
  intro p e s m below meth c X hnm htab
  refine g_aload_n X dX2_callFirst_0 rfl rfl ?_
  refine l_get X dX2_callFirst_1 rfl in_X2 (ci := 1) rfl 0 (by decide) q164 (fun _ h => h) hS.st rfl ?_
  refine g_iload_n X dX2_callFirst_4 rfl rfl ?_
  refine g_callV X (ct_J2_get hst hmS x2 (by omega)) dX2_callFirst_5 rfl (lw_V q294 q295 q296 q70 q297) hyV_J2_get (fun H hH => hL.recvL X.2.2.2.2.2.2.2.1 hH (hmS)) (fun H hH => hH) ⟨Nat.le_of_ble_eq_true rfl, Nat.le_of_ble_eq_true rfl⟩ ⟨by first | exact Nat.le_of_ble_eq_true rfl | omega | (dsimp only [rmD]; omega), by first | exact Nat.le_of_ble_eq_true rfl | omega | (dsimp only [rmD]; omega)⟩ (Nat.le_of_ble_eq_true rfl) rfl (fun x_5 => ?_)
  refine g_cast X dX2_callFirst_8 rfl q809 (fun H hH => hL.recv X.2.2.2.2.2.2.2.1 hH (x3) rfl) ?_
  refine l_getN X dX2_callFirst_11 rfl in_X7 (ci := 6) rfl 2 (by decide) "SlidePark" q736 (fun _ h => h) x3 rfl ?_
  refine g_astore_n X dX2_callFirst_14 rfl (by decide) rfl rfl ?_
  refine g_aload_n X dX2_callFirst_15 rfl rfl ?_
  refine g_callV X (ct_X6_first hst x4 x5 hlq h0) dX2_callFirst_16 rfl (lw_V q1156 q1157 q1158 q84 q1159) hyV_X6_first (fun H hH => hL.recv X.2.2.2.2.2.2.2.1 hH (x4) rfl) (fun H hH => hH) ⟨Nat.le_of_ble_eq_true rfl, Nat.le_of_ble_eq_true rfl⟩ ⟨by first | exact Nat.le_of_ble_eq_true rfl | omega | (dsimp only [rmD]; omega), by first | exact Nat.le_of_ble_eq_true rfl | omega | (dsimp only [rmD]; omega)⟩ (Nat.le_of_ble_eq_true rfl) rfl (fun x_16 => ?_)
  refine g_castK X dX2_callFirst_19 rfl q1160 (fun H locs hS => oI_recv X hS (by omega)) ?_
  refine g_callVk X (ct_J21_intValue hst (by omega)) dX2_callFirst_22 rfl (lw_V q1161 q1083 q1084 q96 q1085) hyV_J21_intValue (fun H locs hS => oI_recv X hS (by omega)) (fun H hH => hH) ⟨Nat.le_of_ble_eq_true rfl, Nat.le_of_ble_eq_true rfl⟩ ⟨by first | exact Nat.le_of_ble_eq_true rfl | omega | (dsimp only [rmD]; omega), by first | exact Nat.le_of_ble_eq_true rfl | omega | (dsimp only [rmD]; omega)⟩ (Nat.le_of_ble_eq_true rfl) rfl (fun x_22 => ?_)
  refine g_istore_n X dX2_callFirst_25 rfl (by decide) rfl rfl ?_
  refine g_aload_n X dX2_callFirst_26 rfl rfl ?_
  refine l_get X dX2_callFirst_27 rfl in_X2 (ci := 1) rfl 1 (by decide) q166 (fun _ h => h) hS.st rfl ?_
  refine g_iload_n X dX2_callFirst_30 rfl rfl ?_
  refine g_callV X (ct_J2_get hst hmG y1 (by omega)) dX2_callFirst_31 rfl (lw_V q294 q295 q296 q70 q297) hyV_J2_get (fun H hH => hL.recvL X.2.2.2.2.2.2.2.1 hH (hmG)) (fun H hH => hH) ⟨Nat.le_of_ble_eq_true rfl, Nat.le_of_ble_eq_true rfl⟩ ⟨by first | exact Nat.le_of_ble_eq_true rfl | omega | (dsimp only [rmD]; omega), by first | exact Nat.le_of_ble_eq_true rfl | omega | (dsimp only [rmD]; omega)⟩ (Nat.le_of_ble_eq_true rfl) rfl (fun x_31 => ?_)
  refine g_cast X dX2_callFirst_34 rfl q841 (fun H hH => hL.recv X.2.2.2.2.2.2.2.1 hH (y2) rfl) ?_
  refine l_getN X dX2_callFirst_37 rfl in_X5 (ci := 4) rfl 0 (by decide) "SlidePark" q597 (fun _ h => h) y2 rfl ?_
  refine g_aload_n X dX2_callFirst_40 rfl rfl ?_
  refine l_get X dX2_callFirst_41 rfl in_X2 (ci := 1) rfl 0 (by decide) q164 (fun _ h => h) hS.st rfl ?_
  refine g_iload_n X dX2_callFirst_44 rfl rfl ?_
  refine g_callV X (ct_J2_get hst hmS x2 (by omega)) dX2_callFirst_45 rfl (lw_V q294 q295 q296 q70 q297) hyV_J2_get (fun H hH => hL.recvL X.2.2.2.2.2.2.2.1 hH (hmS)) (fun H hH => hH) ⟨Nat.le_of_ble_eq_true rfl, Nat.le_of_ble_eq_true rfl⟩ ⟨by first | exact Nat.le_of_ble_eq_true rfl | omega | (dsimp only [rmD]; omega), by first | exact Nat.le_of_ble_eq_true rfl | omega | (dsimp only [rmD]; omega)⟩ (Nat.le_of_ble_eq_true rfl) rfl (fun x_45 => ?_)
  refine g_cast X dX2_callFirst_48 rfl q809 (fun H hH => hL.recv X.2.2.2.2.2.2.2.1 hH (x3) rfl) ?_
  refine l_getN X dX2_callFirst_51 rfl in_X7 (ci := 6) rfl 1 (by decide) "SlidePark" q733 (fun _ h => h) x3 rfl ?_
  refine g_icmp_ge (tgt := 64) X dX2_callFirst_54 rfl (by decide) (fun c_54 => ?_) (fun c_54 => ?_)
  · rw [nI_leI (by omega) (by omega)] at c_54
    rw [cH_f (show ¬ guC σ g0 < slP σ s0 by omega)]
    refine g_aload_n X dX2_callFirst_64 rfl rfl ?_
    refine l_get X dX2_callFirst_65 rfl in_X2 (ci := 1) rfl 2 (by decide) q168 (fun _ h => h) hS.st rfl ?_
    refine g_callV X (ct_J2_size hst hmB) dX2_callFirst_68 rfl (lw_V q293 q270 q271 q70 q272) hyV_J2_size (fun H hH => hL.recvL X.2.2.2.2.2.2.2.1 hH (hmB)) (fun H hH => hH) ⟨Nat.le_of_ble_eq_true rfl, Nat.le_of_ble_eq_true rfl⟩ ⟨by first | exact Nat.le_of_ble_eq_true rfl | omega | (dsimp only [rmD]; omega), by first | exact Nat.le_of_ble_eq_true rfl | omega | (dsimp only [rmD]; omega)⟩ (Nat.le_of_ble_eq_true rfl) rfl (fun x_68 => ?_)
    refine g_bipush X dX2_callFirst_71 rfl (v := (nI 12)) (by decide) ?_
    refine g_icmp_ge (tgt := 104) X dX2_callFirst_73 rfl (by decide) (fun c_73 => ?_) (fun c_73 => ?_)
    · rw [nI_leI (by omega) (by omega)] at c_73
      rw [cH_f (fun g => absurd g.1 (by omega))]
      refine g_vret X dX2_callFirst_104 rfl (by first | exact Nat.le_of_ble_eq_true rfl | omega | (dsimp only [rmD]; omega)) (by first | exact Nat.le_of_ble_eq_true rfl | omega | (dsimp only [rmD]; omega)) (fun H hH => ⟨⟨(_, _), hx, hS⟩, rfl, hH⟩)
    · rw [nI_leI (by omega) (by omega)] at c_73
      refine g_aload_n X dX2_callFirst_76 rfl rfl ?_
      refine g_iload_n X dX2_callFirst_77 rfl rfl ?_
      refine g_iload_n X dX2_callFirst_78 rfl rfl ?_
      refine g_aload_n X dX2_callFirst_79 rfl rfl ?_
      refine l_get X dX2_callFirst_80 rfl in_X2 (ci := 1) rfl 4 (by decide) q172 (fun _ h => h) hS.st rfl ?_
      refine g_callV X (ct_X2_areFree hst hS hB hg hs (by omega)) dX2_callFirst_83 rfl (lw_V q921 q923 qs8 q67 q924) hyV_X2_areFree (fun H hH => hL.recv X.2.2.2.2.2.2.2.1 hH (hS.st) rfl) (fun H hH => hH) ⟨Nat.le_of_ble_eq_true rfl, Nat.le_of_ble_eq_true rfl⟩ ⟨by first | exact Nat.le_of_ble_eq_true rfl | omega | (dsimp only [rmD]; omega), by first | exact Nat.le_of_ble_eq_true rfl | omega | (dsimp only [rmD]; omega)⟩ (Nat.le_of_ble_eq_true rfl) rfl (fun x_83 => ?_)
      refine g_if_eq (tgt := 104) X dX2_callFirst_86 rfl (by decide) (fun c_86 => ?_) (fun c_86 => ?_)
      · have h1 := bI_0.mp c_86
        rw [cH_f (fun g => h1 g.2)]
        refine g_vret X dX2_callFirst_104 rfl (by first | exact Nat.le_of_ble_eq_true rfl | omega | (dsimp only [rmD]; omega)) (by first | exact Nat.le_of_ble_eq_true rfl | omega | (dsimp only [rmD]; omega)) (fun H hH => ⟨⟨(_, _), hx, hS⟩, rfl, hH⟩)
      · have h1 := bI_n0.mp c_86
        rw [cH_t (show nB σ < 12 ∧ ¬ aCl σ (nI g0) s0 (sM σ) from ⟨by omega, h1⟩)]
        refine g_aload_n X dX2_callFirst_89 rfl rfl ?_
        refine g_callV X (ct_X6_removeFirst hst x4 x5 hlq h0 (iAd_okE bq)) dX2_callFirst_90 rfl (lw_V q1162 q1163 q1164 q84 q1165) hyV_X6_removeFirst (fun H hH => hL.recv X.2.2.2.2.2.2.2.1 hH (x4) rfl) (fun H hH => hH) ⟨Nat.le_of_ble_eq_true rfl, Nat.le_of_ble_eq_true rfl⟩ ⟨by first | exact Nat.le_of_ble_eq_true rfl | omega | (dsimp only [rmD]; omega), by first | exact Nat.le_of_ble_eq_true rfl | omega | (dsimp only [rmD]; omega)⟩ (Nat.le_of_ble_eq_true rfl) rfl (fun x_90 => ?_)
        rw [er]
        have hB1 := W1.bd hm hr
        refine g_aload_n X dX2_callFirst_93 rfl rfl ?_
        refine g_iload_n X dX2_callFirst_94 rfl rfl ?_
        refine g_iload_n X dX2_callFirst_95 rfl rfl ?_
        refine g_aload_n X dX2_callFirst_96 rfl rfl ?_
        refine l_get X dX2_callFirst_97 rfl in_X2 (ci := 1) rfl 4 (by decide) q172 (fun _ h => h) S1.st (show _ = some (Value.int (nI (sM σ))) from rfl) ?_
        refine g_callV X (ct_X2_makeBooking hst S1 E1 hB1 hg (by rw [nS_que]; exact hs) (by omega) (by rw [slP_que hs]; exact c_54) (show nB σ < 12 by omega)) dX2_callFirst_100 rfl (lw_V q955 q957 qs10 q67 q958) hyV_X2_makeBooking (fun H hH => hL.recv X.2.2.2.2.2.2.2.1 hH (S1.st) rfl) (fun H hH => hH) ⟨Nat.le_of_ble_eq_true rfl, Nat.le_of_ble_eq_true rfl⟩ ⟨by first | exact Nat.le_of_ble_eq_true rfl | omega | (dsimp only [rmD]; omega), by first | exact Nat.le_of_ble_eq_true rfl | omega | (dsimp only [rmD]; omega)⟩ (Nat.le_of_ble_eq_true rfl) rfl (fun x0 => ?_)
        refine g_pop X dX2_callFirst_103 rfl rfl ?_
        refine g_vret X dX2_callFirst_104 rfl (by first | exact Nat.le_of_ble_eq_true rfl | omega | (dsimp only [rmD]; omega)) (by first | exact Nat.le_of_ble_eq_true rfl | omega | (dsimp only [rmD]; omega)) (fun H hH => ⟨x0, rfl, hH⟩)
  · rw [nI_leI (by omega) (by omega)] at c_54
    rw [cH_t (show guC σ g0 < slP σ s0 by omega)]
    refine g_aload_n X dX2_callFirst_57 rfl rfl ?_
    refine g_callV X (ct_X6_removeFirst hst x4 x5 hlq h0 (iAd_okE bq)) dX2_callFirst_58 rfl (lw_V q1162 q1163 q1164 q84 q1165) hyV_X6_removeFirst (fun H hH => hL.recv X.2.2.2.2.2.2.2.1 hH (x4) rfl) (fun H hH => hH) ⟨Nat.le_of_ble_eq_true rfl, Nat.le_of_ble_eq_true rfl⟩ ⟨by first | exact Nat.le_of_ble_eq_true rfl | omega | (dsimp only [rmD]; omega), by first | exact Nat.le_of_ble_eq_true rfl | omega | (dsimp only [rmD]; omega)⟩ (Nat.le_of_ble_eq_true rfl) rfl (fun x_58 => ?_)
    rw [er]
    refine g_goto (tgt := 104) X dX2_callFirst_61 rfl (by decide) ?_
    refine g_vret X dX2_callFirst_104 rfl (by first | exact Nat.le_of_ble_eq_true rfl | omega | (dsimp only [rmD]; omega)) (by first | exact Nat.le_of_ble_eq_true rfl | omega | (dsimp only [rmD]; omega)) (fun H hH => ⟨⟨(_, _), E1, S1⟩, rfl, hH⟩)
theorem ct_X2_finish (hst : l.stackTraces = false) (hS : SR Ω Γ0 Γ a A σ) (hx : Ex Γ0 Γ) (hB : Bd σ) {yb g0 s0 : Nat} {t9 u9 : Value} (hg : g0 < nG σ) (hs : s0 < nS σ) (hy : isO Γ yb 7 [.int (nI g0), .int (nI s0), t9, u9]) : CM Ω l yX2_finish (ws_ yX2_finish cX2_finish 3 none) 20 2 67 [.ref a, .ref yb] (hL Ω Γ) (SP Ω Γ0 a (aFin2 (aFin1 σ g0 s0) g0 s0) none) nX := by
  have b1 := hB.1
  have bs := hB.2.1 s0 hs
  obtain ⟨mS, hmS⟩ := hS.lS
  obtain ⟨x, x1, x2, x3, -⟩ := hS.sl hs
  have hcS := hS.cS2
  have hcG := hS.cG
  have hcF := hS.cF
  refine CM.of (L := [some (.ref a), some (.ref yb), none]) hst (by decide) (Nat.le_of_ble_eq_true rfl) rfl ?_
  intro p e s m below meth c X hnm htab
  have tail : ∀ (G1 : LH) (σ1 : St), σ1 = aFin1 σ g0 s0 → Ex Γ0 G1 → SR Ω Γ0 G1 a A σ1 → isO G1 yb 7 [.int (nI g0), .int (nI s0), t9, u9] → nG σ1 = nG σ → nS σ1 = nS σ → slW σ1 s0 ≤ 9 → nF σ1 = nF σ → GJ Ω p l e (rmD 20 2 67) s m #[.ref a, .ref yb] below meth c 3 (MM Ω below (SP Ω Γ0 a (aFin2 (aFin1 σ g0 s0) g0 s0) none) nX #[.ref a, .ref yb] s 2 67) (hL Ω G1) 0 0 46 [some (.ref a), some (.ref yb), some (.ref x.1)] [] := by
    intro G1 σ1 eσ E1 S1 o1 n1 n2 n3 n4
    rw [← eσ]
    have x3' := (S1.2.2.1.2 s0 x x1).1.1
    have x4' := (S1.2.2.1.2 s0 x x1).1.2
    have S2 := S1.setW (w := min 9 (slW σ1 s0 + 2)) x1
    have o2 := kpO_O (e := .inl (.inr (6, [.int (nI (slD σ1 s0)), .int (nI (slP σ1 s0)), .ref x.2.1, .int (nI (min 9 (slW σ1 s0 + 2)))]))) x3' (show 7 ≠ 6 by decide) _ _ o1
    generalize eσ2 : aWet σ1 s0 (min 9 (slW σ1 s0 + 2)) = σ2 at S2
    have n5 : nG σ2 = nG σ := by rw [← eσ2]; exact n1
    have n6 : nF σ2 = nF σ := by rw [← eσ2]; exact n4
    obtain ⟨mG, hmG⟩ := S2.lG
    obtain ⟨yg, y1, y2⟩ := S2.gu (i := g0) (by rw [n5]; exact hg)
    have y4 := (S2.2.2.2.1.2 g0 yg y1).2
    have S3 := S2.setG (x := guC σ2 g0) (r := guR σ2 g0 + 1) y1
    have o3 := kpO_O (e := .inl (.inr (4, [.int (nI (guC σ2 g0)), .int (nI (guR σ2 g0 + 1))]))) y2 (show 7 ≠ 4 by decide) _ _ o2
    generalize eσ3 : uG σ2 ((sG σ2).set g0 (guC σ2 g0, guR σ2 g0 + 1)) = σ3 at S3
    have n7 : nF σ3 = nF σ := by rw [← eσ3]; exact n6
    have efin : aFin2 σ1 g0 s0 = uF σ3 (fiL σ3 (g0, s0, sM σ3)) := by rw [← eσ3, ← eσ2]; rfl
    rw [efin]
    refine g_aload_n X dX2_finish_46 rfl rfl ?_
    refine g_callV X (ct_X7_becomeWetter hst (by omega) x3') dX2_finish_47 rfl (lw_V q1188 q1189 q1190 q85 q1191) hyV_X7_becomeWetter (fun H hH => hL.recv X.2.2.2.2.2.2.2.1 hH (x3') rfl) (fun H hH => hH) ⟨Nat.le_of_ble_eq_true rfl, Nat.le_of_ble_eq_true rfl⟩ ⟨by first | exact Nat.le_of_ble_eq_true rfl | omega | (dsimp only [rmD]; omega), by first | exact Nat.le_of_ble_eq_true rfl | omega | (dsimp only [rmD]; omega)⟩ (Nat.le_of_ble_eq_true rfl) rfl (fun x_47 => ?_)
    refine g_aload_n X dX2_finish_50 rfl rfl ?_
    refine l_get X dX2_finish_51 rfl in_X2 (ci := 1) rfl 1 (by decide) q166 (fun _ h => h) S2.st rfl ?_
    refine g_aload_n X dX2_finish_54 rfl rfl ?_
    refine l_getN X dX2_finish_55 rfl in_X8 (ci := 7) rfl 0 (by decide) "SlidePark" q969 (fun _ h => h) o2 rfl ?_
    refine g_callV X (ct_J2_get hst hmG y1 (by omega)) dX2_finish_58 rfl (lw_V q294 q295 q296 q70 q297) hyV_J2_get (fun H hH => hL.recvL X.2.2.2.2.2.2.2.1 hH (hmG)) (fun H hH => hH) ⟨Nat.le_of_ble_eq_true rfl, Nat.le_of_ble_eq_true rfl⟩ ⟨by first | exact Nat.le_of_ble_eq_true rfl | omega | (dsimp only [rmD]; omega), by first | exact Nat.le_of_ble_eq_true rfl | omega | (dsimp only [rmD]; omega)⟩ (Nat.le_of_ble_eq_true rfl) rfl (fun x_58 => ?_)
    refine g_cast X dX2_finish_61 rfl q841 (fun H hH => hL.recv X.2.2.2.2.2.2.2.1 hH (y2) rfl) ?_
    refine g_dup X dX2_finish_64 rfl rfl ?_
    refine l_getN X dX2_finish_65 rfl in_X5 (ci := 4) rfl 1 (by decide) "SlidePark" q600 (fun _ h => h) y2 rfl ?_
    refine g_iconst X dX2_finish_68 rfl (v := (nI 1)) rfl ?_
    refine g_iadd X dX2_finish_69 rfl (by first | exact nI_add _ _ | rfl) ?_
    refine l_putN X dX2_finish_70 rfl in_X5 tyX5_ok nmX5 (ci := 4) rfl 1 (by decide) "SlidePark" q600 (fun _ h => h) rfl rfl rfl rfl y2 (Nat.le_of_ble_eq_true rfl) rfl ?_
    refine g_aload_n X dX2_finish_73 rfl rfl ?_
    refine l_get X dX2_finish_74 rfl in_X2 (ci := 1) rfl 3 (by decide) q170 (fun _ h => h) S3.st rfl ?_
    generalize hG3 : hu (hu G1 x.1 (Sum.inl (Sum.inr (6, [Value.int (nI (slD σ1 s0)), .int (nI (slP σ1 s0)), .ref x.2.1, .int (nI (min 9 (slW σ1 s0 + 2)))])))) yg (Sum.inl (Sum.inr (4, [Value.int (nI (guC σ2 g0)), .int (nI (guR σ2 g0 + 1))]))) = G3 at S3 o3
    have E3 : Ex Γ0 G3 := by rw [← hG3]; exact (E1.put x4').put y4
    refine GJ.imp (I' := hL Ω G3) (fun H hH => by rw [← hG3]; exact hH) ?_
    refine l_new X dX2_finish_77 rfl (fs := [.int 0, .int 0, .int 0]) in_X9 tyX9_ok q479 q1193 q100 (ci := 8) rfl (by decide) (by first | exact Nat.le_of_ble_eq_true rfl | omega | (dsimp only [rmD]; omega)) (by first | exact Nat.le_of_ble_eq_true rfl | omega | (dsimp only [rmD]; omega)) (fun q9 n9 => ?_)
    refine g_dup X dX2_finish_80 rfl rfl ?_
    refine g_aload_n X dX2_finish_81 rfl rfl ?_
    refine l_getN X dX2_finish_82 rfl in_X8 (ci := 7) rfl 0 (by decide) "SlidePark" q969 (fun _ h => h) ((Ex.new n9) _ _ o3) rfl ?_
    refine g_aload_n X dX2_finish_85 rfl rfl ?_
    refine l_getN X dX2_finish_86 rfl in_X8 (ci := 7) rfl 1 (by decide) "SlidePark" q972 (fun _ h => h) ((Ex.new n9) _ _ o3) rfl ?_
    refine g_aload_n X dX2_finish_89 rfl rfl ?_
    refine l_get X dX2_finish_90 rfl in_X2 (ci := 1) rfl 4 (by decide) q172 (fun _ h => h) ((S3.new n9).st) rfl ?_
    refine g_callI X (ct_X9_init hst (hu_s _ _ _)) dX2_finish_93 rfl q1196 q100 q1194 q1195 rfl hyS_X9_init (fun H hH => hH) ⟨Nat.le_of_ble_eq_true rfl, Nat.le_of_ble_eq_true rfl⟩ ⟨by first | exact Nat.le_of_ble_eq_true rfl | omega | (dsimp only [rmD]; omega), by first | exact Nat.le_of_ble_eq_true rfl | omega | (dsimp only [rmD]; omega)⟩ (Nat.le_of_ble_eq_true rfl) rfl (fun x_93 => ?_)
    rw [hu_hu]
    have S4 : SR Ω Γ0 (hu G3 q9 (.inl (.inr (8, [.int (nI g0), .int (nI s0), .int (nI (sM σ3))])))) a A σ3 := S3.new n9
    have o9 : isO (hu G3 q9 (.inl (.inr (8, [.int (nI g0), .int (nI s0), .int (nI (sM σ3))])))) q9 8 [.int (nI g0), .int (nI s0), .int (nI (sM σ3))] := hu_s _ _ _
    obtain ⟨mL, hmL⟩ := S4.lL
    refine g_callV X (ct_X3_add hst S4.lF hmL (by omega) (by decide) S4.eF (Or.inl ⟨8, _, o9, by simp⟩)) dX2_finish_96 rfl (lw_V q1212 q818 q819 q71 q820) hyV_X3_add (fun H hH => hL.recv X.2.2.2.2.2.2.2.1 hH (S4.lF) rfl) (fun H hH => hH) ⟨Nat.le_of_ble_eq_true rfl, Nat.le_of_ble_eq_true rfl⟩ ⟨by first | exact Nat.le_of_ble_eq_true rfl | omega | (dsimp only [rmD]; omega), by first | exact Nat.le_of_ble_eq_true rfl | omega | (dsimp only [rmD]; omega)⟩ (Nat.le_of_ble_eq_true rfl) rfl (fun m9 => ?_)
    refine g_vret X dX2_finish_99 rfl (by first | exact Nat.le_of_ble_eq_true rfl | omega | (dsimp only [rmD]; omega)) (by first | exact Nat.le_of_ble_eq_true rfl | omega | (dsimp only [rmD]; omega)) (fun H hH => ⟨⟨(_, _), (E3.put (E3.no n9)).put S4.2.1.2.2.2.1.2, S4.addF o9 (by omega)⟩, rfl, hH⟩)
  refine g_aload_n X dX2_finish_0 rfl rfl ?_
  refine l_get X dX2_finish_1 rfl in_X2 (ci := 1) rfl 0 (by decide) q164 (fun _ h => h) hS.st rfl ?_
  refine g_aload_n X dX2_finish_4 rfl rfl ?_
  refine l_getN X dX2_finish_5 rfl in_X8 (ci := 7) rfl 1 (by decide) "SlidePark" q972 (fun _ h => h) hy rfl ?_
  refine g_callV X (ct_J2_get hst hmS x2 (by omega)) dX2_finish_8 rfl (lw_V q294 q295 q296 q70 q297) hyV_J2_get (fun H hH => hL.recvL X.2.2.2.2.2.2.2.1 hH (hmS)) (fun H hH => hH) ⟨Nat.le_of_ble_eq_true rfl, Nat.le_of_ble_eq_true rfl⟩ ⟨by first | exact Nat.le_of_ble_eq_true rfl | omega | (dsimp only [rmD]; omega), by first | exact Nat.le_of_ble_eq_true rfl | omega | (dsimp only [rmD]; omega)⟩ (Nat.le_of_ble_eq_true rfl) rfl (fun x_8 => ?_)
  refine g_cast X dX2_finish_11 rfl q809 (fun H hH => hL.recv X.2.2.2.2.2.2.2.1 hH (x3) rfl) ?_
  refine g_astore_n X dX2_finish_14 rfl (by decide) rfl rfl ?_
  refine g_aload_n X dX2_finish_15 rfl rfl ?_
  refine g_callV X (ct_X7_isWet hst (by omega) x3) dX2_finish_16 rfl (lw_V q1184 q1185 q1186 q85 q1187) hyV_X7_isWet (fun H hH => hL.recv X.2.2.2.2.2.2.2.1 hH (x3) rfl) (fun H hH => hH) ⟨Nat.le_of_ble_eq_true rfl, Nat.le_of_ble_eq_true rfl⟩ ⟨by first | exact Nat.le_of_ble_eq_true rfl | omega | (dsimp only [rmD]; omega), by first | exact Nat.le_of_ble_eq_true rfl | omega | (dsimp only [rmD]; omega)⟩ (Nat.le_of_ble_eq_true rfl) rfl (fun x_16 => ?_)
  refine g_if_eq (tgt := 46) X dX2_finish_19 rfl (by decide) (fun c_19 => ?_) (fun c_19 => ?_)
  · have h1 := bI_0.mp c_19
    have e1 := aFin1_f (σ := σ) (g := g0) h1
    exact tail Γ σ e1.symm hx hS hy rfl rfl bs.2.2.2.2.1 rfl
  · have h1 := bI_n0.mp c_19
    have e1 := aFin1_t (σ := σ) (g := g0) h1
    refine g_aload_n X dX2_finish_22 rfl rfl ?_
    refine g_aload_n X dX2_finish_23 rfl rfl ?_
    refine l_getN X dX2_finish_24 rfl in_X8 (ci := 7) rfl 0 (by decide) "SlidePark" q969 (fun _ h => h) hy rfl ?_
    refine g_aload_n X dX2_finish_27 rfl rfl ?_
    refine l_getN X dX2_finish_28 rfl in_X7 (ci := 6) rfl 1 (by decide) "SlidePark" q733 (fun _ h => h) x3 rfl ?_
    refine g_iconst X dX2_finish_31 rfl (v := (nI 2)) rfl ?_
    refine g_idiv X dX2_finish_32 rfl (by decide) (pk_div (by omega) (by decide) (by decide)) ?_
    refine g_callV X (ct_X2_payBack hst hS hx b1.2.1 hg) dX2_finish_33 rfl (lw_V q1003 q1005 qs12 q67 q1006) hyV_X2_payBack (fun H hH => hL.recv X.2.2.2.2.2.2.2.1 hH (hS.st) rfl) (fun H hH => hH) ⟨Nat.le_of_ble_eq_true rfl, Nat.le_of_ble_eq_true rfl⟩ ⟨by first | exact Nat.le_of_ble_eq_true rfl | omega | (dsimp only [rmD]; omega), by first | exact Nat.le_of_ble_eq_true rfl | omega | (dsimp only [rmD]; omega)⟩ (Nat.le_of_ble_eq_true rfl) rfl (fun x0 => ?_)
    obtain ⟨G, e2, S1, k1⟩ := x0
    dsimp only
    refine g_aload_n X dX2_finish_36 rfl rfl ?_
    refine g_dup X dX2_finish_37 rfl rfl ?_
    refine l_get X dX2_finish_38 rfl in_X2 (ci := 1) rfl 7 (by decide) q178 (fun _ h => h) S1.st rfl ?_
    refine g_iconst X dX2_finish_41 rfl (v := (nI 1)) rfl ?_
    refine g_iadd X dX2_finish_42 rfl (by first | exact nI_add _ _ | rfl) ?_
    refine l_put X dX2_finish_43 rfl in_X2 tyX2_ok nmX2 (ci := 1) rfl 7 (by decide) q178 (fun _ h => h) rfl rfl rfl rfl S1.st (Nat.le_of_ble_eq_true rfl) rfl ?_
    exact tail _ _ e1.symm (e2.put S1.1.2) (S1.setN (σ' := uP (aBack σ g0 (slP σ s0 / 2)) (sP σ + nI 1)) rfl rfl rfl rfl) (kpO_O S1.1.1 (by decide) _ _ (k1 _ _ hy)) (by show nG (uG σ _) = _; exact nG_set) rfl bs.2.2.2.2.1 rfl
theorem fin_drop {g0 s0 k : Nat} : aFin2 (aFin1 (aDrop σ k) g0 s0) g0 s0 = aDrop (aFin2 (aFin1 σ g0 s0) g0 s0) k := by
  by_cases h : 5 ≤ slW σ s0
  · rw [aFin1_t h, aFin1_t (σ := aDrop σ k) h]; rfl
  · rw [aFin1_f h, aFin1_f (σ := aDrop σ k) h]; rfl
theorem nI_back {k : Nat} : nI k + Int32.ofInt (-1) + Int32.ofInt 1 = nI k := by
  rw [Int32.add_assoc, show Int32.ofInt (-1) + Int32.ofInt 1 = 0 by decide, Int32.add_zero]
theorem ct_X2_finishAll (hst : l.stackTraces = false) (hS : SR Ω Γ0 Γ a A σ) (hx : Ex Γ0 Γ) {R : Nat} (W : Wf R σ) (hm : sM σ ≤ 100000) (hr : R + 12 ≤ 2000000) : CM Ω l yX2_finishAll (ws_ yX2_finishAll cX2_finishAll 3 (some .int)) 24 24 804 [.ref a] (hL Ω Γ) (SP Ω Γ0 a (aFins (nB σ) 0 0 σ).2 (some (.int (nI (aFins (nB σ) 0 0 σ).1)))) nX := by
  have b12 := W.1.2.2.1
  refine CM.of (L := [some (.ref a), none, none]) hst (by decide) (Nat.le_of_ble_eq_true rfl) rfl ?_
  intro p e s m below meth c X hnm htab
  refine g_iconst X dX2_finishAll_0 rfl (v := (nI 0)) rfl ?_
  refine g_istore_n X dX2_finishAll_1 rfl (by decide) rfl rfl ?_
  refine g_iconst X dX2_finishAll_2 rfl (v := (nI 0)) rfl ?_
  refine g_istore_n X dX2_finishAll_3 rfl (by decide) rfl rfl ?_
  refine GJ.imp (I' := (fun x : Nat × Nat × Nat × St × LH × Ad => hL Ω x.2.2.2.2.1) (0, 0, nB σ, σ, Γ, A)) (fun H hH => hH) ?_
  refine GJ.loc ((fun x : Nat × Nat × Nat × St × LH × Ad => [some (.ref a), some (.int (nI x.2.1)), some (.int (nI x.1))]) (0, 0, nB σ, σ, Γ, A)) (lvle_c rfl (lvle_c rfl (lvle_c rfl lvle_e))) ?_
  refine GJ.wide (k' := (fun x : Nat × Nat × Nat × St × LH × Ad => 2 * x.2.1) (0, 0, nB σ, σ, Γ, A)) (n' := (fun x : Nat × Nat × Nat × St × LH × Ad => 67 * x.2.1) (0, 0, nB σ, σ, Γ, A)) (Nat.le_of_ble_eq_true rfl) (Nat.le_of_ble_eq_true rfl) ?_
  refine GJ.loop (fun x : Nat × Nat × Nat × St × LH × Ad => hL Ω x.2.2.2.2.1) (fun x => 2 * x.2.1) (fun x => 67 * x.2.1) (fun x : Nat × Nat × Nat × St × LH × Ad => [some (.ref a), some (.int (nI x.2.1)), some (.int (nI x.1))]) (fun x => nB x.2.2.2.1 - x.1) (fun x => SR Ω Γ0 x.2.2.2.2.1 a x.2.2.2.2.2 x.2.2.2.1 ∧ Ex Γ0 x.2.2.2.2.1 ∧ Wf (R + x.2.1) x.2.2.2.1 ∧ sM x.2.2.2.1 = sM σ ∧ x.1 ≤ nB x.2.2.2.1 ∧ x.2.1 + nB x.2.2.2.1 ≤ 12 ∧ nB x.2.2.2.1 - x.1 ≤ x.2.2.1 ∧ aFins x.2.2.1 x.1 x.2.1 x.2.2.2.1 = aFins (nB σ) 0 0 σ) (0, 0, nB σ, σ, Γ, A) ⟨hS, hx, W, rfl, Nat.zero_le _, by dsimp only; omega, Nat.sub_le _ _, rfl⟩ ?_
  rintro ⟨b, c0, n0, τ, G, B⟩ ⟨S1, E1, i2, i3, i4, i5, i6, i7⟩ ih
  dsimp only at S1 E1 i2 i3 i4 i5 i6 i7 ih ⊢
  have hB := i2.bd (by omega) (by omega)
  obtain ⟨mB, hmB⟩ := S1.lB
  have hcB := S1.cB
  refine g_iload_n X dX2_finishAll_4 rfl rfl ?_
  refine g_aload_n X dX2_finishAll_5 rfl rfl ?_
  refine l_get X dX2_finishAll_6 rfl in_X2 (ci := 1) rfl 2 (by decide) q168 (fun _ h => h) S1.st rfl ?_
  refine g_callV X (ct_J2_size hst hmB) dX2_finishAll_9 rfl (lw_V q293 q270 q271 q70 q272) hyV_J2_size (fun H hH => hL.recvL X.2.2.2.2.2.2.2.1 hH (hmB)) (fun H hH => hH) ⟨Nat.le_of_ble_eq_true rfl, Nat.le_of_ble_eq_true rfl⟩ ⟨by first | exact Nat.le_of_ble_eq_true rfl | omega | (dsimp only [rmD]; omega), by first | exact Nat.le_of_ble_eq_true rfl | omega | (dsimp only [rmD]; omega)⟩ (Nat.le_of_ble_eq_true rfl) rfl (fun x_9 => ?_)
  refine g_icmp_ge (tgt := 63) X dX2_finishAll_12 rfl (by decide) (fun c_12 => ?_) (fun c_12 => ?_)
  · rw [nI_leI (by omega) (by omega)] at c_12
    rw [aFins_end (by omega)] at i7
    refine g_iload_n X dX2_finishAll_63 rfl rfl ?_
    refine g_iret X dX2_finishAll_64 rfl (show 2 * c0 ≤ 24 by omega) (show 67 * c0 ≤ 804 by omega) (fun H hH => ⟨⟨(G, B), E1, by rw [← i7]; exact S1⟩, (show some (Value.int (nI c0)) = some (Value.int (nI (aFins (nB σ) 0 0 σ).1)) by rw [← i7]), hH⟩)
  · rw [nI_leI (by omega) (by omega)] at c_12
    have hb : b < nB τ := by omega
    obtain ⟨yb, y1, y2⟩ := S1.bo hb
    have bb := hB.bo hb
    rw [aFins_go hb (by omega)] at i7
    refine g_aload_n X dX2_finishAll_15 rfl rfl ?_
    refine l_get X dX2_finishAll_16 rfl in_X2 (ci := 1) rfl 2 (by decide) q168 (fun _ h => h) S1.st rfl ?_
    refine g_iload_n X dX2_finishAll_19 rfl rfl ?_
    refine g_callV X (ct_J2_get hst hmB y1 (by omega)) dX2_finishAll_20 rfl (lw_V q294 q295 q296 q70 q297) hyV_J2_get (fun H hH => hL.recvL X.2.2.2.2.2.2.2.1 hH (hmB)) (fun H hH => hH) ⟨Nat.le_of_ble_eq_true rfl, Nat.le_of_ble_eq_true rfl⟩ ⟨by first | exact Nat.le_of_ble_eq_true rfl | omega | (dsimp only [rmD]; omega), by first | exact Nat.le_of_ble_eq_true rfl | omega | (dsimp only [rmD]; omega)⟩ (Nat.le_of_ble_eq_true rfl) rfl (fun x_20 => ?_)
    refine g_cast X dX2_finishAll_23 rfl q308 (fun H hH => hL.recv X.2.2.2.2.2.2.2.1 hH (y2) rfl) ?_
    refine l_getN X dX2_finishAll_26 rfl in_X8 (ci := 7) rfl 3 (by decide) "SlidePark" q978 (fun _ h => h) y2 rfl ?_
    refine g_aload_n X dX2_finishAll_29 rfl rfl ?_
    refine l_get X dX2_finishAll_30 rfl in_X2 (ci := 1) rfl 4 (by decide) q172 (fun _ h => h) S1.st rfl ?_
    refine g_icmp_ne (tgt := 57) X dX2_finishAll_33 rfl (by decide) (fun c_33 => ?_) (fun c_33 => ?_)
    · rw [nI_eq (by omega) (by omega)] at c_33
      rw [cH_f c_33] at i7
      refine g_iinc X dX2_finishAll_57 rfl rfl (by first | exact nI_1 _ | rfl) (by decide) rfl rfl ?_
      refine g_goto (tgt := 4) X dX2_finishAll_60 rfl (by decide) ?_
      refine GJ.loc [some (.ref a), some (.int (nI c0)), some (.int (nI (b + 1)))] (lvle_c rfl (lvle_c rfl (lvle_c rfl lvle_e))) ?_
      exact ih (b + 1, c0, n0 - 1, τ, G, B) ⟨S1, E1, i2, i3, by dsimp only; omega, i5, by dsimp only; omega, i7⟩ (by dsimp only; omega)
    · rw [nI_eq (by omega) (by omega)] at c_33
      rw [cH_t c_33] at i7
      have hnb := nB_finish hb
      have S2 := S1.eraB (k := b) (m := mB + nI 1) hb
      have E2 : Ex Γ0 (hu G (qdB B) (.inr ((laB B).eraseIdx b, mB + nI 1))) := E1.put S1.2.1.2.2.1.2
      have y3 : isO (hu G (qdB B) (.inr ((laB B).eraseIdx b, mB + nI 1))) yb 7 (boF τ b) := kpO_L hmB _ _ y2
      have hBd : Bd (aDrop τ b) := by
        have Wd : Wf (R + c0) (aDrop τ b) := Wf_drop i2 hb rfl rfl rfl rfl rfl (fun i hi => ⟨Nat.le_add_right _ _, (i2.2.2.2.2.1 i hi).2⟩)
        exact Wd.bd (show sM τ ≤ 100000 by omega) (by omega)
      have ef : aFin2 (aFin1 (aDrop τ b) (boG τ b) (boS τ b)) (boG τ b) (boS τ b) = aFinish τ b := fin_drop
      refine g_aload_n X dX2_finishAll_36 rfl rfl ?_
      refine g_aload_n X dX2_finishAll_37 rfl rfl ?_
      refine l_get X dX2_finishAll_38 rfl in_X2 (ci := 1) rfl 2 (by decide) q168 (fun _ h => h) S1.st rfl ?_
      refine g_iload_n X dX2_finishAll_41 rfl rfl ?_
      refine g_callV X (ct_J2_remove hst hmB y1 (by omega) S1.eB) dX2_finishAll_42 rfl (lw_V q1007 q822 q823 q70 q824) hyV_J2_remove (fun H hH => hL.recvL X.2.2.2.2.2.2.2.1 hH (hmB)) (fun H hH => hH) ⟨Nat.le_of_ble_eq_true rfl, Nat.le_of_ble_eq_true rfl⟩ ⟨by first | exact Nat.le_of_ble_eq_true rfl | omega | (dsimp only [rmD]; omega), by first | exact Nat.le_of_ble_eq_true rfl | omega | (dsimp only [rmD]; omega)⟩ (Nat.le_of_ble_eq_true rfl) rfl (fun x_42 => ?_)
      refine g_cast X dX2_finishAll_45 rfl q308 (fun H hH => hL.recv X.2.2.2.2.2.2.2.1 hH (y3) rfl) ?_
      refine g_callV X (ct_X2_finish hst S2 E2 hBd bb.1 bb.2.1 y3) dX2_finishAll_48 rfl (lw_V q1180 q1182 qs16 q67 q1183) hyV_X2_finish (fun H hH => hL.recv X.2.2.2.2.2.2.2.1 hH (S2.st) rfl) (fun H hH => hH) ⟨Nat.le_of_ble_eq_true rfl, Nat.le_of_ble_eq_true rfl⟩ ⟨show 2 * c0 + 2 ≤ 24 by omega, show 67 * c0 + 67 ≤ 804 by omega⟩ (Nat.le_of_ble_eq_true rfl) rfl (fun x0 => ?_)
      obtain ⟨⟨G2, B2⟩, z1, z2⟩ := x0
      rw [ef] at z2
      dsimp only at z1 z2 ⊢
      refine g_iinc X dX2_finishAll_51 rfl rfl (by first | exact nI_1 _ | rfl) (by decide) rfl rfl ?_
      refine g_iinc X dX2_finishAll_54 rfl rfl rfl (by decide) rfl rfl ?_
      refine g_iinc X dX2_finishAll_57 rfl rfl nI_back (by decide) rfl rfl ?_
      refine g_goto (tgt := 4) X dX2_finishAll_60 rfl (by decide) ?_
      refine GJ.loc [some (.ref a), some (.int (nI (c0 + 1))), some (.int (nI b))] (lvle_c rfl (lvle_c rfl (lvle_c rfl lvle_e))) ?_
      exact GJ.wide (show 2 * c0 + 2 ≤ 2 * (c0 + 1) by omega) (show 67 * c0 + 67 ≤ 67 * (c0 + 1) by omega) (ih (b, c0 + 1, n0 - 1, aFinish τ b, G2, B2) ⟨z2, z1, Wf_finish i2 hb, sM_finish.trans i3, by dsimp only; omega, by dsimp only; omega, by dsimp only; omega, i7⟩ (by dsimp only; omega))
theorem ct_X2_passMinute (hst : l.stackTraces = false) (hS : SR Ω Γ0 Γ a A σ) (hx : Ex Γ0 Γ) {R : Nat} (W : Wf R σ) (hm : sM σ + 1 ≤ 100000) (hr : R + 12 ≤ 2000000) : CM Ω l yX2_passMinute (ws_ yX2_passMinute cX2_passMinute 2 (some .int)) 28 32 1076 [.ref a] (hL Ω Γ) (SP Ω Γ0 a (aMinute σ).2 (some (.int (nI (aMinute σ).1)))) nX := by
  have b1 := W.1
  refine CM.of (L := [some (.ref a), none]) hst (by decide) (Nat.le_of_ble_eq_true rfl) rfl ?_
  intro p e s m below meth c X hnm htab
  refine g_iconst X dX2_passMinute_0 rfl (v := (nI 0)) rfl ?_
  refine g_istore_n X dX2_passMinute_1 rfl (by decide) rfl rfl ?_
  refine GJ.imp (I' := (fun x : Nat × LH × Ad => hL Ω x.2.1) (0, Γ, A)) (fun H hH => hH) ?_
  refine GJ.loc ((fun x : Nat × LH × Ad => [some (.ref a), some (.int (nI x.1))]) (0, Γ, A)) (lvle_c rfl (lvle_c rfl lvle_e)) ?_
  refine GJ.wide (k' := (fun x : Nat × LH × Ad => 2 * x.1) (0, Γ, A)) (n' := (fun x : Nat × LH × Ad => 68 * x.1) (0, Γ, A)) (Nat.le_of_ble_eq_true rfl) (Nat.le_of_ble_eq_true rfl) ?_
  refine GJ.loop (fun x : Nat × LH × Ad => hL Ω x.2.1) (fun x => 2 * x.1) (fun x => 68 * x.1) (fun x : Nat × LH × Ad => [some (.ref a), some (.int (nI x.1))]) (fun x => nS σ - x.1) (fun x => x.1 ≤ nS σ ∧ SR Ω Γ0 x.2.1 a x.2.2 (aC σ x.1) ∧ Ex Γ0 x.2.1) (0, Γ, A) ⟨Nat.zero_le _, hS, hx⟩ ?_
  rintro ⟨k, G, B⟩ ⟨hk1, S1, E1⟩ ih
  dsimp only at hk1 S1 E1 ih ⊢
  obtain ⟨w1, w2, w3⟩ := aC_all W k hk1
  obtain ⟨mS, hmS⟩ := S1.lS
  have hcS := S1.cS2
  rw [w2] at hcS
  refine g_iload_n X dX2_passMinute_2 rfl rfl ?_
  refine g_aload_n X dX2_passMinute_3 rfl rfl ?_
  refine l_get X dX2_passMinute_4 rfl in_X2 (ci := 1) rfl 0 (by decide) q164 (fun _ h => h) S1.st rfl ?_
  refine g_callV X (ct_J2_size hst hmS) dX2_passMinute_7 rfl (lw_V q293 q270 q271 q70 q272) hyV_J2_size (fun H hH => hL.recvL X.2.2.2.2.2.2.2.1 hH (hmS)) (fun H hH => hH) ⟨Nat.le_of_ble_eq_true rfl, Nat.le_of_ble_eq_true rfl⟩ ⟨by first | exact Nat.le_of_ble_eq_true rfl | omega | (dsimp only [rmD]; omega), by first | exact Nat.le_of_ble_eq_true rfl | omega | (dsimp only [rmD]; omega)⟩ (Nat.le_of_ble_eq_true rfl) rfl (fun x_7 => ?_)
  refine g_icmp_ge (tgt := 44) X dX2_passMinute_10 rfl (by decide) (fun c_10 => ?_) (fun c_10 => ?_)
  rotate_left
  · rw [nI_leI (by omega) (by omega)] at c_10
    have hs : k < nS (aC σ k) := by rw [w2]; omega
    have hB := w1.bd (by omega) (by omega)
    have bs := hB.2.1 k hs
    obtain ⟨x, x1, x2, x3, x4, mq, x5⟩ := S1.sl hs
    refine g_aload_n X dX2_passMinute_13 rfl rfl ?_
    refine l_get X dX2_passMinute_14 rfl in_X2 (ci := 1) rfl 0 (by decide) q164 (fun _ h => h) S1.st rfl ?_
    refine g_iload_n X dX2_passMinute_17 rfl rfl ?_
    refine g_callV X (ct_J2_get hst hmS x2 (by omega)) dX2_passMinute_18 rfl (lw_V q294 q295 q296 q70 q297) hyV_J2_get (fun H hH => hL.recvL X.2.2.2.2.2.2.2.1 hH (hmS)) (fun H hH => hH) ⟨Nat.le_of_ble_eq_true rfl, Nat.le_of_ble_eq_true rfl⟩ ⟨by first | exact Nat.le_of_ble_eq_true rfl | omega | (dsimp only [rmD]; omega), by first | exact Nat.le_of_ble_eq_true rfl | omega | (dsimp only [rmD]; omega)⟩ (Nat.le_of_ble_eq_true rfl) rfl (fun x_18 => ?_)
    refine g_cast X dX2_passMinute_21 rfl q809 (fun H hH => hL.recv X.2.2.2.2.2.2.2.1 hH (x3) rfl) ?_
    refine l_getN X dX2_passMinute_24 rfl in_X7 (ci := 6) rfl 2 (by decide) "SlidePark" q736 (fun _ h => h) x3 rfl ?_
    refine g_callV X (ct_X6_isEmpty hst x4 x5 (by rw [iAd_len]; omega)) dX2_passMinute_27 rfl (lw_V q1144 q1145 q1146 q84 q1147) hyV_X6_isEmpty (fun H hH => hL.recv X.2.2.2.2.2.2.2.1 hH (x4) rfl) (fun H hH => hH) ⟨Nat.le_of_ble_eq_true rfl, Nat.le_of_ble_eq_true rfl⟩ ⟨by first | exact Nat.le_of_ble_eq_true rfl | omega | (dsimp only [rmD]; omega), by first | exact Nat.le_of_ble_eq_true rfl | omega | (dsimp only [rmD]; omega)⟩ (Nat.le_of_ble_eq_true rfl) rfl (fun x_27 => ?_)
    refine g_if_ne (tgt := 38) X dX2_passMinute_30 rfl (by decide) (fun c_30 => ?_) (fun c_30 => ?_)
    · have h1 := bI_n0.mp c_30
      have h2 : slQ (aC σ k) k = [] := List.map_eq_nil_iff.mp h1
      have e : aC σ (k + 1) = aC σ k := aCall_nil h2
      refine g_iinc X dX2_passMinute_38 rfl rfl (by first | exact nI_1 _ | rfl) (by decide) rfl rfl ?_
      refine g_goto (tgt := 2) X dX2_passMinute_41 rfl (by decide) ?_
      refine GJ.loc [some (.ref a), some (.int (nI (k + 1)))] (lvle_c rfl (lvle_c rfl lvle_e)) ?_
      exact GJ.wide (show 2 * k ≤ 2 * (k + 1) by omega) (show 68 * k ≤ 68 * (k + 1) by omega) (ih (k + 1, G, B) ⟨by dsimp only; omega, by dsimp only; rw [e]; exact S1, E1⟩ (by dsimp only; omega))
    · have h1 := bI_0.mp c_30
      obtain ⟨g0, r, h2⟩ : ∃ g0 r, slQ (aC σ k) k = g0 :: r := by
        cases h : slQ (aC σ k) k with
        | nil => rw [h] at h1; exact absurd rfl h1
        | cons g0 r => exact ⟨g0, r, rfl⟩
      refine g_aload_n X dX2_passMinute_33 rfl rfl ?_
      refine g_iload_n X dX2_passMinute_34 rfl rfl ?_
      refine g_callV X (ct_X2_callFirst hst S1 E1 w1 (by omega) (by omega) hs h2) dX2_passMinute_35 rfl (lw_V q1152 q1154 qs14 q67 q1155) hyV_X2_callFirst (fun H hH => hL.recv X.2.2.2.2.2.2.2.1 hH (S1.st) rfl) (fun H hH => hH) ⟨Nat.le_of_ble_eq_true rfl, Nat.le_of_ble_eq_true rfl⟩ ⟨show 2 * k + 2 ≤ 32 by omega, show 68 * k + 68 ≤ 1076 by omega⟩ (Nat.le_of_ble_eq_true rfl) rfl (fun x0 => ?_)
      obtain ⟨⟨G2, B2⟩, z1, z2⟩ := x0
      dsimp only at z1 z2 ⊢
      refine g_iinc X dX2_passMinute_38 rfl rfl (by first | exact nI_1 _ | rfl) (by decide) rfl rfl ?_
      refine g_goto (tgt := 2) X dX2_passMinute_41 rfl (by decide) ?_
      refine GJ.loc [some (.ref a), some (.int (nI (k + 1)))] (lvle_c rfl (lvle_c rfl lvle_e)) ?_
      exact GJ.wide (show 2 * k + 2 ≤ 2 * (k + 1) by omega) (show 68 * k + 68 ≤ 68 * (k + 1) by omega) (ih (k + 1, G2, B2) ⟨by dsimp only; omega, z2, z1⟩ (by dsimp only; omega))
  rw [nI_leI (by omega) (by omega)] at c_10
  obtain rfl : k = nS σ := by omega
  clear ih
  have S1 : SR Ω Γ0 G a B (aMin1 σ) := S1
  have W2 : Wf R (aMin2 (aMin1 σ)) := Wf_min w1
  have n2 : nS (aMin2 (aMin1 σ)) = nS σ := w2
  have m1 : sM (aMin1 σ) = sM σ := w3
  have m2 : sM (aMin2 (aMin1 σ)) = sM σ + 1 := by show sM (aMin1 σ) + 1 = _; rw [m1]
  have S2 := S1.setN (σ' := aMin2 (aMin1 σ)) rfl rfl rfl rfl
  have E2 : Ex Γ0 (hu G a (.inl (.inr (1, stF B (aMin2 (aMin1 σ)))))) := E1.put S1.1.2
  refine g_aload_n X dX2_passMinute_44 rfl rfl ?_
  refine g_dup X dX2_passMinute_45 rfl rfl ?_
  refine l_get X dX2_passMinute_46 rfl in_X2 (ci := 1) rfl 4 (by decide) q172 (fun _ h => h) S1.st rfl ?_
  refine g_iconst X dX2_passMinute_49 rfl (v := (nI 1)) rfl ?_
  refine g_iadd X dX2_passMinute_50 rfl (by first | exact nI_add _ _ | rfl) ?_
  refine l_put X dX2_passMinute_51 rfl in_X2 tyX2_ok nmX2 (ci := 1) rfl 4 (by decide) q172 (fun _ h => h) rfl rfl rfl rfl S1.st (Nat.le_of_ble_eq_true rfl) rfl ?_
  refine g_iconst X dX2_passMinute_54 rfl (v := (nI 0)) rfl ?_
  refine g_istore_n X dX2_passMinute_55 rfl (by decide) rfl rfl ?_
  refine GJ.imp (I' := (fun x : Nat × LH × Ad => hL Ω x.2.1) (0, hu G a (.inl (.inr (1, stF B (aMin2 (aMin1 σ))))), B)) (fun H hH => hH) ?_
  refine GJ.loc ((fun x : Nat × LH × Ad => [some (.ref a), some (.int (nI x.1))]) (0, hu G a (.inl (.inr (1, stF B (aMin2 (aMin1 σ))))), B)) (lvle_c rfl (lvle_c rfl lvle_e)) ?_
  refine GJ.wide (k' := 8) (n' := 272) (by show 2 * nS σ ≤ 8; omega) (by show 68 * nS σ ≤ 272; omega) ?_
  refine GJ.loop (fun x : Nat × LH × Ad => hL Ω x.2.1) (fun _ => 8) (fun _ => 272) (fun x : Nat × LH × Ad => [some (.ref a), some (.int (nI x.1))]) (fun x => nS σ - x.1) (fun x => x.1 ≤ nS σ ∧ SR Ω Γ0 x.2.1 a x.2.2 (aD (aMin2 (aMin1 σ)) x.1) ∧ Ex Γ0 x.2.1) (0, _, B) ⟨Nat.zero_le _, S2, E2⟩ ?_
  clear S2 E2
  rintro ⟨k, G2, B2⟩ ⟨hj1, S3, E3⟩ ih
  dsimp only at hj1 S3 E3 ih ⊢
  obtain ⟨v1, v2, v3⟩ := aD_all W2 k (by rw [n2]; exact hj1)
  have v4 : sM (aD (aMin2 (aMin1 σ)) k) = sM σ + 1 := by rw [v3, m2]
  obtain ⟨mS3, hmS3⟩ := S3.lS
  have hcS3 := S3.cS2
  rw [v2, n2] at hcS3
  refine g_iload_n X dX2_passMinute_56 rfl rfl ?_
  refine g_aload_n X dX2_passMinute_57 rfl rfl ?_
  refine l_get X dX2_passMinute_58 rfl in_X2 (ci := 1) rfl 0 (by decide) q164 (fun _ h => h) S3.st rfl ?_
  refine g_callV X (ct_J2_size hst hmS3) dX2_passMinute_61 rfl (lw_V q293 q270 q271 q70 q272) hyV_J2_size (fun H hH => hL.recvL X.2.2.2.2.2.2.2.1 hH (hmS3)) (fun H hH => hH) ⟨Nat.le_of_ble_eq_true rfl, Nat.le_of_ble_eq_true rfl⟩ ⟨by first | exact Nat.le_of_ble_eq_true rfl | omega | (dsimp only [rmD]; omega), by first | exact Nat.le_of_ble_eq_true rfl | omega | (dsimp only [rmD]; omega)⟩ (Nat.le_of_ble_eq_true rfl) rfl (fun x_61 => ?_)
  refine g_icmp_ge (tgt := 101) X dX2_passMinute_64 rfl (by decide) (fun c_64 => ?_) (fun c_64 => ?_)
  rotate_left
  · rw [nI_leI (by omega) (by omega)] at c_64
    have hs : k < nS (aD (aMin2 (aMin1 σ)) k) := by rw [v2, n2]; omega
    have hB := v1.bd (by omega) (by omega)
    have bs := hB.2.1 k hs
    obtain ⟨x, x1, x2, x3, x4, mq, x5⟩ := S3.sl hs
    have hm1 : nI (sM (aD (aMin2 (aMin1 σ)) k)) - nI 1 = nI (sM (aD (aMin2 (aMin1 σ)) k) - 1) := pk_sub (by omega)
    refine g_aload_n X dX2_passMinute_67 rfl rfl ?_
    refine g_iload_n X dX2_passMinute_68 rfl rfl ?_
    refine g_aload_n X dX2_passMinute_69 rfl rfl ?_
    refine l_get X dX2_passMinute_70 rfl in_X2 (ci := 1) rfl 4 (by decide) q172 (fun _ h => h) S3.st rfl ?_
    refine g_iconst X dX2_passMinute_73 rfl (v := (nI 1)) rfl ?_
    refine g_isub X dX2_passMinute_74 rfl hm1 ?_
    refine g_callV X (ct_X2_bookingAt hst S3 hB hs (by omega)) dX2_passMinute_75 rfl (lw_V q1167 q1168 q1169 q67 q1170) hyV_X2_bookingAt (fun H hH => hL.recv X.2.2.2.2.2.2.2.1 hH (S3.st) rfl) (fun H hH => hH) ⟨Nat.le_of_ble_eq_true rfl, Nat.le_of_ble_eq_true rfl⟩ ⟨by first | exact Nat.le_of_ble_eq_true rfl | omega | (dsimp only [rmD]; omega), by first | exact Nat.le_of_ble_eq_true rfl | omega | (dsimp only [rmD]; omega)⟩ (Nat.le_of_ble_eq_true rfl) rfl (fun x0 => ?_)
    obtain ⟨ob, hob⟩ := x0
    have eD : aD (aMin2 (aMin1 σ)) (k + 1) = aDry (aD (aMin2 (aMin1 σ)) k) k := rfl
    cases ob with
    | none =>
      have hno : ¬ aBusy (aD (aMin2 (aMin1 σ)) k) k (sM (aD (aMin2 (aMin1 σ)) k) - 1) := hob
      have e1 : aD (aMin2 (aMin1 σ)) (k + 1) = aWet (aD (aMin2 (aMin1 σ)) k) k (slW (aD (aMin2 (aMin1 σ)) k) k - 1) := by rw [eD]; exact cH_f hno
      have S4 := S3.setW (w := slW (aD (aMin2 (aMin1 σ)) k) k - 1) x1
      rw [← e1] at S4
      refine g_ifnonnull X (x := none) (tgt := 95) dX2_passMinute_78 rfl (by decide) (fun y g => by simp at g) (fun _ => ?_)
      refine g_aload_n X dX2_passMinute_81 rfl rfl ?_
      refine l_get X dX2_passMinute_82 rfl in_X2 (ci := 1) rfl 0 (by decide) q164 (fun _ h => h) S3.st rfl ?_
      refine g_iload_n X dX2_passMinute_85 rfl rfl ?_
      refine g_callV X (ct_J2_get hst hmS3 x2 (by omega)) dX2_passMinute_86 rfl (lw_V q294 q295 q296 q70 q297) hyV_J2_get (fun H hH => hL.recvL X.2.2.2.2.2.2.2.1 hH (hmS3)) (fun H hH => hH) ⟨Nat.le_of_ble_eq_true rfl, Nat.le_of_ble_eq_true rfl⟩ ⟨by first | exact Nat.le_of_ble_eq_true rfl | omega | (dsimp only [rmD]; omega), by first | exact Nat.le_of_ble_eq_true rfl | omega | (dsimp only [rmD]; omega)⟩ (Nat.le_of_ble_eq_true rfl) rfl (fun x_86 => ?_)
      refine g_cast X dX2_passMinute_89 rfl q809 (fun H hH => hL.recv X.2.2.2.2.2.2.2.1 hH (x3) rfl) ?_
      refine g_callV X (ct_X7_dry hst bs.2.2.2.2.1 x3) dX2_passMinute_92 rfl (lw_V q1171 q1172 q1173 q85 q1174) hyV_X7_dry (fun H hH => hL.recv X.2.2.2.2.2.2.2.1 hH (x3) rfl) (fun H hH => hH) ⟨Nat.le_of_ble_eq_true rfl, Nat.le_of_ble_eq_true rfl⟩ ⟨by first | exact Nat.le_of_ble_eq_true rfl | omega | (dsimp only [rmD]; omega), by first | exact Nat.le_of_ble_eq_true rfl | omega | (dsimp only [rmD]; omega)⟩ (Nat.le_of_ble_eq_true rfl) rfl (fun x_92 => ?_)
      refine g_iinc X dX2_passMinute_95 rfl rfl (by first | exact nI_1 _ | rfl) (by decide) rfl rfl ?_
      refine g_goto (tgt := 56) X dX2_passMinute_98 rfl (by decide) ?_
      refine GJ.loc [some (.ref a), some (.int (nI (k + 1)))] (lvle_c rfl (lvle_c rfl lvle_e)) ?_
      exact ih (k + 1, _, B2) ⟨by dsimp only; omega, S4, E3.put (S3.2.2.1.2 k x x1).1.2⟩ (by dsimp only; omega)
    | some y9 =>
      have hyes : aBusy (aD (aMin2 (aMin1 σ)) k) k (sM (aD (aMin2 (aMin1 σ)) k) - 1) := ⟨y9.1, hob.1, hob.2.1⟩
      have e1 : aD (aMin2 (aMin1 σ)) (k + 1) = aD (aMin2 (aMin1 σ)) k := by rw [eD]; exact cH_t hyes
      refine g_ifnonnull X (x := some y9.2) (tgt := 95) dX2_passMinute_78 rfl (by decide) (fun _ _ => ?_) (fun g => by simp at g)
      refine g_iinc X dX2_passMinute_95 rfl rfl (by first | exact nI_1 _ | rfl) (by decide) rfl rfl ?_
      refine g_goto (tgt := 56) X dX2_passMinute_98 rfl (by decide) ?_
      refine GJ.loc [some (.ref a), some (.int (nI (k + 1)))] (lvle_c rfl (lvle_c rfl lvle_e)) ?_
      exact ih (k + 1, G2, B2) ⟨by dsimp only; omega, by dsimp only; rw [e1]; exact S3, E3⟩ (by dsimp only; omega)
  rw [nI_leI (by omega) (by omega)] at c_64
  obtain rfl : k = nS σ := by omega
  clear ih
  have hS3 : SR Ω Γ0 G2 a B2 (aM3 σ) := by
    have : aM3 σ = aD (aMin2 (aMin1 σ)) (nS σ) := by show aD (aMin2 (aMin1 σ)) (nS (aMin2 (aMin1 σ))) = _; rw [n2]
    rw [this]; exact S3
  obtain ⟨u1, u2, u3⟩ := aM3_all W
  refine g_aload_n X dX2_passMinute_101 rfl rfl ?_
  refine g_callV X (ct_X2_finishAll hst hS3 E3 u1 (by omega) hr) dX2_passMinute_102 rfl (lw_V q1176 q1178 qs15 q67 q1179) hyV_X2_finishAll (fun H hH => hL.recv X.2.2.2.2.2.2.2.1 hH (hS3.st) rfl) (fun H hH => hH) ⟨Nat.le_of_ble_eq_true rfl, Nat.le_of_ble_eq_true rfl⟩ ⟨show 8 + 24 ≤ 32 by omega, show 272 + 804 ≤ 1076 by omega⟩ (Nat.le_of_ble_eq_true rfl) rfl (fun x0 => ?_)
  refine g_iret X dX2_passMinute_105 rfl (show 8 + 24 ≤ 32 by omega) (show 272 + 804 ≤ 1076 by omega) (fun H hH => ⟨x0, rfl, hH⟩)
theorem ct_X2_passMinutes (hst : l.stackTraces = false) (hS : SR Ω Γ0 Γ a A σ) (hx : Ex Γ0 Γ) {R : Nat} (W : Wf R σ) (hm : sM σ + 60 ≤ 100000) (hr : R + 720 ≤ 2000000) {u : Int32} : CM Ω l yX2_passMinutes (ws_ yX2_passMinutes cX2_passMinutes 4 (some .int)) 30 1921 64566 [.ref a, .int u] (hL Ω Γ) (SO Ω Γ0 a (aPass σ u)) (xR nmPa (aPass σ u) (hL Ω Γ)) := by
  refine CM.of (L := [some (.ref a), some (.int u), none, none]) hst (by decide) (Nat.le_of_ble_eq_true rfl) rfl ?_
  intro p e s m below meth c X hnm htab
  by_cases hP : nI 1 ≤ u ∧ u ≤ nI 60
  · obtain ⟨n, hn1, hn2, rfl⟩ := (rgI (by decide) (by decide)).mp hP
    have r2 := aPass_2 (σ := σ) hP
    rw [iN_nI (by omega)] at r2
    refine g_iload_n X dX2_passMinutes_0 rfl rfl ?_
    refine g_iconst X dX2_passMinutes_1 rfl (v := (nI 1)) rfl ?_
    refine g_bipush X dX2_passMinutes_2 rfl (v := (nI 60)) (by decide) ?_
    refine g_callSN X "SlidePark" (ct_X1_isBetween hst) dX2_passMinutes_4 rfl q447 q66 q772 q446 hyS_X1_isBetween (fun H hH => hH) ⟨Nat.le_of_ble_eq_true rfl, Nat.le_of_ble_eq_true rfl⟩ ⟨by first | exact Nat.le_of_ble_eq_true rfl | omega | (dsimp only [rmD]; omega), by first | exact Nat.le_of_ble_eq_true rfl | omega | (dsimp only [rmD]; omega)⟩ (Nat.le_of_ble_eq_true rfl) rfl (fun x_4 => ?_)
    refine g_callSNx X "SlidePark" (ct_X1_requireArgument hst) dX2_passMinutes_7 rfl q775 q66 q773 q774 hyS_X1_requireArgument (fun H hH => hH) ⟨Nat.le_of_ble_eq_true rfl, Nat.le_of_ble_eq_true rfl⟩ ⟨by first | exact Nat.le_of_ble_eq_true rfl | omega | (dsimp only [rmD]; omega), by first | exact Nat.le_of_ble_eq_true rfl | omega | (dsimp only [rmD]; omega)⟩ (Nat.le_of_ble_eq_true rfl) rfl (fun E q => GX.not (fun h => h hP)) (fun x_7 => ?_)
    refine g_iconst X dX2_passMinutes_10 rfl (v := (nI 0)) rfl ?_
    refine g_istore_n X dX2_passMinutes_11 rfl (by decide) rfl rfl ?_
    refine g_iconst X dX2_passMinutes_12 rfl (v := (nI 0)) rfl ?_
    refine g_istore_n X dX2_passMinutes_13 rfl (by decide) rfl rfl ?_
    refine GJ.imp (I' := (fun x : Nat × LH × Ad => hL Ω x.2.1) (0, Γ, A)) (fun H hH => hH) ?_
    refine GJ.loc ((fun x : Nat × LH × Ad => [some (.ref a), some (.int (nI n)), some (.int (nI (aMins x.1 σ).1)), some (.int (nI x.1))]) (0, Γ, A)) (lvle_c rfl (lvle_c rfl (lvle_c rfl (lvle_c rfl lvle_e)))) ?_
    refine GJ.wide (k' := (fun x : Nat × LH × Ad => 1 + 32 * x.1) (0, Γ, A)) (n' := (fun x : Nat × LH × Ad => 6 + 1076 * x.1) (0, Γ, A)) (Nat.le_of_ble_eq_true rfl) (Nat.le_of_ble_eq_true rfl) ?_
    refine GJ.loop (fun x : Nat × LH × Ad => hL Ω x.2.1) (fun x => 1 + 32 * x.1) (fun x => 6 + 1076 * x.1) (fun x : Nat × LH × Ad => [some (.ref a), some (.int (nI n)), some (.int (nI (aMins x.1 σ).1)), some (.int (nI x.1))]) (fun x => n - x.1) (fun x => x.1 ≤ n ∧ SR Ω Γ0 x.2.1 a x.2.2 (aMins x.1 σ).2 ∧ Ex Γ0 x.2.1) (0, Γ, A) ⟨Nat.zero_le _, hS, hx⟩ ?_
    rintro ⟨k, G, B⟩ ⟨hk1, S1, E1⟩ ih
    dsimp only at hk1 S1 E1 ih ⊢
    obtain ⟨w1, w2, w3⟩ := Wf_mins W k
    refine g_iload_n X dX2_passMinutes_14 rfl rfl ?_
    refine g_iload_n X dX2_passMinutes_15 rfl rfl ?_
    refine g_icmp_ge (tgt := 32) X dX2_passMinutes_16 rfl (by decide) (fun c_16 => ?_) (fun c_16 => ?_)
    · rw [nI_leI (by omega) (by omega)] at c_16
      obtain rfl : k = n := by omega
      refine g_iload_n X dX2_passMinutes_32 rfl rfl ?_
      refine g_iret X dX2_passMinutes_33 rfl (show 1 + 32 * k ≤ 1921 by omega) (show 6 + 1076 * k ≤ 64566 by omega) (fun H hH => ⟨⟨(G, B, _, _), r2, E1, S1⟩, rfl, hH⟩)
    · rw [nI_leI (by omega) (by omega)] at c_16
      refine g_iload_n X dX2_passMinutes_19 rfl rfl ?_
      refine g_aload_n X dX2_passMinutes_20 rfl rfl ?_
      refine g_callV X (ct_X2_passMinute hst S1 E1 w1 (by omega) (by omega)) dX2_passMinutes_21 rfl (lw_V q1140 q1142 qs13 q67 q1143) hyV_X2_passMinute (fun H hH => hL.recv X.2.2.2.2.2.2.2.1 hH (S1.st) rfl) (fun H hH => hH) ⟨Nat.le_of_ble_eq_true rfl, Nat.le_of_ble_eq_true rfl⟩ ⟨show 1 + 32 * k + 32 ≤ 1921 by omega, show 6 + 1076 * k + 1076 ≤ 64566 by omega⟩ (Nat.le_of_ble_eq_true rfl) rfl (fun x0 => ?_)
      obtain ⟨⟨G2, B2⟩, z1, z2⟩ := x0
      dsimp only at z1 z2 ⊢
      refine g_iadd X dX2_passMinutes_24 rfl (by first | exact nI_add _ _ | rfl) ?_
      refine g_istore_n X dX2_passMinutes_25 rfl (by decide) rfl rfl ?_
      refine g_iinc X dX2_passMinutes_26 rfl rfl (by first | exact nI_1 _ | rfl) (by decide) rfl rfl ?_
      refine g_goto (tgt := 14) X dX2_passMinutes_29 rfl (by decide) ?_
      refine GJ.loc [some (.ref a), some (.int (nI n)), some (.int (nI (aMins (k + 1) σ).1)), some (.int (nI (k + 1)))] (lvle_c rfl (lvle_c rfl (lvle_c rfl (lvle_c rfl lvle_e)))) ?_
      exact GJ.wide (show 1 + 32 * k + 32 ≤ 1 + 32 * (k + 1) by omega) (show 6 + 1076 * k + 1076 ≤ 6 + 1076 * (k + 1) by omega) (ih (k + 1, G2, B2) ⟨by dsimp only; omega, z2, z1⟩ (by dsimp only; omega))
  · refine g_iload_n X dX2_passMinutes_0 rfl rfl ?_
    refine g_iconst X dX2_passMinutes_1 rfl (v := (nI 1)) rfl ?_
    refine g_bipush X dX2_passMinutes_2 rfl (v := (nI 60)) (by decide) ?_
    refine g_callSN X "SlidePark" (ct_X1_isBetween hst) dX2_passMinutes_4 rfl q447 q66 q772 q446 hyS_X1_isBetween (fun H hH => hH) ⟨Nat.le_of_ble_eq_true rfl, Nat.le_of_ble_eq_true rfl⟩ ⟨by first | exact Nat.le_of_ble_eq_true rfl | omega | (dsimp only [rmD]; omega), by first | exact Nat.le_of_ble_eq_true rfl | omega | (dsimp only [rmD]; omega)⟩ (Nat.le_of_ble_eq_true rfl) rfl (fun x_4 => ?_)
    refine g_callSNx X "SlidePark" (ct_X1_requireArgument hst) dX2_passMinutes_7 rfl q775 q66 q773 q774 hyS_X1_requireArgument (fun H hH => hH) ⟨Nat.le_of_ble_eq_true rfl, Nat.le_of_ble_eq_true rfl⟩ ⟨by first | exact Nat.le_of_ble_eq_true rfl | omega | (dsimp only [rmD]; omega), by first | exact Nat.le_of_ble_eq_true rfl | omega | (dsimp only [rmD]; omega)⟩ (Nat.le_of_ble_eq_true rfl) rfl (fun E q => GX.pass X htab (by first | exact Nat.le_of_ble_eq_true rfl | omega) (by first | exact Nat.le_of_ble_eq_true rfl | omega) (fun H h => ⟨1, aPass_1 hP, h.1, h.2.2⟩)) (fun x0 => ?_)
    exact absurd x0.down hP
end D6
