/-! STATE: paying, a booking made -/
section D3
variable {l : Launch} {Ω : Om} {Γ0 Γ Γ' : LH} {a q y : Nat} {A : Ad} {σ : St} {xs : List Nat} {m0 : Int32}
set_option maxRecDepth 100000
theorem ct_X2_pay (hst : l.stackTraces = false) (hS : SR Ω Γ0 Γ a A σ) (hx : Ex Γ0 Γ) (h10 : nG σ ≤ 10) {g0 z : Nat} {v : Int32} (hg : g0 < nG σ) (hz : nI (guC σ g0) - v = nI z) : CM Ω l yX2_pay (ws_ yX2_pay cX2_pay 3 none) 6 0 0 [.ref a, .int (nI g0), .int v] (hL Ω Γ) (SQ Ω Γ0 Γ a A (uO (uG σ ((sG σ).set g0 (z, guR σ g0))) (sO σ + v)) none) nX := by
  obtain ⟨mG, hmG⟩ := hS.lG
  obtain ⟨y, y1, y2⟩ := hS.gu hg
  have hcG := hS.cG
  have y3 := (hS.2.2.2.1.2 _ y y1).2
  have S1 := hS.setG (x := z) (r := guR σ g0) y1
  refine CM.of (L := [some (.ref a), some (.int (nI g0)), some (.int v)]) hst (by decide) (Nat.le_of_ble_eq_true rfl) rfl ?_
  intro p e s m below meth c X hnm htab
  refine g_aload_n X dX2_pay_0 rfl rfl ?_
  refine l_get X dX2_pay_1 rfl in_X2 (ci := 1) rfl 1 (by decide) q166 (fun _ h => h) hS.st rfl ?_
  refine g_iload_n X dX2_pay_4 rfl rfl ?_
  refine g_callV X (ct_J2_get hst hmG y1 (by omega)) dX2_pay_5 rfl (lw_V q294 q295 q296 q70 q297) hyV_J2_get (fun H hH => hL.recvL X.2.2.2.2.2.2.2.1 hH (hmG)) (fun H hH => hH) ⟨Nat.le_of_ble_eq_true rfl, Nat.le_of_ble_eq_true rfl⟩ ⟨by first | exact Nat.le_of_ble_eq_true rfl | (dsimp only [rmD]; omega), by first | exact Nat.le_of_ble_eq_true rfl | (dsimp only [rmD]; omega)⟩ (Nat.le_of_ble_eq_true rfl) rfl (fun x_5 => ?_)
  refine g_cast X dX2_pay_8 rfl q841 (fun H hH => hL.recv X.2.2.2.2.2.2.2.1 hH (y2) rfl) ?_
  refine g_dup X dX2_pay_11 rfl rfl ?_
  refine l_getN X dX2_pay_12 rfl in_X5 (ci := 4) rfl 0 (by decide) "SlidePark" q597 (fun _ h => h) y2 rfl ?_
  refine g_iload_n X dX2_pay_15 rfl rfl ?_
  refine g_isub X dX2_pay_16 rfl hz ?_
  refine l_putN X dX2_pay_17 rfl in_X5 tyX5_ok nmX5 (ci := 4) rfl 0 (by decide) "SlidePark" q597 (fun _ h => h) rfl rfl rfl rfl y2 (Nat.le_of_ble_eq_true rfl) rfl ?_
  refine g_aload_n X dX2_pay_20 rfl rfl ?_
  refine g_dup X dX2_pay_21 rfl rfl ?_
  refine l_get X dX2_pay_22 rfl in_X2 (ci := 1) rfl 5 (by decide) q174 (fun _ h => h) S1.st rfl ?_
  refine g_iload_n X dX2_pay_25 rfl rfl ?_
  refine g_iadd X dX2_pay_26 rfl (by first | exact nI_add _ _ | rfl) ?_
  refine l_put X dX2_pay_27 rfl in_X2 tyX2_ok nmX2 (ci := 1) rfl 5 (by decide) q174 (fun _ h => h) rfl rfl rfl rfl S1.st (Nat.le_of_ble_eq_true rfl) rfl ?_
  refine g_vret X dX2_pay_30 rfl (by first | exact Nat.le_of_ble_eq_true rfl | (dsimp only [rmD]; omega)) (by first | exact Nat.le_of_ble_eq_true rfl | (dsimp only [rmD]; omega)) (fun H hH => ⟨⟨_, (hx.put y3).put hS.1.2, S1.setN (σ' := uO (uG σ ((sG σ).set g0 (z, guR σ g0))) (sO σ + v)) rfl rfl rfl rfl, kpO_tr (kpO_O y2 (by decide)) (kpO_O S1.1.1 (by decide))⟩, rfl, hH⟩)
theorem ct_X2_payBack (hst : l.stackTraces = false) (hS : SR Ω Γ0 Γ a A σ) (hx : Ex Γ0 Γ) (h10 : nG σ ≤ 10) {g0 n : Nat} (hg : g0 < nG σ) : CM Ω l yX2_payBack (ws_ yX2_payBack cX2_payBack 3 none) 8 0 0 [.ref a, .int (nI g0), .int (nI n)] (hL Ω Γ) (SQ Ω Γ0 Γ a A (aBack σ g0 n) none) nX := by
  refine CM.of (L := [some (.ref a), some (.int (nI g0)), some (.int (nI n))]) hst (by decide) (Nat.le_of_ble_eq_true rfl) rfl ?_
  intro p e s m below meth c X hnm htab
  refine g_aload_n X dX2_payBack_0 rfl rfl ?_
  refine g_iload_n X dX2_payBack_1 rfl rfl ?_
  refine g_iload_n X dX2_payBack_2 rfl rfl ?_
  refine g_ineg X dX2_payBack_3 rfl rfl ?_
  refine g_callV X (ct_X2_pay hst hS hx h10 hg nI_subneg) dX2_payBack_4 rfl (lw_V q959 q961 qs11 q67 q962) hyV_X2_pay (fun H hH => hL.recv X.2.2.2.2.2.2.2.1 hH (hS.st) rfl) (fun H hH => hH) ⟨Nat.le_of_ble_eq_true rfl, Nat.le_of_ble_eq_true rfl⟩ ⟨by first | exact Nat.le_of_ble_eq_true rfl | (dsimp only [rmD]; omega), by first | exact Nat.le_of_ble_eq_true rfl | (dsimp only [rmD]; omega)⟩ (Nat.le_of_ble_eq_true rfl) rfl (fun x0 => ?_)
  obtain ⟨G, e1, S1, k1⟩ := x0
  dsimp only
  refine g_aload_n X dX2_payBack_7 rfl rfl ?_
  refine g_dup X dX2_payBack_8 rfl rfl ?_
  refine l_get X dX2_payBack_9 rfl in_X2 (ci := 1) rfl 6 (by decide) q176 (fun _ h => h) S1.st rfl ?_
  refine g_iload_n X dX2_payBack_12 rfl rfl ?_
  refine g_iadd X dX2_payBack_13 rfl (by first | exact nI_add _ _ | rfl) ?_
  refine l_put X dX2_payBack_14 rfl in_X2 tyX2_ok nmX2 (ci := 1) rfl 6 (by decide) q176 (fun _ h => h) rfl rfl rfl rfl S1.st (Nat.le_of_ble_eq_true rfl) rfl ?_
  refine g_vret X dX2_payBack_17 rfl (by first | exact Nat.le_of_ble_eq_true rfl | (dsimp only [rmD]; omega)) (by first | exact Nat.le_of_ble_eq_true rfl | (dsimp only [rmD]; omega)) (fun H hH => ⟨⟨_, e1.put hS.1.2, S1.setN (σ' := aBack σ g0 n) rfl rfl rfl rfl, kpO_tr k1 (kpO_O S1.1.1 (by decide))⟩, rfl, hH⟩)
theorem ct_X2_makeBooking (hst : l.stackTraces = false) (hS : SR Ω Γ0 Γ a A σ) (hx : Ex Γ0 Γ) (hB : Bd σ) {g0 s0 t : Nat} (hg : g0 < nG σ) (hs : s0 < nS σ) (ht : t ≤ 200000) (hp : slP σ s0 ≤ guC σ g0) (hn : nB σ < 12) : CM Ω l yX2_makeBooking (ws_ yX2_makeBooking cX2_makeBooking 4 (some .int)) 16 2 68 [.ref a, .int (nI g0), .int (nI s0), .int (nI t)] (hL Ω Γ) (SP Ω Γ0 a (aMake σ g0 s0 t) (some (.int (nI (nB σ))))) nX := by
  obtain ⟨mS, hmS⟩ := hS.lS
  have b1 := hB.1
  have hcS := hS.cS2
  obtain ⟨x, x1, x2, x3, -⟩ := hS.sl hs
  have bs := hB.2.1 s0 hs
  refine CM.of (L := [some (.ref a), some (.int (nI g0)), some (.int (nI s0)), some (.int (nI t))]) hst (by decide) (Nat.le_of_ble_eq_true rfl) rfl ?_
  intro p e s m below meth c X hnm htab
  refine g_aload_n X dX2_makeBooking_0 rfl rfl ?_
  refine g_iload_n X dX2_makeBooking_1 rfl rfl ?_
  refine g_aload_n X dX2_makeBooking_2 rfl rfl ?_
  refine l_get X dX2_makeBooking_3 rfl in_X2 (ci := 1) rfl 0 (by decide) q164 (fun _ h => h) hS.st rfl ?_
  refine g_iload_n X dX2_makeBooking_6 rfl rfl ?_
  refine g_callV X (ct_J2_get hst hmS x2 (by omega)) dX2_makeBooking_7 rfl (lw_V q294 q295 q296 q70 q297) hyV_J2_get (fun H hH => hL.recvL X.2.2.2.2.2.2.2.1 hH (hmS)) (fun H hH => hH) ⟨Nat.le_of_ble_eq_true rfl, Nat.le_of_ble_eq_true rfl⟩ ⟨by first | exact Nat.le_of_ble_eq_true rfl | (dsimp only [rmD]; omega), by first | exact Nat.le_of_ble_eq_true rfl | (dsimp only [rmD]; omega)⟩ (Nat.le_of_ble_eq_true rfl) rfl (fun x_7 => ?_)
  refine g_cast X dX2_makeBooking_10 rfl q809 (fun H hH => hL.recv X.2.2.2.2.2.2.2.1 hH (x3) rfl) ?_
  refine l_getN X dX2_makeBooking_13 rfl in_X7 (ci := 6) rfl 1 (by decide) "SlidePark" q733 (fun _ h => h) x3 rfl ?_
  refine g_callV X (ct_X2_pay hst hS hx b1.2.1 hg (pk_sub hp)) dX2_makeBooking_16 rfl (lw_V q959 q961 qs11 q67 q962) hyV_X2_pay (fun H hH => hL.recv X.2.2.2.2.2.2.2.1 hH (hS.st) rfl) (fun H hH => hH) ⟨Nat.le_of_ble_eq_true rfl, Nat.le_of_ble_eq_true rfl⟩ ⟨by first | exact Nat.le_of_ble_eq_true rfl | (dsimp only [rmD]; omega), by first | exact Nat.le_of_ble_eq_true rfl | (dsimp only [rmD]; omega)⟩ (Nat.le_of_ble_eq_true rfl) rfl (fun x0 => ?_)
  obtain ⟨G, e1, S1, k1⟩ := x0
  dsimp only
  have S1 : SR Ω Γ0 G a A (aPay σ g0 (slP σ s0)) := S1
  obtain ⟨mS1, hmS1⟩ := S1.lS
  have x4 := (S1.2.2.1.2 _ x x1).1.1
  refine g_aload_n X dX2_makeBooking_19 rfl rfl ?_
  refine l_get X dX2_makeBooking_20 rfl in_X2 (ci := 1) rfl 2 (by decide) q168 (fun _ h => h) S1.st rfl ?_
  refine l_new X dX2_makeBooking_23 rfl (fs := [.int 0, .int 0, .int 0, .int 0]) in_X8 tyX8_ok q308 q963 q94 (ci := 7) rfl (by decide) (by first | exact Nat.le_of_ble_eq_true rfl | (dsimp only [rmD]; omega)) (by first | exact Nat.le_of_ble_eq_true rfl | (dsimp only [rmD]; omega)) (fun yb nb => ?_)
  refine g_dup X dX2_makeBooking_26 rfl rfl ?_
  refine g_iload_n X dX2_makeBooking_27 rfl rfl ?_
  refine g_iload_n X dX2_makeBooking_28 rfl rfl ?_
  refine g_iload_n X dX2_makeBooking_29 rfl rfl ?_
  refine g_iload_n X dX2_makeBooking_30 rfl rfl ?_
  refine g_aload_n X dX2_makeBooking_31 rfl rfl ?_
  refine l_get X dX2_makeBooking_32 rfl in_X2 (ci := 1) rfl 0 (by decide) q164 (fun _ h => h) ((S1.new nb).st) rfl ?_
  refine g_iload_n X dX2_makeBooking_35 rfl rfl ?_
  refine g_callV X (ct_J2_get hst ((Ex.new nb) _ _ hmS1) x2 (by omega)) dX2_makeBooking_36 rfl (lw_V q294 q295 q296 q70 q297) hyV_J2_get (fun H hH => hL.recvL X.2.2.2.2.2.2.2.1 hH (((Ex.new nb) _ _ hmS1))) (fun H hH => hH) ⟨Nat.le_of_ble_eq_true rfl, Nat.le_of_ble_eq_true rfl⟩ ⟨by first | exact Nat.le_of_ble_eq_true rfl | (dsimp only [rmD]; omega), by first | exact Nat.le_of_ble_eq_true rfl | (dsimp only [rmD]; omega)⟩ (Nat.le_of_ble_eq_true rfl) rfl (fun x_36 => ?_)
  refine g_cast X dX2_makeBooking_39 rfl q809 (fun H hH => hL.recv X.2.2.2.2.2.2.2.1 hH (((Ex.new nb) _ _ x4)) rfl) ?_
  refine l_getN X dX2_makeBooking_42 rfl in_X7 (ci := 6) rfl 0 (by decide) "SlidePark" q730 (fun _ h => h) ((Ex.new nb) _ _ x4) rfl ?_
  refine g_iadd X dX2_makeBooking_45 rfl (by first | exact nI_add _ _ | rfl) ?_
  refine g_callI X (ct_X8_init hst (hu_s _ _ _)) dX2_makeBooking_46 rfl q966 q94 q964 q965 rfl hyS_X8_init (fun H hH => hH) ⟨Nat.le_of_ble_eq_true rfl, Nat.le_of_ble_eq_true rfl⟩ ⟨by first | exact Nat.le_of_ble_eq_true rfl | (dsimp only [rmD]; omega), by first | exact Nat.le_of_ble_eq_true rfl | (dsimp only [rmD]; omega)⟩ (Nat.le_of_ble_eq_true rfl) rfl (fun x_46 => ?_)
  rw [hu_hu]
  have S2 : SR Ω Γ0 (hu G yb (.inl (.inr (7, [.int (nI g0), .int (nI s0), .int (nI t), .int (nI (t + slD σ s0))])))) a A (aPay σ g0 (slP σ s0)) := S1.new nb
  have hyb : isO (hu G yb (.inl (.inr (7, [.int (nI g0), .int (nI s0), .int (nI t), .int (nI (t + slD σ s0))])))) yb 7 [.int (nI g0), .int (nI s0), .int (nI t), .int (nI (t + slD (aPay σ g0 (slP σ s0)) s0))] := hu_s _ _ _
  obtain ⟨mB2, hmB2⟩ := S2.lB
  have hcB : (laB A).length = nB σ := hS.cB
  have S3 := S2.addB (m := mB2 + nI 1) hyb
  obtain ⟨mB3, hmB3⟩ := S3.lB
  have e2 : Ex Γ0 (hu G yb (.inl (.inr (7, [.int (nI g0), .int (nI s0), .int (nI t), .int (nI (t + slD σ s0))])))) := e1.put (e1.no nb)
  have hlen : (laB A ++ [yb]).length = nB σ + 1 := by rw [List.length_append, hcB]; rfl
  refine g_callV X (ct_J2_add hst hmB2 (by omega) S2.eB (Or.inl ⟨7, _, hyb, by simp⟩)) dX2_makeBooking_49 rfl (lw_V q757 q620 q621 q70 q622) hyV_J2_add (fun H hH => hL.recvL X.2.2.2.2.2.2.2.1 hH (hmB2)) (fun H hH => hH) ⟨Nat.le_of_ble_eq_true rfl, Nat.le_of_ble_eq_true rfl⟩ ⟨by first | exact Nat.le_of_ble_eq_true rfl | (dsimp only [rmD]; omega), by first | exact Nat.le_of_ble_eq_true rfl | (dsimp only [rmD]; omega)⟩ (Nat.le_of_ble_eq_true rfl) rfl (fun x_49 => ?_)
  refine g_pop X dX2_makeBooking_52 rfl rfl ?_
  refine g_aload_n X dX2_makeBooking_53 rfl rfl ?_
  refine l_get X dX2_makeBooking_54 rfl in_X2 (ci := 1) rfl 2 (by decide) q168 (fun _ h => h) S3.st rfl ?_
  refine g_callV X (ct_J2_size hst hmB3) dX2_makeBooking_57 rfl (lw_V q293 q270 q271 q70 q272) hyV_J2_size (fun H hH => hL.recvL X.2.2.2.2.2.2.2.1 hH (hmB3)) (fun H hH => hH) ⟨Nat.le_of_ble_eq_true rfl, Nat.le_of_ble_eq_true rfl⟩ ⟨by first | exact Nat.le_of_ble_eq_true rfl | (dsimp only [rmD]; omega), by first | exact Nat.le_of_ble_eq_true rfl | (dsimp only [rmD]; omega)⟩ (Nat.le_of_ble_eq_true rfl) rfl (fun x_57 => ?_)
  refine g_iconst X dX2_makeBooking_60 rfl (v := (nI 1)) rfl ?_
  refine g_isub X dX2_makeBooking_61 rfl (show _ = nI (nB σ) by rw [show (laB (adrB A (laB A ++ [yb]))).length = nB σ + 1 from hlen, pk_sub (by omega)]; rfl) ?_
  refine g_iret X dX2_makeBooking_62 rfl (by first | exact Nat.le_of_ble_eq_true rfl | (dsimp only [rmD]; omega)) (by first | exact Nat.le_of_ble_eq_true rfl | (dsimp only [rmD]; omega)) (fun H hH => ⟨⟨(_, _), e2.put S2.2.1.2.2.1.2, S3⟩, rfl, hH⟩)
end D3
