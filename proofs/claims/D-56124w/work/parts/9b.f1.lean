/-! SLIDEPARK: questions -/
section F1
variable {l : Launch} {Ω : Om} {Γ0 Γ Γ' : LH} {xx a q y : Nat} {A : Ad} {σ : St} {vs : List Value} {m0 : Int32}
set_option maxRecDepth 100000
abbrev QO (Ω : Om) (Γ : LH) (r : QR) : Option Value → Heap → Prop := QV (fun y : {y : LH × Int32 // Ex Γ y.1 ∧ r = .inr y.2} => some (.int y.1.2)) (fun y => hL Ω y.1.1)
abbrev xQ (nm : Nat → String) (r : QR) (J : Heap → Prop) : String → Nat → Heap → Prop := fun E _ H => ∃ c, r = .inl c ∧ E = nm c ∧ J H
def nmI (_ : Nat) : String := "java/lang/IndexOutOfBoundsException"
def nmN (_ : Nat) : String := "java/util/NoSuchElementException"
def nmFr (c : Nat) : String := if c = 1 then "java/lang/IndexOutOfBoundsException" else "java/lang/IllegalArgumentException"
def nmFF (c : Nat) : String := if c = 1 then "java/lang/IndexOutOfBoundsException" else if c = 2 then "java/lang/IllegalArgumentException" else "java/util/NoSuchElementException"
theorem ff_lt {s0 : Nat} : ∀ {n t m : Nat}, aFF σ s0 t n = some m → t + n ≤ 1000000 → m < 2 ^ 31
  | 0, t, m, h, _ => by simp [aFF] at h
  | n + 1, t, m, h, hn => by
    have e : aFF σ s0 t (n + 1) = cH (aCl σ (-1) s0 t) (aFF σ s0 (t + 1) n) (some t) := rfl
    rw [e] at h
    by_cases hc : aCl σ (-1) s0 t
    · rw [cH_t hc] at h; exact ff_lt h (by omega)
    · rw [cH_f hc] at h
      have : t = m := by simpa using h
      omega
theorem ct_X1_duration (hst : l.stackTraces = false) (hX : isO Γ xx 0 (.ref a :: vs)) (hS : SR Ω Γ0 Γ a A σ) (hB : Bd σ) {u : Int32} : CM Ω l yX1_duration (ws_ yX1_duration cX1_duration 2 (some .int)) 14 1 6 [.ref xx, .int u] (hL Ω Γ) (QO Ω Γ (qSl σ (slD σ) u)) (xQ nmI (qSl σ (slD σ) u) (hL Ω Γ)) := by
  refine CM.of (L := [some (.ref xx), some (.int u)]) hst (by decide) (Nat.le_of_ble_eq_true rfl) rfl ?_
  intro p e s m below meth c X hnm htab
  refine g_aload_n X dX1_duration_0 rfl rfl ?_
  refine l_get X dX1_duration_1 rfl in_X1 (ci := 0) rfl 0 (by decide) q233 (fun _ h => h) hX rfl ?_
  refine g_iload_n X dX1_duration_4 rfl rfl ?_
  refine g_callVx X (ct_X2_slide hst hS hB.1.1) dX1_duration_5 rfl (lw_V q1220 q914 q915 q67 q916) hyV_X2_slide (fun H hH => hL.recv X.2.2.2.2.2.2.2.1 hH (hS.st) rfl) (fun H hH => hH) ⟨Nat.le_of_ble_eq_true rfl, Nat.le_of_ble_eq_true rfl⟩ ⟨by first | exact Nat.le_of_ble_eq_true rfl | omega | (dsimp only [rmD]; omega), by first | exact Nat.le_of_ble_eq_true rfl | omega | (dsimp only [rmD]; omega)⟩ (Nat.le_of_ble_eq_true rfl) rfl (fun E q => GX.pass X htab (by first | exact Nat.le_of_ble_eq_true rfl | omega) (by first | exact Nat.le_of_ble_eq_true rfl | omega) (fun H h => ⟨1, cH_f h.2.1, h.1, h.2.2⟩)) (fun x0 => ?_)
  obtain ⟨y, y1, y2⟩ := x0
  have o1 := (hS.2.2.1.2 _ y y1).1.1
  dsimp only
  refine l_getN X dX1_duration_8 rfl in_X7 (ci := 6) rfl 0 (by decide) "SlidePark" q731 (fun _ h => h) o1 rfl ?_
  refine g_iret X dX1_duration_11 rfl (by first | exact Nat.le_of_ble_eq_true rfl | omega | (dsimp only [rmD]; omega)) (by first | exact Nat.le_of_ble_eq_true rfl | omega | (dsimp only [rmD]; omega)) (fun H hH => ⟨⟨(Γ, nI (slD σ (iN u))), Ex.rf, cH_t y2⟩, rfl, hH⟩)
theorem ct_X1_price (hst : l.stackTraces = false) (hX : isO Γ xx 0 (.ref a :: vs)) (hS : SR Ω Γ0 Γ a A σ) (hB : Bd σ) {u : Int32} : CM Ω l yX1_price (ws_ yX1_price cX1_price 2 (some .int)) 14 1 6 [.ref xx, .int u] (hL Ω Γ) (QO Ω Γ (qSl σ (slP σ) u)) (xQ nmI (qSl σ (slP σ) u) (hL Ω Γ)) := by
  refine CM.of (L := [some (.ref xx), some (.int u)]) hst (by decide) (Nat.le_of_ble_eq_true rfl) rfl ?_
  intro p e s m below meth c X hnm htab
  refine g_aload_n X dX1_price_0 rfl rfl ?_
  refine l_get X dX1_price_1 rfl in_X1 (ci := 0) rfl 0 (by decide) q233 (fun _ h => h) hX rfl ?_
  refine g_iload_n X dX1_price_4 rfl rfl ?_
  refine g_callVx X (ct_X2_slide hst hS hB.1.1) dX1_price_5 rfl (lw_V q1220 q914 q915 q67 q916) hyV_X2_slide (fun H hH => hL.recv X.2.2.2.2.2.2.2.1 hH (hS.st) rfl) (fun H hH => hH) ⟨Nat.le_of_ble_eq_true rfl, Nat.le_of_ble_eq_true rfl⟩ ⟨by first | exact Nat.le_of_ble_eq_true rfl | omega | (dsimp only [rmD]; omega), by first | exact Nat.le_of_ble_eq_true rfl | omega | (dsimp only [rmD]; omega)⟩ (Nat.le_of_ble_eq_true rfl) rfl (fun E q => GX.pass X htab (by first | exact Nat.le_of_ble_eq_true rfl | omega) (by first | exact Nat.le_of_ble_eq_true rfl | omega) (fun H h => ⟨1, cH_f h.2.1, h.1, h.2.2⟩)) (fun x0 => ?_)
  obtain ⟨y, y1, y2⟩ := x0
  have o1 := (hS.2.2.1.2 _ y y1).1.1
  dsimp only
  refine l_getN X dX1_price_8 rfl in_X7 (ci := 6) rfl 1 (by decide) "SlidePark" q734 (fun _ h => h) o1 rfl ?_
  refine g_iret X dX1_price_11 rfl (by first | exact Nat.le_of_ble_eq_true rfl | omega | (dsimp only [rmD]; omega)) (by first | exact Nat.le_of_ble_eq_true rfl | omega | (dsimp only [rmD]; omega)) (fun H hH => ⟨⟨(Γ, nI (slP σ (iN u))), Ex.rf, cH_t y2⟩, rfl, hH⟩)
theorem ct_X1_wetness (hst : l.stackTraces = false) (hX : isO Γ xx 0 (.ref a :: vs)) (hS : SR Ω Γ0 Γ a A σ) (hB : Bd σ) {u : Int32} : CM Ω l yX1_wetness (ws_ yX1_wetness cX1_wetness 2 (some .int)) 14 1 6 [.ref xx, .int u] (hL Ω Γ) (QO Ω Γ (qSl σ (slW σ) u)) (xQ nmI (qSl σ (slW σ) u) (hL Ω Γ)) := by
  refine CM.of (L := [some (.ref xx), some (.int u)]) hst (by decide) (Nat.le_of_ble_eq_true rfl) rfl ?_
  intro p e s m below meth c X hnm htab
  refine g_aload_n X dX1_wetness_0 rfl rfl ?_
  refine l_get X dX1_wetness_1 rfl in_X1 (ci := 0) rfl 0 (by decide) q233 (fun _ h => h) hX rfl ?_
  refine g_iload_n X dX1_wetness_4 rfl rfl ?_
  refine g_callVx X (ct_X2_slide hst hS hB.1.1) dX1_wetness_5 rfl (lw_V q1220 q914 q915 q67 q916) hyV_X2_slide (fun H hH => hL.recv X.2.2.2.2.2.2.2.1 hH (hS.st) rfl) (fun H hH => hH) ⟨Nat.le_of_ble_eq_true rfl, Nat.le_of_ble_eq_true rfl⟩ ⟨by first | exact Nat.le_of_ble_eq_true rfl | omega | (dsimp only [rmD]; omega), by first | exact Nat.le_of_ble_eq_true rfl | omega | (dsimp only [rmD]; omega)⟩ (Nat.le_of_ble_eq_true rfl) rfl (fun E q => GX.pass X htab (by first | exact Nat.le_of_ble_eq_true rfl | omega) (by first | exact Nat.le_of_ble_eq_true rfl | omega) (fun H h => ⟨1, cH_f h.2.1, h.1, h.2.2⟩)) (fun x0 => ?_)
  obtain ⟨y, y1, y2⟩ := x0
  have o1 := (hS.2.2.1.2 _ y y1).1.1
  dsimp only
  refine l_getN X dX1_wetness_8 rfl in_X7 (ci := 6) rfl 3 (by decide) "SlidePark" q739 (fun _ h => h) o1 rfl ?_
  refine g_iret X dX1_wetness_11 rfl (by first | exact Nat.le_of_ble_eq_true rfl | omega | (dsimp only [rmD]; omega)) (by first | exact Nat.le_of_ble_eq_true rfl | omega | (dsimp only [rmD]; omega)) (fun H hH => ⟨⟨(Γ, nI (slW σ (iN u))), Ex.rf, cH_t y2⟩, rfl, hH⟩)
theorem ct_X1_coins (hst : l.stackTraces = false) (hX : isO Γ xx 0 (.ref a :: vs)) (hS : SR Ω Γ0 Γ a A σ) (hB : Bd σ) {u : Int32} : CM Ω l yX1_coins (ws_ yX1_coins cX1_coins 2 (some .int)) 14 1 6 [.ref xx, .int u] (hL Ω Γ) (QO Ω Γ (qGu σ (guC σ) u)) (xQ nmI (qGu σ (guC σ) u) (hL Ω Γ)) := by
  refine CM.of (L := [some (.ref xx), some (.int u)]) hst (by decide) (Nat.le_of_ble_eq_true rfl) rfl ?_
  intro p e s m below meth c X hnm htab
  refine g_aload_n X dX1_coins_0 rfl rfl ?_
  refine l_get X dX1_coins_1 rfl in_X1 (ci := 0) rfl 0 (by decide) q233 (fun _ h => h) hX rfl ?_
  refine g_iload_n X dX1_coins_4 rfl rfl ?_
  refine g_callVx X (ct_X2_guest hst hS hB.1.2.1) dX1_coins_5 rfl (lw_V q1251 q888 q889 q67 q890) hyV_X2_guest (fun H hH => hL.recv X.2.2.2.2.2.2.2.1 hH (hS.st) rfl) (fun H hH => hH) ⟨Nat.le_of_ble_eq_true rfl, Nat.le_of_ble_eq_true rfl⟩ ⟨by first | exact Nat.le_of_ble_eq_true rfl | omega | (dsimp only [rmD]; omega), by first | exact Nat.le_of_ble_eq_true rfl | omega | (dsimp only [rmD]; omega)⟩ (Nat.le_of_ble_eq_true rfl) rfl (fun E q => GX.pass X htab (by first | exact Nat.le_of_ble_eq_true rfl | omega) (by first | exact Nat.le_of_ble_eq_true rfl | omega) (fun H h => ⟨1, cH_f h.2.1, h.1, h.2.2⟩)) (fun x0 => ?_)
  obtain ⟨y, y1, y2⟩ := x0
  have o1 := (hS.2.2.2.1.2 _ y y1).1
  dsimp only
  refine l_getN X dX1_coins_8 rfl in_X5 (ci := 4) rfl 0 (by decide) "SlidePark" q598 (fun _ h => h) o1 rfl ?_
  refine g_iret X dX1_coins_11 rfl (by first | exact Nat.le_of_ble_eq_true rfl | omega | (dsimp only [rmD]; omega)) (by first | exact Nat.le_of_ble_eq_true rfl | omega | (dsimp only [rmD]; omega)) (fun H hH => ⟨⟨(Γ, nI (guC σ (iN u))), Ex.rf, cH_t y2⟩, rfl, hH⟩)
theorem ct_X1_rides (hst : l.stackTraces = false) (hX : isO Γ xx 0 (.ref a :: vs)) (hS : SR Ω Γ0 Γ a A σ) (hB : Bd σ) {u : Int32} : CM Ω l yX1_rides (ws_ yX1_rides cX1_rides 2 (some .int)) 14 1 6 [.ref xx, .int u] (hL Ω Γ) (QO Ω Γ (qGu σ (guR σ) u)) (xQ nmI (qGu σ (guR σ) u) (hL Ω Γ)) := by
  refine CM.of (L := [some (.ref xx), some (.int u)]) hst (by decide) (Nat.le_of_ble_eq_true rfl) rfl ?_
  intro p e s m below meth c X hnm htab
  refine g_aload_n X dX1_rides_0 rfl rfl ?_
  refine l_get X dX1_rides_1 rfl in_X1 (ci := 0) rfl 0 (by decide) q233 (fun _ h => h) hX rfl ?_
  refine g_iload_n X dX1_rides_4 rfl rfl ?_
  refine g_callVx X (ct_X2_guest hst hS hB.1.2.1) dX1_rides_5 rfl (lw_V q1251 q888 q889 q67 q890) hyV_X2_guest (fun H hH => hL.recv X.2.2.2.2.2.2.2.1 hH (hS.st) rfl) (fun H hH => hH) ⟨Nat.le_of_ble_eq_true rfl, Nat.le_of_ble_eq_true rfl⟩ ⟨by first | exact Nat.le_of_ble_eq_true rfl | omega | (dsimp only [rmD]; omega), by first | exact Nat.le_of_ble_eq_true rfl | omega | (dsimp only [rmD]; omega)⟩ (Nat.le_of_ble_eq_true rfl) rfl (fun E q => GX.pass X htab (by first | exact Nat.le_of_ble_eq_true rfl | omega) (by first | exact Nat.le_of_ble_eq_true rfl | omega) (fun H h => ⟨1, cH_f h.2.1, h.1, h.2.2⟩)) (fun x0 => ?_)
  obtain ⟨y, y1, y2⟩ := x0
  have o1 := (hS.2.2.2.1.2 _ y y1).1
  dsimp only
  refine l_getN X dX1_rides_8 rfl in_X5 (ci := 4) rfl 1 (by decide) "SlidePark" q601 (fun _ h => h) o1 rfl ?_
  refine g_iret X dX1_rides_11 rfl (by first | exact Nat.le_of_ble_eq_true rfl | omega | (dsimp only [rmD]; omega)) (by first | exact Nat.le_of_ble_eq_true rfl | omega | (dsimp only [rmD]; omega)) (fun H hH => ⟨⟨(Γ, nI (guR σ (iN u))), Ex.rf, cH_t y2⟩, rfl, hH⟩)
theorem ct_X1_bookedGuest (hst : l.stackTraces = false) (hX : isO Γ xx 0 (.ref a :: vs)) (hS : SR Ω Γ0 Γ a A σ) (hB : Bd σ) {u : Int32} : CM Ω l yX1_bookedGuest (ws_ yX1_bookedGuest cX1_bookedGuest 2 (some .int)) 14 1 6 [.ref xx, .int u] (hL Ω Γ) (QO Ω Γ (qBo σ (boG σ) u)) (xQ nmI (qBo σ (boG σ) u) (hL Ω Γ)) := by
  refine CM.of (L := [some (.ref xx), some (.int u)]) hst (by decide) (Nat.le_of_ble_eq_true rfl) rfl ?_
  intro p e s m below meth c X hnm htab
  refine g_aload_n X dX1_bookedGuest_0 rfl rfl ?_
  refine l_get X dX1_bookedGuest_1 rfl in_X1 (ci := 0) rfl 0 (by decide) q233 (fun _ h => h) hX rfl ?_
  refine g_iload_n X dX1_bookedGuest_4 rfl rfl ?_
  refine g_callVx X (ct_X2_booking hst hS hB.1.2.2.1) dX1_bookedGuest_5 rfl (lw_V q1290 q1000 q1001 q67 q1002) hyV_X2_booking (fun H hH => hL.recv X.2.2.2.2.2.2.2.1 hH (hS.st) rfl) (fun H hH => hH) ⟨Nat.le_of_ble_eq_true rfl, Nat.le_of_ble_eq_true rfl⟩ ⟨by first | exact Nat.le_of_ble_eq_true rfl | omega | (dsimp only [rmD]; omega), by first | exact Nat.le_of_ble_eq_true rfl | omega | (dsimp only [rmD]; omega)⟩ (Nat.le_of_ble_eq_true rfl) rfl (fun E q => GX.pass X htab (by first | exact Nat.le_of_ble_eq_true rfl | omega) (by first | exact Nat.le_of_ble_eq_true rfl | omega) (fun H h => ⟨1, cH_f h.2.1, h.1, h.2.2⟩)) (fun x0 => ?_)
  obtain ⟨y, y1, y2⟩ := x0
  have o1 := hS.2.2.2.2.1.2 _ y y1
  dsimp only
  refine l_getN X dX1_bookedGuest_8 rfl in_X8 (ci := 7) rfl 0 (by decide) "SlidePark" q970 (fun _ h => h) o1 rfl ?_
  refine g_iret X dX1_bookedGuest_11 rfl (by first | exact Nat.le_of_ble_eq_true rfl | omega | (dsimp only [rmD]; omega)) (by first | exact Nat.le_of_ble_eq_true rfl | omega | (dsimp only [rmD]; omega)) (fun H hH => ⟨⟨(Γ, nI (boG σ (iN u))), Ex.rf, cH_t y2⟩, rfl, hH⟩)
theorem ct_X1_bookedSlide (hst : l.stackTraces = false) (hX : isO Γ xx 0 (.ref a :: vs)) (hS : SR Ω Γ0 Γ a A σ) (hB : Bd σ) {u : Int32} : CM Ω l yX1_bookedSlide (ws_ yX1_bookedSlide cX1_bookedSlide 2 (some .int)) 14 1 6 [.ref xx, .int u] (hL Ω Γ) (QO Ω Γ (qBo σ (boS σ) u)) (xQ nmI (qBo σ (boS σ) u) (hL Ω Γ)) := by
  refine CM.of (L := [some (.ref xx), some (.int u)]) hst (by decide) (Nat.le_of_ble_eq_true rfl) rfl ?_
  intro p e s m below meth c X hnm htab
  refine g_aload_n X dX1_bookedSlide_0 rfl rfl ?_
  refine l_get X dX1_bookedSlide_1 rfl in_X1 (ci := 0) rfl 0 (by decide) q233 (fun _ h => h) hX rfl ?_
  refine g_iload_n X dX1_bookedSlide_4 rfl rfl ?_
  refine g_callVx X (ct_X2_booking hst hS hB.1.2.2.1) dX1_bookedSlide_5 rfl (lw_V q1290 q1000 q1001 q67 q1002) hyV_X2_booking (fun H hH => hL.recv X.2.2.2.2.2.2.2.1 hH (hS.st) rfl) (fun H hH => hH) ⟨Nat.le_of_ble_eq_true rfl, Nat.le_of_ble_eq_true rfl⟩ ⟨by first | exact Nat.le_of_ble_eq_true rfl | omega | (dsimp only [rmD]; omega), by first | exact Nat.le_of_ble_eq_true rfl | omega | (dsimp only [rmD]; omega)⟩ (Nat.le_of_ble_eq_true rfl) rfl (fun E q => GX.pass X htab (by first | exact Nat.le_of_ble_eq_true rfl | omega) (by first | exact Nat.le_of_ble_eq_true rfl | omega) (fun H h => ⟨1, cH_f h.2.1, h.1, h.2.2⟩)) (fun x0 => ?_)
  obtain ⟨y, y1, y2⟩ := x0
  have o1 := hS.2.2.2.2.1.2 _ y y1
  dsimp only
  refine l_getN X dX1_bookedSlide_8 rfl in_X8 (ci := 7) rfl 1 (by decide) "SlidePark" q973 (fun _ h => h) o1 rfl ?_
  refine g_iret X dX1_bookedSlide_11 rfl (by first | exact Nat.le_of_ble_eq_true rfl | omega | (dsimp only [rmD]; omega)) (by first | exact Nat.le_of_ble_eq_true rfl | omega | (dsimp only [rmD]; omega)) (fun H hH => ⟨⟨(Γ, nI (boS σ (iN u))), Ex.rf, cH_t y2⟩, rfl, hH⟩)
theorem ct_X1_start (hst : l.stackTraces = false) (hX : isO Γ xx 0 (.ref a :: vs)) (hS : SR Ω Γ0 Γ a A σ) (hB : Bd σ) {u : Int32} : CM Ω l yX1_start (ws_ yX1_start cX1_start 2 (some .int)) 14 1 6 [.ref xx, .int u] (hL Ω Γ) (QO Ω Γ (qBo σ (boT σ) u)) (xQ nmI (qBo σ (boT σ) u) (hL Ω Γ)) := by
  refine CM.of (L := [some (.ref xx), some (.int u)]) hst (by decide) (Nat.le_of_ble_eq_true rfl) rfl ?_
  intro p e s m below meth c X hnm htab
  refine g_aload_n X dX1_start_0 rfl rfl ?_
  refine l_get X dX1_start_1 rfl in_X1 (ci := 0) rfl 0 (by decide) q233 (fun _ h => h) hX rfl ?_
  refine g_iload_n X dX1_start_4 rfl rfl ?_
  refine g_callVx X (ct_X2_booking hst hS hB.1.2.2.1) dX1_start_5 rfl (lw_V q1290 q1000 q1001 q67 q1002) hyV_X2_booking (fun H hH => hL.recv X.2.2.2.2.2.2.2.1 hH (hS.st) rfl) (fun H hH => hH) ⟨Nat.le_of_ble_eq_true rfl, Nat.le_of_ble_eq_true rfl⟩ ⟨by first | exact Nat.le_of_ble_eq_true rfl | omega | (dsimp only [rmD]; omega), by first | exact Nat.le_of_ble_eq_true rfl | omega | (dsimp only [rmD]; omega)⟩ (Nat.le_of_ble_eq_true rfl) rfl (fun E q => GX.pass X htab (by first | exact Nat.le_of_ble_eq_true rfl | omega) (by first | exact Nat.le_of_ble_eq_true rfl | omega) (fun H h => ⟨1, cH_f h.2.1, h.1, h.2.2⟩)) (fun x0 => ?_)
  obtain ⟨y, y1, y2⟩ := x0
  have o1 := hS.2.2.2.2.1.2 _ y y1
  dsimp only
  refine l_getN X dX1_start_8 rfl in_X8 (ci := 7) rfl 2 (by decide) "SlidePark" q976 (fun _ h => h) o1 rfl ?_
  refine g_iret X dX1_start_11 rfl (by first | exact Nat.le_of_ble_eq_true rfl | omega | (dsimp only [rmD]; omega)) (by first | exact Nat.le_of_ble_eq_true rfl | omega | (dsimp only [rmD]; omega)) (fun H hH => ⟨⟨(Γ, nI (boT σ (iN u))), Ex.rf, cH_t y2⟩, rfl, hH⟩)
theorem ct_X1_hasStarted (hst : l.stackTraces = false) (hX : isO Γ xx 0 (.ref a :: vs)) (hS : SR Ω Γ0 Γ a A σ) (hB : Bd σ) {u : Int32} : CM Ω l yX1_hasStarted (ws_ yX1_hasStarted cX1_hasStarted 2 (some .boolean)) 14 1 6 [.ref xx, .int u] (hL Ω Γ) (QO Ω Γ (qStd σ u)) (xQ nmI (qStd σ u) (hL Ω Γ)) := by
  refine CM.of (L := [some (.ref xx), some (.int u)]) hst (by decide) (Nat.le_of_ble_eq_true rfl) rfl ?_
  intro p e s m below meth c X hnm htab
  refine g_aload_n X dX1_hasStarted_0 rfl rfl ?_
  refine l_get X dX1_hasStarted_1 rfl in_X1 (ci := 0) rfl 0 (by decide) q233 (fun _ h => h) hX rfl ?_
  refine g_iload_n X dX1_hasStarted_4 rfl rfl ?_
  refine g_callVx X (ct_X2_booking hst hS hB.1.2.2.1) dX1_hasStarted_5 rfl (lw_V q1290 q1000 q1001 q67 q1002) hyV_X2_booking (fun H hH => hL.recv X.2.2.2.2.2.2.2.1 hH (hS.st) rfl) (fun H hH => hH) ⟨Nat.le_of_ble_eq_true rfl, Nat.le_of_ble_eq_true rfl⟩ ⟨by first | exact Nat.le_of_ble_eq_true rfl | omega | (dsimp only [rmD]; omega), by first | exact Nat.le_of_ble_eq_true rfl | omega | (dsimp only [rmD]; omega)⟩ (Nat.le_of_ble_eq_true rfl) rfl (fun E q => GX.pass X htab (by first | exact Nat.le_of_ble_eq_true rfl | omega) (by first | exact Nat.le_of_ble_eq_true rfl | omega) (fun H h => ⟨1, cH_f h.2.1, h.1, h.2.2⟩)) (fun x0 => ?_)
  obtain ⟨y, y1, y2⟩ := x0
  have b1 := hB.1
  obtain ⟨k0, hk0, rfl⟩ := (ixI (by omega)).mp y2
  have e : qStd σ (nI k0) = .inr (bI (boT σ k0 ≤ sM σ)) := by unfold qStd; rw [cH_t y2, iN_nI (by omega)]
  rw [iN_nI (by omega)] at y1
  have o1 := hS.2.2.2.2.1.2 _ y y1
  have bb := hB.bo hk0
  dsimp only
  refine l_getN X dX1_hasStarted_8 rfl in_X8 (ci := 7) rfl 2 (by decide) "SlidePark" q976 (fun _ h => h) o1 rfl ?_
  refine g_aload_n X dX1_hasStarted_11 rfl rfl ?_
  refine l_get X dX1_hasStarted_12 rfl in_X1 (ci := 0) rfl 0 (by decide) q233 (fun _ h => h) hX rfl ?_
  refine l_getN X dX1_hasStarted_15 rfl in_X2 (ci := 1) rfl 4 (by decide) "SlidePark" q173 (fun _ h => h) hS.st rfl ?_
  refine g_icmp_gt (tgt := 25) X dX1_hasStarted_18 rfl (by decide) (fun c_18 => ?_) (fun c_18 => ?_)
  · rw [nI_ltI (by omega) (by omega)] at c_18
    refine g_iconst X dX1_hasStarted_25 rfl (v := (nI 0)) rfl ?_
    refine g_zret X dX1_hasStarted_26 rfl rfl (by first | exact Nat.le_of_ble_eq_true rfl | omega | (dsimp only [rmD]; omega)) (by first | exact Nat.le_of_ble_eq_true rfl | omega | (dsimp only [rmD]; omega)) (fun H hH => ⟨⟨(Γ, nI 0), Ex.rf, by rw [e, bI_f (by omega)]⟩, rfl, hH⟩)
  · rw [nI_ltI (by omega) (by omega)] at c_18
    refine g_iconst X dX1_hasStarted_21 rfl (v := (nI 1)) rfl ?_
    refine g_goto (tgt := 26) X dX1_hasStarted_22 rfl (by decide) ?_
    refine g_zret X dX1_hasStarted_26 rfl rfl (by first | exact Nat.le_of_ble_eq_true rfl | omega | (dsimp only [rmD]; omega)) (by first | exact Nat.le_of_ble_eq_true rfl | omega | (dsimp only [rmD]; omega)) (fun H hH => ⟨⟨(Γ, nI 1), Ex.rf, by rw [e, bI_t (by omega)]⟩, rfl, hH⟩)
theorem ct_X1_rider (hst : l.stackTraces = false) (hX : isO Γ xx 0 (.ref a :: vs)) (hS : SR Ω Γ0 Γ a A σ) (hB : Bd σ) (hD : DJ σ) {u : Int32} : CM Ω l yX1_rider (ws_ yX1_rider cX1_rider 3 (some .int)) 14 2 12 [.ref xx, .int u] (hL Ω Γ) (QO Ω Γ (qRider σ u)) (xQ nmLe (qRider σ u) (hL Ω Γ)) := by
  refine CM.of (L := [some (.ref xx), some (.int u), none]) hst (by decide) (Nat.le_of_ble_eq_true rfl) rfl ?_
  intro p e s m below meth c X hnm htab
  refine g_aload_n X dX1_rider_0 rfl rfl ?_
  refine l_get X dX1_rider_1 rfl in_X1 (ci := 0) rfl 0 (by decide) q233 (fun _ h => h) hX rfl ?_
  refine g_iload_n X dX1_rider_4 rfl rfl ?_
  refine g_callVx X (ct_X2_slide hst hS hB.1.1) dX1_rider_5 rfl (lw_V q1220 q914 q915 q67 q916) hyV_X2_slide (fun H hH => hL.recv X.2.2.2.2.2.2.2.1 hH (hS.st) rfl) (fun H hH => hH) ⟨Nat.le_of_ble_eq_true rfl, Nat.le_of_ble_eq_true rfl⟩ ⟨by first | exact Nat.le_of_ble_eq_true rfl | omega | (dsimp only [rmD]; omega), by first | exact Nat.le_of_ble_eq_true rfl | omega | (dsimp only [rmD]; omega)⟩ (Nat.le_of_ble_eq_true rfl) rfl (fun E q => GX.pass X htab (by first | exact Nat.le_of_ble_eq_true rfl | omega) (by first | exact Nat.le_of_ble_eq_true rfl | omega) (fun H h => ⟨1, cH_f h.2.1, h.1, h.2.2⟩)) (fun x0 => ?_)
  obtain ⟨y, y1, y2⟩ := x0
  have b1 := hB.1
  obtain ⟨s0, hs0, rfl⟩ := (ixI (by omega)).mp y2
  have e : qRider σ (nI s0) = cH (aBusy σ s0 (sM σ)) (.inr (nI (boG σ (iN (aDur σ s0 (sM σ)))))) (.inl 2) := by unfold qRider; rw [cH_t y2, iN_nI (by omega)]
  dsimp only
  refine g_pop X dX1_rider_8 rfl rfl ?_
  refine g_aload_n X dX1_rider_9 rfl rfl ?_
  refine l_get X dX1_rider_10 rfl in_X1 (ci := 0) rfl 0 (by decide) q233 (fun _ h => h) hX rfl ?_
  refine g_iload_n X dX1_rider_13 rfl rfl ?_
  refine g_aload_n X dX1_rider_14 rfl rfl ?_
  refine l_get X dX1_rider_15 rfl in_X1 (ci := 0) rfl 0 (by decide) q233 (fun _ h => h) hX rfl ?_
  refine l_getN X dX1_rider_18 rfl in_X2 (ci := 1) rfl 4 (by decide) "SlidePark" q173 (fun _ h => h) hS.st rfl ?_
  refine g_callV X (ct_X2_bookingAt hst hS hB hs0 (by omega)) dX1_rider_21 rfl (lw_V q1242 q1168 q1169 q67 q1170) hyV_X2_bookingAt (fun H hH => hL.recv X.2.2.2.2.2.2.2.1 hH (hS.st) rfl) (fun H hH => hH) ⟨Nat.le_of_ble_eq_true rfl, Nat.le_of_ble_eq_true rfl⟩ ⟨by first | exact Nat.le_of_ble_eq_true rfl | omega | (dsimp only [rmD]; omega), by first | exact Nat.le_of_ble_eq_true rfl | omega | (dsimp only [rmD]; omega)⟩ (Nat.le_of_ble_eq_true rfl) rfl (fun x1 => ?_)
  obtain ⟨ob, hob⟩ := x1
  cases ob with
  | none =>
    rw [cH_f (show ¬ aBusy σ s0 (sM σ) from hob)] at e
    refine g_astore_nN X dX1_rider_24 rfl (by decide) rfl rfl ?_
    refine g_aload_nN X dX1_rider_25 rfl rfl ?_
    refine g_ifnull X (x := none) (tgt := 33) dX1_rider_26 rfl (by decide) (fun _ => ?_) (fun y g => by simp at g)
    refine g_iconst X dX1_rider_33 rfl (v := (nI 0)) rfl ?_
    refine g_callSx X (ct_X1_requireElement_f hst) dX1_rider_34 rfl (lw_S q1243 q1119 q66 q1120) hyS_X1_requireElement (fun H hH => hH) ⟨Nat.le_of_ble_eq_true rfl, Nat.le_of_ble_eq_true rfl⟩ ⟨by first | exact Nat.le_of_ble_eq_true rfl | omega | (dsimp only [rmD]; omega), by first | exact Nat.le_of_ble_eq_true rfl | omega | (dsimp only [rmD]; omega)⟩ (Nat.le_of_ble_eq_true rfl) rfl (fun E q => GX.pass X htab (by first | exact Nat.le_of_ble_eq_true rfl | omega) (by first | exact Nat.le_of_ble_eq_true rfl | omega) (fun H h => ⟨2, e, h.1, h.2.2⟩)) (fun x2 => ?_)
    exact x2.2.elim
  | some yb =>
    obtain ⟨k1, k2, k3⟩ := hob
    have hdu := dur_one hD k1 k2
    rw [cH_t hdu.1, hdu.2, iN_nI (by omega)] at e
    have o1 := hS.2.2.2.2.1.2 _ _ k3
    refine g_astore_n X dX1_rider_24 rfl (by decide) rfl rfl ?_
    refine g_aload_n X dX1_rider_25 rfl rfl ?_
    refine g_ifnull X (x := some yb.2) (tgt := 33) dX1_rider_26 rfl (by decide) (fun g => by simp at g) (fun _ _ => ?_)
    refine g_iconst X dX1_rider_29 rfl (v := (nI 1)) rfl ?_
    refine g_goto (tgt := 34) X dX1_rider_30 rfl (by decide) ?_
    refine g_callS X (ct_X1_requireElement_t hst) dX1_rider_34 rfl (lw_S q1243 q1119 q66 q1120) hyS_X1_requireElement (fun H hH => hH) ⟨Nat.le_of_ble_eq_true rfl, Nat.le_of_ble_eq_true rfl⟩ ⟨by first | exact Nat.le_of_ble_eq_true rfl | omega | (dsimp only [rmD]; omega), by first | exact Nat.le_of_ble_eq_true rfl | omega | (dsimp only [rmD]; omega)⟩ (Nat.le_of_ble_eq_true rfl) rfl (fun x_34 => ?_)
    refine g_aload_n X dX1_rider_37 rfl rfl ?_
    refine l_getN X dX1_rider_38 rfl in_X8 (ci := 7) rfl 0 (by decide) "SlidePark" q970 (fun _ h => h) o1 rfl ?_
    refine g_iret X dX1_rider_41 rfl (by first | exact Nat.le_of_ble_eq_true rfl | omega | (dsimp only [rmD]; omega)) (by first | exact Nat.le_of_ble_eq_true rfl | omega | (dsimp only [rmD]; omega)) (fun H hH => ⟨⟨(Γ, nI (boG σ yb.1)), Ex.rf, e⟩, rfl, hH⟩)
theorem ct_X1_queueOf (hst : l.stackTraces = false) (hX : isO Γ xx 0 (.ref a :: vs)) (hS : SR Ω Γ0 Γ a A σ) (hB : Bd σ) {u : Int32} : CM Ω l yX1_queueOf (ws_ yX1_queueOf cX1_queueOf 3 (some .int)) 18 2 12 [.ref xx, .int u] (hL Ω Γ) (QO Ω Γ (qQue σ u)) (xQ nmLe (qQue σ u) (hL Ω Γ)) := by
  refine CM.of (L := [some (.ref xx), some (.int u), none]) hst (by decide) (Nat.le_of_ble_eq_true rfl) rfl ?_
  intro p e s m below meth c X hnm htab
  refine g_aload_n X dX1_queueOf_0 rfl rfl ?_
  refine l_get X dX1_queueOf_1 rfl in_X1 (ci := 0) rfl 0 (by decide) q233 (fun _ h => h) hX rfl ?_
  refine g_iload_n X dX1_queueOf_4 rfl rfl ?_
  refine g_callVx X (ct_X2_guest hst hS hB.1.2.1) dX1_queueOf_5 rfl (lw_V q1251 q888 q889 q67 q890) hyV_X2_guest (fun H hH => hL.recv X.2.2.2.2.2.2.2.1 hH (hS.st) rfl) (fun H hH => hH) ⟨Nat.le_of_ble_eq_true rfl, Nat.le_of_ble_eq_true rfl⟩ ⟨by first | exact Nat.le_of_ble_eq_true rfl | omega | (dsimp only [rmD]; omega), by first | exact Nat.le_of_ble_eq_true rfl | omega | (dsimp only [rmD]; omega)⟩ (Nat.le_of_ble_eq_true rfl) rfl (fun E q => GX.pass X htab (by first | exact Nat.le_of_ble_eq_true rfl | omega) (by first | exact Nat.le_of_ble_eq_true rfl | omega) (fun H h => ⟨1, cH_f h.2.1, h.1, h.2.2⟩)) (fun x0 => ?_)
  obtain ⟨y, y1, y2⟩ := x0
  have b1 := hB.1
  obtain ⟨g0, hg0, rfl⟩ := (ixI (by omega)).mp y2
  have e : qQue σ (nI g0) = cH (wai σ g0 = 0) (.inl 2) (.inr (nI (wai σ g0 - 1))) := by unfold qQue; rw [cH_t y2, iN_nI (by omega)]
  have hwl := wai_leS (σ := σ) (g := g0)
  dsimp only
  refine g_pop X dX1_queueOf_8 rfl rfl ?_
  refine g_aload_n X dX1_queueOf_9 rfl rfl ?_
  refine l_get X dX1_queueOf_10 rfl in_X1 (ci := 0) rfl 0 (by decide) q233 (fun _ h => h) hX rfl ?_
  refine g_iload_n X dX1_queueOf_13 rfl rfl ?_
  refine g_callV X (ct_X2_queueOf hst hS hB hg0) dX1_queueOf_14 rfl (lw_V q1259 q1020 q1021 q67 q1022) hyV_X2_queueOf (fun H hH => hL.recv X.2.2.2.2.2.2.2.1 hH (hS.st) rfl) (fun H hH => hH) ⟨Nat.le_of_ble_eq_true rfl, Nat.le_of_ble_eq_true rfl⟩ ⟨by first | exact Nat.le_of_ble_eq_true rfl | omega | (dsimp only [rmD]; omega), by first | exact Nat.le_of_ble_eq_true rfl | omega | (dsimp only [rmD]; omega)⟩ (Nat.le_of_ble_eq_true rfl) rfl (fun x_14 => ?_)
  rcases qoI_or (σ := σ) (g := g0) with ⟨w1, w2⟩ | ⟨i, w1, w2⟩
  · rw [w2]
    rw [cH_t w1] at e
    refine g_istore_n X dX1_queueOf_17 rfl (by decide) rfl rfl ?_
    refine g_iload_n X dX1_queueOf_18 rfl rfl ?_
    refine g_iconst X dX1_queueOf_19 rfl (v := (-1)) rfl ?_
    refine g_icmp_eq (tgt := 27) X dX1_queueOf_20 rfl (by decide) (fun c_20 => ?_) (fun c => absurd rfl c)
    refine g_iconst X dX1_queueOf_27 rfl (v := (nI 0)) rfl ?_
    refine g_callSx X (ct_X1_requireElement_f hst) dX1_queueOf_28 rfl (lw_S q1243 q1119 q66 q1120) hyS_X1_requireElement (fun H hH => hH) ⟨Nat.le_of_ble_eq_true rfl, Nat.le_of_ble_eq_true rfl⟩ ⟨by first | exact Nat.le_of_ble_eq_true rfl | omega | (dsimp only [rmD]; omega), by first | exact Nat.le_of_ble_eq_true rfl | omega | (dsimp only [rmD]; omega)⟩ (Nat.le_of_ble_eq_true rfl) rfl (fun E q => GX.pass X htab (by first | exact Nat.le_of_ble_eq_true rfl | omega) (by first | exact Nat.le_of_ble_eq_true rfl | omega) (fun H h => ⟨2, e, h.1, h.2.2⟩)) (fun x2 => ?_)
    exact x2.2.elim
  · rw [w2]
    rw [cH_f (by omega), w1, Nat.add_sub_cancel] at e
    refine g_istore_n X dX1_queueOf_17 rfl (by decide) rfl rfl ?_
    refine g_iload_n X dX1_queueOf_18 rfl rfl ?_
    refine g_iconst X dX1_queueOf_19 rfl (v := (-1)) rfl ?_
    refine g_icmp_eq (tgt := 27) X dX1_queueOf_20 rfl (by decide) (fun c => absurd c (nI_m1 (by omega))) (fun c_20 => ?_)
    refine g_iconst X dX1_queueOf_23 rfl (v := (nI 1)) rfl ?_
    refine g_goto (tgt := 28) X dX1_queueOf_24 rfl (by decide) ?_
    refine g_callS X (ct_X1_requireElement_t hst) dX1_queueOf_28 rfl (lw_S q1243 q1119 q66 q1120) hyS_X1_requireElement (fun H hH => hH) ⟨Nat.le_of_ble_eq_true rfl, Nat.le_of_ble_eq_true rfl⟩ ⟨by first | exact Nat.le_of_ble_eq_true rfl | omega | (dsimp only [rmD]; omega), by first | exact Nat.le_of_ble_eq_true rfl | omega | (dsimp only [rmD]; omega)⟩ (Nat.le_of_ble_eq_true rfl) rfl (fun x_28 => ?_)
    refine g_iload_n X dX1_queueOf_31 rfl rfl ?_
    refine g_iret X dX1_queueOf_32 rfl (by first | exact Nat.le_of_ble_eq_true rfl | omega | (dsimp only [rmD]; omega)) (by first | exact Nat.le_of_ble_eq_true rfl | omega | (dsimp only [rmD]; omega)) (fun H hH => ⟨⟨(Γ, nI i), Ex.rf, e⟩, rfl, hH⟩)
theorem ct_X1_queueLength (hst : l.stackTraces = false) (hX : isO Γ xx 0 (.ref a :: vs)) (hS : SR Ω Γ0 Γ a A σ) (hB : Bd σ) {u : Int32} : CM Ω l yX1_queueLength (ws_ yX1_queueLength cX1_queueLength 2 (some .int)) 14 1 6 [.ref xx, .int u] (hL Ω Γ) (QO Ω Γ (qSl σ (fun i => (slQ σ i).length) u)) (xQ nmI (qSl σ (fun i => (slQ σ i).length) u) (hL Ω Γ)) := by
  refine CM.of (L := [some (.ref xx), some (.int u)]) hst (by decide) (Nat.le_of_ble_eq_true rfl) rfl ?_
  intro p e s m below meth c X hnm htab
  refine g_aload_n X dX1_queueLength_0 rfl rfl ?_
  refine l_get X dX1_queueLength_1 rfl in_X1 (ci := 0) rfl 0 (by decide) q233 (fun _ h => h) hX rfl ?_
  refine g_iload_n X dX1_queueLength_4 rfl rfl ?_
  refine g_callVx X (ct_X2_slide hst hS hB.1.1) dX1_queueLength_5 rfl (lw_V q1220 q914 q915 q67 q916) hyV_X2_slide (fun H hH => hL.recv X.2.2.2.2.2.2.2.1 hH (hS.st) rfl) (fun H hH => hH) ⟨Nat.le_of_ble_eq_true rfl, Nat.le_of_ble_eq_true rfl⟩ ⟨by first | exact Nat.le_of_ble_eq_true rfl | omega | (dsimp only [rmD]; omega), by first | exact Nat.le_of_ble_eq_true rfl | omega | (dsimp only [rmD]; omega)⟩ (Nat.le_of_ble_eq_true rfl) rfl (fun E q => GX.pass X htab (by first | exact Nat.le_of_ble_eq_true rfl | omega) (by first | exact Nat.le_of_ble_eq_true rfl | omega) (fun H h => ⟨1, cH_f h.2.1, h.1, h.2.2⟩)) (fun x0 => ?_)
  obtain ⟨y, y1, y2⟩ := x0
  obtain ⟨⟨o1, -⟩, o2, ⟨mq, o3⟩, -⟩ := hS.2.2.1.2 _ y y1
  have e : qSl σ (fun i => (slQ σ i).length) u = .inr (nI (iAd Ω (slQ σ (iN u))).length) := by unfold qSl; rw [cH_t y2, iAd_len]
  dsimp only
  refine l_getN X dX1_queueLength_8 rfl in_X7 (ci := 6) rfl 2 (by decide) "SlidePark" q737 (fun _ h => h) o1 rfl ?_
  refine g_callV X (ct_X6_size hst o2 o3) dX1_queueLength_11 rfl (lw_V q1267 q1099 q1100 q84 q1101) hyV_X6_size (fun H hH => hL.recv X.2.2.2.2.2.2.2.1 hH (o2) rfl) (fun H hH => hH) ⟨Nat.le_of_ble_eq_true rfl, Nat.le_of_ble_eq_true rfl⟩ ⟨by first | exact Nat.le_of_ble_eq_true rfl | omega | (dsimp only [rmD]; omega), by first | exact Nat.le_of_ble_eq_true rfl | omega | (dsimp only [rmD]; omega)⟩ (Nat.le_of_ble_eq_true rfl) rfl (fun x_11 => ?_)
  refine g_iret X dX1_queueLength_14 rfl (by first | exact Nat.le_of_ble_eq_true rfl | omega | (dsimp only [rmD]; omega)) (by first | exact Nat.le_of_ble_eq_true rfl | omega | (dsimp only [rmD]; omega)) (fun H hH => ⟨⟨(Γ, nI (iAd Ω (slQ σ (iN u))).length), Ex.rf, e⟩, rfl, hH⟩)
theorem ct_X1_queuedGuest (hst : l.stackTraces = false) (hX : isO Γ xx 0 (.ref a :: vs)) (hS : SR Ω Γ0 Γ a A σ) (hB : Bd σ) {u v : Int32} : CM Ω l yX1_queuedGuest (ws_ yX1_queuedGuest cX1_queuedGuest 3 (some .int)) 14 2 12 [.ref xx, .int u, .int v] (hL Ω Γ) (QO Ω Γ (qQgu σ u v)) (xQ nmLe (qQgu σ u v) (hL Ω Γ)) := by
  refine CM.of (L := [some (.ref xx), some (.int u), some (.int v)]) hst (by decide) (Nat.le_of_ble_eq_true rfl) rfl ?_
  intro p e s m below meth c X hnm htab
  refine g_aload_n X dX1_queuedGuest_0 rfl rfl ?_
  refine l_get X dX1_queuedGuest_1 rfl in_X1 (ci := 0) rfl 0 (by decide) q233 (fun _ h => h) hX rfl ?_
  refine g_iload_n X dX1_queuedGuest_4 rfl rfl ?_
  refine g_callVx X (ct_X2_slide hst hS hB.1.1) dX1_queuedGuest_5 rfl (lw_V q1220 q914 q915 q67 q916) hyV_X2_slide (fun H hH => hL.recv X.2.2.2.2.2.2.2.1 hH (hS.st) rfl) (fun H hH => hH) ⟨Nat.le_of_ble_eq_true rfl, Nat.le_of_ble_eq_true rfl⟩ ⟨by first | exact Nat.le_of_ble_eq_true rfl | omega | (dsimp only [rmD]; omega), by first | exact Nat.le_of_ble_eq_true rfl | omega | (dsimp only [rmD]; omega)⟩ (Nat.le_of_ble_eq_true rfl) rfl (fun E q => GX.pass X htab (by first | exact Nat.le_of_ble_eq_true rfl | omega) (by first | exact Nat.le_of_ble_eq_true rfl | omega) (fun H h => ⟨1, cH_f h.2.1, h.1, h.2.2⟩)) (fun x0 => ?_)
  obtain ⟨y, y1, y2⟩ := x0
  have b1 := hB.1
  obtain ⟨s0, hs0, rfl⟩ := (ixI (by omega)).mp y2
  have bs := hB.2.1 s0 hs0
  have bq := hB.2.2.1 s0 hs0
  rw [iN_nI (by omega)] at y1
  obtain ⟨⟨o1, -⟩, o2, ⟨mq, o3⟩, -⟩ := hS.2.2.1.2 _ y y1
  have e : qQgu σ (nI s0) v = cH (0 ≤ v ∧ v ≤ nI (slQ σ s0).length - 1) (.inr (nI ((slQ σ s0).getD (iN v) 0))) (.inl 2) := by unfold qQgu; rw [cH_t y2, iN_nI (by omega)]
  have hk : (0 ≤ v ∧ v ≤ nI (iAd Ω (slQ σ s0)).length - 1) = (0 ≤ v ∧ v ≤ nI (slQ σ s0).length - 1) := by rw [iAd_len]
  dsimp only
  refine l_getN X dX1_queuedGuest_8 rfl in_X7 (ci := 6) rfl 2 (by decide) "SlidePark" q737 (fun _ h => h) o1 rfl ?_
  refine g_iload_n X dX1_queuedGuest_11 rfl rfl ?_
  refine g_callVx X (ct_X6_at hst o2 o3 (by rw [iAd_len]; omega)) dX1_queuedGuest_12 rfl (lw_V q1275 q1276 q1277 q84 q1278) hyV_X6_at (fun H hH => hL.recv X.2.2.2.2.2.2.2.1 hH (o2) rfl) (fun H hH => hH) ⟨Nat.le_of_ble_eq_true rfl, Nat.le_of_ble_eq_true rfl⟩ ⟨by first | exact Nat.le_of_ble_eq_true rfl | omega | (dsimp only [rmD]; omega), by first | exact Nat.le_of_ble_eq_true rfl | omega | (dsimp only [rmD]; omega)⟩ (Nat.le_of_ble_eq_true rfl) rfl (fun E q => GX.pass X htab (by first | exact Nat.le_of_ble_eq_true rfl | omega) (by first | exact Nat.le_of_ble_eq_true rfl | omega) (fun H h => ⟨2, by rw [e, cH_f (fun g => h.2.1 (hk.mpr g))], h.1, h.2.2⟩)) (fun x1 => ?_)
  obtain ⟨z, z1, z2⟩ := x1
  have z2 := hk.mp z2
  obtain ⟨j, hj, rfl⟩ := (ixI (by omega)).mp z2
  rw [iN_nI (by omega), iAd_get hj] at z1
  rw [cH_t z2, iN_nI (by omega)] at e
  have z1 : oM Ω ((slQ σ s0).getD j 0 + 128) = z := by simpa using z1
  have hn : (slQ σ s0).getD j 0 < nG σ := bq _ (by rw [List.getD_eq_getElem?_getD, List.getElem?_eq_getElem hj]; exact List.getElem_mem hj)
  dsimp only
  rw [← z1]
  refine g_castK X dX1_queuedGuest_15 rfl q1281 (fun H locs hS => oI_recv X hS (by omega)) ?_
  refine g_callVk X (ct_J21_intValue hst (by omega)) dX1_queuedGuest_18 rfl (lw_V q1282 q1083 q1084 q96 q1085) hyV_J21_intValue (fun H locs hS => oI_recv X hS (by omega)) (fun H hH => hH) ⟨Nat.le_of_ble_eq_true rfl, Nat.le_of_ble_eq_true rfl⟩ ⟨by first | exact Nat.le_of_ble_eq_true rfl | omega | (dsimp only [rmD]; omega), by first | exact Nat.le_of_ble_eq_true rfl | omega | (dsimp only [rmD]; omega)⟩ (Nat.le_of_ble_eq_true rfl) rfl (fun x_18 => ?_)
  refine g_iret X dX1_queuedGuest_21 rfl (by first | exact Nat.le_of_ble_eq_true rfl | omega | (dsimp only [rmD]; omega)) (by first | exact Nat.le_of_ble_eq_true rfl | omega | (dsimp only [rmD]; omega)) (fun H hH => ⟨⟨(Γ, nI ((slQ σ s0).getD j 0)), Ex.rf, e⟩, rfl, hH⟩)
theorem ct_X1_bookingByStart (hst : l.stackTraces = false) (hX : isO Γ xx 0 (.ref a :: vs)) (hS : SR Ω Γ0 Γ a A σ) (hB : Bd σ) (hD : DJ σ) {u : Int32} : CM Ω l yX1_bookingByStart (ws_ yX1_bookingByStart cX1_bookingByStart 2 (some .int)) 18 1 6 [.ref xx, .int u] (hL Ω Γ) (QO Ω Γ (qRnk σ u)) (xQ nmN (qRnk σ u) (hL Ω Γ)) := by
  have b1 := hB.1
  refine CM.of (L := [some (.ref xx), some (.int u)]) hst (by decide) (Nat.le_of_ble_eq_true rfl) rfl ?_
  intro p e s m below meth c X hnm htab
  refine g_aload_n X dX1_bookingByStart_0 rfl rfl ?_
  refine l_get X dX1_bookingByStart_1 rfl in_X1 (ci := 0) rfl 0 (by decide) q233 (fun _ h => h) hX rfl ?_
  refine l_getN X dX1_bookingByStart_4 rfl in_X2 (ci := 1) rfl 2 (by decide) "SlidePark" q169 (fun _ h => h) hS.st rfl ?_
  refine g_iload_n X dX1_bookingByStart_7 rfl rfl ?_
  refine g_callSx X (ct_X1_atRank_B hst hS hB) dX1_bookingByStart_8 rfl (lw_S q1319 q318 q66 q319) hyS_X1_atRank (fun H hH => hH) ⟨Nat.le_of_ble_eq_true rfl, Nat.le_of_ble_eq_true rfl⟩ ⟨by first | exact Nat.le_of_ble_eq_true rfl | omega | (dsimp only [rmD]; omega), by first | exact Nat.le_of_ble_eq_true rfl | omega | (dsimp only [rmD]; omega)⟩ (Nat.le_of_ble_eq_true rfl) rfl (fun E q => GX.pass X htab (by first | exact Nat.le_of_ble_eq_true rfl | omega) (by first | exact Nat.le_of_ble_eq_true rfl | omega) (fun H h => ⟨1, cH_f (rank_n (n := nB σ) (by omega) rkC_i rkC_t rkC_o h.2.1), h.1, h.2.2⟩)) (fun x0 => ?_)
  obtain ⟨k, k1, k2, -⟩ := x0
  have e : qRnk σ u = .inr (nI k) := by unfold qRnk; rw [cH_t ((aRnk_C hD hB k1 k2).1), (aRnk_C hD hB k1 k2).2]
  dsimp only
  refine g_iret X dX1_bookingByStart_11 rfl (by first | exact Nat.le_of_ble_eq_true rfl | omega | (dsimp only [rmD]; omega)) (by first | exact Nat.le_of_ble_eq_true rfl | omega | (dsimp only [rmD]; omega)) (fun H hH => ⟨⟨(Γ, nI k), Ex.rf, e⟩, rfl, hH⟩)
theorem ct_X1_guestByRides (hst : l.stackTraces = false) (hX : isO Γ xx 0 (.ref a :: vs)) (hS : SR Ω Γ0 Γ a A σ) (hB : Bd σ) {u : Int32} : CM Ω l yX1_guestByRides (ws_ yX1_guestByRides cX1_guestByRides 2 (some .int)) 18 1 6 [.ref xx, .int u] (hL Ω Γ) (QO Ω Γ (qRkG σ u)) (xQ nmN (qRkG σ u) (hL Ω Γ)) := by
  have b1 := hB.1
  refine CM.of (L := [some (.ref xx), some (.int u)]) hst (by decide) (Nat.le_of_ble_eq_true rfl) rfl ?_
  intro p e s m below meth c X hnm htab
  refine g_aload_n X dX1_guestByRides_0 rfl rfl ?_
  refine l_get X dX1_guestByRides_1 rfl in_X1 (ci := 0) rfl 0 (by decide) q233 (fun _ h => h) hX rfl ?_
  refine l_getN X dX1_guestByRides_4 rfl in_X2 (ci := 1) rfl 1 (by decide) "SlidePark" q167 (fun _ h => h) hS.st rfl ?_
  refine g_iload_n X dX1_guestByRides_7 rfl rfl ?_
  refine g_callSx X (ct_X1_atRank_G hst hS hB) dX1_guestByRides_8 rfl (lw_S q1319 q318 q66 q319) hyS_X1_atRank (fun H hH => hH) ⟨Nat.le_of_ble_eq_true rfl, Nat.le_of_ble_eq_true rfl⟩ ⟨by first | exact Nat.le_of_ble_eq_true rfl | omega | (dsimp only [rmD]; omega), by first | exact Nat.le_of_ble_eq_true rfl | omega | (dsimp only [rmD]; omega)⟩ (Nat.le_of_ble_eq_true rfl) rfl (fun E q => GX.pass X htab (by first | exact Nat.le_of_ble_eq_true rfl | omega) (by first | exact Nat.le_of_ble_eq_true rfl | omega) (fun H h => ⟨1, cH_f (rank_n (n := nG σ) (by omega) rkG_i rkG_t rkG_o h.2.1), h.1, h.2.2⟩)) (fun x0 => ?_)
  obtain ⟨k, k1, k2, -⟩ := x0
  have e : qRkG σ u = .inr (nI k) := by unfold qRkG; rw [cH_t ((rank_y (P := rkG σ) (n := nG σ) (d := nI 0) (by omega) rkG_i rkG_t rkG_o k1 k2).1), (rank_y (P := rkG σ) (n := nG σ) (d := nI 0) (by omega) rkG_i rkG_t rkG_o k1 k2).2]
  dsimp only
  refine g_iret X dX1_guestByRides_11 rfl (by first | exact Nat.le_of_ble_eq_true rfl | omega | (dsimp only [rmD]; omega)) (by first | exact Nat.le_of_ble_eq_true rfl | omega | (dsimp only [rmD]; omega)) (fun H hH => ⟨⟨(Γ, nI k), Ex.rf, e⟩, rfl, hH⟩)
theorem ct_X1_slideByWetness (hst : l.stackTraces = false) (hX : isO Γ xx 0 (.ref a :: vs)) (hS : SR Ω Γ0 Γ a A σ) (hB : Bd σ) {u : Int32} : CM Ω l yX1_slideByWetness (ws_ yX1_slideByWetness cX1_slideByWetness 2 (some .int)) 18 1 6 [.ref xx, .int u] (hL Ω Γ) (QO Ω Γ (qRkS σ u)) (xQ nmN (qRkS σ u) (hL Ω Γ)) := by
  have b1 := hB.1
  refine CM.of (L := [some (.ref xx), some (.int u)]) hst (by decide) (Nat.le_of_ble_eq_true rfl) rfl ?_
  intro p e s m below meth c X hnm htab
  refine g_aload_n X dX1_slideByWetness_0 rfl rfl ?_
  refine l_get X dX1_slideByWetness_1 rfl in_X1 (ci := 0) rfl 0 (by decide) q233 (fun _ h => h) hX rfl ?_
  refine l_getN X dX1_slideByWetness_4 rfl in_X2 (ci := 1) rfl 0 (by decide) "SlidePark" q165 (fun _ h => h) hS.st rfl ?_
  refine g_iload_n X dX1_slideByWetness_7 rfl rfl ?_
  refine g_callSx X (ct_X1_atRank_S hst hS hB) dX1_slideByWetness_8 rfl (lw_S q1319 q318 q66 q319) hyS_X1_atRank (fun H hH => hH) ⟨Nat.le_of_ble_eq_true rfl, Nat.le_of_ble_eq_true rfl⟩ ⟨by first | exact Nat.le_of_ble_eq_true rfl | omega | (dsimp only [rmD]; omega), by first | exact Nat.le_of_ble_eq_true rfl | omega | (dsimp only [rmD]; omega)⟩ (Nat.le_of_ble_eq_true rfl) rfl (fun E q => GX.pass X htab (by first | exact Nat.le_of_ble_eq_true rfl | omega) (by first | exact Nat.le_of_ble_eq_true rfl | omega) (fun H h => ⟨1, cH_f (rank_n (n := nS σ) (by omega) rkS_i rkS_t rkS_o h.2.1), h.1, h.2.2⟩)) (fun x0 => ?_)
  obtain ⟨k, k1, k2, -⟩ := x0
  have e : qRkS σ u = .inr (nI k) := by unfold qRkS; rw [cH_t ((rank_y (P := rkS σ) (n := nS σ) (d := nI 0) (by omega) rkS_i rkS_t rkS_o k1 k2).1), (rank_y (P := rkS σ) (n := nS σ) (d := nI 0) (by omega) rkS_i rkS_t rkS_o k1 k2).2]
  dsimp only
  refine g_iret X dX1_slideByWetness_11 rfl (by first | exact Nat.le_of_ble_eq_true rfl | omega | (dsimp only [rmD]; omega)) (by first | exact Nat.le_of_ble_eq_true rfl | omega | (dsimp only [rmD]; omega)) (fun H hH => ⟨⟨(Γ, nI k), Ex.rf, e⟩, rfl, hH⟩)
theorem ct_X1_isFree (hst : l.stackTraces = false) (hX : isO Γ xx 0 (.ref a :: vs)) (hS : SR Ω Γ0 Γ a A σ) (hB : Bd σ) {u v : Int32} : CM Ω l yX1_isFree (ws_ yX1_isFree cX1_isFree 3 (some .boolean)) 14 2 12 [.ref xx, .int u, .int v] (hL Ω Γ) (QO Ω Γ (qFre σ u v)) (xQ nmFr (qFre σ u v) (hL Ω Γ)) := by
  refine CM.of (L := [some (.ref xx), some (.int u), some (.int v)]) hst (by decide) (Nat.le_of_ble_eq_true rfl) rfl ?_
  intro p e s m below meth c X hnm htab
  refine g_aload_n X dX1_isFree_0 rfl rfl ?_
  refine l_get X dX1_isFree_1 rfl in_X1 (ci := 0) rfl 0 (by decide) q233 (fun _ h => h) hX rfl ?_
  refine g_iload_n X dX1_isFree_4 rfl rfl ?_
  refine g_callVx X (ct_X2_slide hst hS hB.1.1) dX1_isFree_5 rfl (lw_V q1220 q914 q915 q67 q916) hyV_X2_slide (fun H hH => hL.recv X.2.2.2.2.2.2.2.1 hH (hS.st) rfl) (fun H hH => hH) ⟨Nat.le_of_ble_eq_true rfl, Nat.le_of_ble_eq_true rfl⟩ ⟨by first | exact Nat.le_of_ble_eq_true rfl | omega | (dsimp only [rmD]; omega), by first | exact Nat.le_of_ble_eq_true rfl | omega | (dsimp only [rmD]; omega)⟩ (Nat.le_of_ble_eq_true rfl) rfl (fun E q => GX.pass X htab (by first | exact Nat.le_of_ble_eq_true rfl | omega) (by first | exact Nat.le_of_ble_eq_true rfl | omega) (fun H h => ⟨1, cH_f h.2.1, h.1, h.2.2⟩)) (fun x0 => ?_)
  obtain ⟨y, y1, y2⟩ := x0
  have b1 := hB.1
  refine g_pop X dX1_isFree_8 rfl rfl ?_
  refine g_aload_n X dX1_isFree_9 rfl rfl ?_
  refine l_get X dX1_isFree_10 rfl in_X1 (ci := 0) rfl 0 (by decide) q233 (fun _ h => h) hX rfl ?_
  refine g_iload_n X dX1_isFree_13 rfl rfl ?_
  refine g_callVx X (ct_X2_requireStart hst hS) dX1_isFree_14 rfl (lw_V q1327 q918 q919 q67 q920) hyV_X2_requireStart (fun H hH => hL.recv X.2.2.2.2.2.2.2.1 hH (hS.st) rfl) (fun H hH => hH) ⟨Nat.le_of_ble_eq_true rfl, Nat.le_of_ble_eq_true rfl⟩ ⟨by first | exact Nat.le_of_ble_eq_true rfl | omega | (dsimp only [rmD]; omega), by first | exact Nat.le_of_ble_eq_true rfl | omega | (dsimp only [rmD]; omega)⟩ (Nat.le_of_ble_eq_true rfl) rfl (fun E q => GX.pass X htab (by first | exact Nat.le_of_ble_eq_true rfl | omega) (by first | exact Nat.le_of_ble_eq_true rfl | omega) (fun H h => ⟨2, (cH_t y2).trans (cH_f h.2.1), h.1, h.2.2⟩)) (fun x1 => ?_)
  obtain ⟨t2⟩ := x1
  have e : qFre σ u v = .inr (bI (¬ aCl σ (-1) (iN u) (iN v))) := (cH_t y2).trans (cH_t t2)
  obtain ⟨s0, hs0, rfl⟩ := (ixI (by omega)).mp y2
  obtain ⟨t0, ht0, ht1, rfl⟩ := (rgI (by omega) (by omega)).mp t2
  rw [iN_nI (by omega), iN_nI (by omega), ← bI_congr (free_iff1 hB)] at e
  refine g_aload_n X dX1_isFree_17 rfl rfl ?_
  refine l_get X dX1_isFree_18 rfl in_X1 (ci := 0) rfl 0 (by decide) q233 (fun _ h => h) hX rfl ?_
  refine g_iload_n X dX1_isFree_21 rfl rfl ?_
  refine g_iload_n X dX1_isFree_22 rfl rfl ?_
  refine g_callV X (ct_X2_isSlideFree hst hS hB hs0 (by omega)) dX1_isFree_23 rfl (lw_V q1328 q926 q927 q67 q928) hyV_X2_isSlideFree (fun H hH => hL.recv X.2.2.2.2.2.2.2.1 hH (hS.st) rfl) (fun H hH => hH) ⟨Nat.le_of_ble_eq_true rfl, Nat.le_of_ble_eq_true rfl⟩ ⟨by first | exact Nat.le_of_ble_eq_true rfl | omega | (dsimp only [rmD]; omega), by first | exact Nat.le_of_ble_eq_true rfl | omega | (dsimp only [rmD]; omega)⟩ (Nat.le_of_ble_eq_true rfl) rfl (fun x_23 => ?_)
  refine g_zret X dX1_isFree_26 rfl bI_nar (by first | exact Nat.le_of_ble_eq_true rfl | omega | (dsimp only [rmD]; omega)) (by first | exact Nat.le_of_ble_eq_true rfl | omega | (dsimp only [rmD]; omega)) (fun H hH => ⟨⟨(Γ, _), Ex.rf, e⟩, rfl, hH⟩)
theorem ct_X1_requireMinute (hst : l.stackTraces = false) {n : Nat} (hn : n < 2 ^ 31) : CM Ω l yX1_requireMinute (ws_ yX1_requireMinute cX1_requireMinute 1 (some .int)) 8 1 6 [.int (nI n)] (hL Ω Γ) (QP (some (.int (nI n))) (hL Ω Γ)) nX := by
  refine CM.of (L := [some (.int (nI n))]) hst (by decide) (Nat.le_of_ble_eq_true rfl) rfl ?_
  intro p e s m below meth c X hnm htab
  refine g_iload_n X dX1_requireMinute_0 rfl rfl ?_
  refine g_iconst X dX1_requireMinute_1 rfl (v := (-1)) rfl ?_
  refine g_icmp_eq (tgt := 9) X dX1_requireMinute_2 rfl (by decide) (fun c => absurd c (nI_m1 hn)) (fun c_2 => ?_)
  refine g_iconst X dX1_requireMinute_5 rfl (v := (nI 1)) rfl ?_
  refine g_goto (tgt := 10) X dX1_requireMinute_6 rfl (by decide) ?_
  refine g_callS X (ct_X1_requireElement_t hst) dX1_requireMinute_10 rfl (lw_S q1243 q1119 q66 q1120) hyS_X1_requireElement (fun H hH => hH) ⟨Nat.le_of_ble_eq_true rfl, Nat.le_of_ble_eq_true rfl⟩ ⟨by first | exact Nat.le_of_ble_eq_true rfl | omega | (dsimp only [rmD]; omega), by first | exact Nat.le_of_ble_eq_true rfl | omega | (dsimp only [rmD]; omega)⟩ (Nat.le_of_ble_eq_true rfl) rfl (fun x_10 => ?_)
  refine g_iload_n X dX1_requireMinute_13 rfl rfl ?_
  refine g_iret X dX1_requireMinute_14 rfl (by first | exact Nat.le_of_ble_eq_true rfl | omega | (dsimp only [rmD]; omega)) (by first | exact Nat.le_of_ble_eq_true rfl | omega | (dsimp only [rmD]; omega)) (fun H hH => ⟨(), rfl, hH⟩)
theorem ct_X1_requireMinute_n (hst : l.stackTraces = false) : CM Ω l yX1_requireMinute (ws_ yX1_requireMinute cX1_requireMinute 1 (some .int)) 8 1 6 [.int (-1)] (hL Ω Γ) (QV (fun _ : {u : Unit // False} => none) (fun _ => hL Ω Γ)) (xE "java/util/NoSuchElementException" True (hL Ω Γ)) := by
  refine CM.of (L := [some (.int (-1))]) hst (by decide) (Nat.le_of_ble_eq_true rfl) rfl ?_
  intro p e s m below meth c X hnm htab
  refine g_iload_n X dX1_requireMinute_0 rfl rfl ?_
  refine g_iconst X dX1_requireMinute_1 rfl (v := (-1)) rfl ?_
  refine g_icmp_eq (tgt := 9) X dX1_requireMinute_2 rfl (by decide) (fun c_2 => ?_) (fun c => absurd rfl c)
  refine g_iconst X dX1_requireMinute_9 rfl (v := (nI 0)) rfl ?_
  refine g_callSx X (ct_X1_requireElement_f hst) dX1_requireMinute_10 rfl (lw_S q1243 q1119 q66 q1120) hyS_X1_requireElement (fun H hH => hH) ⟨Nat.le_of_ble_eq_true rfl, Nat.le_of_ble_eq_true rfl⟩ ⟨by first | exact Nat.le_of_ble_eq_true rfl | omega | (dsimp only [rmD]; omega), by first | exact Nat.le_of_ble_eq_true rfl | omega | (dsimp only [rmD]; omega)⟩ (Nat.le_of_ble_eq_true rfl) rfl (fun E q => GX.pass X htab (by first | exact Nat.le_of_ble_eq_true rfl | omega) (by first | exact Nat.le_of_ble_eq_true rfl | omega) (fun H h => h)) (fun x2 => ?_)
  exact x2.2.elim
theorem ct_X1_firstFree (hst : l.stackTraces = false) (hX : isO Γ xx 0 (.ref a :: vs)) (hS : SR Ω Γ0 Γ a A σ) (hB : Bd σ) {u v : Int32} : CM Ω l yX1_firstFree (ws_ yX1_firstFree cX1_firstFree 3 (some .int)) 28 4 24 [.ref xx, .int u, .int v] (hL Ω Γ) (QO Ω Γ (qFF σ u v)) (xQ nmFF (qFF σ u v) (fun H => ∃ G, Ex Γ G ∧ hL Ω G H)) := by
  refine CM.of (L := [some (.ref xx), some (.int u), some (.int v)]) hst (by decide) (Nat.le_of_ble_eq_true rfl) rfl ?_
  intro p e s m below meth c X hnm htab
  refine g_aload_n X dX1_firstFree_0 rfl rfl ?_
  refine l_get X dX1_firstFree_1 rfl in_X1 (ci := 0) rfl 0 (by decide) q233 (fun _ h => h) hX rfl ?_
  refine g_iload_n X dX1_firstFree_4 rfl rfl ?_
  refine g_callVx X (ct_X2_slide hst hS hB.1.1) dX1_firstFree_5 rfl (lw_V q1220 q914 q915 q67 q916) hyV_X2_slide (fun H hH => hL.recv X.2.2.2.2.2.2.2.1 hH (hS.st) rfl) (fun H hH => hH) ⟨Nat.le_of_ble_eq_true rfl, Nat.le_of_ble_eq_true rfl⟩ ⟨by first | exact Nat.le_of_ble_eq_true rfl | omega | (dsimp only [rmD]; omega), by first | exact Nat.le_of_ble_eq_true rfl | omega | (dsimp only [rmD]; omega)⟩ (Nat.le_of_ble_eq_true rfl) rfl (fun E q => GX.pass X htab (by first | exact Nat.le_of_ble_eq_true rfl | omega) (by first | exact Nat.le_of_ble_eq_true rfl | omega) (fun H h => ⟨1, cH_f h.2.1, h.1, Γ, Ex.rf, h.2.2⟩)) (fun x0 => ?_)
  obtain ⟨y, y1, y2⟩ := x0
  have b1 := hB.1
  refine g_pop X dX1_firstFree_8 rfl rfl ?_
  refine g_aload_n X dX1_firstFree_9 rfl rfl ?_
  refine l_get X dX1_firstFree_10 rfl in_X1 (ci := 0) rfl 0 (by decide) q233 (fun _ h => h) hX rfl ?_
  refine g_iload_n X dX1_firstFree_13 rfl rfl ?_
  refine g_callVx X (ct_X2_requireStart hst hS) dX1_firstFree_14 rfl (lw_V q1327 q918 q919 q67 q920) hyV_X2_requireStart (fun H hH => hL.recv X.2.2.2.2.2.2.2.1 hH (hS.st) rfl) (fun H hH => hH) ⟨Nat.le_of_ble_eq_true rfl, Nat.le_of_ble_eq_true rfl⟩ ⟨by first | exact Nat.le_of_ble_eq_true rfl | omega | (dsimp only [rmD]; omega), by first | exact Nat.le_of_ble_eq_true rfl | omega | (dsimp only [rmD]; omega)⟩ (Nat.le_of_ble_eq_true rfl) rfl (fun E q => GX.pass X htab (by first | exact Nat.le_of_ble_eq_true rfl | omega) (by first | exact Nat.le_of_ble_eq_true rfl | omega) (fun H h => ⟨2, (cH_t y2).trans (cH_f h.2.1), h.1, Γ, Ex.rf, h.2.2⟩)) (fun x1 => ?_)
  obtain ⟨t2⟩ := x1
  have e : qFF σ u v = _ := (cH_t y2).trans (cH_t t2)
  obtain ⟨s0, hs0, rfl⟩ := (ixI (by omega)).mp y2
  obtain ⟨t0, ht0, ht1, rfl⟩ := (rgI (by omega) (by omega)).mp t2
  rw [iN_nI (by omega), iN_nI (by omega)] at e
  refine g_aload_n X dX1_firstFree_17 rfl rfl ?_
  refine l_get X dX1_firstFree_18 rfl in_X1 (ci := 0) rfl 0 (by decide) q233 (fun _ h => h) hX rfl ?_
  refine g_iload_n X dX1_firstFree_21 rfl rfl ?_
  refine g_iload_n X dX1_firstFree_22 rfl rfl ?_
  refine g_callV X (ct_X2_firstFree hst hS hB hs0 (by omega)) dX1_firstFree_23 rfl (lw_V q1336 q1337 q1338 q67 q1339) hyV_X2_firstFree (fun H hH => hL.recv X.2.2.2.2.2.2.2.1 hH (hS.st) rfl) (fun H hH => hH) ⟨Nat.le_of_ble_eq_true rfl, Nat.le_of_ble_eq_true rfl⟩ ⟨by first | exact Nat.le_of_ble_eq_true rfl | omega | (dsimp only [rmD]; omega), by first | exact Nat.le_of_ble_eq_true rfl | omega | (dsimp only [rmD]; omega)⟩ (Nat.le_of_ble_eq_true rfl) rfl (fun x3 => ?_)
  have hG : Ex Γ Γ := Ex.rf
  cases hff : aFF σ s0 t0 (sM σ + 121 - t0) with
  | none =>
    rw [hff] at e
    rw [show ffI σ s0 t0 (sM σ + 121 - t0) = -1 by unfold ffI; rw [hff]]
    refine g_callSx X (ct_X1_requireMinute_n hst) dX1_firstFree_26 rfl (lw_S q1340 q1341 q66 q1342) hyS_X1_requireMinute (fun H hH => hH) ⟨Nat.le_of_ble_eq_true rfl, Nat.le_of_ble_eq_true rfl⟩ ⟨by first | exact Nat.le_of_ble_eq_true rfl | omega | (dsimp only [rmD]; omega), by first | exact Nat.le_of_ble_eq_true rfl | omega | (dsimp only [rmD]; omega)⟩ (Nat.le_of_ble_eq_true rfl) rfl (fun E q => GX.pass X htab (by first | exact Nat.le_of_ble_eq_true rfl | omega) (by first | exact Nat.le_of_ble_eq_true rfl | omega) (fun H h => ⟨3, e, h.1, Γ, hG, h.2.2⟩)) (fun x2 => ?_)
    exact x2.2.elim
  | some m9 =>
    rw [hff] at e
    have hm9 : m9 < 2 ^ 31 := ff_lt hff (by omega)
    rw [show ffI σ s0 t0 (sM σ + 121 - t0) = nI m9 by unfold ffI; rw [hff]]
    refine g_callS X (ct_X1_requireMinute hst hm9) dX1_firstFree_26 rfl (lw_S q1340 q1341 q66 q1342) hyS_X1_requireMinute (fun H hH => hH) ⟨Nat.le_of_ble_eq_true rfl, Nat.le_of_ble_eq_true rfl⟩ ⟨by first | exact Nat.le_of_ble_eq_true rfl | omega | (dsimp only [rmD]; omega), by first | exact Nat.le_of_ble_eq_true rfl | omega | (dsimp only [rmD]; omega)⟩ (Nat.le_of_ble_eq_true rfl) rfl (fun x_26 => ?_)
    refine g_iret X dX1_firstFree_29 rfl (by first | exact Nat.le_of_ble_eq_true rfl | omega | (dsimp only [rmD]; omega)) (by first | exact Nat.le_of_ble_eq_true rfl | omega | (dsimp only [rmD]; omega)) (fun H hH => ⟨⟨(Γ, nI m9), hG, e⟩, rfl, hH⟩)
theorem ct_X1_firstFreeByGaps (hst : l.stackTraces = false) (hX : isO Γ xx 0 (.ref a :: vs)) (hS : SR Ω Γ0 Γ a A σ) (hB : Bd σ) (hD : DJ σ) {u v : Int32} : CM Ω l yX1_firstFreeByGaps (ws_ yX1_firstFreeByGaps cX1_firstFreeByGaps 3 (some .int)) 28 30 882 [.ref xx, .int u, .int v] (hL Ω Γ) (QO Ω Γ (qFF σ u v)) (xQ nmFF (qFF σ u v) (fun H => ∃ G, Ex Γ G ∧ hL Ω G H)) := by
  refine CM.of (L := [some (.ref xx), some (.int u), some (.int v)]) hst (by decide) (Nat.le_of_ble_eq_true rfl) rfl ?_
  intro p e s m below meth c X hnm htab
  refine g_aload_n X dX1_firstFreeByGaps_0 rfl rfl ?_
  refine l_get X dX1_firstFreeByGaps_1 rfl in_X1 (ci := 0) rfl 0 (by decide) q233 (fun _ h => h) hX rfl ?_
  refine g_iload_n X dX1_firstFreeByGaps_4 rfl rfl ?_
  refine g_callVx X (ct_X2_slide hst hS hB.1.1) dX1_firstFreeByGaps_5 rfl (lw_V q1220 q914 q915 q67 q916) hyV_X2_slide (fun H hH => hL.recv X.2.2.2.2.2.2.2.1 hH (hS.st) rfl) (fun H hH => hH) ⟨Nat.le_of_ble_eq_true rfl, Nat.le_of_ble_eq_true rfl⟩ ⟨by first | exact Nat.le_of_ble_eq_true rfl | omega | (dsimp only [rmD]; omega), by first | exact Nat.le_of_ble_eq_true rfl | omega | (dsimp only [rmD]; omega)⟩ (Nat.le_of_ble_eq_true rfl) rfl (fun E q => GX.pass X htab (by first | exact Nat.le_of_ble_eq_true rfl | omega) (by first | exact Nat.le_of_ble_eq_true rfl | omega) (fun H h => ⟨1, cH_f h.2.1, h.1, Γ, Ex.rf, h.2.2⟩)) (fun x0 => ?_)
  obtain ⟨y, y1, y2⟩ := x0
  have b1 := hB.1
  refine g_pop X dX1_firstFreeByGaps_8 rfl rfl ?_
  refine g_aload_n X dX1_firstFreeByGaps_9 rfl rfl ?_
  refine l_get X dX1_firstFreeByGaps_10 rfl in_X1 (ci := 0) rfl 0 (by decide) q233 (fun _ h => h) hX rfl ?_
  refine g_iload_n X dX1_firstFreeByGaps_13 rfl rfl ?_
  refine g_callVx X (ct_X2_requireStart hst hS) dX1_firstFreeByGaps_14 rfl (lw_V q1327 q918 q919 q67 q920) hyV_X2_requireStart (fun H hH => hL.recv X.2.2.2.2.2.2.2.1 hH (hS.st) rfl) (fun H hH => hH) ⟨Nat.le_of_ble_eq_true rfl, Nat.le_of_ble_eq_true rfl⟩ ⟨by first | exact Nat.le_of_ble_eq_true rfl | omega | (dsimp only [rmD]; omega), by first | exact Nat.le_of_ble_eq_true rfl | omega | (dsimp only [rmD]; omega)⟩ (Nat.le_of_ble_eq_true rfl) rfl (fun E q => GX.pass X htab (by first | exact Nat.le_of_ble_eq_true rfl | omega) (by first | exact Nat.le_of_ble_eq_true rfl | omega) (fun H h => ⟨2, (cH_t y2).trans (cH_f h.2.1), h.1, Γ, Ex.rf, h.2.2⟩)) (fun x1 => ?_)
  obtain ⟨t2⟩ := x1
  have e : qFF σ u v = _ := (cH_t y2).trans (cH_t t2)
  obtain ⟨s0, hs0, rfl⟩ := (ixI (by omega)).mp y2
  obtain ⟨t0, ht0, ht1, rfl⟩ := (rgI (by omega) (by omega)).mp t2
  rw [iN_nI (by omega), iN_nI (by omega)] at e
  refine g_aload_n X dX1_firstFreeByGaps_17 rfl rfl ?_
  refine l_get X dX1_firstFreeByGaps_18 rfl in_X1 (ci := 0) rfl 0 (by decide) q233 (fun _ h => h) hX rfl ?_
  refine g_iload_n X dX1_firstFreeByGaps_21 rfl rfl ?_
  refine g_iload_n X dX1_firstFreeByGaps_22 rfl rfl ?_
  refine g_callV X (ct_X2_firstFreeByGaps hst hS hB hD hs0 (by omega)) dX1_firstFreeByGaps_23 rfl (lw_V q1350 q1351 q1352 q67 q1353) hyV_X2_firstFreeByGaps (fun H hH => hL.recv X.2.2.2.2.2.2.2.1 hH (hS.st) rfl) (fun H hH => hH) ⟨Nat.le_of_ble_eq_true rfl, Nat.le_of_ble_eq_true rfl⟩ ⟨by first | exact Nat.le_of_ble_eq_true rfl | omega | (dsimp only [rmD]; omega), by first | exact Nat.le_of_ble_eq_true rfl | omega | (dsimp only [rmD]; omega)⟩ (Nat.le_of_ble_eq_true rfl) rfl (fun x3 => ?_)
  obtain ⟨G, hG⟩ := x3
  dsimp only
  cases hff : aFF σ s0 t0 (sM σ + 121 - t0) with
  | none =>
    rw [hff] at e
    rw [show ffI σ s0 t0 (sM σ + 121 - t0) = -1 by unfold ffI; rw [hff]]
    refine g_callSx X (ct_X1_requireMinute_n hst) dX1_firstFreeByGaps_26 rfl (lw_S q1340 q1341 q66 q1342) hyS_X1_requireMinute (fun H hH => hH) ⟨Nat.le_of_ble_eq_true rfl, Nat.le_of_ble_eq_true rfl⟩ ⟨by first | exact Nat.le_of_ble_eq_true rfl | omega | (dsimp only [rmD]; omega), by first | exact Nat.le_of_ble_eq_true rfl | omega | (dsimp only [rmD]; omega)⟩ (Nat.le_of_ble_eq_true rfl) rfl (fun E q => GX.pass X htab (by first | exact Nat.le_of_ble_eq_true rfl | omega) (by first | exact Nat.le_of_ble_eq_true rfl | omega) (fun H h => ⟨3, e, h.1, G, hG, h.2.2⟩)) (fun x2 => ?_)
    exact x2.2.elim
  | some m9 =>
    rw [hff] at e
    have hm9 : m9 < 2 ^ 31 := ff_lt hff (by omega)
    rw [show ffI σ s0 t0 (sM σ + 121 - t0) = nI m9 by unfold ffI; rw [hff]]
    refine g_callS X (ct_X1_requireMinute hst hm9) dX1_firstFreeByGaps_26 rfl (lw_S q1340 q1341 q66 q1342) hyS_X1_requireMinute (fun H hH => hH) ⟨Nat.le_of_ble_eq_true rfl, Nat.le_of_ble_eq_true rfl⟩ ⟨by first | exact Nat.le_of_ble_eq_true rfl | omega | (dsimp only [rmD]; omega), by first | exact Nat.le_of_ble_eq_true rfl | omega | (dsimp only [rmD]; omega)⟩ (Nat.le_of_ble_eq_true rfl) rfl (fun x_26 => ?_)
    refine g_iret X dX1_firstFreeByGaps_29 rfl (by first | exact Nat.le_of_ble_eq_true rfl | omega | (dsimp only [rmD]; omega)) (by first | exact Nat.le_of_ble_eq_true rfl | omega | (dsimp only [rmD]; omega)) (fun H hH => ⟨⟨(G, nI m9), hG, e⟩, rfl, hH⟩)
theorem ct_X1_finishedGuest (hst : l.stackTraces = false) (hX : isO Γ xx 0 (.ref a :: vs)) (hS : SR Ω Γ0 Γ a A σ) (hB : Bd σ) {u : Int32} : CM Ω l yX1_finishedGuest (ws_ yX1_finishedGuest cX1_finishedGuest 2 (some .int)) 14 1 6 [.ref xx, .int u] (hL Ω Γ) (QO Ω Γ (qFin σ (fiG σ) u)) (xQ nmN (qFin σ (fiG σ) u) (hL Ω Γ)) := by
  obtain ⟨mL, hmL⟩ := hS.lL
  have b1 := hB.1
  have hcF := hS.cF
  have hk : (0 ≤ u ∧ u ≤ nI (laF A).length - 1) = (0 ≤ u ∧ u ≤ nI (nF σ) - 1) := by rw [hcF]
  refine CM.of (L := [some (.ref xx), some (.int u)]) hst (by decide) (Nat.le_of_ble_eq_true rfl) rfl ?_
  intro p e s m below meth c X hnm htab
  refine g_aload_n X dX1_finishedGuest_0 rfl rfl ?_
  refine l_get X dX1_finishedGuest_1 rfl in_X1 (ci := 0) rfl 0 (by decide) q233 (fun _ h => h) hX rfl ?_
  refine l_getN X dX1_finishedGuest_4 rfl in_X2 (ci := 1) rfl 3 (by decide) "SlidePark" q171 (fun _ h => h) hS.st rfl ?_
  refine g_iload_n X dX1_finishedGuest_7 rfl rfl ?_
  refine g_callVx X (ct_X3_back hst hS.lF hmL (by omega)) dX1_finishedGuest_8 rfl (lw_V q1365 q1366 q1367 q71 q1368) hyV_X3_back (fun H hH => hL.recv X.2.2.2.2.2.2.2.1 hH (hS.lF) rfl) (fun H hH => hH) ⟨Nat.le_of_ble_eq_true rfl, Nat.le_of_ble_eq_true rfl⟩ ⟨by first | exact Nat.le_of_ble_eq_true rfl | omega | (dsimp only [rmD]; omega), by first | exact Nat.le_of_ble_eq_true rfl | omega | (dsimp only [rmD]; omega)⟩ (Nat.le_of_ble_eq_true rfl) rfl (fun E q => GX.pass X htab (by first | exact Nat.le_of_ble_eq_true rfl | omega) (by first | exact Nat.le_of_ble_eq_true rfl | omega) (fun H h => ⟨1, cH_f (fun g => h.2.1 (hk.mpr g)), h.1, h.2.2⟩)) (fun x0 => ?_)
  obtain ⟨y, y1, y2⟩ := x0
  have y2 := hk.mp y2
  rw [hcF] at y1
  have o1 := hS.2.2.2.2.2.1.2 _ y y1
  dsimp only
  refine g_cast X dX1_finishedGuest_11 rfl q1371 (fun H hH => hL.recv X.2.2.2.2.2.2.2.1 hH (o1) rfl) ?_
  refine l_getN X dX1_finishedGuest_14 rfl in_X9 (ci := 8) rfl 0 (by decide) "SlidePark" q1199 (fun _ h => h) o1 rfl ?_
  refine g_iret X dX1_finishedGuest_17 rfl (by first | exact Nat.le_of_ble_eq_true rfl | omega | (dsimp only [rmD]; omega)) (by first | exact Nat.le_of_ble_eq_true rfl | omega | (dsimp only [rmD]; omega)) (fun H hH => ⟨⟨(Γ, nI (fiG σ (nF σ - 1 - iN u))), Ex.rf, cH_t y2⟩, rfl, hH⟩)
theorem ct_X1_finishedSlide (hst : l.stackTraces = false) (hX : isO Γ xx 0 (.ref a :: vs)) (hS : SR Ω Γ0 Γ a A σ) (hB : Bd σ) {u : Int32} : CM Ω l yX1_finishedSlide (ws_ yX1_finishedSlide cX1_finishedSlide 2 (some .int)) 14 1 6 [.ref xx, .int u] (hL Ω Γ) (QO Ω Γ (qFin σ (fiS σ) u)) (xQ nmN (qFin σ (fiS σ) u) (hL Ω Γ)) := by
  obtain ⟨mL, hmL⟩ := hS.lL
  have b1 := hB.1
  have hcF := hS.cF
  have hk : (0 ≤ u ∧ u ≤ nI (laF A).length - 1) = (0 ≤ u ∧ u ≤ nI (nF σ) - 1) := by rw [hcF]
  refine CM.of (L := [some (.ref xx), some (.int u)]) hst (by decide) (Nat.le_of_ble_eq_true rfl) rfl ?_
  intro p e s m below meth c X hnm htab
  refine g_aload_n X dX1_finishedSlide_0 rfl rfl ?_
  refine l_get X dX1_finishedSlide_1 rfl in_X1 (ci := 0) rfl 0 (by decide) q233 (fun _ h => h) hX rfl ?_
  refine l_getN X dX1_finishedSlide_4 rfl in_X2 (ci := 1) rfl 3 (by decide) "SlidePark" q171 (fun _ h => h) hS.st rfl ?_
  refine g_iload_n X dX1_finishedSlide_7 rfl rfl ?_
  refine g_callVx X (ct_X3_back hst hS.lF hmL (by omega)) dX1_finishedSlide_8 rfl (lw_V q1365 q1366 q1367 q71 q1368) hyV_X3_back (fun H hH => hL.recv X.2.2.2.2.2.2.2.1 hH (hS.lF) rfl) (fun H hH => hH) ⟨Nat.le_of_ble_eq_true rfl, Nat.le_of_ble_eq_true rfl⟩ ⟨by first | exact Nat.le_of_ble_eq_true rfl | omega | (dsimp only [rmD]; omega), by first | exact Nat.le_of_ble_eq_true rfl | omega | (dsimp only [rmD]; omega)⟩ (Nat.le_of_ble_eq_true rfl) rfl (fun E q => GX.pass X htab (by first | exact Nat.le_of_ble_eq_true rfl | omega) (by first | exact Nat.le_of_ble_eq_true rfl | omega) (fun H h => ⟨1, cH_f (fun g => h.2.1 (hk.mpr g)), h.1, h.2.2⟩)) (fun x0 => ?_)
  obtain ⟨y, y1, y2⟩ := x0
  have y2 := hk.mp y2
  rw [hcF] at y1
  have o1 := hS.2.2.2.2.2.1.2 _ y y1
  dsimp only
  refine g_cast X dX1_finishedSlide_11 rfl q1371 (fun H hH => hL.recv X.2.2.2.2.2.2.2.1 hH (o1) rfl) ?_
  refine l_getN X dX1_finishedSlide_14 rfl in_X9 (ci := 8) rfl 1 (by decide) "SlidePark" q1201 (fun _ h => h) o1 rfl ?_
  refine g_iret X dX1_finishedSlide_17 rfl (by first | exact Nat.le_of_ble_eq_true rfl | omega | (dsimp only [rmD]; omega)) (by first | exact Nat.le_of_ble_eq_true rfl | omega | (dsimp only [rmD]; omega)) (fun H hH => ⟨⟨(Γ, nI (fiS σ (nF σ - 1 - iN u))), Ex.rf, cH_t y2⟩, rfl, hH⟩)
theorem ct_X1_finishMinute (hst : l.stackTraces = false) (hX : isO Γ xx 0 (.ref a :: vs)) (hS : SR Ω Γ0 Γ a A σ) (hB : Bd σ) {u : Int32} : CM Ω l yX1_finishMinute (ws_ yX1_finishMinute cX1_finishMinute 2 (some .int)) 14 1 6 [.ref xx, .int u] (hL Ω Γ) (QO Ω Γ (qFin σ (fiM σ) u)) (xQ nmN (qFin σ (fiM σ) u) (hL Ω Γ)) := by
  obtain ⟨mL, hmL⟩ := hS.lL
  have b1 := hB.1
  have hcF := hS.cF
  have hk : (0 ≤ u ∧ u ≤ nI (laF A).length - 1) = (0 ≤ u ∧ u ≤ nI (nF σ) - 1) := by rw [hcF]
  refine CM.of (L := [some (.ref xx), some (.int u)]) hst (by decide) (Nat.le_of_ble_eq_true rfl) rfl ?_
  intro p e s m below meth c X hnm htab
  refine g_aload_n X dX1_finishMinute_0 rfl rfl ?_
  refine l_get X dX1_finishMinute_1 rfl in_X1 (ci := 0) rfl 0 (by decide) q233 (fun _ h => h) hX rfl ?_
  refine l_getN X dX1_finishMinute_4 rfl in_X2 (ci := 1) rfl 3 (by decide) "SlidePark" q171 (fun _ h => h) hS.st rfl ?_
  refine g_iload_n X dX1_finishMinute_7 rfl rfl ?_
  refine g_callVx X (ct_X3_back hst hS.lF hmL (by omega)) dX1_finishMinute_8 rfl (lw_V q1365 q1366 q1367 q71 q1368) hyV_X3_back (fun H hH => hL.recv X.2.2.2.2.2.2.2.1 hH (hS.lF) rfl) (fun H hH => hH) ⟨Nat.le_of_ble_eq_true rfl, Nat.le_of_ble_eq_true rfl⟩ ⟨by first | exact Nat.le_of_ble_eq_true rfl | omega | (dsimp only [rmD]; omega), by first | exact Nat.le_of_ble_eq_true rfl | omega | (dsimp only [rmD]; omega)⟩ (Nat.le_of_ble_eq_true rfl) rfl (fun E q => GX.pass X htab (by first | exact Nat.le_of_ble_eq_true rfl | omega) (by first | exact Nat.le_of_ble_eq_true rfl | omega) (fun H h => ⟨1, cH_f (fun g => h.2.1 (hk.mpr g)), h.1, h.2.2⟩)) (fun x0 => ?_)
  obtain ⟨y, y1, y2⟩ := x0
  have y2 := hk.mp y2
  rw [hcF] at y1
  have o1 := hS.2.2.2.2.2.1.2 _ y y1
  dsimp only
  refine g_cast X dX1_finishMinute_11 rfl q1371 (fun H hH => hL.recv X.2.2.2.2.2.2.2.1 hH (o1) rfl) ?_
  refine l_getN X dX1_finishMinute_14 rfl in_X9 (ci := 8) rfl 2 (by decide) "SlidePark" q1204 (fun _ h => h) o1 rfl ?_
  refine g_iret X dX1_finishMinute_17 rfl (by first | exact Nat.le_of_ble_eq_true rfl | omega | (dsimp only [rmD]; omega)) (by first | exact Nat.le_of_ble_eq_true rfl | omega | (dsimp only [rmD]; omega)) (fun H hH => ⟨⟨(Γ, nI (fiM σ (nF σ - 1 - iN u))), Ex.rf, cH_t y2⟩, rfl, hH⟩)
end F1
section F1b
variable {l : Launch} {Ω : Om} {Γ0 Γ Γ' : LH} {xx a q y : Nat} {A : Ad} {σ : St} {vs : List Value} {m0 : Int32}
set_option maxRecDepth 100000
theorem ct_X1_minute (hst : l.stackTraces = false) (hX : isO Γ xx 0 (.ref a :: vs)) (hS : SR Ω Γ0 Γ a A σ) (hB : Bd σ) : CM Ω l yX1_minute (ws_ yX1_minute cX1_minute 1 (some .int)) 1 0 0 [.ref xx] (hL Ω Γ) (QP (some (.int (nI (sM σ)))) (hL Ω Γ)) nX := by
  refine CM.of (L := [some (.ref xx)]) hst (by decide) (Nat.le_of_ble_eq_true rfl) rfl ?_
  intro p e s m below meth c X hnm htab
  refine g_aload_n X dX1_minute_0 rfl rfl ?_
  refine l_get X dX1_minute_1 rfl in_X1 (ci := 0) rfl 0 (by decide) q233 (fun _ h => h) hX rfl ?_
  refine l_getN X dX1_minute_4 rfl in_X2 (ci := 1) rfl 4 (by decide) "SlidePark" q173 (fun _ h => h) hS.st rfl ?_
  refine g_iret X dX1_minute_7 rfl (by first | exact Nat.le_of_ble_eq_true rfl | omega | (dsimp only [rmD]; omega)) (by first | exact Nat.le_of_ble_eq_true rfl | omega | (dsimp only [rmD]; omega)) (fun H hH => ⟨(), rfl, hH⟩)
theorem ct_X1_splashes (hst : l.stackTraces = false) (hX : isO Γ xx 0 (.ref a :: vs)) (hS : SR Ω Γ0 Γ a A σ) (hB : Bd σ) : CM Ω l yX1_splashes (ws_ yX1_splashes cX1_splashes 1 (some .int)) 1 0 0 [.ref xx] (hL Ω Γ) (QP (some (.int (sP σ))) (hL Ω Γ)) nX := by
  refine CM.of (L := [some (.ref xx)]) hst (by decide) (Nat.le_of_ble_eq_true rfl) rfl ?_
  intro p e s m below meth c X hnm htab
  refine g_aload_n X dX1_splashes_0 rfl rfl ?_
  refine l_get X dX1_splashes_1 rfl in_X1 (ci := 0) rfl 0 (by decide) q233 (fun _ h => h) hX rfl ?_
  refine l_getN X dX1_splashes_4 rfl in_X2 (ci := 1) rfl 7 (by decide) "SlidePark" q179 (fun _ h => h) hS.st rfl ?_
  refine g_iret X dX1_splashes_7 rfl (by first | exact Nat.le_of_ble_eq_true rfl | omega | (dsimp only [rmD]; omega)) (by first | exact Nat.le_of_ble_eq_true rfl | omega | (dsimp only [rmD]; omega)) (fun H hH => ⟨(), rfl, hH⟩)
theorem ct_X1_refundedCoins (hst : l.stackTraces = false) (hX : isO Γ xx 0 (.ref a :: vs)) (hS : SR Ω Γ0 Γ a A σ) (hB : Bd σ) : CM Ω l yX1_refundedCoins (ws_ yX1_refundedCoins cX1_refundedCoins 1 (some .int)) 1 0 0 [.ref xx] (hL Ω Γ) (QP (some (.int (sR σ))) (hL Ω Γ)) nX := by
  refine CM.of (L := [some (.ref xx)]) hst (by decide) (Nat.le_of_ble_eq_true rfl) rfl ?_
  intro p e s m below meth c X hnm htab
  refine g_aload_n X dX1_refundedCoins_0 rfl rfl ?_
  refine l_get X dX1_refundedCoins_1 rfl in_X1 (ci := 0) rfl 0 (by decide) q233 (fun _ h => h) hX rfl ?_
  refine l_getN X dX1_refundedCoins_4 rfl in_X2 (ci := 1) rfl 6 (by decide) "SlidePark" q177 (fun _ h => h) hS.st rfl ?_
  refine g_iret X dX1_refundedCoins_7 rfl (by first | exact Nat.le_of_ble_eq_true rfl | omega | (dsimp only [rmD]; omega)) (by first | exact Nat.le_of_ble_eq_true rfl | omega | (dsimp only [rmD]; omega)) (fun H hH => ⟨(), rfl, hH⟩)
theorem ct_X1_officeCoins (hst : l.stackTraces = false) (hX : isO Γ xx 0 (.ref a :: vs)) (hS : SR Ω Γ0 Γ a A σ) (hB : Bd σ) : CM Ω l yX1_officeCoins (ws_ yX1_officeCoins cX1_officeCoins 1 (some .int)) 1 0 0 [.ref xx] (hL Ω Γ) (QP (some (.int (sO σ))) (hL Ω Γ)) nX := by
  refine CM.of (L := [some (.ref xx)]) hst (by decide) (Nat.le_of_ble_eq_true rfl) rfl ?_
  intro p e s m below meth c X hnm htab
  refine g_aload_n X dX1_officeCoins_0 rfl rfl ?_
  refine l_get X dX1_officeCoins_1 rfl in_X1 (ci := 0) rfl 0 (by decide) q233 (fun _ h => h) hX rfl ?_
  refine l_getN X dX1_officeCoins_4 rfl in_X2 (ci := 1) rfl 5 (by decide) "SlidePark" q175 (fun _ h => h) hS.st rfl ?_
  refine g_iret X dX1_officeCoins_7 rfl (by first | exact Nat.le_of_ble_eq_true rfl | omega | (dsimp only [rmD]; omega)) (by first | exact Nat.le_of_ble_eq_true rfl | omega | (dsimp only [rmD]; omega)) (fun H hH => ⟨(), rfl, hH⟩)
theorem ct_X1_slideCount (hst : l.stackTraces = false) (hX : isO Γ xx 0 (.ref a :: vs)) (hS : SR Ω Γ0 Γ a A σ) (hB : Bd σ) : CM Ω l yX1_slideCount (ws_ yX1_slideCount cX1_slideCount 1 (some .int)) 4 0 0 [.ref xx] (hL Ω Γ) (QP (some (.int (nI (nS σ)))) (hL Ω Γ)) nX := by
  obtain ⟨m9, h9⟩ := hS.lS
  rw [← hS.cS2]
  refine CM.of (L := [some (.ref xx)]) hst (by decide) (Nat.le_of_ble_eq_true rfl) rfl ?_
  intro p e s m below meth c X hnm htab
  refine g_aload_n X dX1_slideCount_0 rfl rfl ?_
  refine l_get X dX1_slideCount_1 rfl in_X1 (ci := 0) rfl 0 (by decide) q233 (fun _ h => h) hX rfl ?_
  refine l_getN X dX1_slideCount_4 rfl in_X2 (ci := 1) rfl 0 (by decide) "SlidePark" q165 (fun _ h => h) hS.st rfl ?_
  refine g_callV X (ct_J2_size hst h9) dX1_slideCount_7 rfl (lw_V q269 q270 q271 q70 q272) hyV_J2_size (fun H hH => hL.recvL X.2.2.2.2.2.2.2.1 hH (h9)) (fun H hH => hH) ⟨Nat.le_of_ble_eq_true rfl, Nat.le_of_ble_eq_true rfl⟩ ⟨by first | exact Nat.le_of_ble_eq_true rfl | omega | (dsimp only [rmD]; omega), by first | exact Nat.le_of_ble_eq_true rfl | omega | (dsimp only [rmD]; omega)⟩ (Nat.le_of_ble_eq_true rfl) rfl (fun x_7 => ?_)
  refine g_iret X dX1_slideCount_10 rfl (by first | exact Nat.le_of_ble_eq_true rfl | omega | (dsimp only [rmD]; omega)) (by first | exact Nat.le_of_ble_eq_true rfl | omega | (dsimp only [rmD]; omega)) (fun H hH => ⟨(), rfl, hH⟩)
theorem ct_X1_guestCount (hst : l.stackTraces = false) (hX : isO Γ xx 0 (.ref a :: vs)) (hS : SR Ω Γ0 Γ a A σ) (hB : Bd σ) : CM Ω l yX1_guestCount (ws_ yX1_guestCount cX1_guestCount 1 (some .int)) 4 0 0 [.ref xx] (hL Ω Γ) (QP (some (.int (nI (nG σ)))) (hL Ω Γ)) nX := by
  obtain ⟨m9, h9⟩ := hS.lG
  rw [← hS.cG]
  refine CM.of (L := [some (.ref xx)]) hst (by decide) (Nat.le_of_ble_eq_true rfl) rfl ?_
  intro p e s m below meth c X hnm htab
  refine g_aload_n X dX1_guestCount_0 rfl rfl ?_
  refine l_get X dX1_guestCount_1 rfl in_X1 (ci := 0) rfl 0 (by decide) q233 (fun _ h => h) hX rfl ?_
  refine l_getN X dX1_guestCount_4 rfl in_X2 (ci := 1) rfl 1 (by decide) "SlidePark" q167 (fun _ h => h) hS.st rfl ?_
  refine g_callV X (ct_J2_size hst h9) dX1_guestCount_7 rfl (lw_V q269 q270 q271 q70 q272) hyV_J2_size (fun H hH => hL.recvL X.2.2.2.2.2.2.2.1 hH (h9)) (fun H hH => hH) ⟨Nat.le_of_ble_eq_true rfl, Nat.le_of_ble_eq_true rfl⟩ ⟨by first | exact Nat.le_of_ble_eq_true rfl | omega | (dsimp only [rmD]; omega), by first | exact Nat.le_of_ble_eq_true rfl | omega | (dsimp only [rmD]; omega)⟩ (Nat.le_of_ble_eq_true rfl) rfl (fun x_7 => ?_)
  refine g_iret X dX1_guestCount_10 rfl (by first | exact Nat.le_of_ble_eq_true rfl | omega | (dsimp only [rmD]; omega)) (by first | exact Nat.le_of_ble_eq_true rfl | omega | (dsimp only [rmD]; omega)) (fun H hH => ⟨(), rfl, hH⟩)
theorem ct_X1_bookingCount (hst : l.stackTraces = false) (hX : isO Γ xx 0 (.ref a :: vs)) (hS : SR Ω Γ0 Γ a A σ) (hB : Bd σ) : CM Ω l yX1_bookingCount (ws_ yX1_bookingCount cX1_bookingCount 1 (some .int)) 4 0 0 [.ref xx] (hL Ω Γ) (QP (some (.int (nI (nB σ)))) (hL Ω Γ)) nX := by
  obtain ⟨m9, h9⟩ := hS.lB
  rw [← hS.cB]
  refine CM.of (L := [some (.ref xx)]) hst (by decide) (Nat.le_of_ble_eq_true rfl) rfl ?_
  intro p e s m below meth c X hnm htab
  refine g_aload_n X dX1_bookingCount_0 rfl rfl ?_
  refine l_get X dX1_bookingCount_1 rfl in_X1 (ci := 0) rfl 0 (by decide) q233 (fun _ h => h) hX rfl ?_
  refine l_getN X dX1_bookingCount_4 rfl in_X2 (ci := 1) rfl 2 (by decide) "SlidePark" q169 (fun _ h => h) hS.st rfl ?_
  refine g_callV X (ct_J2_size hst h9) dX1_bookingCount_7 rfl (lw_V q269 q270 q271 q70 q272) hyV_J2_size (fun H hH => hL.recvL X.2.2.2.2.2.2.2.1 hH (h9)) (fun H hH => hH) ⟨Nat.le_of_ble_eq_true rfl, Nat.le_of_ble_eq_true rfl⟩ ⟨by first | exact Nat.le_of_ble_eq_true rfl | omega | (dsimp only [rmD]; omega), by first | exact Nat.le_of_ble_eq_true rfl | omega | (dsimp only [rmD]; omega)⟩ (Nat.le_of_ble_eq_true rfl) rfl (fun x_7 => ?_)
  refine g_iret X dX1_bookingCount_10 rfl (by first | exact Nat.le_of_ble_eq_true rfl | omega | (dsimp only [rmD]; omega)) (by first | exact Nat.le_of_ble_eq_true rfl | omega | (dsimp only [rmD]; omega)) (fun H hH => ⟨(), rfl, hH⟩)
theorem ct_X1_finishCount (hst : l.stackTraces = false) (hX : isO Γ xx 0 (.ref a :: vs)) (hS : SR Ω Γ0 Γ a A σ) (hB : Bd σ) : CM Ω l yX1_finishCount (ws_ yX1_finishCount cX1_finishCount 1 (some .int)) 6 0 0 [.ref xx] (hL Ω Γ) (QP (some (.int (nI (nF σ)))) (hL Ω Γ)) nX := by
  obtain ⟨m9, h9⟩ := hS.lL
  rw [← hS.cF]
  refine CM.of (L := [some (.ref xx)]) hst (by decide) (Nat.le_of_ble_eq_true rfl) rfl ?_
  intro p e s m below meth c X hnm htab
  refine g_aload_n X dX1_finishCount_0 rfl rfl ?_
  refine l_get X dX1_finishCount_1 rfl in_X1 (ci := 0) rfl 0 (by decide) q233 (fun _ h => h) hX rfl ?_
  refine l_getN X dX1_finishCount_4 rfl in_X2 (ci := 1) rfl 3 (by decide) "SlidePark" q171 (fun _ h => h) hS.st rfl ?_
  refine g_callV X (ct_X3_size hst hS.lF h9) dX1_finishCount_7 rfl (lw_V q460 q461 q462 q71 q463) hyV_X3_size (fun H hH => hL.recv X.2.2.2.2.2.2.2.1 hH (hS.lF) rfl) (fun H hH => hH) ⟨Nat.le_of_ble_eq_true rfl, Nat.le_of_ble_eq_true rfl⟩ ⟨by first | exact Nat.le_of_ble_eq_true rfl | omega | (dsimp only [rmD]; omega), by first | exact Nat.le_of_ble_eq_true rfl | omega | (dsimp only [rmD]; omega)⟩ (Nat.le_of_ble_eq_true rfl) rfl (fun x_7 => ?_)
  refine g_iret X dX1_finishCount_10 rfl (by first | exact Nat.le_of_ble_eq_true rfl | omega | (dsimp only [rmD]; omega)) (by first | exact Nat.le_of_ble_eq_true rfl | omega | (dsimp only [rmD]; omega)) (fun H hH => ⟨(), rfl, hH⟩)
theorem ct_X1_mostWatched (hst : l.stackTraces = false) (hX : isO Γ xx 0 (.ref a :: vs)) (hS : SR Ω Γ0 Γ a A σ) (hB : Bd σ) : CM Ω l yX1_mostWatched (ws_ yX1_mostWatched cX1_mostWatched 1 (some .int)) 12 0 0 [.ref xx] (hL Ω Γ) (QP (some (.int (nI (aWatch σ)))) (hL Ω Γ)) nX := by
  refine CM.of (L := [some (.ref xx)]) hst (by decide) (Nat.le_of_ble_eq_true rfl) rfl ?_
  intro p e s m below meth c X hnm htab
  refine g_aload_n X dX1_mostWatched_0 rfl rfl ?_
  refine l_get X dX1_mostWatched_1 rfl in_X1 (ci := 0) rfl 0 (by decide) q233 (fun _ h => h) hX rfl ?_
  refine g_callV X (ct_X2_mostWatched hst hS hB) dX1_mostWatched_4 rfl (lw_V q285 q286 q287 q67 q288) hyV_X2_mostWatched (fun H hH => hL.recv X.2.2.2.2.2.2.2.1 hH (hS.st) rfl) (fun H hH => hH) ⟨Nat.le_of_ble_eq_true rfl, Nat.le_of_ble_eq_true rfl⟩ ⟨by first | exact Nat.le_of_ble_eq_true rfl | omega | (dsimp only [rmD]; omega), by first | exact Nat.le_of_ble_eq_true rfl | omega | (dsimp only [rmD]; omega)⟩ (Nat.le_of_ble_eq_true rfl) rfl (fun x_4 => ?_)
  refine g_iret X dX1_mostWatched_7 rfl (by first | exact Nat.le_of_ble_eq_true rfl | omega | (dsimp only [rmD]; omega)) (by first | exact Nat.le_of_ble_eq_true rfl | omega | (dsimp only [rmD]; omega)) (fun H hH => ⟨(), rfl, hH⟩)
theorem ct_X1_mostAtOnce (hst : l.stackTraces = false) (hX : isO Γ xx 0 (.ref a :: vs)) (hS : SR Ω Γ0 Γ a A σ) (hB : Bd σ) : CM Ω l yX1_mostAtOnce (ws_ yX1_mostAtOnce cX1_mostAtOnce 1 (some .int)) 12 0 0 [.ref xx] (hL Ω Γ) (QP (some (.int (nI (aOnce σ)))) (hL Ω Γ)) nX := by
  refine CM.of (L := [some (.ref xx)]) hst (by decide) (Nat.le_of_ble_eq_true rfl) rfl ?_
  intro p e s m below meth c X hnm htab
  refine g_aload_n X dX1_mostAtOnce_0 rfl rfl ?_
  refine l_get X dX1_mostAtOnce_1 rfl in_X1 (ci := 0) rfl 0 (by decide) q233 (fun _ h => h) hX rfl ?_
  refine g_callV X (ct_X2_mostAtOnce hst hS hB) dX1_mostAtOnce_4 rfl (lw_V q437 q438 q439 q67 q440) hyV_X2_mostAtOnce (fun H hH => hL.recv X.2.2.2.2.2.2.2.1 hH (hS.st) rfl) (fun H hH => hH) ⟨Nat.le_of_ble_eq_true rfl, Nat.le_of_ble_eq_true rfl⟩ ⟨by first | exact Nat.le_of_ble_eq_true rfl | omega | (dsimp only [rmD]; omega), by first | exact Nat.le_of_ble_eq_true rfl | omega | (dsimp only [rmD]; omega)⟩ (Nat.le_of_ble_eq_true rfl) rfl (fun x_4 => ?_)
  refine g_iret X dX1_mostAtOnce_7 rfl (by first | exact Nat.le_of_ble_eq_true rfl | omega | (dsimp only [rmD]; omega)) (by first | exact Nat.le_of_ble_eq_true rfl | omega | (dsimp only [rmD]; omega)) (fun H hH => ⟨(), rfl, hH⟩)
theorem ct_X1_photoFinishes (hst : l.stackTraces = false) (hX : isO Γ xx 0 (.ref a :: vs)) (hS : SR Ω Γ0 Γ a A σ) (hB : Bd σ) : CM Ω l yX1_photoFinishes (ws_ yX1_photoFinishes cX1_photoFinishes 1 (some .int)) 12 0 0 [.ref xx] (hL Ω Γ) (QP (some (.int (nI (aPho σ)))) (hL Ω Γ)) nX := by
  refine CM.of (L := [some (.ref xx)]) hst (by decide) (Nat.le_of_ble_eq_true rfl) rfl ?_
  intro p e s m below meth c X hnm htab
  refine g_aload_n X dX1_photoFinishes_0 rfl rfl ?_
  refine l_get X dX1_photoFinishes_1 rfl in_X1 (ci := 0) rfl 0 (by decide) q233 (fun _ h => h) hX rfl ?_
  refine g_callV X (ct_X2_photos hst hS hB) dX1_photoFinishes_4 rfl (lw_V q469 q470 q471 q67 q472) hyV_X2_photos (fun H hH => hL.recv X.2.2.2.2.2.2.2.1 hH (hS.st) rfl) (fun H hH => hH) ⟨Nat.le_of_ble_eq_true rfl, Nat.le_of_ble_eq_true rfl⟩ ⟨by first | exact Nat.le_of_ble_eq_true rfl | omega | (dsimp only [rmD]; omega), by first | exact Nat.le_of_ble_eq_true rfl | omega | (dsimp only [rmD]; omega)⟩ (Nat.le_of_ble_eq_true rfl) rfl (fun x_4 => ?_)
  refine g_iret X dX1_photoFinishes_7 rfl (by first | exact Nat.le_of_ble_eq_true rfl | omega | (dsimp only [rmD]; omega)) (by first | exact Nat.le_of_ble_eq_true rfl | omega | (dsimp only [rmD]; omega)) (fun H hH => ⟨(), rfl, hH⟩)
theorem ct_X1_photoFinishesByRuns (hst : l.stackTraces = false) (hX : isO Γ xx 0 (.ref a :: vs)) (hS : SR Ω Γ0 Γ a A σ) (hB : Bd σ) (hF : FS σ) : CM Ω l yX1_photoFinishesByRuns (ws_ yX1_photoFinishesByRuns cX1_photoFinishesByRuns 1 (some .int)) 12 0 0 [.ref xx] (hL Ω Γ) (QP (some (.int (nI (aPho σ)))) (hL Ω Γ)) nX := by
  rw [← runs_eq hF]
  refine CM.of (L := [some (.ref xx)]) hst (by decide) (Nat.le_of_ble_eq_true rfl) rfl ?_
  intro p e s m below meth c X hnm htab
  refine g_aload_n X dX1_photoFinishesByRuns_0 rfl rfl ?_
  refine l_get X dX1_photoFinishesByRuns_1 rfl in_X1 (ci := 0) rfl 0 (by decide) q233 (fun _ h => h) hX rfl ?_
  refine g_callV X (ct_X2_photosByRuns hst hS hB) dX1_photoFinishesByRuns_4 rfl (lw_V q484 q485 q486 q67 q487) hyV_X2_photosByRuns (fun H hH => hL.recv X.2.2.2.2.2.2.2.1 hH (hS.st) rfl) (fun H hH => hH) ⟨Nat.le_of_ble_eq_true rfl, Nat.le_of_ble_eq_true rfl⟩ ⟨by first | exact Nat.le_of_ble_eq_true rfl | omega | (dsimp only [rmD]; omega), by first | exact Nat.le_of_ble_eq_true rfl | omega | (dsimp only [rmD]; omega)⟩ (Nat.le_of_ble_eq_true rfl) rfl (fun x_4 => ?_)
  refine g_iret X dX1_photoFinishesByRuns_7 rfl (by first | exact Nat.le_of_ble_eq_true rfl | omega | (dsimp only [rmD]; omega)) (by first | exact Nat.le_of_ble_eq_true rfl | omega | (dsimp only [rmD]; omega)) (fun H hH => ⟨(), rfl, hH⟩)
theorem ct_X1_mostAtOnceBySweep (hst : l.stackTraces = false) (hX : isO Γ xx 0 (.ref a :: vs)) (hS : SR Ω Γ0 Γ a A σ) (hB : Bd σ) (hN : NE σ) : CM Ω l yX1_mostAtOnceBySweep (ws_ yX1_mostAtOnceBySweep cX1_mostAtOnceBySweep 1 (some .int)) 12 1 140 [.ref xx] (hL Ω Γ) (QV (fun _ : {G : LH // Ex Γ G} => some (.int (nI (aOnce σ)))) (fun G => hL Ω G.1)) nX := by
  rw [← sweep_eq hN hB]
  refine CM.of (L := [some (.ref xx)]) hst (by decide) (Nat.le_of_ble_eq_true rfl) rfl ?_
  intro p e s m below meth c X hnm htab
  refine g_aload_n X dX1_mostAtOnceBySweep_0 rfl rfl ?_
  refine l_get X dX1_mostAtOnceBySweep_1 rfl in_X1 (ci := 0) rfl 0 (by decide) q233 (fun _ h => h) hX rfl ?_
  refine g_callV X (ct_X2_mostAtOnceBySweep hst hS hB hN) dX1_mostAtOnceBySweep_4 rfl (lw_V q452 q453 q454 q67 q455) hyV_X2_mostAtOnceBySweep (fun H hH => hL.recv X.2.2.2.2.2.2.2.1 hH (hS.st) rfl) (fun H hH => hH) ⟨Nat.le_of_ble_eq_true rfl, Nat.le_of_ble_eq_true rfl⟩ ⟨by first | exact Nat.le_of_ble_eq_true rfl | omega | (dsimp only [rmD]; omega), by first | exact Nat.le_of_ble_eq_true rfl | omega | (dsimp only [rmD]; omega)⟩ (Nat.le_of_ble_eq_true rfl) rfl (fun x0 => ?_)
  refine g_iret X dX1_mostAtOnceBySweep_7 rfl (by first | exact Nat.le_of_ble_eq_true rfl | omega | (dsimp only [rmD]; omega)) (by first | exact Nat.le_of_ble_eq_true rfl | omega | (dsimp only [rmD]; omega)) (fun H hH => ⟨x0, rfl, hH⟩)
theorem ct_X1_mostWatchedByTable (hst : l.stackTraces = false) (hX : isO Γ xx 0 (.ref a :: vs)) (hS : SR Ω Γ0 Γ a A σ) (hB : Bd σ) (hD : DJ σ) : CM Ω l yX1_mostWatchedByTable (ws_ yX1_mostWatchedByTable cX1_mostWatchedByTable 1 (some .int)) 22 160 960 [.ref xx] (hL Ω Γ) (QV (fun _ : {G : LH // Ex Γ G} => some (.int (nI (aWatch σ)))) (fun G => hL Ω G.1)) nX := by
  rw [← table_eq hD hB]
  refine CM.of (L := [some (.ref xx)]) hst (by decide) (Nat.le_of_ble_eq_true rfl) rfl ?_
  intro p e s m below meth c X hnm htab
  refine g_aload_n X dX1_mostWatchedByTable_0 rfl rfl ?_
  refine l_get X dX1_mostWatchedByTable_1 rfl in_X1 (ci := 0) rfl 0 (by decide) q233 (fun _ h => h) hX rfl ?_
  refine g_callV X (ct_X2_mostWatchedByTable hst hS hB hD) dX1_mostWatchedByTable_4 rfl (lw_V q313 q314 q315 q67 q316) hyV_X2_mostWatchedByTable (fun H hH => hL.recv X.2.2.2.2.2.2.2.1 hH (hS.st) rfl) (fun H hH => hH) ⟨Nat.le_of_ble_eq_true rfl, Nat.le_of_ble_eq_true rfl⟩ ⟨by first | exact Nat.le_of_ble_eq_true rfl | omega | (dsimp only [rmD]; omega), by first | exact Nat.le_of_ble_eq_true rfl | omega | (dsimp only [rmD]; omega)⟩ (Nat.le_of_ble_eq_true rfl) rfl (fun x0 => ?_)
  refine g_iret X dX1_mostWatchedByTable_7 rfl (by first | exact Nat.le_of_ble_eq_true rfl | omega | (dsimp only [rmD]; omega)) (by first | exact Nat.le_of_ble_eq_true rfl | omega | (dsimp only [rmD]; omega)) (fun H hH => ⟨x0, rfl, hH⟩)
end F1b
