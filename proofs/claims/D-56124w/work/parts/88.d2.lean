/-! STATE: who waits where, the booking that is on, the first free minute -/
section D2
variable {l : Launch} {Ω : Om} {Γ0 Γ Γ' : LH} {a q y : Nat} {A : Ad} {σ : St} {xs : List Nat} {m0 : Int32}
set_option maxRecDepth 100000
/-- the slide in whose queue a guest waits, or -1 -/
def qoI (σ : St) (g : Nat) : Int32 := match qOf σ g with | none => -1 | some i => nI i
theorem qOf_none {g : Nat} (h : ∀ j, j < nS σ → g ∉ slQ σ j) : qOf σ g = none := by
  have h0 := wai_no h
  unfold wai at h0
  cases e : qOf σ g with
  | none => rfl
  | some i => rw [e] at h0; simp at h0
theorem getD_S {i : Nat} (h : i < nS σ) : (sS σ).getD i (0, 0, 0, []) = (sS σ)[i]'h := by
  rw [List.getD_eq_getElem?_getD, List.getElem?_eq_getElem h]; rfl
theorem qOf_some {g k : Nat} (hk : k < nS σ) (hm : g ∈ slQ σ k) (h : ∀ j, j < k → g ∉ slQ σ j) : qOf σ g = some k := by
  unfold qOf
  rw [List.findIdx?_eq_some_iff_getElem]
  refine ⟨hk, ?_, fun j hj => ?_⟩
  · have := getD_S hk
    unfold slQ at hm
    rw [this] at hm
    exact List.contains_iff_mem.mpr hm
  · have hj2 : j < nS σ := by omega
    have h2 := h j hj
    have := getD_S hj2
    unfold slQ at h2
    rw [this] at h2
    intro hc
    exact h2 (List.contains_iff_mem.mp hc)
theorem ct_X2_queueOf (hst : l.stackTraces = false) (hS : SR Ω Γ0 Γ a A σ) (hB : Bd σ) {g0 : Nat} (hg : g0 < nG σ) : CM Ω l yX2_queueOf (ws_ yX2_queueOf cX2_queueOf 3 (some .int)) 14 0 0 [.ref a, .int (nI g0)] (hL Ω Γ) (QP (some (.int (qoI σ g0))) (hL Ω Γ)) nX := by
  obtain ⟨mS, hmS⟩ := hS.lS
  have b1 := hB.1
  have hcS := hS.cS2
  refine CM.of (L := [some (.ref a), some (.int (nI g0)), none]) hst (by decide) (Nat.le_of_ble_eq_true rfl) rfl ?_
  intro p e s m below meth c X hnm htab
  refine g_iconst X dX2_queueOf_0 rfl (v := (nI 0)) rfl ?_
  refine g_istore_n X dX2_queueOf_1 rfl (by decide) rfl rfl ?_
  refine GJ.loc ((fun (k : Nat) => [some (.ref a), some (.int (nI g0)), some (.int (nI k))]) 0) (lvle_c rfl (lvle_c rfl (lvle_c rfl lvle_e))) ?_
  refine GJ.loopP (fun (k : Nat) => [some (.ref a), some (.int (nI g0)), some (.int (nI k))]) (fun (k : Nat) => (nS σ - k)) (fun (k : Nat) => (k ≤ nS σ ∧ ∀ j, j < k → g0 ∉ slQ σ j)) 0 ⟨Nat.zero_le _, fun j h => absurd h (Nat.not_lt_zero j)⟩ ?_
  intro k hk ih
  obtain ⟨k1, k2⟩ := hk
  refine g_iload_n X dX2_queueOf_2 rfl rfl ?_
  refine g_aload_n X dX2_queueOf_3 rfl rfl ?_
  refine l_get X dX2_queueOf_4 rfl in_X2 (ci := 1) rfl 0 (by decide) q164 (fun _ h => h) hS.st rfl ?_
  refine g_callV X (ct_J2_size hst hmS) dX2_queueOf_7 rfl (lw_V q293 q270 q271 q70 q272) hyV_J2_size (fun H hH => hL.recvL X.2.2.2.2.2.2.2.1 hH (hmS)) (fun H hH => hH) ⟨Nat.le_of_ble_eq_true rfl, Nat.le_of_ble_eq_true rfl⟩ ⟨by first | exact Nat.le_of_ble_eq_true rfl | (dsimp only [rmD]; omega), by first | exact Nat.le_of_ble_eq_true rfl | (dsimp only [rmD]; omega)⟩ (Nat.le_of_ble_eq_true rfl) rfl (fun x_7 => ?_)
  refine g_icmp_ge (tgt := 45) X dX2_queueOf_10 rfl (by decide) (fun c_10 => ?_) (fun c_10 => ?_)
  · rw [nI_leI (by omega) (by omega)] at c_10
    have hn : qoI σ g0 = -1 := by unfold qoI; rw [qOf_none (fun j hj => k2 j (by omega))]
    rw [hn]
    refine g_iconst X dX2_queueOf_45 rfl (v := (-1)) rfl ?_
    refine g_iret X dX2_queueOf_46 rfl (by first | exact Nat.le_of_ble_eq_true rfl | (dsimp only [rmD]; omega)) (by first | exact Nat.le_of_ble_eq_true rfl | (dsimp only [rmD]; omega)) (fun H hH => ⟨(), rfl, hH⟩)
  · rw [nI_leI (by omega) (by omega)] at c_10
    have hlt : k < nS σ := by omega
    obtain ⟨x, -, x2, x3, x4, mx, x5⟩ := hS.sl hlt
    have hl := (hB.2.1 k hlt).2.2.2.2.2
    have hm := hB.2.2.1 k hlt
    refine g_aload_n X dX2_queueOf_13 rfl rfl ?_
    refine l_get X dX2_queueOf_14 rfl in_X2 (ci := 1) rfl 0 (by decide) q164 (fun _ h => h) hS.st rfl ?_
    refine g_iload_n X dX2_queueOf_17 rfl rfl ?_
    refine g_callV X (ct_J2_get hst hmS x2 (by omega)) dX2_queueOf_18 rfl (lw_V q294 q295 q296 q70 q297) hyV_J2_get (fun H hH => hL.recvL X.2.2.2.2.2.2.2.1 hH (hmS)) (fun H hH => hH) ⟨Nat.le_of_ble_eq_true rfl, Nat.le_of_ble_eq_true rfl⟩ ⟨by first | exact Nat.le_of_ble_eq_true rfl | (dsimp only [rmD]; omega), by first | exact Nat.le_of_ble_eq_true rfl | (dsimp only [rmD]; omega)⟩ (Nat.le_of_ble_eq_true rfl) rfl (fun x_18 => ?_)
    refine g_cast X dX2_queueOf_21 rfl q809 (fun H hH => hL.recv X.2.2.2.2.2.2.2.1 hH (x3) rfl) ?_
    refine l_getN X dX2_queueOf_24 rfl in_X7 (ci := 6) rfl 2 (by decide) "SlidePark" q736 (fun _ h => h) x3 rfl ?_
    refine g_iload_n X dX2_queueOf_27 rfl rfl ?_
    refine g_callS X (ct_J21_valueOf hst (by omega)) dX2_queueOf_28 rfl (lw_S q1023 q1024 q96 q1025) hyS_J21_valueOf (fun H hH => hH) ⟨Nat.le_of_ble_eq_true rfl, Nat.le_of_ble_eq_true rfl⟩ ⟨by first | exact Nat.le_of_ble_eq_true rfl | (dsimp only [rmD]; omega), by first | exact Nat.le_of_ble_eq_true rfl | (dsimp only [rmD]; omega)⟩ (Nat.le_of_ble_eq_true rfl) rfl (fun x_28 => ?_)
    refine g_callV X (ct_X6_contains hst x4 x5 (by omega) (fun n hn => by have := hm n hn; omega) (by omega)) dX2_queueOf_31 rfl (lw_V q1043 q1044 q1045 q84 q1046) hyV_X6_contains (fun H hH => hL.recv X.2.2.2.2.2.2.2.1 hH (x4) rfl) (fun H hH => hH) ⟨Nat.le_of_ble_eq_true rfl, Nat.le_of_ble_eq_true rfl⟩ ⟨by first | exact Nat.le_of_ble_eq_true rfl | (dsimp only [rmD]; omega), by first | exact Nat.le_of_ble_eq_true rfl | (dsimp only [rmD]; omega)⟩ (Nat.le_of_ble_eq_true rfl) rfl (fun x_31 => ?_)
    refine g_if_eq (tgt := 39) X dX2_queueOf_34 rfl (by decide) (fun c_34 => ?_) (fun c_34 => ?_)
    · have hno := bI_0.mp c_34
      refine g_iinc X dX2_queueOf_39 rfl rfl (by first | exact nI_1 _ | rfl) (by decide) rfl rfl ?_
      refine g_goto (tgt := 2) X dX2_queueOf_42 rfl (by decide) ?_
      refine GJ.loc [some (.ref a), some (.int (nI g0)), some (.int (nI (k + 1)))] (lvle_c rfl (lvle_c rfl (lvle_c rfl lvle_e))) ?_
      exact ih (k + 1) ⟨by omega, fun j hj => if e : j = k then by rw [e]; exact hno else k2 j (by omega)⟩ (by omega)
    · have hy := bI_n0.mp c_34
      have hn : qoI σ g0 = nI k := by unfold qoI; rw [qOf_some hlt hy k2]
      rw [hn]
      refine g_iload_n X dX2_queueOf_37 rfl rfl ?_
      refine g_iret X dX2_queueOf_38 rfl (by first | exact Nat.le_of_ble_eq_true rfl | (dsimp only [rmD]; omega)) (by first | exact Nat.le_of_ble_eq_true rfl | (dsimp only [rmD]; omega)) (fun H hH => ⟨(), rfl, hH⟩)
/-- the booking of a slide that is on in a minute: its place -/
abbrev onP (σ : St) (s0 t k : Nat) : Prop := boS σ k = s0 ∧ boT σ k ≤ t ∧ t < boE σ k
theorem ct_X2_bookingAt (hst : l.stackTraces = false) (hS : SR Ω Γ0 Γ a A σ) (hB : Bd σ) {s0 t : Nat} (hs : s0 < nS σ) (ht : t ≤ 200000) : CM Ω l yX2_bookingAt (ws_ yX2_bookingAt cX2_bookingAt 4 (some (.object "SlidePark$Booking"))) 8 0 0 [.ref a, .int (nI s0), .int (nI t)] (hL Ω Γ) (QV (fun x : {x : Option (Nat × Nat) // (match x with | none => ¬ aBusy σ s0 t | some y => y.1 < nB σ ∧ onP σ s0 t y.1 ∧ (laB A)[y.1]? = some y.2)} => some (va_rf (x.1.map (·.2)))) (fun _ => hL Ω Γ)) nX := by
  obtain ⟨mB, hmB⟩ := hS.lB
  have b1 := hB.1
  have hcB := hS.cB
  refine CM.of (L := [some (.ref a), some (.int (nI s0)), some (.int (nI t)), none]) hst (by decide) (Nat.le_of_ble_eq_true rfl) rfl ?_
  intro p e s m below meth c X hnm htab
  refine g_iconst X dX2_bookingAt_0 rfl (v := (nI 0)) rfl ?_
  refine g_istore_n X dX2_bookingAt_1 rfl (by decide) rfl rfl ?_
  refine GJ.loc ((fun (k : Nat) => [some (.ref a), some (.int (nI s0)), some (.int (nI t)), some (.int (nI k))]) 0) (lvle_c rfl (lvle_c rfl (lvle_c rfl (lvle_c rfl lvle_e)))) ?_
  refine GJ.loopP (fun (k : Nat) => [some (.ref a), some (.int (nI s0)), some (.int (nI t)), some (.int (nI k))]) (fun (k : Nat) => (nB σ - k)) (fun (k : Nat) => (k ≤ nB σ ∧ ∀ j, j < k → ¬ onP σ s0 t j)) 0 ⟨Nat.zero_le _, fun j h => absurd h (Nat.not_lt_zero j)⟩ ?_
  intro k hk ih
  obtain ⟨k1, k2⟩ := hk
  refine g_iload_n X dX2_bookingAt_2 rfl rfl ?_
  refine g_aload_n X dX2_bookingAt_3 rfl rfl ?_
  refine l_get X dX2_bookingAt_4 rfl in_X2 (ci := 1) rfl 2 (by decide) q168 (fun _ h => h) hS.st rfl ?_
  refine g_callV X (ct_J2_size hst hmB) dX2_bookingAt_7 rfl (lw_V q293 q270 q271 q70 q272) hyV_J2_size (fun H hH => hL.recvL X.2.2.2.2.2.2.2.1 hH (hmB)) (fun H hH => hH) ⟨Nat.le_of_ble_eq_true rfl, Nat.le_of_ble_eq_true rfl⟩ ⟨by first | exact Nat.le_of_ble_eq_true rfl | (dsimp only [rmD]; omega), by first | exact Nat.le_of_ble_eq_true rfl | (dsimp only [rmD]; omega)⟩ (Nat.le_of_ble_eq_true rfl) rfl (fun x_7 => ?_)
  refine g_icmp_ge (tgt := 67) X dX2_bookingAt_10 rfl (by decide) (fun c_10 => ?_) (fun c_10 => ?_)
  · rw [nI_leI (by omega) (by omega)] at c_10
    have hn := aN_no k2 (n := nB σ) (by omega)
    refine g_null X dX2_bookingAt_67 rfl ?_
    refine g_aret X (Or.inl ⟨_, rfl⟩) (Or.inl rfl) dX2_bookingAt_68 rfl (by first | exact Nat.le_of_ble_eq_true rfl | (dsimp only [rmD]; omega)) (by first | exact Nat.le_of_ble_eq_true rfl | (dsimp only [rmD]; omega)) (fun H hH => ⟨⟨none, hn⟩, rfl, hH⟩)
  · rw [nI_leI (by omega) (by omega)] at c_10
    have hlt : k < nB σ := by omega
    obtain ⟨yb, y1, y2⟩ := hS.bo hlt
    have bb := hB.bo hlt
    have next : ¬ onP σ s0 t k → GJ Ω p l e (rmD 8 0 0) s m #[.ref a, .int (nI s0), .int (nI t)] below meth c 4 (MM Ω below (QV (fun x : {x : Option (Nat × Nat) // (match x with | none => ¬ aBusy σ s0 t | some y => y.1 < nB σ ∧ onP σ s0 t y.1 ∧ (laB A)[y.1]? = some y.2)} => some (va_rf (x.1.map (·.2)))) (fun _ => hL Ω Γ)) nX #[.ref a, .int (nI s0), .int (nI t)] s 0 0) (hL Ω Γ) 0 0 61 [some (.ref a), some (.int (nI s0)), some (.int (nI t)), some (.int (nI k))] [] := by
      intro hno
      refine g_iinc X dX2_bookingAt_61 rfl rfl (by first | exact nI_1 _ | rfl) (by decide) rfl rfl ?_
      refine g_goto (tgt := 2) X dX2_bookingAt_64 rfl (by decide) ?_
      refine GJ.loc [some (.ref a), some (.int (nI s0)), some (.int (nI t)), some (.int (nI (k + 1)))] (lvle_c rfl (lvle_c rfl (lvle_c rfl (lvle_c rfl lvle_e)))) ?_
      exact ih (k + 1) ⟨by omega, fun j hj => if e : j = k then by rw [e]; exact hno else k2 j (by omega)⟩ (by omega)
    refine g_aload_n X dX2_bookingAt_13 rfl rfl ?_
    refine l_get X dX2_bookingAt_14 rfl in_X2 (ci := 1) rfl 2 (by decide) q168 (fun _ h => h) hS.st rfl ?_
    refine g_iload_n X dX2_bookingAt_17 rfl rfl ?_
    refine g_callV X (ct_J2_get hst hmB y1 (by omega)) dX2_bookingAt_18 rfl (lw_V q294 q295 q296 q70 q297) hyV_J2_get (fun H hH => hL.recvL X.2.2.2.2.2.2.2.1 hH (hmB)) (fun H hH => hH) ⟨Nat.le_of_ble_eq_true rfl, Nat.le_of_ble_eq_true rfl⟩ ⟨by first | exact Nat.le_of_ble_eq_true rfl | (dsimp only [rmD]; omega), by first | exact Nat.le_of_ble_eq_true rfl | (dsimp only [rmD]; omega)⟩ (Nat.le_of_ble_eq_true rfl) rfl (fun x_18 => ?_)
    refine g_cast X dX2_bookingAt_21 rfl q308 (fun H hH => hL.recv X.2.2.2.2.2.2.2.1 hH (y2) rfl) ?_
    refine l_getN X dX2_bookingAt_24 rfl in_X8 (ci := 7) rfl 1 (by decide) "SlidePark" q972 (fun _ h => h) y2 rfl ?_
    refine g_iload_n X dX2_bookingAt_27 rfl rfl ?_
    refine g_icmp_ne (tgt := 61) X dX2_bookingAt_28 rfl (by decide) (fun c_28 => ?_) (fun c_28 => ?_)
    · rw [nI_eq (by omega) (by omega)] at c_28
      exact next (fun g => c_28 g.1)
    · rw [nI_eq (by omega) (by omega)] at c_28
      refine g_aload_n X dX2_bookingAt_31 rfl rfl ?_
      refine l_get X dX2_bookingAt_32 rfl in_X2 (ci := 1) rfl 2 (by decide) q168 (fun _ h => h) hS.st rfl ?_
      refine g_iload_n X dX2_bookingAt_35 rfl rfl ?_
      refine g_callV X (ct_J2_get hst hmB y1 (by omega)) dX2_bookingAt_36 rfl (lw_V q294 q295 q296 q70 q297) hyV_J2_get (fun H hH => hL.recvL X.2.2.2.2.2.2.2.1 hH (hmB)) (fun H hH => hH) ⟨Nat.le_of_ble_eq_true rfl, Nat.le_of_ble_eq_true rfl⟩ ⟨by first | exact Nat.le_of_ble_eq_true rfl | (dsimp only [rmD]; omega), by first | exact Nat.le_of_ble_eq_true rfl | (dsimp only [rmD]; omega)⟩ (Nat.le_of_ble_eq_true rfl) rfl (fun x_36 => ?_)
      refine g_cast X dX2_bookingAt_39 rfl q308 (fun H hH => hL.recv X.2.2.2.2.2.2.2.1 hH (y2) rfl) ?_
      refine g_iload_n X dX2_bookingAt_42 rfl rfl ?_
      refine g_callV X (ct_X8_isAt hst (by omega) (by omega) (by omega) (by omega) y2) dX2_bookingAt_43 rfl (lw_V q441 q442 q443 q94 q444) hyV_X8_isAt (fun H hH => hL.recv X.2.2.2.2.2.2.2.1 hH (y2) rfl) (fun H hH => hH) ⟨Nat.le_of_ble_eq_true rfl, Nat.le_of_ble_eq_true rfl⟩ ⟨by first | exact Nat.le_of_ble_eq_true rfl | (dsimp only [rmD]; omega), by first | exact Nat.le_of_ble_eq_true rfl | (dsimp only [rmD]; omega)⟩ (Nat.le_of_ble_eq_true rfl) rfl (fun x_43 => ?_)
      refine g_if_eq (tgt := 61) X dX2_bookingAt_46 rfl (by decide) (fun c_46 => ?_) (fun c_46 => ?_)
      · exact next (fun g => bI_0.mp c_46 g.2)
      · have hp := bI_n0.mp c_46
        refine g_aload_n X dX2_bookingAt_49 rfl rfl ?_
        refine l_get X dX2_bookingAt_50 rfl in_X2 (ci := 1) rfl 2 (by decide) q168 (fun _ h => h) hS.st rfl ?_
        refine g_iload_n X dX2_bookingAt_53 rfl rfl ?_
        refine g_callV X (ct_J2_get hst hmB y1 (by omega)) dX2_bookingAt_54 rfl (lw_V q294 q295 q296 q70 q297) hyV_J2_get (fun H hH => hL.recvL X.2.2.2.2.2.2.2.1 hH (hmB)) (fun H hH => hH) ⟨Nat.le_of_ble_eq_true rfl, Nat.le_of_ble_eq_true rfl⟩ ⟨by first | exact Nat.le_of_ble_eq_true rfl | (dsimp only [rmD]; omega), by first | exact Nat.le_of_ble_eq_true rfl | (dsimp only [rmD]; omega)⟩ (Nat.le_of_ble_eq_true rfl) rfl (fun x_54 => ?_)
        refine g_cast X dX2_bookingAt_57 rfl q308 (fun H hH => hL.recv X.2.2.2.2.2.2.2.1 hH (y2) rfl) ?_
        refine g_aret X (Or.inl ⟨_, rfl⟩) (Or.inr ⟨_, rfl⟩) dX2_bookingAt_60 rfl (by first | exact Nat.le_of_ble_eq_true rfl | (dsimp only [rmD]; omega)) (by first | exact Nat.le_of_ble_eq_true rfl | (dsimp only [rmD]; omega)) (fun H hH => ⟨⟨some (k, yb), hlt, ⟨c_28, hp⟩, y1⟩, rfl, hH⟩)
/-- the first free minute, or -1 -/
noncomputable def ffI (σ : St) (s0 t n : Nat) : Int32 := match aFF σ s0 t n with | none => -1 | some u => nI u
theorem ct_X2_firstFree (hst : l.stackTraces = false) (hS : SR Ω Γ0 Γ a A σ) (hB : Bd σ) {s0 t : Nat} (hs : s0 < nS σ) (ht : t ≤ sM σ + 120) : CM Ω l yX2_firstFree (ws_ yX2_firstFree cX2_firstFree 4 (some .int)) 10 0 0 [.ref a, .int (nI s0), .int (nI t)] (hL Ω Γ) (QP (some (.int (ffI σ s0 t (sM σ + 121 - t)))) (hL Ω Γ)) nX := by
  have b1 := hB.1
  have hfi := fun t => free_iff1 (s0 := s0) (t := t) hB
  refine CM.of (L := [some (.ref a), some (.int (nI s0)), some (.int (nI t)), none]) hst (by decide) (Nat.le_of_ble_eq_true rfl) rfl ?_
  intro p e s m below meth c X hnm htab
  refine g_iload_n X dX2_firstFree_0 rfl rfl ?_
  refine g_istore_n X dX2_firstFree_1 rfl (by decide) rfl rfl ?_
  refine GJ.loc ((fun (k : Nat) => [some (.ref a), some (.int (nI s0)), some (.int (nI t)), some (.int (nI k))]) t) (lvle_c rfl (lvle_c rfl (lvle_c rfl (lvle_c rfl lvle_e)))) ?_
  refine GJ.loopP (fun (k : Nat) => [some (.ref a), some (.int (nI s0)), some (.int (nI t)), some (.int (nI k))]) (fun (k : Nat) => (sM σ + 121 - k)) (fun (k : Nat) => (t ≤ k ∧ k ≤ sM σ + 121 ∧ ffI σ s0 t (sM σ + 121 - t) = ffI σ s0 k (sM σ + 121 - k))) t ⟨Nat.le_refl _, by omega, rfl⟩ ?_
  intro k hk ih
  obtain ⟨k1, k2, k3⟩ := hk
  rw [k3]
  refine g_iload_n X dX2_firstFree_2 rfl rfl ?_
  refine g_aload_n X dX2_firstFree_3 rfl rfl ?_
  refine l_get X dX2_firstFree_4 rfl in_X2 (ci := 1) rfl 4 (by decide) q172 (fun _ h => h) hS.st rfl ?_
  refine g_bipush X dX2_firstFree_7 rfl (v := (nI 120)) (by decide) ?_
  refine g_iadd X dX2_firstFree_9 rfl (by first | exact nI_add _ _ | rfl) ?_
  refine g_icmp_gt (tgt := 30) X dX2_firstFree_10 rfl (by decide) (fun c_10 => ?_) (fun c_10 => ?_)
  · rw [nI_ltI (by omega) (by omega)] at c_10
    rw [show sM σ + 121 - k = 0 by omega]
    refine g_iconst X dX2_firstFree_30 rfl (v := (-1)) rfl ?_
    refine g_iret X dX2_firstFree_31 rfl (by first | exact Nat.le_of_ble_eq_true rfl | (dsimp only [rmD]; omega)) (by first | exact Nat.le_of_ble_eq_true rfl | (dsimp only [rmD]; omega)) (fun H hH => ⟨(), rfl, hH⟩)
  · rw [nI_ltI (by omega) (by omega)] at c_10
    obtain ⟨n, hn⟩ : ∃ n, sM σ + 121 - k = n + 1 := ⟨sM σ + 120 - k, by omega⟩
    rw [hn] at k3 ⊢
    have e1 : aFF σ s0 k (n + 1) = cH (aCl σ (-1) s0 k) (aFF σ s0 (k + 1) n) (some k) := rfl
    refine g_aload_n X dX2_firstFree_13 rfl rfl ?_
    refine g_iload_n X dX2_firstFree_14 rfl rfl ?_
    refine g_iload_n X dX2_firstFree_15 rfl rfl ?_
    refine g_callV X (ct_X2_isSlideFree hst hS hB hs (by omega)) dX2_firstFree_16 rfl (lw_V q925 q926 q927 q67 q928) hyV_X2_isSlideFree (fun H hH => hL.recv X.2.2.2.2.2.2.2.1 hH (hS.st) rfl) (fun H hH => hH) ⟨Nat.le_of_ble_eq_true rfl, Nat.le_of_ble_eq_true rfl⟩ ⟨by first | exact Nat.le_of_ble_eq_true rfl | (dsimp only [rmD]; omega), by first | exact Nat.le_of_ble_eq_true rfl | (dsimp only [rmD]; omega)⟩ (Nat.le_of_ble_eq_true rfl) rfl (fun x_16 => ?_)
    refine g_if_eq (tgt := 24) X dX2_firstFree_19 rfl (by decide) (fun c_19 => ?_) (fun c_19 => ?_)
    · have hno : aCl σ (-1) s0 k := Classical.not_not.mp (fun g => bI_0.mp c_19 ((hfi k).mpr g))
      have e2 : ffI σ s0 k (n + 1) = ffI σ s0 (k + 1) n := by unfold ffI; rw [e1, cH_t hno]
      rw [e2] at k3 ⊢
      refine g_iinc X dX2_firstFree_24 rfl rfl (by first | exact nI_1 _ | rfl) (by decide) rfl rfl ?_
      refine g_goto (tgt := 2) X dX2_firstFree_27 rfl (by decide) ?_
      refine GJ.loc [some (.ref a), some (.int (nI s0)), some (.int (nI t)), some (.int (nI (k + 1)))] (lvle_c rfl (lvle_c rfl (lvle_c rfl (lvle_c rfl lvle_e)))) ?_
      rw [← k3]
      exact ih (k + 1) ⟨by omega, by omega, by rw [k3, show sM σ + 121 - (k + 1) = n by omega]⟩ (by omega)
    · have hy := (hfi k).mp (bI_n0.mp c_19)
      have e2 : ffI σ s0 k (n + 1) = nI k := by unfold ffI; rw [e1, cH_f hy]
      rw [e2]
      refine g_iload_n X dX2_firstFree_22 rfl rfl ?_
      refine g_iret X dX2_firstFree_23 rfl (by first | exact Nat.le_of_ble_eq_true rfl | (dsimp only [rmD]; omega)) (by first | exact Nat.le_of_ble_eq_true rfl | (dsimp only [rmD]; omega)) (fun H hH => ⟨(), rfl, hH⟩)
end D2
