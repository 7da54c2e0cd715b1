/-! STATE: items, is a slide free, is a guest free -/
section D1
variable {l : Launch} {Ω : Om} {Γ0 Γ Γ' : LH} {a q y : Nat} {A : Ad} {σ : St} {xs : List Nat} {m0 : Int32}
set_option maxRecDepth 100000
theorem Bd.bo {σ : St} (hB : Bd σ) {k : Nat} (hk : k < nB σ) : boG σ k < nG σ ∧ boS σ k < nS σ ∧ boT σ k ≤ sM σ + 120 ∧ boE σ k = boT σ k + slD σ (boS σ k) ∧ 1 ≤ slD σ (boS σ k) ∧ slD σ (boS σ k) ≤ 9 :=
  ⟨(hB.2.2.2.2.1 k hk).1, (hB.2.2.2.2.1 k hk).2.1, (hB.2.2.2.2.1 k hk).2.2, rfl, (hB.2.1 _ (hB.2.2.2.2.1 k hk).2.1).1, (hB.2.1 _ (hB.2.2.2.2.1 k hk).2.1).2.1⟩
theorem map_ix {la : List (Nat × Nat × Nat)} {i y : Nat} (h : (la.map (·.1))[i]? = some y) : ∃ x, la[i]? = some x ∧ x.1 = y := by
  rw [List.getElem?_map] at h
  obtain ⟨x, h1, h2⟩ := Option.map_eq_some_iff.mp h
  exact ⟨x, h1, h2⟩
theorem aN_no {P : Nat → Prop} {n k : Nat} (h : ∀ j, j < k → ¬ P j) (hn : n ≤ k) : ¬ aN P n := fun ⟨j, h1, h2⟩ => h j (by omega) h2
theorem ct_X2_slide (hst : l.stackTraces = false) (hS : SR Ω Γ0 Γ a A σ) (h4 : nS σ ≤ 4) {x : Int32} : CM Ω l yX2_slide (ws_ yX2_slide cX2_slide 2 (some (.object "SlidePark$Slide"))) 12 1 6 [.ref a, .int x] (hL Ω Γ) (QV (fun y : {y : Nat × Nat × Nat // (laS A)[iN x]? = some y ∧ okS σ x} => some (.ref y.1.1)) (fun _ => hL Ω Γ)) (xE "java/lang/IndexOutOfBoundsException" (¬ okS σ x) (hL Ω Γ)) := by
  obtain ⟨mS, hmS⟩ := hS.lS
  have hc := hS.cS2
  have hk : (0 ≤ x ∧ x ≤ nI ((laS A).map (·.1)).length - 1) = okS σ x := by rw [hc]
  have hlen : ((laS A).map (·.1)).length ≤ 1000 := by omega
  refine CM.of (L := [some (.ref a), some (.int x)]) hst (by decide) (Nat.le_of_ble_eq_true rfl) rfl ?_
  intro p e s m below meth c X hnm htab
  refine g_aload_n X dX2_slide_0 rfl rfl ?_
  refine l_get X dX2_slide_1 rfl in_X2 (ci := 1) rfl 0 (by decide) q164 (fun _ h => h) hS.st rfl ?_
  refine g_iload_n X dX2_slide_4 rfl rfl ?_
  refine g_callSNx X "SlidePark" (ct_X1_item hst hmS hlen) dX2_slide_5 rfl q893 q66 q891 q892 hyS_X1_item (fun H hH => hH) ⟨Nat.le_of_ble_eq_true rfl, Nat.le_of_ble_eq_true rfl⟩ ⟨by first | exact Nat.le_of_ble_eq_true rfl | (dsimp only [rmD]; omega), by first | exact Nat.le_of_ble_eq_true rfl | (dsimp only [rmD]; omega)⟩ (Nat.le_of_ble_eq_true rfl) rfl (fun E q => GX.pass X htab (by first | exact Nat.le_of_ble_eq_true rfl | omega) (by first | exact Nat.le_of_ble_eq_true rfl | omega) (fun H h => ⟨h.1, fun g => h.2.1 (hk.mpr g), h.2.2⟩)) (fun x0 => ?_)
  obtain ⟨y0, h1, h2⟩ := x0
  have h2 := hk.mp h2
  obtain ⟨x, h3, h4⟩ := map_ix h1
  have h5 := (hS.2.2.1.2 _ x h3).1.1
  dsimp only
  subst h4
  refine g_cast X dX2_slide_8 rfl q809 (fun H hH => hL.recv X.2.2.2.2.2.2.2.1 hH (h5) rfl) ?_
  refine g_aret X (Or.inl ⟨_, rfl⟩) (Or.inr ⟨_, rfl⟩) dX2_slide_11 rfl (by first | exact Nat.le_of_ble_eq_true rfl | (dsimp only [rmD]; omega)) (by first | exact Nat.le_of_ble_eq_true rfl | (dsimp only [rmD]; omega)) (fun H hH => ⟨⟨x, h3, h2⟩, rfl, hH⟩)
theorem ct_X2_guest (hst : l.stackTraces = false) (hS : SR Ω Γ0 Γ a A σ) (h4 : nG σ ≤ 10) {x : Int32} : CM Ω l yX2_guest (ws_ yX2_guest cX2_guest 2 (some (.object "SlidePark$Guest"))) 12 1 6 [.ref a, .int x] (hL Ω Γ) (QV (fun y : {y : Nat // (laG A)[iN x]? = some y ∧ okG σ x} => some (.ref y.1)) (fun _ => hL Ω Γ)) (xE "java/lang/IndexOutOfBoundsException" (¬ okG σ x) (hL Ω Γ)) := by
  obtain ⟨mS, hmS⟩ := hS.lG
  have hc := hS.cG
  have hk : (0 ≤ x ∧ x ≤ nI (laG A).length - 1) = okG σ x := by rw [hc]
  have hlen : (laG A).length ≤ 1000 := by omega
  refine CM.of (L := [some (.ref a), some (.int x)]) hst (by decide) (Nat.le_of_ble_eq_true rfl) rfl ?_
  intro p e s m below meth c X hnm htab
  refine g_aload_n X dX2_guest_0 rfl rfl ?_
  refine l_get X dX2_guest_1 rfl in_X2 (ci := 1) rfl 1 (by decide) q166 (fun _ h => h) hS.st rfl ?_
  refine g_iload_n X dX2_guest_4 rfl rfl ?_
  refine g_callSNx X "SlidePark" (ct_X1_item hst hmS hlen) dX2_guest_5 rfl q893 q66 q891 q892 hyS_X1_item (fun H hH => hH) ⟨Nat.le_of_ble_eq_true rfl, Nat.le_of_ble_eq_true rfl⟩ ⟨by first | exact Nat.le_of_ble_eq_true rfl | (dsimp only [rmD]; omega), by first | exact Nat.le_of_ble_eq_true rfl | (dsimp only [rmD]; omega)⟩ (Nat.le_of_ble_eq_true rfl) rfl (fun E q => GX.pass X htab (by first | exact Nat.le_of_ble_eq_true rfl | omega) (by first | exact Nat.le_of_ble_eq_true rfl | omega) (fun H h => ⟨h.1, fun g => h.2.1 (hk.mpr g), h.2.2⟩)) (fun x0 => ?_)
  obtain ⟨y0, h1, h2⟩ := x0
  have h2 := hk.mp h2
  have h5 := (hS.2.2.2.1.2 _ y0 h1).1
  dsimp only
  refine g_cast X dX2_guest_8 rfl q841 (fun H hH => hL.recv X.2.2.2.2.2.2.2.1 hH (h5) rfl) ?_
  refine g_aret X (Or.inl ⟨_, rfl⟩) (Or.inr ⟨_, rfl⟩) dX2_guest_11 rfl (by first | exact Nat.le_of_ble_eq_true rfl | (dsimp only [rmD]; omega)) (by first | exact Nat.le_of_ble_eq_true rfl | (dsimp only [rmD]; omega)) (fun H hH => ⟨⟨y0, h1, h2⟩, rfl, hH⟩)
theorem ct_X2_booking (hst : l.stackTraces = false) (hS : SR Ω Γ0 Γ a A σ) (h4 : nB σ ≤ 12) {x : Int32} : CM Ω l yX2_booking (ws_ yX2_booking cX2_booking 2 (some (.object "SlidePark$Booking"))) 12 1 6 [.ref a, .int x] (hL Ω Γ) (QV (fun y : {y : Nat // (laB A)[iN x]? = some y ∧ okB σ x} => some (.ref y.1)) (fun _ => hL Ω Γ)) (xE "java/lang/IndexOutOfBoundsException" (¬ okB σ x) (hL Ω Γ)) := by
  obtain ⟨mS, hmS⟩ := hS.lB
  have hc := hS.cB
  have hk : (0 ≤ x ∧ x ≤ nI (laB A).length - 1) = okB σ x := by rw [hc]
  have hlen : (laB A).length ≤ 1000 := by omega
  refine CM.of (L := [some (.ref a), some (.int x)]) hst (by decide) (Nat.le_of_ble_eq_true rfl) rfl ?_
  intro p e s m below meth c X hnm htab
  refine g_aload_n X dX2_booking_0 rfl rfl ?_
  refine l_get X dX2_booking_1 rfl in_X2 (ci := 1) rfl 2 (by decide) q168 (fun _ h => h) hS.st rfl ?_
  refine g_iload_n X dX2_booking_4 rfl rfl ?_
  refine g_callSNx X "SlidePark" (ct_X1_item hst hmS hlen) dX2_booking_5 rfl q893 q66 q891 q892 hyS_X1_item (fun H hH => hH) ⟨Nat.le_of_ble_eq_true rfl, Nat.le_of_ble_eq_true rfl⟩ ⟨by first | exact Nat.le_of_ble_eq_true rfl | (dsimp only [rmD]; omega), by first | exact Nat.le_of_ble_eq_true rfl | (dsimp only [rmD]; omega)⟩ (Nat.le_of_ble_eq_true rfl) rfl (fun E q => GX.pass X htab (by first | exact Nat.le_of_ble_eq_true rfl | omega) (by first | exact Nat.le_of_ble_eq_true rfl | omega) (fun H h => ⟨h.1, fun g => h.2.1 (hk.mpr g), h.2.2⟩)) (fun x0 => ?_)
  obtain ⟨y0, h1, h2⟩ := x0
  have h2 := hk.mp h2
  have h5 := hS.2.2.2.2.1.2 _ y0 h1
  dsimp only
  refine g_cast X dX2_booking_8 rfl q308 (fun H hH => hL.recv X.2.2.2.2.2.2.2.1 hH (h5) rfl) ?_
  refine g_aret X (Or.inl ⟨_, rfl⟩) (Or.inr ⟨_, rfl⟩) dX2_booking_11 rfl (by first | exact Nat.le_of_ble_eq_true rfl | (dsimp only [rmD]; omega)) (by first | exact Nat.le_of_ble_eq_true rfl | (dsimp only [rmD]; omega)) (fun H hH => ⟨⟨y0, h1, h2⟩, rfl, hH⟩)
theorem ct_X2_requireStart (hst : l.stackTraces = false) (hS : SR Ω Γ0 Γ a A σ) {x : Int32} : CM Ω l yX2_requireStart (ws_ yX2_requireStart cX2_requireStart 2 none) 8 1 6 [.ref a, .int x] (hL Ω Γ) (QV (fun _ : PLift (okT σ x) => none) (fun _ => hL Ω Γ)) (xE "java/lang/IllegalArgumentException" (¬ okT σ x) (hL Ω Γ)) := by
  refine CM.of (L := [some (.ref a), some (.int x)]) hst (by decide) (Nat.le_of_ble_eq_true rfl) rfl ?_
  intro p e s m below meth c X hnm htab
  refine g_iload_n X dX2_requireStart_0 rfl rfl ?_
  refine g_aload_n X dX2_requireStart_1 rfl rfl ?_
  refine l_get X dX2_requireStart_2 rfl in_X2 (ci := 1) rfl 4 (by decide) q172 (fun _ h => h) hS.st rfl ?_
  refine g_aload_n X dX2_requireStart_5 rfl rfl ?_
  refine l_get X dX2_requireStart_6 rfl in_X2 (ci := 1) rfl 4 (by decide) q172 (fun _ h => h) hS.st rfl ?_
  refine g_bipush X dX2_requireStart_9 rfl (v := (nI 120)) (by decide) ?_
  refine g_iadd X dX2_requireStart_11 rfl (by first | exact nI_add _ _ | rfl) ?_
  refine g_callSN X "SlidePark" (ct_X1_isBetween hst) dX2_requireStart_12 rfl q447 q66 q772 q446 hyS_X1_isBetween (fun H hH => hH) ⟨Nat.le_of_ble_eq_true rfl, Nat.le_of_ble_eq_true rfl⟩ ⟨by first | exact Nat.le_of_ble_eq_true rfl | (dsimp only [rmD]; omega), by first | exact Nat.le_of_ble_eq_true rfl | (dsimp only [rmD]; omega)⟩ (Nat.le_of_ble_eq_true rfl) rfl (fun x_12 => ?_)
  refine g_callSNx X "SlidePark" (ct_X1_requireArgument hst) dX2_requireStart_15 rfl q775 q66 q773 q774 hyS_X1_requireArgument (fun H hH => hH) ⟨Nat.le_of_ble_eq_true rfl, Nat.le_of_ble_eq_true rfl⟩ ⟨by first | exact Nat.le_of_ble_eq_true rfl | (dsimp only [rmD]; omega), by first | exact Nat.le_of_ble_eq_true rfl | (dsimp only [rmD]; omega)⟩ (Nat.le_of_ble_eq_true rfl) rfl (fun E q => GX.pass X htab (by first | exact Nat.le_of_ble_eq_true rfl | omega) (by first | exact Nat.le_of_ble_eq_true rfl | omega) (fun H h => h)) (fun x0 => ?_)
  refine g_vret X dX2_requireStart_18 rfl (by first | exact Nat.le_of_ble_eq_true rfl | (dsimp only [rmD]; omega)) (by first | exact Nat.le_of_ble_eq_true rfl | (dsimp only [rmD]; omega)) (fun H hH => ⟨x0, rfl, hH⟩)
theorem ct_X2_isSlideFree (hst : l.stackTraces = false) (hS : SR Ω Γ0 Γ a A σ) (hB : Bd σ) {s0 t : Nat} (hs : s0 < nS σ) (ht : t ≤ 200000) : CM Ω l yX2_isSlideFree (ws_ yX2_isSlideFree cX2_isSlideFree 5 (some .boolean)) 8 0 0 [.ref a, .int (nI s0), .int (nI t)] (hL Ω Γ) (QP (some (.int (bI (¬ aN (fun k => boS σ k = s0 ∧ ovl σ k s0 t) (nB σ))))) (hL Ω Γ)) nX := by
  obtain ⟨mS, hmS⟩ := hS.lS
  obtain ⟨mB, hmB⟩ := hS.lB
  have b1 := hB.1
  have hcB := hS.cB
  obtain ⟨x, -, x2, x3, -⟩ := hS.sl hs
  have bs := hB.2.1 s0 hs
  refine CM.of (L := [some (.ref a), some (.int (nI s0)), some (.int (nI t)), none, none]) hst (by decide) (Nat.le_of_ble_eq_true rfl) rfl ?_
  intro p e s m below meth c X hnm htab
  refine g_iload_n X dX2_isSlideFree_0 rfl rfl ?_
  refine g_aload_n X dX2_isSlideFree_1 rfl rfl ?_
  refine l_get X dX2_isSlideFree_2 rfl in_X2 (ci := 1) rfl 0 (by decide) q164 (fun _ h => h) hS.st rfl ?_
  refine g_iload_n X dX2_isSlideFree_5 rfl rfl ?_
  refine g_callV X (ct_J2_get hst hmS x2 (by rw [hS.cS2]; omega)) dX2_isSlideFree_6 rfl (lw_V q294 q295 q296 q70 q297) hyV_J2_get (fun H hH => hL.recvL X.2.2.2.2.2.2.2.1 hH (hmS)) (fun H hH => hH) ⟨Nat.le_of_ble_eq_true rfl, Nat.le_of_ble_eq_true rfl⟩ ⟨by first | exact Nat.le_of_ble_eq_true rfl | (dsimp only [rmD]; omega), by first | exact Nat.le_of_ble_eq_true rfl | (dsimp only [rmD]; omega)⟩ (Nat.le_of_ble_eq_true rfl) rfl (fun x_6 => ?_)
  refine g_cast X dX2_isSlideFree_9 rfl q809 (fun H hH => hL.recv X.2.2.2.2.2.2.2.1 hH (x3) rfl) ?_
  refine l_getN X dX2_isSlideFree_12 rfl in_X7 (ci := 6) rfl 0 (by decide) "SlidePark" q730 (fun _ h => h) x3 rfl ?_
  refine g_iadd X dX2_isSlideFree_15 rfl (by first | exact nI_add _ _ | rfl) ?_
  refine g_istore_n X dX2_isSlideFree_16 rfl (by decide) rfl rfl ?_
  refine g_iconst X dX2_isSlideFree_17 rfl (v := (nI 0)) rfl ?_
  refine g_istore X dX2_isSlideFree_18 rfl (by decide) rfl rfl ?_
  refine GJ.loc ((fun (k : Nat) => [some (.ref a), some (.int (nI s0)), some (.int (nI t)), some (.int (nI (t + slD σ s0))), some (.int (nI k))]) 0) (lvle_c rfl (lvle_c rfl (lvle_c rfl (lvle_c rfl (lvle_c rfl lvle_e))))) ?_
  refine GJ.loopP (fun (k : Nat) => [some (.ref a), some (.int (nI s0)), some (.int (nI t)), some (.int (nI (t + slD σ s0))), some (.int (nI k))]) (fun (k : Nat) => (nB σ - k)) (fun (k : Nat) => (k ≤ nB σ ∧ ∀ j, j < k → ¬ (boS σ j = s0 ∧ ovl σ j s0 t))) 0 ⟨Nat.zero_le _, fun j h => absurd h (Nat.not_lt_zero j)⟩ ?_
  intro k hk ih
  obtain ⟨k1, k2⟩ := hk
  refine g_iload X dX2_isSlideFree_20 rfl rfl ?_
  refine g_aload_n X dX2_isSlideFree_22 rfl rfl ?_
  refine l_get X dX2_isSlideFree_23 rfl in_X2 (ci := 1) rfl 2 (by decide) q168 (fun _ h => h) hS.st rfl ?_
  refine g_callV X (ct_J2_size hst hmB) dX2_isSlideFree_26 rfl (lw_V q293 q270 q271 q70 q272) hyV_J2_size (fun H hH => hL.recvL X.2.2.2.2.2.2.2.1 hH (hmB)) (fun H hH => hH) ⟨Nat.le_of_ble_eq_true rfl, Nat.le_of_ble_eq_true rfl⟩ ⟨by first | exact Nat.le_of_ble_eq_true rfl | (dsimp only [rmD]; omega), by first | exact Nat.le_of_ble_eq_true rfl | (dsimp only [rmD]; omega)⟩ (Nat.le_of_ble_eq_true rfl) rfl (fun x_26 => ?_)
  refine g_icmp_ge (tgt := 79) X dX2_isSlideFree_29 rfl (by decide) (fun c_29 => ?_) (fun c_29 => ?_)
  · rw [nI_leI (by omega) (by omega)] at c_29
    have hn := aN_no k2 (n := nB σ) (by omega)
    refine g_iconst X dX2_isSlideFree_79 rfl (v := (nI 1)) rfl ?_
    refine g_zret X dX2_isSlideFree_80 rfl rfl (by first | exact Nat.le_of_ble_eq_true rfl | (dsimp only [rmD]; omega)) (by first | exact Nat.le_of_ble_eq_true rfl | (dsimp only [rmD]; omega)) (fun H hH => ⟨(), by rw [bI_t hn], hH⟩)
  · rw [nI_leI (by omega) (by omega)] at c_29
    have hlt : k < nB σ := by omega
    obtain ⟨yb, y1, y2⟩ := hS.bo hlt
    have bb := hB.bo hlt
    have next : ¬ (boS σ k = s0 ∧ ovl σ k s0 t) → GJ Ω p l e (rmD 8 0 0) s m #[.ref a, .int (nI s0), .int (nI t)] below meth c 5 (MM Ω below (QP (some (.int (bI (¬ aN (fun k => boS σ k = s0 ∧ ovl σ k s0 t) (nB σ))))) (hL Ω Γ)) nX #[.ref a, .int (nI s0), .int (nI t)] s 0 0) (hL Ω Γ) 0 0 73 [some (.ref a), some (.int (nI s0)), some (.int (nI t)), some (.int (nI (t + slD σ s0))), some (.int (nI k))] [] := by
      intro hno
      refine g_iinc X dX2_isSlideFree_73 rfl rfl (by first | exact nI_1 _ | rfl) (by decide) rfl rfl ?_
      refine g_goto (tgt := 20) X dX2_isSlideFree_76 rfl (by decide) ?_
      refine GJ.loc [some (.ref a), some (.int (nI s0)), some (.int (nI t)), some (.int (nI (t + slD σ s0))), some (.int (nI (k + 1)))] (lvle_c rfl (lvle_c rfl (lvle_c rfl (lvle_c rfl (lvle_c rfl lvle_e))))) ?_
      exact ih (k + 1) ⟨by omega, fun j hj => if e : j = k then by rw [e]; exact hno else k2 j (by omega)⟩ (by omega)
    refine g_aload_n X dX2_isSlideFree_32 rfl rfl ?_
    refine l_get X dX2_isSlideFree_33 rfl in_X2 (ci := 1) rfl 2 (by decide) q168 (fun _ h => h) hS.st rfl ?_
    refine g_iload X dX2_isSlideFree_36 rfl rfl ?_
    refine g_callV X (ct_J2_get hst hmB y1 (by omega)) dX2_isSlideFree_38 rfl (lw_V q294 q295 q296 q70 q297) hyV_J2_get (fun H hH => hL.recvL X.2.2.2.2.2.2.2.1 hH (hmB)) (fun H hH => hH) ⟨Nat.le_of_ble_eq_true rfl, Nat.le_of_ble_eq_true rfl⟩ ⟨by first | exact Nat.le_of_ble_eq_true rfl | (dsimp only [rmD]; omega), by first | exact Nat.le_of_ble_eq_true rfl | (dsimp only [rmD]; omega)⟩ (Nat.le_of_ble_eq_true rfl) rfl (fun x_38 => ?_)
    refine g_cast X dX2_isSlideFree_41 rfl q308 (fun H hH => hL.recv X.2.2.2.2.2.2.2.1 hH (y2) rfl) ?_
    refine l_getN X dX2_isSlideFree_44 rfl in_X8 (ci := 7) rfl 1 (by decide) "SlidePark" q972 (fun _ h => h) y2 rfl ?_
    refine g_iload_n X dX2_isSlideFree_47 rfl rfl ?_
    refine g_icmp_ne (tgt := 73) X dX2_isSlideFree_48 rfl (by decide) (fun c_48 => ?_) (fun c_48 => ?_)
    · rw [nI_eq (by omega) (by omega)] at c_48
      exact next (fun g => c_48 g.1)
    · rw [nI_eq (by omega) (by omega)] at c_48
      refine g_aload_n X dX2_isSlideFree_51 rfl rfl ?_
      refine l_get X dX2_isSlideFree_52 rfl in_X2 (ci := 1) rfl 2 (by decide) q168 (fun _ h => h) hS.st rfl ?_
      refine g_iload X dX2_isSlideFree_55 rfl rfl ?_
      refine g_callV X (ct_J2_get hst hmB y1 (by omega)) dX2_isSlideFree_57 rfl (lw_V q294 q295 q296 q70 q297) hyV_J2_get (fun H hH => hL.recvL X.2.2.2.2.2.2.2.1 hH (hmB)) (fun H hH => hH) ⟨Nat.le_of_ble_eq_true rfl, Nat.le_of_ble_eq_true rfl⟩ ⟨by first | exact Nat.le_of_ble_eq_true rfl | (dsimp only [rmD]; omega), by first | exact Nat.le_of_ble_eq_true rfl | (dsimp only [rmD]; omega)⟩ (Nat.le_of_ble_eq_true rfl) rfl (fun x_57 => ?_)
      refine g_cast X dX2_isSlideFree_60 rfl q308 (fun H hH => hL.recv X.2.2.2.2.2.2.2.1 hH (y2) rfl) ?_
      refine g_iload_n X dX2_isSlideFree_63 rfl rfl ?_
      refine g_iload_n X dX2_isSlideFree_64 rfl rfl ?_
      refine g_callV X (ct_X8_overlaps hst (by omega) (by omega) (by omega) (by omega) y2) dX2_isSlideFree_65 rfl (lw_V q929 q930 q931 q94 q932) hyV_X8_overlaps (fun H hH => hL.recv X.2.2.2.2.2.2.2.1 hH (y2) rfl) (fun H hH => hH) ⟨Nat.le_of_ble_eq_true rfl, Nat.le_of_ble_eq_true rfl⟩ ⟨by first | exact Nat.le_of_ble_eq_true rfl | (dsimp only [rmD]; omega), by first | exact Nat.le_of_ble_eq_true rfl | (dsimp only [rmD]; omega)⟩ (Nat.le_of_ble_eq_true rfl) rfl (fun x_65 => ?_)
      refine g_if_eq (tgt := 73) X dX2_isSlideFree_68 rfl (by decide) (fun c_68 => ?_) (fun c_68 => ?_)
      · exact next (fun g => bI_0.mp c_68 g.2)
      · have hp := bI_n0.mp c_68
        refine g_iconst X dX2_isSlideFree_71 rfl (v := (nI 0)) rfl ?_
        refine g_zret X dX2_isSlideFree_72 rfl rfl (by first | exact Nat.le_of_ble_eq_true rfl | (dsimp only [rmD]; omega)) (by first | exact Nat.le_of_ble_eq_true rfl | (dsimp only [rmD]; omega)) (fun H hH => ⟨(), by rw [bI_f (fun hn => hn ⟨k, hlt, c_48, hp⟩)], hH⟩)
theorem ct_X2_isGuestFree (hst : l.stackTraces = false) (hS : SR Ω Γ0 Γ a A σ) (hB : Bd σ) {g0 t u : Nat} (hg : g0 < nG σ) (ht : t ≤ 200000) (hu : u ≤ 200100) : CM Ω l yX2_isGuestFree (ws_ yX2_isGuestFree cX2_isGuestFree 5 (some .boolean)) 8 0 0 [.ref a, .int (nI g0), .int (nI t), .int (nI u)] (hL Ω Γ) (QP (some (.int (bI (¬ aN (fun k => boG σ k = g0 ∧ boT σ k < u ∧ t < boE σ k) (nB σ))))) (hL Ω Γ)) nX := by
  obtain ⟨mB, hmB⟩ := hS.lB
  have b1 := hB.1
  have hcB := hS.cB
  refine CM.of (L := [some (.ref a), some (.int (nI g0)), some (.int (nI t)), some (.int (nI u)), none]) hst (by decide) (Nat.le_of_ble_eq_true rfl) rfl ?_
  intro p e s m below meth c X hnm htab
  refine g_iconst X dX2_isGuestFree_0 rfl (v := (nI 0)) rfl ?_
  refine g_istore X dX2_isGuestFree_1 rfl (by decide) rfl rfl ?_
  refine GJ.loc ((fun (k : Nat) => [some (.ref a), some (.int (nI g0)), some (.int (nI t)), some (.int (nI u)), some (.int (nI k))]) 0) (lvle_c rfl (lvle_c rfl (lvle_c rfl (lvle_c rfl (lvle_c rfl lvle_e))))) ?_
  refine GJ.loopP (fun (k : Nat) => [some (.ref a), some (.int (nI g0)), some (.int (nI t)), some (.int (nI u)), some (.int (nI k))]) (fun (k : Nat) => (nB σ - k)) (fun (k : Nat) => (k ≤ nB σ ∧ ∀ j, j < k → ¬ (boG σ j = g0 ∧ boT σ j < u ∧ t < boE σ j))) 0 ⟨Nat.zero_le _, fun j h => absurd h (Nat.not_lt_zero j)⟩ ?_
  intro k hk ih
  obtain ⟨k1, k2⟩ := hk
  refine g_iload X dX2_isGuestFree_3 rfl rfl ?_
  refine g_aload_n X dX2_isGuestFree_5 rfl rfl ?_
  refine l_get X dX2_isGuestFree_6 rfl in_X2 (ci := 1) rfl 2 (by decide) q168 (fun _ h => h) hS.st rfl ?_
  refine g_callV X (ct_J2_size hst hmB) dX2_isGuestFree_9 rfl (lw_V q293 q270 q271 q70 q272) hyV_J2_size (fun H hH => hL.recvL X.2.2.2.2.2.2.2.1 hH (hmB)) (fun H hH => hH) ⟨Nat.le_of_ble_eq_true rfl, Nat.le_of_ble_eq_true rfl⟩ ⟨by first | exact Nat.le_of_ble_eq_true rfl | (dsimp only [rmD]; omega), by first | exact Nat.le_of_ble_eq_true rfl | (dsimp only [rmD]; omega)⟩ (Nat.le_of_ble_eq_true rfl) rfl (fun x_9 => ?_)
  refine g_icmp_ge (tgt := 62) X dX2_isGuestFree_12 rfl (by decide) (fun c_12 => ?_) (fun c_12 => ?_)
  · rw [nI_leI (by omega) (by omega)] at c_12
    have hn := aN_no k2 (n := nB σ) (by omega)
    refine g_iconst X dX2_isGuestFree_62 rfl (v := (nI 1)) rfl ?_
    refine g_zret X dX2_isGuestFree_63 rfl rfl (by first | exact Nat.le_of_ble_eq_true rfl | (dsimp only [rmD]; omega)) (by first | exact Nat.le_of_ble_eq_true rfl | (dsimp only [rmD]; omega)) (fun H hH => ⟨(), by rw [bI_t hn], hH⟩)
  · rw [nI_leI (by omega) (by omega)] at c_12
    have hlt : k < nB σ := by omega
    obtain ⟨yb, y1, y2⟩ := hS.bo hlt
    have bb := hB.bo hlt
    have next : ¬ (boG σ k = g0 ∧ boT σ k < u ∧ t < boE σ k) → GJ Ω p l e (rmD 8 0 0) s m #[.ref a, .int (nI g0), .int (nI t), .int (nI u)] below meth c 5 (MM Ω below (QP (some (.int (bI (¬ aN (fun k => boG σ k = g0 ∧ boT σ k < u ∧ t < boE σ k) (nB σ))))) (hL Ω Γ)) nX #[.ref a, .int (nI g0), .int (nI t), .int (nI u)] s 0 0) (hL Ω Γ) 0 0 56 [some (.ref a), some (.int (nI g0)), some (.int (nI t)), some (.int (nI u)), some (.int (nI k))] [] := by
      intro hno
      refine g_iinc X dX2_isGuestFree_56 rfl rfl (by first | exact nI_1 _ | rfl) (by decide) rfl rfl ?_
      refine g_goto (tgt := 3) X dX2_isGuestFree_59 rfl (by decide) ?_
      refine GJ.loc [some (.ref a), some (.int (nI g0)), some (.int (nI t)), some (.int (nI u)), some (.int (nI (k + 1)))] (lvle_c rfl (lvle_c rfl (lvle_c rfl (lvle_c rfl (lvle_c rfl lvle_e))))) ?_
      exact ih (k + 1) ⟨by omega, fun j hj => if e : j = k then by rw [e]; exact hno else k2 j (by omega)⟩ (by omega)
    refine g_aload_n X dX2_isGuestFree_15 rfl rfl ?_
    refine l_get X dX2_isGuestFree_16 rfl in_X2 (ci := 1) rfl 2 (by decide) q168 (fun _ h => h) hS.st rfl ?_
    refine g_iload X dX2_isGuestFree_19 rfl rfl ?_
    refine g_callV X (ct_J2_get hst hmB y1 (by omega)) dX2_isGuestFree_21 rfl (lw_V q294 q295 q296 q70 q297) hyV_J2_get (fun H hH => hL.recvL X.2.2.2.2.2.2.2.1 hH (hmB)) (fun H hH => hH) ⟨Nat.le_of_ble_eq_true rfl, Nat.le_of_ble_eq_true rfl⟩ ⟨by first | exact Nat.le_of_ble_eq_true rfl | (dsimp only [rmD]; omega), by first | exact Nat.le_of_ble_eq_true rfl | (dsimp only [rmD]; omega)⟩ (Nat.le_of_ble_eq_true rfl) rfl (fun x_21 => ?_)
    refine g_cast X dX2_isGuestFree_24 rfl q308 (fun H hH => hL.recv X.2.2.2.2.2.2.2.1 hH (y2) rfl) ?_
    refine l_getN X dX2_isGuestFree_27 rfl in_X8 (ci := 7) rfl 0 (by decide) "SlidePark" q969 (fun _ h => h) y2 rfl ?_
    refine g_iload_n X dX2_isGuestFree_30 rfl rfl ?_
    refine g_icmp_ne (tgt := 56) X dX2_isGuestFree_31 rfl (by decide) (fun c_31 => ?_) (fun c_31 => ?_)
    · rw [nI_eq (by omega) (by omega)] at c_31
      exact next (fun g => c_31 g.1)
    · rw [nI_eq (by omega) (by omega)] at c_31
      refine g_aload_n X dX2_isGuestFree_34 rfl rfl ?_
      refine l_get X dX2_isGuestFree_35 rfl in_X2 (ci := 1) rfl 2 (by decide) q168 (fun _ h => h) hS.st rfl ?_
      refine g_iload X dX2_isGuestFree_38 rfl rfl ?_
      refine g_callV X (ct_J2_get hst hmB y1 (by omega)) dX2_isGuestFree_40 rfl (lw_V q294 q295 q296 q70 q297) hyV_J2_get (fun H hH => hL.recvL X.2.2.2.2.2.2.2.1 hH (hmB)) (fun H hH => hH) ⟨Nat.le_of_ble_eq_true rfl, Nat.le_of_ble_eq_true rfl⟩ ⟨by first | exact Nat.le_of_ble_eq_true rfl | (dsimp only [rmD]; omega), by first | exact Nat.le_of_ble_eq_true rfl | (dsimp only [rmD]; omega)⟩ (Nat.le_of_ble_eq_true rfl) rfl (fun x_40 => ?_)
      refine g_cast X dX2_isGuestFree_43 rfl q308 (fun H hH => hL.recv X.2.2.2.2.2.2.2.1 hH (y2) rfl) ?_
      refine g_iload_n X dX2_isGuestFree_46 rfl rfl ?_
      refine g_iload_n X dX2_isGuestFree_47 rfl rfl ?_
      refine g_callV X (ct_X8_overlaps hst (by omega) (by omega) (by omega) (by omega) y2) dX2_isGuestFree_48 rfl (lw_V q929 q930 q931 q94 q932) hyV_X8_overlaps (fun H hH => hL.recv X.2.2.2.2.2.2.2.1 hH (y2) rfl) (fun H hH => hH) ⟨Nat.le_of_ble_eq_true rfl, Nat.le_of_ble_eq_true rfl⟩ ⟨by first | exact Nat.le_of_ble_eq_true rfl | (dsimp only [rmD]; omega), by first | exact Nat.le_of_ble_eq_true rfl | (dsimp only [rmD]; omega)⟩ (Nat.le_of_ble_eq_true rfl) rfl (fun x_48 => ?_)
      refine g_if_eq (tgt := 56) X dX2_isGuestFree_51 rfl (by decide) (fun c_51 => ?_) (fun c_51 => ?_)
      · exact next (fun g => bI_0.mp c_51 g.2)
      · have hp := bI_n0.mp c_51
        refine g_iconst X dX2_isGuestFree_54 rfl (v := (nI 0)) rfl ?_
        refine g_zret X dX2_isGuestFree_55 rfl rfl (by first | exact Nat.le_of_ble_eq_true rfl | (dsimp only [rmD]; omega)) (by first | exact Nat.le_of_ble_eq_true rfl | (dsimp only [rmD]; omega)) (fun H hH => ⟨(), by rw [bI_f (fun hn => hn ⟨k, hlt, c_31, hp⟩)], hH⟩)
theorem free_iff {g0 s0 t : Nat} (hB : Bd σ) (hg : g0 < 1000) : (¬ aN (fun k => boS σ k = s0 ∧ ovl σ k s0 t) (nB σ) ∧ ¬ aN (fun k => boG σ k = g0 ∧ boT σ k < t + slD σ s0 ∧ t < boE σ k) (nB σ)) ↔ ¬ aCl σ (nI g0) s0 t := by
  have b1 := hB.1
  have hi : ∀ k, k < nB σ → (nI (boG σ k) = nI g0 ↔ boG σ k = g0) := fun k hk => by have := (hB.bo hk).1; exact nI_eq (by omega) (by omega)
  constructor
  · rintro ⟨h1, h2⟩ ⟨k, hk, h3, h4⟩
    exact h3.elim (fun e => h1 ⟨k, hk, e, h4⟩) (fun e => h2 ⟨k, hk, (hi k hk).mp e, h4⟩)
  · intro h
    exact ⟨fun ⟨k, hk, h3, h4⟩ => h ⟨k, hk, Or.inl h3, h4⟩, fun ⟨k, hk, h3, h4⟩ => h ⟨k, hk, Or.inr ((hi k hk).mpr h3), h4⟩⟩
theorem free_iff1 {s0 t : Nat} (hB : Bd σ) : (¬ aN (fun k => boS σ k = s0 ∧ ovl σ k s0 t) (nB σ)) ↔ ¬ aCl σ (-1) s0 t := by
  have b1 := hB.1
  have hi : ∀ k, k < nB σ → ¬ nI (boG σ k) = -1 := fun k hk e => by
    have := (hB.bo hk).1
    have h := congrArg Int32.toInt e
    rw [nI_toInt (by omega), show (-1 : Int32).toInt = -1 by decide] at h
    omega
  constructor
  · rintro h1 ⟨k, hk, h3, h4⟩
    exact h3.elim (fun e => h1 ⟨k, hk, e, h4⟩) (fun e => hi k hk e)
  · exact fun h ⟨k, hk, h3, h4⟩ => h ⟨k, hk, Or.inl h3, h4⟩
theorem ct_X2_areFree (hst : l.stackTraces = false) (hS : SR Ω Γ0 Γ a A σ) (hB : Bd σ) {g0 s0 t : Nat} (hg : g0 < nG σ) (hs : s0 < nS σ) (ht : t ≤ 200000) : CM Ω l yX2_areFree (ws_ yX2_areFree cX2_areFree 4 (some .boolean)) 10 0 0 [.ref a, .int (nI g0), .int (nI s0), .int (nI t)] (hL Ω Γ) (QP (some (.int (bI (¬ aCl σ (nI g0) s0 t)))) (hL Ω Γ)) nX := by
  obtain ⟨mS, hmS⟩ := hS.lS
  have b1 := hB.1
  have bs := hB.2.1 s0 hs
  obtain ⟨x, -, x2, x3, -⟩ := hS.sl hs
  have hfi := free_iff (s0 := s0) (t := t) hB (g0 := g0) (by omega)
  refine CM.of (L := [some (.ref a), some (.int (nI g0)), some (.int (nI s0)), some (.int (nI t))]) hst (by decide) (Nat.le_of_ble_eq_true rfl) rfl ?_
  intro p e s m below meth c X hnm htab
  refine g_aload_n X dX2_areFree_0 rfl rfl ?_
  refine g_iload_n X dX2_areFree_1 rfl rfl ?_
  refine g_iload_n X dX2_areFree_2 rfl rfl ?_
  refine g_callV X (ct_X2_isSlideFree hst hS hB hs ht) dX2_areFree_3 rfl (lw_V q925 q926 q927 q67 q928) hyV_X2_isSlideFree (fun H hH => hL.recv X.2.2.2.2.2.2.2.1 hH (hS.st) rfl) (fun H hH => hH) ⟨Nat.le_of_ble_eq_true rfl, Nat.le_of_ble_eq_true rfl⟩ ⟨by first | exact Nat.le_of_ble_eq_true rfl | (dsimp only [rmD]; omega), by first | exact Nat.le_of_ble_eq_true rfl | (dsimp only [rmD]; omega)⟩ (Nat.le_of_ble_eq_true rfl) rfl (fun x_3 => ?_)
  refine g_if_eq (tgt := 38) X dX2_areFree_6 rfl (by decide) (fun c_6 => ?_) (fun c_6 => ?_)
  · have h1 := bI_0.mp c_6
    refine g_iconst X dX2_areFree_38 rfl (v := (nI 0)) rfl ?_
    refine g_zret X dX2_areFree_39 rfl rfl (by first | exact Nat.le_of_ble_eq_true rfl | (dsimp only [rmD]; omega)) (by first | exact Nat.le_of_ble_eq_true rfl | (dsimp only [rmD]; omega)) (fun H hH => ⟨(), by rw [bI_f (fun h => h1 (hfi.mpr h).1)], hH⟩)
  · have h1 := bI_n0.mp c_6
    refine g_aload_n X dX2_areFree_9 rfl rfl ?_
    refine g_iload_n X dX2_areFree_10 rfl rfl ?_
    refine g_iload_n X dX2_areFree_11 rfl rfl ?_
    refine g_iload_n X dX2_areFree_12 rfl rfl ?_
    refine g_aload_n X dX2_areFree_13 rfl rfl ?_
    refine l_get X dX2_areFree_14 rfl in_X2 (ci := 1) rfl 0 (by decide) q164 (fun _ h => h) hS.st rfl ?_
    refine g_iload_n X dX2_areFree_17 rfl rfl ?_
    refine g_callV X (ct_J2_get hst hmS x2 (by rw [hS.cS2]; omega)) dX2_areFree_18 rfl (lw_V q294 q295 q296 q70 q297) hyV_J2_get (fun H hH => hL.recvL X.2.2.2.2.2.2.2.1 hH (hmS)) (fun H hH => hH) ⟨Nat.le_of_ble_eq_true rfl, Nat.le_of_ble_eq_true rfl⟩ ⟨by first | exact Nat.le_of_ble_eq_true rfl | (dsimp only [rmD]; omega), by first | exact Nat.le_of_ble_eq_true rfl | (dsimp only [rmD]; omega)⟩ (Nat.le_of_ble_eq_true rfl) rfl (fun x_18 => ?_)
    refine g_cast X dX2_areFree_21 rfl q809 (fun H hH => hL.recv X.2.2.2.2.2.2.2.1 hH (x3) rfl) ?_
    refine l_getN X dX2_areFree_24 rfl in_X7 (ci := 6) rfl 0 (by decide) "SlidePark" q730 (fun _ h => h) x3 rfl ?_
    refine g_iadd X dX2_areFree_27 rfl (by first | exact nI_add _ _ | rfl) ?_
    refine g_callV X (ct_X2_isGuestFree hst hS hB hg ht (by omega)) dX2_areFree_28 rfl (lw_V q933 q935 qs9 q67 q936) hyV_X2_isGuestFree (fun H hH => hL.recv X.2.2.2.2.2.2.2.1 hH (hS.st) rfl) (fun H hH => hH) ⟨Nat.le_of_ble_eq_true rfl, Nat.le_of_ble_eq_true rfl⟩ ⟨by first | exact Nat.le_of_ble_eq_true rfl | (dsimp only [rmD]; omega), by first | exact Nat.le_of_ble_eq_true rfl | (dsimp only [rmD]; omega)⟩ (Nat.le_of_ble_eq_true rfl) rfl (fun x_28 => ?_)
    refine g_if_eq (tgt := 38) X dX2_areFree_31 rfl (by decide) (fun c_31 => ?_) (fun c_31 => ?_)
    · have h2 := bI_0.mp c_31
      refine g_iconst X dX2_areFree_38 rfl (v := (nI 0)) rfl ?_
      refine g_zret X dX2_areFree_39 rfl rfl (by first | exact Nat.le_of_ble_eq_true rfl | (dsimp only [rmD]; omega)) (by first | exact Nat.le_of_ble_eq_true rfl | (dsimp only [rmD]; omega)) (fun H hH => ⟨(), by rw [bI_f (fun h => h2 (hfi.mpr h).2)], hH⟩)
    · have h2 := bI_n0.mp c_31
      refine g_iconst X dX2_areFree_34 rfl (v := (nI 1)) rfl ?_
      refine g_goto (tgt := 39) X dX2_areFree_35 rfl (by decide) ?_
      refine g_zret X dX2_areFree_39 rfl rfl (by first | exact Nat.le_of_ble_eq_true rfl | (dsimp only [rmD]; omega)) (by first | exact Nat.le_of_ble_eq_true rfl | (dsimp only [rmD]; omega)) (fun H hH => ⟨(), by rw [bI_t (hfi.mp ⟨h1, h2⟩)], hH⟩)
end D1
