/-! CLASS: copies of lines, guests, slides -/
section C7
variable {l : Launch} {Ω : Om} {Γ Γ' : LH} {a q y : Nat} {is xs : List Nat} {m0 : Int32}
set_option maxRecDepth 100000
theorem okE.ex {y : Nat} (h : okE Ω Γ y) (hE : Ex Γ Γ') : okE Ω Γ' y := by
  rcases h with ⟨ci, fs, h1, h2⟩ | h
  · exact Or.inl ⟨ci, fs, hE _ _ h1, h2⟩
  · exact Or.inr h
theorem tak_s {α : Type} {l : List α} {k : Nat} {y : α} (h : l[k]? = some y) : l.take k ++ [y] = l.take (k + 1) := by
  rw [List.take_succ, h]; rfl
theorem tak_n {α : Type} {l : List α} {k : Nat} (h : l.length ≤ k) : l.take k = l := List.take_of_length_le h
theorem ct_X6_copy_2 (hst : l.stackTraces = false) (ha : Γ a = some (.inl (.inr (5, [.ref q])))) (he : Γ q = some (.inr (xs, m0))) (hl : xs.length ≤ 5) (hE : ∀ z ∈ xs, okE Ω Γ z) : CM Ω l yX6_copy_2 (ws_ yX6_copy_2 cX6_copy_2 3 (some (.object "SlidePark$Line"))) 20 7 324 [.ref a] (hL Ω Γ) (QV (fun y : {y : LH × Nat × Nat // (Ex Γ y.1 ∧ Γ y.2.1 = none ∧ Γ y.2.2 = none) ∧ isO y.1 y.2.1 5 [.ref y.2.2] ∧ ∃ m, y.1 y.2.2 = some (.inr (xs, m))} => some (.ref y.1.2.1)) (fun y => hL Ω y.1.1)) nX := by
  refine CM.of (L := [some (.ref a), none, none]) hst (by decide) (Nat.le_of_ble_eq_true rfl) rfl ?_
  intro p e s m below meth c X hnm htab
  refine l_new X dX6_copy_2_0 rfl (fs := [.null]) in_X6 tyX6_ok q698 q699 q84 (ci := 5) rfl (by decide) (by first | exact Nat.le_of_ble_eq_true rfl | (dsimp only [rmD]; omega)) (by first | exact Nat.le_of_ble_eq_true rfl | (dsimp only [rmD]; omega)) (fun qa na => ?_)
  refine g_dup X dX6_copy_2_3 rfl rfl ?_
  refine g_callI X (ct_X6_init hst (hu_s _ _ _)) dX6_copy_2_4 rfl q702 q84 q700 q701 rfl hyS_X6_init (fun H hH => hH) ⟨Nat.le_of_ble_eq_true rfl, Nat.le_of_ble_eq_true rfl⟩ ⟨by first | exact Nat.le_of_ble_eq_true rfl | (dsimp only [rmD]; omega), by first | exact Nat.le_of_ble_eq_true rfl | (dsimp only [rmD]; omega)⟩ (Nat.le_of_ble_eq_true rfl) rfl (fun x0 => ?_)
  refine g_astore_n X dX6_copy_2_7 rfl (by decide) rfl rfl ?_
  refine g_iconst X dX6_copy_2_8 rfl (v := (nI 0)) rfl ?_
  refine g_istore_n X dX6_copy_2_9 rfl (by decide) rfl rfl ?_
  obtain ⟨qb, nb⟩ := x0
  have hab : qa ≠ qb := fun e => by rw [← e, hu_s] at nb; simp at nb
  have nb0 : Γ qb = none := by rw [← nb]; exact (hu_n (Ne.symm hab)).symm
  dsimp only
  generalize hG : hu (hu (hu Γ qa (Sum.inl (Sum.inr (5, [Value.null])))) qb (Sum.inr ([], 0))) qa (Sum.inl (Sum.inr (5, [Value.ref qb]))) = G1
  have hGa : G1 qa = some (.inl (.inr (5, [.ref qb]))) := by rw [← hG]; exact hu_s _ _ _
  have hGb : G1 qb = some (.inr ([], 0)) := by rw [← hG]; exact (hu_n (Ne.symm hab)).trans (hu_s _ _ _)
  have hEx : Ex Γ G1 := by rw [← hG]; exact ((Ex.rf.put na).put nb0).put na
  refine GJ.imp (I' := (fun x : Nat × Int32 => hL Ω (hu G1 qb (.inr (xs.take x.1, x.2)))) (0, 0)) (fun H hH => by show hL Ω (hu G1 qb (.inr (xs.take 0, 0))) H; rw [show hu G1 qb (Sum.inr (List.take 0 xs, (0 : Int32))) = G1 from hu_same hGb]; exact hH) ?_
  refine GJ.loc ((fun x : Nat × Int32 => [some (.ref a), some (.ref qa), some (.int (nI x.1))]) (0, 0)) (lvle_c rfl (lvle_c rfl (lvle_c rfl lvle_e))) ?_
  refine GJ.wide (k' := (fun x : Nat × Int32 => 2 + x.1) (0, 0)) (n' := (fun x : Nat × Int32 => 4 + 64 * x.1) (0, 0)) (Nat.le_of_ble_eq_true rfl) (Nat.le_of_ble_eq_true rfl) ?_
  refine GJ.loop (fun x : Nat × Int32 => hL Ω (hu G1 qb (.inr (xs.take x.1, x.2)))) (fun x => 2 + x.1) (fun x => 4 + 64 * x.1) (fun x : Nat × Int32 => [some (.ref a), some (.ref qa), some (.int (nI x.1))]) (fun x => xs.length - x.1) (fun x => x.1 ≤ xs.length) (0, 0) (Nat.zero_le _) ?_
  rintro ⟨k, m⟩ hk ih
  dsimp only at hk ih ⊢
  have hEk : Ex Γ (hu G1 qb (.inr (xs.take k, m))) := hEx.put nb0
  have hak := hEk _ _ ha
  have hek := hEk _ _ he
  have hqa : hu G1 qb (.inr (xs.take k, m)) qa = some (.inl (.inr (5, [.ref qb]))) := (hu_n hab).trans hGa
  have hqb : hu G1 qb (.inr (xs.take k, m)) qb = some (.inr (xs.take k, m)) := hu_s _ _ _
  have hlk : (xs.take k).length ≤ 40 := by rw [List.length_take]; omega
  refine g_iload_n X dX6_copy_2_10 rfl rfl ?_
  refine g_aload_n X dX6_copy_2_11 rfl rfl ?_
  refine l_get X dX6_copy_2_12 rfl in_X6 (ci := 5) rfl 0 (by decide) q706 (fun _ h => h) hak rfl ?_
  refine g_callV X (ct_J2_size hst hek) dX6_copy_2_15 rfl (lw_V q710 q270 q271 q70 q272) hyV_J2_size (fun H hH => hL.recvL X.2.2.2.2.2.2.2.1 hH (hek)) (fun H hH => hH) ⟨Nat.le_of_ble_eq_true rfl, Nat.le_of_ble_eq_true rfl⟩ ⟨by first | exact Nat.le_of_ble_eq_true rfl | (dsimp only [rmD]; omega), by first | exact Nat.le_of_ble_eq_true rfl | (dsimp only [rmD]; omega)⟩ (Nat.le_of_ble_eq_true rfl) rfl (fun x_15 => ?_)
  refine g_icmp_ge (tgt := 43) X dX6_copy_2_18 rfl (by decide) (fun c_18 => ?_) (fun c_18 => ?_)
  · rw [nI_leI (by omega) (by omega)] at c_18
    rw [tak_n (by omega)] at hqb hEk hqa ⊢
    refine g_aload_n X dX6_copy_2_43 rfl rfl ?_
    refine g_aret X (Or.inl ⟨_, rfl⟩) (Or.inr ⟨_, rfl⟩) dX6_copy_2_44 rfl (show 2 + k ≤ 7 by omega) (show 4 + 64 * k ≤ 324 by omega) (fun H hH => ⟨⟨(hu G1 qb (.inr (xs, m)), qa, qb), ⟨hEk, na, nb0⟩, hqa, m, hqb⟩, rfl, hH⟩)
  · rw [nI_leI (by omega) (by omega)] at c_18
    have hy : xs[k]? = some (xs[k]'(by omega)) := List.getElem?_eq_getElem (by omega)
    refine g_aload_n X dX6_copy_2_21 rfl rfl ?_
    refine l_get X dX6_copy_2_22 rfl in_X6 (ci := 5) rfl 0 (by decide) q706 (fun _ h => h) hqa rfl ?_
    refine g_aload_n X dX6_copy_2_25 rfl rfl ?_
    refine l_get X dX6_copy_2_26 rfl in_X6 (ci := 5) rfl 0 (by decide) q706 (fun _ h => h) hak rfl ?_
    refine g_iload_n X dX6_copy_2_29 rfl rfl ?_
    refine g_callV X (ct_J2_get hst hek hy (by omega)) dX6_copy_2_30 rfl (lw_V q711 q295 q296 q70 q297) hyV_J2_get (fun H hH => hL.recvL X.2.2.2.2.2.2.2.1 hH (hek)) (fun H hH => hH) ⟨Nat.le_of_ble_eq_true rfl, Nat.le_of_ble_eq_true rfl⟩ ⟨by first | exact Nat.le_of_ble_eq_true rfl | (dsimp only [rmD]; omega), by first | exact Nat.le_of_ble_eq_true rfl | (dsimp only [rmD]; omega)⟩ (Nat.le_of_ble_eq_true rfl) rfl (fun x_30 => ?_)
    refine g_callV X (ct_J2_add hst hqb hlk (fun z hz => (hE z (List.mem_of_mem_take hz)).ex hEk) ((hE _ (List.mem_of_getElem? hy)).ex hEk)) dX6_copy_2_33 rfl (lw_V q712 q620 q621 q70 q622) hyV_J2_add (fun H hH => hL.recvL X.2.2.2.2.2.2.2.1 hH (hqb)) (fun H hH => hH) ⟨Nat.le_of_ble_eq_true rfl, Nat.le_of_ble_eq_true rfl⟩ ⟨show 2 + k + 1 ≤ 7 by omega, show 4 + 64 * k + 64 ≤ 324 by omega⟩ (Nat.le_of_ble_eq_true rfl) rfl (fun x_33 => ?_)
    refine g_pop X dX6_copy_2_36 rfl rfl ?_
    refine g_iinc X dX6_copy_2_37 rfl rfl (by first | exact nI_1 _ | rfl) (by decide) rfl rfl ?_
    refine g_goto (tgt := 10) X dX6_copy_2_40 rfl (by decide) ?_
    rw [hu_hu, tak_s hy]
    refine GJ.loc [some (.ref a), some (.ref qa), some (.int (nI (k + 1)))] (lvle_c rfl (lvle_c rfl (lvle_c rfl lvle_e))) ?_
    exact GJ.wide (show 2 + k + 1 ≤ 2 + (k + 1) by omega) (show 4 + 64 * k + 64 ≤ 4 + 64 * (k + 1) by omega) (ih (k + 1, m + nI 1) (by omega) (by omega))
theorem ct_X7_copy_2 (hst : l.stackTraces = false) {du pr : Int32} {w : Int32} {ln : Nat} (ha : Γ a = some (.inl (.inr (6, [.int du, .int pr, .ref ln, .int w])))) (hl : Γ ln = some (.inl (.inr (5, [.ref q])))) (he : Γ q = some (.inr (xs, m0))) (hlen : xs.length ≤ 5) (hE : ∀ z ∈ xs, okE Ω Γ z) : CM Ω l yX7_copy_2 (ws_ yX7_copy_2 cX7_copy_2 2 (some (.object "SlidePark$Slide"))) 22 8 328 [.ref a] (hL Ω Γ) (QV (fun y : {y : LH × Nat × Nat × Nat // (Ex Γ y.1 ∧ Γ y.2.1 = none ∧ Γ y.2.2.1 = none ∧ Γ y.2.2.2 = none) ∧ isO y.1 y.2.1 6 [.int du, .int pr, .ref y.2.2.1, .int w] ∧ isO y.1 y.2.2.1 5 [.ref y.2.2.2] ∧ ∃ m, y.1 y.2.2.2 = some (.inr (xs, m))} => some (.ref y.1.2.1)) (fun y => hL Ω y.1.1)) nX := by
  refine CM.of (L := [some (.ref a), none]) hst (by decide) (Nat.le_of_ble_eq_true rfl) rfl ?_
  intro p e s m below meth c X hnm htab
  refine l_new X dX7_copy_2_0 rfl (fs := [.int 0, .int 0, .null, .int 0]) in_X7 tyX7_ok q354 q723 q85 (ci := 6) rfl (by decide) (by first | exact Nat.le_of_ble_eq_true rfl | (dsimp only [rmD]; omega)) (by first | exact Nat.le_of_ble_eq_true rfl | (dsimp only [rmD]; omega)) (fun qa na => ?_)
  refine g_dup X dX7_copy_2_3 rfl rfl ?_
  have hE1 : Ex Γ (hu Γ qa (.inl (.inr (6, [.int 0, .int 0, .null, .int 0])))) := Ex.new na
  refine g_aload_n X dX7_copy_2_4 rfl rfl ?_
  refine l_get X dX7_copy_2_5 rfl in_X7 (ci := 6) rfl 0 (by decide) q729 (fun _ h => h) (hE1 _ _ ha) rfl ?_
  refine g_aload_n X dX7_copy_2_8 rfl rfl ?_
  refine l_get X dX7_copy_2_9 rfl in_X7 (ci := 6) rfl 1 (by decide) q732 (fun _ h => h) (hE1 _ _ ha) rfl ?_
  refine g_aload_n X dX7_copy_2_12 rfl rfl ?_
  refine l_get X dX7_copy_2_13 rfl in_X7 (ci := 6) rfl 2 (by decide) q735 (fun _ h => h) (hE1 _ _ ha) rfl ?_
  refine g_callV X (ct_X6_copy_2 hst (hE1 _ _ hl) (hE1 _ _ he) hlen (fun z hz => (hE z hz).ex hE1)) dX7_copy_2_16 rfl (lw_V q724 q695 q696 q84 q697) hyV_X6_copy_2 (fun H hH => hL.recv X.2.2.2.2.2.2.2.1 hH ((hE1 _ _ hl)) rfl) (fun H hH => hH) ⟨Nat.le_of_ble_eq_true rfl, Nat.le_of_ble_eq_true rfl⟩ ⟨by first | exact Nat.le_of_ble_eq_true rfl | (dsimp only [rmD]; omega), by first | exact Nat.le_of_ble_eq_true rfl | (dsimp only [rmD]; omega)⟩ (Nat.le_of_ble_eq_true rfl) rfl (fun x0 => ?_)
  obtain ⟨⟨G, qb, qc⟩, ⟨e1, e2, e3⟩, e4, m, e5⟩ := x0
  dsimp only at e1 e2 e3 e4 e5 ⊢
  have e6 : G qa = some (.inl (.inr (6, [.int 0, .int 0, .null, .int 0]))) := e1 _ _ (hu_s _ _ _)
  have hab : qb ≠ qa := fun e => by rw [e, hu_s] at e2; simp at e2
  have hac : qc ≠ qa := fun e => by rw [e, hu_s] at e3; simp at e3
  rw [hu_n hab] at e2
  rw [hu_n hac] at e3
  have hEG : Ex Γ G := hE1.tr e1
  refine g_callI X (ct_X7_init hst e6) dX7_copy_2_19 rfl q727 q85 q725 q726 rfl hyS_X7_init (fun H hH => hH) ⟨Nat.le_of_ble_eq_true rfl, Nat.le_of_ble_eq_true rfl⟩ ⟨by first | exact Nat.le_of_ble_eq_true rfl | (dsimp only [rmD]; omega), by first | exact Nat.le_of_ble_eq_true rfl | (dsimp only [rmD]; omega)⟩ (Nat.le_of_ble_eq_true rfl) rfl (fun x_19 => ?_)
  refine g_astore_n X dX7_copy_2_22 rfl (by decide) rfl rfl ?_
  have hE2 : Ex Γ (hu G qa (.inl (.inr (6, [.int du, .int pr, .ref qb, .int 0])))) := hEG.put na
  refine g_aload_n X dX7_copy_2_23 rfl rfl ?_
  refine g_aload_n X dX7_copy_2_24 rfl rfl ?_
  refine l_get X dX7_copy_2_25 rfl in_X7 (ci := 6) rfl 3 (by decide) q738 (fun _ h => h) (hE2 _ _ ha) rfl ?_
  refine l_put X dX7_copy_2_28 rfl in_X7 tyX7_ok nmX7 (ci := 6) rfl 3 (by decide) q738 (fun _ h => h) rfl rfl rfl rfl (hu_s _ _ _) (Nat.le_of_ble_eq_true rfl) rfl ?_
  refine g_aload_n X dX7_copy_2_31 rfl rfl ?_
  refine g_aret X (Or.inl ⟨_, rfl⟩) (Or.inr ⟨_, rfl⟩) dX7_copy_2_32 rfl (by first | exact Nat.le_of_ble_eq_true rfl | (dsimp only [rmD]; omega)) (by first | exact Nat.le_of_ble_eq_true rfl | (dsimp only [rmD]; omega)) (fun H hH => ⟨⟨(hu G qa (.inl (.inr (6, [.int du, .int pr, .ref qb, .int w]))), qa, qb, qc), ⟨hEG.put na, na, e2, e3⟩, hu_s _ _ _, (hu_n hab).trans e4, m, (hu_n hac).trans e5⟩, rfl, by rw [hu_hu] at hH; exact hH⟩)
theorem ct_X7_copy (hst : l.stackTraces = false) {du pr : Int32} {w : Int32} {ln : Nat} (ha : Γ a = some (.inl (.inr (6, [.int du, .int pr, .ref ln, .int w])))) (hl : Γ ln = some (.inl (.inr (5, [.ref q])))) (he : Γ q = some (.inr (xs, m0))) (hlen : xs.length ≤ 5) (hE : ∀ z ∈ xs, okE Ω Γ z) : CM Ω l yX7_copy (ws_ yX7_copy cX7_copy 1 (some (.object "java/lang/Object"))) 24 8 328 [.ref a] (hL Ω Γ) (QV (fun y : {y : LH × Nat × Nat × Nat // (Ex Γ y.1 ∧ Γ y.2.1 = none ∧ Γ y.2.2.1 = none ∧ Γ y.2.2.2 = none) ∧ isO y.1 y.2.1 6 [.int du, .int pr, .ref y.2.2.1, .int w] ∧ isO y.1 y.2.2.1 5 [.ref y.2.2.2] ∧ ∃ m, y.1 y.2.2.2 = some (.inr (xs, m))} => some (.ref y.1.2.1)) (fun y => hL Ω y.1.1)) nX := by
  refine CM.of (L := [some (.ref a)]) hst (by decide) (Nat.le_of_ble_eq_true rfl) rfl ?_
  intro p e s m below meth c X hnm htab
  refine g_aload_n X dX7_copy_0 rfl rfl ?_
  refine g_callV X (ct_X7_copy_2 hst ha hl he hlen hE) dX7_copy_1 rfl (lw_V q719 q720 q721 q85 q722) hyV_X7_copy_2 (fun H hH => hL.recv X.2.2.2.2.2.2.2.1 hH (ha) rfl) (fun H hH => hH) ⟨Nat.le_of_ble_eq_true rfl, Nat.le_of_ble_eq_true rfl⟩ ⟨by first | exact Nat.le_of_ble_eq_true rfl | (dsimp only [rmD]; omega), by first | exact Nat.le_of_ble_eq_true rfl | (dsimp only [rmD]; omega)⟩ (Nat.le_of_ble_eq_true rfl) rfl (fun x0 => ?_)
  refine g_aret X (Or.inl ⟨_, rfl⟩) (Or.inr ⟨_, rfl⟩) dX7_copy_4 rfl (by first | exact Nat.le_of_ble_eq_true rfl | (dsimp only [rmD]; omega)) (by first | exact Nat.le_of_ble_eq_true rfl | (dsimp only [rmD]; omega)) (fun H hH => ⟨x0, rfl, hH⟩)
theorem ct_X5_copy_2 (hst : l.stackTraces = false) {x y : Int32} (ha : Γ a = some (.inl (.inr (4, [.int x, .int y])))) : CM Ω l yX5_copy_2 (ws_ yX5_copy_2 cX5_copy_2 2 (some (.object "SlidePark$Guest"))) 4 1 2 [.ref a] (hL Ω Γ) (QV (fun y' : {y' : LH × Nat // (Ex Γ y'.1 ∧ Γ y'.2 = none) ∧ isO y'.1 y'.2 4 [.int x, .int y]} => some (.ref y'.1.2)) (fun y => hL Ω y.1.1)) nX := by
  refine CM.of (L := [some (.ref a), none]) hst (by decide) (Nat.le_of_ble_eq_true rfl) rfl ?_
  intro p e s m below meth c X hnm htab
  refine l_new X dX5_copy_2_0 rfl (fs := [.int 0, .int 0]) in_X5 tyX5_ok q343 q591 q79 (ci := 4) rfl (by decide) (by first | exact Nat.le_of_ble_eq_true rfl | (dsimp only [rmD]; omega)) (by first | exact Nat.le_of_ble_eq_true rfl | (dsimp only [rmD]; omega)) (fun qa na => ?_)
  refine g_dup X dX5_copy_2_3 rfl rfl ?_
  refine g_callI X (ct_X5_init hst (hu_s _ _ _)) dX5_copy_2_4 rfl q594 q79 q592 q593 rfl hyS_X5_init (fun H hH => hH) ⟨Nat.le_of_ble_eq_true rfl, Nat.le_of_ble_eq_true rfl⟩ ⟨by first | exact Nat.le_of_ble_eq_true rfl | (dsimp only [rmD]; omega), by first | exact Nat.le_of_ble_eq_true rfl | (dsimp only [rmD]; omega)⟩ (Nat.le_of_ble_eq_true rfl) rfl (fun x_4 => ?_)
  refine g_astore_n X dX5_copy_2_7 rfl (by decide) rfl rfl ?_
  rw [hu_hu]
  have hE : ∀ e, Ex Γ (hu Γ qa e) := fun e => Ex.new na
  refine g_aload_n X dX5_copy_2_8 rfl rfl ?_
  refine g_aload_n X dX5_copy_2_9 rfl rfl ?_
  refine l_get X dX5_copy_2_10 rfl in_X5 (ci := 4) rfl 0 (by decide) q596 (fun _ h => h) (hE _ _ _ ha) rfl ?_
  refine l_put X dX5_copy_2_13 rfl in_X5 tyX5_ok nmX5 (ci := 4) rfl 0 (by decide) q596 (fun _ h => h) rfl rfl rfl rfl (hu_s _ _ _) (Nat.le_of_ble_eq_true rfl) rfl ?_
  refine g_aload_n X dX5_copy_2_16 rfl rfl ?_
  refine g_aload_n X dX5_copy_2_17 rfl rfl ?_
  refine l_get X dX5_copy_2_18 rfl in_X5 (ci := 4) rfl 1 (by decide) q599 (fun _ h => h) ((hu_n (neN ha na)).trans (hE _ _ _ ha)) rfl ?_
  refine l_put X dX5_copy_2_21 rfl in_X5 tyX5_ok nmX5 (ci := 4) rfl 1 (by decide) q599 (fun _ h => h) rfl rfl rfl rfl (hu_s _ _ _) (Nat.le_of_ble_eq_true rfl) rfl ?_
  refine g_aload_n X dX5_copy_2_24 rfl rfl ?_
  refine g_aret X (Or.inl ⟨_, rfl⟩) (Or.inr ⟨_, rfl⟩) dX5_copy_2_25 rfl (by first | exact Nat.le_of_ble_eq_true rfl | (dsimp only [rmD]; omega)) (by first | exact Nat.le_of_ble_eq_true rfl | (dsimp only [rmD]; omega)) (fun H hH => ⟨⟨(hu Γ qa (.inl (.inr (4, [.int x, .int y]))), qa), ⟨hE _, na⟩, hu_s _ _ _⟩, rfl, by rw [hu_hu, hu_hu] at hH; exact hH⟩)
theorem ct_X5_copy (hst : l.stackTraces = false) {x y : Int32} (ha : Γ a = some (.inl (.inr (4, [.int x, .int y])))) : CM Ω l yX5_copy (ws_ yX5_copy cX5_copy 1 (some (.object "java/lang/Object"))) 6 1 2 [.ref a] (hL Ω Γ) (QV (fun y' : {y' : LH × Nat // (Ex Γ y'.1 ∧ Γ y'.2 = none) ∧ isO y'.1 y'.2 4 [.int x, .int y]} => some (.ref y'.1.2)) (fun y => hL Ω y.1.1)) nX := by
  refine CM.of (L := [some (.ref a)]) hst (by decide) (Nat.le_of_ble_eq_true rfl) rfl ?_
  intro p e s m below meth c X hnm htab
  refine g_aload_n X dX5_copy_0 rfl rfl ?_
  refine g_callV X (ct_X5_copy_2 hst ha) dX5_copy_1 rfl (lw_V q587 q588 q589 q79 q590) hyV_X5_copy_2 (fun H hH => hL.recv X.2.2.2.2.2.2.2.1 hH (ha) rfl) (fun H hH => hH) ⟨Nat.le_of_ble_eq_true rfl, Nat.le_of_ble_eq_true rfl⟩ ⟨by first | exact Nat.le_of_ble_eq_true rfl | (dsimp only [rmD]; omega), by first | exact Nat.le_of_ble_eq_true rfl | (dsimp only [rmD]; omega)⟩ (Nat.le_of_ble_eq_true rfl) rfl (fun x0 => ?_)
  refine g_aret X (Or.inl ⟨_, rfl⟩) (Or.inr ⟨_, rfl⟩) dX5_copy_4 rfl (by first | exact Nat.le_of_ble_eq_true rfl | (dsimp only [rmD]; omega)) (by first | exact Nat.le_of_ble_eq_true rfl | (dsimp only [rmD]; omega)) (fun H hH => ⟨x0, rfl, hH⟩)
theorem ct_X3_copy_2 (hst : l.stackTraces = false) {n : Nat} (hn : n < 2 ^ 31) (ha : Γ a = some (.inl (.inr (2, [.ref q, .int (nI n)])))) (he : Γ q = some (.inr (xs, m0))) (hl : xs.length ≤ 16) (hE : ∀ z ∈ xs, okE Ω Γ z) : CM Ω l yX3_copy_2 (ws_ yX3_copy_2 cX3_copy_2 3 (some (.object "SlidePark$Latest"))) 20 18 1029 [.ref a] (hL Ω Γ) (QV (fun y : {y : LH × Nat × Nat // (Ex Γ y.1 ∧ Γ y.2.1 = none ∧ Γ y.2.2 = none) ∧ isO y.1 y.2.1 2 [.ref y.2.2, .int (nI n)] ∧ ∃ m, y.1 y.2.2 = some (.inr (xs, m))} => some (.ref y.1.2.1)) (fun y => hL Ω y.1.1)) nX := by
  refine CM.of (L := [some (.ref a), none, none]) hst (by decide) (Nat.le_of_ble_eq_true rfl) rfl ?_
  intro p e s m below meth c X hnm htab
  refine l_new X dX3_copy_2_0 rfl (fs := [.null, .int 0]) in_X3 tyX3_ok q617 q150 q71 (ci := 2) rfl (by decide) (by first | exact Nat.le_of_ble_eq_true rfl | (dsimp only [rmD]; omega)) (by first | exact Nat.le_of_ble_eq_true rfl | (dsimp only [rmD]; omega)) (fun qa na => ?_)
  refine g_dup X dX3_copy_2_3 rfl rfl ?_
  have hE1 : Ex Γ (hu Γ qa (.inl (.inr (2, [.null, .int 0])))) := Ex.new na
  refine g_aload_n X dX3_copy_2_4 rfl rfl ?_
  refine l_get X dX3_copy_2_5 rfl in_X3 (ci := 2) rfl 1 (by decide) q158 (fun _ h => h) (hE1 _ _ ha) rfl ?_
  refine g_callI X (ct_X3_init hst (hu_s _ _ _)) dX3_copy_2_8 rfl q153 q71 q618 q152 rfl hyS_X3_init (fun H hH => hH) ⟨Nat.le_of_ble_eq_true rfl, Nat.le_of_ble_eq_true rfl⟩ ⟨by first | exact Nat.le_of_ble_eq_true rfl | (dsimp only [rmD]; omega), by first | exact Nat.le_of_ble_eq_true rfl | (dsimp only [rmD]; omega)⟩ (Nat.le_of_ble_eq_true rfl) rfl (fun x0 => ?_)
  refine g_astore_n X dX3_copy_2_11 rfl (by decide) rfl rfl ?_
  refine g_iconst X dX3_copy_2_12 rfl (v := (nI 0)) rfl ?_
  refine g_istore_n X dX3_copy_2_13 rfl (by decide) rfl rfl ?_
  obtain ⟨qb, nb⟩ := x0
  have hab : qa ≠ qb := fun e => by rw [← e, hu_s] at nb; simp at nb
  have nb0 : Γ qb = none := by rw [← nb]; exact (hu_n (Ne.symm hab)).symm
  dsimp only
  generalize hG : hu (hu (hu Γ qa (Sum.inl (Sum.inr (2, [Value.null, Value.int 0])))) qb (Sum.inr ([], 0))) qa (Sum.inl (Sum.inr (2, [Value.ref qb, Value.int (nI n)]))) = G1
  have hGa : G1 qa = some (.inl (.inr (2, [.ref qb, .int (nI n)]))) := by rw [← hG]; exact hu_s _ _ _
  have hGb : G1 qb = some (.inr ([], 0)) := by rw [← hG]; exact (hu_n (Ne.symm hab)).trans (hu_s _ _ _)
  have hEx : Ex Γ G1 := by rw [← hG]; exact ((Ex.rf.put na).put nb0).put na
  refine GJ.imp (I' := (fun x : Nat × Int32 => hL Ω (hu G1 qb (.inr (xs.take x.1, x.2)))) (0, 0)) (fun H hH => by show hL Ω (hu G1 qb (.inr (xs.take 0, 0))) H; rw [show hu G1 qb (Sum.inr (List.take 0 xs, (0 : Int32))) = G1 from hu_same hGb]; exact hH) ?_
  refine GJ.loc ((fun x : Nat × Int32 => [some (.ref a), some (.ref qa), some (.int (nI x.1))]) (0, 0)) (lvle_c rfl (lvle_c rfl (lvle_c rfl lvle_e))) ?_
  refine GJ.wide (k' := (fun x : Nat × Int32 => 2 + x.1) (0, 0)) (n' := (fun x : Nat × Int32 => 5 + 64 * x.1) (0, 0)) (Nat.le_of_ble_eq_true rfl) (Nat.le_of_ble_eq_true rfl) ?_
  refine GJ.loop (fun x : Nat × Int32 => hL Ω (hu G1 qb (.inr (xs.take x.1, x.2)))) (fun x => 2 + x.1) (fun x => 5 + 64 * x.1) (fun x : Nat × Int32 => [some (.ref a), some (.ref qa), some (.int (nI x.1))]) (fun x => xs.length - x.1) (fun x => x.1 ≤ xs.length) (0, 0) (Nat.zero_le _) ?_
  rintro ⟨k, m⟩ hk ih
  dsimp only at hk ih ⊢
  have hEk : Ex Γ (hu G1 qb (.inr (xs.take k, m))) := hEx.put nb0
  have hak := hEk _ _ ha
  have hek := hEk _ _ he
  have hqa : hu G1 qb (.inr (xs.take k, m)) qa = some (.inl (.inr (2, [.ref qb, .int (nI n)]))) := (hu_n hab).trans hGa
  have hqb : hu G1 qb (.inr (xs.take k, m)) qb = some (.inr (xs.take k, m)) := hu_s _ _ _
  have hlk : (xs.take k).length ≤ 40 := by rw [List.length_take]; omega
  refine g_iload_n X dX3_copy_2_14 rfl rfl ?_
  refine g_aload_n X dX3_copy_2_15 rfl rfl ?_
  refine l_get X dX3_copy_2_16 rfl in_X3 (ci := 2) rfl 0 (by decide) q157 (fun _ h => h) hak rfl ?_
  refine g_callV X (ct_J2_size hst hek) dX3_copy_2_19 rfl (lw_V q464 q270 q271 q70 q272) hyV_J2_size (fun H hH => hL.recvL X.2.2.2.2.2.2.2.1 hH (hek)) (fun H hH => hH) ⟨Nat.le_of_ble_eq_true rfl, Nat.le_of_ble_eq_true rfl⟩ ⟨by first | exact Nat.le_of_ble_eq_true rfl | (dsimp only [rmD]; omega), by first | exact Nat.le_of_ble_eq_true rfl | (dsimp only [rmD]; omega)⟩ (Nat.le_of_ble_eq_true rfl) rfl (fun x_19 => ?_)
  refine g_icmp_ge (tgt := 47) X dX3_copy_2_22 rfl (by decide) (fun c_22 => ?_) (fun c_22 => ?_)
  · rw [nI_leI (by omega) (by omega)] at c_22
    rw [tak_n (by omega)] at hqb hEk hqa ⊢
    refine g_aload_n X dX3_copy_2_47 rfl rfl ?_
    refine g_aret X (Or.inl ⟨_, rfl⟩) (Or.inr ⟨_, rfl⟩) dX3_copy_2_48 rfl (show 2 + k ≤ 18 by omega) (show 5 + 64 * k ≤ 1029 by omega) (fun H hH => ⟨⟨(hu G1 qb (.inr (xs, m)), qa, qb), ⟨hEk, na, nb0⟩, hqa, m, hqb⟩, rfl, hH⟩)
  · rw [nI_leI (by omega) (by omega)] at c_22
    have hy : xs[k]? = some (xs[k]'(by omega)) := List.getElem?_eq_getElem (by omega)
    refine g_aload_n X dX3_copy_2_25 rfl rfl ?_
    refine l_get X dX3_copy_2_26 rfl in_X3 (ci := 2) rfl 0 (by decide) q157 (fun _ h => h) hqa rfl ?_
    refine g_aload_n X dX3_copy_2_29 rfl rfl ?_
    refine l_get X dX3_copy_2_30 rfl in_X3 (ci := 2) rfl 0 (by decide) q157 (fun _ h => h) hak rfl ?_
    refine g_iload_n X dX3_copy_2_33 rfl rfl ?_
    refine g_callV X (ct_J2_get hst hek hy (by omega)) dX3_copy_2_34 rfl (lw_V q478 q295 q296 q70 q297) hyV_J2_get (fun H hH => hL.recvL X.2.2.2.2.2.2.2.1 hH (hek)) (fun H hH => hH) ⟨Nat.le_of_ble_eq_true rfl, Nat.le_of_ble_eq_true rfl⟩ ⟨by first | exact Nat.le_of_ble_eq_true rfl | (dsimp only [rmD]; omega), by first | exact Nat.le_of_ble_eq_true rfl | (dsimp only [rmD]; omega)⟩ (Nat.le_of_ble_eq_true rfl) rfl (fun x_34 => ?_)
    refine g_callV X (ct_J2_add hst hqb hlk (fun z hz => (hE z (List.mem_of_mem_take hz)).ex hEk) ((hE _ (List.mem_of_getElem? hy)).ex hEk)) dX3_copy_2_37 rfl (lw_V q619 q620 q621 q70 q622) hyV_J2_add (fun H hH => hL.recvL X.2.2.2.2.2.2.2.1 hH (hqb)) (fun H hH => hH) ⟨Nat.le_of_ble_eq_true rfl, Nat.le_of_ble_eq_true rfl⟩ ⟨show 2 + k + 1 ≤ 18 by omega, show 5 + 64 * k + 64 ≤ 1029 by omega⟩ (Nat.le_of_ble_eq_true rfl) rfl (fun x_37 => ?_)
    refine g_pop X dX3_copy_2_40 rfl rfl ?_
    refine g_iinc X dX3_copy_2_41 rfl rfl (by first | exact nI_1 _ | rfl) (by decide) rfl rfl ?_
    refine g_goto (tgt := 14) X dX3_copy_2_44 rfl (by decide) ?_
    rw [hu_hu, tak_s hy]
    refine GJ.loc [some (.ref a), some (.ref qa), some (.int (nI (k + 1)))] (lvle_c rfl (lvle_c rfl (lvle_c rfl lvle_e))) ?_
    exact GJ.wide (show 2 + k + 1 ≤ 2 + (k + 1) by omega) (show 5 + 64 * k + 64 ≤ 5 + 64 * (k + 1) by omega) (ih (k + 1, m + nI 1) (by omega) (by omega))
end C7
