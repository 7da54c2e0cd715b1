/-! CLASS: guests, bookings, finishes -/
section C3
variable {l : Launch} {Ω : Om} {I : Heap → Prop} {Γ : LH} {a b : Nat}
set_option maxRecDepth 100000
theorem ct_X5_init (hst : l.stackTraces = false) (ha : Γ a = some (.inl (.inr (4, [.int 0, .int 0])))) : CM Ω l yX5_init (ws_ yX5_init cX5_init 1 none) 2 0 0 [.ref a] (hL Ω Γ) (QP none (hL Ω (hu Γ a (.inl (.inr (4, [.int (nI 50), .int 0])))))) nX := by
  refine CM.of (L := [some (.ref a)]) hst (by decide) (Nat.le_of_ble_eq_true rfl) rfl ?_
  intro p e s m below meth c X hnm htab
  refine g_aload_n X dX5_init_0 rfl rfl ?_
  refine g_objInit X dX5_init_1 rfl q595 (Nat.le_of_ble_eq_true rfl) (Nat.le_of_ble_eq_true rfl) ?_
  refine g_aload_n X dX5_init_4 rfl rfl ?_
  refine g_bipush X dX5_init_5 rfl (v := (nI 50)) (by decide) ?_
  refine l_put X dX5_init_7 rfl in_X5 tyX5_ok nmX5 (ci := 4) rfl 0 (by decide) q596 (fun _ h => h) rfl rfl rfl rfl ha (Nat.le_of_ble_eq_true rfl) rfl ?_
  refine g_vret X dX5_init_10 rfl (Nat.le_of_ble_eq_true rfl) (Nat.le_of_ble_eq_true rfl) (fun H hH => ⟨(), rfl, hH⟩)
theorem ct_X8_init (hst : l.stackTraces = false) {g s t u : Int32} (ha : Γ a = some (.inl (.inr (7, [.int 0, .int 0, .int 0, .int 0])))) : CM Ω l yX8_init (ws_ yX8_init cX8_init 5 none) 2 0 0 [.ref a, .int g, .int s, .int t, .int u] (hL Ω Γ) (QP none (hL Ω (hu Γ a (.inl (.inr (7, [.int g, .int s, .int t, .int u])))))) nX := by
  refine CM.of (L := [some (.ref a), some (.int g), some (.int s), some (.int t), some (.int u)]) hst (by decide) (Nat.le_of_ble_eq_true rfl) rfl ?_
  intro p e s m below meth c X hnm htab
  refine g_aload_n X dX8_init_0 rfl rfl ?_
  refine g_objInit X dX8_init_1 rfl q967 (Nat.le_of_ble_eq_true rfl) (Nat.le_of_ble_eq_true rfl) ?_
  refine g_aload_n X dX8_init_4 rfl rfl ?_
  refine g_iload_n X dX8_init_5 rfl rfl ?_
  refine l_putF X hnm dX8_init_6 rfl in_X8 tyX8_ok nmX8 (ci := 7) rfl 0 (by decide) q968 (fun _ h => h) rfl rfl rfl rfl rfl ha (Nat.le_of_ble_eq_true rfl) rfl ?_
  refine g_aload_n X dX8_init_9 rfl rfl ?_
  refine g_iload_n X dX8_init_10 rfl rfl ?_
  refine l_putF X hnm dX8_init_11 rfl in_X8 tyX8_ok nmX8 (ci := 7) rfl 1 (by decide) q971 (fun _ h => h) rfl rfl rfl rfl rfl (hu_s _ _ _) (Nat.le_of_ble_eq_true rfl) rfl ?_
  refine g_aload_n X dX8_init_14 rfl rfl ?_
  refine g_iload_n X dX8_init_15 rfl rfl ?_
  refine l_putF X hnm dX8_init_16 rfl in_X8 tyX8_ok nmX8 (ci := 7) rfl 2 (by decide) q974 (fun _ h => h) rfl rfl rfl rfl rfl (hu_s _ _ _) (Nat.le_of_ble_eq_true rfl) rfl ?_
  refine g_aload_n X dX8_init_19 rfl rfl ?_
  refine g_iload X dX8_init_20 rfl rfl ?_
  refine l_putF X hnm dX8_init_22 rfl in_X8 tyX8_ok nmX8 (ci := 7) rfl 3 (by decide) q977 (fun _ h => h) rfl rfl rfl rfl rfl (hu_s _ _ _) (Nat.le_of_ble_eq_true rfl) rfl ?_
  refine g_vret X dX8_init_25 rfl (Nat.le_of_ble_eq_true rfl) (Nat.le_of_ble_eq_true rfl) (fun H hH => ⟨(), rfl, by rw [hu_hu, hu_hu, hu_hu] at hH; exact hH⟩)
theorem ct_X9_init (hst : l.stackTraces = false) {g s t : Int32} (ha : Γ a = some (.inl (.inr (8, [.int 0, .int 0, .int 0])))) : CM Ω l yX9_init (ws_ yX9_init cX9_init 4 none) 2 0 0 [.ref a, .int g, .int s, .int t] (hL Ω Γ) (QP none (hL Ω (hu Γ a (.inl (.inr (8, [.int g, .int s, .int t])))))) nX := by
  refine CM.of (L := [some (.ref a), some (.int g), some (.int s), some (.int t)]) hst (by decide) (Nat.le_of_ble_eq_true rfl) rfl ?_
  intro p e s m below meth c X hnm htab
  refine g_aload_n X dX9_init_0 rfl rfl ?_
  refine g_objInit X dX9_init_1 rfl q1197 (Nat.le_of_ble_eq_true rfl) (Nat.le_of_ble_eq_true rfl) ?_
  refine g_aload_n X dX9_init_4 rfl rfl ?_
  refine g_iload_n X dX9_init_5 rfl rfl ?_
  refine l_putF X hnm dX9_init_6 rfl in_X9 tyX9_ok nmX9 (ci := 8) rfl 0 (by decide) q1198 (fun _ h => h) rfl rfl rfl rfl rfl ha (Nat.le_of_ble_eq_true rfl) rfl ?_
  refine g_aload_n X dX9_init_9 rfl rfl ?_
  refine g_iload_n X dX9_init_10 rfl rfl ?_
  refine l_putF X hnm dX9_init_11 rfl in_X9 tyX9_ok nmX9 (ci := 8) rfl 1 (by decide) q1200 (fun _ h => h) rfl rfl rfl rfl rfl (hu_s _ _ _) (Nat.le_of_ble_eq_true rfl) rfl ?_
  refine g_aload_n X dX9_init_14 rfl rfl ?_
  refine g_iload_n X dX9_init_15 rfl rfl ?_
  refine l_putF X hnm dX9_init_16 rfl in_X9 tyX9_ok nmX9 (ci := 8) rfl 2 (by decide) q1202 (fun _ h => h) rfl rfl rfl rfl rfl (hu_s _ _ _) (Nat.le_of_ble_eq_true rfl) rfl ?_
  refine g_vret X dX9_init_19 rfl (Nat.le_of_ble_eq_true rfl) (Nat.le_of_ble_eq_true rfl) (fun H hH => ⟨(), rfl, by rw [hu_hu, hu_hu] at hH; exact hH⟩)
theorem ct_X8_isAt (hst : l.stackTraces = false) {g s : Int32} {t u z : Nat} (hu0 : 0 < u) (hu1 : u < 2 ^ 30) (ht : t < 2 ^ 30) (hz : z < 2 ^ 30) (ha : Γ a = some (.inl (.inr (7, [.int g, .int s, .int (nI t), .int (nI u)])))) : CM Ω l yX8_isAt (ws_ yX8_isAt cX8_isAt 2 (some .boolean)) 3 0 0 [.ref a, .int (nI z)] (hL Ω Γ) (QP (some (.int (bI (t ≤ z ∧ z < u)))) (hL Ω Γ)) nX := by
  have e : bI (t ≤ z ∧ z < u) = bI (nI t ≤ nI z ∧ nI z ≤ nI (u - 1)) := bI_congr (by rw [nI_leI (by omega) (by omega), nI_leI (by omega) (by omega)]; omega)
  rw [e]
  refine CM.of (L := [some (.ref a), some (.int (nI z))]) hst (by decide) (Nat.le_of_ble_eq_true rfl) rfl ?_
  intro p e s m below meth c X hnm htab
  refine g_iload_n X dX8_isAt_0 rfl rfl ?_
  refine g_aload_n X dX8_isAt_1 rfl rfl ?_
  refine l_get X dX8_isAt_2 rfl in_X8 (ci := 7) rfl 2 (by decide) q974 (fun _ h => h) ha rfl ?_
  refine g_aload_n X dX8_isAt_5 rfl rfl ?_
  refine l_get X dX8_isAt_6 rfl in_X8 (ci := 7) rfl 3 (by decide) q977 (fun _ h => h) ha rfl ?_
  refine g_iconst X dX8_isAt_9 rfl (v := (nI 1)) rfl ?_
  refine g_isub X dX8_isAt_10 rfl (pk_sub (by omega)) ?_
  refine g_callSN X "SlidePark" (ct_X1_isBetween hst) dX8_isAt_11 rfl q447 q66 q445 q446 hyS_X1_isBetween (fun H hH => hH) ⟨Nat.le_of_ble_eq_true rfl, Nat.le_of_ble_eq_true rfl⟩ ⟨Nat.le_of_ble_eq_true rfl, Nat.le_of_ble_eq_true rfl⟩ (Nat.le_of_ble_eq_true rfl) rfl (fun x_11 => ?_)
  refine g_zret X dX8_isAt_14 rfl bI_nar (Nat.le_of_ble_eq_true rfl) (Nat.le_of_ble_eq_true rfl) (fun H hH => ⟨(), rfl, hH⟩)
theorem ct_X8_overlaps (hst : l.stackTraces = false) {g s : Int32} {t u x y : Nat} (ht : t < 2 ^ 30) (hu1 : u < 2 ^ 30) (hx : x < 2 ^ 30) (hy : y < 2 ^ 30) (ha : Γ a = some (.inl (.inr (7, [.int g, .int s, .int (nI t), .int (nI u)])))) : CM Ω l yX8_overlaps (ws_ yX8_overlaps cX8_overlaps 3 (some .boolean)) 1 0 0 [.ref a, .int (nI x), .int (nI y)] (hL Ω Γ) (QP (some (.int (bI (t < y ∧ x < u)))) (hL Ω Γ)) nX := by
  refine CM.of (L := [some (.ref a), some (.int (nI x)), some (.int (nI y))]) hst (by decide) (Nat.le_of_ble_eq_true rfl) rfl ?_
  intro p e s m below meth c X hnm htab
  by_cases h1 : t < y
  · by_cases h2 : x < u
    · rw [bI_t ⟨h1, h2⟩]
      refine g_aload_n X dX8_overlaps_0 rfl rfl ?_
      refine l_get X dX8_overlaps_1 rfl in_X8 (ci := 7) rfl 2 (by decide) q974 (fun _ h => h) ha rfl ?_
      refine g_iload_n X dX8_overlaps_4 rfl rfl ?_
      refine g_icmp_ge (tgt := 20) X dX8_overlaps_5 rfl (by decide) (fun c => absurd ((nI_leI (by omega) (by omega)).mp c) (by omega)) (fun c_5 => ?_)
      refine g_iload_n X dX8_overlaps_8 rfl rfl ?_
      refine g_aload_n X dX8_overlaps_9 rfl rfl ?_
      refine l_get X dX8_overlaps_10 rfl in_X8 (ci := 7) rfl 3 (by decide) q977 (fun _ h => h) ha rfl ?_
      refine g_icmp_ge (tgt := 20) X dX8_overlaps_13 rfl (by decide) (fun c => absurd ((nI_leI (by omega) (by omega)).mp c) (by omega)) (fun c_13 => ?_)
      refine g_iconst X dX8_overlaps_16 rfl (v := (nI 1)) rfl ?_
      refine g_goto (tgt := 21) X dX8_overlaps_17 rfl (by decide) ?_
      refine g_zret X dX8_overlaps_21 rfl rfl (Nat.le_of_ble_eq_true rfl) (Nat.le_of_ble_eq_true rfl) (fun H hH => ⟨(), rfl, hH⟩)
    · rw [bI_f (fun g => h2 g.2)]
      refine g_aload_n X dX8_overlaps_0 rfl rfl ?_
      refine l_get X dX8_overlaps_1 rfl in_X8 (ci := 7) rfl 2 (by decide) q974 (fun _ h => h) ha rfl ?_
      refine g_iload_n X dX8_overlaps_4 rfl rfl ?_
      refine g_icmp_ge (tgt := 20) X dX8_overlaps_5 rfl (by decide) (fun c => absurd ((nI_leI (by omega) (by omega)).mp c) (by omega)) (fun c_5 => ?_)
      refine g_iload_n X dX8_overlaps_8 rfl rfl ?_
      refine g_aload_n X dX8_overlaps_9 rfl rfl ?_
      refine l_get X dX8_overlaps_10 rfl in_X8 (ci := 7) rfl 3 (by decide) q977 (fun _ h => h) ha rfl ?_
      refine g_icmp_ge (tgt := 20) X dX8_overlaps_13 rfl (by decide) (fun c_13 => ?_) (fun c => absurd ((nI_leI (by omega) (by omega)).mpr (by omega)) c)
      refine g_iconst X dX8_overlaps_20 rfl (v := (nI 0)) rfl ?_
      refine g_zret X dX8_overlaps_21 rfl rfl (Nat.le_of_ble_eq_true rfl) (Nat.le_of_ble_eq_true rfl) (fun H hH => ⟨(), rfl, hH⟩)
  · rw [bI_f (fun g => h1 g.1)]
    refine g_aload_n X dX8_overlaps_0 rfl rfl ?_
    refine l_get X dX8_overlaps_1 rfl in_X8 (ci := 7) rfl 2 (by decide) q974 (fun _ h => h) ha rfl ?_
    refine g_iload_n X dX8_overlaps_4 rfl rfl ?_
    refine g_icmp_ge (tgt := 20) X dX8_overlaps_5 rfl (by decide) (fun c_5 => ?_) (fun c => absurd ((nI_leI (by omega) (by omega)).mpr (by omega)) c)
    refine g_iconst X dX8_overlaps_20 rfl (v := (nI 0)) rfl ?_
    refine g_zret X dX8_overlaps_21 rfl rfl (Nat.le_of_ble_eq_true rfl) (Nat.le_of_ble_eq_true rfl) (fun H hH => ⟨(), rfl, hH⟩)
end C3
