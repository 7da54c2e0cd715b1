/-! CLASS: who is ahead, the item at a rank -/
section D7
variable {l : Launch} {Ω : Om} {Γ0 Γ Γ' : LH} {a b q y : Nat} {A : Ad} {σ : St} {xs : List Nat} {m0 : Int32}
set_option maxRecDepth 100000
theorem pd_ah : (parseMethodDescriptor "(Ljava/lang/Object;Z)Z").map (fun d => d.parameters.length) = some 2 := by decide +kernel
theorem ct_X5_isAheadOf_2 (hst : l.stackTraces = false) {P : Prop} {c1 r1 c2 r2 : Nat} (h1 : c1 < 2 ^ 30) (h2 : r1 < 2 ^ 30) (h3 : c2 < 2 ^ 30) (h4 : r2 < 2 ^ 30) (ha : Γ a = some (.inl (.inr (4, [.int (nI c1), .int (nI r1)])))) (hb : Γ b = some (.inl (.inr (4, [.int (nI c2), .int (nI r2)])))) : CM Ω l yX5_isAheadOf_2 (ws_ yX5_isAheadOf_2 cX5_isAheadOf_2 3 (some .boolean)) 1 0 0 [.ref a, .ref b, .int (bI P)] (hL Ω Γ) (QP (some (.int (bI (r2 < r1 ∨ (r1 = r2 ∧ (c2 < c1 ∨ (c1 = c2 ∧ P))))))) (hL Ω Γ)) nX := by
  refine CM.of (L := [some (.ref a), some (.ref b), some (.int (bI P))]) hst (by decide) (Nat.le_of_ble_eq_true rfl) rfl ?_
  intro p e s m below meth c X hnm htab
  by_cases g1 : r1 = r2
  · by_cases g2 : c1 = c2
    · rw [bI_congr (show (r2 < r1 ∨ (r1 = r2 ∧ (c2 < c1 ∨ (c1 = c2 ∧ P)))) ↔ P from ⟨fun z => z.elim (fun z => absurd z (by omega)) (fun z => z.2.elim (fun z => absurd z (by omega)) (fun z => z.2)), fun z => Or.inr ⟨g1, Or.inr ⟨g2, z⟩⟩⟩)]
      refine g_aload_n X dX5_isAheadOf_2_0 rfl rfl ?_
      refine l_get X dX5_isAheadOf_2_1 rfl in_X5 (ci := 4) rfl 1 (by decide) q599 (fun _ h => h) ha rfl ?_
      refine g_aload_n X dX5_isAheadOf_2_4 rfl rfl ?_
      refine l_get X dX5_isAheadOf_2_5 rfl in_X5 (ci := 4) rfl 1 (by decide) q599 (fun _ h => h) hb rfl ?_
      refine g_icmp_eq (tgt := 28) X dX5_isAheadOf_2_8 rfl (by decide) (fun c_8 => ?_) (fun c => absurd (by rw [g1]) c)
      refine g_aload_n X dX5_isAheadOf_2_28 rfl rfl ?_
      refine l_get X dX5_isAheadOf_2_29 rfl in_X5 (ci := 4) rfl 0 (by decide) q596 (fun _ h => h) ha rfl ?_
      refine g_aload_n X dX5_isAheadOf_2_32 rfl rfl ?_
      refine l_get X dX5_isAheadOf_2_33 rfl in_X5 (ci := 4) rfl 0 (by decide) q596 (fun _ h => h) hb rfl ?_
      refine g_icmp_eq (tgt := 58) X dX5_isAheadOf_2_36 rfl (by decide) (fun c_36 => ?_) (fun c => absurd (by rw [g2]) c)
      refine g_iload_n X dX5_isAheadOf_2_58 rfl rfl ?_
      refine g_zret X dX5_isAheadOf_2_59 rfl bI_nar (by first | exact Nat.le_of_ble_eq_true rfl | omega | (dsimp only [rmD]; omega)) (by first | exact Nat.le_of_ble_eq_true rfl | omega | (dsimp only [rmD]; omega)) (fun H hH => ⟨(), rfl, hH⟩)
    · by_cases g3 : c2 < c1
      · rw [bI_t (Or.inr ⟨g1, Or.inl g3⟩)]
        refine g_aload_n X dX5_isAheadOf_2_0 rfl rfl ?_
        refine l_get X dX5_isAheadOf_2_1 rfl in_X5 (ci := 4) rfl 1 (by decide) q599 (fun _ h => h) ha rfl ?_
        refine g_aload_n X dX5_isAheadOf_2_4 rfl rfl ?_
        refine l_get X dX5_isAheadOf_2_5 rfl in_X5 (ci := 4) rfl 1 (by decide) q599 (fun _ h => h) hb rfl ?_
        refine g_icmp_eq (tgt := 28) X dX5_isAheadOf_2_8 rfl (by decide) (fun c_8 => ?_) (fun c => absurd (by rw [g1]) c)
        refine g_aload_n X dX5_isAheadOf_2_28 rfl rfl ?_
        refine l_get X dX5_isAheadOf_2_29 rfl in_X5 (ci := 4) rfl 0 (by decide) q596 (fun _ h => h) ha rfl ?_
        refine g_aload_n X dX5_isAheadOf_2_32 rfl rfl ?_
        refine l_get X dX5_isAheadOf_2_33 rfl in_X5 (ci := 4) rfl 0 (by decide) q596 (fun _ h => h) hb rfl ?_
        refine g_icmp_eq (tgt := 58) X dX5_isAheadOf_2_36 rfl (by decide) (fun c => absurd ((nI_eq (by omega) (by omega)).mp c) g2) (fun c_36 => ?_)
        refine g_aload_n X dX5_isAheadOf_2_39 rfl rfl ?_
        refine l_get X dX5_isAheadOf_2_40 rfl in_X5 (ci := 4) rfl 0 (by decide) q596 (fun _ h => h) ha rfl ?_
        refine g_aload_n X dX5_isAheadOf_2_43 rfl rfl ?_
        refine l_get X dX5_isAheadOf_2_44 rfl in_X5 (ci := 4) rfl 0 (by decide) q596 (fun _ h => h) hb rfl ?_
        refine g_icmp_le (tgt := 54) X dX5_isAheadOf_2_47 rfl (by decide) (fun c => absurd ((nI_leI (by omega) (by omega)).mp c) (by omega)) (fun c_47 => ?_)
        refine g_iconst X dX5_isAheadOf_2_50 rfl (v := (nI 1)) rfl ?_
        refine g_goto (tgt := 59) X dX5_isAheadOf_2_51 rfl (by decide) ?_
        refine g_zret X dX5_isAheadOf_2_59 rfl rfl (by first | exact Nat.le_of_ble_eq_true rfl | omega | (dsimp only [rmD]; omega)) (by first | exact Nat.le_of_ble_eq_true rfl | omega | (dsimp only [rmD]; omega)) (fun H hH => ⟨(), rfl, hH⟩)
      · rw [bI_f (P := r2 < r1 ∨ (r1 = r2 ∧ (c2 < c1 ∨ (c1 = c2 ∧ P)))) (fun z => z.elim (fun z => absurd z (by omega)) (fun z => z.2.elim g3 (fun z => g2 z.1)))]
        refine g_aload_n X dX5_isAheadOf_2_0 rfl rfl ?_
        refine l_get X dX5_isAheadOf_2_1 rfl in_X5 (ci := 4) rfl 1 (by decide) q599 (fun _ h => h) ha rfl ?_
        refine g_aload_n X dX5_isAheadOf_2_4 rfl rfl ?_
        refine l_get X dX5_isAheadOf_2_5 rfl in_X5 (ci := 4) rfl 1 (by decide) q599 (fun _ h => h) hb rfl ?_
        refine g_icmp_eq (tgt := 28) X dX5_isAheadOf_2_8 rfl (by decide) (fun c_8 => ?_) (fun c => absurd (by rw [g1]) c)
        refine g_aload_n X dX5_isAheadOf_2_28 rfl rfl ?_
        refine l_get X dX5_isAheadOf_2_29 rfl in_X5 (ci := 4) rfl 0 (by decide) q596 (fun _ h => h) ha rfl ?_
        refine g_aload_n X dX5_isAheadOf_2_32 rfl rfl ?_
        refine l_get X dX5_isAheadOf_2_33 rfl in_X5 (ci := 4) rfl 0 (by decide) q596 (fun _ h => h) hb rfl ?_
        refine g_icmp_eq (tgt := 58) X dX5_isAheadOf_2_36 rfl (by decide) (fun c => absurd ((nI_eq (by omega) (by omega)).mp c) g2) (fun c_36 => ?_)
        refine g_aload_n X dX5_isAheadOf_2_39 rfl rfl ?_
        refine l_get X dX5_isAheadOf_2_40 rfl in_X5 (ci := 4) rfl 0 (by decide) q596 (fun _ h => h) ha rfl ?_
        refine g_aload_n X dX5_isAheadOf_2_43 rfl rfl ?_
        refine l_get X dX5_isAheadOf_2_44 rfl in_X5 (ci := 4) rfl 0 (by decide) q596 (fun _ h => h) hb rfl ?_
        refine g_icmp_le (tgt := 54) X dX5_isAheadOf_2_47 rfl (by decide) (fun c_47 => ?_) (fun c => absurd ((nI_leI (by omega) (by omega)).mpr (by omega)) c)
        refine g_iconst X dX5_isAheadOf_2_54 rfl (v := (nI 0)) rfl ?_
        refine g_goto (tgt := 59) X dX5_isAheadOf_2_55 rfl (by decide) ?_
        refine g_zret X dX5_isAheadOf_2_59 rfl rfl (by first | exact Nat.le_of_ble_eq_true rfl | omega | (dsimp only [rmD]; omega)) (by first | exact Nat.le_of_ble_eq_true rfl | omega | (dsimp only [rmD]; omega)) (fun H hH => ⟨(), rfl, hH⟩)
  · by_cases g2 : r2 < r1
    · rw [bI_t (Or.inl g2)]
      refine g_aload_n X dX5_isAheadOf_2_0 rfl rfl ?_
      refine l_get X dX5_isAheadOf_2_1 rfl in_X5 (ci := 4) rfl 1 (by decide) q599 (fun _ h => h) ha rfl ?_
      refine g_aload_n X dX5_isAheadOf_2_4 rfl rfl ?_
      refine l_get X dX5_isAheadOf_2_5 rfl in_X5 (ci := 4) rfl 1 (by decide) q599 (fun _ h => h) hb rfl ?_
      refine g_icmp_eq (tgt := 28) X dX5_isAheadOf_2_8 rfl (by decide) (fun c => absurd ((nI_eq (by omega) (by omega)).mp c) g1) (fun c_8 => ?_)
      refine g_aload_n X dX5_isAheadOf_2_11 rfl rfl ?_
      refine l_get X dX5_isAheadOf_2_12 rfl in_X5 (ci := 4) rfl 1 (by decide) q599 (fun _ h => h) ha rfl ?_
      refine g_aload_n X dX5_isAheadOf_2_15 rfl rfl ?_
      refine l_get X dX5_isAheadOf_2_16 rfl in_X5 (ci := 4) rfl 1 (by decide) q599 (fun _ h => h) hb rfl ?_
      refine g_icmp_le (tgt := 26) X dX5_isAheadOf_2_19 rfl (by decide) (fun c => absurd ((nI_leI (by omega) (by omega)).mp c) (by omega)) (fun c_19 => ?_)
      refine g_iconst X dX5_isAheadOf_2_22 rfl (v := (nI 1)) rfl ?_
      refine g_goto (tgt := 27) X dX5_isAheadOf_2_23 rfl (by decide) ?_
      refine g_zret X dX5_isAheadOf_2_27 rfl rfl (by first | exact Nat.le_of_ble_eq_true rfl | omega | (dsimp only [rmD]; omega)) (by first | exact Nat.le_of_ble_eq_true rfl | omega | (dsimp only [rmD]; omega)) (fun H hH => ⟨(), rfl, hH⟩)
    · rw [bI_f (P := r2 < r1 ∨ (r1 = r2 ∧ (c2 < c1 ∨ (c1 = c2 ∧ P)))) (fun z => z.elim g2 (fun z => g1 z.1))]
      refine g_aload_n X dX5_isAheadOf_2_0 rfl rfl ?_
      refine l_get X dX5_isAheadOf_2_1 rfl in_X5 (ci := 4) rfl 1 (by decide) q599 (fun _ h => h) ha rfl ?_
      refine g_aload_n X dX5_isAheadOf_2_4 rfl rfl ?_
      refine l_get X dX5_isAheadOf_2_5 rfl in_X5 (ci := 4) rfl 1 (by decide) q599 (fun _ h => h) hb rfl ?_
      refine g_icmp_eq (tgt := 28) X dX5_isAheadOf_2_8 rfl (by decide) (fun c => absurd ((nI_eq (by omega) (by omega)).mp c) g1) (fun c_8 => ?_)
      refine g_aload_n X dX5_isAheadOf_2_11 rfl rfl ?_
      refine l_get X dX5_isAheadOf_2_12 rfl in_X5 (ci := 4) rfl 1 (by decide) q599 (fun _ h => h) ha rfl ?_
      refine g_aload_n X dX5_isAheadOf_2_15 rfl rfl ?_
      refine l_get X dX5_isAheadOf_2_16 rfl in_X5 (ci := 4) rfl 1 (by decide) q599 (fun _ h => h) hb rfl ?_
      refine g_icmp_le (tgt := 26) X dX5_isAheadOf_2_19 rfl (by decide) (fun c_19 => ?_) (fun c => absurd ((nI_leI (by omega) (by omega)).mpr (by omega)) c)
      refine g_iconst X dX5_isAheadOf_2_26 rfl (v := (nI 0)) rfl ?_
      refine g_zret X dX5_isAheadOf_2_27 rfl rfl (by first | exact Nat.le_of_ble_eq_true rfl | omega | (dsimp only [rmD]; omega)) (by first | exact Nat.le_of_ble_eq_true rfl | omega | (dsimp only [rmD]; omega)) (fun H hH => ⟨(), rfl, hH⟩)
theorem ct_X8_isAheadOf_2 (hst : l.stackTraces = false) {P : Prop} {v1 w1 v2 w2 : Value} {s1 t1 s2 t2 : Nat} (h1 : s1 < 2 ^ 30) (h2 : t1 < 2 ^ 30) (h3 : s2 < 2 ^ 30) (h4 : t2 < 2 ^ 30) (ha : Γ a = some (.inl (.inr (7, [v1, .int (nI s1), .int (nI t1), w1])))) (hb : Γ b = some (.inl (.inr (7, [v2, .int (nI s2), .int (nI t2), w2])))) : CM Ω l yX8_isAheadOf_2 (ws_ yX8_isAheadOf_2 cX8_isAheadOf_2 3 (some .boolean)) 1 0 0 [.ref a, .ref b, .int (bI P)] (hL Ω Γ) (QP (some (.int (bI (t1 < t2 ∨ (t1 = t2 ∧ (s1 < s2 ∨ (s1 = s2 ∧ P))))))) (hL Ω Γ)) nX := by
  refine CM.of (L := [some (.ref a), some (.ref b), some (.int (bI P))]) hst (by decide) (Nat.le_of_ble_eq_true rfl) rfl ?_
  intro p e s m below meth c X hnm htab
  by_cases g1 : t1 = t2
  · by_cases g2 : s1 = s2
    · rw [bI_congr (show (t1 < t2 ∨ (t1 = t2 ∧ (s1 < s2 ∨ (s1 = s2 ∧ P)))) ↔ P from ⟨fun z => z.elim (fun z => absurd z (by omega)) (fun z => z.2.elim (fun z => absurd z (by omega)) (fun z => z.2)), fun z => Or.inr ⟨g1, Or.inr ⟨g2, z⟩⟩⟩)]
      refine g_aload_n X dX8_isAheadOf_2_0 rfl rfl ?_
      refine l_get X dX8_isAheadOf_2_1 rfl in_X8 (ci := 7) rfl 2 (by decide) q974 (fun _ h => h) ha rfl ?_
      refine g_aload_n X dX8_isAheadOf_2_4 rfl rfl ?_
      refine l_get X dX8_isAheadOf_2_5 rfl in_X8 (ci := 7) rfl 2 (by decide) q974 (fun _ h => h) hb rfl ?_
      refine g_icmp_eq (tgt := 28) X dX8_isAheadOf_2_8 rfl (by decide) (fun c_8 => ?_) (fun c => absurd (by rw [g1]) c)
      refine g_aload_n X dX8_isAheadOf_2_28 rfl rfl ?_
      refine l_get X dX8_isAheadOf_2_29 rfl in_X8 (ci := 7) rfl 1 (by decide) q971 (fun _ h => h) ha rfl ?_
      refine g_aload_n X dX8_isAheadOf_2_32 rfl rfl ?_
      refine l_get X dX8_isAheadOf_2_33 rfl in_X8 (ci := 7) rfl 1 (by decide) q971 (fun _ h => h) hb rfl ?_
      refine g_icmp_eq (tgt := 58) X dX8_isAheadOf_2_36 rfl (by decide) (fun c_36 => ?_) (fun c => absurd (by rw [g2]) c)
      refine g_iload_n X dX8_isAheadOf_2_58 rfl rfl ?_
      refine g_zret X dX8_isAheadOf_2_59 rfl bI_nar (by first | exact Nat.le_of_ble_eq_true rfl | omega | (dsimp only [rmD]; omega)) (by first | exact Nat.le_of_ble_eq_true rfl | omega | (dsimp only [rmD]; omega)) (fun H hH => ⟨(), rfl, hH⟩)
    · by_cases g3 : s1 < s2
      · rw [bI_t (Or.inr ⟨g1, Or.inl g3⟩)]
        refine g_aload_n X dX8_isAheadOf_2_0 rfl rfl ?_
        refine l_get X dX8_isAheadOf_2_1 rfl in_X8 (ci := 7) rfl 2 (by decide) q974 (fun _ h => h) ha rfl ?_
        refine g_aload_n X dX8_isAheadOf_2_4 rfl rfl ?_
        refine l_get X dX8_isAheadOf_2_5 rfl in_X8 (ci := 7) rfl 2 (by decide) q974 (fun _ h => h) hb rfl ?_
        refine g_icmp_eq (tgt := 28) X dX8_isAheadOf_2_8 rfl (by decide) (fun c_8 => ?_) (fun c => absurd (by rw [g1]) c)
        refine g_aload_n X dX8_isAheadOf_2_28 rfl rfl ?_
        refine l_get X dX8_isAheadOf_2_29 rfl in_X8 (ci := 7) rfl 1 (by decide) q971 (fun _ h => h) ha rfl ?_
        refine g_aload_n X dX8_isAheadOf_2_32 rfl rfl ?_
        refine l_get X dX8_isAheadOf_2_33 rfl in_X8 (ci := 7) rfl 1 (by decide) q971 (fun _ h => h) hb rfl ?_
        refine g_icmp_eq (tgt := 58) X dX8_isAheadOf_2_36 rfl (by decide) (fun c => absurd ((nI_eq (by omega) (by omega)).mp c) g2) (fun c_36 => ?_)
        refine g_aload_n X dX8_isAheadOf_2_39 rfl rfl ?_
        refine l_get X dX8_isAheadOf_2_40 rfl in_X8 (ci := 7) rfl 1 (by decide) q971 (fun _ h => h) ha rfl ?_
        refine g_aload_n X dX8_isAheadOf_2_43 rfl rfl ?_
        refine l_get X dX8_isAheadOf_2_44 rfl in_X8 (ci := 7) rfl 1 (by decide) q971 (fun _ h => h) hb rfl ?_
        refine g_icmp_ge (tgt := 54) X dX8_isAheadOf_2_47 rfl (by decide) (fun c => absurd ((nI_leI (by omega) (by omega)).mp c) (by omega)) (fun c_47 => ?_)
        refine g_iconst X dX8_isAheadOf_2_50 rfl (v := (nI 1)) rfl ?_
        refine g_goto (tgt := 59) X dX8_isAheadOf_2_51 rfl (by decide) ?_
        refine g_zret X dX8_isAheadOf_2_59 rfl rfl (by first | exact Nat.le_of_ble_eq_true rfl | omega | (dsimp only [rmD]; omega)) (by first | exact Nat.le_of_ble_eq_true rfl | omega | (dsimp only [rmD]; omega)) (fun H hH => ⟨(), rfl, hH⟩)
      · rw [bI_f (P := t1 < t2 ∨ (t1 = t2 ∧ (s1 < s2 ∨ (s1 = s2 ∧ P)))) (fun z => z.elim (fun z => absurd z (by omega)) (fun z => z.2.elim g3 (fun z => g2 z.1)))]
        refine g_aload_n X dX8_isAheadOf_2_0 rfl rfl ?_
        refine l_get X dX8_isAheadOf_2_1 rfl in_X8 (ci := 7) rfl 2 (by decide) q974 (fun _ h => h) ha rfl ?_
        refine g_aload_n X dX8_isAheadOf_2_4 rfl rfl ?_
        refine l_get X dX8_isAheadOf_2_5 rfl in_X8 (ci := 7) rfl 2 (by decide) q974 (fun _ h => h) hb rfl ?_
        refine g_icmp_eq (tgt := 28) X dX8_isAheadOf_2_8 rfl (by decide) (fun c_8 => ?_) (fun c => absurd (by rw [g1]) c)
        refine g_aload_n X dX8_isAheadOf_2_28 rfl rfl ?_
        refine l_get X dX8_isAheadOf_2_29 rfl in_X8 (ci := 7) rfl 1 (by decide) q971 (fun _ h => h) ha rfl ?_
        refine g_aload_n X dX8_isAheadOf_2_32 rfl rfl ?_
        refine l_get X dX8_isAheadOf_2_33 rfl in_X8 (ci := 7) rfl 1 (by decide) q971 (fun _ h => h) hb rfl ?_
        refine g_icmp_eq (tgt := 58) X dX8_isAheadOf_2_36 rfl (by decide) (fun c => absurd ((nI_eq (by omega) (by omega)).mp c) g2) (fun c_36 => ?_)
        refine g_aload_n X dX8_isAheadOf_2_39 rfl rfl ?_
        refine l_get X dX8_isAheadOf_2_40 rfl in_X8 (ci := 7) rfl 1 (by decide) q971 (fun _ h => h) ha rfl ?_
        refine g_aload_n X dX8_isAheadOf_2_43 rfl rfl ?_
        refine l_get X dX8_isAheadOf_2_44 rfl in_X8 (ci := 7) rfl 1 (by decide) q971 (fun _ h => h) hb rfl ?_
        refine g_icmp_ge (tgt := 54) X dX8_isAheadOf_2_47 rfl (by decide) (fun c_47 => ?_) (fun c => absurd ((nI_leI (by omega) (by omega)).mpr (by omega)) c)
        refine g_iconst X dX8_isAheadOf_2_54 rfl (v := (nI 0)) rfl ?_
        refine g_goto (tgt := 59) X dX8_isAheadOf_2_55 rfl (by decide) ?_
        refine g_zret X dX8_isAheadOf_2_59 rfl rfl (by first | exact Nat.le_of_ble_eq_true rfl | omega | (dsimp only [rmD]; omega)) (by first | exact Nat.le_of_ble_eq_true rfl | omega | (dsimp only [rmD]; omega)) (fun H hH => ⟨(), rfl, hH⟩)
  · by_cases g2 : t1 < t2
    · rw [bI_t (Or.inl g2)]
      refine g_aload_n X dX8_isAheadOf_2_0 rfl rfl ?_
      refine l_get X dX8_isAheadOf_2_1 rfl in_X8 (ci := 7) rfl 2 (by decide) q974 (fun _ h => h) ha rfl ?_
      refine g_aload_n X dX8_isAheadOf_2_4 rfl rfl ?_
      refine l_get X dX8_isAheadOf_2_5 rfl in_X8 (ci := 7) rfl 2 (by decide) q974 (fun _ h => h) hb rfl ?_
      refine g_icmp_eq (tgt := 28) X dX8_isAheadOf_2_8 rfl (by decide) (fun c => absurd ((nI_eq (by omega) (by omega)).mp c) g1) (fun c_8 => ?_)
      refine g_aload_n X dX8_isAheadOf_2_11 rfl rfl ?_
      refine l_get X dX8_isAheadOf_2_12 rfl in_X8 (ci := 7) rfl 2 (by decide) q974 (fun _ h => h) ha rfl ?_
      refine g_aload_n X dX8_isAheadOf_2_15 rfl rfl ?_
      refine l_get X dX8_isAheadOf_2_16 rfl in_X8 (ci := 7) rfl 2 (by decide) q974 (fun _ h => h) hb rfl ?_
      refine g_icmp_ge (tgt := 26) X dX8_isAheadOf_2_19 rfl (by decide) (fun c => absurd ((nI_leI (by omega) (by omega)).mp c) (by omega)) (fun c_19 => ?_)
      refine g_iconst X dX8_isAheadOf_2_22 rfl (v := (nI 1)) rfl ?_
      refine g_goto (tgt := 27) X dX8_isAheadOf_2_23 rfl (by decide) ?_
      refine g_zret X dX8_isAheadOf_2_27 rfl rfl (by first | exact Nat.le_of_ble_eq_true rfl | omega | (dsimp only [rmD]; omega)) (by first | exact Nat.le_of_ble_eq_true rfl | omega | (dsimp only [rmD]; omega)) (fun H hH => ⟨(), rfl, hH⟩)
    · rw [bI_f (P := t1 < t2 ∨ (t1 = t2 ∧ (s1 < s2 ∨ (s1 = s2 ∧ P)))) (fun z => z.elim g2 (fun z => g1 z.1))]
      refine g_aload_n X dX8_isAheadOf_2_0 rfl rfl ?_
      refine l_get X dX8_isAheadOf_2_1 rfl in_X8 (ci := 7) rfl 2 (by decide) q974 (fun _ h => h) ha rfl ?_
      refine g_aload_n X dX8_isAheadOf_2_4 rfl rfl ?_
      refine l_get X dX8_isAheadOf_2_5 rfl in_X8 (ci := 7) rfl 2 (by decide) q974 (fun _ h => h) hb rfl ?_
      refine g_icmp_eq (tgt := 28) X dX8_isAheadOf_2_8 rfl (by decide) (fun c => absurd ((nI_eq (by omega) (by omega)).mp c) g1) (fun c_8 => ?_)
      refine g_aload_n X dX8_isAheadOf_2_11 rfl rfl ?_
      refine l_get X dX8_isAheadOf_2_12 rfl in_X8 (ci := 7) rfl 2 (by decide) q974 (fun _ h => h) ha rfl ?_
      refine g_aload_n X dX8_isAheadOf_2_15 rfl rfl ?_
      refine l_get X dX8_isAheadOf_2_16 rfl in_X8 (ci := 7) rfl 2 (by decide) q974 (fun _ h => h) hb rfl ?_
      refine g_icmp_ge (tgt := 26) X dX8_isAheadOf_2_19 rfl (by decide) (fun c_19 => ?_) (fun c => absurd ((nI_leI (by omega) (by omega)).mpr (by omega)) c)
      refine g_iconst X dX8_isAheadOf_2_26 rfl (v := (nI 0)) rfl ?_
      refine g_zret X dX8_isAheadOf_2_27 rfl rfl (by first | exact Nat.le_of_ble_eq_true rfl | omega | (dsimp only [rmD]; omega)) (by first | exact Nat.le_of_ble_eq_true rfl | omega | (dsimp only [rmD]; omega)) (fun H hH => ⟨(), rfl, hH⟩)
theorem ct_X5_isAheadOf (hst : l.stackTraces = false) {P : Prop} {c1 r1 c2 r2 : Nat} (h1 : c1 < 2 ^ 30) (h2 : r1 < 2 ^ 30) (h3 : c2 < 2 ^ 30) (h4 : r2 < 2 ^ 30) (ha : Γ a = some (.inl (.inr (4, [.int (nI c1), .int (nI r1)])))) (hb : Γ b = some (.inl (.inr (4, [.int (nI c2), .int (nI r2)])))) : CM Ω l yX5_isAheadOf (ws_ yX5_isAheadOf cX5_isAheadOf 3 (some .boolean)) 3 0 0 [.ref a, .ref b, .int (bI P)] (hL Ω Γ) (QP (some (.int (bI (r2 < r1 ∨ (r1 = r2 ∧ (c2 < c1 ∨ (c1 = c2 ∧ P))))))) (hL Ω Γ)) nX := by
  refine CM.of (L := [some (.ref a), some (.ref b), some (.int (bI P))]) hst (by decide) (Nat.le_of_ble_eq_true rfl) rfl ?_
  intro p e s m below meth c X hnm htab
  refine g_aload_n X dX5_isAheadOf_0 rfl rfl ?_
  refine g_aload_n X dX5_isAheadOf_1 rfl rfl ?_
  refine g_cast X dX5_isAheadOf_2 rfl q343 (fun H hH => hL.recv X.2.2.2.2.2.2.2.1 hH (hb) rfl) ?_
  refine g_iload_n X dX5_isAheadOf_5 rfl rfl ?_
  refine g_callV X (ct_X5_isAheadOf_2 hst h1 h2 h3 h4 ha hb) dX5_isAheadOf_6 rfl (lw_V q344 q345 q346 q79 q347) hyV_X5_isAheadOf_2 (fun H hH => hL.recv X.2.2.2.2.2.2.2.1 hH (ha) rfl) (fun H hH => hH) ⟨Nat.le_of_ble_eq_true rfl, Nat.le_of_ble_eq_true rfl⟩ ⟨by first | exact Nat.le_of_ble_eq_true rfl | omega | (dsimp only [rmD]; omega), by first | exact Nat.le_of_ble_eq_true rfl | omega | (dsimp only [rmD]; omega)⟩ (Nat.le_of_ble_eq_true rfl) rfl (fun x_6 => ?_)
  refine g_zret X dX5_isAheadOf_9 rfl bI_nar (by first | exact Nat.le_of_ble_eq_true rfl | omega | (dsimp only [rmD]; omega)) (by first | exact Nat.le_of_ble_eq_true rfl | omega | (dsimp only [rmD]; omega)) (fun H hH => ⟨(), rfl, hH⟩)
theorem ct_X8_isAheadOf (hst : l.stackTraces = false) {P : Prop} {v1 w1 v2 w2 : Value} {s1 t1 s2 t2 : Nat} (h1 : s1 < 2 ^ 30) (h2 : t1 < 2 ^ 30) (h3 : s2 < 2 ^ 30) (h4 : t2 < 2 ^ 30) (ha : Γ a = some (.inl (.inr (7, [v1, .int (nI s1), .int (nI t1), w1])))) (hb : Γ b = some (.inl (.inr (7, [v2, .int (nI s2), .int (nI t2), w2])))) : CM Ω l yX8_isAheadOf (ws_ yX8_isAheadOf cX8_isAheadOf 3 (some .boolean)) 3 0 0 [.ref a, .ref b, .int (bI P)] (hL Ω Γ) (QP (some (.int (bI (t1 < t2 ∨ (t1 = t2 ∧ (s1 < s2 ∨ (s1 = s2 ∧ P))))))) (hL Ω Γ)) nX := by
  refine CM.of (L := [some (.ref a), some (.ref b), some (.int (bI P))]) hst (by decide) (Nat.le_of_ble_eq_true rfl) rfl ?_
  intro p e s m below meth c X hnm htab
  refine g_aload_n X dX8_isAheadOf_0 rfl rfl ?_
  refine g_aload_n X dX8_isAheadOf_1 rfl rfl ?_
  refine g_cast X dX8_isAheadOf_2 rfl q332 (fun H hH => hL.recv X.2.2.2.2.2.2.2.1 hH (hb) rfl) ?_
  refine g_iload_n X dX8_isAheadOf_5 rfl rfl ?_
  refine g_callV X (ct_X8_isAheadOf_2 hst h1 h2 h3 h4 ha hb) dX8_isAheadOf_6 rfl (lw_V q333 q334 q335 q94 q336) hyV_X8_isAheadOf_2 (fun H hH => hL.recv X.2.2.2.2.2.2.2.1 hH (ha) rfl) (fun H hH => hH) ⟨Nat.le_of_ble_eq_true rfl, Nat.le_of_ble_eq_true rfl⟩ ⟨by first | exact Nat.le_of_ble_eq_true rfl | omega | (dsimp only [rmD]; omega), by first | exact Nat.le_of_ble_eq_true rfl | omega | (dsimp only [rmD]; omega)⟩ (Nat.le_of_ble_eq_true rfl) rfl (fun x_6 => ?_)
  refine g_zret X dX8_isAheadOf_9 rfl bI_nar (by first | exact Nat.le_of_ble_eq_true rfl | omega | (dsimp only [rmD]; omega)) (by first | exact Nat.le_of_ble_eq_true rfl | omega | (dsimp only [rmD]; omega)) (fun H hH => ⟨(), rfl, hH⟩)
theorem ct_X7_isAheadOf (hst : l.stackTraces = false) {P : Prop} {va vb : Value} {d1 p1 d2 p2 : Int32} {w1 w2 : Nat} (h1 : w1 < 1000) (h2 : w2 < 1000) (ha : Γ a = some (.inl (.inr (6, [.int d1, .int p1, va, .int (nI w1)])))) (hb : Γ b = some (.inl (.inr (6, [.int d2, .int p2, vb, .int (nI w2)])))) : CM Ω l yX7_isAheadOf (ws_ yX7_isAheadOf cX7_isAheadOf 3 (some .boolean)) 3 0 0 [.ref a, .ref b, .int (bI P)] (hL Ω Γ) (QP (some (.int (bI (w2 < w1 ∨ (w1 = w2 ∧ P))))) (hL Ω Γ)) nX := by
  refine CM.of (L := [some (.ref a), some (.ref b), some (.int (bI P))]) hst (by decide) (Nat.le_of_ble_eq_true rfl) rfl ?_
  intro p e s m below meth c X hnm htab
  refine g_aload_n X dX7_isAheadOf_0 rfl rfl ?_
  refine g_aload_n X dX7_isAheadOf_1 rfl rfl ?_
  refine g_cast X dX7_isAheadOf_2 rfl q354 (fun H hH => hL.recv X.2.2.2.2.2.2.2.1 hH (hb) rfl) ?_
  refine g_iload_n X dX7_isAheadOf_5 rfl rfl ?_
  refine g_callV X (ct_X7_isAheadOf_2 hst h1 h2 ha hb) dX7_isAheadOf_6 rfl (lw_V q355 q356 q357 q85 q358) hyV_X7_isAheadOf_2 (fun H hH => hL.recv X.2.2.2.2.2.2.2.1 hH (ha) rfl) (fun H hH => hH) ⟨Nat.le_of_ble_eq_true rfl, Nat.le_of_ble_eq_true rfl⟩ ⟨by first | exact Nat.le_of_ble_eq_true rfl | omega | (dsimp only [rmD]; omega), by first | exact Nat.le_of_ble_eq_true rfl | omega | (dsimp only [rmD]; omega)⟩ (Nat.le_of_ble_eq_true rfl) rfl (fun x_6 => ?_)
  refine g_zret X dX7_isAheadOf_9 rfl bI_nar (by first | exact Nat.le_of_ble_eq_true rfl | omega | (dsimp only [rmD]; omega)) (by first | exact Nat.le_of_ble_eq_true rfl | omega | (dsimp only [rmD]; omega)) (fun H hH => ⟨(), rfl, hH⟩)
/-- a booking that comes ahead by start, slide and place -/
def rkC (σ : St) (one other : Nat) : Prop := boT σ other < boT σ one ∨ (boT σ other = boT σ one ∧ (boS σ other < boS σ one ∨ (boS σ other = boS σ one ∧ other < one)))
theorem ct_X1_atRank_G (hst : l.stackTraces = false) (hS : SR Ω Γ0 Γ a A σ) (hB : Bd σ) {r : Int32} : CM Ω l yX1_atRank (ws_ yX1_atRank cX1_atRank 5 (some .int)) 16 1 6 [.ref (qdG A), .int r] (hL Ω Γ) (QV (fun k : {k : Nat // k < nG σ ∧ nI (cN (rkG σ k) (nG σ)) = r ∧ ∀ j, j < k → ¬ nI (cN (rkG σ j) (nG σ)) = r} => some (.int (nI k.1))) (fun _ => hL Ω Γ)) (xE "java/util/NoSuchElementException" (∀ j, j < nG σ → ¬ nI (cN (rkG σ j) (nG σ)) = r) (hL Ω Γ)) := by
  obtain ⟨mG, hmG⟩ := hS.lG
  have hcG := hS.cG
  have b1 := hB.1
  have hir : ∀ one, ¬ rkG σ one one := fun one => (fun h => h.elim (fun h => absurd h (Nat.lt_irrefl _)) (fun h => h.2.elim (fun h => absurd h (Nat.lt_irrefl _)) (fun h => absurd h.2 (Nat.lt_irrefl _))))
  refine CM.of (L := [some (.ref (qdG A)), some (.int r), none, none, none]) hst (by decide) (Nat.le_of_ble_eq_true rfl) rfl ?_
  intro p e s m below meth c X hnm htab
  refine g_iconst X dX1_atRank_0 rfl (v := (nI 0)) rfl ?_
  refine g_istore_n X dX1_atRank_1 rfl (by decide) rfl rfl ?_
  refine GJ.loc ((fun (one : Nat) => [some (.ref (qdG A)), some (.int r), some (.int (nI one)), none, none]) 0) (lvle_c rfl (lvle_c rfl (lvle_c rfl (lvle_n (lvle_n lvle_e))))) ?_
  refine GJ.loopP (fun (one : Nat) => [some (.ref (qdG A)), some (.int r), some (.int (nI one)), none, none]) (fun (one : Nat) => (nG σ - one)) (fun (one : Nat) => (one ≤ nG σ ∧ ∀ j, j < one → ¬ nI (cN (rkG σ j) (nG σ)) = r)) 0 ⟨Nat.zero_le _, fun j h => absurd h (Nat.not_lt_zero j)⟩ ?_
  intro one hk ih
  obtain ⟨k1, k2⟩ := hk
  refine g_iload_n X dX1_atRank_2 rfl rfl ?_
  refine g_aload_n X dX1_atRank_3 rfl rfl ?_
  refine g_callV X (ct_J2_size hst hmG) dX1_atRank_4 rfl (lw_V q269 q270 q271 q70 q272) hyV_J2_size (fun H hH => hL.recvL X.2.2.2.2.2.2.2.1 hH (hmG)) (fun H hH => hH) ⟨Nat.le_of_ble_eq_true rfl, Nat.le_of_ble_eq_true rfl⟩ ⟨by first | exact Nat.le_of_ble_eq_true rfl | omega | (dsimp only [rmD]; omega), by first | exact Nat.le_of_ble_eq_true rfl | omega | (dsimp only [rmD]; omega)⟩ (Nat.le_of_ble_eq_true rfl) rfl (fun x_4 => ?_)
  refine g_icmp_ge (tgt := 90) X dX1_atRank_7 rfl (by decide) (fun c_7 => ?_) (fun c_7 => ?_)
  · rw [nI_leI (by omega) (by omega)] at c_7
    refine g_throw0 X (names := ["java/lang/RuntimeException", "java/lang/Exception"]) dX1_atRank_90 rfl dX1_atRank_93 dX1_atRank_94 dX1_atRank_97 (by decide) (by decide) q359 q99 at0_X1_atRank (fun x hx => (htab x hx).elim) (Nat.le_of_ble_eq_true rfl) (Nat.le_of_ble_eq_true rfl) (Nat.le_of_ble_eq_true rfl) (Nat.le_of_ble_eq_true rfl) (Nat.le_of_ble_eq_true rfl) (Nat.le_of_ble_eq_true rfl) fun q H H1 hI hz hq => ⟨rfl, fun j hj => k2 j (by omega), hI.grow hq⟩
  · rw [nI_leI (by omega) (by omega)] at c_7
    have hone : one < nG σ := by omega
    obtain ⟨z, z1, z2⟩ := hS.gu hone
    have bz := hB.2.2.2.1 _ hone
    refine g_iconst X dX1_atRank_10 rfl (v := (nI 0)) rfl ?_
    refine g_istore_n X dX1_atRank_11 rfl (by decide) rfl rfl ?_
    refine g_iconst X dX1_atRank_12 rfl (v := (nI 0)) rfl ?_
    refine g_istore X dX1_atRank_13 rfl (by decide) rfl rfl ?_
    refine GJ.loc ((fun k : Nat => [some (.ref (qdG A)), some (.int r), some (.int (nI one)), some (.int (nI (cN (rkG σ one) k))), some (.int (nI k))]) 0) (lvle_c rfl (lvle_c rfl (lvle_c rfl (lvle_c rfl (lvle_c rfl lvle_e))))) ?_
    refine GJ.loopP (fun k : Nat => [some (.ref (qdG A)), some (.int r), some (.int (nI one)), some (.int (nI (cN (rkG σ one) k))), some (.int (nI k))]) (fun k => nG σ - k) (fun k => k ≤ nG σ) 0 (Nat.zero_le _) ?_
    intro k hk3 ih2
    try dsimp only at hk3 ih2 ⊢
    have hcl := cN_le (rkG σ one) k
    refine g_iload X dX1_atRank_15 rfl rfl ?_
    refine g_aload_n X dX1_atRank_17 rfl rfl ?_
    refine g_callV X (ct_J2_size hst hmG) dX1_atRank_18 rfl (lw_V q269 q270 q271 q70 q272) hyV_J2_size (fun H hH => hL.recvL X.2.2.2.2.2.2.2.1 hH (hmG)) (fun H hH => hH) ⟨Nat.le_of_ble_eq_true rfl, Nat.le_of_ble_eq_true rfl⟩ ⟨by first | exact Nat.le_of_ble_eq_true rfl | omega | (dsimp only [rmD]; omega), by first | exact Nat.le_of_ble_eq_true rfl | omega | (dsimp only [rmD]; omega)⟩ (Nat.le_of_ble_eq_true rfl) rfl (fun x_18 => ?_)
    refine g_icmp_ge (tgt := 77) X dX1_atRank_21 rfl (by decide) (fun c_21 => ?_) (fun c_21 => ?_)
    · rw [nI_leI (by omega) (by omega)] at c_21
      obtain rfl : k = nG σ := by omega
      refine g_iload_n X dX1_atRank_77 rfl rfl ?_
      refine g_iload_n X dX1_atRank_78 rfl rfl ?_
      refine g_icmp_ne (tgt := 84) X dX1_atRank_79 rfl (by decide) (fun c_79 => ?_) (fun c_79 => ?_)
      · refine g_iinc X dX1_atRank_84 rfl rfl (by first | exact nI_1 _ | rfl) (by decide) rfl rfl ?_
        refine g_goto (tgt := 2) X dX1_atRank_87 rfl (by decide) ?_
        refine GJ.loc [some (.ref (qdG A)), some (.int r), some (.int (nI (one + 1))), none, none] (lvle_c rfl (lvle_c rfl (lvle_c rfl (lvle_n (lvle_n lvle_e))))) ?_
        exact ih (one + 1) ⟨by omega, fun j hj => if e : j = one then by rw [e]; exact c_79 else k2 j (by omega)⟩ (by omega)
      · refine g_iload_n X dX1_atRank_82 rfl rfl ?_
        refine g_iret X dX1_atRank_83 rfl (by first | exact Nat.le_of_ble_eq_true rfl | omega | (dsimp only [rmD]; omega)) (by first | exact Nat.le_of_ble_eq_true rfl | omega | (dsimp only [rmD]; omega)) (fun H hH => ⟨⟨one, hone, c_79, k2⟩, rfl, hH⟩)
    · rw [nI_leI (by omega) (by omega)] at c_21
      have hlt : k < nG σ := by omega
      obtain ⟨y, y1, y2⟩ := hS.gu hlt
      have bby := hB.2.2.2.1 _ hlt
      have nxt : ∀ v, cN (rkG σ one) (k + 1) = v → GJ Ω p l e (rmD 16 1 6) s m #[.ref (qdG A), .int r] below meth c 5 (MM Ω below (QV (fun k : {k : Nat // k < nG σ ∧ nI (cN (rkG σ k) (nG σ)) = r ∧ ∀ j, j < k → ¬ nI (cN (rkG σ j) (nG σ)) = r} => some (.int (nI k.1))) (fun _ => hL Ω Γ)) (xE "java/util/NoSuchElementException" (∀ j, j < nG σ → ¬ nI (cN (rkG σ j) (nG σ)) = r) (hL Ω Γ)) #[.ref (qdG A), .int r] s 1 6) (hL Ω Γ) 0 0 15 [some (.ref (qdG A)), some (.int r), some (.int (nI one)), some (.int (nI v)), some (.int (nI (k + 1)))] [] := by
        intro v hv
        rw [← hv]
        exact ih2 (k + 1) (by omega) (by omega)
      by_cases hP : rkG σ one k
      · have hne : k ≠ one := fun e => hir one (by rw [e] at hP; exact hP)
        refine g_iload_n X dX1_atRank_24 rfl rfl ?_
        refine g_iload X dX1_atRank_25 rfl rfl ?_
        refine g_iload_n X dX1_atRank_27 rfl rfl ?_
        refine g_icmp_eq (tgt := 68) X dX1_atRank_28 rfl (by decide) (fun c => absurd ((nI_eq (by omega) (by omega)).mp c) hne) (fun c_28 => ?_)
        refine g_aload_n X dX1_atRank_31 rfl rfl ?_
        refine g_iload X dX1_atRank_32 rfl rfl ?_
        refine g_callV X (ct_J2_get hst hmG y1 (by omega)) dX1_atRank_34 rfl (lw_V q320 q295 q296 q70 q297) hyV_J2_get (fun H hH => hL.recvL X.2.2.2.2.2.2.2.1 hH (hmG)) (fun H hH => hH) ⟨Nat.le_of_ble_eq_true rfl, Nat.le_of_ble_eq_true rfl⟩ ⟨by first | exact Nat.le_of_ble_eq_true rfl | omega | (dsimp only [rmD]; omega), by first | exact Nat.le_of_ble_eq_true rfl | omega | (dsimp only [rmD]; omega)⟩ (Nat.le_of_ble_eq_true rfl) rfl (fun x_34 => ?_)
        refine g_castY X dX1_atRank_37 rfl q321 q337 (fun H hH => hL.recv X.2.2.2.2.2.2.2.1 hH (y2) rfl) ?_
        refine g_aload_n X dX1_atRank_40 rfl rfl ?_
        refine g_iload_n X dX1_atRank_41 rfl rfl ?_
        refine g_callV X (ct_J2_get hst hmG z1 (by omega)) dX1_atRank_42 rfl (lw_V q320 q295 q296 q70 q297) hyV_J2_get (fun H hH => hL.recvL X.2.2.2.2.2.2.2.1 hH (hmG)) (fun H hH => hH) ⟨Nat.le_of_ble_eq_true rfl, Nat.le_of_ble_eq_true rfl⟩ ⟨by first | exact Nat.le_of_ble_eq_true rfl | omega | (dsimp only [rmD]; omega), by first | exact Nat.le_of_ble_eq_true rfl | omega | (dsimp only [rmD]; omega)⟩ (Nat.le_of_ble_eq_true rfl) rfl (fun x_42 => ?_)
        refine GJ.cutv 56 (bI (k < one)) ?_ (fun hj => ?_)
        · refine g_callF X (ct_X5_isAheadOf hst (by omega) (by omega) (by omega) (by omega) y2 z2) dX1_atRank_56 rfl (classAt_of (X.2.2.2.2.2.2.1 _ q591)) (List.mem_of_getElem? (i := 3) rfl) (lw_app (by simp only [List.forall_mem_cons, List.not_mem_nil, false_imp_iff, implies_true, and_true]; exact ⟨q323, q338, q340, q79⟩) (lw_meth q342)) ⟨by decide, by decide, pd_ah⟩ (fun H hH => hL.recv X.2.2.2.2.2.2.2.1 hH (y2) rfl) (fun H hH => hH) ⟨Nat.le_of_ble_eq_true rfl, Nat.le_of_ble_eq_true rfl⟩ ⟨by first | exact Nat.le_of_ble_eq_true rfl | omega | (dsimp only [rmD]; omega), by first | exact Nat.le_of_ble_eq_true rfl | omega | (dsimp only [rmD]; omega)⟩ (Nat.le_of_ble_eq_true rfl) rfl (fun x_56 => ?_)
          refine g_if_eq (tgt := 68) X dX1_atRank_61 rfl (by decide) (fun c => absurd (bI_0.mp c) (fun h => h hP)) (fun c_61 => ?_)
          refine g_iconst X dX1_atRank_64 rfl (v := (nI 1)) rfl ?_
          refine g_goto (tgt := 69) X dX1_atRank_65 rfl (by decide) ?_
          refine g_iadd X dX1_atRank_69 rfl (by first | exact nI_add _ _ | rfl) ?_
          refine g_istore_n X dX1_atRank_70 rfl (by decide) rfl rfl ?_
          refine g_iinc X dX1_atRank_71 rfl rfl (by first | exact nI_1 _ | rfl) (by decide) rfl rfl ?_
          refine g_goto (tgt := 15) X dX1_atRank_74 rfl (by decide) ?_
          exact nxt _ (cN_t hP)
        · refine g_iload X dX1_atRank_45 rfl rfl ?_
          refine g_iload_n X dX1_atRank_47 rfl rfl ?_
          refine g_icmp_ge (tgt := 55) X dX1_atRank_48 rfl (by decide) (fun c_48 => ?_) (fun c_48 => ?_)
          · rw [nI_leI (by omega) (by omega)] at c_48
            refine g_iconst X dX1_atRank_55 rfl (v := (nI 0)) rfl ?_
            exact GJ.top (bI_f (by omega)).symm hj
          · rw [nI_leI (by omega) (by omega)] at c_48
            refine g_iconst X dX1_atRank_51 rfl (v := (nI 1)) rfl ?_
            refine g_goto (tgt := 56) X dX1_atRank_52 rfl (by decide) ?_
            exact GJ.top (bI_t (by omega)).symm hj
      · by_cases hne : k = one
        · refine g_iload_n X dX1_atRank_24 rfl rfl ?_
          refine g_iload X dX1_atRank_25 rfl rfl ?_
          refine g_iload_n X dX1_atRank_27 rfl rfl ?_
          refine g_icmp_eq (tgt := 68) X dX1_atRank_28 rfl (by decide) (fun c_28 => ?_) (fun c => absurd (by rw [hne]) c)
          refine g_iconst X dX1_atRank_68 rfl (v := (nI 0)) rfl ?_
          refine g_iadd X dX1_atRank_69 rfl (by first | exact nI_add _ _ | rfl) ?_
          refine g_istore_n X dX1_atRank_70 rfl (by decide) rfl rfl ?_
          refine g_iinc X dX1_atRank_71 rfl rfl (by first | exact nI_1 _ | rfl) (by decide) rfl rfl ?_
          refine g_goto (tgt := 15) X dX1_atRank_74 rfl (by decide) ?_
          exact nxt _ (cN_f hP)
        · refine g_iload_n X dX1_atRank_24 rfl rfl ?_
          refine g_iload X dX1_atRank_25 rfl rfl ?_
          refine g_iload_n X dX1_atRank_27 rfl rfl ?_
          refine g_icmp_eq (tgt := 68) X dX1_atRank_28 rfl (by decide) (fun c => absurd ((nI_eq (by omega) (by omega)).mp c) hne) (fun c_28 => ?_)
          refine g_aload_n X dX1_atRank_31 rfl rfl ?_
          refine g_iload X dX1_atRank_32 rfl rfl ?_
          refine g_callV X (ct_J2_get hst hmG y1 (by omega)) dX1_atRank_34 rfl (lw_V q320 q295 q296 q70 q297) hyV_J2_get (fun H hH => hL.recvL X.2.2.2.2.2.2.2.1 hH (hmG)) (fun H hH => hH) ⟨Nat.le_of_ble_eq_true rfl, Nat.le_of_ble_eq_true rfl⟩ ⟨by first | exact Nat.le_of_ble_eq_true rfl | omega | (dsimp only [rmD]; omega), by first | exact Nat.le_of_ble_eq_true rfl | omega | (dsimp only [rmD]; omega)⟩ (Nat.le_of_ble_eq_true rfl) rfl (fun x_34 => ?_)
          refine g_castY X dX1_atRank_37 rfl q321 q337 (fun H hH => hL.recv X.2.2.2.2.2.2.2.1 hH (y2) rfl) ?_
          refine g_aload_n X dX1_atRank_40 rfl rfl ?_
          refine g_iload_n X dX1_atRank_41 rfl rfl ?_
          refine g_callV X (ct_J2_get hst hmG z1 (by omega)) dX1_atRank_42 rfl (lw_V q320 q295 q296 q70 q297) hyV_J2_get (fun H hH => hL.recvL X.2.2.2.2.2.2.2.1 hH (hmG)) (fun H hH => hH) ⟨Nat.le_of_ble_eq_true rfl, Nat.le_of_ble_eq_true rfl⟩ ⟨by first | exact Nat.le_of_ble_eq_true rfl | omega | (dsimp only [rmD]; omega), by first | exact Nat.le_of_ble_eq_true rfl | omega | (dsimp only [rmD]; omega)⟩ (Nat.le_of_ble_eq_true rfl) rfl (fun x_42 => ?_)
          refine GJ.cutv 56 (bI (k < one)) ?_ (fun hj => ?_)
          · refine g_callF X (ct_X5_isAheadOf hst (by omega) (by omega) (by omega) (by omega) y2 z2) dX1_atRank_56 rfl (classAt_of (X.2.2.2.2.2.2.1 _ q591)) (List.mem_of_getElem? (i := 3) rfl) (lw_app (by simp only [List.forall_mem_cons, List.not_mem_nil, false_imp_iff, implies_true, and_true]; exact ⟨q323, q338, q340, q79⟩) (lw_meth q342)) ⟨by decide, by decide, pd_ah⟩ (fun H hH => hL.recv X.2.2.2.2.2.2.2.1 hH (y2) rfl) (fun H hH => hH) ⟨Nat.le_of_ble_eq_true rfl, Nat.le_of_ble_eq_true rfl⟩ ⟨by first | exact Nat.le_of_ble_eq_true rfl | omega | (dsimp only [rmD]; omega), by first | exact Nat.le_of_ble_eq_true rfl | omega | (dsimp only [rmD]; omega)⟩ (Nat.le_of_ble_eq_true rfl) rfl (fun x_56 => ?_)
            refine g_if_eq (tgt := 68) X dX1_atRank_61 rfl (by decide) (fun c_61 => ?_) (fun c => absurd (bI_n0.mp (fun h => c h)) hP)
            refine g_iconst X dX1_atRank_68 rfl (v := (nI 0)) rfl ?_
            refine g_iadd X dX1_atRank_69 rfl (by first | exact nI_add _ _ | rfl) ?_
            refine g_istore_n X dX1_atRank_70 rfl (by decide) rfl rfl ?_
            refine g_iinc X dX1_atRank_71 rfl rfl (by first | exact nI_1 _ | rfl) (by decide) rfl rfl ?_
            refine g_goto (tgt := 15) X dX1_atRank_74 rfl (by decide) ?_
            exact nxt _ (cN_f hP)
          · refine g_iload X dX1_atRank_45 rfl rfl ?_
            refine g_iload_n X dX1_atRank_47 rfl rfl ?_
            refine g_icmp_ge (tgt := 55) X dX1_atRank_48 rfl (by decide) (fun c_48 => ?_) (fun c_48 => ?_)
            · rw [nI_leI (by omega) (by omega)] at c_48
              refine g_iconst X dX1_atRank_55 rfl (v := (nI 0)) rfl ?_
              exact GJ.top (bI_f (by omega)).symm hj
            · rw [nI_leI (by omega) (by omega)] at c_48
              refine g_iconst X dX1_atRank_51 rfl (v := (nI 1)) rfl ?_
              refine g_goto (tgt := 56) X dX1_atRank_52 rfl (by decide) ?_
              exact GJ.top (bI_t (by omega)).symm hj
theorem ct_X1_atRank_S (hst : l.stackTraces = false) (hS : SR Ω Γ0 Γ a A σ) (hB : Bd σ) {r : Int32} : CM Ω l yX1_atRank (ws_ yX1_atRank cX1_atRank 5 (some .int)) 16 1 6 [.ref (qdS A), .int r] (hL Ω Γ) (QV (fun k : {k : Nat // k < nS σ ∧ nI (cN (rkS σ k) (nS σ)) = r ∧ ∀ j, j < k → ¬ nI (cN (rkS σ j) (nS σ)) = r} => some (.int (nI k.1))) (fun _ => hL Ω Γ)) (xE "java/util/NoSuchElementException" (∀ j, j < nS σ → ¬ nI (cN (rkS σ j) (nS σ)) = r) (hL Ω Γ)) := by
  obtain ⟨mG, hmG⟩ := hS.lS
  have hcG := hS.cS2
  have b1 := hB.1
  have hir : ∀ one, ¬ rkS σ one one := fun one => (fun h => h.elim (fun h => absurd h (Nat.lt_irrefl _)) (fun h => absurd h.2 (Nat.lt_irrefl _)))
  refine CM.of (L := [some (.ref (qdS A)), some (.int r), none, none, none]) hst (by decide) (Nat.le_of_ble_eq_true rfl) rfl ?_
  intro p e s m below meth c X hnm htab
  refine g_iconst X dX1_atRank_0 rfl (v := (nI 0)) rfl ?_
  refine g_istore_n X dX1_atRank_1 rfl (by decide) rfl rfl ?_
  refine GJ.loc ((fun (one : Nat) => [some (.ref (qdS A)), some (.int r), some (.int (nI one)), none, none]) 0) (lvle_c rfl (lvle_c rfl (lvle_c rfl (lvle_n (lvle_n lvle_e))))) ?_
  refine GJ.loopP (fun (one : Nat) => [some (.ref (qdS A)), some (.int r), some (.int (nI one)), none, none]) (fun (one : Nat) => (nS σ - one)) (fun (one : Nat) => (one ≤ nS σ ∧ ∀ j, j < one → ¬ nI (cN (rkS σ j) (nS σ)) = r)) 0 ⟨Nat.zero_le _, fun j h => absurd h (Nat.not_lt_zero j)⟩ ?_
  intro one hk ih
  obtain ⟨k1, k2⟩ := hk
  refine g_iload_n X dX1_atRank_2 rfl rfl ?_
  refine g_aload_n X dX1_atRank_3 rfl rfl ?_
  refine g_callV X (ct_J2_size hst hmG) dX1_atRank_4 rfl (lw_V q269 q270 q271 q70 q272) hyV_J2_size (fun H hH => hL.recvL X.2.2.2.2.2.2.2.1 hH (hmG)) (fun H hH => hH) ⟨Nat.le_of_ble_eq_true rfl, Nat.le_of_ble_eq_true rfl⟩ ⟨by first | exact Nat.le_of_ble_eq_true rfl | omega | (dsimp only [rmD]; omega), by first | exact Nat.le_of_ble_eq_true rfl | omega | (dsimp only [rmD]; omega)⟩ (Nat.le_of_ble_eq_true rfl) rfl (fun x_4 => ?_)
  refine g_icmp_ge (tgt := 90) X dX1_atRank_7 rfl (by decide) (fun c_7 => ?_) (fun c_7 => ?_)
  · rw [nI_leI (by omega) (by omega)] at c_7
    refine g_throw0 X (names := ["java/lang/RuntimeException", "java/lang/Exception"]) dX1_atRank_90 rfl dX1_atRank_93 dX1_atRank_94 dX1_atRank_97 (by decide) (by decide) q359 q99 at0_X1_atRank (fun x hx => (htab x hx).elim) (Nat.le_of_ble_eq_true rfl) (Nat.le_of_ble_eq_true rfl) (Nat.le_of_ble_eq_true rfl) (Nat.le_of_ble_eq_true rfl) (Nat.le_of_ble_eq_true rfl) (Nat.le_of_ble_eq_true rfl) fun q H H1 hI hz hq => ⟨rfl, fun j hj => k2 j (by omega), hI.grow hq⟩
  · rw [nI_leI (by omega) (by omega)] at c_7
    have hone : one < nS σ := by omega
    obtain ⟨zz, -, z1, z2, -⟩ := hS.sl hone
    have bz := hB.2.1 _ hone
    refine g_iconst X dX1_atRank_10 rfl (v := (nI 0)) rfl ?_
    refine g_istore_n X dX1_atRank_11 rfl (by decide) rfl rfl ?_
    refine g_iconst X dX1_atRank_12 rfl (v := (nI 0)) rfl ?_
    refine g_istore X dX1_atRank_13 rfl (by decide) rfl rfl ?_
    refine GJ.loc ((fun k : Nat => [some (.ref (qdS A)), some (.int r), some (.int (nI one)), some (.int (nI (cN (rkS σ one) k))), some (.int (nI k))]) 0) (lvle_c rfl (lvle_c rfl (lvle_c rfl (lvle_c rfl (lvle_c rfl lvle_e))))) ?_
    refine GJ.loopP (fun k : Nat => [some (.ref (qdS A)), some (.int r), some (.int (nI one)), some (.int (nI (cN (rkS σ one) k))), some (.int (nI k))]) (fun k => nS σ - k) (fun k => k ≤ nS σ) 0 (Nat.zero_le _) ?_
    intro k hk3 ih2
    try dsimp only at hk3 ih2 ⊢
    have hcl := cN_le (rkS σ one) k
    refine g_iload X dX1_atRank_15 rfl rfl ?_
    refine g_aload_n X dX1_atRank_17 rfl rfl ?_
    refine g_callV X (ct_J2_size hst hmG) dX1_atRank_18 rfl (lw_V q269 q270 q271 q70 q272) hyV_J2_size (fun H hH => hL.recvL X.2.2.2.2.2.2.2.1 hH (hmG)) (fun H hH => hH) ⟨Nat.le_of_ble_eq_true rfl, Nat.le_of_ble_eq_true rfl⟩ ⟨by first | exact Nat.le_of_ble_eq_true rfl | omega | (dsimp only [rmD]; omega), by first | exact Nat.le_of_ble_eq_true rfl | omega | (dsimp only [rmD]; omega)⟩ (Nat.le_of_ble_eq_true rfl) rfl (fun x_18 => ?_)
    refine g_icmp_ge (tgt := 77) X dX1_atRank_21 rfl (by decide) (fun c_21 => ?_) (fun c_21 => ?_)
    · rw [nI_leI (by omega) (by omega)] at c_21
      obtain rfl : k = nS σ := by omega
      refine g_iload_n X dX1_atRank_77 rfl rfl ?_
      refine g_iload_n X dX1_atRank_78 rfl rfl ?_
      refine g_icmp_ne (tgt := 84) X dX1_atRank_79 rfl (by decide) (fun c_79 => ?_) (fun c_79 => ?_)
      · refine g_iinc X dX1_atRank_84 rfl rfl (by first | exact nI_1 _ | rfl) (by decide) rfl rfl ?_
        refine g_goto (tgt := 2) X dX1_atRank_87 rfl (by decide) ?_
        refine GJ.loc [some (.ref (qdS A)), some (.int r), some (.int (nI (one + 1))), none, none] (lvle_c rfl (lvle_c rfl (lvle_c rfl (lvle_n (lvle_n lvle_e))))) ?_
        exact ih (one + 1) ⟨by omega, fun j hj => if e : j = one then by rw [e]; exact c_79 else k2 j (by omega)⟩ (by omega)
      · refine g_iload_n X dX1_atRank_82 rfl rfl ?_
        refine g_iret X dX1_atRank_83 rfl (by first | exact Nat.le_of_ble_eq_true rfl | omega | (dsimp only [rmD]; omega)) (by first | exact Nat.le_of_ble_eq_true rfl | omega | (dsimp only [rmD]; omega)) (fun H hH => ⟨⟨one, hone, c_79, k2⟩, rfl, hH⟩)
    · rw [nI_leI (by omega) (by omega)] at c_21
      have hlt : k < nS σ := by omega
      obtain ⟨yz, -, y1, y2, -⟩ := hS.sl hlt
      have bby := hB.2.1 _ hlt
      have nxt : ∀ v, cN (rkS σ one) (k + 1) = v → GJ Ω p l e (rmD 16 1 6) s m #[.ref (qdS A), .int r] below meth c 5 (MM Ω below (QV (fun k : {k : Nat // k < nS σ ∧ nI (cN (rkS σ k) (nS σ)) = r ∧ ∀ j, j < k → ¬ nI (cN (rkS σ j) (nS σ)) = r} => some (.int (nI k.1))) (fun _ => hL Ω Γ)) (xE "java/util/NoSuchElementException" (∀ j, j < nS σ → ¬ nI (cN (rkS σ j) (nS σ)) = r) (hL Ω Γ)) #[.ref (qdS A), .int r] s 1 6) (hL Ω Γ) 0 0 15 [some (.ref (qdS A)), some (.int r), some (.int (nI one)), some (.int (nI v)), some (.int (nI (k + 1)))] [] := by
        intro v hv
        rw [← hv]
        exact ih2 (k + 1) (by omega) (by omega)
      by_cases hP : rkS σ one k
      · have hne : k ≠ one := fun e => hir one (by rw [e] at hP; exact hP)
        refine g_iload_n X dX1_atRank_24 rfl rfl ?_
        refine g_iload X dX1_atRank_25 rfl rfl ?_
        refine g_iload_n X dX1_atRank_27 rfl rfl ?_
        refine g_icmp_eq (tgt := 68) X dX1_atRank_28 rfl (by decide) (fun c => absurd ((nI_eq (by omega) (by omega)).mp c) hne) (fun c_28 => ?_)
        refine g_aload_n X dX1_atRank_31 rfl rfl ?_
        refine g_iload X dX1_atRank_32 rfl rfl ?_
        refine g_callV X (ct_J2_get hst hmG y1 (by omega)) dX1_atRank_34 rfl (lw_V q320 q295 q296 q70 q297) hyV_J2_get (fun H hH => hL.recvL X.2.2.2.2.2.2.2.1 hH (hmG)) (fun H hH => hH) ⟨Nat.le_of_ble_eq_true rfl, Nat.le_of_ble_eq_true rfl⟩ ⟨by first | exact Nat.le_of_ble_eq_true rfl | omega | (dsimp only [rmD]; omega), by first | exact Nat.le_of_ble_eq_true rfl | omega | (dsimp only [rmD]; omega)⟩ (Nat.le_of_ble_eq_true rfl) rfl (fun x_34 => ?_)
        refine g_castY X dX1_atRank_37 rfl q321 q348 (fun H hH => hL.recv X.2.2.2.2.2.2.2.1 hH (y2) rfl) ?_
        refine g_aload_n X dX1_atRank_40 rfl rfl ?_
        refine g_iload_n X dX1_atRank_41 rfl rfl ?_
        refine g_callV X (ct_J2_get hst hmG z1 (by omega)) dX1_atRank_42 rfl (lw_V q320 q295 q296 q70 q297) hyV_J2_get (fun H hH => hL.recvL X.2.2.2.2.2.2.2.1 hH (hmG)) (fun H hH => hH) ⟨Nat.le_of_ble_eq_true rfl, Nat.le_of_ble_eq_true rfl⟩ ⟨by first | exact Nat.le_of_ble_eq_true rfl | omega | (dsimp only [rmD]; omega), by first | exact Nat.le_of_ble_eq_true rfl | omega | (dsimp only [rmD]; omega)⟩ (Nat.le_of_ble_eq_true rfl) rfl (fun x_42 => ?_)
        refine GJ.cutv 56 (bI (k < one)) ?_ (fun hj => ?_)
        · refine g_callF X (ct_X7_isAheadOf hst (by omega) (by omega) y2 z2) dX1_atRank_56 rfl (classAt_of (X.2.2.2.2.2.2.1 _ q723)) (List.mem_of_getElem? (i := 2) rfl) (lw_app (by simp only [List.forall_mem_cons, List.not_mem_nil, false_imp_iff, implies_true, and_true]; exact ⟨q323, q349, q351, q85⟩) (lw_meth q353)) ⟨by decide, by decide, pd_ah⟩ (fun H hH => hL.recv X.2.2.2.2.2.2.2.1 hH (y2) rfl) (fun H hH => hH) ⟨Nat.le_of_ble_eq_true rfl, Nat.le_of_ble_eq_true rfl⟩ ⟨by first | exact Nat.le_of_ble_eq_true rfl | omega | (dsimp only [rmD]; omega), by first | exact Nat.le_of_ble_eq_true rfl | omega | (dsimp only [rmD]; omega)⟩ (Nat.le_of_ble_eq_true rfl) rfl (fun x_56 => ?_)
          refine g_if_eq (tgt := 68) X dX1_atRank_61 rfl (by decide) (fun c => absurd (bI_0.mp c) (fun h => h hP)) (fun c_61 => ?_)
          refine g_iconst X dX1_atRank_64 rfl (v := (nI 1)) rfl ?_
          refine g_goto (tgt := 69) X dX1_atRank_65 rfl (by decide) ?_
          refine g_iadd X dX1_atRank_69 rfl (by first | exact nI_add _ _ | rfl) ?_
          refine g_istore_n X dX1_atRank_70 rfl (by decide) rfl rfl ?_
          refine g_iinc X dX1_atRank_71 rfl rfl (by first | exact nI_1 _ | rfl) (by decide) rfl rfl ?_
          refine g_goto (tgt := 15) X dX1_atRank_74 rfl (by decide) ?_
          exact nxt _ (cN_t hP)
        · refine g_iload X dX1_atRank_45 rfl rfl ?_
          refine g_iload_n X dX1_atRank_47 rfl rfl ?_
          refine g_icmp_ge (tgt := 55) X dX1_atRank_48 rfl (by decide) (fun c_48 => ?_) (fun c_48 => ?_)
          · rw [nI_leI (by omega) (by omega)] at c_48
            refine g_iconst X dX1_atRank_55 rfl (v := (nI 0)) rfl ?_
            exact GJ.top (bI_f (by omega)).symm hj
          · rw [nI_leI (by omega) (by omega)] at c_48
            refine g_iconst X dX1_atRank_51 rfl (v := (nI 1)) rfl ?_
            refine g_goto (tgt := 56) X dX1_atRank_52 rfl (by decide) ?_
            exact GJ.top (bI_t (by omega)).symm hj
      · by_cases hne : k = one
        · refine g_iload_n X dX1_atRank_24 rfl rfl ?_
          refine g_iload X dX1_atRank_25 rfl rfl ?_
          refine g_iload_n X dX1_atRank_27 rfl rfl ?_
          refine g_icmp_eq (tgt := 68) X dX1_atRank_28 rfl (by decide) (fun c_28 => ?_) (fun c => absurd (by rw [hne]) c)
          refine g_iconst X dX1_atRank_68 rfl (v := (nI 0)) rfl ?_
          refine g_iadd X dX1_atRank_69 rfl (by first | exact nI_add _ _ | rfl) ?_
          refine g_istore_n X dX1_atRank_70 rfl (by decide) rfl rfl ?_
          refine g_iinc X dX1_atRank_71 rfl rfl (by first | exact nI_1 _ | rfl) (by decide) rfl rfl ?_
          refine g_goto (tgt := 15) X dX1_atRank_74 rfl (by decide) ?_
          exact nxt _ (cN_f hP)
        · refine g_iload_n X dX1_atRank_24 rfl rfl ?_
          refine g_iload X dX1_atRank_25 rfl rfl ?_
          refine g_iload_n X dX1_atRank_27 rfl rfl ?_
          refine g_icmp_eq (tgt := 68) X dX1_atRank_28 rfl (by decide) (fun c => absurd ((nI_eq (by omega) (by omega)).mp c) hne) (fun c_28 => ?_)
          refine g_aload_n X dX1_atRank_31 rfl rfl ?_
          refine g_iload X dX1_atRank_32 rfl rfl ?_
          refine g_callV X (ct_J2_get hst hmG y1 (by omega)) dX1_atRank_34 rfl (lw_V q320 q295 q296 q70 q297) hyV_J2_get (fun H hH => hL.recvL X.2.2.2.2.2.2.2.1 hH (hmG)) (fun H hH => hH) ⟨Nat.le_of_ble_eq_true rfl, Nat.le_of_ble_eq_true rfl⟩ ⟨by first | exact Nat.le_of_ble_eq_true rfl | omega | (dsimp only [rmD]; omega), by first | exact Nat.le_of_ble_eq_true rfl | omega | (dsimp only [rmD]; omega)⟩ (Nat.le_of_ble_eq_true rfl) rfl (fun x_34 => ?_)
          refine g_castY X dX1_atRank_37 rfl q321 q348 (fun H hH => hL.recv X.2.2.2.2.2.2.2.1 hH (y2) rfl) ?_
          refine g_aload_n X dX1_atRank_40 rfl rfl ?_
          refine g_iload_n X dX1_atRank_41 rfl rfl ?_
          refine g_callV X (ct_J2_get hst hmG z1 (by omega)) dX1_atRank_42 rfl (lw_V q320 q295 q296 q70 q297) hyV_J2_get (fun H hH => hL.recvL X.2.2.2.2.2.2.2.1 hH (hmG)) (fun H hH => hH) ⟨Nat.le_of_ble_eq_true rfl, Nat.le_of_ble_eq_true rfl⟩ ⟨by first | exact Nat.le_of_ble_eq_true rfl | omega | (dsimp only [rmD]; omega), by first | exact Nat.le_of_ble_eq_true rfl | omega | (dsimp only [rmD]; omega)⟩ (Nat.le_of_ble_eq_true rfl) rfl (fun x_42 => ?_)
          refine GJ.cutv 56 (bI (k < one)) ?_ (fun hj => ?_)
          · refine g_callF X (ct_X7_isAheadOf hst (by omega) (by omega) y2 z2) dX1_atRank_56 rfl (classAt_of (X.2.2.2.2.2.2.1 _ q723)) (List.mem_of_getElem? (i := 2) rfl) (lw_app (by simp only [List.forall_mem_cons, List.not_mem_nil, false_imp_iff, implies_true, and_true]; exact ⟨q323, q349, q351, q85⟩) (lw_meth q353)) ⟨by decide, by decide, pd_ah⟩ (fun H hH => hL.recv X.2.2.2.2.2.2.2.1 hH (y2) rfl) (fun H hH => hH) ⟨Nat.le_of_ble_eq_true rfl, Nat.le_of_ble_eq_true rfl⟩ ⟨by first | exact Nat.le_of_ble_eq_true rfl | omega | (dsimp only [rmD]; omega), by first | exact Nat.le_of_ble_eq_true rfl | omega | (dsimp only [rmD]; omega)⟩ (Nat.le_of_ble_eq_true rfl) rfl (fun x_56 => ?_)
            refine g_if_eq (tgt := 68) X dX1_atRank_61 rfl (by decide) (fun c_61 => ?_) (fun c => absurd (bI_n0.mp (fun h => c h)) hP)
            refine g_iconst X dX1_atRank_68 rfl (v := (nI 0)) rfl ?_
            refine g_iadd X dX1_atRank_69 rfl (by first | exact nI_add _ _ | rfl) ?_
            refine g_istore_n X dX1_atRank_70 rfl (by decide) rfl rfl ?_
            refine g_iinc X dX1_atRank_71 rfl rfl (by first | exact nI_1 _ | rfl) (by decide) rfl rfl ?_
            refine g_goto (tgt := 15) X dX1_atRank_74 rfl (by decide) ?_
            exact nxt _ (cN_f hP)
          · refine g_iload X dX1_atRank_45 rfl rfl ?_
            refine g_iload_n X dX1_atRank_47 rfl rfl ?_
            refine g_icmp_ge (tgt := 55) X dX1_atRank_48 rfl (by decide) (fun c_48 => ?_) (fun c_48 => ?_)
            · rw [nI_leI (by omega) (by omega)] at c_48
              refine g_iconst X dX1_atRank_55 rfl (v := (nI 0)) rfl ?_
              exact GJ.top (bI_f (by omega)).symm hj
            · rw [nI_leI (by omega) (by omega)] at c_48
              refine g_iconst X dX1_atRank_51 rfl (v := (nI 1)) rfl ?_
              refine g_goto (tgt := 56) X dX1_atRank_52 rfl (by decide) ?_
              exact GJ.top (bI_t (by omega)).symm hj
theorem ct_X1_atRank_B (hst : l.stackTraces = false) (hS : SR Ω Γ0 Γ a A σ) (hB : Bd σ) {r : Int32} : CM Ω l yX1_atRank (ws_ yX1_atRank cX1_atRank 5 (some .int)) 16 1 6 [.ref (qdB A), .int r] (hL Ω Γ) (QV (fun k : {k : Nat // k < nB σ ∧ nI (cN (rkC σ k) (nB σ)) = r ∧ ∀ j, j < k → ¬ nI (cN (rkC σ j) (nB σ)) = r} => some (.int (nI k.1))) (fun _ => hL Ω Γ)) (xE "java/util/NoSuchElementException" (∀ j, j < nB σ → ¬ nI (cN (rkC σ j) (nB σ)) = r) (hL Ω Γ)) := by
  obtain ⟨mG, hmG⟩ := hS.lB
  have hcG := hS.cB
  have b1 := hB.1
  have hir : ∀ one, ¬ rkC σ one one := fun one => (fun h => h.elim (fun h => absurd h (Nat.lt_irrefl _)) (fun h => h.2.elim (fun h => absurd h (Nat.lt_irrefl _)) (fun h => absurd h.2 (Nat.lt_irrefl _))))
  refine CM.of (L := [some (.ref (qdB A)), some (.int r), none, none, none]) hst (by decide) (Nat.le_of_ble_eq_true rfl) rfl ?_
  intro p e s m below meth c X hnm htab
  refine g_iconst X dX1_atRank_0 rfl (v := (nI 0)) rfl ?_
  refine g_istore_n X dX1_atRank_1 rfl (by decide) rfl rfl ?_
  refine GJ.loc ((fun (one : Nat) => [some (.ref (qdB A)), some (.int r), some (.int (nI one)), none, none]) 0) (lvle_c rfl (lvle_c rfl (lvle_c rfl (lvle_n (lvle_n lvle_e))))) ?_
  refine GJ.loopP (fun (one : Nat) => [some (.ref (qdB A)), some (.int r), some (.int (nI one)), none, none]) (fun (one : Nat) => (nB σ - one)) (fun (one : Nat) => (one ≤ nB σ ∧ ∀ j, j < one → ¬ nI (cN (rkC σ j) (nB σ)) = r)) 0 ⟨Nat.zero_le _, fun j h => absurd h (Nat.not_lt_zero j)⟩ ?_
  intro one hk ih
  obtain ⟨k1, k2⟩ := hk
  refine g_iload_n X dX1_atRank_2 rfl rfl ?_
  refine g_aload_n X dX1_atRank_3 rfl rfl ?_
  refine g_callV X (ct_J2_size hst hmG) dX1_atRank_4 rfl (lw_V q269 q270 q271 q70 q272) hyV_J2_size (fun H hH => hL.recvL X.2.2.2.2.2.2.2.1 hH (hmG)) (fun H hH => hH) ⟨Nat.le_of_ble_eq_true rfl, Nat.le_of_ble_eq_true rfl⟩ ⟨by first | exact Nat.le_of_ble_eq_true rfl | omega | (dsimp only [rmD]; omega), by first | exact Nat.le_of_ble_eq_true rfl | omega | (dsimp only [rmD]; omega)⟩ (Nat.le_of_ble_eq_true rfl) rfl (fun x_4 => ?_)
  refine g_icmp_ge (tgt := 90) X dX1_atRank_7 rfl (by decide) (fun c_7 => ?_) (fun c_7 => ?_)
  · rw [nI_leI (by omega) (by omega)] at c_7
    refine g_throw0 X (names := ["java/lang/RuntimeException", "java/lang/Exception"]) dX1_atRank_90 rfl dX1_atRank_93 dX1_atRank_94 dX1_atRank_97 (by decide) (by decide) q359 q99 at0_X1_atRank (fun x hx => (htab x hx).elim) (Nat.le_of_ble_eq_true rfl) (Nat.le_of_ble_eq_true rfl) (Nat.le_of_ble_eq_true rfl) (Nat.le_of_ble_eq_true rfl) (Nat.le_of_ble_eq_true rfl) (Nat.le_of_ble_eq_true rfl) fun q H H1 hI hz hq => ⟨rfl, fun j hj => k2 j (by omega), hI.grow hq⟩
  · rw [nI_leI (by omega) (by omega)] at c_7
    have hone : one < nB σ := by omega
    obtain ⟨z, z1, z2⟩ := hS.bo hone
    have bz := hB.bo hone
    refine g_iconst X dX1_atRank_10 rfl (v := (nI 0)) rfl ?_
    refine g_istore_n X dX1_atRank_11 rfl (by decide) rfl rfl ?_
    refine g_iconst X dX1_atRank_12 rfl (v := (nI 0)) rfl ?_
    refine g_istore X dX1_atRank_13 rfl (by decide) rfl rfl ?_
    refine GJ.loc ((fun k : Nat => [some (.ref (qdB A)), some (.int r), some (.int (nI one)), some (.int (nI (cN (rkC σ one) k))), some (.int (nI k))]) 0) (lvle_c rfl (lvle_c rfl (lvle_c rfl (lvle_c rfl (lvle_c rfl lvle_e))))) ?_
    refine GJ.loopP (fun k : Nat => [some (.ref (qdB A)), some (.int r), some (.int (nI one)), some (.int (nI (cN (rkC σ one) k))), some (.int (nI k))]) (fun k => nB σ - k) (fun k => k ≤ nB σ) 0 (Nat.zero_le _) ?_
    intro k hk3 ih2
    try dsimp only at hk3 ih2 ⊢
    have hcl := cN_le (rkC σ one) k
    refine g_iload X dX1_atRank_15 rfl rfl ?_
    refine g_aload_n X dX1_atRank_17 rfl rfl ?_
    refine g_callV X (ct_J2_size hst hmG) dX1_atRank_18 rfl (lw_V q269 q270 q271 q70 q272) hyV_J2_size (fun H hH => hL.recvL X.2.2.2.2.2.2.2.1 hH (hmG)) (fun H hH => hH) ⟨Nat.le_of_ble_eq_true rfl, Nat.le_of_ble_eq_true rfl⟩ ⟨by first | exact Nat.le_of_ble_eq_true rfl | omega | (dsimp only [rmD]; omega), by first | exact Nat.le_of_ble_eq_true rfl | omega | (dsimp only [rmD]; omega)⟩ (Nat.le_of_ble_eq_true rfl) rfl (fun x_18 => ?_)
    refine g_icmp_ge (tgt := 77) X dX1_atRank_21 rfl (by decide) (fun c_21 => ?_) (fun c_21 => ?_)
    · rw [nI_leI (by omega) (by omega)] at c_21
      obtain rfl : k = nB σ := by omega
      refine g_iload_n X dX1_atRank_77 rfl rfl ?_
      refine g_iload_n X dX1_atRank_78 rfl rfl ?_
      refine g_icmp_ne (tgt := 84) X dX1_atRank_79 rfl (by decide) (fun c_79 => ?_) (fun c_79 => ?_)
      · refine g_iinc X dX1_atRank_84 rfl rfl (by first | exact nI_1 _ | rfl) (by decide) rfl rfl ?_
        refine g_goto (tgt := 2) X dX1_atRank_87 rfl (by decide) ?_
        refine GJ.loc [some (.ref (qdB A)), some (.int r), some (.int (nI (one + 1))), none, none] (lvle_c rfl (lvle_c rfl (lvle_c rfl (lvle_n (lvle_n lvle_e))))) ?_
        exact ih (one + 1) ⟨by omega, fun j hj => if e : j = one then by rw [e]; exact c_79 else k2 j (by omega)⟩ (by omega)
      · refine g_iload_n X dX1_atRank_82 rfl rfl ?_
        refine g_iret X dX1_atRank_83 rfl (by first | exact Nat.le_of_ble_eq_true rfl | omega | (dsimp only [rmD]; omega)) (by first | exact Nat.le_of_ble_eq_true rfl | omega | (dsimp only [rmD]; omega)) (fun H hH => ⟨⟨one, hone, c_79, k2⟩, rfl, hH⟩)
    · rw [nI_leI (by omega) (by omega)] at c_21
      have hlt : k < nB σ := by omega
      obtain ⟨y, y1, y2⟩ := hS.bo hlt
      have bby := hB.bo hlt
      have nxt : ∀ v, cN (rkC σ one) (k + 1) = v → GJ Ω p l e (rmD 16 1 6) s m #[.ref (qdB A), .int r] below meth c 5 (MM Ω below (QV (fun k : {k : Nat // k < nB σ ∧ nI (cN (rkC σ k) (nB σ)) = r ∧ ∀ j, j < k → ¬ nI (cN (rkC σ j) (nB σ)) = r} => some (.int (nI k.1))) (fun _ => hL Ω Γ)) (xE "java/util/NoSuchElementException" (∀ j, j < nB σ → ¬ nI (cN (rkC σ j) (nB σ)) = r) (hL Ω Γ)) #[.ref (qdB A), .int r] s 1 6) (hL Ω Γ) 0 0 15 [some (.ref (qdB A)), some (.int r), some (.int (nI one)), some (.int (nI v)), some (.int (nI (k + 1)))] [] := by
        intro v hv
        rw [← hv]
        exact ih2 (k + 1) (by omega) (by omega)
      by_cases hP : rkC σ one k
      · have hne : k ≠ one := fun e => hir one (by rw [e] at hP; exact hP)
        refine g_iload_n X dX1_atRank_24 rfl rfl ?_
        refine g_iload X dX1_atRank_25 rfl rfl ?_
        refine g_iload_n X dX1_atRank_27 rfl rfl ?_
        refine g_icmp_eq (tgt := 68) X dX1_atRank_28 rfl (by decide) (fun c => absurd ((nI_eq (by omega) (by omega)).mp c) hne) (fun c_28 => ?_)
        refine g_aload_n X dX1_atRank_31 rfl rfl ?_
        refine g_iload X dX1_atRank_32 rfl rfl ?_
        refine g_callV X (ct_J2_get hst hmG y1 (by omega)) dX1_atRank_34 rfl (lw_V q320 q295 q296 q70 q297) hyV_J2_get (fun H hH => hL.recvL X.2.2.2.2.2.2.2.1 hH (hmG)) (fun H hH => hH) ⟨Nat.le_of_ble_eq_true rfl, Nat.le_of_ble_eq_true rfl⟩ ⟨by first | exact Nat.le_of_ble_eq_true rfl | omega | (dsimp only [rmD]; omega), by first | exact Nat.le_of_ble_eq_true rfl | omega | (dsimp only [rmD]; omega)⟩ (Nat.le_of_ble_eq_true rfl) rfl (fun x_34 => ?_)
        refine g_castY X dX1_atRank_37 rfl q321 q326 (fun H hH => hL.recv X.2.2.2.2.2.2.2.1 hH (y2) rfl) ?_
        refine g_aload_n X dX1_atRank_40 rfl rfl ?_
        refine g_iload_n X dX1_atRank_41 rfl rfl ?_
        refine g_callV X (ct_J2_get hst hmG z1 (by omega)) dX1_atRank_42 rfl (lw_V q320 q295 q296 q70 q297) hyV_J2_get (fun H hH => hL.recvL X.2.2.2.2.2.2.2.1 hH (hmG)) (fun H hH => hH) ⟨Nat.le_of_ble_eq_true rfl, Nat.le_of_ble_eq_true rfl⟩ ⟨by first | exact Nat.le_of_ble_eq_true rfl | omega | (dsimp only [rmD]; omega), by first | exact Nat.le_of_ble_eq_true rfl | omega | (dsimp only [rmD]; omega)⟩ (Nat.le_of_ble_eq_true rfl) rfl (fun x_42 => ?_)
        refine GJ.cutv 56 (bI (k < one)) ?_ (fun hj => ?_)
        · refine g_callF X (ct_X8_isAheadOf hst (by omega) (by omega) (by omega) (by omega) y2 z2) dX1_atRank_56 rfl (classAt_of (X.2.2.2.2.2.2.1 _ q963)) (List.mem_of_getElem? (i := 4) rfl) (lw_app (by simp only [List.forall_mem_cons, List.not_mem_nil, false_imp_iff, implies_true, and_true]; exact ⟨q323, q327, q329, q94⟩) (lw_meth q331)) ⟨by decide, by decide, pd_ah⟩ (fun H hH => hL.recv X.2.2.2.2.2.2.2.1 hH (y2) rfl) (fun H hH => hH) ⟨Nat.le_of_ble_eq_true rfl, Nat.le_of_ble_eq_true rfl⟩ ⟨by first | exact Nat.le_of_ble_eq_true rfl | omega | (dsimp only [rmD]; omega), by first | exact Nat.le_of_ble_eq_true rfl | omega | (dsimp only [rmD]; omega)⟩ (Nat.le_of_ble_eq_true rfl) rfl (fun x_56 => ?_)
          refine g_if_eq (tgt := 68) X dX1_atRank_61 rfl (by decide) (fun c => absurd (bI_0.mp c) (fun h => h hP)) (fun c_61 => ?_)
          refine g_iconst X dX1_atRank_64 rfl (v := (nI 1)) rfl ?_
          refine g_goto (tgt := 69) X dX1_atRank_65 rfl (by decide) ?_
          refine g_iadd X dX1_atRank_69 rfl (by first | exact nI_add _ _ | rfl) ?_
          refine g_istore_n X dX1_atRank_70 rfl (by decide) rfl rfl ?_
          refine g_iinc X dX1_atRank_71 rfl rfl (by first | exact nI_1 _ | rfl) (by decide) rfl rfl ?_
          refine g_goto (tgt := 15) X dX1_atRank_74 rfl (by decide) ?_
          exact nxt _ (cN_t hP)
        · refine g_iload X dX1_atRank_45 rfl rfl ?_
          refine g_iload_n X dX1_atRank_47 rfl rfl ?_
          refine g_icmp_ge (tgt := 55) X dX1_atRank_48 rfl (by decide) (fun c_48 => ?_) (fun c_48 => ?_)
          · rw [nI_leI (by omega) (by omega)] at c_48
            refine g_iconst X dX1_atRank_55 rfl (v := (nI 0)) rfl ?_
            exact GJ.top (bI_f (by omega)).symm hj
          · rw [nI_leI (by omega) (by omega)] at c_48
            refine g_iconst X dX1_atRank_51 rfl (v := (nI 1)) rfl ?_
            refine g_goto (tgt := 56) X dX1_atRank_52 rfl (by decide) ?_
            exact GJ.top (bI_t (by omega)).symm hj
      · by_cases hne : k = one
        · refine g_iload_n X dX1_atRank_24 rfl rfl ?_
          refine g_iload X dX1_atRank_25 rfl rfl ?_
          refine g_iload_n X dX1_atRank_27 rfl rfl ?_
          refine g_icmp_eq (tgt := 68) X dX1_atRank_28 rfl (by decide) (fun c_28 => ?_) (fun c => absurd (by rw [hne]) c)
          refine g_iconst X dX1_atRank_68 rfl (v := (nI 0)) rfl ?_
          refine g_iadd X dX1_atRank_69 rfl (by first | exact nI_add _ _ | rfl) ?_
          refine g_istore_n X dX1_atRank_70 rfl (by decide) rfl rfl ?_
          refine g_iinc X dX1_atRank_71 rfl rfl (by first | exact nI_1 _ | rfl) (by decide) rfl rfl ?_
          refine g_goto (tgt := 15) X dX1_atRank_74 rfl (by decide) ?_
          exact nxt _ (cN_f hP)
        · refine g_iload_n X dX1_atRank_24 rfl rfl ?_
          refine g_iload X dX1_atRank_25 rfl rfl ?_
          refine g_iload_n X dX1_atRank_27 rfl rfl ?_
          refine g_icmp_eq (tgt := 68) X dX1_atRank_28 rfl (by decide) (fun c => absurd ((nI_eq (by omega) (by omega)).mp c) hne) (fun c_28 => ?_)
          refine g_aload_n X dX1_atRank_31 rfl rfl ?_
          refine g_iload X dX1_atRank_32 rfl rfl ?_
          refine g_callV X (ct_J2_get hst hmG y1 (by omega)) dX1_atRank_34 rfl (lw_V q320 q295 q296 q70 q297) hyV_J2_get (fun H hH => hL.recvL X.2.2.2.2.2.2.2.1 hH (hmG)) (fun H hH => hH) ⟨Nat.le_of_ble_eq_true rfl, Nat.le_of_ble_eq_true rfl⟩ ⟨by first | exact Nat.le_of_ble_eq_true rfl | omega | (dsimp only [rmD]; omega), by first | exact Nat.le_of_ble_eq_true rfl | omega | (dsimp only [rmD]; omega)⟩ (Nat.le_of_ble_eq_true rfl) rfl (fun x_34 => ?_)
          refine g_castY X dX1_atRank_37 rfl q321 q326 (fun H hH => hL.recv X.2.2.2.2.2.2.2.1 hH (y2) rfl) ?_
          refine g_aload_n X dX1_atRank_40 rfl rfl ?_
          refine g_iload_n X dX1_atRank_41 rfl rfl ?_
          refine g_callV X (ct_J2_get hst hmG z1 (by omega)) dX1_atRank_42 rfl (lw_V q320 q295 q296 q70 q297) hyV_J2_get (fun H hH => hL.recvL X.2.2.2.2.2.2.2.1 hH (hmG)) (fun H hH => hH) ⟨Nat.le_of_ble_eq_true rfl, Nat.le_of_ble_eq_true rfl⟩ ⟨by first | exact Nat.le_of_ble_eq_true rfl | omega | (dsimp only [rmD]; omega), by first | exact Nat.le_of_ble_eq_true rfl | omega | (dsimp only [rmD]; omega)⟩ (Nat.le_of_ble_eq_true rfl) rfl (fun x_42 => ?_)
          refine GJ.cutv 56 (bI (k < one)) ?_ (fun hj => ?_)
          · refine g_callF X (ct_X8_isAheadOf hst (by omega) (by omega) (by omega) (by omega) y2 z2) dX1_atRank_56 rfl (classAt_of (X.2.2.2.2.2.2.1 _ q963)) (List.mem_of_getElem? (i := 4) rfl) (lw_app (by simp only [List.forall_mem_cons, List.not_mem_nil, false_imp_iff, implies_true, and_true]; exact ⟨q323, q327, q329, q94⟩) (lw_meth q331)) ⟨by decide, by decide, pd_ah⟩ (fun H hH => hL.recv X.2.2.2.2.2.2.2.1 hH (y2) rfl) (fun H hH => hH) ⟨Nat.le_of_ble_eq_true rfl, Nat.le_of_ble_eq_true rfl⟩ ⟨by first | exact Nat.le_of_ble_eq_true rfl | omega | (dsimp only [rmD]; omega), by first | exact Nat.le_of_ble_eq_true rfl | omega | (dsimp only [rmD]; omega)⟩ (Nat.le_of_ble_eq_true rfl) rfl (fun x_56 => ?_)
            refine g_if_eq (tgt := 68) X dX1_atRank_61 rfl (by decide) (fun c_61 => ?_) (fun c => absurd (bI_n0.mp (fun h => c h)) hP)
            refine g_iconst X dX1_atRank_68 rfl (v := (nI 0)) rfl ?_
            refine g_iadd X dX1_atRank_69 rfl (by first | exact nI_add _ _ | rfl) ?_
            refine g_istore_n X dX1_atRank_70 rfl (by decide) rfl rfl ?_
            refine g_iinc X dX1_atRank_71 rfl rfl (by first | exact nI_1 _ | rfl) (by decide) rfl rfl ?_
            refine g_goto (tgt := 15) X dX1_atRank_74 rfl (by decide) ?_
            exact nxt _ (cN_f hP)
          · refine g_iload X dX1_atRank_45 rfl rfl ?_
            refine g_iload_n X dX1_atRank_47 rfl rfl ?_
            refine g_icmp_ge (tgt := 55) X dX1_atRank_48 rfl (by decide) (fun c_48 => ?_) (fun c_48 => ?_)
            · rw [nI_leI (by omega) (by omega)] at c_48
              refine g_iconst X dX1_atRank_55 rfl (v := (nI 0)) rfl ?_
              exact GJ.top (bI_f (by omega)).symm hj
            · rw [nI_leI (by omega) (by omega)] at c_48
              refine g_iconst X dX1_atRank_51 rfl (v := (nI 1)) rfl ?_
              refine g_goto (tgt := 56) X dX1_atRank_52 rfl (by decide) ?_
              exact GJ.top (bI_t (by omega)).symm hj
end D7
