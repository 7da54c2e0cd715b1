/-! CLASS: slides, who is ahead -/
section C4
variable {l : Launch} {Ω : Om} {I : Heap → Prop} {Γ : LH} {a b : Nat}
set_option maxRecDepth 100000
theorem ct_X7_init (hst : l.stackTraces = false) {d p : Int32} {q : Nat} (ha : Γ a = some (.inl (.inr (6, [.int 0, .int 0, .null, .int 0])))) : CM Ω l yX7_init (ws_ yX7_init cX7_init 4 none) 2 0 0 [.ref a, .int d, .int p, .ref q] (hL Ω Γ) (QP none (hL Ω (hu Γ a (.inl (.inr (6, [.int d, .int p, .ref q, .int 0])))))) nX := by
  refine CM.of (L := [some (.ref a), some (.int d), some (.int p), some (.ref q)]) hst (by decide) (Nat.le_of_ble_eq_true rfl) rfl ?_
  intro p e s m below meth c X hnm htab
  refine g_aload_n X dX7_init_0 rfl rfl ?_
  refine g_objInit X dX7_init_1 rfl q728 (Nat.le_of_ble_eq_true rfl) (Nat.le_of_ble_eq_true rfl) ?_
  refine g_aload_n X dX7_init_4 rfl rfl ?_
  refine g_iload_n X dX7_init_5 rfl rfl ?_
  refine l_putF X hnm dX7_init_6 rfl in_X7 tyX7_ok nmX7 (ci := 6) rfl 0 (by decide) q729 (fun _ h => h) rfl rfl rfl rfl rfl ha (Nat.le_of_ble_eq_true rfl) rfl ?_
  refine g_aload_n X dX7_init_9 rfl rfl ?_
  refine g_iload_n X dX7_init_10 rfl rfl ?_
  refine l_putF X hnm dX7_init_11 rfl in_X7 tyX7_ok nmX7 (ci := 6) rfl 1 (by decide) q732 (fun _ h => h) rfl rfl rfl rfl rfl (hu_s _ _ _) (Nat.le_of_ble_eq_true rfl) rfl ?_
  refine g_aload_n X dX7_init_14 rfl rfl ?_
  refine g_aload_n X dX7_init_15 rfl rfl ?_
  refine l_putF X hnm dX7_init_16 rfl in_X7 tyX7_ok nmX7 (ci := 6) rfl 2 (by decide) q735 (fun _ h => h) rfl rfl rfl rfl rfl (hu_s _ _ _) (Nat.le_of_ble_eq_true rfl) rfl ?_
  refine g_vret X dX7_init_19 rfl (Nat.le_of_ble_eq_true rfl) (Nat.le_of_ble_eq_true rfl) (fun H hH => ⟨(), rfl, by rw [hu_hu, hu_hu] at hH; exact hH⟩)
theorem ct_X7_isWet (hst : l.stackTraces = false) {d p : Int32} {q w : Nat} (hw : w < 1000) (ha : Γ a = some (.inl (.inr (6, [.int d, .int p, .ref q, .int (nI w)])))) : CM Ω l yX7_isWet (ws_ yX7_isWet cX7_isWet 1 (some .boolean)) 1 0 0 [.ref a] (hL Ω Γ) (QP (some (.int (bI (5 ≤ w)))) (hL Ω Γ)) nX := by
  refine CM.of (L := [some (.ref a)]) hst (by decide) (Nat.le_of_ble_eq_true rfl) rfl ?_
  intro p e s m below meth c X hnm htab
  by_cases h : 5 ≤ w
  · rw [bI_t h]
    refine g_aload_n X dX7_isWet_0 rfl rfl ?_
    refine l_get X dX7_isWet_1 rfl in_X7 (ci := 6) rfl 3 (by decide) q738 (fun _ h => h) ha rfl ?_
    refine g_iconst X dX7_isWet_4 rfl (v := (nI 5)) rfl ?_
    refine g_icmp_lt (tgt := 12) X dX7_isWet_5 rfl (by decide) (fun c => absurd ((nI_ltI (by omega) (by omega)).mp c) (by omega)) (fun c_5 => ?_)
    refine g_iconst X dX7_isWet_8 rfl (v := (nI 1)) rfl ?_
    refine g_goto (tgt := 13) X dX7_isWet_9 rfl (by decide) ?_
    refine g_zret X dX7_isWet_13 rfl rfl (Nat.le_of_ble_eq_true rfl) (Nat.le_of_ble_eq_true rfl) (fun H hH => ⟨(), rfl, hH⟩)
  · rw [bI_f h]
    refine g_aload_n X dX7_isWet_0 rfl rfl ?_
    refine l_get X dX7_isWet_1 rfl in_X7 (ci := 6) rfl 3 (by decide) q738 (fun _ h => h) ha rfl ?_
    refine g_iconst X dX7_isWet_4 rfl (v := (nI 5)) rfl ?_
    refine g_icmp_lt (tgt := 12) X dX7_isWet_5 rfl (by decide) (fun c_5 => ?_) (fun c => absurd ((nI_ltI (by omega) (by omega)).mpr (by omega)) c)
    refine g_iconst X dX7_isWet_12 rfl (v := (nI 0)) rfl ?_
    refine g_zret X dX7_isWet_13 rfl rfl (Nat.le_of_ble_eq_true rfl) (Nat.le_of_ble_eq_true rfl) (fun H hH => ⟨(), rfl, hH⟩)
theorem ct_X7_becomeWetter (hst : l.stackTraces = false) {d p : Int32} {q w : Nat} (hw : w < 1000) (ha : Γ a = some (.inl (.inr (6, [.int d, .int p, .ref q, .int (nI w)])))) : CM Ω l yX7_becomeWetter (ws_ yX7_becomeWetter cX7_becomeWetter 1 none) 2 0 0 [.ref a] (hL Ω Γ) (QP none (hL Ω (hu Γ a (.inl (.inr (6, [.int d, .int p, .ref q, .int (nI (min 9 (w + 2)))])))))) nX := by
  refine CM.of (L := [some (.ref a)]) hst (by decide) (Nat.le_of_ble_eq_true rfl) rfl ?_
  intro p e s m below meth c X hnm htab
  refine g_aload_n X dX7_becomeWetter_0 rfl rfl ?_
  refine g_bipush X dX7_becomeWetter_1 rfl (v := (nI 9)) (by decide) ?_
  refine g_aload_n X dX7_becomeWetter_3 rfl rfl ?_
  refine l_get X dX7_becomeWetter_4 rfl in_X7 (ci := 6) rfl 3 (by decide) q738 (fun _ h => h) ha rfl ?_
  refine g_iconst X dX7_becomeWetter_7 rfl (v := (nI 2)) rfl ?_
  refine g_iadd X dX7_becomeWetter_8 rfl (by first | exact nI_add _ _ | rfl) ?_
  refine g_min X dX7_becomeWetter_9 rfl q1192 (Nat.le_of_ble_eq_true rfl) (Nat.le_of_ble_eq_true rfl) (Nat.le_of_ble_eq_true rfl) (Nat.le_of_ble_eq_true rfl) (mn_nI (by omega) (by omega)) ?_
  refine l_put X dX7_becomeWetter_12 rfl in_X7 tyX7_ok nmX7 (ci := 6) rfl 3 (by decide) q738 (fun _ h => h) rfl rfl rfl rfl ha (Nat.le_of_ble_eq_true rfl) rfl ?_
  refine g_vret X dX7_becomeWetter_15 rfl (Nat.le_of_ble_eq_true rfl) (Nat.le_of_ble_eq_true rfl) (fun H hH => ⟨(), rfl, hH⟩)
theorem ct_X7_dry (hst : l.stackTraces = false) {d p : Int32} {q w : Nat} (hw : w ≤ 9) (ha : Γ a = some (.inl (.inr (6, [.int d, .int p, .ref q, .int (nI w)])))) : CM Ω l yX7_dry (ws_ yX7_dry cX7_dry 1 none) 2 0 0 [.ref a] (hL Ω Γ) (QP none (hL Ω (hu Γ a (.inl (.inr (6, [.int d, .int p, .ref q, .int (nI (w - 1))])))))) nX := by
  have hdw : (if nI 0 < nI w - nI 1 then nI w - nI 1 else nI 0) = nI (w - 1) := by
    rcases Nat.eq_zero_or_pos w with h | h
    · subst h; decide
    · rw [pk_sub h, mx_nI (x := 0) (by omega) (by omega), Nat.zero_max]
  refine CM.of (L := [some (.ref a)]) hst (by decide) (Nat.le_of_ble_eq_true rfl) rfl ?_
  intro p e s m below meth c X hnm htab
  refine g_aload_n X dX7_dry_0 rfl rfl ?_
  refine g_iconst X dX7_dry_1 rfl (v := (nI 0)) rfl ?_
  refine g_aload_n X dX7_dry_2 rfl rfl ?_
  refine l_get X dX7_dry_3 rfl in_X7 (ci := 6) rfl 3 (by decide) q738 (fun _ h => h) ha rfl ?_
  refine g_iconst X dX7_dry_6 rfl (v := (nI 1)) rfl ?_
  refine g_isub X dX7_dry_7 rfl rfl ?_
  refine g_max X dX7_dry_8 rfl q1175 (Nat.le_of_ble_eq_true rfl) (Nat.le_of_ble_eq_true rfl) (Nat.le_of_ble_eq_true rfl) (Nat.le_of_ble_eq_true rfl) hdw ?_
  refine l_put X dX7_dry_11 rfl in_X7 tyX7_ok nmX7 (ci := 6) rfl 3 (by decide) q738 (fun _ h => h) rfl rfl rfl rfl ha (Nat.le_of_ble_eq_true rfl) rfl ?_
  refine g_vret X dX7_dry_14 rfl (Nat.le_of_ble_eq_true rfl) (Nat.le_of_ble_eq_true rfl) (fun H hH => ⟨(), rfl, hH⟩)
end C4
