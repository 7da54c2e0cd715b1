/-! CLASS: who is ahead -/
section C5
variable {l : Launch} {Ω : Om} {I : Heap → Prop} {Γ : LH} {a b : Nat}
set_option maxRecDepth 100000
theorem ct_X7_isAheadOf_2 (hst : l.stackTraces = false) {P : Prop} {va vb : Value} {d1 p1 d2 p2 : Int32} {w1 w2 : Nat} (h1 : w1 < 1000) (h2 : w2 < 1000) (ha : Γ a = some (.inl (.inr (6, [.int d1, .int p1, va, .int (nI w1)])))) (hb : Γ b = some (.inl (.inr (6, [.int d2, .int p2, vb, .int (nI w2)])))) : CM Ω l yX7_isAheadOf_2 (ws_ yX7_isAheadOf_2 cX7_isAheadOf_2 3 (some .boolean)) 1 0 0 [.ref a, .ref b, .int (bI P)] (hL Ω Γ) (QP (some (.int (bI (w2 < w1 ∨ (w1 = w2 ∧ P))))) (hL Ω Γ)) nX := by
  refine CM.of (L := [some (.ref a), some (.ref b), some (.int (bI P))]) hst (by decide) (Nat.le_of_ble_eq_true rfl) rfl ?_
  intro p e s m below meth c X hnm htab
  by_cases g1 : w1 = w2
  · rw [bI_congr (show (w2 < w1 ∨ (w1 = w2 ∧ P)) ↔ P from ⟨fun z => z.elim (fun z => absurd z (by omega)) (fun z => z.2), fun z => Or.inr ⟨g1, z⟩⟩)]
    refine g_aload_n X dX7_isAheadOf_2_0 rfl rfl ?_
    refine l_get X dX7_isAheadOf_2_1 rfl in_X7 (ci := 6) rfl 3 (by decide) q738 (fun _ h => h) ha rfl ?_
    refine g_aload_n X dX7_isAheadOf_2_4 rfl rfl ?_
    refine l_get X dX7_isAheadOf_2_5 rfl in_X7 (ci := 6) rfl 3 (by decide) q738 (fun _ h => h) hb rfl ?_
    refine g_icmp_eq (tgt := 30) X dX7_isAheadOf_2_8 rfl (by decide) (fun c_8 => ?_) (fun c => absurd (by rw [g1]) c)
    refine g_iload_n X dX7_isAheadOf_2_30 rfl rfl ?_
    refine g_zret X dX7_isAheadOf_2_31 rfl bI_nar (Nat.le_of_ble_eq_true rfl) (Nat.le_of_ble_eq_true rfl) (fun H hH => ⟨(), rfl, hH⟩)
  · by_cases g2 : w2 < w1
    · rw [bI_t (Or.inl g2)]
      refine g_aload_n X dX7_isAheadOf_2_0 rfl rfl ?_
      refine l_get X dX7_isAheadOf_2_1 rfl in_X7 (ci := 6) rfl 3 (by decide) q738 (fun _ h => h) ha rfl ?_
      refine g_aload_n X dX7_isAheadOf_2_4 rfl rfl ?_
      refine l_get X dX7_isAheadOf_2_5 rfl in_X7 (ci := 6) rfl 3 (by decide) q738 (fun _ h => h) hb rfl ?_
      refine g_icmp_eq (tgt := 30) X dX7_isAheadOf_2_8 rfl (by decide) (fun c => absurd ((nI_eq (by omega) (by omega)).mp c) g1) (fun c_8 => ?_)
      refine g_aload_n X dX7_isAheadOf_2_11 rfl rfl ?_
      refine l_get X dX7_isAheadOf_2_12 rfl in_X7 (ci := 6) rfl 3 (by decide) q738 (fun _ h => h) ha rfl ?_
      refine g_aload_n X dX7_isAheadOf_2_15 rfl rfl ?_
      refine l_get X dX7_isAheadOf_2_16 rfl in_X7 (ci := 6) rfl 3 (by decide) q738 (fun _ h => h) hb rfl ?_
      refine g_icmp_le (tgt := 26) X dX7_isAheadOf_2_19 rfl (by decide) (fun c => absurd ((nI_leI (by omega) (by omega)).mp c) (by omega)) (fun c_19 => ?_)
      refine g_iconst X dX7_isAheadOf_2_22 rfl (v := (nI 1)) rfl ?_
      refine g_goto (tgt := 31) X dX7_isAheadOf_2_23 rfl (by decide) ?_
      refine g_zret X dX7_isAheadOf_2_31 rfl rfl (Nat.le_of_ble_eq_true rfl) (Nat.le_of_ble_eq_true rfl) (fun H hH => ⟨(), rfl, hH⟩)
    · rw [bI_f (P := w2 < w1 ∨ (w1 = w2 ∧ P)) (fun z => z.elim g2 (fun z => g1 z.1))]
      refine g_aload_n X dX7_isAheadOf_2_0 rfl rfl ?_
      refine l_get X dX7_isAheadOf_2_1 rfl in_X7 (ci := 6) rfl 3 (by decide) q738 (fun _ h => h) ha rfl ?_
      refine g_aload_n X dX7_isAheadOf_2_4 rfl rfl ?_
      refine l_get X dX7_isAheadOf_2_5 rfl in_X7 (ci := 6) rfl 3 (by decide) q738 (fun _ h => h) hb rfl ?_
      refine g_icmp_eq (tgt := 30) X dX7_isAheadOf_2_8 rfl (by decide) (fun c => absurd ((nI_eq (by omega) (by omega)).mp c) g1) (fun c_8 => ?_)
      refine g_aload_n X dX7_isAheadOf_2_11 rfl rfl ?_
      refine l_get X dX7_isAheadOf_2_12 rfl in_X7 (ci := 6) rfl 3 (by decide) q738 (fun _ h => h) ha rfl ?_
      refine g_aload_n X dX7_isAheadOf_2_15 rfl rfl ?_
      refine l_get X dX7_isAheadOf_2_16 rfl in_X7 (ci := 6) rfl 3 (by decide) q738 (fun _ h => h) hb rfl ?_
      refine g_icmp_le (tgt := 26) X dX7_isAheadOf_2_19 rfl (by decide) (fun c_19 => ?_) (fun c => absurd ((nI_leI (by omega) (by omega)).mpr (by omega)) c)
      refine g_iconst X dX7_isAheadOf_2_26 rfl (v := (nI 0)) rfl ?_
      refine g_goto (tgt := 31) X dX7_isAheadOf_2_27 rfl (by decide) ?_
      refine g_zret X dX7_isAheadOf_2_31 rfl rfl (Nat.le_of_ble_eq_true rfl) (Nat.le_of_ble_eq_true rfl) (fun H hH => ⟨(), rfl, hH⟩)
end C5
