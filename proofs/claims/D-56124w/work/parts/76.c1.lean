/-! CLASS: isBetween, Line -/
section C1
variable {l : Launch} {Ω : Om} {I : Heap → Prop} {Γ : LH} {a q y : Nat} {is xs : List Nat} {m0 : Int32}
set_option maxRecDepth 100000
theorem ct_X1_isBetween (hst : l.stackTraces = false) {x y z : Int32} : CM Ω l yX1_isBetween (ws_ yX1_isBetween cX1_isBetween 3 (some .boolean)) 1 0 0 [.int x, .int y, .int z] I (QP (some (.int (bI (y ≤ x ∧ x ≤ z)))) I) nX := by
  refine CM.of (L := [some (.int x), some (.int y), some (.int z)]) hst (by decide) (Nat.le_of_ble_eq_true rfl) rfl ?_
  intro p e s m below meth c X hnm htab
  refine g_iload_n X dX1_isBetween_0 rfl rfl ?_
  refine g_iload_n X dX1_isBetween_1 rfl rfl ?_
  refine g_icmp_lt (tgt := 14) X dX1_isBetween_2 rfl (by decide) (fun c_2 => ?_) (fun c_2 => ?_)
  · refine g_iconst X dX1_isBetween_14 rfl (v := (nI 0)) rfl ?_
    refine g_zret X dX1_isBetween_15 rfl rfl (Nat.le_of_ble_eq_true rfl) (Nat.le_of_ble_eq_true rfl) (fun H hH => ?_)
    exact ⟨(), by rw [bI_f (fun g => Int32.not_le.mpr c_2 g.1)], hH⟩
  · refine g_iload_n X dX1_isBetween_5 rfl rfl ?_
    refine g_iload_n X dX1_isBetween_6 rfl rfl ?_
    refine g_icmp_gt (tgt := 14) X dX1_isBetween_7 rfl (by decide) (fun c_7 => ?_) (fun c_7 => ?_)
    · refine g_iconst X dX1_isBetween_14 rfl (v := (nI 0)) rfl ?_
      refine g_zret X dX1_isBetween_15 rfl rfl (Nat.le_of_ble_eq_true rfl) (Nat.le_of_ble_eq_true rfl) (fun H hH => ?_)
      exact ⟨(), by rw [bI_f (fun g => Int32.not_le.mpr c_7 g.2)], hH⟩
    · refine g_iconst X dX1_isBetween_10 rfl (v := (nI 1)) rfl ?_
      refine g_goto (tgt := 15) X dX1_isBetween_11 rfl (by decide) ?_
      refine g_zret X dX1_isBetween_15 rfl rfl (Nat.le_of_ble_eq_true rfl) (Nat.le_of_ble_eq_true rfl) (fun H hH => ?_)
      exact ⟨(), by rw [bI_t ⟨Int32.not_lt.mp c_2, Int32.not_lt.mp c_7⟩], hH⟩
theorem ct_X6_size (hst : l.stackTraces = false) (ha : Γ a = some (.inl (.inr (5, [.ref q])))) (he : Γ q = some (.inr (xs, m0))) : CM Ω l yX6_size (ws_ yX6_size cX6_size 1 (some .int)) 3 0 0 [.ref a] (hL Ω Γ) (QP (some (.int (nI xs.length))) (hL Ω Γ)) nX := by
  refine CM.of (L := [some (.ref a)]) hst (by decide) (Nat.le_of_ble_eq_true rfl) rfl ?_
  intro p e s m below meth c X hnm htab
  refine g_aload_n X dX6_size_0 rfl rfl ?_
  refine l_get X dX6_size_1 rfl in_X6 (ci := 5) rfl 0 (by decide) q706 (fun _ h => h) ha rfl ?_
  refine g_callV X (ct_J2_size hst he) dX6_size_4 rfl (lw_V q710 q270 q271 q70 q272) hyV_J2_size (fun H hH => hL.recvL X.2.2.2.2.2.2.2.1 hH he) (fun H hH => hH) ⟨Nat.le_of_ble_eq_true rfl, Nat.le_of_ble_eq_true rfl⟩ ⟨Nat.le_of_ble_eq_true rfl, Nat.le_of_ble_eq_true rfl⟩ (Nat.le_of_ble_eq_true rfl) rfl (fun x_4 => ?_)
  refine g_iret X dX6_size_7 rfl (Nat.le_of_ble_eq_true rfl) (Nat.le_of_ble_eq_true rfl) (fun H hH => ⟨(), rfl, hH⟩)
theorem ct_X6_isEmpty (hst : l.stackTraces = false) (ha : Γ a = some (.inl (.inr (5, [.ref q])))) (he : Γ q = some (.inr (xs, m0))) (hl : xs.length ≤ 1000) : CM Ω l yX6_isEmpty (ws_ yX6_isEmpty cX6_isEmpty 1 (some .boolean)) 3 0 0 [.ref a] (hL Ω Γ) (QP (some (.int (bI (xs = [])))) (hL Ω Γ)) nX := by
  refine CM.of (L := [some (.ref a)]) hst (by decide) (Nat.le_of_ble_eq_true rfl) rfl ?_
  intro p e s m below meth c X hnm htab
  refine g_aload_n X dX6_isEmpty_0 rfl rfl ?_
  refine l_get X dX6_isEmpty_1 rfl in_X6 (ci := 5) rfl 0 (by decide) q706 (fun _ h => h) ha rfl ?_
  refine g_callV X (ct_J2_isEmpty hst he hl) dX6_isEmpty_4 rfl (lw_V q1148 q1149 q1150 q70 q1151) hyV_J2_isEmpty (fun H hH => hL.recvL X.2.2.2.2.2.2.2.1 hH he) (fun H hH => hH) ⟨Nat.le_of_ble_eq_true rfl, Nat.le_of_ble_eq_true rfl⟩ ⟨Nat.le_of_ble_eq_true rfl, Nat.le_of_ble_eq_true rfl⟩ (Nat.le_of_ble_eq_true rfl) rfl (fun x_4 => ?_)
  refine g_zret X dX6_isEmpty_7 rfl bI_nar (Nat.le_of_ble_eq_true rfl) (Nat.le_of_ble_eq_true rfl) (fun H hH => ⟨(), rfl, hH⟩)
theorem ct_X6_contains (hst : l.stackTraces = false) (ha : Γ a = some (.inl (.inr (5, [.ref q])))) (he : Γ q = some (.inr (iAd Ω is, m0))) (hl : is.length ≤ 1000) (h127 : ∀ n ∈ is, n ≤ 127) {v : Nat} (hv : v ≤ 127) : CM Ω l yX6_contains (ws_ yX6_contains cX6_contains 2 (some .boolean)) 11 0 0 [.ref a, .ref (oM Ω (v + 128))] (hL Ω Γ) (QP (some (.int (bI (v ∈ is)))) (hL Ω Γ)) nX := by
  refine CM.of (L := [some (.ref a), some (.ref (oM Ω (v + 128)))]) hst (by decide) (Nat.le_of_ble_eq_true rfl) rfl ?_
  intro p e s m below meth c X hnm htab
  refine g_aload_n X dX6_contains_0 rfl rfl ?_
  refine l_get X dX6_contains_1 rfl in_X6 (ci := 5) rfl 0 (by decide) q706 (fun _ h => h) ha rfl ?_
  refine g_aload_n X dX6_contains_4 rfl rfl ?_
  refine g_callV X (ct_J2_contains hst he hl h127 hv) dX6_contains_5 rfl (lw_V q1047 q1048 q1049 q70 q1050) hyV_J2_contains (fun H hH => hL.recvL X.2.2.2.2.2.2.2.1 hH he) (fun H hH => hH) ⟨Nat.le_of_ble_eq_true rfl, Nat.le_of_ble_eq_true rfl⟩ ⟨Nat.le_of_ble_eq_true rfl, Nat.le_of_ble_eq_true rfl⟩ (Nat.le_of_ble_eq_true rfl) rfl (fun x_5 => ?_)
  refine g_zret X dX6_contains_8 rfl bI_nar (Nat.le_of_ble_eq_true rfl) (Nat.le_of_ble_eq_true rfl) (fun H hH => ⟨(), rfl, hH⟩)
theorem ct_X6_first (hst : l.stackTraces = false) (ha : Γ a = some (.inl (.inr (5, [.ref q])))) (he : Γ q = some (.inr (xs, m0))) (hl : xs.length ≤ 1000) (h0 : xs[0]? = some y) : CM Ω l yX6_first (ws_ yX6_first cX6_first 1 (some (.object "java/lang/Object"))) 6 0 0 [.ref a] (hL Ω Γ) (QP (some (.ref y)) (hL Ω Γ)) nX := by
  refine CM.of (L := [some (.ref a)]) hst (by decide) (Nat.le_of_ble_eq_true rfl) rfl ?_
  intro p e s m below meth c X hnm htab
  refine g_aload_n X dX6_first_0 rfl rfl ?_
  refine l_get X dX6_first_1 rfl in_X6 (ci := 5) rfl 0 (by decide) q706 (fun _ h => h) ha rfl ?_
  refine g_iconst X dX6_first_4 rfl (v := (nI 0)) rfl ?_
  refine g_callV X (ct_J2_get hst he h0 hl) dX6_first_5 rfl (lw_V q711 q295 q296 q70 q297) hyV_J2_get (fun H hH => hL.recvL X.2.2.2.2.2.2.2.1 hH he) (fun H hH => hH) ⟨Nat.le_of_ble_eq_true rfl, Nat.le_of_ble_eq_true rfl⟩ ⟨Nat.le_of_ble_eq_true rfl, Nat.le_of_ble_eq_true rfl⟩ (Nat.le_of_ble_eq_true rfl) rfl (fun x_5 => ?_)
  refine g_aret X (Or.inl ⟨_, rfl⟩) (Or.inr ⟨_, rfl⟩) dX6_first_8 rfl (Nat.le_of_ble_eq_true rfl) (Nat.le_of_ble_eq_true rfl) (fun H hH => ⟨(), rfl, hH⟩)
theorem ct_X6_join (hst : l.stackTraces = false) (ha : Γ a = some (.inl (.inr (5, [.ref q])))) (he : Γ q = some (.inr (xs, m0))) (hl : xs.length ≤ 40) (hE : ∀ z ∈ xs, okE Ω Γ z) (hy : okE Ω Γ y) : CM Ω l yX6_join (ws_ yX6_join cX6_join 2 none) 15 1 64 [.ref a, .ref y] (hL Ω Γ) (QP none (hL Ω (hu Γ q (.inr (xs ++ [y], m0 + nI 1))))) nX := by
  refine CM.of (L := [some (.ref a), some (.ref y)]) hst (by decide) (Nat.le_of_ble_eq_true rfl) rfl ?_
  intro p e s m below meth c X hnm htab
  refine g_aload_n X dX6_join_0 rfl rfl ?_
  refine l_get X dX6_join_1 rfl in_X6 (ci := 5) rfl 0 (by decide) q706 (fun _ h => h) ha rfl ?_
  refine g_aload_n X dX6_join_4 rfl rfl ?_
  refine g_callV X (ct_J2_add hst he hl hE hy) dX6_join_5 rfl (lw_V q712 q620 q621 q70 q622) hyV_J2_add (fun H hH => hL.recvL X.2.2.2.2.2.2.2.1 hH he) (fun H hH => hH) ⟨Nat.le_of_ble_eq_true rfl, Nat.le_of_ble_eq_true rfl⟩ ⟨Nat.le_of_ble_eq_true rfl, Nat.le_of_ble_eq_true rfl⟩ (Nat.le_of_ble_eq_true rfl) rfl (fun x_5 => ?_)
  refine g_pop X dX6_join_8 rfl rfl ?_
  refine g_vret X dX6_join_9 rfl (Nat.le_of_ble_eq_true rfl) (Nat.le_of_ble_eq_true rfl) (fun H hH => ⟨(), rfl, hH⟩)
theorem ct_X6_removeFirst (hst : l.stackTraces = false) (ha : Γ a = some (.inl (.inr (5, [.ref q])))) (he : Γ q = some (.inr (xs, m0))) (hl : xs.length ≤ 1000) (h0 : xs[0]? = some y) (hE : ∀ z ∈ xs, okE Ω Γ z) : CM Ω l yX6_removeFirst (ws_ yX6_removeFirst cX6_removeFirst 1 none) 6 0 0 [.ref a] (hL Ω Γ) (QP none (hL Ω (hu Γ q (.inr (xs.eraseIdx 0, m0 + nI 1))))) nX := by
  refine CM.of (L := [some (.ref a)]) hst (by decide) (Nat.le_of_ble_eq_true rfl) rfl ?_
  intro p e s m below meth c X hnm htab
  refine g_aload_n X dX6_removeFirst_0 rfl rfl ?_
  refine l_get X dX6_removeFirst_1 rfl in_X6 (ci := 5) rfl 0 (by decide) q706 (fun _ h => h) ha rfl ?_
  refine g_iconst X dX6_removeFirst_4 rfl (v := (nI 0)) rfl ?_
  refine g_callV X (ct_J2_remove hst he h0 hl hE) dX6_removeFirst_5 rfl (lw_V q1166 q822 q823 q70 q824) hyV_J2_remove (fun H hH => hL.recvL X.2.2.2.2.2.2.2.1 hH he) (fun H hH => hH) ⟨Nat.le_of_ble_eq_true rfl, Nat.le_of_ble_eq_true rfl⟩ ⟨Nat.le_of_ble_eq_true rfl, Nat.le_of_ble_eq_true rfl⟩ (Nat.le_of_ble_eq_true rfl) rfl (fun x_5 => ?_)
  refine g_pop X dX6_removeFirst_8 rfl rfl ?_
  refine g_vret X dX6_removeFirst_9 rfl (Nat.le_of_ble_eq_true rfl) (Nat.le_of_ble_eq_true rfl) (fun H hH => ⟨(), rfl, hH⟩)
theorem ct_X6_remove (hst : l.stackTraces = false) (ha : Γ a = some (.inl (.inr (5, [.ref q])))) (he : Γ q = some (.inr (iAd Ω is, m0))) (hl : is.length ≤ 1000) (h127 : ∀ n ∈ is, n ≤ 127) {v : Nat} (hv : v ≤ 127) (hm : v ∈ is) : CM Ω l yX6_remove (ws_ yX6_remove cX6_remove 2 (some .boolean)) 7 0 0 [.ref a, .ref (oM Ω (v + 128))] (hL Ω Γ) (QP (some (.int (nI 1))) (hL Ω (hu Γ q (.inr (iAd Ω (is.erase v), m0 + nI 1))))) nX := by
  refine CM.of (L := [some (.ref a), some (.ref (oM Ω (v + 128)))]) hst (by decide) (Nat.le_of_ble_eq_true rfl) rfl ?_
  intro p e s m below meth c X hnm htab
  refine g_aload_n X dX6_remove_0 rfl rfl ?_
  refine l_get X dX6_remove_1 rfl in_X6 (ci := 5) rfl 0 (by decide) q706 (fun _ h => h) ha rfl ?_
  refine g_aload_n X dX6_remove_4 rfl rfl ?_
  refine g_callV X (ct_J2_remove_2 hst he hl h127 hv hm) dX6_remove_5 rfl (lw_V q1125 q1126 q1127 q70 q1128) hyV_J2_remove_2 (fun H hH => hL.recvL X.2.2.2.2.2.2.2.1 hH he) (fun H hH => hH) ⟨Nat.le_of_ble_eq_true rfl, Nat.le_of_ble_eq_true rfl⟩ ⟨Nat.le_of_ble_eq_true rfl, Nat.le_of_ble_eq_true rfl⟩ (Nat.le_of_ble_eq_true rfl) rfl (fun x_5 => ?_)
  refine g_zret X dX6_remove_8 rfl rfl (Nat.le_of_ble_eq_true rfl) (Nat.le_of_ble_eq_true rfl) (fun H hH => ⟨(), rfl, hH⟩)
end C1
