/-! ArrayList over heaps with lists: reading -/
section AL
variable {l : Launch} {Ω : Om} {Γ : LH} {x : Bk} {a q m0 : Nat} {xs : List Nat} {m : Int32}
theorem cc_a (ok : okL Ω Γ x) (he : Γ q = some (.inr (xs, m))) (h0 : xs ≠ []) : conc Ω Γ x (x.1 q) = some (cQ Ω (x.2.1 q) (fun k => xs[k]?)) ∧ xs.length ≤ x.2.1 q ∧ x.2.1 q ≤ 1000 := by
  rcases ok q _ he with h | ⟨h1, h2, h3⟩
  · exact absurd h.2.1 h0
  · refine ⟨?_, h3.1, h3.2.1⟩
    unfold conc
    rw [h2]
    show bkC Ω Γ x (x.1 q) = _
    unfold bkC
    rw [h1]
    dsimp only
    rw [he]
    dsimp only
    rw [if_pos rfl]
theorem aa_v {f : Nat → Option Nat} {k : Nat} {y : Option Nat} (h : k < 2 ^ 31) (hk : f k = y) : f (nI k).toNatClampNeg = y := by rw [nI_clamp h]; exact hk
set_option maxRecDepth 100000
theorem ct_J2_size (hst : l.stackTraces = false) (he : Γ q = some (.inr (xs, m))) : CM Ω l yJ2_size (ws_ yJ2_size cJ2_size 1 (some .int)) 1 0 0 [.ref q] (hL Ω Γ) (QP (some (.int (nI xs.length))) (hL Ω Γ)) nX := by
  refine CM.of (L := [some (.ref q)]) hst (by decide) (Nat.le_of_ble_eq_true rfl) rfl ?_
  intro p e s m below meth c X hnm htab
  refine GJ.ex (fun x => GJ.and (fun ok => ?_))
  refine g_aload_n X dJ2_size_0 rfl rfl ?_
  refine g_get X dJ2_size_1 rfl in_J2 (ci := 11) rfl 2 (by decide) q137 (fun _ h => h) (cc_l he) rfl ?_
  refine g_iret X dJ2_size_4 rfl (Nat.le_of_ble_eq_true rfl) (Nat.le_of_ble_eq_true rfl) (fun H hH => ⟨(), rfl, x, ok, hH⟩)
theorem ct_J2_isEmpty (hst : l.stackTraces = false) (he : Γ q = some (.inr (xs, m))) (hl : xs.length ≤ 1000) : CM Ω l yJ2_isEmpty (ws_ yJ2_isEmpty cJ2_isEmpty 1 (some .boolean)) 1 0 0 [.ref q] (hL Ω Γ) (QP (some (.int (bI (xs = [])))) (hL Ω Γ)) nX := by
  refine CM.of (L := [some (.ref q)]) hst (by decide) (Nat.le_of_ble_eq_true rfl) rfl ?_
  intro p e s m below meth c X hnm htab
  refine GJ.ex (fun x => GJ.and (fun ok => ?_))
  by_cases h0 : xs = []
  · rw [bI_t h0]
    refine g_aload_n X dJ2_isEmpty_0 rfl rfl ?_
    refine g_get X dJ2_isEmpty_1 rfl in_J2 (ci := 11) rfl 2 (by decide) q137 (fun _ h => h) (cc_l he) rfl ?_
    refine g_if_ne (tgt := 11) X dJ2_isEmpty_4 rfl (by decide) (fun c => absurd (by rw [h0]; rfl) c) (fun c_4 => ?_)
    refine g_iconst X dJ2_isEmpty_7 rfl (v := (nI 1)) rfl ?_
    refine g_goto (tgt := 12) X dJ2_isEmpty_8 rfl (by decide) ?_
    refine g_zret X dJ2_isEmpty_12 rfl rfl (Nat.le_of_ble_eq_true rfl) (Nat.le_of_ble_eq_true rfl) (fun H hH => ⟨(), rfl, x, ok, hH⟩)
  · rw [bI_f h0]
    refine g_aload_n X dJ2_isEmpty_0 rfl rfl ?_
    refine g_get X dJ2_isEmpty_1 rfl in_J2 (ci := 11) rfl 2 (by decide) q137 (fun _ h => h) (cc_l he) rfl ?_
    refine g_if_ne (tgt := 11) X dJ2_isEmpty_4 rfl (by decide) (fun c_4 => ?_) (fun c => absurd ((nI_c0 (by show xs.length < _; omega)).mp c) (fun g => h0 (List.eq_nil_of_length_eq_zero g)))
    refine g_iconst X dJ2_isEmpty_11 rfl (v := (nI 0)) rfl ?_
    refine g_zret X dJ2_isEmpty_12 rfl rfl (Nat.le_of_ble_eq_true rfl) (Nat.le_of_ble_eq_true rfl) (fun H hH => ⟨(), rfl, x, ok, hH⟩)
theorem ct_J2_elementData (hst : l.stackTraces = false) (he : Γ q = some (.inr (xs, m))) {k y : Nat} (hk : xs[k]? = some y) : CM Ω l yJ2_elementData (ws_ yJ2_elementData cJ2_elementData 2 (some (.object "java/lang/Object"))) 1 0 0 [.ref q, .int (nI k)] (hL Ω Γ) (QP (some (.ref y)) (hL Ω Γ)) nX := by
  have hlt : k < xs.length := (List.getElem?_eq_some_iff.mp hk).1
  refine CM.of (L := [some (.ref q), some (.int (nI k))]) hst (by decide) (Nat.le_of_ble_eq_true rfl) rfl ?_
  intro p e s m below meth c X hnm htab
  refine GJ.ex (fun x => GJ.and (fun ok => ?_))
  obtain ⟨c1, c2, c3⟩ := cc_a ok he (fun g => by rw [g] at hlt; exact absurd hlt (Nat.not_lt_zero k))
  refine g_aload_n X dJ2_elementData_0 rfl rfl ?_
  refine g_get X dJ2_elementData_1 rfl in_J2 (ci := 11) rfl 1 (by decide) q134 (fun _ h => h) (cc_l he) rfl ?_
  refine g_iload_n X dJ2_elementData_4 rfl rfl ?_
  refine g_aal X dJ2_elementData_5 rfl c1 (vp_in_nI (by omega) (by omega)) (aa_v (by omega) hk) ?_
  refine g_aret X (Or.inl ⟨_, rfl⟩) (Or.inr ⟨_, rfl⟩) dJ2_elementData_6 rfl (Nat.le_of_ble_eq_true rfl) (Nat.le_of_ble_eq_true rfl) (fun H hH => ⟨(), rfl, x, ok, hH⟩)
theorem ct_J2_get (hst : l.stackTraces = false) (he : Γ q = some (.inr (xs, m))) {k y : Nat} (hk : xs[k]? = some y) (hl : xs.length ≤ 1000) : CM Ω l yJ2_get (ws_ yJ2_get cJ2_get 2 (some (.object "java/lang/Object"))) 4 0 0 [.ref q, .int (nI k)] (hL Ω Γ) (QP (some (.ref y)) (hL Ω Γ)) nX := by
  have hlt : k < xs.length := (List.getElem?_eq_some_iff.mp hk).1
  refine CM.of (L := [some (.ref q), some (.int (nI k))]) hst (by decide) (Nat.le_of_ble_eq_true rfl) rfl ?_
  intro p e s m below meth c X hnm htab
  refine GJ.ex (fun x => GJ.and (fun ok => ?_))
  refine g_iload_n X dJ2_get_0 rfl rfl ?_
  refine g_aload_n X dJ2_get_1 rfl rfl ?_
  refine g_get X dJ2_get_2 rfl in_J2 (ci := 11) rfl 2 (by decide) q137 (fun _ h => h) (cc_l he) rfl ?_
  refine g_callS X (ct_J7_checkIndex hst hlt (by omega)) dJ2_get_5 rfl (lw_S q298 q299 q77 q300) hyS_J7_checkIndex (fun H hH => hH) ⟨Nat.le_of_ble_eq_true rfl, Nat.le_of_ble_eq_true rfl⟩ ⟨Nat.le_of_ble_eq_true rfl, Nat.le_of_ble_eq_true rfl⟩ (Nat.le_of_ble_eq_true rfl) rfl (fun x_5 => ?_)
  refine g_pop X dJ2_get_8 rfl rfl ?_
  refine GJ.imp (I' := hL Ω Γ) (fun H hH => ⟨x, ok, hH⟩) ?_
  refine g_aload_n X dJ2_get_9 rfl rfl ?_
  refine g_iload_n X dJ2_get_10 rfl rfl ?_
  refine g_callV X (ct_J2_elementData hst he hk) dJ2_get_11 rfl (lw_V q304 q305 q306 q70 q307) hyV_J2_elementData (fun H hH => hL.recvL X.2.2.2.2.2.2.2.1 hH he) (fun H hH => hH) ⟨Nat.le_of_ble_eq_true rfl, Nat.le_of_ble_eq_true rfl⟩ ⟨Nat.le_of_ble_eq_true rfl, Nat.le_of_ble_eq_true rfl⟩ (Nat.le_of_ble_eq_true rfl) rfl (fun x_11 => ?_)
  refine g_aret X (Or.inl ⟨_, rfl⟩) (Or.inr ⟨_, rfl⟩) dJ2_get_14 rfl (Nat.le_of_ble_eq_true rfl) (Nat.le_of_ble_eq_true rfl) (fun H hH => ⟨(), rfl, hH⟩)
end AL
