/-! ArrayList: contains a cached Integer -/
section AL8
variable {l : Launch} {Ω : Om} {Γ : LH} {q : Nat} {is : List Nat} {m0 : Int32}
theorem ixO_or (v : Nat) : ∀ n k, (ixO is v k n = -1 ∧ ∀ j, k ≤ j → j < k + n → is.getD j 0 ≠ v) ∨ ∃ j, k ≤ j ∧ j < k + n ∧ is.getD j 0 = v ∧ (∀ i, k ≤ i → i < j → is.getD i 0 ≠ v) ∧ ixO is v k n = nI j
  | 0, k => Or.inl ⟨rfl, fun j h1 h2 => by omega⟩
  | n + 1, k => by
    by_cases h : is.getD k 0 = v
    · exact Or.inr ⟨k, Nat.le_refl _, by omega, h, fun i h1 h2 => by omega, if_pos h⟩
    · have e : ixO is v k (n + 1) = ixO is v (k + 1) n := if_neg h
      rw [e]
      rcases ixO_or v n (k + 1) with ⟨h1, h2⟩ | ⟨j, h1, h2, h3, h4, h5⟩
      · refine Or.inl ⟨h1, fun j a b => ?_⟩
        by_cases g : j = k
        · rw [g]; exact h
        · exact h2 j (by omega) (by omega)
      · refine Or.inr ⟨j, by omega, by omega, h3, fun i a b => ?_, h5⟩
        by_cases g : i = k
        · rw [g]; exact h
        · exact h4 i (by omega) b
set_option maxRecDepth 100000
theorem ct_J2_indexOf (hst : l.stackTraces = false) (he : Γ q = some (.inr (iAd Ω is, m0))) (hl : is.length ≤ 1000) (h127 : ∀ n ∈ is, n ≤ 127) {v : Nat} (hv : v ≤ 127) : CM Ω l yJ2_indexOf (ws_ yJ2_indexOf cJ2_indexOf 2 (some .int)) 7 0 0 [.ref q, .ref (oM Ω (v + 128))] (hL Ω Γ) (QP (some (.int (ixO is v 0 is.length))) (hL Ω Γ)) nX := by
  refine CM.of (L := [some (.ref q), some (.ref (oM Ω (v + 128)))]) hst (by decide) (Nat.le_of_ble_eq_true rfl) rfl ?_
  intro p e s m below meth c X hnm htab
  refine GJ.ex (fun x => GJ.and (fun ok => ?_))
  refine g_aload_n X dJ2_indexOf_0 rfl rfl ?_
  refine g_aload_n X dJ2_indexOf_1 rfl rfl ?_
  refine g_iconst X dJ2_indexOf_2 rfl (v := (nI 0)) rfl ?_
  refine g_aload_n X dJ2_indexOf_3 rfl rfl ?_
  refine g_get X dJ2_indexOf_4 rfl in_J2 (ci := 11) rfl 2 (by decide) q137 (fun _ h => h) (cc_l he) (gv (show nI (iAd Ω is).length = nI is.length by rw [iAd_len])) ?_
  refine GJ.imp (I' := hL Ω Γ) (fun H hH => ⟨x, ok, hH⟩) ?_
  refine g_callV X (ct_J2_indexOfRange hst he hl h127 hv) dJ2_indexOf_7 rfl (lw_V q1055 q1056 q1057 q70 q1058) hyV_J2_indexOfRange (fun H hH => hL.recvL X.2.2.2.2.2.2.2.1 hH he) (fun H hH => hH) ⟨Nat.le_of_ble_eq_true rfl, Nat.le_of_ble_eq_true rfl⟩ ⟨Nat.le_of_ble_eq_true rfl, Nat.le_of_ble_eq_true rfl⟩ (Nat.le_of_ble_eq_true rfl) rfl (fun x_7 => ?_)
  refine g_iret X dJ2_indexOf_10 rfl (Nat.le_of_ble_eq_true rfl) (Nat.le_of_ble_eq_true rfl) (fun H hH => ⟨(), rfl, hH⟩)
theorem ct_J2_contains (hst : l.stackTraces = false) (he : Γ q = some (.inr (iAd Ω is, m0))) (hl : is.length ≤ 1000) (h127 : ∀ n ∈ is, n ≤ 127) {v : Nat} (hv : v ≤ 127) : CM Ω l yJ2_contains (ws_ yJ2_contains cJ2_contains 2 (some .boolean)) 9 0 0 [.ref q, .ref (oM Ω (v + 128))] (hL Ω Γ) (QP (some (.int (bI (v ∈ is)))) (hL Ω Γ)) nX := by
  have hm : v ∈ is ↔ ∃ j, j < is.length ∧ is.getD j 0 = v := by
    constructor
    · intro h
      obtain ⟨j, hj, e⟩ := List.getElem_of_mem h
      exact ⟨j, hj, by rw [List.getD_eq_getElem?_getD, List.getElem?_eq_getElem hj]; exact e⟩
    · rintro ⟨j, hj, e⟩
      rw [List.getD_eq_getElem?_getD, List.getElem?_eq_getElem hj] at e
      have e : is[j] = v := e
      rw [← e]; exact List.getElem_mem hj
  refine CM.of (L := [some (.ref q), some (.ref (oM Ω (v + 128)))]) hst (by decide) (Nat.le_of_ble_eq_true rfl) rfl ?_
  intro p e s m below meth c X hnm htab
  rcases ixO_or (is := is) v is.length 0 with ⟨h1, h2⟩ | ⟨j, -, h2, h3, -, h5⟩
  · rw [bI_f (fun g => by obtain ⟨j, hj, e⟩ := hm.mp g; exact h2 j (Nat.zero_le _) (by omega) e)]
    refine g_aload_n X dJ2_contains_0 rfl rfl ?_
    refine g_aload_n X dJ2_contains_1 rfl rfl ?_
    refine g_callV X (ct_J2_indexOf hst he hl h127 hv) dJ2_contains_2 rfl (lw_V q1051 q1052 q1053 q70 q1054) hyV_J2_indexOf (fun H hH => hL.recvL X.2.2.2.2.2.2.2.1 hH he) (fun H hH => hH) ⟨Nat.le_of_ble_eq_true rfl, Nat.le_of_ble_eq_true rfl⟩ ⟨Nat.le_of_ble_eq_true rfl, Nat.le_of_ble_eq_true rfl⟩ (Nat.le_of_ble_eq_true rfl) rfl (fun x_2 => ?_)
    rw [h1]
    refine g_if_lt (tgt := 12) X dJ2_contains_5 rfl (by decide) (fun c_5 => ?_) (fun c => absurd (by decide) c)
    refine g_iconst X dJ2_contains_12 rfl (v := (nI 0)) rfl ?_
    refine g_zret X dJ2_contains_13 rfl rfl (Nat.le_of_ble_eq_true rfl) (Nat.le_of_ble_eq_true rfl) (fun H hH => ⟨(), rfl, hH⟩)
  · rw [bI_t (hm.mpr ⟨j, by omega, h3⟩)]
    refine g_aload_n X dJ2_contains_0 rfl rfl ?_
    refine g_aload_n X dJ2_contains_1 rfl rfl ?_
    refine g_callV X (ct_J2_indexOf hst he hl h127 hv) dJ2_contains_2 rfl (lw_V q1051 q1052 q1053 q70 q1054) hyV_J2_indexOf (fun H hH => hL.recvL X.2.2.2.2.2.2.2.1 hH he) (fun H hH => hH) ⟨Nat.le_of_ble_eq_true rfl, Nat.le_of_ble_eq_true rfl⟩ ⟨Nat.le_of_ble_eq_true rfl, Nat.le_of_ble_eq_true rfl⟩ (Nat.le_of_ble_eq_true rfl) rfl (fun x_2 => ?_)
    rw [h5]
    refine g_if_lt (tgt := 12) X dJ2_contains_5 rfl (by decide) (fun c => absurd c (nI_pos (by omega))) (fun c_5 => ?_)
    refine g_iconst X dJ2_contains_8 rfl (v := (nI 1)) rfl ?_
    refine g_goto (tgt := 13) X dJ2_contains_9 rfl (by decide) ?_
    refine g_zret X dJ2_contains_13 rfl rfl (Nat.le_of_ble_eq_true rfl) (Nat.le_of_ble_eq_true rfl) (fun H hH => ⟨(), rfl, hH⟩)
end AL8
