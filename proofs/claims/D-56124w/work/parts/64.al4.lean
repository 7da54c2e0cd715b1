/-! ArrayList over heaps with lists: remove(int), clear -/
section AL4
variable {l : Launch} {Ω : Om} {Γ : LH} {x : Bk} {q : Nat} {xs : List Nat} {m : Int32}
set_option maxRecDepth 100000
theorem ct_J2_remove (hst : l.stackTraces = false) (he : Γ q = some (.inr (xs, m))) {k y : Nat} (hk : xs[k]? = some y) (hl : xs.length ≤ 1000) (hE : ∀ y ∈ xs, okE Ω Γ y) : CM Ω l yJ2_remove (ws_ yJ2_remove cJ2_remove 4 (some (.object "java/lang/Object"))) 4 0 0 [.ref q, .int (nI k)] (hL Ω Γ) (QP (some (.ref y)) (hL Ω (hu Γ q (.inr (xs.eraseIdx k, m + nI 1))))) nX := by
  have hlt : k < xs.length := (List.getElem?_eq_some_iff.mp hk).1
  refine CM.of (L := [some (.ref q), some (.int (nI k)), none, none]) hst (by decide) (Nat.le_of_ble_eq_true rfl) rfl ?_
  intro p e s m below meth c X hnm htab
  refine GJ.ex (fun x => GJ.and (fun ok => ?_))
  obtain ⟨c1, c2, c3⟩ := cc_a ok he (fun g => by rw [g] at hlt; exact absurd hlt (Nat.not_lt_zero k))
  refine g_iload_n X dJ2_remove_0 rfl rfl ?_
  refine g_aload_n X dJ2_remove_1 rfl rfl ?_
  refine g_get X dJ2_remove_2 rfl in_J2 (ci := 11) rfl 2 (by decide) q137 (fun _ h => h) (cc_l he) rfl ?_
  refine g_callS X (ct_J7_checkIndex hst hlt (by omega)) dJ2_remove_5 rfl (lw_S q298 q299 q77 q300) hyS_J7_checkIndex (fun H hH => hH) ⟨Nat.le_of_ble_eq_true rfl, Nat.le_of_ble_eq_true rfl⟩ ⟨Nat.le_of_ble_eq_true rfl, Nat.le_of_ble_eq_true rfl⟩ (Nat.le_of_ble_eq_true rfl) rfl (fun x_5 => ?_)
  refine g_pop X dJ2_remove_8 rfl rfl ?_
  refine g_aload_n X dJ2_remove_9 rfl rfl ?_
  refine g_get X dJ2_remove_10 rfl in_J2 (ci := 11) rfl 1 (by decide) q134 (fun _ h => h) (cc_l he) rfl ?_
  refine g_astore_n X dJ2_remove_13 rfl (by decide) rfl rfl ?_
  refine g_aload_n X dJ2_remove_14 rfl rfl ?_
  refine g_iload_n X dJ2_remove_15 rfl rfl ?_
  refine g_aal X dJ2_remove_16 rfl c1 (vp_in_nI (by omega) (by omega)) (aa_v (by omega) hk) ?_
  refine g_astore_n X dJ2_remove_17 rfl (by decide) rfl rfl ?_
  refine g_aload_n X dJ2_remove_18 rfl rfl ?_
  refine g_aload_n X dJ2_remove_19 rfl rfl ?_
  refine g_iload_n X dJ2_remove_20 rfl rfl ?_
  refine g_callV X (ct_J2_fastRemove hst ok he hlt hE) dJ2_remove_21 rfl (lw_V q825 q827 qs7 q70 q828) hyV_J2_fastRemove (fun H hH => hR.recv X.2.2.2.2.2.2.2.1 hH (cc_l he) rfl) (fun H hH => hH) ⟨Nat.le_of_ble_eq_true rfl, Nat.le_of_ble_eq_true rfl⟩ ⟨Nat.le_of_ble_eq_true rfl, Nat.le_of_ble_eq_true rfl⟩ (Nat.le_of_ble_eq_true rfl) rfl (fun x_21 => ?_)
  refine g_aload_n X dJ2_remove_24 rfl rfl ?_
  refine g_aret X (Or.inl ⟨_, rfl⟩) (Or.inr ⟨_, rfl⟩) dJ2_remove_25 rfl (Nat.le_of_ble_eq_true rfl) (Nat.le_of_ble_eq_true rfl) (fun H hH => ⟨(), rfl, hH⟩)
/-- the first i places empty -/
def nuF (xs : List Nat) (i : Nat) : Nat → Option Nat := fun j => if j < i then none else xs[j]?
theorem nuF_0 : nuF xs 0 = fun j => xs[j]? := by funext j; exact if_neg (Nat.not_lt_zero j)
theorem nuF_s {i : Nat} : va_up (nuF xs i) i none = nuF xs (i + 1) := by
  funext j
  show (if j = i then none else nuF xs i j) = _
  unfold nuF
  by_cases h : j = i
  · rw [if_pos h, if_pos (by omega)]
  · rw [if_neg h]
    by_cases h2 : j < i
    · rw [if_pos h2, if_pos (by omega)]
    · rw [if_neg h2, if_neg (by omega)]
theorem nuF_e : nuF xs xs.length = fun j => ([] : List Nat)[j]? := by
  funext j
  unfold nuF
  by_cases h : j < xs.length
  · rw [if_pos h]; rfl
  · rw [if_neg h, List.getElem?_eq_none (by omega)]; rfl
theorem ct_J2_clear (hst : l.stackTraces = false) {mc : Int32} (he : Γ q = some (.inr (xs, mc))) (hl : xs.length ≤ 1000) : CM Ω l yJ2_clear (ws_ yJ2_clear cJ2_clear 4 none) 2 0 0 [.ref q] (hL Ω Γ) (QP none (hL Ω (hu Γ q (.inr ([], mc + nI 1))))) nX := by
  refine CM.of (L := [some (.ref q), none, none, none]) hst (by decide) (Nat.le_of_ble_eq_true rfl) rfl ?_
  intro p e s m below meth c X hnm htab
  refine GJ.ex (fun x => GJ.and (fun ok => ?_))
  by_cases h0 : xs = []
  · subst h0
    have hfin := cc_m (Ω := Ω) (x := x) (m' := mc + nI 1) he
    refine g_aload_n X dJ2_clear_0 rfl rfl ?_
    refine g_dup X dJ2_clear_1 rfl rfl ?_
    refine g_get X dJ2_clear_2 rfl in_J2 (ci := 11) rfl 0 (by decide) q141 (fun _ h => u_same (X.2.2.2.2.2.2.1 _ q140) _ h) (cc_l he) rfl ?_
    refine g_iconst X dJ2_clear_5 rfl (v := (nI 1)) rfl ?_
    refine g_iadd X dJ2_clear_6 rfl (by first | exact nI_add _ _ | rfl) ?_
    refine g_put X dJ2_clear_7 rfl in_J2 tyJ2_ok nmJ2 (ci := 11) rfl 0 (by decide) q141 (fun _ h => u_same (X.2.2.2.2.2.2.1 _ q140) _ h) rfl rfl rfl rfl (cc_l he) (Nat.le_of_ble_eq_true rfl) rfl ?_
    refine g_aload_n X dJ2_clear_10 rfl rfl ?_
    refine g_get X dJ2_clear_11 rfl in_J2 (ci := 11) rfl 1 (by decide) q134 (fun _ h => h) (hu_s _ _ _) rfl ?_
    refine g_astore_n X dJ2_clear_14 rfl (by decide) rfl rfl ?_
    refine g_aload_n X dJ2_clear_15 rfl rfl ?_
    refine g_get X dJ2_clear_16 rfl in_J2 (ci := 11) rfl 2 (by decide) q137 (fun _ h => h) (hu_s _ _ _) rfl ?_
    refine g_istore_n X dJ2_clear_19 rfl (by decide) rfl rfl ?_
    refine g_aload_n X dJ2_clear_20 rfl rfl ?_
    refine g_iconst X dJ2_clear_21 rfl (v := (nI 0)) rfl ?_
    refine g_dup_x1 X dJ2_clear_22 rfl rfl rfl ?_
    refine g_put X dJ2_clear_23 rfl in_J2 tyJ2_ok nmJ2 (ci := 11) rfl 2 (by decide) q137 (fun _ h => h) rfl rfl rfl rfl (hu_s _ _ _) (Nat.le_of_ble_eq_true rfl) rfl ?_
    refine g_istore_n X dJ2_clear_26 rfl (by decide) rfl rfl ?_
    refine g_iload_n X dJ2_clear_27 rfl rfl ?_
    refine g_iload_n X dJ2_clear_28 rfl rfl ?_
    refine g_icmp_ge (tgt := 42) X dJ2_clear_29 rfl (by decide) (fun c_29 => ?_) (fun c => (c (show nI 0 ≤ nI 0 by decide)).elim)
    refine g_vret X dJ2_clear_42 rfl (Nat.le_of_ble_eq_true rfl) (Nat.le_of_ble_eq_true rfl) (fun H hH => ⟨(), rfl, x, ok_m ok he, by rw [hu_hu] at hH; rw [hfin]; exact hH⟩)
  · obtain ⟨c1, c2, c3⟩ := cc_a ok he h0
    obtain ⟨o1, o2, o3, o4⟩ : x.2.2 (x.1 q) = some q ∧ Γ (x.1 q) = none ∧ xs.length ≤ x.2.1 q ∧ x.2.1 q ≤ 1000 ∧ 10 ≤ x.2.1 q := by
      rcases ok q _ he with g | g
      · exact absurd g.2.1 h0
      · exact g
    have hq : x.1 q ≠ q := fun e => by rw [e, he] at o2; simp at o2
    have hfin := cc_i (Ω := Ω) (ys := []) (m' := mc + nI 1) he o1 o2
    have hok := ok_i (Ω := Ω) (ys := []) (m' := mc + nI 1) ok he o1 o2 (Nat.zero_le _) o4
    rw [← nuF_e (xs := xs)] at hfin
    rw [← nuF_0] at c1
    refine g_aload_n X dJ2_clear_0 rfl rfl ?_
    refine g_dup X dJ2_clear_1 rfl rfl ?_
    refine g_get X dJ2_clear_2 rfl in_J2 (ci := 11) rfl 0 (by decide) q141 (fun _ h => u_same (X.2.2.2.2.2.2.1 _ q140) _ h) (cc_l he) rfl ?_
    refine g_iconst X dJ2_clear_5 rfl (v := (nI 1)) rfl ?_
    refine g_iadd X dJ2_clear_6 rfl (by first | exact nI_add _ _ | rfl) ?_
    refine g_put X dJ2_clear_7 rfl in_J2 tyJ2_ok nmJ2 (ci := 11) rfl 0 (by decide) q141 (fun _ h => u_same (X.2.2.2.2.2.2.1 _ q140) _ h) rfl rfl rfl rfl (cc_l he) (Nat.le_of_ble_eq_true rfl) rfl ?_
    refine g_aload_n X dJ2_clear_10 rfl rfl ?_
    refine g_get X dJ2_clear_11 rfl in_J2 (ci := 11) rfl 1 (by decide) q134 (fun _ h => h) (hu_s _ _ _) rfl ?_
    refine g_astore_n X dJ2_clear_14 rfl (by decide) rfl rfl ?_
    refine g_aload_n X dJ2_clear_15 rfl rfl ?_
    refine g_get X dJ2_clear_16 rfl in_J2 (ci := 11) rfl 2 (by decide) q137 (fun _ h => h) (hu_s _ _ _) rfl ?_
    refine g_istore_n X dJ2_clear_19 rfl (by decide) rfl rfl ?_
    refine g_aload_n X dJ2_clear_20 rfl rfl ?_
    refine g_iconst X dJ2_clear_21 rfl (v := (nI 0)) rfl ?_
    refine g_dup_x1 X dJ2_clear_22 rfl rfl rfl ?_
    refine g_put X dJ2_clear_23 rfl in_J2 tyJ2_ok nmJ2 (ci := 11) rfl 2 (by decide) q137 (fun _ h => h) rfl rfl rfl rfl (hu_s _ _ _) (Nat.le_of_ble_eq_true rfl) rfl ?_
    refine g_istore_n X dJ2_clear_26 rfl (by decide) rfl rfl ?_
    refine GJ.imp (I' := hR Ω (hu (hu (conc Ω Γ x) (x.1 q) (cQ Ω (x.2.1 q) (nuF xs 0))) q (.inr (11, [.int (mc + nI 1), .ref (x.1 q), .int (nI 0)])))) (fun H hH => by rw [hu_hu] at hH; rw [hu_same c1]; exact hH) ?_
    refine GJ.loc ((fun i : Nat => [some (.ref q), some (.ref (x.1 q)), some (.int (nI xs.length)), some (.int (nI i))]) 0) (lvle_c rfl (lvle_c rfl (lvle_c rfl (lvle_c rfl lvle_e)))) ?_
    refine GJ.loop (fun i : Nat => hR Ω (hu (hu (conc Ω Γ x) (x.1 q) (cQ Ω (x.2.1 q) (nuF xs i))) q (.inr (11, [.int (mc + nI 1), .ref (x.1 q), .int (nI 0)])))) (fun _ => 0) (fun _ => 0) (fun i : Nat => [some (.ref q), some (.ref (x.1 q)), some (.int (nI xs.length)), some (.int (nI i))]) (fun i => xs.length - i) (fun i => i ≤ xs.length) 0 (Nat.zero_le _) ?_
    intro i hi ih
    refine g_iload_n X dJ2_clear_27 rfl rfl ?_
    refine g_iload_n X dJ2_clear_28 rfl rfl ?_
    refine g_icmp_ge (tgt := 42) X dJ2_clear_29 rfl (by decide) (fun c_29 => ?_) (fun c_29 => ?_)
    · rw [nI_leI (by omega) (by omega)] at c_29
      obtain rfl : i = xs.length := by omega
      refine g_vret X dJ2_clear_42 rfl (Nat.le_of_ble_eq_true rfl) (Nat.le_of_ble_eq_true rfl) (fun H hH => ⟨(), rfl, x, hok, by rw [hfin]; exact hH⟩)
    · rw [nI_leI (by omega) (by omega)] at c_29
      refine g_aload_n X dJ2_clear_32 rfl rfl ?_
      refine g_iload_n X dJ2_clear_33 rfl rfl ?_
      refine g_null X dJ2_clear_34 rfl ?_
      refine g_aasN X dJ2_clear_35 rfl ((hu_n hq).trans (hu_s _ _ _)) (vp_in_nI (by omega) (by omega)) rfl ?_
      refine g_iinc X dJ2_clear_36 rfl rfl (by first | exact nI_1 _ | rfl) (by decide) rfl rfl ?_
      refine g_goto (tgt := 27) X dJ2_clear_39 rfl (by decide) ?_
      rw [nI_clamp (by omega), hu_co (Ne.symm hq), hu_hu, nuF_s]
      refine GJ.loc [some (.ref q), some (.ref (x.1 q)), some (.int (nI xs.length)), some (.int (nI (i + 1)))] (lvle_c rfl (lvle_c rfl (lvle_c rfl (lvle_c rfl lvle_e)))) ?_
      exact ih (i + 1) (by omega) (by omega)
end AL4
