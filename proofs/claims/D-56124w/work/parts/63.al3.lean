/-! ArrayList over heaps with lists: taking away -/
theorem rem_f {xs : List Nat} {k : Nat} (hk : k < xs.length) : va_up (va_cpy (fun j => xs[j]?) (fun j => xs[j]?) (k + 1) k (xs.length - 1 - k)) (xs.length - 1) none = fun j => (xs.eraseIdx k)[j]? := by
  funext j
  rw [List.getElem?_eraseIdx]
  by_cases h : j = xs.length - 1
  · subst h
    have e : va_up (va_cpy (fun j => xs[j]?) (fun j => xs[j]?) (k + 1) k (xs.length - 1 - k)) (xs.length - 1) none (xs.length - 1) = none := if_pos rfl
    rw [e, if_neg (by omega), List.getElem?_eq_none (by omega)]
  · have e : va_up (va_cpy (fun j => xs[j]?) (fun j => xs[j]?) (k + 1) k (xs.length - 1 - k)) (xs.length - 1) none j = va_cpy (fun j => xs[j]?) (fun j => xs[j]?) (k + 1) k (xs.length - 1 - k) j := if_neg h
    rw [e]
    by_cases h2 : j < k
    · rw [if_pos h2, pk_cpy_out (Or.inl h2)]
    · rw [if_neg h2]
      by_cases h3 : j < xs.length - 1
      · rw [pk_cpy_in (by omega) (by omega)]
        congr 1; omega
      · rw [pk_cpy_out (Or.inr (by omega)), List.getElem?_eq_none (by omega), List.getElem?_eq_none (by omega)]
theorem rem_f0 {xs : List Nat} {k : Nat} (hk : k = xs.length - 1) (h0 : 0 < xs.length) : va_up (fun j => xs[j]?) (xs.length - 1) none = fun j => (xs.eraseIdx k)[j]? := by
  have h := rem_f (xs := xs) (k := k) (by omega)
  rw [← h]
  funext j
  show (if _ then _ else _) = (if _ then _ else _)
  by_cases e : j = xs.length - 1
  · rw [if_pos e, if_pos e]
  · rw [if_neg e, if_neg e]
    rw [pk_cpy_out (by omega)]
theorem hu_hu {α : Type} {h : Nat → Option α} {q : Nat} {d e : α} : hu (hu h q d) q e = hu h q e := by
  funext y
  by_cases g : y = q
  · subst g; rw [hu_s, hu_s]
  · rw [hu_n g, hu_n g, hu_n g]
theorem hu_co {α : Type} {h : Nat → Option α} {a b : Nat} {d e : α} (hab : a ≠ b) : hu (hu h a d) b e = hu (hu h b e) a d := by
  funext y
  by_cases g : y = a
  · subst g; rw [hu_n hab, hu_s, hu_s]
  · by_cases g2 : y = b
    · subst g2; rw [hu_s, hu_n g, hu_s]
    · rw [hu_n g2, hu_n g, hu_n g, hu_n g2]
section AL3
variable {l : Launch} {Ω : Om} {Γ : LH} {x : Bk} {q : Nat} {xs : List Nat} {m : Int32}
/-- what may lie in a list -/
def okE (Ω : Om) (Γ : LH) (y : Nat) : Prop := (∃ ci fs, Γ y = some (.inl (.inr (ci, fs))) ∧ (ci = 1 ∨ ci = 4 ∨ ci = 6 ∨ ci = 7 ∨ ci = 8)) ∨ ∃ j, j < 256 ∧ y = oM Ω j
theorem okE.h {y : Nat} (h : okE Ω Γ y) : okO Ω (conc Ω Γ x) y := by
  rcases h with ⟨ci, fs, h1, h2⟩ | h
  · exact Or.inl ⟨ci, fs, cc_o h1, h2⟩
  · exact Or.inr h
theorem okE.u {y : Nat} {v : List Nat × Int32} {v' : List Nat × Int32} (h : okE Ω Γ y) (he : Γ q = some (.inr v)) : okE Ω (hu Γ q (.inr v')) y := by
  rcases h with ⟨ci, fs, h1, h2⟩ | h
  · exact Or.inl ⟨ci, fs, by rw [hu_n (fun e => by rw [e, he] at h1; simp at h1)]; exact h1, h2⟩
  · exact Or.inr h
set_option maxRecDepth 100000
theorem ct_J2_fastRemove (hst : l.stackTraces = false) (ok : okL Ω Γ x) (he : Γ q = some (.inr (xs, m))) {k : Nat} (hk : k < xs.length) (hE : ∀ y ∈ xs, okE Ω Γ y) : CM Ω l yJ2_fastRemove (ws_ yJ2_fastRemove cJ2_fastRemove 4 none) 2 0 0 [.ref q, .ref (x.1 q), .int (nI k)] (hR Ω (conc Ω Γ x)) (QP none (hL Ω (hu Γ q (.inr (xs.eraseIdx k, m + nI 1))))) nX := by
  have h0 : xs ≠ [] := fun g => by rw [g] at hk; exact absurd hk (Nat.not_lt_zero k)
  obtain ⟨c1, c2, c3⟩ := cc_a ok he h0
  obtain ⟨o1, o2, o3, o4⟩ : x.2.2 (x.1 q) = some q ∧ Γ (x.1 q) = none ∧ xs.length ≤ x.2.1 q ∧ x.2.1 q ≤ 1000 ∧ 10 ≤ x.2.1 q := by
    rcases ok q _ he with g | g
    · exact absurd g.2.1 h0
    · exact g
  have hq : x.1 q ≠ q := fun e => by rw [e, he] at o2; simp at o2
  have hl : (xs.eraseIdx k).length = xs.length - 1 := by rw [List.length_eraseIdx]; exact if_pos hk
  have hfin := cc_i (Ω := Ω) (ys := xs.eraseIdx k) (m' := m + nI 1) he o1 o2
  have hok := ok_i (Ω := Ω) (ys := xs.eraseIdx k) (m' := m + nI 1) ok he o1 o2 (by omega) o4
  rw [hl] at hfin
  have d1 : hu (conc Ω Γ x) q (.inr (11, [.int (m + nI 1), .ref (x.1 q), .int (nI xs.length)])) (x.1 q) = some (cQ Ω (x.2.1 q) (fun j => xs[j]?)) := by rw [hu_n hq]; exact c1
  have d2 : hu (conc Ω Γ x) q (.inr (11, [.int (m + nI 1), .ref (x.1 q), .int (nI xs.length)])) q = some (.inr (11, [.int (m + nI 1), .ref (x.1 q), .int (nI xs.length)])) := hu_s _ _ _
  have hO : ∀ y, okE Ω Γ y → okO Ω (hu (conc Ω Γ x) q (.inr (11, [.int (m + nI 1), .ref (x.1 q), .int (nI xs.length)]))) y := fun y hy => by rw [← cc_m (m' := m + nI 1) he]; exact (okE.u hy he).h
  refine CM.of (L := [some (.ref q), some (.ref (x.1 q)), some (.int (nI k)), none]) hst (by decide) (Nat.le_of_ble_eq_true rfl) rfl ?_
  intro p e s m below meth c X hnm htab
  refine g_aload_n X dJ2_fastRemove_0 rfl rfl ?_
  refine g_dup X dJ2_fastRemove_1 rfl rfl ?_
  refine g_get X dJ2_fastRemove_2 rfl in_J2 (ci := 11) rfl 0 (by decide) q141 (fun _ h => u_same (X.2.2.2.2.2.2.1 _ q140) _ h) (cc_l he) rfl ?_
  refine g_iconst X dJ2_fastRemove_5 rfl (v := (nI 1)) rfl ?_
  refine g_iadd X dJ2_fastRemove_6 rfl (by first | exact nI_add _ _ | rfl) ?_
  refine g_put X dJ2_fastRemove_7 rfl in_J2 tyJ2_ok nmJ2 (ci := 11) rfl 0 (by decide) q141 (fun _ h => u_same (X.2.2.2.2.2.2.1 _ q140) _ h) rfl rfl rfl rfl (cc_l he) (Nat.le_of_ble_eq_true rfl) rfl ?_
  refine g_aload_n X dJ2_fastRemove_10 rfl rfl ?_
  refine g_get X dJ2_fastRemove_11 rfl in_J2 (ci := 11) rfl 2 (by decide) q137 (fun _ h => h) d2 rfl ?_
  refine g_iconst X dJ2_fastRemove_14 rfl (v := (nI 1)) rfl ?_
  refine g_isub X dJ2_fastRemove_15 rfl (pk_sub (by omega)) ?_
  refine g_dup X dJ2_fastRemove_16 rfl rfl ?_
  refine g_istore_n X dJ2_fastRemove_17 rfl (by decide) rfl rfl ?_
  refine g_iload_n X dJ2_fastRemove_18 rfl rfl ?_
  refine g_icmp_le (tgt := 34) X dJ2_fastRemove_19 rfl (by decide) (fun c_19 => ?_) (fun c_19 => ?_)
  · rw [nI_leI (by omega) (by omega)] at c_19
    have hke : k = xs.length - 1 := by omega
    rw [← rem_f0 hke (by omega)] at hfin
    refine g_aload_n X dJ2_fastRemove_34 rfl rfl ?_
    refine g_aload_n X dJ2_fastRemove_35 rfl rfl ?_
    refine g_iload_n X dJ2_fastRemove_36 rfl rfl ?_
    refine g_dup_x1 X dJ2_fastRemove_37 rfl rfl rfl ?_
    refine g_put X dJ2_fastRemove_38 rfl in_J2 tyJ2_ok nmJ2 (ci := 11) rfl 2 (by decide) q137 (fun _ h => h) rfl rfl rfl rfl d2 (Nat.le_of_ble_eq_true rfl) rfl ?_
    refine g_null X dJ2_fastRemove_41 rfl ?_
    refine g_aasN X dJ2_fastRemove_42 rfl ((hu_n hq).trans d1) (vp_in_nI (by omega) (by omega)) rfl ?_
    refine g_vret X dJ2_fastRemove_43 rfl (Nat.le_of_ble_eq_true rfl) (Nat.le_of_ble_eq_true rfl) (fun H hH => ⟨(), rfl, x, hok, by rw [nI_clamp (by omega), hu_hu, hu_co (Ne.symm hq)] at hH; rw [hfin]; exact hH⟩)
  · rw [nI_leI (by omega) (by omega)] at c_19
    rw [← rem_f hk] at hfin
    refine g_aload_n X dJ2_fastRemove_22 rfl rfl ?_
    refine g_iload_n X dJ2_fastRemove_23 rfl rfl ?_
    refine g_iconst X dJ2_fastRemove_24 rfl (v := (nI 1)) rfl ?_
    refine g_iadd X dJ2_fastRemove_25 rfl (by first | exact nI_add _ _ | rfl) ?_
    refine g_aload_n X dJ2_fastRemove_26 rfl rfl ?_
    refine g_iload_n X dJ2_fastRemove_27 rfl rfl ?_
    refine g_iload_n X dJ2_fastRemove_28 rfl rfl ?_
    refine g_iload_n X dJ2_fastRemove_29 rfl rfl ?_
    refine g_isub X dJ2_fastRemove_30 rfl (pk_sub (by omega)) ?_
    refine g_copyQ X dJ2_fastRemove_31 rfl q829 (nI_pos (by omega)) (nI_pos (by omega)) (nI_pos (by omega)) (c2_le (nI_clamp (by omega)) (nI_clamp (by omega)) (by omega)) (c2_le (nI_clamp (by omega)) (nI_clamp (by omega)) (by omega)) d1 d1 (fun i _ y hy => hO y (hE y (List.mem_of_getElem? hy))) (Nat.le_of_ble_eq_true rfl) (Nat.le_of_ble_eq_true rfl) rfl ?_
    rw [nI_clamp (n := k + 1) (by omega), nI_clamp (n := k) (by omega), nI_clamp (n := xs.length - 1 - k) (by omega), hu_co (Ne.symm hq)]
    refine g_aload_n X dJ2_fastRemove_34 rfl rfl ?_
    refine g_aload_n X dJ2_fastRemove_35 rfl rfl ?_
    refine g_iload_n X dJ2_fastRemove_36 rfl rfl ?_
    refine g_dup_x1 X dJ2_fastRemove_37 rfl rfl rfl ?_
    refine g_put X dJ2_fastRemove_38 rfl in_J2 tyJ2_ok nmJ2 (ci := 11) rfl 2 (by decide) q137 (fun _ h => h) rfl rfl rfl rfl (hu_s _ _ _) (Nat.le_of_ble_eq_true rfl) rfl ?_
    refine g_null X dJ2_fastRemove_41 rfl ?_
    refine g_aasN X dJ2_fastRemove_42 rfl ((hu_n hq).trans ((hu_n hq).trans (hu_s _ _ _))) (vp_in_nI (by omega) (by omega)) rfl ?_
    refine g_vret X dJ2_fastRemove_43 rfl (Nat.le_of_ble_eq_true rfl) (Nat.le_of_ble_eq_true rfl) (fun H hH => ⟨(), rfl, x, hok, by rw [nI_clamp (by omega), hu_hu, hu_co (Ne.symm hq), hu_hu] at hH; rw [hfin]; exact hH⟩)
end AL3
