/-! ArrayList: add -/
section AL6
variable {l : Launch} {Ω : Om} {I : Heap → Prop} {Γ : LH} {x : Bk} {q y : Nat} {xs : List Nat} {m0 : Int32}
/-- q's array is its own, with room -/
def ownL (Γ : LH) (x : Bk) (q n : Nat) : Prop := x.2.2 (x.1 q) = some q ∧ Γ (x.1 q) = none ∧ n < x.2.1 q ∧ x.2.1 q ≤ 1000 ∧ 10 ≤ x.2.1 q
theorem cc_own (he : Γ q = some (.inr (xs, m0))) (h1 : x.2.2 (x.1 q) = some q) (h2 : Γ (x.1 q) = none) : conc Ω Γ x (x.1 q) = some (cQ Ω (x.2.1 q) (fun k => xs[k]?)) := by
  unfold conc
  rw [h2]
  show bkC Ω Γ x (x.1 q) = _
  unfold bkC
  rw [h1]
  dsimp only
  rw [he]
  dsimp only
  rw [if_pos rfl]
theorem app_f : va_up (fun k : Nat => xs[k]?) xs.length (some y) = fun k => (xs ++ [y])[k]? := by
  funext k
  show (if k = xs.length then some y else xs[k]?) = _
  by_cases h : k = xs.length
  · rw [if_pos h, h, List.getElem?_append_right (Nat.le_refl _), Nat.sub_self]; rfl
  · rw [if_neg h]
    rcases Nat.lt_or_ge k xs.length with g | g
    · rw [List.getElem?_append_left g]
    · rw [List.getElem?_eq_none g, List.getElem?_eq_none (by rw [List.length_append, List.length_singleton]; omega)]
set_option maxRecDepth 100000
theorem ct_J2_grow (hst : l.stackTraces = false) (ok : okL Ω Γ x) (he : Γ q = some (.inr (xs, m0))) (hl : xs.length ≤ 40) (hE : ∀ y ∈ xs, okE Ω Γ y) (hfull : (x.1 q = oM Ω 256 ∧ xs = []) ∨ (conc Ω Γ x (x.1 q) = some (cQ Ω xs.length (fun k => xs[k]?)) ∧ 10 ≤ xs.length)) : CM Ω l yJ2_grow (ws_ yJ2_grow cJ2_grow 1 (some (.array (.object "java/lang/Object")))) 9 1 64 [.ref q] (hR Ω (conc Ω Γ x)) (QV (fun x' : {x' : Bk // okL Ω Γ x' ∧ ownL Γ x' q xs.length} => some (.ref (x'.1.1 q))) (fun x' => hR Ω (conc Ω Γ x'.1))) nX := by
  have hcl := cc_l (Ω := Ω) (x := x) he
  refine CM.of (L := [some (.ref q)]) hst (by decide) (Nat.le_of_ble_eq_true rfl) rfl ?_
  intro p e s m below meth c X hnm htab
  refine g_aload_n X dJ2_grow_0 rfl rfl ?_
  refine g_aload_n X dJ2_grow_1 rfl rfl ?_
  refine g_get X dJ2_grow_2 rfl in_J2 (ci := 11) rfl 2 (by decide) q137 (fun _ h => h) hcl rfl ?_
  refine g_iconst X dJ2_grow_5 rfl (v := (nI 1)) rfl ?_
  refine g_iadd X dJ2_grow_6 rfl (by first | exact nI_add _ _ | rfl) ?_
  refine g_callV X (ct_J2_grow_2 hst ok he hl hE hfull) dJ2_grow_7 rfl (lw_V q631 q633 qs5 q70 q634) hyV_J2_grow_2 (fun H hH => hR.recv X.2.2.2.2.2.2.2.1 hH hcl rfl) (fun H hH => hH) ⟨Nat.le_of_ble_eq_true rfl, Nat.le_of_ble_eq_true rfl⟩ ⟨Nat.le_of_ble_eq_true rfl, Nat.le_of_ble_eq_true rfl⟩ (Nat.le_of_ble_eq_true rfl) rfl (fun x0 => ?_)
  refine g_aret X (Or.inr ⟨_, rfl⟩) (Or.inr ⟨_, rfl⟩) dJ2_grow_10 rfl (Nat.le_of_ble_eq_true rfl) (Nat.le_of_ble_eq_true rfl) (fun H hH => ⟨⟨x0.1, x0.2.1, x0.2.2⟩, rfl, hH⟩)
theorem ct_J2_add_2 (hst : l.stackTraces = false) (ok : okL Ω Γ x) (he : Γ q = some (.inr (xs, m0))) (hl : xs.length ≤ 40) (hE : ∀ y ∈ xs, okE Ω Γ y) (hy : okE Ω Γ y) : CM Ω l yJ2_add_2 (ws_ yJ2_add_2 cJ2_add_2 4 none) 11 1 64 [.ref q, .ref y, .ref (x.1 q), .int (nI xs.length)] (hR Ω (conc Ω Γ x)) (QP none (hL Ω (hu Γ q (.inr (xs ++ [y], m0))))) nX := by
  have hcl := cc_l (Ω := Ω) (x := x) he
  have hla : (xs ++ [y]).length = xs.length + 1 := List.length_append ..
  refine CM.of (L := [some (.ref q), some (.ref y), some (.ref (x.1 q)), some (.int (nI xs.length))]) hst (by decide) (Nat.le_of_ble_eq_true rfl) rfl ?_
  intro p e s m below meth c X hnm htab
  have tail : ∀ (x' : Bk) (kc ns : Nat), kc ≤ 1 → ns ≤ 64 → okL Ω Γ x' → ownL Γ x' q xs.length → GJ Ω p l e (rmD 11 1 64) s m #[.ref q, .ref y, .ref (x.1 q), .int (nI xs.length)] below meth c 4 (MM Ω below (QP none (hL Ω (hu Γ q (.inr (xs ++ [y], m0))))) nX #[.ref q, .ref y, .ref (x.1 q), .int (nI xs.length)] s 1 64) (hR Ω (conc Ω Γ x')) kc ns 11 [some (.ref q), some (.ref y), some (.ref (x'.1 q)), some (.int (nI xs.length))] [] := by
    intro x' kc ns hkc hns ok' ow
    obtain ⟨w1, w2, w3, w4, w5⟩ := ow
    have c1 := cc_own (Ω := Ω) he w1 w2
    have hq : q ≠ x'.1 q := fun e => by rw [← e, he] at w2; simp at w2
    have hfin := cc_i (Ω := Ω) (x := x') (ys := xs ++ [y]) (m' := m0) he w1 w2
    have hok := ok_i (Ω := Ω) (x := x') (ys := xs ++ [y]) (m' := m0) ok' he w1 w2 (by omega) ⟨w4, w5⟩
    rw [hla, ← app_f] at hfin
    refine g_aload_n X dJ2_add_2_11 rfl rfl ?_
    refine g_iload_n X dJ2_add_2_12 rfl rfl ?_
    refine g_aload_n X dJ2_add_2_13 rfl rfl ?_
    refine g_aas X dJ2_add_2_14 rfl c1 hy.h (vp_in_nI (by omega) (by omega)) rfl ?_
    refine g_aload_n X dJ2_add_2_15 rfl rfl ?_
    refine g_iload_n X dJ2_add_2_16 rfl rfl ?_
    refine g_iconst X dJ2_add_2_17 rfl (v := (nI 1)) rfl ?_
    refine g_iadd X dJ2_add_2_18 rfl (by first | exact nI_add _ _ | rfl) ?_
    refine g_put X dJ2_add_2_19 rfl in_J2 tyJ2_ok nmJ2 (ci := 11) rfl 2 (by decide) q137 (fun _ h => h) rfl rfl rfl rfl ((hu_n hq).trans (cc_l he)) (Nat.le_of_ble_eq_true rfl) rfl ?_
    refine g_vret X dJ2_add_2_22 rfl hkc hns (fun H hH => ⟨(), rfl, x', hok, by rw [nI_clamp (by omega)] at hH; rw [hfin]; exact hH⟩)
  rcases ok q _ he with ⟨e1, e2, e3⟩ | ⟨w1, w2, w3, w4, w5⟩
  · have e2 : xs = [] := e2
    have hx : xs.length = 0 := by rw [e2]; rfl
    refine GJ.loc [some (.ref q), some (.ref y), some (.ref (oM Ω 256)), some (.int (nI xs.length))] (lvle_c rfl (lvle_c rfl (lvle_c (by rw [e1]) (lvle_c rfl lvle_e)))) ?_
    refine g_iload_n X dJ2_add_2_0 rfl rfl ?_
    refine g_aload_n X dJ2_add_2_1 rfl rfl ?_
    refine g_tlen X dJ2_add_2_2 rfl (X.2.2.2.2.2.2.2.1.2.2.2.2.2.2.2.2.2.2.1 (.object "java/lang/Object", oM Ω 256, 0, fun _ => .null) (List.mem_cons_of_mem _ List.mem_cons_self)) rfl ?_
    refine g_icmp_ne (tgt := 11) X dJ2_add_2_3 rfl (by decide) (fun c => absurd (by rw [hx]; rfl) c) (fun c_3 => ?_)
    refine g_aload_n X dJ2_add_2_6 rfl rfl ?_
    refine g_callV X (ct_J2_grow hst ok he hl hE (Or.inl ⟨e1, e2⟩)) dJ2_add_2_7 rfl (lw_V q627 q629 qs4 q70 q630) hyV_J2_grow (fun H hH => hR.recv X.2.2.2.2.2.2.2.1 hH hcl rfl) (fun H hH => hH) ⟨Nat.le_of_ble_eq_true rfl, Nat.le_of_ble_eq_true rfl⟩ ⟨Nat.le_of_ble_eq_true rfl, Nat.le_of_ble_eq_true rfl⟩ (Nat.le_of_ble_eq_true rfl) rfl (fun x0 => ?_)
    refine g_astore_n X dJ2_add_2_10 rfl (by decide) rfl rfl ?_
    exact tail x0.1 _ _ (Nat.le_refl _) (Nat.le_refl _) x0.2.1 x0.2.2
  · have w3 : xs.length ≤ x.2.1 q := w3
    have c1 := cc_own (Ω := Ω) he w1 w2
    refine g_iload_n X dJ2_add_2_0 rfl rfl ?_
    refine g_aload_n X dJ2_add_2_1 rfl rfl ?_
    refine g_alen X (t := 5) dJ2_add_2_2 rfl c1 rfl (show _ = nI (x.2.1 q) from rfl) ?_
    refine g_icmp_ne (tgt := 11) X dJ2_add_2_3 rfl (by decide) (fun c_3 => ?_) (fun c_3 => ?_)
    · rw [nI_eq (by omega) (by omega)] at c_3
      exact tail x _ _ (Nat.zero_le _) (Nat.zero_le _) ok ⟨w1, w2, by omega, w4, w5⟩
    · rw [nI_eq (by omega) (by omega)] at c_3
      refine g_aload_n X dJ2_add_2_6 rfl rfl ?_
      refine g_callV X (ct_J2_grow hst ok he hl hE (Or.inr ⟨by rw [c1, c_3], by omega⟩)) dJ2_add_2_7 rfl (lw_V q627 q629 qs4 q70 q630) hyV_J2_grow (fun H hH => hR.recv X.2.2.2.2.2.2.2.1 hH hcl rfl) (fun H hH => hH) ⟨Nat.le_of_ble_eq_true rfl, Nat.le_of_ble_eq_true rfl⟩ ⟨Nat.le_of_ble_eq_true rfl, Nat.le_of_ble_eq_true rfl⟩ (Nat.le_of_ble_eq_true rfl) rfl (fun x0 => ?_)
      refine g_astore_n X dJ2_add_2_10 rfl (by decide) rfl rfl ?_
      exact tail x0.1 _ _ (Nat.le_refl _) (Nat.le_refl _) x0.2.1 x0.2.2
theorem okE.m {y : Nat} {v v' : List Nat × Int32} (h : okE Ω Γ y) (he : Γ q = some (.inr v)) : okE Ω (hu Γ q (.inr v')) y := okE.u h he
theorem ct_J2_add (hst : l.stackTraces = false) (he : Γ q = some (.inr (xs, m0))) (hl : xs.length ≤ 40) (hE : ∀ y ∈ xs, okE Ω Γ y) (hy : okE Ω Γ y) : CM Ω l yJ2_add (ws_ yJ2_add cJ2_add 2 (some .boolean)) 13 1 64 [.ref q, .ref y] (hL Ω Γ) (QP (some (.int (nI 1))) (hL Ω (hu Γ q (.inr (xs ++ [y], m0 + nI 1))))) nX := by
  refine CM.of (L := [some (.ref q), some (.ref y)]) hst (by decide) (Nat.le_of_ble_eq_true rfl) rfl ?_
  intro p e s m below meth c X hnm htab
  refine GJ.ex (fun x => GJ.and (fun ok => ?_))
  have hcl := cc_l (Ω := Ω) (x := x) he
  have he1 : hu Γ q (.inr (xs, m0 + nI 1)) q = some (.inr (xs, m0 + nI 1)) := hu_s _ _ _
  have ok1 := ok_m (Ω := Ω) (m' := m0 + nI 1) ok he
  refine g_aload_n X dJ2_add_0 rfl rfl ?_
  refine g_dup X dJ2_add_1 rfl rfl ?_
  refine g_get X dJ2_add_2 rfl in_J2 (ci := 11) rfl 0 (by decide) q141 (fun _ h => u_same (X.2.2.2.2.2.2.1 _ q140) _ h) hcl rfl ?_
  refine g_iconst X dJ2_add_5 rfl (v := (nI 1)) rfl ?_
  refine g_iadd X dJ2_add_6 rfl (by first | exact nI_add _ _ | rfl) ?_
  refine g_put X dJ2_add_7 rfl in_J2 tyJ2_ok nmJ2 (ci := 11) rfl 0 (by decide) q141 (fun _ h => u_same (X.2.2.2.2.2.2.1 _ q140) _ h) rfl rfl rfl rfl hcl (Nat.le_of_ble_eq_true rfl) rfl ?_
  refine GJ.imp (I' := hR Ω (conc Ω (hu Γ q (.inr (xs, m0 + nI 1))) x)) (fun H hH => by rw [cc_m he]; exact hH) ?_
  refine g_aload_n X dJ2_add_10 rfl rfl ?_
  refine g_aload_n X dJ2_add_11 rfl rfl ?_
  refine g_aload_n X dJ2_add_12 rfl rfl ?_
  refine g_get X dJ2_add_13 rfl in_J2 (ci := 11) rfl 1 (by decide) q134 (fun _ h => h) (cc_l he1) rfl ?_
  refine g_aload_n X dJ2_add_16 rfl rfl ?_
  refine g_get X dJ2_add_17 rfl in_J2 (ci := 11) rfl 2 (by decide) q137 (fun _ h => h) (cc_l he1) rfl ?_
  refine g_callV X (ct_J2_add_2 hst ok1 he1 hl (fun z hz => (hE z hz).m he) (hy.m he)) dJ2_add_20 rfl (lw_V q623 q625 qs3 q70 q626) hyV_J2_add_2 (fun H hH => hR.recv X.2.2.2.2.2.2.2.1 hH (cc_l he1) rfl) (fun H hH => hH) ⟨Nat.le_of_ble_eq_true rfl, Nat.le_of_ble_eq_true rfl⟩ ⟨Nat.le_of_ble_eq_true rfl, Nat.le_of_ble_eq_true rfl⟩ (Nat.le_of_ble_eq_true rfl) rfl (fun x_20 => ?_)
  refine g_iconst X dJ2_add_23 rfl (v := (nI 1)) rfl ?_
  refine g_zret X dJ2_add_24 rfl rfl (Nat.le_of_ble_eq_true rfl) (Nat.le_of_ble_eq_true rfl) (fun H hH => ⟨(), rfl, by rw [hu_hu] at hH; exact hH⟩)
end AL6
