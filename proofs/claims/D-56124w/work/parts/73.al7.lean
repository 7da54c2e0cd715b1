/-! ArrayList: searching cached Integers -/
/-- a list of cached Integers -/
def iAd (Ω : Om) (is : List Nat) : List Nat := is.map (fun n => oM Ω (n + 128))
section AL7
variable {l : Launch} {Ω : Om} {Γ : LH} {q : Nat} {is : List Nat} {m0 : Int32}
theorem iAd_get {k : Nat} (h : k < is.length) : (iAd Ω is)[k]? = some (oM Ω (is.getD k 0 + 128)) := by
  unfold iAd
  rw [List.getElem?_map, List.getElem?_eq_getElem h, List.getD_eq_getElem?_getD, List.getElem?_eq_getElem h]; rfl
theorem iAd_len : (iAd Ω is).length = is.length := List.length_map ..
/-- the first place of a number from k on, n places tried, or -1 -/
def ixO (is : List Nat) (v : Nat) : Nat → Nat → Int32
  | _, 0 => -1
  | k, n + 1 => if is.getD k 0 = v then nI k else ixO is v (k + 1) n
set_option maxRecDepth 100000
theorem ct_J2_indexOfRange (hst : l.stackTraces = false) (he : Γ q = some (.inr (iAd Ω is, m0))) (hl : is.length ≤ 1000) (h127 : ∀ n ∈ is, n ≤ 127) {v : Nat} (hv : v ≤ 127) : CM Ω l yJ2_indexOfRange (ws_ yJ2_indexOfRange cJ2_indexOfRange 6 (some .int)) 5 0 0 [.ref q, .ref (oM Ω (v + 128)), .int (nI 0), .int (nI is.length)] (hL Ω Γ) (QP (some (.int (ixO is v 0 is.length))) (hL Ω Γ)) nX := by
  generalize hr : ixO is v 0 is.length = r
  refine CM.of (L := [some (.ref q), some (.ref (oM Ω (v + 128))), some (.int (nI 0)), some (.int (nI is.length)), none, none]) hst (by decide) (Nat.le_of_ble_eq_true rfl) rfl ?_
  intro p e s m below meth c X hnm htab
  refine GJ.ex (fun x => GJ.and (fun ok => ?_))
  have hcl := cc_l (Ω := Ω) (x := x) he
  have hca : is ≠ [] → conc Ω Γ x (x.1 q) = some (cQ Ω (x.2.1 q) (fun k => (iAd Ω is)[k]?)) ∧ is.length ≤ x.2.1 q ∧ x.2.1 q ≤ 1000 := fun h0 => by
    have := cc_a ok he (fun g => h0 (by unfold iAd at g; exact List.map_eq_nil_iff.mp g))
    rw [iAd_len] at this
    exact this
  refine g_aload_n X dJ2_indexOfRange_0 rfl rfl ?_
  refine g_get X dJ2_indexOfRange_1 rfl in_J2 (ci := 11) rfl 1 (by decide) q134 (fun _ h => h) hcl rfl ?_
  refine g_astore X dJ2_indexOfRange_4 rfl (by decide) rfl rfl ?_
  refine g_aload_n X dJ2_indexOfRange_6 rfl rfl ?_
  refine g_ifnonnull X (x := some (oM Ω (v + 128))) (tgt := 39) dJ2_indexOfRange_7 rfl (by decide) (fun _ _ => ?_) (fun g => by simp at g)
  refine g_iload_n X dJ2_indexOfRange_39 rfl rfl ?_
  refine g_istore X dJ2_indexOfRange_40 rfl (by decide) rfl rfl ?_
  refine GJ.loc ((fun (k : Nat) => [some (.ref q), some (.ref (oM Ω (v + 128))), some (.int (nI 0)), some (.int (nI is.length)), some (.ref (x.1 q)), some (.int (nI k))]) 0) (lvle_c rfl (lvle_c rfl (lvle_c rfl (lvle_c rfl (lvle_c rfl (lvle_c rfl lvle_e)))))) ?_
  refine GJ.loopP (fun (k : Nat) => [some (.ref q), some (.ref (oM Ω (v + 128))), some (.int (nI 0)), some (.int (nI is.length)), some (.ref (x.1 q)), some (.int (nI k))]) (fun (k : Nat) => (is.length - k)) (fun (k : Nat) => (k ≤ is.length ∧ ixO is v k (is.length - k) = r)) 0 ⟨Nat.zero_le _, hr⟩ ?_
  intro k hk ih
  obtain ⟨i1, i2⟩ := hk
  refine g_iload X dJ2_indexOfRange_42 rfl rfl ?_
  refine g_iload_n X dJ2_indexOfRange_44 rfl rfl ?_
  refine g_icmp_ge (tgt := 69) X dJ2_indexOfRange_45 rfl (by decide) (fun c_45 => ?_) (fun c_45 => ?_)
  · rw [nI_leI (by omega) (by omega)] at c_45
    rw [show is.length - k = 0 by omega] at i2
    rw [← i2]
    refine g_iconst X dJ2_indexOfRange_69 rfl (v := (-1)) rfl ?_
    refine g_iret X dJ2_indexOfRange_70 rfl (Nat.le_of_ble_eq_true rfl) (Nat.le_of_ble_eq_true rfl) (fun H hH => ⟨(), rfl, x, ok, hH⟩)
  · rw [nI_leI (by omega) (by omega)] at c_45
    have hlt : k < is.length := by omega
    obtain ⟨c1, c2, c3⟩ := hca (fun g => by rw [g] at hlt; exact absurd hlt (Nat.not_lt_zero k))
    have hmem : is.getD k 0 ≤ 127 := h127 _ (by rw [List.getD_eq_getElem?_getD, List.getElem?_eq_getElem hlt]; exact List.getElem_mem hlt)
    rw [show is.length - k = (is.length - (k + 1)) + 1 by omega] at i2
    refine g_aload_n X dJ2_indexOfRange_48 rfl rfl ?_
    refine g_aload X dJ2_indexOfRange_49 rfl rfl ?_
    refine g_iload X dJ2_indexOfRange_51 rfl rfl ?_
    refine g_aal X dJ2_indexOfRange_53 rfl c1 (vp_in_nI (by omega) (by omega)) (aa_v (by omega) (iAd_get hlt)) ?_
    refine g_callOk X (owner := "java/lang/Object") (ct_J21_equals hst hv hmem) dJ2_indexOfRange_54 rfl (lw_app (by simp only [List.forall_mem_cons, List.not_mem_nil, false_imp_iff, implies_true, and_true]; exact ⟨q1060, q1062, q1061, q1079, q1080, q96⟩) (lw_meth q1081)) q1097 ⟨by decide, by decide, eqO1⟩ (fun H locs hS => oI_recv X hS (by omega)) (fun H hH => hH) ⟨Nat.le_of_ble_eq_true rfl, Nat.le_of_ble_eq_true rfl⟩ ⟨Nat.le_of_ble_eq_true rfl, Nat.le_of_ble_eq_true rfl⟩ (Nat.le_of_ble_eq_true rfl) rfl (fun x_54 => ?_)
    refine g_if_eq (tgt := 63) X dJ2_indexOfRange_57 rfl (by decide) (fun c_57 => ?_) (fun c_57 => ?_)
    · have h := bI_0.mp c_57
      have i3 : ixO is v (k + 1) (is.length - (k + 1)) = r := by
        have : ixO is v k (is.length - (k + 1) + 1) = ixO is v (k + 1) (is.length - (k + 1)) := if_neg (fun g => h g.symm)
        rw [← this]; exact i2
      refine g_iinc X dJ2_indexOfRange_63 rfl rfl (by first | exact nI_1 _ | rfl) (by decide) rfl rfl ?_
      refine g_goto (tgt := 42) X dJ2_indexOfRange_66 rfl (by decide) ?_
      refine GJ.loc [some (.ref q), some (.ref (oM Ω (v + 128))), some (.int (nI 0)), some (.int (nI is.length)), some (.ref (x.1 q)), some (.int (nI (k + 1)))] (lvle_c rfl (lvle_c rfl (lvle_c rfl (lvle_c rfl (lvle_c rfl (lvle_c rfl lvle_e)))))) ?_
      exact ih (k + 1) ⟨by omega, i3⟩ (by omega)
    · have h := bI_n0.mp c_57
      have i3 : nI k = r := by
        have : ixO is v k (is.length - (k + 1) + 1) = nI k := if_pos h.symm
        rw [← this]; exact i2
      rw [← i3]
      refine g_iload X dJ2_indexOfRange_60 rfl rfl ?_
      refine g_iret X dJ2_indexOfRange_62 rfl (Nat.le_of_ble_eq_true rfl) (Nat.le_of_ble_eq_true rfl) (fun H hH => ⟨(), rfl, x, ok, hH⟩)
end AL7
