/-! ArrayList: remove(Object) of a cached Integer that is there -/
section AL9
variable {l : Launch} {Ω : Om} {Γ : LH} {q : Nat} {is : List Nat} {m0 : Int32}
theorem iAd_era : ∀ {is : List Nat} {j : Nat}, (iAd Ω is).eraseIdx j = iAd Ω (is.eraseIdx j)
  | [], _ => rfl
  | _ :: _, 0 => rfl
  | x :: t, j + 1 => congrArg (fun z => oM Ω (x + 128) :: z) (iAd_era (is := t) (j := j))
theorem era_ix : ∀ {is : List Nat} {v j : Nat}, j < is.length → is.getD j 0 = v → (∀ i, i < j → is.getD i 0 ≠ v) → is.eraseIdx j = is.erase v
  | x :: t, v, 0, _, e, _ => by
    have e : x = v := e
    rw [← e, List.erase_cons_head]; rfl
  | x :: t, v, j + 1, h, e, hn => by
    have h0 : x ≠ v := hn 0 (Nat.succ_pos j)
    rw [List.erase_cons_tail (by simpa using h0)]
    exact congrArg (fun z => x :: z) (era_ix (is := t) (j := j) (by simpa using h) e (fun i hi => hn (i + 1) (by omega)))
set_option maxRecDepth 100000
theorem ct_J2_remove_2 (hst : l.stackTraces = false) (he : Γ q = some (.inr (iAd Ω is, m0))) (hl : is.length ≤ 1000) (h127 : ∀ n ∈ is, n ≤ 127) {v : Nat} (hv : v ≤ 127) (hm : v ∈ is) : CM Ω l yJ2_remove_2 (ws_ yJ2_remove_2 cJ2_remove_2 5 (some .boolean)) 5 0 0 [.ref q, .ref (oM Ω (v + 128))] (hL Ω Γ) (QP (some (.int (nI 1))) (hL Ω (hu Γ q (.inr (iAd Ω (is.erase v), m0 + nI 1))))) nX := by
  have hE : ∀ y ∈ iAd Ω is, okE Ω Γ y := fun y hy => by
    obtain ⟨n, hn, e⟩ := List.mem_map.mp hy
    exact Or.inr ⟨n + 128, by have := h127 n hn; omega, e.symm⟩
  have hne : iAd Ω is ≠ [] := fun g => by
    have := List.map_eq_nil_iff.mp g
    rw [this] at hm; exact absurd hm (by simp)
  refine CM.of (L := [some (.ref q), some (.ref (oM Ω (v + 128))), none, none, none]) hst (by decide) (Nat.le_of_ble_eq_true rfl) rfl ?_
  intro p e s m below meth c X hnm htab
  refine GJ.ex (fun x => GJ.and (fun ok => ?_))
  have hcl := cc_l (Ω := Ω) (x := x) he
  obtain ⟨c1, c2, c3⟩ := cc_a ok he hne
  rw [iAd_len] at c2
  refine g_aload_n X dJ2_remove_2_0 rfl rfl ?_
  refine g_get X dJ2_remove_2_1 rfl in_J2 (ci := 11) rfl 1 (by decide) q134 (fun _ h => h) hcl rfl ?_
  refine g_astore_n X dJ2_remove_2_4 rfl (by decide) rfl rfl ?_
  refine g_aload_n X dJ2_remove_2_5 rfl rfl ?_
  refine g_get X dJ2_remove_2_6 rfl in_J2 (ci := 11) rfl 2 (by decide) q137 (fun _ h => h) hcl (gv (show nI (iAd Ω is).length = nI is.length by rw [iAd_len])) ?_
  refine g_istore_n X dJ2_remove_2_9 rfl (by decide) rfl rfl ?_
  refine g_iconst X dJ2_remove_2_10 rfl (v := (nI 0)) rfl ?_
  refine g_istore X dJ2_remove_2_11 rfl (by decide) rfl rfl ?_
  refine g_aload_n X dJ2_remove_2_13 rfl rfl ?_
  refine g_ifnonnull X (x := some (oM Ω (v + 128))) (tgt := 39) dJ2_remove_2_14 rfl (by decide) (fun _ _ => ?_) (fun g => by simp at g)
  refine GJ.loc ((fun (k : Nat) => [some (.ref q), some (.ref (oM Ω (v + 128))), some (.ref (x.1 q)), some (.int (nI is.length)), some (.int (nI k))]) 0) (lvle_c rfl (lvle_c rfl (lvle_c rfl (lvle_c rfl (lvle_c rfl lvle_e))))) ?_
  refine GJ.loopP (fun (k : Nat) => [some (.ref q), some (.ref (oM Ω (v + 128))), some (.ref (x.1 q)), some (.int (nI is.length)), some (.int (nI k))]) (fun (k : Nat) => (is.length - k)) (fun (k : Nat) => (k ≤ is.length ∧ ∀ i, i < k → is.getD i 0 ≠ v)) 0 ⟨Nat.zero_le _, fun i h => absurd h (Nat.not_lt_zero i)⟩ ?_
  intro k hk ih
  obtain ⟨i1, i2⟩ := hk
  refine g_iload X dJ2_remove_2_39 rfl rfl ?_
  refine g_iload_n X dJ2_remove_2_41 rfl rfl ?_
  refine g_icmp_ge (tgt := 65) X dJ2_remove_2_42 rfl (by decide) (fun c_42 => ?_) (fun c_42 => ?_)
  · rw [nI_leI (by omega) (by omega)] at c_42
    obtain ⟨j, hj, e⟩ := List.getElem_of_mem hm
    exact absurd (by rw [List.getD_eq_getElem?_getD, List.getElem?_eq_getElem hj]; exact e) (i2 j (by omega))
  · rw [nI_leI (by omega) (by omega)] at c_42
    have hlt : k < is.length := by omega
    have hmem : is.getD k 0 ≤ 127 := h127 _ (by rw [List.getD_eq_getElem?_getD, List.getElem?_eq_getElem hlt]; exact List.getElem_mem hlt)
    refine g_aload_n X dJ2_remove_2_45 rfl rfl ?_
    refine g_aload_n X dJ2_remove_2_46 rfl rfl ?_
    refine g_iload X dJ2_remove_2_47 rfl rfl ?_
    refine g_aal X dJ2_remove_2_49 rfl c1 (vp_in_nI (by omega) (by omega)) (aa_v (by omega) (iAd_get hlt)) ?_
    refine g_callOk X (owner := "java/lang/Object") (ct_J21_equals hst hv hmem) dJ2_remove_2_50 rfl (lw_app (by simp only [List.forall_mem_cons, List.not_mem_nil, false_imp_iff, implies_true, and_true]; exact ⟨q1060, q1062, q1061, q1079, q1080, q96⟩) (lw_meth q1081)) q1097 ⟨by decide, by decide, eqO1⟩ (fun H locs hS => oI_recv X hS (by omega)) (fun H hH => hH) ⟨Nat.le_of_ble_eq_true rfl, Nat.le_of_ble_eq_true rfl⟩ ⟨Nat.le_of_ble_eq_true rfl, Nat.le_of_ble_eq_true rfl⟩ (Nat.le_of_ble_eq_true rfl) rfl (fun x_50 => ?_)
    refine g_if_eq (tgt := 59) X dJ2_remove_2_53 rfl (by decide) (fun c_53 => ?_) (fun c_53 => ?_)
    · have h := bI_0.mp c_53
      refine g_iinc X dJ2_remove_2_59 rfl rfl (by first | exact nI_1 _ | rfl) (by decide) rfl rfl ?_
      refine g_goto (tgt := 39) X dJ2_remove_2_62 rfl (by decide) ?_
      refine GJ.loc [some (.ref q), some (.ref (oM Ω (v + 128))), some (.ref (x.1 q)), some (.int (nI is.length)), some (.int (nI (k + 1)))] (lvle_c rfl (lvle_c rfl (lvle_c rfl (lvle_c rfl (lvle_c rfl lvle_e))))) ?_
      refine ih (k + 1) ⟨by omega, fun i hi => ?_⟩ (by omega)
      by_cases g : i = k
      · rw [g]; exact fun e => h e.symm
      · exact i2 i (by omega)
    · have h := bI_n0.mp c_53
      rw [← era_ix hlt h.symm i2, ← iAd_era]
      refine g_goto (tgt := 67) X dJ2_remove_2_56 rfl (by decide) ?_
      refine g_aload_n X dJ2_remove_2_67 rfl rfl ?_
      refine g_aload_n X dJ2_remove_2_68 rfl rfl ?_
      refine g_iload X dJ2_remove_2_69 rfl rfl ?_
      refine g_callV X (ct_J2_fastRemove hst ok he (by rw [iAd_len]; exact hlt) hE) dJ2_remove_2_71 rfl (lw_V q825 q827 qs7 q70 q828) hyV_J2_fastRemove (fun H hH => hR.recv X.2.2.2.2.2.2.2.1 hH hcl rfl) (fun H hH => hH) ⟨Nat.le_of_ble_eq_true rfl, Nat.le_of_ble_eq_true rfl⟩ ⟨Nat.le_of_ble_eq_true rfl, Nat.le_of_ble_eq_true rfl⟩ (Nat.le_of_ble_eq_true rfl) rfl (fun x_71 => ?_)
      refine g_iconst X dJ2_remove_2_74 rfl (v := (nI 1)) rfl ?_
      refine g_zret X dJ2_remove_2_75 rfl rfl (Nat.le_of_ble_eq_true rfl) (Nat.le_of_ble_eq_true rfl) (fun H hH => ⟨(), rfl, hH⟩)
end AL9
