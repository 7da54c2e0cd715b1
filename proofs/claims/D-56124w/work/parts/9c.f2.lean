/-! The iterator; SLIDEPARK: sums, quotients, is it consistent -/
section F2A
variable {l : Launch} {Ω : Om} {Γ : LH} {x : Bk} {it q y : Nat} {xs : List Nat} {m0 m1 c1 c2 : Int32}
set_option maxRecDepth 100000
theorem ct_J25_init (hst : l.stackTraces = false) (hi : Γ it = some (.inl (.inr (12, [.int 0, .int 0, .int 0, .null])))) (he : Γ q = some (.inr (xs, m0))) : CM Ω l yJ25_init (ws_ yJ25_init cJ25_init 2 none) 2 0 0 [.ref it, .ref q] (hL Ω Γ) (QP none (hL Ω (hu Γ it (.inl (.inr (12, [.int 0, .int (-1), .int m0, .ref q])))))) nX := by
  have hne : q ≠ it := fun e => by rw [e, hi] at he; simp at he
  refine CM.of (L := [some (.ref it), some (.ref q)]) hst (by decide) (Nat.le_of_ble_eq_true rfl) rfl ?_
  intro p e s m below meth c X hnm htab
  refine GJ.ex (fun x => GJ.and (fun ok => ?_))
  have hq : ∀ e, hu (conc Ω Γ x) it e q = some (.inr (11, [.int m0, .ref (x.1 q), .int (nI xs.length)])) := fun e => (hu_n hne).trans (cc_l he)
  refine g_aload_n X dJ25_init_0 rfl rfl ?_
  refine g_aload_n X dJ25_init_1 rfl rfl ?_
  refine g_putF X hnm dJ25_init_2 rfl in_J25 tyJ25_ok nmJ25 (ci := 12) rfl 3 (by decide) q521 (fun _ h => h) rfl rfl rfl rfl rfl (cc_o hi) (Nat.le_of_ble_eq_true rfl) rfl ?_
  refine g_aload_n X dJ25_init_5 rfl rfl ?_
  refine g_objInit X dJ25_init_6 rfl q517 (Nat.le_of_ble_eq_true rfl) (Nat.le_of_ble_eq_true rfl) ?_
  refine g_aload_n X dJ25_init_9 rfl rfl ?_
  refine g_iconst X dJ25_init_10 rfl (v := (-1)) rfl ?_
  refine g_put X dJ25_init_11 rfl in_J25 tyJ25_ok nmJ25 (ci := 12) rfl 1 (by decide) q519 (fun _ h => h) rfl rfl rfl rfl (hu_s _ _ _) (Nat.le_of_ble_eq_true rfl) rfl ?_
  refine g_aload_n X dJ25_init_14 rfl rfl ?_
  refine g_aload_n X dJ25_init_15 rfl rfl ?_
  refine g_get X dJ25_init_16 rfl in_J25 (ci := 12) rfl 3 (by decide) q521 (fun _ h => h) (hu_s _ _ _) rfl ?_
  refine g_get X dJ25_init_19 rfl in_J2 (ci := 11) rfl 0 (by decide) q139 (fun _ h => u_same (X.2.2.2.2.2.2.1 _ q140) _ h) ((hu_n hne).trans (hq _)) rfl ?_
  refine g_put X dJ25_init_22 rfl in_J25 tyJ25_ok nmJ25 (ci := 12) rfl 2 (by decide) q520 (fun _ h => h) rfl rfl rfl rfl (hu_s _ _ _) (Nat.le_of_ble_eq_true rfl) rfl ?_
  refine g_vret X dJ25_init_25 rfl (by first | exact Nat.le_of_ble_eq_true rfl | omega | (dsimp only [rmD]; omega)) (by first | exact Nat.le_of_ble_eq_true rfl | omega | (dsimp only [rmD]; omega)) (fun H hH => ⟨(), rfl, x, ok_put ok hi, by rw [hu_hu, hu_hu] at hH; rw [cc_put hi]; exact hH⟩)
theorem ct_J25_hasNext (hst : l.stackTraces = false) {k : Nat} (hi : Γ it = some (.inl (.inr (12, [.int (nI k), .int c1, .int c2, .ref q])))) (he : Γ q = some (.inr (xs, m0))) (hl : xs.length ≤ 1000) (hk : k ≤ xs.length) : CM Ω l yJ25_hasNext (ws_ yJ25_hasNext cJ25_hasNext 1 (some .boolean)) 2 0 0 [.ref it] (hL Ω Γ) (QP (some (.int (bI (k < xs.length)))) (hL Ω Γ)) nX := by
  refine CM.of (L := [some (.ref it)]) hst (by decide) (Nat.le_of_ble_eq_true rfl) rfl ?_
  intro p e s m below meth c X hnm htab
  refine GJ.ex (fun x => GJ.and (fun ok => ?_))
  refine g_aload_n X dJ25_hasNext_0 rfl rfl ?_
  refine g_get X dJ25_hasNext_1 rfl in_J25 (ci := 12) rfl 0 (by decide) q518 (fun _ h => h) (cc_o hi) rfl ?_
  refine g_aload_n X dJ25_hasNext_4 rfl rfl ?_
  refine g_get X dJ25_hasNext_5 rfl in_J25 (ci := 12) rfl 3 (by decide) q521 (fun _ h => h) (cc_o hi) rfl ?_
  refine g_getN X dJ25_hasNext_8 rfl in_J2 (ci := 11) rfl 2 (by decide) "java/util/ArrayList" q136 (fun _ h => h) (cc_l he) rfl ?_
  refine g_icmp_eq (tgt := 18) X dJ25_hasNext_11 rfl (by decide) (fun c_11 => ?_) (fun c_11 => ?_)
  · have c_11 : nI k = nI xs.length := c_11
    rw [nI_eq (by omega) (by omega)] at c_11
    refine g_iconst X dJ25_hasNext_18 rfl (v := (nI 0)) rfl ?_
    refine g_zret X dJ25_hasNext_19 rfl rfl (by first | exact Nat.le_of_ble_eq_true rfl | omega | (dsimp only [rmD]; omega)) (by first | exact Nat.le_of_ble_eq_true rfl | omega | (dsimp only [rmD]; omega)) (fun H hH => ⟨(), by rw [bI_f (by omega)], x, ok, hH⟩)
  · have c_11 : ¬ nI k = nI xs.length := c_11
    rw [nI_eq (by omega) (by omega)] at c_11
    refine g_iconst X dJ25_hasNext_14 rfl (v := (nI 1)) rfl ?_
    refine g_goto (tgt := 19) X dJ25_hasNext_15 rfl (by decide) ?_
    refine g_zret X dJ25_hasNext_19 rfl rfl (by first | exact Nat.le_of_ble_eq_true rfl | omega | (dsimp only [rmD]; omega)) (by first | exact Nat.le_of_ble_eq_true rfl | omega | (dsimp only [rmD]; omega)) (fun H hH => ⟨(), by rw [bI_t (by omega)], x, ok, hH⟩)
theorem ct_J25_checkForComodification (hst : l.stackTraces = false) (hi : Γ it = some (.inl (.inr (12, [.int c1, .int c2, .int m0, .ref q])))) (he : Γ q = some (.inr (xs, m0))) : CM Ω l yJ25_checkForComodification (ws_ yJ25_checkForComodification cJ25_checkForComodification 1 none) 2 0 0 [.ref it] (hL Ω Γ) (QP none (hL Ω Γ)) nX := by
  refine CM.of (L := [some (.ref it)]) hst (by decide) (Nat.le_of_ble_eq_true rfl) rfl ?_
  intro p e s m below meth c X hnm htab
  refine GJ.ex (fun x => GJ.and (fun ok => ?_))
  refine g_aload_n X dJ25_checkForComodification_0 rfl rfl ?_
  refine g_get X dJ25_checkForComodification_1 rfl in_J25 (ci := 12) rfl 3 (by decide) q521 (fun _ h => h) (cc_o hi) rfl ?_
  refine g_get X dJ25_checkForComodification_4 rfl in_J2 (ci := 11) rfl 0 (by decide) q139 (fun _ h => u_same (X.2.2.2.2.2.2.1 _ q140) _ h) (cc_l he) rfl ?_
  refine g_aload_n X dJ25_checkForComodification_7 rfl rfl ?_
  refine g_get X dJ25_checkForComodification_8 rfl in_J25 (ci := 12) rfl 2 (by decide) q520 (fun _ h => h) (cc_o hi) rfl ?_
  refine g_icmp_eq (tgt := 22) X dJ25_checkForComodification_11 rfl (by decide) (fun c_11 => ?_) (fun c => absurd rfl c)
  refine g_vret X dJ25_checkForComodification_22 rfl (by first | exact Nat.le_of_ble_eq_true rfl | omega | (dsimp only [rmD]; omega)) (by first | exact Nat.le_of_ble_eq_true rfl | omega | (dsimp only [rmD]; omega)) (fun H hH => ⟨(), rfl, x, ok, hH⟩)
theorem ct_J25_next (hst : l.stackTraces = false) {k : Nat} (hi : Γ it = some (.inl (.inr (12, [.int (nI k), .int c1, .int m0, .ref q])))) (he : Γ q = some (.inr (xs, m0))) (hl : xs.length ≤ 1000) (hk : xs[k]? = some y) : CM Ω l yJ25_next (ws_ yJ25_next cJ25_next 3 (some (.object "java/lang/Object"))) 4 0 0 [.ref it] (hL Ω Γ) (QP (some (.ref y)) (hL Ω (hu Γ it (.inl (.inr (12, [.int (nI (k + 1)), .int (nI k), .int m0, .ref q])))))) nX := by
  have hlt : k < xs.length := (List.getElem?_eq_some_iff.mp hk).1
  have hne : q ≠ it := fun e => by rw [e, hi] at he; simp at he
  refine CM.of (L := [some (.ref it), none, none]) hst (by decide) (Nat.le_of_ble_eq_true rfl) rfl ?_
  intro p e s m below meth c X hnm htab
  refine g_aload_n X dJ25_next_0 rfl rfl ?_
  refine g_callV X (ct_J25_checkForComodification hst hi he) dJ25_next_1 rfl (lw_V q550 q551 q552 q102 q553) hyV_J25_checkForComodification (fun H hH => hL.recv X.2.2.2.2.2.2.2.1 hH (hi) rfl) (fun H hH => hH) ⟨Nat.le_of_ble_eq_true rfl, Nat.le_of_ble_eq_true rfl⟩ ⟨by first | exact Nat.le_of_ble_eq_true rfl | omega | (dsimp only [rmD]; omega), by first | exact Nat.le_of_ble_eq_true rfl | omega | (dsimp only [rmD]; omega)⟩ (Nat.le_of_ble_eq_true rfl) rfl (fun x_1 => ?_)
  refine GJ.ex (fun x => GJ.and (fun ok => ?_))
  obtain ⟨d1, d2, d3⟩ := cc_a ok he (fun g => by rw [g] at hlt; exact absurd hlt (Nat.not_lt_zero k))
  have hqa : x.1 q ≠ it := fun e => by rw [e, cc_o hi] at d1; simp at d1
  refine g_aload_n X dJ25_next_4 rfl rfl ?_
  refine g_get X dJ25_next_5 rfl in_J25 (ci := 12) rfl 0 (by decide) q518 (fun _ h => h) (cc_o hi) rfl ?_
  refine g_istore_n X dJ25_next_8 rfl (by decide) rfl rfl ?_
  refine g_iload_n X dJ25_next_9 rfl rfl ?_
  refine g_aload_n X dJ25_next_10 rfl rfl ?_
  refine g_get X dJ25_next_11 rfl in_J25 (ci := 12) rfl 3 (by decide) q521 (fun _ h => h) (cc_o hi) rfl ?_
  refine g_getN X dJ25_next_14 rfl in_J2 (ci := 11) rfl 2 (by decide) "java/util/ArrayList" q136 (fun _ h => h) (cc_l he) rfl ?_
  refine g_icmp_lt (tgt := 28) X dJ25_next_17 rfl (by decide) (fun c_17 => ?_) (fun c => absurd ((nI_ltI (by omega) (by omega)).mpr hlt) c)
  refine g_aload_n X dJ25_next_28 rfl rfl ?_
  refine g_get X dJ25_next_29 rfl in_J25 (ci := 12) rfl 3 (by decide) q521 (fun _ h => h) (cc_o hi) rfl ?_
  refine g_get X dJ25_next_32 rfl in_J2 (ci := 11) rfl 1 (by decide) q135 (fun _ h => h) (cc_l he) rfl ?_
  refine g_astore_n X dJ25_next_35 rfl (by decide) rfl rfl ?_
  refine g_iload_n X dJ25_next_36 rfl rfl ?_
  refine g_aload_n X dJ25_next_37 rfl rfl ?_
  refine g_alen X (t := 5) dJ25_next_38 rfl d1 rfl (show _ = nI (x.2.1 q) from rfl) ?_
  refine g_icmp_lt (tgt := 50) X dJ25_next_39 rfl (by decide) (fun c_39 => ?_) (fun c => absurd ((nI_ltI (by omega) (by omega)).mpr (by omega)) c)
  refine g_aload_n X dJ25_next_50 rfl rfl ?_
  refine g_iload_n X dJ25_next_51 rfl rfl ?_
  refine g_iconst X dJ25_next_52 rfl (v := (nI 1)) rfl ?_
  refine g_iadd X dJ25_next_53 rfl (by first | exact nI_add _ _ | rfl) ?_
  refine g_put X dJ25_next_54 rfl in_J25 tyJ25_ok nmJ25 (ci := 12) rfl 0 (by decide) q518 (fun _ h => h) rfl rfl rfl rfl (cc_o hi) (Nat.le_of_ble_eq_true rfl) rfl ?_
  refine g_aload_n X dJ25_next_57 rfl rfl ?_
  refine g_aload_n X dJ25_next_58 rfl rfl ?_
  refine g_iload_n X dJ25_next_59 rfl rfl ?_
  refine g_dup_x1 X dJ25_next_60 rfl rfl rfl ?_
  refine g_put X dJ25_next_61 rfl in_J25 tyJ25_ok nmJ25 (ci := 12) rfl 1 (by decide) q519 (fun _ h => h) rfl rfl rfl rfl (hu_s _ _ _) (Nat.le_of_ble_eq_true rfl) rfl ?_
  refine g_aal X dJ25_next_64 rfl ((hu_n hqa).trans ((hu_n hqa).trans d1)) (vp_in_nI (by omega) (by omega)) (aa_v (by omega) hk) ?_
  refine g_aret X (Or.inl ⟨_, rfl⟩) (Or.inr ⟨_, rfl⟩) dJ25_next_65 rfl (by first | exact Nat.le_of_ble_eq_true rfl | omega | (dsimp only [rmD]; omega)) (by first | exact Nat.le_of_ble_eq_true rfl | omega | (dsimp only [rmD]; omega)) (fun H hH => ⟨(), rfl, x, ok_put ok hi, by rw [hu_hu] at hH; rw [cc_put hi]; exact hH⟩)
theorem ct_J2_iterator (hst : l.stackTraces = false) (he : Γ q = some (.inr (xs, m0))) : CM Ω l yJ2_iterator (ws_ yJ2_iterator cJ2_iterator 1 (some (.object "java/util/Iterator"))) 4 1 4 [.ref q] (hL Ω Γ) (QV (fun i : {i : Nat // Γ i = none} => some (.ref i.1)) (fun i => hL Ω (hu Γ i.1 (.inl (.inr (12, [.int 0, .int (-1), .int m0, .ref q])))))) nX := by
  refine CM.of (L := [some (.ref q)]) hst (by decide) (Nat.le_of_ble_eq_true rfl) rfl ?_
  intro p e s m below meth c X hnm htab
  refine l_new X dJ2_iterator_0 rfl (fs := [.int 0, .int 0, .int 0, .null]) in_J25 tyJ25_ok q512 q513 q102 (ci := 12) rfl (by decide) (by first | exact Nat.le_of_ble_eq_true rfl | omega | (dsimp only [rmD]; omega)) (by first | exact Nat.le_of_ble_eq_true rfl | omega | (dsimp only [rmD]; omega)) (fun i0 ni => ?_)
  refine g_dup X dJ2_iterator_3 rfl rfl ?_
  refine g_aload_n X dJ2_iterator_4 rfl rfl ?_
  refine g_callI X (ct_J25_init hst (hu_s _ _ _) ((Ex.new ni) _ _ he)) dJ2_iterator_5 rfl q516 q102 q514 q515 rfl hyS_J25_init (fun H hH => hH) ⟨Nat.le_of_ble_eq_true rfl, Nat.le_of_ble_eq_true rfl⟩ ⟨by first | exact Nat.le_of_ble_eq_true rfl | omega | (dsimp only [rmD]; omega), by first | exact Nat.le_of_ble_eq_true rfl | omega | (dsimp only [rmD]; omega)⟩ (Nat.le_of_ble_eq_true rfl) rfl (fun x_5 => ?_)
  refine g_aret X (Or.inl ⟨_, rfl⟩) (Or.inr ⟨_, rfl⟩) dJ2_iterator_8 rfl (by first | exact Nat.le_of_ble_eq_true rfl | omega | (dsimp only [rmD]; omega)) (by first | exact Nat.le_of_ble_eq_true rfl | omega | (dsimp only [rmD]; omega)) (fun H hH => ⟨⟨i0, ni⟩, rfl, by rw [hu_hu] at hH; exact hH⟩)
end F2A
section F2
variable {l : Launch} {Ω : Om} {Γ0 Γ Γ' : LH} {xx a q y : Nat} {A : Ad} {σ : St} {vs : List Value} {m0 : Int32}
set_option maxRecDepth 100000
theorem ct_X1_sumOfCoins (hst : l.stackTraces = false) (hX : isO Γ xx 0 (.ref a :: vs)) (hS : SR Ω Γ0 Γ a A σ) (hB : Bd σ) : CM Ω l yX1_sumOfCoins (ws_ yX1_sumOfCoins cX1_sumOfCoins 4 (some .int)) 8 1 4 [.ref xx] (hL Ω Γ) (QV (fun _ : {G : LH // Ex Γ G} => some (.int (nI (aSum σ (nG σ))))) (fun G => hL Ω G.1)) nX := by
  obtain ⟨mG, hmG⟩ := hS.lG
  have b1 := hB.1
  have hcG := hS.cG
  refine CM.of (L := [some (.ref xx), none, none, none]) hst (by decide) (Nat.le_of_ble_eq_true rfl) rfl ?_
  intro p e s m below meth c X hnm htab
  refine g_iconst X dX1_sumOfCoins_0 rfl (v := (nI 0)) rfl ?_
  refine g_istore_n X dX1_sumOfCoins_1 rfl (by decide) rfl rfl ?_
  refine g_aload_n X dX1_sumOfCoins_2 rfl rfl ?_
  refine l_get X dX1_sumOfCoins_3 rfl in_X1 (ci := 0) rfl 0 (by decide) q233 (fun _ h => h) hX rfl ?_
  refine l_getN X dX1_sumOfCoins_6 rfl in_X2 (ci := 1) rfl 1 (by decide) "SlidePark" q167 (fun _ h => h) hS.st rfl ?_
  refine g_callV X (ct_J2_iterator hst hmG) dX1_sumOfCoins_9 rfl (lw_V q508 q509 q510 q70 q511) hyV_J2_iterator (fun H hH => hL.recvL X.2.2.2.2.2.2.2.1 hH (hmG)) (fun H hH => hH) ⟨Nat.le_of_ble_eq_true rfl, Nat.le_of_ble_eq_true rfl⟩ ⟨by first | exact Nat.le_of_ble_eq_true rfl | omega | (dsimp only [rmD]; omega), by first | exact Nat.le_of_ble_eq_true rfl | omega | (dsimp only [rmD]; omega)⟩ (Nat.le_of_ble_eq_true rfl) rfl (fun x0 => ?_)
  obtain ⟨it, ni⟩ := x0
  dsimp only
  refine g_astore_n X dX1_sumOfCoins_12 rfl (by decide) rfl rfl ?_
  refine GJ.imp (I' := (fun z : Nat × Int32 => hL Ω (hu Γ it (.inl (.inr (12, [.int (nI z.1), .int z.2, .int mG, .ref (qdG A)]))))) (0, -1)) (fun H hH => hH) ?_
  refine GJ.loc ((fun z : Nat × Int32 => [some (.ref xx), some (.int (nI (aSum σ z.1))), some (.ref it), none]) (0, -1)) (lvle_c rfl (lvle_c rfl (lvle_c rfl (lvle_n lvle_e)))) ?_
  refine GJ.loop (fun z : Nat × Int32 => hL Ω (hu Γ it (.inl (.inr (12, [.int (nI z.1), .int z.2, .int mG, .ref (qdG A)]))))) (fun _ => 1) (fun _ => 4) (fun z : Nat × Int32 => [some (.ref xx), some (.int (nI (aSum σ z.1))), some (.ref it), none]) (fun z => nG σ - z.1) (fun z => z.1 ≤ nG σ) (0, -1) (Nat.zero_le _) ?_
  rintro ⟨k, lr⟩ hk ih
  dsimp only at hk ih ⊢
  have hi : hu Γ it (.inl (.inr (12, [.int (nI k), .int lr, .int mG, .ref (qdG A)]))) it = some (.inl (.inr (12, [.int (nI k), .int lr, .int mG, .ref (qdG A)]))) := hu_s _ _ _
  have hE : Ex Γ (hu Γ it (.inl (.inr (12, [.int (nI k), .int lr, .int mG, .ref (qdG A)])))) := Ex.new ni
  have hm := hE _ _ hmG
  refine g_aload_n X dX1_sumOfCoins_13 rfl rfl ?_
  refine g_callF X (ct_J25_hasNext hst hi hm (by omega) (by omega)) dX1_sumOfCoins_14 rfl (classAt_of (X.2.2.2.2.2.2.1 _ q513)) (List.mem_of_getElem? (i := 5) rfl) (lw_app (by simp only [List.forall_mem_cons, List.not_mem_nil, false_imp_iff, implies_true, and_true]; exact ⟨q532, q536, q538, q102⟩) (lw_meth q540)) (by decide +kernel) (fun H hH => hL.recv X.2.2.2.2.2.2.2.1 hH (hi) rfl) (fun H hH => hH) ⟨Nat.le_of_ble_eq_true rfl, Nat.le_of_ble_eq_true rfl⟩ ⟨by first | exact Nat.le_of_ble_eq_true rfl | omega | (dsimp only [rmD]; omega), by first | exact Nat.le_of_ble_eq_true rfl | omega | (dsimp only [rmD]; omega)⟩ (Nat.le_of_ble_eq_true rfl) rfl (fun x_14 => ?_)
  refine g_if_eq (tgt := 42) X dX1_sumOfCoins_19 rfl (by decide) (fun c_19 => ?_) (fun c_19 => ?_)
  · have h1 := bI_0.mp c_19
    obtain rfl : k = nG σ := by omega
    refine g_iload_n X dX1_sumOfCoins_42 rfl rfl ?_
    refine g_iret X dX1_sumOfCoins_43 rfl (by first | exact Nat.le_of_ble_eq_true rfl | omega | (dsimp only [rmD]; omega)) (by first | exact Nat.le_of_ble_eq_true rfl | omega | (dsimp only [rmD]; omega)) (fun H hH => ⟨⟨_, hE⟩, rfl, hH⟩)
  · have h1 := bI_n0.mp c_19
    obtain ⟨yg, y1, y2⟩ := hS.gu (i := k) (by omega)
    refine g_aload_n X dX1_sumOfCoins_22 rfl rfl ?_
    refine g_callF X (ct_J25_next hst hi hm (by omega) y1) dX1_sumOfCoins_23 rfl (classAt_of (X.2.2.2.2.2.2.1 _ q513)) (List.mem_of_getElem? (i := 6) rfl) (lw_app (by simp only [List.forall_mem_cons, List.not_mem_nil, false_imp_iff, implies_true, and_true]; exact ⟨q542, q545, q547, q102⟩) (lw_meth q549)) (by decide +kernel) (fun H hH => hL.recv X.2.2.2.2.2.2.2.1 hH (hi) rfl) (fun H hH => hH) ⟨Nat.le_of_ble_eq_true rfl, Nat.le_of_ble_eq_true rfl⟩ ⟨by first | exact Nat.le_of_ble_eq_true rfl | omega | (dsimp only [rmD]; omega), by first | exact Nat.le_of_ble_eq_true rfl | omega | (dsimp only [rmD]; omega)⟩ (Nat.le_of_ble_eq_true rfl) rfl (fun x_23 => ?_)
    rw [hu_hu]
    have y3 := (Ex.new (e := .inl (.inr (12, [.int (nI (k + 1)), .int (nI k), .int mG, .ref (qdG A)]))) ni) _ _ y2
    refine g_cast X dX1_sumOfCoins_28 rfl q556 (fun H hH => hL.recv X.2.2.2.2.2.2.2.1 hH (y3) rfl) ?_
    refine g_astore_n X dX1_sumOfCoins_31 rfl (by decide) rfl rfl ?_
    refine g_iload_n X dX1_sumOfCoins_32 rfl rfl ?_
    refine g_aload_n X dX1_sumOfCoins_33 rfl rfl ?_
    refine l_getN X dX1_sumOfCoins_34 rfl in_X5 (ci := 4) rfl 0 (by decide) "SlidePark" q598 (fun _ h => h) y3 rfl ?_
    refine g_iadd X dX1_sumOfCoins_37 rfl (by first | exact nI_add _ _ | rfl) ?_
    refine g_istore_n X dX1_sumOfCoins_38 rfl (by decide) rfl rfl ?_
    refine g_goto (tgt := 13) X dX1_sumOfCoins_39 rfl (by decide) ?_
    refine GJ.loc [some (.ref xx), some (.int (nI (aSum σ (k + 1)))), some (.ref it), none] (lvle_c rfl (lvle_c rfl (lvle_c rfl (lvle_n lvle_e)))) ?_
    exact ih (k + 1, nI k) (by dsimp only; omega) (by dsimp only; omega)
theorem ct_X1_meanCoins (hst : l.stackTraces = false) (hX : isO Γ xx 0 (.ref a :: vs)) (hS : SR Ω Γ0 Γ a A σ) (hB : Bd σ) : CM Ω l yX1_meanCoins (ws_ yX1_meanCoins cX1_meanCoins 1 (some .double)) 12 2 10 [.ref xx] (hL Ω Γ) (QV (fun _ : {G : LH // Ex Γ G ∧ 0 < nG σ} => some (.double (qMean σ))) (fun G => hL Ω G.1)) (xE "java/lang/ArithmeticException" (nG σ = 0) (hL Ω Γ)) := by
  obtain ⟨mG, hmG⟩ := hS.lG
  have b1 := hB.1
  have hcG := hS.cG
  have hs := aSum_le hB (nG σ) (Nat.le_refl _)
  refine CM.of (L := [some (.ref xx)]) hst (by decide) (Nat.le_of_ble_eq_true rfl) rfl ?_
  intro p e s m below meth c X hnm htab
  refine g_aload_n X dX1_meanCoins_0 rfl rfl ?_
  refine l_get X dX1_meanCoins_1 rfl in_X1 (ci := 0) rfl 0 (by decide) q233 (fun _ h => h) hX rfl ?_
  refine l_getN X dX1_meanCoins_4 rfl in_X2 (ci := 1) rfl 1 (by decide) "SlidePark" q167 (fun _ h => h) hS.st rfl ?_
  refine g_callV X (ct_J2_size hst hmG) dX1_meanCoins_7 rfl (lw_V q269 q270 q271 q70 q272) hyV_J2_size (fun H hH => hL.recvL X.2.2.2.2.2.2.2.1 hH (hmG)) (fun H hH => hH) ⟨Nat.le_of_ble_eq_true rfl, Nat.le_of_ble_eq_true rfl⟩ ⟨by first | exact Nat.le_of_ble_eq_true rfl | omega | (dsimp only [rmD]; omega), by first | exact Nat.le_of_ble_eq_true rfl | omega | (dsimp only [rmD]; omega)⟩ (Nat.le_of_ble_eq_true rfl) rfl (fun x_7 => ?_)
  refine g_callSx X (ct_X1_requireNonZero hst (by omega)) dX1_meanCoins_10 rfl (lw_S q1428 q1429 q66 q1430) hyS_X1_requireNonZero (fun H hH => hH) ⟨Nat.le_of_ble_eq_true rfl, Nat.le_of_ble_eq_true rfl⟩ ⟨by first | exact Nat.le_of_ble_eq_true rfl | omega | (dsimp only [rmD]; omega), by first | exact Nat.le_of_ble_eq_true rfl | omega | (dsimp only [rmD]; omega)⟩ (Nat.le_of_ble_eq_true rfl) rfl (fun E q => GX.pass X htab (by first | exact Nat.le_of_ble_eq_true rfl | omega) (by first | exact Nat.le_of_ble_eq_true rfl | omega) (fun H h => ⟨h.1, by rw [← hcG]; exact h.2.1, h.2.2⟩)) (fun x0 => ?_)
  have h0 : 0 < nG σ := by rw [← hcG]; exact x0.down
  refine g_aload_n X dX1_meanCoins_13 rfl rfl ?_
  refine g_callV X (ct_X1_sumOfCoins hst hX hS hB) dX1_meanCoins_14 rfl (lw_V q504 q506 qs2 q66 q507) hyV_X1_sumOfCoins (fun H hH => hL.recv X.2.2.2.2.2.2.2.1 hH (hX) rfl) (fun H hH => hH) ⟨Nat.le_of_ble_eq_true rfl, Nat.le_of_ble_eq_true rfl⟩ ⟨by first | exact Nat.le_of_ble_eq_true rfl | omega | (dsimp only [rmD]; omega), by first | exact Nat.le_of_ble_eq_true rfl | omega | (dsimp only [rmD]; omega)⟩ (Nat.le_of_ble_eq_true rfl) rfl (fun x1 => ?_)
  obtain ⟨G, e1⟩ := x1
  dsimp only
  have hm := e1 _ _ hmG
  have e : qMean σ = FP.ddiv (FP.i2d (nI (aSum σ (nG σ)))) (FP.i2d (nI (laG A).length)) := by unfold qMean; rw [cH_t h0, hcG]
  refine g_i2d X dX1_meanCoins_17 rfl ?_
  refine g_aload_n X dX1_meanCoins_18 rfl rfl ?_
  refine l_get X dX1_meanCoins_19 rfl in_X1 (ci := 0) rfl 0 (by decide) q233 (fun _ h => h) (e1 _ _ hX) rfl ?_
  refine l_getN X dX1_meanCoins_22 rfl in_X2 (ci := 1) rfl 1 (by decide) "SlidePark" q167 (fun _ h => h) (e1 _ _ hS.st) rfl ?_
  refine g_callV X (ct_J2_size hst hm) dX1_meanCoins_25 rfl (lw_V q269 q270 q271 q70 q272) hyV_J2_size (fun H hH => hL.recvL X.2.2.2.2.2.2.2.1 hH (hm)) (fun H hH => hH) ⟨Nat.le_of_ble_eq_true rfl, Nat.le_of_ble_eq_true rfl⟩ ⟨by first | exact Nat.le_of_ble_eq_true rfl | omega | (dsimp only [rmD]; omega), by first | exact Nat.le_of_ble_eq_true rfl | omega | (dsimp only [rmD]; omega)⟩ (Nat.le_of_ble_eq_true rfl) rfl (fun x_25 => ?_)
  refine g_i2d X dX1_meanCoins_28 rfl ?_
  refine g_ddiv X dX1_meanCoins_29 rfl (dd_ok _ (by omega) (by omega) _ (by omega)) ?_
  refine g_dret X dX1_meanCoins_30 rfl (by first | exact Nat.le_of_ble_eq_true rfl | omega | (dsimp only [rmD]; omega)) (by first | exact Nat.le_of_ble_eq_true rfl | omega | (dsimp only [rmD]; omega)) (fun H hH => ⟨⟨G, e1, h0⟩, by rw [e], hH⟩)
theorem ct_X1_busyShare (hst : l.stackTraces = false) (hX : isO Γ xx 0 (.ref a :: vs)) (hS : SR Ω Γ0 Γ a A σ) (hB : Bd σ) : CM Ω l yX1_busyShare (ws_ yX1_busyShare cX1_busyShare 3 (some .float)) 12 1 6 [.ref xx] (hL Ω Γ) (QV (fun _ : PLift (0 < nS σ) => some (.float (qShare σ))) (fun _ => hL Ω Γ)) (xE "java/lang/ArithmeticException" (nS σ = 0) (hL Ω Γ)) := by
  obtain ⟨mS, hmS⟩ := hS.lS
  have b1 := hB.1
  have hcS := hS.cS2
  refine CM.of (L := [some (.ref xx), none, none]) hst (by decide) (Nat.le_of_ble_eq_true rfl) rfl ?_
  intro p e s m below meth c X hnm htab
  refine g_aload_n X dX1_busyShare_0 rfl rfl ?_
  refine l_get X dX1_busyShare_1 rfl in_X1 (ci := 0) rfl 0 (by decide) q233 (fun _ h => h) hX rfl ?_
  refine l_getN X dX1_busyShare_4 rfl in_X2 (ci := 1) rfl 0 (by decide) "SlidePark" q165 (fun _ h => h) hS.st rfl ?_
  refine g_callV X (ct_J2_size hst hmS) dX1_busyShare_7 rfl (lw_V q269 q270 q271 q70 q272) hyV_J2_size (fun H hH => hL.recvL X.2.2.2.2.2.2.2.1 hH (hmS)) (fun H hH => hH) ⟨Nat.le_of_ble_eq_true rfl, Nat.le_of_ble_eq_true rfl⟩ ⟨by first | exact Nat.le_of_ble_eq_true rfl | omega | (dsimp only [rmD]; omega), by first | exact Nat.le_of_ble_eq_true rfl | omega | (dsimp only [rmD]; omega)⟩ (Nat.le_of_ble_eq_true rfl) rfl (fun x_7 => ?_)
  refine g_callSx X (ct_X1_requireNonZero hst (by omega)) dX1_busyShare_10 rfl (lw_S q1428 q1429 q66 q1430) hyS_X1_requireNonZero (fun H hH => hH) ⟨Nat.le_of_ble_eq_true rfl, Nat.le_of_ble_eq_true rfl⟩ ⟨by first | exact Nat.le_of_ble_eq_true rfl | omega | (dsimp only [rmD]; omega), by first | exact Nat.le_of_ble_eq_true rfl | omega | (dsimp only [rmD]; omega)⟩ (Nat.le_of_ble_eq_true rfl) rfl (fun E q => GX.pass X htab (by first | exact Nat.le_of_ble_eq_true rfl | omega) (by first | exact Nat.le_of_ble_eq_true rfl | omega) (fun H h => ⟨h.1, by rw [← hcS]; exact h.2.1, h.2.2⟩)) (fun x0 => ?_)
  have h0 : 0 < nS σ := by rw [← hcS]; exact x0.down
  refine g_iconst X dX1_busyShare_13 rfl (v := (nI 0)) rfl ?_
  refine g_istore_n X dX1_busyShare_14 rfl (by decide) rfl rfl ?_
  refine g_iconst X dX1_busyShare_15 rfl (v := (nI 0)) rfl ?_
  refine g_istore_n X dX1_busyShare_16 rfl (by decide) rfl rfl ?_
  refine GJ.loc ((fun (k : Nat) => [some (.ref xx), some (.int (nI (aBus σ k))), some (.int (nI k))]) 0) (lvle_c rfl (lvle_c rfl (lvle_c rfl lvle_e))) ?_
  refine GJ.loopP (fun (k : Nat) => [some (.ref xx), some (.int (nI (aBus σ k))), some (.int (nI k))]) (fun (k : Nat) => (nS σ - k)) (fun (k : Nat) => (k ≤ nS σ)) 0 (Nat.zero_le _) ?_
  intro k hk ih
  have hbl : aBus σ k ≤ k := cN_le _ k
  refine g_iload_n X dX1_busyShare_17 rfl rfl ?_
  refine g_aload_n X dX1_busyShare_18 rfl rfl ?_
  refine l_get X dX1_busyShare_19 rfl in_X1 (ci := 0) rfl 0 (by decide) q233 (fun _ h => h) hX rfl ?_
  refine l_getN X dX1_busyShare_22 rfl in_X2 (ci := 1) rfl 0 (by decide) "SlidePark" q165 (fun _ h => h) hS.st rfl ?_
  refine g_callV X (ct_J2_size hst hmS) dX1_busyShare_25 rfl (lw_V q269 q270 q271 q70 q272) hyV_J2_size (fun H hH => hL.recvL X.2.2.2.2.2.2.2.1 hH (hmS)) (fun H hH => hH) ⟨Nat.le_of_ble_eq_true rfl, Nat.le_of_ble_eq_true rfl⟩ ⟨by first | exact Nat.le_of_ble_eq_true rfl | omega | (dsimp only [rmD]; omega), by first | exact Nat.le_of_ble_eq_true rfl | omega | (dsimp only [rmD]; omega)⟩ (Nat.le_of_ble_eq_true rfl) rfl (fun x_25 => ?_)
  refine g_icmp_ge (tgt := 63) X dX1_busyShare_28 rfl (by decide) (fun c_28 => ?_) (fun c_28 => ?_)
  · rw [nI_leI (by omega) (by omega), hcS] at c_28
    obtain rfl : k = nS σ := by omega
    have e : qShare σ = FP.fdiv (FP.i2f (nI (aBus σ (nS σ)))) (FP.i2f (nI ((laS A).map (·.1)).length)) := by unfold qShare; rw [cH_t h0, hcS]
    refine g_iload_n X dX1_busyShare_63 rfl rfl ?_
    refine g_i2f X dX1_busyShare_64 rfl ?_
    refine g_aload_n X dX1_busyShare_65 rfl rfl ?_
    refine l_get X dX1_busyShare_66 rfl in_X1 (ci := 0) rfl 0 (by decide) q233 (fun _ h => h) hX rfl ?_
    refine l_getN X dX1_busyShare_69 rfl in_X2 (ci := 1) rfl 0 (by decide) "SlidePark" q165 (fun _ h => h) hS.st rfl ?_
    refine g_callV X (ct_J2_size hst hmS) dX1_busyShare_72 rfl (lw_V q269 q270 q271 q70 q272) hyV_J2_size (fun H hH => hL.recvL X.2.2.2.2.2.2.2.1 hH (hmS)) (fun H hH => hH) ⟨Nat.le_of_ble_eq_true rfl, Nat.le_of_ble_eq_true rfl⟩ ⟨by first | exact Nat.le_of_ble_eq_true rfl | omega | (dsimp only [rmD]; omega), by first | exact Nat.le_of_ble_eq_true rfl | omega | (dsimp only [rmD]; omega)⟩ (Nat.le_of_ble_eq_true rfl) rfl (fun x_72 => ?_)
    refine g_i2f X dX1_busyShare_75 rfl ?_
    refine g_fdiv X dX1_busyShare_76 rfl (fd_ok _ (by omega) (by omega) _ (by omega)) ?_
    refine g_fret X dX1_busyShare_77 rfl (by first | exact Nat.le_of_ble_eq_true rfl | omega | (dsimp only [rmD]; omega)) (by first | exact Nat.le_of_ble_eq_true rfl | omega | (dsimp only [rmD]; omega)) (fun H hH => ⟨⟨h0⟩, by rw [e], hH⟩)
  · rw [nI_leI (by omega) (by omega), hcS] at c_28
    refine g_iload_n X dX1_busyShare_31 rfl rfl ?_
    refine g_aload_n X dX1_busyShare_32 rfl rfl ?_
    refine l_get X dX1_busyShare_33 rfl in_X1 (ci := 0) rfl 0 (by decide) q233 (fun _ h => h) hX rfl ?_
    refine g_iload_n X dX1_busyShare_36 rfl rfl ?_
    refine g_aload_n X dX1_busyShare_37 rfl rfl ?_
    refine l_get X dX1_busyShare_38 rfl in_X1 (ci := 0) rfl 0 (by decide) q233 (fun _ h => h) hX rfl ?_
    refine l_getN X dX1_busyShare_41 rfl in_X2 (ci := 1) rfl 4 (by decide) "SlidePark" q173 (fun _ h => h) hS.st rfl ?_
    refine g_callV X (ct_X2_bookingAt hst hS hB (s0 := k) (by omega) (by omega)) dX1_busyShare_44 rfl (lw_V q1242 q1168 q1169 q67 q1170) hyV_X2_bookingAt (fun H hH => hL.recv X.2.2.2.2.2.2.2.1 hH (hS.st) rfl) (fun H hH => hH) ⟨Nat.le_of_ble_eq_true rfl, Nat.le_of_ble_eq_true rfl⟩ ⟨by first | exact Nat.le_of_ble_eq_true rfl | omega | (dsimp only [rmD]; omega), by first | exact Nat.le_of_ble_eq_true rfl | omega | (dsimp only [rmD]; omega)⟩ (Nat.le_of_ble_eq_true rfl) rfl (fun x1 => ?_)
    obtain ⟨ob, hob⟩ := x1
    cases ob with
    | none =>
      have hn : ¬ aBusy σ k (sM σ) := hob
      refine g_ifnull X (x := none) (tgt := 54) dX1_busyShare_47 rfl (by decide) (fun _ => ?_) (fun y g => by simp at g)
      refine g_iconst X dX1_busyShare_54 rfl (v := (nI 0)) rfl ?_
      refine g_iadd X dX1_busyShare_55 rfl (by first | exact nI_add _ _ | rfl) ?_
      refine g_istore_n X dX1_busyShare_56 rfl (by decide) rfl rfl ?_
      refine g_iinc X dX1_busyShare_57 rfl rfl (by first | exact nI_1 _ | rfl) (by decide) rfl rfl ?_
      refine g_goto (tgt := 17) X dX1_busyShare_60 rfl (by decide) ?_
      refine GJ.loc [some (.ref xx), some (.int (nI (aBus σ (k + 1)))), some (.int (nI (k + 1)))] (lvle_c rfl (lvle_c (by unfold aBus; rw [cN_f (P := fun s => aBusy σ s (sM σ)) hn]; try rfl) (lvle_c rfl lvle_e))) ?_
      exact ih (k + 1) (by omega) (by omega)
    | some yb =>
      have hp : aBusy σ k (sM σ) := ⟨yb.1, hob.1, hob.2.1⟩
      refine g_ifnull X (x := some yb.2) (tgt := 54) dX1_busyShare_47 rfl (by decide) (fun g => by simp at g) (fun _ _ => ?_)
      refine g_iconst X dX1_busyShare_50 rfl (v := (nI 1)) rfl ?_
      refine g_goto (tgt := 55) X dX1_busyShare_51 rfl (by decide) ?_
      refine g_iadd X dX1_busyShare_55 rfl (by first | exact nI_add _ _ | rfl) ?_
      refine g_istore_n X dX1_busyShare_56 rfl (by decide) rfl rfl ?_
      refine g_iinc X dX1_busyShare_57 rfl rfl (by first | exact nI_1 _ | rfl) (by decide) rfl rfl ?_
      refine g_goto (tgt := 17) X dX1_busyShare_60 rfl (by decide) ?_
      refine GJ.loc [some (.ref xx), some (.int (nI (aBus σ (k + 1)))), some (.int (nI (k + 1)))] (lvle_c rfl (lvle_c (by unfold aBus; rw [cN_t (P := fun s => aBusy σ s (sM σ)) hp]; try rfl) (lvle_c rfl lvle_e))) ?_
      exact ih (k + 1) (by omega) (by omega)
theorem ct_X1_isConsistent (hst : l.stackTraces = false) (hX : isO Γ xx 0 (.ref a :: vs)) (hS : SR Ω Γ0 Γ a A σ) (hB : Bd σ) (hD : DJ σ) (hV : KV σ) : CM Ω l yX1_isConsistent (ws_ yX1_isConsistent cX1_isConsistent 2 (some .boolean)) 24 162 1104 [.ref xx] (hL Ω Γ) (QV (fun _ : {G : LH // Ex Γ G} => some (.int (nI 1))) (fun G => hL Ω G.1)) nX := by
  obtain ⟨mG, hmG⟩ := hS.lG
  have b1 := hB.1
  have hcG := hS.cG
  have hco : nI (aSum σ (nG σ)) + sO σ = nI (50 * nG σ) := hV.2.2
  refine CM.of (L := [some (.ref xx), none]) hst (by decide) (Nat.le_of_ble_eq_true rfl) rfl ?_
  intro p e s m below meth c X hnm htab
  refine g_aload_n X dX1_isConsistent_0 rfl rfl ?_
  refine g_callV X (ct_X1_sumOfCoins hst hX hS hB) dX1_isConsistent_1 rfl (lw_V q504 q506 qs2 q66 q507) hyV_X1_sumOfCoins (fun H hH => hL.recv X.2.2.2.2.2.2.2.1 hH (hX) rfl) (fun H hH => hH) ⟨Nat.le_of_ble_eq_true rfl, Nat.le_of_ble_eq_true rfl⟩ ⟨by first | exact Nat.le_of_ble_eq_true rfl | omega | (dsimp only [rmD]; omega), by first | exact Nat.le_of_ble_eq_true rfl | omega | (dsimp only [rmD]; omega)⟩ (Nat.le_of_ble_eq_true rfl) rfl (fun x1 => ?_)
  obtain ⟨G1, e1⟩ := x1
  dsimp only
  have S1 := hS.mono e1
  have X1 := e1 _ _ hX
  have m1 := e1 _ _ hmG
  refine g_aload_n X dX1_isConsistent_4 rfl rfl ?_
  refine l_get X dX1_isConsistent_5 rfl in_X1 (ci := 0) rfl 0 (by decide) q233 (fun _ h => h) X1 rfl ?_
  refine l_getN X dX1_isConsistent_8 rfl in_X2 (ci := 1) rfl 5 (by decide) "SlidePark" q175 (fun _ h => h) S1.st rfl ?_
  refine g_iadd X dX1_isConsistent_11 rfl hco ?_
  refine g_bipush X dX1_isConsistent_12 rfl (v := (nI 50)) (by decide) ?_
  refine g_aload_n X dX1_isConsistent_14 rfl rfl ?_
  refine l_get X dX1_isConsistent_15 rfl in_X1 (ci := 0) rfl 0 (by decide) q233 (fun _ h => h) X1 rfl ?_
  refine l_getN X dX1_isConsistent_18 rfl in_X2 (ci := 1) rfl 1 (by decide) "SlidePark" q167 (fun _ h => h) S1.st rfl ?_
  refine g_callV X (ct_J2_size hst m1) dX1_isConsistent_21 rfl (lw_V q269 q270 q271 q70 q272) hyV_J2_size (fun H hH => hL.recvL X.2.2.2.2.2.2.2.1 hH (m1)) (fun H hH => hH) ⟨Nat.le_of_ble_eq_true rfl, Nat.le_of_ble_eq_true rfl⟩ ⟨by first | exact Nat.le_of_ble_eq_true rfl | omega | (dsimp only [rmD]; omega), by first | exact Nat.le_of_ble_eq_true rfl | omega | (dsimp only [rmD]; omega)⟩ (Nat.le_of_ble_eq_true rfl) rfl (fun x_21 => ?_)
  refine g_imul X dX1_isConsistent_24 rfl (by first | exact pk_mul _ _ | rfl) ?_
  refine g_icmp_ne (tgt := 32) X dX1_isConsistent_25 rfl (by decide) (fun c => absurd (by rw [hcG]) c) (fun c_25 => ?_)
  refine g_iconst X dX1_isConsistent_28 rfl (v := (nI 1)) rfl ?_
  refine g_goto (tgt := 33) X dX1_isConsistent_29 rfl (by decide) ?_
  refine g_istore_n X dX1_isConsistent_33 rfl (by decide) rfl rfl ?_
  refine g_iload_n X dX1_isConsistent_34 rfl rfl ?_
  refine g_aload_n X dX1_isConsistent_35 rfl rfl ?_
  refine l_get X dX1_isConsistent_36 rfl in_X1 (ci := 0) rfl 0 (by decide) q233 (fun _ h => h) X1 rfl ?_
  refine g_callV X (ct_X2_mostWatched hst S1 hB) dX1_isConsistent_39 rfl (lw_V q285 q286 q287 q67 q288) hyV_X2_mostWatched (fun H hH => hL.recv X.2.2.2.2.2.2.2.1 hH (S1.st) rfl) (fun H hH => hH) ⟨Nat.le_of_ble_eq_true rfl, Nat.le_of_ble_eq_true rfl⟩ ⟨by first | exact Nat.le_of_ble_eq_true rfl | omega | (dsimp only [rmD]; omega), by first | exact Nat.le_of_ble_eq_true rfl | omega | (dsimp only [rmD]; omega)⟩ (Nat.le_of_ble_eq_true rfl) rfl (fun x_39 => ?_)
  refine g_aload_n X dX1_isConsistent_42 rfl rfl ?_
  refine l_get X dX1_isConsistent_43 rfl in_X1 (ci := 0) rfl 0 (by decide) q233 (fun _ h => h) X1 rfl ?_
  refine g_callV X (ct_X2_mostWatchedByTable hst S1 hB hD) dX1_isConsistent_46 rfl (lw_V q313 q314 q315 q67 q316) hyV_X2_mostWatchedByTable (fun H hH => hL.recv X.2.2.2.2.2.2.2.1 hH (S1.st) rfl) (fun H hH => hH) ⟨Nat.le_of_ble_eq_true rfl, Nat.le_of_ble_eq_true rfl⟩ ⟨by first | exact Nat.le_of_ble_eq_true rfl | omega | (dsimp only [rmD]; omega), by first | exact Nat.le_of_ble_eq_true rfl | omega | (dsimp only [rmD]; omega)⟩ (Nat.le_of_ble_eq_true rfl) rfl (fun x2 => ?_)
  obtain ⟨G2, e2⟩ := x2
  dsimp only
  have S2 := S1.mono e2
  have X2 := e2 _ _ X1
  rw [table_eq hD hB]
  refine g_icmp_ne (tgt := 56) X dX1_isConsistent_49 rfl (by decide) (fun c => absurd rfl c) (fun c_49 => ?_)
  refine g_iconst X dX1_isConsistent_52 rfl (v := (nI 1)) rfl ?_
  refine g_goto (tgt := 57) X dX1_isConsistent_53 rfl (by decide) ?_
  refine g_iand X dX1_isConsistent_57 rfl (show _ = nI 1 by decide) ?_
  refine g_istore_n X dX1_isConsistent_58 rfl (by decide) rfl rfl ?_
  refine g_iload_n X dX1_isConsistent_59 rfl rfl ?_
  refine g_aload_n X dX1_isConsistent_60 rfl rfl ?_
  refine l_get X dX1_isConsistent_61 rfl in_X1 (ci := 0) rfl 0 (by decide) q233 (fun _ h => h) X2 rfl ?_
  refine g_callV X (ct_X2_mostAtOnce hst S2 hB) dX1_isConsistent_64 rfl (lw_V q437 q438 q439 q67 q440) hyV_X2_mostAtOnce (fun H hH => hL.recv X.2.2.2.2.2.2.2.1 hH (S2.st) rfl) (fun H hH => hH) ⟨Nat.le_of_ble_eq_true rfl, Nat.le_of_ble_eq_true rfl⟩ ⟨by first | exact Nat.le_of_ble_eq_true rfl | omega | (dsimp only [rmD]; omega), by first | exact Nat.le_of_ble_eq_true rfl | omega | (dsimp only [rmD]; omega)⟩ (Nat.le_of_ble_eq_true rfl) rfl (fun x_64 => ?_)
  refine g_aload_n X dX1_isConsistent_67 rfl rfl ?_
  refine l_get X dX1_isConsistent_68 rfl in_X1 (ci := 0) rfl 0 (by decide) q233 (fun _ h => h) X2 rfl ?_
  refine g_callV X (ct_X2_mostAtOnceBySweep hst S2 hB hV.1) dX1_isConsistent_71 rfl (lw_V q452 q453 q454 q67 q455) hyV_X2_mostAtOnceBySweep (fun H hH => hL.recv X.2.2.2.2.2.2.2.1 hH (S2.st) rfl) (fun H hH => hH) ⟨Nat.le_of_ble_eq_true rfl, Nat.le_of_ble_eq_true rfl⟩ ⟨by first | exact Nat.le_of_ble_eq_true rfl | omega | (dsimp only [rmD]; omega), by first | exact Nat.le_of_ble_eq_true rfl | omega | (dsimp only [rmD]; omega)⟩ (Nat.le_of_ble_eq_true rfl) rfl (fun x3 => ?_)
  obtain ⟨G3, e3⟩ := x3
  dsimp only
  have S3 := S2.mono e3
  have X3 := e3 _ _ X2
  rw [sweep_eq hV.1 hB]
  refine g_icmp_ne (tgt := 81) X dX1_isConsistent_74 rfl (by decide) (fun c => absurd rfl c) (fun c_74 => ?_)
  refine g_iconst X dX1_isConsistent_77 rfl (v := (nI 1)) rfl ?_
  refine g_goto (tgt := 82) X dX1_isConsistent_78 rfl (by decide) ?_
  refine g_iand X dX1_isConsistent_82 rfl (show _ = nI 1 by decide) ?_
  refine g_istore_n X dX1_isConsistent_83 rfl (by decide) rfl rfl ?_
  refine g_iload_n X dX1_isConsistent_84 rfl rfl ?_
  refine g_if_eq (tgt := 109) X dX1_isConsistent_85 rfl (by decide) (fun c => absurd c (by decide)) (fun c_85 => ?_)
  refine g_aload_n X dX1_isConsistent_88 rfl rfl ?_
  refine l_get X dX1_isConsistent_89 rfl in_X1 (ci := 0) rfl 0 (by decide) q233 (fun _ h => h) X3 rfl ?_
  refine g_callV X (ct_X2_photos hst S3 hB) dX1_isConsistent_92 rfl (lw_V q469 q470 q471 q67 q472) hyV_X2_photos (fun H hH => hL.recv X.2.2.2.2.2.2.2.1 hH (S3.st) rfl) (fun H hH => hH) ⟨Nat.le_of_ble_eq_true rfl, Nat.le_of_ble_eq_true rfl⟩ ⟨by first | exact Nat.le_of_ble_eq_true rfl | omega | (dsimp only [rmD]; omega), by first | exact Nat.le_of_ble_eq_true rfl | omega | (dsimp only [rmD]; omega)⟩ (Nat.le_of_ble_eq_true rfl) rfl (fun x_92 => ?_)
  refine g_aload_n X dX1_isConsistent_95 rfl rfl ?_
  refine l_get X dX1_isConsistent_96 rfl in_X1 (ci := 0) rfl 0 (by decide) q233 (fun _ h => h) X3 rfl ?_
  refine g_callV X (ct_X2_photosByRuns hst S3 hB) dX1_isConsistent_99 rfl (lw_V q484 q485 q486 q67 q487) hyV_X2_photosByRuns (fun H hH => hL.recv X.2.2.2.2.2.2.2.1 hH (S3.st) rfl) (fun H hH => hH) ⟨Nat.le_of_ble_eq_true rfl, Nat.le_of_ble_eq_true rfl⟩ ⟨by first | exact Nat.le_of_ble_eq_true rfl | omega | (dsimp only [rmD]; omega), by first | exact Nat.le_of_ble_eq_true rfl | omega | (dsimp only [rmD]; omega)⟩ (Nat.le_of_ble_eq_true rfl) rfl (fun x_99 => ?_)
  rw [runs_eq hV.2.1]
  refine g_icmp_ne (tgt := 109) X dX1_isConsistent_102 rfl (by decide) (fun c => absurd rfl c) (fun c_102 => ?_)
  refine g_iconst X dX1_isConsistent_105 rfl (v := (nI 1)) rfl ?_
  refine g_goto (tgt := 110) X dX1_isConsistent_106 rfl (by decide) ?_
  refine g_zret X dX1_isConsistent_110 rfl rfl (by first | exact Nat.le_of_ble_eq_true rfl | omega | (dsimp only [rmD]; omega)) (by first | exact Nat.le_of_ble_eq_true rfl | omega | (dsimp only [rmD]; omega)) (fun H hH => ⟨⟨G3, e1.tr (e2.tr e3)⟩, rfl, hH⟩)
end F2
