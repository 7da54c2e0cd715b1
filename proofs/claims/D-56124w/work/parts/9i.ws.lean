/-! SLIDEPARK: the text of a slide; its output's letters; its constructor -/
theorem SR.base2 {Ω : Om} {Γ0 Γ Γ1 : LH} {a : Nat} {A : Ad} {σ : St} (h : SR Ω Γ0 Γ a A σ) (hb : ∀ q e, Γ q = some e → Γ1 q = none) : SR Ω Γ1 Γ a A σ :=
  have hl : ∀ q xs, isL Γ0 Γ q xs → isL Γ1 Γ q xs := fun q xs hq => ⟨hq.1, hq.1.elim (fun m hm => hb q _ hm)⟩
  ⟨⟨h.1.1, hb _ _ h.1.1⟩, ⟨hl _ _ h.2.1.1, hl _ _ h.2.1.2.1, hl _ _ h.2.1.2.2.1, hl _ _ h.2.1.2.2.2.1, h.2.1.2.2.2.2⟩,
    ⟨h.2.2.1.1, fun i x hx => ⟨⟨(h.2.2.1.2 i x hx).1.1, hb _ _ (h.2.2.1.2 i x hx).1.1⟩, (h.2.2.1.2 i x hx).2.1, hl _ _ (h.2.2.1.2 i x hx).2.2⟩⟩,
    ⟨h.2.2.2.1.1, fun i x hx => ⟨(h.2.2.2.1.2 i x hx).1, hb _ _ (h.2.2.2.1.2 i x hx).1⟩⟩, h.2.2.2.2⟩
/-- what is written of the booking k -/
def twB (σ : St) (k : Nat) : List Nat := [32] ++ dec (boG σ k) ++ [64] ++ dec (boT σ k)
abbrev twH (σ : St) (j : Nat) : List Nat := dec (slD σ j) ++ [109] ++ dec (slP σ j) ++ [99] ++ dec (slW σ j) ++ [119]
theorem wrR_of {σ : St} (hB : Bd σ) (hD : DJ σ) {j : Nat} : ∀ n, n ≤ nB σ → wrR σ j n = twH σ j ++ (ofL σ j n).flatMap (twB σ)
  | 0, _ => (List.append_nil _).symm
  | n + 1, h => by
    have ih := wrR_of hB hD (j := j) n (by omega)
    have b1 := hB.1
    obtain ⟨hk, -, h2⟩ := rkA_at hD hB (r := n) (by omega)
    show wrR σ j n ++ wrB σ j (iN (aRnk σ (nI n))) = _
    rw [h2, iN_nI (by omega), ih]
    unfold wrB
    show _ = twH σ j ++ (if boS σ (rkA σ n) = j then ofL σ j n ++ [rkA σ n] else ofL σ j n).flatMap (twB σ)
    by_cases e : boS σ (rkA σ n) = j
    · rw [if_pos e, if_pos e, List.flatMap_append, List.append_assoc]
      congr 2
      show _ = twB σ (rkA σ n) ++ []
      rw [List.append_nil]; rfl
    · rw [if_neg e, if_neg e, List.append_nil]
theorem twB_len {σ : St} (hB : Bd σ) {k : Nat} (hk : k < nB σ) : (twB σ k).length ≤ 9 := by
  have b1 := hB.1
  have b5 := hB.2.2.2.2.1 k hk
  have d1 := dec_len 0 (boG σ k) (by omega)
  have d2 := dec_len 5 (boT σ k) (by omega)
  unfold twB
  simp only [List.length_append, List.length_singleton]
  omega
theorem flB_len {σ : St} (hB : Bd σ) : ∀ (L : List Nat), (∀ k ∈ L, k < nB σ) → (L.flatMap (twB σ)).length ≤ 9 * L.length
  | [], _ => Nat.zero_le _
  | k :: L, h => by
    have ih := flB_len hB L (fun k hk => h k (List.mem_cons_of_mem _ hk))
    have := twB_len hB (h k List.mem_cons_self)
    rw [List.flatMap_cons, List.length_append, List.length_cons]
    omega
section WS
variable {l : Launch} {Ω : Om} {Γ Γ1 Γ2 : LH} {x b v v1 q ci : Nat} {C C1 C2 : CT} {w : Wl} {t : Tx} {out : List Nat} {fs : List Value}
theorem SBK.o (h : SBK b v Γ Γ1 v1) (hS : SBo Ω Γ b v out) (hc : ci ≠ 13) (hq : isO Γ q ci fs) : isO Γ1 q ci fs := by
  obtain ⟨⟨mb, hb⟩, cap, f, hv, -⟩ := hS
  exact h.1 _ _ hq (neOO hq hb hc) (neV hq hv (by simp))
theorem SBK.lK (h : SBK b v Γ Γ1 v1) (hS : SBo Ω Γ b v out) {u : List Nat × Int32} (hq : Γ q = some (.inr u)) : Γ1 q = some (.inr u) := by
  obtain ⟨⟨mb, hb⟩, cap, f, hv, -⟩ := hS
  exact h.1 _ _ hq (neLO hq hb) (neV hq hv (by simp))
theorem SBK.ex (h : SBK b v Γ Γ1 v1) (he : Ex Γ1 Γ2) : SBK b v Γ Γ2 v1 := ⟨fun q u hq n1 n2 => he _ _ (h.1 q u hq n1 n2), h.2⟩
theorem SBo.ex (h : SBo Ω Γ b v out) (he : Ex Γ Γ1) : SBo Ω Γ1 b v out := ⟨h.1.elim (fun mb hb => ⟨mb, he _ _ hb⟩), h.2.elim (fun cap g => g.elim (fun f hf => ⟨cap, f, he _ _ hf.1, hf.2⟩))⟩
theorem SBo.bb (h : SBo Ω Γ b v out) : ∃ u, Γ b = some u := h.1.elim (fun _ hb => ⟨_, hb⟩)
/-- all but the park's own stays, and what is its own is old or new -/
def KXo (x : Nat) (C : CT) (Γ Γ' : LH) (C' : CT) : Prop := KX x C Γ Γ' ∧ chl C' = chl C ∧ ciq C' = ciq C ∧ coq C' = coq C ∧ (cbq C' = cbq C ∨ Γ (cbq C') = none)
theorem KXo.of (h : KX x C Γ Γ1) (hC : C1.1 = C.1) : KXo x C Γ Γ1 C1 := ⟨h, by unfold chl; rw [hC], by unfold ciq; rw [hC], by unfold coq; rw [hC], Or.inl (by unfold cbq; rw [hC])⟩
theorem CR.outS (hC : CR Ω Γ x C w t) {v' : Nat} (h : SBo Ω Γ1 (coq C) v' out) (hK : SBK (coq C) (cbq C) Γ Γ1 v') : CR Ω Γ1 x ((chq C, chl C, ciq C, coq C, v'), C.2) w (out, t.2) ∧ KXo x C Γ Γ1 ((chq C, chl C, ciq C, coq C, v'), C.2) := by
  have hO := hC.2.2.2.2.1
  have kO : ∀ ci, ci ≠ 13 → kpO Γ Γ1 ci := fun ci hc q fs hq => hK.o hO hc hq
  have kL : kpL Γ Γ1 := fun q u hq => hK.lK hO hq
  obtain ⟨mp, hmp⟩ := hC.2.1.2
  obtain ⟨f, hf, hf2⟩ := hC.2.2.2.1.2
  obtain ⟨⟨mb, hb⟩, cap, g, hg, -⟩ := hO
  refine ⟨⟨kO 0 (by decide) _ _ hC.1, ⟨kO 2 (by decide) _ _ hC.2.1.1, mp, kL _ _ hmp⟩, CR3.tt (C := C) hC.2.2.1 (fun hs => hs.monoK kL (fun ci hci => kO ci (by omega))), ⟨hC.2.2.2.1.1, f, hK.1 _ _ hf (neV hf hb (by simp)) hC.2.2.2.2.2, hf2⟩, h, ?_⟩, ⟨fun q u hq _ _ _ n4 n5 => hK.1 q u hq n4 n5, rfl, rfl, rfl, hK.2⟩⟩
  rcases hK.2 with e | e
  · show ciq C ≠ v'
    rw [e]; exact hC.2.2.2.2.2
  · exact neN hf e
theorem KXo.tr (h : KXo x C Γ Γ1 C1) (hC : CR Ω Γ1 x C1 w t) (h' : KXo x C1 Γ1 Γ2 C2) : KXo x C Γ Γ2 C2 := by
  obtain ⟨k1, e1, e2, e3, e4⟩ := h
  obtain ⟨k2, f1, f2, f3, f4⟩ := h'
  obtain ⟨mp, hmp⟩ := hC.2.1.2
  obtain ⟨f, hf, -⟩ := hC.2.2.2.1.2
  obtain ⟨⟨mb, hb⟩, cap, g, hg, -⟩ := hC.2.2.2.2.1
  refine ⟨fun q u hq n1 n2 n3 n4 n5 => k2 q u (k1 q u hq n1 n2 n3 n4 n5) n1 (by rw [e1]; exact n2) (by rw [e2]; exact n3) (by rw [e3]; exact n4) (fun z => ?_), f1.trans e1, f2.trans e2, f3.trans e3, ?_⟩
  · rcases e4 with e | e
    · exact n5 (z.trans e)
    · rw [← z, hq] at e; simp at e
  · rcases f4 with e | e
    · rw [e]; exact e4
    · by_cases hc : cbq C2 = cbq C
      · exact Or.inl hc
      · refine Or.inr ?_
        cases hq : Γ (cbq C2) with
        | none => rfl
        | some u =>
          have := k1 _ u hq (fun z => by rw [z] at e; have h0 := hC.1; rw [isO, e] at h0; simp at h0) (fun z => by rw [z, ← e1, hmp] at e; simp at e) (fun z => by rw [z, ← e2, hf] at e; simp at e) (fun z => by rw [z, ← e3] at e; rw [isO, e] at hb; simp at hb) hc
          rw [this] at e; simp at e
set_option maxRecDepth 100000
set_option maxHeartbeats 2000000
theorem ct_X1_writeSlide (hst : l.stackTraces = false) (hC : CR Ω Γ x C w t) (hB : Bd w.1) (hD : DJ w.1) {u : Int32} : CM Ω l yX1_writeSlide (ws_ yX1_writeSlide cX1_writeSlide 5 (some .int)) 30 113 70700 [.ref x, .int u] (hL Ω Γ) (QV (fun _ : {y : LH × CT // okS w.1 u ∧ CR Ω y.1 x y.2 w (wrS w.1 (iN u), t.2) ∧ KXo x C Γ y.1 y.2} => some (.int (nI (wrS w.1 (iN u)).length))) (fun y => hL Ω y.1.1)) (xE "java/lang/IndexOutOfBoundsException" (¬ okS w.1 u) (hL Ω Γ)) := by
  have b1 := hB.1
  have hx := hC.1
  have hS := hC.2.2.1.1
  have hO := hC.2.2.2.2.1
  have e1 := wrR_of hB hD (j := iN u) (nB w.1) (Nat.le_refl _)
  refine CM.of (L := [some (.ref x), some (.int u), none, none, none]) hst (by decide) (Nat.le_of_ble_eq_true rfl) rfl ?_
  intro p e s m below meth c X hnm htab
  refine g_aload_n X dX1_writeSlide_0 rfl rfl ?_
  refine l_get X dX1_writeSlide_1 rfl in_X1 (ci := 0) rfl 0 (by decide) q233 (fun _ h => h) hx rfl ?_
  refine g_iload_n X dX1_writeSlide_4 rfl rfl ?_
  refine g_callVx X (ct_X2_slide hst hS (by omega)) dX1_writeSlide_5 rfl (lw_V q1220 q914 q915 q67 q916) hyV_X2_slide (fun H hH => hL.recv X.2.2.2.2.2.2.2.1 hH (hS.st) rfl) (fun H hH => hH) ⟨Nat.le_of_ble_eq_true rfl, Nat.le_of_ble_eq_true rfl⟩ ⟨by first | exact Nat.le_of_ble_eq_true rfl | omega | (dsimp only [rmD]; omega), by first | exact Nat.le_of_ble_eq_true rfl | omega | (dsimp only [rmD]; omega)⟩ (Nat.le_of_ble_eq_true rfl) rfl (fun E q => GX.pass X htab (by first | exact Nat.le_of_ble_eq_true rfl | omega) (by first | exact Nat.le_of_ble_eq_true rfl | omega) (fun H h => h)) (fun x0 => ?_)
  refine g_astore_n X dX1_writeSlide_8 rfl (by decide) rfl rfl ?_
  obtain ⟨y0, h1, h2⟩ := x0
  dsimp only
  obtain ⟨j, hj, rfl⟩ := (ixI (by omega)).mp h2
  rw [iN_nI (by omega)] at h1 e1 ⊢
  have b2 := hB.2.1 j hj
  have d1 := dec_len 0 (slD w.1 j) (by omega)
  have d2 := dec_len 0 (slP w.1 j) (by omega)
  have d3 := dec_len 0 (slW w.1 j) (by omega)
  have hsl := (hS.2.2.1.2 j y0 h1).1.1
  refine g_aload_n X dX1_writeSlide_9 rfl rfl ?_
  refine l_get X dX1_writeSlide_10 rfl in_X1 (ci := 0) rfl 7 (by decide) q243 (fun _ h => h) hx rfl ?_
  refine g_iconst X dX1_writeSlide_13 rfl (v := (nI 0)) rfl ?_
  refine g_callV X (ct_J4_setLength hst hO) dX1_writeSlide_14 rfl (lw_V q1627 q1628 q1629 q73 q1630) hyV_J4_setLength (fun H hH => hO.1.elim (fun mb hb => hL.recv X.2.2.2.2.2.2.2.1 hH (hb) rfl)) (fun H hH => hH) ⟨Nat.le_of_ble_eq_true rfl, Nat.le_of_ble_eq_true rfl⟩ ⟨by first | exact Nat.le_of_ble_eq_true rfl | omega | (dsimp only [rmD]; omega), by first | exact Nat.le_of_ble_eq_true rfl | omega | (dsimp only [rmD]; omega)⟩ (Nat.le_of_ble_eq_true rfl) rfl (fun y1 => ?_)
  obtain ⟨⟨G1, v1⟩, s1, k1⟩ := y1
  dsimp only at s1 k1 ⊢
  refine g_aload_n X dX1_writeSlide_17 rfl rfl ?_
  refine l_get X dX1_writeSlide_18 rfl in_X1 (ci := 0) rfl 7 (by decide) q243 (fun _ h => h) (k1.o hO (by decide) hx) rfl ?_
  refine g_aload_n X dX1_writeSlide_21 rfl rfl ?_
  refine l_getN X dX1_writeSlide_22 rfl in_X7 (ci := 6) rfl 0 (by decide) "SlidePark" q731 (fun _ h => h) (k1.o hO (by decide) hsl) rfl ?_
  refine g_callV X (ct_J4_append_2 hst s1 (by decide) (by omega)) dX1_writeSlide_25 rfl (lw_V q1850 q1729 q1730 q73 q1731) hyV_J4_append_2 (fun H hH => s1.1.elim (fun mb hb => hL.recv X.2.2.2.2.2.2.2.1 hH (hb) rfl)) (fun H hH => hH) ⟨Nat.le_of_ble_eq_true rfl, Nat.le_of_ble_eq_true rfl⟩ ⟨by first | exact Nat.le_of_ble_eq_true rfl | omega | (dsimp only [rmD]; omega), by first | exact Nat.le_of_ble_eq_true rfl | omega | (dsimp only [rmD]; omega)⟩ (Nat.le_of_ble_eq_true rfl) rfl (fun y1 => ?_)
  obtain ⟨⟨G2, v2⟩, s2, k2⟩ := y1
  dsimp only at s2 k2 ⊢
  rw [List.nil_append] at s2
  have k2 := k1.tr s1.bb k2
  refine g_bipush X dX1_writeSlide_28 rfl (v := (nI 109)) (by decide) ?_
  refine g_callV X (ct_J4_append_3 (u := 109) hst s2 (by omega) (by decide)) dX1_writeSlide_30 rfl (lw_V q1851 q1852 q1853 q73 q1854) hyV_J4_append_3 (fun H hH => s2.1.elim (fun mb hb => hL.recv X.2.2.2.2.2.2.2.1 hH (hb) rfl)) (fun H hH => hH) ⟨Nat.le_of_ble_eq_true rfl, Nat.le_of_ble_eq_true rfl⟩ ⟨by first | exact Nat.le_of_ble_eq_true rfl | omega | (dsimp only [rmD]; omega), by first | exact Nat.le_of_ble_eq_true rfl | omega | (dsimp only [rmD]; omega)⟩ (Nat.le_of_ble_eq_true rfl) rfl (fun y1 => ?_)
  obtain ⟨⟨G3, v3⟩, s3, k3⟩ := y1
  dsimp only at s3 k3 ⊢
  have k3 := k2.tr s2.bb k3
  refine g_aload_n X dX1_writeSlide_33 rfl rfl ?_
  refine l_getN X dX1_writeSlide_34 rfl in_X7 (ci := 6) rfl 1 (by decide) "SlidePark" q734 (fun _ h => h) (k3.o hO (by decide) hsl) rfl ?_
  refine g_callV X (ct_J4_append_2 hst s3 (by simp only [List.length_append, List.length_singleton]; omega) (by omega)) dX1_writeSlide_37 rfl (lw_V q1850 q1729 q1730 q73 q1731) hyV_J4_append_2 (fun H hH => s3.1.elim (fun mb hb => hL.recv X.2.2.2.2.2.2.2.1 hH (hb) rfl)) (fun H hH => hH) ⟨Nat.le_of_ble_eq_true rfl, Nat.le_of_ble_eq_true rfl⟩ ⟨by first | exact Nat.le_of_ble_eq_true rfl | omega | (dsimp only [rmD]; omega), by first | exact Nat.le_of_ble_eq_true rfl | omega | (dsimp only [rmD]; omega)⟩ (Nat.le_of_ble_eq_true rfl) rfl (fun y1 => ?_)
  obtain ⟨⟨G4, v4⟩, s4, k4⟩ := y1
  dsimp only at s4 k4 ⊢
  have k4 := k3.tr s3.bb k4
  refine g_bipush X dX1_writeSlide_40 rfl (v := (nI 99)) (by decide) ?_
  refine g_callV X (ct_J4_append_3 (u := 99) hst s4 (by simp only [List.length_append, List.length_singleton]; omega) (by decide)) dX1_writeSlide_42 rfl (lw_V q1851 q1852 q1853 q73 q1854) hyV_J4_append_3 (fun H hH => s4.1.elim (fun mb hb => hL.recv X.2.2.2.2.2.2.2.1 hH (hb) rfl)) (fun H hH => hH) ⟨Nat.le_of_ble_eq_true rfl, Nat.le_of_ble_eq_true rfl⟩ ⟨by first | exact Nat.le_of_ble_eq_true rfl | omega | (dsimp only [rmD]; omega), by first | exact Nat.le_of_ble_eq_true rfl | omega | (dsimp only [rmD]; omega)⟩ (Nat.le_of_ble_eq_true rfl) rfl (fun y1 => ?_)
  obtain ⟨⟨G5, v5⟩, s5, k5⟩ := y1
  dsimp only at s5 k5 ⊢
  have k5 := k4.tr s4.bb k5
  refine g_aload_n X dX1_writeSlide_45 rfl rfl ?_
  refine l_getN X dX1_writeSlide_46 rfl in_X7 (ci := 6) rfl 3 (by decide) "SlidePark" q739 (fun _ h => h) (k5.o hO (by decide) hsl) rfl ?_
  refine g_callV X (ct_J4_append_2 hst s5 (by simp only [List.length_append, List.length_singleton]; omega) (by omega)) dX1_writeSlide_49 rfl (lw_V q1850 q1729 q1730 q73 q1731) hyV_J4_append_2 (fun H hH => s5.1.elim (fun mb hb => hL.recv X.2.2.2.2.2.2.2.1 hH (hb) rfl)) (fun H hH => hH) ⟨Nat.le_of_ble_eq_true rfl, Nat.le_of_ble_eq_true rfl⟩ ⟨by first | exact Nat.le_of_ble_eq_true rfl | omega | (dsimp only [rmD]; omega), by first | exact Nat.le_of_ble_eq_true rfl | omega | (dsimp only [rmD]; omega)⟩ (Nat.le_of_ble_eq_true rfl) rfl (fun y1 => ?_)
  obtain ⟨⟨G6, v6⟩, s6, k6⟩ := y1
  dsimp only at s6 k6 ⊢
  have k6 := k5.tr s5.bb k6
  refine g_bipush X dX1_writeSlide_52 rfl (v := (nI 119)) (by decide) ?_
  refine g_callV X (ct_J4_append_3 (u := 119) hst s6 (by simp only [List.length_append, List.length_singleton]; omega) (by decide)) dX1_writeSlide_54 rfl (lw_V q1851 q1852 q1853 q73 q1854) hyV_J4_append_3 (fun H hH => s6.1.elim (fun mb hb => hL.recv X.2.2.2.2.2.2.2.1 hH (hb) rfl)) (fun H hH => hH) ⟨Nat.le_of_ble_eq_true rfl, Nat.le_of_ble_eq_true rfl⟩ ⟨by first | exact Nat.le_of_ble_eq_true rfl | omega | (dsimp only [rmD]; omega), by first | exact Nat.le_of_ble_eq_true rfl | omega | (dsimp only [rmD]; omega)⟩ (Nat.le_of_ble_eq_true rfl) rfl (fun y1 => ?_)
  refine g_pop X dX1_writeSlide_57 rfl rfl ?_
  obtain ⟨⟨G7, v7⟩, s7, k7⟩ := y1
  dsimp only at s7 k7 ⊢
  have k7 := k6.tr s6.bb k7
  have kO : ∀ ci, ci ≠ 13 → kpO Γ G7 ci := fun ci hc q fs hq => k7.o hO hc hq
  have hS7 : SR Ω (hlB (chl C)) G7 (ccu C).1 (ccu C).2 w.1 := hS.monoK (fun q u hq => k7.lK hO hq) (fun ci hci => kO ci (by omega))
  have hx7 := kO 0 (by decide) _ _ hx
  refine g_aload_n X dX1_writeSlide_58 rfl rfl ?_
  refine l_get X dX1_writeSlide_59 rfl in_X1 (ci := 0) rfl 0 (by decide) q233 (fun _ h => h) hx7 rfl ?_
  refine g_iload_n X dX1_writeSlide_62 rfl rfl ?_
  refine g_callV X (ct_X2_ofSlide hst hS7 hB hD hj) dX1_writeSlide_63 rfl (lw_V q1864 q1355 q1356 q67 q1357) hyV_X2_ofSlide (fun H hH => hL.recv X.2.2.2.2.2.2.2.1 hH (hS7.st) rfl) (fun H hH => hH) ⟨Nat.le_of_ble_eq_true rfl, Nat.le_of_ble_eq_true rfl⟩ ⟨by first | exact Nat.le_of_ble_eq_true rfl | omega | (dsimp only [rmD]; omega), by first | exact Nat.le_of_ble_eq_true rfl | omega | (dsimp only [rmD]; omega)⟩ (Nat.le_of_ble_eq_true rfl) rfl (fun y1 => ?_)
  refine g_astore_n X dX1_writeSlide_66 rfl (by decide) rfl rfl ?_
  obtain ⟨⟨G, z⟩, hE, ml, hz⟩ := y1
  dsimp only at hE hz ⊢
  have s8 := s7.ex hE
  have hS8 := hS7.mono hE
  have hx8 : isO G x 0 (CX C t) := hE _ _ hx7
  have k8 := k7.ex hE
  generalize hLL : ofL w.1 j (nB w.1) = L at e1 hz
  have hLm : ∀ k ∈ L, k < nB w.1 := fun k hk => ((ofL_mem hD hB (Nat.le_refl _) k).mp (hLL ▸ hk)).1
  have hLn : L.length ≤ nB w.1 := hLL ▸ ofL_len
  have hlz : (L.map (adX (ccu C).2)).length = L.length := List.length_map _
  have ht : ∀ i, (twH w.1 j ++ (L.take i).flatMap (twB w.1)).length ≤ 186 := fun i => by
    have g1 := flB_len hB (L.take i) (fun k hk => hLm k (List.mem_of_mem_take hk))
    have g2 : (L.take i).length ≤ L.length := by rw [List.length_take]; omega
    rw [List.length_append]
    have g3 : (twH w.1 j).length ≤ 6 := by simp only [List.length_append, List.length_singleton]; omega
    omega
  refine g_iconst X dX1_writeSlide_67 rfl (v := (nI 0)) rfl ?_
  refine g_istore X dX1_writeSlide_68 rfl (by decide) rfl rfl ?_
  refine GJ.imp (I' := (fun y : Nat × LH × Nat => hL Ω y.2.1) (0, G, v7)) (fun H hH => hH) ?_
  refine GJ.loc ((fun y : Nat × LH × Nat => [some (.ref x), some (.int (nI j)), some (.ref y0.1), some (.ref z), some (.int (nI y.1))]) (0, G, v7)) (lvle_c rfl (lvle_c rfl (lvle_c rfl (lvle_c rfl (lvle_c rfl lvle_e))))) ?_
  refine GJ.wide (k' := (fun y : Nat × LH × Nat => 33 + 4 * y.1) (0, G, v7)) (n' := (fun y : Nat × LH × Nat => 6470 + 3208 * y.1) (0, G, v7)) (Nat.le_of_ble_eq_true rfl) (Nat.le_of_ble_eq_true rfl) ?_
  refine GJ.loop (fun y : Nat × LH × Nat => hL Ω y.2.1) (fun y => 33 + 4 * y.1) (fun y => 6470 + 3208 * y.1) (fun y : Nat × LH × Nat => [some (.ref x), some (.int (nI j)), some (.ref y0.1), some (.ref z), some (.int (nI y.1))]) (fun y => L.length - y.1) (fun y => y.1 ≤ L.length ∧ SBo Ω y.2.1 (coq C) y.2.2 (twH w.1 j ++ (L.take y.1).flatMap (twB w.1)) ∧ SBK (coq C) v7 G y.2.1 y.2.2) (0, G, v7) ⟨Nat.zero_le _, by rw [show (L.take (0, G, v7).1).flatMap (twB w.1) = [] from rfl, List.append_nil]; exact s8, SBK.rf⟩ ?_
  intro ⟨i, G', v'⟩ hk ih
  dsimp only at hk ih ⊢
  obtain ⟨hi, sO, kk⟩ := hk
  have hti := ht i
  have hz' := kk.lK s8 hz
  have hx' := kk.o s8 (by decide) hx8
  refine g_iload X dX1_writeSlide_70 rfl rfl ?_
  refine g_aload_n X dX1_writeSlide_72 rfl rfl ?_
  refine g_callV X (ct_J2_size hst hz') dX1_writeSlide_73 rfl (lw_V q269 q270 q271 q70 q272) hyV_J2_size (fun H hH => hL.recvL X.2.2.2.2.2.2.2.1 hH (hz')) (fun H hH => hH) ⟨Nat.le_of_ble_eq_true rfl, Nat.le_of_ble_eq_true rfl⟩ ⟨by first | exact Nat.le_of_ble_eq_true rfl | omega | (dsimp only [rmD]; omega), by first | exact Nat.le_of_ble_eq_true rfl | omega | (dsimp only [rmD]; omega)⟩ (Nat.le_of_ble_eq_true rfl) rfl (fun x_73 => ?_)
  refine g_icmp_ge (tgt := 130) X dX1_writeSlide_76 rfl (by decide) (fun c_76 => ?_) (fun c_76 => ?_)
  · rw [hlz, nI_leI (by omega) (by omega)] at c_76
    obtain rfl : i = L.length := by omega
    rw [List.take_length, ← e1] at sO
    have hfin := hC.outS sO (k8.tr s8.bb kk)
    refine g_aload_n X dX1_writeSlide_130 rfl rfl ?_
    refine l_get X dX1_writeSlide_131 rfl in_X1 (ci := 0) rfl 7 (by decide) q243 (fun _ h => h) hx' rfl ?_
    refine g_callV X (ct_J4_length hst sO) dX1_writeSlide_134 rfl (lw_V q1866 q1774 q2390 q73 q1775) hyV_J4_length (fun H hH => sO.1.elim (fun mb hb => hL.recv X.2.2.2.2.2.2.2.1 hH (hb) rfl)) (fun H hH => hH) ⟨Nat.le_of_ble_eq_true rfl, Nat.le_of_ble_eq_true rfl⟩ ⟨by first | exact Nat.le_of_ble_eq_true rfl | omega | (dsimp only [rmD]; omega), by first | exact Nat.le_of_ble_eq_true rfl | omega | (dsimp only [rmD]; omega)⟩ (Nat.le_of_ble_eq_true rfl) rfl (fun x_134 => ?_)
    refine g_iret X dX1_writeSlide_137 rfl (by first | exact Nat.le_of_ble_eq_true rfl | omega | (dsimp only [rmD]; omega)) (by first | exact Nat.le_of_ble_eq_true rfl | omega | (dsimp only [rmD]; omega)) (fun H hH => ⟨⟨(_, _), h2, hfin.1, hfin.2⟩, rfl, hH⟩)
  · rw [hlz, nI_leI (by omega) (by omega)] at c_76
    have hlt : i < L.length := by omega
    obtain ⟨k, hk⟩ : ∃ k, L[i]? = some k := ⟨L[i], List.getElem?_eq_getElem hlt⟩
    have hkn := hLm k (List.mem_of_getElem? hk)
    have hzi : (L.map (adX (ccu C).2))[i]? = some (adX (ccu C).2 k) := by rw [List.getElem?_map, hk]; rfl
    have hbo : isO G (adX (ccu C).2 k) 7 (boF w.1 k) := hS8.2.2.2.2.1.2 k _ (adX_at hS8 hkn)
    have b5 := hB.2.2.2.2.1 k hkn
    have g1 := dec_len 0 (boG w.1 k) (by omega)
    have g2 := dec_len 5 (boT w.1 k) (by omega)
    refine g_aload_n X dX1_writeSlide_79 rfl rfl ?_
    refine l_get X dX1_writeSlide_80 rfl in_X1 (ci := 0) rfl 7 (by decide) q243 (fun _ h => h) hx' rfl ?_
    refine g_bipush X dX1_writeSlide_83 rfl (v := (nI 32)) (by decide) ?_
    refine g_callV X (ct_J4_append_3 (u := 32) hst sO (by omega) (by decide)) dX1_writeSlide_85 rfl (lw_V q1851 q1852 q1853 q73 q1854) hyV_J4_append_3 (fun H hH => sO.1.elim (fun mb hb => hL.recv X.2.2.2.2.2.2.2.1 hH (hb) rfl)) (fun H hH => hH) ⟨Nat.le_of_ble_eq_true rfl, Nat.le_of_ble_eq_true rfl⟩ ⟨by first | exact Nat.le_of_ble_eq_true rfl | omega | (dsimp only [rmD]; omega), by first | exact Nat.le_of_ble_eq_true rfl | omega | (dsimp only [rmD]; omega)⟩ (Nat.le_of_ble_eq_true rfl) rfl (fun y1 => ?_)
    obtain ⟨⟨F1, p1⟩, r1, q1⟩ := y1
    dsimp only at r1 q1 ⊢
    have q1 := kk.tr sO.bb q1
    have hz1 := q1.lK s8 hz
    have hb1 := q1.o s8 (by decide) hbo
    refine g_aload_n X dX1_writeSlide_88 rfl rfl ?_
    refine g_iload X dX1_writeSlide_89 rfl rfl ?_
    refine g_callV X (ct_J2_get hst hz1 hzi (by omega)) dX1_writeSlide_91 rfl (lw_V q320 q295 q296 q70 q297) hyV_J2_get (fun H hH => hL.recvL X.2.2.2.2.2.2.2.1 hH (hz1)) (fun H hH => hH) ⟨Nat.le_of_ble_eq_true rfl, Nat.le_of_ble_eq_true rfl⟩ ⟨by first | exact Nat.le_of_ble_eq_true rfl | omega | (dsimp only [rmD]; omega), by first | exact Nat.le_of_ble_eq_true rfl | omega | (dsimp only [rmD]; omega)⟩ (Nat.le_of_ble_eq_true rfl) rfl (fun x_91 => ?_)
    refine g_cast X dX1_writeSlide_94 rfl q1865 (fun H hH => hL.recv X.2.2.2.2.2.2.2.1 hH (hb1) rfl) ?_
    refine l_getN X dX1_writeSlide_97 rfl in_X8 (ci := 7) rfl 0 (by decide) "SlidePark" q970 (fun _ h => h) hb1 rfl ?_
    refine g_callV X (ct_J4_append_2 hst r1 (by simp only [List.length_append, List.length_singleton] at hti ⊢; omega) (by omega)) dX1_writeSlide_100 rfl (lw_V q1850 q1729 q1730 q73 q1731) hyV_J4_append_2 (fun H hH => r1.1.elim (fun mb hb => hL.recv X.2.2.2.2.2.2.2.1 hH (hb) rfl)) (fun H hH => hH) ⟨Nat.le_of_ble_eq_true rfl, Nat.le_of_ble_eq_true rfl⟩ ⟨by first | exact Nat.le_of_ble_eq_true rfl | omega | (dsimp only [rmD]; omega), by first | exact Nat.le_of_ble_eq_true rfl | omega | (dsimp only [rmD]; omega)⟩ (Nat.le_of_ble_eq_true rfl) rfl (fun y1 => ?_)
    obtain ⟨⟨F2, p2⟩, r2, q2⟩ := y1
    dsimp only at r2 q2 ⊢
    have q2 := q1.tr r1.bb q2
    refine g_bipush X dX1_writeSlide_103 rfl (v := (nI 64)) (by decide) ?_
    refine g_callV X (ct_J4_append_3 (u := 64) hst r2 (by simp only [List.length_append, List.length_singleton] at hti ⊢; omega) (by decide)) dX1_writeSlide_105 rfl (lw_V q1851 q1852 q1853 q73 q1854) hyV_J4_append_3 (fun H hH => r2.1.elim (fun mb hb => hL.recv X.2.2.2.2.2.2.2.1 hH (hb) rfl)) (fun H hH => hH) ⟨Nat.le_of_ble_eq_true rfl, Nat.le_of_ble_eq_true rfl⟩ ⟨by first | exact Nat.le_of_ble_eq_true rfl | omega | (dsimp only [rmD]; omega), by first | exact Nat.le_of_ble_eq_true rfl | omega | (dsimp only [rmD]; omega)⟩ (Nat.le_of_ble_eq_true rfl) rfl (fun y1 => ?_)
    obtain ⟨⟨F3, p3⟩, r3, q3⟩ := y1
    dsimp only at r3 q3 ⊢
    have q3 := q2.tr r2.bb q3
    have hz3 := q3.lK s8 hz
    have hb3 := q3.o s8 (by decide) hbo
    refine g_aload_n X dX1_writeSlide_108 rfl rfl ?_
    refine g_iload X dX1_writeSlide_109 rfl rfl ?_
    refine g_callV X (ct_J2_get hst hz3 hzi (by omega)) dX1_writeSlide_111 rfl (lw_V q320 q295 q296 q70 q297) hyV_J2_get (fun H hH => hL.recvL X.2.2.2.2.2.2.2.1 hH (hz3)) (fun H hH => hH) ⟨Nat.le_of_ble_eq_true rfl, Nat.le_of_ble_eq_true rfl⟩ ⟨by first | exact Nat.le_of_ble_eq_true rfl | omega | (dsimp only [rmD]; omega), by first | exact Nat.le_of_ble_eq_true rfl | omega | (dsimp only [rmD]; omega)⟩ (Nat.le_of_ble_eq_true rfl) rfl (fun x_111 => ?_)
    refine g_cast X dX1_writeSlide_114 rfl q1865 (fun H hH => hL.recv X.2.2.2.2.2.2.2.1 hH (hb3) rfl) ?_
    refine l_getN X dX1_writeSlide_117 rfl in_X8 (ci := 7) rfl 2 (by decide) "SlidePark" q976 (fun _ h => h) hb3 rfl ?_
    refine g_callV X (ct_J4_append_2 hst r3 (by simp only [List.length_append, List.length_singleton] at hti ⊢; omega) (by omega)) dX1_writeSlide_120 rfl (lw_V q1850 q1729 q1730 q73 q1731) hyV_J4_append_2 (fun H hH => r3.1.elim (fun mb hb => hL.recv X.2.2.2.2.2.2.2.1 hH (hb) rfl)) (fun H hH => hH) ⟨Nat.le_of_ble_eq_true rfl, Nat.le_of_ble_eq_true rfl⟩ ⟨by first | exact Nat.le_of_ble_eq_true rfl | omega | (dsimp only [rmD]; omega), by first | exact Nat.le_of_ble_eq_true rfl | omega | (dsimp only [rmD]; omega)⟩ (Nat.le_of_ble_eq_true rfl) rfl (fun y1 => ?_)
    obtain ⟨⟨F4, p4⟩, r4, q4⟩ := y1
    dsimp only at r4 q4 ⊢
    have q4 := q3.tr r3.bb q4
    refine g_pop X dX1_writeSlide_123 rfl rfl ?_
    refine g_iinc X dX1_writeSlide_124 rfl rfl (by first | exact nI_1 _ | rfl) (by decide) rfl rfl ?_
    refine g_goto (tgt := 70) X dX1_writeSlide_127 rfl (by decide) ?_
    refine GJ.loc [some (.ref x), some (.int (nI j)), some (.ref y0.1), some (.ref z), some (.int (nI (i + 1)))] (lvle_c rfl (lvle_c rfl (lvle_c rfl (lvle_c rfl (lvle_c rfl lvle_e))))) ?_
    have et : twH w.1 j ++ (L.take (i + 1)).flatMap (twB w.1) = twH w.1 j ++ (L.take i).flatMap (twB w.1) ++ [32] ++ dec (boG w.1 k) ++ [64] ++ dec (boT w.1 k) := by
      rw [← tak_s hk, List.flatMap_append]
      show _ ++ (_ ++ (twB w.1 k ++ [])) = _
      unfold twB
      simp only [List.append_assoc, List.append_nil]
    refine GJ.wide (k' := 33 + 4 * (i + 1)) (n' := 6470 + 3208 * (i + 1)) (by omega) (by omega) ?_
    exact ih (i + 1, F4, p4) ⟨by dsimp only; omega, by dsimp only; rw [et]; exact r4, q4⟩ (by dsimp only; omega)
theorem ct_X1_outputChar (hst : l.stackTraces = false) (hC : CR Ω Γ x C w t) {u : Int32} : CM Ω l yX1_outputChar (ws_ yX1_outputChar cX1_outputChar 2 (some .char)) 12 1 6 [.ref x, .int u] (hL Ω Γ) (QV (fun _ : {y : Unit // 0 ≤ u ∧ u ≤ nI t.1.length - 1} => some (.int (nI (t.1.getD (iN u) 0)))) (fun _ => hL Ω Γ)) (xE "java/lang/IndexOutOfBoundsException" (¬ (0 ≤ u ∧ u ≤ nI t.1.length - 1)) (hL Ω Γ)) := by
  have hx := hC.1
  have hO := hC.2.2.2.2.1
  have tb : ∀ k, k < t.1.length → t.1.getD k 0 < 128 := hO.2.elim (fun cap g => g.elim (fun f hf k hk => (hf.2.2.2.2.2 k hk).2))
  have tl : t.1.length ≤ 1000 := hO.2.elim (fun cap g => g.elim (fun f hf => Nat.le_trans hf.2.1 hf.2.2.2.1))
  refine CM.of (L := [some (.ref x), some (.int u)]) hst (by decide) (Nat.le_of_ble_eq_true rfl) rfl ?_
  intro p e s m below meth c X hnm htab
  refine g_iload_n X dX1_outputChar_0 rfl rfl ?_
  refine g_iconst X dX1_outputChar_1 rfl (v := (nI 0)) rfl ?_
  refine g_aload_n X dX1_outputChar_2 rfl rfl ?_
  refine l_get X dX1_outputChar_3 rfl in_X1 (ci := 0) rfl 7 (by decide) q243 (fun _ h => h) hx rfl ?_
  refine g_callV X (ct_J4_length hst hO) dX1_outputChar_6 rfl (lw_V q1866 q1774 q2390 q73 q1775) hyV_J4_length (fun H hH => hO.1.elim (fun mb hb => hL.recv X.2.2.2.2.2.2.2.1 hH (hb) rfl)) (fun H hH => hH) ⟨Nat.le_of_ble_eq_true rfl, Nat.le_of_ble_eq_true rfl⟩ ⟨by first | exact Nat.le_of_ble_eq_true rfl | omega | (dsimp only [rmD]; omega), by first | exact Nat.le_of_ble_eq_true rfl | omega | (dsimp only [rmD]; omega)⟩ (Nat.le_of_ble_eq_true rfl) rfl (fun x_6 => ?_)
  refine g_iconst X dX1_outputChar_9 rfl (v := (nI 1)) rfl ?_
  refine g_isub X dX1_outputChar_10 rfl (rfl : nI t.1.length - 1 = nI t.1.length - 1) ?_
  refine g_callS X (ct_X1_isBetween hst) dX1_outputChar_11 rfl (lw_S q894 q446 q66 q447) hyS_X1_isBetween (fun H hH => hH) ⟨Nat.le_of_ble_eq_true rfl, Nat.le_of_ble_eq_true rfl⟩ ⟨by first | exact Nat.le_of_ble_eq_true rfl | omega | (dsimp only [rmD]; omega), by first | exact Nat.le_of_ble_eq_true rfl | omega | (dsimp only [rmD]; omega)⟩ (Nat.le_of_ble_eq_true rfl) rfl (fun x_11 => ?_)
  refine g_callSx X (ct_X1_requireIndex hst) dX1_outputChar_14 rfl (lw_S q895 q896 q66 q897) hyS_X1_requireIndex (fun H hH => hH) ⟨Nat.le_of_ble_eq_true rfl, Nat.le_of_ble_eq_true rfl⟩ ⟨by first | exact Nat.le_of_ble_eq_true rfl | omega | (dsimp only [rmD]; omega), by first | exact Nat.le_of_ble_eq_true rfl | omega | (dsimp only [rmD]; omega)⟩ (Nat.le_of_ble_eq_true rfl) rfl (fun E q => GX.pass X htab (by first | exact Nat.le_of_ble_eq_true rfl | omega) (by first | exact Nat.le_of_ble_eq_true rfl | omega) (fun H h => h)) (fun x0 => ?_)
  obtain ⟨h1⟩ := x0
  have h1 : 0 ≤ u ∧ u ≤ nI t.1.length - 1 := h1
  obtain ⟨i, hi, rfl⟩ := (ixI (by omega)).mp h1
  rw [iN_nI (by omega)]
  have t2 := tb i hi
  refine g_aload_n X dX1_outputChar_17 rfl rfl ?_
  refine l_get X dX1_outputChar_18 rfl in_X1 (ci := 0) rfl 7 (by decide) q243 (fun _ h => h) hx rfl ?_
  refine g_iload_n X dX1_outputChar_21 rfl rfl ?_
  refine g_callV X (ct_J4_charAt hst hO hi t2) dX1_outputChar_22 rfl (lw_V q1874 q1875 q1876 q73 q1877) hyV_J4_charAt (fun H hH => hO.1.elim (fun mb hb => hL.recv X.2.2.2.2.2.2.2.1 hH (hb) rfl)) (fun H hH => hH) ⟨Nat.le_of_ble_eq_true rfl, Nat.le_of_ble_eq_true rfl⟩ ⟨by first | exact Nat.le_of_ble_eq_true rfl | omega | (dsimp only [rmD]; omega), by first | exact Nat.le_of_ble_eq_true rfl | omega | (dsimp only [rmD]; omega)⟩ (Nat.le_of_ble_eq_true rfl) rfl (fun x_22 => ?_)
  refine g_zret X dX1_outputChar_25 rfl (pk_charN (by omega)).1 (by first | exact Nat.le_of_ble_eq_true rfl | omega | (dsimp only [rmD]; omega)) (by first | exact Nat.le_of_ble_eq_true rfl | omega | (dsimp only [rmD]; omega)) (fun H hH => ⟨⟨(), h1⟩, rfl, hH⟩)
theorem ct_X1_init (hst : l.stackTraces = false) (hx : isO Γ x 0 [.null, .null, .null, .null, .int 0, .int 0, .int 0, .null]) : CM Ω l yX1_init (ws_ yX1_init cX1_init 1 none) 14 11 110 [.ref x] (hL Ω Γ) (QV (fun _ : {y : LH × CT // CR Ω y.1 x y.2 (st0, [], none) ([], [], -1, -1) ∧ ∀ q u, Γ q = some u → q ≠ x → y.1 q = some u ∧ q ≠ chl y.2 ∧ q ≠ ciq y.2 ∧ q ≠ coq y.2 ∧ q ≠ cbq y.2} => none) (fun y => hL Ω y.1.1)) nX := by
  refine CM.of (L := [some (.ref x)]) hst (by decide) (Nat.le_of_ble_eq_true rfl) rfl ?_
  intro p e s m below meth c X hnm htab
  refine g_aload_n X dX1_init_0 rfl rfl ?_
  refine g_objInit X dX1_init_1 rfl q111 (Nat.le_of_ble_eq_true rfl) (Nat.le_of_ble_eq_true rfl) ?_
  refine g_aload_n X dX1_init_4 rfl rfl ?_
  refine l_new X dX1_init_5 rfl (fs := [.null, .null, .null, .null, .int 0, .int 0, .int 0, .int 0]) in_X2 tyX2_ok q114 q115 q67 (ci := 1) rfl (by decide) (by first | exact Nat.le_of_ble_eq_true rfl | omega | (dsimp only [rmD]; omega)) (by first | exact Nat.le_of_ble_eq_true rfl | omega | (dsimp only [rmD]; omega)) (fun a na => ?_)
  refine g_dup X dX1_init_8 rfl rfl ?_
  refine g_callIN X "SlidePark" (ct_X2_init (Γ0 := Γ) hst (hu_s _ _ _) (Ex.new na) na) dX1_init_9 rfl q118 q67 q116 q117 rfl hyS_X2_init (fun H hH => hH) ⟨Nat.le_of_ble_eq_true rfl, Nat.le_of_ble_eq_true rfl⟩ ⟨by first | exact Nat.le_of_ble_eq_true rfl | omega | (dsimp only [rmD]; omega), by first | exact Nat.le_of_ble_eq_true rfl | omega | (dsimp only [rmD]; omega)⟩ (Nat.le_of_ble_eq_true rfl) rfl (fun y1 => ?_)
  obtain ⟨⟨G1, A⟩, E1, S1⟩ := y1
  dsimp only at E1 S1 ⊢
  have x1 := E1 _ _ hx
  have ax := neN hx na
  refine l_put X dX1_init_12 rfl in_X1 tyX1_ok nmX1 (ci := 0) rfl 0 (by decide) q233 (fun _ h => h) rfl rfl rfl rfl x1 (Nat.le_of_ble_eq_true rfl) rfl ?_
  generalize hG : hu G1 x _ = G2
  have x2 : isO G2 x 0 [.ref a, .null, .null, .null, .int 0, .int 0, .int 0, .null] := by rw [← hG]; exact hu_s _ _ _
  have S2 : SR Ω Γ G2 a A st0 := by rw [← hG]; exact S1.monoK (kpL_O x1) (fun ci hci => kpO_O x1 (by omega))
  have K2 : ∀ q u, Γ q = some u → q ≠ x → G2 q = some u := fun q u hq hn => by rw [← hG]; exact (hu_n hn).trans (E1 _ _ hq)
  clear hG
  refine g_aload_n X dX1_init_15 rfl rfl ?_
  refine l_new X dX1_init_16 rfl (fs := [.null, .int 0]) in_X3 tyX3_ok q197 q150 q71 (ci := 2) rfl (by decide) (by first | exact Nat.le_of_ble_eq_true rfl | omega | (dsimp only [rmD]; omega)) (by first | exact Nat.le_of_ble_eq_true rfl | omega | (dsimp only [rmD]; omega)) (fun hq nh => ?_)
  refine g_dup X dX1_init_19 rfl rfl ?_
  refine g_bipush X dX1_init_20 rfl (v := (nI 8)) (by decide) ?_
  refine g_callI X (ct_X3_init hst (hu_s _ _ _)) dX1_init_22 rfl q153 q71 q198 q152 rfl hyS_X3_init (fun H hH => hH) ⟨Nat.le_of_ble_eq_true rfl, Nat.le_of_ble_eq_true rfl⟩ ⟨by first | exact Nat.le_of_ble_eq_true rfl | omega | (dsimp only [rmD]; omega), by first | exact Nat.le_of_ble_eq_true rfl | omega | (dsimp only [rmD]; omega)⟩ (Nat.le_of_ble_eq_true rfl) rfl (fun y1 => ?_)
  obtain ⟨hl, nl⟩ := y1
  dsimp only
  have nl2 : G2 hl = none := by
    by_cases g : hl = hq
    · rw [g, hu_s] at nl; simp at nl
    · rw [hu_n g] at nl; exact nl
  have hql : hq ≠ hl := fun g => by rw [← g, hu_s] at nl; simp at nl
  have xh := neN x2 nh
  have xl := neN x2 nl2
  refine l_putF X hnm dX1_init_25 rfl in_X1 tyX1_ok nmX1 (ci := 0) rfl 1 (by decide) q234 (fun _ h => h) rfl rfl rfl rfl rfl ((hu_n xh).trans ((hu_n xl).trans ((hu_n xh).trans x2))) (Nat.le_of_ble_eq_true rfl) rfl ?_
  generalize hG : hu (hu (hu (hu G2 hq _) hl _) hq _) x _ = G3
  have x3 : isO G3 x 0 [.ref a, .ref hq, .null, .null, .int 0, .int 0, .int 0, .null] := by rw [← hG]; exact hu_s _ _ _
  have K3 : ∀ q u, G2 q = some u → q ≠ x → G3 q = some u := fun q u hq' hn => by rw [← hG]; exact (hu_n hn).trans ((hu_n (neN hq' nh)).trans ((hu_n (neN hq' nl2)).trans ((hu_n (neN hq' nh)).trans hq')))
  have h3 : isO G3 hq 2 [.ref hl, .int (nI 8)] := by rw [← hG]; exact (hu_n (fun g => xh g.symm)).trans (hu_s _ _ _)
  have l3 : G3 hl = some (.inr ([], 0)) := by rw [← hG]; exact (hu_n (fun g => xl g.symm)).trans ((hu_n (fun g => hql g.symm)).trans (hu_s _ _ _))
  have S3 : SR Ω (hlB hl) G3 a A st0 := (S2.base2 (fun q u hq' => hlB_n (fun g => by rw [g, nl2] at hq'; simp at hq'))).monoK (fun q u hq' => K3 q _ hq' (neLO hq' x2)) (fun ci hci q fs hq' => K3 q _ hq' (neOO hq' x2 (by omega)))
  clear hG
  refine g_aload_n X dX1_init_28 rfl rfl ?_
  refine g_bipush X dX1_init_29 rfl (v := (nI 60)) (by decide) ?_
  refine l_newa_char X dX1_init_31 rfl (by decide) (show (nI 60).toNatClampNeg = 60 by decide) (by decide) (by first | exact Nat.le_of_ble_eq_true rfl | omega | (dsimp only [rmD]; omega)) (by first | exact Nat.le_of_ble_eq_true rfl | omega | (dsimp only [rmD]; omega)) (fun iq ni => ?_)
  have xi := neN x3 ni
  refine l_putF X hnm dX1_init_33 rfl in_X1 tyX1_ok nmX1 (ci := 0) rfl 3 (by decide) q236 (fun _ h => h) rfl rfl rfl rfl rfl ((hu_n xi).trans x3) (Nat.le_of_ble_eq_true rfl) rfl ?_
  generalize hG : hu (hu G3 iq _) x _ = G4
  have x4 : isO G4 x 0 [.ref a, .ref hq, .null, .ref iq, .int 0, .int 0, .int 0, .null] := by rw [← hG]; exact hu_s _ _ _
  have K4 : ∀ q u, G3 q = some u → q ≠ x → G4 q = some u := fun q u hq' hn => by rw [← hG]; exact (hu_n hn).trans ((hu_n (neN hq' ni)).trans hq')
  have i4 : G4 iq = some (.inl (cI Ω 1 60 (fun _ => 0))) := by rw [← hG]; exact (hu_n (fun g => xi g.symm)).trans (hu_s _ _ _)
  clear hG
  refine g_aload_n X dX1_init_36 rfl rfl ?_
  refine g_iconst X dX1_init_37 rfl (v := (-1)) rfl ?_
  refine l_put X dX1_init_38 rfl in_X1 tyX1_ok nmX1 (ci := 0) rfl 5 (by decide) q240 (fun _ h => h) rfl rfl rfl rfl x4 (Nat.le_of_ble_eq_true rfl) rfl ?_
  generalize hG : hu G4 x _ = G5
  have x5 : isO G5 x 0 [.ref a, .ref hq, .null, .ref iq, .int 0, .int (-1), .int 0, .null] := by rw [← hG]; exact hu_s _ _ _
  have K5 : ∀ q u, G4 q = some u → q ≠ x → G5 q = some u := fun q u hq' hn => by rw [← hG]; exact (hu_n hn).trans hq'
  clear hG
  refine g_aload_n X dX1_init_41 rfl rfl ?_
  refine g_iconst X dX1_init_42 rfl (v := (-1)) rfl ?_
  refine l_put X dX1_init_43 rfl in_X1 tyX1_ok nmX1 (ci := 0) rfl 6 (by decide) q241 (fun _ h => h) rfl rfl rfl rfl x5 (Nat.le_of_ble_eq_true rfl) rfl ?_
  generalize hG : hu G5 x _ = G6
  have x6 : isO G6 x 0 [.ref a, .ref hq, .null, .ref iq, .int 0, .int (-1), .int (-1), .null] := by rw [← hG]; exact hu_s _ _ _
  have K6 : ∀ q u, G5 q = some u → q ≠ x → G6 q = some u := fun q u hq' hn => by rw [← hG]; exact (hu_n hn).trans hq'
  clear hG
  refine g_aload_n X dX1_init_46 rfl rfl ?_
  refine l_new X dX1_init_47 rfl (fs := [.null, .int 0, .int 0, .int 0]) in_J4 tyJ4_ok q199 q200 q73 (ci := 13) rfl (by decide) (by first | exact Nat.le_of_ble_eq_true rfl | omega | (dsimp only [rmD]; omega)) (by first | exact Nat.le_of_ble_eq_true rfl | omega | (dsimp only [rmD]; omega)) (fun oq no => ?_)
  refine g_dup X dX1_init_50 rfl rfl ?_
  refine g_callI X (ct_J4_init hst (hu_s _ _ _)) dX1_init_51 rfl q203 q73 q201 q202 rfl hyS_J4_init (fun H hH => hH) ⟨Nat.le_of_ble_eq_true rfl, Nat.le_of_ble_eq_true rfl⟩ ⟨by first | exact Nat.le_of_ble_eq_true rfl | omega | (dsimp only [rmD]; omega), by first | exact Nat.le_of_ble_eq_true rfl | omega | (dsimp only [rmD]; omega)⟩ (Nat.le_of_ble_eq_true rfl) rfl (fun y1 => ?_)
  obtain ⟨⟨G7, v⟩, s7, k7, n7⟩ := y1
  dsimp only at s7 k7 n7 ⊢
  have K7 : ∀ q u, G6 q = some u → G7 q = some u := fun q u hq' => k7 q u ((hu_n (neN hq' no)).trans hq') (neN hq' no)
  have x7 := K7 _ _ x6
  refine l_putF X hnm dX1_init_54 rfl in_X1 tyX1_ok nmX1 (ci := 0) rfl 7 (by decide) q243 (fun _ h => h) rfl rfl rfl rfl rfl x7 (Nat.le_of_ble_eq_true rfl) rfl ?_
  refine g_vret X dX1_init_57 rfl (by first | exact Nat.le_of_ble_eq_true rfl | omega | (dsimp only [rmD]; omega)) (by first | exact Nat.le_of_ble_eq_true rfl | omega | (dsimp only [rmD]; omega)) (fun H hH => ?_)
  have ix : iq ≠ x := fun g => xi g.symm
  have lx : hl ≠ x := fun g => xl g.symm
  have hx' : hq ≠ x := fun g => xh g.symm
  have KG : ∀ q u, G3 q = some u → q ≠ x → G7 q = some u := fun q u hq' hn => K7 q u (K6 q u (K5 q u (K4 q u hq' hn) hn) hn)
  have i7 := K7 _ _ (K6 _ _ (K5 _ _ i4 ix) ix)
  have o7 : oq ≠ x := fun g => by rw [← g] at x6; rw [isO, no] at x6; simp at x6
  obtain ⟨⟨mb, hb⟩, cap, f, hv, tb⟩ := s7
  have vx : v ≠ x := neV hv x7 (by simp)
  have vo : v ≠ oq := neV hv hb (by simp)
  have n6 : ∀ q u, G6 q = some u → q ≠ v := fun q u hq' g => by
    have := (hu_n (e := .inl (.inr (13, [.null, .int 0, .int 0, .int 0]))) (neN hq' no)).trans hq'
    rw [g, n7] at this
    simp at this
  have hio : iq ≠ v := n6 _ _ (K6 _ _ (K5 _ _ i4 ix) ix)
  refine ⟨⟨(_, ((hq, hl, iq, oq, v), (a, A), [], none)), ⟨hu_s _ _ _, ⟨(hu_n hx').trans (KG _ _ h3 hx'), 0, (hu_n lx).trans (KG _ _ l3 lx)⟩, ⟨?_, ⟨rfl, fun i z hz => absurd (show (none : Option (Nat × Ad)) = some z from hz) (by simp)⟩, fun z hz => absurd (show (none : Option (Nat × Ad)) = some z from hz) (by simp), fun _ => rfl⟩, ⟨Nat.zero_le _, fun _ => 0, (hu_n ix).trans i7, fun k hk => absurd hk (Nat.not_lt_zero _)⟩, ⟨⟨mb, (hu_n o7).trans hb⟩, cap, f, (hu_n vx).trans hv, tb⟩, hio⟩, fun q u hq' hn => ⟨(hu_n hn).trans (KG q u (K3 q u (K2 q u hq' hn) hn) hn), ?_⟩⟩, rfl, hH⟩
  · exact S3.monoK (fun q u hq' => (hu_n (neLO hq' x3)).trans (KG q _ hq' (neLO hq' x3))) (fun ci hci q fs hq' => (hu_n (neOO hq' x3 (by omega))).trans (KG q _ hq' (neOO hq' x3 (by omega))))
  · have q2 := K2 q u hq' hn
    have q3 := K3 q u q2 hn
    have q6 := K6 q u (K5 q u (K4 q u q3 hn) hn) hn
    exact ⟨neN q2 nl2, neN q3 ni, neN q6 no, n6 _ _ q6⟩
end WS
