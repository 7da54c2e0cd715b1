/-! SLIDEPARK: runCommands -/
def nmRu (c : Nat) : String := if c = 1 then "java/lang/IllegalArgumentException" else "java/lang/UnsupportedOperationException"
section RC
variable {l : Launch} {Ω : Om} {Γ : LH} {x : Nat} {C : CT} {w : Wl} {t : Tx} {R M : Nat}
set_option maxRecDepth 100000
set_option maxHeartbeats 1000000
theorem CR4.nil {G : LH} {inp : List Nat} (h : CR4 Ω G C inp) : CR4 Ω G C [] := ⟨Nat.zero_le _, h.2.elim (fun f hf => ⟨f, hf.1, fun k hk => absurd hk (Nat.not_lt_zero _)⟩)⟩
theorem CR.put {G : LH} {t1 : Tx} (h : CR Ω G x C w t) (hi : CR4 Ω G C t1.2.1) (ho : t1.1 = t.1) : CR Ω (hu G x (.inl (.inr (0, CX C t1)))) x C w t1 := h.setX (C' := C) (w' := w) rfl rfl h.2.2.1 hi ho
theorem KX.up {G : LH} {e : LE} (h : KX x C Γ G) : KX x C Γ (hu G x e) := fun q u hq n1 n2 n3 n4 n5 => (hu_n n1).trans (h q u hq n1 n2 n3 n4 n5)
theorem KX.nx {G G' : LH} (h : KX x C Γ G) (hE : Ex G G') : KX x C Γ G' := fun q u hq n1 n2 n3 n4 n5 => hE _ _ (h q u hq n1 n2 n3 n4 n5)
noncomputable abbrev RUt (w : Wl) (t : Tx) : Res × Int32 × Int32 := aRun w t.2.1 t.2.2.1 t.2.2.2
abbrev RUo (Ω : Om) (Γ : LH) (x : Nat) (C : CT) (w : Wl) (t : Tx) : Option Value → Heap → Prop := QV (fun y : {y : LH × CT × Nat × St // (RUt w t).1 = .inr y.2.2 ∧ CR Ω y.1 x y.2.1 (wR w (RUt w t).1) (t.1, [], (RUt w t).2) ∧ KX x C Γ y.1 ∧ y.2.1.1 = C.1} => some (.int (nI y.1.2.2.1))) (fun y => hL Ω y.1.1)
abbrev RUx (Ω : Om) (Γ : LH) (x : Nat) (C : CT) (w : Wl) (t : Tx) : String → Nat → Heap → Prop := fun E _ H => ∃ c, (RUt w t).1 = .inl c ∧ E = nmRu c ∧ ∃ G, CR Ω G x C w (t.1, [], (RUt w t).2) ∧ KX x C Γ G ∧ hL Ω G H
theorem ct_X1_runCommands (hst : l.stackTraces = false) (hC : CR Ω Γ x C w t) (hW : WA R M w) (hDJ : DJ w.1) (hm : M + 900 ≤ 100000) (hr : R + 9360 ≤ 2000000) : CM Ω l yX1_runCommands (wsW_ yX1_runCommands cX1_runCommands 5 (some .int) [((0 : Nat), (41 : Nat), (48 : Nat), (301 : Nat)), ((0 : Nat), (41 : Nat), (65 : Nat), (0 : Nat)), ((48 : Nat), (67 : Nat), (65 : Nat), (0 : Nat))]) 44 (387 * (t.2.1.length + 1) + 310) (12933 * (t.2.1.length + 1) + 5600) [.ref x] (hL Ω Γ) (RUo Ω Γ x C w t) (RUx Ω Γ x C w t) := by
  have hB := hW.1.1.bd (by have := hW.1.2; omega) (by omega)
  have b1 := hB.1
  have hx := hC.1
  have hS := hC.2.2.1.1
  obtain ⟨mp, hmp⟩ := hC.2.1.2
  obtain ⟨f, hf, hf2⟩ := hC.2.2.2.1.2
  refine CM.ofH (L := [some (.ref x), none, none, none, none]) hst (by decide) (Nat.le_of_ble_eq_true rfl) rfl ?_
  intro p e s m below meth c X hnm htab
  have tail : ∀ {E : String} {q : Nat} {G1 : LH} {k n : Nat} {t1 : Tx} {c9 : Nat}, CR Ω G1 x C w t1 → KX x C Γ G1 → "SlidePark" ≠ E → E = nmRu c9 → (RUt w t).1 = .inl c9 → t1.1 = t.1 → t1.2.2 = (RUt w t).2 → k ≤ 387 * (t.2.1.length + 1) + 310 → n ≤ 12933 * (t.2.1.length + 1) + 5600 → GJ Ω p l e (rmD 44 (387 * (t.2.1.length + 1) + 310) (12933 * (t.2.1.length + 1) + 5600)) s m [.ref x].toArray below meth c 5 (MM Ω below (RUo Ω Γ x C w t) (RUx Ω Γ x C w t) [.ref x].toArray s (387 * (t.2.1.length + 1) + 310) (12933 * (t.2.1.length + 1) + 5600)) (fun H => hL Ω G1 H ∧ OX s E q H) k n 65 [some (.ref x), none, none, none, none] [.ref q] := by
    intro E q G1 k n t1 c9 hC1 hK1 hne hE hR h1 h2 hk hn
    refine g_astore X dX1_runCommands_65 rfl (by decide) rfl rfl ?_
    refine g_aload_n X dX1_runCommands_67 rfl rfl ?_
    refine g_iconst X dX1_runCommands_68 rfl (v := (nI 0)) rfl ?_
    refine l_putE X (E := E) (q := q) hne dX1_runCommands_69 rfl in_X1 tyX1_ok nmX1 (ci := 0) rfl 4 (by decide) q239 (fun _ h => h) rfl rfl rfl rfl hC1.1 (Nat.le_of_ble_eq_true rfl) ?_
    refine g_aload X dX1_runCommands_72 rfl rfl ?_
    refine g_athrow X dX1_runCommands_74 rfl (fun H hH => hH.2) ?_
    refine GX.out X (tab_all (P := fun z => covers z 74 = false) htab (by decide)) hk hn (fun H hH => ⟨c9, hR, hE, _, ?_, hK1.up, hH.1⟩)
    have := hC1.put (t1 := (t1.1, [], t1.2.2)) hC1.2.2.2.1.nil rfl
    rw [h1, h2] at this
    rw [← h2, ← h1]
    rw [← h2, ← h1] at this
    exact this
  refine l_new X dX1_runCommands_0 rfl (fs := [.int 0, .int 0, .int 0, .int 0, .null]) in_X10 tyX10_ok q1459 q1460 q103 (ci := 9) rfl (by decide) (by dsimp only [rmD]; omega) (by dsimp only [rmD]; omega) (fun p1 n1 => ?_)
  refine g_dup X dX1_runCommands_3 rfl rfl ?_
  refine g_aload_n X dX1_runCommands_4 rfl rfl ?_
  refine g_callIN X "SlidePark" (ct_X10_init hst (hu_s _ _ _)) dX1_runCommands_5 rfl q1463 q103 q1461 q1462 rfl hyS_X10_init (fun H hH => hH) ⟨Nat.le_of_ble_eq_true rfl, Nat.le_of_ble_eq_true rfl⟩ ⟨by first | exact Nat.le_of_ble_eq_true rfl | omega | (dsimp only [rmD]; omega), by first | exact Nat.le_of_ble_eq_true rfl | omega | (dsimp only [rmD]; omega)⟩ (Nat.le_of_ble_eq_true rfl) rfl (fun x_5 => ?_)
  rw [show PH (hu Γ p1 (.inl (.inr (9, [.int 0, .int 0, .int 0, .int 0, .null])))) p1 x 0 (0, 0, 0) = PH Γ p1 x 0 (0, 0, 0) from hu_hu]
  have hP1 : PI Ω Γ p1 x C t := ⟨hx, neN hx n1, neN hf n1, hC.2.2.2.1⟩
  refine g_null X dX1_runCommands_8 rfl ?_
  refine g_callVx X (ct_X10_commands_n hst hP1) dX1_runCommands_9 rfl (lw_V q1481 q1482 q1483 q103 q1484) hyV_X10_commands (fun H hH => hL.recv X.2.2.2.2.2.2.2.1 hH (PH_s) rfl) (fun H hH => hH) ⟨Nat.le_of_ble_eq_true rfl, Nat.le_of_ble_eq_true rfl⟩ ⟨by dsimp only [rmD]; omega, by dsimp only [rmD]; omega⟩ (Nat.le_of_ble_eq_true rfl) rfl ?_ (fun y1 => ?_)
  · intro E q
    refine GX.and (fun hE => GX.and (fun hbad => GX.ex (fun o => GX.and (fun nq => ?_))))
    subst hE
    have hRU := aRun_w (w := w) (er := t.2.2.1) (fa := t.2.2.2) (inp := t.2.1) rfl hbad
    generalize (rdA t.2.1).1.1 = pos at hRU nq ⊢
    refine GX.catch X [] ⟨0, 41, 48, 301⟩ [⟨0, 41, 65, 0⟩, ⟨48, 67, 65, 0⟩] (htab.trans rfl) (fun z hz => absurd hz (by simp)) (by decide) (by decide) q1458 q1564 ?_
    have E1 : Ex Γ (hu (PH Γ p1 x pos o) q (.inl (.inr (10, mlF pos)))) := (Ex.new n1).tr (Ex.new nq)
    have hm1 : isO (hu (PH Γ p1 x pos o) q (.inl (.inr (10, mlF pos)))) q 10 (mlF pos) := hu_s _ _ _
    generalize hu (PH Γ p1 x pos o) q (.inl (.inr (10, mlF pos))) = G1 at E1 hm1 ⊢
    refine g_astore_n X dX1_runCommands_48 rfl (by decide) rfl rfl ?_
    refine g_aload_n X dX1_runCommands_49 rfl rfl ?_
    refine g_aload_n X dX1_runCommands_50 rfl rfl ?_
    refine l_getN X dX1_runCommands_51 rfl in_X11 (ci := 10) rfl 6 (by decide) "SlidePark" q1581 (fun _ h => h) hm1 rfl ?_
    refine l_put X dX1_runCommands_54 rfl in_X1 tyX1_ok nmX1 (ci := 0) rfl 5 (by decide) q240 (fun _ h => h) rfl rfl rfl rfl (E1 _ _ hx) (Nat.le_of_ble_eq_true rfl) rfl ?_
    have hC1 : CR Ω (hu G1 x (.inl (.inr (0, CX C (t.1, t.2.1, nI pos, t.2.2.2))))) x C w (t.1, t.2.1, nI pos, t.2.2.2) := (hC.ex E1).put (hC.ex E1).2.2.2.1 rfl
    have hK1 : KX x C Γ (hu G1 x (.inl (.inr (0, CX C (t.1, t.2.1, nI pos, t.2.2.2))))) := (KX.ex E1).up
    refine l_make0 X (names := ["java/lang/RuntimeException", "java/lang/Exception"]) dX1_runCommands_57 rfl dX1_runCommands_60 dX1_runCommands_61 (by decide) (by decide) q776 q89 at0_X1_runCommands (Nat.le_of_ble_eq_true rfl) (Nat.le_of_ble_eq_true rfl) (by dsimp only [rmD]; omega) (by dsimp only [rmD]; omega) (fun q2 n2 => ?_)
    refine g_athrow X dX1_runCommands_64 rfl (fun H hH => hL.recvN X.2.2.2.2.2.2.2.1 hH (hu_s _ _ _) rfl) ?_
    refine GX.catchAnyX X [⟨0, 41, 48, 301⟩, ⟨0, 41, 65, 0⟩] ⟨48, 67, 65, 0⟩ [] (htab.trans rfl) (fun z hz => ?_) (by decide) rfl ?_
    · simp only [List.mem_cons, List.not_mem_nil, or_false] at hz
      rcases hz with rfl | rfl
      · exact Or.inl (by decide)
      · exact Or.inl (by decide)
    · refine GJ.loc [some (.ref x), none, none, none, none] (lvle_c rfl (lvle_n (lvle_n (lvle_n (lvle_n lvle_e))))) ?_
      refine tail (t1 := (t.1, t.2.1, nI pos, t.2.2.2)) (c9 := 1) (hC1.ex (Ex.new n2)) (hK1.nx (Ex.new n2)) (by decide) rfl (by rw [RUt, hRU]) rfl (by rw [RUt, hRU]) (by omega) (by omega)
  obtain ⟨⟨a1, o1⟩, hA⟩ := y1
  dsimp only
  have E1 : Ex Γ (PH Γ p1 x a1 o1) := Ex.new n1
  generalize PH Γ p1 x a1 o1 = G1 at E1 ⊢
  have hS1 := hS.mono E1
  have hx1 := E1 _ _ hx
  refine g_pop X dX1_runCommands_12 rfl rfl ?_
  refine g_aload_n X dX1_runCommands_13 rfl rfl ?_
  refine l_get X dX1_runCommands_14 rfl in_X1 (ci := 0) rfl 0 (by decide) q233 (fun _ h => h) hx1 rfl ?_
  refine g_callV X (ct_X2_copy hst hS1 hW.1.1.cp (fun i hi n hn => by have := hB.2.2.1 i hi n hn; omega)) dX1_runCommands_17 rfl (lw_V q565 q566 q567 q67 q568) hyV_X2_copy (fun H hH => hL.recv X.2.2.2.2.2.2.2.1 hH (hS1.st) rfl) (fun H hH => hH) ⟨Nat.le_of_ble_eq_true rfl, Nat.le_of_ble_eq_true rfl⟩ ⟨by dsimp only [rmD]; omega, by dsimp only [rmD]; omega⟩ (Nat.le_of_ble_eq_true rfl) rfl (fun y2 => ?_)
  obtain ⟨⟨G, c8, B⟩, e2, S2⟩ := y2
  dsimp only at e2 S2 ⊢
  refine g_astore_n X dX1_runCommands_20 rfl (by decide) rfl rfl ?_
  refine l_new X dX1_runCommands_21 rfl (fs := [.int 0, .int 0, .int 0, .int 0, .null]) in_X10 tyX10_ok q1459 q1460 q103 (ci := 9) rfl (by decide) (by dsimp only [rmD]; omega) (by dsimp only [rmD]; omega) (fun pa npa => ?_)
  refine g_dup X dX1_runCommands_24 rfl rfl ?_
  refine g_aload_n X dX1_runCommands_25 rfl rfl ?_
  refine g_callIN X "SlidePark" (ct_X10_init hst (hu_s _ _ _)) dX1_runCommands_26 rfl q1463 q103 q1461 q1462 rfl hyS_X10_init (fun H hH => hH) ⟨Nat.le_of_ble_eq_true rfl, Nat.le_of_ble_eq_true rfl⟩ ⟨by first | exact Nat.le_of_ble_eq_true rfl | omega | (dsimp only [rmD]; omega), by first | exact Nat.le_of_ble_eq_true rfl | omega | (dsimp only [rmD]; omega)⟩ (Nat.le_of_ble_eq_true rfl) rfl (fun x_26 => ?_)
  rw [show PH (hu G pa (.inl (.inr (9, [.int 0, .int 0, .int 0, .int 0, .null])))) pa x 0 (0, 0, 0) = PH G pa x 0 (0, 0, 0) from hu_hu]
  have npa1 : G1 pa = none := by
    cases g : G1 pa with
    | none => rfl
    | some u => rw [e2 _ _ g] at npa; simp at npa
  have hSS : SS Ω G1 pa x c8 0 (0, 0, 0) (PH G pa x 0 (0, 0, 0)) B w.1 := ⟨npa1, fun q u hq => by
      by_cases g : q = pa
      · subst g; rw [PH_s] at hq ⊢; exact hq
      · rw [PH_n g] at hq ⊢; exact e2 _ _ hq, (S2.base3 (fun q u g1 g2 => (PH_n (neN g2 npa)).trans g1)).mono (Ex.new npa)⟩
  have hP2 : PI Ω G1 pa x C t := ⟨hx1, neN hx1 npa1, neN (E1 _ _ hf) npa1, hC.2.2.2.1.1, f, E1 _ _ hf, hf2⟩
  refine g_aload_n X dX1_runCommands_29 rfl rfl ?_
  refine g_callVx X (ct_X10_commands_s hst hP2 hSS hA hW.1.1 hDJ hW.1.2 hm hr) dX1_runCommands_30 rfl (lw_V q1481 q1482 q1483 q103 q1484) hyV_X10_commands (fun H hH => hL.recv X.2.2.2.2.2.2.2.1 hH (PH_s) rfl) (fun H hH => hH) ⟨Nat.le_of_ble_eq_true rfl, Nat.le_of_ble_eq_true rfl⟩ ⟨by dsimp only [rmD]; omega, by dsimp only [rmD]; omega⟩ (Nat.le_of_ble_eq_true rfl) rfl ?_ (fun y3 => ?_)
  · intro E q
    refine GX.ex (fun k => GX.and (fun hE => GX.and (fun hbad => GX.ex (fun G3 => GX.and (fun e3 => ?_)))))
    subst hE
    have hRU := aRun_l (w := w) (er := t.2.2.1) (fa := t.2.2.2) (inp := t.2.1) rfl hA hbad
    refine GX.catchAnyX X [⟨0, 41, 48, 301⟩] ⟨0, 41, 65, 0⟩ [⟨48, 67, 65, 0⟩] (htab.trans rfl) (fun z hz => ?_) (by decide) rfl ?_
    · simp only [List.mem_cons, List.not_mem_nil, or_false] at hz
      rcases hz with rfl
      exact Or.inr ⟨by decide, _, q1458, by decide⟩
    · refine GJ.loc [some (.ref x), none, none, none, none] (lvle_c rfl (lvle_n (lvle_n (lvle_n (lvle_n lvle_e))))) ?_
      have E3 : Ex Γ G3 := E1.tr e3
      have hC3 : CR Ω (hu G3 x (.inl (.inr (0, CXf C t (nI k))))) x C w (t.1, t.2.1, t.2.2.1, nI k) := (hC.ex E3).put (hC.ex E3).2.2.2.1 rfl
      exact tail (t1 := (t.1, t.2.1, t.2.2.1, nI k)) (c9 := 2) hC3 (KX.ex E3).up (by decide) rfl (by rw [RUt, hRU]) rfl (by rw [RUt, hRU]) (by omega) (by omega)
  obtain ⟨⟨G4, B4, σ4, a4, o4⟩, hruns, hS4⟩ := y3
  dsimp only at hruns hS4 ⊢
  have hRU := aRun_r (w := w) (er := t.2.2.1) (fa := t.2.2.2) (inp := t.2.1) rfl hA hruns
  have E4 : Ex Γ G4 := E1.tr hS4.ex
  have hC4 := hC.ex E4
  have S4 : SR Ω (hlB (chl C)) G4 c8 B4 σ4 := hS4.2.2.base (fun q hq => hlB_n (fun g => by
    have h0 : PH G1 pa x a4 o4 q = some (.inr ((cpa C).map (·.1), mp)) := by rw [g]; exact (PH_n (neN (E1 _ _ hmp) npa1)).trans (E1 _ _ hmp)
    rw [hq] at h0; simp at h0))
  refine g_istore_n X dX1_runCommands_33 rfl (by decide) rfl rfl ?_
  refine g_aload_n X dX1_runCommands_34 rfl rfl ?_
  refine g_aload_n X dX1_runCommands_35 rfl rfl ?_
  refine g_iload_n X dX1_runCommands_36 rfl rfl ?_
  refine g_callV X (ct_X1_record hst hC4 S4 hW.2.1) dX1_runCommands_37 rfl (lw_V q813 q815 qs6 q66 q816) hyV_X1_record (fun H hH => hL.recv X.2.2.2.2.2.2.2.1 hH (hC4.1) rfl) (fun H hH => hH) ⟨Nat.le_of_ble_eq_true rfl, Nat.le_of_ble_eq_true rfl⟩ ⟨by dsimp only [rmD]; omega, by dsimp only [rmD]; omega⟩ (Nat.le_of_ble_eq_true rfl) rfl (fun y5 => ?_)
  refine g_istore_n X dX1_runCommands_40 rfl (by decide) rfl rfl ?_
  obtain ⟨⟨G5, C5⟩, hC5, hK5, e5⟩ := y5
  dsimp only at hC5 hK5 e5 ⊢
  have hfin : CR Ω (hu G5 x (.inl (.inr (0, CX C5 (t.1, [], t.2.2))))) x C5 (σ4, aPush w.2.1 w.1, w.2.2) (t.1, [], t.2.2) := hC5.put hC5.2.2.2.1.nil rfl
  refine g_aload_n X dX1_runCommands_41 rfl rfl ?_
  refine g_iconst X dX1_runCommands_42 rfl (v := (nI 0)) rfl ?_
  refine l_put X dX1_runCommands_43 rfl in_X1 tyX1_ok nmX1 (ci := 0) rfl 4 (by decide) q239 (fun _ h => h) rfl rfl rfl rfl hC5.1 (Nat.le_of_ble_eq_true rfl) rfl ?_
  refine g_iload_n X dX1_runCommands_46 rfl rfl ?_
  refine g_iret X dX1_runCommands_47 rfl (by omega) (by omega) (fun H hH => ⟨⟨(_, C5, (rdA t.2.1).2.length, σ4), by rw [RUt, hRU], by rw [RUt, hRU]; exact hfin, (KX.pre E4 hK5).up, e5⟩, rfl, hH⟩)
end RC
