/-! PARSER of the class: all commands carried out -/
section PS7
variable {l : Launch} {Ω : Om} {Γ G : LH} {x pa c8 a : Nat} {C : CT} {t : Tx} {o : Nat × Nat × Nat} {B : Ad} {σ : St} {R M : Nat}
set_option maxRecDepth 100000
set_option maxHeartbeats 1000000
abbrev ZT : Type := LH × Ad × St × Nat × (Nat × Nat × Nat) × List Cmd × Nat
def ZI (Ω : Om) (Γ : LH) (pa x c8 : Nat) (inp : List Nat) (R M : Nat) (σ : St) (y : ZT) : Prop := RD inp y.2.2.2.1 y.2.2.2.2.2.2 y.2.2.2.2.2.1 ∧ aRuns y.2.2.2.2.2.1 0 σ = .inr y.2.2.1 ∧ SS Ω Γ pa x c8 y.2.2.2.1 y.2.2.2.2.1 y.1 y.2.1 y.2.2.1 ∧ Wf (R + 720 * y.2.2.2.2.2.1.length) y.2.2.1 ∧ DJ y.2.2.1 ∧ sM y.2.2.1 ≤ M + 60 * y.2.2.2.2.2.1.length
theorem ct_X10_commands_s (hst : l.stackTraces = false) (hP0 : PI Ω Γ pa x C t) (hS : SS Ω Γ pa x c8 0 o G B σ) (hA : (rdA t.2.1).1.2 = true ∧ ¬ (rdA t.2.1).1.1 < t.2.1.length) (W : Wf R σ) (hD : DJ σ) (hm : sM σ ≤ M) (hM : M + 900 ≤ 100000) (hr : R + 9360 ≤ 2000000) : CM Ω l yX10_commands (ws_ yX10_commands cX10_commands 3 (some .int)) 40 (387 * (t.2.1.length + 1)) (12933 * (t.2.1.length + 1)) [.ref pa, .ref c8] (hL Ω G) (QV (fun _ : {y : LH × Ad × St × Nat × Nat × Nat × Nat // aRuns (rdA t.2.1).2 0 σ = .inr y.2.2.1 ∧ SS Ω Γ pa x c8 y.2.2.2.1 y.2.2.2.2 y.1 y.2.1 y.2.2.1} => some (.int (nI (rdA t.2.1).2.length))) (fun y => hL Ω y.1.1)) (fun E q H => ∃ k, RSx Ω Γ x C t (nI k) (aRuns (rdA t.2.1).2 0 σ = .inl k) E q H) := by
  have hl60 := hP0.2.2.2.1
  have hok0 : (rdC t.2.1 0).1.2 = true := by
    cases g : (rdC t.2.1 0).1.2 with
    | true => rfl
    | false =>
      have h1 := hA.1
      rw [rdA_0, if_neg (fun z => by rw [g] at z; exact Bool.noConfusion z.1)] at h1
      exact absurd h1 (by rw [g]; exact Bool.noConfusion)
  have hle0 := rdC_le (inp := t.2.1) (a := 0) (Nat.zero_le _)
  have hR0 := RD_0 hok0 hle0
  have hge0 := rdC_ok hok0
  obtain ⟨m0, hm0⟩ := RD_pre hR0
  refine CM.of (L := [some (.ref pa), some (.ref c8), none]) hst (by decide) (Nat.le_of_ble_eq_true rfl) rfl ?_
  intro p e s m below meth c X hnm htab
  refine g_aload_n X dX10_commands_0 rfl rfl ?_
  refine g_aload_n X dX10_commands_1 rfl rfl ?_
  refine g_iconst X dX10_commands_2 rfl (v := (nI 0)) rfl ?_
  refine g_callVWx X (ct_X10_run_s hst hP0 hS (Nat.zero_le _) hok0 W (by omega) (by omega)) dX10_commands_3 rfl (lw_VW q1485 q1487 qs17 q103 q1488) hyV_X10_run (fun H hH => hL.recv X.2.2.2.2.2.2.2.1 hH (hS.pp) rfl) (fun H hH => hH) ⟨Nat.le_of_ble_eq_true rfl, Nat.le_of_ble_eq_true rfl⟩ ⟨by dsimp only [rmD]; omega, by dsimp only [rmD]; omega⟩ (Nat.le_of_ble_eq_true rfl) rfl (fun E q => GX.pass X htab (by omega) (by omega) (fun H h => ⟨0, h.1, h.2.1.elim (fun c9 hc9 => by rw [hm0]; exact aRuns_in (acc := []) rfl hc9), h.2.2⟩)) (fun y0 => ?_)
  obtain ⟨⟨G1, B1, σ1, o1⟩, ⟨n1, z1⟩, z2⟩ := y0
  dsimp only at z1 z2 ⊢
  have ow := okW_does (c := (bh t.2.1 0, (rdC t.2.1 0).2)) W hD (by omega)
  rw [z1] at ow
  obtain ⟨w1, w2, w3⟩ := ow
  have hZ : ZI Ω Γ pa x c8 t.2.1 R M σ (G1, B1, σ1, (rdC t.2.1 0).1.1, o1, [(bh t.2.1 0, (rdC t.2.1 0).2)], t.2.1.length) := ⟨hR0, aRuns_ok (acc := []) rfl z1, z2, w1, w2, by have w3' : sM σ1 ≤ sM σ + 60 := w3; show sM σ1 ≤ M + 60 * 1; omega⟩
  generalize hz0 : ((G1, B1, σ1, (rdC t.2.1 0).1.1, o1, [(bh t.2.1 0, (rdC t.2.1 0).2)], t.2.1.length) : ZT) = z0 at hZ
  have hlen : z0.2.2.2.2.2.1.length = 1 := by rw [← hz0]; rfl
  refine g_iconst X dX10_commands_6 rfl (v := (nI 1)) rfl ?_
  refine g_istore_n X dX10_commands_7 rfl (by decide) rfl rfl ?_
  refine GJ.imp (I' := (fun y : ZT => hL Ω y.1) z0) (fun H hH => by rw [← hz0]; exact hH) ?_
  refine GJ.loc ((fun y : ZT => [some (.ref pa), some (.ref c8), some (.int (nI y.2.2.2.2.2.1.length))]) z0) (by dsimp only; rw [hlen]; exact lvle_c rfl (lvle_c rfl (lvle_c rfl lvle_e))) ?_
  refine GJ.wide (k' := (fun y : ZT => 1935 * y.2.2.2.2.2.1.length) z0) (n' := (fun y : ZT => 64663 * y.2.2.2.2.2.1.length) z0) (by dsimp only; omega) (by dsimp only; omega) ?_
  refine GJ.loop (fun y : ZT => hL Ω y.1) (fun y => 1935 * y.2.2.2.2.2.1.length) (fun y => 64663 * y.2.2.2.2.2.1.length) (fun y : ZT => [some (.ref pa), some (.ref c8), some (.int (nI y.2.2.2.2.2.1.length))]) (fun y => t.2.1.length - y.2.2.2.1) (ZI Ω Γ pa x c8 t.2.1 R M σ) z0 hZ ?_
  clear hz0 hZ hlen w1 w2 w3 z1 z2
  rintro ⟨G2, B2, σ2, a2, o2, acc, n2⟩ ⟨i1, i2, i3, i4, i5, i6⟩ ih
  dsimp only at i1 i2 i3 i4 i5 i6 ih ⊢
  obtain ⟨j1, j2, j3, j4⟩ := id i1
  have hP2 := i3.toPI hP0
  have hn := hP0.2.1
  refine GJ.imp (I' := hL Ω (PH G2 pa x a2 o2)) (fun H hH => by rw [i3.eq]; exact hH) ?_
  refine g_aload_n X dX10_commands_8 rfl rfl ?_
  refine l_get X dX10_commands_9 rfl in_X10 (ci := 9) rfl 0 (by decide) q1465 (fun _ h => h) PH_s rfl ?_
  refine g_aload_n X dX10_commands_12 rfl rfl ?_
  refine l_get X dX10_commands_13 rfl in_X10 (ci := 9) rfl 4 (by decide) q1469 (fun _ h => h) PH_s rfl ?_
  refine l_getN X dX10_commands_16 rfl in_X1 (ci := 0) rfl 4 (by decide) "SlidePark" q238 (fun _ h => h) ((PH_n hn).trans hP2.1) rfl ?_
  refine g_icmp_ge (tgt := 43) X dX10_commands_19 rfl (by decide) (fun c_19 => ?_) (fun c_19 => ?_)
  · rw [nI_leI (by omega) (by omega)] at c_19
    have er := RD_f i1 (fun g => by rw [List.getElem?_eq_none (by omega)] at g; simp at g)
    refine g_iload_n X dX10_commands_43 rfl rfl ?_
    refine g_iret X dX10_commands_44 rfl (by omega) (by omega) (fun H hH => ⟨⟨(PH G2 pa x a2 o2, B2, σ2, a2, o2), by rw [er]; exact i2, i3.mv⟩, congrArg (fun z : (Nat × Bool) × List Cmd => some (Value.int (nI z.2.length))) er.symm, hH⟩)
  · rw [nI_leI (by omega) (by omega)] at c_19
    have g59 : t.2.1[a2]? = some 59 := Classical.byContradiction (fun g => by
      rw [RD_f i1 g] at hA
      exact hA.2 (by dsimp only; omega))
    obtain ⟨s1, s2⟩ := RD_s i1 g59
    have hok : (rdC t.2.1 (a2 + 1)).1.2 = true := by
      cases g : (rdC t.2.1 (a2 + 1)).1.2 with
      | true => rfl
      | false =>
        have h1 := hA.1
        rw [s1 g, g] at h1
        exact absurd h1 Bool.noConfusion
    have hle := rdC_le (inp := t.2.1) (a := a2 + 1) (by omega)
    obtain ⟨n3, hR3⟩ := s2 hok hle
    have hge := rdC_ok hok
    have hlen3 : 5 * (acc.length + 1) ≤ (rdC t.2.1 (a2 + 1)).1.1 + 1 := by
      have := hR3.2.1
      rw [List.length_append] at this
      exact this
    obtain ⟨m3, hm3⟩ := RD_pre hR3
    have hS2 : SS Ω Γ pa x c8 (a2 + 1) o2 (PH G2 pa x (a2 + 1) o2) B2 σ2 := i3.mv
    refine g_aload_n X dX10_commands_22 rfl rfl ?_
    refine g_bipush X dX10_commands_23 rfl (v := (nI 59)) (by decide) ?_
    refine g_bipush X dX10_commands_25 rfl (v := (nI 59)) (by decide) ?_
    refine g_callVx X (ct_X10_next (a := a2) (lo := 59) (hi := 59) hst hP2 j1 (by decide)) dX10_commands_27 rfl (lw_V q1553 q1555 qs20 q103 q1556) hyV_X10_next (fun H hH => hL.recv X.2.2.2.2.2.2.2.1 hH (PH_s) rfl) (fun H hH => hH) ⟨Nat.le_of_ble_eq_true rfl, Nat.le_of_ble_eq_true rfl⟩ ⟨by dsimp only [rmD]; omega, by dsimp only [rmD]; omega⟩ (Nat.le_of_ble_eq_true rfl) rfl (fun E q => GX.and (fun _ => GX.and (fun g => absurd ((bh_one hP2 (by decide)).mpr g59) g))) (fun y1 => ?_)
    refine g_pop X dX10_commands_30 rfl rfl ?_
    refine g_aload_n X dX10_commands_31 rfl rfl ?_
    refine g_aload_n X dX10_commands_32 rfl rfl ?_
    refine g_iload_n X dX10_commands_33 rfl rfl ?_
    refine g_callVWx X (ct_X10_run_s (R := R + 720 * acc.length) hst hP0 hS2 (by omega) hok i4 (by omega) (by omega)) dX10_commands_34 rfl (lw_VW q1485 q1487 qs17 q103 q1488) hyV_X10_run (fun H hH => hL.recv X.2.2.2.2.2.2.2.1 hH (PH_s) rfl) (fun H hH => hH) ⟨Nat.le_of_ble_eq_true rfl, Nat.le_of_ble_eq_true rfl⟩ ⟨by dsimp only [rmD]; omega, by dsimp only [rmD]; omega⟩ (Nat.le_of_ble_eq_true rfl) rfl (fun E q => GX.pass X htab (by omega) (by omega) (fun H h => ⟨acc.length, h.1, h.2.1.elim (fun c9 hc9 => by rw [hm3]; exact aRuns_in i2 hc9), h.2.2⟩)) (fun y2 => ?_)
    obtain ⟨⟨G3, B3, σ3, o3⟩, ⟨n9, z1⟩, z2⟩ := y2
    dsimp only at z1 z2 ⊢
    have ow := okW_does (c := (bh t.2.1 (a2 + 1), (rdC t.2.1 (a2 + 1)).2)) i4 i5 (by omega)
    rw [z1] at ow
    obtain ⟨w1, w2, w3⟩ := ow
    have w3 : sM σ3 ≤ sM σ2 + 60 := w3
    have el : (acc ++ [(bh t.2.1 (a2 + 1), (rdC t.2.1 (a2 + 1)).2)]).length = acc.length + 1 := List.length_append
    have hZ : ZI Ω Γ pa x c8 t.2.1 R M σ (G3, B3, σ3, (rdC t.2.1 (a2 + 1)).1.1, o3, acc ++ [(bh t.2.1 (a2 + 1), (rdC t.2.1 (a2 + 1)).2)], n3) := ⟨hR3, aRuns_ok i2 z1, z2, by dsimp only; rw [el]; exact w1.mono (by omega), w2, by dsimp only; rw [el]; omega⟩
    have ihZ := ih _ hZ (by dsimp only; omega)
    dsimp only at ihZ
    rw [el] at ihZ
    refine g_iinc X dX10_commands_37 rfl rfl (by first | exact nI_1 _ | rfl) (by decide) rfl rfl ?_
    refine g_goto (tgt := 8) X dX10_commands_40 rfl (by decide) ?_
    refine GJ.loc [some (.ref pa), some (.ref c8), some (.int (nI (acc.length + 1)))] (lvle_c rfl (lvle_c rfl (lvle_c rfl lvle_e))) ?_
    refine GJ.wide (k' := 1935 * (acc.length + 1)) (n' := 64663 * (acc.length + 1)) (by omega) (by omega) ?_
    exact ihZ
end PS7
