/-! MODEL: the commands of a text -/
noncomputable def aRun (w : Wl) (inp : List Nat) (er fa : Int32) : Res × Int32 × Int32 :=
  if (rdA inp).1.2 = true ∧ ¬ (rdA inp).1.1 < inp.length then (match aRuns (rdA inp).2 0 w.1 with | .inl k => (.inl 2, er, nI k) | .inr σ => (.inr ((rdA inp).2.length, σ), er, fa)) else (.inl 1, nI (rdA inp).1.1, fa)
theorem aRun_w {w : Wl} {inp : List Nat} {er fa : Int32} {fin : (Nat × Bool) × List Cmd} (hf : rdA inp = fin) (h : ¬ (fin.1.2 = true ∧ ¬ fin.1.1 < inp.length)) : aRun w inp er fa = (.inl 1, nI fin.1.1, fa) := by unfold aRun; rw [hf, if_neg h]
theorem aRun_l {w : Wl} {inp : List Nat} {er fa : Int32} {fin : (Nat × Bool) × List Cmd} {k : Nat} (hf : rdA inp = fin) (h : fin.1.2 = true ∧ ¬ fin.1.1 < inp.length) (hr : aRuns fin.2 0 w.1 = .inl k) : aRun w inp er fa = (.inl 2, er, nI k) := by unfold aRun; rw [hf, if_pos h, hr]
theorem aRun_r {w : Wl} {inp : List Nat} {er fa : Int32} {fin : (Nat × Bool) × List Cmd} {σ : St} (hf : rdA inp = fin) (h : fin.1.2 = true ∧ ¬ fin.1.1 < inp.length) (hr : aRuns fin.2 0 w.1 = .inr σ) : aRun w inp er fa = (.inr (fin.2.length, σ), er, fa) := by unfold aRun; rw [hf, if_pos h, hr]
/-- the numbers after the reading: places 11, 12, 16 apart those of v -/
def RI (v : Nat → Int32) (F : Nat → Nat → Int32) (inp : List Nat) (x : (Nat × Bool) × List Cmd × Nat × (Nat → Int32) × (Nat → Int32)) : Prop :=
  PS x.2.2.2.1 (FU F 6 x.2.2.2.2) inp x.1.1 x.1.2 ∧ x.1.1 ≤ inp.length ∧ x.2.2.2.1 16 = nI x.2.1.length ∧ PVc v x.2.2.2.1 ∧
  (∀ i, i < x.2.1.length → CE x.2.2.2.2 i (x.2.1.getD i (0, 0, 0, 0)).1 (x.2.1.getD i (0, 0, 0, 0)).2) ∧
  (x.1.2 = true → 5 * x.2.1.length ≤ x.1.1 + 1 ∧ inp.length - x.1.1 ≤ x.2.2.1) ∧
  rdA inp = (if x.1.2 = true ∧ inp[x.1.1]? = some 59 then rdL inp x.2.2.1 (x.1.1 + 1) x.2.1 else (x.1, x.2.1))
theorem CE_n {g g' : Nat → Int32} {c i : Nat} {k : Int32} {m : Nat × Nat × Nat} (h : CE g i k m) (hi : i < c) (hg : ∀ j, j < 4 * c → g' j = g j) : CE g' i k m := by
  unfold CE
  rw [hg (4 * i) (by omega), hg (4 * i + 1) (by omega), hg (4 * i + 2) (by omega), hg (4 * i + 3) (by omega)]
  exact h
theorem PVc.tr {v w x : Nat → Int32} (h : PVc v w) (k : PVc w x) : PVc v x := fun i a b c => (k i a b c).trans (h i a b c)
theorem PVc.u {v : Nat → Int32} {j : Nat} {x : Int32} (hj : j = 11 ∨ j = 12 ∨ j = 16) : PVc v (vU v j x) := fun i a b c => vU_n (by omega)
/-- places that runCommands leaves -/
def RN (v v' : Nat → Int32) : Prop := ∀ i, i ≠ 6 → i ≠ 10 → i ≠ 11 → i ≠ 12 → i ≠ 13 → i ≠ 14 → i ≠ 16 → v' i = v i
theorem RN.c {v v' : Nat → Int32} (h : PVc v v') : RN v v' := fun i _ _ a b _ _ c => h i a b c
theorem RN.u {v v' : Nat → Int32} {j : Nat} {x : Int32} (h : RN v v') (hj : j = 6 ∨ j = 10 ∨ j = 11 ∨ j = 12 ∨ j = 13 ∨ j = 14 ∨ j = 16) : RN v (vU v' j x) := fun i a b c d e f g => (vU_n (by omega)).trans (h i a b c d e f g)
theorem MP_of {v v' : Nat → Int32} {F F' : Nat → Nat → Int32} {w : Wl} (h : MP v F w) (hv : RN v v') (h2 : F' 2 = F 2) (h3 : F' 3 = F 3) : MP v' F' w :=
  ⟨(hv 5 (by decide) (by decide) (by decide) (by decide) (by decide) (by decide) (by decide)).trans h.1, by rw [h3]; exact h.2.1, (hv 3 (by decide) (by decide) (by decide) (by decide) (by decide) (by decide) (by decide)).trans h.2.2.1, by rw [h2]; exact h.2.2.2⟩
theorem TX_of {v v' : Nat → Int32} {F F' : Nat → Nat → Int32} {out inp : List Nat} {er fa er' fa' : Int32} (h : TX v F out inp er fa) (hv : RN v v') (h4 : F' 4 = F 4) (h10 : v' 10 = nI 0) (h13 : v' 13 = er') (h14 : v' 14 = fa') : TX v' F' out [] er' fa' :=
  ⟨⟨(hv 8 (by decide) (by decide) (by decide) (by decide) (by decide) (by decide) (by decide)).trans h.1.1, h.1.2.1, by rw [h4]; exact h.1.2.2⟩, ⟨h10, Nat.zero_le _, fun k hk => absurd hk (Nat.not_lt_zero k)⟩, h13, h14⟩
section M18
variable {l : Launch} {Ω : Om} {h : RH} {a : Nat} {ad : Nat → Nat} {v : Nat → Int32} {F : Nat → Nat → Int32} {w : Wl} {out inp : List Nat} {er fa : Int32}
set_option maxRecDepth 100000
abbrev RO (Ω : Om) (h : RH) (a : Nat) (ad : Nat → Nat) (w : Wl) (out : List Nat) (R : Res × Int32 × Int32) : Option Value → Heap → Prop := QV (fun _ : {x : (Nat → Int32) × (Nat → Nat → Int32) // MA x.1 x.2 (wR w R.1) ∧ x.1 6 = nI (tR R.1) ∧ TX x.1 x.2 out [] R.2.1 R.2.2} => some (.int (rI R.1))) (fun x => hR Ω (mW Ω h a ad x.1.1 x.1.2))
theorem ct_X4_doesR (hst : l.stackTraces = false) (hd : mDi a ad) {f g : Nat → Int32} {σ : St} (hM : MR f σ) {R : Nat} (W : Wf R σ) (hm : sM σ + 60 ≤ 100000) (hr : R + 720 ≤ 2000000) {k : Nat} (hk : k < 50) {c0 : Cmd} (hc : CE g k c0.1 c0.2) (hx : (F 6) = g) {Rz : Res} (hz : aDoes σ c0 = Rz) : CM Ω l yX4_does (ws_ yX4_does cX4_does 5 none) 18 0 0 [.ref a, .int (nI k)] (hR Ω (mW Ω h a ad v (FU F 0 f))) (DV Ω h a ad v F f Rz) nX := by
  subst hz
  exact ct_X4_does hst hd hM W hm hr hk hc hx
theorem ct_X4_runCommands (hst : l.stackTraces = false) (hd : mDi a ad) {R M : Nat} (hA : MA v F w) (hW : WA R M w) (hDJ : DJ w.1) (hT : TX v F out inp er fa) (hm : M + 900 ≤ 100000) (hr : R + 9360 ≤ 2000000) : CM Ω l yX4_runCommands (ws_ yX4_runCommands cX4_runCommands 2 (some .int)) 20 0 0 [.ref a] (hR Ω (mW Ω h a ad v F)) (RO Ω h a ad w out (aRun w inp er fa)) nX := by
  have hl60 := hT.2.1.2.1
  have q0 : PS (vU (vU (vU v 11 (nI 0)) 12 (nI 0)) 16 (nI 0)) (FU F 6 (F 6)) inp 0 true := ⟨⟨by rw [vU_n (by decide), vU_n (by decide), vU_n (by decide)]; exact hT.2.1.1, hT.2.1.2⟩, by rw [vU_n (by decide), vU_n (by decide), vU_s], by rw [vU_n (by decide), vU_s]; rfl⟩
  have h16 : vU (vU (vU v 11 (nI 0)) 12 (nI 0)) 16 (nI 0) 16 = nI 0 := vU_s
  refine CM.of (L := [some (.ref a), none]) hst (by decide) (Nat.le_of_ble_eq_true rfl) rfl ?_
  intro p e s m below meth c X hnm htab
  refine g_aload_n X dX4_runCommands_0 rfl rfl ?_
  refine g_iconst X dX4_runCommands_1 rfl (v := (nI 0)) rfl ?_
  refine g_put X dX4_runCommands_2 rfl in_X4 tyX4_ok nmX4 (ci := 3) rfl 11 (by decide) q1927 (fun _ h => h) rfl rfl rfl rfl mW_a (Nat.le_of_ble_eq_true rfl) mW_u11 ?_
  refine g_aload_n X dX4_runCommands_5 rfl rfl ?_
  refine g_iconst X dX4_runCommands_6 rfl (v := (nI 0)) rfl ?_
  refine g_put X dX4_runCommands_7 rfl in_X4 tyX4_ok nmX4 (ci := 3) rfl 12 (by decide) q1928 (fun _ h => h) rfl rfl rfl rfl mW_a (Nat.le_of_ble_eq_true rfl) mW_u12 ?_
  refine g_aload_n X dX4_runCommands_10 rfl rfl ?_
  refine g_iconst X dX4_runCommands_11 rfl (v := (nI 0)) rfl ?_
  refine g_put X dX4_runCommands_12 rfl in_X4 tyX4_ok nmX4 (ci := 3) rfl 16 (by decide) q1932 (fun _ h => h) rfl rfl rfl rfl mW_a (Nat.le_of_ble_eq_true rfl) mW_u16 ?_
  refine GJ.imp (I' := hR Ω (mW Ω h a ad (vU (vU (vU v 11 (nI 0)) 12 (nI 0)) 16 (nI 0)) (FU F 6 (F 6)))) (fun H hH => by rw [FU_self]; exact hH) ?_
  refine g_aload_n X dX4_runCommands_15 rfl rfl ?_
  refine g_callV X (ct_X4_readCommand_t hst hd q0 (Nat.zero_le _) h16 (by decide)) dX4_runCommands_16 rfl (lw_V q2319 q2321 qs59 q76 q2322) hyV_X4_readCommand (fun H hH => hR.recv X.2.2.2.2.2.2.2.1 hH mW_a rfl) (fun H hH => hH) ⟨Nat.le_of_ble_eq_true rfl, Nat.le_of_ble_eq_true rfl⟩ ⟨Nat.le_of_ble_eq_true rfl, Nat.le_of_ble_eq_true rfl⟩ (Nat.le_of_ble_eq_true rfl) rfl (fun y0 => ?_)
  obtain ⟨⟨v1, g1⟩, r1, r2, r3, r4⟩ := y0
  dsimp only at r1 r2 r3 r4 ⊢
  have hri : RI v F inp ((rdC inp 0).1, [(bh inp 0, (rdC inp 0).2)], inp.length, v1, g1) := by
    refine ⟨r1, rdC_le (Nat.zero_le _), r2.1, ((PVc.u (Or.inl rfl)).tr ((PVc.u (Or.inr (Or.inl rfl))).tr (PVc.u (Or.inr (Or.inr rfl))))).tr r2.2, fun i hi => ?_, fun ho => ⟨by have := rdC_ok ho; show 5 * 1 ≤ (rdC inp 0).1.1 + 1; omega, Nat.sub_le _ _⟩, rfl⟩
    have hi : i < 1 := hi
    obtain rfl : i = 0 := by omega
    exact r3
  refine GJ.loc [some (.ref a), none] (lvle_c rfl (lvle_n lvle_e)) ?_
  refine GJ.loop (fun x : (Nat × Bool) × List Cmd × Nat × (Nat → Int32) × (Nat → Int32) => hR Ω (mW Ω h a ad x.2.2.2.1 (FU F 6 x.2.2.2.2))) (fun _ => 0) (fun _ => 0) (fun _ => [some (.ref a), none]) (fun x => if x.1.2 = true then inp.length - x.1.1 + 1 else 0) (fun x => RI v F inp x) ((rdC inp 0).1, [(bh inp 0, (rdC inp 0).2)], inp.length, v1, g1) hri ?_
  rintro ⟨⟨a1, o1⟩, acc, n0, v2, g2⟩ ⟨j1, j2, j3, j4, j5, j6, j7⟩ ih
  dsimp only at j1 j2 j3 j4 j5 j6 j7 ih ⊢
  clear r1 r2 r3 r4 hri
  have k12 := j1.2.2
  refine GJ.cutF (α := {x : Unit // rdA inp = ((a1, o1), acc)}) 52 (fun _ => [some (.ref a), none]) (fun _ => hR Ω (mW Ω h a ad v2 (FU F 6 g2))) (fun hfin => ?_) (fun tail => ?_)
  rotate_left
  · cases o1 with
    | false =>
      have k12 : v2 12 = nI 1 := k12
      rw [if_neg (fun g => Bool.noConfusion g.1)] at j7
      refine g_aload_n X dX4_runCommands_19 rfl rfl ?_
      refine g_get X dX4_runCommands_20 rfl in_X4 (ci := 3) rfl 12 (by decide) q1928 (fun _ h => h) mW_a (gv k12) ?_
      refine g_if_ne (tgt := 52) X dX4_runCommands_23 rfl (by decide) (fun c_23 => ?_) (fun c => absurd c (by decide))
      exact tail ⟨(), j7⟩
    | true =>
      have k12 : v2 12 = nI 0 := k12
      by_cases h59 : inp[a1]? = some 59
      · rw [if_pos ⟨rfl, h59⟩] at j7
        have hlt : a1 < inp.length := (List.getElem?_eq_some_iff.mp h59).1
        obtain ⟨j6a, j6b⟩ := j6 rfl
        obtain ⟨n1, rfl⟩ : ∃ n1, n0 = n1 + 1 := ⟨n0 - 1, by omega⟩
        have k11 := j1.2.1
        have q1 : PS (vU v2 11 (nI (a1 + 1))) (FU F 6 g2) inp (a1 + 1) true := j1.a
        have h16 : vU v2 11 (nI (a1 + 1)) 16 = nI acc.length := by rw [vU_n (by decide)]; exact j3
        refine g_aload_n X dX4_runCommands_19 rfl rfl ?_
        refine g_get X dX4_runCommands_20 rfl in_X4 (ci := 3) rfl 12 (by decide) q1928 (fun _ h => h) mW_a (gv k12) ?_
        refine g_if_ne (tgt := 52) X dX4_runCommands_23 rfl (by decide) (fun c => absurd rfl c) (fun c_23 => ?_)
        refine g_aload_n X dX4_runCommands_26 rfl rfl ?_
        refine g_callV X (ct_X4_behind hst hd j1 j2) dX4_runCommands_27 rfl (lw_V q2323 q2325 qs60 q76 q2326) hyV_X4_behind (fun H hH => hR.recv X.2.2.2.2.2.2.2.1 hH mW_a rfl) (fun H hH => hH) ⟨Nat.le_of_ble_eq_true rfl, Nat.le_of_ble_eq_true rfl⟩ ⟨Nat.le_of_ble_eq_true rfl, Nat.le_of_ble_eq_true rfl⟩ (Nat.le_of_ble_eq_true rfl) rfl (fun x_27 => ?_)
        refine g_bipush X dX4_runCommands_30 rfl (v := (nI 59)) (by decide) ?_
        refine g_icmp_ne (tgt := 52) X dX4_runCommands_32 rfl (by decide) (fun c => absurd ((bh_eq j1.b (by decide)).mpr h59) c) (fun c_32 => ?_)
        refine g_aload_n X dX4_runCommands_35 rfl rfl ?_
        refine g_dup X dX4_runCommands_36 rfl rfl ?_
        refine g_get X dX4_runCommands_37 rfl in_X4 (ci := 3) rfl 11 (by decide) q1927 (fun _ h => h) mW_a (gv k11) ?_
        refine g_iconst X dX4_runCommands_40 rfl (v := (nI 1)) rfl ?_
        refine g_iadd X dX4_runCommands_41 rfl (by first | exact nI_add _ _ | rfl) ?_
        refine g_put X dX4_runCommands_42 rfl in_X4 tyX4_ok nmX4 (ci := 3) rfl 11 (by decide) q1927 (fun _ h => h) rfl rfl rfl rfl mW_a (Nat.le_of_ble_eq_true rfl) mW_u11 ?_
        refine g_aload_n X dX4_runCommands_45 rfl rfl ?_
        refine g_callV X (ct_X4_readCommand_t hst hd q1 (by omega) h16 (by omega)) dX4_runCommands_46 rfl (lw_V q2319 q2321 qs59 q76 q2322) hyV_X4_readCommand (fun H hH => hR.recv X.2.2.2.2.2.2.2.1 hH mW_a rfl) (fun H hH => hH) ⟨Nat.le_of_ble_eq_true rfl, Nat.le_of_ble_eq_true rfl⟩ ⟨Nat.le_of_ble_eq_true rfl, Nat.le_of_ble_eq_true rfl⟩ (Nat.le_of_ble_eq_true rfl) rfl (fun y1 => ?_)
        obtain ⟨⟨v3, g3⟩, r1, r2, r3, r4⟩ := y1
        dsimp only at r1 r2 r3 r4 ⊢
        refine GJ.loc [some (.ref a), none] (lvle_c rfl (lvle_n lvle_e)) ?_
        have hl : (acc ++ [(bh inp (a1 + 1), (rdC inp (a1 + 1)).2)]).length = acc.length + 1 := List.length_append ..
        refine g_goto (tgt := 19) X dX4_runCommands_49 rfl (by decide) ?_
        refine ih ((rdC inp (a1 + 1)).1, acc ++ [(bh inp (a1 + 1), (rdC inp (a1 + 1)).2)], n1, v3, g3) ⟨r1, rdC_le (by omega), by rw [hl]; exact r2.1, (j4.tr (PVc.u (Or.inl rfl))).tr r2.2, fun i hi => ?_, fun ho => ?_, j7⟩ ?_
        · have hi : i < (acc ++ [(bh inp (a1 + 1), (rdC inp (a1 + 1)).2)]).length := hi
          rw [hl] at hi
          show CE g3 i ((acc ++ [(bh inp (a1 + 1), (rdC inp (a1 + 1)).2)]).getD i (0, 0, 0, 0)).1 ((acc ++ [(bh inp (a1 + 1), (rdC inp (a1 + 1)).2)]).getD i (0, 0, 0, 0)).2
          rw [getD_app]
          by_cases e : i = acc.length
          · rw [if_pos e, e]; exact r3
          · rw [if_neg e]; exact CE_n (j5 i (by omega)) (c := acc.length) (by omega) r4
        · have := rdC_ok ho
          dsimp only
          rw [hl]
          exact ⟨by omega, by omega⟩
        · dsimp only
          rw [if_pos rfl]
          by_cases ho : (rdC inp (a1 + 1)).1.2 = true
          · rw [if_pos ho]; have := rdC_ok ho; omega
          · rw [if_neg ho]; omega
      · rw [if_neg (fun g => h59 g.2)] at j7
        refine g_aload_n X dX4_runCommands_19 rfl rfl ?_
        refine g_get X dX4_runCommands_20 rfl in_X4 (ci := 3) rfl 12 (by decide) q1928 (fun _ h => h) mW_a (gv k12) ?_
        refine g_if_ne (tgt := 52) X dX4_runCommands_23 rfl (by decide) (fun c => absurd rfl c) (fun c_23 => ?_)
        refine g_aload_n X dX4_runCommands_26 rfl rfl ?_
        refine g_callV X (ct_X4_behind hst hd j1 j2) dX4_runCommands_27 rfl (lw_V q2323 q2325 qs60 q76 q2326) hyV_X4_behind (fun H hH => hR.recv X.2.2.2.2.2.2.2.1 hH mW_a rfl) (fun H hH => hH) ⟨Nat.le_of_ble_eq_true rfl, Nat.le_of_ble_eq_true rfl⟩ ⟨Nat.le_of_ble_eq_true rfl, Nat.le_of_ble_eq_true rfl⟩ (Nat.le_of_ble_eq_true rfl) rfl (fun x_27 => ?_)
        refine g_bipush X dX4_runCommands_30 rfl (v := (nI 59)) (by decide) ?_
        refine g_icmp_ne (tgt := 52) X dX4_runCommands_32 rfl (by decide) (fun c_32 => ?_) (fun c => absurd ((bh_eq j1.b (by decide)).mp c) h59)
        exact tail ⟨(), j7⟩
  · obtain ⟨-, hfin⟩ := hfin
    clear ih j7
    have k11 := j1.2.1
    have k10 := j1.1.1
    by_cases hok : o1 = true ∧ ¬ a1 < inp.length
    · obtain ⟨rfl, hge⟩ := hok
      have k12 : v2 12 = nI 0 := k12
      have h5 := (j6 rfl).1
      have e13 : vU v2 12 (nI 0) 13 = er := (vU_n (by decide)).trans ((j4 13 (by decide) (by decide) (by decide)).trans hT.2.2.1)
      have e12 : vU (vU (vU v2 12 (nI 0)) 13 er) 10 (nI 0) 12 = nI 0 := by rw [vU_n (by decide), vU_n (by decide), vU_s]
      refine g_aload_n X dX4_runCommands_52 rfl rfl ?_
      refine g_aload_n X dX4_runCommands_53 rfl rfl ?_
      refine g_get X dX4_runCommands_54 rfl in_X4 (ci := 3) rfl 12 (by decide) q1928 (fun _ h => h) mW_a (gv k12) ?_
      refine g_if_ne (tgt := 71) X dX4_runCommands_57 rfl (by decide) (fun c => absurd rfl c) (fun c_57 => ?_)
      refine g_aload_n X dX4_runCommands_60 rfl rfl ?_
      refine g_get X dX4_runCommands_61 rfl in_X4 (ci := 3) rfl 11 (by decide) q1927 (fun _ h => h) mW_a (gv k11) ?_
      refine g_aload_n X dX4_runCommands_64 rfl rfl ?_
      refine g_get X dX4_runCommands_65 rfl in_X4 (ci := 3) rfl 10 (by decide) q1926 (fun _ h => h) mW_a (gv k10) ?_
      refine g_icmp_ge (tgt := 75) X dX4_runCommands_68 rfl (by decide) (fun c_68 => ?_) (fun c => absurd ((nI_leI (by omega) (by omega)).mpr (by omega)) c)
      refine g_iconst X dX4_runCommands_75 rfl (v := (nI 0)) rfl ?_
      refine g_put X dX4_runCommands_76 rfl in_X4 tyX4_ok nmX4 (ci := 3) rfl 12 (by decide) q1928 (fun _ h => h) rfl rfl rfl rfl mW_a (Nat.le_of_ble_eq_true rfl) mW_u12 ?_
      refine g_aload_n X dX4_runCommands_79 rfl rfl ?_
      refine g_aload_n X dX4_runCommands_80 rfl rfl ?_
      refine g_get X dX4_runCommands_81 rfl in_X4 (ci := 3) rfl 12 (by decide) q1928 (fun _ h => h) mW_a (gv vU_s) ?_
      refine g_if_eq (tgt := 94) X dX4_runCommands_84 rfl (by decide) (fun c_84 => ?_) (fun c => absurd rfl c)
      refine g_aload_n X dX4_runCommands_94 rfl rfl ?_
      refine g_get X dX4_runCommands_95 rfl in_X4 (ci := 3) rfl 13 (by decide) q1929 (fun _ h => h) mW_a (gv e13) ?_
      refine g_put X dX4_runCommands_98 rfl in_X4 tyX4_ok nmX4 (ci := 3) rfl 13 (by decide) q1929 (fun _ h => h) rfl rfl rfl rfl mW_a (Nat.le_of_ble_eq_true rfl) mW_u13 ?_
      refine g_aload_n X dX4_runCommands_101 rfl rfl ?_
      refine g_iconst X dX4_runCommands_102 rfl (v := (nI 0)) rfl ?_
      refine g_put X dX4_runCommands_103 rfl in_X4 tyX4_ok nmX4 (ci := 3) rfl 10 (by decide) q1926 (fun _ h => h) rfl rfl rfl rfl mW_a (Nat.le_of_ble_eq_true rfl) mW_u10 ?_
      refine g_aload_n X dX4_runCommands_106 rfl rfl ?_
      refine g_get X dX4_runCommands_107 rfl in_X4 (ci := 3) rfl 12 (by decide) q1928 (fun _ h => h) mW_a (gv e12) ?_
      refine g_if_eq (tgt := 119) X dX4_runCommands_110 rfl (by decide) (fun c_110 => ?_) (fun c => absurd rfl c)
      refine g_aload_n X dX4_runCommands_119 rfl rfl ?_
      refine g_callV X (ct_X4_keep hst hd) dX4_runCommands_120 rfl (lw_V q1976 q1978 qs25 q76 q1979) hyV_X4_keep (fun H hH => hR.recv X.2.2.2.2.2.2.2.1 hH mW_a rfl) (fun H hH => hH) ⟨Nat.le_of_ble_eq_true rfl, Nat.le_of_ble_eq_true rfl⟩ ⟨Nat.le_of_ble_eq_true rfl, Nat.le_of_ble_eq_true rfl⟩ (Nat.le_of_ble_eq_true rfl) rfl (fun x_120 => ?_)
      refine g_iconst X dX4_runCommands_123 rfl (v := (nI 0)) rfl ?_
      refine g_istore_n X dX4_runCommands_124 rfl (by decide) rfl rfl ?_
      generalize hv4 : vU (vU (vU (vU v2 12 (nI 0)) 13 er) 10 (nI 0)) 6 (nI 0) = v4
      have n4 : RN v v4 := by rw [← hv4]; exact ((((RN.c j4).u (by omega)).u (by omega)).u (by omega)).u (by omega)
      have u6 : v4 6 = nI 0 := by rw [← hv4]; exact vU_s
      have u10 : v4 10 = nI 0 := by rw [← hv4, vU_n (by decide), vU_s]
      have u13 : v4 13 = er := by rw [← hv4, vU_n (by decide), vU_n (by decide), vU_s]
      have u14 : v4 14 = fa := by rw [← hv4, vU_n (by decide), vU_n (by decide), vU_n (by decide), vU_n (by decide)]; exact (j4 14 (by decide) (by decide) (by decide)).trans hT.2.2.2
      have u16 : v4 16 = nI acc.length := by rw [← hv4, vU_n (by decide), vU_n (by decide), vU_n (by decide), vU_n (by decide)]; exact j3
      generalize hF4 : FU (FU F 6 g2) 1 (va_cpy (FU F 6 g2 0) (FU F 6 g2 1) 0 0 158) = F4
      have f0 : F4 0 = F 0 := by rw [← hF4]; rfl
      have f1 : MR (F4 1) w.1 := by rw [← hF4]; exact MR_cg hA.1 hW.1.1.cp (fun j hj => cpy0 hj)
      have f2 : F4 2 = F 2 := by rw [← hF4]; rfl
      have f3 : F4 3 = F 3 := by rw [← hF4]; rfl
      have f4 : F4 4 = F 4 := by rw [← hF4]; rfl
      have f6 : F4 6 = g2 := by rw [← hF4]; rfl
      have hMP : ∀ (v5 : Nat → Int32) (fk : Nat → Int32), RN v v5 → MP v5 (FU F4 0 fk) w := fun v5 fk hn => MP_of hA.2 hn f2 f3
      refine GJ.imp (I' := hR Ω (mW Ω h a ad v4 (FU F4 0 (F 0)))) (fun H hH => by rw [← f0, FU_0]; exact hH) ?_
      have hok : (((a1, true), acc) : (Nat × Bool) × List Cmd).1.2 = true ∧ ¬ (((a1, true), acc) : (Nat × Bool) × List Cmd).1.1 < inp.length := ⟨rfl, hge⟩
      refine GJ.loc ((fun x : Nat × St × (Nat → Int32) => [some (.ref a), some (.int (nI x.1))]) (0, w.1, F 0)) (lvle_c rfl (lvle_c rfl lvle_e)) ?_
      refine GJ.loop (fun x : Nat × St × (Nat → Int32) => hR Ω (mW Ω h a ad v4 (FU F4 0 x.2.2))) (fun _ => 0) (fun _ => 0) (fun x : Nat × St × (Nat → Int32) => [some (.ref a), some (.int (nI x.1))]) (fun x => acc.length - x.1) (fun x => x.1 ≤ acc.length ∧ MR x.2.2 x.2.1 ∧ Wf (R + 720 * x.1) x.2.1 ∧ DJ x.2.1 ∧ sM x.2.1 ≤ M + 60 * x.1 ∧ aRuns (acc.drop x.1) x.1 x.2.1 = aRuns acc 0 w.1) (0, w.1, F 0) ⟨Nat.zero_le _, hA.1, hW.1.1, hDJ, hW.1.2, rfl⟩ ?_
      rintro ⟨k, σk, fk⟩ ⟨i1, i2, i3, i4, i5, i6⟩ ih
      dsimp only at i1 i2 i3 i4 i5 i6 ih ⊢
      refine g_iload_n X dX4_runCommands_125 rfl rfl ?_
      refine g_aload_n X dX4_runCommands_126 rfl rfl ?_
      refine g_get X dX4_runCommands_127 rfl in_X4 (ci := 3) rfl 16 (by decide) q1932 (fun _ h => h) mW_a (gv u16) ?_
      refine g_icmp_ge (tgt := 166) X dX4_runCommands_130 rfl (by decide) (fun c_130 => ?_) (fun c_130 => ?_)
      · rw [nI_leI (by omega) (by omega)] at c_130
        have hk : k = acc.length := by omega
        rw [hk, List.drop_length] at i6
        have hres := aRun_r (w := w) (er := er) (fa := fa) hfin hok i6.symm
        rw [hres]
        refine g_aload_n X dX4_runCommands_166 rfl rfl ?_
        refine g_aload_n X dX4_runCommands_167 rfl rfl ?_
        refine g_get X dX4_runCommands_168 rfl in_X4 (ci := 3) rfl 16 (by decide) q1932 (fun _ h => h) mW_a (gv u16) ?_
        refine g_callV X (ct_X4_ends (Rz := .inr (acc.length, σk)) hst hd hW u6 trivial (show MR (FU F4 0 fk 0) σk from i2) (show MR (FU F4 0 fk 1) w.1 from f1) (hMP v4 fk n4)) dX4_runCommands_171 rfl (lw_V q1992 q1994 qs28 q76 q1995) hyV_X4_ends (fun H hH => hR.recv X.2.2.2.2.2.2.2.1 hH mW_a rfl) (fun H hH => hH) ⟨Nat.le_of_ble_eq_true rfl, Nat.le_of_ble_eq_true rfl⟩ ⟨Nat.le_of_ble_eq_true rfl, Nat.le_of_ble_eq_true rfl⟩ (Nat.le_of_ble_eq_true rfl) rfl (fun y3 => ?_)
        refine g_iret X dX4_runCommands_174 rfl (Nat.le_of_ble_eq_true rfl) (Nat.le_of_ble_eq_true rfl) (fun H hH => ⟨⟨y3.1, y3.2.1, y3.2.2.1, (TX_of (F' := FU F4 0 fk) hT n4 f4 u10 u13 u14).fr y3.2.2.2⟩, rfl, hH⟩)
      · rw [nI_leI (by omega) (by omega)] at c_130
        have hk : k < acc.length := by omega
        have hdr : acc.drop k = acc.getD k (0, 0, 0, 0) :: acc.drop (k + 1) := by rw [List.drop_eq_getElem_cons hk, List.getD_eq_getElem?_getD, List.getElem?_eq_getElem hk]; rfl
        rw [hdr] at i6
        cases hRk : aDoes σk (acc.getD k (0, 0, 0, 0)) with
        | inl e =>
          have hres := aRun_l (w := w) (er := er) (fa := fa) hfin hok (i6.symm.trans (aRuns_l hRk))
          rw [hres]
          have he : 0 < e ∧ e < 100 := by have := okR_does (σ := σk) (c := acc.getD k (0, 0, 0, 0)); rw [hRk] at this; exact this
          have e6 : rV (.inl e) v4 6 = nI e := vU_s
          have n5 : RN v (vU (vU (rV (.inl e) v4) 14 (nI k)) 6 (nI 2)) := RN.u (RN.u (show RN v (vU v4 6 (nI e)) from n4.u (by omega)) (by omega)) (by omega)
          have t10 : vU (vU (rV (.inl e) v4) 14 (nI k)) 6 (nI 2) 10 = nI 0 := by rw [vU_n (by decide), vU_n (by decide), rV_n (by decide)]; exact u10
          have t13 : vU (vU (rV (.inl e) v4) 14 (nI k)) 6 (nI 2) 13 = er := by rw [vU_n (by decide), vU_n (by decide), rV_n (by decide)]; exact u13
          have t14 : vU (vU (rV (.inl e) v4) 14 (nI k)) 6 (nI 2) 14 = nI k := by rw [vU_n (by decide), vU_s]
          refine g_aload_n X dX4_runCommands_133 rfl rfl ?_
          refine g_iload_n X dX4_runCommands_134 rfl rfl ?_
          refine g_callV X (ct_X4_doesR hst hd i2 i3 (by omega) (by omega) (by omega) (j5 k hk) f6 hRk) dX4_runCommands_135 rfl (lw_V q2349 q2351 qs64 q76 q2352) hyV_X4_does (fun H hH => hR.recv X.2.2.2.2.2.2.2.1 hH mW_a rfl) (fun H hH => hH) ⟨Nat.le_of_ble_eq_true rfl, Nat.le_of_ble_eq_true rfl⟩ ⟨Nat.le_of_ble_eq_true rfl, Nat.le_of_ble_eq_true rfl⟩ (Nat.le_of_ble_eq_true rfl) rfl (fun x0 => ?_)
          refine g_aload_n X dX4_runCommands_138 rfl rfl ?_
          refine g_get X dX4_runCommands_139 rfl in_X4 (ci := 3) rfl 6 (by decide) q1922 (fun _ h => h) mW_a (gv e6) ?_
          refine g_if_le (tgt := 160) X dX4_runCommands_142 rfl (by decide) (fun c => absurd ((nI_le0 (by omega)).mp c) (by omega)) (fun c_142 => ?_)
          refine g_aload_n X dX4_runCommands_145 rfl rfl ?_
          refine g_iload_n X dX4_runCommands_146 rfl rfl ?_
          refine g_put X dX4_runCommands_147 rfl in_X4 tyX4_ok nmX4 (ci := 3) rfl 14 (by decide) q1930 (fun _ h => h) rfl rfl rfl rfl mW_a (Nat.le_of_ble_eq_true rfl) mW_u14 ?_
          refine g_aload_n X dX4_runCommands_150 rfl rfl ?_
          refine g_aload_n X dX4_runCommands_151 rfl rfl ?_
          refine g_iconst X dX4_runCommands_152 rfl (v := (nI 2)) rfl ?_
          refine g_callV X (ct_X4_fails hst) dX4_runCommands_153 rfl (lw_V q1988 q1990 qs27 q76 q1991) hyV_X4_fails (fun H hH => hR.recv X.2.2.2.2.2.2.2.1 hH mW_a rfl) (fun H hH => hH) ⟨Nat.le_of_ble_eq_true rfl, Nat.le_of_ble_eq_true rfl⟩ ⟨Nat.le_of_ble_eq_true rfl, Nat.le_of_ble_eq_true rfl⟩ (Nat.le_of_ble_eq_true rfl) rfl (fun x_153 => ?_)
          refine g_callV X (ct_X4_ends (Rz := .inl 2) hst hd hW vU_s (show okR (.inl 2) from okR_l (by decide)) trivial (show MR (FU F4 0 x0.1 1) w.1 from f1) (hMP _ x0.1 n5)) dX4_runCommands_156 rfl (lw_V q1992 q1994 qs28 q76 q1995) hyV_X4_ends (fun H hH => hR.recv X.2.2.2.2.2.2.2.1 hH mW_a rfl) (fun H hH => hH) ⟨Nat.le_of_ble_eq_true rfl, Nat.le_of_ble_eq_true rfl⟩ ⟨Nat.le_of_ble_eq_true rfl, Nat.le_of_ble_eq_true rfl⟩ (Nat.le_of_ble_eq_true rfl) rfl (fun y3 => ?_)
          refine g_iret X dX4_runCommands_159 rfl (Nat.le_of_ble_eq_true rfl) (Nat.le_of_ble_eq_true rfl) (fun H hH => ⟨⟨y3.1, y3.2.1, y3.2.2.1, (TX_of (F' := FU F4 0 x0.1) hT n5 f4 t10 t13 t14).fr y3.2.2.2⟩, rfl, hH⟩)
        | inr y =>
          obtain ⟨n, σ'⟩ := y
          rw [aRuns_r hRk] at i6
          have hw := okW_does (c := acc.getD k (0, 0, 0, 0)) i3 i4 (by omega)
          rw [hRk] at hw
          refine g_aload_n X dX4_runCommands_133 rfl rfl ?_
          refine g_iload_n X dX4_runCommands_134 rfl rfl ?_
          refine g_callV X (ct_X4_doesR hst hd i2 i3 (by omega) (by omega) (by omega) (j5 k hk) f6 hRk) dX4_runCommands_135 rfl (lw_V q2349 q2351 qs64 q76 q2352) hyV_X4_does (fun H hH => hR.recv X.2.2.2.2.2.2.2.1 hH mW_a rfl) (fun H hH => hH) ⟨Nat.le_of_ble_eq_true rfl, Nat.le_of_ble_eq_true rfl⟩ ⟨Nat.le_of_ble_eq_true rfl, Nat.le_of_ble_eq_true rfl⟩ (Nat.le_of_ble_eq_true rfl) rfl (fun x0 => ?_)
          refine g_aload_n X dX4_runCommands_138 rfl rfl ?_
          refine g_get X dX4_runCommands_139 rfl in_X4 (ci := 3) rfl 6 (by decide) q1922 (fun _ h => h) mW_a (gv u6) ?_
          refine g_if_le (tgt := 160) X dX4_runCommands_142 rfl (by decide) (fun c_142 => ?_) (fun c => absurd (by decide) c)
          refine g_iinc X dX4_runCommands_160 rfl rfl (by first | exact nI_1 _ | rfl) (by decide) rfl rfl ?_
          refine g_goto (tgt := 125) X dX4_runCommands_163 rfl (by decide) ?_
          refine GJ.loc [some (.ref a), some (.int (nI (k + 1)))] (lvle_c rfl (lvle_c rfl lvle_e)) ?_
          exact ih (k + 1, σ', x0.1) ⟨by dsimp only; omega, x0.2, hw.1.mono (by dsimp only; omega), hw.2.1, Nat.le_trans hw.2.2 (by dsimp only; omega), i6⟩ (by dsimp only; omega)
    · have hres := aRun_w (w := w) (er := er) (fa := fa) hfin hok
      rw [hres]
      have e11 : vU v2 12 (nI 1) 11 = nI a1 := (vU_n (by decide)).trans k11
      have e12 : vU (vU (vU v2 12 (nI 1)) 13 (nI a1)) 10 (nI 0) 12 = nI 1 := by rw [vU_n (by decide), vU_n (by decide), vU_s]
      have nf : RN v (vU (vU (vU (vU v2 12 (nI 1)) 13 (nI a1)) 10 (nI 0)) 6 (nI 1)) := ((((RN.c j4).u (by omega)).u (by omega)).u (by omega)).u (by omega)
      have t10 : vU (vU (vU (vU v2 12 (nI 1)) 13 (nI a1)) 10 (nI 0)) 6 (nI 1) 10 = nI 0 := by rw [vU_n (by decide), vU_s]
      have t13 : vU (vU (vU (vU v2 12 (nI 1)) 13 (nI a1)) 10 (nI 0)) 6 (nI 1) 13 = nI a1 := by rw [vU_n (by decide), vU_n (by decide), vU_s]
      have t14 : vU (vU (vU (vU v2 12 (nI 1)) 13 (nI a1)) 10 (nI 0)) 6 (nI 1) 14 = fa := by rw [vU_n (by decide), vU_n (by decide), vU_n (by decide), vU_n (by decide)]; exact (j4 14 (by decide) (by decide) (by decide)).trans hT.2.2.2
      have t6 : vU (vU (vU (vU v2 12 (nI 1)) 13 (nI a1)) 10 (nI 0)) 6 (nI 1) 6 = nI 1 := vU_s
      have hfi : MA (vU (vU (vU (vU v2 12 (nI 1)) 13 (nI a1)) 10 (nI 0)) 6 (nI 1)) (FU F 6 g2) w := ⟨hA.1, MP_of hA.2 nf rfl rfl⟩
      cases o1 with
      | false =>
        have k12 : v2 12 = nI 1 := k12
        refine g_aload_n X dX4_runCommands_52 rfl rfl ?_
        refine g_aload_n X dX4_runCommands_53 rfl rfl ?_
        refine g_get X dX4_runCommands_54 rfl in_X4 (ci := 3) rfl 12 (by decide) q1928 (fun _ h => h) mW_a (gv k12) ?_
        refine g_if_ne (tgt := 71) X dX4_runCommands_57 rfl (by decide) (fun c_57 => ?_) (fun c => absurd c (by decide))
        refine g_iconst X dX4_runCommands_71 rfl (v := (nI 1)) rfl ?_
        refine g_goto (tgt := 76) X dX4_runCommands_72 rfl (by decide) ?_
        refine g_put X dX4_runCommands_76 rfl in_X4 tyX4_ok nmX4 (ci := 3) rfl 12 (by decide) q1928 (fun _ h => h) rfl rfl rfl rfl mW_a (Nat.le_of_ble_eq_true rfl) mW_u12 ?_
        refine g_aload_n X dX4_runCommands_79 rfl rfl ?_
        refine g_aload_n X dX4_runCommands_80 rfl rfl ?_
        refine g_get X dX4_runCommands_81 rfl in_X4 (ci := 3) rfl 12 (by decide) q1928 (fun _ h => h) mW_a (gv vU_s) ?_
        refine g_if_eq (tgt := 94) X dX4_runCommands_84 rfl (by decide) (fun c => absurd c (by decide)) (fun c_84 => ?_)
        refine g_aload_n X dX4_runCommands_87 rfl rfl ?_
        refine g_get X dX4_runCommands_88 rfl in_X4 (ci := 3) rfl 11 (by decide) q1927 (fun _ h => h) mW_a (gv e11) ?_
        refine g_goto (tgt := 98) X dX4_runCommands_91 rfl (by decide) ?_
        refine g_put X dX4_runCommands_98 rfl in_X4 tyX4_ok nmX4 (ci := 3) rfl 13 (by decide) q1929 (fun _ h => h) rfl rfl rfl rfl mW_a (Nat.le_of_ble_eq_true rfl) mW_u13 ?_
        refine g_aload_n X dX4_runCommands_101 rfl rfl ?_
        refine g_iconst X dX4_runCommands_102 rfl (v := (nI 0)) rfl ?_
        refine g_put X dX4_runCommands_103 rfl in_X4 tyX4_ok nmX4 (ci := 3) rfl 10 (by decide) q1926 (fun _ h => h) rfl rfl rfl rfl mW_a (Nat.le_of_ble_eq_true rfl) mW_u10 ?_
        refine g_aload_n X dX4_runCommands_106 rfl rfl ?_
        refine g_get X dX4_runCommands_107 rfl in_X4 (ci := 3) rfl 12 (by decide) q1928 (fun _ h => h) mW_a (gv e12) ?_
        refine g_if_eq (tgt := 119) X dX4_runCommands_110 rfl (by decide) (fun c => absurd c (by decide)) (fun c_110 => ?_)
        refine g_aload_n X dX4_runCommands_113 rfl rfl ?_
        refine g_iconst X dX4_runCommands_114 rfl (v := (nI 1)) rfl ?_
        refine g_callV X (ct_X4_fails hst) dX4_runCommands_115 rfl (lw_V q1988 q1990 qs27 q76 q1991) hyV_X4_fails (fun H hH => hR.recv X.2.2.2.2.2.2.2.1 hH mW_a rfl) (fun H hH => hH) ⟨Nat.le_of_ble_eq_true rfl, Nat.le_of_ble_eq_true rfl⟩ ⟨Nat.le_of_ble_eq_true rfl, Nat.le_of_ble_eq_true rfl⟩ (Nat.le_of_ble_eq_true rfl) rfl (fun x_115 => ?_)
        refine g_iret X dX4_runCommands_118 rfl (Nat.le_of_ble_eq_true rfl) (Nat.le_of_ble_eq_true rfl) (fun H hH => ⟨⟨(_, FU F 6 g2), hfi, t6, TX_of (F' := FU F 6 g2) hT nf rfl t10 t13 t14⟩, rfl, hH⟩)
      | true =>
        have hlt : a1 < inp.length := Classical.byContradiction (fun z => hok ⟨rfl, z⟩)
        have k12 : v2 12 = nI 0 := k12
        refine g_aload_n X dX4_runCommands_52 rfl rfl ?_
        refine g_aload_n X dX4_runCommands_53 rfl rfl ?_
        refine g_get X dX4_runCommands_54 rfl in_X4 (ci := 3) rfl 12 (by decide) q1928 (fun _ h => h) mW_a (gv k12) ?_
        refine g_if_ne (tgt := 71) X dX4_runCommands_57 rfl (by decide) (fun c => absurd rfl c) (fun c_57 => ?_)
        refine g_aload_n X dX4_runCommands_60 rfl rfl ?_
        refine g_get X dX4_runCommands_61 rfl in_X4 (ci := 3) rfl 11 (by decide) q1927 (fun _ h => h) mW_a (gv k11) ?_
        refine g_aload_n X dX4_runCommands_64 rfl rfl ?_
        refine g_get X dX4_runCommands_65 rfl in_X4 (ci := 3) rfl 10 (by decide) q1926 (fun _ h => h) mW_a (gv k10) ?_
        refine g_icmp_ge (tgt := 75) X dX4_runCommands_68 rfl (by decide) (fun c => absurd ((nI_leI (by omega) (by omega)).mp c) (by omega)) (fun c_68 => ?_)
        refine g_iconst X dX4_runCommands_71 rfl (v := (nI 1)) rfl ?_
        refine g_goto (tgt := 76) X dX4_runCommands_72 rfl (by decide) ?_
        refine g_put X dX4_runCommands_76 rfl in_X4 tyX4_ok nmX4 (ci := 3) rfl 12 (by decide) q1928 (fun _ h => h) rfl rfl rfl rfl mW_a (Nat.le_of_ble_eq_true rfl) mW_u12 ?_
        refine g_aload_n X dX4_runCommands_79 rfl rfl ?_
        refine g_aload_n X dX4_runCommands_80 rfl rfl ?_
        refine g_get X dX4_runCommands_81 rfl in_X4 (ci := 3) rfl 12 (by decide) q1928 (fun _ h => h) mW_a (gv vU_s) ?_
        refine g_if_eq (tgt := 94) X dX4_runCommands_84 rfl (by decide) (fun c => absurd c (by decide)) (fun c_84 => ?_)
        refine g_aload_n X dX4_runCommands_87 rfl rfl ?_
        refine g_get X dX4_runCommands_88 rfl in_X4 (ci := 3) rfl 11 (by decide) q1927 (fun _ h => h) mW_a (gv e11) ?_
        refine g_goto (tgt := 98) X dX4_runCommands_91 rfl (by decide) ?_
        refine g_put X dX4_runCommands_98 rfl in_X4 tyX4_ok nmX4 (ci := 3) rfl 13 (by decide) q1929 (fun _ h => h) rfl rfl rfl rfl mW_a (Nat.le_of_ble_eq_true rfl) mW_u13 ?_
        refine g_aload_n X dX4_runCommands_101 rfl rfl ?_
        refine g_iconst X dX4_runCommands_102 rfl (v := (nI 0)) rfl ?_
        refine g_put X dX4_runCommands_103 rfl in_X4 tyX4_ok nmX4 (ci := 3) rfl 10 (by decide) q1926 (fun _ h => h) rfl rfl rfl rfl mW_a (Nat.le_of_ble_eq_true rfl) mW_u10 ?_
        refine g_aload_n X dX4_runCommands_106 rfl rfl ?_
        refine g_get X dX4_runCommands_107 rfl in_X4 (ci := 3) rfl 12 (by decide) q1928 (fun _ h => h) mW_a (gv e12) ?_
        refine g_if_eq (tgt := 119) X dX4_runCommands_110 rfl (by decide) (fun c => absurd c (by decide)) (fun c_110 => ?_)
        refine g_aload_n X dX4_runCommands_113 rfl rfl ?_
        refine g_iconst X dX4_runCommands_114 rfl (v := (nI 1)) rfl ?_
        refine g_callV X (ct_X4_fails hst) dX4_runCommands_115 rfl (lw_V q1988 q1990 qs27 q76 q1991) hyV_X4_fails (fun H hH => hR.recv X.2.2.2.2.2.2.2.1 hH mW_a rfl) (fun H hH => hH) ⟨Nat.le_of_ble_eq_true rfl, Nat.le_of_ble_eq_true rfl⟩ ⟨Nat.le_of_ble_eq_true rfl, Nat.le_of_ble_eq_true rfl⟩ (Nat.le_of_ble_eq_true rfl) rfl (fun x_115 => ?_)
        refine g_iret X dX4_runCommands_118 rfl (Nat.le_of_ble_eq_true rfl) (Nat.le_of_ble_eq_true rfl) (fun H hH => ⟨⟨(_, FU F 6 g2), hfi, t6, TX_of (F' := FU F 6 g2) hT nf rfl t10 t13 t14⟩, rfl, hH⟩)
end M18
