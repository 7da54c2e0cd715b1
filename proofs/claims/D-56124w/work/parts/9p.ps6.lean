/-! PARSER of the class: all commands, carried out -/
/-- the numbers of the park's object, another failed command -/
abbrev CXf (C : CT) (t : Tx) (k : Int32) : List Value := CX C (t.1, t.2.1, t.2.2.1, k)
theorem rdL_pre {inp : List Nat} : ∀ (n a : Nat) (acc : List Cmd), ∃ m, (rdL inp n a acc).2 = acc ++ m
  | 0, a, acc => ⟨[], (List.append_nil _).symm⟩
  | n + 1, a, acc => by
    rw [rdL_s]
    split
    · obtain ⟨m, h⟩ := rdL_pre (inp := inp) n ((rdC inp a).1.1 + 1) (acc ++ [(bh inp a, (rdC inp a).2)])
      exact ⟨[(bh inp a, (rdC inp a).2)] ++ m, by rw [h, List.append_assoc]⟩
    · exact ⟨_, rfl⟩
theorem RD_pre {inp : List Nat} {a n : Nat} {acc : List Cmd} (h : RD inp a n acc) : ∃ m, (rdA inp).2 = acc ++ m := by
  rw [h.2.2.2]
  split
  · exact rdL_pre _ _ _
  · exact ⟨[], (List.append_nil _).symm⟩
theorem aRuns_app {more : List Cmd} : ∀ (acc : List Cmd) (k : Nat) (σ : St), aRuns (acc ++ more) k σ = (match aRuns acc k σ with | .inl e => .inl e | .inr τ => aRuns more (k + acc.length) τ)
  | [], k, σ => rfl
  | c :: cs, k, σ => by
    show aRuns (c :: (cs ++ more)) k σ = _
    cases h : aDoes σ c with
    | inl e => rw [aRuns_l h, aRuns_l h]
    | inr y =>
      obtain ⟨n, τ⟩ := y
      rw [aRuns_r h, aRuns_r h, aRuns_app cs (k + 1) τ, List.length_cons, show k + 1 + cs.length = k + (cs.length + 1) by omega]
theorem aRuns_in {c : Cmd} {acc more : List Cmd} {σ τ : St} {e : Nat} (h : aRuns acc 0 σ = .inr τ) (h2 : aDoes τ c = .inl e) : aRuns (acc ++ [c] ++ more) 0 σ = .inl acc.length := by
  rw [List.append_assoc, aRuns_app, h]
  dsimp only
  rw [List.singleton_append, aRuns_l h2, Nat.zero_add]
theorem aRuns_ok {c : Cmd} {acc : List Cmd} {σ τ τ' : St} {n : Nat} (h : aRuns acc 0 σ = .inr τ) (h2 : aDoes τ c = .inr (n, τ')) : aRuns (acc ++ [c]) 0 σ = .inr τ' := by
  rw [aRuns_app, h]
  dsimp only
  rw [aRuns_r h2]; rfl
section PS6
variable {l : Launch} {Ω : Om} {Γ G : LH} {x pa c8 a : Nat} {C : CT} {t : Tx} {o : Nat × Nat × Nat} {B : Ad} {σ : St} {R : Nat}
set_option maxRecDepth 100000
set_option maxHeartbeats 1000000
abbrev CSo (Ω : Om) (Γ : LH) (pa x c8 : Nat) (inp : List Nat) (a : Nat) (σ : St) : Option Value → Heap → Prop := QV (fun _ : {y : LH × Ad × St × Nat × Nat × Nat // (∃ n, aDoes σ (bh inp a, (rdC inp a).2) = .inr (n, y.2.2.1)) ∧ SS Ω Γ pa x c8 (rdC inp a).1.1 y.2.2.2 y.1 y.2.1 y.2.2.1} => none) (fun y => hL Ω y.1.1)
theorem ct_X10_command_s (hst : l.stackTraces = false) (hP0 : PI Ω Γ pa x C t) (hS : SS Ω Γ pa x c8 a o G B σ) (ha : a ≤ t.2.1.length) (hok : (rdC t.2.1 a).1.2 = true) (W : Wf R σ) (hm : sM σ + 60 ≤ 100000) (hr : R + 720 ≤ 2000000) : CM Ω l yX10_command (ws_ yX10_command cX10_command 4 none) 36 1933 64650 [.ref pa, .ref c8] (hL Ω G) (CSo Ω Γ pa x c8 t.2.1 a σ) (COx Ω Γ pa x (aDoes σ (bh t.2.1 a, (rdC t.2.1 a).2))) := by
  have hP := hS.toPI hP0
  have hJ := fun b ok => rdC_J (a := a) (b := b) (ok := ok) hP.b
  refine CM.of (L := [some (.ref pa), some (.ref c8), none, none]) hst (by decide) (Nat.le_of_ble_eq_true rfl) rfl ?_
  intro p e s m below meth c X hnm htab
  refine GJ.imp (I' := hL Ω (PH G pa x a o)) (fun H hH => by rw [hS.eq]; exact hH) ?_
  refine g_aload_n X dX10_command_0 rfl rfl ?_
  refine g_callV X (ct_X10_keyword hst hP ha) dX10_command_1 rfl (lw_V q1498 q1500 qs19 q103 q1501) hyV_X10_keyword (fun H hH => hL.recv X.2.2.2.2.2.2.2.1 hH (PH_s) rfl) (fun H hH => hH) ⟨Nat.le_of_ble_eq_true rfl, Nat.le_of_ble_eq_true rfl⟩ ⟨by first | exact Nat.le_of_ble_eq_true rfl | omega | (dsimp only [rmD]; omega), by first | exact Nat.le_of_ble_eq_true rfl | omega | (dsimp only [rmD]; omega)⟩ (Nat.le_of_ble_eq_true rfl) rfl (fun x_1 => ?_)
  refine g_astore_n X dX10_command_4 rfl (by decide) rfl rfl ?_
  refine g_iconst X dX10_command_5 rfl (v := (nI 0)) rfl ?_
  refine g_istore_n X dX10_command_6 rfl (by decide) rfl rfl ?_
  have hlt : kwJ (bh t.2.1 a) < 7 := kwJ_lt
  generalize kwJ (bh t.2.1 a) = j at hJ hlt ⊢
  obtain ⟨hlen, hch⟩ := sTx_ok j (by omega)
  have h4 := sTx_pos j hlt
  have h6 := sLen_le j (by omega)
  refine GJ.imp (I' := (fun k : Nat => hL Ω (PH G pa x (a + k) o)) 0) (fun H hH => hH) ?_
  refine GJ.loc ((fun k : Nat => [some (.ref pa), some (.ref c8), some (.ref (oM Ω (300 + j))), some (.int (nI k))]) 0) (lvle_c rfl (lvle_c rfl (lvle_c rfl (lvle_c rfl lvle_e)))) ?_
  refine GJ.loop (fun k : Nat => hL Ω (PH G pa x (a + k) o)) (fun k => 1 * k) (fun k => 7 * k) (fun k : Nat => [some (.ref pa), some (.ref c8), some (.ref (oM Ω (300 + j))), some (.int (nI k))]) (fun k => (sTx j).length - k) (fun k => k ≤ (sTx j).length ∧ a + k ≤ t.2.1.length ∧ skS t.2.1 (sTx j) a true = skS t.2.1 ((sTx j).drop k) (a + k) true) 0 ⟨Nat.zero_le _, ha, rfl⟩ ?_
  intro k hk ih
  obtain ⟨k1, k2, k3⟩ := hk
  refine g_iload_n X dX10_command_7 rfl rfl ?_
  refine g_aload_n X dX10_command_8 rfl rfl ?_
  refine g_callVk X (ct_J5_length hst (show j < 8 by omega)) dX10_command_9 rfl (lw_V q1509 q1510 q1511 q74 q1512) hyV_J5_length (fun H locs hS => oS_recv X hS (by omega)) (fun H hH => hH) ⟨Nat.le_of_ble_eq_true rfl, Nat.le_of_ble_eq_true rfl⟩ ⟨by first | exact Nat.le_of_ble_eq_true rfl | omega | (dsimp only [rmD]; omega), by first | exact Nat.le_of_ble_eq_true rfl | omega | (dsimp only [rmD]; omega)⟩ (Nat.le_of_ble_eq_true rfl) rfl (fun x_9 => ?_)
  refine g_icmp_ge (tgt := 36) X dX10_command_12 rfl (by decide) (fun c_12 => ?_) (fun c_12 => ?_)
  · rw [nI_leI (by omega) (by omega)] at c_12
    have hkl : k = (sTx j).length := by omega
    rw [hkl, List.drop_length, skS_end] at k3
    rw [← hkl] at k3
    have er := (hJ _ _ k3).2 rfl
    obtain ⟨g1, g2⟩ := hch 0 (by decide) (by omega)
    have hkey : nI (sCh j 0) = bh t.2.1 a := by rw [bh_some (skS_2 hlt k3), g1]
    refine g_aload_n X dX10_command_36 rfl rfl ?_
    refine g_aload_n X dX10_command_37 rfl rfl ?_
    refine g_iconst X dX10_command_38 rfl (v := (nI 0)) rfl ?_
    refine g_callVk X (ct_J5_charAt hst (show j < 8 by omega) (k := 0) (by omega)) dX10_command_39 rfl (lw_V q1517 q1518 q1519 q74 q1520) hyV_J5_charAt (fun H locs hS => oS_recv X hS (by omega)) (fun H hH => hH) ⟨Nat.le_of_ble_eq_true rfl, Nat.le_of_ble_eq_true rfl⟩ ⟨by first | exact Nat.le_of_ble_eq_true rfl | omega | (dsimp only [rmD]; omega), by first | exact Nat.le_of_ble_eq_true rfl | omega | (dsimp only [rmD]; omega)⟩ (Nat.le_of_ble_eq_true rfl) rfl (fun x_39 => ?_)
    refine g_callVx X (ct_X10_readNumbers hst hP k2 hlt) dX10_command_42 rfl (lw_V q1586 q1588 qs22 q103 q1589) hyV_X10_readNumbers (fun H hH => hL.recv X.2.2.2.2.2.2.2.1 hH (PH_s) rfl) (fun H hH => hH) ⟨Nat.le_of_ble_eq_true rfl, Nat.le_of_ble_eq_true rfl⟩ ⟨by first | exact Nat.le_of_ble_eq_true rfl | omega | (dsimp only [rmD]; omega), by first | exact Nat.le_of_ble_eq_true rfl | omega | (dsimp only [rmD]; omega)⟩ (Nat.le_of_ble_eq_true rfl) rfl (fun E q => GX.and (fun _ => GX.and (fun g => absurd (er ▸ hok) (by rw [g]; exact Bool.noConfusion)))) (fun y1 => ?_)
    obtain ⟨o1, r1, r2, r3⟩ := y1
    dsimp only
    rw [← er] at r2 r3 ⊢
    have hS2 : SS Ω Γ pa x c8 (rdC t.2.1 a).1.1 o1 (PH G pa x (rdC t.2.1 a).1.1 o1) B σ := hS.mv
    refine g_aload_n X dX10_command_45 rfl rfl ?_
    refine g_ifnull X (x := some c8) (tgt := 59) dX10_command_46 rfl (by decide) (fun g => by simp at g) (fun y g => ?_)
    have hcy := ct_X10_carryOut (l := l) hst hS2 W hm hr hlt r3
    rw [show aDoes σ (nI (sCh j 0), (rdC t.2.1 a).2) = aDoes σ (bh t.2.1 a, (rdC t.2.1 a).2) by rw [hkey]] at hcy
    refine g_aload_n X dX10_command_49 rfl rfl ?_
    refine g_aload_n X dX10_command_50 rfl rfl ?_
    refine g_aload_n X dX10_command_51 rfl rfl ?_
    refine g_iconst X dX10_command_52 rfl (v := (nI 0)) rfl ?_
    refine g_callVk X (ct_J5_charAt hst (show j < 8 by omega) (k := 0) (by omega)) dX10_command_53 rfl (lw_V q1517 q1518 q1519 q74 q1520) hyV_J5_charAt (fun H locs hS => oS_recv X hS (by omega)) (fun H hH => hH) ⟨Nat.le_of_ble_eq_true rfl, Nat.le_of_ble_eq_true rfl⟩ ⟨by first | exact Nat.le_of_ble_eq_true rfl | omega | (dsimp only [rmD]; omega), by first | exact Nat.le_of_ble_eq_true rfl | omega | (dsimp only [rmD]; omega)⟩ (Nat.le_of_ble_eq_true rfl) rfl (fun x_53 => ?_)
    refine g_callVx X (hcy) dX10_command_56 rfl (lw_V q1594 q1596 qs24 q103 q1597) hyV_X10_carryOut (fun H hH => hL.recv X.2.2.2.2.2.2.2.1 hH (PH_s) rfl) (fun H hH => hH) ⟨Nat.le_of_ble_eq_true rfl, Nat.le_of_ble_eq_true rfl⟩ ⟨by dsimp only [rmD]; omega, by dsimp only [rmD]; omega⟩ (Nat.le_of_ble_eq_true rfl) rfl (fun E q => GX.pass X htab (by omega) (by omega) (fun H h => h)) (fun y2 => ?_)
    obtain ⟨⟨G2, B2, n2, σ2⟩, z1, z2, z3⟩ := y2
    dsimp only at z1 z2 z3 ⊢
    refine g_vret X dX10_command_59 rfl (by omega) (by omega) (fun H hH => ⟨⟨(G2, B2, σ2, o1), ⟨n2, z1⟩, hS.1, z2, z3⟩, rfl, hH⟩)
  · rw [nI_leI (by omega) (by omega)] at c_12
    have hlt2 : k < (sTx j).length := by omega
    obtain ⟨g1, g2⟩ := hch k (by omega) (by omega)
    refine g_aload_n X dX10_command_15 rfl rfl ?_
    refine g_aload_n X dX10_command_16 rfl rfl ?_
    refine g_iload_n X dX10_command_17 rfl rfl ?_
    refine g_callVk X (ct_J5_charAt hst (show j < 8 by omega) (k := k) (by omega)) dX10_command_18 rfl (lw_V q1517 q1518 q1519 q74 q1520) hyV_J5_charAt (fun H locs hS => oS_recv X hS (by omega)) (fun H hH => hH) ⟨Nat.le_of_ble_eq_true rfl, Nat.le_of_ble_eq_true rfl⟩ ⟨by first | exact Nat.le_of_ble_eq_true rfl | omega | (dsimp only [rmD]; omega), by first | exact Nat.le_of_ble_eq_true rfl | omega | (dsimp only [rmD]; omega)⟩ (Nat.le_of_ble_eq_true rfl) rfl (fun x_18 => ?_)
    refine g_aload_n X dX10_command_21 rfl rfl ?_
    refine g_iload_n X dX10_command_22 rfl rfl ?_
    refine g_callVk X (ct_J5_charAt hst (show j < 8 by omega) (k := k) (by omega)) dX10_command_23 rfl (lw_V q1517 q1518 q1519 q74 q1520) hyV_J5_charAt (fun H locs hS => oS_recv X hS (by omega)) (fun H hH => hH) ⟨Nat.le_of_ble_eq_true rfl, Nat.le_of_ble_eq_true rfl⟩ ⟨by first | exact Nat.le_of_ble_eq_true rfl | omega | (dsimp only [rmD]; omega), by first | exact Nat.le_of_ble_eq_true rfl | omega | (dsimp only [rmD]; omega)⟩ (Nat.le_of_ble_eq_true rfl) rfl (fun x_23 => ?_)
    refine g_callVx X (ct_X10_next (a := a + k) (lo := sCh j k) (hi := sCh j k) hst hP k2 (by omega)) dX10_command_26 rfl (lw_V q1553 q1555 qs20 q103 q1556) hyV_X10_next (fun H hH => hL.recv X.2.2.2.2.2.2.2.1 hH (PH_s) rfl) (fun H hH => hH) ⟨Nat.le_of_ble_eq_true rfl, Nat.le_of_ble_eq_true rfl⟩ ⟨by first | exact Nat.le_of_ble_eq_true rfl | omega | (dsimp only [rmD]; omega), by first | exact Nat.le_of_ble_eq_true rfl | omega | (dsimp only [rmD]; omega)⟩ (Nat.le_of_ble_eq_true rfl) rfl (fun E q => GX.and (fun _ => GX.and (fun g => by rw [bh_one hP (by omega), g1] at g; rw [skS_n hlt2 g] at k3; rw [(hJ _ _ k3).1 rfl] at hok; exact Bool.noConfusion hok))) (fun y1 => ?_)
    have hin := y1.2
    rw [bh_one hP (by omega), g1] at hin
    have hk3 : a + k < t.2.1.length := Nat.lt_of_not_le (fun g => by rw [List.getElem?_eq_none g] at hin; simp at hin)
    refine g_pop X dX10_command_29 rfl rfl ?_
    refine g_iinc X dX10_command_30 rfl rfl (by first | exact nI_1 _ | rfl) (by decide) rfl rfl ?_
    refine g_goto (tgt := 7) X dX10_command_33 rfl (by decide) ?_
    refine GJ.loc [some (.ref pa), some (.ref c8), some (.ref (oM Ω (300 + j))), some (.int (nI (k + 1)))] (lvle_c rfl (lvle_c rfl (lvle_c rfl (lvle_c rfl lvle_e)))) ?_
    refine GJ.wide (k' := 1 * (k + 1)) (n' := 7 * (k + 1)) (by omega) (by omega) ?_
    exact ih (k + 1) ⟨by omega, by omega, by rw [k3, skS_t hlt2 hin]; rfl⟩ (by omega)
/-- thrown by run: the park's object names the failed command -/
abbrev RSx (Ω : Om) (Γ : LH) (x : Nat) (C : CT) (t : Tx) (k : Int32) (P : Prop) : String → Nat → Heap → Prop := fun E _ H => E = "java/lang/UnsupportedOperationException" ∧ P ∧ ∃ G, Ex Γ G ∧ hL Ω (hu G x (.inl (.inr (0, CXf C t k)))) H
theorem ct_X10_run_s (hst : l.stackTraces = false) (hP0 : PI Ω Γ pa x C t) (hS : SS Ω Γ pa x c8 a o G B σ) (ha : a ≤ t.2.1.length) (hok : (rdC t.2.1 a).1.2 = true) (W : Wf R σ) (hm : sM σ + 60 ≤ 100000) (hr : R + 720 ≤ 2000000) {k : Int32} : CM Ω l yX10_run (wsW_ yX10_run cX10_run 4 none [((0 : Nat), (5 : Nat), (8 : Nat), (118 : Nat)), ((0 : Nat), (5 : Nat), (8 : Nat), (120 : Nat)), ((0 : Nat), (5 : Nat), (8 : Nat), (122 : Nat)), ((0 : Nat), (5 : Nat), (8 : Nat), (124 : Nat)), ((0 : Nat), (5 : Nat), (8 : Nat), (126 : Nat))]) 38 1934 64656 [.ref pa, .ref c8, .int k] (hL Ω G) (CSo Ω Γ pa x c8 t.2.1 a σ) (RSx Ω Γ x C t k (∃ c, aDoes σ (bh t.2.1 a, (rdC t.2.1 a).2) = .inl c)) := by
  refine CM.ofH (L := [some (.ref pa), some (.ref c8), some (.int k), none]) hst (by decide) (Nat.le_of_ble_eq_true rfl) rfl ?_
  intro p e s m below meth c X hnm htab
  have hh : ∀ {E : String} {q : Nat}, (∃ c, aDoes σ (bh t.2.1 a, (rdC t.2.1 a).2) = .inl c) → ∀ y : LH × Nat × Nat × Nat × Nat, Ex (PH Γ pa x y.2.1 y.2.2) y.1 → GJ Ω p l e (rmD 38 1934 64656) s m [.ref pa, .ref c8, .int k].toArray below meth c 4 (MM Ω below (CSo Ω Γ pa x c8 t.2.1 a σ) (RSx Ω Γ x C t k (∃ c, aDoes σ (bh t.2.1 a, (rdC t.2.1 a).2) = .inl c)) [.ref pa, .ref c8, .int k].toArray s 1934 64656) (hL Ω y.1) (0 + 1933) (0 + 64650) 8 [some (.ref pa), some (.ref c8), some (.int k), none] [.ref q] := by
    intro E q hc y hy
    have hpp : isO y.1 pa 9 (pzF x y.2.1 y.2.2) := hy _ _ PH_s
    have hxx : isO y.1 x 0 (CX C t) := hy _ _ ((PH_n hP0.2.1).trans hP0.1)
    have hEx : Ex Γ y.1 := fun q e hq => hy q e ((PH_n (neN hq hS.1)).trans hq)
    refine g_astore_n X dX10_run_8 rfl (by decide) rfl rfl ?_
    refine g_aload_n X dX10_run_9 rfl rfl ?_
    refine l_get X dX10_run_10 rfl in_X10 (ci := 9) rfl 4 (by decide) q1469 (fun _ h => h) hpp rfl ?_
    refine g_iload_n X dX10_run_13 rfl rfl ?_
    refine l_putN X dX10_run_14 rfl in_X1 tyX1_ok nmX1 (ci := 0) rfl 6 (by decide) "SlidePark" q242 (fun _ h => h) rfl rfl rfl rfl hxx (Nat.le_of_ble_eq_true rfl) rfl ?_
    refine g_throw0 X (names := ["java/lang/RuntimeException", "java/lang/Exception"]) dX10_run_17 rfl dX10_run_20 dX10_run_21 dX10_run_24 (by decide) (by decide) q1493 q93 at0_X10_run (tab_all (P := fun z => covers z 24 = false) htab (by decide)) (Nat.le_of_ble_eq_true rfl) (Nat.le_of_ble_eq_true rfl) (Nat.le_of_ble_eq_true rfl) (Nat.le_of_ble_eq_true rfl) (Nat.le_of_ble_eq_true rfl) (Nat.le_of_ble_eq_true rfl) fun q H H1 hI hz hq => ⟨rfl, hc, y.1, hEx, hI.grow hq⟩
  refine g_aload_n X dX10_run_0 rfl rfl ?_
  refine g_aload_n X dX10_run_1 rfl rfl ?_
  refine g_callVx X (ct_X10_command_s hst hP0 hS ha hok W hm hr) dX10_run_2 rfl (lw_V q1494 q1496 qs18 q103 q1497) hyV_X10_command (fun H hH => hL.recv X.2.2.2.2.2.2.2.1 hH (hS.pp) rfl) (fun H hH => hH) ⟨Nat.le_of_ble_eq_true rfl, Nat.le_of_ble_eq_true rfl⟩ ⟨by first | exact Nat.le_of_ble_eq_true rfl | omega | (dsimp only [rmD]; omega), by first | exact Nat.le_of_ble_eq_true rfl | omega | (dsimp only [rmD]; omega)⟩ (Nat.le_of_ble_eq_true rfl) rfl ?_ (fun y1 => ?_)
  · intro E q
    refine GX.and (fun hE => GX.and (fun hc => GX.ex (fun y => GX.and (fun hy => ?_))))
    rcases hE with rfl | rfl | rfl | rfl | rfl
    · refine GX.catch X [] ⟨0, 5, 8, 118⟩ [⟨0, 5, 8, 120⟩, ⟨0, 5, 8, 122⟩, ⟨0, 5, 8, 124⟩, ⟨0, 5, 8, 126⟩] (htab.trans rfl) (fun z hz => absurd hz (by simp)) (by decide) (by decide) q1489 q900 (hh (E := "") hc y hy)
    · refine GX.catch X [⟨0, 5, 8, 118⟩] ⟨0, 5, 8, 120⟩ [⟨0, 5, 8, 122⟩, ⟨0, 5, 8, 124⟩, ⟨0, 5, 8, 126⟩] (htab.trans rfl) (fun z hz => ?_) (by decide) (by decide) q1490 q778 (hh (E := "") hc y hy)
      simp only [List.mem_cons, List.not_mem_nil, or_false] at hz
      rcases hz with rfl
      · exact Or.inr ⟨by decide, _, q1489, by decide⟩
    · refine GX.catch X [⟨0, 5, 8, 118⟩, ⟨0, 5, 8, 120⟩] ⟨0, 5, 8, 122⟩ [⟨0, 5, 8, 124⟩, ⟨0, 5, 8, 126⟩] (htab.trans rfl) (fun z hz => ?_) (by decide) (by decide) q1491 q796 (hh (E := "") hc y hy)
      simp only [List.mem_cons, List.not_mem_nil, or_false] at hz
      rcases hz with rfl | rfl
      · exact Or.inr ⟨by decide, _, q1489, by decide⟩
      · exact Or.inr ⟨by decide, _, q1490, by decide⟩
    · refine GX.catch X [⟨0, 5, 8, 118⟩, ⟨0, 5, 8, 120⟩, ⟨0, 5, 8, 122⟩] ⟨0, 5, 8, 124⟩ [⟨0, 5, 8, 126⟩] (htab.trans rfl) (fun z hz => ?_) (by decide) (by decide) q1492 q361 (hh (E := "") hc y hy)
      simp only [List.mem_cons, List.not_mem_nil, or_false] at hz
      rcases hz with rfl | rfl | rfl
      · exact Or.inr ⟨by decide, _, q1489, by decide⟩
      · exact Or.inr ⟨by decide, _, q1490, by decide⟩
      · exact Or.inr ⟨by decide, _, q1491, by decide⟩
    · refine GX.catch X [⟨0, 5, 8, 118⟩, ⟨0, 5, 8, 120⟩, ⟨0, 5, 8, 122⟩, ⟨0, 5, 8, 124⟩] ⟨0, 5, 8, 126⟩ [] (htab.trans rfl) (fun z hz => ?_) (by decide) (by decide) q1493 q942 (hh (E := "") hc y hy)
      simp only [List.mem_cons, List.not_mem_nil, or_false] at hz
      rcases hz with rfl | rfl | rfl | rfl
      · exact Or.inr ⟨by decide, _, q1489, by decide⟩
      · exact Or.inr ⟨by decide, _, q1490, by decide⟩
      · exact Or.inr ⟨by decide, _, q1491, by decide⟩
      · exact Or.inr ⟨by decide, _, q1492, by decide⟩
  · refine g_goto (tgt := 25) X dX10_run_5 rfl (by decide) ?_
    refine g_vret X dX10_run_25 rfl (by first | exact Nat.le_of_ble_eq_true rfl | omega | (dsimp only [rmD]; omega)) (by first | exact Nat.le_of_ble_eq_true rfl | omega | (dsimp only [rmD]; omega)) (fun H hH => ⟨y1, rfl, hH⟩)
end PS6
