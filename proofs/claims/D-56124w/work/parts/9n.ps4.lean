/-! PARSER of the class: a command; all commands, read only -/
theorem tab_all {P : ExceptionTableEntry → Prop} {c : Code} {T : List (Nat × Nat × Nat × Nat)} (htab : c.exceptionTable.toList = tableOf T) (h : ∀ q ∈ T, P ⟨q.1, q.2.1, q.2.2.1, q.2.2.2⟩) : ∀ z ∈ c.exceptionTable.toList, P z := fun z hz => by
  rw [htab] at hz
  obtain ⟨q, hq, rfl⟩ := List.mem_map.mp hz
  exact h q hq
theorem ptab (pc : Nat) : ∀ q ∈ [((0 : Nat), (5 : Nat), (8 : Nat), (118 : Nat)), ((0 : Nat), (5 : Nat), (8 : Nat), (120 : Nat)), ((0 : Nat), (5 : Nat), (8 : Nat), (122 : Nat)), ((0 : Nat), (5 : Nat), (8 : Nat), (124 : Nat)), ((0 : Nat), (5 : Nat), (8 : Nat), (126 : Nat))], (fun z : ExceptionTableEntry => covers z pc = false ∨ (z.catchType ≠ 0 ∧ ∃ nm : String, Cond.classLink "SlidePark$Parser" z.catchType nm ∈ lw_all ∧ ("SlidePark$MalformedException", nm) ∈ ncl)) ⟨q.1, q.2.1, q.2.2.1, q.2.2.2⟩ := by
  intro q hq
  simp only [List.mem_cons, List.not_mem_nil, or_false] at hq
  rcases hq with rfl | rfl | rfl | rfl | rfl
  · exact Or.inr ⟨by decide, _, q1489, by decide⟩
  · exact Or.inr ⟨by decide, _, q1490, by decide⟩
  · exact Or.inr ⟨by decide, _, q1491, by decide⟩
  · exact Or.inr ⟨by decide, _, q1492, by decide⟩
  · exact Or.inr ⟨by decide, _, q1493, by decide⟩
section PS4
variable {l : Launch} {Ω : Om} {Γ : LH} {x pa a : Nat} {C : CT} {t : Tx} {o : Nat × Nat × Nat}
set_option maxRecDepth 100000
set_option maxHeartbeats 1000000
abbrev RCo (Ω : Om) (Γ : LH) (pa x : Nat) (inp : List Nat) (a : Nat) : Option Value → Heap → Prop := QV (fun _ : {y : Nat × Nat × Nat // (rdC inp a).1.2 = true ∧ (rdC inp a).1.1 ≤ inp.length} => none) (fun y => hL Ω (PH Γ pa x (rdC inp a).1.1 y.1))
abbrev RCx (Ω : Om) (Γ : LH) (pa x : Nat) (inp : List Nat) (a : Nat) : String → Nat → Heap → Prop := MX Ω Γ pa x (rdC inp a).1.1 ((rdC inp a).1.2 = false)
theorem ct_X10_command_n (hst : l.stackTraces = false) (hP : PI Ω Γ pa x C t) (ha : a ≤ t.2.1.length) : CM Ω l yX10_command (ws_ yX10_command cX10_command 4 none) 24 12 84 [.ref pa, .null] (hL Ω (PH Γ pa x a o)) (RCo Ω Γ pa x t.2.1 a) (RCx Ω Γ pa x t.2.1 a) := by
  have hJ := fun b ok => rdC_J (a := a) (b := b) (ok := ok) hP.b
  refine CM.of (L := [some (.ref pa), some (.null), none, none]) hst (by decide) (Nat.le_of_ble_eq_true rfl) rfl ?_
  intro p e s m below meth c X hnm htab
  refine g_aload_n X dX10_command_0 rfl rfl ?_
  refine g_callV X (ct_X10_keyword hst hP ha) dX10_command_1 rfl (lw_V q1498 q1500 qs19 q103 q1501) hyV_X10_keyword (fun H hH => hL.recv X.2.2.2.2.2.2.2.1 hH (PH_s) rfl) (fun H hH => hH) ⟨Nat.le_of_ble_eq_true rfl, Nat.le_of_ble_eq_true rfl⟩ ⟨by first | exact Nat.le_of_ble_eq_true rfl | omega | (dsimp only [rmD]; omega), by first | exact Nat.le_of_ble_eq_true rfl | omega | (dsimp only [rmD]; omega)⟩ (Nat.le_of_ble_eq_true rfl) rfl (fun x_1 => ?_)
  refine g_astore_n X dX10_command_4 rfl (by decide) rfl rfl ?_
  refine g_iconst X dX10_command_5 rfl (v := (nI 0)) rfl ?_
  refine g_istore_n X dX10_command_6 rfl (by decide) rfl rfl ?_
  have hlt : kwJ (bh t.2.1 a) < 7 := kwJ_lt
  generalize kwJ (bh t.2.1 a) = j at hJ hlt ⊢
  obtain ⟨hlen, hch⟩ := sTx_ok j (by omega)
  have h4 := sTx_pos j hlt
  have h6 := sLen_le j (by omega)
  refine GJ.imp (I' := (fun k : Nat => hL Ω (PH Γ pa x (a + k) o)) 0) (fun H hH => hH) ?_
  refine GJ.loc ((fun k : Nat => [some (.ref pa), some .null, some (.ref (oM Ω (300 + j))), some (.int (nI k))]) 0) (lvle_c rfl (lvle_c rfl (lvle_c rfl (lvle_c rfl lvle_e)))) ?_
  refine GJ.loop (fun k : Nat => hL Ω (PH Γ pa x (a + k) o)) (fun k => 1 * k) (fun k => 7 * k) (fun k : Nat => [some (.ref pa), some .null, some (.ref (oM Ω (300 + j))), some (.int (nI k))]) (fun k => (sTx j).length - k) (fun k => k ≤ (sTx j).length ∧ a + k ≤ t.2.1.length ∧ skS t.2.1 (sTx j) a true = skS t.2.1 ((sTx j).drop k) (a + k) true) 0 ⟨Nat.zero_le _, ha, rfl⟩ ?_
  intro k hk ih
  obtain ⟨k1, k2, k3⟩ := hk
  refine g_iload_n X dX10_command_7 rfl rfl ?_
  refine g_aload_n X dX10_command_8 rfl rfl ?_
  refine g_callVk X (ct_J5_length hst (show j < 8 by omega)) dX10_command_9 rfl (lw_V q1509 q1510 q1511 q74 q1512) hyV_J5_length (fun H locs hS => oS_recv X hS (by omega)) (fun H hH => hH) ⟨Nat.le_of_ble_eq_true rfl, Nat.le_of_ble_eq_true rfl⟩ ⟨by first | exact Nat.le_of_ble_eq_true rfl | omega | (dsimp only [rmD]; omega), by first | exact Nat.le_of_ble_eq_true rfl | omega | (dsimp only [rmD]; omega)⟩ (Nat.le_of_ble_eq_true rfl) rfl (fun x_9 => ?_)
  refine g_icmp_ge (tgt := 36) X dX10_command_12 rfl (by decide) (fun c_12 => ?_) (fun c_12 => ?_)
  · rw [nI_leI (by omega) (by omega)] at c_12
    have hkl : k = (sTx j).length := by omega
    rw [hkl, List.drop_length, skS_end] at k3
    rw [← hkl] at k3
    have er := (hJ _ _ k3).2 rfl
    refine g_aload_n X dX10_command_36 rfl rfl ?_
    refine g_aload_n X dX10_command_37 rfl rfl ?_
    refine g_iconst X dX10_command_38 rfl (v := (nI 0)) rfl ?_
    refine g_callVk X (ct_J5_charAt hst (show j < 8 by omega) (k := 0) (by omega)) dX10_command_39 rfl (lw_V q1517 q1518 q1519 q74 q1520) hyV_J5_charAt (fun H locs hS => oS_recv X hS (by omega)) (fun H hH => hH) ⟨Nat.le_of_ble_eq_true rfl, Nat.le_of_ble_eq_true rfl⟩ ⟨by first | exact Nat.le_of_ble_eq_true rfl | omega | (dsimp only [rmD]; omega), by first | exact Nat.le_of_ble_eq_true rfl | omega | (dsimp only [rmD]; omega)⟩ (Nat.le_of_ble_eq_true rfl) rfl (fun x_39 => ?_)
    refine g_callVx X (ct_X10_readNumbers hst hP k2 hlt) dX10_command_42 rfl (lw_V q1586 q1588 qs22 q103 q1589) hyV_X10_readNumbers (fun H hH => hL.recv X.2.2.2.2.2.2.2.1 hH (PH_s) rfl) (fun H hH => hH) ⟨Nat.le_of_ble_eq_true rfl, Nat.le_of_ble_eq_true rfl⟩ ⟨by first | exact Nat.le_of_ble_eq_true rfl | omega | (dsimp only [rmD]; omega), by first | exact Nat.le_of_ble_eq_true rfl | omega | (dsimp only [rmD]; omega)⟩ (Nat.le_of_ble_eq_true rfl) rfl (fun E q => GX.pass X htab (by first | exact Nat.le_of_ble_eq_true rfl | omega) (by first | exact Nat.le_of_ble_eq_true rfl | omega) (fun H h => h.to (fun g => by rw [er]; exact ⟨g, rfl⟩))) (fun y1 => ?_)
    refine g_aload_nN X dX10_command_45 rfl rfl ?_
    refine g_ifnull X (x := none) (tgt := 59) dX10_command_46 rfl (by decide) (fun _ => ?_) (fun y g => by simp at g)
    refine g_vret X dX10_command_59 rfl (by first | exact Nat.le_of_ble_eq_true rfl | omega | (dsimp only [rmD]; omega)) (by first | exact Nat.le_of_ble_eq_true rfl | omega | (dsimp only [rmD]; omega)) (fun H hH => ⟨⟨y1.1, by rw [er]; exact y1.2.1, by rw [er]; exact y1.2.2.1⟩, rfl, (congrArg (fun z : Rd => hL Ω (PH Γ pa x z.1.1 y1.1) H) er).mpr hH⟩)
  · rw [nI_leI (by omega) (by omega)] at c_12
    have hlt2 : k < (sTx j).length := by omega
    obtain ⟨g1, g2⟩ := hch k (by omega) (by omega)
    refine g_aload_n X dX10_command_15 rfl rfl ?_
    refine g_aload_n X dX10_command_16 rfl rfl ?_
    refine g_iload_n X dX10_command_17 rfl rfl ?_
    refine g_callVk X (ct_J5_charAt hst (show j < 8 by omega) (k := k) (by omega)) dX10_command_18 rfl (lw_V q1517 q1518 q1519 q74 q1520) hyV_J5_charAt (fun H locs hS => oS_recv X hS (by omega)) (fun H hH => hH) ⟨Nat.le_of_ble_eq_true rfl, Nat.le_of_ble_eq_true rfl⟩ ⟨by first | exact Nat.le_of_ble_eq_true rfl | omega | (dsimp only [rmD]; omega), by first | exact Nat.le_of_ble_eq_true rfl | omega | (dsimp only [rmD]; omega)⟩ (Nat.le_of_ble_eq_true rfl) rfl (fun x_18 => ?_)
    refine g_aload_n X dX10_command_21 rfl rfl ?_
    refine g_iload_n X dX10_command_22 rfl rfl ?_
    refine g_callVk X (ct_J5_charAt hst (show j < 8 by omega) (k := k) (by omega)) dX10_command_23 rfl (lw_V q1517 q1518 q1519 q74 q1520) hyV_J5_charAt (fun H locs hS => oS_recv X hS (by omega)) (fun H hH => hH) ⟨Nat.le_of_ble_eq_true rfl, Nat.le_of_ble_eq_true rfl⟩ ⟨by first | exact Nat.le_of_ble_eq_true rfl | omega | (dsimp only [rmD]; omega), by first | exact Nat.le_of_ble_eq_true rfl | omega | (dsimp only [rmD]; omega)⟩ (Nat.le_of_ble_eq_true rfl) rfl (fun x_23 => ?_)
    refine g_callVx X (ct_X10_next (a := a + k) (lo := sCh j k) (hi := sCh j k) hst hP k2 (by omega)) dX10_command_26 rfl (lw_V q1553 q1555 qs20 q103 q1556) hyV_X10_next (fun H hH => hL.recv X.2.2.2.2.2.2.2.1 hH (PH_s) rfl) (fun H hH => hH) ⟨Nat.le_of_ble_eq_true rfl, Nat.le_of_ble_eq_true rfl⟩ ⟨by first | exact Nat.le_of_ble_eq_true rfl | omega | (dsimp only [rmD]; omega), by first | exact Nat.le_of_ble_eq_true rfl | omega | (dsimp only [rmD]; omega)⟩ (Nat.le_of_ble_eq_true rfl) rfl (fun E q => GX.pass X htab (by first | exact Nat.le_of_ble_eq_true rfl | omega) (by first | exact Nat.le_of_ble_eq_true rfl | omega) (fun H h => h.to (fun g => by rw [bh_one hP (by omega), g1] at g; rw [skS_n hlt2 g] at k3; rw [(hJ _ _ k3).1 rfl]; exact ⟨rfl, rfl⟩))) (fun y1 => ?_)
    have hin := y1.2
    rw [bh_one hP (by omega), g1] at hin
    have hk3 : a + k < t.2.1.length := Nat.lt_of_not_le (fun g => by rw [List.getElem?_eq_none g] at hin; simp at hin)
    refine g_pop X dX10_command_29 rfl rfl ?_
    refine g_iinc X dX10_command_30 rfl rfl (by first | exact nI_1 _ | rfl) (by decide) rfl rfl ?_
    refine g_goto (tgt := 7) X dX10_command_33 rfl (by decide) ?_
    refine GJ.loc [some (.ref pa), some (.null), some (.ref (oM Ω (300 + j))), some (.int (nI (k + 1)))] (lvle_c rfl (lvle_c rfl (lvle_c rfl (lvle_c rfl lvle_e)))) ?_
    refine GJ.wide (k' := 1 * (k + 1)) (n' := 7 * (k + 1)) (by omega) (by omega) ?_
    exact ih (k + 1) ⟨by omega, by omega, by rw [k3, skS_t hlt2 hin]; rfl⟩ (by omega)
theorem ct_X10_run_n (hst : l.stackTraces = false) (hP : PI Ω Γ pa x C t) (ha : a ≤ t.2.1.length) {k : Int32} : CM Ω l yX10_run (wsW_ yX10_run cX10_run 4 none [((0 : Nat), (5 : Nat), (8 : Nat), (118 : Nat)), ((0 : Nat), (5 : Nat), (8 : Nat), (120 : Nat)), ((0 : Nat), (5 : Nat), (8 : Nat), (122 : Nat)), ((0 : Nat), (5 : Nat), (8 : Nat), (124 : Nat)), ((0 : Nat), (5 : Nat), (8 : Nat), (126 : Nat))]) 26 12 84 [.ref pa, .null, .int k] (hL Ω (PH Γ pa x a o)) (RCo Ω Γ pa x t.2.1 a) (RCx Ω Γ pa x t.2.1 a) := by
  refine CM.ofH (L := [some (.ref pa), some (.null), some (.int k), none]) hst (by decide) (Nat.le_of_ble_eq_true rfl) rfl ?_
  intro p e s m below meth c X hnm htab
  refine g_aload_n X dX10_run_0 rfl rfl ?_
  refine g_aload_nN X dX10_run_1 rfl rfl ?_
  refine g_callVx X (ct_X10_command_n hst hP ha) dX10_run_2 rfl (lw_V q1494 q1496 qs18 q103 q1497) hyV_X10_command (fun H hH => hL.recv X.2.2.2.2.2.2.2.1 hH (PH_s) rfl) (fun H hH => hH) ⟨Nat.le_of_ble_eq_true rfl, Nat.le_of_ble_eq_true rfl⟩ ⟨by first | exact Nat.le_of_ble_eq_true rfl | omega | (dsimp only [rmD]; omega), by first | exact Nat.le_of_ble_eq_true rfl | omega | (dsimp only [rmD]; omega)⟩ (Nat.le_of_ble_eq_true rfl) rfl (fun E q => GX.and (fun hE => by subst hE; exact GX.outP X (tab_all htab (ptab 2)) (by decide) (by decide) (fun H h => ⟨rfl, h⟩))) (fun y1 => ?_)
  refine g_goto (tgt := 25) X dX10_run_5 rfl (by decide) ?_
  refine g_vret X dX10_run_25 rfl (by first | exact Nat.le_of_ble_eq_true rfl | omega | (dsimp only [rmD]; omega)) (by first | exact Nat.le_of_ble_eq_true rfl | omega | (dsimp only [rmD]; omega)) (fun H hH => ⟨y1, rfl, hH⟩)
theorem rdA_0 {inp : List Nat} : rdA inp = (if (rdC inp 0).1.2 = true ∧ inp[(rdC inp 0).1.1]? = some 59 then rdL inp inp.length ((rdC inp 0).1.1 + 1) [(bh inp 0, (rdC inp 0).2)] else ((rdC inp 0).1, [(bh inp 0, (rdC inp 0).2)])) := rfl
theorem rdL_s {inp : List Nat} {n a : Nat} {acc : List Cmd} : rdL inp (n + 1) a acc = (if (rdC inp a).1.2 = true ∧ inp[(rdC inp a).1.1]? = some 59 then rdL inp n ((rdC inp a).1.1 + 1) (acc ++ [(bh inp a, (rdC inp a).2)]) else ((rdC inp a).1, acc ++ [(bh inp a, (rdC inp a).2)])) := rfl
/-- read up to a, well -/
def RD (inp : List Nat) (a n : Nat) (acc : List Cmd) : Prop := a ≤ inp.length ∧ 5 * acc.length ≤ a + 1 ∧ inp.length - a ≤ n ∧ rdA inp = (if inp[a]? = some 59 then rdL inp n (a + 1) acc else ((a, true), acc))
theorem RD_0 {inp : List Nat} (h : (rdC inp 0).1.2 = true) (h2 : (rdC inp 0).1.1 ≤ inp.length) : RD inp (rdC inp 0).1.1 inp.length [(bh inp 0, (rdC inp 0).2)] := by
  have := rdC_ok h
  refine ⟨h2, by show 5 * 1 ≤ _; omega, Nat.sub_le _ _, ?_⟩
  rw [rdA_0]
  by_cases g : inp[(rdC inp 0).1.1]? = some 59
  · rw [if_pos ⟨h, g⟩, if_pos g]
  · rw [if_neg (fun z => g z.2), if_neg g]
    congr 1
    exact Prod.ext rfl h
theorem RD_f {inp : List Nat} {a n : Nat} {acc : List Cmd} (h : RD inp a n acc) (g : ¬ inp[a]? = some 59) : rdA inp = ((a, true), acc) := by rw [h.2.2.2, if_neg g]
theorem RD_s {inp : List Nat} {a n : Nat} {acc : List Cmd} (h : RD inp a n acc) (g : inp[a]? = some 59) : ((rdC inp (a + 1)).1.2 = false → (rdA inp).1 = (rdC inp (a + 1)).1) ∧ ((rdC inp (a + 1)).1.2 = true → (rdC inp (a + 1)).1.1 ≤ inp.length → ∃ n', RD inp (rdC inp (a + 1)).1.1 n' (acc ++ [(bh inp (a + 1), (rdC inp (a + 1)).2)])) := by
  obtain ⟨h1, h2, h3, h4⟩ := h
  have hlt : a < inp.length := Nat.lt_of_not_le (fun z => by rw [List.getElem?_eq_none z] at g; simp at g)
  obtain ⟨n', rfl⟩ : ∃ n', n = n' + 1 := ⟨n - 1, by omega⟩
  rw [if_pos g, rdL_s] at h4
  refine ⟨fun e => by rw [h4, if_neg (fun z => by rw [e] at z; exact Bool.noConfusion z.1)], fun e e2 => ⟨n', e2, ?_, ?_, ?_⟩⟩
  · have := rdC_ok e
    rw [List.length_append]
    show 5 * (acc.length + 1) ≤ _
    omega
  · have := rdC_ok e
    omega
  · rw [h4]
    by_cases g2 : inp[(rdC inp (a + 1)).1.1]? = some 59
    · rw [if_pos ⟨e, g2⟩, if_pos g2]
    · rw [if_neg (fun z => g2 z.2), if_neg g2]
      congr 1
      exact Prod.ext rfl e
theorem ct_X10_commands_n (hst : l.stackTraces = false) (hP : PI Ω Γ pa x C t) : CM Ω l yX10_commands (ws_ yX10_commands cX10_commands 3 (some .int)) 28 200 1400 [.ref pa, .null] (hL Ω (PH Γ pa x 0 o)) (QV (fun _ : {y : Nat × Nat × Nat × Nat // (rdA t.2.1).1.2 = true ∧ ¬ (rdA t.2.1).1.1 < t.2.1.length} => some (.int (nI (rdA t.2.1).2.length))) (fun y => hL Ω (PH Γ pa x y.1.1 y.1.2))) (MX Ω Γ pa x (rdA t.2.1).1.1 (¬ ((rdA t.2.1).1.2 = true ∧ ¬ (rdA t.2.1).1.1 < t.2.1.length))) := by
  have hP' := hP
  obtain ⟨hx, hn, hni, hl60, -⟩ := hP'
  refine CM.of (L := [some (.ref pa), some (.null), none]) hst (by decide) (Nat.le_of_ble_eq_true rfl) rfl ?_
  intro p e s m below meth c X hnm htab
  refine g_aload_n X dX10_commands_0 rfl rfl ?_
  refine g_aload_nN X dX10_commands_1 rfl rfl ?_
  refine g_iconst X dX10_commands_2 rfl (v := (nI 0)) rfl ?_
  refine g_callVWx X (ct_X10_run_n hst hP (Nat.zero_le _)) dX10_commands_3 rfl (lw_VW q1485 q1487 qs17 q103 q1488) hyV_X10_run (fun H hH => hL.recv X.2.2.2.2.2.2.2.1 hH (PH_s) rfl) (fun H hH => hH) ⟨Nat.le_of_ble_eq_true rfl, Nat.le_of_ble_eq_true rfl⟩ ⟨by first | exact Nat.le_of_ble_eq_true rfl | omega | (dsimp only [rmD]; omega), by first | exact Nat.le_of_ble_eq_true rfl | omega | (dsimp only [rmD]; omega)⟩ (Nat.le_of_ble_eq_true rfl) rfl (fun E q => GX.pass X htab (by first | exact Nat.le_of_ble_eq_true rfl | omega) (by first | exact Nat.le_of_ble_eq_true rfl | omega) (fun H h => h.to (fun g => by rw [rdA_0, if_neg (fun z => by rw [g] at z; exact Bool.noConfusion z.1)]; exact ⟨fun z => by rw [g] at z; exact Bool.noConfusion z.1, rfl⟩))) (fun y0 => ?_)
  obtain ⟨o1, r1, r2⟩ := y0
  dsimp only
  refine g_iconst X dX10_commands_6 rfl (v := (nI 1)) rfl ?_
  refine g_istore_n X dX10_commands_7 rfl (by decide) rfl rfl ?_
  refine GJ.imp (I' := (fun y : Nat × List Cmd × Nat × Nat × Nat × Nat => hL Ω (PH Γ pa x y.1 y.2.2.2)) ((rdC t.2.1 0).1.1, [(bh t.2.1 0, (rdC t.2.1 0).2)], t.2.1.length, o1)) (fun H hH => hH) ?_
  refine GJ.loc ((fun y : Nat × List Cmd × Nat × Nat × Nat × Nat => [some (.ref pa), some .null, some (.int (nI y.2.1.length))]) ((rdC t.2.1 0).1.1, [(bh t.2.1 0, (rdC t.2.1 0).2)], t.2.1.length, o1)) (lvle_c rfl (lvle_c rfl (lvle_c rfl lvle_e))) ?_
  refine GJ.wide (k' := (fun y : Nat × List Cmd × Nat × Nat × Nat × Nat => 13 * y.2.1.length) ((rdC t.2.1 0).1.1, [(bh t.2.1 0, (rdC t.2.1 0).2)], t.2.1.length, o1)) (n' := (fun y : Nat × List Cmd × Nat × Nat × Nat × Nat => 91 * y.2.1.length) ((rdC t.2.1 0).1.1, [(bh t.2.1 0, (rdC t.2.1 0).2)], t.2.1.length, o1)) (by show 0 + 12 ≤ 13 * 1; omega) (by show 0 + 84 ≤ 91 * 1; omega) ?_
  refine GJ.loop (fun y : Nat × List Cmd × Nat × Nat × Nat × Nat => hL Ω (PH Γ pa x y.1 y.2.2.2)) (fun y => 13 * y.2.1.length) (fun y => 91 * y.2.1.length) (fun y : Nat × List Cmd × Nat × Nat × Nat × Nat => [some (.ref pa), some .null, some (.int (nI y.2.1.length))]) (fun y => t.2.1.length - y.1) (fun y => RD t.2.1 y.1 y.2.2.1 y.2.1) ((rdC t.2.1 0).1.1, [(bh t.2.1 0, (rdC t.2.1 0).2)], t.2.1.length, o1) (RD_0 r1 r2) ?_
  rintro ⟨a1, acc, n0, o2⟩ hR ih
  dsimp only at hR ih ⊢
  obtain ⟨j1, j2, j3, j4⟩ := hR
  have hR : RD t.2.1 a1 n0 acc := ⟨j1, j2, j3, j4⟩
  refine g_aload_n X dX10_commands_8 rfl rfl ?_
  refine l_get X dX10_commands_9 rfl in_X10 (ci := 9) rfl 0 (by decide) q1465 (fun _ h => h) PH_s rfl ?_
  refine g_aload_n X dX10_commands_12 rfl rfl ?_
  refine l_get X dX10_commands_13 rfl in_X10 (ci := 9) rfl 4 (by decide) q1469 (fun _ h => h) PH_s rfl ?_
  refine l_getN X dX10_commands_16 rfl in_X1 (ci := 0) rfl 4 (by decide) "SlidePark" q238 (fun _ h => h) ((PH_n hn).trans hx) rfl ?_
  refine g_icmp_ge (tgt := 43) X dX10_commands_19 rfl (by decide) (fun c_19 => ?_) (fun c_19 => ?_)
  · rw [nI_leI (by omega) (by omega)] at c_19
    have e := RD_f hR (fun g => by rw [List.getElem?_eq_none (by omega)] at g; simp at g)
    refine g_iload_n X dX10_commands_43 rfl rfl ?_
    refine g_iret X dX10_commands_44 rfl (by first | exact Nat.le_of_ble_eq_true rfl | omega | (dsimp only [rmD]; omega)) (by first | exact Nat.le_of_ble_eq_true rfl | omega | (dsimp only [rmD]; omega)) (fun H hH => ⟨⟨(a1, o2), by rw [e], by rw [e]; dsimp only; omega⟩, congrArg (fun z : (Nat × Bool) × List Cmd => some (Value.int (nI z.2.length))) e.symm, hH⟩)
  · rw [nI_leI (by omega) (by omega)] at c_19
    refine g_aload_n X dX10_commands_22 rfl rfl ?_
    refine g_bipush X dX10_commands_23 rfl (v := (nI 59)) (by decide) ?_
    refine g_bipush X dX10_commands_25 rfl (v := (nI 59)) (by decide) ?_
    refine g_callVx X (ct_X10_next (a := a1) (lo := 59) (hi := 59) hst hP j1 (by decide)) dX10_commands_27 rfl (lw_V q1553 q1555 qs20 q103 q1556) hyV_X10_next (fun H hH => hL.recv X.2.2.2.2.2.2.2.1 hH (PH_s) rfl) (fun H hH => hH) ⟨Nat.le_of_ble_eq_true rfl, Nat.le_of_ble_eq_true rfl⟩ ⟨by first | exact Nat.le_of_ble_eq_true rfl | omega | (dsimp only [rmD]; omega), by first | exact Nat.le_of_ble_eq_true rfl | omega | (dsimp only [rmD]; omega)⟩ (Nat.le_of_ble_eq_true rfl) rfl (fun E q => GX.pass X htab (by first | exact Nat.le_of_ble_eq_true rfl | omega) (by first | exact Nat.le_of_ble_eq_true rfl | omega) (fun H h => h.to (fun g => by rw [bh_one hP (by decide)] at g; rw [RD_f hR g]; exact ⟨fun z => z.2 (by dsimp only; omega), rfl⟩))) (fun y1 => ?_)
    refine g_pop X dX10_commands_30 rfl rfl ?_
    have g := y1.2
    rw [bh_one hP (by decide)] at g
    obtain ⟨s1, s2⟩ := RD_s hR g
    refine g_aload_n X dX10_commands_31 rfl rfl ?_
    refine g_aload_nN X dX10_commands_32 rfl rfl ?_
    refine g_iload_n X dX10_commands_33 rfl rfl ?_
    refine g_callVWx X (ct_X10_run_n (a := a1 + 1) hst hP (by omega)) dX10_commands_34 rfl (lw_VW q1485 q1487 qs17 q103 q1488) hyV_X10_run (fun H hH => hL.recv X.2.2.2.2.2.2.2.1 hH (PH_s) rfl) (fun H hH => hH) ⟨Nat.le_of_ble_eq_true rfl, Nat.le_of_ble_eq_true rfl⟩ ⟨by first | exact Nat.le_of_ble_eq_true rfl | omega | (dsimp only [rmD]; omega), by first | exact Nat.le_of_ble_eq_true rfl | omega | (dsimp only [rmD]; omega)⟩ (Nat.le_of_ble_eq_true rfl) rfl (fun E q => GX.pass X htab (by first | exact Nat.le_of_ble_eq_true rfl | omega) (by first | exact Nat.le_of_ble_eq_true rfl | omega) (fun H h => h.to (fun e => by rw [s1 e]; exact ⟨fun z => by rw [e] at z; exact Bool.noConfusion z.1, rfl⟩))) (fun y2 => ?_)
    obtain ⟨o3, r3, r4⟩ := y2
    dsimp only
    obtain ⟨n1, hR2⟩ := s2 r3 r4
    have hok := rdC_ok r3
    refine g_iinc X dX10_commands_37 rfl rfl (by first | exact nI_1 _ | rfl) (by decide) rfl rfl ?_
    refine g_goto (tgt := 8) X dX10_commands_40 rfl (by decide) ?_
    refine GJ.loc [some (.ref pa), some (.null), some (.int (nI (acc ++ [(bh t.2.1 (a1 + 1), (rdC t.2.1 (a1 + 1)).2)]).length))] (lvle_c rfl (lvle_c rfl (lvle_c (congrArg (fun z => some (Value.int (nI z))) (show acc.length + 1 = (acc ++ [(bh t.2.1 (a1 + 1), (rdC t.2.1 (a1 + 1)).2)]).length from (@List.length_append _ acc [(bh t.2.1 (a1 + 1), (rdC t.2.1 (a1 + 1)).2)]).symm)) lvle_e))) ?_
    refine GJ.wide (k' := 13 * (acc ++ [(bh t.2.1 (a1 + 1), (rdC t.2.1 (a1 + 1)).2)]).length) (n' := 91 * (acc ++ [(bh t.2.1 (a1 + 1), (rdC t.2.1 (a1 + 1)).2)]).length) (by rw [List.length_append]; show _ ≤ 13 * (acc.length + 1); omega) (by rw [List.length_append]; show _ ≤ 91 * (acc.length + 1); omega) ?_
    exact ih ((rdC t.2.1 (a1 + 1)).1.1, acc ++ [(bh t.2.1 (a1 + 1), (rdC t.2.1 (a1 + 1)).2)], n1, o3) hR2 (by dsimp only; omega)
end PS4
