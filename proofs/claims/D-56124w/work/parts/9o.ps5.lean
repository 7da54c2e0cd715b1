/-! PARSER of the class: commands carried out -/
def isE (E : String) : Prop := E = "java/lang/IndexOutOfBoundsException" ∨ E = "java/lang/IllegalArgumentException" ∨ E = "java/lang/IllegalStateException" ∨ E = "java/util/NoSuchElementException" ∨ E = "java/lang/UnsupportedOperationException"
theorem isE_Bu (c : Nat) : isE (nmBu c) := by unfold nmBu; split <;> simp [isE]
theorem isE_Ad (c : Nat) : isE (nmAd c) := by unfold nmAd; simp [isE]
theorem isE_Bk (c : Nat) : isE (nmBk c) := by unfold nmBk; (repeat' split) <;> simp [isE]
theorem isE_Ca (c : Nat) : isE (nmCa c) := by unfold nmCa; split <;> simp [isE]
theorem isE_Jo (c : Nat) : isE (nmJo c) := by unfold nmJo; (repeat' split) <;> simp [isE]
theorem isE_Le (c : Nat) : isE (nmLe c) := by unfold nmLe; split <;> simp [isE]
theorem isE_Pa (c : Nat) : isE (nmPa c) := by unfold nmPa; simp [isE]
theorem SR.base3 {Ω : Om} {Γ0 Γ Γ1 : LH} {a : Nat} {A : Ad} {σ : St} (h : SR Ω Γ0 Γ a A σ) (hb : ∀ q e, Γ0 q = none → Γ q = some e → Γ1 q = none) : SR Ω Γ1 Γ a A σ :=
  have hl : ∀ q xs, isL Γ0 Γ q xs → isL Γ1 Γ q xs := fun q xs hq => ⟨hq.1, hq.1.elim (fun m hm => hb q _ hq.2 hm)⟩
  ⟨⟨h.1.1, hb _ _ h.1.2 h.1.1⟩, ⟨hl _ _ h.2.1.1, hl _ _ h.2.1.2.1, hl _ _ h.2.1.2.2.1, hl _ _ h.2.1.2.2.2.1, h.2.1.2.2.2.2⟩,
    ⟨h.2.2.1.1, fun i x hx => ⟨⟨(h.2.2.1.2 i x hx).1.1, hb _ _ (h.2.2.1.2 i x hx).1.2 (h.2.2.1.2 i x hx).1.1⟩, (h.2.2.1.2 i x hx).2.1, hl _ _ (h.2.2.1.2 i x hx).2.2⟩⟩,
    ⟨h.2.2.2.1.1, fun i x hx => ⟨(h.2.2.2.1.2 i x hx).1, hb _ _ (h.2.2.2.1.2 i x hx).2 (h.2.2.2.1.2 i x hx).1⟩⟩, h.2.2.2.2⟩
/-- while commands are carried out on the state at c8: Γ: the heap ahead of the parser pa -/
def SS (Ω : Om) (Γ : LH) (pa x c8 a : Nat) (o : Nat × Nat × Nat) (G : LH) (B : Ad) (σ : St) : Prop := Γ pa = none ∧ Ex (PH Γ pa x a o) G ∧ SR Ω (PH Γ pa x a o) G c8 B σ
section PS5
variable {l : Launch} {Ω : Om} {Γ G : LH} {x pa c8 a a' : Nat} {C : CT} {t : Tx} {o o' : Nat × Nat × Nat} {B : Ad} {σ : St} {R : Nat}
theorem SS.pp (h : SS Ω Γ pa x c8 a o G B σ) : isO G pa 9 (pzF x a o) := h.2.1 _ _ PH_s
theorem SS.eq (h : SS Ω Γ pa x c8 a o G B σ) : PH G pa x a o = G := hu_self h.pp
theorem SS.ex (h : SS Ω Γ pa x c8 a o G B σ) : Ex Γ G := fun q e hq => h.2.1 q e ((PH_n (neN hq h.1)).trans hq)
theorem SS.toPI (h : SS Ω Γ pa x c8 a o G B σ) (hP : PI Ω Γ pa x C t) : PI Ω G pa x C t :=
  ⟨h.ex _ _ hP.1, hP.2.1, hP.2.2.1, hP.2.2.2.1, hP.2.2.2.2.elim (fun f hf => ⟨f, h.ex _ _ hf.1, hf.2⟩)⟩
theorem SS.mv (h : SS Ω Γ pa x c8 a o G B σ) : SS Ω Γ pa x c8 a' o' (PH G pa x a' o') B σ := by
  refine ⟨h.1, fun q e hq => ?_, ?_⟩
  · by_cases g : q = pa
    · subst g; rw [PH_s] at hq ⊢; exact hq
    · rw [PH_n g] at hq ⊢; exact h.2.1 q e ((PH_n g).trans hq)
  · have h1 := (h.2.2.base (Γ1 := PH Γ pa x a' o') (fun q hq => by
      by_cases g : q = pa
      · subst g; rw [PH_s] at hq; simp at hq
      · rw [PH_n g] at hq ⊢; exact hq))
    exact h1.monoK (kpL_O h.pp) (fun ci hci => kpO_O h.pp (by omega))
set_option maxRecDepth 100000
set_option maxHeartbeats 1000000
abbrev COo (Ω : Om) (Γ0 : LH) (c8 : Nat) (R : Res) : Option Value → Heap → Prop := QV (fun _ : {y : LH × Ad × Nat × St // R = .inr y.2.2 ∧ Ex Γ0 y.1 ∧ SR Ω Γ0 y.1 c8 y.2.1 y.2.2.2} => none) (fun y => hL Ω y.1.1)
abbrev COx (Ω : Om) (Γ : LH) (pa x : Nat) (R : Res) : String → Nat → Heap → Prop := fun E _ H => isE E ∧ (∃ c, R = .inl c) ∧ ∃ y : LH × Nat × Nat × Nat × Nat, Ex (PH Γ pa x y.2.1 y.2.2) y.1 ∧ hL Ω y.1 H
theorem ct_X10_carryOut (hst : l.stackTraces = false) (hS : SS Ω Γ pa x c8 a o G B σ) (W : Wf R σ) (hm : sM σ + 60 ≤ 100000) (hr : R + 720 ≤ 2000000) {j : Nat} (hj : j < 7) {mm : Nat × Nat × Nat} (hv : rlv j mm o) : CM Ω l yX10_carryOut (ws_ yX10_carryOut cX10_carryOut 3 none) 32 1921 64566 [.ref pa, .ref c8, .int (nI (sCh j 0))] (hL Ω G) (COo Ω (PH Γ pa x a o) c8 (aDoes σ (nI (sCh j 0), mm))) (COx Ω Γ pa x (aDoes σ (nI (sCh j 0), mm))) := by
  have hB := W.bd (by omega) (by omega)
  have hE := hS.2.1
  have hSR := hS.2.2
  have hp := hS.pp
  have hG := hS.ex
  obtain ⟨v1, v2, v3⟩ := hv
  have hj' : j = 1 ∨ j = 2 ∨ j = 0 ∨ j = 4 ∨ j = 5 ∨ j = 3 ∨ j = 6 := by omega
  rcases hj' with rfl | rfl | rfl | rfl | rfl | rfl | rfl
  · rw [show sCh 1 0 = 98 by decide, show aDoes σ (nI 98, mm) = aBook σ (nI mm.1) (nI mm.2.1) (nI mm.2.2) from rfl]
    refine CM.of (L := [some (.ref pa), some (.ref c8), some (.int (nI 98))]) hst (by decide) (Nat.le_of_ble_eq_true rfl) rfl ?_
    intro p e s m below meth c X hnm htab
    refine g_iload_n X dX10_carryOut_0 rfl rfl ?_
    refine g_lookup (off := 67) (tgt := 68) X dX10_carryOut_1 rfl (by decide) (by decide) (by decide) ?_
    refine g_aload_n X dX10_carryOut_68 rfl rfl ?_
    refine g_aload_n X dX10_carryOut_69 rfl rfl ?_
    refine l_get X dX10_carryOut_70 rfl in_X10 (ci := 9) rfl 1 (by decide) q1466 (fun _ h => h) hp (gv (congrArg nI (v1 (by decide)))) ?_
    refine g_aload_n X dX10_carryOut_73 rfl rfl ?_
    refine l_get X dX10_carryOut_74 rfl in_X10 (ci := 9) rfl 2 (by decide) q1467 (fun _ h => h) hp (gv (congrArg nI (v2 (by decide)))) ?_
    refine g_aload_n X dX10_carryOut_77 rfl rfl ?_
    refine l_get X dX10_carryOut_78 rfl in_X10 (ci := 9) rfl 3 (by decide) q1468 (fun _ h => h) hp (gv (congrArg nI (v3 rfl))) ?_
    refine g_callVx X (ct_X2_book hst hSR hE hB) dX10_carryOut_81 rfl (lw_V q1599 q884 q885 q67 q886) hyV_X2_book (fun H hH => hL.recv X.2.2.2.2.2.2.2.1 hH (hSR.st) rfl) (fun H hH => hH) ⟨Nat.le_of_ble_eq_true rfl, Nat.le_of_ble_eq_true rfl⟩ ⟨by first | exact Nat.le_of_ble_eq_true rfl | omega | (dsimp only [rmD]; omega), by first | exact Nat.le_of_ble_eq_true rfl | omega | (dsimp only [rmD]; omega)⟩ (Nat.le_of_ble_eq_true rfl) rfl (fun E q => GX.pass X htab (by first | exact Nat.le_of_ble_eq_true rfl | omega) (by first | exact Nat.le_of_ble_eq_true rfl | omega) (fun H h => h.elim (fun c9 h => ⟨h.2.1 ▸ isE_Bk c9, ⟨c9, h.1⟩, (G, a, o), hE, h.2.2⟩))) (fun y1 => ?_)
    refine g_pop X dX10_carryOut_84 rfl rfl ?_
    refine g_goto (tgt := 153) X dX10_carryOut_85 rfl (by decide) ?_
    refine g_vret X dX10_carryOut_153 rfl (by first | exact Nat.le_of_ble_eq_true rfl | omega | (dsimp only [rmD]; omega)) (by first | exact Nat.le_of_ble_eq_true rfl | omega | (dsimp only [rmD]; omega)) (fun H hH => ⟨y1, rfl, hH⟩)
  · rw [show sCh 2 0 = 99 by decide, show aDoes σ (nI 99, mm) = aCanc σ (nI mm.1) from rfl]
    refine CM.of (L := [some (.ref pa), some (.ref c8), some (.int (nI 99))]) hst (by decide) (Nat.le_of_ble_eq_true rfl) rfl ?_
    intro p e s m below meth c X hnm htab
    refine g_iload_n X dX10_carryOut_0 rfl rfl ?_
    refine g_lookup (off := 87) (tgt := 88) X dX10_carryOut_1 rfl (by decide) (by decide) (by decide) ?_
    refine g_aload_n X dX10_carryOut_88 rfl rfl ?_
    refine g_aload_n X dX10_carryOut_89 rfl rfl ?_
    refine l_get X dX10_carryOut_90 rfl in_X10 (ci := 9) rfl 1 (by decide) q1466 (fun _ h => h) hp (gv (congrArg nI (v1 (by decide)))) ?_
    refine g_callVx X (ct_X2_cancel hst hSR hE hB) dX10_carryOut_93 rfl (lw_V q1600 q996 q997 q67 q998) hyV_X2_cancel (fun H hH => hL.recv X.2.2.2.2.2.2.2.1 hH (hSR.st) rfl) (fun H hH => hH) ⟨Nat.le_of_ble_eq_true rfl, Nat.le_of_ble_eq_true rfl⟩ ⟨by first | exact Nat.le_of_ble_eq_true rfl | omega | (dsimp only [rmD]; omega), by first | exact Nat.le_of_ble_eq_true rfl | omega | (dsimp only [rmD]; omega)⟩ (Nat.le_of_ble_eq_true rfl) rfl (fun E q => GX.pass X htab (by first | exact Nat.le_of_ble_eq_true rfl | omega) (by first | exact Nat.le_of_ble_eq_true rfl | omega) (fun H h => h.elim (fun c9 h => ⟨h.2.1 ▸ isE_Ca c9, ⟨c9, h.1⟩, (G, a, o), hE, h.2.2⟩))) (fun y1 => ?_)
    refine g_pop X dX10_carryOut_96 rfl rfl ?_
    refine g_goto (tgt := 153) X dX10_carryOut_97 rfl (by decide) ?_
    refine g_vret X dX10_carryOut_153 rfl (by first | exact Nat.le_of_ble_eq_true rfl | omega | (dsimp only [rmD]; omega)) (by first | exact Nat.le_of_ble_eq_true rfl | omega | (dsimp only [rmD]; omega)) (fun H hH => ⟨y1, rfl, hH⟩)
  · rw [show sCh 0 0 = 103 by decide, show aDoes σ (nI 103, mm) = aAddG σ from rfl]
    refine CM.of (L := [some (.ref pa), some (.ref c8), some (.int (nI 103))]) hst (by decide) (Nat.le_of_ble_eq_true rfl) rfl ?_
    intro p e s m below meth c X hnm htab
    refine g_iload_n X dX10_carryOut_0 rfl rfl ?_
    refine g_lookup (off := 59) (tgt := 60) X dX10_carryOut_1 rfl (by decide) (by decide) (by decide) ?_
    refine g_aload_n X dX10_carryOut_60 rfl rfl ?_
    refine g_callVx X (ct_X2_addGuest hst hSR hE hB) dX10_carryOut_61 rfl (lw_V q1598 q838 q839 q67 q840) hyV_X2_addGuest (fun H hH => hL.recv X.2.2.2.2.2.2.2.1 hH (hSR.st) rfl) (fun H hH => hH) ⟨Nat.le_of_ble_eq_true rfl, Nat.le_of_ble_eq_true rfl⟩ ⟨by first | exact Nat.le_of_ble_eq_true rfl | omega | (dsimp only [rmD]; omega), by first | exact Nat.le_of_ble_eq_true rfl | omega | (dsimp only [rmD]; omega)⟩ (Nat.le_of_ble_eq_true rfl) rfl (fun E q => GX.pass X htab (by first | exact Nat.le_of_ble_eq_true rfl | omega) (by first | exact Nat.le_of_ble_eq_true rfl | omega) (fun H h => h.elim (fun c9 h => ⟨h.2.1 ▸ isE_Ad c9, ⟨c9, h.1⟩, (G, a, o), hE, h.2.2⟩))) (fun y1 => ?_)
    refine g_pop X dX10_carryOut_64 rfl rfl ?_
    refine g_goto (tgt := 153) X dX10_carryOut_65 rfl (by decide) ?_
    refine g_vret X dX10_carryOut_153 rfl (by first | exact Nat.le_of_ble_eq_true rfl | omega | (dsimp only [rmD]; omega)) (by first | exact Nat.le_of_ble_eq_true rfl | omega | (dsimp only [rmD]; omega)) (fun H hH => ⟨y1, rfl, hH⟩)
  · rw [show sCh 4 0 = 108 by decide, show aDoes σ (nI 108, mm) = aLeave σ (nI mm.1) from rfl]
    refine CM.of (L := [some (.ref pa), some (.ref c8), some (.int (nI 108))]) hst (by decide) (Nat.le_of_ble_eq_true rfl) rfl ?_
    intro p e s m below meth c X hnm htab
    refine g_iload_n X dX10_carryOut_0 rfl rfl ?_
    refine g_lookup (off := 115) (tgt := 116) X dX10_carryOut_1 rfl (by decide) (by decide) (by decide) ?_
    refine g_aload_n X dX10_carryOut_116 rfl rfl ?_
    refine g_aload_n X dX10_carryOut_117 rfl rfl ?_
    refine l_get X dX10_carryOut_118 rfl in_X10 (ci := 9) rfl 1 (by decide) q1466 (fun _ h => h) hp (gv (congrArg nI (v1 (by decide)))) ?_
    refine g_callVx X (ct_X2_leave hst hSR hE hB) dX10_carryOut_121 rfl (lw_V q1602 q1115 q1116 q67 q1117) hyV_X2_leave (fun H hH => hL.recv X.2.2.2.2.2.2.2.1 hH (hSR.st) rfl) (fun H hH => hH) ⟨Nat.le_of_ble_eq_true rfl, Nat.le_of_ble_eq_true rfl⟩ ⟨by first | exact Nat.le_of_ble_eq_true rfl | omega | (dsimp only [rmD]; omega), by first | exact Nat.le_of_ble_eq_true rfl | omega | (dsimp only [rmD]; omega)⟩ (Nat.le_of_ble_eq_true rfl) rfl (fun E q => GX.pass X htab (by first | exact Nat.le_of_ble_eq_true rfl | omega) (by first | exact Nat.le_of_ble_eq_true rfl | omega) (fun H h => h.elim (fun c9 h => ⟨h.2.1 ▸ isE_Le c9, ⟨c9, h.1⟩, (G, a, o), hE, h.2.2⟩))) (fun y1 => ?_)
    refine g_pop X dX10_carryOut_124 rfl rfl ?_
    refine g_goto (tgt := 153) X dX10_carryOut_125 rfl (by decide) ?_
    refine g_vret X dX10_carryOut_153 rfl (by first | exact Nat.le_of_ble_eq_true rfl | omega | (dsimp only [rmD]; omega)) (by first | exact Nat.le_of_ble_eq_true rfl | omega | (dsimp only [rmD]; omega)) (fun H hH => ⟨y1, rfl, hH⟩)
  · rw [show sCh 5 0 = 119 by decide, show aDoes σ (nI 119, mm) = aPass σ (nI mm.1) from rfl]
    refine CM.of (L := [some (.ref pa), some (.ref c8), some (.int (nI 119))]) hst (by decide) (Nat.le_of_ble_eq_true rfl) rfl ?_
    intro p e s m below meth c X hnm htab
    refine g_iload_n X dX10_carryOut_0 rfl rfl ?_
    refine g_lookup (off := 127) (tgt := 128) X dX10_carryOut_1 rfl (by decide) (by decide) (by decide) ?_
    refine g_aload_n X dX10_carryOut_128 rfl rfl ?_
    refine g_aload_n X dX10_carryOut_129 rfl rfl ?_
    refine l_get X dX10_carryOut_130 rfl in_X10 (ci := 9) rfl 1 (by decide) q1466 (fun _ h => h) hp (gv (congrArg nI (v1 (by decide)))) ?_
    refine g_callVx X (ct_X2_passMinutes hst hSR hE W hm hr) dX10_carryOut_133 rfl (lw_V q1603 q1137 q1138 q67 q1139) hyV_X2_passMinutes (fun H hH => hL.recv X.2.2.2.2.2.2.2.1 hH (hSR.st) rfl) (fun H hH => hH) ⟨Nat.le_of_ble_eq_true rfl, Nat.le_of_ble_eq_true rfl⟩ ⟨by first | exact Nat.le_of_ble_eq_true rfl | omega | (dsimp only [rmD]; omega), by first | exact Nat.le_of_ble_eq_true rfl | omega | (dsimp only [rmD]; omega)⟩ (Nat.le_of_ble_eq_true rfl) rfl (fun E q => GX.pass X htab (by first | exact Nat.le_of_ble_eq_true rfl | omega) (by first | exact Nat.le_of_ble_eq_true rfl | omega) (fun H h => h.elim (fun c9 h => ⟨h.2.1 ▸ isE_Pa c9, ⟨c9, h.1⟩, (G, a, o), hE, h.2.2⟩))) (fun y1 => ?_)
    refine g_pop X dX10_carryOut_136 rfl rfl ?_
    refine g_goto (tgt := 153) X dX10_carryOut_137 rfl (by decide) ?_
    refine g_vret X dX10_carryOut_153 rfl (by first | exact Nat.le_of_ble_eq_true rfl | omega | (dsimp only [rmD]; omega)) (by first | exact Nat.le_of_ble_eq_true rfl | omega | (dsimp only [rmD]; omega)) (fun H hH => ⟨y1, rfl, hH⟩)
  · rw [show sCh 3 0 = 113 by decide, show aDoes σ (nI 113, mm) = aJoin σ (nI mm.1) (nI mm.2.1) from rfl]
    refine CM.of (L := [some (.ref pa), some (.ref c8), some (.int (nI 113))]) hst (by decide) (Nat.le_of_ble_eq_true rfl) rfl ?_
    intro p e s m below meth c X hnm htab
    refine g_iload_n X dX10_carryOut_0 rfl rfl ?_
    refine g_lookup (off := 99) (tgt := 100) X dX10_carryOut_1 rfl (by decide) (by decide) (by decide) ?_
    refine g_aload_n X dX10_carryOut_100 rfl rfl ?_
    refine g_aload_n X dX10_carryOut_101 rfl rfl ?_
    refine l_get X dX10_carryOut_102 rfl in_X10 (ci := 9) rfl 1 (by decide) q1466 (fun _ h => h) hp (gv (congrArg nI (v1 (by decide)))) ?_
    refine g_aload_n X dX10_carryOut_105 rfl rfl ?_
    refine l_get X dX10_carryOut_106 rfl in_X10 (ci := 9) rfl 2 (by decide) q1467 (fun _ h => h) hp (gv (congrArg nI (v2 (by decide)))) ?_
    refine g_callVx X (ct_X2_join hst hSR hE hB) dX10_carryOut_109 rfl (lw_V q1601 q1016 q1017 q67 q1018) hyV_X2_join (fun H hH => hL.recv X.2.2.2.2.2.2.2.1 hH (hSR.st) rfl) (fun H hH => hH) ⟨Nat.le_of_ble_eq_true rfl, Nat.le_of_ble_eq_true rfl⟩ ⟨by first | exact Nat.le_of_ble_eq_true rfl | omega | (dsimp only [rmD]; omega), by first | exact Nat.le_of_ble_eq_true rfl | omega | (dsimp only [rmD]; omega)⟩ (Nat.le_of_ble_eq_true rfl) rfl (fun E q => GX.pass X htab (by first | exact Nat.le_of_ble_eq_true rfl | omega) (by first | exact Nat.le_of_ble_eq_true rfl | omega) (fun H h => h.elim (fun c9 h => ⟨h.2.1 ▸ isE_Jo c9, ⟨c9, h.1⟩, (G, a, o), hE, h.2.2⟩))) (fun y1 => ?_)
    refine g_pop X dX10_carryOut_112 rfl rfl ?_
    refine g_goto (tgt := 153) X dX10_carryOut_113 rfl (by decide) ?_
    refine g_vret X dX10_carryOut_153 rfl (by first | exact Nat.le_of_ble_eq_true rfl | omega | (dsimp only [rmD]; omega)) (by first | exact Nat.le_of_ble_eq_true rfl | omega | (dsimp only [rmD]; omega)) (fun H hH => ⟨y1, rfl, hH⟩)
  · rw [show sCh 6 0 = 115 by decide, show aDoes σ (nI 115, mm) = aBuild σ (nI mm.1) (nI mm.2.1) from rfl]
    refine CM.of (L := [some (.ref pa), some (.ref c8), some (.int (nI 115))]) hst (by decide) (Nat.le_of_ble_eq_true rfl) rfl ?_
    intro p e s m below meth c X hnm htab
    refine g_iload_n X dX10_carryOut_0 rfl rfl ?_
    refine g_lookup (off := 139) (tgt := 140) X dX10_carryOut_1 rfl (by decide) (by decide) (by decide) ?_
    refine g_aload_n X dX10_carryOut_140 rfl rfl ?_
    refine g_aload_n X dX10_carryOut_141 rfl rfl ?_
    refine l_get X dX10_carryOut_142 rfl in_X10 (ci := 9) rfl 1 (by decide) q1466 (fun _ h => h) hp (gv (congrArg nI (v1 (by decide)))) ?_
    refine g_aload_n X dX10_carryOut_145 rfl rfl ?_
    refine l_get X dX10_carryOut_146 rfl in_X10 (ci := 9) rfl 2 (by decide) q1467 (fun _ h => h) hp (gv (congrArg nI (v2 (by decide)))) ?_
    refine g_callVx X (ct_X2_build hst hSR hE hB) dX10_carryOut_149 rfl (lw_V q1604 q769 q770 q67 q771) hyV_X2_build (fun H hH => hL.recv X.2.2.2.2.2.2.2.1 hH (hSR.st) rfl) (fun H hH => hH) ⟨Nat.le_of_ble_eq_true rfl, Nat.le_of_ble_eq_true rfl⟩ ⟨by first | exact Nat.le_of_ble_eq_true rfl | omega | (dsimp only [rmD]; omega), by first | exact Nat.le_of_ble_eq_true rfl | omega | (dsimp only [rmD]; omega)⟩ (Nat.le_of_ble_eq_true rfl) rfl (fun E q => GX.pass X htab (by first | exact Nat.le_of_ble_eq_true rfl | omega) (by first | exact Nat.le_of_ble_eq_true rfl | omega) (fun H h => h.elim (fun c9 h => ⟨h.2.1 ▸ isE_Bu c9, ⟨c9, h.1⟩, (G, a, o), hE, h.2.2⟩))) (fun y1 => ?_)
    refine g_pop X dX10_carryOut_152 rfl rfl ?_
    refine g_vret X dX10_carryOut_153 rfl (by first | exact Nat.le_of_ble_eq_true rfl | omega | (dsimp only [rmD]; omega)) (by first | exact Nat.le_of_ble_eq_true rfl | omega | (dsimp only [rmD]; omega)) (fun H hH => ⟨y1, rfl, hH⟩)
end PS5
