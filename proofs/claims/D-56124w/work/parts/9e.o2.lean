/-! SLIDEPARK: undo, restore, feed, error position -/
section O2
variable {l : Launch} {Ω : Om} {Γ0 Γ Γ' : LH} {x a q y : Nat} {A : Ad} {σ σ' : St} {C C' : CT} {w w' : Wl} {t t' : Tx}
set_option maxRecDepth 100000
abbrev OPw (Ω : Om) (Γ : LH) (x : Nat) (C : CT) (t : Tx) (R : Rw) : Option Value → Heap → Prop := QV (fun y : {y : LH × CT × Nat × Wl // R = .inr y.2.2 ∧ CR Ω y.1 x y.2.1 y.2.2.2 t ∧ KX x C Γ y.1 ∧ y.2.1.1 = C.1} => some (.int (nI y.1.2.2.1))) (fun y => hL Ω y.1.1)
abbrev OPwx (Ω : Om) (Γ : LH) (R : Rw) : String → Nat → Heap → Prop := fun E _ H => ∃ c, R = .inl c ∧ c = 1 ∧ E = "java/lang/IllegalStateException" ∧ hL Ω Γ H
theorem era_last {α : Type} {l : List α} : l.eraseIdx (l.length - 1) = l.take (l.length - 1) := by
  rw [List.eraseIdx_eq_take_drop_succ]
  rcases Nat.eq_zero_or_pos l.length with h | h
  · have : l = [] := List.eq_nil_of_length_eq_zero h
    subst this; rfl
  · rw [List.drop_of_length_le (by omega), List.append_nil]
theorem ct_X1_undo (hst : l.stackTraces = false) (hC : CR Ω Γ x C w t) (h8 : w.2.1.length ≤ 8) : CM Ω l yX1_undo (ws_ yX1_undo cX1_undo 1 (some .int)) 12 1 6 [.ref x] (hL Ω Γ) (OPw Ω Γ x C t (aUndo w)) (OPwx Ω Γ (aUndo w)) := by
  obtain ⟨mh, hm⟩ := hC.2.1.2
  have hp := hC.2.2.1.2.1
  have hlm : ((cpa C).map (·.1)).length = w.2.1.length := (List.length_map ..).trans hp.1
  have hx := hC.1
  have h2 := hC.2.1.1
  refine CM.of (L := [some (.ref x)]) hst (by decide) (Nat.le_of_ble_eq_true rfl) rfl ?_
  intro p e s m below meth c X hnm htab
  by_cases h0 : w.2.1.length = 0
  · refine g_aload_n X dX1_undo_0 rfl rfl ?_
    refine l_get X dX1_undo_1 rfl in_X1 (ci := 0) rfl 1 (by decide) q234 (fun _ h => h) hx rfl ?_
    refine g_callV X (ct_X3_size hst h2 hm) dX1_undo_4 rfl (lw_V q460 q461 q462 q71 q463) hyV_X3_size (fun H hH => hL.recv X.2.2.2.2.2.2.2.1 hH (h2) rfl) (fun H hH => hH) ⟨Nat.le_of_ble_eq_true rfl, Nat.le_of_ble_eq_true rfl⟩ ⟨by first | exact Nat.le_of_ble_eq_true rfl | omega | (dsimp only [rmD]; omega), by first | exact Nat.le_of_ble_eq_true rfl | omega | (dsimp only [rmD]; omega)⟩ (Nat.le_of_ble_eq_true rfl) rfl (fun x_4 => ?_)
    refine g_if_le (tgt := 14) X dX1_undo_7 rfl (by decide) (fun c_7 => ?_) (fun c => absurd ((nI_le0 (by omega)).mpr (by omega)) c)
    refine g_iconst X dX1_undo_14 rfl (v := (nI 0)) rfl ?_
    refine g_callSx X (ct_X1_requireState_f hst) dX1_undo_15 rfl (lw_S q1450 q792 q66 q793) hyS_X1_requireState (fun H hH => hH) ⟨Nat.le_of_ble_eq_true rfl, Nat.le_of_ble_eq_true rfl⟩ ⟨by first | exact Nat.le_of_ble_eq_true rfl | omega | (dsimp only [rmD]; omega), by first | exact Nat.le_of_ble_eq_true rfl | omega | (dsimp only [rmD]; omega)⟩ (Nat.le_of_ble_eq_true rfl) rfl (fun E q => GX.pass X htab (by first | exact Nat.le_of_ble_eq_true rfl | omega) (by first | exact Nat.le_of_ble_eq_true rfl | omega) (fun H h => ⟨1, if_pos h0, rfl, h.1, h.2.2⟩)) (fun x2 => ?_)
    exact x2.2.elim
  · have eR : aUndo w = .inr (w.2.1.length - 1, (w.2.1.getD (w.2.1.length - 1) st0, w.2.1.take (w.2.1.length - 1), w.2.2)) := if_neg h0
    have hpl : (cpa C).length = w.2.1.length := hp.1
    have hz : (cpa C)[w.2.1.length - 1]? = some ((cpa C)[w.2.1.length - 1]'(by omega)) := List.getElem?_eq_getElem (by omega)
    generalize hzz : (cpa C)[w.2.1.length - 1]'(by omega) = z at hz
    have hsz := hp.2 _ z hz
    have hy : ((cpa C).map (·.1))[((cpa C).map (·.1)).length - 1]? = some z.1 := by rw [hlm, List.getElem?_map, hz]; rfl
    have hE : ∀ z ∈ (cpa C).map (·.1), okE Ω Γ z := fun z hz => by
      obtain ⟨u, hu1, hu2⟩ := List.mem_map.mp hz
      obtain ⟨i, hi⟩ := mem_ix hu1
      exact Or.inl ⟨1, _, by rw [← hu2]; exact (hp.2 i u hi).st, by simp⟩
    have elist : ((cpa C).map (·.1)).eraseIdx (((cpa C).map (·.1)).length - 1) = ((cpa C).take (w.2.1.length - 1)).map (·.1) := by
      rw [era_last, hlm, List.map_take]
    have hT : ∀ {a : Nat} {A : Ad} {σ : St}, SR Ω (hlB (chl C)) Γ a A σ → SR Ω (hlB (chl C)) (hu Γ (chl C) (.inr (((cpa C).take (w.2.1.length - 1)).map (·.1), mh + nI 1))) a A σ := fun hs => hs.lst hm hlB_s
    have hC1 : CR Ω (hu Γ (chl C) (.inr (((cpa C).take (w.2.1.length - 1)).map (·.1), mh + nI 1))) x (C.1, ccu C, (cpa C).take (w.2.1.length - 1), csv C) (w.1, w.2.1.take (w.2.1.length - 1), w.2.2) t := by
      obtain ⟨f, hf, hf2⟩ := hC.2.2.2.1.2
      obtain ⟨mb, hb⟩ := hC.2.2.2.2.1.1
      obtain ⟨cap, g, hg, hg2⟩ := hC.2.2.2.2.1.2
      refine ⟨kpO_L hm _ _ hx, ⟨kpO_L hm _ _ h2, mh + nI 1, hu_s _ _ _⟩, ⟨hT hC.2.2.1.1, ⟨?_, fun i u hu9 => ?_⟩, fun z hz => (hC.2.2.1.2.2.1 z hz).elim (fun σ hs => ⟨σ, hs.1, hT hs.2⟩), hC.2.2.1.2.2.2⟩, ⟨hC.2.2.2.1.1, f, (hu_n (neV hf hm (by simp))).trans hf, hf2⟩, ⟨⟨mb, kpO_L hm _ _ hb⟩, cap, g, (hu_n (neV hg hm (by simp))).trans hg, hg2⟩, hC.2.2.2.2.2⟩
      · show ((cpa C).take _).length = (w.2.1.take _).length
        rw [List.length_take, List.length_take, hpl]
      · have hu9 : ((cpa C).take (w.2.1.length - 1))[i]? = some u := hu9
        have hi : i < w.2.1.length - 1 := by
          have := (List.getElem?_eq_some_iff.mp hu9).1
          rw [List.length_take] at this; omega
        rw [List.getElem?_take, if_pos hi] at hu9
        rw [show (w.1, w.2.1.take (w.2.1.length - 1), w.2.2).2.1 = w.2.1.take (w.2.1.length - 1) from rfl, getD_take hi]
        exact hT (hp.2 i u hu9)
    have hC2 := hC1.setX (C' := (C.1, z, (cpa C).take (w.2.1.length - 1), csv C)) (w' := (w.2.1.getD (w.2.1.length - 1) st0, w.2.1.take (w.2.1.length - 1), w.2.2)) (t' := t) rfl rfl ⟨hT hsz, hC1.2.2.1.2⟩ hC1.2.2.2.1 rfl
    have z1 := (hT hsz).st
    obtain ⟨m2, hm2⟩ := hC2.2.1.2
    have hl2 : (((cpa C).take (w.2.1.length - 1)).map (·.1)).length = w.2.1.length - 1 := by rw [List.length_map, List.length_take]; omega
    have hk : KX x C Γ (hu (hu Γ (chl C) (.inr (((cpa C).take (w.2.1.length - 1)).map (·.1), mh + nI 1))) x (.inl (.inr (0, CX (C.1, z, (cpa C).take (w.2.1.length - 1), csv C) t)))) := fun q e hq n1 n2 _ _ _ => (hu_n n1).trans ((hu_n n2).trans hq)
    refine g_aload_n X dX1_undo_0 rfl rfl ?_
    refine l_get X dX1_undo_1 rfl in_X1 (ci := 0) rfl 1 (by decide) q234 (fun _ h => h) hx rfl ?_
    refine g_callV X (ct_X3_size hst h2 hm) dX1_undo_4 rfl (lw_V q460 q461 q462 q71 q463) hyV_X3_size (fun H hH => hL.recv X.2.2.2.2.2.2.2.1 hH (h2) rfl) (fun H hH => hH) ⟨Nat.le_of_ble_eq_true rfl, Nat.le_of_ble_eq_true rfl⟩ ⟨by first | exact Nat.le_of_ble_eq_true rfl | omega | (dsimp only [rmD]; omega), by first | exact Nat.le_of_ble_eq_true rfl | omega | (dsimp only [rmD]; omega)⟩ (Nat.le_of_ble_eq_true rfl) rfl (fun x_4 => ?_)
    refine g_if_le (tgt := 14) X dX1_undo_7 rfl (by decide) (fun c => absurd ((nI_le0 (by omega)).mp c) (by omega)) (fun c_7 => ?_)
    refine g_iconst X dX1_undo_10 rfl (v := (nI 1)) rfl ?_
    refine g_goto (tgt := 15) X dX1_undo_11 rfl (by decide) ?_
    refine g_callS X (ct_X1_requireState_t hst) dX1_undo_15 rfl (lw_S q1450 q792 q66 q793) hyS_X1_requireState (fun H hH => hH) ⟨Nat.le_of_ble_eq_true rfl, Nat.le_of_ble_eq_true rfl⟩ ⟨by first | exact Nat.le_of_ble_eq_true rfl | omega | (dsimp only [rmD]; omega), by first | exact Nat.le_of_ble_eq_true rfl | omega | (dsimp only [rmD]; omega)⟩ (Nat.le_of_ble_eq_true rfl) rfl (fun x_15 => ?_)
    refine g_aload_n X dX1_undo_18 rfl rfl ?_
    refine g_aload_n X dX1_undo_19 rfl rfl ?_
    refine l_get X dX1_undo_20 rfl in_X1 (ci := 0) rfl 1 (by decide) q234 (fun _ h => h) hx rfl ?_
    refine g_callV X (ct_X3_takeLast hst h2 hm (by omega) (by omega) hy hE) dX1_undo_23 rfl (lw_V q1891 q1892 q1893 q71 q1894) hyV_X3_takeLast (fun H hH => hL.recv X.2.2.2.2.2.2.2.1 hH (h2) rfl) (fun H hH => hH) ⟨Nat.le_of_ble_eq_true rfl, Nat.le_of_ble_eq_true rfl⟩ ⟨by first | exact Nat.le_of_ble_eq_true rfl | omega | (dsimp only [rmD]; omega), by first | exact Nat.le_of_ble_eq_true rfl | omega | (dsimp only [rmD]; omega)⟩ (Nat.le_of_ble_eq_true rfl) rfl (fun x_23 => ?_)
    rw [elist]
    refine g_cast X dX1_undo_26 rfl q114 (fun H hH => hL.recv X.2.2.2.2.2.2.2.1 hH (z1) rfl) ?_
    refine l_put X dX1_undo_29 rfl in_X1 tyX1_ok nmX1 (ci := 0) rfl 0 (by decide) q233 (fun _ h => h) rfl rfl rfl rfl hC1.1 (Nat.le_of_ble_eq_true rfl) rfl ?_
    refine g_aload_n X dX1_undo_32 rfl rfl ?_
    refine l_get X dX1_undo_33 rfl in_X1 (ci := 0) rfl 1 (by decide) q234 (fun _ h => h) hC2.1 rfl ?_
    refine g_callV X (ct_X3_size hst hC2.2.1.1 hm2) dX1_undo_36 rfl (lw_V q460 q461 q462 q71 q463) hyV_X3_size (fun H hH => hL.recv X.2.2.2.2.2.2.2.1 hH (hC2.2.1.1) rfl) (fun H hH => hH) ⟨Nat.le_of_ble_eq_true rfl, Nat.le_of_ble_eq_true rfl⟩ ⟨by first | exact Nat.le_of_ble_eq_true rfl | omega | (dsimp only [rmD]; omega), by first | exact Nat.le_of_ble_eq_true rfl | omega | (dsimp only [rmD]; omega)⟩ (Nat.le_of_ble_eq_true rfl) rfl (fun x_36 => ?_)
    refine g_iret X dX1_undo_39 rfl (by first | exact Nat.le_of_ble_eq_true rfl | omega | (dsimp only [rmD]; omega)) (by first | exact Nat.le_of_ble_eq_true rfl | omega | (dsimp only [rmD]; omega)) (fun H hH => ⟨⟨(_, _, w.2.1.length - 1, _), eR, hC2, hk, rfl⟩, by rw [show ((cpa (C.1, z, (cpa C).take (w.2.1.length - 1), csv C)).map (·.1)).length = w.2.1.length - 1 from hl2], hH⟩)
theorem ct_X1_restore (hst : l.stackTraces = false) (hC : CR Ω Γ x C w t) {R M : Nat} (hW : WA R M w) (hm0 : M + 60 ≤ 100000) (hr : R + 720 ≤ 2000000) : CM Ω l yX1_restore (ws_ yX1_restore cX1_restore 1 (some .int)) 40 95 4059 [.ref x] (hL Ω Γ) (OPw Ω Γ x C t (aRest w)) (OPwx Ω Γ (aRest w)) := by
  obtain ⟨m, hm⟩ := hC.2.1.2
  have hx := hC.1
  have h2 := hC.2.1.1
  refine CM.of (L := [some (.ref x)]) hst (by decide) (Nat.le_of_ble_eq_true rfl) rfl ?_
  intro p e s m below meth c X hnm htab
  cases hsv : csv C with
  | none =>
    have eR : aRest w = .inl 1 := by unfold aRest; rw [hC.2.2.1.2.2.2 hsv]
    rw [show CX C t = [.ref (ccu C).1, .ref (chq C), va_rf none, .ref (ciq C), .int (nI t.2.1.length), .int t.2.2.1, .int t.2.2.2, .ref (coq C)] by unfold CX; rw [hsv]; rfl] at hx
    refine g_aload_n X dX1_restore_0 rfl rfl ?_
    refine l_get X dX1_restore_1 rfl in_X1 (ci := 0) rfl 2 (by decide) q235 (fun _ h => h) hx rfl ?_
    refine g_ifnull X (x := none) (tgt := 11) dX1_restore_4 rfl (by decide) (fun _ => ?_) (fun y g => by simp at g)
    refine g_iconst X dX1_restore_11 rfl (v := (nI 0)) rfl ?_
    refine g_callSx X (ct_X1_requireState_f hst) dX1_restore_12 rfl (lw_S q1450 q792 q66 q793) hyS_X1_requireState (fun H hH => hH) ⟨Nat.le_of_ble_eq_true rfl, Nat.le_of_ble_eq_true rfl⟩ ⟨by first | exact Nat.le_of_ble_eq_true rfl | omega | (dsimp only [rmD]; omega), by first | exact Nat.le_of_ble_eq_true rfl | omega | (dsimp only [rmD]; omega)⟩ (Nat.le_of_ble_eq_true rfl) rfl (fun E q => GX.pass X htab (by first | exact Nat.le_of_ble_eq_true rfl | omega) (by first | exact Nat.le_of_ble_eq_true rfl | omega) (fun H h => ⟨1, eR, rfl, h.1, h.2.2⟩)) (fun x2 => ?_)
    exact x2.2.elim
  | some z =>
    obtain ⟨σ1, hs1, hs2⟩ := hC.2.2.1.2.2.1 z hsv
    have eR : aRest w = .inr (nB σ1, (σ1, [], some σ1)) := by unfold aRest; rw [hs1]
    have hW1 := hW.2.2.2 σ1 hs1
    have hB := hW1.1.bd (by omega) (by omega)
    have b1 := hB.1
    rw [show CX C t = [.ref (ccu C).1, .ref (chq C), va_rf (some z.1), .ref (ciq C), .int (nI t.2.1.length), .int t.2.2.1, .int t.2.2.2, .ref (coq C)] by unfold CX; rw [hsv]; rfl] at hx
    refine g_aload_n X dX1_restore_0 rfl rfl ?_
    refine l_get X dX1_restore_1 rfl in_X1 (ci := 0) rfl 2 (by decide) q235 (fun _ h => h) hx rfl ?_
    refine g_ifnull X (x := some z.1) (tgt := 11) dX1_restore_4 rfl (by decide) (fun g => by simp at g) (fun _ _ => ?_)
    refine g_iconst X dX1_restore_7 rfl (v := (nI 1)) rfl ?_
    refine g_goto (tgt := 12) X dX1_restore_8 rfl (by decide) ?_
    refine g_callS X (ct_X1_requireState_t hst) dX1_restore_12 rfl (lw_S q1450 q792 q66 q793) hyS_X1_requireState (fun H hH => hH) ⟨Nat.le_of_ble_eq_true rfl, Nat.le_of_ble_eq_true rfl⟩ ⟨by first | exact Nat.le_of_ble_eq_true rfl | omega | (dsimp only [rmD]; omega), by first | exact Nat.le_of_ble_eq_true rfl | omega | (dsimp only [rmD]; omega)⟩ (Nat.le_of_ble_eq_true rfl) rfl (fun x_12 => ?_)
    refine g_aload_n X dX1_restore_15 rfl rfl ?_
    refine g_aload_n X dX1_restore_16 rfl rfl ?_
    refine l_get X dX1_restore_17 rfl in_X1 (ci := 0) rfl 2 (by decide) q235 (fun _ h => h) hx (show _ = some (Value.ref z.1) from rfl) ?_
    refine g_callV X (ct_X2_copy hst hs2 hW1.1.cp (fun i hi n hn => by have := hB.2.2.1 i hi n hn; omega)) dX1_restore_20 rfl (lw_V q565 q566 q567 q67 q568) hyV_X2_copy (fun H hH => hL.recv X.2.2.2.2.2.2.2.1 hH (hs2.st) rfl) (fun H hH => hH) ⟨Nat.le_of_ble_eq_true rfl, Nat.le_of_ble_eq_true rfl⟩ ⟨by first | exact Nat.le_of_ble_eq_true rfl | omega | (dsimp only [rmD]; omega), by first | exact Nat.le_of_ble_eq_true rfl | omega | (dsimp only [rmD]; omega)⟩ (Nat.le_of_ble_eq_true rfl) rfl (fun x0 => ?_)
    obtain ⟨⟨G, c0, B0⟩, e0, S0⟩ := x0
    dsimp only at e0 S0 ⊢
    have S2 : SR Ω (hlB (chl C)) G c0 B0 σ1 := S0.base (fun q hq => hlB_n (fun e => by rw [e, hm] at hq; simp at hq))
    have hC1 := hC.ex e0
    have hC2 := hC1.setX (C' := (C.1, (c0, B0), cpa C, csv C)) (w' := (σ1, w.2.1, w.2.2)) (t' := t) rfl rfl ⟨S2, hC1.2.2.1.2⟩ hC1.2.2.2.1 rfl
    obtain ⟨m2, hm2⟩ := hC2.2.1.2
    have hT : ∀ {Γ : LH} {v : List Nat × Int32} {a : Nat} {A : Ad} {σ : St}, Γ (chl C) = some (.inr v) → SR Ω (hlB (chl C)) Γ a A σ → ∀ e, SR Ω (hlB (chl C)) (hu Γ (chl C) e) a A σ := fun h hs e => hs.lst h hlB_s
    have hC3 : CR Ω (hu (hu G x (.inl (.inr (0, CX (C.1, (c0, B0), cpa C, csv C) t)))) (chl C) (.inr ([], m2 + nI 1))) x (C.1, (c0, B0), [], csv C) (σ1, [], some σ1) t := by
      obtain ⟨f, hf, hf2⟩ := hC2.2.2.2.1.2
      obtain ⟨mb, hb⟩ := hC2.2.2.2.2.1.1
      obtain ⟨cap, g, hg, hg2⟩ := hC2.2.2.2.2.1.2
      exact ⟨kpO_L hm2 _ _ hC2.1, ⟨kpO_L hm2 _ _ hC2.2.1.1, m2 + nI 1, hu_s _ _ _⟩, ⟨hT hm2 hC2.2.2.1.1 _, ⟨rfl, fun i z hz => nil_no hz⟩, fun z9 hz => (hC2.2.2.1.2.2.1 z9 hz).elim (fun σ hs => ⟨σ1, rfl, by have e9 : some σ = some σ1 := hs.1.symm.trans hs1; cases e9; exact hT hm2 hs.2 _⟩), fun h9 => by have h9 : csv C = none := h9; rw [hsv] at h9; simp at h9⟩, ⟨hC2.2.2.2.1.1, f, (hu_n (neV hf hm2 (by simp))).trans hf, hf2⟩, ⟨⟨mb, kpO_L hm2 _ _ hb⟩, cap, g, (hu_n (neV hg hm2 (by simp))).trans hg, hg2⟩, hC2.2.2.2.2.2⟩
    have hs3 := hC3.2.2.1.1
    obtain ⟨mb, hmb⟩ := hs3.lB
    have hk : KX x C Γ (hu (hu G x (.inl (.inr (0, CX (C.1, (c0, B0), cpa C, csv C) t)))) (chl C) (.inr ([], m2 + nI 1))) := fun q e hq n1 n2 _ _ _ => (hu_n n2).trans ((hu_n n1).trans (e0 _ _ hq))
    have hlen : ((cpa C).map (·.1)).length ≤ 1000 := by rw [List.length_map, hC.2.2.1.2.1.1]; have := hW.2.1; omega
    refine l_put X dX1_restore_23 rfl in_X1 tyX1_ok nmX1 (ci := 0) rfl 0 (by decide) q233 (fun _ h => h) rfl rfl rfl rfl hC1.1 (Nat.le_of_ble_eq_true rfl) rfl ?_
    refine g_aload_n X dX1_restore_26 rfl rfl ?_
    refine l_get X dX1_restore_27 rfl in_X1 (ci := 0) rfl 1 (by decide) q234 (fun _ h => h) hC2.1 rfl ?_
    refine g_callV X (ct_X3_clear hst hC2.2.1.1 hm2 hlen) dX1_restore_30 rfl (lw_V q1902 q1903 q1904 q71 q1905) hyV_X3_clear (fun H hH => hL.recv X.2.2.2.2.2.2.2.1 hH (hC2.2.1.1) rfl) (fun H hH => hH) ⟨Nat.le_of_ble_eq_true rfl, Nat.le_of_ble_eq_true rfl⟩ ⟨by first | exact Nat.le_of_ble_eq_true rfl | omega | (dsimp only [rmD]; omega), by first | exact Nat.le_of_ble_eq_true rfl | omega | (dsimp only [rmD]; omega)⟩ (Nat.le_of_ble_eq_true rfl) rfl (fun x_30 => ?_)
    refine g_aload_n X dX1_restore_33 rfl rfl ?_
    refine l_get X dX1_restore_34 rfl in_X1 (ci := 0) rfl 0 (by decide) q233 (fun _ h => h) hC3.1 rfl ?_
    refine l_getN X dX1_restore_37 rfl in_X2 (ci := 1) rfl 2 (by decide) "SlidePark" q169 (fun _ h => h) hs3.st rfl ?_
    refine g_callV X (ct_J2_size hst hmb) dX1_restore_40 rfl (lw_V q269 q270 q271 q70 q272) hyV_J2_size (fun H hH => hL.recvL X.2.2.2.2.2.2.2.1 hH (hmb)) (fun H hH => hH) ⟨Nat.le_of_ble_eq_true rfl, Nat.le_of_ble_eq_true rfl⟩ ⟨by first | exact Nat.le_of_ble_eq_true rfl | omega | (dsimp only [rmD]; omega), by first | exact Nat.le_of_ble_eq_true rfl | omega | (dsimp only [rmD]; omega)⟩ (Nat.le_of_ble_eq_true rfl) rfl (fun x_40 => ?_)
    refine g_iret X dX1_restore_43 rfl (by first | exact Nat.le_of_ble_eq_true rfl | omega | (dsimp only [rmD]; omega)) (by first | exact Nat.le_of_ble_eq_true rfl | omega | (dsimp only [rmD]; omega)) (fun H hH => ⟨⟨(_, _, nB σ1, _), eR, hC3, hk, rfl⟩, by rw [hs3.cB], hH⟩)
theorem ct_X1_feed (hst : l.stackTraces = false) (hC : CR Ω Γ x C w t) {c0 : Nat} (hc : c0 < 65536) : CM Ω l yX1_feed (ws_ yX1_feed cX1_feed 2 (some .int)) 10 1 6 [.ref x, .int (nI c0)] (hL Ω Γ) (QV (fun _ : {y : LH // t.2.1.length ≠ 60 ∧ CR Ω y x C w (t.1, t.2.1 ++ [c0], t.2.2) ∧ KX x C Γ y} => some (.int (nI (t.2.1.length + 1)))) (fun y => hL Ω y.1)) (xE "java/lang/IllegalStateException" (t.2.1.length = 60) (hL Ω Γ)) := by
  obtain ⟨h60, f, hf, hf2⟩ := hC.2.2.2.1
  have hx := hC.1
  refine CM.of (L := [some (.ref x), some (.int (nI c0))]) hst (by decide) (Nat.le_of_ble_eq_true rfl) rfl ?_
  intro p e s m below meth c X hnm htab
  by_cases h0 : t.2.1.length = 60
  · refine g_aload_n X dX1_feed_0 rfl rfl ?_
    refine l_get X dX1_feed_1 rfl in_X1 (ci := 0) rfl 4 (by decide) q239 (fun _ h => h) hx rfl ?_
    refine g_bipush X dX1_feed_4 rfl (v := (nI 60)) (by decide) ?_
    refine g_icmp_ge (tgt := 13) X dX1_feed_6 rfl (by decide) (fun c_6 => ?_) (fun c => absurd ((nI_leI (by omega) (by omega)).mpr (by omega)) c)
    refine g_iconst X dX1_feed_13 rfl (v := (nI 0)) rfl ?_
    refine g_callSx X (ct_X1_requireState_f hst) dX1_feed_14 rfl (lw_S q1450 q792 q66 q793) hyS_X1_requireState (fun H hH => hH) ⟨Nat.le_of_ble_eq_true rfl, Nat.le_of_ble_eq_true rfl⟩ ⟨by first | exact Nat.le_of_ble_eq_true rfl | omega | (dsimp only [rmD]; omega), by first | exact Nat.le_of_ble_eq_true rfl | omega | (dsimp only [rmD]; omega)⟩ (Nat.le_of_ble_eq_true rfl) rfl (fun E q => GX.pass X htab (by first | exact Nat.le_of_ble_eq_true rfl | omega) (by first | exact Nat.le_of_ble_eq_true rfl | omega) (fun H h => ⟨h.1, h0, h.2.2⟩)) (fun x2 => ?_)
    exact x2.2.elim
  · have ex : Γ x = some (.inl (.inr (0, CX C t))) := hx
    have hq : ciq C ≠ x := neV hf ex (by simp)
    generalize hG : hu Γ (ciq C) (.inl (cI Ω 1 60 (upd f t.2.1.length (nI c0)))) = G
    have hfG : G (ciq C) = some (.inl (cI Ω 1 60 (upd f t.2.1.length (nI c0)))) := by rw [← hG]; exact hu_s _ _ _
    have hkO : ∀ {q ci : Nat} {fs : List Value}, isO Γ q ci fs → isO G q ci fs := fun {q ci fs} h => by rw [← hG]; exact (hu_n (neV h hf (by simp))).trans h
    have hkL : kpL Γ G := fun q v h => by rw [← hG]; exact (hu_n (neV h hf (by simp))).trans h
    have hxG := hkO hx
    have hC1 : CR Ω G x C w t := by
      obtain ⟨m, hm⟩ := hC.2.1.2
      obtain ⟨mb, hb⟩ := hC.2.2.2.2.1.1
      obtain ⟨cap, g, hg, hg2⟩ := hC.2.2.2.2.1.2
      exact ⟨hxG, ⟨hkO hC.2.1.1, m, hkL _ _ hm⟩, CR3.tt hC.2.2.1 (fun hs => hs.monoK hkL (fun ci _ q fs h => hkO h)), ⟨h60, _, hfG, fun k hk => ⟨by rw [upd_n (by omega)]; exact (hf2 k hk).1, (hf2 k hk).2⟩⟩, ⟨⟨mb, hkO hb⟩, cap, g, by rw [← hG]; exact (hu_n hC.2.2.2.2.2.symm).trans hg, hg2⟩, hC.2.2.2.2.2⟩
    have hlen : (t.2.1 ++ [c0]).length = t.2.1.length + 1 := List.length_append ..
    have hC2 := hC1.setX (C' := C) (w' := w) (t' := (t.1, t.2.1 ++ [c0], t.2.2)) rfl rfl hC1.2.2.1 ⟨by show (t.2.1 ++ [c0]).length ≤ 60; omega, _, hfG, fun k hk => by
      have hk : k < (t.2.1 ++ [c0]).length := hk
      show upd f t.2.1.length (nI c0) k = nI ((t.2.1 ++ [c0]).getD k 0) ∧ (t.2.1 ++ [c0]).getD k 0 < 65536
      rw [getD_app]
      by_cases e : k = t.2.1.length
      · rw [if_pos e, upd_e e]; exact ⟨rfl, hc⟩
      · rw [if_neg e, upd_n e]; exact hf2 k (by omega)⟩ rfl
    have ex2 : CX C (t.1, t.2.1 ++ [c0], t.2.2) = (CX C t).set 4 (.int (nI (t.2.1.length + 1))) := by unfold CX; rw [show (t.1, t.2.1 ++ [c0], t.2.2).2.1.length = t.2.1.length + 1 from hlen]; rfl
    have hk : KX x C Γ (hu G x (.inl (.inr (0, CX C (t.1, t.2.1 ++ [c0], t.2.2))))) := fun q e hq n1 _ n3 _ _ => (hu_n n1).trans (by rw [← hG]; exact (hu_n n3).trans hq)
    have hx2 := hC2.1
    rw [ex2] at hC2 hk hx2
    refine g_aload_n X dX1_feed_0 rfl rfl ?_
    refine l_get X dX1_feed_1 rfl in_X1 (ci := 0) rfl 4 (by decide) q239 (fun _ h => h) hx rfl ?_
    refine g_bipush X dX1_feed_4 rfl (v := (nI 60)) (by decide) ?_
    refine g_icmp_ge (tgt := 13) X dX1_feed_6 rfl (by decide) (fun c => absurd ((nI_leI (by omega) (by omega)).mp c) (by omega)) (fun c_6 => ?_)
    refine g_iconst X dX1_feed_9 rfl (v := (nI 1)) rfl ?_
    refine g_goto (tgt := 14) X dX1_feed_10 rfl (by decide) ?_
    refine g_callS X (ct_X1_requireState_t hst) dX1_feed_14 rfl (lw_S q1450 q792 q66 q793) hyS_X1_requireState (fun H hH => hH) ⟨Nat.le_of_ble_eq_true rfl, Nat.le_of_ble_eq_true rfl⟩ ⟨by first | exact Nat.le_of_ble_eq_true rfl | omega | (dsimp only [rmD]; omega), by first | exact Nat.le_of_ble_eq_true rfl | omega | (dsimp only [rmD]; omega)⟩ (Nat.le_of_ble_eq_true rfl) rfl (fun x_14 => ?_)
    refine g_aload_n X dX1_feed_17 rfl rfl ?_
    refine l_get X dX1_feed_18 rfl in_X1 (ci := 0) rfl 3 (by decide) q236 (fun _ h => h) hx rfl ?_
    refine g_aload_n X dX1_feed_21 rfl rfl ?_
    refine l_get X dX1_feed_22 rfl in_X1 (ci := 0) rfl 4 (by decide) q239 (fun _ h => h) hx rfl ?_
    refine g_iload_n X dX1_feed_25 rfl rfl ?_
    refine l_cas X dX1_feed_26 rfl hf (vp_in_nI (by omega) (by omega)) rfl ?_
    rw [nI_clamp (by omega), vp_c16 hc, hG]
    refine g_aload_n X dX1_feed_27 rfl rfl ?_
    refine g_dup X dX1_feed_28 rfl rfl ?_
    refine l_get X dX1_feed_29 rfl in_X1 (ci := 0) rfl 4 (by decide) q239 (fun _ h => h) hxG rfl ?_
    refine g_iconst X dX1_feed_32 rfl (v := (nI 1)) rfl ?_
    refine g_iadd X dX1_feed_33 rfl (by first | exact nI_add _ _ | rfl) ?_
    refine l_put X dX1_feed_34 rfl in_X1 tyX1_ok nmX1 (ci := 0) rfl 4 (by decide) q239 (fun _ h => h) rfl rfl rfl rfl hxG (Nat.le_of_ble_eq_true rfl) rfl ?_
    refine g_aload_n X dX1_feed_37 rfl rfl ?_
    refine l_get X dX1_feed_38 rfl in_X1 (ci := 0) rfl 4 (by decide) q239 (fun _ h => h) hx2 rfl ?_
    refine g_iret X dX1_feed_41 rfl (by first | exact Nat.le_of_ble_eq_true rfl | omega | (dsimp only [rmD]; omega)) (by first | exact Nat.le_of_ble_eq_true rfl | omega | (dsimp only [rmD]; omega)) (fun H hH => ⟨⟨_, h0, hC2, hk⟩, rfl, hH⟩)
theorem ct_X1_errorPosition (hst : l.stackTraces = false) (hC : CR Ω Γ x C w t) : CM Ω l yX1_errorPosition (ws_ yX1_errorPosition cX1_errorPosition 1 (some .int)) 8 1 6 [.ref x] (hL Ω Γ) (QV (fun _ : PLift (t.2.2.1 ≠ -1) => some (.int t.2.2.1)) (fun _ => hL Ω Γ)) (xE "java/util/NoSuchElementException" (t.2.2.1 = -1) (hL Ω Γ)) := by
  refine CM.of (L := [some (.ref x)]) hst (by decide) (Nat.le_of_ble_eq_true rfl) rfl ?_
  intro p e s m below meth c X hnm htab
  by_cases h0 : t.2.2.1 = -1
  · refine g_aload_n X dX1_errorPosition_0 rfl rfl ?_
    refine l_get X dX1_errorPosition_1 rfl in_X1 (ci := 0) rfl 5 (by decide) q240 (fun _ h => h) hC.1 rfl ?_
    refine g_iconst X dX1_errorPosition_4 rfl (v := (-1)) rfl ?_
    refine g_icmp_eq (tgt := 12) X dX1_errorPosition_5 rfl (by decide) (fun c_5 => ?_) (fun c => absurd h0 c)
    refine g_iconst X dX1_errorPosition_12 rfl (v := (nI 0)) rfl ?_
    refine g_callSx X (ct_X1_requireElement_f hst) dX1_errorPosition_13 rfl (lw_S q1243 q1119 q66 q1120) hyS_X1_requireElement (fun H hH => hH) ⟨Nat.le_of_ble_eq_true rfl, Nat.le_of_ble_eq_true rfl⟩ ⟨by first | exact Nat.le_of_ble_eq_true rfl | omega | (dsimp only [rmD]; omega), by first | exact Nat.le_of_ble_eq_true rfl | omega | (dsimp only [rmD]; omega)⟩ (Nat.le_of_ble_eq_true rfl) rfl (fun E q => GX.pass X htab (by first | exact Nat.le_of_ble_eq_true rfl | omega) (by first | exact Nat.le_of_ble_eq_true rfl | omega) (fun H h => ⟨h.1, h0, h.2.2⟩)) (fun x2 => ?_)
    exact x2.2.elim
  · refine g_aload_n X dX1_errorPosition_0 rfl rfl ?_
    refine l_get X dX1_errorPosition_1 rfl in_X1 (ci := 0) rfl 5 (by decide) q240 (fun _ h => h) hC.1 rfl ?_
    refine g_iconst X dX1_errorPosition_4 rfl (v := (-1)) rfl ?_
    refine g_icmp_eq (tgt := 12) X dX1_errorPosition_5 rfl (by decide) (fun c => absurd c h0) (fun c_5 => ?_)
    refine g_iconst X dX1_errorPosition_8 rfl (v := (nI 1)) rfl ?_
    refine g_goto (tgt := 13) X dX1_errorPosition_9 rfl (by decide) ?_
    refine g_callS X (ct_X1_requireElement_t hst) dX1_errorPosition_13 rfl (lw_S q1243 q1119 q66 q1120) hyS_X1_requireElement (fun H hH => hH) ⟨Nat.le_of_ble_eq_true rfl, Nat.le_of_ble_eq_true rfl⟩ ⟨by first | exact Nat.le_of_ble_eq_true rfl | omega | (dsimp only [rmD]; omega), by first | exact Nat.le_of_ble_eq_true rfl | omega | (dsimp only [rmD]; omega)⟩ (Nat.le_of_ble_eq_true rfl) rfl (fun x_13 => ?_)
    refine g_aload_n X dX1_errorPosition_16 rfl rfl ?_
    refine l_get X dX1_errorPosition_17 rfl in_X1 (ci := 0) rfl 5 (by decide) q240 (fun _ h => h) hC.1 rfl ?_
    refine g_iret X dX1_errorPosition_20 rfl (by first | exact Nat.le_of_ble_eq_true rfl | omega | (dsimp only [rmD]; omega)) (by first | exact Nat.le_of_ble_eq_true rfl | omega | (dsimp only [rmD]; omega)) (fun H hH => ⟨⟨h0⟩, rfl, hH⟩)
theorem ct_X1_failedCommand (hst : l.stackTraces = false) (hC : CR Ω Γ x C w t) : CM Ω l yX1_failedCommand (ws_ yX1_failedCommand cX1_failedCommand 1 (some .int)) 8 1 6 [.ref x] (hL Ω Γ) (QV (fun _ : PLift (t.2.2.2 ≠ -1) => some (.int t.2.2.2)) (fun _ => hL Ω Γ)) (xE "java/util/NoSuchElementException" (t.2.2.2 = -1) (hL Ω Γ)) := by
  refine CM.of (L := [some (.ref x)]) hst (by decide) (Nat.le_of_ble_eq_true rfl) rfl ?_
  intro p e s m below meth c X hnm htab
  by_cases h0 : t.2.2.2 = -1
  · refine g_aload_n X dX1_failedCommand_0 rfl rfl ?_
    refine l_get X dX1_failedCommand_1 rfl in_X1 (ci := 0) rfl 6 (by decide) q241 (fun _ h => h) hC.1 rfl ?_
    refine g_iconst X dX1_failedCommand_4 rfl (v := (-1)) rfl ?_
    refine g_icmp_eq (tgt := 12) X dX1_failedCommand_5 rfl (by decide) (fun c_5 => ?_) (fun c => absurd h0 c)
    refine g_iconst X dX1_failedCommand_12 rfl (v := (nI 0)) rfl ?_
    refine g_callSx X (ct_X1_requireElement_f hst) dX1_failedCommand_13 rfl (lw_S q1243 q1119 q66 q1120) hyS_X1_requireElement (fun H hH => hH) ⟨Nat.le_of_ble_eq_true rfl, Nat.le_of_ble_eq_true rfl⟩ ⟨by first | exact Nat.le_of_ble_eq_true rfl | omega | (dsimp only [rmD]; omega), by first | exact Nat.le_of_ble_eq_true rfl | omega | (dsimp only [rmD]; omega)⟩ (Nat.le_of_ble_eq_true rfl) rfl (fun E q => GX.pass X htab (by first | exact Nat.le_of_ble_eq_true rfl | omega) (by first | exact Nat.le_of_ble_eq_true rfl | omega) (fun H h => ⟨h.1, h0, h.2.2⟩)) (fun x2 => ?_)
    exact x2.2.elim
  · refine g_aload_n X dX1_failedCommand_0 rfl rfl ?_
    refine l_get X dX1_failedCommand_1 rfl in_X1 (ci := 0) rfl 6 (by decide) q241 (fun _ h => h) hC.1 rfl ?_
    refine g_iconst X dX1_failedCommand_4 rfl (v := (-1)) rfl ?_
    refine g_icmp_eq (tgt := 12) X dX1_failedCommand_5 rfl (by decide) (fun c => absurd c h0) (fun c_5 => ?_)
    refine g_iconst X dX1_failedCommand_8 rfl (v := (nI 1)) rfl ?_
    refine g_goto (tgt := 13) X dX1_failedCommand_9 rfl (by decide) ?_
    refine g_callS X (ct_X1_requireElement_t hst) dX1_failedCommand_13 rfl (lw_S q1243 q1119 q66 q1120) hyS_X1_requireElement (fun H hH => hH) ⟨Nat.le_of_ble_eq_true rfl, Nat.le_of_ble_eq_true rfl⟩ ⟨by first | exact Nat.le_of_ble_eq_true rfl | omega | (dsimp only [rmD]; omega), by first | exact Nat.le_of_ble_eq_true rfl | omega | (dsimp only [rmD]; omega)⟩ (Nat.le_of_ble_eq_true rfl) rfl (fun x_13 => ?_)
    refine g_aload_n X dX1_failedCommand_16 rfl rfl ?_
    refine l_get X dX1_failedCommand_17 rfl in_X1 (ci := 0) rfl 6 (by decide) q241 (fun _ h => h) hC.1 rfl ?_
    refine g_iret X dX1_failedCommand_20 rfl (by first | exact Nat.le_of_ble_eq_true rfl | omega | (dsimp only [rmD]; omega)) (by first | exact Nat.le_of_ble_eq_true rfl | omega | (dsimp only [rmD]; omega)) (fun H hH => ⟨⟨h0⟩, rfl, hH⟩)
end O2
