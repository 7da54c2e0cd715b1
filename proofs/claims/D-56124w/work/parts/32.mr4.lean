/-! PURE: calls and finishes -/
section CUTF
variable {Ω : Om} {p : Program} {l : Launch} {e : Env} {R : Room} {s : State} {m : MethodId} {args : Array Value} {below : List Frame} {meth : Method} {c : Code} {Q : State → Prop} {nL : Nat} {I : Heap → Prop} {k n pc : Nat} {L : List (Option Value)} {st : List Value}
/-- where ways meet, with what they carry -/
theorem GJ.cutF {α : Type} (pcj : Nat) (Lj : α → List (Option Value)) (Ij : α → Heap → Prop) (J : ∀ x, GJ Ω p l e R s m args below meth c nL Q (Ij x) k n pcj (Lj x) []) (K : (∀ x, GJ Ω p l e R s m args below meth c nL Q (Ij x) k n pcj (Lj x) []) → GJ Ω p l e R s m args below meth c nL Q I k n pc L st) : GJ Ω p l e R s m args below meth c nL Q I k n pc L st := K J
end CUTF
section UPS4
variable {σ : St} {f f' : Nat → Int32} {g i k x y z n s : Nat}
theorem wet_v {w : Nat} (hw : w < 1000) : (if nI 0 < (if nI w < nI 9 then nI w else nI 9) then (if nI w < nI 9 then nI w else nI 9) else nI 0) = nI (min 9 w) := by
  rw [mn_nI (x := 9) (y := w) (by omega) (by omega), mx_nI (x := 0) (by omega) (by omega)]
  congr 1 <;> omega
theorem dry_v {w : Nat} (hw : w < 1000) : (if nI 0 < (if nI w - nI 1 < nI 9 then nI w - nI 1 else nI 9) then (if nI w - nI 1 < nI 9 then nI w - nI 1 else nI 9) else nI 0) = nI (min 9 (w - 1)) := by
  rcases Nat.eq_zero_or_pos w with h | h
  · subst h; decide
  · rw [pk_sub h, wet_v (by omega)]
theorem erase_hd {q r : List Nat} (h : q = g :: r) : q.erase g = r := by rw [h, List.erase_cons_head]
theorem aFin1_t (h : 5 ≤ slW σ s) : aFin1 σ g s = uP (aBack σ g (slP σ s / 2)) (sP σ + nI 1) := cH_t h
theorem aFin1_f (h : ¬ 5 ≤ slW σ s) : aFin1 σ g s = σ := cH_f h
theorem aFin1_fr : sS (aFin1 σ g s) = sS σ ∧ sB (aFin1 σ g s) = sB σ ∧ sF (aFin1 σ g s) = sF σ ∧ sM (aFin1 σ g s) = sM σ ∧ nG (aFin1 σ g s) = nG σ := by
  by_cases h : 5 ≤ slW σ s
  · rw [aFin1_t h]; exact ⟨rfl, rfl, rfl, rfl, nG_set (σ := σ)⟩
  · rw [aFin1_f h]; exact ⟨rfl, rfl, rfl, rfl, rfl⟩
theorem Wf_leave {R : Nat} (W : Wf R σ) (hs : s < nS σ) (h0 : wai σ g = s + 1) : Wf R (aQue σ s ((slQ σ s).erase g)) :=
  Wf_que W hs (Nat.le_trans List.length_erase_le (W.2.1 s hs).2.2.2.2.2) (fun x hx => W.2.2.1 s hs x (List.mem_of_mem_erase hx)) (QI_leave W.2.2.2.1 hs h0)
theorem Wf_join {R : Nat} (W : Wf R σ) (hs : s < nS σ) (hg : g < nG σ) (hl : (slQ σ s).length ≠ 5) (h0 : wai σ g = 0) : Wf R (aQue σ s (slQ σ s ++ [g])) := by
  have h1 := (W.2.1 s hs).2.2.2.2.2
  refine Wf_que W hs (by rw [List.length_append]; show _ + 1 ≤ 5; omega) (fun x hx => ?_) (QI_join W.2.2.2.1 hs h0)
  rcases List.mem_append.mp hx with h | h
  · exact W.2.2.1 s hs x h
  · rw [List.mem_singleton.mp h]; exact hg
theorem slP_que {q : List Nat} (hs : s < nS σ) : slP (aQue σ s q) i = slP σ i := by
  unfold slP aQue; rw [slSet hs]
  by_cases h : i = s
  · rw [if_pos h, h]; rfl
  · rw [if_neg h]
theorem aCall_nil (h : slQ σ s = []) : aCall σ s = σ := by unfold aCall; rw [h]
theorem aCall_cons {r : List Nat} (h : slQ σ s = g :: r) : aCall σ s = cH (guC σ g < slP σ s) (aQue σ s r) (cH (nB σ < 12 ∧ ¬ aCl σ (nI g) s (sM σ)) (aMake (aQue σ s r) g s (sM σ)) σ) := by unfold aCall; rw [h]
theorem Wf_call {R : Nat} (W : Wf R σ) (hs : s < nS σ) : Wf R (aCall σ s) := by
  cases h : slQ σ s with
  | nil => rw [aCall_nil h]; exact W
  | cons g r =>
    have hm : g ∈ slQ σ s := by rw [h]; exact List.mem_cons_self
    have W1 := Wf_leave W hs (W.2.2.2.1.wai hs hm)
    rw [erase_hd h] at W1
    rw [aCall_cons h]
    by_cases h1 : guC σ g < slP σ s
    · rw [cH_t h1]; exact W1
    · rw [cH_f h1]
      by_cases h2 : nB σ < 12 ∧ ¬ aCl σ (nI g) s (sM σ)
      · rw [cH_t h2]
        exact Wf_make W1 (W.2.2.1 s hs g hm) (by rw [nS_que]; exact hs) (by rw [slP_que hs]; exact Nat.le_of_not_lt h1) h2.1 (by show sM σ ≤ sM σ + 120; omega)
      · rw [cH_f h2]; exact W
theorem nS_call : nS (aCall σ s) = nS σ := by
  cases h : slQ σ s with
  | nil => rw [aCall_nil h]
  | cons g r =>
    rw [aCall_cons h]
    by_cases h1 : guC σ g < slP σ s
    · rw [cH_t h1]; exact nS_que
    · rw [cH_f h1]
      by_cases h2 : nB σ < 12 ∧ ¬ aCl σ (nI g) s (sM σ)
      · rw [cH_t h2]; exact nS_que
      · rw [cH_f h2]
theorem sM_call : sM (aCall σ s) = sM σ := by
  cases h : slQ σ s with
  | nil => rw [aCall_nil h]
  | cons g r =>
    rw [aCall_cons h]
    by_cases h1 : guC σ g < slP σ s
    · rw [cH_t h1]; rfl
    · rw [cH_f h1]
      by_cases h2 : nB σ < 12 ∧ ¬ aCl σ (nI g) s (sM σ)
      · rw [cH_t h2]; rfl
      · rw [cH_f h2]
/-- a finish keeps the invariant, with one more ride -/
theorem Wf_finish {R b : Nat} (W : Wf R σ) (hb : b < nB σ) : Wf (R + 1) (aFinish σ b) := by
  have b6 := W.2.2.2.2.2.1 b hb
  have b2 := W.2.1 _ b6.2.1
  generalize hg : boG σ b = g at b6
  generalize hs : boS σ b = s at b6 b2
  obtain ⟨f1, f2, f3, f4, f5⟩ := aFin1_fr (σ := σ) (g := g) (s := s)
  -- the state after the drop of b from the refunded park, then the rest commutes
  have W1 : Wf R (aDrop (aFin1 σ g s) b) := by
    refine Wf_drop W hb f1 (by show (sB (aFin1 σ g s)).eraseIdx b = _; rw [f2]) f3 f4 f5 (fun i hi => ?_)
    have h5 := (W.2.2.2.2.1 i hi).2
    rw [hg, hs]
    by_cases h : 5 ≤ slW σ s
    · have e1 : guC (aDrop (aFin1 σ g s) b) i = if i = g then guC σ g + slP σ s / 2 else guC σ i := by rw [aFin1_t h]; exact guC_set (y := guR σ g) b6.1
      have e2 : guR (aDrop (aFin1 σ g s) b) i = if i = g then guR σ g else guR σ i := by rw [aFin1_t h]; exact guR_set (x := guC σ g + slP σ s / 2) b6.1
      rw [e1, e2]
      by_cases h2 : i = g
      · rw [if_pos h2, if_pos h2, if_pos h2.symm]; subst h2; omega
      · rw [if_neg h2, if_neg h2]; omega
    · rw [aFin1_f h]
      exact ⟨Nat.le_add_right _ _, h5⟩
  have hg1 : g < nG (aDrop (aFin1 σ g s) b) := by show g < nG (aFin1 σ g s); rw [f5]; exact b6.1
  have hs1 : s < nS (aDrop (aFin1 σ g s) b) := by show s < (sS (aFin1 σ g s)).length; rw [f1]; exact b6.2.1
  have W2 := Wf_fin2 W1 hg1 hs1
  unfold aFinish
  rw [hg, hs]
  exact W2
theorem sM_finish {b : Nat} : sM (aFinish σ b) = sM σ := by
  show sM (aFin1 σ _ _) = _
  exact aFin1_fr.2.2.2.1
theorem nB_finish {b : Nat} (hb : b < nB σ) : nB (aFinish σ b) = nB σ - 1 := by
  show ((sB (aFin1 σ _ _)).eraseIdx b).length = _
  rw [aFin1_fr.2.1]
  exact nB_drop hb
theorem cpW (hC : Cp σ) (hs : s < nS σ) : Cp (aWet σ s n) := by
  refine ⟨by rw [nS_wet]; exact hC.1, hC.2.1, hC.2.2.1, hC.2.2.2.1, fun i hi => ?_⟩
  rw [nS_wet] at hi
  have e : slQ (aWet σ s n) i = slQ σ i := by
    unfold aWet; rw [slQ_set hs]
    by_cases h : i = s
    · rw [if_pos h, h]
    · rw [if_neg h]
  rw [e]; exact hC.2.2.2.2 i hi
theorem cpF {b : BoT} (hC : Cp σ) : Cp (uF σ (fiL σ b)) := ⟨hC.1, hC.2.1, hC.2.2.1, by show (fiL σ b).length ≤ 16; rw [fiL_len hC.2.2.2.1]; omega, hC.2.2.2.2⟩
theorem aFin2_eq : aFin2 σ g s = uG (uF (aWet σ s (min 9 (slW σ s + 2))) (fiL (aWet σ s (min 9 (slW σ s + 2))) (g, s, sM σ))) ((sG (uF (aWet σ s (min 9 (slW σ s + 2))) (fiL (aWet σ s (min 9 (slW σ s + 2))) (g, s, sM σ)))).set g (guC σ g, guR σ g + 1)) := rfl
end UPS4
