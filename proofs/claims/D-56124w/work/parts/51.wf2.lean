/-! PURE: every op keeps the invariants -/
section WF2
variable {σ : St} {R g i k n s t : Nat}
theorem slD_wet (hs : s < nS σ) : slD (aWet σ s n) i = slD σ i := by
  unfold slD aWet; rw [slSet hs]
  by_cases h : i = s
  · rw [if_pos h, h]; rfl
  · rw [if_neg h]
theorem slD_que {q : List Nat} (hs : s < nS σ) : slD (aQue σ s q) i = slD σ i := by
  unfold slD aQue; rw [slSet hs]
  by_cases h : i = s
  · rw [if_pos h, h]; rfl
  · rw [if_neg h]
theorem Wf_build {d p : Nat} (W : Wf R σ) (hn : nS σ < 4) (hd : 1 ≤ d ∧ d ≤ 9) (hp : 1 ≤ p ∧ p ≤ 9) : Wf R (uS σ (sS σ ++ [(d, p, 0, [])])) := by
  obtain ⟨w1, w2, w3, w4, w5, w6, w7⟩ := W
  have hl : nS (uS σ (sS σ ++ [(d, p, 0, [])])) = nS σ + 1 := List.length_append ..
  have hq : ∀ i, slQ (uS σ (sS σ ++ [(d, p, 0, [])])) i = if i = nS σ then [] else slQ σ i := fun i => by unfold slQ; rw [slApp]; split <;> rfl
  have hP : ∀ i, slP (uS σ (sS σ ++ [(d, p, 0, [])])) i = if i = nS σ then p else slP σ i := fun i => by unfold slP; rw [slApp]; split <;> rfl
  refine ⟨⟨by rw [hl]; omega, w1.2⟩, fun i hi => ?_, fun i hi => ?_, fun i hi => ?_, fun g hg => ?_, fun k hk => ?_, fun k hk => ?_⟩
  · rw [hl] at hi
    rw [hq, hP]
    unfold slD slW
    rw [slApp]
    by_cases h : i = nS σ
    · rw [if_pos h, if_pos h, if_pos h]; exact ⟨hd.1, hd.2, hp.1, hp.2, Nat.zero_le _, Nat.zero_le _⟩
    · rw [if_neg h, if_neg h, if_neg h]; exact w2 i (by omega)
  · rw [hl] at hi; rw [hq]
    by_cases h : i = nS σ
    · rw [if_pos h]; exact fun x hx => absurd hx (by simp)
    · rw [if_neg h]; exact w3 i (by omega)
  · rw [hl] at hi; rw [hq]
    by_cases h : i = nS σ
    · rw [if_pos h]; exact ⟨List.nodup_nil, fun x hx => absurd hx (by simp)⟩
    · rw [if_neg h]; exact ⟨(w4 i (by omega)).1, fun g hm => wai_build.trans ((w4 i (by omega)).2 g hm)⟩
  · refine ⟨?_, (w5 g hg).2⟩
    have : dueG (uS σ (sS σ ++ [(d, p, 0, [])])) g = dueG σ g := du_congr (fun k hk => by
      have hk : k < nB σ := hk
      have := (w6 k hk).2.1
      rw [hP, if_neg (by show boS σ k ≠ nS σ; omega)])
    rw [this]
    exact (w5 g hg).1
  · rw [hl]; have := w6 k hk; exact ⟨this.1, Nat.lt_succ_of_lt this.2.1, this.2.2⟩
  · rw [hl]; have := w7 k hk; exact ⟨this.1, Nat.lt_succ_of_lt this.2.1, this.2.2⟩
theorem DJ_build {d p : Nat} (W : Wf R σ) (hD : DJ σ) : DJ (uS σ (sS σ ++ [(d, p, 0, [])])) := DJ_same hD rfl (fun k hk => by
  have := (W.2.2.2.2.2.1 k hk).2.1
  unfold slD; rw [slApp, if_neg (by show boS σ k ≠ nS σ; omega)])
theorem Wf_addG (W : Wf R σ) (hn : nG σ < 10) : Wf R (uG σ (sG σ ++ [(50, 0)])) := by
  obtain ⟨w1, w2, w3, w4, w5, w6, w7⟩ := W
  have hl : nG (uG σ (sG σ ++ [(50, 0)])) = nG σ + 1 := List.length_append ..
  have eg : ∀ i, (sG (uG σ (sG σ ++ [(50, 0)]))).getD i (0, 0) = if i = nG σ then (50, 0) else (sG σ).getD i (0, 0) := fun i => getD_app
  refine ⟨⟨w1.1, by rw [hl]; omega, w1.2.2⟩, w2, fun i hi x hx => by rw [hl]; exact Nat.lt_succ_of_lt (w3 i hi x hx), w4, fun g hg => ?_, fun k hk => ?_, fun k hk => ?_⟩
  · rw [hl] at hg
    unfold guC guR
    rw [eg]
    by_cases h : g = nG σ
    · rw [if_pos h]
      have : dueG (uG σ (sG σ ++ [(50, 0)])) g = 0 := du_none (fun k hk => by
        have := (w6 k hk).1
        show boG σ k ≠ g
        omega)
      rw [this]
      exact ⟨Nat.le_refl _, Nat.zero_le _⟩
    · rw [if_neg h]; exact w5 g (by omega)
  · rw [hl]; have := w6 k hk; exact ⟨Nat.lt_succ_of_lt this.1, this.2⟩
  · rw [hl]; have := w7 k hk; exact ⟨Nat.lt_succ_of_lt this.1, this.2⟩
theorem DJ_call (W : Wf R σ) (hD : DJ σ) (hs : s < nS σ) : DJ (aCall σ s) := by
  cases h : slQ σ s with
  | nil => rw [aCall_nil h]; exact hD
  | cons g r =>
    rw [aCall_cons h]
    have h1 : DJ (aQue σ s r) := DJ_same hD rfl (fun k _ => slD_que hs)
    by_cases c1 : guC σ g < slP σ s
    · rw [cH_t c1]; exact h1
    · rw [cH_f c1]
      by_cases c2 : nB σ < 12 ∧ ¬ aCl σ (nI g) s (sM σ)
      · rw [cH_t c2]
        refine DJ_make h1 (fun hc => c2.2 ?_)
        obtain ⟨k, hk, h3, h4⟩ := hc
        refine ⟨k, hk, h3, ?_⟩
        have e1 : slD (aQue σ s r) s = slD σ s := slD_que hs
        have e2 : slD (aQue σ s r) (boS σ k) = slD σ (boS σ k) := slD_que hs
        have h5 : boT σ k < sM σ + slD (aQue σ s r) s ∧ sM σ < boT σ k + slD (aQue σ s r) (boS σ k) := h4
        rw [e1, e2] at h5
        exact h5
      · rw [cH_f c2]; exact hD
theorem DJ_dry (hD : DJ σ) (hs : s < nS σ) : DJ (aDry σ s) := by
  unfold aDry
  by_cases h : aBusy σ s (sM σ - 1)
  · rw [cH_t h]; exact hD
  · rw [cH_f h]; exact DJ_same hD rfl (fun k _ => slD_wet hs)
theorem slD_fin (hs : s < nS σ) : slD (aFin2 (aFin1 σ g s) g s) i = slD σ i := by
  obtain ⟨f1, -⟩ := aFin1_fr (σ := σ) (g := g) (s := s)
  have h1 : s < nS (aFin1 σ g s) := by show s < (sS (aFin1 σ g s)).length; rw [f1]; exact hs
  have e1 : slD (aFin2 (aFin1 σ g s) g s) i = slD (aWet (aFin1 σ g s) s (min 9 (slW (aFin1 σ g s) s + 2))) i := rfl
  rw [e1, slD_wet h1]
  unfold slD; rw [f1]
theorem DJ_finish {b : Nat} (W : Wf R σ) (hD : DJ σ) (hb : b < nB σ) : DJ (aFinish σ b) := by
  have hs := (W.2.2.2.2.2.1 b hb).2.1
  refine DJ_drop hD hb ?_ (fun i => slD_fin hs)
  show (sB (aFin1 σ (boG σ b) (boS σ b))).eraseIdx b = _
  rw [aFin1_fr.2.1]
theorem DJ_aC (W : Wf R σ) (hD : DJ σ) : ∀ k, k ≤ nS σ → DJ (aC σ k)
  | 0, _ => hD
  | k + 1, h => DJ_call (aC_all W k (by omega)).1 (DJ_aC W hD k (by omega)) (by have := (aC_all W k (by omega)).2.1; show k < nS (aC σ k); omega)
theorem DJ_aD (W : Wf R σ) (hD : DJ σ) : ∀ k, k ≤ nS σ → DJ (aD σ k)
  | 0, _ => hD
  | k + 1, h => DJ_dry (DJ_aD W hD k (by omega)) (by have := (aD_all W k (by omega)).2.1; show k < nS (aD σ k); omega)
theorem DJ_fins : ∀ (n b c : Nat) (τ : St), Wf (R + c) τ → DJ τ → DJ (aFins n b c τ).2
  | 0, _, _, _, _, hD => hD
  | n + 1, b, c, τ, W, hD => by
    by_cases hb : b < nB τ
    · rw [aFins_go hb (Nat.succ_ne_zero n)]
      by_cases he : boE τ b = sM τ
      · rw [cH_t he]
        exact DJ_fins n b (c + 1) (aFinish τ b) (Wf_finish W hb) (DJ_finish W hD hb)
      · rw [cH_f he]
        exact DJ_fins n (b + 1) c τ W hD
    · rw [aFins_end hb]; exact hD
theorem DJ_minute (W : Wf R σ) (hD : DJ σ) : DJ (aMinute σ).2 := by
  have h1 := DJ_aC W hD (nS σ) (Nat.le_refl _)
  have W1 := (aC_all W (nS σ) (Nat.le_refl _)).1
  have h2 : DJ (aMin2 (aMin1 σ)) := h1
  have W2 := Wf_min W1
  have h3 : DJ (aM3 σ) := DJ_aD W2 h2 (nS (aMin2 (aMin1 σ))) (Nat.le_refl _)
  rw [aMinute_eq]
  exact DJ_fins (R := R) _ 0 0 _ (aM3_all W).1 h3
theorem DJ_mins (W : Wf R σ) (hD : DJ σ) : ∀ k, DJ (aMins k σ).2
  | 0 => hD
  | k + 1 => DJ_minute (Wf_mins W k).1 (DJ_mins W hD k)
/-- a sound outcome: the invariants, more rides and minutes -/
def okW (R M : Nat) (x : Res) : Prop := match x with | .inl _ => True | .inr y => Wf R y.2 ∧ DJ y.2 ∧ sM y.2 ≤ M
theorem okW_cH {M : Nat} {P : Prop} {x y : Res} (h1 : P → okW R M x) (h2 : ¬ P → okW R M y) : okW R M (cH P x y) := by
  by_cases h : P
  · rw [cH_t h]; exact h1 h
  · rw [cH_f h]; exact h2 h
theorem rg_of {x : Int32} (h : nI 1 ≤ x ∧ x ≤ nI 9) : 1 ≤ iN x ∧ iN x ≤ 9 := by
  obtain ⟨j, h1, h2, rfl⟩ := (rgI (by omega) (by omega)).mp h
  rw [iN_nI (by omega)]; exact ⟨h1, h2⟩
theorem ix_of {x : Int32} {n : Nat} (hn : n < 2 ^ 30) (h : 0 ≤ x ∧ x ≤ nI n - 1) : iN x < n ∧ x = nI (iN x) := by
  obtain ⟨j, h1, rfl⟩ := (ixI hn).mp h
  rw [iN_nI (by omega)]; exact ⟨h1, rfl⟩
theorem okW_build {d p : Int32} (W : Wf R σ) (hD : DJ σ) : okW R (sM σ) (aBuild σ d p) := by
  refine okW_cH (fun _ => trivial) (fun h => okW_cH (fun _ => trivial) (fun h2 => ?_))
  have h := Classical.not_not.mp h
  exact ⟨Wf_build W (by have := W.1.1; omega) (rg_of h.1) (rg_of h.2), DJ_build W hD, Nat.le_refl _⟩
theorem okW_addG (W : Wf R σ) (hD : DJ σ) : okW R (sM σ) (aAddG σ) :=
  okW_cH (fun _ => trivial) (fun h => ⟨Wf_addG W (by have := W.1.2.1; omega), hD, Nat.le_refl _⟩)
theorem okW_book {x y z : Int32} (W : Wf R σ) (hD : DJ σ) (hm : sM σ ≤ 100000) : okW R (sM σ) (aBook σ x y z) := by
  refine okW_cH (fun _ => trivial) (fun h1 => okW_cH (fun _ => trivial) (fun h2 => okW_cH (fun _ => trivial) (fun h3 => okW_cH (fun _ => trivial) (fun h4 => ?_))))
  have h1 := Classical.not_not.mp h1
  have h2 := Classical.not_not.mp h2
  have c1 := W.1
  obtain ⟨g1, g2⟩ := ix_of (n := nG σ) (by omega) h1.1
  obtain ⟨s1, s2⟩ := ix_of (n := nS σ) (by omega) h1.2
  obtain ⟨t, t1, t2, rfl⟩ := (rgI (by omega) (by omega)).mp h2
  rw [iN_nI (by omega)] at h4 ⊢
  rw [g2] at h4
  exact ⟨Wf_make W g1 s1 (by omega) (by omega) (by omega), DJ_make hD h4, Nat.le_refl _⟩
theorem okW_canc {x : Int32} (W : Wf R σ) (hD : DJ σ) : okW R (sM σ) (aCanc σ x) := by
  refine okW_cH (fun _ => trivial) (fun h1 => okW_cH (fun _ => trivial) (fun h2 => ?_))
  have h1 := Classical.not_not.mp h1
  have c1 := W.1
  obtain ⟨b1, -⟩ := ix_of (n := nB σ) (by omega) h1
  generalize iN x = b at b1 h2
  have b6 := W.2.2.2.2.2.1 b b1
  have hG : nG (aDrop (aBack σ (boG σ b) (slP σ (boS σ b))) b) = nG σ := nG_set (σ := σ)
  refine ⟨Wf_drop W b1 rfl rfl rfl rfl hG (fun i hi => ?_), DJ_drop hD b1 rfl (fun _ => rfl), Nat.le_refl _⟩
  have e1 : guC (aDrop (aBack σ (boG σ b) (slP σ (boS σ b))) b) i = if i = boG σ b then guC σ (boG σ b) + slP σ (boS σ b) else guC σ i := guC_set (y := guR σ (boG σ b)) b6.1
  have e2 : guR (aDrop (aBack σ (boG σ b) (slP σ (boS σ b))) b) i = if i = boG σ b then guR σ (boG σ b) else guR σ i := guR_set (x := guC σ (boG σ b) + slP σ (boS σ b)) b6.1
  have h5 := (W.2.2.2.2.1 i hi).2
  rw [e1, e2]
  by_cases h : i = boG σ b
  · rw [if_pos h, if_pos h, if_pos h.symm]; rw [h] at h5; rw [h]; exact ⟨Nat.le_refl _, h5⟩
  · rw [if_neg h, if_neg h]; exact ⟨Nat.le_add_right _ _, h5⟩
theorem okW_join {x y : Int32} (W : Wf R σ) (hD : DJ σ) : okW R (sM σ) (aJoin σ x y) := by
  refine okW_cH (fun _ => trivial) (fun h1 => okW_cH (fun _ => trivial) (fun h2 => okW_cH (fun _ => trivial) (fun h3 => ?_)))
  have h1 := Classical.not_not.mp h1
  have c1 := W.1
  obtain ⟨g1, -⟩ := ix_of (n := nG σ) (by omega) h1.1
  obtain ⟨s1, -⟩ := ix_of (n := nS σ) (by omega) h1.2
  exact ⟨Wf_join W s1 g1 h3 (by omega), DJ_same hD rfl (fun k _ => slD_que s1), Nat.le_refl _⟩
theorem okW_leave {x : Int32} (W : Wf R σ) (hD : DJ σ) : okW R (sM σ) (aLeave σ x) := by
  refine okW_cH (fun _ => trivial) (fun h1 => okW_cH (fun _ => trivial) (fun h2 => ?_))
  obtain ⟨s, hs⟩ : ∃ s, wai σ (iN x) = s + 1 := ⟨wai σ (iN x) - 1, by omega⟩
  have h3 := wai_some hs
  rw [hs, Nat.add_sub_cancel]
  exact ⟨Wf_leave W h3.1 hs, DJ_same hD rfl (fun k _ => slD_que h3.1), Nat.le_refl _⟩
theorem okW_pass {x : Int32} (W : Wf R σ) (hD : DJ σ) : okW (R + 720) (sM σ + 60) (aPass σ x) := by
  refine okW_cH (fun _ => trivial) (fun h1 => ?_)
  have h1 := Classical.not_not.mp h1
  obtain ⟨n, -, h3, rfl⟩ := (rgI (by omega) (by omega)).mp h1
  rw [iN_nI (by omega)]
  obtain ⟨w1, -, w3⟩ := Wf_mins W n
  exact ⟨w1.mono (by omega), DJ_mins W hD n, by rw [w3]; omega⟩
theorem okW.mono {R' M M' : Nat} {x : Res} (h : okW R M x) (h1 : R ≤ R') (h2 : M ≤ M') : okW R' M' x := by
  cases x with
  | inl c => trivial
  | inr y => exact ⟨h.1.mono h1, h.2.1, Nat.le_trans h.2.2 h2⟩
end WF2
