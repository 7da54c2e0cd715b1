/-! PURE: a minute -/
section UPS5
variable {σ τ : St} {R g i k n s : Nat}
theorem Wf_dry (W : Wf R σ) (hs : s < nS σ) : Wf R (aDry σ s) := by
  unfold aDry
  by_cases h : aBusy σ s (sM σ - 1)
  · rw [cH_t h]; exact W
  · rw [cH_f h]; exact Wf_wet W hs (by have := (W.2.1 s hs).2.2.2.2.1; omega)
theorem nS_dry : nS (aDry σ s) = nS σ := by
  unfold aDry
  by_cases h : aBusy σ s (sM σ - 1)
  · rw [cH_t h]
  · rw [cH_f h]; exact nS_wet
theorem sM_dry : sM (aDry σ s) = sM σ := by
  unfold aDry
  by_cases h : aBusy σ s (sM σ - 1)
  · rw [cH_t h]
  · rw [cH_f h]; rfl
noncomputable abbrev aC (σ : St) (k : Nat) : St := ff (fun s σ => aCall σ s) σ k
noncomputable abbrev aD (σ : St) (k : Nat) : St := ff (fun s σ => aDry σ s) σ k
theorem aC_all (W : Wf R σ) : ∀ k, k ≤ nS σ → Wf R (aC σ k) ∧ nS (aC σ k) = nS σ ∧ sM (aC σ k) = sM σ
  | 0, _ => ⟨W, rfl, rfl⟩
  | k + 1, h => by
    obtain ⟨h1, h2, h3⟩ := aC_all W k (by omega)
    exact ⟨Wf_call h1 (by show k < nS (aC σ k); omega), nS_call.trans h2, sM_call.trans h3⟩
theorem aD_all (W : Wf R σ) : ∀ k, k ≤ nS σ → Wf R (aD σ k) ∧ nS (aD σ k) = nS σ ∧ sM (aD σ k) = sM σ
  | 0, _ => ⟨W, rfl, rfl⟩
  | k + 1, h => by
    obtain ⟨h1, h2, h3⟩ := aD_all W k (by omega)
    exact ⟨Wf_dry h1 (by show k < nS (aD σ k); omega), nS_dry.trans h2, sM_dry.trans h3⟩
theorem aFins_go {b c : Nat} (hb : b < nB τ) (hn : n ≠ 0) : aFins n b c τ = cH (boE τ b = sM τ) (aFins (n - 1) b (c + 1) (aFinish τ b)) (aFins (n - 1) (b + 1) c τ) := by
  cases n with
  | zero => exact absurd rfl hn
  | succ n => show cH (b < nB τ) _ _ = _; rw [cH_t hb]; rfl
theorem aFins_end {b c : Nat} (hb : ¬ b < nB τ) : aFins n b c τ = (c, τ) := by
  cases n with
  | zero => rfl
  | succ n => exact cH_f hb
theorem Wf_fins : ∀ (n b c : Nat) (τ : St), Wf (R + c) τ → c + nB τ ≤ 12 → Wf (R + (aFins n b c τ).1) (aFins n b c τ).2 ∧ (aFins n b c τ).1 ≤ 12 ∧ sM (aFins n b c τ).2 = sM τ
  | 0, b, c, τ, W, h => ⟨W, by show c ≤ 12; omega, rfl⟩
  | n + 1, b, c, τ, W, h => by
    by_cases hb : b < nB τ
    · rw [aFins_go hb (Nat.succ_ne_zero n)]
      by_cases he : boE τ b = sM τ
      · rw [cH_t he]
        have := Wf_fins n b (c + 1) (aFinish τ b) (Wf_finish W hb) (by rw [nB_finish hb]; omega)
        rw [sM_finish] at this
        exact this
      · rw [cH_f he]
        exact Wf_fins n (b + 1) c τ W h
    · rw [aFins_end hb]
      exact ⟨W, by show c ≤ 12; omega, rfl⟩
/-- the park after the calls, the minute, the drying -/
noncomputable abbrev aM3 (σ : St) : St := aMin3 (aMin2 (aMin1 σ))
theorem aM3_all (W : Wf R σ) : Wf R (aM3 σ) ∧ nS (aM3 σ) = nS σ ∧ sM (aM3 σ) = sM σ + 1 := by
  obtain ⟨h1, h2, h3⟩ := aC_all W (nS σ) (Nat.le_refl _)
  have W2 := Wf_min h1
  obtain ⟨g1, g2, g3⟩ := aD_all W2 (nS (aMin2 (aMin1 σ))) (Nat.le_refl _)
  refine ⟨g1, g2.trans h2, g3.trans ?_⟩
  show sM (aMin1 σ) + 1 = _
  rw [show sM (aMin1 σ) = sM σ from h3]
theorem aMinute_eq : aMinute σ = aFins (nB (aM3 σ)) 0 0 (aM3 σ) := rfl
theorem Wf_minute (W : Wf R σ) : Wf (R + 12) (aMinute σ).2 ∧ (aMinute σ).1 ≤ 12 ∧ sM (aMinute σ).2 = sM σ + 1 := by
  obtain ⟨h1, h2, h3⟩ := aM3_all W
  have := Wf_fins (R := R) (nB (aM3 σ)) 0 0 (aM3 σ) h1 (by have := h1.1.2.2.1; omega)
  rw [aMinute_eq]
  exact ⟨this.1.mono (by omega), this.2.1, this.2.2.trans h3⟩
theorem aMins_s : aMins (k + 1) σ = ((aMins k σ).1 + (aMinute (aMins k σ).2).1, (aMinute (aMins k σ).2).2) := rfl
theorem Wf_mins (W : Wf R σ) : ∀ k, Wf (R + 12 * k) (aMins k σ).2 ∧ (aMins k σ).1 ≤ 12 * k ∧ sM (aMins k σ).2 = sM σ + k
  | 0 => ⟨W, Nat.le_refl _, rfl⟩
  | k + 1 => by
    obtain ⟨h1, h2, h3⟩ := Wf_mins W k
    obtain ⟨g1, g2, g3⟩ := Wf_minute h1
    rw [aMins_s]
    exact ⟨g1.mono (by omega), by dsimp only; omega, by rw [g3, h3]; omega⟩
end UPS5
