/-! PURE: the two quotients -/
theorem dd_ok : ∀ b, b < 11 → 0 < b → ∀ a, a < 501 → (FP.ddiv (FP.i2d (nI a)) (FP.i2d (nI b))) &&& 0x7fffffffffffffff ≤ 0x7ff0000000000000 := by decide +kernel
theorem fd_ok : ∀ b, b < 5 → 0 < b → ∀ a, a < 5 → (FP.fdiv (FP.i2f (nI a)) (FP.i2f (nI b))) &&& 0x7fffffff ≤ 0x7f800000 := by decide +kernel
/-- all coins of the first n guests -/
def aSum (σ : St) (n : Nat) : Nat := ff (fun g x => x + guC σ g) 0 n
theorem aSum_le {σ : St} (hB : Bd σ) : ∀ n, n ≤ nG σ → aSum σ n ≤ 50 * n
  | 0, _ => Nat.le_refl _
  | n + 1, h => by
    have ih := aSum_le hB n (by omega)
    have := (hB.2.2.2.1 n (by omega)).1
    show aSum σ n + guC σ n ≤ _
    omega
/-- how many slides are busy -/
noncomputable def aBus (σ : St) (n : Nat) : Nat := cN (fun s => aBusy σ s (sM σ)) n
noncomputable def qMean (σ : St) : UInt64 := cH (0 < nG σ) (FP.ddiv (FP.i2d (nI (aSum σ (nG σ)))) (FP.i2d (nI (nG σ)))) 0
noncomputable def qShare (σ : St) : UInt32 := cH (0 < nS σ) (FP.fdiv (FP.i2f (nI (aBus σ (nS σ)))) (FP.i2f (nI (nS σ)))) 0
