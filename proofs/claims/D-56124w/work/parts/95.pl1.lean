/-! PURE LAWS: ranks, the rider -/
theorem cN_congr {P P' : Nat → Prop} : ∀ {n : Nat}, (∀ k, k < n → (P k ↔ P' k)) → cN P n = cN P' n
  | 0, _ => rfl
  | n + 1, h => by
    rw [cN_s, cN_s, cN_congr (n := n) (fun k hk => h k (by omega)), cH_congr (h n (by omega))]
section PL1
variable {P : Nat → Nat → Prop} {n : Nat} {σ : St} {R s t : Nat}
/-- the item at a rank, found or not -/
theorem rank_y (hn : n ≤ 1000) (hi : ∀ k, k < n → ¬ P k k) (ht : ∀ a b c, a < n → b < n → c < n → P a b → P b c → P a c) (htot : ∀ a b, a < n → b < n → a ≠ b → P a b ∨ P b a) {k : Nat} (hk : k < n) {x d : Int32} (hx : nI (cN (P k) n) = x) : (0 ≤ x ∧ x ≤ nI n - 1) ∧ lst (fun one => nI (cN (P one) n) = x) d n = nI k := by
  have h1 := rank_lt hi hk
  refine ⟨(ixI (by omega)).mpr ⟨_, h1, hx.symm⟩, lst_one hk hx (fun j hj e => ?_)⟩
  have h2 := rank_lt hi hj
  rw [← hx, nI_eq (by omega) (by omega)] at e
  exact rank_inj hi ht htot hj hk e
theorem rank_n (hn : n ≤ 1000) (hi : ∀ k, k < n → ¬ P k k) (ht : ∀ a b c, a < n → b < n → c < n → P a b → P b c → P a c) (htot : ∀ a b, a < n → b < n → a ≠ b → P a b ∨ P b a) {x : Int32} (hx : ∀ j, j < n → ¬ nI (cN (P j) n) = x) : ¬ (0 ≤ x ∧ x ≤ nI n - 1) := by
  intro h
  obtain ⟨r, hr, rfl⟩ := (ixI (by omega)).mp h
  obtain ⟨k, hk, e, -⟩ := rank_ex hi ht htot hr
  exact hx k hk (by rw [e])
theorem rkG_i : ∀ k, k < n → ¬ rkG σ k k := fun k _ h => h.elim (fun h => absurd h (Nat.lt_irrefl _)) (fun h => h.2.elim (fun h => absurd h (Nat.lt_irrefl _)) (fun h => absurd h.2 (Nat.lt_irrefl _)))
theorem rkG_t : ∀ a b c, a < n → b < n → c < n → rkG σ a b → rkG σ b c → rkG σ a c := by
  unfold rkG
  intro a b c _ _ _ h1 h2
  omega
theorem rkG_o : ∀ a b, a < n → b < n → a ≠ b → rkG σ a b ∨ rkG σ b a := by
  unfold rkG
  intro a b _ _ h
  omega
theorem rkS_i : ∀ k, k < n → ¬ rkS σ k k := fun k _ h => h.elim (fun h => absurd h (Nat.lt_irrefl _)) (fun h => absurd h.2 (Nat.lt_irrefl _))
theorem rkS_t : ∀ a b c, a < n → b < n → c < n → rkS σ a b → rkS σ b c → rkS σ a c := by
  unfold rkS
  intro a b c _ _ _ h1 h2
  omega
theorem rkS_o : ∀ a b, a < n → b < n → a ≠ b → rkS σ a b ∨ rkS σ b a := by
  unfold rkS
  intro a b _ _ h
  omega
theorem rkC_i : ∀ k, k < n → ¬ rkC σ k k := fun k _ h => h.elim (fun h => absurd h (Nat.lt_irrefl _)) (fun h => h.2.elim (fun h => absurd h (Nat.lt_irrefl _)) (fun h => absurd h.2 (Nat.lt_irrefl _)))
theorem rkC_t : ∀ a b c, a < n → b < n → c < n → rkC σ a b → rkC σ b c → rkC σ a c := by
  unfold rkC
  intro a b c _ _ _ h1 h2
  omega
theorem rkC_o : ∀ a b, a < n → b < n → a ≠ b → rkC σ a b ∨ rkC σ b a := by
  unfold rkC
  intro a b _ _ h
  omega
/-- bookings of one slide never start together -/
theorem rkC_B (hD : DJ σ) (hB : Bd σ) {j k : Nat} (hj : j < nB σ) (hk : k < nB σ) : rkC σ j k ↔ rkB σ j k := by
  unfold rkC rkB
  by_cases e : k = j
  · subst e; omega
  · have hd := hD j k hj hk (Ne.symm e)
    have bj := hB.bo hj
    have bk := hB.bo hk
    constructor
    · rintro (h | ⟨h1, h | ⟨h2, -⟩⟩)
      · exact Or.inl h
      · exact Or.inr ⟨h1.symm, h⟩
      · have := hd h2.symm
        omega
    · rintro (h | ⟨h1, h⟩)
      · exact Or.inl h
      · exact Or.inr ⟨h1.symm, Or.inl h⟩
theorem rkC_N (hD : DJ σ) (hB : Bd σ) {j : Nat} (hj : j < nB σ) : cN (rkC σ j) (nB σ) = cN (rkB σ j) (nB σ) := cN_congr (fun _ hk => rkC_B hD hB hj hk)
/-- the booking at a rank -/
noncomputable def rkA (σ : St) (r : Nat) : Nat := iN (aRnk σ (nI r))
theorem aRnk_C (hD : DJ σ) (hB : Bd σ) {k : Nat} (hk : k < nB σ) {x : Int32} (hx : nI (cN (rkC σ k) (nB σ)) = x) : okB σ x ∧ aRnk σ x = nI k := by
  have b1 := hB.1
  have h := rank_y (P := rkC σ) (n := nB σ) (by omega) rkC_i rkC_t rkC_o hk (x := x) (d := -1) hx
  refine ⟨h.1, ?_⟩
  unfold aRnk
  have h1 := rank_lt (P := rkC σ) rkC_i hk
  refine lst_one hk (by rw [← rkC_N hD hB hk]; exact hx) (fun j hj e => ?_)
  rw [← rkC_N hD hB hj, ← hx] at e
  have h2 := rank_lt (P := rkC σ) rkC_i hj
  rw [nI_eq (by omega) (by omega)] at e
  exact rank_inj rkC_i rkC_t rkC_o hj hk e
theorem rkA_at (hD : DJ σ) (hB : Bd σ) {r : Nat} (hr : r < nB σ) : rkA σ r < nB σ ∧ cN (rkC σ (rkA σ r)) (nB σ) = r ∧ aRnk σ (nI r) = nI (rkA σ r) := by
  have b1 := hB.1
  obtain ⟨k, hk, e, -⟩ := rank_ex (P := rkC σ) (n := nB σ) rkC_i rkC_t rkC_o hr
  have h := (aRnk_C hD hB hk (x := nI r) (by rw [e])).2
  have h3 : rkA σ r = k := by unfold rkA; rw [h, iN_nI (by omega)]
  rw [h3]
  exact ⟨hk, e, h⟩
theorem rkA_inj (hD : DJ σ) (hB : Bd σ) {q r : Nat} (hq : q < nB σ) (hr : r < nB σ) (h : rkA σ q = rkA σ r) : q = r := by
  rw [← (rkA_at hD hB hq).2.1, h, (rkA_at hD hB hr).2.1]
/-- every booking has a rank -/
theorem rkA_of (hD : DJ σ) (hB : Bd σ) {k : Nat} (hk : k < nB σ) : cN (rkC σ k) (nB σ) < nB σ ∧ rkA σ (cN (rkC σ k) (nB σ)) = k := by
  have b1 := hB.1
  have h := (aRnk_C hD hB hk rfl).2
  refine ⟨rank_lt rkC_i hk, ?_⟩
  unfold rkA
  rw [h, iN_nI (by omega)]
/-- ranks and starts -/
theorem rkA_le (hD : DJ σ) (hB : Bd σ) {q r : Nat} (hqr : q < r) (hr : r < nB σ) : boT σ (rkA σ q) ≤ boT σ (rkA σ r) := by
  have hq : q < nB σ := by omega
  obtain ⟨a1, a2, -⟩ := rkA_at hD hB hq
  obtain ⟨b1, b2, -⟩ := rkA_at hD hB hr
  rcases Nat.lt_or_ge (boT σ (rkA σ r)) (boT σ (rkA σ q)) with h | h
  · -- then r's booking is ahead of q's
    have h1 : rkC σ (rkA σ q) (rkA σ r) := Or.inl h
    have h2 : cN (rkC σ (rkA σ r)) (nB σ) < cN (rkC σ (rkA σ q)) (nB σ) := cN_lt (k := rkA σ r) (fun j hj hp => rkC_t (n := nB σ) _ _ _ a1 b1 hj h1 hp) b1 h1 (rkC_i _ b1)
    omega
  · exact h
theorem lt_rkA (hD : DJ σ) (hB : Bd σ) {j k : Nat} (hj : j < nB σ) (hk : k < nB σ) (h : boT σ j < boT σ k) : cN (rkC σ j) (nB σ) < cN (rkC σ k) (nB σ) := by
  have h1 : rkC σ k j := Or.inl h
  exact cN_lt (k := j) (fun i hi hp => rkC_t (n := nB σ) _ _ _ hk hj hi h1 hp) hj h1 (rkC_i _ hj)
/-- the booking that is on is the only one -/
theorem dur_one (hD : DJ σ) {k : Nat} (hk : k < nB σ) (hp : onP σ s t k) : aBusy σ s t ∧ aDur σ s t = nI k := by
  refine ⟨⟨k, hk, hp⟩, lst_one hk hp (fun j hj hj2 => ?_)⟩
  by_cases e : j = k
  · exact e
  · have hd := hD j k hj hk e (hj2.1.trans hp.1.symm)
    have h1 : boS σ j = s ∧ boT σ j ≤ t ∧ t < boE σ j := hj2
    have h2 : boS σ k = s ∧ boT σ k ≤ t ∧ t < boE σ k := hp
    omega
end PL1
