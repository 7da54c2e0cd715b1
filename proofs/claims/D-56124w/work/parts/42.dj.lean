/-! PURE: ranks, disjoint bookings -/
theorem pigeon : ∀ (n : Nat) (f : Nat → Nat), (∀ k, k < n → f k < n) → (∀ j k, j < n → k < n → f j = f k → j = k) → ∀ r, r < n → ∃ k, k < n ∧ f k = r
  | 0, _, _, _, r, hr => absurd hr (Nat.not_lt_zero r)
  | n + 1, f, hf, hi, r, hr => by
    have hg : ∀ k, k < n → (if f k = n then f n else f k) < n := fun k hk => by
      have h1 := hf k (by omega)
      have h2 := hf n (by omega)
      by_cases e : f k = n
      · rw [if_pos e]
        have : f n ≠ n := fun e2 => absurd (hi k n (by omega) (by omega) (e.trans e2.symm)) (by omega)
        omega
      · rw [if_neg e]; omega
    have hj : ∀ j k, j < n → k < n → (if f j = n then f n else f j) = (if f k = n then f n else f k) → j = k := fun j k h1 h2 h => by
      by_cases e1 : f j = n
      · rw [if_pos e1] at h
        by_cases e2 : f k = n
        · exact hi j k (by omega) (by omega) (e1.trans e2.symm)
        · rw [if_neg e2] at h
          exact absurd (hi n k (by omega) (by omega) h) (by omega)
      · rw [if_neg e1] at h
        by_cases e2 : f k = n
        · rw [if_pos e2] at h
          exact absurd (hi j n (by omega) (by omega) h) (by omega)
        · rw [if_neg e2] at h
          exact hi j k (by omega) (by omega) h
    have ih := pigeon n (fun k => if f k = n then f n else f k) hg hj
    by_cases hn : r = n
    · by_cases e : f n = n
      · exact ⟨n, by omega, e.trans hn.symm⟩
      · have h2 := hf n (by omega)
        obtain ⟨k, hk, h⟩ := ih (f n) (by omega)
        by_cases e2 : f k = n
        · exact ⟨k, by omega, e2.trans hn.symm⟩
        · rw [if_neg e2] at h
          exact absurd (hi k n (by omega) (by omega) h) (by omega)
    · obtain ⟨k, hk, h⟩ := ih r (by omega)
      by_cases e2 : f k = n
      · rw [if_pos e2] at h; exact ⟨n, by omega, h⟩
      · rw [if_neg e2] at h; exact ⟨k, by omega, h⟩
section RANK
variable {P : Nat → Nat → Prop} {n : Nat}
theorem rank_lt (hi : ∀ k, k < n → ¬ P k k) {k : Nat} (hk : k < n) : cN (P k) n < n := by
  have h1 := cN_lt (P := P k) (P' := fun _ => True) (n := n) (k := k) (fun _ _ _ => trivial) hk trivial (hi k hk)
  exact Nat.lt_of_lt_of_le h1 (cN_le _ n)
theorem rank_inj (hi : ∀ k, k < n → ¬ P k k) (ht : ∀ a b c, a < n → b < n → c < n → P a b → P b c → P a c) (htot : ∀ a b, a < n → b < n → a ≠ b → P a b ∨ P b a) {j k : Nat} (hj : j < n) (hk : k < n) (h : cN (P j) n = cN (P k) n) : j = k := by
  refine Classical.byContradiction (fun hne => ?_)
  rcases htot j k hj hk hne with g | g
  · have := cN_lt (P := P k) (P' := P j) (n := n) (k := k) (fun o ho hp => ht j k o hj hk ho g hp) hk g (hi k hk)
    omega
  · have := cN_lt (P := P j) (P' := P k) (n := n) (k := j) (fun o ho hp => ht k j o hk hj ho g hp) hj g (hi j hj)
    omega
theorem rank_ex (hi : ∀ k, k < n → ¬ P k k) (ht : ∀ a b c, a < n → b < n → c < n → P a b → P b c → P a c) (htot : ∀ a b, a < n → b < n → a ≠ b → P a b ∨ P b a) {r : Nat} (hr : r < n) : ∃ k, k < n ∧ cN (P k) n = r ∧ ∀ j, j < n → cN (P j) n = r → j = k := by
  obtain ⟨k, hk, h⟩ := pigeon n (fun k => cN (P k) n) (fun k hk => rank_lt hi hk) (fun j k hj hk h => rank_inj hi ht htot hj hk h) r hr
  exact ⟨k, hk, h, fun j hj g => rank_inj hi ht htot hj hk (g.trans h.symm)⟩
end RANK
/-- the last of one that holds alone is that one -/
theorem lst_one {P : Nat → Prop} {d : Int32} {n k : Nat} (hk : k < n) (hp : P k) (hu : ∀ j, j < n → P j → j = k) : lst P d n = nI k := by
  rcases lst_or P d n with ⟨h1, -⟩ | ⟨j, h1, h2, h3⟩
  · exact absurd ⟨k, hk, hp⟩ h1
  · rw [h3, hu j h1 h2]
section DJ
variable {σ : St} {R g i k n s t : Nat}
/-- the bookings of one slide don't meet -/
def DJ (σ : St) : Prop := ∀ j k, j < nB σ → k < nB σ → j ≠ k → boS σ j = boS σ k → boE σ j ≤ boT σ k ∨ boE σ k ≤ boT σ j
theorem rkB_ex (hD : DJ σ) (hW : Wf R σ) {r : Nat} (hr : r < nB σ) : ∃ k, k < nB σ ∧ cN (rkB σ k) (nB σ) = r ∧ ∀ j, j < nB σ → cN (rkB σ j) (nB σ) = r → j = k := by
  refine rank_ex (P := rkB σ) (fun k _ h => ?_) (fun a b c _ _ _ h1 h2 => ?_) (fun a b ha hb hne => ?_) hr
  · unfold rkB at h; omega
  · unfold rkB at h1 h2 ⊢; omega
  · unfold rkB
    have hd := hD a b ha hb hne
    have b1 := hW.2.2.2.2.2.1 a ha
    have b2 := hW.2.2.2.2.2.1 b hb
    have b3 := (hW.2.1 _ b1.2.1).1
    have b4 := (hW.2.1 _ b2.2.1).1
    have e1 : boE σ a = boT σ a + slD σ (boS σ a) := rfl
    have e2 : boE σ b = boT σ b + slD σ (boS σ b) := rfl
    by_cases h : boS σ a = boS σ b
    · have := hd h
      omega
    · omega
theorem aRnk_at (hD : DJ σ) (hW : Wf R σ) {r : Nat} (hr : r < nB σ) : ∃ k, k < nB σ ∧ cN (rkB σ k) (nB σ) = r ∧ aRnk σ (nI r) = nI k := by
  obtain ⟨k, hk, h1, h2⟩ := rkB_ex hD hW hr
  have b := hW.1.2.2.1
  refine ⟨k, hk, h1, lst_one hk (by rw [h1]) (fun j hj h => h2 j hj ?_)⟩
  have := cN_le (rkB σ j) (nB σ)
  exact (nI_eq (by omega) (by omega)).mp h
theorem DJ_make (hD : DJ σ) (hc : ¬ aCl σ (nI g) s t) : DJ (aMake σ g s t) := by
  have hB : nB (aMake σ g s t) = nB σ + 1 := List.length_append ..
  have e : ∀ k, (sB (aMake σ g s t)).getD k (0, 0, 0) = if k = nB σ then (g, s, t) else (sB σ).getD k (0, 0, 0) := fun k => getD_app
  have hne : ∀ k, k < nB σ → boS σ k = s → boE σ k ≤ t ∨ t + slD σ s ≤ boT σ k := fun k hk hs => by
    have : ¬ ovl σ k s t := fun h => hc ⟨k, hk, Or.inl hs, h⟩
    unfold ovl at this
    omega
  intro j k hj hk hjk
  rw [hB] at hj hk
  unfold boE boS boT
  rw [e, e]
  show _ → _ + slD σ _ ≤ _ ∨ _ + slD σ _ ≤ _
  by_cases h1 : j = nB σ
  · rw [if_pos h1]
    rw [if_neg (by omega)]
    intro hs
    have h := hne k (by omega) hs.symm
    have e1 : boE σ k = boT σ k + slD σ (boS σ k) := rfl
    show t + slD σ s ≤ boT σ k ∨ boT σ k + slD σ (boS σ k) ≤ t
    omega
  · rw [if_neg h1]
    by_cases h2 : k = nB σ
    · rw [if_pos h2]
      intro hs
      have h := hne j (by omega) hs
      have e1 : boE σ j = boT σ j + slD σ (boS σ j) := rfl
      show boT σ j + slD σ (boS σ j) ≤ t ∨ t + slD σ s ≤ boT σ j
      omega
    · rw [if_neg h2]
      exact hD j k (by omega) (by omega) hjk
/-- fewer bookings, the same durations -/
theorem DJ_drop {σ' : St} (hD : DJ σ) (hk : k < nB σ) (hB : sB σ' = (sB σ).eraseIdx k) (hS : ∀ i, slD σ' i = slD σ i) : DJ σ' := by
  have hl : nB σ' = nB σ - 1 := by show (sB σ').length = _; rw [hB]; exact nB_drop hk
  have e : ∀ j, (sB σ').getD j (0, 0, 0) = (sB σ).getD (if j < k then j else j + 1) (0, 0, 0) := fun j => by rw [hB, getD_era]; split <;> rfl
  intro i j hi hj hij
  rw [hl] at hi hj
  unfold boE
  rw [hS, hS]
  unfold boS boT
  rw [e, e]
  have h1 : (if i < k then i else i + 1) < nB σ := by split <;> omega
  have h2 : (if j < k then j else j + 1) < nB σ := by split <;> omega
  have h3 : (if i < k then i else i + 1) ≠ (if j < k then j else j + 1) := by split <;> split <;> omega
  exact hD _ _ h1 h2 h3
theorem DJ_same {σ' : St} (hD : DJ σ) (hB : sB σ' = sB σ) (hS : ∀ k, k < nB σ → slD σ' (boS σ k) = slD σ (boS σ k)) : DJ σ' := by
  have hl : nB σ' = nB σ := by show (sB σ').length = (sB σ).length; rw [hB]
  intro i j hi hj hij
  rw [hl] at hi hj
  have e1 : boS σ' i = boS σ i := by unfold boS; rw [hB]
  have e2 : boS σ' j = boS σ j := by unfold boS; rw [hB]
  have e3 : boT σ' i = boT σ i := by unfold boT; rw [hB]
  have e4 : boT σ' j = boT σ j := by unfold boT; rw [hB]
  unfold boE
  rw [e1, e2, e3, e4, hS i hi, hS j hj]
  exact hD i j hi hj hij
end DJ
