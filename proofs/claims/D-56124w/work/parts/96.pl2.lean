/-! PURE LAWS: the first free minute by gaps; photos by runs; the most at once by a sweep -/
section PL2
variable {σ : St} {R s t n k : Nat}
/-- the bookings of a slide by ranks below n: their places -/
noncomputable def ofL (σ : St) (s : Nat) : Nat → List Nat
  | 0 => []
  | n + 1 => if boS σ (rkA σ n) = s then ofL σ s n ++ [rkA σ n] else ofL σ s n
theorem ofL_mem (hD : DJ σ) (hB : Bd σ) : ∀ {n : Nat}, n ≤ nB σ → ∀ k, k ∈ ofL σ s n ↔ k < nB σ ∧ boS σ k = s ∧ cN (rkC σ k) (nB σ) < n
  | 0, _, k => by simp [ofL]
  | n + 1, hn, k => by
    have ih := ofL_mem hD hB (n := n) (by omega) k
    obtain ⟨a1, a2, -⟩ := rkA_at hD hB (r := n) (by omega)
    have key : k < nB σ → cN (rkC σ k) (nB σ) = n → k = rkA σ n := fun hk e => by
      have := (rkA_of hD hB hk).2
      rw [e] at this
      exact this.symm
    unfold ofL
    by_cases h : boS σ (rkA σ n) = s
    · rw [if_pos h, List.mem_append, ih, List.mem_singleton]
      constructor
      · rintro (⟨h1, h2, h3⟩ | e)
        · exact ⟨h1, h2, by omega⟩
        · subst e; exact ⟨a1, h, by omega⟩
      · rintro ⟨h1, h2, h3⟩
        by_cases e : cN (rkC σ k) (nB σ) = n
        · exact Or.inr (key h1 e)
        · exact Or.inl ⟨h1, h2, by omega⟩
    · rw [if_neg h, ih]
      constructor
      · rintro ⟨h1, h2, h3⟩; exact ⟨h1, h2, by omega⟩
      · rintro ⟨h1, h2, h3⟩
        refine ⟨h1, h2, ?_⟩
        by_cases e : cN (rkC σ k) (nB σ) = n
        · exact absurd (by rw [← key h1 e]; exact h2) h
        · omega
theorem ofL_len : ∀ {n : Nat}, (ofL σ s n).length ≤ n
  | 0 => Nat.le_refl _
  | n + 1 => by
    unfold ofL
    have := ofL_len (n := n)
    split
    · rw [List.length_append]; exact Nat.succ_le_succ this
    · omega
/-- one gap: behind the booking if it is in the way -/
noncomputable def gp1 (σ : St) (d k u : Nat) : Nat := cH (boT σ k < u + d ∧ u < boE σ k) (boE σ k) u
/-- all gaps of a list of bookings -/
noncomputable def gpL (σ : St) (d : Nat) : List Nat → Nat → Nat
  | [], u => u
  | k :: l, u => gpL σ d l (gp1 σ d k u)
theorem gpL_app {d u : Nat} {l : List Nat} : gpL σ d (l ++ [k]) u = gp1 σ d k (gpL σ d l u) := by
  induction l generalizing u with
  | nil => rfl
  | cons x l ih => exact ih
/-- what holds behind the bookings seen -/
def gpI (σ : St) (d t : Nat) (l : List Nat) (g : Nat) : Prop := t ≤ g ∧ (∀ u, t ≤ u → u < g → ∃ k, k ∈ l ∧ boT σ k < u + d ∧ u < boE σ k) ∧ ∀ k, k ∈ l → ¬ (boT σ k < g + d ∧ g < boE σ k)
theorem gpI_s {d g : Nat} {l : List Nat} (h : gpI σ d t l g) (hk : ∀ j, j ∈ l → boE σ j ≤ boT σ k) (hd : boT σ k < boE σ k) : gpI σ d t (l ++ [k]) (gp1 σ d k g) := by
  obtain ⟨h1, h2, h3⟩ := h
  unfold gp1
  by_cases hp : boT σ k < g + d ∧ g < boE σ k
  · rw [cH_t hp]
    refine ⟨by omega, fun u u1 u2 => ?_, fun j hj => ?_⟩
    · rcases Nat.lt_or_ge u g with h | h
      · obtain ⟨j, j1, j2⟩ := h2 u u1 h
        exact ⟨j, List.mem_append_left _ j1, j2⟩
      · exact ⟨k, List.mem_append_right _ List.mem_cons_self, by omega, u2⟩
    · rcases List.mem_append.mp hj with h | h
      · have := hk j h; omega
      · rw [List.mem_singleton] at h; subst h; omega
  · rw [cH_f hp]
    refine ⟨h1, fun u u1 u2 => ?_, fun j hj => ?_⟩
    · obtain ⟨j, j1, j2⟩ := h2 u u1 u2
      exact ⟨j, List.mem_append_left _ j1, j2⟩
    · rcases List.mem_append.mp hj with h | h
      · exact h3 j h
      · rw [List.mem_singleton] at h; subst h; exact hp
theorem gpI_all {d : Nat} (hD : DJ σ) (hB : Bd σ) : ∀ {n : Nat}, n ≤ nB σ → gpI σ d t (ofL σ s n) (gpL σ d (ofL σ s n) t)
  | 0, _ => ⟨Nat.le_refl _, fun u h1 h2 => absurd h1 (Nat.not_le_of_lt h2), fun k hk => by simp [ofL] at hk⟩
  | n + 1, hn => by
    have ih := gpI_all (d := d) hD hB (n := n) (by omega)
    obtain ⟨a1, a2, -⟩ := rkA_at hD hB (r := n) (by omega)
    have ba := hB.bo a1
    unfold ofL
    by_cases h : boS σ (rkA σ n) = s
    · rw [if_pos h, gpL_app]
      refine gpI_s ih (fun j hj => ?_) (by omega)
      obtain ⟨j1, j2, j3⟩ := (ofL_mem hD hB (by omega) j).mp hj
      have bj := hB.bo j1
      have hne : j ≠ rkA σ n := fun e => by rw [e, a2] at j3; omega
      have hd := hD j (rkA σ n) j1 a1 hne (j2.trans h.symm)
      have hle := rkA_le hD hB j3 (by omega)
      rw [(rkA_of hD hB j1).2] at hle
      omega
    · rw [if_neg h]; exact ih
theorem gpL_le {d : Nat} (hB : Bd σ) : ∀ {l : List Nat} {u : Nat}, (∀ k, k ∈ l → k < nB σ) → u ≤ 200000 → gpL σ d l u ≤ 200000
  | [], _, _, h => h
  | k :: l, u, hl, h => by
    refine gpL_le (l := l) (u := gp1 σ d k u) hB (fun j hj => hl j (List.mem_cons_of_mem _ hj)) ?_
    have bk := hB.bo (hl k List.mem_cons_self)
    have b1 := hB.1
    unfold gp1
    by_cases hp : boT σ k < u + d ∧ u < boE σ k
    · rw [cH_t hp]; omega
    · rw [cH_f hp]; exact h
theorem aFF_g (hB : Bd σ) {d : Nat} (hd : d = slD σ s) {l : List Nat} (hl : ∀ k, k ∈ l ↔ k < nB σ ∧ boS σ k = s) {g : Nat} : ∀ {n t : Nat}, gpI σ d t l g → aFF σ s t n = if g < t + n then some g else none
  | 0, t, h => by rw [if_neg (by have := h.1; omega)]; rfl
  | n + 1, t, h => by
    have e : aFF σ s t (n + 1) = cH (aCl σ (-1) s t) (aFF σ s (t + 1) n) (some t) := rfl
    rw [e]
    have hf := free_iff1 (s0 := s) (t := t) hB
    by_cases hg : g = t
    · have hno : ¬ aCl σ (-1) s t := hf.mp (fun ⟨k, k1, k2, k3, k4⟩ => h.2.2 k ((hl k).mpr ⟨k1, k2⟩) (by rw [hg, hd]; exact ⟨k3, k4⟩))
      rw [cH_f hno, if_pos (by omega), hg]
    · have h1 := h.1
      obtain ⟨k, k1, k2⟩ := h.2.1 t (Nat.le_refl _) (by omega)
      have hyes : aCl σ (-1) s t := Classical.not_not.mp (fun c => hf.mpr c ⟨k, ((hl k).mp k1).1, ((hl k).mp k1).2, by rw [← hd]; exact k2.1, k2.2⟩)
      rw [cH_t hyes, aFF_g hB hd hl (t := t + 1) ⟨by omega, fun u u1 u2 => h.2.1 u (by omega) u2, h.2.2⟩]
      by_cases h2 : g < t + (n + 1)
      · rw [if_pos h2, if_pos (by omega)]
      · rw [if_neg h2, if_neg (by omega)]
theorem gaps_eq (hD : DJ σ) (hB : Bd σ) (ht : t ≤ sM σ + 120) : ffI σ s t (sM σ + 121 - t) = if gpL σ (slD σ s) (ofL σ s (nB σ)) t ≤ sM σ + 120 then nI (gpL σ (slD σ s) (ofL σ s (nB σ)) t) else -1 := by
  have h := gpI_all (d := slD σ s) (s := s) (t := t) hD hB (Nat.le_refl _)
  have hl : ∀ k, k ∈ ofL σ s (nB σ) ↔ k < nB σ ∧ boS σ k = s := fun k => by
    rw [ofL_mem hD hB (Nat.le_refl _)]
    exact ⟨fun h => ⟨h.1, h.2.1⟩, fun h => ⟨h.1, h.2, rank_lt rkC_i h.1⟩⟩
  unfold ffI
  rw [aFF_g hB rfl hl h]
  by_cases e : gpL σ (slD σ s) (ofL σ s (nB σ)) t ≤ sM σ + 120
  · rw [if_pos e, if_pos (by omega)]
  · rw [if_neg e, if_neg (by omega)]
/-! photos -/
theorem cN_hd {P : Nat → Prop} : ∀ {n : Nat}, cN P (n + 1) = cH (P 0) 1 0 + cN (fun k => P (k + 1)) n
  | 0 => by
    rw [cN_s]
    by_cases h : P 0
    · rw [cH_t h, cH_t h]; rfl
    · rw [cH_f h, cH_f h]; rfl
  | n + 1 => by
    rw [cN_s, cN_hd (n := n), cN_s (P := fun k => P (k + 1))]
    by_cases h : P (n + 1)
    · rw [cH_t h, cH_t h]; omega
    · rw [cH_f h, cH_f h]
theorem cN_rev {P : Nat → Prop} : ∀ {n : Nat}, cN (fun k => P (n - 1 - k)) n = cN P n
  | 0 => rfl
  | n + 1 => by
    rw [cN_hd, cN_s]
    have e : cN (fun k => P (n + 1 - 1 - (k + 1))) n = cN (fun k => P (n - 1 - k)) n := cN_congr (fun k hk => by rw [show n + 1 - 1 - (k + 1) = n - 1 - k by omega])
    rw [e, cN_rev]
    have e2 : n + 1 - 1 - 0 = n := by omega
    rw [e2]
    by_cases h : P n
    · rw [cH_t h, cH_t h]; omega
    · rw [cH_f h, cH_f h]; omega
/-- pairs of equal ones -/
noncomputable def prs (f : Nat → Nat) (n : Nat) : Nat := ff (fun one m => m + cN (fun k => f one = f k) one) 0 n
theorem prs_s {f : Nat → Nat} : prs f (n + 1) = prs f n + cN (fun k => f n = f k) n := rfl
theorem prs_congr {f g : Nat → Nat} : ∀ {n : Nat}, (∀ k, k < n → f k = g k) → prs f n = prs g n
  | 0, _ => rfl
  | n + 1, h => by
    rw [prs_s, prs_s, prs_congr (n := n) (fun k hk => h k (by omega)), cN_congr (fun k hk => by rw [h n (by omega), h k (by omega)])]
theorem prs_hd {f : Nat → Nat} : ∀ {n : Nat}, prs f (n + 1) = cN (fun k => f (k + 1) = f 0) n + prs (fun k => f (k + 1)) n
  | 0 => rfl
  | n + 1 => by
    rw [prs_s, prs_hd (n := n), prs_s (f := fun k => f (k + 1)), cN_hd (n := n), cN_s (P := fun k => f (k + 1) = f 0)]
    by_cases h : f (n + 1) = f 0
    · rw [cH_t h, cH_t h]; omega
    · rw [cH_f h, cH_f h]; omega
theorem prs_rev {f : Nat → Nat} : ∀ {n : Nat}, prs (fun k => f (n - 1 - k)) n = prs f n
  | 0 => rfl
  | n + 1 => by
    rw [prs_hd, prs_s]
    have e1 : prs (fun k => f (n + 1 - 1 - (k + 1))) n = prs (fun k => f (n - 1 - k)) n := prs_congr (fun k hk => by rw [show n + 1 - 1 - (k + 1) = n - 1 - k by omega])
    have e2 : cN (fun k => f (n + 1 - 1 - (k + 1)) = f (n + 1 - 1 - 0)) n = cN (fun k => f n = f (n - 1 - k)) n := cN_congr (fun k hk => by rw [show n + 1 - 1 - (k + 1) = n - 1 - k by omega, show n + 1 - 1 - 0 = n by omega]; exact eq_comm)
    rw [e1, e2, prs_rev, cN_rev (P := fun k => f n = f k), Nat.add_comm]
theorem aPho_prs : aPho σ = prs (fiM σ) (nF σ) := (prs_rev (f := fiM σ) (n := nF σ))
/-- the finishes stand in the order of their minutes -/
def FS (σ : St) : Prop := ∀ i j, i < j → j < nF σ → fiM σ i ≤ fiM σ j
/-- the run that ends at k: how many ahead of it have its minute -/
noncomputable def rnF (σ : St) : Nat → Nat
  | 0 => 0
  | k + 1 => cH (fiM σ (k + 1) = fiM σ k) (rnF σ k + 1) 0
noncomputable def rnP (σ : St) (n : Nat) : Nat := ff (fun k m => m + rnF σ k) 0 n
theorem cN_none {P : Nat → Prop} : ∀ {n : Nat}, (∀ k, k < n → ¬ P k) → cN P n = 0
  | 0, _ => rfl
  | n + 1, h => by rw [cN_f (h n (by omega)), cN_none (fun k hk => h k (by omega))]
theorem rnF_eq (hF : FS σ) : ∀ {k : Nat}, k < nF σ → rnF σ k = cN (fun j => fiM σ k = fiM σ j) k
  | 0, _ => rfl
  | k + 1, hk => by
    have ih := rnF_eq hF (k := k) (by omega)
    have h1 := hF k (k + 1) (by omega) hk
    show cH (fiM σ (k + 1) = fiM σ k) (rnF σ k + 1) 0 = _
    by_cases h : fiM σ (k + 1) = fiM σ k
    · rw [cH_t h, cN_t (P := fun j => fiM σ (k + 1) = fiM σ j) h, ih, h]
    · rw [cH_f h, cN_none]
      intro j hj e
      rcases Nat.eq_or_lt_of_le (Nat.le_of_lt_succ hj) with g | g
      · rw [g] at e; exact h e
      · have := hF j k g (by omega)
        omega
theorem runs_eq (hF : FS σ) : rnP σ (nF σ) = aPho σ := by
  rw [aPho_prs]
  have : ∀ n, n ≤ nF σ → rnP σ n = prs (fiM σ) n := by
    intro n
    induction n with
    | zero => intro _; rfl
    | succ n ih => intro hn; rw [prs_s, ← ih (by omega), ← rnF_eq hF (by omega)]; rfl
  exact this _ (Nat.le_refl _)
theorem rnF_le (n : Nat) : rnF σ n ≤ n := by
  induction n with
  | zero => exact Nat.le_refl _
  | succ n ih =>
    show cH (fiM σ (n + 1) = fiM σ n) (rnF σ n + 1) 0 ≤ _
    by_cases h : fiM σ (n + 1) = fiM σ n
    · rw [cH_t h]; omega
    · rw [cH_f h]; omega
end PL2
