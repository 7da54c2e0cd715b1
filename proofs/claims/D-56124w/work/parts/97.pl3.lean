/-! PURE LAWS: the most at once by a sweep; the most watched by a table -/
section PL3
variable {σ : St} {R s t n k : Nat}
/-- the greatest of f 0 .. f (n-1), or 0 -/
def mxF (f : Nat → Nat) (n : Nat) : Nat := ff (fun i m => max m (f i)) 0 n
theorem mxF_s {f : Nat → Nat} : mxF f (n + 1) = max (mxF f n) (f n) := rfl
theorem mxF_ge {f : Nat → Nat} {i : Nat} : ∀ {n : Nat}, i < n → f i ≤ mxF f n
  | 0, h => absurd h (Nat.not_lt_zero _)
  | n + 1, h => by
    rw [mxF_s]
    rcases Nat.eq_or_lt_of_le (Nat.le_of_lt_succ h) with e | e
    · rw [e]; exact Nat.le_max_right ..
    · exact Nat.le_trans (mxF_ge e) (Nat.le_max_left ..)
theorem mxF_le {f : Nat → Nat} {B : Nat} : ∀ {n : Nat}, (∀ i, i < n → f i ≤ B) → mxF f n ≤ B
  | 0, _ => Nat.zero_le _
  | n + 1, h => by
    rw [mxF_s]
    exact Nat.max_le.mpr ⟨mxF_le (fun i hi => h i (by omega)), h n (by omega)⟩
theorem mxF_congr {f g : Nat → Nat} : ∀ {n : Nat}, (∀ i, i < n → f i = g i) → mxF f n = mxF g n
  | 0, _ => rfl
  | n + 1, h => by rw [mxF_s, mxF_s, mxF_congr (n := n) (fun i hi => h i (by omega)), h n (by omega)]
/-- no booking is over -/
def NE (σ : St) : Prop := ∀ k, k < nB σ → sM σ < boE σ k
def isX (σ : St) (k : Nat) : Nat := boT σ k + 9 - sM σ
def ieX (σ : St) (k : Nat) : Nat := boE σ k + 9 - sM σ
/-- the changes by minutes after k bookings -/
def swA (σ : St) : Nat → Nat → Int32
  | 0 => fun _ => 0
  | k + 1 => upd (upd (swA σ k) (isX σ k) (swA σ k (isX σ k) + nI 1)) (ieX σ k) (upd (swA σ k) (isX σ k) (swA σ k (isX σ k) + nI 1) (ieX σ k) - nI 1)
def psX (f : Nat → Int32) (n : Nat) : Int32 := ff (fun i a => a + f i) 0 n
theorem psX_s {f : Nat → Int32} : psX f (n + 1) = psX f n + f n := rfl
theorem psX_u {f : Nat → Int32} {i : Nat} {x : Int32} : ∀ {n : Nat}, psX (upd f i (f i + x)) n = if i < n then psX f n + x else psX f n
  | 0 => rfl
  | n + 1 => by
    rw [psX_s, psX_s, psX_u (n := n)]
    by_cases h : i < n
    · rw [if_pos h, if_pos (by omega), upd_n (by omega)]
      rw [Int32.add_assoc, Int32.add_comm x, ← Int32.add_assoc]
    · rw [if_neg h]
      by_cases e : n = i
      · subst e
        rw [if_pos (by omega), upd_s, Int32.add_assoc]
      · rw [if_neg (by omega), upd_n e]
/-- how many are on at index n - 1, of the first K -/
noncomputable def oNX (σ : St) (K n : Nat) : Nat := cN (fun k => isX σ k < n ∧ n ≤ ieX σ k) K
theorem psX_sw (h : ∀ k, k < nB σ → isX σ k < ieX σ k) : ∀ {K : Nat}, K ≤ nB σ → ∀ n, psX (swA σ K) n = nI (oNX σ K n)
  | 0, _, n => by
    show psX (fun _ => 0) n = nI 0
    induction n with
    | zero => rfl
    | succ n ih => rw [psX_s, ih]; rfl
  | K + 1, hK, n => by
    have ih := psX_sw h (K := K) (by omega) n
    have hk := h K (by omega)
    have e1 : upd (swA σ K) (isX σ K) (swA σ K (isX σ K) + nI 1) (ieX σ K) - nI 1 = upd (swA σ K) (isX σ K) (swA σ K (isX σ K) + nI 1) (ieX σ K) + -(nI 1) := Int32.sub_eq_add_neg ..
    show psX (upd (upd (swA σ K) (isX σ K) (swA σ K (isX σ K) + nI 1)) (ieX σ K) (upd (swA σ K) (isX σ K) (swA σ K (isX σ K) + nI 1) (ieX σ K) - nI 1)) n = nI (oNX σ (K + 1) n)
    rw [e1, psX_u, psX_u, ih]
    unfold oNX
    by_cases h1 : isX σ K < n
    · rw [if_pos h1]
      by_cases h2 : ieX σ K < n
      · rw [if_pos h2, cN_f (by omega), Int32.add_assoc, Int32.add_right_neg, Int32.add_zero]
      · rw [if_neg h2, cN_t ⟨h1, by omega⟩, nI_add]
    · rw [if_neg h1, if_neg (by omega), cN_f (by omega)]
theorem NE_ix (hN : NE σ) (hB : Bd σ) (hk : k < nB σ) : isX σ k < ieX σ k ∧ ieX σ k < 140 ∧ isX σ k + sM σ = boT σ k + 9 ∧ ieX σ k + sM σ = boE σ k + 9 ∧ 0 < isX σ k := by
  have bk := hB.bo hk
  have hn := hN k hk
  unfold isX ieX
  omega
/-- one of 0 .. n-1 with P that has the greatest f -/
theorem mxP {P : Nat → Prop} {f : Nat → Nat} : ∀ {n : Nat}, (∀ k, k < n → ¬ P k) ∨ ∃ k, k < n ∧ P k ∧ ∀ j, j < n → P j → f j ≤ f k
  | 0 => Or.inl (fun k h => absurd h (Nat.not_lt_zero k))
  | n + 1 => by
    by_cases hp : P n
    · rcases mxP (P := P) (f := f) (n := n) with h | ⟨k, h1, h2, h3⟩
      · refine Or.inr ⟨n, by omega, hp, fun j hj hj2 => ?_⟩
        by_cases e : j = n
        · rw [e]; exact Nat.le_refl _
        · exact absurd hj2 (h j (by omega))
      · rcases Nat.lt_or_ge (f k) (f n) with g | g
        · refine Or.inr ⟨n, by omega, hp, fun j hj hj2 => ?_⟩
          by_cases e : j = n
          · rw [e]; exact Nat.le_refl _
          · have := h3 j (by omega) hj2; omega
        · refine Or.inr ⟨k, by omega, h2, fun j hj hj2 => ?_⟩
          by_cases e : j = n
          · rw [e]; exact g
          · exact h3 j (by omega) hj2
    · rcases mxP (P := P) (f := f) (n := n) with h | ⟨k, h1, h2, h3⟩
      · refine Or.inl (fun k hk => ?_)
        by_cases e : k = n
        · rw [e]; exact hp
        · exact h k (by omega)
      · refine Or.inr ⟨k, by omega, h2, fun j hj hj2 => ?_⟩
        by_cases e : j = n
        · rw [e] at hj2; exact absurd hj2 hp
        · exact h3 j (by omega) hj2
theorem sweep_eq (hN : NE σ) (hB : Bd σ) : mxF (fun i => oNX σ (nB σ) (i + 1)) 140 = aOnce σ := by
  have ha : aOnce σ = mxF (fun one => cN (fun k => boT σ k ≤ boT σ one ∧ boT σ one < boE σ k) (nB σ)) (nB σ) := rfl
  rw [ha]
  refine Nat.le_antisymm (mxF_le (fun i hi => ?_)) (mxF_le (fun one h1 => ?_))
  · rcases mxP (P := fun k => isX σ k < i + 1 ∧ i + 1 ≤ ieX σ k) (f := boT σ) (n := nB σ) with h | ⟨k, k1, k2, k3⟩
    · show oNX σ (nB σ) (i + 1) ≤ _
      unfold oNX
      rw [cN_none h]; exact Nat.zero_le _
    · refine Nat.le_trans (cN_mono (fun j hj hp => ?_)) (mxF_ge (f := fun one => cN (fun k => boT σ k ≤ boT σ one ∧ boT σ one < boE σ k) (nB σ)) k1)
      have xk := NE_ix hN hB k1
      have xj := NE_ix hN hB hj
      exact ⟨k3 j hj hp, by omega⟩
  · have x1 := NE_ix hN hB h1
    refine Nat.le_trans (Nat.le_of_eq (cN_congr (fun j hj => ?_))) (mxF_ge (f := fun i => oNX σ (nB σ) (i + 1)) (i := isX σ one) (by omega))
    have xj := NE_ix hN hB hj
    constructor <;> intro h <;> omega
/-! the table -/
theorem aBest_min {l : Nat} : ∀ {n : Nat}, k < n → l ≤ boT σ k → aBest σ l n ≤ boE σ k
  | 0, h, _ => absurd h (Nat.not_lt_zero _)
  | n + 1, h, hl => by
    have e : aBest σ l (n + 1) = cH (l ≤ boT σ n) (min (aBest σ l n) (boE σ n)) (aBest σ l n) := rfl
    rw [e]
    rcases Nat.eq_or_lt_of_le (Nat.le_of_lt_succ h) with g | g
    · subst g; rw [cH_t hl]; exact Nat.min_le_right ..
    · have ih := aBest_min g hl
      by_cases h2 : l ≤ boT σ n
      · rw [cH_t h2]; exact Nat.le_trans (Nat.min_le_left ..) ih
      · rw [cH_f h2]; exact ih
/-- the ends of the greedy choice -/
noncomputable def geX (σ : St) : Nat → Nat
  | 0 => 0
  | i + 1 => aBest σ (geX σ i) (nB σ)
theorem aWat_m {m : Nat} (h1 : ∀ i, 1 ≤ i → i ≤ m → geX σ i < 2147483647) (h2 : ¬ geX σ (m + 1) < 2147483647) : ∀ {n i : Nat}, i ≤ m → m < i + n → aWat σ n (geX σ i) i = m
  | 0, i, a, b => by omega
  | n + 1, i, a, b => by
    have e : aWat σ (n + 1) (geX σ i) i = cH (geX σ (i + 1) < 2147483647) (aWat σ n (geX σ (i + 1)) (i + 1)) i := rfl
    rw [e]
    rcases Nat.eq_or_lt_of_le a with g | g
    · subst g; rw [cH_f h2]
    · rw [cH_t (h1 (i + 1) (by omega) g), aWat_m h1 h2 (by omega) (by omega)]
theorem ge_ex (hB : Bd σ) : ∀ (c i : Nat), cN (fun k => geX σ i ≤ boT σ k) (nB σ) ≤ c → (∀ j, 1 ≤ j → j ≤ i → geX σ j < 2147483647) → ∃ m, i ≤ m ∧ (∀ j, 1 ≤ j → j ≤ m → geX σ j < 2147483647) ∧ ¬ geX σ (m + 1) < 2147483647 ∧ m ≤ i + c
  | c, i, hc, hi => by
    by_cases h : geX σ (i + 1) < 2147483647
    · rcases aBest_or σ (geX σ i) (nB σ) with ⟨g1, -⟩ | ⟨k, g1, g2, g3, g4⟩
      · rw [show aBest σ (geX σ i) (nB σ) = geX σ (i + 1) from rfl] at g1; omega
      · have g3 : geX σ (i + 1) = boE σ k := g3
        have bk := hB.bo g1
        have hl := cN_lt (P := fun k => geX σ (i + 1) ≤ boT σ k) (P' := fun k => geX σ i ≤ boT σ k) (n := nB σ) (fun j hj h9 => by omega) g1 g2 (by omega)
        cases c with
        | zero => omega
        | succ c =>
          obtain ⟨m, m1, m2, m3, m4⟩ := ge_ex hB c (i + 1) (by omega) (fun j j1 j2 => by
            rcases Nat.eq_or_lt_of_le j2 with e | e
            · rw [e]; exact h
            · exact hi j j1 (by omega))
          exact ⟨m, by omega, m2, m3, by omega⟩
    · exact ⟨i, Nat.le_refl _, hi, h, by omega⟩
/-- the inner loop of the table at rank r, after n others -/
noncomputable def chF (σ : St) (f : Nat → Nat) (r n : Nat) : Nat := ff (fun o m => cH (boE σ (rkA σ o) ≤ boT σ (rkA σ r)) (max m (f o + 1)) m) 1 n
theorem chF_s {f : Nat → Nat} {r n : Nat} : chF σ f r (n + 1) = cH (boE σ (rkA σ n) ≤ boT σ (rkA σ r)) (max (chF σ f r n) (f n + 1)) (chF σ f r n) := rfl
theorem chF_congr {f g : Nat → Nat} {r : Nat} : ∀ {n : Nat}, (∀ o, o < n → f o = g o) → chF σ f r n = chF σ g r n
  | 0, _ => rfl
  | n + 1, h => by rw [chF_s, chF_s, chF_congr (n := n) (fun o ho => h o (by omega)), h n (by omega)]
noncomputable def tbF (σ : St) : Nat → Nat → Nat
  | 0 => fun _ => 0
  | r + 1 => fun j => if j = r then chF σ (tbF σ r) r r else tbF σ r j
noncomputable def ctF (σ : St) (r : Nat) : Nat := tbF σ (r + 1) r
theorem tbF_st {j : Nat} : ∀ {r : Nat}, j < r → tbF σ r j = ctF σ j
  | 0, h => absurd h (Nat.not_lt_zero _)
  | r + 1, h => by
    by_cases e : j = r
    · subst e; rfl
    · show (if j = r then _ else tbF σ r j) = _
      rw [if_neg e]; exact tbF_st (by omega)
theorem ctF_eq {r : Nat} : ctF σ r = chF σ (ctF σ) r r := by
  show (if r = r then chF σ (tbF σ r) r r else tbF σ r r) = _
  rw [if_pos rfl]
  exact chF_congr (fun o ho => tbF_st ho)
theorem chF_ge1 {f : Nat → Nat} {r : Nat} : ∀ {n : Nat}, 1 ≤ chF σ f r n
  | 0 => Nat.le_refl _
  | n + 1 => by
    rw [chF_s]
    have ih := chF_ge1 (f := f) (r := r) (n := n)
    by_cases h : boE σ (rkA σ n) ≤ boT σ (rkA σ r)
    · rw [cH_t h]; omega
    · rw [cH_f h]; exact ih
theorem chF_ge {f : Nat → Nat} {r o : Nat} (hp : boE σ (rkA σ o) ≤ boT σ (rkA σ r)) : ∀ {n : Nat}, o < n → f o + 1 ≤ chF σ f r n
  | 0, h => absurd h (Nat.not_lt_zero _)
  | n + 1, h => by
    rw [chF_s]
    rcases Nat.eq_or_lt_of_le (Nat.le_of_lt_succ h) with e | e
    · subst e; rw [cH_t hp]; omega
    · have ih := chF_ge (f := f) hp e
      by_cases h : boE σ (rkA σ n) ≤ boT σ (rkA σ r)
      · rw [cH_t h]; omega
      · rw [cH_f h]; exact ih
theorem ct_ge (hD : DJ σ) (hB : Bd σ) : ∀ (r : Nat), r < nB σ → geX σ (ctF σ r) ≤ boE σ (rkA σ r) := by
  intro r
  induction r using Nat.strongRecOn with
  | ind r ih =>
    intro hr
    obtain ⟨a1, a2, -⟩ := rkA_at hD hB hr
    rw [ctF_eq]
    have key : ∀ n, n ≤ r → geX σ (chF σ (ctF σ) r n) ≤ boE σ (rkA σ r) := by
      intro n
      induction n with
      | zero => intro _; exact aBest_min a1 (Nat.zero_le _)
      | succ n ihn =>
        intro hn
        rw [chF_s]
        by_cases h : boE σ (rkA σ n) ≤ boT σ (rkA σ r)
        · rw [cH_t h]
          rcases Nat.le_total (chF σ (ctF σ) r n) (ctF σ n + 1) with g | g
          · rw [Nat.max_eq_right g]
            exact aBest_min a1 (Nat.le_trans (ih n (by omega) (by omega)) h)
          · rw [Nat.max_eq_left g]; exact ihn (by omega)
        · rw [cH_f h]; exact ihn (by omega)
    exact key r (Nat.le_refl _)
theorem ge_inf (hB : Bd σ) {m : Nat} (h : ¬ geX σ m < 2147483647) (hm : 0 < m) : ∀ j, m ≤ j → ¬ geX σ j < 2147483647 := by
  have b1 := hB.1
  intro j hj
  induction j with
  | zero => omega
  | succ j ih =>
    rcases Nat.eq_or_lt_of_le hj with e | e
    · rw [← e]; exact h
    · have := ih (by omega)
      intro g
      rcases aBest_or σ (geX σ j) (nB σ) with ⟨g1, -⟩ | ⟨k, g1, g2, g3, g4⟩
      · have g1 : geX σ (j + 1) = 2147483647 := g1
        omega
      · have bk := hB.bo g1
        omega
theorem table_eq (hD : DJ σ) (hB : Bd σ) : mxF (ctF σ) (nB σ) = aWatch σ := by
  have b1 := hB.1
  obtain ⟨m, -, m2, m3, m4⟩ := ge_ex hB (nB σ) 0 (cN_le _ _) (fun j j1 j2 => by omega)
  have hw : aWatch σ = m := aWat_m m2 m3 (Nat.zero_le _) (by omega)
  rw [hw]
  refine Nat.le_antisymm (mxF_le (fun r hr => ?_)) ?_
  · rcases Nat.lt_or_ge m (ctF σ r) with g | g
    · have h1 := ct_ge hD hB r hr
      have h2 := ge_inf hB m3 (by omega) (ctF σ r) (by omega)
      have := hB.bo (rkA_at hD hB hr).1
      omega
    · exact g
  · have key : ∀ i, i < m → ∃ k, k < nB σ ∧ boE σ k = geX σ (i + 1) ∧ geX σ i ≤ boT σ k ∧ i + 1 ≤ ctF σ (cN (rkC σ k) (nB σ)) := by
      intro i
      induction i with
      | zero =>
        intro hi
        rcases aBest_or σ (geX σ 0) (nB σ) with ⟨g1, -⟩ | ⟨k, g1, g2, g3, g4⟩
        · have := m2 1 (by omega) hi
          rw [show geX σ 1 = aBest σ (geX σ 0) (nB σ) from rfl] at this
          omega
        · exact ⟨k, g1, g3.symm, g2, by rw [ctF_eq]; exact chF_ge1⟩
      | succ i ih =>
        intro hi
        obtain ⟨k0, q1, q2, q3, q4⟩ := ih (by omega)
        rcases aBest_or σ (geX σ (i + 1)) (nB σ) with ⟨g1, -⟩ | ⟨k, g1, g2, g3, g4⟩
        · have := m2 (i + 2) (by omega) hi
          rw [show geX σ (i + 2) = aBest σ (geX σ (i + 1)) (nB σ) from rfl] at this
          omega
        · refine ⟨k, g1, g3.symm, g2, ?_⟩
          have bk0 := hB.bo q1
          have hlt := lt_rkA hD hB q1 g1 (by omega)
          have e0 := (rkA_of hD hB q1).2
          have e1 := (rkA_of hD hB g1).2
          rw [ctF_eq]
          have := chF_ge (σ := σ) (f := ctF σ) (r := cN (rkC σ k) (nB σ)) (o := cN (rkC σ k0) (nB σ)) (by rw [e0, e1]; omega) hlt
          omega
    cases m with
    | zero => exact Nat.zero_le _
    | succ i =>
      obtain ⟨k, q1, q2, q3, q4⟩ := key i (by omega)
      exact Nat.le_trans q4 (mxF_ge (rank_lt rkC_i q1))
end PL3
