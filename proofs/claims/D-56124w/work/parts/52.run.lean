/-! PURE: commands carried out -/
abbrev Cmd : Type := Int32 × Nat × Nat × Nat
noncomputable def aDoes (σ : St) (c : Cmd) : Res :=
  if c.1 = nI 115 then aBuild σ (nI c.2.1) (nI c.2.2.1) else if c.1 = nI 113 then aJoin σ (nI c.2.1) (nI c.2.2.1) else if c.1 = nI 98 then aBook σ (nI c.2.1) (nI c.2.2.1) (nI c.2.2.2)
  else if c.1 = nI 99 then aCanc σ (nI c.2.1) else if c.1 = nI 108 then aLeave σ (nI c.2.1) else if c.1 = nI 119 then aPass σ (nI c.2.1) else aAddG σ
theorem does_115 {σ : St} {m : Nat × Nat × Nat} : aDoes σ (nI 115, m) = aBuild σ (nI m.1) (nI m.2.1) := rfl
theorem does_113 {σ : St} {m : Nat × Nat × Nat} : aDoes σ (nI 113, m) = aJoin σ (nI m.1) (nI m.2.1) := rfl
theorem does_98 {σ : St} {m : Nat × Nat × Nat} : aDoes σ (nI 98, m) = aBook σ (nI m.1) (nI m.2.1) (nI m.2.2) := rfl
theorem does_99 {σ : St} {m : Nat × Nat × Nat} : aDoes σ (nI 99, m) = aCanc σ (nI m.1) := rfl
theorem does_108 {σ : St} {m : Nat × Nat × Nat} : aDoes σ (nI 108, m) = aLeave σ (nI m.1) := rfl
theorem does_119 {σ : St} {m : Nat × Nat × Nat} : aDoes σ (nI 119, m) = aPass σ (nI m.1) := rfl
theorem does_d {σ : St} {k : Int32} {m : Nat × Nat × Nat} (h : ¬ isK k) : aDoes σ (k, m) = aAddG σ := by
  unfold isK at h
  unfold aDoes
  rw [if_neg (fun e => h (by simp [show k = _ from e])), if_neg (fun e => h (by simp [show k = _ from e])), if_neg (fun e => h (by simp [show k = _ from e])), if_neg (fun e => h (by simp [show k = _ from e])), if_neg (fun e => h (by simp [show k = _ from e])), if_neg (fun e => h (by simp [show k = _ from e]))]
theorem okW_does {σ : St} {R : Nat} {c : Cmd} (W : Wf R σ) (hD : DJ σ) (hm : sM σ ≤ 100000) : okW (R + 720) (sM σ + 60) (aDoes σ c) := by
  unfold aDoes
  split
  · exact (okW_build W hD).mono (by omega) (by omega)
  split
  · exact (okW_join W hD).mono (by omega) (by omega)
  split
  · exact (okW_book W hD hm).mono (by omega) (by omega)
  split
  · exact (okW_canc W hD).mono (by omega) (by omega)
  split
  · exact (okW_leave W hD).mono (by omega) (by omega)
  split
  · exact okW_pass W hD
  · exact (okW_addG W hD).mono (by omega) (by omega)
theorem okR_does {σ : St} {c : Cmd} : okR (aDoes σ c) := by
  unfold aDoes
  split
  · exact ok_aBuild
  split
  · exact ok_aJoin
  split
  · exact ok_aBook
  split
  · exact ok_aCanc
  split
  · exact ok_aLeave
  split
  · exact ok_aPass
  · exact ok_aAddG
/-- one command after the other: the place of the first that fails, or the state -/
noncomputable def aRuns : List Cmd → Nat → St → Nat ⊕ St
  | [], _, σ => .inr σ
  | c :: cs, k, σ => match aDoes σ c with | .inl _ => .inl k | .inr x => aRuns cs (k + 1) x.2
theorem aRuns_l {c : Cmd} {cs : List Cmd} {k e : Nat} {σ : St} (h : aDoes σ c = .inl e) : aRuns (c :: cs) k σ = .inl k := by rw [aRuns, h]
theorem aRuns_r {c : Cmd} {cs : List Cmd} {k n : Nat} {σ σ' : St} (h : aDoes σ c = .inr (n, σ')) : aRuns (c :: cs) k σ = aRuns cs (k + 1) σ' := by rw [aRuns, h]
/-- all commands of a text from a place on: where reading ended, whether well, the commands -/
def rdL (inp : List Nat) : Nat → Nat → List Cmd → (Nat × Bool) × List Cmd
  | 0, a, acc => ((a, false), acc)
  | n + 1, a, acc => if (rdC inp a).1.2 = true ∧ inp[(rdC inp a).1.1]? = some 59 then rdL inp n ((rdC inp a).1.1 + 1) (acc ++ [(bh inp a, (rdC inp a).2)]) else ((rdC inp a).1, acc ++ [(bh inp a, (rdC inp a).2)])
def rdA (inp : List Nat) : (Nat × Bool) × List Cmd := rdL inp (inp.length + 1) 0 []
theorem skp_ok {inp : List Nat} : ∀ {cs : List Nat} {a : Nat}, (skp inp cs a).2 = true → (skp inp cs a).1 = a + cs.length
  | [], _, _ => rfl
  | c :: cs, a, h => by
    have e : skp inp (c :: cs) a = if inp[a]? = some c then skp inp cs (a + 1) else (a, false) := rfl
    rw [e] at h ⊢
    by_cases g : inp[a]? = some c
    · rw [if_pos g] at h ⊢; rw [skp_ok h, List.length_cons]; omega
    · rw [if_neg g] at h; exact absurd h (by simp)
theorem rdD_ge {inp : List Nat} : ∀ {m a v : Nat}, a ≤ (rdD inp m a v).1
  | 0, _, _ => Nat.le_refl _
  | m + 1, a, v => by
    cases e : dgt inp a with
    | none => rw [rdD_none e]; exact Nat.le_refl _
    | some d => rw [rdD_some e]; exact Nat.le_trans (Nat.le_succ a) rdD_ge
theorem nuS_ok {inp : List Nat} {most a : Nat} {ok : Bool} (h : (nuS inp most a ok).2.1 = true) : ok = true ∧ a ≤ (nuS inp most a ok).1 := by
  cases ok with
  | false => exact absurd h (by simp [nuS])
  | true =>
    refine ⟨rfl, ?_⟩
    rw [nuS_R] at h ⊢
    have e : skS inp (sTx 7) a true = if inp[a]? = some 32 then (a + 1, true) else (a, false) := by rw [sTx_7]; rfl
    rw [e] at h ⊢
    by_cases g : inp[a]? = some 32
    · rw [if_pos g] at h ⊢
      unfold nuR at h ⊢
      rw [if_pos rfl] at h ⊢
      dsimp only at h ⊢
      cases e2 : dgt inp (a + 1) with
      | none => rw [e2] at h; exact absurd h (by simp)
      | some d => exact Nat.le_trans (Nat.le_succ a) rdD_ge
    · rw [if_neg g] at h; exact absurd h (by simp [nuR])
theorem sTx_pos : ∀ j, j < 7 → 4 ≤ (sTx j).length := by decide
theorem skS_ok {inp : List Nat} {a j : Nat} (hj : j < 7) (h : (skS inp (sTx j) a true).2 = true) : a + 4 ≤ (skS inp (sTx j) a true).1 := by
  have h1 : (skS inp (sTx j) a true).1 = a + (sTx j).length := skp_ok h
  have h2 := sTx_pos j hj
  omega
theorem rdC_ok {inp : List Nat} {a : Nat} (h : (rdC inp a).1.2 = true) : a + 4 ≤ (rdC inp a).1.1 := by
  unfold rdC at h ⊢
  cases e : inp[a]? with
  | none => rw [e] at h; exact skS_ok (by decide) h
  | some c =>
    rw [e] at h
    dsimp only at h ⊢
    by_cases c1 : c = 115 ∨ c = 113
    · rw [if_pos c1] at h ⊢
      dsimp only at h ⊢
      obtain ⟨o1, l1⟩ := nuS_ok h
      obtain ⟨o2, l2⟩ := nuS_ok o1
      have := skS_ok (j := if c = 115 then 6 else 3) (by split <;> decide) o2
      omega
    rw [if_neg c1] at h ⊢
    by_cases c2 : c = 98
    · rw [if_pos c2] at h ⊢
      dsimp only at h ⊢
      obtain ⟨o1, l1⟩ := nuS_ok h
      obtain ⟨o2, l2⟩ := nuS_ok o1
      obtain ⟨o3, l3⟩ := nuS_ok o2
      have := skS_ok (j := 1) (by decide) o3
      omega
    rw [if_neg c2] at h ⊢
    by_cases c3 : c = 99
    · rw [if_pos c3] at h ⊢
      dsimp only at h ⊢
      obtain ⟨o1, l1⟩ := nuS_ok h
      have := skS_ok (j := 2) (by decide) o1
      omega
    rw [if_neg c3] at h ⊢
    by_cases c4 : c = 108
    · rw [if_pos c4] at h ⊢
      dsimp only at h ⊢
      obtain ⟨o1, l1⟩ := nuS_ok h
      have := skS_ok (j := 4) (by decide) o1
      omega
    rw [if_neg c4] at h ⊢
    by_cases c5 : c = 119
    · rw [if_pos c5] at h ⊢
      try dsimp only at h ⊢
      by_cases c6 : (skS inp (sTx 5) a true).2 = true ∧ inp[(skS inp (sTx 5) a true).1]? = some 32
      · rw [if_pos c6] at h ⊢
        dsimp only at h ⊢
        obtain ⟨o1, l1⟩ := nuS_ok h
        have := skS_ok (j := 5) (by decide) o1
        omega
      · rw [if_neg c6] at h ⊢; exact skS_ok (by decide) h
    rw [if_neg c5] at h ⊢
    exact skS_ok (by decide) h
theorem rdC_le {inp : List Nat} {a : Nat} (h : a ≤ inp.length) : (rdC inp a).1.1 ≤ inp.length := by
  unfold rdC
  cases e : inp[a]? with
  | none => exact skS_le h
  | some c =>
    dsimp only
    by_cases c1 : c = 115 ∨ c = 113
    · rw [if_pos c1]; exact nuS_le (nuS_le (skS_le h))
    rw [if_neg c1]
    by_cases c2 : c = 98
    · rw [if_pos c2]; exact nuS_le (nuS_le (nuS_le (skS_le h)))
    rw [if_neg c2]
    by_cases c3 : c = 99
    · rw [if_pos c3]; exact nuS_le (skS_le h)
    rw [if_neg c3]
    by_cases c4 : c = 108
    · rw [if_pos c4]; exact nuS_le (skS_le h)
    rw [if_neg c4]
    by_cases c5 : c = 119
    · rw [if_pos c5]
      by_cases c6 : (skS inp (sTx 5) a true).2 = true ∧ inp[(skS inp (sTx 5) a true).1]? = some 32
      · rw [if_pos c6]; exact nuS_le (skS_le h)
      · rw [if_neg c6]; exact skS_le h
    rw [if_neg c5]
    exact skS_le h
