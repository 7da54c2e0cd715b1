/-! LISTS: heaps whose lists are values; a list's array is hidden -/
/-- an object or an array of 08, or a list: its items and how often it was changed -/
abbrev LE : Type := va_E ⊕ (List Nat × Int32)
abbrev LH : Type := Nat → Option LE
/-- hidden: where a list's array lies, how long it is, whose an array is -/
abbrev Bk : Type := (Nat → Nat) × (Nat → Nat) × (Nat → Option Nat)
/-- what an address that is not of its own holds -/
def bkC (Ω : Om) (Γ : LH) (x : Bk) (q : Nat) : Option va_E :=
  match x.2.2 q with
  | none => none
  | some p => match Γ p with
    | some (.inr l) => if x.1 p = q then some (cQ Ω (x.2.1 p) (fun k => l.1[k]?)) else none
    | _ => none
def conc (Ω : Om) (Γ : LH) (x : Bk) : RH := fun q =>
  match Γ q with
  | some (.inl e) => some e
  | some (.inr l) => some (.inr (11, [.int l.2, .ref (x.1 q), .int (nI l.1.length)]))
  | none => bkC Ω Γ x q
/-- every list has its array: the shared empty one, or one of its own with room -/
def okL (Ω : Om) (Γ : LH) (x : Bk) : Prop := ∀ p l, Γ p = some (.inr l) → (x.1 p = oM Ω 256 ∧ l.1 = [] ∧ x.2.1 p = 0) ∨ (x.2.2 (x.1 p) = some p ∧ Γ (x.1 p) = none ∧ l.1.length ≤ x.2.1 p ∧ x.2.1 p ≤ 1000 ∧ 10 ≤ x.2.1 p)
def hL (Ω : Om) (Γ : LH) (H : Heap) : Prop := ∃ x : Bk, okL Ω Γ x ∧ hR Ω (conc Ω Γ x) H
section LH
variable {Ω : Om} {Γ : LH} {x : Bk} {a q : Nat} {e e' : va_E}
theorem cc_o (he : Γ a = some (.inl e)) : conc Ω Γ x a = some e := by unfold conc; rw [he]
theorem cc_l {l : List Nat × Int32} (he : Γ a = some (.inr l)) : conc Ω Γ x a = some (.inr (11, [.int l.2, .ref (x.1 a), .int (nI l.1.length)])) := by unfold conc; rw [he]
theorem bk_put (he : ∀ l, Γ a ≠ some (.inr l)) {c : Option LE} (hc : ∀ l, c ≠ some (.inr l)) {Γ' : LH} (hg : ∀ p, p ≠ a → Γ' p = Γ p) (ha : Γ' a = c) : bkC Ω Γ' x q = bkC Ω Γ x q := by
  unfold bkC
  cases h : x.2.2 q with
  | none => rfl
  | some p =>
    dsimp only
    by_cases e : p = a
    · rw [e, ha]
      cases h1 : Γ a with
      | none =>
        cases c with
        | none => rfl
        | some c =>
          cases c with
          | inl c => rfl
          | inr l => exact absurd rfl (hc l)
      | some d =>
        cases d with
        | inr l => exact absurd h1 (he l)
        | inl d =>
          cases c with
          | none => rfl
          | some c =>
            cases c with
            | inl c => rfl
            | inr l => exact absurd rfl (hc l)
    · rw [hg p e]
theorem cc_put (he : Γ a = some (.inl e)) : conc Ω (hu Γ a (.inl e')) x = hu (conc Ω Γ x) a e' := by
  funext q
  by_cases h : q = a
  · subst h; rw [hu_s]; exact cc_o (hu_s _ _ _)
  · rw [hu_n h]
    have hb : bkC Ω (hu Γ a (.inl e')) x q = bkC Ω Γ x q := bk_put (a := a) (fun l g => by rw [he] at g; simp at g) (c := some (.inl e')) (fun l g => by simp at g) (fun p hp => hu_n hp) (hu_s _ _ _)
    unfold conc
    rw [hu_n h, hb]
theorem ok_put (ok : okL Ω Γ x) (he : Γ a = some (.inl e)) : okL Ω (hu Γ a (.inl e')) x := by
  intro p l hp
  have hpa : p ≠ a := fun g => by rw [g, hu_s] at hp; simp at hp
  rw [hu_n hpa] at hp
  rcases ok p l hp with h | ⟨h1, h2, h3⟩
  · exact Or.inl h
  · refine Or.inr ⟨h1, ?_, h3⟩
    rw [hu_n (fun g => by rw [g, he] at h2; simp at h2)]; exact h2
/-- an address that the heap doesn't hold is no list's array, and none of its own -/
theorem cc_no (ok : okL Ω Γ x) (hn : conc Ω Γ x q = none) : Γ q = none ∧ ∀ p l, Γ p = some (.inr l) → x.1 p = q → q = oM Ω 256 := by
  have h1 : Γ q = none := by
    cases h : Γ q with
    | none => rfl
    | some d =>
      cases d with
      | inl d => rw [cc_o h] at hn; simp at hn
      | inr l => rw [cc_l h] at hn; simp at hn
  refine ⟨h1, fun p l hp hq => ?_⟩
  rcases ok p l hp with h | ⟨h2, h3, h4⟩
  · rw [← hq, h.1]
  · have : conc Ω Γ x q = some (cQ Ω (x.2.1 p) (fun k => l.1[k]?)) := by
      unfold conc
      rw [h1]
      show bkC Ω Γ x q = _
      unfold bkC
      rw [hq] at h2
      rw [h2]
      dsimp only
      rw [hp]
      dsimp only
      rw [if_pos hq]
    rw [this] at hn; simp at hn
theorem cc_new (ok : okL Ω Γ x) (hn : conc Ω Γ x q = none) : conc Ω (hu Γ q (.inl e')) x = hu (conc Ω Γ x) q e' := by
  have h1 := (cc_no ok hn).1
  funext y
  by_cases h : y = q
  · subst h; rw [hu_s]; exact cc_o (hu_s _ _ _)
  · rw [hu_n h]
    have hb : bkC Ω (hu Γ q (.inl e')) x y = bkC Ω Γ x y := bk_put (a := q) (fun l g => by rw [h1] at g; simp at g) (c := some (.inl e')) (fun l g => by simp at g) (fun p hp => hu_n hp) (hu_s _ _ _)
    unfold conc
    rw [hu_n h, hb]
theorem ok_new (ok : okL Ω Γ x) (hn : conc Ω Γ x q = none) : okL Ω (hu Γ q (.inl e')) x := by
  intro p l hp
  have hpa : p ≠ q := fun g => by rw [g, hu_s] at hp; simp at hp
  rw [hu_n hpa] at hp
  rcases ok p l hp with h | ⟨h1, h2, h3⟩
  · exact Or.inl h
  · by_cases e : x.1 p = q
    · -- then it would be held
      have h4 : conc Ω Γ x q = some (cQ Ω (x.2.1 p) (fun k => l.1[k]?)) := by
        unfold conc
        rw [← e, h2]
        show bkC Ω Γ x (x.1 p) = _
        unfold bkC
        rw [h1]
        dsimp only
        rw [hp]
        dsimp only
        rw [if_pos rfl]
      rw [h4] at hn; simp at hn
    · refine Or.inr ⟨h1, ?_, h3⟩
      rw [hu_n e]; exact h2
end LH
