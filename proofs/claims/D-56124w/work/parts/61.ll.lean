/-! LISTS: a new list, another count of changes, other items in the same array -/
section LL
variable {Ω : Om} {Γ : LH} {x : Bk} {q y : Nat} {xs ys : List Nat} {m m' : Int32}
/-- the hidden part when q becomes an empty list -/
def bk0 (Ω : Om) (x : Bk) (q : Nat) : Bk := (fun p => if p = q then oM Ω 256 else x.1 p, fun p => if p = q then 0 else x.2.1 p, fun y => if x.2.2 y = some q then none else x.2.2 y)
theorem cc_mk {e : va_E} (he : Γ q = some (.inl e)) : conc Ω (hu Γ q (.inr ([], m))) (bk0 Ω x q) = hu (conc Ω Γ x) q (.inr (11, [.int m, .ref (oM Ω 256), .int (nI 0)])) := by
  funext y
  by_cases h : y = q
  · subst h
    rw [hu_s, cc_l (hu_s _ _ _), show (bk0 Ω x y).1 y = oM Ω 256 from if_pos rfl]
    rfl
  · rw [hu_n h]
    have hb : bkC Ω (hu Γ q (.inr ([], m))) (bk0 Ω x q) y = bkC Ω Γ x y := by
      unfold bkC
      show (match (if x.2.2 y = some q then none else x.2.2 y) with | none => none | some p => _) = _
      by_cases g : x.2.2 y = some q
      · rw [if_pos g, g]
        dsimp only
        rw [he]
      · rw [if_neg g]
        cases hp : x.2.2 y with
        | none => rfl
        | some p =>
          have hpq : p ≠ q := fun e => g (by rw [hp, e])
          dsimp only
          rw [hu_n hpq]
          show (match Γ p with | some (.inr l) => if (if p = q then oM Ω 256 else x.1 p) = y then some (cQ Ω (if p = q then 0 else x.2.1 p) (fun k => l.1[k]?)) else none | _ => none) = _
          rw [if_neg hpq, if_neg hpq]
          cases Γ p with
          | none => rfl
          | some d => cases d <;> rfl
    unfold conc
    rw [hu_n h]
    cases hy : Γ y with
    | none => exact hb
    | some d =>
      cases d with
      | inl d => rfl
      | inr l =>
        dsimp only
        rw [show (bk0 Ω x q).1 y = x.1 y from if_neg h]
theorem ok_mk {e : va_E} (ok : okL Ω Γ x) (he : Γ q = some (.inl e)) : okL Ω (hu Γ q (.inr ([], m))) (bk0 Ω x q) := by
  intro p l hp
  by_cases h : p = q
  · subst h
    rw [hu_s] at hp
    have : l = ([], m) := by simpa using hp.symm
    subst this
    exact Or.inl ⟨if_pos rfl, rfl, if_pos rfl⟩
  · rw [hu_n h] at hp
    have e1 : (bk0 Ω x q).1 p = x.1 p := if_neg h
    have e2 : (bk0 Ω x q).2.1 p = x.2.1 p := if_neg h
    rw [e1, e2]
    rcases ok p l hp with g | ⟨g1, g2, g3⟩
    · exact Or.inl g
    · refine Or.inr ⟨?_, ?_, g3⟩
      · show (if x.2.2 (x.1 p) = some q then none else x.2.2 (x.1 p)) = some p
        rw [g1, if_neg (fun e => h (Option.some.inj e))]
      · rw [hu_n (fun e => by rw [e, he] at g2; simp at g2)]; exact g2
/-- another count of changes -/
theorem cc_m (he : Γ q = some (.inr (xs, m))) : conc Ω (hu Γ q (.inr (xs, m'))) x = hu (conc Ω Γ x) q (.inr (11, [.int m', .ref (x.1 q), .int (nI xs.length)])) := by
  funext y
  by_cases h : y = q
  · subst h; rw [hu_s, cc_l (hu_s _ _ _)]
  · rw [hu_n h]
    have hb : bkC Ω (hu Γ q (.inr (xs, m'))) x y = bkC Ω Γ x y := by
      unfold bkC
      cases hp : x.2.2 y with
      | none => rfl
      | some p =>
        dsimp only
        by_cases e : p = q
        · rw [e, hu_s, he]
        · rw [hu_n e]
    unfold conc
    rw [hu_n h, hb]
theorem ok_m (ok : okL Ω Γ x) (he : Γ q = some (.inr (xs, m))) : okL Ω (hu Γ q (.inr (xs, m'))) x := by
  intro p l hp
  by_cases h : p = q
  · subst h
    rw [hu_s] at hp
    have : l = (xs, m') := by simpa using hp.symm
    subst this
    rcases ok p _ he with g | ⟨g1, g2, g3⟩
    · exact Or.inl g
    · exact Or.inr ⟨g1, by rw [hu_n (fun e => by rw [e, he] at g2; simp at g2)]; exact g2, g3⟩
  · rw [hu_n h] at hp
    rcases ok p l hp with g | ⟨g1, g2, g3⟩
    · exact Or.inl g
    · exact Or.inr ⟨g1, by rw [hu_n (fun e => by rw [e, he] at g2; simp at g2)]; exact g2, g3⟩
/-- other items in its own array -/
theorem cc_i (he : Γ q = some (.inr (xs, m))) (ho : x.2.2 (x.1 q) = some q) (hn : Γ (x.1 q) = none) : conc Ω (hu Γ q (.inr (ys, m'))) x = hu (hu (conc Ω Γ x) (x.1 q) (cQ Ω (x.2.1 q) (fun k => ys[k]?))) q (.inr (11, [.int m', .ref (x.1 q), .int (nI ys.length)])) := by
  have hq : x.1 q ≠ q := fun e => by rw [e, he] at hn; simp at hn
  funext y
  by_cases h : y = q
  · subst h; rw [hu_s, cc_l (hu_s _ _ _)]
  · rw [hu_n h]
    by_cases h2 : y = x.1 q
    · rw [h2, hu_s]
      unfold conc
      rw [hu_n hq, hn]
      show bkC Ω _ x (x.1 q) = _
      unfold bkC
      rw [ho]
      dsimp only
      rw [hu_s]
      dsimp only
      rw [if_pos rfl]
    · rw [hu_n h2]
      have hb : bkC Ω (hu Γ q (.inr (ys, m'))) x y = bkC Ω Γ x y := by
        unfold bkC
        cases hp : x.2.2 y with
        | none => rfl
        | some p =>
          dsimp only
          by_cases e : p = q
          · rw [e, hu_s, he]
            dsimp only
            rw [if_neg (fun g => h2 g.symm), if_neg (fun g => h2 g.symm)]
          · rw [hu_n e]
      unfold conc
      rw [hu_n h, hb]
theorem ok_i (ok : okL Ω Γ x) (he : Γ q = some (.inr (xs, m))) (ho : x.2.2 (x.1 q) = some q) (hn : Γ (x.1 q) = none) (hl : ys.length ≤ x.2.1 q) (hc : x.2.1 q ≤ 1000 ∧ 10 ≤ x.2.1 q) : okL Ω (hu Γ q (.inr (ys, m'))) x := by
  intro p l hp
  by_cases h : p = q
  · subst h
    rw [hu_s] at hp
    have : l = (ys, m') := by simpa using hp.symm
    subst this
    exact Or.inr ⟨ho, by rw [hu_n (fun e => by rw [e, he] at hn; simp at hn)]; exact hn, hl, hc⟩
  · rw [hu_n h] at hp
    rcases ok p l hp with g | ⟨g1, g2, g3⟩
    · exact Or.inl g
    · exact Or.inr ⟨g1, by rw [hu_n (fun e => by rw [e, he] at g2; simp at g2)]; exact g2, g3⟩
end LL
