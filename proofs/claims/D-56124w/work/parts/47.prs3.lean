/-! PURE: reading a command -/
theorem sTx_7 : sTx 7 = [32] := by decide
/-- nuS by the blank first -/
def nuR (inp : List Nat) (most : Nat) (s : Nat × Bool) : Nat × Bool × Nat := if s.2 = true then (match dgt inp s.1 with | none => (s.1, false, 0) | some _ => ((rdD inp most s.1 0).1, true, (rdD inp most s.1 0).2)) else (s.1, false, 0)
theorem nuS_R {inp : List Nat} {most a : Nat} {ok : Bool} : nuS inp most a ok = nuR inp most (skS inp (sTx 7) a ok) := by
  rw [sTx_7]
  cases ok with
  | false => rfl
  | true =>
    show (match (num inp most a).2 with | none => ((num inp most a).1, false, 0) | some n => ((num inp most a).1, true, n)) = nuR inp most (if inp[a]? = some 32 then (a + 1, true) else (a, false))
    unfold num
    by_cases h : inp[a]? = some 32
    · rw [if_pos h, if_pos h]
      unfold nuR
      rw [if_pos rfl]
      dsimp only
      cases e : dgt inp (a + 1) with
      | none => rfl
      | some d => rfl
    · rw [if_neg h, if_neg h]; rfl
theorem nuS_le {inp : List Nat} {most a : Nat} {ok : Bool} (h : a ≤ inp.length) : (nuS inp most a ok).1 ≤ inp.length := by
  rw [nuS_R]
  have h2 := skS_le (cs := sTx 7) (ok := ok) h
  unfold nuR
  by_cases e : (skS inp (sTx 7) a ok).2 = true
  · rw [if_pos e]
    cases e2 : dgt inp (skS inp (sTx 7) a ok).1 with
    | none => exact h2
    | some d => exact rdD_le h2
  · rw [if_neg e]; exact h2
theorem nuS_lt {inp : List Nat} {most a : Nat} {ok : Bool} : (nuS inp most a ok).2.2 < 10 ^ most := by
  have hp : 0 < 10 ^ most := Nat.pow_pos (by omega)
  rw [nuS_R]
  unfold nuR
  by_cases e : (skS inp (sTx 7) a ok).2 = true
  · rw [if_pos e]
    cases e2 : dgt inp (skS inp (sTx 7) a ok).1 with
    | none => exact hp
    | some d =>
      have := rdD_lt (inp := inp) (m := most) (a := (skS inp (sTx 7) a ok).1) (v := 0) 0 (by omega)
      rw [Nat.zero_add] at this
      exact this
  · rw [if_neg e]; exact hp
/-- reading after that: where, whether well, the numbers -/
abbrev Rd : Type := (Nat × Bool) × Nat × Nat × Nat
def rdC (inp : List Nat) (a : Nat) : Rd :=
  match inp[a]? with
  | none => (skS inp (sTx 0) a true, 0, 0, 0)
  | some c =>
    if c = 115 ∨ c = 113 then
      let s := skS inp (sTx (if c = 115 then 6 else 3)) a true
      let n := nuS inp 1 s.1 s.2
      let m := nuS inp 1 n.1 n.2.1
      ((m.1, m.2.1), n.2.2, m.2.2, 0)
    else if c = 98 then
      let s := skS inp (sTx 1) a true
      let n := nuS inp 1 s.1 s.2
      let m := nuS inp 1 n.1 n.2.1
      let o := nuS inp 4 m.1 m.2.1
      ((o.1, o.2.1), n.2.2, m.2.2, o.2.2)
    else if c = 99 then
      let s := skS inp (sTx 2) a true
      let n := nuS inp 2 s.1 s.2
      ((n.1, n.2.1), n.2.2, 0, 0)
    else if c = 108 then
      let s := skS inp (sTx 4) a true
      let n := nuS inp 1 s.1 s.2
      ((n.1, n.2.1), n.2.2, 0, 0)
    else if c = 119 then
      let s := skS inp (sTx 5) a true
      if s.2 = true ∧ inp[s.1]? = some 32 then
        let n := nuS inp 2 s.1 s.2
        ((n.1, n.2.1), n.2.2, 0, 0)
      else (s, 1, 0, 0)
    else (skS inp (sTx 0) a true, 0, 0, 0)
