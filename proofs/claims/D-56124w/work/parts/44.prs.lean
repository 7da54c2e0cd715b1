/-! PURE: reading commands -/
/-- a text from a place on: where reading ends, and whether it is there -/
def skp (inp : List Nat) : List Nat → Nat → Nat × Bool
  | [], a => (a, true)
  | c :: cs, a => if inp[a]? = some c then skp inp cs (a + 1) else (a, false)
/-- a digit at a place -/
def dgt (inp : List Nat) (a : Nat) : Option Nat := match inp[a]? with | none => none | some c => if 48 ≤ c ∧ c ≤ 57 then some (c - 48) else none
/-- at most so many digits, from a place on -/
def rdD (inp : List Nat) : Nat → Nat → Nat → Nat × Nat
  | 0, a, v => (a, v)
  | m + 1, a, v => match dgt inp a with | none => (a, v) | some d => rdD inp m (a + 1) (10 * v + d)
/-- a blank and a number -/
def num (inp : List Nat) (most a : Nat) : Nat × Option Nat :=
  if inp[a]? = some 32 then (match dgt inp (a + 1) with | none => (a + 1, none) | some _ => ((rdD inp most (a + 1) 0).1, some (rdD inp most (a + 1) 0).2)) else (a, none)
/-- what is wrong, as an int -/
def wI (ok : Bool) : Int32 := if ok = true then nI 0 else nI 1
theorem wI_t : wI true = nI 0 := rfl
theorem wI_f : wI false = nI 1 := rfl
/-- the reference while it reads -/
def PS (v : Nat → Int32) (F : Nat → Nat → Int32) (inp : List Nat) (a : Nat) (ok : Bool) : Prop :=
  (v 10 = nI inp.length ∧ inp.length ≤ 60 ∧ ∀ k, k < inp.length → F 5 k = nI (inp.getD k 0) ∧ inp.getD k 0 < 65536) ∧ v 11 = nI a ∧ v 12 = wI ok
/-- only the place and what is wrong are others -/
def PV (v v' : Nat → Int32) : Prop := ∀ i, i ≠ 11 → i ≠ 12 → v' i = v i
theorem PV.rf {v : Nat → Int32} : PV v v := fun _ _ _ => rfl
theorem PV.tr {v w x : Nat → Int32} (h : PV v w) (k : PV w x) : PV v x := fun i a b => (k i a b).trans (h i a b)
theorem PV.u {v : Nat → Int32} {j : Nat} {x : Int32} (hj : j = 11 ∨ j = 12) : PV v (vU v j x) := fun i a b => vU_n (by omega)
/-- the sign at a place, or -1 -/
def bh (inp : List Nat) (a : Nat) : Int32 := match inp[a]? with | none => -1 | some c => nI c
theorem get_lt {inp : List Nat} {a : Nat} (h : a < inp.length) : inp[a]? = some (inp.getD a 0) := by
  rw [List.getD_eq_getElem?_getD, List.getElem?_eq_getElem h]; rfl
theorem bh_t {inp : List Nat} {a : Nat} (h : a < inp.length) : bh inp a = nI (inp.getD a 0) := by unfold bh; rw [get_lt h]
theorem bh_f {inp : List Nat} {a : Nat} (h : ¬ a < inp.length) : bh inp a = -1 := by unfold bh; rw [List.getElem?_eq_none (by omega)]
theorem bh_eq {inp : List Nat} {a c : Nat} (hi : ∀ k, k < inp.length → inp.getD k 0 < 65536) (hc : c < 65536) : bh inp a = nI c ↔ inp[a]? = some c := by
  by_cases h : a < inp.length
  · rw [bh_t h, get_lt h, nI_eq (by have := hi a h; omega) (by omega)]
    exact ⟨fun e => by rw [e], fun e => Option.some.inj e⟩
  · rw [bh_f h, List.getElem?_eq_none (by omega)]
    refine ⟨fun e => ?_, fun e => by simp at e⟩
    have h1 : (nI c).toInt = c := nI_toInt (by omega)
    rw [← e] at h1
    have h2 : (-1 : Int32).toInt = -1 := by decide
    omega
/-- whether a digit is there, as the range of a sign -/
theorem dgt_in {inp : List Nat} {a : Nat} (hi : ∀ k, k < inp.length → inp.getD k 0 < 65536) : (nI 48 ≤ bh inp a ∧ bh inp a ≤ nI 57) ↔ dgt inp a ≠ none := by
  unfold dgt
  by_cases h : a < inp.length
  · have h2 := hi a h
    rw [bh_t h, get_lt h, nI_leI (by omega) (by omega), nI_leI (by omega) (by omega)]
    dsimp only
    by_cases h3 : 48 ≤ inp.getD a 0 ∧ inp.getD a 0 ≤ 57
    · rw [if_pos h3]; exact ⟨fun _ => by simp, fun _ => h3⟩
    · rw [if_neg h3]; exact ⟨fun g => absurd g h3, fun g => absurd rfl g⟩
  · rw [bh_f h, List.getElem?_eq_none (by omega)]
    exact ⟨fun g => absurd g.1 (by decide), fun g => absurd rfl g⟩
theorem dgt_some {inp : List Nat} {a d : Nat} (h : dgt inp a = some d) : a < inp.length ∧ inp.getD a 0 = 48 + d ∧ d ≤ 9 := by
  unfold dgt at h
  by_cases g : a < inp.length
  · rw [get_lt g] at h
    dsimp only at h
    by_cases h3 : 48 ≤ inp.getD a 0 ∧ inp.getD a 0 ≤ 57
    · rw [if_pos h3] at h
      have := Option.some.inj h
      exact ⟨g, by omega, by omega⟩
    · rw [if_neg h3] at h; exact absurd h (by simp)
  · rw [List.getElem?_eq_none (by omega)] at h
    exact absurd h (by simp)
