/-! PURE: reading, steps -/
def sTx (j : Nat) : List Nat := (sByt.getD j []).map (fun x => x.toNatClampNeg)
theorem sTx_ok : ∀ j, j < 8 → (sTx j).length = sLen.getD j 0 ∧ ∀ k, k < 6 → k < sLen.getD j 0 → sCh j k = (sTx j).getD k 0 ∧ sCh j k < 128 := by decide +kernel
def skS (inp cs : List Nat) (a : Nat) (ok : Bool) : Nat × Bool := if ok = true then skp inp cs a else (a, false)
theorem skS_end {inp : List Nat} {a : Nat} {ok : Bool} : skS inp [] a ok = (a, ok) := by cases ok <;> rfl
theorem skS_f {inp cs : List Nat} {a : Nat} : skS inp cs a false = (a, false) := rfl
theorem drop_s {l : List Nat} {k : Nat} (h : k < l.length) : l.drop k = l.getD k 0 :: l.drop (k + 1) := by
  rw [List.drop_eq_getElem_cons h, List.getD_eq_getElem?_getD, List.getElem?_eq_getElem h]; rfl
theorem skS_t {inp l : List Nat} {a k : Nat} (h : k < l.length) (hc : inp[a]? = some (l.getD k 0)) : skS inp (l.drop k) a true = skS inp (l.drop (k + 1)) (a + 1) true := by
  rw [drop_s h]; show (if inp[a]? = some (l.getD k 0) then skp inp (l.drop (k + 1)) (a + 1) else (a, false)) = _; rw [if_pos hc]; rfl
theorem skS_n {inp l : List Nat} {a k : Nat} (h : k < l.length) (hc : ¬ inp[a]? = some (l.getD k 0)) : skS inp (l.drop k) a true = (a, false) := by
  rw [drop_s h]; show (if inp[a]? = some (l.getD k 0) then skp inp (l.drop (k + 1)) (a + 1) else (a, false)) = _; rw [if_neg hc]
/-- a blank and a number, when all went well so far -/
def nuS (inp : List Nat) (most a : Nat) (ok : Bool) : Nat × Bool × Nat := if ok = true then (match (num inp most a).2 with | none => ((num inp most a).1, false, 0) | some n => ((num inp most a).1, true, n)) else (a, false, 0)
theorem skp_le {inp : List Nat} : ∀ {cs : List Nat} {a : Nat}, a ≤ inp.length → (skp inp cs a).1 ≤ inp.length
  | [], _, h => h
  | c :: cs, a, h => by
    show (if inp[a]? = some c then skp inp cs (a + 1) else (a, false)).1 ≤ _
    by_cases e : inp[a]? = some c
    · rw [if_pos e]
      have : a < inp.length := (List.getElem?_eq_some_iff.mp e).1
      exact skp_le this
    · rw [if_neg e]; exact h
theorem skS_le {inp cs : List Nat} {a : Nat} {ok : Bool} (h : a ≤ inp.length) : (skS inp cs a ok).1 ≤ inp.length := by
  cases ok
  · exact h
  · exact skp_le h
theorem rdD_none {inp : List Nat} {m a v : Nat} (h : dgt inp a = none) : rdD inp m a v = (a, v) := by
  cases m with
  | zero => rfl
  | succ m => show (match dgt inp a with | none => (a, v) | some d => rdD inp m (a + 1) (10 * v + d)) = _; rw [h]
theorem rdD_some {inp : List Nat} {m a v d : Nat} (h : dgt inp a = some d) : rdD inp (m + 1) a v = rdD inp m (a + 1) (10 * v + d) := by
  show (match dgt inp a with | none => (a, v) | some d => rdD inp m (a + 1) (10 * v + d)) = _; rw [h]
theorem rdD_le {inp : List Nat} : ∀ {m a v : Nat}, a ≤ inp.length → (rdD inp m a v).1 ≤ inp.length
  | 0, _, _, h => h
  | m + 1, a, v, h => by
    cases e : dgt inp a with
    | none => rw [rdD_none e]; exact h
    | some d =>
      rw [rdD_some e]
      exact rdD_le (by have := (dgt_some e).1; omega)
theorem rdD_lt {inp : List Nat} : ∀ {m a v : Nat} (q : Nat), v < 10 ^ q → (rdD inp m a v).2 < 10 ^ (q + m)
  | 0, _, _, q, h => h
  | m + 1, a, v, q, h => by
    cases e : dgt inp a with
    | none => rw [rdD_none e]; exact Nat.lt_of_lt_of_le h (Nat.pow_le_pow_right (by omega) (by omega))
    | some d =>
      rw [rdD_some e]
      have := (dgt_some e).2.2
      have h2 := rdD_lt (inp := inp) (m := m) (a := a + 1) (v := 10 * v + d) (q + 1) (by rw [Nat.pow_succ]; omega)
      rw [show q + 1 + m = q + (m + 1) by omega] at h2
      exact h2
theorem PS.b {v : Nat → Int32} {F : Nat → Nat → Int32} {inp : List Nat} {a : Nat} {ok : Bool} (h : PS v F inp a ok) : ∀ k, k < inp.length → inp.getD k 0 < 65536 := fun k hk => (h.1.2.2 k hk).2
theorem PS.a {v : Nat → Int32} {F : Nat → Nat → Int32} {inp : List Nat} {a a' : Nat} {ok : Bool} (h : PS v F inp a ok) : PS (vU v 11 (nI a')) F inp a' ok := ⟨⟨(vU_n (by decide)).trans h.1.1, h.1.2⟩, vU_s, (vU_n (by decide)).trans h.2.2⟩
theorem PS.w {v : Nat → Int32} {F : Nat → Nat → Int32} {inp : List Nat} {a : Nat} {ok ok' : Bool} {x : Int32} (h : PS v F inp a ok) (hx : x = wI ok') : PS (vU v 12 x) F inp a ok' := ⟨⟨(vU_n (by decide)).trans h.1.1, h.1.2⟩, (vU_n (by decide)).trans h.2.1, by rw [hx]; exact vU_s⟩
