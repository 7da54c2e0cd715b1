/-! PURE: leaving a queue, outcomes -/
section UPS3
variable {σ : St} {f f' : Nat → Int32} {g i k x y z n s : Nat}
theorem upd_same {j : Nat} {X : Int32} (h : f j = X) : upd f i X j = X := by
  by_cases e : j = i
  · rw [upd_e e]
  · rw [upd_n e, h]
def lvL (q : List Nat) (g k : Nat) : List Nat := (q.take k).filter (· != g)
theorem lvL_le {q : List Nat} : (lvL q g k).length ≤ k := Nat.le_trans (List.length_filter_le ..) (List.length_take_le ..)
theorem lvL_s {q : List Nat} (hk : k < q.length) : lvL q g (k + 1) = if q.getD k 0 = g then lvL q g k else lvL q g k ++ [q.getD k 0] := by
  have e : q.getD k 0 = q[k] := by rw [List.getD_eq_getElem?_getD, List.getElem?_eq_getElem hk]; rfl
  unfold lvL
  rw [← List.take_append_getElem hk, List.filter_append, e]
  by_cases h : q[k] = g
  · rw [if_pos h]; simp [h]
  · rw [if_neg h]; simp [h]
theorem lvL_end {q : List Nat} (hq : q.Nodup) (hk : k = q.length) : lvL q g k = q.erase g := by
  subst hk
  unfold lvL
  rw [List.take_length, hq.erase_eq_filter]
def LI (f : Nat → Int32) (q : List Nat) (z g k : Nat) (fk : Nat → Int32) : Prop := k ≤ q.length ∧ (∀ j, (j < z ∨ z + k ≤ j) → fk j = f j) ∧ ∀ j, j < (lvL q g k).length → fk (z + j) = nI ((lvL q g k).getD j 0)
theorem LI_0 {q : List Nat} : LI f q z g 0 f := ⟨Nat.zero_le _, fun _ _ => rfl, fun j hj => absurd hj (by unfold lvL; simp)⟩
theorem LI_s {q : List Nat} {fk : Nat → Int32} (h : LI f q z g k fk) (hk : k < q.length) : LI f q z g (k + 1) (upd fk (z + (lvL q g k).length) (nI (q.getD k 0))) := by
  have hl := lvL_le (q := q) (g := g) (k := k)
  refine ⟨hk, fun j hj => ?_, fun j hj => ?_⟩
  · rw [upd_n (by omega)]; exact h.2.1 j (by omega)
  · rw [lvL_s hk] at hj ⊢
    by_cases e : q.getD k 0 = g
    · rw [if_pos e] at hj ⊢
      rw [upd_n (by omega)]
      exact h.2.2 j hj
    · rw [if_neg e] at hj ⊢
      rw [List.length_append, List.length_singleton] at hj
      rw [getD_app]
      by_cases e2 : j = (lvL q g k).length
      · rw [if_pos e2, upd_e (by omega)]
      · rw [if_neg e2, upd_n (by omega)]
        exact h.2.2 j (by omega)
theorem wai_new (hB : Bd σ) : wai σ (nG σ) = 0 := wai_no (fun j hj hm => Nat.lt_irrefl _ (hB.2.2.1 j hj _ hm))
/-- an op's outcome at the reference: numbers of the state, what is thrown -/
abbrev DO (Ω : Om) (h : RH) (a : Nat) (ad : Nat → Nat) (v : Nat → Int32) (F : Nat → Nat → Int32) (f : Nat → Int32) (R : Res) : Option Value → Heap → Prop := QV (fun _ : {f' : Nat → Int32 // rM R f f'} => some (.int (rI R))) (fun f' => hR Ω (mW Ω h a ad (rV R v) (FU F 0 f'.1)))
end UPS3
