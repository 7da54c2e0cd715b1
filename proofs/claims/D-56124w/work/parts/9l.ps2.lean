/-! PARSER of the class: which word, and the numbers after it (pure) -/
def kwJ (k : Int32) : Nat := if k = nI 103 then 0 else if k = nI 98 then 1 else if k = nI 99 then 2 else if k = nI 113 then 3 else if k = nI 108 then 4 else if k = nI 119 then 5 else 6
def isK2 (x : Int32) : Prop := x = nI 98 ∨ x = nI 99 ∨ x = nI 103 ∨ x = nI 108 ∨ x = nI 113 ∨ x = nI 119
theorem kwJ_d {k : Int32} (h : ¬ isK2 k) : kwJ k = 6 := by
  unfold isK2 at h
  unfold kwJ
  rw [if_neg (fun e => h (by simp [show k = _ from e])), if_neg (fun e => h (by simp [show k = _ from e])), if_neg (fun e => h (by simp [show k = _ from e])), if_neg (fun e => h (by simp [show k = _ from e])), if_neg (fun e => h (by simp [show k = _ from e])), if_neg (fun e => h (by simp [show k = _ from e]))]
theorem kwJ_lt {k : Int32} : kwJ k < 7 := by
  unfold kwJ
  (repeat' split) <;> decide
theorem lk_d2 {x : Int32} (d : Int) (a b c e f g : Int) (h : ¬ isK2 x) : Op.lookupswitch.offset [(98, a), (99, b), (103, c), (108, e), (113, f), (119, g)] d x.toInt = d := by
  have hne : ∀ k : Nat, k < 2 ^ 31 → x ≠ nI k → ¬ ((k : Int) = x.toInt) := fun k hk hx he => hx (by rw [← Int32.toInt_inj, nI_toInt hk, he])
  unfold isK2 at h
  have h1 := hne 98 (by decide) (fun e => h (Or.inl e))
  have h2 := hne 99 (by decide) (fun e => h (Or.inr (Or.inl e)))
  have h3 := hne 103 (by decide) (fun e => h (Or.inr (Or.inr (Or.inl e))))
  have h4 := hne 108 (by decide) (fun e => h (Or.inr (Or.inr (Or.inr (Or.inl e)))))
  have h5 := hne 113 (by decide) (fun e => h (Or.inr (Or.inr (Or.inr (Or.inr (Or.inl e))))))
  have h6 := hne 119 (by decide) (fun e => h (Or.inr (Or.inr (Or.inr (Or.inr (Or.inr e))))))
  generalize x.toInt = y at *
  simp only [Op.lookupswitch.offset, List.find?]
  have g1 : ¬ (98 : Int) = y := h1
  have g2 : ¬ (99 : Int) = y := h2
  have g3 : ¬ (103 : Int) = y := h3
  have g4 : ¬ (108 : Int) = y := h4
  have g5 : ¬ (113 : Int) = y := h5
  have g6 : ¬ (119 : Int) = y := h6
  simp [g1, g2, g3, g4, g5, g6]
/-- the numbers after the word j -/
def rdJ (inp : List Nat) (j a : Nat) : Rd :=
  if j = 1 then ((( nuS inp 4 (nuS inp 1 (nuS inp 1 a true).1 (nuS inp 1 a true).2.1).1 (nuS inp 1 (nuS inp 1 a true).1 (nuS inp 1 a true).2.1).2.1).1, (nuS inp 4 (nuS inp 1 (nuS inp 1 a true).1 (nuS inp 1 a true).2.1).1 (nuS inp 1 (nuS inp 1 a true).1 (nuS inp 1 a true).2.1).2.1).2.1), (nuS inp 1 a true).2.2, (nuS inp 1 (nuS inp 1 a true).1 (nuS inp 1 a true).2.1).2.2, (nuS inp 4 (nuS inp 1 (nuS inp 1 a true).1 (nuS inp 1 a true).2.1).1 (nuS inp 1 (nuS inp 1 a true).1 (nuS inp 1 a true).2.1).2.1).2.2)
  else if j = 2 then (((nuS inp 2 a true).1, (nuS inp 2 a true).2.1), (nuS inp 2 a true).2.2, 0, 0)
  else if j = 4 then (((nuS inp 1 a true).1, (nuS inp 1 a true).2.1), (nuS inp 1 a true).2.2, 0, 0)
  else if j = 5 then (if inp[a]? = some 32 then (((nuS inp 2 a true).1, (nuS inp 2 a true).2.1), (nuS inp 2 a true).2.2, 0, 0) else ((a, true), 1, 0, 0))
  else if j = 0 then ((a, true), 0, 0, 0)
  else (((nuS inp 1 (nuS inp 1 a true).1 (nuS inp 1 a true).2.1).1, (nuS inp 1 (nuS inp 1 a true).1 (nuS inp 1 a true).2.1).2.1), (nuS inp 1 a true).2.2, (nuS inp 1 (nuS inp 1 a true).1 (nuS inp 1 a true).2.1).2.2, 0)
theorem nuS_y {inp : List Nat} {most a b v : Nat} (h : num inp most a = (b, some v)) : nuS inp most a true = (b, true, v) := by unfold nuS; rw [if_pos rfl, h]
theorem nuS_n {inp : List Nat} {most a : Nat} (h : (num inp most a).2 = none) : nuS inp most a true = ((num inp most a).1, false, 0) := by unfold nuS; rw [if_pos rfl, h]
theorem nuS_f {inp : List Nat} {most a : Nat} : nuS inp most a false = (a, false, 0) := rfl
theorem skS_1 {inp : List Nat} {a j : Nat} (hj : j < 7) (h : ¬ inp[a]? = some ((sTx j).getD 0 0)) : skS inp (sTx j) a true = (a, false) :=
  skS_n (l := sTx j) (k := 0) (by have := sTx_pos j hj; omega) h
theorem skS_2 {inp : List Nat} {a b j : Nat} (hj : j < 7) (h : skS inp (sTx j) a true = (b, true)) : inp[a]? = some ((sTx j).getD 0 0) := Classical.byContradiction (fun g => by rw [skS_1 hj g] at h; simp at h)
theorem rdC_J {inp : List Nat} {a b : Nat} {ok : Bool} (hb : ∀ k, k < inp.length → inp.getD k 0 < 65536) (h : skS inp (sTx (kwJ (bh inp a))) a true = (b, ok)) : (ok = false → (rdC inp a).1 = (b, false)) ∧ (ok = true → rdC inp a = rdJ inp (kwJ (bh inp a)) b) := by
  have hlt : kwJ (bh inp a) < 7 := kwJ_lt
  by_cases hK : isK2 (bh inp a)
  · have go : ∀ {j n : Nat}, n < 65536 → bh inp a = nI n → kwJ (nI n) = j → (inp[a]? = some n → (skS inp (sTx j) a true = (b, ok)) → ((ok = false → (rdC inp a).1 = (b, false)) ∧ (ok = true → rdC inp a = rdJ inp j b))) → (ok = false → (rdC inp a).1 = (b, false)) ∧ (ok = true → rdC inp a = rdJ inp (kwJ (bh inp a)) b) := fun {j n} hn e1 e2 k => by
      rw [e1, e2] at h ⊢
      exact k ((bh_eq hb hn).mp e1) h
    rcases hK with e | e | e | e | e | e
    · refine go (j := 1) (by decide) e (by decide) (fun e1 e2 => ?_)
      unfold rdC
      rw [e1]
      dsimp only
      rw [if_neg (by decide), if_pos rfl, e2]
      exact ⟨fun g => by rw [g]; rfl, fun g => by rw [g]; rfl⟩
    · refine go (j := 2) (by decide) e (by decide) (fun e1 e2 => ?_)
      unfold rdC
      rw [e1]
      dsimp only
      rw [if_neg (by decide), if_neg (by decide), if_pos rfl, e2]
      exact ⟨fun g => by rw [g]; rfl, fun g => by rw [g]; rfl⟩
    · refine go (j := 0) (by decide) e (by decide) (fun e1 e2 => ?_)
      unfold rdC
      rw [e1]
      dsimp only
      rw [if_neg (by decide), if_neg (by decide), if_neg (by decide), if_neg (by decide), if_neg (by decide), e2]
      exact ⟨fun g => by rw [g], fun g => by rw [g]; rfl⟩
    · refine go (j := 4) (by decide) e (by decide) (fun e1 e2 => ?_)
      unfold rdC
      rw [e1]
      dsimp only
      rw [if_neg (by decide), if_neg (by decide), if_neg (by decide), if_pos rfl, e2]
      exact ⟨fun g => by rw [g]; rfl, fun g => by rw [g]; rfl⟩
    · refine go (j := 3) (by decide) e (by decide) (fun e1 e2 => ?_)
      unfold rdC
      rw [e1]
      dsimp only
      rw [if_pos (by decide), if_neg (by decide), e2]
      exact ⟨fun g => by rw [g]; rfl, fun g => by rw [g]; rfl⟩
    · refine go (j := 5) (by decide) e (by decide) (fun e1 e2 => ?_)
      unfold rdC
      rw [e1]
      dsimp only
      rw [if_neg (by decide), if_neg (by decide), if_neg (by decide), if_neg (by decide), if_pos rfl, e2]
      dsimp only
      refine ⟨fun g => by rw [g, if_neg (fun z => Bool.noConfusion z.1)], fun g => ?_⟩
      rw [g]
      have er : rdJ inp 5 b = (if inp[b]? = some 32 then (((nuS inp 2 b true).1, (nuS inp 2 b true).2.1), (nuS inp 2 b true).2.2, 0, 0) else ((b, true), 1, 0, 0)) := rfl
      rw [er]
      by_cases g2 : inp[b]? = some 32
      · rw [if_pos ⟨rfl, g2⟩, if_pos g2]
      · rw [if_neg (fun z => g2 z.2), if_neg g2]
  · have e6 := kwJ_d hK
    rw [e6] at h ⊢
    by_cases e : bh inp a = nI 115
    · have e1 := (bh_eq hb (by decide)).mp e
      unfold rdC
      rw [e1]
      dsimp only
      rw [if_pos (by decide), if_pos rfl, h]
      exact ⟨fun g => by rw [g]; rfl, fun g => by rw [g]; rfl⟩
    · have n1 : ¬ inp[a]? = some 115 := fun g => e (bh_some g)
      have n2 : ¬ inp[a]? = some 103 := fun g => hK (Or.inr (Or.inr (Or.inl (bh_some g))))
      have h1 := skS_1 (inp := inp) (a := a) (j := 6) (by decide) n1
      have h2 := skS_1 (inp := inp) (a := a) (j := 0) (by decide) n2
      rw [h1] at h
      have hb1 : a = b := congrArg Prod.fst h
      have hb2 : false = ok := congrArg Prod.snd h
      subst hb1
      subst hb2
      refine ⟨fun _ => ?_, fun g => Bool.noConfusion g⟩
      have hk1 : ¬ isK (bh inp a) := fun g => by
        rcases g with g | g | g | g | g | g
        · exact hK (Or.inl g)
        · exact hK (Or.inr (Or.inl g))
        · exact hK (Or.inr (Or.inr (Or.inr (Or.inl g))))
        · exact hK (Or.inr (Or.inr (Or.inr (Or.inr (Or.inl g)))))
        · exact e g
        · exact hK (Or.inr (Or.inr (Or.inr (Or.inr (Or.inr g)))))
      rw [rdC_d hk1]
      exact h2
/-- the parser's numbers, as far as the word j has some -/
def rlv (j : Nat) (m y : Nat × Nat × Nat) : Prop := (j ≠ 0 → y.1 = m.1) ∧ (j = 6 ∨ j = 3 ∨ j = 1 → y.2.1 = m.2.1) ∧ (j = 1 → y.2.2 = m.2.2)
