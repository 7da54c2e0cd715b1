/-! THE CLASS'S STATE: a State object at a, the addresses A of what it holds, its value σ; Γ0: the cells that are not its own -/
/-- containers: slides' list, guests' list, bookings' list, the Latest of finishes, its list; then slides (object, line, the line's list), guests, bookings, finishes -/
abbrev Ad : Type := (Nat × Nat × Nat × Nat × Nat) × List (Nat × Nat × Nat) × List Nat × List Nat × List Nat
abbrev qdS (A : Ad) : Nat := A.1.1
abbrev qdG (A : Ad) : Nat := A.1.2.1
abbrev qdB (A : Ad) : Nat := A.1.2.2.1
abbrev qdF (A : Ad) : Nat := A.1.2.2.2.1
abbrev qdL (A : Ad) : Nat := A.1.2.2.2.2
abbrev laS (A : Ad) : List (Nat × Nat × Nat) := A.2.1
abbrev laG (A : Ad) : List Nat := A.2.2.1
abbrev laB (A : Ad) : List Nat := A.2.2.2.1
abbrev laF (A : Ad) : List Nat := A.2.2.2.2
abbrev isO (Γ : LH) (q ci : Nat) (fs : List Value) : Prop := Γ q = some (.inl (.inr (ci, fs)))
abbrev isL (Γ0 Γ : LH) (q : Nat) (xs : List Nat) : Prop := (∃ m, Γ q = some (.inr (xs, m))) ∧ Γ0 q = none
abbrev stF (A : Ad) (σ : St) : List Value := [.ref (qdS A), .ref (qdG A), .ref (qdB A), .ref (qdF A), .int (nI (sM σ)), .int (sO σ), .int (sR σ), .int (sP σ)]
abbrev slF (x : Nat × Nat × Nat) (σ : St) (i : Nat) : List Value := [.int (nI (slD σ i)), .int (nI (slP σ i)), .ref x.2.1, .int (nI (slW σ i))]
abbrev guF (σ : St) (i : Nat) : List Value := [.int (nI (guC σ i)), .int (nI (guR σ i))]
abbrev boF (σ : St) (i : Nat) : List Value := [.int (nI (boG σ i)), .int (nI (boS σ i)), .int (nI (boT σ i)), .int (nI (boE σ i))]
abbrev fnF (σ : St) (i : Nat) : List Value := [.int (nI (fiG σ i)), .int (nI (fiS σ i)), .int (nI (fiM σ i))]
abbrev SR1 (Γ0 Γ : LH) (a : Nat) (A : Ad) (σ : St) : Prop := isO Γ a 1 (stF A σ) ∧ Γ0 a = none
abbrev SR2 (Γ0 Γ : LH) (A : Ad) : Prop := isL Γ0 Γ (qdS A) ((laS A).map (·.1)) ∧ isL Γ0 Γ (qdG A) (laG A) ∧ isL Γ0 Γ (qdB A) (laB A) ∧ isL Γ0 Γ (qdL A) (laF A) ∧ isO Γ (qdF A) 2 [.ref (qdL A), .int (nI 16)]
abbrev SR3 (Ω : Om) (Γ0 Γ : LH) (A : Ad) (σ : St) : Prop := (laS A).length = nS σ ∧ ∀ (i : Nat) (x : Nat × Nat × Nat), (laS A)[i]? = some x → (isO Γ x.1 6 (slF x σ i) ∧ Γ0 x.1 = none) ∧ isO Γ x.2.1 5 [.ref x.2.2] ∧ isL Γ0 Γ x.2.2 (iAd Ω (slQ σ i))
abbrev SR4 (Γ0 Γ : LH) (A : Ad) (σ : St) : Prop := (laG A).length = nG σ ∧ ∀ (i y : Nat), (laG A)[i]? = some y → isO Γ y 4 (guF σ i) ∧ Γ0 y = none
abbrev SR5 (Γ : LH) (A : Ad) (σ : St) : Prop := (laB A).length = nB σ ∧ ∀ (i y : Nat), (laB A)[i]? = some y → isO Γ y 7 (boF σ i)
abbrev SR6 (Γ : LH) (A : Ad) (σ : St) : Prop := (laF A).length = nF σ ∧ ∀ (i y : Nat), (laF A)[i]? = some y → isO Γ y 8 (fnF σ i)
abbrev SR7 (A : Ad) : Prop := (qdS A ≠ qdG A ∧ qdS A ≠ qdB A ∧ qdS A ≠ qdL A ∧ qdG A ≠ qdB A ∧ qdG A ≠ qdL A ∧ qdB A ≠ qdL A) ∧
  (∀ (i : Nat) (x : Nat × Nat × Nat), (laS A)[i]? = some x → x.2.2 ≠ qdS A ∧ x.2.2 ≠ qdG A ∧ x.2.2 ≠ qdB A ∧ x.2.2 ≠ qdL A) ∧
  (∀ (i j : Nat) (x y : Nat × Nat × Nat), (laS A)[i]? = some x → (laS A)[j]? = some y → (x.1 = y.1 ∨ x.2.2 = y.2.2) → i = j) ∧
  (∀ (i j y : Nat), (laG A)[i]? = some y → (laG A)[j]? = some y → i = j)
def SR (Ω : Om) (Γ0 Γ : LH) (a : Nat) (A : Ad) (σ : St) : Prop := SR1 Γ0 Γ a A σ ∧ SR2 Γ0 Γ A ∧ SR3 Ω Γ0 Γ A σ ∧ SR4 Γ0 Γ A σ ∧ SR5 Γ A σ ∧ SR6 Γ A σ ∧ SR7 A
/-- Γ has what Γ0 has -/
abbrev Ex (Γ0 Γ : LH) : Prop := ∀ q e, Γ0 q = some e → Γ q = some e
abbrev kpL (Γ Γ' : LH) : Prop := ∀ q v, Γ q = some (.inr v) → Γ' q = some (.inr v)
abbrev kpO (Γ Γ' : LH) (ci : Nat) : Prop := ∀ q fs, isO Γ q ci fs → isO Γ' q ci fs
section SR
variable {Ω : Om} {Γ0 Γ Γ' : LH} {a c q ci cj i j k : Nat} {A : Ad} {σ σ' : St} {fs gs : List Value} {xs : List Nat} {e : LE} {v : List Nat × Int32}
theorem isO_hu (h : isO Γ q ci fs) (hn : q ≠ c) : isO (hu Γ c e) q ci fs := (hu_n hn).trans h
theorem isL_hu (h : isL Γ0 Γ q xs) (hn : q ≠ c) : isL Γ0 (hu Γ c e) q xs := ⟨h.1.elim (fun m hm => ⟨m, (hu_n hn).trans hm⟩), h.2⟩
theorem neOO (h : isO Γ q ci fs) (h2 : isO Γ c cj gs) (hn : ci ≠ cj) : q ≠ c := fun e => by
  subst e; have h3 := Eq.trans (Eq.symm h) h2; simp at h3; exact hn h3.1
theorem neOL (h : isO Γ q ci fs) (h2 : Γ c = some (.inr v)) : q ≠ c := fun e => by
  subst e; have h3 := Eq.trans (Eq.symm h) h2; simp at h3
theorem neLO (h : Γ q = some (.inr v)) (h2 : isO Γ c cj gs) : q ≠ c := fun e => (neOL h2 h) e.symm
theorem neN (h : Γ q = some e) (h2 : Γ c = none) : q ≠ c := fun g => by subst g; rw [h] at h2; simp at h2
theorem kpO_O (h : isO Γ c cj gs) (hn : ci ≠ cj) : kpO Γ (hu Γ c e) ci := fun _ _ hq => isO_hu hq (neOO hq h hn)
theorem kpL_O (h : isO Γ c cj gs) : kpL Γ (hu Γ c e) := fun _ _ hq => (hu_n (neLO hq h)).trans hq
theorem kpO_L (h : Γ c = some (.inr v)) : kpO Γ (hu Γ c e) ci := fun _ _ hq => isO_hu hq (neOL hq h)
theorem isL_kp (h : isL Γ0 Γ q xs) (hk : kpL Γ Γ') : isL Γ0 Γ' q xs := ⟨h.1.elim (fun m hm => ⟨m, hk _ _ hm⟩), h.2⟩
theorem SR2.t (h : SR2 Γ0 Γ A) (hL : kpL Γ Γ') (hO : kpO Γ Γ' 2) : SR2 Γ0 Γ' A := ⟨isL_kp h.1 hL, isL_kp h.2.1 hL, isL_kp h.2.2.1 hL, isL_kp h.2.2.2.1 hL, hO _ _ h.2.2.2.2⟩
theorem SR3.t (h : SR3 Ω Γ0 Γ A σ) (hL : kpL Γ Γ') (h6 : kpO Γ Γ' 6) (h5 : kpO Γ Γ' 5) : SR3 Ω Γ0 Γ' A σ := ⟨h.1, fun i x hx => ⟨⟨h6 _ _ (h.2 i x hx).1.1, (h.2 i x hx).1.2⟩, h5 _ _ (h.2 i x hx).2.1, isL_kp (h.2 i x hx).2.2 hL⟩⟩
theorem SR4.t (h : SR4 Γ0 Γ A σ) (hO : kpO Γ Γ' 4) : SR4 Γ0 Γ' A σ := ⟨h.1, fun i x hx => ⟨hO _ _ (h.2 i x hx).1, (h.2 i x hx).2⟩⟩
theorem SR5.t (h : SR5 Γ A σ) (hO : kpO Γ Γ' 7) : SR5 Γ' A σ := ⟨h.1, fun i x hx => hO _ _ (h.2 i x hx)⟩
theorem SR6.t (h : SR6 Γ A σ) (hO : kpO Γ Γ' 8) : SR6 Γ' A σ := ⟨h.1, fun i x hx => hO _ _ (h.2 i x hx)⟩
/-- a heap that keeps lists and the class's objects -/
theorem SR.monoK (h : SR Ω Γ0 Γ a A σ) (hL : kpL Γ Γ') (hO : ∀ ci, ci = 1 ∨ ci = 2 ∨ ci = 4 ∨ ci = 5 ∨ ci = 6 ∨ ci = 7 ∨ ci = 8 → kpO Γ Γ' ci) : SR Ω Γ0 Γ' a A σ :=
  ⟨⟨hO 1 (by simp) _ _ h.1.1, h.1.2⟩, h.2.1.t hL (hO 2 (by simp)), h.2.2.1.t hL (hO 6 (by simp)) (hO 5 (by simp)), h.2.2.2.1.t (hO 4 (by simp)), h.2.2.2.2.1.t (hO 7 (by simp)), h.2.2.2.2.2.1.t (hO 8 (by simp)), h.2.2.2.2.2.2⟩
theorem SR.mono (h : SR Ω Γ0 Γ a A σ) (hE : Ex Γ Γ') : SR Ω Γ0 Γ' a A σ := h.monoK (fun _ _ hq => hE _ _ hq) (fun _ _ _ _ hq => hE _ _ hq)
theorem Ex.new (h : Γ c = none) : Ex Γ (hu Γ c e) := fun _ _ hq => (hu_n (neN hq h)).trans hq
theorem Ex.tr {Γ1 Γ2 Γ3 : LH} (h : Ex Γ1 Γ2) (h' : Ex Γ2 Γ3) : Ex Γ1 Γ3 := fun q e hq => h' q e (h q e hq)
theorem Ex.rf : Ex Γ Γ := fun _ _ h => h
/-- a cell that is not of Γ0 -/
theorem Ex.put (h : Ex Γ0 Γ) (hc : Γ0 c = none) : Ex Γ0 (hu Γ c e) := fun _ _ hq => (hu_n (neN hq hc)).trans (h _ _ hq)
theorem Ex.no (h : Ex Γ0 Γ) (hc : Γ c = none) : Γ0 c = none := by
  cases h0 : Γ0 c with
  | none => rfl
  | some e => rw [h _ _ h0] at hc; simp at hc
theorem SR.new (h : SR Ω Γ0 Γ a A σ) (hc : Γ c = none) : SR Ω Γ0 (hu Γ c e) a A σ := h.mono (Ex.new hc)
theorem SR.base {Γ1 : LH} (h : SR Ω Γ0 Γ a A σ) (hb : ∀ q, Γ0 q = none → Γ1 q = none) : SR Ω Γ1 Γ a A σ :=
  ⟨⟨h.1.1, hb _ h.1.2⟩, ⟨⟨h.2.1.1.1, hb _ h.2.1.1.2⟩, ⟨h.2.1.2.1.1, hb _ h.2.1.2.1.2⟩, ⟨h.2.1.2.2.1.1, hb _ h.2.1.2.2.1.2⟩, ⟨h.2.1.2.2.2.1.1, hb _ h.2.1.2.2.2.1.2⟩, h.2.1.2.2.2.2⟩,
    ⟨h.2.2.1.1, fun i x hx => ⟨⟨(h.2.2.1.2 i x hx).1.1, hb _ (h.2.2.1.2 i x hx).1.2⟩, (h.2.2.1.2 i x hx).2.1, (h.2.2.1.2 i x hx).2.2.1, hb _ (h.2.2.1.2 i x hx).2.2.2⟩⟩,
    ⟨h.2.2.2.1.1, fun i x hx => ⟨(h.2.2.2.1.2 i x hx).1, hb _ (h.2.2.2.1.2 i x hx).2⟩⟩, h.2.2.2.2⟩
/-- a list that is not its own -/
theorem SR.lst (h : SR Ω Γ0 Γ a A σ) (hc : Γ c = some (.inr v)) (h0 : Γ0 c ≠ none) : SR Ω Γ0 (hu Γ c e) a A σ := by
  have hl : ∀ q xs, isL Γ0 Γ q xs → isL Γ0 (hu Γ c e) q xs := fun q xs hq => isL_hu hq (fun g => h0 (by rw [← g]; exact hq.2))
  exact ⟨⟨kpO_L hc _ _ h.1.1, h.1.2⟩, ⟨hl _ _ h.2.1.1, hl _ _ h.2.1.2.1, hl _ _ h.2.1.2.2.1, hl _ _ h.2.1.2.2.2.1, kpO_L hc _ _ h.2.1.2.2.2.2⟩,
    ⟨h.2.2.1.1, fun i x hx => ⟨⟨kpO_L hc _ _ (h.2.2.1.2 i x hx).1.1, (h.2.2.1.2 i x hx).1.2⟩, kpO_L hc _ _ (h.2.2.1.2 i x hx).2.1, hl _ _ (h.2.2.1.2 i x hx).2.2⟩⟩, h.2.2.2.1.t (kpO_L hc), h.2.2.2.2.1.t (kpO_L hc), h.2.2.2.2.2.1.t (kpO_L hc), h.2.2.2.2.2.2⟩
/-! reading -/
theorem SR.st (h : SR Ω Γ0 Γ a A σ) : Γ a = some (.inl (.inr (1, stF A σ))) := h.1.1
theorem SR.lS (h : SR Ω Γ0 Γ a A σ) : ∃ m, Γ (qdS A) = some (.inr ((laS A).map (·.1), m)) := h.2.1.1.1
theorem SR.lG (h : SR Ω Γ0 Γ a A σ) : ∃ m, Γ (qdG A) = some (.inr (laG A, m)) := h.2.1.2.1.1
theorem SR.lB (h : SR Ω Γ0 Γ a A σ) : ∃ m, Γ (qdB A) = some (.inr (laB A, m)) := h.2.1.2.2.1.1
theorem SR.lL (h : SR Ω Γ0 Γ a A σ) : ∃ m, Γ (qdL A) = some (.inr (laF A, m)) := h.2.1.2.2.2.1.1
theorem SR.lF (h : SR Ω Γ0 Γ a A σ) : Γ (qdF A) = some (.inl (.inr (2, [.ref (qdL A), .int (nI 16)]))) := h.2.1.2.2.2.2
theorem SR.cS (h : SR Ω Γ0 Γ a A σ) : (laS A).length = nS σ := h.2.2.1.1
theorem SR.cS2 (h : SR Ω Γ0 Γ a A σ) : ((laS A).map (·.1)).length = nS σ := (List.length_map ..).trans h.2.2.1.1
theorem SR.cG (h : SR Ω Γ0 Γ a A σ) : (laG A).length = nG σ := h.2.2.2.1.1
theorem SR.cB (h : SR Ω Γ0 Γ a A σ) : (laB A).length = nB σ := h.2.2.2.2.1.1
theorem SR.cF (h : SR Ω Γ0 Γ a A σ) : (laF A).length = nF σ := h.2.2.2.2.2.1.1
theorem SR.sl (h : SR Ω Γ0 Γ a A σ) (hi : i < nS σ) : ∃ x, (laS A)[i]? = some x ∧ ((laS A).map (·.1))[i]? = some x.1 ∧ isO Γ x.1 6 (slF x σ i) ∧ isO Γ x.2.1 5 [.ref x.2.2] ∧ ∃ m, Γ x.2.2 = some (.inr (iAd Ω (slQ σ i), m)) := by
  have hl : i < (laS A).length := by rw [h.cS]; exact hi
  have hx : (laS A)[i]? = some (laS A)[i] := List.getElem?_eq_getElem hl
  have g := h.2.2.1.2 i _ hx
  exact ⟨_, hx, by rw [List.getElem?_map, hx]; rfl, g.1.1, g.2.1, g.2.2.1⟩
theorem SR.gu (h : SR Ω Γ0 Γ a A σ) (hi : i < nG σ) : ∃ y, (laG A)[i]? = some y ∧ isO Γ y 4 (guF σ i) := by
  have hl : i < (laG A).length := by rw [h.cG]; exact hi
  exact ⟨_, List.getElem?_eq_getElem hl, (h.2.2.2.1.2 i _ (List.getElem?_eq_getElem hl)).1⟩
theorem SR.bo (h : SR Ω Γ0 Γ a A σ) (hi : i < nB σ) : ∃ y, (laB A)[i]? = some y ∧ isO Γ y 7 (boF σ i) := by
  have hl : i < (laB A).length := by rw [h.cB]; exact hi
  exact ⟨_, List.getElem?_eq_getElem hl, h.2.2.2.2.1.2 i _ (List.getElem?_eq_getElem hl)⟩
theorem SR.fi (h : SR Ω Γ0 Γ a A σ) (hi : i < nF σ) : ∃ y, (laF A)[i]? = some y ∧ isO Γ y 8 (fnF σ i) := by
  have hl : i < (laF A).length := by rw [h.cF]; exact hi
  exact ⟨_, List.getElem?_eq_getElem hl, h.2.2.2.2.2.1.2 i _ (List.getElem?_eq_getElem hl)⟩
theorem mem_ix {α : Type} {l : List α} {z : α} (h : z ∈ l) : ∃ i : Nat, l[i]? = some z := List.getElem?_of_mem h
theorem SR.eS (h : SR Ω Γ0 Γ a A σ) : ∀ z ∈ (laS A).map (·.1), okE Ω Γ z := fun z hz => by
  obtain ⟨x, hx, e⟩ := List.mem_map.mp hz
  obtain ⟨i, hi⟩ := mem_ix hx
  exact Or.inl ⟨6, _, by rw [← e]; exact (h.2.2.1.2 i x hi).1.1, by simp⟩
theorem SR.eG (h : SR Ω Γ0 Γ a A σ) : ∀ z ∈ laG A, okE Ω Γ z := fun z hz => by
  obtain ⟨i, hi⟩ := mem_ix hz
  exact Or.inl ⟨4, _, (h.2.2.2.1.2 i z hi).1, by simp⟩
theorem SR.eB (h : SR Ω Γ0 Γ a A σ) : ∀ z ∈ laB A, okE Ω Γ z := fun z hz => by
  obtain ⟨i, hi⟩ := mem_ix hz
  exact Or.inl ⟨7, _, h.2.2.2.2.1.2 i z hi, by simp⟩
theorem SR.eF (h : SR Ω Γ0 Γ a A σ) : ∀ z ∈ laF A, okE Ω Γ z := fun z hz => by
  obtain ⟨i, hi⟩ := mem_ix hz
  exact Or.inl ⟨8, _, h.2.2.2.2.2.1.2 i z hi, by simp⟩
end SR
