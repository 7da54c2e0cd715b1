/-! THE CLASS'S STATE: what changes it -/
section SR2U
variable {Ω : Om} {Γ0 Γ Γ' : LH} {a c q ci cj i j k g s : Nat} {A : Ad} {σ σ' : St} {fs gs : List Value} {xs : List Nat} {e : LE} {v : List Nat × Int32} {m : Int32}
theorem app_or {α : Type} {l : List α} {y z : α} {i : Nat} (h : (l ++ [y])[i]? = some z) : (i < l.length ∧ l[i]? = some z) ∨ (i = l.length ∧ y = z) := by
  rcases Nat.lt_or_ge i l.length with g | g
  · rw [List.getElem?_append_left g] at h; exact Or.inl ⟨g, h⟩
  · have h1 := (List.getElem?_eq_some_iff.mp h).1
    rw [List.length_append, List.length_singleton] at h1
    have e : i = l.length := by omega
    subst e
    rw [List.getElem?_append_right (Nat.le_refl _), Nat.sub_self] at h
    exact Or.inr ⟨rfl, by simpa using h⟩
theorem app_inj {l : List Nat} {y z : Nat} {i j : Nat} (hd : ∀ (i j y : Nat), l[i]? = some y → l[j]? = some y → i = j) (hn : y ∉ l) (hi : (l ++ [y])[i]? = some z) (hj : (l ++ [y])[j]? = some z) : i = j := by
  rcases app_or hi with ⟨a1, a2⟩ | ⟨a1, a2⟩ <;> rcases app_or hj with ⟨b1, b2⟩ | ⟨b1, b2⟩
  · exact hd i j z a2 b2
  · exact absurd (List.mem_of_getElem? a2) (by rw [← b2]; exact hn)
  · exact absurd (List.mem_of_getElem? b2) (by rw [← a2]; exact hn)
  · rw [a1, b1]
/-- its own numbers -/
theorem SR.setN (h : SR Ω Γ0 Γ a A σ) (e1 : sS σ' = sS σ) (e2 : sG σ' = sG σ) (e3 : sB σ' = sB σ) (e4 : sF σ' = sF σ) : SR Ω Γ0 (hu Γ a (.inl (.inr (1, stF A σ')))) a A σ' := by
  obtain ⟨x1, x2, x3, x4, x5⟩ := σ
  obtain ⟨y1, y2, y3, y4, y5⟩ := σ'
  have e1 : y1 = x1 := e1
  have e2 : y2 = x2 := e2
  have e3 : y3 = x3 := e3
  have e4 : y4 = x4 := e4
  subst e1 e2 e3 e4
  exact ⟨⟨hu_s _ _ _, h.1.2⟩, h.2.1.t (kpL_O h.1.1) (kpO_O h.1.1 (by decide)), h.2.2.1.t (kpL_O h.1.1) (kpO_O h.1.1 (by decide)) (kpO_O h.1.1 (by decide)), h.2.2.2.1.t (kpO_O h.1.1 (by decide)), h.2.2.2.2.1.t (kpO_O h.1.1 (by decide)), h.2.2.2.2.2.1.t (kpO_O h.1.1 (by decide)), h.2.2.2.2.2.2⟩
/-- a guest -/
theorem SR.setG {y x r : Nat} (h : SR Ω Γ0 Γ a A σ) (hy : (laG A)[g]? = some y) : SR Ω Γ0 (hu Γ y (.inl (.inr (4, [.int (nI x), .int (nI r)])))) a A (uG σ ((sG σ).set g (x, r))) := by
  have ho := h.2.2.2.1.2 g y hy
  have hg : g < nG σ := by rw [← h.2.2.2.1.1]; exact (List.getElem?_eq_some_iff.mp hy).1
  refine ⟨⟨kpO_O ho.1 (by decide) _ _ h.1.1, h.1.2⟩, h.2.1.t (kpL_O ho.1) (kpO_O ho.1 (by decide)), h.2.2.1.t (kpL_O ho.1) (kpO_O ho.1 (by decide)) (kpO_O ho.1 (by decide)), ⟨by rw [nG_set]; exact h.2.2.2.1.1, fun i z hz => ?_⟩, h.2.2.2.2.1.t (kpO_O ho.1 (by decide)), h.2.2.2.2.2.1.t (kpO_O ho.1 (by decide)), h.2.2.2.2.2.2⟩
  have hz1 := h.2.2.2.1.2 i z hz
  refine ⟨?_, hz1.2⟩
  unfold guF
  rw [guC_set hg, guR_set hg]
  by_cases e : i = g
  · subst e
    rw [hy] at hz
    cases hz
    rw [if_pos rfl, if_pos rfl]
    exact hu_s _ _ _
  · rw [if_neg e, if_neg e]
    exact isO_hu hz1.1 (fun f => e (h.2.2.2.2.2.2.2.2.2 i g y (by rw [← f]; exact hz) hy))
theorem slD_uS {b : SlT} (hs : s < nS σ) : slD (uS σ ((sS σ).set s b)) i = if i = s then b.1 else slD σ i := by
  unfold slD; rw [slSet hs]; split <;> rfl
theorem slP_uS {b : SlT} (hs : s < nS σ) : slP (uS σ ((sS σ).set s b)) i = if i = s then b.2.1 else slP σ i := by
  unfold slP; rw [slSet hs]; split <;> rfl
theorem slW_uS {b : SlT} (hs : s < nS σ) : slW (uS σ ((sS σ).set s b)) i = if i = s then b.2.2.1 else slW σ i := by
  unfold slW; rw [slSet hs]; split <;> rfl
theorem slQ_uS {b : SlT} (hs : s < nS σ) : slQ (uS σ ((sS σ).set s b)) i = if i = s then b.2.2.2 else slQ σ i := by
  unfold slQ; rw [slSet hs]; split <;> rfl
theorem SR.sn (h : SR Ω Γ0 Γ a A σ) {x : Nat × Nat × Nat} (hx : (laS A)[s]? = some x) : s < nS σ := by rw [← h.2.2.1.1]; exact (List.getElem?_eq_some_iff.mp hx).1
/-- the bookings see only the slides' durations -/
theorem SR5.d (h : SR5 Γ A σ) (hB : sB σ' = sB σ) (hD : ∀ i, slD σ' i = slD σ i) : SR5 Γ A σ' := by
  have e1 : ∀ i, boG σ' i = boG σ i := fun i => by unfold boG; rw [hB]
  have e2 : ∀ i, boS σ' i = boS σ i := fun i => by unfold boS; rw [hB]
  have e3 : ∀ i, boT σ' i = boT σ i := fun i => by unfold boT; rw [hB]
  have e4 : ∀ i, boE σ' i = boE σ i := fun i => by unfold boE; rw [e3, e2, hD]
  refine ⟨by unfold nB; rw [hB]; exact h.1, fun i y hy => ?_⟩
  unfold boF
  rw [e1, e2, e3, e4]
  exact h.2 i y hy
/-- a slide's wetness -/
theorem SR.setW {x : Nat × Nat × Nat} {w : Nat} (h : SR Ω Γ0 Γ a A σ) (hx : (laS A)[s]? = some x) : SR Ω Γ0 (hu Γ x.1 (.inl (.inr (6, [.int (nI (slD σ s)), .int (nI (slP σ s)), .ref x.2.1, .int (nI w)])))) a A (aWet σ s w) := by
  have hs := h.sn hx
  have ho := h.2.2.1.2 s x hx
  refine ⟨⟨kpO_O ho.1.1 (by decide) _ _ h.1.1, h.1.2⟩, h.2.1.t (kpL_O ho.1.1) (kpO_O ho.1.1 (by decide)), ⟨by unfold aWet; rw [nS_set]; exact h.2.2.1.1, fun i z hz => ?_⟩, h.2.2.2.1.t (kpO_O ho.1.1 (by decide)), (h.2.2.2.2.1.t (kpO_O ho.1.1 (by decide))).d rfl (fun i => slD_wet hs), h.2.2.2.2.2.1.t (kpO_O ho.1.1 (by decide)), h.2.2.2.2.2.2⟩
  have hz1 := h.2.2.1.2 i z hz
  refine ⟨⟨?_, hz1.1.2⟩, kpO_O ho.1.1 (by decide) _ _ hz1.2.1, ?_⟩
  · unfold slF aWet
    rw [slD_uS hs, slP_uS hs, slW_uS hs]
    by_cases e : i = s
    · subst e
      rw [hx] at hz
      cases hz
      rw [if_pos rfl, if_pos rfl, if_pos rfl]
      exact hu_s _ _ _
    · rw [if_neg e, if_neg e, if_neg e]
      exact isO_hu hz1.1.1 (fun f => e (h.2.2.2.2.2.2.2.2.1 i s z x hz hx (Or.inl f)))
  · have e2 : slQ (aWet σ s w) i = slQ σ i := by
      unfold aWet
      rw [slQ_uS hs]
      by_cases e : i = s
      · rw [if_pos e, e]
      · rw [if_neg e]
    rw [e2]
    exact isL_kp hz1.2.2 (kpL_O ho.1.1)
theorem SR2.l (h : SR2 Γ0 Γ A) (hc : Γ c = some (.inr v)) (n1 : c ≠ qdS A) (n2 : c ≠ qdG A) (n3 : c ≠ qdB A) (n4 : c ≠ qdL A) : SR2 Γ0 (hu Γ c e) A :=
  ⟨isL_hu h.1 n1.symm, isL_hu h.2.1 n2.symm, isL_hu h.2.2.1 n3.symm, isL_hu h.2.2.2.1 n4.symm, kpO_L hc _ _ h.2.2.2.2⟩
/-- a slide's queue -/
theorem SR.setQ {x : Nat × Nat × Nat} {is : List Nat} (h : SR Ω Γ0 Γ a A σ) (hx : (laS A)[s]? = some x) : SR Ω Γ0 (hu Γ x.2.2 (.inr (iAd Ω is, m))) a A (aQue σ s is) := by
  have hs := h.sn hx
  have ho := h.2.2.1.2 s x hx
  obtain ⟨m0, hm⟩ := ho.2.2.1
  have hd := h.2.2.2.2.2.2.2.1 s x hx
  refine ⟨⟨kpO_L hm _ _ h.1.1, h.1.2⟩, h.2.1.l hm hd.1 hd.2.1 hd.2.2.1 hd.2.2.2, ⟨by unfold aQue; rw [nS_set]; exact h.2.2.1.1, fun i z hz => ?_⟩, h.2.2.2.1.t (kpO_L hm), (h.2.2.2.2.1.t (kpO_L hm)).d rfl (fun i => slD_que hs), h.2.2.2.2.2.1.t (kpO_L hm), h.2.2.2.2.2.2⟩
  have hz1 := h.2.2.1.2 i z hz
  refine ⟨⟨?_, hz1.1.2⟩, kpO_L hm _ _ hz1.2.1, ?_⟩
  · have e0 : slF z (aQue σ s is) i = slF z σ i := by
      unfold slF aQue
      rw [slD_uS hs, slP_uS hs, slW_uS hs]
      by_cases e : i = s
      · rw [if_pos e, if_pos e, if_pos e, e]
      · rw [if_neg e, if_neg e, if_neg e]
    rw [e0]
    exact kpO_L hm _ _ hz1.1.1
  · unfold aQue
    rw [slQ_uS hs]
    by_cases e : i = s
    · subst e
      rw [hx] at hz
      cases hz
      rw [if_pos rfl]
      exact ⟨⟨m, hu_s _ _ _⟩, hz1.2.2.2⟩
    · rw [if_neg e]
      exact isL_hu hz1.2.2 (fun f => e (h.2.2.2.2.2.2.2.2.1 i s z x hz hx (Or.inr f)))
theorem SR3.l (h : SR3 Ω Γ0 Γ A σ) (hc : Γ c = some (.inr v)) (hn : ∀ (i : Nat) (x : Nat × Nat × Nat), (laS A)[i]? = some x → x.2.2 ≠ c) : SR3 Ω Γ0 (hu Γ c e) A σ :=
  ⟨h.1, fun i x hx => ⟨⟨kpO_L hc _ _ (h.2 i x hx).1.1, (h.2 i x hx).1.2⟩, kpO_L hc _ _ (h.2 i x hx).2.1, isL_hu (h.2 i x hx).2.2 (hn i x hx)⟩⟩
abbrev adrB (A : Ad) (l : List Nat) : Ad := (A.1, laS A, laG A, l, laF A)
abbrev adrF (A : Ad) (l : List Nat) : Ad := (A.1, laS A, laG A, laB A, l)
abbrev adrG (A : Ad) (l : List Nat) : Ad := (A.1, laS A, l, laB A, laF A)
abbrev adrS (A : Ad) (l : List (Nat × Nat × Nat)) : Ad := (A.1, l, laG A, laB A, laF A)
/-- the bookings' list -/
theorem SR.setB {ys : List Nat} {bs : List BoT} (h : SR Ω Γ0 Γ a A σ) (hl : ys.length = bs.length) (hb : ∀ (i y : Nat), ys[i]? = some y → isO Γ y 7 (boF (uB σ bs) i)) : SR Ω Γ0 (hu Γ (qdB A) (.inr (ys, m))) a (adrB A ys) (uB σ bs) := by
  obtain ⟨m0, hm⟩ := h.lB
  have hd := h.2.2.2.2.2.2
  have h2 := h.2.1
  exact ⟨⟨kpO_L hm _ _ h.1.1, h.1.2⟩, ⟨isL_hu h2.1 hd.1.2.1, isL_hu h2.2.1 hd.1.2.2.2.1, ⟨⟨m, hu_s _ _ _⟩, h2.2.2.1.2⟩, isL_hu h2.2.2.2.1 hd.1.2.2.2.2.2.symm, kpO_L hm _ _ h2.2.2.2.2⟩,
    h.2.2.1.l hm (fun i x hx => (hd.2.1 i x hx).2.2.1), h.2.2.2.1.t (kpO_L hm), ⟨hl, fun i y hy => kpO_L hm _ _ (hb i y hy)⟩, h.2.2.2.2.2.1.t (kpO_L hm), hd⟩
/-- the finishes' list -/
theorem SR.setF {ys : List Nat} {bs : List BoT} (h : SR Ω Γ0 Γ a A σ) (hl : ys.length = bs.length) (hb : ∀ (i y : Nat), ys[i]? = some y → isO Γ y 8 (fnF (uF σ bs) i)) : SR Ω Γ0 (hu Γ (qdL A) (.inr (ys, m))) a (adrF A ys) (uF σ bs) := by
  obtain ⟨m0, hm⟩ := h.lL
  have hd := h.2.2.2.2.2.2
  have h2 := h.2.1
  exact ⟨⟨kpO_L hm _ _ h.1.1, h.1.2⟩, ⟨isL_hu h2.1 hd.1.2.2.1, isL_hu h2.2.1 hd.1.2.2.2.2.1, isL_hu h2.2.2.1 hd.1.2.2.2.2.2, ⟨⟨m, hu_s _ _ _⟩, h2.2.2.2.1.2⟩, kpO_L hm _ _ h2.2.2.2.2⟩,
    h.2.2.1.l hm (fun i x hx => (hd.2.1 i x hx).2.2.2), h.2.2.2.1.t (kpO_L hm), h.2.2.2.2.1.t (kpO_L hm), ⟨hl, fun i y hy => kpO_L hm _ _ (hb i y hy)⟩, hd⟩
/-- one guest more -/
theorem SR.addG {y x r : Nat} (h : SR Ω Γ0 Γ a A σ) (hy : isO Γ y 4 [.int (nI x), .int (nI r)]) (h0 : Γ0 y = none) (hn : y ∉ laG A) : SR Ω Γ0 (hu Γ (qdG A) (.inr (laG A ++ [y], m))) a (adrG A (laG A ++ [y])) (uG σ (sG σ ++ [(x, r)])) := by
  obtain ⟨m0, hm⟩ := h.lG
  have hd := h.2.2.2.2.2.2
  have h2 := h.2.1
  have hlen := h.2.2.2.1.1
  refine ⟨⟨kpO_L hm _ _ h.1.1, h.1.2⟩, ⟨isL_hu h2.1 hd.1.1, ⟨⟨m, hu_s _ _ _⟩, h2.2.1.2⟩, isL_hu h2.2.2.1 hd.1.2.2.2.1.symm, isL_hu h2.2.2.2.1 hd.1.2.2.2.2.1.symm, kpO_L hm _ _ h2.2.2.2.2⟩,
    h.2.2.1.l hm (fun i x hx => (hd.2.1 i x hx).2.1), ⟨?_, fun i z hz => ?_⟩, h.2.2.2.2.1.t (kpO_L hm), h.2.2.2.2.2.1.t (kpO_L hm), hd.1, hd.2.1, hd.2.2.1, fun i j z hi hj => ?_⟩
  · show (laG A ++ [y]).length = (sG σ ++ [(x, r)]).length
    rw [List.length_append, List.length_append, hlen]; rfl
  · have e1 : guF (uG σ (sG σ ++ [(x, r)])) i = if i = nG σ then [.int (nI x), .int (nI r)] else guF σ i := by
      unfold guF guC guR
      rw [show sG (uG σ (sG σ ++ [(x, r)])) = sG σ ++ [(x, r)] from rfl, getD_app]
      by_cases e : i = (sG σ).length
      · rw [if_pos e, if_pos (show i = nG σ from e)]
      · rw [if_neg e, if_neg (show ¬ i = nG σ from e)]
    rw [e1]
    have hz : (laG A ++ [y])[i]? = some z := hz
    by_cases e : i = nG σ
    · rw [if_pos e]
      rw [e, ← hlen, List.getElem?_append_right (Nat.le_refl _), Nat.sub_self] at hz
      have hz : y = z := by simpa using hz
      rw [← hz]
      exact ⟨kpO_L hm _ _ hy, h0⟩
    · rw [if_neg e]
      have hi : i < (laG A).length := by
        have := (List.getElem?_eq_some_iff.mp hz).1
        rw [List.length_append, List.length_singleton] at this
        have hlen : (laG A).length = nG σ := hlen
        omega
      rw [List.getElem?_append_left hi] at hz
      exact ⟨kpO_L hm _ _ (h.2.2.2.1.2 i z hz).1, (h.2.2.2.1.2 i z hz).2⟩
  · have hi : (laG A ++ [y])[i]? = some z := hi
    have hj : (laG A ++ [y])[j]? = some z := hj
    exact app_inj hd.2.2.2 hn hi hj
/-- one slide more: its object, line and list are new -/
theorem SR.addS {x : Nat × Nat × Nat} {d p : Nat} (h : SR Ω Γ0 Γ a A σ) (h6 : isO Γ x.1 6 [.int (nI d), .int (nI p), .ref x.2.1, .int (nI 0)]) (h0 : Γ0 x.1 = none) (h5 : isO Γ x.2.1 5 [.ref x.2.2]) (hL : isL Γ0 Γ x.2.2 [])
    (n1 : ∀ (i : Nat) (z : Nat × Nat × Nat), (laS A)[i]? = some z → z.1 ≠ x.1 ∧ z.2.2 ≠ x.2.2) (n2 : x.2.2 ≠ qdS A ∧ x.2.2 ≠ qdG A ∧ x.2.2 ≠ qdB A ∧ x.2.2 ≠ qdL A) (hW : ∀ k, k < nB σ → boS σ k < nS σ) :
    SR Ω Γ0 (hu Γ (qdS A) (.inr ((laS A).map (·.1) ++ [x.1], m))) a (adrS A (laS A ++ [x])) (uS σ (sS σ ++ [(d, p, 0, [])])) := by
  obtain ⟨m0, hm⟩ := h.lS
  have hd := h.2.2.2.2.2.2
  have h2 := h.2.1
  have hlen : (laS A).length = nS σ := h.2.2.1.1
  have eD : ∀ i, slD (uS σ (sS σ ++ [(d, p, 0, [])])) i = if i = nS σ then d else slD σ i := fun i => by unfold slD; rw [slApp]; split <;> rfl
  have eP : ∀ i, slP (uS σ (sS σ ++ [(d, p, 0, [])])) i = if i = nS σ then p else slP σ i := fun i => by unfold slP; rw [slApp]; split <;> rfl
  have eW : ∀ i, slW (uS σ (sS σ ++ [(d, p, 0, [])])) i = if i = nS σ then 0 else slW σ i := fun i => by unfold slW; rw [slApp]; split <;> rfl
  have eQ : ∀ i, slQ (uS σ (sS σ ++ [(d, p, 0, [])])) i = if i = nS σ then [] else slQ σ i := fun i => by unfold slQ; rw [slApp]; split <;> rfl
  refine ⟨⟨kpO_L hm _ _ h.1.1, h.1.2⟩, ⟨⟨⟨m, ?_⟩, h2.1.2⟩, isL_hu h2.2.1 hd.1.1.symm, isL_hu h2.2.2.1 hd.1.2.1.symm, isL_hu h2.2.2.2.1 hd.1.2.2.1.symm, kpO_L hm _ _ h2.2.2.2.2⟩,
    ⟨?_, fun i z hz => ?_⟩, h.2.2.2.1.t (kpO_L hm), ⟨h.2.2.2.2.1.1, fun i y hy => ?_⟩, h.2.2.2.2.2.1.t (kpO_L hm), hd.1, fun i z hz => ?_, fun i j z w hi hj hzw => ?_, hd.2.2.2⟩
  · rw [show (laS (adrS A (laS A ++ [x]))).map (·.1) = (laS A).map (·.1) ++ [x.1] from List.map_append ..]
    exact hu_s _ _ _
  · show (laS A ++ [x]).length = (sS σ ++ [(d, p, 0, [])]).length
    rw [List.length_append, List.length_append, hlen]; rfl
  · have hz : (laS A ++ [x])[i]? = some z := hz
    unfold slF
    rw [eD, eP, eW, eQ]
    rcases app_or hz with ⟨g1, g2⟩ | ⟨g1, g2⟩
    · have e : ¬ i = nS σ := by omega
      rw [if_neg e, if_neg e, if_neg e, if_neg e]
      have hz1 := h.2.2.1.2 i z g2
      exact ⟨⟨kpO_L hm _ _ hz1.1.1, hz1.1.2⟩, kpO_L hm _ _ hz1.2.1, isL_hu hz1.2.2 (hd.2.1 i z g2).1⟩
    · have e : i = nS σ := by omega
      rw [if_pos e, if_pos e, if_pos e, if_pos e, ← g2]
      exact ⟨⟨kpO_L hm _ _ h6, h0⟩, kpO_L hm _ _ h5, isL_hu hL n2.1⟩
  · have hlt : i < nB σ := by rw [← h.2.2.2.2.1.1]; exact (List.getElem?_eq_some_iff.mp hy).1
    have e : boF (uS σ (sS σ ++ [(d, p, 0, [])])) i = boF σ i := by
      unfold boF boE
      rw [eD, show boS (uS σ (sS σ ++ [(d, p, 0, [])])) i = boS σ i from rfl, if_neg (by have := hW i hlt; omega)]
      rfl
    rw [e]
    exact kpO_L hm _ _ (h.2.2.2.2.1.2 i y hy)
  · have hz : (laS A ++ [x])[i]? = some z := hz
    rcases app_or hz with ⟨g1, g2⟩ | ⟨g1, g2⟩
    · exact hd.2.1 i z g2
    · rw [← g2]; exact n2
  · have hi : (laS A ++ [x])[i]? = some z := hi
    have hj : (laS A ++ [x])[j]? = some w := hj
    rcases app_or hi with ⟨a1, a2⟩ | ⟨a1, a2⟩ <;> rcases app_or hj with ⟨b1, b2⟩ | ⟨b1, b2⟩
    · exact hd.2.2.1 i j z w a2 b2 hzw
    · subst b2; have := n1 i z a2; exact hzw.elim (fun f => absurd f this.1) (fun f => absurd f this.2)
    · subst a2; have := n1 j w b2; exact hzw.elim (fun f => absurd f.symm this.1) (fun f => absurd f.symm this.2)
    · omega
end SR2U
