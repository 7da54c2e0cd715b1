/-! PURE: the invariant of a park that is used -/
/-- what a guest's bookings have cost -/
def du (P : Nat → Nat) (g : Nat) : List BoT → Nat
  | [] => 0
  | b :: r => (if b.1 = g then P b.2.1 else 0) + du P g r
abbrev dueG (σ : St) (g : Nat) : Nat := du (slP σ) g (sB σ)
theorem du_app {P : Nat → Nat} {g : Nat} {b : BoT} : ∀ {l : List BoT}, du P g (l ++ [b]) = du P g l + if b.1 = g then P b.2.1 else 0
  | [] => by show (if b.1 = g then P b.2.1 else 0) + 0 = 0 + _; omega
  | x :: l => by show _ + du P g (l ++ [b]) = _ + du P g l + _; rw [du_app]; omega
theorem du_era {P : Nat → Nat} {g : Nat} : ∀ {l : List BoT} {k : Nat}, k < l.length → du P g (l.eraseIdx k) + (if (l.getD k (0, 0, 0)).1 = g then P (l.getD k (0, 0, 0)).2.1 else 0) = du P g l
  | x :: l, 0, _ => by show du P g l + (if x.1 = g then P x.2.1 else 0) = _ + du P g l; omega
  | x :: l, k + 1, h => by
    have ih := du_era (P := P) (g := g) (l := l) (k := k) (by simpa using h)
    show _ + du P g (l.eraseIdx k) + (if (l.getD k (0, 0, 0)).1 = g then P (l.getD k (0, 0, 0)).2.1 else 0) = _ + du P g l
    omega
theorem du_congr {P P' : Nat → Nat} {g : Nat} : ∀ {l : List BoT}, (∀ k, k < l.length → P (l.getD k (0, 0, 0)).2.1 = P' (l.getD k (0, 0, 0)).2.1) → du P g l = du P' g l
  | [], _ => rfl
  | x :: l, h => by
    have h0 : P x.2.1 = P' x.2.1 := h 0 (by simp)
    have ih := du_congr (P := P) (P' := P') (g := g) (l := l) (fun k hk => h (k + 1) (by simpa using hk))
    show (if x.1 = g then P x.2.1 else 0) + _ = (if x.1 = g then P' x.2.1 else 0) + _
    rw [h0, ih]
theorem du_none {P : Nat → Nat} {g : Nat} : ∀ {l : List BoT}, (∀ k, k < l.length → (l.getD k (0, 0, 0)).1 ≠ g) → du P g l = 0
  | [], _ => rfl
  | x :: l, h => by
    have h0 : x.1 ≠ g := h 0 (by simp)
    have ih := du_none (P := P) (g := g) (l := l) (fun k hk => h (k + 1) (by simpa using hk))
    show (if x.1 = g then P x.2.1 else 0) + _ = 0
    rw [if_neg h0, ih]
/-- THE INVARIANT; R bounds the rides -/
def Wf (R : Nat) (σ : St) : Prop :=
  (nS σ ≤ 4 ∧ nG σ ≤ 10 ∧ nB σ ≤ 12 ∧ nF σ ≤ 16) ∧
  (∀ i, i < nS σ → 1 ≤ slD σ i ∧ slD σ i ≤ 9 ∧ 1 ≤ slP σ i ∧ slP σ i ≤ 9 ∧ slW σ i ≤ 9 ∧ (slQ σ i).length ≤ 5) ∧
  (∀ i, i < nS σ → ∀ x ∈ slQ σ i, x < nG σ) ∧
  QI σ ∧
  (∀ g, g < nG σ → guC σ g + dueG σ g ≤ 50 ∧ guR σ g ≤ R) ∧
  (∀ k, k < nB σ → boG σ k < nG σ ∧ boS σ k < nS σ ∧ boT σ k ≤ sM σ + 120) ∧
  (∀ k, k < nF σ → fiG σ k < nG σ ∧ fiS σ k < nS σ ∧ fiM σ k ≤ sM σ)
section WF
variable {σ : St} {R g i k x y z n s t : Nat}
theorem Wf.bd (W : Wf R σ) (hm : sM σ ≤ 100000) (hr : R ≤ 2000000) : Bd σ :=
  ⟨⟨W.1.1, W.1.2.1, W.1.2.2.1, W.1.2.2.2, hm⟩, W.2.1, W.2.2.1, fun g hg => ⟨by have := (W.2.2.2.2.1 g hg).1; omega, by have := (W.2.2.2.2.1 g hg).2; omega⟩, W.2.2.2.2.2.1, W.2.2.2.2.2.2⟩
theorem Wf.cp (W : Wf R σ) : Cp σ := ⟨W.1.1, W.1.2.1, W.1.2.2.1, W.1.2.2.2, fun i hi => (W.2.1 i hi).2.2.2.2.2⟩
theorem Wf.mono {R' : Nat} (W : Wf R σ) (h : R ≤ R') : Wf R' σ := ⟨W.1, W.2.1, W.2.2.1, W.2.2.2.1, fun g hg => ⟨(W.2.2.2.2.1 g hg).1, Nat.le_trans (W.2.2.2.2.1 g hg).2 h⟩, W.2.2.2.2.2⟩
/-- another queue -/
theorem Wf_que {q : List Nat} (W : Wf R σ) (hs : s < nS σ) (hq : q.length ≤ 5) (hm : ∀ x ∈ q, x < nG σ) (hQ : QI (aQue σ s q)) : Wf R (aQue σ s q) := by
  obtain ⟨w1, w2, w3, w4, w5, w6, w7⟩ := W
  have hp : ∀ i, slP (aQue σ s q) i = slP σ i := fun i => by
    unfold slP aQue; rw [slSet hs]
    by_cases h : i = s
    · rw [if_pos h, h]; rfl
    · rw [if_neg h]
  refine ⟨⟨by rw [nS_que]; exact w1.1, w1.2⟩, fun i hi => ?_, fun i hi => ?_, hQ, fun g hg => ?_, fun k hk => ?_, fun k hk => ?_⟩
  · rw [nS_que] at hi
    rw [hp, slQ_que hs]
    unfold slD slW aQue
    rw [slSet hs]
    by_cases h : i = s
    · rw [if_pos h, if_pos h, h]
      have := w2 s hs
      exact ⟨this.1, this.2.1, this.2.2.1, this.2.2.2.1, this.2.2.2.2.1, hq⟩
    · rw [if_neg h, if_neg h]; exact w2 i hi
  · rw [nS_que] at hi
    rw [slQ_que hs]
    by_cases h : i = s
    · rw [if_pos h]; exact hm
    · rw [if_neg h]; exact w3 i hi
  · refine ⟨?_, (w5 g hg).2⟩
    have : dueG (aQue σ s q) g = dueG σ g := du_congr (fun k _ => hp _)
    rw [this]
    exact (w5 g hg).1
  · rw [nS_que]; exact w6 k hk
  · rw [nS_que]; exact w7 k hk
theorem Wf_wet (W : Wf R σ) (hs : s < nS σ) (hn : n ≤ 9) : Wf R (aWet σ s n) := by
  obtain ⟨w1, w2, w3, w4, w5, w6, w7⟩ := W
  have hS : nS (aWet σ s n) = nS σ := nS_set
  have hq : ∀ i, slQ (aWet σ s n) i = slQ σ i := fun i => by
    unfold aWet; rw [slQ_set hs]
    by_cases h : i = s
    · rw [if_pos h, h]
    · rw [if_neg h]
  have hp : ∀ i, slP (aWet σ s n) i = slP σ i := fun i => by
    unfold slP aWet; rw [slSet hs]
    by_cases h : i = s
    · rw [if_pos h, h]; rfl
    · rw [if_neg h]
  refine ⟨⟨by rw [hS]; exact w1.1, w1.2⟩, fun i hi => ?_, fun i hi => ?_, fun i hi => ?_, fun g hg => ?_, fun k hk => ?_, fun k hk => ?_⟩
  · rw [hS] at hi
    rw [hp, hq]
    unfold slD slW aWet
    rw [slSet hs]
    by_cases h : i = s
    · rw [if_pos h, h]
      have := w2 s hs
      exact ⟨this.1, this.2.1, this.2.2.1, this.2.2.2.1, hn, this.2.2.2.2.2⟩
    · rw [if_neg h]; exact w2 i hi
  · rw [hS] at hi; rw [hq]; exact w3 i hi
  · rw [hS] at hi; rw [hq]
    exact ⟨(w4 i hi).1, fun g hm => (wai_congr hS (fun j _ => by rw [hq])).trans ((w4 i hi).2 g hm)⟩
  · refine ⟨?_, (w5 g hg).2⟩
    have : dueG (aWet σ s n) g = dueG σ g := du_congr (fun k _ => hp _)
    rw [this]
    exact (w5 g hg).1
  · rw [hS]; exact w6 k hk
  · rw [hS]; exact w7 k hk
theorem Wf_make (W : Wf R σ) (hg : g < nG σ) (hs : s < nS σ) (hc : slP σ s ≤ guC σ g) (hn : nB σ < 12) (ht : t ≤ sM σ + 120) : Wf R (aMake σ g s t) := by
  obtain ⟨w1, w2, w3, w4, w5, w6, w7⟩ := W
  have hB : nB (aMake σ g s t) = nB σ + 1 := List.length_append ..
  have hG : nG (aMake σ g s t) = nG σ := nG_set (σ := σ)
  refine ⟨⟨w1.1, by rw [hG]; exact w1.2.1, by rw [hB]; omega, w1.2.2.2⟩, w2, by rw [hG]; exact w3, w4, fun i hi => ?_, fun k hk => ?_, by rw [hG]; exact w7⟩
  · rw [hG] at hi
    have e1 : guC (aMake σ g s t) i = if i = g then guC σ g - slP σ s else guC σ i := guC_set (y := guR σ g) hg
    have e2 : guR (aMake σ g s t) i = if i = g then guR σ g else guR σ i := guR_set (x := guC σ g - slP σ s) hg
    have e3 : dueG (aMake σ g s t) i = dueG σ i + if g = i then slP σ s else 0 := du_app
    rw [e1, e2, e3]
    by_cases h : i = g
    · rw [if_pos h, if_pos h, if_pos h.symm, h]
      have := w5 g hg
      omega
    · rw [if_neg h, if_neg h, if_neg (fun e => h e.symm)]
      exact w5 i hi
  · rw [hB] at hk
    rw [hG]
    have e : (sB (aMake σ g s t)).getD k (0, 0, 0) = if k = nB σ then (g, s, t) else (sB σ).getD k (0, 0, 0) := getD_app
    unfold boG boS boT
    rw [e]
    by_cases h : k = nB σ
    · rw [if_pos h]; exact ⟨hg, hs, ht⟩
    · rw [if_neg h]; exact w6 k (by omega)
/-- some of a booking's price comes back and it goes -/
theorem Wf_drop {σ' : St} (W : Wf R σ) (hk : k < nB σ) (hS : sS σ' = sS σ) (hB : sB σ' = (sB σ).eraseIdx k) (hF : sF σ' = sF σ) (hM : sM σ' = sM σ) (hG : nG σ' = nG σ) (hc : ∀ i, i < nG σ → guC σ' i ≤ guC σ i + (if boG σ k = i then slP σ (boS σ k) else 0) ∧ guR σ' i ≤ R) : Wf R σ' := by
  obtain ⟨w1, w2, w3, w4, w5, w6, w7⟩ := W
  obtain ⟨s1, s2, s3, s4, s5, s6⟩ := σ'
  obtain ⟨t1, t2, t3, t4, t5, t6⟩ := σ
  obtain rfl : s1 = t1 := hS
  obtain rfl : s3 = t3.eraseIdx k := hB
  obtain rfl : s4 = t4 := hF
  obtain rfl : s5 = t5 := hM
  have hl : nB (s1, s2, t3.eraseIdx k, s4, s5, s6) = nB (s1, t2, t3, s4, s5, t6) - 1 := nB_drop (σ := (s1, t2, t3, s4, s5, t6)) hk
  refine ⟨⟨w1.1, by rw [hG]; exact w1.2.1, by rw [hl]; omega, w1.2.2.2⟩, w2, by rw [hG]; exact w3, w4, fun i hi => ?_, fun j hj => ?_, by rw [hG]; exact w7⟩
  · rw [hG] at hi
    have h1 := hc i hi
    have h2 := w5 i hi
    have h3 : dueG (s1, s2, t3.eraseIdx k, s4, s5, s6) i + (if boG (s1, t2, t3, s4, s5, t6) k = i then slP (s1, t2, t3, s4, s5, t6) (boS (s1, t2, t3, s4, s5, t6) k) else 0) = dueG (s1, t2, t3, s4, s5, t6) i := du_era hk
    exact ⟨by omega, h1.2⟩
  · rw [hl] at hj
    rw [hG]
    have e : (sB (s1, s2, t3.eraseIdx k, s4, s5, s6)).getD j (0, 0, 0) = if j < k then t3.getD j (0, 0, 0) else t3.getD (j + 1) (0, 0, 0) := getD_era
    unfold boG boS boT
    rw [e]
    by_cases h : j < k
    · rw [if_pos h]; exact w6 j (by omega)
    · rw [if_neg h]; exact w6 (j + 1) (by omega)
theorem Wf_min (W : Wf R σ) : Wf R (aMin2 σ) := by
  obtain ⟨w1, w2, w3, w4, w5, w6, w7⟩ := W
  refine ⟨w1, w2, w3, w4, w5, fun k hk => ?_, fun k hk => ?_⟩
  · have := w6 k hk; exact ⟨this.1, this.2.1, show boT σ k ≤ sM σ + 1 + 120 by omega⟩
  · have := w7 k hk; exact ⟨this.1, this.2.1, show fiM σ k ≤ sM σ + 1 by omega⟩
theorem nS_wet : nS (aWet σ s n) = nS σ := nS_set
theorem slP_wet (hs : s < nS σ) : slP (aWet σ s n) i = slP σ i := by
  unfold slP aWet; rw [slSet hs]
  by_cases h : i = s
  · rw [if_pos h, h]; rfl
  · rw [if_neg h]
/-- one more finish -/
theorem Wf_fin0 {σ' : St} (W : Wf R σ) (hg : g < nG σ) (hs : s < nS σ) (hS : sS σ' = sS σ) (hB : sB σ' = sB σ) (hF : sF σ' = fiL σ (g, s, sM σ)) (hM : sM σ' = sM σ) (hG : nG σ' = nG σ) (hc : ∀ i, i < nG σ → guC σ' i = guC σ i ∧ guR σ' i ≤ R + 1) : Wf (R + 1) σ' := by
  obtain ⟨w1, w2, w3, w4, w5, w6, w7⟩ := W
  have hl : (fiL σ (g, s, sM σ)).length = min 16 (nF σ + 1) := fiL_len w1.2.2.2
  have hget : ∀ k, k < min 16 (nF σ + 1) → (fiL σ (g, s, sM σ)).getD k (0, 0, 0) = if min 16 (nF σ + 1) - 1 - k = 0 then (g, s, sM σ) else (sF σ).getD (nF σ - 1 - (min 16 (nF σ + 1) - 1 - k - 1)) (0, 0, 0) := fun k hk => by
    have e := fiL_get (σ := σ) (b := (g, s, sM σ)) (k := min 16 (nF σ + 1) - 1 - k) w1.2.2.2 (by omega)
    rw [show min 16 (nF σ + 1) - 1 - (min 16 (nF σ + 1) - 1 - k) = k by omega] at e
    exact e
  have hn : nF σ' = min 16 (nF σ + 1) := by show (sF σ').length = _; rw [hF, hl]
  obtain ⟨s1, s2, s3, s4, s5, s6⟩ := σ'
  obtain rfl : s1 = sS σ := hS
  obtain rfl : s3 = sB σ := hB
  obtain rfl : s4 = fiL σ (g, s, sM σ) := hF
  obtain rfl : s5 = sM σ := hM
  refine ⟨⟨w1.1, by rw [hG]; exact w1.2.1, w1.2.2.1, by rw [hn]; omega⟩, w2, by rw [hG]; exact w3, w4, fun i hi => ?_, by rw [hG]; exact w6, fun k hk => ?_⟩
  · rw [hG] at hi
    have h1 := hc i hi
    have h2 := (w5 i hi).1
    rw [h1.1]
    exact ⟨h2, h1.2⟩
  · rw [hn] at hk
    unfold fiG fiS fiM
    rw [hG]
    show ((fiL σ (g, s, sM σ)).getD k (0, 0, 0)).1 < nG σ ∧ ((fiL σ (g, s, sM σ)).getD k (0, 0, 0)).2.1 < nS σ ∧ ((fiL σ (g, s, sM σ)).getD k (0, 0, 0)).2.2 ≤ sM σ
    rw [hget k hk]
    by_cases h : min 16 (nF σ + 1) - 1 - k = 0
    · rw [if_pos h]; exact ⟨hg, hs, Nat.le_refl _⟩
    · rw [if_neg h]; exact w7 _ (by omega)
theorem Wf_fin2 (W : Wf R σ) (hg : g < nG σ) (hs : s < nS σ) : Wf (R + 1) (aFin2 σ g s) := by
  have W1 := Wf_wet (n := min 9 (slW σ s + 2)) W hs (Nat.min_le_left _ _)
  generalize hw : aWet σ s (min 9 (slW σ s + 2)) = σ1 at W1
  have hg1 : g < nG σ1 := by rw [← hw]; exact hg
  have hs1 : s < nS σ1 := by rw [← hw, nS_wet]; exact hs
  have e : aFin2 σ g s = uF (uG σ1 ((sG σ1).set g (guC σ1 g, guR σ1 g + 1))) (fiL σ1 (g, s, sM σ1)) := by rw [← hw]; rfl
  rw [e]
  refine Wf_fin0 W1 hg1 hs1 rfl rfl rfl rfl nG_set (fun i hi => ?_)
  have e1 : guC (uF (uG σ1 ((sG σ1).set g (guC σ1 g, guR σ1 g + 1))) (fiL σ1 (g, s, sM σ1))) i = if i = g then guC σ1 g else guC σ1 i := guC_set hg1
  have e2 : guR (uF (uG σ1 ((sG σ1).set g (guC σ1 g, guR σ1 g + 1))) (fiL σ1 (g, s, sM σ1))) i = if i = g then guR σ1 g + 1 else guR σ1 i := guR_set hg1
  have h5 := W1.2.2.2.2.1 i hi
  rw [e1, e2]
  by_cases h : i = g
  · rw [if_pos h, if_pos h]; subst h; exact ⟨rfl, by omega⟩
  · rw [if_neg h, if_neg h]; exact ⟨rfl, by omega⟩
end WF
