/-! THE CLASS'S STATE: bookings and finishes more or less; outcomes of ops by their cases -/
section SR3U
variable {Ω : Om} {Γ0 Γ Γ' : LH} {a c q ci i j k g s t y : Nat} {A : Ad} {σ σ' : St} {fs gs : List Value} {xs : List Nat} {e : LE} {m : Int32}
theorem kpO_tr {G1 G2 G3 : LH} (h : kpO G1 G2 ci) (h' : kpO G2 G3 ci) : kpO G1 G3 ci := fun q fs hq => h' q fs (h q fs hq)
theorem kpO_ex {G1 G2 : LH} (h : Ex G1 G2) : kpO G1 G2 ci := fun _ _ hq => h _ _ hq
theorem SR.addB (h : SR Ω Γ0 Γ a A σ) (hy : isO Γ y 7 [.int (nI g), .int (nI s), .int (nI t), .int (nI (t + slD σ s))]) : SR Ω Γ0 (hu Γ (qdB A) (.inr (laB A ++ [y], m))) a (adrB A (laB A ++ [y])) (uB σ (sB σ ++ [(g, s, t)])) := by
  have hlen : (laB A).length = nB σ := h.2.2.2.2.1.1
  refine h.setB (by rw [List.length_append, List.length_append, hlen]; rfl) (fun i z hz => ?_)
  have e1 : (sB (uB σ (sB σ ++ [(g, s, t)]))).getD i (0, 0, 0) = if i = nB σ then (g, s, t) else (sB σ).getD i (0, 0, 0) := boApp
  rcases app_or hz with ⟨g1, g2⟩ | ⟨g1, g2⟩
  · have e2 : boF (uB σ (sB σ ++ [(g, s, t)])) i = boF σ i := by
      unfold boF boE boG boS boT
      rw [e1, if_neg (by omega)]
      rfl
    rw [e2]
    exact h.2.2.2.2.1.2 i z g2
  · have e2 : boF (uB σ (sB σ ++ [(g, s, t)])) i = [.int (nI g), .int (nI s), .int (nI t), .int (nI (t + slD σ s))] := by
      unfold boF boE boG boS boT
      rw [e1, if_pos (by omega)]
      rfl
    rw [e2, ← g2]
    exact hy
theorem era_q {l : List Nat} {z : Nat} (h : (l.eraseIdx k)[i]? = some z) : (i < k ∧ l[i]? = some z) ∨ (k ≤ i ∧ l[i + 1]? = some z) := by
  rw [List.getElem?_eraseIdx] at h
  by_cases e : i < k
  · rw [if_pos e] at h; exact Or.inl ⟨e, h⟩
  · rw [if_neg e] at h; exact Or.inr ⟨by omega, h⟩
theorem SR.eraB (h : SR Ω Γ0 Γ a A σ) (hk : k < nB σ) : SR Ω Γ0 (hu Γ (qdB A) (.inr ((laB A).eraseIdx k, m))) a (adrB A ((laB A).eraseIdx k)) (aDrop σ k) := by
  have hlen : (laB A).length = nB σ := h.2.2.2.2.1.1
  refine h.setB (by rw [List.length_eraseIdx, List.length_eraseIdx, hlen]; rfl) (fun i z hz => ?_)
  have e1 : (sB (uB σ ((sB σ).eraseIdx k))).getD i (0, 0, 0) = if i < k then (sB σ).getD i (0, 0, 0) else (sB σ).getD (i + 1) (0, 0, 0) := getD_era
  rcases era_q hz with ⟨g1, g2⟩ | ⟨g1, g2⟩
  · have e2 : boF (uB σ ((sB σ).eraseIdx k)) i = boF σ i := by
      unfold boF boE boG boS boT
      rw [e1, if_pos g1]
      rfl
    rw [e2]
    exact h.2.2.2.2.1.2 i z g2
  · have e2 : boF (uB σ ((sB σ).eraseIdx k)) i = boF σ (i + 1) := by
      unfold boF boE boG boS boT
      rw [e1, if_neg (by omega)]
      rfl
    rw [e2]
    exact h.2.2.2.2.1.2 (i + 1) z g2
theorem SR.addF (h : SR Ω Γ0 Γ a A σ) (hy : isO Γ y 8 [.int (nI g), .int (nI s), .int (nI t)]) (h16 : nF σ ≤ 16) : SR Ω Γ0 (hu Γ (qdL A) (.inr ((if (laF A).length = 16 then (laF A).drop 1 else laF A) ++ [y], m))) a (adrF A ((if (laF A).length = 16 then (laF A).drop 1 else laF A) ++ [y])) (uF σ (fiL σ (g, s, t))) := by
  have hlen : (laF A).length = nF σ := h.2.2.2.2.2.1.1
  have hl2 : (if (laF A).length = 16 then (laF A).drop 1 else laF A).length = (if nF σ = 16 then (sF σ).drop 1 else sF σ).length := by
    rw [hlen]; split
    · rw [List.length_drop, List.length_drop, hlen]; rfl
    · exact hlen
  refine h.setF (by unfold fiL; rw [List.length_append, List.length_append, hl2]; rfl) (fun i z hz => ?_)
  have e1 : (sF (uF σ (fiL σ (g, s, t)))).getD i (0, 0, 0) = if i = (if nF σ = 16 then (sF σ).drop 1 else sF σ).length then (g, s, t) else (if nF σ = 16 then (sF σ).drop 1 else sF σ).getD i (0, 0, 0) := getD_app
  rcases app_or hz with ⟨g1, g2⟩ | ⟨g1, g2⟩
  · rw [hl2] at g1
    by_cases e : nF σ = 16
    · rw [hlen, if_pos e] at g2
      rw [if_pos e] at g1 e1
      have e2 : fnF (uF σ (fiL σ (g, s, t))) i = fnF σ (i + 1) := by
        unfold fnF fiG fiS fiM
        rw [e1, if_neg (by omega), getD_d1]
      rw [e2]
      rw [List.getElem?_drop, Nat.add_comm] at g2
      exact h.2.2.2.2.2.1.2 (i + 1) z g2
    · rw [hlen, if_neg e] at g2
      rw [if_neg e] at g1 e1
      have e2 : fnF (uF σ (fiL σ (g, s, t))) i = fnF σ i := by
        unfold fnF fiG fiS fiM
        rw [e1, if_neg (by omega)]
      rw [e2]
      exact h.2.2.2.2.2.1.2 i z g2
  · rw [hl2] at g1
    have e2 : fnF (uF σ (fiL σ (g, s, t))) i = [.int (nI g), .int (nI s), .int (nI t)] := by
      unfold fnF fiG fiS fiM
      rw [e1, if_pos g1]
    rw [e2, ← g2]
    exact hy
/-! outcomes -/
/-- what is thrown: by the place in the method's list -/
abbrev xR (nm : Nat → String) (R : Res) (J : Heap → Prop) : String → Nat → Heap → Prop := fun E _ H => ∃ c, R = .inl c ∧ E = nm c ∧ J H
abbrev SO (Ω : Om) (Γ0 : LH) (a : Nat) (R : Res) : Option Value → Heap → Prop := QV (fun y : {y : LH × Ad × Nat × St // R = .inr y.2.2 ∧ Ex Γ0 y.1 ∧ SR Ω Γ0 y.1 a y.2.1 y.2.2.2} => some (.int (nI y.1.2.2.1))) (fun y => hL Ω y.1.1)
abbrev SP (Ω : Om) (Γ0 : LH) (a : Nat) (σ' : St) (V : Option Value) : Option Value → Heap → Prop := QV (fun _ : {y : LH × Ad // Ex Γ0 y.1 ∧ SR Ω Γ0 y.1 a y.2 σ'} => V) (fun y => hL Ω y.1.1)
/-- the addresses stay, and the bookings' objects -/
abbrev SQ (Ω : Om) (Γ0 Γ : LH) (a : Nat) (A : Ad) (σ' : St) (V : Option Value) : Option Value → Heap → Prop := QV (fun _ : {y : LH // Ex Γ0 y ∧ SR Ω Γ0 y a A σ' ∧ kpO Γ y 7} => V) (fun y => hL Ω y.1)
def nmBu (c : Nat) : String := if c = 1 then "java/lang/IllegalArgumentException" else "java/lang/IllegalStateException"
def nmAd (_ : Nat) : String := "java/lang/IllegalStateException"
def nmBk (c : Nat) : String := if c = 1 then "java/lang/IndexOutOfBoundsException" else if c = 2 then "java/lang/IllegalArgumentException" else if c = 3 then "java/lang/IllegalStateException" else "java/lang/UnsupportedOperationException"
def nmCa (c : Nat) : String := if c = 1 then "java/lang/IndexOutOfBoundsException" else "java/lang/IllegalStateException"
def nmJo (c : Nat) : String := if c = 1 then "java/lang/IndexOutOfBoundsException" else if c = 2 then "java/lang/IllegalStateException" else "java/lang/UnsupportedOperationException"
def nmLe (c : Nat) : String := if c = 1 then "java/lang/IndexOutOfBoundsException" else "java/util/NoSuchElementException"
def nmPa (_ : Nat) : String := "java/lang/IllegalArgumentException"
variable {x z w : Int32}
theorem aBuild_1 (h : ¬ ((nI 1 ≤ x ∧ x ≤ nI 9) ∧ (nI 1 ≤ z ∧ z ≤ nI 9))) : aBuild σ x z = .inl 1 := cH_t h
theorem aBuild_2 (h : (nI 1 ≤ x ∧ x ≤ nI 9) ∧ (nI 1 ≤ z ∧ z ≤ nI 9)) (h2 : nS σ = 4) : aBuild σ x z = .inl 2 := (cH_f (fun f => f h)).trans (cH_t h2)
theorem aBuild_3 (h : (nI 1 ≤ x ∧ x ≤ nI 9) ∧ (nI 1 ≤ z ∧ z ≤ nI 9)) (h2 : ¬ nS σ = 4) : aBuild σ x z = .inr (nS σ, uS σ (sS σ ++ [(iN x, iN z, 0, [])])) := (cH_f (fun f => f h)).trans (cH_f h2)
theorem aAddG_1 (h : nG σ = 10) : aAddG σ = .inl 1 := cH_t h
theorem aAddG_2 (h : ¬ nG σ = 10) : aAddG σ = .inr (nG σ, uG σ (sG σ ++ [(50, 0)])) := cH_f h
theorem aBook_1 (h : ¬ (okG σ x ∧ okS σ z)) : aBook σ x z w = .inl 1 := cH_t h
theorem aBook_2 (h : okG σ x ∧ okS σ z) (h2 : ¬ okT σ w) : aBook σ x z w = .inl 2 := (cH_f (fun f => f h)).trans (cH_t h2)
theorem aBook_3 (h : okG σ x ∧ okS σ z) (h2 : okT σ w) (h3 : nB σ = 12 ∨ guC σ (iN x) < slP σ (iN z)) : aBook σ x z w = .inl 3 := (cH_f (fun f => f h)).trans ((cH_f (fun f => f h2)).trans (cH_t h3))
theorem aBook_4 (h : okG σ x ∧ okS σ z) (h2 : okT σ w) (h3 : ¬ (nB σ = 12 ∨ guC σ (iN x) < slP σ (iN z))) (h4 : aCl σ x (iN z) (iN w)) : aBook σ x z w = .inl 4 := (cH_f (fun f => f h)).trans ((cH_f (fun f => f h2)).trans ((cH_f h3).trans (cH_t h4)))
theorem aBook_5 (h : okG σ x ∧ okS σ z) (h2 : okT σ w) (h3 : ¬ (nB σ = 12 ∨ guC σ (iN x) < slP σ (iN z))) (h4 : ¬ aCl σ x (iN z) (iN w)) : aBook σ x z w = .inr (nB σ, aMake σ (iN x) (iN z) (iN w)) := (cH_f (fun f => f h)).trans ((cH_f (fun f => f h2)).trans ((cH_f h3).trans (cH_f h4)))
theorem aCanc_1 (h : ¬ okB σ x) : aCanc σ x = .inl 1 := cH_t h
theorem aCanc_2 (h : okB σ x) (h2 : boT σ (iN x) ≤ sM σ) : aCanc σ x = .inl 2 := (cH_f (fun f => f h)).trans (cH_t h2)
theorem aCanc_3 (h : okB σ x) (h2 : ¬ boT σ (iN x) ≤ sM σ) : aCanc σ x = .inr (guC σ (boG σ (iN x)) + slP σ (boS σ (iN x)), aDrop (aBack σ (boG σ (iN x)) (slP σ (boS σ (iN x)))) (iN x)) := (cH_f (fun f => f h)).trans (cH_f h2)
theorem aJoin_1 (h : ¬ (okG σ x ∧ okS σ z)) : aJoin σ x z = .inl 1 := cH_t h
theorem aJoin_2 (h : okG σ x ∧ okS σ z) (h2 : 0 < wai σ (iN x)) : aJoin σ x z = .inl 2 := (cH_f (fun f => f h)).trans (cH_t h2)
theorem aJoin_3 (h : okG σ x ∧ okS σ z) (h2 : ¬ 0 < wai σ (iN x)) (h3 : (slQ σ (iN z)).length = 5) : aJoin σ x z = .inl 3 := (cH_f (fun f => f h)).trans ((cH_f h2).trans (cH_t h3))
theorem aJoin_4 (h : okG σ x ∧ okS σ z) (h2 : ¬ 0 < wai σ (iN x)) (h3 : ¬ (slQ σ (iN z)).length = 5) : aJoin σ x z = .inr ((slQ σ (iN z)).length + 1, aQue σ (iN z) (slQ σ (iN z) ++ [iN x])) := (cH_f (fun f => f h)).trans ((cH_f h2).trans (cH_f h3))
theorem aLeave_1 (h : ¬ okG σ x) : aLeave σ x = .inl 1 := cH_t h
theorem aLeave_2 (h : okG σ x) (h2 : wai σ (iN x) = 0) : aLeave σ x = .inl 2 := (cH_f (fun f => f h)).trans (cH_t h2)
theorem aLeave_3 (h : okG σ x) (h2 : ¬ wai σ (iN x) = 0) : aLeave σ x = .inr (wai σ (iN x) - 1, aQue σ (wai σ (iN x) - 1) ((slQ σ (wai σ (iN x) - 1)).erase (iN x))) := (cH_f (fun f => f h)).trans (cH_f h2)
theorem aPass_1 (h : ¬ (nI 1 ≤ x ∧ x ≤ nI 60)) : aPass σ x = .inl 1 := cH_t h
theorem aPass_2 (h : nI 1 ≤ x ∧ x ≤ nI 60) : aPass σ x = .inr (aMins (iN x) σ) := cH_f (fun f => f h)
theorem qoI_or : (wai σ g = 0 ∧ qoI σ g = -1) ∨ ∃ i, wai σ g = i + 1 ∧ qoI σ g = nI i := by
  unfold wai qoI
  cases qOf σ g with
  | none => exact Or.inl ⟨rfl, rfl⟩
  | some i => exact Or.inr ⟨i, rfl, rfl⟩
theorem nI_m1 {i : Nat} (h : i < 2 ^ 31) : ¬ nI i = -1 := fun e => by
  have h2 := congrArg Int32.toInt e
  rw [nI_toInt h, show (-1 : Int32).toInt = -1 by decide] at h2
  omega
end SR3U
