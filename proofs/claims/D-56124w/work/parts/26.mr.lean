/-! PURE: the numbers of the reference after each step of an op -/
theorem upd_s {f : Nat → Int32} {k : Nat} {x : Int32} : upd f k x k = x := if_pos rfl
theorem upd_n {f : Nat → Int32} {k j : Nat} {x : Int32} (h : j ≠ k) : upd f k x j = f j := if_neg h
theorem upd_e {f : Nat → Int32} {k j : Nat} {x : Int32} (h : j = k) : upd f k x j = x := if_pos h
theorem mW_0z {Ω : Om} {h : RH} {a : Nat} {ad : Nat → Nat} {v : Nat → Int32} {F : Nat → Nat → Int32} {f : Nat → Int32} (hd : mDi a ad) : mW Ω h a ad v (FU F 0 f) (ad 0) = some (cI Ω 0 158 f) := mW_0 hd
theorem mW_i0 {Ω : Om} {h : RH} {a : Nat} {ad : Nat → Nat} {v : Nat → Int32} {F : Nat → Nat → Int32} {f : Nat → Int32} {i x : Int32} {n : Nat} (hd : mDi a ad) (hi : i.toNatClampNeg = n) : hu (mW Ω h a ad v (FU F 0 f)) (ad 0) (cI Ω 0 158 (upd f i.toNatClampNeg x)) = mW Ω h a ad v (FU F 0 (upd f n x)) := by
  rw [hi, mW_s0 hd, FU_FU]
theorem mW_c0 {Ω : Om} {h : RH} {a : Nat} {ad : Nat → Nat} {v : Nat → Int32} {F : Nat → Nat → Int32} {f g : Nat → Int32} {i j k : Int32} {n1 n2 n3 : Nat} (hd : mDi a ad) (h1 : i.toNatClampNeg = n1) (h2 : j.toNatClampNeg = n2) (h3 : k.toNatClampNeg = n3) : hu (mW Ω h a ad v (FU F 0 f)) (ad 0) (cI Ω 0 158 (va_cpy g f i.toNatClampNeg j.toNatClampNeg k.toNatClampNeg)) = mW Ω h a ad v (FU F 0 (va_cpy g f n1 n2 n3)) := by
  rw [h1, h2, h3, mW_s0 hd, FU_FU]
theorem c2_le {i j : Int32} {n m N : Nat} (h1 : i.toNatClampNeg = n) (h2 : j.toNatClampNeg = m) (h : n + m ≤ N) : i.toNatClampNeg + j.toNatClampNeg ≤ N := by rw [h1, h2]; exact h
theorem getD_set {α : Type} {l : List α} {i j : Nat} {x d : α} (hi : i < l.length) : (l.set i x).getD j d = if j = i then x else l.getD j d := by
  rw [List.getD_eq_getElem?_getD, List.getD_eq_getElem?_getD, List.getElem?_set]
  by_cases h : j = i
  · rw [if_pos h.symm, if_pos h, if_pos hi]; rfl
  · rw [if_neg (fun g => h g.symm), if_neg h]
theorem getD_app {α : Type} {l : List α} {j : Nat} {x d : α} : (l ++ [x]).getD j d = if j = l.length then x else l.getD j d := by
  rw [List.getD_eq_getElem?_getD, List.getD_eq_getElem?_getD]
  by_cases h : j = l.length
  · subst h; rw [if_pos rfl, List.getElem?_append_right (Nat.le_refl _), Nat.sub_self]; rfl
  · rw [if_neg h]
    rcases Nat.lt_or_ge j l.length with g | g
    · rw [List.getElem?_append_left g]
    · rw [List.getElem?_eq_none (by rw [List.length_append, List.length_singleton]; omega), List.getElem?_eq_none g]
theorem getD_era {α : Type} {l : List α} {i j : Nat} {d : α} : (l.eraseIdx i).getD j d = if j < i then l.getD j d else l.getD (j + 1) d := by
  rw [List.getD_eq_getElem?_getD, List.getElem?_eraseIdx]
  by_cases h : j < i
  · rw [if_pos h, if_pos h, List.getD_eq_getElem?_getD]
  · rw [if_neg h, if_neg h, List.getD_eq_getElem?_getD]
theorem getD_d1 {α : Type} {l : List α} {j : Nat} {d : α} : (l.drop 1).getD j d = l.getD (j + 1) d := by
  rw [List.getD_eq_getElem?_getD, List.getD_eq_getElem?_getD, List.getElem?_drop, Nat.add_comm]
section UPS
variable {σ : St} {f f' : Nat → Int32} {g i k x y z n : Nat}
theorem guC_set (hg : g < nG σ) : guC (uG σ ((sG σ).set g (x, y))) i = if i = g then x else guC σ i := by
  show (((sG σ).set g (x, y)).getD i (0, 0)).1 = _
  rw [getD_set hg]; split <;> rfl
theorem guR_set (hg : g < nG σ) : guR (uG σ ((sG σ).set g (x, y))) i = if i = g then y else guR σ i := by
  show (((sG σ).set g (x, y)).getD i (0, 0)).2 = _
  rw [getD_set hg]; split <;> rfl
theorem nG_set : nG (uG σ ((sG σ).set g (x, y))) = nG σ := List.length_set ..
/-- room for the numbers -/
abbrev Cp (σ : St) : Prop := nS σ ≤ 4 ∧ nG σ ≤ 10 ∧ nB σ ≤ 12 ∧ nF σ ≤ 16 ∧ ∀ i, i < nS σ → (slQ σ i).length ≤ 5
theorem Bd.cp {σ : St} (hB : Bd σ) : Cp σ := ⟨hB.1.1, hB.1.2.1, hB.1.2.2.1, hB.1.2.2.2.1, fun i hi => (hB.2.1 i hi).2.2.2.2.2⟩
abbrev M0 (f : Nat → Int32) (σ : St) : Prop := f 0 = nI (nS σ) ∧ f 1 = nI (nG σ) ∧ f 2 = nI (nB σ) ∧ f 3 = nI (sM σ) ∧ f 4 = nI (nF σ) ∧ f 5 = sP σ ∧ f 6 = sR σ ∧ f 7 = sO σ
abbrev M1 (f : Nat → Int32) (σ : St) : Prop := ∀ i, i < nS σ → f (8 + 9 * i) = nI (slD σ i) ∧ f (8 + 9 * i + 1) = nI (slP σ i) ∧ f (8 + 9 * i + 2) = nI (slW σ i) ∧ f (8 + 9 * i + 3) = nI (slQ σ i).length
abbrev M2 (f : Nat → Int32) (σ : St) : Prop := ∀ i, i < nS σ → ∀ j, j < (slQ σ i).length → f (8 + 9 * i + (4 + j)) = nI ((slQ σ i).getD j 0)
abbrev M3 (f : Nat → Int32) (σ : St) : Prop := ∀ g, g < nG σ → f (44 + 3 * g) = nI (guC σ g) ∧ f (44 + 3 * g + 1) = nI (guR σ g) ∧ f (44 + 3 * g + 2) = nI (wai σ g)
abbrev M4 (f : Nat → Int32) (σ : St) : Prop := ∀ k, k < nB σ → f (74 + 3 * k) = nI (boG σ k) ∧ f (74 + 3 * k + 1) = nI (boS σ k) ∧ f (74 + 3 * k + 2) = nI (boT σ k)
abbrev M5 (f : Nat → Int32) (σ : St) : Prop := ∀ k, k < nF σ → f (110 + 3 * k) = nI (fiG σ (nF σ - 1 - k)) ∧ f (110 + 3 * k + 1) = nI (fiS σ (nF σ - 1 - k)) ∧ f (110 + 3 * k + 2) = nI (fiM σ (nF σ - 1 - k))
theorem T0 (hf : ∀ j, j < 8 → f' j = f j) (m : M0 f σ) : M0 f' σ := by
  show f' 0 = _ ∧ f' 1 = _ ∧ f' 2 = _ ∧ f' 3 = _ ∧ f' 4 = _ ∧ f' 5 = _ ∧ f' 6 = _ ∧ f' 7 = _
  rw [hf 0 (by omega), hf 1 (by omega), hf 2 (by omega), hf 3 (by omega), hf 4 (by omega), hf 5 (by omega), hf 6 (by omega), hf 7 (by omega)]
  exact m
theorem T1 (hC : Cp σ) (hf : ∀ j, 8 ≤ j → j < 44 → f' j = f j) (m : M1 f σ) : M1 f' σ := by
  intro i hi
  have := hC.1
  rw [hf _ (by omega) (by omega), hf _ (by omega) (by omega), hf _ (by omega) (by omega), hf _ (by omega) (by omega)]
  exact m i hi
theorem T2 (hC : Cp σ) (hf : ∀ j, 8 ≤ j → j < 44 → f' j = f j) (m : M2 f σ) : M2 f' σ := by
  intro i hi j hj
  have := hC.1
  have := hC.2.2.2.2 i hi
  rw [hf _ (by omega) (by omega)]
  exact m i hi j hj
theorem T3 (hC : Cp σ) (hf : ∀ j, 44 ≤ j → j < 74 → f' j = f j) (m : M3 f σ) : M3 f' σ := by
  intro i hi
  have := hC.2.1
  rw [hf _ (by omega) (by omega), hf _ (by omega) (by omega), hf _ (by omega) (by omega)]
  exact m i hi
theorem T4 (hC : Cp σ) (hf : ∀ j, 74 ≤ j → j < 110 → f' j = f j) (m : M4 f σ) : M4 f' σ := by
  intro i hi
  have := hC.2.2.1
  rw [hf _ (by omega) (by omega), hf _ (by omega) (by omega), hf _ (by omega) (by omega)]
  exact m i hi
theorem T5 (hC : Cp σ) (hf : ∀ j, 110 ≤ j → j < 158 → f' j = f j) (m : M5 f σ) : M5 f' σ := by
  intro i hi
  have := hC.2.2.2.1
  rw [hf _ (by omega) (by omega), hf _ (by omega) (by omega), hf _ (by omega) (by omega)]
  exact m i hi
theorem MR_G (hM : MR f σ) (hC : Cp σ) (hg : g < nG σ) (h1 : f' (44 + 3 * g) = nI x) (h2 : f' (44 + 3 * g + 1) = nI y) (hf : ∀ j, j ≠ 44 + 3 * g → j ≠ 44 + 3 * g + 1 → f' j = f j) : MR f' (uG σ ((sG σ).set g (x, y))) := by
  have c2 := hC.2.1
  obtain ⟨m0, m1, m2, m3, m4, m5⟩ := hM
  refine ⟨?_, T1 (σ := σ) hC (fun j _ _ => hf j (by omega) (by omega)) m1, T2 (σ := σ) hC (fun j _ _ => hf j (by omega) (by omega)) m2, fun i hi => ?_, T4 (σ := σ) hC (fun j _ _ => hf j (by omega) (by omega)) m4, T5 (σ := σ) hC (fun j _ _ => hf j (by omega) (by omega)) m5⟩
  · rw [nG_set]
    exact T0 (σ := σ) (fun j _ => hf j (by omega) (by omega)) m0
  · rw [nG_set] at hi
    rw [guC_set hg, guR_set hg]
    by_cases h : i = g
    · subst h
      rw [if_pos rfl, if_pos rfl, h1, h2, hf _ (by omega) (by omega)]
      exact ⟨rfl, rfl, (m3 i hi).2.2⟩
    · rw [if_neg h, if_neg h, hf _ (by omega) (by omega), hf _ (by omega) (by omega), hf _ (by omega) (by omega)]
      exact m3 i hi
/-- an update of one of the first eight numbers -/
theorem MR_8 {w : Int32} {σ' : St} (hM : MR f σ) (hC : Cp σ) (hi : i < 8) (e1 : sS σ' = sS σ) (e2 : sG σ' = sG σ) (e3 : sB σ' = sB σ) (e4 : sF σ' = sF σ) (h0 : M0 (upd f i w) σ') : MR (upd f i w) σ' := by
  obtain ⟨m0, m1, m2, m3, m4, m5⟩ := hM
  obtain ⟨s1, s2, s3, s4, s5⟩ := σ'
  obtain ⟨t1, t2, t3, t4, t5⟩ := σ
  obtain rfl : s1 = t1 := e1
  obtain rfl : s2 = t2 := e2
  obtain rfl : s3 = t3 := e3
  obtain rfl : s4 = t4 := e4
  exact ⟨h0, T1 (σ := (s1, s2, s3, s4, t5)) hC (fun j _ _ => upd_n (by omega)) m1, T2 (σ := (s1, s2, s3, s4, t5)) hC (fun j _ _ => upd_n (by omega)) m2, T3 (σ := (s1, s2, s3, s4, t5)) hC (fun j _ _ => upd_n (by omega)) m3, T4 (σ := (s1, s2, s3, s4, t5)) hC (fun j _ _ => upd_n (by omega)) m4, T5 (σ := (s1, s2, s3, s4, t5)) hC (fun j _ _ => upd_n (by omega)) m5⟩
theorem MR_O {w : Int32} (hM : MR f σ) (hC : Cp σ) : MR (upd f 7 w) (uO σ w) := MR_8 hM hC (by omega) rfl rfl rfl rfl ⟨hM.1.1, hM.1.2.1, hM.1.2.2.1, hM.1.2.2.2.1, hM.1.2.2.2.2.1, hM.1.2.2.2.2.2.1, hM.1.2.2.2.2.2.2.1, upd_s⟩
theorem MR_R {w : Int32} (hM : MR f σ) (hC : Cp σ) : MR (upd f 6 w) (uR σ w) := MR_8 hM hC (by omega) rfl rfl rfl rfl ⟨hM.1.1, hM.1.2.1, hM.1.2.2.1, hM.1.2.2.2.1, hM.1.2.2.2.2.1, hM.1.2.2.2.2.2.1, upd_s, hM.1.2.2.2.2.2.2.2⟩
theorem MR_P {w : Int32} (hM : MR f σ) (hC : Cp σ) : MR (upd f 5 w) (uP σ w) := MR_8 hM hC (by omega) rfl rfl rfl rfl ⟨hM.1.1, hM.1.2.1, hM.1.2.2.1, hM.1.2.2.2.1, hM.1.2.2.2.2.1, upd_s, hM.1.2.2.2.2.2.2.1, hM.1.2.2.2.2.2.2.2⟩
theorem MR_M {n : Nat} (hM : MR f σ) (hC : Cp σ) : MR (upd f 3 (nI n)) (uM σ n) := MR_8 hM hC (by omega) rfl rfl rfl rfl ⟨hM.1.1, hM.1.2.1, hM.1.2.2.1, upd_s, hM.1.2.2.2.2.1, hM.1.2.2.2.2.2.1, hM.1.2.2.2.2.2.2.1, hM.1.2.2.2.2.2.2.2⟩
/-- a payment -/
def pyF (f : Nat → Int32) (g : Nat) (c : Int32) : Nat → Int32 := upd (upd f (44 + 3 * g) (f (44 + 3 * g) - c)) 7 (f 7 + c)
theorem pk_sub' {a b : Nat} (h : b ≤ a) : nI a - nI b = nI (a - b) := pk_sub h
theorem nI_subneg {a b : Nat} : nI a - -(nI b) = nI (a + b) := by rw [Int32.sub_neg, nI_add]
theorem MR_pay (hM : MR f σ) (hC : Cp σ) (hg : g < nG σ) (hc : n ≤ guC σ g) : MR (pyF f g (nI n)) (aPay σ g n) := by
  have e := (hM.2.2.2.1 g hg).1
  have e7 := hM.1.2.2.2.2.2.2.2
  have h1 := MR_G (f' := upd f (44 + 3 * g) (f (44 + 3 * g) - nI n)) (x := guC σ g - n) (y := guR σ g) hM hC hg (by rw [upd_s, e, pk_sub' hc]) (by rw [upd_n (by omega)]; exact (hM.2.2.2.1 g hg).2.1) (fun j h _ => upd_n h)
  unfold pyF aPay
  rw [e7]
  exact MR_O h1 ⟨hC.1, by rw [nG_set]; exact hC.2.1, hC.2.2⟩
theorem MR_back0 (hM : MR f σ) (hC : Cp σ) (hg : g < nG σ) : MR (pyF f g (-(nI n))) (uO (uG σ ((sG σ).set g (guC σ g + n, guR σ g))) (sO σ + -(nI n))) := by
  have e := (hM.2.2.2.1 g hg).1
  have e7 := hM.1.2.2.2.2.2.2.2
  have h1 := MR_G (f' := upd f (44 + 3 * g) (f (44 + 3 * g) - -(nI n))) (x := guC σ g + n) (y := guR σ g) hM hC hg (by rw [upd_s, e, nI_subneg]) (by rw [upd_n (by omega)]; exact (hM.2.2.2.1 g hg).2.1) (fun j h _ => upd_n h)
  unfold pyF
  rw [e7]
  exact MR_O h1 ⟨hC.1, by rw [nG_set]; exact hC.2.1, hC.2.2⟩
theorem cpG (hC : Cp σ) : Cp (uG σ ((sG σ).set g (x, y))) := ⟨hC.1, by rw [nG_set]; exact hC.2.1, hC.2.2⟩
theorem MR_back (hM : MR f σ) (hC : Cp σ) (hg : g < nG σ) : MR (upd (pyF f g (-(nI n))) 6 (f 6 + nI n)) (aBack σ g n) := by
  have h1 := MR_back0 (n := n) hM hC hg
  have h2 := MR_R (w := f 6 + nI n) h1 (cpG hC)
  unfold aBack
  rw [hM.1.2.2.2.2.2.2.1] at h2 ⊢
  exact h2
/-- a booking at the end -/
def mkF (f : Nat → Int32) (n g s t : Nat) : Nat → Int32 := upd (upd (upd (upd f (74 + 3 * n) (nI g)) (74 + 3 * n + 1) (nI s)) (74 + 3 * n + 2) (nI t)) 2 (nI (n + 1))
theorem boApp {b : BoT} : (sB (uB σ (sB σ ++ [b]))).getD i (0, 0, 0) = if i = nB σ then b else (sB σ).getD i (0, 0, 0) := getD_app
theorem MR_make {s t : Nat} (hM : MR f σ) (hC : Cp σ) (hn : nB σ < 12) : MR (mkF f (nB σ) g s t) (uB σ (sB σ ++ [(g, s, t)])) := by
  have c1 := hC.1
  have c2 := hC.2.1
  have c4 := hC.2.2.2.1
  have hl : nB (uB σ (sB σ ++ [(g, s, t)])) = nB σ + 1 := List.length_append ..
  have key : ∀ j, j ≠ 74 + 3 * nB σ → j ≠ 74 + 3 * nB σ + 1 → j ≠ 74 + 3 * nB σ + 2 → j ≠ 2 → mkF f (nB σ) g s t j = f j := fun j a b c d => by
    unfold mkF; rw [upd_n d, upd_n c, upd_n b, upd_n a]
  obtain ⟨m0, m1, m2, m3, m4, m5⟩ := hM
  refine ⟨?_, T1 (σ := σ) hC (fun j _ _ => key j (by omega) (by omega) (by omega) (by omega)) m1, T2 (σ := σ) hC (fun j _ _ => key j (by omega) (by omega) (by omega) (by omega)) m2, T3 (σ := σ) hC (fun j _ _ => key j (by omega) (by omega) (by omega) (by omega)) m3, fun i hi => ?_, T5 (σ := σ) hC (fun j _ _ => key j (by omega) (by omega) (by omega) (by omega)) m5⟩
  · rw [hl, key 0 (by omega) (by omega) (by omega) (by omega), key 1 (by omega) (by omega) (by omega) (by omega), key 3 (by omega) (by omega) (by omega) (by omega), key 4 (by omega) (by omega) (by omega) (by omega), key 5 (by omega) (by omega) (by omega) (by omega), key 6 (by omega) (by omega) (by omega) (by omega), key 7 (by omega) (by omega) (by omega) (by omega)]
    exact ⟨m0.1, m0.2.1, upd_s, m0.2.2.2.1, m0.2.2.2.2⟩
  · rw [hl] at hi
    unfold boG boS boT
    rw [boApp]
    by_cases h : i = nB σ
    · rw [if_pos h, h]
      unfold mkF
      refine ⟨?_, ?_, ?_⟩
      · rw [upd_n (by omega), upd_n (by omega), upd_n (by omega), upd_s]
      · rw [upd_n (by omega), upd_n (by omega), upd_s]
      · rw [upd_n (by omega), upd_s]
    · rw [if_neg h, key _ (by omega) (by omega) (by omega) (by omega), key _ (by omega) (by omega) (by omega) (by omega), key _ (by omega) (by omega) (by omega) (by omega)]
      exact m4 i (by omega)
/-- a booking away -/
def drF (f : Nat → Int32) (n b : Nat) : Nat → Int32 := va_cpy (upd f 2 (nI (n - 1))) (upd f 2 (nI (n - 1))) (74 + 3 * b + 3) (74 + 3 * b) (3 * (n - 1 - b))
theorem boEra : (sB (aDrop σ k)).getD i (0, 0, 0) = if i < k then (sB σ).getD i (0, 0, 0) else (sB σ).getD (i + 1) (0, 0, 0) := getD_era
theorem nB_drop (hk : k < nB σ) : nB (aDrop σ k) = nB σ - 1 := by
  show ((sB σ).eraseIdx k).length = _
  rw [List.length_eraseIdx]; exact if_pos hk
theorem MR_drop (hM : MR f σ) (hC : Cp σ) (hk : k < nB σ) : MR (drF f (nB σ) k) (aDrop σ k) := by
  have c1 := hC.1
  have c2 := hC.2.1
  have c3 := hC.2.2.1
  have c4 := hC.2.2.2.1
  have key : ∀ j, j < 74 + 3 * k ∨ 74 + 3 * (nB σ - 1) ≤ j → j ≠ 2 → drF f (nB σ) k j = f j := fun j h d => by
    unfold drF; rw [pk_cpy_out (by omega), upd_n d]
  have key2 : ∀ j, 74 + 3 * k ≤ j → j < 74 + 3 * (nB σ - 1) → drF f (nB σ) k j = f (j + 3) := fun j h1 h2 => by
    unfold drF
    rw [pk_cpy_in h1 (by omega), upd_n (by omega)]
    congr 1; omega
  obtain ⟨m0, m1, m2, m3, m4, m5⟩ := hM
  refine ⟨?_, T1 (σ := σ) hC (fun j _ _ => key j (by omega) (by omega)) m1, T2 (σ := σ) hC (fun j _ _ => key j (by omega) (by omega)) m2, T3 (σ := σ) hC (fun j _ _ => key j (by omega) (by omega)) m3, fun i hi => ?_, T5 (σ := σ) hC (fun j _ _ => key j (by omega) (by omega)) m5⟩
  · rw [nB_drop hk, key 0 (by omega) (by omega), key 1 (by omega) (by omega), key 3 (by omega) (by omega), key 4 (by omega) (by omega), key 5 (by omega) (by omega), key 6 (by omega) (by omega), key 7 (by omega) (by omega)]
    refine ⟨m0.1, m0.2.1, ?_, m0.2.2.2.1, m0.2.2.2.2⟩
    unfold drF
    rw [pk_cpy_out (by omega), upd_s]
  · rw [nB_drop hk] at hi
    unfold boG boS boT
    rw [boEra]
    by_cases h : i < k
    · rw [if_pos h, key _ (by omega) (by omega), key _ (by omega) (by omega), key _ (by omega) (by omega)]
      exact m4 i (by omega)
    · rw [if_neg h, key2 _ (by omega) (by omega), key2 _ (by omega) (by omega), key2 _ (by omega) (by omega)]
      exact m4 (i + 1) (by omega)
/-! slides -/
theorem slSet {b : SlT} (hk : k < nS σ) : (sS (uS σ ((sS σ).set k b))).getD i (0, 0, 0, []) = if i = k then b else (sS σ).getD i (0, 0, 0, []) := getD_set hk
theorem nS_set {b : SlT} : nS (uS σ ((sS σ).set k b)) = nS σ := List.length_set ..
theorem slQ_set {b : SlT} (hk : k < nS σ) : slQ (uS σ ((sS σ).set k b)) i = if i = k then b.2.2.2 else slQ σ i := by
  unfold slQ; rw [slSet hk]; split <;> rfl
theorem findIdx?_congr {α : Type} {p : α → Bool} : ∀ {l l' : List α}, l.length = l'.length → (∀ i (h : i < l.length) (h' : i < l'.length), p l[i] = p l'[i]) → l.findIdx? p = l'.findIdx? p
  | [], [], _, _ => rfl
  | [], _ :: _, h, _ => absurd h (by simp)
  | _ :: _, [], h, _ => absurd h (by simp)
  | x :: l, y :: l', h, hp => by
    have h0 := hp 0 (by simp) (by simp)
    rw [List.findIdx?_cons, List.findIdx?_cons]
    have e : p x = p y := h0
    rw [e, findIdx?_congr (p := p) (l := l) (l' := l') (by simpa using h) (fun i h1 h2 => hp (i + 1) (by simp; omega) (by simp; omega))]
/-- the same queues: the same waiting -/
theorem wai_congr {σ σ' : St} (hn : nS σ' = nS σ) (hq : ∀ i, i < nS σ → (slQ σ' i).contains g = (slQ σ i).contains g) : wai σ' g = wai σ g := by
  have e : qOf σ' g = qOf σ g := by
    unfold qOf
    refine findIdx?_congr hn (fun i h h' => ?_)
    have := hq i h'
    unfold slQ at this
    rw [List.getD_eq_getElem?_getD, List.getD_eq_getElem?_getD, List.getElem?_eq_getElem h, List.getElem?_eq_getElem h'] at this
    exact this
  unfold wai
  rw [e]
theorem MR_wet (hM : MR f σ) (hC : Cp σ) (hk : k < nS σ) : MR (upd f (8 + 9 * k + 2) (nI n)) (aWet σ k n) := by
  have c1 := hC.1
  have key : ∀ j, j ≠ 8 + 9 * k + 2 → upd f (8 + 9 * k + 2) (nI n) j = f j := fun j h => upd_n h
  obtain ⟨m0, m1, m2, m3, m4, m5⟩ := hM
  unfold aWet
  have hq : ∀ i, slQ (uS σ ((sS σ).set k (slD σ k, slP σ k, n, slQ σ k))) i = slQ σ i := fun i => by
    rw [slQ_set hk]
    by_cases h : i = k
    · rw [if_pos h, h]
    · rw [if_neg h]
  refine ⟨?_, fun i hi => ?_, fun i hi j hj => ?_, fun i hi => ?_, T4 (σ := σ) hC (fun j _ _ => key j (by omega)) m4, T5 (σ := σ) hC (fun j _ _ => key j (by omega)) m5⟩
  · rw [nS_set]; exact T0 (σ := σ) (fun j _ => key j (by omega)) m0
  · rw [nS_set] at hi
    rw [hq]
    unfold slD slP slW
    rw [slSet hk]
    by_cases h : i = k
    · rw [if_pos h, h, key _ (by omega), key _ (by omega), upd_s, key _ (by omega)]
      have := m1 k hk
      exact ⟨this.1, this.2.1, rfl, this.2.2.2⟩
    · rw [if_neg h, key _ (by omega), key _ (by omega), key _ (by omega), key _ (by omega)]
      exact m1 i hi
  · rw [nS_set] at hi
    rw [hq] at hj ⊢
    have := hC.2.2.2.2 i hi
    rw [key _ (by omega)]
    exact m2 i hi j hj
  · rw [wai_congr nS_set (fun i _ => by rw [hq])]
    exact T3 (σ := σ) hC (fun j _ _ => key j (by omega)) m3 i hi
/-- queues of guests, each guest in one at most, once -/
def QI (σ : St) : Prop := ∀ i, i < nS σ → (slQ σ i).Nodup ∧ ∀ g, g ∈ slQ σ i → wai σ g = i + 1
theorem wai_some (h : wai σ g = i + 1) : i < nS σ ∧ g ∈ slQ σ i := by
  unfold wai at h
  cases e : qOf σ g with
  | none => rw [e] at h; exact absurd h (by simp)
  | some j =>
    rw [e] at h
    have hj : j = i := by simpa using h
    subst hj
    obtain ⟨h1, h2, -⟩ := List.findIdx?_eq_some_iff_getElem.mp e
    refine ⟨h1, ?_⟩
    unfold slQ
    rw [List.getD_eq_getElem?_getD, List.getElem?_eq_getElem h1]
    simpa using h2
theorem wai_none (h : wai σ g = 0) (hi : i < nS σ) : g ∉ slQ σ i := by
  unfold wai at h
  cases e : qOf σ g with
  | some j => rw [e] at h; exact absurd h (by simp)
  | none =>
    have h1 := List.findIdx?_eq_none_iff.mp e ((sS σ)[i]'hi) (List.getElem_mem hi)
    unfold slQ
    rw [List.getD_eq_getElem?_getD, List.getElem?_eq_getElem hi]
    simpa using h1
/-- waiting, by membership -/
theorem wai_of (hi : i < nS σ) (hm : g ∈ slQ σ i) (hu : ∀ j, j < nS σ → g ∈ slQ σ j → j = i) : wai σ g = i + 1 := by
  cases h : wai σ g with
  | zero => exact absurd hm (wai_none h hi)
  | succ j =>
    obtain ⟨h1, h2⟩ := wai_some h
    rw [hu j h1 h2]
theorem wai_no (hu : ∀ j, j < nS σ → g ∉ slQ σ j) : wai σ g = 0 := by
  cases h : wai σ g with
  | zero => rfl
  | succ j =>
    obtain ⟨h1, h2⟩ := wai_some h
    exact absurd h2 (hu j h1)
theorem slQ_que {q : List Nat} (hk : k < nS σ) : slQ (aQue σ k q) i = if i = k then q else slQ σ i := slQ_set hk
theorem nS_que {q : List Nat} : nS (aQue σ k q) = nS σ := nS_set
/-- the numbers after another queue of slide k -/
theorem MR_que {q : List Nat} (hM : MR f σ) (hC : Cp σ) (hk : k < nS σ) (hq : q.length ≤ 5) (h3 : f' (8 + 9 * k + 3) = nI q.length) (hj : ∀ j, j < q.length → f' (8 + 9 * k + (4 + j)) = nI (q.getD j 0)) (hw : ∀ g, g < nG σ → f' (44 + 3 * g + 2) = nI (wai (aQue σ k q) g))
    (hf : ∀ j, (j < 8 + 9 * k + 3 ∨ 8 + 9 * k + 9 ≤ j) → (∀ g, g < nG σ → j ≠ 44 + 3 * g + 2) → f' j = f j) : MR f' (aQue σ k q) := by
  have c1 := hC.1
  have c2 := hC.2.1
  obtain ⟨m0, m1, m2, m3, m4, m5⟩ := hM
  refine ⟨?_, fun i hi => ?_, fun i hi j hj2 => ?_, fun i hi => ?_, T4 (σ := σ) hC (fun j _ _ => hf j (by omega) (by omega)) m4, T5 (σ := σ) hC (fun j _ _ => hf j (by omega) (by omega)) m5⟩
  · rw [nS_que]; exact T0 (σ := σ) (fun j _ => hf j (by omega) (by omega)) m0
  · rw [nS_que] at hi
    rw [slQ_que hk]
    unfold slD slP slW aQue
    rw [slSet hk]
    by_cases h : i = k
    · rw [if_pos h, if_pos h, h, h3, hf _ (by omega) (by omega), hf _ (by omega) (by omega), hf _ (by omega) (by omega)]
      have := m1 k hk
      exact ⟨this.1, this.2.1, this.2.2.1, rfl⟩
    · rw [if_neg h, if_neg h, hf _ (by omega) (by omega), hf _ (by omega) (by omega), hf _ (by omega) (by omega), hf _ (by omega) (by omega)]
      exact m1 i hi
  · rw [nS_que] at hi
    rw [slQ_que hk] at hj2 ⊢
    by_cases h : i = k
    · rw [if_pos h] at hj2 ⊢
      rw [h]
      exact hj j hj2
    · rw [if_neg h] at hj2 ⊢
      have := hC.2.2.2.2 i hi
      rw [hf _ (by omega) (by omega)]
      exact m2 i hi j hj2
  · have hi : i < nG σ := hi
    rw [hw i hi, hf _ (by omega) (by omega), hf _ (by omega) (by omega)]
    exact ⟨(m3 i hi).1, (m3 i hi).2.1, rfl⟩
end UPS
