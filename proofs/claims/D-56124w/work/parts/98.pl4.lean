/-! PURE LAWS: no booking is over, finishes in order, no coin is lost: kept by every op -/
section PL4
variable {σ σ' : St} {R g s t n k b c x y : Nat}
def CO (σ : St) : Prop := nI (aSum σ (nG σ)) + sO σ = nI (50 * nG σ)
def KV (σ : St) : Prop := NE σ ∧ FS σ ∧ CO σ
theorem aSum_s : aSum σ (n + 1) = aSum σ n + guC σ n := rfl
theorem aSum_congr : ∀ {n : Nat}, (∀ i, i < n → guC σ' i = guC σ i) → aSum σ' n = aSum σ n
  | 0, _ => rfl
  | n + 1, h => by rw [aSum_s, aSum_s, aSum_congr (n := n) (fun i hi => h i (by omega)), h n (by omega)]
theorem aSum_set (hg : g < nG σ) : ∀ n, aSum (uG σ ((sG σ).set g (x, y))) n + (if g < n then guC σ g else 0) = aSum σ n + (if g < n then x else 0)
  | 0 => rfl
  | n + 1 => by
    have ih := aSum_set hg n
    rw [aSum_s, aSum_s, guC_set hg]
    by_cases e : n = g
    · subst e
      rw [if_neg (Nat.lt_irrefl n), if_neg (Nat.lt_irrefl n)] at ih
      rw [if_pos rfl, if_pos (Nat.lt_succ_self n), if_pos (Nat.lt_succ_self n)]
      omega
    · rw [if_neg e]
      by_cases h : g < n
      · rw [if_pos h, if_pos h] at ih
        rw [if_pos (by omega), if_pos (by omega)]
        omega
      · rw [if_neg h, if_neg h] at ih
        rw [if_neg (by omega), if_neg (by omega)]
        omega
theorem CO_set {o : Int32} (h : CO σ) (hg : g < nG σ) (ho : nI x + o = nI (guC σ g) + sO σ) : CO (uO (uG σ ((sG σ).set g (x, y))) o) := by
  unfold CO at h ⊢
  have hs := aSum_set (x := x) (y := y) hg (nG σ)
  rw [if_pos hg, if_pos hg] at hs
  have h1 : nI (aSum (uG σ ((sG σ).set g (x, y))) (nG σ)) + nI (guC σ g) = nI (aSum σ (nG σ)) + nI x := by rw [nI_add, nI_add, hs]
  have hn : nG (uO (uG σ ((sG σ).set g (x, y))) o) = nG σ := nG_set
  rw [hn]
  show nI (aSum (uG σ ((sG σ).set g (x, y))) (nG σ)) + o = _
  refine (Int32.add_left_inj (nI (guC σ g))).mp ?_
  rw [Int32.add_assoc, Int32.add_comm o, ← Int32.add_assoc, h1, Int32.add_assoc, ho, ← h, Int32.add_assoc, Int32.add_comm (nI (guC σ g))]
theorem CO_same (h : CO σ) (h1 : sG σ' = sG σ) (h2 : sO σ' = sO σ) : CO σ' := by
  unfold CO at h ⊢
  have e : nG σ' = nG σ := by unfold nG; rw [h1]
  have e2 : aSum σ' (nG σ) = aSum σ (nG σ) := aSum_congr (fun i _ => by unfold guC; rw [h1])
  rw [e, h2, e2]; exact h
theorem FS_same (h : FS σ) (h1 : sF σ' = sF σ) : FS σ' := by
  have e : nF σ' = nF σ := by unfold nF; rw [h1]
  have e2 : ∀ i, fiM σ' i = fiM σ i := fun i => by unfold fiM; rw [h1]
  intro i j hi hj
  rw [e2, e2]; exact h i j hi (by rw [← e]; exact hj)
theorem NE_same (h : NE σ) (h1 : sB σ' = sB σ) (h2 : ∀ k, k < nB σ → slD σ' (boS σ k) = slD σ (boS σ k)) (h3 : sM σ' = sM σ) : NE σ' := by
  intro k hk
  have hk : k < nB σ := by unfold nB at hk ⊢; rw [← h1]; exact hk
  have e1 : boS σ' k = boS σ k := by unfold boS; rw [h1]
  have e2 : boT σ' k = boT σ k := by unfold boT; rw [h1]
  have e : boE σ' k = boE σ k := by unfold boE; rw [e1, e2, h2 k hk]
  rw [h3, e]; exact h k hk
theorem KV_0 : KV st0 := ⟨fun k hk => absurd hk (Nat.not_lt_zero k), fun i j _ hj => absurd hj (Nat.not_lt_zero j), rfl⟩
theorem KV_build {d p : Nat} (W : Wf R σ) (h : KV σ) : KV (uS σ (sS σ ++ [(d, p, 0, [])])) :=
  ⟨NE_same h.1 rfl (fun k hk => by unfold slD; rw [slApp, if_neg (by have := (W.2.2.2.2.2.1 k hk).2.1; omega)]) rfl, FS_same h.2.1 rfl, CO_same h.2.2 rfl rfl⟩
theorem KV_addG (h : KV σ) : KV (uG σ (sG σ ++ [(50, 0)])) := by
  refine ⟨h.1, h.2.1, ?_⟩
  have h3 := h.2.2
  unfold CO at h3 ⊢
  have e : nG (uG σ (sG σ ++ [(50, 0)])) = nG σ + 1 := by show (sG σ ++ _).length = _; rw [List.length_append]; rfl
  have eg : ∀ i, guC (uG σ (sG σ ++ [(50, 0)])) i = if i = nG σ then 50 else guC σ i := fun i => by
    unfold guC
    rw [show sG (uG σ (sG σ ++ [(50, 0)])) = sG σ ++ [(50, 0)] from rfl, getD_app]
    by_cases e : i = (sG σ).length
    · rw [if_pos e, if_pos (show i = nG σ from e)]
    · rw [if_neg e, if_neg (show ¬ i = nG σ from e)]
  rw [e, aSum_s, aSum_congr (σ := σ) (fun i hi => by rw [eg, if_neg (by omega)]), eg, if_pos rfl, Nat.mul_add, ← nI_add, ← nI_add]
  rw [← h3, Int32.add_assoc, Int32.add_assoc, Int32.add_comm (nI 50)]
  rfl
theorem NE_make (W : Wf R σ) (h : NE σ) (hs : s < nS σ) (ht : sM σ ≤ t) : NE (aMake σ g s t) := by
  have bs := W.2.1 s hs
  intro k hk
  have e1 : (sB (aMake σ g s t)).getD k (0, 0, 0) = if k = nB σ then (g, s, t) else (sB σ).getD k (0, 0, 0) := boApp (σ := aPay σ g (slP σ s))
  have hn : nB (aMake σ g s t) = nB σ + 1 := by show (sB σ ++ _).length = _; rw [List.length_append]; rfl
  rw [hn] at hk
  show sM σ < boE (aMake σ g s t) k
  unfold boE boT boS
  rw [e1]
  by_cases e : k = nB σ
  · rw [if_pos e]; show sM σ < t + slD σ s; omega
  · rw [if_neg e]; exact h k (by omega)
theorem KV_make (W : Wf R σ) (h : KV σ) (hg : g < nG σ) (hs : s < nS σ) (hc : slP σ s ≤ guC σ g) (ht : sM σ ≤ t) : KV (aMake σ g s t) := by
  refine ⟨NE_make W h.1 hs ht, FS_same h.2.1 rfl, CO_same (σ := aPay σ g (slP σ s)) (CO_set h.2.2 hg ?_) rfl rfl⟩
  rw [Int32.add_comm (sO σ), ← Int32.add_assoc, nI_add, Nat.sub_add_cancel hc]
theorem CO_back (h : CO σ) (hg : g < nG σ) : CO (aBack σ g c) := by
  refine CO_same (σ := uO (uG σ ((sG σ).set g (guC σ g + c, guR σ g))) (sO σ + -(nI c))) (CO_set h hg ?_) rfl rfl
  rw [← nI_add, Int32.add_assoc, Int32.add_comm (sO σ), ← Int32.add_assoc (nI c), Int32.add_right_neg, Int32.zero_add]
theorem boE_era (hB : sB σ' = (sB σ).eraseIdx k) (hS : ∀ i, slD σ' i = slD σ i) : boE σ' n = if n < k then boE σ n else boE σ (n + 1) := by
  unfold boE boT boS
  rw [hB, getD_era]
  by_cases h : n < k
  · rw [if_pos h, if_pos h, hS]
  · rw [if_neg h, if_neg h, hS]
theorem NE_drop (h : NE σ) (hk : k < nB σ) (hB : sB σ' = (sB σ).eraseIdx k) (hS : ∀ i, slD σ' i = slD σ i) (hM : sM σ' = sM σ) : NE σ' := by
  intro j hj
  have hn : nB σ' = nB σ - 1 := by unfold nB; rw [hB, List.length_eraseIdx]; exact if_pos hk
  rw [hM, boE_era hB hS]
  by_cases e : j < k
  · rw [if_pos e]; exact h j (by omega)
  · rw [if_neg e]; exact h (j + 1) (by omega)
theorem KV_canc (W : Wf R σ) (h : KV σ) (hk : k < nB σ) : KV (aDrop (aBack σ (boG σ k) (slP σ (boS σ k))) k) := by
  have b := W.2.2.2.2.2.1 k hk
  exact ⟨NE_drop h.1 hk rfl (fun i => rfl) rfl, FS_same h.2.1 rfl, CO_same (CO_back h.2.2 b.1) rfl rfl⟩
theorem KV_que {q : List Nat} (h : KV σ) (hs : s < nS σ) : KV (aQue σ s q) := ⟨NE_same h.1 rfl (fun k _ => slD_que hs) rfl, FS_same h.2.1 rfl, CO_same h.2.2 rfl rfl⟩
theorem KV_call (W : Wf R σ) (h : KV σ) (hs : s < nS σ) : KV (aCall σ s) := by
  cases hq : slQ σ s with
  | nil => rw [aCall_nil hq]; exact h
  | cons g r =>
    have hm : g ∈ slQ σ s := by rw [hq]; exact List.mem_cons_self
    have W1 := Wf_leave W hs (W.2.2.2.1.wai hs hm)
    rw [erase_hd hq] at W1
    rw [aCall_cons hq]
    by_cases h1 : guC σ g < slP σ s
    · rw [cH_t h1]; exact KV_que h hs
    · rw [cH_f h1]
      by_cases h2 : nB σ < 12 ∧ ¬ aCl σ (nI g) s (sM σ)
      · rw [cH_t h2]
        exact KV_make W1 (KV_que h hs) (W.2.2.1 s hs g hm) (by rw [nS_que]; exact hs) (by rw [slP_que hs]; exact Nat.le_of_not_lt h1) (Nat.le_refl _)
      · rw [cH_f h2]; exact h
theorem KV_aC (W : Wf R σ) (h : KV σ) : ∀ k, k ≤ nS σ → KV (aC σ k)
  | 0, _ => h
  | k + 1, hk => by
    obtain ⟨w1, w2, -⟩ := aC_all W k (by omega)
    exact KV_call w1 (KV_aC W h k (by omega)) (by rw [w2]; omega)
/-- in the midst of a minute: no booking ends earlier than now -/
def NW (σ : St) : Prop := ∀ k, k < nB σ → sM σ ≤ boE σ k
def KW (σ : St) : Prop := NW σ ∧ FS σ ∧ CO σ
theorem KW_min (h : KV σ) : KW (aMin2 σ) := ⟨fun k hk => h.1 k hk, FS_same h.2.1 rfl, CO_same h.2.2 rfl rfl⟩
theorem KW_dry (h : KW σ) (hs : s < nS σ) : KW (aDry σ s) := by
  unfold aDry
  by_cases hb : aBusy σ s (sM σ - 1)
  · rw [cH_t hb]; exact h
  · rw [cH_f hb]
    refine ⟨fun k hk => ?_, FS_same h.2.1 rfl, CO_same h.2.2 rfl rfl⟩
    have e : boE (aWet σ s (slW σ s - 1)) k = boE σ k := by
      show boT σ k + slD (aWet σ s (slW σ s - 1)) (boS σ k) = _
      rw [slD_wet hs]; rfl
    show sM σ ≤ _
    rw [e]; exact h.1 k hk
theorem KW_aD (W : Wf R σ) (h : KW σ) : ∀ k, k ≤ nS σ → KW (aD σ k)
  | 0, _ => h
  | k + 1, hk => by
    obtain ⟨w1, w2, -⟩ := aD_all W k (by omega)
    exact KW_dry (KW_aD W h k (by omega)) (by rw [w2]; omega)
theorem fiL_M {m i : Nat} : (fiL σ (g, s, m)).getD i (0, 0, 0) = if i = (if nF σ = 16 then (sF σ).drop 1 else sF σ).length then (g, s, m) else (if nF σ = 16 then (sF σ).drop 1 else sF σ).getD i (0, 0, 0) := getD_app
theorem FS_fin {σ' : St} (h : FS σ) (hm : ∀ k, k < nF σ → fiM σ k ≤ sM σ) (h1 : sF σ' = fiL σ (g, s, sM σ)) : FS σ' := by
  have hl : (if nF σ = 16 then (sF σ).drop 1 else sF σ).length ≤ nF σ := by
    split
    · rw [List.length_drop]; exact Nat.sub_le ..
    · exact Nat.le_refl _
  have hn : nF σ' = (if nF σ = 16 then (sF σ).drop 1 else sF σ).length + 1 := by unfold nF; rw [h1]; unfold fiL; rw [List.length_append]; rfl
  have e : ∀ i, i < (if nF σ = 16 then (sF σ).drop 1 else sF σ).length → ∃ j, j < nF σ ∧ fiM σ' i = fiM σ j ∧ j = (if nF σ = 16 then i + 1 else i) := by
    intro i hi
    have e0 : fiM σ' i = ((if nF σ = 16 then (sF σ).drop 1 else sF σ).getD i (0, 0, 0)).2.2 := by unfold fiM; rw [h1, fiL_M, if_neg (by omega)]
    by_cases e16 : nF σ = 16
    · rw [if_pos e16] at hi e0
      rw [List.length_drop] at hi
      have hi : i < nF σ - 1 := hi
      exact ⟨i + 1, by omega, by rw [e0, getD_d1]; rfl, (if_pos e16).symm⟩
    · rw [if_neg e16] at hi e0
      exact ⟨i, hi, e0, (if_neg e16).symm⟩
  have elast : fiM σ' (if nF σ = 16 then (sF σ).drop 1 else sF σ).length = sM σ := by unfold fiM; rw [h1, fiL_M, if_pos rfl]
  intro i j hij hj
  rw [hn] at hj
  obtain ⟨i', hi', ei, di⟩ := e i (by omega)
  rcases Nat.eq_or_lt_of_le (Nat.le_of_lt_succ hj) with g | g
  · rw [g, elast, ei]; exact hm i' hi'
  · obtain ⟨j', hj', ej, dj⟩ := e j g
    rw [ei, ej]
    refine h i' j' ?_ hj'
    by_cases e16 : nF σ = 16
    · rw [if_pos e16] at di dj; omega
    · rw [if_neg e16] at di dj; omega
theorem fin_fr : sM (aFin1 σ g s) = sM σ ∧ sF (aFin1 σ g s) = sF σ ∧ nG (aFin1 σ g s) = nG σ := ⟨aFin1_fr.2.2.2.1, aFin1_fr.2.2.1, aFin1_fr.2.2.2.2⟩
theorem CO_fin (h : CO σ) (hg : g < nG σ) : CO (aFin2 (aFin1 σ g s) g s) := by
  have h1 : CO (aFin1 σ g s) := by
    by_cases e : 5 ≤ slW σ s
    · rw [aFin1_t e]; exact CO_same (CO_back h hg) rfl rfl
    · rw [aFin1_f e]; exact h
  have hg1 : g < nG (aFin1 σ g s) := by rw [fin_fr.2.2]; exact hg
  generalize aFin1 σ g s = τ at h1 hg1
  rw [aFin2_eq]
  have h2 : CO (uF (aWet τ s (min 9 (slW τ s + 2))) (fiL (aWet τ s (min 9 (slW τ s + 2))) (g, s, sM τ))) := CO_same h1 rfl rfl
  exact CO_set (σ := uF (aWet τ s (min 9 (slW τ s + 2))) (fiL (aWet τ s (min 9 (slW τ s + 2))) (g, s, sM τ))) (o := sO τ) h2 hg1 rfl
theorem KW_finish (W : Wf R σ) (h : KW σ) (hb : b < nB σ) : KW (aFinish σ b) ∧ ∀ n, boE (aFinish σ b) n = if n < b then boE σ n else boE σ (n + 1) := by
  have b6 := W.2.2.2.2.2.1 b hb
  have hS : ∀ i, slD (aFinish σ b) i = slD σ i := fun i => slD_fin (g := boG σ b) b6.2.1
  have hE : ∀ n, boE (aFinish σ b) n = if n < b then boE σ n else boE σ (n + 1) := fun n => boE_era (by show (sB (aFin1 σ (boG σ b) (boS σ b))).eraseIdx b = _; rw [aFin1_fr.2.1]) hS
  have hn := nB_finish hb
  have hm := sM_finish (σ := σ) (b := b)
  refine ⟨⟨fun k hk => ?_, ?_, ?_⟩, hE⟩
  · rw [hm, hE]
    by_cases e : k < b
    · rw [if_pos e]; exact h.1 k (by omega)
    · rw [if_neg e]; exact h.1 (k + 1) (by omega)
  · refine FS_fin (σ := σ) (g := boG σ b) (s := boS σ b) h.2.1 (fun k hk => (W.2.2.2.2.2.2 k hk).2.2) ?_
    have e1 := (fin_fr (σ := σ) (g := boG σ b) (s := boS σ b)).1
    have e2 := (fin_fr (σ := σ) (g := boG σ b) (s := boS σ b)).2.1
    show fiL (aWet (aFin1 σ (boG σ b) (boS σ b)) _ _) (boG σ b, boS σ b, sM (aFin1 σ (boG σ b) (boS σ b))) = _
    rw [e1]
    unfold fiL nF
    rw [show sF (aWet (aFin1 σ (boG σ b) (boS σ b)) (boS σ b) (min 9 (slW (aFin1 σ (boG σ b) (boS σ b)) (boS σ b) + 2))) = sF σ from e2]
  · exact CO_same (CO_fin h.2.2 b6.1) rfl rfl
theorem KV_fins : ∀ (n b c : Nat) (τ : St), Wf (R + c) τ → KW τ → (∀ k, k < b → k < nB τ → sM τ < boE τ k) → c + nB τ ≤ 12 → nB τ - b ≤ n → KV (aFins n b c τ).2
  | 0, b, c, τ, W, h, hb, _, hn => ⟨fun k hk => hb k (by have hk : k < nB τ := hk; omega) hk, h.2.1, h.2.2⟩
  | n + 1, b, c, τ, W, h, hb, hc, hn => by
    have e0 : aFins (n + 1) b c τ = cH (b < nB τ) (cH (boE τ b = sM τ) (aFins n b (c + 1) (aFinish τ b)) (aFins n (b + 1) c τ)) (c, τ) := rfl
    rw [e0]
    by_cases h1 : b < nB τ
    · rw [cH_t h1]
      by_cases h2 : boE τ b = sM τ
      · rw [cH_t h2]
        obtain ⟨k1, k2⟩ := KW_finish W h h1
        have hnb := nB_finish h1
        refine KV_fins n b (c + 1) _ (Wf_finish W h1) k1 (fun k q1 q2 => ?_) (by omega) (by omega)
        rw [sM_finish, k2, if_pos q1]
        exact hb k q1 (by omega)
      · rw [cH_f h2]
        refine KV_fins n (b + 1) c τ W h (fun k q1 q2 => ?_) hc (by omega)
        rcases Nat.eq_or_lt_of_le (Nat.le_of_lt_succ q1) with e | e
        · rw [e]; have := h.1 b h1; omega
        · exact hb k e q2
    · rw [cH_f h1]
      exact ⟨fun k hk => hb k (by have hk : k < nB τ := hk; omega) hk, h.2.1, h.2.2⟩
theorem KV_minute (W : Wf R σ) (h : KV σ) : KV (aMinute σ).2 := by
  obtain ⟨w1, w2, -⟩ := aC_all W (nS σ) (Nat.le_refl _)
  have h1 : KV (aMin1 σ) := KV_aC W h _ (Nat.le_refl _)
  have h2 := KW_min h1
  have W2 : Wf R (aMin2 (aMin1 σ)) := Wf_min w1
  have h3 : KW (aM3 σ) := KW_aD W2 h2 _ (Nat.le_refl _)
  obtain ⟨u1, -, -⟩ := aM3_all W
  rw [aMinute_eq]
  exact KV_fins (R := R) _ 0 0 _ u1 h3 (fun k hk => absurd hk (Nat.not_lt_zero k)) (by have := u1.1.2.2.1; omega) (Nat.sub_le _ _)
theorem KV_mins (W : Wf R σ) (h : KV σ) : ∀ k, KV (aMins k σ).2
  | 0 => h
  | k + 1 => KV_minute (Wf_mins W k).1 (KV_mins W h k)
/-- every op keeps it -/
def okV (x : Res) : Prop := match x with | .inl _ => True | .inr y => KV y.2
theorem okV_cH {P : Prop} {x y : Res} (h1 : P → okV x) (h2 : ¬ P → okV y) : okV (cH P x y) := by
  by_cases h : P
  · rw [cH_t h]; exact h1 h
  · rw [cH_f h]; exact h2 h
theorem okV_does {cc : Cmd} (W : Wf R σ) (hm : sM σ ≤ 100000) (h : KV σ) : okV (aDoes σ cc) := by
  have b1 := W.1
  have hB : ∀ {x z : Int32}, okV (aBuild σ x z) := okV_cH (fun _ => trivial) (fun _ => okV_cH (fun _ => trivial) (fun _ => KV_build W h))
  have hA : okV (aAddG σ) := okV_cH (fun _ => trivial) (fun _ => KV_addG h)
  have hK : ∀ {x z w : Int32}, okV (aBook σ x z w) := fun {x z w} => okV_cH (fun _ => trivial) (fun h1 => okV_cH (fun _ => trivial) (fun h2 => okV_cH (fun _ => trivial) (fun h3 => okV_cH (fun _ => trivial) (fun _ => by
    have h1 := Classical.not_not.mp h1
    have h2 := Classical.not_not.mp h2
    obtain ⟨q1, q2⟩ := ix_of (by omega) h1.1
    obtain ⟨q3, q4⟩ := ix_of (by omega) h1.2
    obtain ⟨j, j1, j2, rfl⟩ := (rgI (by omega) (by omega)).mp h2
    exact KV_make W h q1 q3 (by omega) (by rw [iN_nI (by omega)]; exact j1)))))
  have hC : ∀ {x : Int32}, okV (aCanc σ x) := okV_cH (fun _ => trivial) (fun h1 => okV_cH (fun _ => trivial) (fun _ => KV_canc W h (ix_of (by omega) (Classical.not_not.mp h1)).1))
  have hJ : ∀ {x z : Int32}, okV (aJoin σ x z) := okV_cH (fun _ => trivial) (fun h1 => okV_cH (fun _ => trivial) (fun _ => okV_cH (fun _ => trivial) (fun _ => KV_que h (ix_of (by omega) (Classical.not_not.mp h1).2).1)))
  have hL : ∀ {x : Int32}, okV (aLeave σ x) := fun {x} => okV_cH (fun _ => trivial) (fun h1 => okV_cH (fun _ => trivial) (fun h2 => KV_que h (by have := wai_leS (σ := σ) (g := iN x); omega)))
  have hP : ∀ {x : Int32}, okV (aPass σ x) := okV_cH (fun _ => trivial) (fun _ => KV_mins W h _)
  unfold aDoes
  split
  · exact hB
  split
  · exact hJ
  split
  · exact hK
  split
  · exact hC
  split
  · exact hL
  split
  · exact hP
  · exact hA
end PL4
