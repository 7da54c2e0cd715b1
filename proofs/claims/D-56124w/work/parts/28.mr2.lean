/-! PURE: the numbers after join, leave, a new slide, a new guest, a finish -/
section UPS2
variable {σ : St} {f f' : Nat → Int32} {g i k x y z n s : Nat}
theorem QI.wai (hQ : QI σ) (hi : i < nS σ) (hm : g ∈ slQ σ i) : wai σ g = i + 1 := (hQ i hi).2 g hm
theorem con_app {q : List Nat} {g g' : Nat} (h : g' ≠ g) : (q ++ [g]).contains g' = q.contains g' := by
  rw [Bool.eq_iff_iff, List.contains_iff_mem, List.contains_iff_mem, List.mem_append, List.mem_singleton]
  exact ⟨fun a => a.elim id (fun e => absurd e h), Or.inl⟩
theorem con_era {q : List Nat} {g g' : Nat} (h : g' ≠ g) : (q.erase g).contains g' = q.contains g' := by
  rw [Bool.eq_iff_iff, List.contains_iff_mem, List.contains_iff_mem]
  exact List.mem_erase_of_ne h
theorem wai_join_n (hs : s < nS σ) (h : i ≠ g) : wai (aQue σ s (slQ σ s ++ [g])) i = wai σ i := by
  refine wai_congr nS_que (fun j hj => ?_)
  rw [slQ_que hs]
  by_cases e : j = s
  · rw [if_pos e, con_app h, e]
  · rw [if_neg e]
theorem wai_join_s (hs : s < nS σ) (h0 : wai σ g = 0) : wai (aQue σ s (slQ σ s ++ [g])) g = s + 1 := by
  refine wai_of (by rw [nS_que]; exact hs) (by rw [slQ_que hs, if_pos rfl]; exact List.mem_append_right _ (List.mem_singleton.mpr rfl)) (fun j hj hm => ?_)
  rw [nS_que] at hj
  rw [slQ_que hs] at hm
  by_cases e : j = s
  · exact e
  · rw [if_neg e] at hm; exact absurd hm (wai_none h0 hj)
theorem wai_leave_n (hs : s < nS σ) (h : i ≠ g) : wai (aQue σ s ((slQ σ s).erase g)) i = wai σ i := by
  refine wai_congr nS_que (fun j hj => ?_)
  rw [slQ_que hs]
  by_cases e : j = s
  · rw [if_pos e, con_era h, e]
  · rw [if_neg e]
theorem wai_leave_s (hQ : QI σ) (hs : s < nS σ) (h0 : wai σ g = s + 1) : wai (aQue σ s ((slQ σ s).erase g)) g = 0 := by
  refine wai_no (fun j hj hm => ?_)
  rw [nS_que] at hj
  rw [slQ_que hs] at hm
  by_cases e : j = s
  · rw [if_pos e] at hm
    exact absurd hm (hQ s hs).1.not_mem_erase
  · rw [if_neg e] at hm
    have := (hQ j hj).2 g hm
    omega
theorem QI_join (hQ : QI σ) (hs : s < nS σ) (h0 : wai σ g = 0) : QI (aQue σ s (slQ σ s ++ [g])) := by
  intro i hi
  rw [nS_que] at hi
  rw [slQ_que hs]
  by_cases e : i = s
  · rw [if_pos e, e]
    refine ⟨?_, fun g' hm => ?_⟩
    · rw [List.nodup_append]
      refine ⟨(hQ s hs).1, by simp, fun a ha b hb => ?_⟩
      rw [List.mem_singleton] at hb
      subst hb
      intro e2
      subst e2
      exact wai_none h0 hs ha
    · by_cases e2 : g' = g
      · subst e2; exact wai_join_s hs h0
      · rw [wai_join_n hs e2]
        rcases List.mem_append.mp hm with h | h
        · exact (hQ s hs).2 g' h
        · exact absurd (List.mem_singleton.mp h) e2
  · rw [if_neg e]
    refine ⟨(hQ i hi).1, fun g' hm => ?_⟩
    have h1 := (hQ i hi).2 g' hm
    by_cases e2 : g' = g
    · subst e2; rw [h0] at h1; exact absurd h1 (by omega)
    · rw [wai_join_n hs e2, h1]
theorem QI_leave (hQ : QI σ) (hs : s < nS σ) (h0 : wai σ g = s + 1) : QI (aQue σ s ((slQ σ s).erase g)) := by
  intro i hi
  rw [nS_que] at hi
  rw [slQ_que hs]
  by_cases e : i = s
  · rw [if_pos e, e]
    refine ⟨(hQ s hs).1.erase g, fun g' hm => ?_⟩
    by_cases e2 : g' = g
    · subst e2; exact absurd hm (hQ s hs).1.not_mem_erase
    · rw [wai_leave_n hs e2]; exact (hQ s hs).2 g' (List.mem_of_mem_erase hm)
  · rw [if_neg e]
    refine ⟨(hQ i hi).1, fun g' hm => ?_⟩
    have h1 := (hQ i hi).2 g' hm
    by_cases e2 : g' = g
    · subst e2; rw [h0] at h1; exact absurd (by omega) e
    · rw [wai_leave_n hs e2, h1]
/-- the numbers after a join -/
def joF (f : Nat → Int32) (s g n : Nat) : Nat → Int32 := upd (upd (upd f (8 + 9 * s + 4 + n) (nI g)) (8 + 9 * s + 3) (nI (n + 1))) (44 + 3 * g + 2) (nI (s + 1))
theorem MR_join (hM : MR f σ) (hC : Cp σ) (hg : g < nG σ) (hs : s < nS σ) (hn : (slQ σ s).length < 5) (h0 : wai σ g = 0) : MR (joF f s g (slQ σ s).length) (aQue σ s (slQ σ s ++ [g])) := by
  have c1 := hC.1
  have c2 := hC.2.1
  have hl : (slQ σ s ++ [g]).length = (slQ σ s).length + 1 := List.length_append ..
  refine MR_que hM hC hs (by rw [hl]; omega) ?_ (fun j hj => ?_) (fun i hi => ?_) (fun j h1 h2 => ?_)
  · unfold joF; rw [upd_n (by omega), upd_s, hl]
  · rw [hl] at hj
    rw [getD_app]
    unfold joF
    rw [upd_n (by omega), upd_n (by omega)]
    by_cases e : j = (slQ σ s).length
    · rw [if_pos e, upd_e (by omega)]
    · rw [if_neg e, upd_n (by omega)]
      exact hM.2.2.1 s hs j (by omega)
  · by_cases e : i = g
    · subst e; rw [wai_join_s hs h0]; unfold joF; rw [upd_s]
    · rw [wai_join_n hs e]; unfold joF; rw [upd_n (by omega), upd_n (by omega), upd_n (by omega)]; exact (hM.2.2.2.1 i hi).2.2
  · have := h2 g hg
    unfold joF; rw [upd_n (by omega), upd_n (by omega), upd_n (by omega)]
/-- the numbers after a leave, from those that the loop has left -/
theorem MR_leave {fk : Nat → Int32} (hM : MR f σ) (hC : Cp σ) (hQ : QI σ) (hg : g < nG σ) (hs : s < nS σ) (h0 : wai σ g = s + 1) (hk1 : ∀ j, (j < 8 + 9 * s + 4 ∨ 8 + 9 * s + 9 ≤ j) → fk j = f j) (hk2 : ∀ j, j < ((slQ σ s).erase g).length → fk (8 + 9 * s + 4 + j) = nI (((slQ σ s).erase g).getD j 0)) : MR (upd (upd fk (8 + 9 * s + 3) (nI ((slQ σ s).erase g).length)) (44 + 3 * g + 2) (nI 0)) (aQue σ s ((slQ σ s).erase g)) := by
  have c1 := hC.1
  have c2 := hC.2.1
  have c5 := hC.2.2.2.2 s hs
  have hl : ((slQ σ s).erase g).length ≤ (slQ σ s).length := List.length_erase_le
  refine MR_que hM hC hs (by omega) ?_ (fun j hj => ?_) (fun i hi => ?_) (fun j h1 h2 => ?_)
  · rw [upd_n (by omega), upd_s]
  · rw [upd_n (by omega), upd_n (by omega), show 8 + 9 * s + (4 + j) = 8 + 9 * s + 4 + j by omega]
    exact hk2 j hj
  · by_cases e : i = g
    · subst e; rw [wai_leave_s hQ hs h0, upd_s]
    · rw [wai_leave_n hs e, upd_n (by omega), upd_n (by omega), hk1 _ (by omega)]; exact (hM.2.2.2.1 i hi).2.2
  · have := h2 g hg
    rcases h1 with h1 | h1
    · rw [upd_n (by omega), upd_n (by omega), hk1 _ (by omega)]
    · rw [upd_n (by omega), upd_n (by omega), hk1 _ (by omega)]
/-- k numbers set to 0 from z on -/
def zF (f : Nat → Int32) (z k : Nat) : Nat → Int32 := fun j => if z ≤ j ∧ j < z + k then nI 0 else f j
theorem zF_0 : zF f z 0 = f := by funext j; unfold zF; rw [if_neg (by omega)]
theorem zF_s : upd (zF f z k) (z + k) (nI 0) = zF f z (k + 1) := by
  funext j
  by_cases h : j = z + k
  · rw [upd_e h]; unfold zF; rw [if_pos (by omega)]
  · rw [upd_n h]; unfold zF
    by_cases h2 : z ≤ j ∧ j < z + k
    · rw [if_pos h2, if_pos (by omega)]
    · rw [if_neg h2, if_neg (by omega)]
theorem zF_i (h : z ≤ i) (h2 : i < z + k) : zF f z k i = nI 0 := if_pos ⟨h, h2⟩
theorem zF_o (h : i < z ∨ z + k ≤ i) : zF f z k i = f i := if_neg (by omega)
def buF (f : Nat → Int32) (n d p : Nat) : Nat → Int32 := upd (upd (upd (zF f (8 + 9 * n) 9) (8 + 9 * n) (nI d)) (8 + 9 * n + 1) (nI p)) 0 (nI (n + 1))
theorem slApp {b : SlT} : (sS (uS σ (sS σ ++ [b]))).getD i (0, 0, 0, []) = if i = nS σ then b else (sS σ).getD i (0, 0, 0, []) := getD_app
theorem wai_build {d p w : Nat} : wai (uS σ (sS σ ++ [(d, p, w, [])])) g = wai σ g := by
  have e : qOf (uS σ (sS σ ++ [(d, p, w, [])])) g = qOf σ g := by
    show ((sS σ ++ [(d, p, w, [])]).findIdx? _) = _
    rw [List.findIdx?_append]
    unfold qOf
    cases h : (sS σ).findIdx? (fun x => x.2.2.2.contains g) with
    | some j => rfl
    | none => simp [List.findIdx?_cons]
  unfold wai
  rw [e]
theorem MR_build {d p : Nat} (hM : MR f σ) (hC : Cp σ) (hn : nS σ < 4) : MR (buF f (nS σ) d p) (uS σ (sS σ ++ [(d, p, 0, [])])) := by
  have c2 := hC.2.1
  have hl : nS (uS σ (sS σ ++ [(d, p, 0, [])])) = nS σ + 1 := List.length_append ..
  have key : ∀ j, (j < 8 + 9 * nS σ ∨ 8 + 9 * nS σ + 9 ≤ j) → j ≠ 0 → buF f (nS σ) d p j = f j := fun j h1 h2 => by
    unfold buF; rw [upd_n h2, upd_n (by omega), upd_n (by omega), zF_o h1]
  have hq : ∀ i, slQ (uS σ (sS σ ++ [(d, p, 0, [])])) i = if i = nS σ then [] else slQ σ i := fun i => by
    unfold slQ; rw [slApp]; split <;> rfl
  obtain ⟨m0, m1, m2, m3, m4, m5⟩ := hM
  refine ⟨?_, fun i hi => ?_, fun i hi j hj => ?_, fun i hi => ?_, T4 (σ := σ) hC (fun j _ _ => key j (by omega) (by omega)) m4, T5 (σ := σ) hC (fun j _ _ => key j (by omega) (by omega)) m5⟩
  · rw [hl, key 1 (by omega) (by omega), key 2 (by omega) (by omega), key 3 (by omega) (by omega), key 4 (by omega) (by omega), key 5 (by omega) (by omega), key 6 (by omega) (by omega), key 7 (by omega) (by omega)]
    exact ⟨upd_s, m0.2⟩
  · rw [hl] at hi
    rw [hq]
    unfold slD slP slW
    rw [slApp]
    by_cases h : i = nS σ
    · rw [if_pos h, if_pos h, h]
      unfold buF
      refine ⟨?_, ?_, ?_, ?_⟩
      · rw [upd_n (by omega), upd_n (by omega), upd_s]
      · rw [upd_n (by omega), upd_s]
      · rw [upd_n (by omega), upd_n (by omega), upd_n (by omega), zF_i (by omega) (by omega)]
      · rw [upd_n (by omega), upd_n (by omega), upd_n (by omega), zF_i (by omega) (by omega)]; rfl
    · rw [if_neg h, if_neg h, key _ (by omega) (by omega), key _ (by omega) (by omega), key _ (by omega) (by omega), key _ (by omega) (by omega)]
      exact m1 i (by omega)
  · rw [hl] at hi
    rw [hq] at hj ⊢
    by_cases h : i = nS σ
    · rw [if_pos h] at hj; exact absurd hj (Nat.not_lt_zero _)
    · rw [if_neg h] at hj ⊢
      have := hC.2.2.2.2 i (by omega)
      rw [key _ (by omega) (by omega)]
      exact m2 i (by omega) j hj
  · rw [wai_build]
    exact T3 (σ := σ) hC (fun j _ _ => key j (by omega) (by omega)) m3 i hi
def agF (f : Nat → Int32) (n : Nat) : Nat → Int32 := upd (upd (upd (upd f (44 + 3 * n) (nI 50)) (44 + 3 * n + 1) (nI 0)) (44 + 3 * n + 2) (nI 0)) 1 (nI (n + 1))
theorem MR_addG (hM : MR f σ) (hC : Cp σ) (hn : nG σ < 10) (hw : wai σ (nG σ) = 0) : MR (agF f (nG σ)) (uG σ (sG σ ++ [(50, 0)])) := by
  have c1 := hC.1
  have hl : nG (uG σ (sG σ ++ [(50, 0)])) = nG σ + 1 := List.length_append ..
  have key : ∀ j, (j < 44 + 3 * nG σ ∨ 44 + 3 * nG σ + 3 ≤ j) → j ≠ 1 → agF f (nG σ) j = f j := fun j h1 h2 => by
    unfold agF; rw [upd_n h2, upd_n (by omega), upd_n (by omega), upd_n (by omega)]
  obtain ⟨m0, m1, m2, m3, m4, m5⟩ := hM
  refine ⟨?_, T1 (σ := σ) hC (fun j _ _ => key j (by omega) (by omega)) m1, T2 (σ := σ) hC (fun j _ _ => key j (by omega) (by omega)) m2, fun i hi => ?_, T4 (σ := σ) hC (fun j _ _ => key j (by omega) (by omega)) m4, T5 (σ := σ) hC (fun j _ _ => key j (by omega) (by omega)) m5⟩
  · rw [hl, key 0 (by omega) (by omega), key 2 (by omega) (by omega), key 3 (by omega) (by omega), key 4 (by omega) (by omega), key 5 (by omega) (by omega), key 6 (by omega) (by omega), key 7 (by omega) (by omega)]
    exact ⟨m0.1, upd_s, m0.2.2⟩
  · rw [hl] at hi
    have ew : wai (uG σ (sG σ ++ [(50, 0)])) i = wai σ i := rfl
    have eg : (sG (uG σ (sG σ ++ [(50, 0)]))).getD i (0, 0) = if i = nG σ then (50, 0) else (sG σ).getD i (0, 0) := getD_app
    rw [ew]
    unfold guC guR
    rw [eg]
    by_cases h : i = nG σ
    · rw [if_pos h, h, hw]
      unfold agF
      refine ⟨?_, ?_, ?_⟩
      · rw [upd_n (by omega), upd_n (by omega), upd_n (by omega), upd_s]
      · rw [upd_n (by omega), upd_n (by omega), upd_s]
      · rw [upd_n (by omega), upd_s]
    · rw [if_neg h, key _ (by omega) (by omega), key _ (by omega) (by omega), key _ (by omega) (by omega)]
      exact m3 i (by omega)
/-- the list of finishes after one more -/
def fiL (σ : St) (b : BoT) : List BoT := (if nF σ = 16 then (sF σ).drop 1 else sF σ) ++ [b]
theorem fiL_len {b : BoT} (h : nF σ ≤ 16) : (fiL σ b).length = min 16 (nF σ + 1) := by
  unfold fiL
  rw [List.length_append]
  by_cases e : nF σ = 16
  · rw [if_pos e, List.length_drop]
    have e : (sF σ).length = 16 := e
    have e2 : nF σ = 16 := e
    simp only [List.length_singleton, e, e2]
    omega
  · rw [if_neg e]
    have e2 : (sF σ).length = nF σ := rfl
    simp only [List.length_singleton, e2]
    omega
theorem fiL_get {b : BoT} (h : nF σ ≤ 16) (hk : k < min 16 (nF σ + 1)) : (fiL σ b).getD (min 16 (nF σ + 1) - 1 - k) (0, 0, 0) = if k = 0 then b else (sF σ).getD (nF σ - 1 - (k - 1)) (0, 0, 0) := by
  unfold fiL
  rw [getD_app]
  by_cases e : nF σ = 16
  · rw [if_pos e, List.length_drop]
    have e1 : (sF σ).length = 16 := e
    by_cases e2 : k = 0
    · rw [if_pos e2, if_pos (by omega)]
    · rw [if_neg e2, if_neg (by omega), getD_d1]
      congr 1; omega
  · rw [if_neg e]
    have e1 : (sF σ).length = nF σ := rfl
    by_cases e2 : k = 0
    · rw [if_pos e2, if_pos (by omega)]
    · rw [if_neg e2, if_neg (by omega)]
      congr 1; omega
def fiF (f : Nat → Int32) (g s m n : Nat) : Nat → Int32 := upd (upd (upd (upd (va_cpy f f 110 113 45) 110 (nI g)) 111 (nI s)) 112 (nI m)) 4 (nI (min 16 (n + 1)))
theorem MR_fin {m : Nat} (hM : MR f σ) (hC : Cp σ) : MR (fiF f g s m (nF σ)) (uF σ (fiL σ (g, s, m))) := by
  have c1 := hC.1
  have c2 := hC.2.1
  have c3 := hC.2.2.1
  have c4 := hC.2.2.2.1
  have hl : nF (uF σ (fiL σ (g, s, m))) = min 16 (nF σ + 1) := fiL_len c4
  have key : ∀ j, j < 110 → j ≠ 4 → fiF f g s m (nF σ) j = f j := fun j h1 h2 => by
    unfold fiF; rw [upd_n h2, upd_n (by omega), upd_n (by omega), upd_n (by omega), pk_cpy_out (by omega)]
  have key2 : ∀ j, 113 ≤ j → j < 158 → fiF f g s m (nF σ) j = f (j - 3) := fun j h1 h2 => by
    unfold fiF; rw [upd_n (by omega), upd_n (by omega), upd_n (by omega), upd_n (by omega), pk_cpy_in h1 (by omega)]
    congr 1; omega
  obtain ⟨m0, m1, m2, m3, m4, m5⟩ := hM
  refine ⟨?_, T1 (σ := σ) hC (fun j _ _ => key j (by omega) (by omega)) m1, T2 (σ := σ) hC (fun j _ _ => key j (by omega) (by omega)) m2, T3 (σ := σ) hC (fun j _ _ => key j (by omega) (by omega)) m3, T4 (σ := σ) hC (fun j _ _ => key j (by omega) (by omega)) m4, fun i hi => ?_⟩
  · rw [hl, key 0 (by omega) (by omega), key 1 (by omega) (by omega), key 2 (by omega) (by omega), key 3 (by omega) (by omega), key 5 (by omega) (by omega), key 6 (by omega) (by omega), key 7 (by omega) (by omega)]
    exact ⟨m0.1, m0.2.1, m0.2.2.1, m0.2.2.2.1, upd_s, m0.2.2.2.2.2⟩
  · rw [hl] at hi ⊢
    have e : (sF (uF σ (fiL σ (g, s, m)))).getD (min 16 (nF σ + 1) - 1 - i) (0, 0, 0) = if i = 0 then (g, s, m) else (sF σ).getD (nF σ - 1 - (i - 1)) (0, 0, 0) := fiL_get c4 hi
    unfold fiG fiS fiM
    rw [e]
    by_cases h : i = 0
    · rw [if_pos h, h]
      unfold fiF
      refine ⟨?_, ?_, ?_⟩
      · rw [upd_n (by omega), upd_n (by omega), upd_n (by omega), upd_s]
      · rw [upd_n (by omega), upd_n (by omega), upd_s]
      · rw [upd_n (by omega), upd_s]
    · rw [if_neg h, key2 _ (by omega) (by omega), key2 _ (by omega) (by omega), key2 _ (by omega) (by omega)]
      have := m5 (i - 1) (by omega)
      rw [show 110 + 3 * i - 3 = 110 + 3 * (i - 1) by omega, show 110 + 3 * i + 1 - 3 = 110 + 3 * (i - 1) + 1 by omega, show 110 + 3 * i + 2 - 3 = 110 + 3 * (i - 1) + 2 by omega]
      exact this
end UPS2
