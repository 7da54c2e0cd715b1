/-! OPS: what the park's calls do to the state -/
def uS (σ : St) (l : List SlT) : St := (l, σ.2)
def uG (σ : St) (l : List GuT) : St := (σ.1, l, σ.2.2)
def uB (σ : St) (l : List BoT) : St := (σ.1, σ.2.1, l, σ.2.2.2)
def uF (σ : St) (l : List BoT) : St := (σ.1, σ.2.1, σ.2.2.1, l, σ.2.2.2.2)
def uM (σ : St) (n : Nat) : St := (σ.1, σ.2.1, σ.2.2.1, σ.2.2.2.1, n, σ.2.2.2.2.2)
def uO (σ : St) (x : Int32) : St := (σ.1, σ.2.1, σ.2.2.1, σ.2.2.2.1, σ.2.2.2.2.1, x, σ.2.2.2.2.2.2)
def uR (σ : St) (x : Int32) : St := (σ.1, σ.2.1, σ.2.2.1, σ.2.2.2.1, σ.2.2.2.2.1, σ.2.2.2.2.2.1, x, σ.2.2.2.2.2.2.2)
def uP (σ : St) (x : Int32) : St := (σ.1, σ.2.1, σ.2.2.1, σ.2.2.2.1, σ.2.2.2.2.1, σ.2.2.2.2.2.1, σ.2.2.2.2.2.2.1, x)
/-- an outcome: the place of an exception, or an answer and the new state -/
abbrev Res : Type := Nat ⊕ (Nat × St)
abbrev iN (x : Int32) : Nat := x.toNatClampNeg
def ovl (σ : St) (k s t : Nat) : Prop := boT σ k < t + slD σ s ∧ t < boE σ k
/-- a booking of the slide, or of the guest gv, is in the way of slide s from t on -/
def aCl (σ : St) (gv : Int32) (s t : Nat) : Prop := aN (fun k => (boS σ k = s ∨ nI (boG σ k) = gv) ∧ ovl σ k s t) (nB σ)
def aPay (σ : St) (g c : Nat) : St := uO (uG σ ((sG σ).set g (guC σ g - c, guR σ g))) (sO σ + nI c)
def aBack (σ : St) (g c : Nat) : St := uR (uO (uG σ ((sG σ).set g (guC σ g + c, guR σ g))) (sO σ + -(nI c))) (sR σ + nI c)
def aMake (σ : St) (g s t : Nat) : St := uB (aPay σ g (slP σ s)) (sB σ ++ [(g, s, t)])
def aDrop (σ : St) (b : Nat) : St := uB σ ((sB σ).eraseIdx b)
def aQue (σ : St) (s : Nat) (q : List Nat) : St := uS σ ((sS σ).set s (slD σ s, slP σ s, slW σ s, q))
def aWet (σ : St) (s w : Nat) : St := uS σ ((sS σ).set s (slD σ s, slP σ s, w, slQ σ s))
noncomputable def aBuild (σ : St) (d p : Int32) : Res :=
  cH (¬ ((nI 1 ≤ d ∧ d ≤ nI 9) ∧ (nI 1 ≤ p ∧ p ≤ nI 9))) (.inl 1) (cH (nS σ = 4) (.inl 2) (.inr (nS σ, uS σ (sS σ ++ [(iN d, iN p, 0, [])]))))
noncomputable def aAddG (σ : St) : Res := cH (nG σ = 10) (.inl 1) (.inr (nG σ, uG σ (sG σ ++ [(50, 0)])))
abbrev okG (σ : St) (x : Int32) : Prop := 0 ≤ x ∧ x ≤ nI (nG σ) - 1
abbrev okS (σ : St) (x : Int32) : Prop := 0 ≤ x ∧ x ≤ nI (nS σ) - 1
abbrev okB (σ : St) (x : Int32) : Prop := 0 ≤ x ∧ x ≤ nI (nB σ) - 1
abbrev okT (σ : St) (x : Int32) : Prop := nI (sM σ) ≤ x ∧ x ≤ nI (sM σ + 120)
noncomputable def aBook (σ : St) (g s t : Int32) : Res :=
  cH (¬ (okG σ g ∧ okS σ s)) (.inl 1) (cH (¬ okT σ t) (.inl 2) (cH (nB σ = 12 ∨ guC σ (iN g) < slP σ (iN s)) (.inl 3) (cH (aCl σ g (iN s) (iN t)) (.inl 4) (.inr (nB σ, aMake σ (iN g) (iN s) (iN t))))))
noncomputable def aCanc (σ : St) (b : Int32) : Res :=
  cH (¬ okB σ b) (.inl 1) (cH (boT σ (iN b) ≤ sM σ) (.inl 2) (.inr (guC σ (boG σ (iN b)) + slP σ (boS σ (iN b)), aDrop (aBack σ (boG σ (iN b)) (slP σ (boS σ (iN b)))) (iN b))))
noncomputable def aJoin (σ : St) (g s : Int32) : Res :=
  cH (¬ (okG σ g ∧ okS σ s)) (.inl 1) (cH (0 < wai σ (iN g)) (.inl 2) (cH ((slQ σ (iN s)).length = 5) (.inl 3) (.inr ((slQ σ (iN s)).length + 1, aQue σ (iN s) (slQ σ (iN s) ++ [iN g])))))
noncomputable def aLeave (σ : St) (g : Int32) : Res :=
  cH (¬ okG σ g) (.inl 1) (cH (wai σ (iN g) = 0) (.inl 2) (.inr (wai σ (iN g) - 1, aQue σ (wai σ (iN g) - 1) ((slQ σ (wai σ (iN g) - 1)).erase (iN g)))))
/-- the first in a slide's queue is called -/
noncomputable def aCall (σ : St) (s : Nat) : St :=
  match slQ σ s with
  | [] => σ
  | g :: r => cH (guC σ g < slP σ s) (aQue σ s r) (cH (nB σ < 12 ∧ ¬ aCl σ (nI g) s (sM σ)) (aMake (aQue σ s r) g s (sM σ)) σ)
def aBusy (σ : St) (s t : Nat) : Prop := aN (fun k => boS σ k = s ∧ boT σ k ≤ t ∧ t < boE σ k) (nB σ)
noncomputable def aDry (σ : St) (s : Nat) : St := cH (aBusy σ s (sM σ - 1)) σ (aWet σ s (slW σ s - 1))
/-- the finish of booking b: refund of a wet slide, wetness, ride, the list of finishes -/
noncomputable def aFin1 (σ : St) (g s : Nat) : St := cH (5 ≤ slW σ s) (uP (aBack σ g (slP σ s / 2)) (sP σ + nI 1)) σ
def aFin2 (σ : St) (g s : Nat) : St :=
  let σ1 := aWet σ s (min 9 (slW σ s + 2))
  let σ2 := uG σ1 ((sG σ1).set g (guC σ1 g, guR σ1 g + 1))
  uF σ2 ((if nF σ2 = 16 then (sF σ2).drop 1 else sF σ2) ++ [(g, s, sM σ2)])
noncomputable def aFinish (σ : St) (b : Nat) : St := aDrop (aFin2 (aFin1 σ (boG σ b) (boS σ b)) (boG σ b) (boS σ b)) b
noncomputable def aFins : Nat → Nat → Nat → St → Nat × St
  | 0, _, c, σ => (c, σ)
  | n + 1, b, c, σ => cH (b < nB σ) (cH (boE σ b = sM σ) (aFins n b (c + 1) (aFinish σ b)) (aFins n (b + 1) c σ)) (c, σ)
noncomputable def aMin1 (σ : St) : St := ff (fun s σ => aCall σ s) σ (nS σ)
noncomputable def aMin2 (σ : St) : St := uM σ (sM σ + 1)
noncomputable def aMin3 (σ : St) : St := ff (fun s σ => aDry σ s) σ (nS σ)
noncomputable def aMinute (σ : St) : Nat × St := let σ3 := aMin3 (aMin2 (aMin1 σ)); aFins (nB σ3) 0 0 σ3
noncomputable def aMins (n : Nat) (σ : St) : Nat × St := ff (fun _ x => ((x.1 + (aMinute x.2).1), (aMinute x.2).2)) (0, σ) n
noncomputable def aPass (σ : St) (m : Int32) : Res := cH (¬ (nI 1 ≤ m ∧ m ≤ nI 60)) (.inl 1) (.inr (aMins (iN m) σ))
/-- an outcome in the reference: its answer, what it has thrown, its numbers -/
def rI (R : Res) : Int32 := match R with | .inl _ => nI 0 | .inr x => nI x.1
def rV (R : Res) (v : Nat → Int32) : Nat → Int32 := match R with | .inl c => vU v 6 (nI c) | .inr _ => v
def rM (R : Res) (f f' : Nat → Int32) : Prop := match R with | .inl _ => f' = f | .inr x => MR f' x.2
theorem FU_self {F : Nat → Nat → Int32} {j : Nat} : FU F j (F j) = F := by
  funext i
  unfold FU
  by_cases h : i = j
  · rw [if_pos h, h]
  · rw [if_neg h]
theorem FU_s {F : Nat → Nat → Int32} {j : Nat} {f : Nat → Int32} : FU F j f j = f := if_pos rfl
theorem FU_n {F : Nat → Nat → Int32} {i j : Nat} {f : Nat → Int32} (h : i ≠ j) : FU F j f i = F i := if_neg h
theorem FU_FU {F : Nat → Nat → Int32} {j : Nat} {f g : Nat → Int32} : FU (FU F j f) j g = FU F j g := by
  funext i
  unfold FU
  by_cases h : i = j
  · rw [if_pos h, if_pos h]
  · rw [if_neg h, if_neg h, if_neg h]
theorem iN_nI {n : Nat} (h : n < 2 ^ 31) : iN (nI n) = n := nI_clamp h
/-- a question's outcome: the place of an exception, or the answer -/
abbrev QR : Type := Nat ⊕ Int32
def qA (r : QR) : Int32 := match r with | .inl _ => nI 0 | .inr x => x
def qT (r : QR) : Int32 := match r with | .inl c => nI c | .inr _ => nI 0
noncomputable def qSl (σ : St) (f : Nat → Nat) (x : Int32) : QR := cH (okS σ x) (.inr (nI (f (iN x)))) (.inl 1)
noncomputable def qGu (σ : St) (f : Nat → Nat) (x : Int32) : QR := cH (okG σ x) (.inr (nI (f (iN x)))) (.inl 1)
noncomputable def qBo (σ : St) (f : Nat → Nat) (x : Int32) : QR := cH (okB σ x) (.inr (nI (f (iN x)))) (.inl 1)
noncomputable def qStd (σ : St) (x : Int32) : QR := cH (okB σ x) (.inr (bI (boT σ (iN x) ≤ sM σ))) (.inl 1)
noncomputable def aDur (σ : St) (s t : Nat) : Int32 := lst (fun k => boS σ k = s ∧ boT σ k ≤ t ∧ t < boE σ k) (-1) (nB σ)
noncomputable def qRider (σ : St) (x : Int32) : QR := cH (okS σ x) (cH (aBusy σ (iN x) (sM σ)) (.inr (nI (boG σ (iN (aDur σ (iN x) (sM σ)))))) (.inl 2)) (.inl 1)
noncomputable def qQue (σ : St) (x : Int32) : QR := cH (okG σ x) (cH (wai σ (iN x) = 0) (.inl 2) (.inr (nI (wai σ (iN x) - 1)))) (.inl 1)
noncomputable def qQgu (σ : St) (x y : Int32) : QR := cH (okS σ x) (cH (0 ≤ y ∧ y ≤ nI (slQ σ (iN x)).length - 1) (.inr (nI ((slQ σ (iN x)).getD (iN y) 0))) (.inl 2)) (.inl 1)
/-- a booking that comes ahead by start and slide -/
def rkB (σ : St) (one other : Nat) : Prop := boT σ other < boT σ one ∨ (boT σ one = boT σ other ∧ boS σ other < boS σ one)
noncomputable def aRnk (σ : St) (r : Int32) : Int32 := lst (fun one => nI (cN (rkB σ one) (nB σ)) = r) (-1) (nB σ)
noncomputable def qRnk (σ : St) (x : Int32) : QR := cH (okB σ x) (.inr (aRnk σ x)) (.inl 1)
noncomputable def qFre (σ : St) (x y : Int32) : QR := cH (okS σ x) (cH (okT σ y) (.inr (bI (¬ aCl σ (-1) (iN x) (iN y)))) (.inl 2)) (.inl 1)
noncomputable def qFin (σ : St) (f : Nat → Nat) (x : Int32) : QR := cH (0 ≤ x ∧ x ≤ nI (nF σ) - 1) (.inr (nI (f (nF σ - 1 - iN x)))) (.inl 1)
/-- the first free minute from t on, n minutes tried -/
noncomputable def aFF (σ : St) (s : Nat) : Nat → Nat → Option Nat
  | _, 0 => none
  | t, n + 1 => cH (aCl σ (-1) s t) (aFF σ s (t + 1) n) (some t)
noncomputable def qFF (σ : St) (x y : Int32) : QR := cH (okS σ x) (cH (okT σ y) (match aFF σ (iN x) (iN y) (sM σ + 121 - iN y) with | none => .inl 3 | some t => .inr (nI t)) (.inl 2)) (.inl 1)
def rkG (σ : St) (one other : Nat) : Prop := guR σ one < guR σ other ∨ (guR σ other = guR σ one ∧ (guC σ one < guC σ other ∨ (guC σ other = guC σ one ∧ other < one)))
noncomputable def qRkG (σ : St) (x : Int32) : QR := cH (okG σ x) (.inr (lst (fun one => nI (cN (rkG σ one) (nG σ)) = x) (nI 0) (nG σ))) (.inl 1)
def rkS (σ : St) (one other : Nat) : Prop := slW σ one < slW σ other ∨ (slW σ other = slW σ one ∧ other < one)
noncomputable def qRkS (σ : St) (x : Int32) : QR := cH (okS σ x) (.inr (lst (fun one => nI (cN (rkS σ one) (nS σ)) = x) (nI 0) (nS σ))) (.inl 1)
/-- how many bookings are on at the start of one, at most -/
noncomputable def aOnce (σ : St) : Nat := ff (fun one m => max m (cN (fun k => boT σ k ≤ boT σ one ∧ boT σ one < boE σ k) (nB σ))) 0 (nB σ)
noncomputable def aPho (σ : St) : Nat := ff (fun one m => m + cN (fun k => fiM σ (nF σ - 1 - one) = fiM σ (nF σ - 1 - k)) one) 0 (nF σ)
theorem lst_or (P : Nat → Prop) (d : Int32) : ∀ n, (¬ aN P n ∧ lst P d n = d) ∨ ∃ k, k < n ∧ P k ∧ lst P d n = nI k
  | 0 => Or.inl ⟨aN_0, rfl⟩
  | n + 1 => by
    by_cases h : P n
    · exact Or.inr ⟨n, Nat.lt_succ_self n, h, lst_t h⟩
    · rw [lst_f h]
      rcases lst_or P d n with ⟨h1, h2⟩ | ⟨k, h1, h2, h3⟩
      · exact Or.inl ⟨fun g => (aN_s.mp g).elim h1 h, h2⟩
      · exact Or.inr ⟨k, by omega, h2, h3⟩
theorem nI_m1lt : ((-1 : Int32) < 0) := by decide
theorem wai_leS {σ : St} {g : Nat} : wai σ g ≤ nS σ := by
  unfold wai
  cases h : qOf σ g with
  | none => exact Nat.zero_le _
  | some i =>
    have h1 := (List.findIdx?_eq_some_iff_getElem.mp h).1
    exact h1
theorem wai_le {σ : St} {g : Nat} (hB : nS σ ≤ 4 := by omega) : wai σ g ≤ 4 := Nat.le_trans wai_leS hB
theorem vU_s {v : Nat → Int32} {j : Nat} {x : Int32} : vU v j x j = x := if_pos rfl
theorem vU_n {v : Nat → Int32} {i j : Nat} {x : Int32} (h : i ≠ j) : vU v j x i = v i := if_neg h
theorem vU_vU {v : Nat → Int32} {j : Nat} {x y : Int32} : vU (vU v j x) j y = vU v j y := by
  funext i
  unfold vU
  by_cases h : i = j
  · rw [if_pos h, if_pos h]
  · rw [if_neg h, if_neg h, if_neg h]
theorem mx_nI {x y : Nat} (hx : x < 2 ^ 31) (hy : y < 2 ^ 31) : (if nI x < nI y then nI y else nI x) = nI (max x y) := by
  by_cases h : x < y
  · rw [if_pos (nI_lt h hy), Nat.max_eq_right (Nat.le_of_lt h)]
  · rw [if_neg (nI_nlt (by omega) hx), Nat.max_eq_left (by omega)]
theorem mn_nI {x y : Nat} (hx : x < 2 ^ 31) (hy : y < 2 ^ 31) : (if nI y < nI x then nI y else nI x) = nI (min x y) := by
  by_cases h : y < x
  · rw [if_pos (nI_lt h hx), Nat.min_eq_right (Nat.le_of_lt h)]
  · rw [if_neg (nI_nlt (by omega) hy), Nat.min_eq_left (by omega)]
theorem mn_nI' {x y : Nat} (hx : x < 2 ^ 31) (hy : y < 2 ^ 31) : (if nI y < nI x then nI y else nI x) = nI (min x y) := mn_nI hx hy
theorem ff_s {α : Type} {step : Nat → α → α} {a : α} {n : Nat} : ff step a (n + 1) = step n (ff step a n) := rfl
/-- the least end among the bookings that start from l on, or 2147483647 -/
noncomputable def aBest (σ : St) (l : Nat) (n : Nat) : Nat := ff (fun k b => cH (l ≤ boT σ k) (min b (boE σ k)) b) 2147483647 n
/-- rides watched one behind another: how many -/
noncomputable def aWat (σ : St) : Nat → Nat → Nat → Nat
  | 0, _, c => c
  | n + 1, l, c => cH (aBest σ l (nB σ) < 2147483647) (aWat σ n (aBest σ l (nB σ)) (c + 1)) c
noncomputable def aWatch (σ : St) : Nat := aWat σ (nB σ + 1) 0 0
theorem aBest_or (σ : St) (l : Nat) : ∀ n, (aBest σ l n = 2147483647 ∧ ¬ aN (fun k => l ≤ boT σ k ∧ boE σ k < 2147483647) n) ∨ ∃ k, k < n ∧ l ≤ boT σ k ∧ aBest σ l n = boE σ k ∧ boE σ k < 2147483647
  | 0 => Or.inl ⟨rfl, aN_0⟩
  | n + 1 => by
    have e : aBest σ l (n + 1) = cH (l ≤ boT σ n) (min (aBest σ l n) (boE σ n)) (aBest σ l n) := rfl
    by_cases h : l ≤ boT σ n
    · rw [e, cH_t h]
      rcases aBest_or σ l n with ⟨h1, h2⟩ | ⟨k, h1, h2, h3, h4⟩
      · by_cases h5 : boE σ n < 2147483647
        · exact Or.inr ⟨n, by omega, h, by rw [h1]; omega, h5⟩
        · exact Or.inl ⟨by rw [h1]; omega, fun g => (aN_s.mp g).elim h2 (fun g => h5 g.2)⟩
      · by_cases h5 : boE σ n < boE σ k
        · exact Or.inr ⟨n, by omega, h, by omega, by omega⟩
        · exact Or.inr ⟨k, by omega, h2, by omega, h4⟩
    · rw [e, cH_f h]
      rcases aBest_or σ l n with ⟨h1, h2⟩ | ⟨k, h1, h2, h3, h4⟩
      · exact Or.inl ⟨h1, fun g => (aN_s.mp g).elim h2 (fun g => h g.1)⟩
      · exact Or.inr ⟨k, by omega, h2, h3, h4⟩
theorem aBest_le (σ : St) (l n : Nat) : aBest σ l n ≤ 2147483647 := by
  rcases aBest_or σ l n with ⟨h, -⟩ | ⟨k, -, -, h, h2⟩ <;> omega
theorem cN_mono {P P' : Nat → Prop} : ∀ {n : Nat}, (∀ k, k < n → P k → P' k) → cN P n ≤ cN P' n
  | 0, _ => Nat.le_refl _
  | n + 1, h => by
    have ih := cN_mono (P := P) (P' := P') (n := n) (fun k hk => h k (by omega))
    by_cases h1 : P n
    · rw [cN_t h1, cN_t (h n (by omega) h1)]; omega
    · rw [cN_f h1]
      by_cases h2 : P' n
      · rw [cN_t h2]; omega
      · rw [cN_f h2]; exact ih
theorem cN_lt {P P' : Nat → Prop} : ∀ {n k : Nat}, (∀ j, j < n → P j → P' j) → k < n → P' k → ¬ P k → cN P n < cN P' n
  | 0, _, _, hk, _, _ => absurd hk (Nat.not_lt_zero _)
  | n + 1, k, h, hk, h1, h2 => by
    by_cases hkn : k = n
    · subst hkn
      rw [cN_t h1, cN_f h2]
      exact Nat.lt_succ_of_le (cN_mono (fun j hj => h j (by omega)))
    · have ih := cN_lt (P := P) (P' := P') (n := n) (k := k) (fun j hj => h j (by omega)) (by omega) h1 h2
      by_cases g1 : P n
      · rw [cN_t g1, cN_t (h n (by omega) g1)]; omega
      · rw [cN_f g1]
        by_cases g2 : P' n
        · rw [cN_t g2]; omega
        · rw [cN_f g2]; exact ih
