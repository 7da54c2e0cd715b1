/-! PURE: the park's state as a value, its bounds, small tools -/
abbrev SlT : Type := Nat × Nat × Nat × List Nat
abbrev GuT : Type := Nat × Nat
abbrev BoT : Type := Nat × Nat × Nat
/-- slides (duration, price, wetness, queue), guests (coins, rides), bookings (guest, slide, start), finishes (guest, slide, minute), minute, office, refunded, splashes -/
abbrev St : Type := List SlT × List GuT × List BoT × List BoT × Nat × Int32 × Int32 × Int32
abbrev sS (σ : St) : List SlT := σ.1
abbrev sG (σ : St) : List GuT := σ.2.1
abbrev sB (σ : St) : List BoT := σ.2.2.1
abbrev sF (σ : St) : List BoT := σ.2.2.2.1
abbrev sM (σ : St) : Nat := σ.2.2.2.2.1
abbrev sO (σ : St) : Int32 := σ.2.2.2.2.2.1
abbrev sR (σ : St) : Int32 := σ.2.2.2.2.2.2.1
abbrev sP (σ : St) : Int32 := σ.2.2.2.2.2.2.2
def slD (σ : St) (i : Nat) : Nat := ((sS σ).getD i (0, 0, 0, [])).1
def slP (σ : St) (i : Nat) : Nat := ((sS σ).getD i (0, 0, 0, [])).2.1
def slW (σ : St) (i : Nat) : Nat := ((sS σ).getD i (0, 0, 0, [])).2.2.1
def slQ (σ : St) (i : Nat) : List Nat := ((sS σ).getD i (0, 0, 0, [])).2.2.2
def guC (σ : St) (g : Nat) : Nat := ((sG σ).getD g (0, 0)).1
def guR (σ : St) (g : Nat) : Nat := ((sG σ).getD g (0, 0)).2
def boG (σ : St) (k : Nat) : Nat := ((sB σ).getD k (0, 0, 0)).1
def boS (σ : St) (k : Nat) : Nat := ((sB σ).getD k (0, 0, 0)).2.1
def boT (σ : St) (k : Nat) : Nat := ((sB σ).getD k (0, 0, 0)).2.2
def boE (σ : St) (k : Nat) : Nat := boT σ k + slD σ (boS σ k)
def fiG (σ : St) (k : Nat) : Nat := ((sF σ).getD k (0, 0, 0)).1
def fiS (σ : St) (k : Nat) : Nat := ((sF σ).getD k (0, 0, 0)).2.1
def fiM (σ : St) (k : Nat) : Nat := ((sF σ).getD k (0, 0, 0)).2.2
def nS (σ : St) : Nat := (sS σ).length
def nG (σ : St) : Nat := (sG σ).length
def nB (σ : St) : Nat := (sB σ).length
def nF (σ : St) : Nat := (sF σ).length
/-- the slide in whose queue a guest waits -/
def qOf (σ : St) (g : Nat) : Option Nat := (sS σ).findIdx? (fun x => x.2.2.2.contains g)
/-- the slide of the queue plus 1, or 0 -/
def wai (σ : St) (g : Nat) : Nat := match qOf σ g with | none => 0 | some i => i + 1
/-- bounds -/
def Bd (σ : St) : Prop :=
  (nS σ ≤ 4 ∧ nG σ ≤ 10 ∧ nB σ ≤ 12 ∧ nF σ ≤ 16 ∧ sM σ ≤ 100000) ∧
  (∀ i, i < nS σ → 1 ≤ slD σ i ∧ slD σ i ≤ 9 ∧ 1 ≤ slP σ i ∧ slP σ i ≤ 9 ∧ slW σ i ≤ 9 ∧ (slQ σ i).length ≤ 5) ∧
  (∀ i, i < nS σ → ∀ x ∈ slQ σ i, x < nG σ) ∧
  (∀ g, g < nG σ → guC σ g ≤ 50 ∧ guR σ g ≤ 2000000) ∧
  (∀ k, k < nB σ → boG σ k < nG σ ∧ boS σ k < nS σ ∧ boT σ k ≤ sM σ + 120) ∧
  (∀ k, k < nF σ → fiG σ k < nG σ ∧ fiS σ k < nS σ ∧ fiM σ k ≤ sM σ)
/-- the reference's numbers hold the state -/
def MR (f : Nat → Int32) (σ : St) : Prop :=
  (f 0 = nI (nS σ) ∧ f 1 = nI (nG σ) ∧ f 2 = nI (nB σ) ∧ f 3 = nI (sM σ) ∧ f 4 = nI (nF σ) ∧ f 5 = sP σ ∧ f 6 = sR σ ∧ f 7 = sO σ) ∧
  (∀ i, i < nS σ → f (8 + 9 * i) = nI (slD σ i) ∧ f (8 + 9 * i + 1) = nI (slP σ i) ∧ f (8 + 9 * i + 2) = nI (slW σ i) ∧ f (8 + 9 * i + 3) = nI (slQ σ i).length) ∧
  (∀ i, i < nS σ → ∀ j, j < (slQ σ i).length → f (8 + 9 * i + (4 + j)) = nI ((slQ σ i).getD j 0)) ∧
  (∀ g, g < nG σ → f (44 + 3 * g) = nI (guC σ g) ∧ f (44 + 3 * g + 1) = nI (guR σ g) ∧ f (44 + 3 * g + 2) = nI (wai σ g)) ∧
  (∀ k, k < nB σ → f (74 + 3 * k) = nI (boG σ k) ∧ f (74 + 3 * k + 1) = nI (boS σ k) ∧ f (74 + 3 * k + 2) = nI (boT σ k)) ∧
  (∀ k, k < nF σ → f (110 + 3 * k) = nI (fiG σ (nF σ - 1 - k)) ∧ f (110 + 3 * k + 1) = nI (fiS σ (nF σ - 1 - k)) ∧ f (110 + 3 * k + 2) = nI (fiM σ (nF σ - 1 - k)))
/-- a fold over 0, 1, .. n-1 -/
def ff {α : Type} (step : Nat → α → α) (a : α) : Nat → α
  | 0 => a
  | n + 1 => step n (ff step a n)
/-- choice without instances -/
noncomputable def cH {α : Sort _} (P : Prop) (x y : α) : α := @ite α P (Classical.propDecidable P) x y
theorem cH_t {α : Sort _} {P : Prop} {x y : α} (h : P) : cH P x y = x := by unfold cH; rw [if_pos h]
theorem cH_f {α : Sort _} {P : Prop} {x y : α} (h : ¬ P) : cH P x y = y := by unfold cH; rw [if_neg h]
theorem cH_congr {α : Sort _} {P P' : Prop} {x y : α} (h : P ↔ P') : cH P x y = cH P' x y := by rw [propext h]
/-- a truth as an int -/
noncomputable def bI (P : Prop) : Int32 := cH P (nI 1) (nI 0)
theorem bI_t {P : Prop} (h : P) : bI P = nI 1 := cH_t h
theorem bI_f {P : Prop} (h : ¬ P) : bI P = nI 0 := cH_f h
theorem bI_0 {P : Prop} : bI P = 0 ↔ ¬ P := by
  by_cases h : P
  · rw [bI_t h]; exact ⟨fun e => absurd e (by decide), fun e => absurd h e⟩
  · rw [bI_f h]; exact ⟨fun _ => h, fun _ => rfl⟩
theorem bI_n0 {P : Prop} : ¬ bI P = 0 ↔ P := by rw [bI_0, Classical.not_not]
theorem bI_congr {P P' : Prop} (h : P ↔ P') : bI P = bI P' := by rw [propext h]
theorem bI_nar {P : Prop} : narrow .boolean (.int (bI P)) = .int (bI P) := by
  by_cases h : P
  · rw [bI_t h]; rfl
  · rw [bI_f h]; rfl
/-- how many of 0 .. n-1 -/
noncomputable def cN (P : Nat → Prop) (n : Nat) : Nat := ff (fun k a => cH (P k) (a + 1) a) 0 n
theorem cN_s {P : Nat → Prop} {n : Nat} : cN P (n + 1) = cH (P n) (cN P n + 1) (cN P n) := rfl
theorem cN_le (P : Nat → Prop) : ∀ n, cN P n ≤ n
  | 0 => Nat.le_refl 0
  | n + 1 => by
    rw [cN_s]
    by_cases h : P n
    · rw [cH_t h]; exact Nat.succ_le_succ (cN_le P n)
    · rw [cH_f h]; exact Nat.le_succ_of_le (cN_le P n)
theorem cN_t {P : Nat → Prop} {n : Nat} (h : P n) : cN P (n + 1) = cN P n + 1 := by rw [cN_s, cH_t h]
theorem cN_f {P : Nat → Prop} {n : Nat} (h : ¬ P n) : cN P (n + 1) = cN P n := by rw [cN_s, cH_f h]
/-- the last of 0 .. n-1, or d -/
noncomputable def lst (P : Nat → Prop) (d : Int32) (n : Nat) : Int32 := ff (fun k r => cH (P k) (nI k) r) d n
theorem lst_t {P : Nat → Prop} {d : Int32} {n : Nat} (h : P n) : lst P d (n + 1) = nI n := by show cH (P n) (nI n) (lst P d n) = _; rw [cH_t h]
theorem lst_f {P : Nat → Prop} {d : Int32} {n : Nat} (h : ¬ P n) : lst P d (n + 1) = lst P d n := by show cH (P n) (nI n) (lst P d n) = _; rw [cH_f h]
/-- one of 0 .. n-1 -/
def aN (P : Nat → Prop) (n : Nat) : Prop := ∃ k, k < n ∧ P k
theorem aN_s {P : Nat → Prop} {n : Nat} : aN P (n + 1) ↔ aN P n ∨ P n := by
  constructor
  · rintro ⟨k, h1, h2⟩
    rcases Nat.lt_or_ge k n with h | h
    · exact Or.inl ⟨k, h, h2⟩
    · rw [show k = n by omega] at h2; exact Or.inr h2
  · rintro (⟨k, h1, h2⟩ | h)
    · exact ⟨k, by omega, h2⟩
    · exact ⟨n, by omega, h⟩
theorem aN_0 {P : Nat → Prop} : ¬ aN P 0 := fun ⟨_, h, _⟩ => absurd h (Nat.not_lt_zero _)
theorem nI_sub_pos {a b : Nat} (ha : a < 2 ^ 30) (hb : b < 2 ^ 30) : 0 < nI a - nI b ↔ b < a := by
  rw [Int32.lt_iff_toInt_lt, pk_sub_toInt ha hb, Int32.toInt_zero]; omega
theorem nI_sub_z {a b : Nat} (ha : a < 2 ^ 30) (hb : b < 2 ^ 30) : nI a - nI b = 0 ↔ a = b := by
  rw [← Int32.toInt_inj, pk_sub_toInt ha hb, Int32.toInt_zero]; omega
theorem nI_sub_neg {a b : Nat} (ha : a < 2 ^ 30) (hb : b < 2 ^ 30) : nI a - nI b < 0 ↔ a < b := by
  rw [Int32.lt_iff_toInt_lt, pk_sub_toInt ha hb, Int32.toInt_zero]; omega
theorem nI_lt0 {a : Nat} (ha : a < 2 ^ 31) : 0 < nI a ↔ 0 < a := by
  rw [show (0 : Int32) = nI 0 from rfl, nI_ltI (by decide) ha]
theorem nI_le0 {a : Nat} (ha : a < 2 ^ 31) : nI a ≤ 0 ↔ a = 0 := by
  rw [show (0 : Int32) = nI 0 from rfl, nI_leI ha (by decide)]; omega
/-- an index in range -/
theorem ixI {x : Int32} {n : Nat} (hn : n < 2 ^ 30) : (0 ≤ x ∧ x ≤ nI n - 1) ↔ ∃ j, j < n ∧ x = nI j := by
  have hz : (nI n - 1).toInt = (n : Int) - 1 := by
    have := pk_sub_toInt (a := n) (b := 1) hn (by decide)
    exact this
  constructor
  · rintro ⟨h1, h2⟩
    rw [Int32.le_iff_toInt_le, Int32.toInt_zero] at h1
    rw [Int32.le_iff_toInt_le, hz] at h2
    refine ⟨x.toInt.toNat, by omega, ?_⟩
    rw [← Int32.toInt_inj, nI_toInt (by omega)]
    omega
  · rintro ⟨j, h1, rfl⟩
    rw [Int32.le_iff_toInt_le, Int32.le_iff_toInt_le, hz, Int32.toInt_zero, nI_toInt (by omega)]
    omega
theorem rgI {x : Int32} {a b : Nat} (ha : a < 2 ^ 31) (hb : b < 2 ^ 31) : (nI a ≤ x ∧ x ≤ nI b) ↔ ∃ j, a ≤ j ∧ j ≤ b ∧ x = nI j := by
  constructor
  · rintro ⟨h1, h2⟩
    rw [Int32.le_iff_toInt_le, nI_toInt ha] at h1
    rw [Int32.le_iff_toInt_le, nI_toInt hb] at h2
    refine ⟨x.toInt.toNat, by omega, by omega, ?_⟩
    rw [← Int32.toInt_inj, nI_toInt (by omega)]
    omega
  · rintro ⟨j, h1, h2, rfl⟩
    rw [nI_leI ha (by omega), nI_leI (by omega) hb]
    exact ⟨h1, h2⟩
theorem nI_c0 {n : Nat} (h : n < 2 ^ 31) : nI n = 0 ↔ n = 0 := by
  rw [show (0 : Int32) = nI 0 from rfl, nI_eq h (by decide)]
theorem ix_v {α : Type} {f : Nat → α} {n : Nat} {v : α} (h : n < 2 ^ 31) (hv : f n = v) : f (nI n).toNatClampNeg = v := by rw [nI_clamp h]; exact hv
theorem fx_cut {α : Sort _} (a : α) {P : Prop} (k : α → P) : P := k a
section CUT
variable {Ω : Om} {p : Program} {l : Launch} {e : Env} {R : Room} {s : State} {m : MethodId} {args : Array Value} {below : List Frame} {meth : Method} {c : Code} {Q : State → Prop} {nL : Nat} {I : Heap → Prop} {k n pc : Nat} {L : List (Option Value)} {st : List Value}
/-- where two ways of an expression meet, with v on the stack -/
theorem GJ.cutv (pcj : Nat) (v : Int32) (J : GJ Ω p l e R s m args below meth c nL Q I k n pcj L (.int v :: st)) (K : GJ Ω p l e R s m args below meth c nL Q I k n pcj L (.int v :: st) → GJ Ω p l e R s m args below meth c nL Q I k n pc L st) : GJ Ω p l e R s m args below meth c nL Q I k n pc L st := K J
/-- where two ways meet, with nothing new -/
theorem GJ.cut (pcj : Nat) (J : GJ Ω p l e R s m args below meth c nL Q I k n pcj L st) (K : GJ Ω p l e R s m args below meth c nL Q I k n pcj L st → GJ Ω p l e R s m args below meth c nL Q I k n pc L st) : GJ Ω p l e R s m args below meth c nL Q I k n pc L st := K J
theorem GJ.top {v w : Int32} (h : v = w) (kk : GJ Ω p l e R s m args below meth c nL Q I k n pc L (.int w :: st)) : GJ Ω p l e R s m args below meth c nL Q I k n pc L (.int v :: st) := by subst h; exact kk
end CUT
/-! the reference's world: its object a, its seven arrays at ad 0 .. ad 6, over any other heap h -/
def mFs (ad : Nat → Nat) (v : Nat → Int32) : List Value := [.ref (ad 0), .ref (ad 1), .ref (ad 2), .int (v 3), .ref (ad 3), .int (v 5), .int (v 6), .ref (ad 4), .int (v 8), .ref (ad 5), .int (v 10), .int (v 11), .int (v 12), .int (v 13), .int (v 14), .ref (ad 6), .int (v 16)]
def mLen (j : Nat) : Nat := match j with | 0 => 158 | 1 => 158 | 2 => 158 | 3 => 1264 | 4 => 180 | 5 => 60 | _ => 240
def mTy (j : Nat) : Nat := match j with | 4 => 1 | 5 => 1 | _ => 0
def mDi (a : Nat) (ad : Nat → Nat) : Prop := (∀ i j, i < 7 → j < 7 → ad i = ad j → i = j) ∧ ∀ i, i < 7 → ad i ≠ a
def mW (Ω : Om) (h : RH) (a : Nat) (ad : Nat → Nat) (v : Nat → Int32) (F : Nat → Nat → Int32) : RH := fun q =>
  if q = a then some (.inr (3, mFs ad v)) else if q = ad 0 then some (cI Ω 0 158 (F 0)) else if q = ad 1 then some (cI Ω 0 158 (F 1)) else if q = ad 2 then some (cI Ω 0 158 (F 2)) else if q = ad 3 then some (cI Ω 0 1264 (F 3)) else if q = ad 4 then some (cI Ω 1 180 (F 4)) else if q = ad 5 then some (cI Ω 1 60 (F 5)) else if q = ad 6 then some (cI Ω 0 240 (F 6)) else h q
theorem mW_a {Ω : Om} {h : RH} {a : Nat} {ad : Nat → Nat} {v : Nat → Int32} {F : Nat → Nat → Int32} : mW Ω h a ad v F a = some (.inr (3, mFs ad v)) := if_pos rfl
theorem mDi.ne {a : Nat} {ad : Nat → Nat} (hd : mDi a ad) {i j : Nat} (hi : i < 7) (hj : j < 7) (h : i ≠ j) : ad i ≠ ad j := fun e => h (hd.1 i j hi hj e)
theorem mW_0 {Ω : Om} {h : RH} {a : Nat} {ad : Nat → Nat} {v : Nat → Int32} {F : Nat → Nat → Int32} (hd : mDi a ad) : mW Ω h a ad v F (ad 0) = some (cI Ω 0 158 (F 0)) := by unfold mW; rw [if_neg (hd.2 0 (by decide)), if_pos rfl]
theorem mW_1 {Ω : Om} {h : RH} {a : Nat} {ad : Nat → Nat} {v : Nat → Int32} {F : Nat → Nat → Int32} (hd : mDi a ad) : mW Ω h a ad v F (ad 1) = some (cI Ω 0 158 (F 1)) := by unfold mW; rw [if_neg (hd.2 1 (by decide)), if_neg (hd.ne (by decide) (by decide) (by decide)), if_pos rfl]
theorem mW_2 {Ω : Om} {h : RH} {a : Nat} {ad : Nat → Nat} {v : Nat → Int32} {F : Nat → Nat → Int32} (hd : mDi a ad) : mW Ω h a ad v F (ad 2) = some (cI Ω 0 158 (F 2)) := by unfold mW; rw [if_neg (hd.2 2 (by decide)), if_neg (hd.ne (by decide) (by decide) (by decide)), if_neg (hd.ne (by decide) (by decide) (by decide)), if_pos rfl]
theorem mW_3 {Ω : Om} {h : RH} {a : Nat} {ad : Nat → Nat} {v : Nat → Int32} {F : Nat → Nat → Int32} (hd : mDi a ad) : mW Ω h a ad v F (ad 3) = some (cI Ω 0 1264 (F 3)) := by unfold mW; rw [if_neg (hd.2 3 (by decide)), if_neg (hd.ne (by decide) (by decide) (by decide)), if_neg (hd.ne (by decide) (by decide) (by decide)), if_neg (hd.ne (by decide) (by decide) (by decide)), if_pos rfl]
theorem mW_4 {Ω : Om} {h : RH} {a : Nat} {ad : Nat → Nat} {v : Nat → Int32} {F : Nat → Nat → Int32} (hd : mDi a ad) : mW Ω h a ad v F (ad 4) = some (cI Ω 1 180 (F 4)) := by unfold mW; rw [if_neg (hd.2 4 (by decide)), if_neg (hd.ne (by decide) (by decide) (by decide)), if_neg (hd.ne (by decide) (by decide) (by decide)), if_neg (hd.ne (by decide) (by decide) (by decide)), if_neg (hd.ne (by decide) (by decide) (by decide)), if_pos rfl]
theorem mW_5 {Ω : Om} {h : RH} {a : Nat} {ad : Nat → Nat} {v : Nat → Int32} {F : Nat → Nat → Int32} (hd : mDi a ad) : mW Ω h a ad v F (ad 5) = some (cI Ω 1 60 (F 5)) := by unfold mW; rw [if_neg (hd.2 5 (by decide)), if_neg (hd.ne (by decide) (by decide) (by decide)), if_neg (hd.ne (by decide) (by decide) (by decide)), if_neg (hd.ne (by decide) (by decide) (by decide)), if_neg (hd.ne (by decide) (by decide) (by decide)), if_neg (hd.ne (by decide) (by decide) (by decide)), if_pos rfl]
theorem mW_6 {Ω : Om} {h : RH} {a : Nat} {ad : Nat → Nat} {v : Nat → Int32} {F : Nat → Nat → Int32} (hd : mDi a ad) : mW Ω h a ad v F (ad 6) = some (cI Ω 0 240 (F 6)) := by unfold mW; rw [if_neg (hd.2 6 (by decide)), if_neg (hd.ne (by decide) (by decide) (by decide)), if_neg (hd.ne (by decide) (by decide) (by decide)), if_neg (hd.ne (by decide) (by decide) (by decide)), if_neg (hd.ne (by decide) (by decide) (by decide)), if_neg (hd.ne (by decide) (by decide) (by decide)), if_neg (hd.ne (by decide) (by decide) (by decide)), if_pos rfl]
/-- another number in the object -/
def vU (v : Nat → Int32) (j : Nat) (x : Int32) : Nat → Int32 := fun i => if i = j then x else v i
def FU (F : Nat → Nat → Int32) (j : Nat) (f : Nat → Int32) : Nat → Nat → Int32 := fun i => if i = j then f else F i
theorem mW_upa {Ω : Om} {h : RH} {a : Nat} {ad : Nat → Nat} {v v' : Nat → Int32} {F : Nat → Nat → Int32} {l : List Value} (hl : l = mFs ad v') : hu (mW Ω h a ad v F) a (.inr (3, l)) = mW Ω h a ad v' F := by
  subst hl
  funext q
  by_cases hq : q = a
  · subst hq; rw [hu_s, mW_a]
  · rw [hu_n hq]
    unfold mW
    rw [if_neg hq, if_neg hq]
theorem mW_up {Ω : Om} {h : RH} {a : Nat} {ad : Nat → Nat} {v : Nat → Int32} {F : Nat → Nat → Int32} (hd : mDi a ad) (j : Nat) (hj : j < 7) (f : Nat → Int32) : hu (mW Ω h a ad v F) (ad j) (cI Ω (mTy j) (mLen j) f) = mW Ω h a ad v (FU F j f) := by
  funext q
  by_cases hq : q = ad j
  · subst hq
    rw [hu_s]
    rcases (show j = 0 ∨ j = 1 ∨ j = 2 ∨ j = 3 ∨ j = 4 ∨ j = 5 ∨ j = 6 by omega) with rfl | rfl | rfl | rfl | rfl | rfl | rfl
    · rw [mW_0 hd]; rfl
    · rw [mW_1 hd]; rfl
    · rw [mW_2 hd]; rfl
    · rw [mW_3 hd]; rfl
    · rw [mW_4 hd]; rfl
    · rw [mW_5 hd]; rfl
    · rw [mW_6 hd]; rfl
  · rw [hu_n hq]
    unfold mW FU
    rcases (show j = 0 ∨ j = 1 ∨ j = 2 ∨ j = 3 ∨ j = 4 ∨ j = 5 ∨ j = 6 by omega) with rfl | rfl | rfl | rfl | rfl | rfl | rfl <;> simp [hq]
theorem mW_u3 {Ω : Om} {h : RH} {a : Nat} {ad : Nat → Nat} {v : Nat → Int32} {F : Nat → Nat → Int32} {x : Int32} : hu (mW Ω h a ad v F) a (.inr (3, (mFs ad v).set 3 (.int x))) = mW Ω h a ad (vU v 3 x) F := mW_upa rfl
theorem mW_u5 {Ω : Om} {h : RH} {a : Nat} {ad : Nat → Nat} {v : Nat → Int32} {F : Nat → Nat → Int32} {x : Int32} : hu (mW Ω h a ad v F) a (.inr (3, (mFs ad v).set 5 (.int x))) = mW Ω h a ad (vU v 5 x) F := mW_upa rfl
theorem mW_u6 {Ω : Om} {h : RH} {a : Nat} {ad : Nat → Nat} {v : Nat → Int32} {F : Nat → Nat → Int32} {x : Int32} : hu (mW Ω h a ad v F) a (.inr (3, (mFs ad v).set 6 (.int x))) = mW Ω h a ad (vU v 6 x) F := mW_upa rfl
theorem mW_u8 {Ω : Om} {h : RH} {a : Nat} {ad : Nat → Nat} {v : Nat → Int32} {F : Nat → Nat → Int32} {x : Int32} : hu (mW Ω h a ad v F) a (.inr (3, (mFs ad v).set 8 (.int x))) = mW Ω h a ad (vU v 8 x) F := mW_upa rfl
theorem mW_u10 {Ω : Om} {h : RH} {a : Nat} {ad : Nat → Nat} {v : Nat → Int32} {F : Nat → Nat → Int32} {x : Int32} : hu (mW Ω h a ad v F) a (.inr (3, (mFs ad v).set 10 (.int x))) = mW Ω h a ad (vU v 10 x) F := mW_upa rfl
theorem mW_u11 {Ω : Om} {h : RH} {a : Nat} {ad : Nat → Nat} {v : Nat → Int32} {F : Nat → Nat → Int32} {x : Int32} : hu (mW Ω h a ad v F) a (.inr (3, (mFs ad v).set 11 (.int x))) = mW Ω h a ad (vU v 11 x) F := mW_upa rfl
theorem mW_u12 {Ω : Om} {h : RH} {a : Nat} {ad : Nat → Nat} {v : Nat → Int32} {F : Nat → Nat → Int32} {x : Int32} : hu (mW Ω h a ad v F) a (.inr (3, (mFs ad v).set 12 (.int x))) = mW Ω h a ad (vU v 12 x) F := mW_upa rfl
theorem mW_u13 {Ω : Om} {h : RH} {a : Nat} {ad : Nat → Nat} {v : Nat → Int32} {F : Nat → Nat → Int32} {x : Int32} : hu (mW Ω h a ad v F) a (.inr (3, (mFs ad v).set 13 (.int x))) = mW Ω h a ad (vU v 13 x) F := mW_upa rfl
theorem mW_u14 {Ω : Om} {h : RH} {a : Nat} {ad : Nat → Nat} {v : Nat → Int32} {F : Nat → Nat → Int32} {x : Int32} : hu (mW Ω h a ad v F) a (.inr (3, (mFs ad v).set 14 (.int x))) = mW Ω h a ad (vU v 14 x) F := mW_upa rfl
theorem mW_u16 {Ω : Om} {h : RH} {a : Nat} {ad : Nat → Nat} {v : Nat → Int32} {F : Nat → Nat → Int32} {x : Int32} : hu (mW Ω h a ad v F) a (.inr (3, (mFs ad v).set 16 (.int x))) = mW Ω h a ad (vU v 16 x) F := mW_upa rfl
theorem mW_s0 {Ω : Om} {h : RH} {a : Nat} {ad : Nat → Nat} {v : Nat → Int32} {F : Nat → Nat → Int32} {f : Nat → Int32} (hd : mDi a ad) : hu (mW Ω h a ad v F) (ad 0) (cI Ω 0 158 f) = mW Ω h a ad v (FU F 0 f) := mW_up hd 0 (by decide) f
theorem mW_s1 {Ω : Om} {h : RH} {a : Nat} {ad : Nat → Nat} {v : Nat → Int32} {F : Nat → Nat → Int32} {f : Nat → Int32} (hd : mDi a ad) : hu (mW Ω h a ad v F) (ad 1) (cI Ω 0 158 f) = mW Ω h a ad v (FU F 1 f) := mW_up hd 1 (by decide) f
theorem mW_s2 {Ω : Om} {h : RH} {a : Nat} {ad : Nat → Nat} {v : Nat → Int32} {F : Nat → Nat → Int32} {f : Nat → Int32} (hd : mDi a ad) : hu (mW Ω h a ad v F) (ad 2) (cI Ω 0 158 f) = mW Ω h a ad v (FU F 2 f) := mW_up hd 2 (by decide) f
theorem mW_s3 {Ω : Om} {h : RH} {a : Nat} {ad : Nat → Nat} {v : Nat → Int32} {F : Nat → Nat → Int32} {f : Nat → Int32} (hd : mDi a ad) : hu (mW Ω h a ad v F) (ad 3) (cI Ω 0 1264 f) = mW Ω h a ad v (FU F 3 f) := mW_up hd 3 (by decide) f
theorem mW_s4 {Ω : Om} {h : RH} {a : Nat} {ad : Nat → Nat} {v : Nat → Int32} {F : Nat → Nat → Int32} {f : Nat → Int32} (hd : mDi a ad) : hu (mW Ω h a ad v F) (ad 4) (cI Ω 1 180 f) = mW Ω h a ad v (FU F 4 f) := mW_up hd 4 (by decide) f
theorem mW_s5 {Ω : Om} {h : RH} {a : Nat} {ad : Nat → Nat} {v : Nat → Int32} {F : Nat → Nat → Int32} {f : Nat → Int32} (hd : mDi a ad) : hu (mW Ω h a ad v F) (ad 5) (cI Ω 1 60 f) = mW Ω h a ad v (FU F 5 f) := mW_up hd 5 (by decide) f
theorem mW_s6 {Ω : Om} {h : RH} {a : Nat} {ad : Nat → Nat} {v : Nat → Int32} {F : Nat → Nat → Int32} {f : Nat → Int32} (hd : mDi a ad) : hu (mW Ω h a ad v F) (ad 6) (cI Ω 0 240 f) = mW Ω h a ad v (FU F 6 f) := mW_up hd 6 (by decide) f
theorem lvle_c {x : Option Value} {v : Value} {r' r : List (Option Value)} (h : x = some v) (k : lvle r' r) : lvle (some v :: r') (x :: r) := ⟨h, k⟩
theorem lvle_n {x : Option Value} {r' r : List (Option Value)} (k : lvle r' r) : lvle (none :: r') (x :: r) := k
theorem lvle_e {r : List (Option Value)} : lvle [] r := trivial
