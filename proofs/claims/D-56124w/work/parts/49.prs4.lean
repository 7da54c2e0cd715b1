/-! PURE: what is kept of a command that is read -/
def CE (g : Nat → Int32) (c : Nat) (k : Int32) (m : Nat × Nat × Nat) : Prop := g (4 * c) = k ∧ (k = nI 115 ∨ k = nI 113 ∨ k = nI 98 → g (4 * c + 1) = nI m.1 ∧ g (4 * c + 2) = nI m.2.1) ∧ (k = nI 98 → g (4 * c + 3) = nI m.2.2) ∧ (k = nI 99 ∨ k = nI 108 ∨ k = nI 119 → g (4 * c + 1) = nI m.1)
def PVc (v v' : Nat → Int32) : Prop := ∀ i, i ≠ 11 → i ≠ 12 → i ≠ 16 → v' i = v i
theorem PS_g {v : Nat → Int32} {F : Nat → Nat → Int32} {g g' : Nat → Int32} {inp : List Nat} {a : Nat} {ok : Bool} (h : PS v (FU F 6 g) inp a ok) : PS v (FU F 6 g') inp a ok := h
theorem PS_u {v : Nat → Int32} {F : Nat → Nat → Int32} {inp : List Nat} {a j : Nat} {ok : Bool} {x : Int32} (h : PS v F inp a ok) (hj : j ≠ 10 ∧ j ≠ 11 ∧ j ≠ 12) : PS (vU v j x) F inp a ok := ⟨⟨(vU_n (fun e => hj.1 e.symm)).trans h.1.1, h.1.2⟩, (vU_n (fun e => hj.2.1 e.symm)).trans h.2.1, (vU_n (fun e => hj.2.2 e.symm)).trans h.2.2⟩
theorem PVc_of {v v' : Nat → Int32} {x : Int32} (h : PV (vU v 16 x) v') : v' 16 = x ∧ PVc v v' := ⟨(h 16 (by decide) (by decide)).trans vU_s, fun i a b c => (h i a b).trans (vU_n c)⟩
theorem mW_6z {Ω : Om} {h : RH} {a : Nat} {ad : Nat → Nat} {v : Nat → Int32} {F : Nat → Nat → Int32} {f : Nat → Int32} (hd : mDi a ad) : mW Ω h a ad v (FU F 6 f) (ad 6) = some (cI Ω 0 240 f) := mW_6 hd
theorem mW_g6 {Ω : Om} {h : RH} {a : Nat} {ad : Nat → Nat} {v : Nat → Int32} {F : Nat → Nat → Int32} {f : Nat → Int32} {i x : Int32} {n : Nat} (hd : mDi a ad) (hi : i.toNatClampNeg = n) : hu (mW Ω h a ad v (FU F 6 f)) (ad 6) (cI Ω 0 240 (upd f i.toNatClampNeg x)) = mW Ω h a ad v (FU F 6 (upd f n x)) := by
  rw [hi, mW_s6 hd, FU_FU]
theorem bh_some {inp : List Nat} {b c : Nat} (h : inp[b]? = some c) : bh inp b = nI c := by unfold bh; rw [h]
/-- the kinds that have words of their own -/
def isK (x : Int32) : Prop := x = nI 98 ∨ x = nI 99 ∨ x = nI 108 ∨ x = nI 113 ∨ x = nI 115 ∨ x = nI 119
theorem lk_d {x : Int32} (d : Int) (a b c e f g : Int) (h : ¬ isK x) : Op.lookupswitch.offset [(98, a), (99, b), (108, c), (113, e), (115, f), (119, g)] d x.toInt = d := by
  have hne : ∀ k : Nat, k < 2 ^ 31 → x ≠ nI k → ¬ ((k : Int) = x.toInt) := fun k hk hx he => hx (by rw [← Int32.toInt_inj, nI_toInt hk, he])
  unfold isK at h
  have h1 := hne 98 (by decide) (fun e => h (Or.inl e))
  have h2 := hne 99 (by decide) (fun e => h (Or.inr (Or.inl e)))
  have h3 := hne 108 (by decide) (fun e => h (Or.inr (Or.inr (Or.inl e))))
  have h4 := hne 113 (by decide) (fun e => h (Or.inr (Or.inr (Or.inr (Or.inl e)))))
  have h5 := hne 115 (by decide) (fun e => h (Or.inr (Or.inr (Or.inr (Or.inr (Or.inl e))))))
  have h6 := hne 119 (by decide) (fun e => h (Or.inr (Or.inr (Or.inr (Or.inr (Or.inr e))))))
  generalize x.toInt = y at *
  simp only [Op.lookupswitch.offset, List.find?]
  have g1 : ¬ (98 : Int) = y := h1
  have g2 : ¬ (99 : Int) = y := h2
  have g3 : ¬ (108 : Int) = y := h3
  have g4 : ¬ (113 : Int) = y := h4
  have g5 : ¬ (115 : Int) = y := h5
  have g6 : ¬ (119 : Int) = y := h6
  simp [g1, g2, g3, g4, g5, g6]
theorem CE_d {g : Nat → Int32} {c : Nat} {k : Int32} {m : Nat × Nat × Nat} (h : g (4 * c) = k) (hk : ¬ isK k) : CE g c k m := by
  unfold isK at hk
  refine ⟨h, fun e => ?_, fun e => ?_, fun e => ?_⟩
  · exact absurd (by rcases e with e | e | e <;> simp [e]) hk
  · exact absurd (by simp [e]) hk
  · exact absurd (by rcases e with e | e | e <;> simp [e]) hk
