/-! PURE: undo, save, restore; texts -/
theorem nI_c16 {c : Nat} (h : c < 65536) : ((nI c).toUInt32 % 65536).toInt32 = nI c := by
  apply Int32.toBitVec_inj.mp
  apply BitVec.eq_of_toNat_eq
  show ((nI c).toUInt32 % 65536).toNat = (nI c).toUInt32.toNat
  rw [UInt32.toNat_mod]
  have e : (nI c).toUInt32.toNat = c := by
    have : (nI c).toUInt32 = UInt32.ofNat c := rfl
    rw [this, UInt32.toNat_ofNat']
    omega
  rw [e]
  exact Nat.mod_eq_of_lt h
theorem vp_c16 {c : Nat} (h : c < 65536) : vp_nar .char (nI c) = nI c := nI_c16 h
section UNDO
variable {σ : St} {f f' g : Nat → Int32} {p : List St} {w : Wl}
/-- undo, save, restore: an exception's place, or an answer and the whole -/
abbrev Rw : Type := Nat ⊕ (Nat × Wl)
def aUndo (w : Wl) : Rw := if w.2.1.length = 0 then .inl 1 else .inr (w.2.1.length - 1, (w.2.1.getD (w.2.1.length - 1) st0, w.2.1.take (w.2.1.length - 1), w.2.2))
def aSave (w : Wl) : Rw := .inr (nB w.1, (w.1, w.2.1, some w.1))
def aRest (w : Wl) : Rw := match w.2.2 with | none => .inl 1 | some σ => .inr (nB σ, (σ, [], some σ))
def rwI (R : Rw) : Int32 := match R with | .inl _ => nI 0 | .inr x => nI x.1
def rwT (R : Rw) : Nat := match R with | .inl c => c | .inr _ => 0
def rwW (w : Wl) (R : Rw) : Wl := match R with | .inl _ => w | .inr x => x.2
theorem getD_take {α : Type} {l : List α} {n k : Nat} {d : α} (h : k < n) : (l.take n).getD k d = l.getD k d := by
  rw [List.getD_eq_getElem?_getD, List.getD_eq_getElem?_getD, List.getElem?_take, if_pos h]
/-- the texts: what is put out, what is fed, where the last wrong text was, which command failed -/
def TX (v : Nat → Int32) (F : Nat → Nat → Int32) (out inp : List Nat) (er fa : Int32) : Prop :=
  (v 8 = nI out.length ∧ out.length ≤ 180 ∧ ∀ k, k < out.length → F 4 k = nI (out.getD k 0) ∧ out.getD k 0 < 65536) ∧
  (v 10 = nI inp.length ∧ inp.length ≤ 60 ∧ ∀ k, k < inp.length → F 5 k = nI (inp.getD k 0) ∧ inp.getD k 0 < 65536) ∧ v 13 = er ∧ v 14 = fa
theorem TX.fr {v : Nat → Int32} {F : Nat → Nat → Int32} {x : (Nat → Int32) × (Nat → Nat → Int32)} {out inp : List Nat} {er fa : Int32} (h : TX v F out inp er fa) (hf : FR v F x) : TX x.1 x.2 out inp er fa := by
  unfold TX
  rw [hf.2 8 (by decide) (by decide) (by decide), hf.2 10 (by decide) (by decide) (by decide), hf.2 13 (by decide) (by decide) (by decide), hf.2 14 (by decide) (by decide) (by decide), hf.1 4 (by decide), hf.1 5 (by decide)]
  exact h
theorem TX_6 {v : Nat → Int32} {F : Nat → Nat → Int32} {out inp : List Nat} {er fa x : Int32} (h : TX v F out inp er fa) : TX (vU v 6 x) F out inp er fa := h.fr (x := (vU v 6 x, F)) ⟨fun _ _ => rfl, fun i _ _ h6 => vU_n h6⟩
/-- the answer is n, with other numbers in the object that P allows; only 6 and 10 of the object and array 5 may be others -/
abbrev PF (Ω : Om) (h : RH) (a : Nat) (ad : Nat → Nat) (v : Nat → Int32) (F : Nat → Nat → Int32) (P : (Nat → Int32) → (Nat → Nat → Int32) → Prop) (n : Int32) : Option Value → Heap → Prop := QV (fun _ : {x : (Nat → Int32) × (Nat → Nat → Int32) // P x.1 x.2 ∧ (∀ j, j < 4 → x.2 j = F j) ∧ ∀ i, i ≠ 6 → i ≠ 10 → x.1 i = v i} => some (.int n)) (fun x => hR Ω (mW Ω h a ad x.1.1 x.1.2))
theorem mW_5c {Ω : Om} {h : RH} {a : Nat} {ad : Nat → Nat} {v : Nat → Int32} {F : Nat → Nat → Int32} {f : Nat → Int32} {i x y : Int32} {n : Nat} (hd : mDi a ad) (hi : i.toNatClampNeg = n) (hx : vp_nar .char x = y) : hu (mW Ω h a ad v F) (ad 5) (cI Ω 1 60 (upd f i.toNatClampNeg (vp_nar .char x))) = mW Ω h a ad v (FU F 5 (upd f n y)) := by
  rw [hi, hx, mW_s5 hd]
theorem mW_4c {Ω : Om} {h : RH} {a : Nat} {ad : Nat → Nat} {v : Nat → Int32} {F : Nat → Nat → Int32} {f : Nat → Int32} {i x y : Int32} {n : Nat} (hd : mDi a ad) (hi : i.toNatClampNeg = n) (hx : vp_nar .char x = y) : hu (mW Ω h a ad v F) (ad 4) (cI Ω 1 180 (upd f i.toNatClampNeg (vp_nar .char x))) = mW Ω h a ad v (FU F 4 (upd f n y)) := by
  rw [hi, hx, mW_s4 hd]
/-- the digits of a number -/
def dec (n : Nat) : List Nat := if n ≤ 9 then [48 + n] else dec (n / 10) ++ [48 + n % 10]
decreasing_by omega
theorem dec_s {n : Nat} (h : n ≤ 9) : dec n = [48 + n % 10] := by rw [dec, if_pos h, Nat.mod_eq_of_lt (by omega)]
theorem dec_m {n : Nat} (h : ¬ n ≤ 9) : dec n = dec (n / 10) ++ [48 + n % 10] := by rw [dec, if_neg h]
theorem dec_len : ∀ (k n : Nat), n < 10 ^ (k + 1) → (dec n).length ≤ k + 1
  | 0, n, h => by rw [dec_s (by omega)]; exact Nat.le_refl _
  | k + 1, n, h => by
    by_cases h9 : n ≤ 9
    · rw [dec_s h9]; show 1 ≤ _; omega
    · rw [dec_m h9, List.length_append]
      have := dec_len k (n / 10) (by rw [Nat.pow_succ] at h; omega)
      show _ + 1 ≤ _
      omega
/-- numbers that begin with a text -/
def oF (g : Nat → Int32) (out : List Nat) : Nat → Int32 := fun k => if k < out.length then nI (out.getD k 0) else g k
theorem oF_s {g : Nat → Int32} {out : List Nat} {c : Nat} : upd (oF g out) out.length (nI c) = oF g (out ++ [c]) := by
  funext j
  have hl : (out ++ [c]).length = out.length + 1 := List.length_append ..
  by_cases h : j = out.length
  · rw [upd_e h]; unfold oF; rw [if_pos (by omega), getD_app, if_pos h]
  · rw [upd_n h]; unfold oF
    by_cases h2 : j < out.length
    · rw [if_pos h2, if_pos (by omega), getD_app, if_neg h]
    · rw [if_neg h2, if_neg (by omega)]
theorem oF_0 {g : Nat → Int32} : oF g [] = g := by funext j; exact if_neg (Nat.not_lt_zero _)
/-- the reference with a text put out -/
abbrev OW (Ω : Om) (h : RH) (a : Nat) (ad : Nat → Nat) (v : Nat → Int32) (F : Nat → Nat → Int32) (out : List Nat) : RH := mW Ω h a ad (vU v 8 (nI out.length)) (FU F 4 (oF (F 4) out))
theorem OW_s {Ω : Om} {h : RH} {a : Nat} {ad : Nat → Nat} {v : Nat → Int32} {F : Nat → Nat → Int32} {out : List Nat} {c : Nat} : mW Ω h a ad (vU (vU v 8 (nI out.length)) 8 (nI (out.length + 1))) (FU (FU F 4 (oF (F 4) out)) 4 (upd (oF (F 4) out) out.length (nI c))) = OW Ω h a ad v F (out ++ [c]) := by
  rw [vU_vU, FU_FU, oF_s, show out.length + 1 = (out ++ [c]).length by rw [List.length_append]; rfl]
end UNDO
