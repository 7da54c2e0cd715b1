/-! PURE: the reference as a whole: its state, its past, what is saved -/
section PUB
variable {σ : St} {f f' g : Nat → Int32} {p : List St}
theorem MR_cg (hM : MR f σ) (hC : Cp σ) (h : ∀ j, j < 158 → f' j = f j) : MR f' σ :=
  ⟨T0 (fun j hj => h j (by omega)) hM.1, T1 hC (fun j _ hj => h j (by omega)) hM.2.1, T2 hC (fun j _ hj => h j (by omega)) hM.2.2.1, T3 hC (fun j _ hj => h j (by omega)) hM.2.2.2.1, T4 hC (fun j _ hj => h j (by omega)) hM.2.2.2.2.1, T5 hC (fun j _ hj => h j (by omega)) hM.2.2.2.2.2⟩
/-- state, past, saved state -/
abbrev Wl : Type := St × List St × Option St
def st0 : St := ([], [], [], [], 0, 0, 0, 0)
def PA (g : Nat → Int32) (p : List St) : Prop := ∀ k, k < p.length → MR (fun j => g (158 * k + j)) (p.getD k st0)
def MP (v : Nat → Int32) (F : Nat → Nat → Int32) (w : Wl) : Prop := v 5 = nI w.2.1.length ∧ PA (F 3) w.2.1 ∧ v 3 = bI (w.2.2.isSome = true) ∧ ∀ σ, w.2.2 = some σ → MR (F 2) σ
def MA (v : Nat → Int32) (F : Nat → Nat → Int32) (w : Wl) : Prop := MR (F 0) w.1 ∧ MP v F w
/-- every state of it is one that is used; R bounds the rides, M the minutes -/
def WA (R M : Nat) (w : Wl) : Prop := (Wf R w.1 ∧ sM w.1 ≤ M) ∧ w.2.1.length ≤ 8 ∧ (∀ k, k < w.2.1.length → Wf R (w.2.1.getD k st0) ∧ sM (w.2.1.getD k st0) ≤ M) ∧ ∀ σ, w.2.2 = some σ → Wf R σ ∧ sM σ ≤ M
def aPush (p : List St) (σ : St) : List St := (if p.length = 8 then p.drop 1 else p) ++ [σ]
/-- an op's outcome at the whole -/
def wR (w : Wl) (R : Res) : Wl := match R with | .inl _ => w | .inr x => (x.2, aPush w.2.1 w.1, w.2.2)
def tR (R : Res) : Nat := match R with | .inl c => c | .inr _ => 0
def FR (v : Nat → Int32) (F : Nat → Nat → Int32) (x : (Nat → Int32) × (Nat → Nat → Int32)) : Prop := (∀ j, 4 ≤ j → x.2 j = F j) ∧ ∀ i, i ≠ 3 → i ≠ 5 → i ≠ 6 → x.1 i = v i
abbrev PO (Ω : Om) (h : RH) (a : Nat) (ad : Nat → Nat) (v : Nat → Int32) (F : Nat → Nat → Int32) (w : Wl) (n : Int32) (t : Nat) : Option Value → Heap → Prop := QV (fun _ : {x : (Nat → Int32) × (Nat → Nat → Int32) // MA x.1 x.2 w ∧ x.1 6 = nI t ∧ FR v F x} => some (.int n)) (fun x => hR Ω (mW Ω h a ad x.1.1 x.1.2))
theorem PA_push (h : PA g p) (hC : ∀ k, k < p.length → Cp (p.getD k st0)) (hM : MR f σ) (hC0 : Cp σ) : PA (va_cpy f g 0 (158 * p.length) 158) (p ++ [σ]) := by
  intro k hk
  rw [List.length_append, List.length_singleton] at hk
  rw [getD_app]
  by_cases e : k = p.length
  · rw [if_pos e]
    exact MR_cg hM hC0 (fun j hj => by rw [pk_cpy_in (by rw [e]; omega) (by rw [e]; omega), e]; congr 1; omega)
  · rw [if_neg e]
    have hk2 : k < p.length := by omega
    exact MR_cg (h k hk2) (hC k hk2) (fun j hj => pk_cpy_out (Or.inl (by omega)))
theorem PA_drop (h : PA g p) (hC : ∀ k, k < p.length → Cp (p.getD k st0)) (h8 : p.length = 8) : PA (va_cpy g g 158 0 1106) (p.drop 1) := by
  intro k hk
  rw [List.length_drop, h8] at hk
  rw [getD_d1]
  exact MR_cg (h (k + 1) (by omega)) (hC (k + 1) (by omega)) (fun j hj => by rw [pk_cpy_in (by omega) (by omega)]; congr 1; omega)
theorem MP_v6 {v : Nat → Int32} {F : Nat → Nat → Int32} {w : Wl} {x : Int32} (h : MP v F w) : MP (vU v 6 x) F w := ⟨(vU_n (by decide)).trans h.1, h.2.1, (vU_n (by decide)).trans h.2.2.1, h.2.2.2⟩
theorem MP_F {v : Nat → Int32} {F F' : Nat → Nat → Int32} {w : Wl} (h : MP v F w) (h2 : F' 2 = F 2) (h3 : F' 3 = F 3) : MP v F' w := ⟨h.1, by rw [h3]; exact h.2.1, h.2.2.1, by rw [h2]; exact h.2.2.2⟩
theorem MP_c {v : Nat → Int32} {F : Nat → Nat → Int32} {w : Wl} {σ' : St} (h : MP v F w) : MP v F (σ', w.2) := h
theorem rV_6 {R : Res} {v : Nat → Int32} (h : v 6 = nI 0) : rV R v 6 = nI (tR R) := by
  cases R with
  | inl c => exact vU_s
  | inr x => exact h
theorem rV_n {R : Res} {v : Nat → Int32} {i : Nat} (h : i ≠ 6) : rV R v i = v i := by
  cases R with
  | inl c => exact vU_n h
  | inr x => rfl
theorem MP_r {v : Nat → Int32} {F : Nat → Nat → Int32} {w : Wl} {R : Res} (h : MP v F w) : MP (rV R v) F w := ⟨(rV_n (by decide)).trans h.1, h.2.1, (rV_n (by decide)).trans h.2.2.1, h.2.2.2⟩
/-- an outcome that is sound: a place that is one of a list, or a number in room -/
def okR (R : Res) : Prop := match R with | .inl c => 0 < c ∧ c < 100 | .inr _ => True
theorem aPush_len {p : List St} (h : p.length ≤ 8) : (aPush p σ).length = min 8 (p.length + 1) := by
  unfold aPush
  rw [List.length_append]
  by_cases e : p.length = 8
  · rw [if_pos e, List.length_drop, e]; rfl
  · rw [if_neg e]; simp only [List.length_singleton]; omega
theorem FU_0 {F : Nat → Nat → Int32} : FU F 0 (F 0) = F := FU_self
theorem mW_c1 {Ω : Om} {h : RH} {a : Nat} {ad : Nat → Nat} {v : Nat → Int32} {F : Nat → Nat → Int32} {g f : Nat → Int32} {i j k : Int32} {n1 n2 n3 : Nat} (hd : mDi a ad) (h1 : i.toNatClampNeg = n1) (h2 : j.toNatClampNeg = n2) (h3 : k.toNatClampNeg = n3) : hu (mW Ω h a ad v F) (ad 1) (cI Ω 0 158 (va_cpy g f i.toNatClampNeg j.toNatClampNeg k.toNatClampNeg)) = mW Ω h a ad v (FU F 1 (va_cpy g f n1 n2 n3)) := by
  rw [h1, h2, h3, mW_s1 hd]
theorem mW_ca {Ω : Om} {h : RH} {a : Nat} {ad : Nat → Nat} {v : Nat → Int32} {F : Nat → Nat → Int32} {g f : Nat → Int32} {i j k : Int32} {n1 n2 n3 : Nat} (hd : mDi a ad) (h1 : i.toNatClampNeg = n1) (h2 : j.toNatClampNeg = n2) (h3 : k.toNatClampNeg = n3) : hu (mW Ω h a ad v F) (ad 0) (cI Ω 0 158 (va_cpy g f i.toNatClampNeg j.toNatClampNeg k.toNatClampNeg)) = mW Ω h a ad v (FU F 0 (va_cpy g f n1 n2 n3)) := by
  rw [h1, h2, h3, mW_s0 hd]
theorem mW_c2 {Ω : Om} {h : RH} {a : Nat} {ad : Nat → Nat} {v : Nat → Int32} {F : Nat → Nat → Int32} {g f : Nat → Int32} {i j k : Int32} {n1 n2 n3 : Nat} (hd : mDi a ad) (h1 : i.toNatClampNeg = n1) (h2 : j.toNatClampNeg = n2) (h3 : k.toNatClampNeg = n3) : hu (mW Ω h a ad v F) (ad 2) (cI Ω 0 158 (va_cpy g f i.toNatClampNeg j.toNatClampNeg k.toNatClampNeg)) = mW Ω h a ad v (FU F 2 (va_cpy g f n1 n2 n3)) := by
  rw [h1, h2, h3, mW_s2 hd]
theorem mW_c3 {Ω : Om} {h : RH} {a : Nat} {ad : Nat → Nat} {v : Nat → Int32} {F : Nat → Nat → Int32} {g f : Nat → Int32} {i j k : Int32} {n1 n2 n3 : Nat} (hd : mDi a ad) (h1 : i.toNatClampNeg = n1) (h2 : j.toNatClampNeg = n2) (h3 : k.toNatClampNeg = n3) : hu (mW Ω h a ad v F) (ad 3) (cI Ω 0 1264 (va_cpy g f i.toNatClampNeg j.toNatClampNeg k.toNatClampNeg)) = mW Ω h a ad v (FU F 3 (va_cpy g f n1 n2 n3)) := by
  rw [h1, h2, h3, mW_s3 hd]
theorem cpy0 {g f : Nat → Int32} {j : Nat} (h : j < 158) : va_cpy g f 0 0 158 j = g j := by
  rw [pk_cpy_in (Nat.zero_le _) (by omega)]; congr 1; omega
theorem gv {x y : Int32} (h : x = y) : some (Value.int x) = some (Value.int y) := by rw [h]
def rF (R : Res) (f : Nat → Int32) : Prop := match R with | .inl _ => True | .inr x => MR f x.2
theorem WA.pc {R M : Nat} {w : Wl} (hW : WA R M w) : ∀ k, k < w.2.1.length → Cp (w.2.1.getD k st0) := fun k hk => (hW.2.2.1 k hk).1.cp
end PUB
