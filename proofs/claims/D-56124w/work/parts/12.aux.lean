/-! AUX: loops, names, the simplest posts -/
abbrev QP (v : Option Value) (J : Heap → Prop) : Option Value → Heap → Prop := QV (fun _ : Unit => v) (fun _ => J)
section AUX
variable {Ω : Om} {p : Program} {l : Launch} {e : Env} {R : Room} {s : State} {m : MethodId} {args : Array Value} {below : List Frame} {meth : Method} {c : Code} {Q : State → Prop} {own : String} {cc : ByteArray} {nL : Nat} {ret : Option FieldType} {I : Heap → Prop} {k n pc pc0 : Nat} {L : List (Option Value)} {st : List Value} {h : RH}
theorem g_nm {x : RH} (kk : ∀ h', h' = x → GJ Ω p l e R s m args below meth c nL Q (hR Ω h') k n pc L st) : GJ Ω p l e R s m args below meth c nL Q (hR Ω x) k n pc L st := kk x rfl
/-- a loop at pc: x what it carries, μ what falls -/
theorem GJ.loop {σ : Type} (I : σ → Heap → Prop) (kc ns : σ → Nat) (L : σ → List (Option Value)) (μ : σ → Nat) (inv : σ → Prop) (x0 : σ) (h0 : inv x0) (step : ∀ x, inv x → (∀ y, inv y → μ y < μ x → GJ Ω p l e R s m args below meth c nL Q (I y) (kc y) (ns y) pc (L y) []) → GJ Ω p l e R s m args below meth c nL Q (I x) (kc x) (ns x) pc (L x) []) : GJ Ω p l e R s m args below meth c nL Q (I x0) (kc x0) (ns x0) pc (L x0) [] := by
  have key : ∀ (b : Nat) (x : σ), inv x → μ x < b → GJ Ω p l e R s m args below meth c nL Q (I x) (kc x) (ns x) pc (L x) [] := by
    intro b
    induction b with
    | zero => intro x _ hb; exact absurd hb (Nat.not_lt_zero _)
    | succ b ih => intro x hx hb; exact step x hx (fun y hy hm => ih y hy (Nat.lt_of_lt_of_le hm (Nat.le_of_lt_succ hb)))
  exact key (μ x0 + 1) x0 h0 (Nat.lt_succ_self _)
/-- a loop that changes no heap and makes nothing -/
theorem GJ.loopP {σ : Type} (L : σ → List (Option Value)) (μ : σ → Nat) (inv : σ → Prop) (x0 : σ) (h0 : inv x0) (step : ∀ x, inv x → (∀ y, inv y → μ y < μ x → GJ Ω p l e R s m args below meth c nL Q I k n pc (L y) []) → GJ Ω p l e R s m args below meth c nL Q I k n pc (L x) []) : GJ Ω p l e R s m args below meth c nL Q I k n pc (L x0) [] := GJ.loop (fun _ => I) (fun _ => k) (fun _ => n) L μ inv x0 h0 step
theorem g_dret {mc ms : Nat} {Qr : Option Value → Heap → Prop} {Xr : String → Nat → Heap → Prop} (X : Fx Ω p l s m args meth c own cc nL (some .double)) {v : UInt64} (d : decode cc pc = .ok (.dreturn, 1)) (hp : pc0 = pc) (hk : k ≤ mc) (hn : n ≤ ms) (hq : ∀ H, I H → Qr (some (.double v)) H) : GJ Ω p l e R s m args below meth c nL (MM Ω below Qr Xr args s mc ms) I k n pc0 L [.double v] := by
  subst hp
  exact fun H locs ls hI hS hl => W.widen hk hn (vx_ret (W.dret (hlocks := X.2.2.2.2.1) X.1 X.2.1 X.2.2.2.1 (fun t ht hW => ⟨⟨_, rfl, by rw [ht]; exact hq H hI⟩, hS.F ht⟩) hS.2.2 d))
theorem g_fret {mc ms : Nat} {Qr : Option Value → Heap → Prop} {Xr : String → Nat → Heap → Prop} (X : Fx Ω p l s m args meth c own cc nL (some .float)) {v : UInt32} (d : decode cc pc = .ok (.freturn, 1)) (hp : pc0 = pc) (hk : k ≤ mc) (hn : n ≤ ms) (hq : ∀ H, I H → Qr (some (.float v)) H) : GJ Ω p l e R s m args below meth c nL (MM Ω below Qr Xr args s mc ms) I k n pc0 L [.float v] := by
  subst hp
  exact fun H locs ls hI hS hl => W.widen hk hn (vx_ret (W.fret (hlocks := X.2.2.2.2.1) X.1 X.2.1 X.2.2.2.1 (fun t ht hW => ⟨⟨_, rfl, by rw [ht]; exact hq H hI⟩, hS.F ht⟩) hS.2.2 d))
end AUX
