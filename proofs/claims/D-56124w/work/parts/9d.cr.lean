/-! SLIDEPARK: what it holds; the ops -/
/-- addresses: history, its list, the input, the output, its bytes; the state; the past; what is saved -/
abbrev CT : Type := (Nat × Nat × Nat × Nat × Nat) × (Nat × Ad) × List (Nat × Ad) × Option (Nat × Ad)
abbrev chq (C : CT) : Nat := C.1.1
abbrev chl (C : CT) : Nat := C.1.2.1
abbrev ciq (C : CT) : Nat := C.1.2.2.1
abbrev coq (C : CT) : Nat := C.1.2.2.2.1
abbrev cbq (C : CT) : Nat := C.1.2.2.2.2
abbrev ccu (C : CT) : Nat × Ad := C.2.1
abbrev cpa (C : CT) : List (Nat × Ad) := C.2.2.1
abbrev csv (C : CT) : Option (Nat × Ad) := C.2.2.2
/-- output, input, error position, failed command -/
abbrev Tx : Type := List Nat × List Nat × Int32 × Int32
def hlB (hl : Nat) : LH := fun q => if q = hl then some (.inr ([], 0)) else none
abbrev CX (C : CT) (t : Tx) : List Value := [.ref (ccu C).1, .ref (chq C), va_rf ((csv C).map (·.1)), .ref (ciq C), .int (nI t.2.1.length), .int t.2.2.1, .int t.2.2.2, .ref (coq C)]
abbrev CR2 (Γ : LH) (C : CT) : Prop := isO Γ (chq C) 2 [.ref (chl C), .int (nI 8)] ∧ ∃ m, Γ (chl C) = some (.inr ((cpa C).map (·.1), m))
abbrev CR3 (Ω : Om) (Γ : LH) (C : CT) (w : Wl) : Prop := SR Ω (hlB (chl C)) Γ (ccu C).1 (ccu C).2 w.1 ∧ ((cpa C).length = w.2.1.length ∧ ∀ (i : Nat) (z : Nat × Ad), (cpa C)[i]? = some z → SR Ω (hlB (chl C)) Γ z.1 z.2 (w.2.1.getD i st0)) ∧ (∀ z, csv C = some z → ∃ σ, w.2.2 = some σ ∧ SR Ω (hlB (chl C)) Γ z.1 z.2 σ) ∧ (csv C = none → w.2.2 = none)
abbrev CR4 (Ω : Om) (Γ : LH) (C : CT) (inp : List Nat) : Prop := inp.length ≤ 60 ∧ ∃ f : Nat → Int32, Γ (ciq C) = some (.inl (cI Ω 1 60 f)) ∧ ∀ k, k < inp.length → f k = nI (inp.getD k 0) ∧ inp.getD k 0 < 65536
/-- bytes that hold a text -/
def TB (out : List Nat) (cap : Nat) (f : Nat → Int32) : Prop := out.length ≤ cap ∧ 16 ≤ cap ∧ cap ≤ 1000 ∧ sb_Fit f ∧ ∀ k, k < out.length → f k = sb_b (out.getD k 0) ∧ out.getD k 0 < 128
/-- a StringBuilder b, its bytes at v -/
abbrev SBo (Ω : Om) (Γ : LH) (b v : Nat) (out : List Nat) : Prop := (∃ mb : Int32, isO Γ b 13 [.ref v, .int 0, .int mb, .int (nI out.length)]) ∧ ∃ (cap : Nat) (f : Nat → Int32), Γ v = some (.inl (cI Ω 2 cap f)) ∧ TB out cap f
abbrev CR5 (Ω : Om) (Γ : LH) (C : CT) (out : List Nat) : Prop := SBo Ω Γ (coq C) (cbq C) out
def CR (Ω : Om) (Γ : LH) (x : Nat) (C : CT) (w : Wl) (t : Tx) : Prop := isO Γ x 0 (CX C t) ∧ CR2 Γ C ∧ CR3 Ω Γ C w ∧ CR4 Ω Γ C t.2.1 ∧ CR5 Ω Γ C t.1 ∧ ciq C ≠ cbq C
/-- all that is not the park's own stays -/
def KX (x : Nat) (C : CT) (Γ Γ' : LH) : Prop := ∀ q e, Γ q = some e → q ≠ x → q ≠ chl C → q ≠ ciq C → q ≠ coq C → q ≠ cbq C → Γ' q = some e
abbrev OPo (Ω : Om) (Γ : LH) (x : Nat) (C : CT) (w : Wl) (t : Tx) (R : Res) : Option Value → Heap → Prop := QV (fun y : {y : LH × CT × Nat × St // R = .inr y.2.2 ∧ CR Ω y.1 x y.2.1 (wR w R) t ∧ KX x C Γ y.1 ∧ y.2.1.1 = C.1} => some (.int (nI y.1.2.2.1))) (fun y => hL Ω y.1.1)
abbrev OPx (Ω : Om) (Γ : LH) (nm : Nat → String) (R : Res) : String → Nat → Heap → Prop := fun E _ H => ∃ c, R = .inl c ∧ E = nm c ∧ ∃ G, Ex Γ G ∧ hL Ω G H
section CRS
variable {l : Launch} {Ω : Om} {Γ0 Γ Γ' : LH} {x a c q y : Nat} {A : Ad} {σ σ' : St} {C C' : CT} {w w' : Wl} {t t' : Tx}
theorem neV {e e' : LE} (h : Γ q = some e) (h' : Γ c = some e') (hn : e ≠ e') : q ≠ c := fun g => hn (by subst g; exact Option.some.inj (h.symm.trans h'))
theorem hlB_s : hlB q q ≠ none := by unfold hlB; rw [if_pos rfl]; simp
theorem hlB_n (h : q ≠ c) : hlB c q = none := if_neg h
theorem CR3.tt (h : CR3 Ω Γ C w) (hT : ∀ {a : Nat} {A : Ad} {σ : St}, SR Ω (hlB (chl C)) Γ a A σ → SR Ω (hlB (chl C)) Γ' a A σ) : CR3 Ω Γ' C w :=
  ⟨hT h.1, ⟨h.2.1.1, fun i z hz => hT (h.2.1.2 i z hz)⟩, fun z hz => (h.2.2.1 z hz).elim (fun σ hs => ⟨σ, hs.1, hT hs.2⟩), h.2.2.2⟩
theorem CR.ex (h : CR Ω Γ x C w t) (hE : Ex Γ Γ') : CR Ω Γ' x C w t :=
  ⟨hE _ _ h.1, ⟨hE _ _ h.2.1.1, h.2.1.2.elim (fun m hm => ⟨m, hE _ _ hm⟩)⟩, CR3.tt h.2.2.1 (fun hs => hs.mono hE), ⟨h.2.2.2.1.1, h.2.2.2.1.2.elim (fun f hf => ⟨f, hE _ _ hf.1, hf.2⟩)⟩,
    ⟨h.2.2.2.2.1.1.elim (fun mb hb => ⟨mb, hE _ _ hb⟩), h.2.2.2.2.1.2.elim (fun cap g => g.elim (fun f hf => ⟨cap, f, hE _ _ hf.1, hf.2⟩))⟩, h.2.2.2.2.2⟩
theorem KX.ex (hE : Ex Γ Γ') : KX x C Γ Γ' := fun q e hq _ _ _ _ _ => hE q e hq
theorem KX.pre {Γ1 Γ2 : LH} (hE : Ex Γ Γ1) (h : KX x C Γ1 Γ2) : KX x C Γ Γ2 := fun q e hq => h q e (hE q e hq)
/-- other numbers or states in the park's object -/
theorem CR.setX (h : CR Ω Γ x C w t) (hC : C'.1 = C.1) (h3 : cpa C' = cpa C) (hw : CR3 Ω Γ C' w') (hi : CR4 Ω Γ C t'.2.1) (ho : t'.1 = t.1) : CR Ω (hu Γ x (.inl (.inr (0, CX C' t')))) x C' w' t' := by
  obtain ⟨m, hm⟩ := h.2.1.2
  obtain ⟨f, hf, hf2⟩ := hi.2
  obtain ⟨mb, hb⟩ := h.2.2.2.2.1.1
  obtain ⟨cap, g, hg, hg2⟩ := h.2.2.2.2.1.2
  obtain ⟨c1, c2⟩ := C
  obtain ⟨c1', c2'⟩ := C'
  have hC : c1' = c1 := hC
  subst hC
  have h3 : c2'.2.1 = c2.2.1 := h3
  refine ⟨hu_s _ _ _, ⟨kpO_O h.1 (by decide) _ _ h.2.1.1, m, ?_⟩, CR3.tt hw (fun hs => hs.monoK (kpL_O h.1) (fun ci hci => kpO_O h.1 (by omega))), ⟨hi.1, f, (hu_n (neV hf h.1 (by simp))).trans hf, hf2⟩, ⟨⟨mb, ?_⟩, cap, g, (hu_n (neV hg h.1 (by simp))).trans hg, ?_⟩, h.2.2.2.2.2⟩
  · show hu Γ x _ c1'.2.1 = some (.inr (c2'.2.1.map (·.1), m))
    rw [h3]; exact kpL_O h.1 _ _ hm
  · rw [ho]; exact kpO_O h.1 (by decide) _ _ hb
  · rw [ho]; exact hg2
theorem KX.xx {e : LE} (h : Ex Γ Γ') : KX x C Γ (hu Γ' x e) := fun q e hq hn _ _ _ _ => (hu_n hn).trans (h q e hq)
set_option maxRecDepth 100000
/-- the new past -/
abbrev paN (C : CT) : List (Nat × Ad) := (if (cpa C).length = 8 then (cpa C).drop 1 else cpa C) ++ [ccu C]
theorem paN_map : (paN C).map (·.1) = (if ((cpa C).map (·.1)).length = 8 then ((cpa C).map (·.1)).drop 1 else (cpa C).map (·.1)) ++ [(ccu C).1] := by
  rw [List.map_append, List.length_map]
  by_cases e : (cpa C).length = 8
  · rw [if_pos e, if_pos e, List.map_drop]; rfl
  · rw [if_neg e, if_neg e]; rfl
theorem paN_SR {hl : Nat} (h : (cpa C).length = w.2.1.length ∧ ∀ (i : Nat) (z : Nat × Ad), (cpa C)[i]? = some z → SR Ω (hlB hl) Γ z.1 z.2 (w.2.1.getD i st0)) (hc : SR Ω (hlB hl) Γ (ccu C).1 (ccu C).2 w.1) : (paN C).length = (aPush w.2.1 w.1).length ∧ ∀ (i : Nat) (z : Nat × Ad), (paN C)[i]? = some z → SR Ω (hlB hl) Γ z.1 z.2 ((aPush w.2.1 w.1).getD i st0) := by
  have hl2 : (if (cpa C).length = 8 then (cpa C).drop 1 else cpa C).length = (if w.2.1.length = 8 then w.2.1.drop 1 else w.2.1).length := by
    rw [h.1]; split
    · rw [List.length_drop, List.length_drop, h.1]
    · exact h.1
  refine ⟨by unfold paN aPush; rw [List.length_append, List.length_append, hl2]; rfl, fun i z hz => ?_⟩
  have e1 : (aPush w.2.1 w.1).getD i st0 = if i = (if w.2.1.length = 8 then w.2.1.drop 1 else w.2.1).length then w.1 else (if w.2.1.length = 8 then w.2.1.drop 1 else w.2.1).getD i st0 := getD_app
  rw [e1]
  rcases app_or hz with ⟨g1, g2⟩ | ⟨g1, g2⟩
  · rw [hl2] at g1
    rw [if_neg (by omega)]
    by_cases e : w.2.1.length = 8
    · rw [h.1, if_pos e, List.getElem?_drop, Nat.add_comm] at g2
      rw [if_pos e, getD_d1]
      exact h.2 (i + 1) z g2
    · rw [h.1, if_neg e] at g2
      rw [if_neg e]
      exact h.2 i z g2
  · rw [hl2] at g1
    rw [if_pos g1, ← g2]; exact hc
theorem ct_X1_record (hst : l.stackTraces = false) (hC : CR Ω Γ x C w t) {c8 : Nat} {B : Ad} (hS : SR Ω (hlB (chl C)) Γ c8 B σ') (h8 : w.2.1.length ≤ 8) {n : Int32} : CM Ω l yX1_record (ws_ yX1_record cX1_record 3 (some .int)) 20 1 64 [.ref x, .ref c8, .int n] (hL Ω Γ) (QV (fun y : {y : LH × CT // CR Ω y.1 x y.2 (σ', aPush w.2.1 w.1, w.2.2) t ∧ KX x C Γ y.1 ∧ y.2.1 = C.1} => some (.int n)) (fun y => hL Ω y.1.1)) nX := by
  obtain ⟨m, hm⟩ := hC.2.1.2
  have hp := hC.2.2.1.2.1
  have hcur := hC.2.2.1.1
  have hE : ∀ z ∈ (cpa C).map (·.1), okE Ω Γ z := fun z hz => by
    obtain ⟨u, hu1, hu2⟩ := List.mem_map.mp hz
    obtain ⟨i, hi⟩ := mem_ix hu1
    exact Or.inl ⟨1, _, by rw [← hu2]; exact (hp.2 i u hi).st, by simp⟩
  have hx := hC.1
  have h2 := hC.2.1.1
  refine CM.of (L := [some (.ref x), some (.ref c8), some (.int n)]) hst (by decide) (Nat.le_of_ble_eq_true rfl) rfl ?_
  intro p e s m below meth c X hnm htab
  refine g_aload_n X dX1_record_0 rfl rfl ?_
  refine l_get X dX1_record_1 rfl in_X1 (ci := 0) rfl 1 (by decide) q234 (fun _ h => h) hx rfl ?_
  refine g_aload_n X dX1_record_4 rfl rfl ?_
  refine l_get X dX1_record_5 rfl in_X1 (ci := 0) rfl 0 (by decide) q233 (fun _ h => h) hx rfl ?_
  refine g_callV X (ct_X3_add hst h2 hm (by rw [List.length_map]; omega) (by decide) hE (Or.inl ⟨1, _, hcur.st, by simp⟩)) dX1_record_8 rfl (lw_V q817 q818 q819 q71 q820) hyV_X3_add (fun H hH => hL.recv X.2.2.2.2.2.2.2.1 hH (h2) rfl) (fun H hH => hH) ⟨Nat.le_of_ble_eq_true rfl, Nat.le_of_ble_eq_true rfl⟩ ⟨by first | exact Nat.le_of_ble_eq_true rfl | omega | (dsimp only [rmD]; omega), by first | exact Nat.le_of_ble_eq_true rfl | omega | (dsimp only [rmD]; omega)⟩ (Nat.le_of_ble_eq_true rfl) rfl (fun m' => ?_)
  rw [← paN_map (C := C)]
  have x1 : isO (hu Γ (chl C) (.inr ((paN C).map (·.1), m'))) x 0 (CX C t) := kpO_L hm _ _ hx
  have hT : ∀ {a : Nat} {A : Ad} {σ : St}, SR Ω (hlB (chl C)) Γ a A σ → SR Ω (hlB (chl C)) (hu Γ (chl C) (.inr ((paN C).map (·.1), m'))) a A σ := fun hs => hs.lst hm hlB_s
  have hC1 : CR Ω (hu Γ (chl C) (.inr ((paN C).map (·.1), m'))) x (C.1, ccu C, paN C, csv C) (w.1, aPush w.2.1 w.1, w.2.2) t := by
    obtain ⟨f, hf, hf2⟩ := hC.2.2.2.1.2
    obtain ⟨mb, hb⟩ := hC.2.2.2.2.1.1
    obtain ⟨cap, g, hg, hg2⟩ := hC.2.2.2.2.1.2
    have hpn := paN_SR (C := C) (w := w) ⟨hp.1, fun i z hz => hT (hp.2 i z hz)⟩ (hT hcur)
    exact ⟨x1, ⟨kpO_L hm _ _ h2, m', hu_s _ _ _⟩, ⟨hT hcur, hpn, fun z hz => (hC.2.2.1.2.2.1 z hz).elim (fun σ hs => ⟨σ, hs.1, hT hs.2⟩), hC.2.2.1.2.2.2⟩, ⟨hC.2.2.2.1.1, f, (hu_n (neV hf hm (by simp))).trans hf, hf2⟩, ⟨⟨mb, kpO_L hm _ _ hb⟩, cap, g, (hu_n (neV hg hm (by simp))).trans hg, hg2⟩, hC.2.2.2.2.2⟩
  have hC2 := hC1.setX (C' := (C.1, (c8, B), paN C, csv C)) (w' := (σ', aPush w.2.1 w.1, w.2.2)) (t' := t) rfl rfl ⟨hT hS, hC1.2.2.1.2⟩ hC1.2.2.2.1 rfl
  have hk : KX x C Γ (hu (hu Γ (chl C) (.inr ((paN C).map (·.1), m'))) x (.inl (.inr (0, CX (C.1, (c8, B), paN C, csv C) t)))) := fun q e hq n1 n2 _ _ _ => (hu_n n1).trans ((hu_n n2).trans hq)
  refine g_aload_n X dX1_record_11 rfl rfl ?_
  refine g_aload_n X dX1_record_12 rfl rfl ?_
  refine l_put X dX1_record_13 rfl in_X1 tyX1_ok nmX1 (ci := 0) rfl 0 (by decide) q233 (fun _ h => h) rfl rfl rfl rfl x1 (Nat.le_of_ble_eq_true rfl) rfl ?_
  refine g_iload_n X dX1_record_16 rfl rfl ?_
  refine g_iret X dX1_record_17 rfl (by first | exact Nat.le_of_ble_eq_true rfl | omega | (dsimp only [rmD]; omega)) (by first | exact Nat.le_of_ble_eq_true rfl | omega | (dsimp only [rmD]; omega)) (fun H hH => ⟨⟨(_, _), hC2, hk, rfl⟩, rfl, hH⟩)
theorem ct_X1_buildSlide (hst : l.stackTraces = false) (hC : CR Ω Γ x C w t) {R M : Nat} (hW : WA R M w) (hm : M + 60 ≤ 100000) (hr : R + 720 ≤ 2000000) {u : Int32} {v : Int32} : CM Ω l yX1_buildSlide (ws_ yX1_buildSlide cX1_buildSlide 4 (some .int)) 40 107 4257 [.ref x, .int u, .int v] (hL Ω Γ) (OPo Ω Γ x C w t (aBuild w.1 u v)) (OPx Ω Γ nmBu (aBuild w.1 u v)) := by
  have hB := hW.1.1.bd (by have := hW.1.2; omega) (by omega)
  have b1 := hB.1
  obtain ⟨ml, hml⟩ := hC.2.1.2
  refine CM.of (L := [some (.ref x), some (.int u), some (.int v), none]) hst (by decide) (Nat.le_of_ble_eq_true rfl) rfl ?_
  intro p e s m below meth c X hnm htab
  refine g_aload_n X dX1_buildSlide_0 rfl rfl ?_
  refine l_get X dX1_buildSlide_1 rfl in_X1 (ci := 0) rfl 0 (by decide) q233 (fun _ h => h) hC.1 rfl ?_
  refine g_callV X (ct_X2_copy hst hC.2.2.1.1 hW.1.1.cp (fun i hi n hn => by have := hB.2.2.1 i hi n hn; omega)) dX1_buildSlide_4 rfl (lw_V q565 q566 q567 q67 q568) hyV_X2_copy (fun H hH => hL.recv X.2.2.2.2.2.2.2.1 hH (hC.2.2.1.1.st) rfl) (fun H hH => hH) ⟨Nat.le_of_ble_eq_true rfl, Nat.le_of_ble_eq_true rfl⟩ ⟨by first | exact Nat.le_of_ble_eq_true rfl | omega | (dsimp only [rmD]; omega), by first | exact Nat.le_of_ble_eq_true rfl | omega | (dsimp only [rmD]; omega)⟩ (Nat.le_of_ble_eq_true rfl) rfl (fun x0 => ?_)
  obtain ⟨⟨G, c0, B0⟩, e0, S0⟩ := x0
  dsimp only at e0 S0 ⊢
  refine g_astore_n X dX1_buildSlide_7 rfl (by decide) rfl rfl ?_
  refine g_aload_n X dX1_buildSlide_8 rfl rfl ?_
  refine g_aload_n X dX1_buildSlide_9 rfl rfl ?_
  refine g_aload_n X dX1_buildSlide_10 rfl rfl ?_
  refine g_iload_n X dX1_buildSlide_11 rfl rfl ?_
  refine g_iload_n X dX1_buildSlide_12 rfl rfl ?_
  refine g_callVx X (ct_X2_build hst S0 e0 hB) dX1_buildSlide_13 rfl (lw_V q768 q769 q770 q67 q771) hyV_X2_build (fun H hH => hL.recv X.2.2.2.2.2.2.2.1 hH (S0.st) rfl) (fun H hH => hH) ⟨Nat.le_of_ble_eq_true rfl, Nat.le_of_ble_eq_true rfl⟩ ⟨by first | exact Nat.le_of_ble_eq_true rfl | omega | (dsimp only [rmD]; omega), by first | exact Nat.le_of_ble_eq_true rfl | omega | (dsimp only [rmD]; omega)⟩ (Nat.le_of_ble_eq_true rfl) rfl (fun E q => GX.pass X htab (by first | exact Nat.le_of_ble_eq_true rfl | omega) (by first | exact Nat.le_of_ble_eq_true rfl | omega) (fun H h => h.elim (fun c9 h => ⟨c9, h.1, h.2.1, G, e0, h.2.2⟩))) (fun x1 => ?_)
  obtain ⟨⟨G1, B1, n1, σ1⟩, eR, e1, S1⟩ := x1
  dsimp only at eR e1 S1 ⊢
  have S2 : SR Ω (hlB (chl C)) G1 c0 B1 σ1 := S1.base (fun q hq => hlB_n (fun e => by rw [e, hml] at hq; simp at hq))
  have hC1 := hC.ex e1
  have eW : wR w (aBuild w.1 u v) = (σ1, aPush w.2.1 w.1, w.2.2) := by rw [eR]; rfl
  refine g_callV X (ct_X1_record hst hC1 S2 hW.2.1) dX1_buildSlide_16 rfl (lw_V q813 q815 qs6 q66 q816) hyV_X1_record (fun H hH => hL.recv X.2.2.2.2.2.2.2.1 hH (hC1.1) rfl) (fun H hH => hH) ⟨Nat.le_of_ble_eq_true rfl, Nat.le_of_ble_eq_true rfl⟩ ⟨by first | exact Nat.le_of_ble_eq_true rfl | omega | (dsimp only [rmD]; omega), by first | exact Nat.le_of_ble_eq_true rfl | omega | (dsimp only [rmD]; omega)⟩ (Nat.le_of_ble_eq_true rfl) rfl (fun x2 => ?_)
  refine g_iret X dX1_buildSlide_19 rfl (by first | exact Nat.le_of_ble_eq_true rfl | omega | (dsimp only [rmD]; omega)) (by first | exact Nat.le_of_ble_eq_true rfl | omega | (dsimp only [rmD]; omega)) (fun H hH => ⟨⟨(x2.1.1, x2.1.2, n1, σ1), eR, by rw [eW]; exact x2.2.1, KX.pre e1 x2.2.2.1, x2.2.2.2⟩, rfl, hH⟩)
theorem ct_X1_addGuest (hst : l.stackTraces = false) (hC : CR Ω Γ x C w t) {R M : Nat} (hW : WA R M w) (hm : M + 60 ≤ 100000) (hr : R + 720 ≤ 2000000) : CM Ω l yX1_addGuest (ws_ yX1_addGuest cX1_addGuest 2 (some .int)) 40 107 4257 [.ref x] (hL Ω Γ) (OPo Ω Γ x C w t (aAddG w.1)) (OPx Ω Γ nmAd (aAddG w.1)) := by
  have hB := hW.1.1.bd (by have := hW.1.2; omega) (by omega)
  have b1 := hB.1
  obtain ⟨ml, hml⟩ := hC.2.1.2
  refine CM.of (L := [some (.ref x), none]) hst (by decide) (Nat.le_of_ble_eq_true rfl) rfl ?_
  intro p e s m below meth c X hnm htab
  refine g_aload_n X dX1_addGuest_0 rfl rfl ?_
  refine l_get X dX1_addGuest_1 rfl in_X1 (ci := 0) rfl 0 (by decide) q233 (fun _ h => h) hC.1 rfl ?_
  refine g_callV X (ct_X2_copy hst hC.2.2.1.1 hW.1.1.cp (fun i hi n hn => by have := hB.2.2.1 i hi n hn; omega)) dX1_addGuest_4 rfl (lw_V q565 q566 q567 q67 q568) hyV_X2_copy (fun H hH => hL.recv X.2.2.2.2.2.2.2.1 hH (hC.2.2.1.1.st) rfl) (fun H hH => hH) ⟨Nat.le_of_ble_eq_true rfl, Nat.le_of_ble_eq_true rfl⟩ ⟨by first | exact Nat.le_of_ble_eq_true rfl | omega | (dsimp only [rmD]; omega), by first | exact Nat.le_of_ble_eq_true rfl | omega | (dsimp only [rmD]; omega)⟩ (Nat.le_of_ble_eq_true rfl) rfl (fun x0 => ?_)
  obtain ⟨⟨G, c0, B0⟩, e0, S0⟩ := x0
  dsimp only at e0 S0 ⊢
  refine g_astore_n X dX1_addGuest_7 rfl (by decide) rfl rfl ?_
  refine g_aload_n X dX1_addGuest_8 rfl rfl ?_
  refine g_aload_n X dX1_addGuest_9 rfl rfl ?_
  refine g_aload_n X dX1_addGuest_10 rfl rfl ?_
  refine g_callVx X (ct_X2_addGuest hst S0 e0 hB) dX1_addGuest_11 rfl (lw_V q837 q838 q839 q67 q840) hyV_X2_addGuest (fun H hH => hL.recv X.2.2.2.2.2.2.2.1 hH (S0.st) rfl) (fun H hH => hH) ⟨Nat.le_of_ble_eq_true rfl, Nat.le_of_ble_eq_true rfl⟩ ⟨by first | exact Nat.le_of_ble_eq_true rfl | omega | (dsimp only [rmD]; omega), by first | exact Nat.le_of_ble_eq_true rfl | omega | (dsimp only [rmD]; omega)⟩ (Nat.le_of_ble_eq_true rfl) rfl (fun E q => GX.pass X htab (by first | exact Nat.le_of_ble_eq_true rfl | omega) (by first | exact Nat.le_of_ble_eq_true rfl | omega) (fun H h => h.elim (fun c9 h => ⟨c9, h.1, h.2.1, G, e0, h.2.2⟩))) (fun x1 => ?_)
  obtain ⟨⟨G1, B1, n1, σ1⟩, eR, e1, S1⟩ := x1
  dsimp only at eR e1 S1 ⊢
  have S2 : SR Ω (hlB (chl C)) G1 c0 B1 σ1 := S1.base (fun q hq => hlB_n (fun e => by rw [e, hml] at hq; simp at hq))
  have hC1 := hC.ex e1
  have eW : wR w (aAddG w.1) = (σ1, aPush w.2.1 w.1, w.2.2) := by rw [eR]; rfl
  refine g_callV X (ct_X1_record hst hC1 S2 hW.2.1) dX1_addGuest_14 rfl (lw_V q813 q815 qs6 q66 q816) hyV_X1_record (fun H hH => hL.recv X.2.2.2.2.2.2.2.1 hH (hC1.1) rfl) (fun H hH => hH) ⟨Nat.le_of_ble_eq_true rfl, Nat.le_of_ble_eq_true rfl⟩ ⟨by first | exact Nat.le_of_ble_eq_true rfl | omega | (dsimp only [rmD]; omega), by first | exact Nat.le_of_ble_eq_true rfl | omega | (dsimp only [rmD]; omega)⟩ (Nat.le_of_ble_eq_true rfl) rfl (fun x2 => ?_)
  refine g_iret X dX1_addGuest_17 rfl (by first | exact Nat.le_of_ble_eq_true rfl | omega | (dsimp only [rmD]; omega)) (by first | exact Nat.le_of_ble_eq_true rfl | omega | (dsimp only [rmD]; omega)) (fun H hH => ⟨⟨(x2.1.1, x2.1.2, n1, σ1), eR, by rw [eW]; exact x2.2.1, KX.pre e1 x2.2.2.1, x2.2.2.2⟩, rfl, hH⟩)
theorem ct_X1_book (hst : l.stackTraces = false) (hC : CR Ω Γ x C w t) {R M : Nat} (hW : WA R M w) (hm : M + 60 ≤ 100000) (hr : R + 720 ≤ 2000000) {u : Int32} {v : Int32} {z : Int32} : CM Ω l yX1_book (ws_ yX1_book cX1_book 5 (some .int)) 40 107 4257 [.ref x, .int u, .int v, .int z] (hL Ω Γ) (OPo Ω Γ x C w t (aBook w.1 u v z)) (OPx Ω Γ nmBk (aBook w.1 u v z)) := by
  have hB := hW.1.1.bd (by have := hW.1.2; omega) (by omega)
  have b1 := hB.1
  obtain ⟨ml, hml⟩ := hC.2.1.2
  refine CM.of (L := [some (.ref x), some (.int u), some (.int v), some (.int z), none]) hst (by decide) (Nat.le_of_ble_eq_true rfl) rfl ?_
  intro p e s m below meth c X hnm htab
  refine g_aload_n X dX1_book_0 rfl rfl ?_
  refine l_get X dX1_book_1 rfl in_X1 (ci := 0) rfl 0 (by decide) q233 (fun _ h => h) hC.1 rfl ?_
  refine g_callV X (ct_X2_copy hst hC.2.2.1.1 hW.1.1.cp (fun i hi n hn => by have := hB.2.2.1 i hi n hn; omega)) dX1_book_4 rfl (lw_V q565 q566 q567 q67 q568) hyV_X2_copy (fun H hH => hL.recv X.2.2.2.2.2.2.2.1 hH (hC.2.2.1.1.st) rfl) (fun H hH => hH) ⟨Nat.le_of_ble_eq_true rfl, Nat.le_of_ble_eq_true rfl⟩ ⟨by first | exact Nat.le_of_ble_eq_true rfl | omega | (dsimp only [rmD]; omega), by first | exact Nat.le_of_ble_eq_true rfl | omega | (dsimp only [rmD]; omega)⟩ (Nat.le_of_ble_eq_true rfl) rfl (fun x0 => ?_)
  obtain ⟨⟨G, c0, B0⟩, e0, S0⟩ := x0
  dsimp only at e0 S0 ⊢
  refine g_astore X dX1_book_7 rfl (by decide) rfl rfl ?_
  refine g_aload_n X dX1_book_9 rfl rfl ?_
  refine g_aload X dX1_book_10 rfl rfl ?_
  refine g_aload X dX1_book_12 rfl rfl ?_
  refine g_iload_n X dX1_book_14 rfl rfl ?_
  refine g_iload_n X dX1_book_15 rfl rfl ?_
  refine g_iload_n X dX1_book_16 rfl rfl ?_
  refine g_callVx X (ct_X2_book hst S0 e0 hB) dX1_book_17 rfl (lw_V q883 q884 q885 q67 q886) hyV_X2_book (fun H hH => hL.recv X.2.2.2.2.2.2.2.1 hH (S0.st) rfl) (fun H hH => hH) ⟨Nat.le_of_ble_eq_true rfl, Nat.le_of_ble_eq_true rfl⟩ ⟨by first | exact Nat.le_of_ble_eq_true rfl | omega | (dsimp only [rmD]; omega), by first | exact Nat.le_of_ble_eq_true rfl | omega | (dsimp only [rmD]; omega)⟩ (Nat.le_of_ble_eq_true rfl) rfl (fun E q => GX.pass X htab (by first | exact Nat.le_of_ble_eq_true rfl | omega) (by first | exact Nat.le_of_ble_eq_true rfl | omega) (fun H h => h.elim (fun c9 h => ⟨c9, h.1, h.2.1, G, e0, h.2.2⟩))) (fun x1 => ?_)
  obtain ⟨⟨G1, B1, n1, σ1⟩, eR, e1, S1⟩ := x1
  dsimp only at eR e1 S1 ⊢
  have S2 : SR Ω (hlB (chl C)) G1 c0 B1 σ1 := S1.base (fun q hq => hlB_n (fun e => by rw [e, hml] at hq; simp at hq))
  have hC1 := hC.ex e1
  have eW : wR w (aBook w.1 u v z) = (σ1, aPush w.2.1 w.1, w.2.2) := by rw [eR]; rfl
  refine g_callV X (ct_X1_record hst hC1 S2 hW.2.1) dX1_book_20 rfl (lw_V q813 q815 qs6 q66 q816) hyV_X1_record (fun H hH => hL.recv X.2.2.2.2.2.2.2.1 hH (hC1.1) rfl) (fun H hH => hH) ⟨Nat.le_of_ble_eq_true rfl, Nat.le_of_ble_eq_true rfl⟩ ⟨by first | exact Nat.le_of_ble_eq_true rfl | omega | (dsimp only [rmD]; omega), by first | exact Nat.le_of_ble_eq_true rfl | omega | (dsimp only [rmD]; omega)⟩ (Nat.le_of_ble_eq_true rfl) rfl (fun x2 => ?_)
  refine g_iret X dX1_book_23 rfl (by first | exact Nat.le_of_ble_eq_true rfl | omega | (dsimp only [rmD]; omega)) (by first | exact Nat.le_of_ble_eq_true rfl | omega | (dsimp only [rmD]; omega)) (fun H hH => ⟨⟨(x2.1.1, x2.1.2, n1, σ1), eR, by rw [eW]; exact x2.2.1, KX.pre e1 x2.2.2.1, x2.2.2.2⟩, rfl, hH⟩)
theorem ct_X1_cancel (hst : l.stackTraces = false) (hC : CR Ω Γ x C w t) {R M : Nat} (hW : WA R M w) (hm : M + 60 ≤ 100000) (hr : R + 720 ≤ 2000000) {u : Int32} : CM Ω l yX1_cancel (ws_ yX1_cancel cX1_cancel 3 (some .int)) 40 107 4257 [.ref x, .int u] (hL Ω Γ) (OPo Ω Γ x C w t (aCanc w.1 u)) (OPx Ω Γ nmCa (aCanc w.1 u)) := by
  have hB := hW.1.1.bd (by have := hW.1.2; omega) (by omega)
  have b1 := hB.1
  obtain ⟨ml, hml⟩ := hC.2.1.2
  refine CM.of (L := [some (.ref x), some (.int u), none]) hst (by decide) (Nat.le_of_ble_eq_true rfl) rfl ?_
  intro p e s m below meth c X hnm htab
  refine g_aload_n X dX1_cancel_0 rfl rfl ?_
  refine l_get X dX1_cancel_1 rfl in_X1 (ci := 0) rfl 0 (by decide) q233 (fun _ h => h) hC.1 rfl ?_
  refine g_callV X (ct_X2_copy hst hC.2.2.1.1 hW.1.1.cp (fun i hi n hn => by have := hB.2.2.1 i hi n hn; omega)) dX1_cancel_4 rfl (lw_V q565 q566 q567 q67 q568) hyV_X2_copy (fun H hH => hL.recv X.2.2.2.2.2.2.2.1 hH (hC.2.2.1.1.st) rfl) (fun H hH => hH) ⟨Nat.le_of_ble_eq_true rfl, Nat.le_of_ble_eq_true rfl⟩ ⟨by first | exact Nat.le_of_ble_eq_true rfl | omega | (dsimp only [rmD]; omega), by first | exact Nat.le_of_ble_eq_true rfl | omega | (dsimp only [rmD]; omega)⟩ (Nat.le_of_ble_eq_true rfl) rfl (fun x0 => ?_)
  obtain ⟨⟨G, c0, B0⟩, e0, S0⟩ := x0
  dsimp only at e0 S0 ⊢
  refine g_astore_n X dX1_cancel_7 rfl (by decide) rfl rfl ?_
  refine g_aload_n X dX1_cancel_8 rfl rfl ?_
  refine g_aload_n X dX1_cancel_9 rfl rfl ?_
  refine g_aload_n X dX1_cancel_10 rfl rfl ?_
  refine g_iload_n X dX1_cancel_11 rfl rfl ?_
  refine g_callVx X (ct_X2_cancel hst S0 e0 hB) dX1_cancel_12 rfl (lw_V q995 q996 q997 q67 q998) hyV_X2_cancel (fun H hH => hL.recv X.2.2.2.2.2.2.2.1 hH (S0.st) rfl) (fun H hH => hH) ⟨Nat.le_of_ble_eq_true rfl, Nat.le_of_ble_eq_true rfl⟩ ⟨by first | exact Nat.le_of_ble_eq_true rfl | omega | (dsimp only [rmD]; omega), by first | exact Nat.le_of_ble_eq_true rfl | omega | (dsimp only [rmD]; omega)⟩ (Nat.le_of_ble_eq_true rfl) rfl (fun E q => GX.pass X htab (by first | exact Nat.le_of_ble_eq_true rfl | omega) (by first | exact Nat.le_of_ble_eq_true rfl | omega) (fun H h => h.elim (fun c9 h => ⟨c9, h.1, h.2.1, G, e0, h.2.2⟩))) (fun x1 => ?_)
  obtain ⟨⟨G1, B1, n1, σ1⟩, eR, e1, S1⟩ := x1
  dsimp only at eR e1 S1 ⊢
  have S2 : SR Ω (hlB (chl C)) G1 c0 B1 σ1 := S1.base (fun q hq => hlB_n (fun e => by rw [e, hml] at hq; simp at hq))
  have hC1 := hC.ex e1
  have eW : wR w (aCanc w.1 u) = (σ1, aPush w.2.1 w.1, w.2.2) := by rw [eR]; rfl
  refine g_callV X (ct_X1_record hst hC1 S2 hW.2.1) dX1_cancel_15 rfl (lw_V q813 q815 qs6 q66 q816) hyV_X1_record (fun H hH => hL.recv X.2.2.2.2.2.2.2.1 hH (hC1.1) rfl) (fun H hH => hH) ⟨Nat.le_of_ble_eq_true rfl, Nat.le_of_ble_eq_true rfl⟩ ⟨by first | exact Nat.le_of_ble_eq_true rfl | omega | (dsimp only [rmD]; omega), by first | exact Nat.le_of_ble_eq_true rfl | omega | (dsimp only [rmD]; omega)⟩ (Nat.le_of_ble_eq_true rfl) rfl (fun x2 => ?_)
  refine g_iret X dX1_cancel_18 rfl (by first | exact Nat.le_of_ble_eq_true rfl | omega | (dsimp only [rmD]; omega)) (by first | exact Nat.le_of_ble_eq_true rfl | omega | (dsimp only [rmD]; omega)) (fun H hH => ⟨⟨(x2.1.1, x2.1.2, n1, σ1), eR, by rw [eW]; exact x2.2.1, KX.pre e1 x2.2.2.1, x2.2.2.2⟩, rfl, hH⟩)
theorem ct_X1_joinQueue (hst : l.stackTraces = false) (hC : CR Ω Γ x C w t) {R M : Nat} (hW : WA R M w) (hm : M + 60 ≤ 100000) (hr : R + 720 ≤ 2000000) {u : Int32} {v : Int32} : CM Ω l yX1_joinQueue (ws_ yX1_joinQueue cX1_joinQueue 4 (some .int)) 40 107 4257 [.ref x, .int u, .int v] (hL Ω Γ) (OPo Ω Γ x C w t (aJoin w.1 u v)) (OPx Ω Γ nmJo (aJoin w.1 u v)) := by
  have hB := hW.1.1.bd (by have := hW.1.2; omega) (by omega)
  have b1 := hB.1
  obtain ⟨ml, hml⟩ := hC.2.1.2
  refine CM.of (L := [some (.ref x), some (.int u), some (.int v), none]) hst (by decide) (Nat.le_of_ble_eq_true rfl) rfl ?_
  intro p e s m below meth c X hnm htab
  refine g_aload_n X dX1_joinQueue_0 rfl rfl ?_
  refine l_get X dX1_joinQueue_1 rfl in_X1 (ci := 0) rfl 0 (by decide) q233 (fun _ h => h) hC.1 rfl ?_
  refine g_callV X (ct_X2_copy hst hC.2.2.1.1 hW.1.1.cp (fun i hi n hn => by have := hB.2.2.1 i hi n hn; omega)) dX1_joinQueue_4 rfl (lw_V q565 q566 q567 q67 q568) hyV_X2_copy (fun H hH => hL.recv X.2.2.2.2.2.2.2.1 hH (hC.2.2.1.1.st) rfl) (fun H hH => hH) ⟨Nat.le_of_ble_eq_true rfl, Nat.le_of_ble_eq_true rfl⟩ ⟨by first | exact Nat.le_of_ble_eq_true rfl | omega | (dsimp only [rmD]; omega), by first | exact Nat.le_of_ble_eq_true rfl | omega | (dsimp only [rmD]; omega)⟩ (Nat.le_of_ble_eq_true rfl) rfl (fun x0 => ?_)
  obtain ⟨⟨G, c0, B0⟩, e0, S0⟩ := x0
  dsimp only at e0 S0 ⊢
  refine g_astore_n X dX1_joinQueue_7 rfl (by decide) rfl rfl ?_
  refine g_aload_n X dX1_joinQueue_8 rfl rfl ?_
  refine g_aload_n X dX1_joinQueue_9 rfl rfl ?_
  refine g_aload_n X dX1_joinQueue_10 rfl rfl ?_
  refine g_iload_n X dX1_joinQueue_11 rfl rfl ?_
  refine g_iload_n X dX1_joinQueue_12 rfl rfl ?_
  refine g_callVx X (ct_X2_join hst S0 e0 hB) dX1_joinQueue_13 rfl (lw_V q1015 q1016 q1017 q67 q1018) hyV_X2_join (fun H hH => hL.recv X.2.2.2.2.2.2.2.1 hH (S0.st) rfl) (fun H hH => hH) ⟨Nat.le_of_ble_eq_true rfl, Nat.le_of_ble_eq_true rfl⟩ ⟨by first | exact Nat.le_of_ble_eq_true rfl | omega | (dsimp only [rmD]; omega), by first | exact Nat.le_of_ble_eq_true rfl | omega | (dsimp only [rmD]; omega)⟩ (Nat.le_of_ble_eq_true rfl) rfl (fun E q => GX.pass X htab (by first | exact Nat.le_of_ble_eq_true rfl | omega) (by first | exact Nat.le_of_ble_eq_true rfl | omega) (fun H h => h.elim (fun c9 h => ⟨c9, h.1, h.2.1, G, e0, h.2.2⟩))) (fun x1 => ?_)
  obtain ⟨⟨G1, B1, n1, σ1⟩, eR, e1, S1⟩ := x1
  dsimp only at eR e1 S1 ⊢
  have S2 : SR Ω (hlB (chl C)) G1 c0 B1 σ1 := S1.base (fun q hq => hlB_n (fun e => by rw [e, hml] at hq; simp at hq))
  have hC1 := hC.ex e1
  have eW : wR w (aJoin w.1 u v) = (σ1, aPush w.2.1 w.1, w.2.2) := by rw [eR]; rfl
  refine g_callV X (ct_X1_record hst hC1 S2 hW.2.1) dX1_joinQueue_16 rfl (lw_V q813 q815 qs6 q66 q816) hyV_X1_record (fun H hH => hL.recv X.2.2.2.2.2.2.2.1 hH (hC1.1) rfl) (fun H hH => hH) ⟨Nat.le_of_ble_eq_true rfl, Nat.le_of_ble_eq_true rfl⟩ ⟨by first | exact Nat.le_of_ble_eq_true rfl | omega | (dsimp only [rmD]; omega), by first | exact Nat.le_of_ble_eq_true rfl | omega | (dsimp only [rmD]; omega)⟩ (Nat.le_of_ble_eq_true rfl) rfl (fun x2 => ?_)
  refine g_iret X dX1_joinQueue_19 rfl (by first | exact Nat.le_of_ble_eq_true rfl | omega | (dsimp only [rmD]; omega)) (by first | exact Nat.le_of_ble_eq_true rfl | omega | (dsimp only [rmD]; omega)) (fun H hH => ⟨⟨(x2.1.1, x2.1.2, n1, σ1), eR, by rw [eW]; exact x2.2.1, KX.pre e1 x2.2.2.1, x2.2.2.2⟩, rfl, hH⟩)
theorem ct_X1_leaveQueue (hst : l.stackTraces = false) (hC : CR Ω Γ x C w t) {R M : Nat} (hW : WA R M w) (hm : M + 60 ≤ 100000) (hr : R + 720 ≤ 2000000) {u : Int32} : CM Ω l yX1_leaveQueue (ws_ yX1_leaveQueue cX1_leaveQueue 3 (some .int)) 40 107 4257 [.ref x, .int u] (hL Ω Γ) (OPo Ω Γ x C w t (aLeave w.1 u)) (OPx Ω Γ nmLe (aLeave w.1 u)) := by
  have hB := hW.1.1.bd (by have := hW.1.2; omega) (by omega)
  have b1 := hB.1
  obtain ⟨ml, hml⟩ := hC.2.1.2
  refine CM.of (L := [some (.ref x), some (.int u), none]) hst (by decide) (Nat.le_of_ble_eq_true rfl) rfl ?_
  intro p e s m below meth c X hnm htab
  refine g_aload_n X dX1_leaveQueue_0 rfl rfl ?_
  refine l_get X dX1_leaveQueue_1 rfl in_X1 (ci := 0) rfl 0 (by decide) q233 (fun _ h => h) hC.1 rfl ?_
  refine g_callV X (ct_X2_copy hst hC.2.2.1.1 hW.1.1.cp (fun i hi n hn => by have := hB.2.2.1 i hi n hn; omega)) dX1_leaveQueue_4 rfl (lw_V q565 q566 q567 q67 q568) hyV_X2_copy (fun H hH => hL.recv X.2.2.2.2.2.2.2.1 hH (hC.2.2.1.1.st) rfl) (fun H hH => hH) ⟨Nat.le_of_ble_eq_true rfl, Nat.le_of_ble_eq_true rfl⟩ ⟨by first | exact Nat.le_of_ble_eq_true rfl | omega | (dsimp only [rmD]; omega), by first | exact Nat.le_of_ble_eq_true rfl | omega | (dsimp only [rmD]; omega)⟩ (Nat.le_of_ble_eq_true rfl) rfl (fun x0 => ?_)
  obtain ⟨⟨G, c0, B0⟩, e0, S0⟩ := x0
  dsimp only at e0 S0 ⊢
  refine g_astore_n X dX1_leaveQueue_7 rfl (by decide) rfl rfl ?_
  refine g_aload_n X dX1_leaveQueue_8 rfl rfl ?_
  refine g_aload_n X dX1_leaveQueue_9 rfl rfl ?_
  refine g_aload_n X dX1_leaveQueue_10 rfl rfl ?_
  refine g_iload_n X dX1_leaveQueue_11 rfl rfl ?_
  refine g_callVx X (ct_X2_leave hst S0 e0 hB) dX1_leaveQueue_12 rfl (lw_V q1114 q1115 q1116 q67 q1117) hyV_X2_leave (fun H hH => hL.recv X.2.2.2.2.2.2.2.1 hH (S0.st) rfl) (fun H hH => hH) ⟨Nat.le_of_ble_eq_true rfl, Nat.le_of_ble_eq_true rfl⟩ ⟨by first | exact Nat.le_of_ble_eq_true rfl | omega | (dsimp only [rmD]; omega), by first | exact Nat.le_of_ble_eq_true rfl | omega | (dsimp only [rmD]; omega)⟩ (Nat.le_of_ble_eq_true rfl) rfl (fun E q => GX.pass X htab (by first | exact Nat.le_of_ble_eq_true rfl | omega) (by first | exact Nat.le_of_ble_eq_true rfl | omega) (fun H h => h.elim (fun c9 h => ⟨c9, h.1, h.2.1, G, e0, h.2.2⟩))) (fun x1 => ?_)
  obtain ⟨⟨G1, B1, n1, σ1⟩, eR, e1, S1⟩ := x1
  dsimp only at eR e1 S1 ⊢
  have S2 : SR Ω (hlB (chl C)) G1 c0 B1 σ1 := S1.base (fun q hq => hlB_n (fun e => by rw [e, hml] at hq; simp at hq))
  have hC1 := hC.ex e1
  have eW : wR w (aLeave w.1 u) = (σ1, aPush w.2.1 w.1, w.2.2) := by rw [eR]; rfl
  refine g_callV X (ct_X1_record hst hC1 S2 hW.2.1) dX1_leaveQueue_15 rfl (lw_V q813 q815 qs6 q66 q816) hyV_X1_record (fun H hH => hL.recv X.2.2.2.2.2.2.2.1 hH (hC1.1) rfl) (fun H hH => hH) ⟨Nat.le_of_ble_eq_true rfl, Nat.le_of_ble_eq_true rfl⟩ ⟨by first | exact Nat.le_of_ble_eq_true rfl | omega | (dsimp only [rmD]; omega), by first | exact Nat.le_of_ble_eq_true rfl | omega | (dsimp only [rmD]; omega)⟩ (Nat.le_of_ble_eq_true rfl) rfl (fun x2 => ?_)
  refine g_iret X dX1_leaveQueue_18 rfl (by first | exact Nat.le_of_ble_eq_true rfl | omega | (dsimp only [rmD]; omega)) (by first | exact Nat.le_of_ble_eq_true rfl | omega | (dsimp only [rmD]; omega)) (fun H hH => ⟨⟨(x2.1.1, x2.1.2, n1, σ1), eR, by rw [eW]; exact x2.2.1, KX.pre e1 x2.2.2.1, x2.2.2.2⟩, rfl, hH⟩)
theorem ct_X1_passMinutes (hst : l.stackTraces = false) (hC : CR Ω Γ x C w t) {R M : Nat} (hW : WA R M w) (hm : M + 60 ≤ 100000) (hr : R + 720 ≤ 2000000) {u : Int32} : CM Ω l yX1_passMinutes (ws_ yX1_passMinutes cX1_passMinutes 3 (some .int)) 40 2016 68683 [.ref x, .int u] (hL Ω Γ) (OPo Ω Γ x C w t (aPass w.1 u)) (OPx Ω Γ nmPa (aPass w.1 u)) := by
  have hB := hW.1.1.bd (by have := hW.1.2; omega) (by omega)
  have b1 := hB.1
  obtain ⟨ml, hml⟩ := hC.2.1.2
  refine CM.of (L := [some (.ref x), some (.int u), none]) hst (by decide) (Nat.le_of_ble_eq_true rfl) rfl ?_
  intro p e s m below meth c X hnm htab
  refine g_aload_n X dX1_passMinutes_0 rfl rfl ?_
  refine l_get X dX1_passMinutes_1 rfl in_X1 (ci := 0) rfl 0 (by decide) q233 (fun _ h => h) hC.1 rfl ?_
  refine g_callV X (ct_X2_copy hst hC.2.2.1.1 hW.1.1.cp (fun i hi n hn => by have := hB.2.2.1 i hi n hn; omega)) dX1_passMinutes_4 rfl (lw_V q565 q566 q567 q67 q568) hyV_X2_copy (fun H hH => hL.recv X.2.2.2.2.2.2.2.1 hH (hC.2.2.1.1.st) rfl) (fun H hH => hH) ⟨Nat.le_of_ble_eq_true rfl, Nat.le_of_ble_eq_true rfl⟩ ⟨by first | exact Nat.le_of_ble_eq_true rfl | omega | (dsimp only [rmD]; omega), by first | exact Nat.le_of_ble_eq_true rfl | omega | (dsimp only [rmD]; omega)⟩ (Nat.le_of_ble_eq_true rfl) rfl (fun x0 => ?_)
  obtain ⟨⟨G, c0, B0⟩, e0, S0⟩ := x0
  dsimp only at e0 S0 ⊢
  refine g_astore_n X dX1_passMinutes_7 rfl (by decide) rfl rfl ?_
  refine g_aload_n X dX1_passMinutes_8 rfl rfl ?_
  refine g_aload_n X dX1_passMinutes_9 rfl rfl ?_
  refine g_aload_n X dX1_passMinutes_10 rfl rfl ?_
  refine g_iload_n X dX1_passMinutes_11 rfl rfl ?_
  refine g_callVx X (ct_X2_passMinutes hst S0 e0 hW.1.1 (by have := hW.1.2; omega) (by omega)) dX1_passMinutes_12 rfl (lw_V q1136 q1137 q1138 q67 q1139) hyV_X2_passMinutes (fun H hH => hL.recv X.2.2.2.2.2.2.2.1 hH (S0.st) rfl) (fun H hH => hH) ⟨Nat.le_of_ble_eq_true rfl, Nat.le_of_ble_eq_true rfl⟩ ⟨by first | exact Nat.le_of_ble_eq_true rfl | omega | (dsimp only [rmD]; omega), by first | exact Nat.le_of_ble_eq_true rfl | omega | (dsimp only [rmD]; omega)⟩ (Nat.le_of_ble_eq_true rfl) rfl (fun E q => GX.pass X htab (by first | exact Nat.le_of_ble_eq_true rfl | omega) (by first | exact Nat.le_of_ble_eq_true rfl | omega) (fun H h => h.elim (fun c9 h => ⟨c9, h.1, h.2.1, G, e0, h.2.2⟩))) (fun x1 => ?_)
  obtain ⟨⟨G1, B1, n1, σ1⟩, eR, e1, S1⟩ := x1
  dsimp only at eR e1 S1 ⊢
  have S2 : SR Ω (hlB (chl C)) G1 c0 B1 σ1 := S1.base (fun q hq => hlB_n (fun e => by rw [e, hml] at hq; simp at hq))
  have hC1 := hC.ex e1
  have eW : wR w (aPass w.1 u) = (σ1, aPush w.2.1 w.1, w.2.2) := by rw [eR]; rfl
  refine g_callV X (ct_X1_record hst hC1 S2 hW.2.1) dX1_passMinutes_15 rfl (lw_V q813 q815 qs6 q66 q816) hyV_X1_record (fun H hH => hL.recv X.2.2.2.2.2.2.2.1 hH (hC1.1) rfl) (fun H hH => hH) ⟨Nat.le_of_ble_eq_true rfl, Nat.le_of_ble_eq_true rfl⟩ ⟨by first | exact Nat.le_of_ble_eq_true rfl | omega | (dsimp only [rmD]; omega), by first | exact Nat.le_of_ble_eq_true rfl | omega | (dsimp only [rmD]; omega)⟩ (Nat.le_of_ble_eq_true rfl) rfl (fun x2 => ?_)
  refine g_iret X dX1_passMinutes_18 rfl (by first | exact Nat.le_of_ble_eq_true rfl | omega | (dsimp only [rmD]; omega)) (by first | exact Nat.le_of_ble_eq_true rfl | omega | (dsimp only [rmD]; omega)) (fun H hH => ⟨⟨(x2.1.1, x2.1.2, n1, σ1), eR, by rw [eW]; exact x2.2.1, KX.pre e1 x2.2.2.1, x2.2.2.2⟩, rfl, hH⟩)
theorem ct_X1_undoCount (hst : l.stackTraces = false) (hC : CR Ω Γ x C w t) : CM Ω l yX1_undoCount (ws_ yX1_undoCount cX1_undoCount 1 (some .int)) 6 0 0 [.ref x] (hL Ω Γ) (QP (some (.int (nI w.2.1.length))) (hL Ω Γ)) nX := by
  obtain ⟨m, hm⟩ := hC.2.1.2
  rw [← hC.2.2.1.2.1.1, ← List.length_map (as := cpa C) (·.1)]
  refine CM.of (L := [some (.ref x)]) hst (by decide) (Nat.le_of_ble_eq_true rfl) rfl ?_
  intro p e s m below meth c X hnm htab
  refine g_aload_n X dX1_undoCount_0 rfl rfl ?_
  refine l_get X dX1_undoCount_1 rfl in_X1 (ci := 0) rfl 1 (by decide) q234 (fun _ h => h) hC.1 rfl ?_
  refine g_callV X (ct_X3_size hst hC.2.1.1 hm) dX1_undoCount_4 rfl (lw_V q460 q461 q462 q71 q463) hyV_X3_size (fun H hH => hL.recv X.2.2.2.2.2.2.2.1 hH (hC.2.1.1) rfl) (fun H hH => hH) ⟨Nat.le_of_ble_eq_true rfl, Nat.le_of_ble_eq_true rfl⟩ ⟨by first | exact Nat.le_of_ble_eq_true rfl | omega | (dsimp only [rmD]; omega), by first | exact Nat.le_of_ble_eq_true rfl | omega | (dsimp only [rmD]; omega)⟩ (Nat.le_of_ble_eq_true rfl) rfl (fun x_4 => ?_)
  refine g_iret X dX1_undoCount_7 rfl (by first | exact Nat.le_of_ble_eq_true rfl | omega | (dsimp only [rmD]; omega)) (by first | exact Nat.le_of_ble_eq_true rfl | omega | (dsimp only [rmD]; omega)) (fun H hH => ⟨(), rfl, hH⟩)
theorem ct_X1_save (hst : l.stackTraces = false) (hC : CR Ω Γ x C w t) {R M : Nat} (hW : WA R M w) (hm : M + 60 ≤ 100000) (hr : R + 720 ≤ 2000000) : CM Ω l yX1_save (ws_ yX1_save cX1_save 1 (some .int)) 40 94 4053 [.ref x] (hL Ω Γ) (QV (fun y : {y : LH × CT // CR Ω y.1 x y.2 (w.1, w.2.1, some w.1) t ∧ KX x C Γ y.1 ∧ y.2.1 = C.1} => some (.int (nI (nB w.1)))) (fun y => hL Ω y.1.1)) nX := by
  have hB := hW.1.1.bd (by have := hW.1.2; omega) (by omega)
  have b1 := hB.1
  obtain ⟨ml, hml⟩ := hC.2.1.2
  refine CM.of (L := [some (.ref x)]) hst (by decide) (Nat.le_of_ble_eq_true rfl) rfl ?_
  intro p e s m below meth c X hnm htab
  refine g_aload_n X dX1_save_0 rfl rfl ?_
  refine g_aload_n X dX1_save_1 rfl rfl ?_
  refine l_get X dX1_save_2 rfl in_X1 (ci := 0) rfl 0 (by decide) q233 (fun _ h => h) hC.1 rfl ?_
  refine g_callV X (ct_X2_copy hst hC.2.2.1.1 hW.1.1.cp (fun i hi n hn => by have := hB.2.2.1 i hi n hn; omega)) dX1_save_5 rfl (lw_V q565 q566 q567 q67 q568) hyV_X2_copy (fun H hH => hL.recv X.2.2.2.2.2.2.2.1 hH (hC.2.2.1.1.st) rfl) (fun H hH => hH) ⟨Nat.le_of_ble_eq_true rfl, Nat.le_of_ble_eq_true rfl⟩ ⟨by first | exact Nat.le_of_ble_eq_true rfl | omega | (dsimp only [rmD]; omega), by first | exact Nat.le_of_ble_eq_true rfl | omega | (dsimp only [rmD]; omega)⟩ (Nat.le_of_ble_eq_true rfl) rfl (fun x0 => ?_)
  obtain ⟨⟨G, c0, B0⟩, e0, S0⟩ := x0
  dsimp only at e0 S0 ⊢
  have S2 : SR Ω (hlB (chl C)) G c0 B0 w.1 := S0.base (fun q hq => hlB_n (fun e => by rw [e, hml] at hq; simp at hq))
  have hC1 := hC.ex e0
  have hC2 := hC1.setX (C' := (C.1, ccu C, cpa C, some (c0, B0))) (w' := (w.1, w.2.1, some w.1)) (t' := t) rfl rfl ⟨hC1.2.2.1.1, hC1.2.2.1.2.1, fun z hz => ⟨w.1, rfl, by cases hz; exact S2⟩, fun h => by simp at h⟩ hC1.2.2.2.1 rfl
  have hs2 := hC2.2.2.1.1
  obtain ⟨mb, hmb⟩ := hs2.lB
  refine l_put X dX1_save_8 rfl in_X1 tyX1_ok nmX1 (ci := 0) rfl 2 (by decide) q235 (fun _ h => h) rfl rfl rfl rfl hC1.1 (Nat.le_of_ble_eq_true rfl) rfl ?_
  refine g_aload_n X dX1_save_11 rfl rfl ?_
  refine l_get X dX1_save_12 rfl in_X1 (ci := 0) rfl 0 (by decide) q233 (fun _ h => h) hC2.1 rfl ?_
  refine l_getN X dX1_save_15 rfl in_X2 (ci := 1) rfl 2 (by decide) "SlidePark" q169 (fun _ h => h) hs2.st rfl ?_
  refine g_callV X (ct_J2_size hst hmb) dX1_save_18 rfl (lw_V q269 q270 q271 q70 q272) hyV_J2_size (fun H hH => hL.recvL X.2.2.2.2.2.2.2.1 hH (hmb)) (fun H hH => hH) ⟨Nat.le_of_ble_eq_true rfl, Nat.le_of_ble_eq_true rfl⟩ ⟨by first | exact Nat.le_of_ble_eq_true rfl | omega | (dsimp only [rmD]; omega), by first | exact Nat.le_of_ble_eq_true rfl | omega | (dsimp only [rmD]; omega)⟩ (Nat.le_of_ble_eq_true rfl) rfl (fun x_18 => ?_)
  refine g_iret X dX1_save_21 rfl (by first | exact Nat.le_of_ble_eq_true rfl | omega | (dsimp only [rmD]; omega)) (by first | exact Nat.le_of_ble_eq_true rfl | omega | (dsimp only [rmD]; omega)) (fun H hH => ⟨⟨(_, (C.1, ccu C, cpa C, some (c0, B0))), hC2, KX.xx e0, rfl⟩, by rw [hs2.cB], hH⟩)
end CRS
