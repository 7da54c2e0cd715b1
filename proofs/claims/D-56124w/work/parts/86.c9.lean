/-! CLASS: a state made, a state copied -/
section C9
variable {l : Launch} {Ω : Om} {Γ0 Γ Γ' : LH} {a q y : Nat} {A : Ad} {σ : St} {xs : List Nat} {m0 : Int32}
set_option maxRecDepth 100000
theorem nil_no {α : Type} {i : Nat} {z : α} {P : Prop} (h : ([] : List α)[i]? = some z) : P := by simp at h
theorem SR_0 {G : LH} {q1 q2 q3 q4 q5 : Nat} (ha : isO G a 1 [.ref q1, .ref q2, .ref q3, .ref q4, .int 0, .int 0, .int 0, .int 0]) (h0 : Γ0 a = none) (h1 : isL Γ0 G q1 []) (h2 : isL Γ0 G q2 []) (h3 : isL Γ0 G q3 []) (h5 : isL Γ0 G q5 []) (h4 : isO G q4 2 [.ref q5, .int (nI 16)])
    (n : q1 ≠ q2 ∧ q1 ≠ q3 ∧ q1 ≠ q5 ∧ q2 ≠ q3 ∧ q2 ≠ q5 ∧ q3 ≠ q5) : SR Ω Γ0 G a ((q1, q2, q3, q4, q5), [], [], [], []) st0 :=
  ⟨⟨ha, h0⟩, ⟨h1, h2, h3, h5, h4⟩, ⟨rfl, fun i x h => nil_no h⟩, ⟨rfl, fun i x h => nil_no h⟩, ⟨rfl, fun i x h => nil_no h⟩, ⟨rfl, fun i x h => nil_no h⟩, n, fun i x h => nil_no h, fun i j x y h => nil_no h, fun i j y h => nil_no h⟩
theorem ct_X2_init (hst : l.stackTraces = false) (ha : Γ a = some (.inl (.inr (1, [.null, .null, .null, .null, .int 0, .int 0, .int 0, .int 0])))) (hE : Ex Γ0 Γ) (h0 : Γ0 a = none) : CM Ω l yX2_init (ws_ yX2_init cX2_init 1 none) 12 5 14 [.ref a] (hL Ω Γ) (QV (fun _ : {y : LH × Ad // Ex Γ0 y.1 ∧ SR Ω Γ0 y.1 a y.2 st0} => none) (fun y => hL Ω y.1.1)) nX := by
  refine CM.of (L := [some (.ref a)]) hst (by decide) (Nat.le_of_ble_eq_true rfl) rfl ?_
  intro p e s m below meth c X hnm htab
  refine g_aload_n X dX2_init_0 rfl rfl ?_
  refine g_objInit X dX2_init_1 rfl q119 (Nat.le_of_ble_eq_true rfl) (Nat.le_of_ble_eq_true rfl) ?_
  refine g_aload_n X dX2_init_4 rfl rfl ?_
  refine l_new X dX2_init_5 rfl (fs := [.int 0, .null, .int 0]) in_J2 tyJ2_ok q120 q121 q70 (ci := 11) rfl (by decide) (by first | exact Nat.le_of_ble_eq_true rfl | (dsimp only [rmD]; omega)) (by first | exact Nat.le_of_ble_eq_true rfl | (dsimp only [rmD]; omega)) (fun q1 n1 => ?_)
  refine g_dup X dX2_init_8 rfl rfl ?_
  refine g_callI X (ct_J2_init hst (hu_s _ _ _)) dX2_init_9 rfl q124 q70 q122 q123 rfl hyS_J2_init (fun H hH => hH) ⟨Nat.le_of_ble_eq_true rfl, Nat.le_of_ble_eq_true rfl⟩ ⟨by first | exact Nat.le_of_ble_eq_true rfl | (dsimp only [rmD]; omega), by first | exact Nat.le_of_ble_eq_true rfl | (dsimp only [rmD]; omega)⟩ (Nat.le_of_ble_eq_true rfl) rfl (fun x_9 => ?_)
  rw [hu_hu]
  have d1 : a ≠ q1 := neN ha n1
  refine l_put X dX2_init_12 rfl in_X2 tyX2_ok nmX2 (ci := 1) rfl 0 (by decide) q164 (fun _ h => h) rfl rfl rfl rfl ((hu_n d1).trans ha) (Nat.le_of_ble_eq_true rfl) rfl ?_
  generalize hG : hu (hu Γ q1 (Sum.inr ([], 0))) a _ = G1
  have a1 : G1 a = some (.inl (.inr (1, [.ref q1, .null, .null, .null, .int 0, .int 0, .int 0, .int 0]))) := by rw [← hG]; exact hu_s _ _ _
  have l1 : G1 q1 = some (.inr ([], 0)) := by rw [← hG]; exact (hu_n d1.symm).trans (hu_s _ _ _)
  have E1 : Ex Γ0 G1 := by rw [← hG]; exact (hE.put (hE.no n1)).put h0
  clear hG
  refine g_aload_n X dX2_init_15 rfl rfl ?_
  refine l_new X dX2_init_16 rfl (fs := [.int 0, .null, .int 0]) in_J2 tyJ2_ok q120 q121 q70 (ci := 11) rfl (by decide) (by first | exact Nat.le_of_ble_eq_true rfl | (dsimp only [rmD]; omega)) (by first | exact Nat.le_of_ble_eq_true rfl | (dsimp only [rmD]; omega)) (fun q2 n2 => ?_)
  refine g_dup X dX2_init_19 rfl rfl ?_
  refine g_callI X (ct_J2_init hst (hu_s _ _ _)) dX2_init_20 rfl q124 q70 q122 q123 rfl hyS_J2_init (fun H hH => hH) ⟨Nat.le_of_ble_eq_true rfl, Nat.le_of_ble_eq_true rfl⟩ ⟨by first | exact Nat.le_of_ble_eq_true rfl | (dsimp only [rmD]; omega), by first | exact Nat.le_of_ble_eq_true rfl | (dsimp only [rmD]; omega)⟩ (Nat.le_of_ble_eq_true rfl) rfl (fun x_20 => ?_)
  rw [hu_hu]
  have d2 : a ≠ q2 := neN a1 n2
  have d12 : q1 ≠ q2 := neN l1 n2
  refine l_put X dX2_init_23 rfl in_X2 tyX2_ok nmX2 (ci := 1) rfl 1 (by decide) q166 (fun _ h => h) rfl rfl rfl rfl ((hu_n d2).trans a1) (Nat.le_of_ble_eq_true rfl) rfl ?_
  generalize hG : hu (hu G1 q2 (Sum.inr ([], 0))) a _ = G2
  have a2 : G2 a = some (.inl (.inr (1, [.ref q1, .ref q2, .null, .null, .int 0, .int 0, .int 0, .int 0]))) := by rw [← hG]; exact hu_s _ _ _
  have l21 : G2 q1 = some (.inr ([], 0)) := by rw [← hG]; exact (hu_n d1.symm).trans ((hu_n d12).trans l1)
  have l2 : G2 q2 = some (.inr ([], 0)) := by rw [← hG]; exact (hu_n d2.symm).trans (hu_s _ _ _)
  have E2 : Ex Γ0 G2 := by rw [← hG]; exact (E1.put (E1.no n2)).put h0
  clear hG
  refine g_aload_n X dX2_init_26 rfl rfl ?_
  refine l_new X dX2_init_27 rfl (fs := [.int 0, .null, .int 0]) in_J2 tyJ2_ok q120 q121 q70 (ci := 11) rfl (by decide) (by first | exact Nat.le_of_ble_eq_true rfl | (dsimp only [rmD]; omega)) (by first | exact Nat.le_of_ble_eq_true rfl | (dsimp only [rmD]; omega)) (fun q3 n3 => ?_)
  refine g_dup X dX2_init_30 rfl rfl ?_
  refine g_callI X (ct_J2_init hst (hu_s _ _ _)) dX2_init_31 rfl q124 q70 q122 q123 rfl hyS_J2_init (fun H hH => hH) ⟨Nat.le_of_ble_eq_true rfl, Nat.le_of_ble_eq_true rfl⟩ ⟨by first | exact Nat.le_of_ble_eq_true rfl | (dsimp only [rmD]; omega), by first | exact Nat.le_of_ble_eq_true rfl | (dsimp only [rmD]; omega)⟩ (Nat.le_of_ble_eq_true rfl) rfl (fun x_31 => ?_)
  rw [hu_hu]
  have d3 : a ≠ q3 := neN a2 n3
  have d13 : q1 ≠ q3 := neN l21 n3
  have d23 : q2 ≠ q3 := neN l2 n3
  refine l_put X dX2_init_34 rfl in_X2 tyX2_ok nmX2 (ci := 1) rfl 2 (by decide) q168 (fun _ h => h) rfl rfl rfl rfl ((hu_n d3).trans a2) (Nat.le_of_ble_eq_true rfl) rfl ?_
  generalize hG : hu (hu G2 q3 (Sum.inr ([], 0))) a _ = G3
  have a3 : G3 a = some (.inl (.inr (1, [.ref q1, .ref q2, .ref q3, .null, .int 0, .int 0, .int 0, .int 0]))) := by rw [← hG]; exact hu_s _ _ _
  have l31 : G3 q1 = some (.inr ([], 0)) := by rw [← hG]; exact (hu_n d1.symm).trans ((hu_n d13).trans l21)
  have l32 : G3 q2 = some (.inr ([], 0)) := by rw [← hG]; exact (hu_n d2.symm).trans ((hu_n d23).trans l2)
  have l3 : G3 q3 = some (.inr ([], 0)) := by rw [← hG]; exact (hu_n d3.symm).trans (hu_s _ _ _)
  have E3 : Ex Γ0 G3 := by rw [← hG]; exact (E2.put (E2.no n3)).put h0
  clear hG
  refine g_aload_n X dX2_init_37 rfl rfl ?_
  refine l_new X dX2_init_38 rfl (fs := [.null, .int 0]) in_X3 tyX3_ok q149 q150 q71 (ci := 2) rfl (by decide) (by first | exact Nat.le_of_ble_eq_true rfl | (dsimp only [rmD]; omega)) (by first | exact Nat.le_of_ble_eq_true rfl | (dsimp only [rmD]; omega)) (fun q4 n4 => ?_)
  refine g_dup X dX2_init_41 rfl rfl ?_
  refine g_bipush X dX2_init_42 rfl (v := (nI 16)) (by decide) ?_
  refine g_callI X (ct_X3_init hst (hu_s _ _ _)) dX2_init_44 rfl q153 q71 q151 q152 rfl hyS_X3_init (fun H hH => hH) ⟨Nat.le_of_ble_eq_true rfl, Nat.le_of_ble_eq_true rfl⟩ ⟨by first | exact Nat.le_of_ble_eq_true rfl | (dsimp only [rmD]; omega), by first | exact Nat.le_of_ble_eq_true rfl | (dsimp only [rmD]; omega)⟩ (Nat.le_of_ble_eq_true rfl) rfl (fun x0 => ?_)
  obtain ⟨q5, n5⟩ := x0
  dsimp only
  have d4 : a ≠ q4 := neN a3 n4
  have d45 : q4 ≠ q5 := fun e => by rw [← e, hu_s] at n5; simp at n5
  have n5' : G3 q5 = none := by rw [← n5]; exact (hu_n d45.symm).symm
  have d5 : a ≠ q5 := neN a3 n5'
  have d15 : q1 ≠ q5 := neN l31 n5'
  have d25 : q2 ≠ q5 := neN l32 n5'
  have d35 : q3 ≠ q5 := neN l3 n5'
  have d14 : q1 ≠ q4 := neN l31 n4
  have d24 : q2 ≠ q4 := neN l32 n4
  have d34 : q3 ≠ q4 := neN l3 n4
  have ra : ∀ {x : Nat} {e0 e1 e2 : LE}, x ≠ q4 → x ≠ q5 → hu (hu (hu G3 q4 e0) q5 e1) q4 e2 x = G3 x := fun h1 h2 => (hu_n h1).trans ((hu_n h2).trans (hu_n h1))
  refine l_put X dX2_init_47 rfl in_X2 tyX2_ok nmX2 (ci := 1) rfl 3 (by decide) q170 (fun _ h => h) rfl rfl rfl rfl ((ra d4 d5).trans a3) (Nat.le_of_ble_eq_true rfl) rfl ?_
  refine g_vret X dX2_init_50 rfl (by first | exact Nat.le_of_ble_eq_true rfl | (dsimp only [rmD]; omega)) (by first | exact Nat.le_of_ble_eq_true rfl | (dsimp only [rmD]; omega)) (fun H hH => ⟨⟨(_, ((q1, q2, q3, q4, q5), [], [], [], [])), (((E3.put (E3.no n4)).put (E3.no n5')).put (E3.no n4)).put h0, SR_0 (hu_s _ _ _) h0 ⟨⟨0, (hu_n d1.symm).trans ((ra d14 d15).trans l31)⟩, hE.no n1⟩ ⟨⟨0, (hu_n d2.symm).trans ((ra d24 d25).trans l32)⟩, E1.no n2⟩ ⟨⟨0, (hu_n d3.symm).trans ((ra d34 d35).trans l3)⟩, E2.no n3⟩ ⟨⟨0, (hu_n d5.symm).trans ((hu_n d45.symm).trans (hu_s _ _ _))⟩, E3.no n5'⟩ ((hu_n d4.symm).trans (hu_s _ _ _)) ⟨d12, d13, d15, d23, d25, d35⟩⟩, rfl, hH⟩)
/-- all but states and the list qB stays -/
def KE (qB : Nat) (G G' : LH) : Prop := (∀ q v, q ≠ qB → G q = some (.inr v) → G' q = some (.inr v)) ∧ ∀ ci, ci ≠ 1 → kpO G G' ci
theorem KE.tr {qB : Nat} {G1 G2 G3 : LH} (h : KE qB G1 G2) (h' : KE qB G2 G3) : KE qB G1 G3 := ⟨fun q v hq hv => h'.1 q v hq (h.1 q v hq hv), fun ci hc q fs hq => h'.2 ci hc q fs (h.2 ci hc q fs hq)⟩
theorem KE.ex {qB : Nat} {G1 G2 : LH} (h : Ex G1 G2) : KE qB G1 G2 := ⟨fun q v _ hv => h _ _ hv, fun ci _ q fs hq => h _ _ hq⟩
theorem KE.c {qB c : Nat} {G : LH} {fs : List Value} {e : LE} (h : isO G c 1 fs) : KE qB G (hu G c e) := ⟨fun q v _ hv => kpL_O h _ _ hv, fun ci hc => kpO_O h hc⟩
theorem KE.b {qB : Nat} {G : LH} {v : List Nat × Int32} {e : LE} (h : G qB = some (.inr v)) : KE qB G (hu G qB e) := ⟨fun q v hq hv => (hu_n hq).trans hv, fun ci _ => kpO_L h⟩
theorem KE.li {qB q : Nat} {G1 G2 : LH} (h : KE qB G1 G2) (hq : isL Γ G1 q xs) (hn : q ≠ qB) : isL Γ G2 q xs := ⟨hq.1.elim (fun m hm => ⟨m, h.1 _ _ hn hm⟩), hq.2⟩
theorem ct_X2_copy (hst : l.stackTraces = false) (hS : SR Ω Γ0 Γ a A σ) (hC : Cp σ) (h127 : ∀ i, i < nS σ → ∀ n ∈ slQ σ i, n ≤ 127) : CM Ω l yX2_copy (ws_ yX2_copy cX2_copy 3 (some (.object "SlidePark$State"))) 30 94 4053 [.ref a] (hL Ω Γ) (QV (fun y : {y : LH × Nat × Ad // Ex Γ y.1 ∧ SR Ω Γ y.1 y.2.1 y.2.2 σ} => some (.ref y.1.2.1)) (fun y => hL Ω y.1.1)) nX := by
  refine CM.of (L := [some (.ref a), none, none]) hst (by decide) (Nat.le_of_ble_eq_true rfl) rfl ?_
  intro p e s m below meth c X hnm htab
  refine l_new X dX2_copy_0 rfl (fs := [.null, .null, .null, .null, .int 0, .int 0, .int 0, .int 0]) in_X2 tyX2_ok q569 q115 q67 (ci := 1) rfl (by decide) (by first | exact Nat.le_of_ble_eq_true rfl | (dsimp only [rmD]; omega)) (by first | exact Nat.le_of_ble_eq_true rfl | (dsimp only [rmD]; omega)) (fun qc nc => ?_)
  refine g_dup X dX2_copy_3 rfl rfl ?_
  refine g_callI X (ct_X2_init hst (Γ0 := Γ) (hu_s _ _ _) (Ex.new nc) nc) dX2_copy_4 rfl q118 q67 q570 q117 rfl hyS_X2_init (fun H hH => hH) ⟨Nat.le_of_ble_eq_true rfl, Nat.le_of_ble_eq_true rfl⟩ ⟨by first | exact Nat.le_of_ble_eq_true rfl | (dsimp only [rmD]; omega), by first | exact Nat.le_of_ble_eq_true rfl | (dsimp only [rmD]; omega)⟩ (Nat.le_of_ble_eq_true rfl) rfl (fun x0 => ?_)
  refine g_astore_n X dX2_copy_7 rfl (by decide) rfl rfl ?_
  obtain ⟨⟨G0, A0⟩, E0, S0⟩ := x0
  dsimp only at E0 S0 ⊢
  have Sa0 := hS.mono E0
  obtain ⟨mb0, B0⟩ := S0.lB
  have bn : Γ (qdB A0) = none := S0.2.1.2.2.1.2
  have lb0 : laB A0 = [] := List.eq_nil_of_length_eq_zero S0.cB
  rw [lb0] at B0
  generalize hqB : qdB A0 = qB at B0 bn
  have C0 := S0.st
  unfold stF at C0
  rw [hqB] at C0
  refine g_aload_n X dX2_copy_8 rfl rfl ?_
  refine g_aload_n X dX2_copy_9 rfl rfl ?_
  refine l_get X dX2_copy_10 rfl in_X2 (ci := 1) rfl 0 (by decide) q164 (fun _ h => h) Sa0.st rfl ?_
  refine g_callSN X "SlidePark" (ct_X1_copyAll_S hst Sa0 hC.1 (fun i hi => ⟨hC.2.2.2.2 i hi, h127 i hi⟩)) dX2_copy_13 rfl q573 q66 q571 q572 hyS_X1_copyAll (fun H hH => hH) ⟨Nat.le_of_ble_eq_true rfl, Nat.le_of_ble_eq_true rfl⟩ ⟨by first | exact Nat.le_of_ble_eq_true rfl | (dsimp only [rmD]; omega), by first | exact Nat.le_of_ble_eq_true rfl | (dsimp only [rmD]; omega)⟩ (Nat.le_of_ble_eq_true rfl) rfl (fun x1 => ?_)
  obtain ⟨⟨G1, q1, la1⟩, E1, L1, N1, P1⟩ := x1
  dsimp only at E1 L1 N1 P1 ⊢
  have C1 := E1 _ _ C0
  refine l_put X dX2_copy_16 rfl in_X2 tyX2_ok nmX2 (ci := 1) rfl 0 (by decide) q164 (fun _ h => h) rfl rfl rfl rfl C1 (Nat.le_of_ble_eq_true rfl) rfl ?_
  generalize hG : hu G1 qc _ = G1'
  have K1 : KE qB G1 G1' := by rw [← hG]; exact KE.c C1
  have C1' : isO G1' qc 1 [.ref q1, .ref (qdG A0), .ref qB, .ref (qdF A0), .int 0, .int 0, .int 0, .int 0] := by rw [← hG]; exact hu_s _ _ _
  have Eg1 : Ex Γ G1' := by rw [← hG]; exact (E0.tr E1).put nc
  have b1 : G1' qB = some (.inr ([], mb0)) := by rw [← hG]; exact kpL_O C1 _ _ (E1 _ _ B0)
  have d1B : q1 ≠ qB := fun e => by have := L1.2; rw [e, B0] at this; simp at this
  have l1 : isL Γ G1' q1 (la1.map (·.1)) := K1.li ⟨L1.1, E0.no L1.2⟩ d1B
  clear hG
  have Sa1 := hS.mono Eg1
  refine g_aload_n X dX2_copy_19 rfl rfl ?_
  refine g_aload_n X dX2_copy_20 rfl rfl ?_
  refine l_get X dX2_copy_21 rfl in_X2 (ci := 1) rfl 1 (by decide) q166 (fun _ h => h) Sa1.st rfl ?_
  refine g_callSN X "SlidePark" (ct_X1_copyAll_G hst Sa1 hC.2.1) dX2_copy_24 rfl q573 q66 q571 q572 hyS_X1_copyAll (fun H hH => hH) ⟨Nat.le_of_ble_eq_true rfl, Nat.le_of_ble_eq_true rfl⟩ ⟨by first | exact Nat.le_of_ble_eq_true rfl | (dsimp only [rmD]; omega), by first | exact Nat.le_of_ble_eq_true rfl | (dsimp only [rmD]; omega)⟩ (Nat.le_of_ble_eq_true rfl) rfl (fun x2 => ?_)
  obtain ⟨⟨G2, q2, la2⟩, E2, L2, N2, P2⟩ := x2
  dsimp only at E2 L2 N2 P2 ⊢
  have C2 := E2 _ _ C1'
  refine l_put X dX2_copy_27 rfl in_X2 tyX2_ok nmX2 (ci := 1) rfl 1 (by decide) q166 (fun _ h => h) rfl rfl rfl rfl C2 (Nat.le_of_ble_eq_true rfl) rfl ?_
  generalize hG : hu G2 qc _ = G2'
  have K2 : KE qB G2 G2' := by rw [← hG]; exact KE.c C2
  have C2' : isO G2' qc 1 [.ref q1, .ref q2, .ref qB, .ref (qdF A0), .int 0, .int 0, .int 0, .int 0] := by rw [← hG]; exact hu_s _ _ _
  have Eg2 : Ex Γ G2' := by rw [← hG]; exact (Eg1.tr E2).put nc
  have b2 : G2' qB = some (.inr ([], mb0)) := by rw [← hG]; exact kpL_O C2 _ _ (E2 _ _ b1)
  have d12 : q1 ≠ q2 := fun e => by obtain ⟨m9, h9⟩ := l1.1; have := L2.2; rw [← e, h9] at this; simp at this
  have d2B : q2 ≠ qB := fun e => by have := L2.2; rw [e, b1] at this; simp at this
  have K12 : KE qB G1' G2' := (KE.ex E2).tr K2
  have l12 := K12.li l1 d1B
  have l2 : isL Γ G2' q2 la2 := K2.li ⟨L2.1, Eg1.no L2.2⟩ d2B
  clear hG
  have dcB : qc ≠ qB := neOL C2' b2
  have hcB := hS.cB
  have h12 := hC.2.2.1
  refine GJ.imp (I' := (fun x : Nat × Int32 => hL Ω (hu G2' qB (.inr ((laB A).take x.1, x.2)))) (0, mb0)) (fun H hH => by show hL Ω (hu G2' qB (.inr ((laB A).take 0, mb0))) H; rw [show hu G2' qB (Sum.inr (List.take 0 (laB A), mb0)) = G2' from hu_same b2]; exact hH) ?_
  refine GJ.wide (k' := (fun x : Nat × Int32 => 64 + x.1) (0, mb0)) (n' := (fun x : Nat × Int32 => 2256 + 64 * x.1) (0, mb0)) (Nat.le_of_ble_eq_true rfl) (Nat.le_of_ble_eq_true rfl) ?_
  refine g_iconst X dX2_copy_30 rfl (v := (nI 0)) rfl ?_
  refine g_istore_n X dX2_copy_31 rfl (by decide) rfl rfl ?_
  refine GJ.loc ((fun x : Nat × Int32 => [some (.ref a), some (.ref qc), some (.int (nI x.1))]) (0, mb0)) (lvle_c rfl (lvle_c rfl (lvle_c rfl lvle_e))) ?_
  refine GJ.loop (fun x : Nat × Int32 => hL Ω (hu G2' qB (.inr ((laB A).take x.1, x.2)))) (fun x => 64 + x.1) (fun x => 2256 + 64 * x.1) (fun x : Nat × Int32 => [some (.ref a), some (.ref qc), some (.int (nI x.1))]) (fun x => (laB A).length - x.1) (fun x => x.1 ≤ (laB A).length) (0, mb0) (Nat.zero_le _) ?_
  rintro ⟨k, mk⟩ hk ih
  dsimp only at hk ih ⊢
  have Eg3 : Ex Γ (hu G2' qB (.inr ((laB A).take k, mk))) := Eg2.put bn
  have K3 : KE qB G2' (hu G2' qB (.inr ((laB A).take k, mk))) := KE.b b2
  have b3 : hu G2' qB (.inr ((laB A).take k, mk)) qB = some (.inr ((laB A).take k, mk)) := hu_s _ _ _
  have C3 : isO (hu G2' qB (.inr ((laB A).take k, mk))) qc 1 [.ref q1, .ref q2, .ref qB, .ref (qdF A0), .int 0, .int 0, .int 0, .int 0] := kpO_L b2 _ _ C2'
  have Sa3 := hS.mono Eg3
  obtain ⟨mB, hmB⟩ := Sa3.lB
  refine g_iload_n X dX2_copy_32 rfl rfl ?_
  refine g_aload_n X dX2_copy_33 rfl rfl ?_
  refine l_get X dX2_copy_34 rfl in_X2 (ci := 1) rfl 2 (by decide) q168 (fun _ h => h) Sa3.st rfl ?_
  refine g_callV X (ct_J2_size hst hmB) dX2_copy_37 rfl (lw_V q293 q270 q271 q70 q272) hyV_J2_size (fun H hH => hL.recvL X.2.2.2.2.2.2.2.1 hH (hmB)) (fun H hH => hH) ⟨Nat.le_of_ble_eq_true rfl, Nat.le_of_ble_eq_true rfl⟩ ⟨by first | exact Nat.le_of_ble_eq_true rfl | (dsimp only [rmD]; omega), by first | exact Nat.le_of_ble_eq_true rfl | (dsimp only [rmD]; omega)⟩ (Nat.le_of_ble_eq_true rfl) rfl (fun x_37 => ?_)
  refine g_icmp_ge (tgt := 68) X dX2_copy_40 rfl (by decide) (fun c_40 => ?_) (fun c_40 => ?_)
  · rw [nI_leI (by omega) (by omega)] at c_40
    rw [tak_n (by omega)] at C3 b3 Eg3 K3 Sa3 hmB ⊢
    have l13 := K3.li l12 d1B
    have l23 := K3.li l2 d2B
    obtain ⟨mL, hmL⟩ := Sa3.lL
    have hcF := hS.cF
    generalize hu G2' qB (Sum.inr (laB A, mk)) = G3 at *
    refine g_aload_n X dX2_copy_68 rfl rfl ?_
    refine g_aload_n X dX2_copy_69 rfl rfl ?_
    refine l_get X dX2_copy_70 rfl in_X2 (ci := 1) rfl 3 (by decide) q170 (fun _ h => h) Sa3.st rfl ?_
    refine g_callV X (ct_X3_copy_2 hst (by decide) Sa3.lF hmL (by rw [hcF]; exact hC.2.2.2.1) Sa3.eF) dX2_copy_73 rfl (lw_V q758 q614 q615 q71 q616) hyV_X3_copy_2 (fun H hH => hL.recv X.2.2.2.2.2.2.2.1 hH (Sa3.lF) rfl) (fun H hH => hH) ⟨Nat.le_of_ble_eq_true rfl, Nat.le_of_ble_eq_true rfl⟩ ⟨show 64 + k + 18 ≤ 94 by omega, show 2256 + 64 * k + 1029 ≤ 4053 by omega⟩ (Nat.le_of_ble_eq_true rfl) rfl (fun x4 => ?_)
    obtain ⟨⟨G4, qf, ql⟩, ⟨E4, nf, nl⟩, F4, mF, M4⟩ := x4
    dsimp only at E4 nf nl F4 M4 ⊢
    have C4 := E4 _ _ C3
    have Eg4 := Eg3.tr E4
    have Sa4 := hS.mono Eg4
    have eac : a ≠ qc := neN hS.st nc
    have rd : ∀ {e : LE}, hu G4 qc e a = some (.inl (.inr (1, stF A σ))) := fun {e} => (hu_n eac).trans Sa4.st
    have Kf : ∀ e, KE qB G4 (hu G4 qc e) := fun e => KE.c C4
    have K34 : ∀ e, KE qB G3 (hu G4 qc e) := fun e => (KE.ex E4).tr (Kf e)
    have K24 : ∀ e, KE qB G2' (hu G4 qc e) := fun e => K3.tr (K34 e)
    have K14 : ∀ e, KE qB G1 (hu G4 qc e) := fun e => (K1.tr K12).tr (K24 e)
    have Ez : ∀ e, Ex Γ (hu G4 qc e) := fun e => Eg4.put nc
    have dBl : qB ≠ ql := neN b3 nl
    have d1l : q1 ≠ ql := by obtain ⟨m9, h9⟩ := l13.1; exact neN h9 nl
    have d2l : q2 ≠ ql := by obtain ⟨m9, h9⟩ := l23.1; exact neN h9 nl
    have qB0 : ∀ {z : Nat}, G0 z = none → z ≠ qB := fun {z} hz e => by rw [e, B0] at hz; simp at hz
    have fin : ∀ e, e = (Sum.inl (Sum.inr (1, [Value.ref q1, .ref q2, .ref qB, .ref qf, .int (nI (sM σ)), .int (sO σ), .int (sR σ), .int (sP σ)])) : LE) → SR Ω Γ (hu G4 qc e) qc ((q1, q2, qB, qf, ql), la1, la2, laB A, laF A) σ := by
      intro e he
      refine ⟨⟨by rw [he]; exact hu_s _ _ _, nc⟩, ⟨(K34 e).li l13 d1B, (K34 e).li l23 d2B, ⟨⟨mk, kpL_O C4 _ _ (E4 _ _ b3)⟩, bn⟩, ⟨⟨mF, kpL_O C4 _ _ M4⟩, Eg3.no nl⟩, kpO_O C4 (by decide) _ _ F4⟩,
        ⟨N1, fun i x hx => ?_⟩, ⟨N2, fun i z hz => ⟨(K24 e).2 4 (by decide) _ _ (K2.2 4 (by decide) _ _ (P2.1 i z hz).1), Eg1.no (P2.1 i z hz).2⟩⟩, ⟨hcB, fun i z hz => Ez e _ _ (hS.2.2.2.2.1.2 i z hz)⟩, ⟨hcF, fun i z hz => Ez e _ _ (hS.2.2.2.2.2.1.2 i z hz)⟩, ⟨d12, d1B, d1l, d2B, d2l, dBl⟩, fun i x hx => ?_, P1.2, P2.2⟩
      · have g := P1.1 i x hx
        exact ⟨⟨(K14 e).2 6 (by decide) _ _ g.1.1, E0.no g.1.2⟩, (K14 e).2 5 (by decide) _ _ g.2.1, (K14 e).li ⟨g.2.2.1.1, E0.no g.2.2.1.2⟩ (qB0 g.2.2.1.2)⟩
      · have g := P1.1 i x hx
        have gB := qB0 g.2.2.1.2
        obtain ⟨m9, g9⟩ := (K1.li (Γ := Γ) ⟨g.2.2.1.1, E0.no g.2.2.1.2⟩ gB).1
        obtain ⟨m8, g8⟩ := ((K12.tr K3).li (Γ := Γ) ⟨⟨m9, g9⟩, E0.no g.2.2.1.2⟩ gB).1
        exact ⟨g.2.2.2, fun e => by have e9 : x.2.2 = q2 := e; have := L2.2; rw [← e9, g9] at this; simp at this, gB, neN g8 nl⟩
    refine l_put X dX2_copy_76 rfl in_X2 tyX2_ok nmX2 (ci := 1) rfl 3 (by decide) q170 (fun _ h => h) rfl rfl rfl rfl C4 (Nat.le_of_ble_eq_true rfl) rfl ?_
    refine g_aload_n X dX2_copy_79 rfl rfl ?_
    refine g_aload_n X dX2_copy_80 rfl rfl ?_
    refine l_get X dX2_copy_81 rfl in_X2 (ci := 1) rfl 4 (by decide) q172 (fun _ h => h) rd rfl ?_
    refine l_put X dX2_copy_84 rfl in_X2 tyX2_ok nmX2 (ci := 1) rfl 4 (by decide) q172 (fun _ h => h) rfl rfl rfl rfl (hu_s _ _ _) (Nat.le_of_ble_eq_true rfl) rfl ?_
    rw [hu_hu]
    refine g_aload_n X dX2_copy_87 rfl rfl ?_
    refine g_aload_n X dX2_copy_88 rfl rfl ?_
    refine l_get X dX2_copy_89 rfl in_X2 (ci := 1) rfl 5 (by decide) q174 (fun _ h => h) rd rfl ?_
    refine l_put X dX2_copy_92 rfl in_X2 tyX2_ok nmX2 (ci := 1) rfl 5 (by decide) q174 (fun _ h => h) rfl rfl rfl rfl (hu_s _ _ _) (Nat.le_of_ble_eq_true rfl) rfl ?_
    rw [hu_hu]
    refine g_aload_n X dX2_copy_95 rfl rfl ?_
    refine g_aload_n X dX2_copy_96 rfl rfl ?_
    refine l_get X dX2_copy_97 rfl in_X2 (ci := 1) rfl 6 (by decide) q176 (fun _ h => h) rd rfl ?_
    refine l_put X dX2_copy_100 rfl in_X2 tyX2_ok nmX2 (ci := 1) rfl 6 (by decide) q176 (fun _ h => h) rfl rfl rfl rfl (hu_s _ _ _) (Nat.le_of_ble_eq_true rfl) rfl ?_
    rw [hu_hu]
    refine g_aload_n X dX2_copy_103 rfl rfl ?_
    refine g_aload_n X dX2_copy_104 rfl rfl ?_
    refine l_get X dX2_copy_105 rfl in_X2 (ci := 1) rfl 7 (by decide) q178 (fun _ h => h) rd rfl ?_
    refine l_put X dX2_copy_108 rfl in_X2 tyX2_ok nmX2 (ci := 1) rfl 7 (by decide) q178 (fun _ h => h) rfl rfl rfl rfl (hu_s _ _ _) (Nat.le_of_ble_eq_true rfl) rfl ?_
    rw [hu_hu]
    refine g_aload_n X dX2_copy_111 rfl rfl ?_
    refine g_aret X (Or.inl ⟨_, rfl⟩) (Or.inr ⟨_, rfl⟩) dX2_copy_112 rfl (show 64 + k + 18 ≤ 94 by omega) (show 2256 + 64 * k + 1029 ≤ 4053 by omega) (fun H hH => ⟨⟨(_, qc, _), Ez _, fin _ rfl⟩, rfl, hH⟩)
  · rw [nI_leI (by omega) (by omega)] at c_40
    have hy : (laB A)[k]? = some ((laB A)[k]'(by omega)) := List.getElem?_eq_getElem (by omega)
    have oy := hS.2.2.2.2.1.2 k _ hy
    refine g_aload_n X dX2_copy_43 rfl rfl ?_
    refine l_get X dX2_copy_44 rfl in_X2 (ci := 1) rfl 2 (by decide) q168 (fun _ h => h) C3 rfl ?_
    refine g_aload_n X dX2_copy_47 rfl rfl ?_
    refine l_get X dX2_copy_48 rfl in_X2 (ci := 1) rfl 2 (by decide) q168 (fun _ h => h) Sa3.st rfl ?_
    refine g_iload_n X dX2_copy_51 rfl rfl ?_
    refine g_callV X (ct_J2_get hst hmB hy (by omega)) dX2_copy_52 rfl (lw_V q294 q295 q296 q70 q297) hyV_J2_get (fun H hH => hL.recvL X.2.2.2.2.2.2.2.1 hH (hmB)) (fun H hH => hH) ⟨Nat.le_of_ble_eq_true rfl, Nat.le_of_ble_eq_true rfl⟩ ⟨by first | exact Nat.le_of_ble_eq_true rfl | (dsimp only [rmD]; omega), by first | exact Nat.le_of_ble_eq_true rfl | (dsimp only [rmD]; omega)⟩ (Nat.le_of_ble_eq_true rfl) rfl (fun x_52 => ?_)
    refine g_cast X dX2_copy_55 rfl q308 (fun H hH => hL.recv X.2.2.2.2.2.2.2.1 hH ((Eg3 _ _ oy)) rfl) ?_
    refine g_callV X (ct_J2_add hst b3 (by rw [List.length_take]; omega) (fun z hz => Sa3.eB z (List.mem_of_mem_take hz)) (Sa3.eB _ (List.mem_of_getElem? hy))) dX2_copy_58 rfl (lw_V q757 q620 q621 q70 q622) hyV_J2_add (fun H hH => hL.recvL X.2.2.2.2.2.2.2.1 hH (b3)) (fun H hH => hH) ⟨Nat.le_of_ble_eq_true rfl, Nat.le_of_ble_eq_true rfl⟩ ⟨show 64 + k + 1 ≤ 94 by omega, show 2256 + 64 * k + 64 ≤ 4053 by omega⟩ (Nat.le_of_ble_eq_true rfl) rfl (fun x_58 => ?_)
    refine g_pop X dX2_copy_61 rfl rfl ?_
    refine g_iinc X dX2_copy_62 rfl rfl (by first | exact nI_1 _ | rfl) (by decide) rfl rfl ?_
    refine g_goto (tgt := 32) X dX2_copy_65 rfl (by decide) ?_
    rw [hu_hu, tak_s hy]
    refine GJ.loc [some (.ref a), some (.ref qc), some (.int (nI (k + 1)))] (lvle_c rfl (lvle_c rfl (lvle_c rfl lvle_e))) ?_
    exact GJ.wide (show 64 + k + 1 ≤ 64 + (k + 1) by omega) (show 2256 + 64 * k + 64 ≤ 2256 + 64 * (k + 1) by omega) (ih (k + 1, mk + nI 1) (by omega) (by omega))
end C9
