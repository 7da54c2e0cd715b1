/-! CLASS: copies of lists; a new state -/
section C8
variable {l : Launch} {Ω : Om} {Γ0 Γ Γ' : LH} {a q y : Nat} {A : Ad} {σ : St} {xs : List Nat} {m0 : Int32}
set_option maxRecDepth 100000
/-- copied slides so far: the first la.length of σ, in cells that Γ doesn't hold -/
def kcS (Ω : Om) (Γ G : LH) (σ : St) (qc : Nat) (la : List (Nat × Nat × Nat)) : Prop :=
  (∀ (i : Nat) (x : Nat × Nat × Nat), la[i]? = some x → (isO G x.1 6 (slF x σ i) ∧ Γ x.1 = none) ∧ isO G x.2.1 5 [.ref x.2.2] ∧ isL Γ G x.2.2 (iAd Ω (slQ σ i)) ∧ x.2.2 ≠ qc) ∧
  (∀ (i j : Nat) (x y : Nat × Nat × Nat), la[i]? = some x → la[j]? = some y → (x.1 = y.1 ∨ x.2.2 = y.2.2) → i = j)
def kcG (Γ G : LH) (σ : St) (la : List Nat) : Prop :=
  (∀ (i y : Nat), la[i]? = some y → isO G y 4 (guF σ i) ∧ Γ y = none) ∧ ∀ (i j y : Nat), la[i]? = some y → la[j]? = some y → i = j
theorem kcS.nil {G : LH} {qc : Nat} : kcS Ω Γ G σ qc [] := ⟨fun i x h => by simp at h, fun i j x y h => by simp at h⟩
theorem kcG.nil {G : LH} : kcG Γ G σ [] := ⟨fun i x h => by simp at h, fun i j y h => by simp at h⟩
theorem kcS.ex {G G' : LH} {qc : Nat} {la : List (Nat × Nat × Nat)} (h : kcS Ω Γ G σ qc la) (hE : Ex G G') : kcS Ω Γ G' σ qc la := ⟨fun i x hx => ⟨⟨hE _ _ (h.1 i x hx).1.1, (h.1 i x hx).1.2⟩, hE _ _ (h.1 i x hx).2.1, ⟨(h.1 i x hx).2.2.1.1.elim (fun m hm => ⟨m, hE _ _ hm⟩), (h.1 i x hx).2.2.1.2⟩, (h.1 i x hx).2.2.2⟩, h.2⟩
theorem kcS.put {G : LH} {qc : Nat} {la : List (Nat × Nat × Nat)} {v v' : List Nat × Int32} (h : kcS Ω Γ G σ qc la) (hc : G qc = some (.inr v)) : kcS Ω Γ (hu G qc (.inr v')) σ qc la := ⟨fun i x hx => ⟨⟨kpO_L hc _ _ (h.1 i x hx).1.1, (h.1 i x hx).1.2⟩, kpO_L hc _ _ (h.1 i x hx).2.1, isL_hu (h.1 i x hx).2.2.1 (h.1 i x hx).2.2.2, (h.1 i x hx).2.2.2⟩, h.2⟩
theorem kcS.add {G : LH} {qc : Nat} {la : List (Nat × Nat × Nat)} {x : Nat × Nat × Nat} (h : kcS Ω Γ G σ qc la) (h1 : isO G x.1 6 (slF x σ la.length) ∧ Γ x.1 = none) (h2 : isO G x.2.1 5 [.ref x.2.2]) (h3 : isL Γ G x.2.2 (iAd Ω (slQ σ la.length))) (h4 : x.2.2 ≠ qc) (hn : ∀ (i : Nat) (z : Nat × Nat × Nat), la[i]? = some z → z.1 ≠ x.1 ∧ z.2.2 ≠ x.2.2) : kcS Ω Γ G σ qc (la ++ [x]) := by
  refine ⟨fun i z hz => ?_, fun i j z w hi hj hzw => ?_⟩
  · rcases app_or hz with ⟨g1, g2⟩ | ⟨g1, g2⟩
    · exact h.1 i z g2
    · subst g1 g2; exact ⟨h1, h2, h3, h4⟩
  · rcases app_or hi with ⟨a1, a2⟩ | ⟨a1, a2⟩ <;> rcases app_or hj with ⟨b1, b2⟩ | ⟨b1, b2⟩
    · exact h.2 i j z w a2 b2 hzw
    · subst b2; have := hn i z a2; exact hzw.elim (fun f => absurd f this.1) (fun f => absurd f this.2)
    · subst a2; have := hn j w b2; exact hzw.elim (fun f => absurd f.symm this.1) (fun f => absurd f.symm this.2)
    · omega
theorem kcG.ex {G G' : LH} {la : List Nat} (h : kcG Γ G σ la) (hE : Ex G G') : kcG Γ G' σ la := ⟨fun i x hx => ⟨hE _ _ (h.1 i x hx).1, (h.1 i x hx).2⟩, h.2⟩
theorem kcG.put {G : LH} {qc : Nat} {la : List Nat} {v v' : List Nat × Int32} (h : kcG Γ G σ la) (hc : G qc = some (.inr v)) : kcG Γ (hu G qc (.inr v')) σ la := ⟨fun i x hx => ⟨kpO_L hc _ _ (h.1 i x hx).1, (h.1 i x hx).2⟩, h.2⟩
theorem kcG.add {G : LH} {la : List Nat} {x : Nat} (h : kcG Γ G σ la) (h1 : isO G x 4 (guF σ la.length) ∧ Γ x = none) (hn : x ∉ la) : kcG Γ G σ (la ++ [x]) := by
  refine ⟨fun i z hz => ?_, fun i j z hi hj => app_inj h.2 hn hi hj⟩
  rcases app_or hz with ⟨g1, g2⟩ | ⟨g1, g2⟩
  · exact h.1 i z g2
  · subst g1 g2; exact h1
theorem ct_X1_copyAll_S (hst : l.stackTraces = false) (hS : SR Ω Γ0 Γ a A σ) (h4 : nS σ ≤ 4) (h5 : ∀ i, i < nS σ → (slQ σ i).length ≤ 5 ∧ ∀ n ∈ slQ σ i, n ≤ 127) : CM Ω l yX1_copyAll (ws_ yX1_copyAll cX1_copyAll 3 (some (.object "java/util/ArrayList"))) 26 37 1571 [.ref (qdS A)] (hL Ω Γ) (QV (fun y : {y : LH × Nat × List (Nat × Nat × Nat) // Ex Γ y.1 ∧ isL Γ y.1 y.2.1 (y.2.2.map (·.1)) ∧ y.2.2.length = nS σ ∧ kcS Ω Γ y.1 σ y.2.1 y.2.2} => some (.ref y.1.2.1)) (fun y => hL Ω y.1.1)) nX := by
  obtain ⟨mS, hmS⟩ := hS.lS
  have hcS := hS.cS2
  refine CM.of (L := [some (.ref (qdS A)), none, none]) hst (by decide) (Nat.le_of_ble_eq_true rfl) rfl ?_
  intro p e s m below meth c X hnm htab
  refine l_new X dX1_copyAll_0 rfl (fs := [.int 0, .null, .int 0]) in_J2 tyJ2_ok q574 q121 q70 (ci := 11) rfl (by decide) (by first | exact Nat.le_of_ble_eq_true rfl | (dsimp only [rmD]; omega)) (by first | exact Nat.le_of_ble_eq_true rfl | (dsimp only [rmD]; omega)) (fun qb nb => ?_)
  refine g_dup X dX1_copyAll_3 rfl rfl ?_
  refine g_callI X (ct_J2_init hst (hu_s _ _ _)) dX1_copyAll_4 rfl q124 q70 q575 q123 rfl hyS_J2_init (fun H hH => hH) ⟨Nat.le_of_ble_eq_true rfl, Nat.le_of_ble_eq_true rfl⟩ ⟨by first | exact Nat.le_of_ble_eq_true rfl | (dsimp only [rmD]; omega), by first | exact Nat.le_of_ble_eq_true rfl | (dsimp only [rmD]; omega)⟩ (Nat.le_of_ble_eq_true rfl) rfl (fun x_4 => ?_)
  refine g_astore_n X dX1_copyAll_7 rfl (by decide) rfl rfl ?_
  refine g_iconst X dX1_copyAll_8 rfl (v := (nI 0)) rfl ?_
  refine g_istore_n X dX1_copyAll_9 rfl (by decide) rfl rfl ?_
  rw [hu_hu]
  refine GJ.imp (I' := (fun x : LH × List (Nat × Nat × Nat) => hL Ω x.1) (hu Γ qb (.inr ([], 0)), [])) (fun H hH => hH) ?_
  refine GJ.loc ((fun x : LH × List (Nat × Nat × Nat) => [some (.ref (qdS A)), some (.ref qb), some (.int (nI x.2.length))]) (hu Γ qb (.inr ([], 0)), [])) (lvle_c rfl (lvle_c rfl (lvle_c rfl lvle_e))) ?_
  refine GJ.wide (k' := (fun x : LH × List (Nat × Nat × Nat) => 1 + 9 * x.2.length) (hu Γ qb (.inr ([], 0)), [])) (n' := (fun x : LH × List (Nat × Nat × Nat) => 3 + 392 * x.2.length) (hu Γ qb (.inr ([], 0)), [])) (Nat.le_of_ble_eq_true rfl) (Nat.le_of_ble_eq_true rfl) ?_
  refine GJ.loop (fun x : LH × List (Nat × Nat × Nat) => hL Ω x.1) (fun x => 1 + 9 * x.2.length) (fun x => 3 + 392 * x.2.length) (fun x : LH × List (Nat × Nat × Nat) => [some (.ref (qdS A)), some (.ref qb), some (.int (nI x.2.length))]) (fun x => nS σ - x.2.length) (fun x => x.2.length ≤ nS σ ∧ Ex Γ x.1 ∧ (∃ m, x.1 qb = some (.inr (x.2.map (·.1), m))) ∧ kcS Ω Γ x.1 σ qb x.2) (hu Γ qb (.inr ([], 0)), []) ⟨Nat.zero_le _, Ex.new nb, ⟨0, hu_s _ _ _⟩, kcS.nil⟩ ?_
  rintro ⟨G, la⟩ hk ih
  dsimp only at hk ih ⊢
  obtain ⟨k1, k2, ⟨mb, k3⟩, k4⟩ := hk
  have eS := k2 _ _ hmS
  refine g_iload_n X dX1_copyAll_10 rfl rfl ?_
  refine g_aload_n X dX1_copyAll_11 rfl rfl ?_
  refine g_callV X (ct_J2_size hst eS) dX1_copyAll_12 rfl (lw_V q269 q270 q271 q70 q272) hyV_J2_size (fun H hH => hL.recvL X.2.2.2.2.2.2.2.1 hH (eS)) (fun H hH => hH) ⟨Nat.le_of_ble_eq_true rfl, Nat.le_of_ble_eq_true rfl⟩ ⟨by first | exact Nat.le_of_ble_eq_true rfl | (dsimp only [rmD]; omega), by first | exact Nat.le_of_ble_eq_true rfl | (dsimp only [rmD]; omega)⟩ (Nat.le_of_ble_eq_true rfl) rfl (fun x_12 => ?_)
  refine g_icmp_ge (tgt := 45) X dX1_copyAll_15 rfl (by decide) (fun c_15 => ?_) (fun c_15 => ?_)
  · rw [nI_leI (by omega) (by omega), hcS] at c_15
    refine g_aload_n X dX1_copyAll_45 rfl rfl ?_
    refine g_aret X (Or.inl ⟨_, rfl⟩) (Or.inr ⟨_, rfl⟩) dX1_copyAll_46 rfl (show 1 + 9 * la.length ≤ 37 by omega) (show 3 + 392 * la.length ≤ 1571 by omega) (fun H hH => ⟨⟨(G, qb, la), k2, ⟨⟨mb, k3⟩, nb⟩, by show la.length = nS σ; omega, k4⟩, rfl, hH⟩)
  · rw [nI_leI (by omega) (by omega), hcS] at c_15
    obtain ⟨x, x1, x2, x3, x4, mx, x5⟩ := hS.sl (i := la.length) (by omega)
    have hq := h5 la.length (by omega)
    have hEi : ∀ z ∈ iAd Ω (slQ σ la.length), okE Ω G z := fun z hz => by
      obtain ⟨n, hn, e⟩ := List.mem_map.mp hz
      exact Or.inr ⟨n + 128, by have := hq.2 n hn; omega, e.symm⟩
    refine g_aload_n X dX1_copyAll_18 rfl rfl ?_
    refine g_aload_n X dX1_copyAll_19 rfl rfl ?_
    refine g_iload_n X dX1_copyAll_20 rfl rfl ?_
    refine g_callV X (ct_J2_get hst eS x2 (by rw [hcS]; omega)) dX1_copyAll_21 rfl (lw_V q320 q295 q296 q70 q297) hyV_J2_get (fun H hH => hL.recvL X.2.2.2.2.2.2.2.1 hH (eS)) (fun H hH => hH) ⟨Nat.le_of_ble_eq_true rfl, Nat.le_of_ble_eq_true rfl⟩ ⟨by first | exact Nat.le_of_ble_eq_true rfl | (dsimp only [rmD]; omega), by first | exact Nat.le_of_ble_eq_true rfl | (dsimp only [rmD]; omega)⟩ (Nat.le_of_ble_eq_true rfl) rfl (fun x_21 => ?_)
    refine g_castY X dX1_copyAll_24 rfl q576 q713 (fun H hH => hL.recv X.2.2.2.2.2.2.2.1 hH ((k2 _ _ x3)) rfl) ?_
    refine g_callF X (ct_X7_copy hst (k2 _ _ x3) (k2 _ _ x4) (k2 _ _ x5) (by rw [iAd_len]; exact hq.1) hEi) dX1_copyAll_27 rfl (classAt_of (X.2.2.2.2.2.2.1 _ q723)) (List.mem_of_getElem? (i := 0) rfl) (lw_app (by simp only [List.forall_mem_cons, List.not_mem_nil, false_imp_iff, implies_true, and_true]; exact ⟨q578, q714, q716, q85⟩) (lw_meth q718)) (by decide +kernel) (fun H hH => hL.recv X.2.2.2.2.2.2.2.1 hH ((k2 _ _ x3)) rfl) (fun H hH => hH) ⟨Nat.le_of_ble_eq_true rfl, Nat.le_of_ble_eq_true rfl⟩ ⟨show 1 + 9 * la.length + 8 ≤ 37 by omega, show 3 + 392 * la.length + 328 ≤ 1571 by omega⟩ (Nat.le_of_ble_eq_true rfl) rfl (fun x0 => ?_)
    refine g_castY X dX1_copyAll_32 rfl q576 q713 (fun H hH => hL.recv X.2.2.2.2.2.2.2.1 hH (x0.2.2.1) rfl) ?_
    obtain ⟨⟨G', z1, z2, z3⟩, ⟨e1, e2, e3, e4⟩, e5, e6, mz, e7⟩ := x0
    dsimp only at e1 e2 e3 e4 e5 e6 e7 ⊢
    have eb := e1 _ _ k3
    have eo : ∀ z ∈ la.map (·.1), okE Ω G' z := fun z hz => by
      obtain ⟨w, hw, e⟩ := List.mem_map.mp hz
      obtain ⟨i, hi⟩ := mem_ix hw
      exact Or.inl ⟨6, _, by rw [← e]; exact e1 _ _ (k4.1 i w hi).1.1, by simp⟩
    have hE2 : Ex Γ G' := k2.tr e1
    refine g_callV X (ct_J2_add hst eb (by rw [List.length_map]; omega) eo (Or.inl ⟨6, _, e5, by simp⟩)) dX1_copyAll_35 rfl (lw_V q756 q620 q621 q70 q622) hyV_J2_add (fun H hH => hL.recvL X.2.2.2.2.2.2.2.1 hH (eb)) (fun H hH => hH) ⟨Nat.le_of_ble_eq_true rfl, Nat.le_of_ble_eq_true rfl⟩ ⟨show 1 + 9 * la.length + 8 + 1 ≤ 37 by omega, show 3 + 392 * la.length + 328 + 64 ≤ 1571 by omega⟩ (Nat.le_of_ble_eq_true rfl) rfl (fun x_35 => ?_)
    refine g_pop X dX1_copyAll_38 rfl rfl ?_
    refine g_iinc X dX1_copyAll_39 rfl rfl (by first | exact nI_1 _ | rfl) (by decide) rfl rfl ?_
    refine g_goto (tgt := 10) X dX1_copyAll_42 rfl (by decide) ?_
    have hlen : (la ++ [(z1, z2, z3)]).length = la.length + 1 := List.length_append ..
    refine GJ.loc ((fun x : LH × List (Nat × Nat × Nat) => [some (.ref (qdS A)), some (.ref qb), some (.int (nI x.2.length))]) (hu G' qb (.inr (la.map (·.1) ++ [z1], mb + nI 1)), la ++ [(z1, z2, z3)])) (lvle_c rfl (lvle_c rfl (lvle_c (by rw [hlen]) lvle_e))) ?_
    have n3 : z3 ≠ qb := fun e => by rw [e, k3] at e4; simp at e4
    refine GJ.wide (show 1 + 9 * la.length + 8 + 1 ≤ 1 + 9 * (la ++ [(z1, z2, z3)]).length by omega) (show 3 + 392 * la.length + 328 + 64 ≤ 3 + 392 * (la ++ [(z1, z2, z3)]).length by omega) (ih (hu G' qb (.inr (la.map (·.1) ++ [z1], mb + nI 1)), la ++ [(z1, z2, z3)]) ⟨by dsimp only; omega, hE2.put nb, ⟨mb + nI 1, ?_⟩, ?_⟩ (by dsimp only; omega))
    · rw [List.map_append]; exact hu_s _ _ _
    · refine ((k4.ex e1).put eb).add ⟨kpO_L eb _ _ e5, k2.no e2⟩ (kpO_L eb _ _ e6) ⟨⟨mz, (hu_n n3).trans e7⟩, k2.no e4⟩ n3 (fun i z hz => ⟨fun e => ?_, fun e => ?_⟩)
      · have := (k4.1 i z hz).1.1; rw [e] at this; rw [show G z1 = _ from this] at e2; simp at e2
      · obtain ⟨m9, this⟩ := (k4.1 i z hz).2.2.1.1; rw [e] at this; rw [this] at e4; simp at e4
theorem ct_X1_copyAll_G (hst : l.stackTraces = false) (hS : SR Ω Γ0 Γ a A σ) (h4 : nG σ ≤ 10) : CM Ω l yX1_copyAll (ws_ yX1_copyAll cX1_copyAll 3 (some (.object "java/util/ArrayList"))) 26 21 663 [.ref (qdG A)] (hL Ω Γ) (QV (fun y : {y : LH × Nat × List Nat // Ex Γ y.1 ∧ isL Γ y.1 y.2.1 y.2.2 ∧ y.2.2.length = nG σ ∧ kcG Γ y.1 σ y.2.2} => some (.ref y.1.2.1)) (fun y => hL Ω y.1.1)) nX := by
  obtain ⟨mS, hmS⟩ := hS.lG
  have hcS := hS.cG
  refine CM.of (L := [some (.ref (qdG A)), none, none]) hst (by decide) (Nat.le_of_ble_eq_true rfl) rfl ?_
  intro p e s m below meth c X hnm htab
  refine l_new X dX1_copyAll_0 rfl (fs := [.int 0, .null, .int 0]) in_J2 tyJ2_ok q574 q121 q70 (ci := 11) rfl (by decide) (by first | exact Nat.le_of_ble_eq_true rfl | (dsimp only [rmD]; omega)) (by first | exact Nat.le_of_ble_eq_true rfl | (dsimp only [rmD]; omega)) (fun qb nb => ?_)
  refine g_dup X dX1_copyAll_3 rfl rfl ?_
  refine g_callI X (ct_J2_init hst (hu_s _ _ _)) dX1_copyAll_4 rfl q124 q70 q575 q123 rfl hyS_J2_init (fun H hH => hH) ⟨Nat.le_of_ble_eq_true rfl, Nat.le_of_ble_eq_true rfl⟩ ⟨by first | exact Nat.le_of_ble_eq_true rfl | (dsimp only [rmD]; omega), by first | exact Nat.le_of_ble_eq_true rfl | (dsimp only [rmD]; omega)⟩ (Nat.le_of_ble_eq_true rfl) rfl (fun x_4 => ?_)
  refine g_astore_n X dX1_copyAll_7 rfl (by decide) rfl rfl ?_
  refine g_iconst X dX1_copyAll_8 rfl (v := (nI 0)) rfl ?_
  refine g_istore_n X dX1_copyAll_9 rfl (by decide) rfl rfl ?_
  rw [hu_hu]
  refine GJ.imp (I' := (fun x : LH × List Nat => hL Ω x.1) (hu Γ qb (.inr ([], 0)), [])) (fun H hH => hH) ?_
  refine GJ.loc ((fun x : LH × List Nat => [some (.ref (qdG A)), some (.ref qb), some (.int (nI x.2.length))]) (hu Γ qb (.inr ([], 0)), [])) (lvle_c rfl (lvle_c rfl (lvle_c rfl lvle_e))) ?_
  refine GJ.wide (k' := (fun x : LH × List Nat => 1 + 2 * x.2.length) (hu Γ qb (.inr ([], 0)), [])) (n' := (fun x : LH × List Nat => 3 + 66 * x.2.length) (hu Γ qb (.inr ([], 0)), [])) (Nat.le_of_ble_eq_true rfl) (Nat.le_of_ble_eq_true rfl) ?_
  refine GJ.loop (fun x : LH × List Nat => hL Ω x.1) (fun x => 1 + 2 * x.2.length) (fun x => 3 + 66 * x.2.length) (fun x : LH × List Nat => [some (.ref (qdG A)), some (.ref qb), some (.int (nI x.2.length))]) (fun x => nG σ - x.2.length) (fun x => x.2.length ≤ nG σ ∧ Ex Γ x.1 ∧ (∃ m, x.1 qb = some (.inr (x.2, m))) ∧ kcG Γ x.1 σ x.2) (hu Γ qb (.inr ([], 0)), []) ⟨Nat.zero_le _, Ex.new nb, ⟨0, hu_s _ _ _⟩, kcG.nil⟩ ?_
  rintro ⟨G, la⟩ hk ih
  dsimp only at hk ih ⊢
  obtain ⟨k1, k2, ⟨mb, k3⟩, k4⟩ := hk
  have eS := k2 _ _ hmS
  refine g_iload_n X dX1_copyAll_10 rfl rfl ?_
  refine g_aload_n X dX1_copyAll_11 rfl rfl ?_
  refine g_callV X (ct_J2_size hst eS) dX1_copyAll_12 rfl (lw_V q269 q270 q271 q70 q272) hyV_J2_size (fun H hH => hL.recvL X.2.2.2.2.2.2.2.1 hH (eS)) (fun H hH => hH) ⟨Nat.le_of_ble_eq_true rfl, Nat.le_of_ble_eq_true rfl⟩ ⟨by first | exact Nat.le_of_ble_eq_true rfl | (dsimp only [rmD]; omega), by first | exact Nat.le_of_ble_eq_true rfl | (dsimp only [rmD]; omega)⟩ (Nat.le_of_ble_eq_true rfl) rfl (fun x_12 => ?_)
  refine g_icmp_ge (tgt := 45) X dX1_copyAll_15 rfl (by decide) (fun c_15 => ?_) (fun c_15 => ?_)
  · rw [nI_leI (by omega) (by omega), hcS] at c_15
    refine g_aload_n X dX1_copyAll_45 rfl rfl ?_
    refine g_aret X (Or.inl ⟨_, rfl⟩) (Or.inr ⟨_, rfl⟩) dX1_copyAll_46 rfl (show 1 + 2 * la.length ≤ 21 by omega) (show 3 + 66 * la.length ≤ 663 by omega) (fun H hH => ⟨⟨(G, qb, la), k2, ⟨⟨mb, k3⟩, nb⟩, by show la.length = nG σ; omega, k4⟩, rfl, hH⟩)
  · rw [nI_leI (by omega) (by omega), hcS] at c_15
    obtain ⟨x, x2, x3⟩ := hS.gu (i := la.length) (by omega)
    refine g_aload_n X dX1_copyAll_18 rfl rfl ?_
    refine g_aload_n X dX1_copyAll_19 rfl rfl ?_
    refine g_iload_n X dX1_copyAll_20 rfl rfl ?_
    refine g_callV X (ct_J2_get hst eS x2 (by rw [hcS]; omega)) dX1_copyAll_21 rfl (lw_V q320 q295 q296 q70 q297) hyV_J2_get (fun H hH => hL.recvL X.2.2.2.2.2.2.2.1 hH (eS)) (fun H hH => hH) ⟨Nat.le_of_ble_eq_true rfl, Nat.le_of_ble_eq_true rfl⟩ ⟨by first | exact Nat.le_of_ble_eq_true rfl | (dsimp only [rmD]; omega), by first | exact Nat.le_of_ble_eq_true rfl | (dsimp only [rmD]; omega)⟩ (Nat.le_of_ble_eq_true rfl) rfl (fun x_21 => ?_)
    refine g_castY X dX1_copyAll_24 rfl q576 q581 (fun H hH => hL.recv X.2.2.2.2.2.2.2.1 hH ((k2 _ _ x3)) rfl) ?_
    refine g_callF X (ct_X5_copy hst (k2 _ _ x3)) dX1_copyAll_27 rfl (classAt_of (X.2.2.2.2.2.2.1 _ q591)) (List.mem_of_getElem? (i := 1) rfl) (lw_app (by simp only [List.forall_mem_cons, List.not_mem_nil, false_imp_iff, implies_true, and_true]; exact ⟨q578, q582, q584, q79⟩) (lw_meth q586)) (by decide +kernel) (fun H hH => hL.recv X.2.2.2.2.2.2.2.1 hH ((k2 _ _ x3)) rfl) (fun H hH => hH) ⟨Nat.le_of_ble_eq_true rfl, Nat.le_of_ble_eq_true rfl⟩ ⟨show 1 + 2 * la.length + 1 ≤ 21 by omega, show 3 + 66 * la.length + 2 ≤ 663 by omega⟩ (Nat.le_of_ble_eq_true rfl) rfl (fun x0 => ?_)
    refine g_castY X dX1_copyAll_32 rfl q576 q581 (fun H hH => hL.recv X.2.2.2.2.2.2.2.1 hH (x0.2.2) rfl) ?_
    obtain ⟨⟨G', z1⟩, ⟨e1, e2⟩, e5⟩ := x0
    dsimp only at e1 e2 e5 ⊢
    have eb := e1 _ _ k3
    have eo : ∀ z ∈ la, okE Ω G' z := fun z hz => by
      obtain ⟨i, hi⟩ := mem_ix hz
      exact Or.inl ⟨4, _, e1 _ _ (k4.1 i z hi).1, by simp⟩
    have hE2 : Ex Γ G' := k2.tr e1
    refine g_callV X (ct_J2_add hst eb (by omega) eo (Or.inl ⟨4, _, e5, by simp⟩)) dX1_copyAll_35 rfl (lw_V q756 q620 q621 q70 q622) hyV_J2_add (fun H hH => hL.recvL X.2.2.2.2.2.2.2.1 hH (eb)) (fun H hH => hH) ⟨Nat.le_of_ble_eq_true rfl, Nat.le_of_ble_eq_true rfl⟩ ⟨show 1 + 2 * la.length + 1 + 1 ≤ 21 by omega, show 3 + 66 * la.length + 2 + 64 ≤ 663 by omega⟩ (Nat.le_of_ble_eq_true rfl) rfl (fun x_35 => ?_)
    refine g_pop X dX1_copyAll_38 rfl rfl ?_
    refine g_iinc X dX1_copyAll_39 rfl rfl (by first | exact nI_1 _ | rfl) (by decide) rfl rfl ?_
    refine g_goto (tgt := 10) X dX1_copyAll_42 rfl (by decide) ?_
    have hlen : (la ++ [z1]).length = la.length + 1 := List.length_append ..
    refine GJ.loc ((fun x : LH × List Nat => [some (.ref (qdG A)), some (.ref qb), some (.int (nI x.2.length))]) (hu G' qb (.inr (la ++ [z1], mb + nI 1)), la ++ [z1])) (lvle_c rfl (lvle_c rfl (lvle_c (by rw [hlen]) lvle_e))) ?_
    refine GJ.wide (show 1 + 2 * la.length + 1 + 1 ≤ 1 + 2 * (la ++ [z1]).length by omega) (show 3 + 66 * la.length + 2 + 64 ≤ 3 + 66 * (la ++ [z1]).length by omega) (ih (hu G' qb (.inr (la ++ [z1], mb + nI 1)), la ++ [z1]) ⟨by dsimp only; omega, hE2.put nb, ⟨mb + nI 1, hu_s _ _ _⟩, ?_⟩ (by dsimp only; omega))
    refine ((k4.ex e1).put eb).add ⟨kpO_L eb _ _ e5, k2.no e2⟩ (fun hm => ?_)
    obtain ⟨i, hi⟩ := mem_ix hm
    have := (k4.1 i z1 hi).1; rw [show G z1 = _ from this] at e2; simp at e2
end C8
