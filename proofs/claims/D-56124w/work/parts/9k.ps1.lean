/-! PARSER of the class: signs and numbers -/
abbrev pzF (x a : Nat) (o : Nat × Nat × Nat) : List Value := [.int (nI a), .int (nI o.1), .int (nI o.2.1), .int (nI o.2.2), .ref x]
/-- the heap with the parser pa at the place a -/
def PH (Γ : LH) (pa x a : Nat) (o : Nat × Nat × Nat) : LH := hu Γ pa (.inl (.inr (9, pzF x a o)))
theorem PH_s {Γ : LH} {pa x a : Nat} {o : Nat × Nat × Nat} : PH Γ pa x a o pa = some (.inl (.inr (9, pzF x a o))) := hu_s _ _ _
theorem PH_n {Γ : LH} {pa x a q : Nat} {o : Nat × Nat × Nat} (h : q ≠ pa) : PH Γ pa x a o q = Γ q := hu_n h
theorem PH_u {Γ : LH} {pa x a : Nat} {o : Nat × Nat × Nat} (a' : Nat) (o' : Nat × Nat × Nat) : hu (PH Γ pa x a o) pa (.inl (.inr (9, pzF x a' o'))) = PH Γ pa x a' o' := hu_hu
/-- what a parser pa of the park x finds -/
def PI (Ω : Om) (Γ : LH) (pa x : Nat) (C : CT) (t : Tx) : Prop := isO Γ x 0 (CX C t) ∧ x ≠ pa ∧ ciq C ≠ pa ∧ CR4 Ω Γ C t.2.1
/-- thrown: malformed at the place a -/
def MX (Ω : Om) (Γ : LH) (pa x a : Nat) (P : Prop) : String → Nat → Heap → Prop := fun E q H => E = "SlidePark$MalformedException" ∧ P ∧ ∃ o, PH Γ pa x a o q = none ∧ hL Ω (hu (PH Γ pa x a o) q (.inl (.inr (10, mlF a)))) H
theorem MX.to {Ω : Om} {Γ : LH} {pa x a a' q : Nat} {P P' : Prop} {E : String} {H : Heap} (h : MX Ω Γ pa x a P E q H) (hp : P → P' ∧ a' = a) : MX Ω Γ pa x a' P' E q H := by
  obtain ⟨h1, h2, h3⟩ := h
  obtain ⟨g1, rfl⟩ := hp h2
  exact ⟨h1, g1, h3⟩
theorem nI_m1' {lo : Nat} (h : lo < 2 ^ 31) : ¬ nI lo ≤ -1 := fun g => by
  rw [Int32.le_iff_toInt_le, nI_toInt h] at g
  have : (-1 : Int32).toInt = -1 := by decide
  omega
theorem bh_dg {inp : List Nat} {a d : Nat} (h : dgt inp a = some d) : bh inp a = nI (48 + d) ∧ inp.getD a 0 = 48 + d ∧ d ≤ 9 ∧ a < inp.length := by
  obtain ⟨h1, h2, h3⟩ := dgt_some h
  exact ⟨by rw [bh_t h1, h2], h2, h3, h1⟩
section PS1
variable {l : Launch} {Ω : Om} {Γ : LH} {x pa a : Nat} {C : CT} {t : Tx} {o : Nat × Nat × Nat}
theorem PI.b (h : PI Ω Γ pa x C t) : ∀ k, k < t.2.1.length → t.2.1.getD k 0 < 65536 := h.2.2.2.2.elim (fun f hf k hk => (hf.2 k hk).2)
theorem bh_one (h : PI Ω Γ pa x C t) {n : Nat} (hn : n < 65536) : (nI n ≤ bh t.2.1 a ∧ bh t.2.1 a ≤ nI n) ↔ t.2.1[a]? = some n := by
  have hb := h.b
  rw [← bh_eq hb hn]
  by_cases g : a < t.2.1.length
  · have := hb a g
    rw [bh_t g, nI_leI (by omega) (by omega), nI_leI (by omega) (by omega), nI_eq (by omega) (by omega)]
    omega
  · rw [bh_f g]
    exact ⟨fun z => absurd z.1 (nI_m1' (by omega)), fun z => absurd (show nI n ≤ -1 by rw [z]; exact Int32.le_refl _) (nI_m1' (by omega))⟩
set_option maxRecDepth 100000
theorem ct_X10_init (hst : l.stackTraces = false) (hx : isO Γ pa 9 [.int 0, .int 0, .int 0, .int 0, .null]) : CM Ω l yX10_init (ws_ yX10_init cX10_init 2 none) 3 0 0 [.ref pa, .ref x] (hL Ω Γ) (QP none (hL Ω (PH Γ pa x 0 (0, 0, 0)))) nX := by
  refine CM.of (L := [some (.ref pa), some (.ref x)]) hst (by decide) (Nat.le_of_ble_eq_true rfl) rfl ?_
  intro p e s m below meth c X hnm htab
  refine g_aload_n X dX10_init_0 rfl rfl ?_
  refine g_aload_n X dX10_init_1 rfl rfl ?_
  refine l_putF X hnm dX10_init_2 rfl in_X10 tyX10_ok nmX10 (ci := 9) rfl 4 (by decide) q1469 (fun _ h => h) rfl rfl rfl rfl rfl hx (Nat.le_of_ble_eq_true rfl) rfl ?_
  refine g_aload_n X dX10_init_5 rfl rfl ?_
  refine g_objInit X dX10_init_6 rfl q1464 (Nat.le_of_ble_eq_true rfl) (Nat.le_of_ble_eq_true rfl) ?_
  refine g_vret X dX10_init_9 rfl (by first | exact Nat.le_of_ble_eq_true rfl | omega | (dsimp only [rmD]; omega)) (by first | exact Nat.le_of_ble_eq_true rfl | omega | (dsimp only [rmD]; omega)) (fun H hH => ⟨(), rfl, hH⟩)
theorem ct_X10_sees (hst : l.stackTraces = false) (hP : PI Ω Γ pa x C t) (ha : a ≤ t.2.1.length) {lo hi : Nat} (hlo : lo < 65536) : CM Ω l yX10_sees (ws_ yX10_sees cX10_sees 3 (some .boolean)) 3 0 0 [.ref pa, .int (nI lo), .int (nI hi)] (hL Ω (PH Γ pa x a o)) (QP (some (.int (bI (nI lo ≤ bh t.2.1 a ∧ bh t.2.1 a ≤ nI hi)))) (hL Ω (PH Γ pa x a o))) nX := by
  obtain ⟨hx, hn, hni, hl60, f, hf, hf2⟩ := hP
  refine CM.of (L := [some (.ref pa), some (.int (nI lo)), some (.int (nI hi))]) hst (by decide) (Nat.le_of_ble_eq_true rfl) rfl ?_
  intro p e s m below meth c X hnm htab
  refine g_aload_n X dX10_sees_0 rfl rfl ?_
  refine l_get X dX10_sees_1 rfl in_X10 (ci := 9) rfl 0 (by decide) q1465 (fun _ h => h) PH_s rfl ?_
  refine g_aload_n X dX10_sees_4 rfl rfl ?_
  refine l_get X dX10_sees_5 rfl in_X10 (ci := 9) rfl 4 (by decide) q1469 (fun _ h => h) PH_s rfl ?_
  refine l_getN X dX10_sees_8 rfl in_X1 (ci := 0) rfl 4 (by decide) "SlidePark" q238 (fun _ h => h) ((PH_n hn).trans hx) rfl ?_
  refine g_icmp_ge (tgt := 38) X dX10_sees_11 rfl (by decide) (fun c_11 => ?_) (fun c_11 => ?_)
  · rw [nI_leI (by omega) (by omega)] at c_11
    rw [bI_f (fun g => nI_m1' (lo := lo) (by omega) (by rw [← bh_f (inp := t.2.1) (a := a) (by omega)]; exact g.1))]
    refine g_iconst X dX10_sees_38 rfl (v := (nI 0)) rfl ?_
    refine g_zret X dX10_sees_39 rfl rfl (by first | exact Nat.le_of_ble_eq_true rfl | omega | (dsimp only [rmD]; omega)) (by first | exact Nat.le_of_ble_eq_true rfl | omega | (dsimp only [rmD]; omega)) (fun H hH => ⟨(), rfl, hH⟩)
  · rw [nI_leI (by omega) (by omega)] at c_11
    have ha' : a < t.2.1.length := by omega
    rw [bh_t ha']
    refine g_aload_n X dX10_sees_14 rfl rfl ?_
    refine l_get X dX10_sees_15 rfl in_X10 (ci := 9) rfl 4 (by decide) q1469 (fun _ h => h) PH_s rfl ?_
    refine l_getN X dX10_sees_18 rfl in_X1 (ci := 0) rfl 3 (by decide) "SlidePark" q237 (fun _ h => h) ((PH_n hn).trans hx) rfl ?_
    refine g_aload_n X dX10_sees_21 rfl rfl ?_
    refine l_get X dX10_sees_22 rfl in_X10 (ci := 9) rfl 0 (by decide) q1465 (fun _ h => h) PH_s rfl ?_
    refine l_cal X dX10_sees_25 rfl ((PH_n hni).trans hf) (vp_in_nI (by omega) (by omega)) (ix_v (by omega) (hf2 a ha').1) ?_
    refine g_iload_n X dX10_sees_26 rfl rfl ?_
    refine g_iload_n X dX10_sees_27 rfl rfl ?_
    refine g_callSN X "SlidePark" (ct_X1_isBetween hst) dX10_sees_28 rfl q447 q66 q1561 q446 hyS_X1_isBetween (fun H hH => hH) ⟨Nat.le_of_ble_eq_true rfl, Nat.le_of_ble_eq_true rfl⟩ ⟨by first | exact Nat.le_of_ble_eq_true rfl | omega | (dsimp only [rmD]; omega), by first | exact Nat.le_of_ble_eq_true rfl | omega | (dsimp only [rmD]; omega)⟩ (Nat.le_of_ble_eq_true rfl) rfl (fun x_28 => ?_)
    refine g_if_eq (tgt := 38) X dX10_sees_31 rfl (by decide) (fun c_31 => ?_) (fun c_31 => ?_)
    · rw [bI_0] at c_31
      rw [bI_f c_31]
      refine g_iconst X dX10_sees_38 rfl (v := (nI 0)) rfl ?_
      refine g_zret X dX10_sees_39 rfl rfl (by first | exact Nat.le_of_ble_eq_true rfl | omega | (dsimp only [rmD]; omega)) (by first | exact Nat.le_of_ble_eq_true rfl | omega | (dsimp only [rmD]; omega)) (fun H hH => ⟨(), rfl, hH⟩)
    · rw [bI_0, Classical.not_not] at c_31
      rw [bI_t c_31]
      refine g_iconst X dX10_sees_34 rfl (v := (nI 1)) rfl ?_
      refine g_goto (tgt := 39) X dX10_sees_35 rfl (by decide) ?_
      refine g_zret X dX10_sees_39 rfl rfl (by first | exact Nat.le_of_ble_eq_true rfl | omega | (dsimp only [rmD]; omega)) (by first | exact Nat.le_of_ble_eq_true rfl | omega | (dsimp only [rmD]; omega)) (fun H hH => ⟨(), rfl, hH⟩)
theorem ct_X10_next (hst : l.stackTraces = false) (hP : PI Ω Γ pa x C t) (ha : a ≤ t.2.1.length) {lo hi : Nat} (hlo : lo < 65536) : CM Ω l yX10_next (ws_ yX10_next cX10_next 3 (some .char)) 9 1 7 [.ref pa, .int (nI lo), .int (nI hi)] (hL Ω (PH Γ pa x a o)) (QV (fun _ : {u : Unit // nI lo ≤ bh t.2.1 a ∧ bh t.2.1 a ≤ nI hi} => some (.int (bh t.2.1 a))) (fun _ => hL Ω (PH Γ pa x (a + 1) o))) (MX Ω Γ pa x a (¬ (nI lo ≤ bh t.2.1 a ∧ bh t.2.1 a ≤ nI hi))) := by
  have hP' := hP
  obtain ⟨hx, hn, hni, hl60, f, hf, hf2⟩ := hP'
  refine CM.of (L := [some (.ref pa), some (.int (nI lo)), some (.int (nI hi))]) hst (by decide) (Nat.le_of_ble_eq_true rfl) rfl ?_
  intro p e s m below meth c X hnm htab
  refine g_aload_n X dX10_next_0 rfl rfl ?_
  refine g_iload_n X dX10_next_1 rfl rfl ?_
  refine g_iload_n X dX10_next_2 rfl rfl ?_
  refine g_callV X (ct_X10_sees hst hP ha hlo) dX10_next_3 rfl (lw_V q1557 q1559 qs21 q103 q1560) hyV_X10_sees (fun H hH => hL.recv X.2.2.2.2.2.2.2.1 hH (PH_s) rfl) (fun H hH => hH) ⟨Nat.le_of_ble_eq_true rfl, Nat.le_of_ble_eq_true rfl⟩ ⟨by first | exact Nat.le_of_ble_eq_true rfl | omega | (dsimp only [rmD]; omega), by first | exact Nat.le_of_ble_eq_true rfl | omega | (dsimp only [rmD]; omega)⟩ (Nat.le_of_ble_eq_true rfl) rfl (fun x_3 => ?_)
  refine g_if_ne (tgt := 21) X dX10_next_6 rfl (by decide) (fun c_6 => ?_) (fun c_6 => ?_)
  · rw [bI_n0] at c_6
    have ha' : a < t.2.1.length := Nat.lt_of_not_le (fun g => nI_m1' (lo := lo) (by omega) (by rw [← bh_f (inp := t.2.1) (a := a) (by omega)]; exact c_6.1))
    have hb := hP.b a ha'
    refine g_aload_n X dX10_next_21 rfl rfl ?_
    refine g_dup X dX10_next_22 rfl rfl ?_
    refine l_get X dX10_next_23 rfl in_X10 (ci := 9) rfl 0 (by decide) q1465 (fun _ h => h) PH_s rfl ?_
    refine g_iconst X dX10_next_26 rfl (v := (nI 1)) rfl ?_
    refine g_iadd X dX10_next_27 rfl (by first | exact nI_add _ _ | rfl) ?_
    refine l_put X dX10_next_28 rfl in_X10 tyX10_ok nmX10 (ci := 9) rfl 0 (by decide) q1465 (fun _ h => h) rfl rfl rfl rfl PH_s (Nat.le_of_ble_eq_true rfl) (PH_u (a + 1) o) ?_
    refine g_aload_n X dX10_next_31 rfl rfl ?_
    refine l_get X dX10_next_32 rfl in_X10 (ci := 9) rfl 4 (by decide) q1469 (fun _ h => h) PH_s rfl ?_
    refine l_getN X dX10_next_35 rfl in_X1 (ci := 0) rfl 3 (by decide) "SlidePark" q237 (fun _ h => h) ((PH_n hn).trans hx) rfl ?_
    refine g_aload_n X dX10_next_38 rfl rfl ?_
    refine l_get X dX10_next_39 rfl in_X10 (ci := 9) rfl 0 (by decide) q1465 (fun _ h => h) PH_s rfl ?_
    refine g_iconst X dX10_next_42 rfl (v := (nI 1)) rfl ?_
    refine g_isub X dX10_next_43 rfl (pk_sub (by omega)) ?_
    refine l_cal X dX10_next_44 rfl ((PH_n hni).trans hf) (vp_in_nI (by omega) (by omega)) (ix_v (by omega) ((hf2 a ha').1.trans (bh_t ha').symm)) ?_
    refine g_zret X dX10_next_45 rfl (by rw [bh_t ha']; exact (pk_charN hb).1) (by first | exact Nat.le_of_ble_eq_true rfl | omega | (dsimp only [rmD]; omega)) (by first | exact Nat.le_of_ble_eq_true rfl | omega | (dsimp only [rmD]; omega)) (fun H hH => ⟨⟨(), c_6⟩, rfl, hH⟩)
  · rw [bI_0] at c_6
    refine l_new X dX10_next_9 rfl (fs := [.null, .null, .null, .null, .null, .int 0, .int 0]) in_X11 tyX11_ok q1562 q1563 q104 (ci := 10) rfl (by decide) (by first | exact Nat.le_of_ble_eq_true rfl | omega | (dsimp only [rmD]; omega)) (by first | exact Nat.le_of_ble_eq_true rfl | omega | (dsimp only [rmD]; omega)) (fun q nq => ?_)
    refine g_dup X dX10_next_12 rfl rfl ?_
    refine g_aload_n X dX10_next_13 rfl rfl ?_
    refine l_get X dX10_next_14 rfl in_X10 (ci := 9) rfl 0 (by decide) q1465 (fun _ h => h) ((hu_n (neN PH_s nq)).trans PH_s) rfl ?_
    refine g_callI X (ct_X11_init hst (hu_s _ _ _)) dX10_next_17 rfl q1573 q104 q1571 q1572 rfl hyS_X11_init (fun H hH => hH) ⟨Nat.le_of_ble_eq_true rfl, Nat.le_of_ble_eq_true rfl⟩ ⟨by first | exact Nat.le_of_ble_eq_true rfl | omega | (dsimp only [rmD]; omega), by first | exact Nat.le_of_ble_eq_true rfl | omega | (dsimp only [rmD]; omega)⟩ (Nat.le_of_ble_eq_true rfl) rfl (fun x_17 => ?_)
    rw [hu_hu]
    refine g_athrow X dX10_next_20 rfl (fun H hH => hL.recvN X.2.2.2.2.2.2.2.1 hH (hu_s _ _ _) rfl) ?_
    exact GX.pass X htab (by first | exact Nat.le_of_ble_eq_true rfl | omega) (by first | exact Nat.le_of_ble_eq_true rfl | omega) (fun H hH => ⟨rfl, c_6, o, nq, hH⟩)
theorem num_0 {inp : List Nat} {most a : Nat} (h : ¬ inp[a]? = some 32) : num inp most a = (a, none) := by unfold num; rw [if_neg h]
theorem num_1 {inp : List Nat} {most a : Nat} (h : inp[a]? = some 32) (h2 : dgt inp (a + 1) = none) : num inp most a = (a + 1, none) := by unfold num; rw [if_pos h, h2]
theorem num_2 {inp : List Nat} {most a d : Nat} (h : inp[a]? = some 32) (h2 : dgt inp (a + 1) = some d) : num inp (most + 1) a = ((rdD inp most (a + 2) d).1, some (rdD inp most (a + 2) d).2) := by
  unfold num; rw [if_pos h, h2]; dsimp only
  rw [rdD_some h2, Nat.mul_zero, Nat.zero_add]
set_option maxHeartbeats 1000000
theorem ct_X10_number (hst : l.stackTraces = false) (hP : PI Ω Γ pa x C t) (ha : a ≤ t.2.1.length) {most : Nat} (hm : most ≤ 3) : CM Ω l yX10_number (ws_ yX10_number cX10_number 4 (some .int)) 12 2 14 [.ref pa, .int (nI (most + 1))] (hL Ω (PH Γ pa x a o)) (QV (fun y : {y : Nat × Nat // num t.2.1 (most + 1) a = (y.1, some y.2) ∧ y.1 ≤ t.2.1.length} => some (.int (nI y.1.2))) (fun y => hL Ω (PH Γ pa x y.1.1 o))) (MX Ω Γ pa x (num t.2.1 (most + 1) a).1 ((num t.2.1 (most + 1) a).2 = none)) := by
  have hP' := hP
  obtain ⟨hx, hn, hni, hl60, f, hf, hf2⟩ := hP'
  refine CM.of (L := [some (.ref pa), some (.int (nI (most + 1))), none, none]) hst (by decide) (Nat.le_of_ble_eq_true rfl) rfl ?_
  intro p e s m below meth c X hnm htab
  refine g_aload_n X dX10_number_0 rfl rfl ?_
  refine g_bipush X dX10_number_1 rfl (v := (nI 32)) (by decide) ?_
  refine g_bipush X dX10_number_3 rfl (v := (nI 32)) (by decide) ?_
  refine g_callVx X (ct_X10_next (lo := 32) (hi := 32) hst hP ha (by decide)) dX10_number_5 rfl (lw_V q1553 q1555 qs20 q103 q1556) hyV_X10_next (fun H hH => hL.recv X.2.2.2.2.2.2.2.1 hH (PH_s) rfl) (fun H hH => hH) ⟨Nat.le_of_ble_eq_true rfl, Nat.le_of_ble_eq_true rfl⟩ ⟨by first | exact Nat.le_of_ble_eq_true rfl | omega | (dsimp only [rmD]; omega), by first | exact Nat.le_of_ble_eq_true rfl | omega | (dsimp only [rmD]; omega)⟩ (Nat.le_of_ble_eq_true rfl) rfl (fun E q => GX.pass X htab (by first | exact Nat.le_of_ble_eq_true rfl | omega) (by first | exact Nat.le_of_ble_eq_true rfl | omega) (fun H h => h.to (fun g => by rw [num_0 (fun z => g ((bh_one hP (by decide)).mpr z))]; exact ⟨rfl, rfl⟩))) (fun y1 => ?_)
  refine g_pop X dX10_number_8 rfl rfl ?_
  have h32 := (bh_one hP (by decide)).mp y1.2
  have ha1 : a < t.2.1.length := Nat.lt_of_not_le (fun g => by rw [List.getElem?_eq_none g] at h32; simp at h32)
  refine g_aload_n X dX10_number_9 rfl rfl ?_
  refine g_bipush X dX10_number_10 rfl (v := (nI 48)) (by decide) ?_
  refine g_bipush X dX10_number_12 rfl (v := (nI 57)) (by decide) ?_
  refine g_callVx X (ct_X10_next (a := a + 1) (lo := 48) (hi := 57) hst hP (by omega) (by decide)) dX10_number_14 rfl (lw_V q1553 q1555 qs20 q103 q1556) hyV_X10_next (fun H hH => hL.recv X.2.2.2.2.2.2.2.1 hH (PH_s) rfl) (fun H hH => hH) ⟨Nat.le_of_ble_eq_true rfl, Nat.le_of_ble_eq_true rfl⟩ ⟨by first | exact Nat.le_of_ble_eq_true rfl | omega | (dsimp only [rmD]; omega), by first | exact Nat.le_of_ble_eq_true rfl | omega | (dsimp only [rmD]; omega)⟩ (Nat.le_of_ble_eq_true rfl) rfl (fun E q => GX.pass X htab (by first | exact Nat.le_of_ble_eq_true rfl | omega) (by first | exact Nat.le_of_ble_eq_true rfl | omega) (fun H h => h.to (fun g => by rw [num_1 h32 (Classical.byContradiction (fun z => g ((dgt_in hP.b).mpr z)))]; exact ⟨rfl, rfl⟩))) (fun y2 => ?_)
  obtain ⟨d, hd⟩ : ∃ d, dgt t.2.1 (a + 1) = some d := by
    cases g : dgt t.2.1 (a + 1) with
    | none => exact absurd g ((dgt_in hP.b).mp y2.2)
    | some d => exact ⟨d, rfl⟩
  obtain ⟨e1, -, e3, e4⟩ := bh_dg hd
  have hnum := num_2 (most := most) h32 hd
  rw [e1]
  refine g_bipush X dX10_number_17 rfl (v := (nI 48)) (by decide) ?_
  refine g_isub X dX10_number_19 rfl ((pk_sub (by omega)).trans (congrArg nI (show 48 + d - 48 = d by omega))) ?_
  refine g_istore_n X dX10_number_20 rfl (by decide) rfl rfl ?_
  refine g_iconst X dX10_number_21 rfl (v := (nI 1)) rfl ?_
  refine g_istore_n X dX10_number_22 rfl (by decide) rfl rfl ?_
  refine GJ.imp (I' := (fun y : Nat × Nat => hL Ω (PH Γ pa x (a + 1 + y.1) o)) (1, d)) (fun H hH => hH) ?_
  refine GJ.loc ((fun y : Nat × Nat => [some (.ref pa), some (.int (nI (most + 1))), some (.int (nI y.2)), some (.int (nI y.1))]) (1, d)) (lvle_c rfl (lvle_c rfl (lvle_c rfl (lvle_c rfl lvle_e)))) ?_
  refine GJ.loop (fun y : Nat × Nat => hL Ω (PH Γ pa x (a + 1 + y.1) o)) (fun _ => 2) (fun _ => 14) (fun y : Nat × Nat => [some (.ref pa), some (.int (nI (most + 1))), some (.int (nI y.2)), some (.int (nI y.1))]) (fun y => most + 1 - y.1) (fun y => 1 ≤ y.1 ∧ y.1 ≤ most + 1 ∧ a + 1 + y.1 ≤ t.2.1.length ∧ y.2 < 10 ^ y.1 ∧ rdD t.2.1 most (a + 2) d = rdD t.2.1 (most + 1 - y.1) (a + 1 + y.1) y.2) (1, d) ⟨Nat.le_refl _, Nat.succ_le_succ (Nat.zero_le _), e4, by show d < 10 ^ 1; omega, rfl⟩ ?_
  intro ⟨i, v⟩ hk ih
  dsimp only at hk ih ⊢
  obtain ⟨k1, k2, k3, k4, k5⟩ := hk
  have hp4 : 10 ^ i ≤ 10000 := Nat.le_trans (Nat.pow_le_pow_right (by decide) (show i ≤ 4 by omega)) (by decide)
  refine g_iload_n X dX10_number_23 rfl rfl ?_
  refine g_iload_n X dX10_number_24 rfl rfl ?_
  refine g_icmp_ge (tgt := 76) X dX10_number_25 rfl (by decide) (fun c_25 => ?_) (fun c_25 => ?_)
  · rw [nI_leI (by omega) (by omega)] at c_25
    have e0 : most + 1 - i = 0 := by omega
    rw [e0] at k5
    have k5 : rdD t.2.1 most (a + 2) d = (a + 1 + i, v) := k5
    refine g_iload_n X dX10_number_76 rfl rfl ?_
    refine g_iret X dX10_number_77 rfl (by first | exact Nat.le_of_ble_eq_true rfl | omega | (dsimp only [rmD]; omega)) (by first | exact Nat.le_of_ble_eq_true rfl | omega | (dsimp only [rmD]; omega)) (fun H hH => ⟨⟨(a + 1 + i, v), by rw [hnum, k5], k3⟩, rfl, hH⟩)
  · rw [nI_leI (by omega) (by omega)] at c_25
    refine g_aload_n X dX10_number_28 rfl rfl ?_
    refine g_bipush X dX10_number_29 rfl (v := (nI 48)) (by decide) ?_
    refine g_bipush X dX10_number_31 rfl (v := (nI 57)) (by decide) ?_
    refine g_callV X (ct_X10_sees (a := a + 1 + i) (lo := 48) (hi := 57) hst hP k3 (by decide)) dX10_number_33 rfl (lw_V q1557 q1559 qs21 q103 q1560) hyV_X10_sees (fun H hH => hL.recv X.2.2.2.2.2.2.2.1 hH (PH_s) rfl) (fun H hH => hH) ⟨Nat.le_of_ble_eq_true rfl, Nat.le_of_ble_eq_true rfl⟩ ⟨by first | exact Nat.le_of_ble_eq_true rfl | omega | (dsimp only [rmD]; omega), by first | exact Nat.le_of_ble_eq_true rfl | omega | (dsimp only [rmD]; omega)⟩ (Nat.le_of_ble_eq_true rfl) rfl (fun x_33 => ?_)
    refine g_if_eq (tgt := 76) X dX10_number_36 rfl (by decide) (fun c_36 => ?_) (fun c_36 => ?_)
    · rw [bI_0, dgt_in hP.b, Classical.not_not] at c_36
      rw [rdD_none c_36] at k5
      refine g_iload_n X dX10_number_76 rfl rfl ?_
      refine g_iret X dX10_number_77 rfl (by first | exact Nat.le_of_ble_eq_true rfl | omega | (dsimp only [rmD]; omega)) (by first | exact Nat.le_of_ble_eq_true rfl | omega | (dsimp only [rmD]; omega)) (fun H hH => ⟨⟨(a + 1 + i, v), by rw [hnum, k5], k3⟩, rfl, hH⟩)
    · rw [bI_0, Classical.not_not, dgt_in hP.b] at c_36
      obtain ⟨d', hd'⟩ : ∃ d', dgt t.2.1 (a + 1 + i) = some d' := by
        cases g : dgt t.2.1 (a + 1 + i) with
        | none => exact absurd g c_36
        | some d' => exact ⟨d', rfl⟩
      obtain ⟨-, f2, f3, f4⟩ := bh_dg hd'
      obtain ⟨j, hj⟩ : ∃ j, most + 1 - i = j + 1 := ⟨most - i, by omega⟩
      rw [hj, rdD_some hd'] at k5
      refine g_bipush X dX10_number_39 rfl (v := (nI 10)) (by decide) ?_
      refine g_iload_n X dX10_number_41 rfl rfl ?_
      refine g_imul X dX10_number_42 rfl (by first | exact pk_mul _ _ | rfl) ?_
      refine g_aload_n X dX10_number_43 rfl rfl ?_
      refine l_get X dX10_number_44 rfl in_X10 (ci := 9) rfl 4 (by decide) q1469 (fun _ h => h) PH_s rfl ?_
      refine l_getN X dX10_number_47 rfl in_X1 (ci := 0) rfl 3 (by decide) "SlidePark" q237 (fun _ h => h) ((PH_n hn).trans hx) rfl ?_
      refine g_aload_n X dX10_number_50 rfl rfl ?_
      refine l_get X dX10_number_51 rfl in_X10 (ci := 9) rfl 0 (by decide) q1465 (fun _ h => h) PH_s rfl ?_
      refine l_cal X dX10_number_54 rfl ((PH_n hni).trans hf) (vp_in_nI (by omega) (by omega)) (ix_v (by omega) ((hf2 _ f4).1.trans (congrArg nI f2))) ?_
      refine g_iadd X dX10_number_55 rfl (by first | exact nI_add _ _ | rfl) ?_
      refine g_bipush X dX10_number_56 rfl (v := (nI 48)) (by decide) ?_
      refine g_isub X dX10_number_58 rfl ((pk_sub (by omega)).trans (congrArg nI (show 10 * v + (48 + d') - 48 = 10 * v + d' by omega))) ?_
      refine g_istore_n X dX10_number_59 rfl (by decide) rfl rfl ?_
      refine g_aload_n X dX10_number_60 rfl rfl ?_
      refine g_dup X dX10_number_61 rfl rfl ?_
      refine l_get X dX10_number_62 rfl in_X10 (ci := 9) rfl 0 (by decide) q1465 (fun _ h => h) PH_s rfl ?_
      refine g_iconst X dX10_number_65 rfl (v := (nI 1)) rfl ?_
      refine g_iadd X dX10_number_66 rfl (by first | exact nI_add _ _ | rfl) ?_
      refine l_put X dX10_number_67 rfl in_X10 tyX10_ok nmX10 (ci := 9) rfl 0 (by decide) q1465 (fun _ h => h) rfl rfl rfl rfl PH_s (Nat.le_of_ble_eq_true rfl) (PH_u (a + 1 + i + 1) o) ?_
      refine g_iinc X dX10_number_70 rfl rfl (by first | exact nI_1 _ | rfl) (by decide) rfl rfl ?_
      refine g_goto (tgt := 23) X dX10_number_73 rfl (by decide) ?_
      refine GJ.loc [some (.ref pa), some (.int (nI (most + 1))), some (.int (nI (10 * v + d'))), some (.int (nI (i + 1)))] (lvle_c rfl (lvle_c rfl (lvle_c rfl (lvle_c rfl lvle_e)))) ?_
      refine ih (i + 1, 10 * v + d') ⟨by dsimp only; omega, by dsimp only; omega, by dsimp only; omega, by dsimp only; rw [Nat.pow_succ]; omega, ?_⟩ (by dsimp only; omega)
      rw [k5, show most + 1 - (i + 1) = j by omega]; rfl
end PS1
