/-! ArrayList: room -/
section AL5
variable {l : Launch} {Ω : Om} {I : Heap → Prop} {Γ : LH} {x : Bk} {q : Nat} {xs : List Nat} {m0 : Int32}
set_option maxRecDepth 100000
theorem ct_J9_newLength (hst : l.stackTraces = false) {u y z : Nat} (h0 : 0 < u) (hs : u + max y z < 2000) : CM Ω l yJ9_newLength (ws_ yJ9_newLength cJ9_newLength 4 (some .int)) 2 0 0 [.int (nI u), .int (nI y), .int (nI z)] I (QP (some (.int (nI (u + max y z)))) I) nX := by
  refine CM.of (L := [some (.int (nI u)), some (.int (nI y)), some (.int (nI z)), none]) hst (by decide) (Nat.le_of_ble_eq_true rfl) rfl ?_
  intro p e s m below meth c X hnm htab
  refine g_iload_n X dJ9_newLength_0 rfl rfl ?_
  refine g_iload_n X dJ9_newLength_1 rfl rfl ?_
  refine g_iload_n X dJ9_newLength_2 rfl rfl ?_
  refine g_max X dJ9_newLength_3 rfl q638 (Nat.le_of_ble_eq_true rfl) (Nat.le_of_ble_eq_true rfl) (Nat.le_of_ble_eq_true rfl) (Nat.le_of_ble_eq_true rfl) (mx_nI (by omega) (by omega)) ?_
  refine g_iadd X dJ9_newLength_6 rfl (by first | exact nI_add _ _ | rfl) ?_
  refine g_istore_n X dJ9_newLength_7 rfl (by decide) rfl rfl ?_
  refine g_iconst X dJ9_newLength_8 rfl (v := (nI 0)) rfl ?_
  refine g_iload_n X dJ9_newLength_9 rfl rfl ?_
  refine g_icmp_ge (tgt := 21) X dJ9_newLength_10 rfl (by decide) (fun c => absurd ((nI_leI (by omega) (by omega)).mp c) (by omega)) (fun c_10 => ?_)
  refine g_iload_n X dJ9_newLength_13 rfl rfl ?_
  refine g_ldcI X dJ9_newLength_14 rfl q639 ?_
  refine g_icmp_gt (tgt := 21) X dJ9_newLength_16 rfl (by decide) (fun c => absurd c (by rw [show (2147483639 : Int32) = nI 2147483639 by decide]; exact nI_nlt (by omega) (by omega))) (fun c_16 => ?_)
  refine g_iload_n X dJ9_newLength_19 rfl rfl ?_
  refine g_iret X dJ9_newLength_20 rfl (Nat.le_of_ble_eq_true rfl) (Nat.le_of_ble_eq_true rfl) (fun H hH => ⟨(), rfl, hH⟩)
end AL5
/-- the hidden part when q's array becomes q1 -/
def bkG (x : Bk) (q q1 cap : Nat) : Bk := (fun p => if p = q then q1 else x.1 p, fun p => if p = q then cap else x.2.1 p, fun y => if y = q1 then some q else x.2.2 y)
theorem cc_g {x : Bk} {Ω : Om} {Γ : LH} {q q1 cap : Nat} {xs : List Nat} {m0 : Int32} {H : Heap} (ok : okL Ω Γ x) (he : Γ q = some (.inr (xs, m0))) (hn : conc Ω Γ x q1 = none) (hh : hR Ω (hu (hu (conc Ω Γ x) q1 (cQ Ω cap (fun k => xs[k]?))) q (.inr (11, [.int m0, .ref q1, .int (nI xs.length)]))) H) : hR Ω (conc Ω Γ (bkG x q q1 cap)) H := by
  have g1 := (cc_no ok hn).1
  have hq : q1 ≠ q := fun e => by rw [e, he] at g1; simp at g1
  refine hh.sub (fun y e hy => ?_)
  by_cases h : y = q
  · subst h
    rw [cc_l he, show (bkG x y q1 cap).1 y = q1 from if_pos rfl] at hy
    rw [hu_s]; exact hy
  · rw [hu_n h]
    by_cases h2 : y = q1
    · subst h2
      rw [hu_s]
      have : conc Ω Γ (bkG x q y cap) y = some (cQ Ω cap (fun k => xs[k]?)) := by
        unfold conc
        rw [g1]
        show bkC Ω Γ (bkG x q y cap) y = _
        unfold bkC
        rw [show (bkG x q y cap).2.2 y = some q from if_pos rfl]
        dsimp only
        rw [he]
        dsimp only
        rw [if_pos (show (bkG x q y cap).1 q = y from if_pos rfl), show (bkG x q y cap).2.1 q = cap from if_pos rfl]
      rw [this] at hy; exact hy
    · rw [hu_n h2]
      unfold conc at hy ⊢
      cases hg : Γ y with
      | some d =>
        rw [hg] at hy
        cases d with
        | inl d => exact hy
        | inr v =>
          dsimp only at hy ⊢
          rw [show (bkG x q q1 cap).1 y = x.1 y from if_neg h] at hy
          exact hy
      | none =>
        rw [hg] at hy
        dsimp only at hy ⊢
        unfold bkC at hy ⊢
        rw [show (bkG x q q1 cap).2.2 y = x.2.2 y from if_neg h2] at hy
        cases ho : x.2.2 y with
        | none => rw [ho] at hy; exact hy
        | some p =>
          rw [ho] at hy
          dsimp only at hy ⊢
          by_cases hp : p = q
          · rw [hp, he] at hy
            dsimp only at hy
            rw [show (bkG x q q1 cap).1 q = q1 from if_pos rfl, if_neg (fun e => h2 e.symm)] at hy
            simp at hy
          · rw [show (bkG x q q1 cap).1 p = x.1 p from if_neg hp, show (bkG x q q1 cap).2.1 p = x.2.1 p from if_neg hp] at hy
            exact hy
theorem ok_g {x : Bk} {Ω : Om} {Γ : LH} {q q1 cap : Nat} {xs : List Nat} {m0 : Int32} (ok : okL Ω Γ x) (he : Γ q = some (.inr (xs, m0))) (hn : conc Ω Γ x q1 = none) (hA : q1 ≠ oM Ω 256) (h1 : xs.length ≤ cap) (h2 : cap ≤ 1000 ∧ 10 ≤ cap) : okL Ω Γ (bkG x q q1 cap) := by
  obtain ⟨g1, g2⟩ := cc_no ok hn
  intro p v hp
  by_cases h : p = q
  · subst h
    rw [he] at hp
    have : v = (xs, m0) := by simpa using hp.symm
    subst this
    rw [show (bkG x p q1 cap).1 p = q1 from if_pos rfl, show (bkG x p q1 cap).2.1 p = cap from if_pos rfl]
    exact Or.inr ⟨if_pos rfl, g1, h1, h2⟩
  · rw [show (bkG x q q1 cap).1 p = x.1 p from if_neg h, show (bkG x q q1 cap).2.1 p = x.2.1 p from if_neg h]
    rcases ok p v hp with g | ⟨k1, k2, k3⟩
    · exact Or.inl g
    · refine Or.inr ⟨?_, k2, k3⟩
      show (if x.1 p = q1 then some q else x.2.2 (x.1 p)) = some p
      rw [if_neg (fun e => hA (g2 p v hp e)), k1]
/-- what is needed of a new array, in one fact -/
theorem grown {Ω : Om} {s : State} {H0 H : Heap} {Γ : LH} {x : Bk} {q q1 cap : Nat} {xs : List Nat} {m0 : Int32} (hK : KK Ω s H0) (ok : okL Ω Γ x) (he : Γ q = some (.inr (xs, m0))) (hn : conc Ω Γ x q1 = none) (h1 : xs.length < cap) (h2 : cap ≤ 1000 ∧ 10 ≤ cap) (hh : hR Ω (hu (hu (conc Ω Γ x) q1 (cQ Ω cap (fun k => xs[k]?))) q (.inr (11, [.int m0, .ref q1, .int (nI xs.length)]))) H) : (okL Ω Γ (bkG x q q1 cap) ∧ (bkG x q q1 cap).2.2 ((bkG x q q1 cap).1 q) = some q ∧ Γ ((bkG x q q1 cap).1 q) = none ∧ xs.length < (bkG x q q1 cap).2.1 q ∧ (bkG x q q1 cap).2.1 q ≤ 1000 ∧ 10 ≤ (bkG x q q1 cap).2.1 q) ∧ hR Ω (conc Ω Γ (bkG x q q1 cap)) H := by
  have g1 := (cc_no ok hn).1
  have hq : q1 ≠ q := fun e => by rw [e, he] at g1; simp at g1
  have hA : oA Ω q1 := hh.own (a := q1) (by rw [hu_n hq, hu_s])
  have hB : ¬ oA Ω (oM Ω 256) := va_T.out (hK.2.2.2.2.2.2.2.2.2.2.1 (.object "java/lang/Object", oM Ω 256, 0, fun _ => .null) (List.mem_cons_of_mem _ List.mem_cons_self))
  have hne : q1 ≠ oM Ω 256 := fun e => hB (e ▸ hA)
  refine ⟨⟨ok_g ok he hn hne (Nat.le_of_lt h1) h2, ?_, ?_, ?_⟩, cc_g ok he hn hh⟩
  · rw [show (bkG x q q1 cap).1 q = q1 from if_pos rfl]; exact if_pos rfl
  · rw [show (bkG x q q1 cap).1 q = q1 from if_pos rfl]; exact g1
  · rw [show (bkG x q q1 cap).2.1 q = cap from if_pos rfl]; exact ⟨h1, h2⟩
section AL5B
variable {l : Launch} {Ω : Om} {I : Heap → Prop} {Γ : LH} {x : Bk} {q : Nat} {xs : List Nat} {m0 : Int32}
set_option maxRecDepth 100000
theorem ct_J2_grow_2 (hst : l.stackTraces = false) (ok : okL Ω Γ x) (he : Γ q = some (.inr (xs, m0))) (hl : xs.length ≤ 40) (hE : ∀ y ∈ xs, okE Ω Γ y) (hfull : (x.1 q = oM Ω 256 ∧ xs = []) ∨ (conc Ω Γ x (x.1 q) = some (cQ Ω xs.length (fun k => xs[k]?)) ∧ 10 ≤ xs.length)) : CM Ω l yJ2_grow_2 (ws_ yJ2_grow_2 cJ2_grow_2 4 (some (.array (.object "java/lang/Object")))) 7 1 64 [.ref q, .int (nI (xs.length + 1))] (hR Ω (conc Ω Γ x)) (QV (fun x' : {x' : Bk // okL Ω Γ x' ∧ x'.2.2 (x'.1 q) = some q ∧ Γ (x'.1 q) = none ∧ xs.length < x'.2.1 q ∧ x'.2.1 q ≤ 1000 ∧ 10 ≤ x'.2.1 q} => some (.ref (x'.1.1 q))) (fun x' => hR Ω (conc Ω Γ x'.1))) nX := by
  rcases hfull with ⟨e1, e2⟩ | ⟨c1, c2⟩
  · have hx : xs.length = 0 := by rw [e2]; rfl
    have hf : (fun k : Nat => xs[k]?) = fun _ => (none : Option Nat) := by funext k; rw [e2]; rfl
    have hcl := cc_l (Ω := Ω) (x := x) he
    refine CM.of (L := [some (.ref q), some (.int (nI (xs.length + 1))), none, none]) hst (by decide) (Nat.le_of_ble_eq_true rfl) rfl ?_
    intro p e s m below meth c X hnm htab
    refine g_aload_n X dJ2_grow_2_0 rfl rfl ?_
    refine g_get X dJ2_grow_2_1 rfl in_J2 (ci := 11) rfl 1 (by decide) q134 (fun _ h => h) hcl (congrArg (fun z => some (Value.ref z)) e1) ?_
    refine g_tlen X dJ2_grow_2_4 rfl (X.2.2.2.2.2.2.2.1.2.2.2.2.2.2.2.2.2.2.1 (.object "java/lang/Object", oM Ω 256, 0, fun _ => .null) (List.mem_cons_of_mem _ List.mem_cons_self)) rfl ?_
    refine g_istore_n X dJ2_grow_2_5 rfl (by decide) rfl rfl ?_
    refine g_iload_n X dJ2_grow_2_6 rfl rfl ?_
    refine g_if_gt (tgt := 20) X dJ2_grow_2_7 rfl (by decide) (fun c => absurd c (show ¬ 0 < Int32.ofNat 0 by decide)) (fun c_7 => ?_)
    refine g_aload_n X dJ2_grow_2_10 rfl rfl ?_
    refine g_get X dJ2_grow_2_11 rfl in_J2 (ci := 11) rfl 1 (by decide) q134 (fun _ h => h) hcl (congrArg (fun z => some (Value.ref z)) e1) ?_
    refine g_gets X (v := .ref (oM Ω 256)) dJ2_grow_2_14 rfl (by simp [stl]) q132 (fun _ h => h) ?_
    refine g_acmp_eq X (rx := some (oM Ω 256)) (ry := some (oM Ω 256)) (tgt := 45) dJ2_grow_2_17 rfl (by decide) (fun _ => ?_) (fun g => absurd rfl g)
    refine g_aload_n X dJ2_grow_2_45 rfl rfl ?_
    refine g_bipush X dJ2_grow_2_46 rfl (v := (nI 10)) (by decide) ?_
    refine g_iload_n X dJ2_grow_2_48 rfl rfl ?_
    refine g_max X dJ2_grow_2_49 rfl q686 (Nat.le_of_ble_eq_true rfl) (Nat.le_of_ble_eq_true rfl) (Nat.le_of_ble_eq_true rfl) (Nat.le_of_ble_eq_true rfl) ((mx_nI (by omega) (by omega)).trans (congrArg nI (show max 10 (xs.length + 1) = 10 by omega))) ?_
    refine g_newq X dJ2_grow_2_52 rfl q687 (by decide) rfl (by decide) (Nat.le_of_ble_eq_true rfl) (Nat.le_of_ble_eq_true rfl) (fun q1 nq => ?_)
    have hq : q ≠ q1 := fun e => by rw [← e, hcl] at nq; simp at nq
    have d1 : hu (conc Ω Γ x) q1 (cQ Ω 10 (fun _ => none)) q = _ := (hu_n hq).trans hcl
    refine g_dup_x1 X dJ2_grow_2_55 rfl rfl rfl ?_
    refine g_put X dJ2_grow_2_56 rfl in_J2 tyJ2_ok nmJ2 (ci := 11) rfl 1 (by decide) q134 (fun _ h => h) rfl rfl rfl rfl d1 (Nat.le_of_ble_eq_true rfl) rfl ?_
    refine g_aret X (Or.inr ⟨_, rfl⟩) (Or.inr ⟨_, rfl⟩) dJ2_grow_2_59 rfl (Nat.le_of_ble_eq_true rfl) (Nat.le_of_ble_eq_true rfl) (fun H hH => ?_)
    have hg := grown (cap := 10) X.2.2.2.2.2.2.2.1 ok he nq (by omega) (by omega) (by rw [hf]; exact hH)
    exact ⟨⟨bkG x q q1 10, hg.1⟩, congrArg (fun z => some (Value.ref z)) (show q1 = (bkG x q q1 10).1 q from (if_pos rfl).symm), hg.2⟩
  · have hcl := cc_l (Ω := Ω) (x := x) he
    have hcp : va_cpy (fun k : Nat => xs[k]?) (fun _ => (none : Option Nat)) 0 0 xs.length = fun k => xs[k]? := by
      funext k
      by_cases h : k < xs.length
      · rw [pk_cpy_in (Nat.zero_le _) (by omega)]; congr 1; omega
      · rw [pk_cpy_out (Or.inr (by omega)), List.getElem?_eq_none (by omega)]
    generalize hN : xs.length + max (xs.length + 1 - xs.length) (xs.length / 2 ^ 1) = N0
    have hN1 : xs.length < N0 ∧ N0 ≤ 64 := by omega
    refine CM.of (L := [some (.ref q), some (.int (nI (xs.length + 1))), none, none]) hst (by decide) (Nat.le_of_ble_eq_true rfl) rfl ?_
    intro p e s m below meth c X hnm htab
    refine g_aload_n X dJ2_grow_2_0 rfl rfl ?_
    refine g_get X dJ2_grow_2_1 rfl in_J2 (ci := 11) rfl 1 (by decide) q134 (fun _ h => h) hcl rfl ?_
    refine g_alen X (t := 5) dJ2_grow_2_4 rfl c1 rfl rfl ?_
    refine g_istore_n X dJ2_grow_2_5 rfl (by decide) rfl rfl ?_
    refine g_iload_n X dJ2_grow_2_6 rfl rfl ?_
    refine g_if_gt (tgt := 20) X dJ2_grow_2_7 rfl (by decide) (fun c_7 => ?_) (fun c => absurd ((nI_lt0 (by omega)).mpr (by omega)) c)
    refine g_iload_n X dJ2_grow_2_20 rfl rfl ?_
    refine g_iload_n X dJ2_grow_2_21 rfl rfl ?_
    refine g_iload_n X dJ2_grow_2_22 rfl rfl ?_
    refine g_isub X dJ2_grow_2_23 rfl (pk_sub (by omega)) ?_
    refine g_iload_n X dJ2_grow_2_24 rfl rfl ?_
    refine g_iconst X dJ2_grow_2_25 rfl (v := (nI 1)) rfl ?_
    refine g_ishr X dJ2_grow_2_26 rfl (pk_shrN (by omega) _ 1 (by decide)) ?_
    refine g_callS X (ct_J9_newLength hst (by omega) (by omega)) dJ2_grow_2_27 rfl (lw_S q635 q636 q80 q637) hyS_J9_newLength (fun H hH => hH) ⟨Nat.le_of_ble_eq_true rfl, Nat.le_of_ble_eq_true rfl⟩ ⟨Nat.le_of_ble_eq_true rfl, Nat.le_of_ble_eq_true rfl⟩ (Nat.le_of_ble_eq_true rfl) rfl (fun x_27 => ?_)
    rw [hN]
    refine g_istore_n X dJ2_grow_2_30 rfl (by decide) rfl rfl ?_
    refine g_aload_n X dJ2_grow_2_31 rfl rfl ?_
    refine g_aload_n X dJ2_grow_2_32 rfl rfl ?_
    refine g_get X dJ2_grow_2_33 rfl in_J2 (ci := 11) rfl 1 (by decide) q134 (fun _ h => h) hcl rfl ?_
    refine g_iload_n X dJ2_grow_2_36 rfl rfl ?_
    refine g_callS X (ct_J11_copyOf hst c1 (fun i y hy => (hE y (List.mem_of_getElem? hy)).h) (by omega) (by omega)) dJ2_grow_2_37 rfl (lw_S q643 q644 q82 q645) hyS_J11_copyOf (fun H hH => hH) ⟨Nat.le_of_ble_eq_true rfl, Nat.le_of_ble_eq_true rfl⟩ ⟨by show 0 + 1 ≤ 1; omega, by show 0 + N0 ≤ 64; omega⟩ (Nat.le_of_ble_eq_true rfl) rfl (fun qq => ?_)
    obtain ⟨q1, nq⟩ := qq
    rw [hcp]
    have hq : q ≠ q1 := fun e => by rw [← e, hcl] at nq; simp at nq
    have d1 : hu (conc Ω Γ x) q1 (cQ Ω N0 (fun k => xs[k]?)) q = _ := (hu_n hq).trans hcl
    refine g_dup_x1 X dJ2_grow_2_40 rfl rfl rfl ?_
    refine g_put X dJ2_grow_2_41 rfl in_J2 tyJ2_ok nmJ2 (ci := 11) rfl 1 (by decide) q134 (fun _ h => h) rfl rfl rfl rfl d1 (Nat.le_of_ble_eq_true rfl) rfl ?_
    refine g_aret X (Or.inr ⟨_, rfl⟩) (Or.inr ⟨_, rfl⟩) dJ2_grow_2_44 rfl (Nat.le_of_ble_eq_true rfl) (by show 0 + N0 ≤ 64; omega) (fun H hH => ?_)
    have hg := grown (cap := N0) X.2.2.2.2.2.2.2.1 ok he nq (by omega) (by omega) hH
    exact ⟨⟨bkG x q q1 N0, hg.1⟩, congrArg (fun z => some (Value.ref z)) (show q1 = (bkG x q q1 N0).1 q from (if_pos rfl).symm), hg.2⟩
end AL5B
