/-! MODEL: its making -/
def iL : List (Nat × va_E) → RH → RH
  | [], h => h
  | x :: L, h => fun q => if q = x.1 then some x.2 else iL L h q
def iW (h : RH) (a : Nat) (fs : List Value) (L : List (Nat × va_E)) : RH := fun q => if q = a then some (.inr (3, fs)) else iL L h q
theorem iW_a {h : RH} {a : Nat} {fs : List Value} {L : List (Nat × va_E)} : iW h a fs L a = some (.inr (3, fs)) := if_pos rfl
theorem iW_put {h : RH} {a : Nat} {fs fs' : List Value} {L : List (Nat × va_E)} : hu (iW h a fs L) a (.inr (3, fs')) = iW h a fs' L := by
  funext q
  by_cases e : q = a
  · subst e; rw [hu_s, iW_a]
  · rw [hu_n e]; unfold iW; rw [if_neg e, if_neg e]
theorem iW_no {h : RH} {a q : Nat} {fs : List Value} {L : List (Nat × va_E)} (hn : iW h a fs L q = none) : q ≠ a ∧ iL L h q = none := by
  by_cases e : q = a
  · subst e; rw [iW_a] at hn; exact absurd hn (by simp)
  · refine ⟨e, ?_⟩; unfold iW at hn; rw [if_neg e] at hn; exact hn
theorem iL_no {h : RH} {q : Nat} {x : Nat × va_E} {L : List (Nat × va_E)} (hn : iL (x :: L) h q = none) : q ≠ x.1 ∧ iL L h q = none := by
  have hn : (if q = x.1 then some x.2 else iL L h q) = none := hn
  by_cases e : q = x.1
  · rw [if_pos e] at hn; exact absurd hn (by simp)
  · rw [if_neg e] at hn; exact ⟨e, hn⟩
theorem iW_new {h : RH} {a q : Nat} {fs : List Value} {L : List (Nat × va_E)} {c : va_E} (hn : iW h a fs L q = none) : hu (iW h a fs L) q c = iW h a fs ((q, c) :: L) := by
  have h1 := (iW_no hn).1
  funext x
  by_cases e : x = q
  · subst e; rw [hu_s]; unfold iW; rw [if_neg h1]; show _ = if x = x then _ else _; rw [if_pos rfl]
  · rw [hu_n e]; unfold iW
    by_cases e2 : x = a
    · rw [if_pos e2, if_pos e2]
    · rw [if_neg e2, if_neg e2]; show _ = if x = q then _ else _; rw [if_neg e]
theorem iW_0 {h : RH} {a : Nat} {fs : List Value} (hh : h a = some (.inr (3, fs))) : iW h a fs [] = h := by
  funext x
  unfold iW
  by_cases e : x = a
  · rw [if_pos e, e, hh]
  · rw [if_neg e]; rfl
def adF (q0 q1 q2 q3 q4 q5 q6 : Nat) (i : Nat) : Nat := match i with | 0 => q0 | 1 => q1 | 2 => q2 | 3 => q3 | 4 => q4 | 5 => q5 | _ => q6
/-- the numbers of a new reference -/
def v0F : Nat → Int32 := fun i => if i = 13 then -1 else if i = 14 then -1 else 0
def fs0 : List Value := [.null, .null, .null, .int 0, .null, .int 0, .int 0, .null, .int 0, .null, .int 0, .int 0, .int 0, .int 0, .int 0, .null, .int 0]
theorem adF_inj {q0 q1 q2 q3 q4 q5 q6 : Nat} (d10 : q1 ≠ q0) (d20 : q2 ≠ q0) (d21 : q2 ≠ q1) (d30 : q3 ≠ q0) (d31 : q3 ≠ q1) (d32 : q3 ≠ q2) (d40 : q4 ≠ q0) (d41 : q4 ≠ q1) (d42 : q4 ≠ q2) (d43 : q4 ≠ q3) (d50 : q5 ≠ q0) (d51 : q5 ≠ q1) (d52 : q5 ≠ q2) (d53 : q5 ≠ q3) (d54 : q5 ≠ q4) (d60 : q6 ≠ q0) (d61 : q6 ≠ q1) (d62 : q6 ≠ q2) (d63 : q6 ≠ q3) (d64 : q6 ≠ q4) (d65 : q6 ≠ q5) : ∀ i j, i < 7 → j < 7 → adF q0 q1 q2 q3 q4 q5 q6 i = adF q0 q1 q2 q3 q4 q5 q6 j → i = j := by
  intro i j hi hj e
  have s10 := Ne.symm d10
  have s20 := Ne.symm d20
  have s21 := Ne.symm d21
  have s30 := Ne.symm d30
  have s31 := Ne.symm d31
  have s32 := Ne.symm d32
  have s40 := Ne.symm d40
  have s41 := Ne.symm d41
  have s42 := Ne.symm d42
  have s43 := Ne.symm d43
  have s50 := Ne.symm d50
  have s51 := Ne.symm d51
  have s52 := Ne.symm d52
  have s53 := Ne.symm d53
  have s54 := Ne.symm d54
  have s60 := Ne.symm d60
  have s61 := Ne.symm d61
  have s62 := Ne.symm d62
  have s63 := Ne.symm d63
  have s64 := Ne.symm d64
  have s65 := Ne.symm d65
  rcases (show i = 0 ∨ i = 1 ∨ i = 2 ∨ i = 3 ∨ i = 4 ∨ i = 5 ∨ i = 6 by omega) with rfl | rfl | rfl | rfl | rfl | rfl | rfl <;> rcases (show j = 0 ∨ j = 1 ∨ j = 2 ∨ j = 3 ∨ j = 4 ∨ j = 5 ∨ j = 6 by omega) with rfl | rfl | rfl | rfl | rfl | rfl | rfl <;> first | rfl | (simp only [adF] at e; contradiction)
theorem iL_eq {Ω : Om} {h : RH} {a q0 q1 q2 q3 q4 q5 q6 : Nat} {fs : List Value} {v : Nat → Int32} (d10 : q1 ≠ q0) (d20 : q2 ≠ q0) (d21 : q2 ≠ q1) (d30 : q3 ≠ q0) (d31 : q3 ≠ q1) (d32 : q3 ≠ q2) (d40 : q4 ≠ q0) (d41 : q4 ≠ q1) (d42 : q4 ≠ q2) (d43 : q4 ≠ q3) (d50 : q5 ≠ q0) (d51 : q5 ≠ q1) (d52 : q5 ≠ q2) (d53 : q5 ≠ q3) (d54 : q5 ≠ q4) (d60 : q6 ≠ q0) (d61 : q6 ≠ q1) (d62 : q6 ≠ q2) (d63 : q6 ≠ q3) (d64 : q6 ≠ q4) (d65 : q6 ≠ q5) (hfs : fs = mFs (adF q0 q1 q2 q3 q4 q5 q6) v) : iW h a fs [(q6, cI Ω 0 240 (fun _ => 0)), (q5, cI Ω 1 60 (fun _ => 0)), (q4, cI Ω 1 180 (fun _ => 0)), (q3, cI Ω 0 1264 (fun _ => 0)), (q2, cI Ω 0 158 (fun _ => 0)), (q1, cI Ω 0 158 (fun _ => 0)), (q0, cI Ω 0 158 (fun _ => 0))] = mW Ω h a (adF q0 q1 q2 q3 q4 q5 q6) v (fun _ _ => 0) := by
  subst hfs
  funext x
  unfold iW mW
  by_cases ea : x = a
  · rw [if_pos ea, if_pos ea]
  · rw [if_neg ea, if_neg ea]
    simp only [iL, adF]
    by_cases e0 : x = q0
    · rw [if_neg (show ¬ x = q6 from fun g => d60 (g.symm.trans e0)), if_neg (show ¬ x = q5 from fun g => d50 (g.symm.trans e0)), if_neg (show ¬ x = q4 from fun g => d40 (g.symm.trans e0)), if_neg (show ¬ x = q3 from fun g => d30 (g.symm.trans e0)), if_neg (show ¬ x = q2 from fun g => d20 (g.symm.trans e0)), if_neg (show ¬ x = q1 from fun g => d10 (g.symm.trans e0)), if_pos e0, if_pos e0]
    by_cases e1 : x = q1
    · rw [if_neg (show ¬ x = q6 from fun g => d61 (g.symm.trans e1)), if_neg (show ¬ x = q5 from fun g => d51 (g.symm.trans e1)), if_neg (show ¬ x = q4 from fun g => d41 (g.symm.trans e1)), if_neg (show ¬ x = q3 from fun g => d31 (g.symm.trans e1)), if_neg (show ¬ x = q2 from fun g => d21 (g.symm.trans e1)), if_pos e1, if_neg e0, if_pos e1]
    by_cases e2 : x = q2
    · rw [if_neg (show ¬ x = q6 from fun g => d62 (g.symm.trans e2)), if_neg (show ¬ x = q5 from fun g => d52 (g.symm.trans e2)), if_neg (show ¬ x = q4 from fun g => d42 (g.symm.trans e2)), if_neg (show ¬ x = q3 from fun g => d32 (g.symm.trans e2)), if_pos e2, if_neg e0, if_neg e1, if_pos e2]
    by_cases e3 : x = q3
    · rw [if_neg (show ¬ x = q6 from fun g => d63 (g.symm.trans e3)), if_neg (show ¬ x = q5 from fun g => d53 (g.symm.trans e3)), if_neg (show ¬ x = q4 from fun g => d43 (g.symm.trans e3)), if_pos e3, if_neg e0, if_neg e1, if_neg e2, if_pos e3]
    by_cases e4 : x = q4
    · rw [if_neg (show ¬ x = q6 from fun g => d64 (g.symm.trans e4)), if_neg (show ¬ x = q5 from fun g => d54 (g.symm.trans e4)), if_pos e4, if_neg e0, if_neg e1, if_neg e2, if_neg e3, if_pos e4]
    by_cases e5 : x = q5
    · rw [if_neg (show ¬ x = q6 from fun g => d65 (g.symm.trans e5)), if_pos e5, if_neg e0, if_neg e1, if_neg e2, if_neg e3, if_neg e4, if_pos e5]
    by_cases e6 : x = q6
    · rw [if_pos e6, if_neg e0, if_neg e1, if_neg e2, if_neg e3, if_neg e4, if_neg e5, if_pos e6]
    rw [if_neg e6, if_neg e5, if_neg e4, if_neg e3, if_neg e2, if_neg e1, if_neg e0, if_neg e0, if_neg e1, if_neg e2, if_neg e3, if_neg e4, if_neg e5, if_neg e6]
section M20
variable {l : Launch} {Ω : Om} {h : RH} {a : Nat}
set_option maxRecDepth 100000
theorem ct_X4_init (hst : l.stackTraces = false) (hh : h a = some (.inr (3, fs0))) : CM Ω l yX4_init (ws_ yX4_init cX4_init 1 none) 2 7 2218 [.ref a] (hR Ω h) (QV (fun _ : {ad : Nat → Nat // mDi a ad ∧ ∀ i, i < 7 → h (ad i) = none} => none) (fun ad => hR Ω (mW Ω h a ad.1 v0F (fun _ _ => 0)))) nX := by
  refine CM.of (L := [some (.ref a)]) hst (by decide) (Nat.le_of_ble_eq_true rfl) rfl ?_
  intro p e s m below meth c X hnm htab
  refine GJ.imp (I' := hR Ω (iW h a fs0 [])) (fun H hH => by rw [iW_0 hh]; exact hH) ?_
  refine g_aload_n X dX4_init_0 rfl rfl ?_
  refine g_objInit X dX4_init_1 rfl q1915 (Nat.le_of_ble_eq_true rfl) (Nat.le_of_ble_eq_true rfl) ?_
  refine g_aload_n X dX4_init_4 rfl rfl ?_
  refine g_sipush X dX4_init_5 rfl (v := (nI 158)) (by decide) ?_
  refine g_newa_int X dX4_init_8 rfl (by decide) rfl (by decide) (Nat.le_of_ble_eq_true rfl) (Nat.le_of_ble_eq_true rfl) (fun q0 n0 => ?_)
  refine GJ.imp (I' := hR Ω (iW h a (fs0) [(q0, cI Ω 0 158 (fun _ => 0))])) (fun H hH => by rw [← iW_new n0]; exact hH) ?_
  refine g_putF X hnm dX4_init_10 rfl in_X4 tyX4_ok nmX4 (ci := 3) rfl 0 (by decide) q1916 (fun _ h => h) rfl rfl rfl rfl rfl iW_a (Nat.le_of_ble_eq_true rfl) iW_put ?_
  refine g_aload_n X dX4_init_13 rfl rfl ?_
  refine g_sipush X dX4_init_14 rfl (v := (nI 158)) (by decide) ?_
  refine g_newa_int X dX4_init_17 rfl (by decide) rfl (by decide) (Nat.le_of_ble_eq_true rfl) (Nat.le_of_ble_eq_true rfl) (fun q1 n1 => ?_)
  refine GJ.imp (I' := hR Ω (iW h a ((fs0).set 0 (.ref q0)) [(q1, cI Ω 0 158 (fun _ => 0)), (q0, cI Ω 0 158 (fun _ => 0))])) (fun H hH => by rw [← iW_new n1]; exact hH) ?_
  refine g_putF X hnm dX4_init_19 rfl in_X4 tyX4_ok nmX4 (ci := 3) rfl 1 (by decide) q1917 (fun _ h => h) rfl rfl rfl rfl rfl iW_a (Nat.le_of_ble_eq_true rfl) iW_put ?_
  refine g_aload_n X dX4_init_22 rfl rfl ?_
  refine g_sipush X dX4_init_23 rfl (v := (nI 158)) (by decide) ?_
  refine g_newa_int X dX4_init_26 rfl (by decide) rfl (by decide) (Nat.le_of_ble_eq_true rfl) (Nat.le_of_ble_eq_true rfl) (fun q2 n2 => ?_)
  refine GJ.imp (I' := hR Ω (iW h a (((fs0).set 0 (.ref q0)).set 1 (.ref q1)) [(q2, cI Ω 0 158 (fun _ => 0)), (q1, cI Ω 0 158 (fun _ => 0)), (q0, cI Ω 0 158 (fun _ => 0))])) (fun H hH => by rw [← iW_new n2]; exact hH) ?_
  refine g_putF X hnm dX4_init_28 rfl in_X4 tyX4_ok nmX4 (ci := 3) rfl 2 (by decide) q1918 (fun _ h => h) rfl rfl rfl rfl rfl iW_a (Nat.le_of_ble_eq_true rfl) iW_put ?_
  refine g_aload_n X dX4_init_31 rfl rfl ?_
  refine g_sipush X dX4_init_32 rfl (v := (nI 1264)) (by decide) ?_
  refine g_newa_int X dX4_init_35 rfl (by decide) rfl (by decide) (Nat.le_of_ble_eq_true rfl) (Nat.le_of_ble_eq_true rfl) (fun q3 n3 => ?_)
  refine GJ.imp (I' := hR Ω (iW h a ((((fs0).set 0 (.ref q0)).set 1 (.ref q1)).set 2 (.ref q2)) [(q3, cI Ω 0 1264 (fun _ => 0)), (q2, cI Ω 0 158 (fun _ => 0)), (q1, cI Ω 0 158 (fun _ => 0)), (q0, cI Ω 0 158 (fun _ => 0))])) (fun H hH => by rw [← iW_new n3]; exact hH) ?_
  refine g_putF X hnm dX4_init_37 rfl in_X4 tyX4_ok nmX4 (ci := 3) rfl 4 (by decide) q1920 (fun _ h => h) rfl rfl rfl rfl rfl iW_a (Nat.le_of_ble_eq_true rfl) iW_put ?_
  refine g_aload_n X dX4_init_40 rfl rfl ?_
  refine g_sipush X dX4_init_41 rfl (v := (nI 180)) (by decide) ?_
  refine g_newa_char X dX4_init_44 rfl (by decide) rfl (by decide) (Nat.le_of_ble_eq_true rfl) (Nat.le_of_ble_eq_true rfl) (fun q4 n4 => ?_)
  refine GJ.imp (I' := hR Ω (iW h a (((((fs0).set 0 (.ref q0)).set 1 (.ref q1)).set 2 (.ref q2)).set 4 (.ref q3)) [(q4, cI Ω 1 180 (fun _ => 0)), (q3, cI Ω 0 1264 (fun _ => 0)), (q2, cI Ω 0 158 (fun _ => 0)), (q1, cI Ω 0 158 (fun _ => 0)), (q0, cI Ω 0 158 (fun _ => 0))])) (fun H hH => by rw [← iW_new n4]; exact hH) ?_
  refine g_putF X hnm dX4_init_46 rfl in_X4 tyX4_ok nmX4 (ci := 3) rfl 7 (by decide) q1923 (fun _ h => h) rfl rfl rfl rfl rfl iW_a (Nat.le_of_ble_eq_true rfl) iW_put ?_
  refine g_aload_n X dX4_init_49 rfl rfl ?_
  refine g_bipush X dX4_init_50 rfl (v := (nI 60)) (by decide) ?_
  refine g_newa_char X dX4_init_52 rfl (by decide) rfl (by decide) (Nat.le_of_ble_eq_true rfl) (Nat.le_of_ble_eq_true rfl) (fun q5 n5 => ?_)
  refine GJ.imp (I' := hR Ω (iW h a ((((((fs0).set 0 (.ref q0)).set 1 (.ref q1)).set 2 (.ref q2)).set 4 (.ref q3)).set 7 (.ref q4)) [(q5, cI Ω 1 60 (fun _ => 0)), (q4, cI Ω 1 180 (fun _ => 0)), (q3, cI Ω 0 1264 (fun _ => 0)), (q2, cI Ω 0 158 (fun _ => 0)), (q1, cI Ω 0 158 (fun _ => 0)), (q0, cI Ω 0 158 (fun _ => 0))])) (fun H hH => by rw [← iW_new n5]; exact hH) ?_
  refine g_putF X hnm dX4_init_54 rfl in_X4 tyX4_ok nmX4 (ci := 3) rfl 9 (by decide) q1925 (fun _ h => h) rfl rfl rfl rfl rfl iW_a (Nat.le_of_ble_eq_true rfl) iW_put ?_
  refine g_aload_n X dX4_init_57 rfl rfl ?_
  refine g_iconst X dX4_init_58 rfl (v := (-1)) rfl ?_
  refine g_put X dX4_init_59 rfl in_X4 tyX4_ok nmX4 (ci := 3) rfl 13 (by decide) q1929 (fun _ h => h) rfl rfl rfl rfl iW_a (Nat.le_of_ble_eq_true rfl) iW_put ?_
  refine g_aload_n X dX4_init_62 rfl rfl ?_
  refine g_iconst X dX4_init_63 rfl (v := (-1)) rfl ?_
  refine g_put X dX4_init_64 rfl in_X4 tyX4_ok nmX4 (ci := 3) rfl 14 (by decide) q1930 (fun _ h => h) rfl rfl rfl rfl iW_a (Nat.le_of_ble_eq_true rfl) iW_put ?_
  refine g_aload_n X dX4_init_67 rfl rfl ?_
  refine g_sipush X dX4_init_68 rfl (v := (nI 240)) (by decide) ?_
  refine g_newa_int X dX4_init_71 rfl (by decide) rfl (by decide) (Nat.le_of_ble_eq_true rfl) (Nat.le_of_ble_eq_true rfl) (fun q6 n6 => ?_)
  refine GJ.imp (I' := hR Ω (iW h a (((((((((fs0).set 0 (.ref q0)).set 1 (.ref q1)).set 2 (.ref q2)).set 4 (.ref q3)).set 7 (.ref q4)).set 9 (.ref q5)).set 13 (.int (-1))).set 14 (.int (-1))) [(q6, cI Ω 0 240 (fun _ => 0)), (q5, cI Ω 1 60 (fun _ => 0)), (q4, cI Ω 1 180 (fun _ => 0)), (q3, cI Ω 0 1264 (fun _ => 0)), (q2, cI Ω 0 158 (fun _ => 0)), (q1, cI Ω 0 158 (fun _ => 0)), (q0, cI Ω 0 158 (fun _ => 0))])) (fun H hH => by rw [← iW_new n6]; exact hH) ?_
  refine g_putF X hnm dX4_init_73 rfl in_X4 tyX4_ok nmX4 (ci := 3) rfl 15 (by decide) q1931 (fun _ h => h) rfl rfl rfl rfl rfl iW_a (Nat.le_of_ble_eq_true rfl) iW_put ?_
  refine g_vret X dX4_init_76 rfl (Nat.le_of_ble_eq_true rfl) (Nat.le_of_ble_eq_true rfl) (fun H hH => ?_)
  obtain ⟨a0, -⟩ := iW_no n0
  obtain ⟨a1, z1⟩ := iW_no n1
  obtain ⟨d10, z1⟩ := iL_no z1
  obtain ⟨a2, z2⟩ := iW_no n2
  obtain ⟨d21, z2⟩ := iL_no z2
  obtain ⟨d20, z2⟩ := iL_no z2
  obtain ⟨a3, z3⟩ := iW_no n3
  obtain ⟨d32, z3⟩ := iL_no z3
  obtain ⟨d31, z3⟩ := iL_no z3
  obtain ⟨d30, z3⟩ := iL_no z3
  obtain ⟨a4, z4⟩ := iW_no n4
  obtain ⟨d43, z4⟩ := iL_no z4
  obtain ⟨d42, z4⟩ := iL_no z4
  obtain ⟨d41, z4⟩ := iL_no z4
  obtain ⟨d40, z4⟩ := iL_no z4
  obtain ⟨a5, z5⟩ := iW_no n5
  obtain ⟨d54, z5⟩ := iL_no z5
  obtain ⟨d53, z5⟩ := iL_no z5
  obtain ⟨d52, z5⟩ := iL_no z5
  obtain ⟨d51, z5⟩ := iL_no z5
  obtain ⟨d50, z5⟩ := iL_no z5
  obtain ⟨a6, z6⟩ := iW_no n6
  obtain ⟨d65, z6⟩ := iL_no z6
  obtain ⟨d64, z6⟩ := iL_no z6
  obtain ⟨d63, z6⟩ := iL_no z6
  obtain ⟨d62, z6⟩ := iL_no z6
  obtain ⟨d61, z6⟩ := iL_no z6
  obtain ⟨d60, z6⟩ := iL_no z6
  have z0 := (iW_no n0).2
  refine ⟨⟨adF q0 q1 q2 q3 q4 q5 q6, ⟨adF_inj d10 d20 d21 d30 d31 d32 d40 d41 d42 d43 d50 d51 d52 d53 d54 d60 d61 d62 d63 d64 d65, ?_⟩, ?_⟩, rfl, ?_⟩
  · intro i hi
    rcases (show i = 0 ∨ i = 1 ∨ i = 2 ∨ i = 3 ∨ i = 4 ∨ i = 5 ∨ i = 6 by omega) with rfl | rfl | rfl | rfl | rfl | rfl | rfl
    · exact a0
    · exact a1
    · exact a2
    · exact a3
    · exact a4
    · exact a5
    · exact a6
  · intro i hi
    rcases (show i = 0 ∨ i = 1 ∨ i = 2 ∨ i = 3 ∨ i = 4 ∨ i = 5 ∨ i = 6 by omega) with rfl | rfl | rfl | rfl | rfl | rfl | rfl
    · exact z0
    · exact z1
    · exact z2
    · exact z3
    · exact z4
    · exact z5
    · exact z6
  · have e := iL_eq (Ω := Ω) (h := h) (a := a) (q0 := q0) (q1 := q1) (q2 := q2) (q3 := q3) (q4 := q4) (q5 := q5) (q6 := q6) (fs := (((((((((fs0).set 0 (.ref q0)).set 1 (.ref q1)).set 2 (.ref q2)).set 4 (.ref q3)).set 7 (.ref q4)).set 9 (.ref q5)).set 13 (.int (-1))).set 14 (.int (-1))).set 15 (.ref q6)) (v := v0F) d10 d20 d21 d30 d31 d32 d40 d41 d42 d43 d50 d51 d52 d53 d54 d60 d61 d62 d63 d64 d65 rfl
    show hR Ω (mW Ω h a (adF q0 q1 q2 q3 q4 q5 q6) v0F (fun _ _ => 0)) H
    rw [← e]; exact hH
end M20
