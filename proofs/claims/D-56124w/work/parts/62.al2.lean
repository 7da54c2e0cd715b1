/-! ArrayList over heaps with lists: making -/
section AL2
variable {l : Launch} {Ω : Om} {I : Heap → Prop} {Γ : LH} {x : Bk} {a q m0 : Nat} {xs : List Nat} {m : Int32}
set_option maxRecDepth 100000
theorem ct_J0_init (hst : l.stackTraces = false) : CM Ω l yJ0_init (ws_ yJ0_init cJ0_init 1 none) 2 0 0 [.ref q] I (QP none I) nX := by
  refine CM.of (L := [some (.ref q)]) hst (by decide) (Nat.le_of_ble_eq_true rfl) rfl ?_
  intro p e s m below meth c X hnm htab
  refine g_aload_n X dJ0_init_0 rfl rfl ?_
  refine g_objInit X dJ0_init_1 rfl q131 (Nat.le_of_ble_eq_true rfl) (Nat.le_of_ble_eq_true rfl) ?_
  refine g_vret X dJ0_init_4 rfl (Nat.le_of_ble_eq_true rfl) (Nat.le_of_ble_eq_true rfl) (fun H hH => ⟨(), rfl, hH⟩)
theorem hu_same {α : Type} {h : Nat → Option α} {q : Nat} {e : α} (he : h q = some e) : hu h q e = h := by
  funext y
  by_cases g : y = q
  · subst g; rw [hu_s, he]
  · rw [hu_n g]
theorem ct_J1_init (hst : l.stackTraces = false) {h : RH} {v w : Value} (he : h q = some (.inr (11, [.int 0, v, w]))) : CM Ω l yJ1_init (ws_ yJ1_init cJ1_init 1 none) 4 0 0 [.ref q] (hR Ω h) (QP none (hR Ω h)) nX := by
  refine CM.of (L := [some (.ref q)]) hst (by decide) (Nat.le_of_ble_eq_true rfl) rfl ?_
  intro p e s m below meth c X hnm htab
  refine g_aload_n X dJ1_init_0 rfl rfl ?_
  refine g_callI X (ct_J0_init hst) dJ1_init_1 rfl q130 q68 q128 q129 rfl hyS_J0_init (fun H hH => hH) ⟨Nat.le_of_ble_eq_true rfl, Nat.le_of_ble_eq_true rfl⟩ ⟨Nat.le_of_ble_eq_true rfl, Nat.le_of_ble_eq_true rfl⟩ (Nat.le_of_ble_eq_true rfl) rfl (fun x_1 => ?_)
  refine g_aload_n X dJ1_init_4 rfl rfl ?_
  refine g_iconst X dJ1_init_5 rfl (v := (nI 0)) rfl ?_
  refine g_put X dJ1_init_6 rfl in_J2 tyJ2_ok nmJ2 (ci := 11) rfl 0 (by decide) q138 (fun _ h => h) rfl rfl rfl rfl he (Nat.le_of_ble_eq_true rfl) (hu_same he) ?_
  refine g_vret X dJ1_init_9 rfl (Nat.le_of_ble_eq_true rfl) (Nat.le_of_ble_eq_true rfl) (fun H hH => ⟨(), rfl, hH⟩)
theorem ct_J2_init (hst : l.stackTraces = false) (he : Γ q = some (.inl (.inr (11, [.int 0, .null, .int 0])))) : CM Ω l yJ2_init (ws_ yJ2_init cJ2_init 1 none) 6 0 0 [.ref q] (hL Ω Γ) (QP none (hL Ω (hu Γ q (.inr ([], 0))))) nX := by
  refine CM.of (L := [some (.ref q)]) hst (by decide) (Nat.le_of_ble_eq_true rfl) rfl ?_
  intro p e s m below meth c X hnm htab
  refine GJ.ex (fun x => GJ.and (fun ok => ?_))
  refine g_aload_n X dJ2_init_0 rfl rfl ?_
  refine g_callI X (ct_J1_init hst (cc_o he)) dJ2_init_1 rfl q127 q69 q125 q126 rfl hyS_J1_init (fun H hH => hH) ⟨Nat.le_of_ble_eq_true rfl, Nat.le_of_ble_eq_true rfl⟩ ⟨Nat.le_of_ble_eq_true rfl, Nat.le_of_ble_eq_true rfl⟩ (Nat.le_of_ble_eq_true rfl) rfl (fun x_1 => ?_)
  refine g_aload_n X dJ2_init_4 rfl rfl ?_
  refine g_gets X (v := .ref (oM Ω 256)) dJ2_init_5 rfl (by simp [stl]) q132 (fun _ h => h) ?_
  refine g_put X dJ2_init_8 rfl in_J2 tyJ2_ok nmJ2 (ci := 11) rfl 1 (by decide) q134 (fun _ h => h) rfl rfl rfl rfl (cc_o he) (Nat.le_of_ble_eq_true rfl) rfl ?_
  refine g_vret X dJ2_init_11 rfl (Nat.le_of_ble_eq_true rfl) (Nat.le_of_ble_eq_true rfl) (fun H hH => ⟨(), rfl, bk0 Ω x q, ok_mk ok he, by rw [cc_mk he]; exact hH⟩)
end AL2
