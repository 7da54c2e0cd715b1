/-! CLASS: making lines, guests, bookings -/
section C2
variable {l : Launch} {Ω : Om} {I : Heap → Prop} {Γ : LH} {a q y : Nat} {is xs : List Nat} {m0 : Int32}
set_option maxRecDepth 100000
theorem ct_X6_init (hst : l.stackTraces = false) (ha : Γ a = some (.inl (.inr (5, [.null])))) : CM Ω l yX6_init (ws_ yX6_init cX6_init 1 none) 8 1 3 [.ref a] (hL Ω Γ) (QV (fun _ : {q : Nat // Γ q = none} => none) (fun q => hL Ω (hu (hu Γ q.1 (.inr ([], 0))) a (.inl (.inr (5, [.ref q.1])))))) nX := by
  refine CM.of (L := [some (.ref a)]) hst (by decide) (Nat.le_of_ble_eq_true rfl) rfl ?_
  intro p e s m below meth c X hnm htab
  refine g_aload_n X dX6_init_0 rfl rfl ?_
  refine g_objInit X dX6_init_1 rfl q703 (Nat.le_of_ble_eq_true rfl) (Nat.le_of_ble_eq_true rfl) ?_
  refine g_aload_n X dX6_init_4 rfl rfl ?_
  refine l_new X dX6_init_5 rfl (fs := [.int 0, .null, .int 0]) in_J2 tyJ2_ok q704 q121 q70 (ci := 11) rfl (by decide) (Nat.le_of_ble_eq_true rfl) (Nat.le_of_ble_eq_true rfl) (fun q1 nq => ?_)
  have hq : a ≠ q1 := fun e => by rw [← e, ha] at nq; simp at nq
  refine g_dup X dX6_init_8 rfl rfl ?_
  refine g_callI X (ct_J2_init hst (hu_s _ _ _)) dX6_init_9 rfl q124 q70 q705 q123 rfl hyS_J2_init (fun H hH => hH) ⟨Nat.le_of_ble_eq_true rfl, Nat.le_of_ble_eq_true rfl⟩ ⟨Nat.le_of_ble_eq_true rfl, Nat.le_of_ble_eq_true rfl⟩ (Nat.le_of_ble_eq_true rfl) rfl (fun x_9 => ?_)
  refine l_putF X hnm dX6_init_12 rfl in_X6 tyX6_ok nmX6 (ci := 5) rfl 0 (by decide) q706 (fun _ h => h) rfl rfl rfl rfl rfl ((hu_n hq).trans ((hu_n hq).trans ha)) (Nat.le_of_ble_eq_true rfl) rfl ?_
  refine g_vret X dX6_init_15 rfl (Nat.le_of_ble_eq_true rfl) (Nat.le_of_ble_eq_true rfl) (fun H hH => ⟨⟨q1, nq⟩, rfl, by rw [hu_hu] at hH; exact hH⟩)
end C2
