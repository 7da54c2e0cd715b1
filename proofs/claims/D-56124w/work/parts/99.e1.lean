/-! STATE: the searches -/
section E1
variable {l : Launch} {Ω : Om} {Γ0 Γ Γ' : LH} {a q y : Nat} {A : Ad} {σ : St} {xs : List Nat} {m0 : Int32}
set_option maxRecDepth 100000
/-- a booking with the least end among the first n that start from lo on -/
def bestP (σ : St) (A : Ad) (lo n : Nat) (x : Option (Nat × Nat)) : Prop := match x with
  | none => aBest σ lo n = 2147483647
  | some y => y.1 < n ∧ lo ≤ boT σ y.1 ∧ (laB A)[y.1]? = some y.2 ∧ boE σ y.1 = aBest σ lo n
theorem ct_X2_firstToFinish (hst : l.stackTraces = false) (hS : SR Ω Γ0 Γ a A σ) (hB : Bd σ) {lo : Nat} (hlo : lo ≤ 200000) : CM Ω l yX2_firstToFinish (ws_ yX2_firstToFinish cX2_firstToFinish 5 (some (.object "SlidePark$Booking"))) 8 0 0 [.ref a, .int (nI lo)] (hL Ω Γ) (QV (fun x : {x : Option (Nat × Nat) // bestP σ A lo (nB σ) x} => some (va_rf (x.1.map (·.2)))) (fun _ => hL Ω Γ)) nX := by
  obtain ⟨mB, hmB⟩ := hS.lB
  have b1 := hB.1
  have hcB := hS.cB
  refine CM.of (L := [some (.ref a), some (.int (nI lo)), none, none, none]) hst (by decide) (Nat.le_of_ble_eq_true rfl) rfl ?_
  intro p e s m below meth c X hnm htab
  refine g_null X dX2_firstToFinish_0 rfl ?_
  refine g_astore_nN X dX2_firstToFinish_1 rfl (by decide) rfl rfl ?_
  refine g_iconst X dX2_firstToFinish_2 rfl (v := (nI 0)) rfl ?_
  refine g_istore_n X dX2_firstToFinish_3 rfl (by decide) rfl rfl ?_
  refine GJ.loc ((fun x : Nat × Option (Nat × Nat) => [some (.ref a), some (.int (nI lo)), some (va_rf (x.2.map (·.2))), some (.int (nI x.1)), none]) (0, none)) (lvle_c rfl (lvle_c rfl (lvle_c rfl (lvle_c rfl (lvle_n lvle_e))))) ?_
  refine GJ.loopP (fun x : Nat × Option (Nat × Nat) => [some (.ref a), some (.int (nI lo)), some (va_rf (x.2.map (·.2))), some (.int (nI x.1)), none]) (fun x => nB σ - x.1) (fun x => x.1 ≤ nB σ ∧ bestP σ A lo x.1 x.2) (0, none) ⟨Nat.zero_le _, rfl⟩ ?_
  rintro ⟨k, best⟩ ⟨k1, k2⟩ ih
  dsimp only at k1 k2 ih ⊢
  refine g_iload_n X dX2_firstToFinish_4 rfl rfl ?_
  refine g_aload_n X dX2_firstToFinish_5 rfl rfl ?_
  refine l_get X dX2_firstToFinish_6 rfl in_X2 (ci := 1) rfl 2 (by decide) q168 (fun _ h => h) hS.st rfl ?_
  refine g_callV X (ct_J2_size hst hmB) dX2_firstToFinish_9 rfl (lw_V q293 q270 q271 q70 q272) hyV_J2_size (fun H hH => hL.recvL X.2.2.2.2.2.2.2.1 hH (hmB)) (fun H hH => hH) ⟨Nat.le_of_ble_eq_true rfl, Nat.le_of_ble_eq_true rfl⟩ ⟨by first | exact Nat.le_of_ble_eq_true rfl | omega | (dsimp only [rmD]; omega), by first | exact Nat.le_of_ble_eq_true rfl | omega | (dsimp only [rmD]; omega)⟩ (Nat.le_of_ble_eq_true rfl) rfl (fun x_9 => ?_)
  refine g_icmp_ge (tgt := 66) X dX2_firstToFinish_12 rfl (by decide) (fun c_12 => ?_) (fun c_12 => ?_)
  · rw [nI_leI (by omega) (by omega)] at c_12
    obtain rfl : k = nB σ := by omega
    cases best with
    | none =>
      refine g_aload_nN X dX2_firstToFinish_66 rfl rfl ?_
      refine g_aret X (Or.inl ⟨_, rfl⟩) (Or.inl rfl) dX2_firstToFinish_67 rfl (by first | exact Nat.le_of_ble_eq_true rfl | omega | (dsimp only [rmD]; omega)) (by first | exact Nat.le_of_ble_eq_true rfl | omega | (dsimp only [rmD]; omega)) (fun H hH => ⟨⟨none, k2⟩, rfl, hH⟩)
    | some y =>
      refine g_aload_n X dX2_firstToFinish_66 rfl (show _ = some (some (Value.ref y.2)) from rfl) ?_
      refine g_aret X (Or.inl ⟨_, rfl⟩) (Or.inr ⟨_, rfl⟩) dX2_firstToFinish_67 rfl (by first | exact Nat.le_of_ble_eq_true rfl | omega | (dsimp only [rmD]; omega)) (by first | exact Nat.le_of_ble_eq_true rfl | omega | (dsimp only [rmD]; omega)) (fun H hH => ⟨⟨some y, k2⟩, rfl, hH⟩)
  · rw [nI_leI (by omega) (by omega)] at c_12
    have hlt : k < nB σ := by omega
    obtain ⟨yb, y1, y2⟩ := hS.bo hlt
    have bb := hB.bo hlt
    have e1 : aBest σ lo (k + 1) = cH (lo ≤ boT σ k) (min (aBest σ lo k) (boE σ k)) (aBest σ lo k) := rfl
    have hold : aBest σ lo (k + 1) = aBest σ lo k → bestP σ A lo (k + 1) best := fun e => by
      cases best with
      | none => exact e.trans k2
      | some y => exact ⟨Nat.lt_succ_of_lt k2.1, k2.2.1, k2.2.2.1, k2.2.2.2.trans e.symm⟩
    have old : aBest σ lo (k + 1) = aBest σ lo k → GJ Ω p l e (rmD 8 0 0) s m #[.ref a, .int (nI lo)] below meth c 5 (MM Ω below (QV (fun x : {x : Option (Nat × Nat) // bestP σ A lo (nB σ) x} => some (va_rf (x.1.map (·.2)))) (fun _ => hL Ω Γ)) nX #[.ref a, .int (nI lo)] s 0 0) (hL Ω Γ) 0 0 58 [some (.ref a), some (.int (nI lo)), some (va_rf (best.map (·.2))), some (.int (nI k)), some (.ref yb)] [] := by
      intro e
      refine g_aload_nq X dX2_firstToFinish_58 rfl rfl ?_
      refine g_astore_nq X dX2_firstToFinish_59 rfl (by decide) rfl rfl ?_
      refine g_iinc X dX2_firstToFinish_60 rfl rfl (by first | exact nI_1 _ | rfl) (by decide) (by cases best <;> rfl) rfl ?_
      refine g_goto (tgt := 4) X dX2_firstToFinish_63 rfl (by decide) ?_
      refine GJ.loc ((fun x : Nat × Option (Nat × Nat) => [some (.ref a), some (.int (nI lo)), some (va_rf (x.2.map (·.2))), some (.int (nI x.1)), none]) (k + 1, best)) (lvle_c rfl (lvle_c rfl (lvle_c rfl (lvle_c rfl (lvle_n lvle_e))))) ?_
      exact ih (k + 1, best) ⟨by dsimp only; omega, hold e⟩ (by dsimp only; omega)
    have new : lo ≤ boT σ k → aBest σ lo (k + 1) = boE σ k → GJ Ω p l e (rmD 8 0 0) s m #[.ref a, .int (nI lo)] below meth c 5 (MM Ω below (QV (fun x : {x : Option (Nat × Nat) // bestP σ A lo (nB σ) x} => some (va_rf (x.1.map (·.2)))) (fun _ => hL Ω Γ)) nX #[.ref a, .int (nI lo)] s 0 0) (hL Ω Γ) 0 0 53 [some (.ref a), some (.int (nI lo)), some (va_rf (best.map (·.2))), some (.int (nI k)), some (.ref yb)] [] := by
      intro hl e
      refine g_aload X dX2_firstToFinish_53 rfl rfl ?_
      refine g_goto (tgt := 59) X dX2_firstToFinish_55 rfl (by decide) ?_
      refine g_astore_n X dX2_firstToFinish_59 rfl (by decide) rfl rfl ?_
      refine g_iinc X dX2_firstToFinish_60 rfl rfl (by first | exact nI_1 _ | rfl) (by decide) rfl rfl ?_
      refine g_goto (tgt := 4) X dX2_firstToFinish_63 rfl (by decide) ?_
      refine GJ.loc ((fun x : Nat × Option (Nat × Nat) => [some (.ref a), some (.int (nI lo)), some (va_rf (x.2.map (·.2))), some (.int (nI x.1)), none]) (k + 1, some (k, yb))) (lvle_c rfl (lvle_c rfl (lvle_c rfl (lvle_c rfl (lvle_n lvle_e))))) ?_
      exact ih (k + 1, some (k, yb)) ⟨by dsimp only; omega, ⟨Nat.lt_succ_self k, hl, y1, e.symm⟩⟩ (by dsimp only; omega)
    refine g_aload_n X dX2_firstToFinish_15 rfl rfl ?_
    refine l_get X dX2_firstToFinish_16 rfl in_X2 (ci := 1) rfl 2 (by decide) q168 (fun _ h => h) hS.st rfl ?_
    refine g_iload_n X dX2_firstToFinish_19 rfl rfl ?_
    refine g_callV X (ct_J2_get hst hmB y1 (by omega)) dX2_firstToFinish_20 rfl (lw_V q294 q295 q296 q70 q297) hyV_J2_get (fun H hH => hL.recvL X.2.2.2.2.2.2.2.1 hH (hmB)) (fun H hH => hH) ⟨Nat.le_of_ble_eq_true rfl, Nat.le_of_ble_eq_true rfl⟩ ⟨by first | exact Nat.le_of_ble_eq_true rfl | omega | (dsimp only [rmD]; omega), by first | exact Nat.le_of_ble_eq_true rfl | omega | (dsimp only [rmD]; omega)⟩ (Nat.le_of_ble_eq_true rfl) rfl (fun x_20 => ?_)
    refine g_cast X dX2_firstToFinish_23 rfl q308 (fun H hH => hL.recv X.2.2.2.2.2.2.2.1 hH (y2) rfl) ?_
    refine g_astore X dX2_firstToFinish_26 rfl (by decide) rfl rfl ?_
    refine g_aload X dX2_firstToFinish_28 rfl rfl ?_
    refine l_getN X dX2_firstToFinish_30 rfl in_X8 (ci := 7) rfl 2 (by decide) "SlidePark" q975 (fun _ h => h) y2 rfl ?_
    refine g_iload_n X dX2_firstToFinish_33 rfl rfl ?_
    refine g_icmp_lt (tgt := 58) X dX2_firstToFinish_34 rfl (by decide) (fun c_34 => ?_) (fun c_34 => ?_)
    · rw [nI_ltI (by omega) (by omega)] at c_34
      exact old (by rw [e1, cH_f (by omega)])
    · rw [nI_ltI (by omega) (by omega)] at c_34
      have hl : lo ≤ boT σ k := by omega
      rw [cH_t hl] at e1
      cases best with
      | none =>
        have k2 : aBest σ lo k = 2147483647 := k2
        refine g_aload_nN X dX2_firstToFinish_37 rfl rfl ?_
        refine g_ifnull X (x := none) (tgt := 53) dX2_firstToFinish_38 rfl (by decide) (fun _ => ?_) (fun y g => by simp at g)
        exact new hl (by rw [e1, k2]; omega)
      | some yo =>
        obtain ⟨q1, q2, q3, q4⟩ := k2
        have b3 := hB.bo (k := yo.1) (by omega)
        have oy := hS.2.2.2.2.1.2 yo.1 yo.2 q3
        refine g_aload_n X dX2_firstToFinish_37 rfl (show _ = some (some (Value.ref yo.2)) from rfl) ?_
        refine g_ifnull X (x := some yo.2) (tgt := 53) dX2_firstToFinish_38 rfl (by decide) (fun g => by simp at g) (fun _ _ => ?_)
        refine g_aload X dX2_firstToFinish_41 rfl rfl ?_
        refine l_getN X dX2_firstToFinish_43 rfl in_X8 (ci := 7) rfl 3 (by decide) "SlidePark" q978 (fun _ h => h) y2 rfl ?_
        refine g_aload_n X dX2_firstToFinish_46 rfl (show _ = some (some (Value.ref yo.2)) from rfl) ?_
        refine l_getN X dX2_firstToFinish_47 rfl in_X8 (ci := 7) rfl 3 (by decide) "SlidePark" q978 (fun _ h => h) oy rfl ?_
        refine g_icmp_ge (tgt := 58) X dX2_firstToFinish_50 rfl (by decide) (fun c_50 => ?_) (fun c_50 => ?_)
        · rw [nI_leI (by omega) (by omega)] at c_50
          exact old (by rw [e1]; omega)
        · rw [nI_leI (by omega) (by omega)] at c_50
          exact new hl (by rw [e1]; omega)
theorem ct_X2_mostWatched (hst : l.stackTraces = false) (hS : SR Ω Γ0 Γ a A σ) (hB : Bd σ) : CM Ω l yX2_mostWatched (ws_ yX2_mostWatched cX2_mostWatched 4 (some .int)) 10 0 0 [.ref a] (hL Ω Γ) (QP (some (.int (nI (aWatch σ)))) (hL Ω Γ)) nX := by
  have b1 := hB.1
  refine CM.of (L := [some (.ref a), none, none, none]) hst (by decide) (Nat.le_of_ble_eq_true rfl) rfl ?_
  intro p e s m below meth c X hnm htab
  refine g_iconst X dX2_mostWatched_0 rfl (v := (nI 0)) rfl ?_
  refine g_istore_n X dX2_mostWatched_1 rfl (by decide) rfl rfl ?_
  refine g_iconst X dX2_mostWatched_2 rfl (v := (nI 0)) rfl ?_
  refine g_istore_n X dX2_mostWatched_3 rfl (by decide) rfl rfl ?_
  refine g_aload_n X dX2_mostWatched_4 rfl rfl ?_
  refine g_iload_n X dX2_mostWatched_5 rfl rfl ?_
  refine g_callV X (ct_X2_firstToFinish hst hS hB (lo := 0) (by omega)) dX2_mostWatched_6 rfl (lw_V q289 q291 qs0 q67 q292) hyV_X2_firstToFinish (fun H hH => hL.recv X.2.2.2.2.2.2.2.1 hH (hS.st) rfl) (fun H hH => hH) ⟨Nat.le_of_ble_eq_true rfl, Nat.le_of_ble_eq_true rfl⟩ ⟨by first | exact Nat.le_of_ble_eq_true rfl | omega | (dsimp only [rmD]; omega), by first | exact Nat.le_of_ble_eq_true rfl | omega | (dsimp only [rmD]; omega)⟩ (Nat.le_of_ble_eq_true rfl) rfl (fun x0 => ?_)
  obtain ⟨nx, hnx⟩ := x0
  dsimp only
  refine g_astore_nq X dX2_mostWatched_9 rfl (by decide) rfl rfl ?_
  refine GJ.loc ((fun x : Nat × Nat × Nat × Option (Nat × Nat) => [some (.ref a), some (.int (nI x.2.2.1)), some (.int (nI x.2.1)), some (va_rf (x.2.2.2.map (·.2)))]) (nB σ + 1, 0, 0, nx)) (lvle_c rfl (lvle_c rfl (lvle_c rfl (lvle_c rfl lvle_e)))) ?_
  refine GJ.loopP (fun x : Nat × Nat × Nat × Option (Nat × Nat) => [some (.ref a), some (.int (nI x.2.2.1)), some (.int (nI x.2.1)), some (va_rf (x.2.2.2.map (·.2)))]) (fun x => x.1) (fun x => aWat σ x.1 x.2.1 x.2.2.1 = aWatch σ ∧ cN (fun k => x.2.1 ≤ boT σ k) (nB σ) < x.1 ∧ bestP σ A x.2.1 (nB σ) x.2.2.2) (nB σ + 1, 0, 0, nx) ⟨rfl, Nat.lt_succ_of_le (cN_le _ _), hnx⟩ ?_
  clear hnx nx
  rintro ⟨n, lo, cnt, nx⟩ ⟨i1, i2, i3⟩ ih
  dsimp only at i1 i2 i3 ih ⊢
  obtain ⟨n', rfl⟩ : ∃ n', n = n' + 1 := ⟨n - 1, by omega⟩
  cases nx with
  | none =>
    have i3 : aBest σ lo (nB σ) = 2147483647 := i3
    rw [aWat, cH_f (by omega)] at i1
    rw [← i1]
    refine g_aload_nN X dX2_mostWatched_10 rfl rfl ?_
    refine g_ifnull X (x := none) (tgt := 31) dX2_mostWatched_11 rfl (by decide) (fun _ => ?_) (fun y g => by simp at g)
    refine g_iload_n X dX2_mostWatched_31 rfl rfl ?_
    refine g_iret X dX2_mostWatched_32 rfl (by first | exact Nat.le_of_ble_eq_true rfl | omega | (dsimp only [rmD]; omega)) (by first | exact Nat.le_of_ble_eq_true rfl | omega | (dsimp only [rmD]; omega)) (fun H hH => ⟨(), rfl, hH⟩)
  | some y =>
    obtain ⟨q1, q2, q3, q4⟩ := i3
    have b3 := hB.bo q1
    have oy := hS.2.2.2.2.1.2 y.1 y.2 q3
    rw [aWat, cH_t (by omega), ← q4] at i1
    refine g_aload_n X dX2_mostWatched_10 rfl (show _ = some (some (Value.ref y.2)) from rfl) ?_
    refine g_ifnull X (x := some y.2) (tgt := 31) dX2_mostWatched_11 rfl (by decide) (fun g => by simp at g) (fun _ _ => ?_)
    refine g_aload_n X dX2_mostWatched_14 rfl (show _ = some (some (Value.ref y.2)) from rfl) ?_
    refine l_getN X dX2_mostWatched_15 rfl in_X8 (ci := 7) rfl 3 (by decide) "SlidePark" q978 (fun _ h => h) oy rfl ?_
    refine g_istore_n X dX2_mostWatched_18 rfl (by decide) rfl rfl ?_
    refine g_iinc X dX2_mostWatched_19 rfl rfl (by first | exact nI_1 _ | rfl) (by decide) rfl rfl ?_
    refine g_aload_n X dX2_mostWatched_22 rfl rfl ?_
    refine g_iload_n X dX2_mostWatched_23 rfl rfl ?_
    refine g_callV X (ct_X2_firstToFinish hst hS hB (lo := boE σ y.1) (by omega)) dX2_mostWatched_24 rfl (lw_V q289 q291 qs0 q67 q292) hyV_X2_firstToFinish (fun H hH => hL.recv X.2.2.2.2.2.2.2.1 hH (hS.st) rfl) (fun H hH => hH) ⟨Nat.le_of_ble_eq_true rfl, Nat.le_of_ble_eq_true rfl⟩ ⟨by first | exact Nat.le_of_ble_eq_true rfl | omega | (dsimp only [rmD]; omega), by first | exact Nat.le_of_ble_eq_true rfl | omega | (dsimp only [rmD]; omega)⟩ (Nat.le_of_ble_eq_true rfl) rfl (fun x0 => ?_)
    obtain ⟨nx, hnx⟩ := x0
    dsimp only
    refine g_astore_nq X dX2_mostWatched_27 rfl (by decide) rfl rfl ?_
    refine g_goto (tgt := 10) X dX2_mostWatched_28 rfl (by decide) ?_
    refine GJ.loc ((fun x : Nat × Nat × Nat × Option (Nat × Nat) => [some (.ref a), some (.int (nI x.2.2.1)), some (.int (nI x.2.1)), some (va_rf (x.2.2.2.map (·.2)))]) (n', boE σ y.1, cnt + 1, nx)) (lvle_c rfl (lvle_c rfl (lvle_c rfl (lvle_c rfl lvle_e)))) ?_
    refine ih (n', boE σ y.1, cnt + 1, nx) ⟨i1, ?_, hnx⟩ (Nat.lt_succ_self n')
    show cN (fun k => boE σ y.1 ≤ boT σ k) (nB σ) < n'
    have := cN_lt (P := fun k => boE σ y.1 ≤ boT σ k) (P' := fun k => lo ≤ boT σ k) (n := nB σ) (fun j hj h9 => by omega) q1 q2 (by omega)
    omega
theorem ct_X2_mostAtOnce (hst : l.stackTraces = false) (hS : SR Ω Γ0 Γ a A σ) (hB : Bd σ) : CM Ω l yX2_mostAtOnce (ws_ yX2_mostAtOnce cX2_mostAtOnce 5 (some .int)) 10 0 0 [.ref a] (hL Ω Γ) (QP (some (.int (nI (aOnce σ)))) (hL Ω Γ)) nX := by
  obtain ⟨mB, hmB⟩ := hS.lB
  have b1 := hB.1
  have hcB := hS.cB
  have ha : aOnce σ = mxF (fun one => cN (fun k => boT σ k ≤ boT σ one ∧ boT σ one < boE σ k) (nB σ)) (nB σ) := rfl
  rw [ha]
  generalize hF : (fun one => cN (fun k => boT σ k ≤ boT σ one ∧ boT σ one < boE σ k) (nB σ)) = F
  have hF1 : ∀ one, F one = cN (fun k => boT σ k ≤ boT σ one ∧ boT σ one < boE σ k) (nB σ) := fun one => by rw [← hF]
  have hF2 : ∀ n, mxF F n ≤ 12 := fun n => mxF_le (fun i _ => by rw [hF1]; exact Nat.le_trans (cN_le _ _) b1.2.2.1)
  refine CM.of (L := [some (.ref a), none, none, none, none]) hst (by decide) (Nat.le_of_ble_eq_true rfl) rfl ?_
  intro p e s m below meth c X hnm htab
  refine g_iconst X dX2_mostAtOnce_0 rfl (v := (nI 0)) rfl ?_
  refine g_istore_n X dX2_mostAtOnce_1 rfl (by decide) rfl rfl ?_
  refine g_iconst X dX2_mostAtOnce_2 rfl (v := (nI 0)) rfl ?_
  refine g_istore_n X dX2_mostAtOnce_3 rfl (by decide) rfl rfl ?_
  refine GJ.loc ((fun (one : Nat) => [some (.ref a), some (.int (nI (mxF F one))), some (.int (nI one)), none, none]) 0) (lvle_c rfl (lvle_c rfl (lvle_c rfl (lvle_n (lvle_n lvle_e))))) ?_
  refine GJ.loopP (fun (one : Nat) => [some (.ref a), some (.int (nI (mxF F one))), some (.int (nI one)), none, none]) (fun (one : Nat) => (nB σ - one)) (fun (one : Nat) => (one ≤ nB σ)) 0 (Nat.zero_le _) ?_
  intro one hk ih
  refine g_iload_n X dX2_mostAtOnce_4 rfl rfl ?_
  refine g_aload_n X dX2_mostAtOnce_5 rfl rfl ?_
  refine l_get X dX2_mostAtOnce_6 rfl in_X2 (ci := 1) rfl 2 (by decide) q168 (fun _ h => h) hS.st rfl ?_
  refine g_callV X (ct_J2_size hst hmB) dX2_mostAtOnce_9 rfl (lw_V q293 q270 q271 q70 q272) hyV_J2_size (fun H hH => hL.recvL X.2.2.2.2.2.2.2.1 hH (hmB)) (fun H hH => hH) ⟨Nat.le_of_ble_eq_true rfl, Nat.le_of_ble_eq_true rfl⟩ ⟨by first | exact Nat.le_of_ble_eq_true rfl | omega | (dsimp only [rmD]; omega), by first | exact Nat.le_of_ble_eq_true rfl | omega | (dsimp only [rmD]; omega)⟩ (Nat.le_of_ble_eq_true rfl) rfl (fun x_9 => ?_)
  refine g_icmp_ge (tgt := 90) X dX2_mostAtOnce_12 rfl (by decide) (fun c_12 => ?_) (fun c_12 => ?_)
  · rw [nI_leI (by omega) (by omega)] at c_12
    obtain rfl : one = nB σ := by omega
    refine g_iload_n X dX2_mostAtOnce_90 rfl rfl ?_
    refine g_iret X dX2_mostAtOnce_91 rfl (by first | exact Nat.le_of_ble_eq_true rfl | omega | (dsimp only [rmD]; omega)) (by first | exact Nat.le_of_ble_eq_true rfl | omega | (dsimp only [rmD]; omega)) (fun H hH => ⟨(), rfl, hH⟩)
  · rw [nI_leI (by omega) (by omega)] at c_12
    have hone : one < nB σ := by omega
    obtain ⟨zb, z1, z2⟩ := hS.bo hone
    have bz := hB.bo hone
    refine g_iconst X dX2_mostAtOnce_15 rfl (v := (nI 0)) rfl ?_
    refine g_istore_n X dX2_mostAtOnce_16 rfl (by decide) rfl rfl ?_
    refine g_iconst X dX2_mostAtOnce_17 rfl (v := (nI 0)) rfl ?_
    refine g_istore X dX2_mostAtOnce_18 rfl (by decide) rfl rfl ?_
    refine GJ.loc ((fun k : Nat => [some (.ref a), some (.int (nI (mxF F one))), some (.int (nI one)), some (.int (nI (cN (fun k => boT σ k ≤ boT σ one ∧ boT σ one < boE σ k) k))), some (.int (nI k))]) 0) (lvle_c rfl (lvle_c rfl (lvle_c rfl (lvle_c rfl (lvle_c rfl lvle_e))))) ?_
    refine GJ.loopP (fun k : Nat => [some (.ref a), some (.int (nI (mxF F one))), some (.int (nI one)), some (.int (nI (cN (fun k => boT σ k ≤ boT σ one ∧ boT σ one < boE σ k) k))), some (.int (nI k))]) (fun k => nB σ - k) (fun k => k ≤ nB σ) 0 (Nat.zero_le _) ?_
    intro k hk3 ih2
    try dsimp only at hk3 ih2 ⊢
    have hcl := cN_le (fun k => boT σ k ≤ boT σ one ∧ boT σ one < boE σ k) k
    refine g_iload X dX2_mostAtOnce_20 rfl rfl ?_
    refine g_aload_n X dX2_mostAtOnce_22 rfl rfl ?_
    refine l_get X dX2_mostAtOnce_23 rfl in_X2 (ci := 1) rfl 2 (by decide) q168 (fun _ h => h) hS.st rfl ?_
    refine g_callV X (ct_J2_size hst hmB) dX2_mostAtOnce_26 rfl (lw_V q293 q270 q271 q70 q272) hyV_J2_size (fun H hH => hL.recvL X.2.2.2.2.2.2.2.1 hH (hmB)) (fun H hH => hH) ⟨Nat.le_of_ble_eq_true rfl, Nat.le_of_ble_eq_true rfl⟩ ⟨by first | exact Nat.le_of_ble_eq_true rfl | omega | (dsimp only [rmD]; omega), by first | exact Nat.le_of_ble_eq_true rfl | omega | (dsimp only [rmD]; omega)⟩ (Nat.le_of_ble_eq_true rfl) rfl (fun x_26 => ?_)
    refine g_icmp_ge (tgt := 78) X dX2_mostAtOnce_29 rfl (by decide) (fun c_29 => ?_) (fun c_29 => ?_)
    · rw [nI_leI (by omega) (by omega)] at c_29
      obtain rfl : k = nB σ := by omega
      have h12 := hF2 one
      refine g_iload_n X dX2_mostAtOnce_78 rfl rfl ?_
      refine g_iload_n X dX2_mostAtOnce_79 rfl rfl ?_
      refine g_max X dX2_mostAtOnce_80 rfl q430 (Nat.le_of_ble_eq_true rfl) (Nat.le_of_ble_eq_true rfl) (by first | exact Nat.le_of_ble_eq_true rfl | omega | (dsimp only [rmD]; omega)) (by first | exact Nat.le_of_ble_eq_true rfl | omega | (dsimp only [rmD]; omega)) (show _ = nI (mxF F (one + 1)) by rw [mx_nI (by omega) (by omega), mxF_s, hF1]) ?_
      refine g_istore_n X dX2_mostAtOnce_83 rfl (by decide) rfl rfl ?_
      refine g_iinc X dX2_mostAtOnce_84 rfl rfl (by first | exact nI_1 _ | rfl) (by decide) rfl rfl ?_
      refine g_goto (tgt := 4) X dX2_mostAtOnce_87 rfl (by decide) ?_
      refine GJ.loc [some (.ref a), some (.int (nI (mxF F (one + 1)))), some (.int (nI (one + 1))), none, none] (lvle_c rfl (lvle_c rfl (lvle_c rfl (lvle_n (lvle_n lvle_e))))) ?_
      exact ih (one + 1) (by omega) (by omega)
    · rw [nI_leI (by omega) (by omega)] at c_29
      have hlt : k < nB σ := by omega
      obtain ⟨yb, y1, y2⟩ := hS.bo hlt
      have bb := hB.bo hlt
      refine g_iload_n X dX2_mostAtOnce_32 rfl rfl ?_
      refine g_aload_n X dX2_mostAtOnce_33 rfl rfl ?_
      refine l_get X dX2_mostAtOnce_34 rfl in_X2 (ci := 1) rfl 2 (by decide) q168 (fun _ h => h) hS.st rfl ?_
      refine g_iload X dX2_mostAtOnce_37 rfl rfl ?_
      refine g_callV X (ct_J2_get hst hmB y1 (by omega)) dX2_mostAtOnce_39 rfl (lw_V q294 q295 q296 q70 q297) hyV_J2_get (fun H hH => hL.recvL X.2.2.2.2.2.2.2.1 hH (hmB)) (fun H hH => hH) ⟨Nat.le_of_ble_eq_true rfl, Nat.le_of_ble_eq_true rfl⟩ ⟨by first | exact Nat.le_of_ble_eq_true rfl | omega | (dsimp only [rmD]; omega), by first | exact Nat.le_of_ble_eq_true rfl | omega | (dsimp only [rmD]; omega)⟩ (Nat.le_of_ble_eq_true rfl) rfl (fun x_39 => ?_)
      refine g_cast X dX2_mostAtOnce_42 rfl q308 (fun H hH => hL.recv X.2.2.2.2.2.2.2.1 hH (y2) rfl) ?_
      refine g_aload_n X dX2_mostAtOnce_45 rfl rfl ?_
      refine l_get X dX2_mostAtOnce_46 rfl in_X2 (ci := 1) rfl 2 (by decide) q168 (fun _ h => h) hS.st rfl ?_
      refine g_iload_n X dX2_mostAtOnce_49 rfl rfl ?_
      refine g_callV X (ct_J2_get hst hmB z1 (by omega)) dX2_mostAtOnce_50 rfl (lw_V q294 q295 q296 q70 q297) hyV_J2_get (fun H hH => hL.recvL X.2.2.2.2.2.2.2.1 hH (hmB)) (fun H hH => hH) ⟨Nat.le_of_ble_eq_true rfl, Nat.le_of_ble_eq_true rfl⟩ ⟨by first | exact Nat.le_of_ble_eq_true rfl | omega | (dsimp only [rmD]; omega), by first | exact Nat.le_of_ble_eq_true rfl | omega | (dsimp only [rmD]; omega)⟩ (Nat.le_of_ble_eq_true rfl) rfl (fun x_50 => ?_)
      refine g_cast X dX2_mostAtOnce_53 rfl q308 (fun H hH => hL.recv X.2.2.2.2.2.2.2.1 hH (z2) rfl) ?_
      refine l_getN X dX2_mostAtOnce_56 rfl in_X8 (ci := 7) rfl 2 (by decide) "SlidePark" q975 (fun _ h => h) z2 rfl ?_
      refine g_callV X (ct_X8_isAt hst (by omega) (by omega) (by omega) (by omega) y2) dX2_mostAtOnce_59 rfl (lw_V q441 q442 q443 q94 q444) hyV_X8_isAt (fun H hH => hL.recv X.2.2.2.2.2.2.2.1 hH (y2) rfl) (fun H hH => hH) ⟨Nat.le_of_ble_eq_true rfl, Nat.le_of_ble_eq_true rfl⟩ ⟨by first | exact Nat.le_of_ble_eq_true rfl | omega | (dsimp only [rmD]; omega), by first | exact Nat.le_of_ble_eq_true rfl | omega | (dsimp only [rmD]; omega)⟩ (Nat.le_of_ble_eq_true rfl) rfl (fun x_59 => ?_)
      refine g_if_eq (tgt := 69) X dX2_mostAtOnce_62 rfl (by decide) (fun c_62 => ?_) (fun c_62 => ?_)
      · have hn := bI_0.mp c_62
        refine g_iconst X dX2_mostAtOnce_69 rfl (v := (nI 0)) rfl ?_
        refine g_iadd X dX2_mostAtOnce_70 rfl (by first | exact nI_add _ _ | rfl) ?_
        refine g_istore_n X dX2_mostAtOnce_71 rfl (by decide) rfl rfl ?_
        refine g_iinc X dX2_mostAtOnce_72 rfl rfl (by first | exact nI_1 _ | rfl) (by decide) rfl rfl ?_
        refine g_goto (tgt := 20) X dX2_mostAtOnce_75 rfl (by decide) ?_
        refine GJ.loc ((fun k : Nat => [some (.ref a), some (.int (nI (mxF F one))), some (.int (nI one)), some (.int (nI (cN (fun k => boT σ k ≤ boT σ one ∧ boT σ one < boE σ k) k))), some (.int (nI k))]) (k + 1)) (lvle_c rfl (lvle_c rfl (lvle_c rfl (lvle_c (by rw [cN_f hn]; rfl) (lvle_c rfl lvle_e))))) ?_
        exact ih2 (k + 1) (by omega) (by omega)
      · have hp := bI_n0.mp c_62
        refine g_iconst X dX2_mostAtOnce_65 rfl (v := (nI 1)) rfl ?_
        refine g_goto (tgt := 70) X dX2_mostAtOnce_66 rfl (by decide) ?_
        refine g_iadd X dX2_mostAtOnce_70 rfl (by first | exact nI_add _ _ | rfl) ?_
        refine g_istore_n X dX2_mostAtOnce_71 rfl (by decide) rfl rfl ?_
        refine g_iinc X dX2_mostAtOnce_72 rfl rfl (by first | exact nI_1 _ | rfl) (by decide) rfl rfl ?_
        refine g_goto (tgt := 20) X dX2_mostAtOnce_75 rfl (by decide) ?_
        refine GJ.loc ((fun k : Nat => [some (.ref a), some (.int (nI (mxF F one))), some (.int (nI one)), some (.int (nI (cN (fun k => boT σ k ≤ boT σ one ∧ boT σ one < boE σ k) k))), some (.int (nI k))]) (k + 1)) (lvle_c rfl (lvle_c rfl (lvle_c rfl (lvle_c (by rw [cN_t hp]) (lvle_c rfl lvle_e))))) ?_
        exact ih2 (k + 1) (by omega) (by omega)
theorem ct_X2_photos (hst : l.stackTraces = false) (hS : SR Ω Γ0 Γ a A σ) (hB : Bd σ) : CM Ω l yX2_photos (ws_ yX2_photos cX2_photos 4 (some .int)) 10 0 0 [.ref a] (hL Ω Γ) (QP (some (.int (nI (aPho σ)))) (hL Ω Γ)) nX := by
  obtain ⟨mL, hmL⟩ := hS.lL
  have b1 := hB.1
  have hcF := hS.cF
  rw [aPho_prs]
  refine CM.of (L := [some (.ref a), none, none, none]) hst (by decide) (Nat.le_of_ble_eq_true rfl) rfl ?_
  intro p e s m below meth c X hnm htab
  refine g_iconst X dX2_photos_0 rfl (v := (nI 0)) rfl ?_
  refine g_istore_n X dX2_photos_1 rfl (by decide) rfl rfl ?_
  refine g_iconst X dX2_photos_2 rfl (v := (nI 0)) rfl ?_
  refine g_istore_n X dX2_photos_3 rfl (by decide) rfl rfl ?_
  refine GJ.loc ((fun (one : Nat) => [some (.ref a), some (.int (nI (prs (fiM σ) one))), some (.int (nI one)), none]) 0) (lvle_c rfl (lvle_c rfl (lvle_c rfl (lvle_n lvle_e)))) ?_
  refine GJ.loopP (fun (one : Nat) => [some (.ref a), some (.int (nI (prs (fiM σ) one))), some (.int (nI one)), none]) (fun (one : Nat) => (nF σ - one)) (fun (one : Nat) => (one ≤ nF σ)) 0 (Nat.zero_le _) ?_
  intro one hk ih
  refine g_iload_n X dX2_photos_4 rfl rfl ?_
  refine g_aload_n X dX2_photos_5 rfl rfl ?_
  refine l_get X dX2_photos_6 rfl in_X2 (ci := 1) rfl 3 (by decide) q170 (fun _ h => h) hS.st rfl ?_
  refine g_callV X (ct_X3_size hst hS.lF hmL) dX2_photos_9 rfl (lw_V q473 q461 q462 q71 q463) hyV_X3_size (fun H hH => hL.recv X.2.2.2.2.2.2.2.1 hH (hS.lF) rfl) (fun H hH => hH) ⟨Nat.le_of_ble_eq_true rfl, Nat.le_of_ble_eq_true rfl⟩ ⟨by first | exact Nat.le_of_ble_eq_true rfl | omega | (dsimp only [rmD]; omega), by first | exact Nat.le_of_ble_eq_true rfl | omega | (dsimp only [rmD]; omega)⟩ (Nat.le_of_ble_eq_true rfl) rfl (fun x_9 => ?_)
  refine g_icmp_ge (tgt := 73) X dX2_photos_12 rfl (by decide) (fun c_12 => ?_) (fun c_12 => ?_)
  · rw [nI_leI (by omega) (by omega)] at c_12
    obtain rfl : one = nF σ := by omega
    refine g_iload_n X dX2_photos_73 rfl rfl ?_
    refine g_iret X dX2_photos_74 rfl (by first | exact Nat.le_of_ble_eq_true rfl | omega | (dsimp only [rmD]; omega)) (by first | exact Nat.le_of_ble_eq_true rfl | omega | (dsimp only [rmD]; omega)) (fun H hH => ⟨(), rfl, hH⟩)
  · rw [nI_leI (by omega) (by omega)] at c_12
    have hone : one < nF σ := by omega
    obtain ⟨zb, z1, z2⟩ := hS.fi hone
    have fz := (hB.2.2.2.2.2 one hone).2.2
    refine g_iconst X dX2_photos_15 rfl (v := (nI 0)) rfl ?_
    refine g_istore_n X dX2_photos_16 rfl (by decide) rfl rfl ?_
    refine GJ.loc ((fun k : Nat => [some (.ref a), some (.int (nI (prs (fiM σ) one + cN (fun k => fiM σ one = fiM σ k) k))), some (.int (nI one)), some (.int (nI k))]) 0) (lvle_c rfl (lvle_c rfl (lvle_c rfl (lvle_c rfl lvle_e)))) ?_
    refine GJ.loopP (fun k : Nat => [some (.ref a), some (.int (nI (prs (fiM σ) one + cN (fun k => fiM σ one = fiM σ k) k))), some (.int (nI one)), some (.int (nI k))]) (fun k => one - k) (fun k => k ≤ one) 0 (Nat.zero_le _) ?_
    intro k hk3 ih2
    try dsimp only at hk3 ih2 ⊢
    refine g_iload_n X dX2_photos_17 rfl rfl ?_
    refine g_iload_n X dX2_photos_18 rfl rfl ?_
    refine g_icmp_ge (tgt := 67) X dX2_photos_19 rfl (by decide) (fun c_19 => ?_) (fun c_19 => ?_)
    · rw [nI_leI (by omega) (by omega)] at c_19
      obtain rfl : k = one := by omega
      refine g_iinc X dX2_photos_67 rfl rfl (by first | exact nI_1 _ | rfl) (by decide) rfl rfl ?_
      refine g_goto (tgt := 4) X dX2_photos_70 rfl (by decide) ?_
      refine GJ.loc [some (.ref a), some (.int (nI (prs (fiM σ) (k + 1)))), some (.int (nI (k + 1))), none] (lvle_c rfl (lvle_c rfl (lvle_c rfl (lvle_n lvle_e)))) ?_
      exact ih (k + 1) (by omega) (by omega)
    · rw [nI_leI (by omega) (by omega)] at c_19
      have hlt : k < nF σ := by omega
      obtain ⟨yb, y1, y2⟩ := hS.fi hlt
      have fy := (hB.2.2.2.2.2 k hlt).2.2
      refine g_iload_n X dX2_photos_22 rfl rfl ?_
      refine g_aload_n X dX2_photos_23 rfl rfl ?_
      refine l_get X dX2_photos_24 rfl in_X2 (ci := 1) rfl 3 (by decide) q170 (fun _ h => h) hS.st rfl ?_
      refine g_iload_n X dX2_photos_27 rfl rfl ?_
      refine g_callV X (ct_X3_get hst hS.lF hmL (by omega) z1) dX2_photos_28 rfl (lw_V q474 q475 q476 q71 q477) hyV_X3_get (fun H hH => hL.recv X.2.2.2.2.2.2.2.1 hH (hS.lF) rfl) (fun H hH => hH) ⟨Nat.le_of_ble_eq_true rfl, Nat.le_of_ble_eq_true rfl⟩ ⟨by first | exact Nat.le_of_ble_eq_true rfl | omega | (dsimp only [rmD]; omega), by first | exact Nat.le_of_ble_eq_true rfl | omega | (dsimp only [rmD]; omega)⟩ (Nat.le_of_ble_eq_true rfl) rfl (fun x_28 => ?_)
      refine g_cast X dX2_photos_31 rfl q479 (fun H hH => hL.recv X.2.2.2.2.2.2.2.1 hH (z2) rfl) ?_
      refine l_getN X dX2_photos_34 rfl in_X9 (ci := 8) rfl 2 (by decide) "SlidePark" q1203 (fun _ h => h) z2 rfl ?_
      refine g_aload_n X dX2_photos_37 rfl rfl ?_
      refine l_get X dX2_photos_38 rfl in_X2 (ci := 1) rfl 3 (by decide) q170 (fun _ h => h) hS.st rfl ?_
      refine g_iload_n X dX2_photos_41 rfl rfl ?_
      refine g_callV X (ct_X3_get hst hS.lF hmL (by omega) y1) dX2_photos_42 rfl (lw_V q474 q475 q476 q71 q477) hyV_X3_get (fun H hH => hL.recv X.2.2.2.2.2.2.2.1 hH (hS.lF) rfl) (fun H hH => hH) ⟨Nat.le_of_ble_eq_true rfl, Nat.le_of_ble_eq_true rfl⟩ ⟨by first | exact Nat.le_of_ble_eq_true rfl | omega | (dsimp only [rmD]; omega), by first | exact Nat.le_of_ble_eq_true rfl | omega | (dsimp only [rmD]; omega)⟩ (Nat.le_of_ble_eq_true rfl) rfl (fun x_42 => ?_)
      refine g_cast X dX2_photos_45 rfl q479 (fun H hH => hL.recv X.2.2.2.2.2.2.2.1 hH (y2) rfl) ?_
      refine l_getN X dX2_photos_48 rfl in_X9 (ci := 8) rfl 2 (by decide) "SlidePark" q1203 (fun _ h => h) y2 rfl ?_
      refine g_icmp_ne (tgt := 58) X dX2_photos_51 rfl (by decide) (fun c_51 => ?_) (fun c_51 => ?_)
      · rw [nI_eq (by omega) (by omega)] at c_51
        refine g_iconst X dX2_photos_58 rfl (v := (nI 0)) rfl ?_
        refine g_iadd X dX2_photos_59 rfl (by first | exact nI_add _ _ | rfl) ?_
        refine g_istore_n X dX2_photos_60 rfl (by decide) rfl rfl ?_
        refine g_iinc X dX2_photos_61 rfl rfl (by first | exact nI_1 _ | rfl) (by decide) rfl rfl ?_
        refine g_goto (tgt := 17) X dX2_photos_64 rfl (by decide) ?_
        refine GJ.loc ((fun k : Nat => [some (.ref a), some (.int (nI (prs (fiM σ) one + cN (fun k => fiM σ one = fiM σ k) k))), some (.int (nI one)), some (.int (nI k))]) (k + 1)) (lvle_c rfl (lvle_c (by rw [cN_f (P := fun k => fiM σ one = fiM σ k) c_51]; rfl) (lvle_c rfl (lvle_c rfl lvle_e)))) ?_
        exact ih2 (k + 1) (by omega) (by omega)
      · rw [nI_eq (by omega) (by omega)] at c_51
        refine g_iconst X dX2_photos_54 rfl (v := (nI 1)) rfl ?_
        refine g_goto (tgt := 59) X dX2_photos_55 rfl (by decide) ?_
        refine g_iadd X dX2_photos_59 rfl (by first | exact nI_add _ _ | rfl) ?_
        refine g_istore_n X dX2_photos_60 rfl (by decide) rfl rfl ?_
        refine g_iinc X dX2_photos_61 rfl rfl (by first | exact nI_1 _ | rfl) (by decide) rfl rfl ?_
        refine g_goto (tgt := 17) X dX2_photos_64 rfl (by decide) ?_
        refine GJ.loc ((fun k : Nat => [some (.ref a), some (.int (nI (prs (fiM σ) one + cN (fun k => fiM σ one = fiM σ k) k))), some (.int (nI one)), some (.int (nI k))]) (k + 1)) (lvle_c rfl (lvle_c (by rw [cN_t (P := fun k => fiM σ one = fiM σ k) c_51]; rfl) (lvle_c rfl (lvle_c rfl lvle_e)))) ?_
        exact ih2 (k + 1) (by omega) (by omega)
end E1
