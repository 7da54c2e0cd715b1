/-! STRINGBUILDER: the digits of a number; room; AbstractStringBuilder's methods -/
/-- all but b and v stays; the bytes now lie at v' -/
def SBK (b v : Nat) (Γ Γ' : LH) (v' : Nat) : Prop := (∀ q u, Γ q = some u → q ≠ b → q ≠ v → Γ' q = some u) ∧ (v' = v ∨ Γ v' = none)
theorem SBK.rf {b v : Nat} {Γ : LH} : SBK b v Γ Γ v := ⟨fun _ _ h _ _ => h, Or.inl rfl⟩
theorem SBK.tr {b v v1 v2 : Nat} {Γ Γ1 Γ2 : LH} (h : SBK b v Γ Γ1 v1) (hb : ∃ u, Γ1 b = some u) (h' : SBK b v1 Γ1 Γ2 v2) : SBK b v Γ Γ2 v2 := by
  refine ⟨fun q u hq n1 n2 => h'.1 q u (h.1 q u hq n1 n2) n1 (fun z => ?_), ?_⟩
  · rcases h.2 with g | g
    · exact n2 (z.trans g)
    · rw [z, g] at hq; simp at hq
  · rcases h'.2 with g | g
    · rw [g]; exact h.2
    · by_cases hv : v2 = v
      · exact Or.inl hv
      · refine Or.inr ?_
        cases hq : Γ v2 with
        | none => rfl
        | some u =>
          have hne : v2 ≠ b := fun z => by
            obtain ⟨u', hu'⟩ := hb
            rw [z, hu'] at g; simp at g
          have := h.1 v2 u hq hne hv
          rw [this] at g; simp at g
theorem SBK.put {b v v1 : Nat} {Γ Γ1 : LH} (h : SBK b v Γ Γ1 v1) {c : LE} (hc : c = c) : SBK b v Γ (hu Γ1 b c) v1 := ⟨fun q u hq n1 n2 => (hu_n n1).trans (h.1 q u hq n1 n2), h.2⟩
theorem SBK.putv {b v v1 : Nat} {Γ Γ1 : LH} (h : SBK b v Γ Γ1 v1) {c : LE} (hc : c = c) : SBK b v Γ (hu Γ1 v1 c) v1 := ⟨fun q u hq n1 n2 => (hu_n (fun z => (h.2.elim (fun g => n2 (z.trans g)) (fun g => by rw [z, g] at hq; simp at hq)))).trans (h.1 q u hq n1 n2), h.2⟩
/-- the parts of a StringBuilder -/
abbrev SBp (Ω : Om) (Γ : LH) (b v cap : Nat) (f : Nat → Int32) (mb n : Int32) : Prop := isO Γ b 13 [.ref v, .int 0, .int mb, .int n] ∧ Γ v = some (.inl (cI Ω 2 cap f)) ∧ sb_Fit f ∧ 16 ≤ cap ∧ cap ≤ 1000
theorem dec_dg : ∀ (k n : Nat), n < k → n < 2 ^ 31 → (dec n).length = sb_dg n
  | 0, _, h, _ => absurd h (Nat.not_lt_zero _)
  | k + 1, n, h, h2 => by
    by_cases h9 : n ≤ 9
    · rw [dec_s h9]; unfold sb_dg; rw [if_pos (by omega)]; rfl
    · rw [dec_m h9, List.length_append, dec_dg k (n / 10) (by omega) (by omega)]
      show sb_dg (n / 10) + 1 = _
      unfold sb_dg
      (repeat' split) <;> omega
theorem dec_at : ∀ (k n : Nat), n < k → n < 2 ^ 31 → ∀ i, i < sb_dg n → (dec n).getD (sb_dg n - 1 - i) 0 = 48 + n / 10 ^ i % 10
  | 0, _, h, _ => absurd h (Nat.not_lt_zero _)
  | k + 1, n, h, h2 => fun i hi => by
    have hl := dec_dg (k + 1) n h h2
    by_cases h9 : n ≤ 9
    · have hd : sb_dg n = 1 := by unfold sb_dg; rw [if_pos (by omega)]
      obtain rfl : i = 0 := by omega
      rw [dec_s h9, hd, Nat.pow_zero, Nat.div_one]; rfl
    · have hl2 := dec_dg k (n / 10) (by omega) (by omega)
      have hm := dec_m h9
      have hs : sb_dg n = sb_dg (n / 10) + 1 := by rw [← hl, hm, List.length_append, hl2]; rfl
      rw [hm]
      cases i with
      | zero =>
        rw [Nat.pow_zero, Nat.div_one, List.getD_eq_getElem?_getD, List.getElem?_append_right (by omega), show sb_dg n - 1 - 0 - (dec (n / 10)).length = 0 by omega]
        rfl
      | succ i =>
        have ih := dec_at k (n / 10) (by omega) (by omega) i (by omega)
        rw [List.getD_eq_getElem?_getD, List.getElem?_append_left (by omega), ← List.getD_eq_getElem?_getD, show sb_dg n - 1 - (i + 1) = sb_dg (n / 10) - 1 - i by omega, ih, Nat.div_div_eq_div_mul, Nat.pow_succ, Nat.mul_comm]
theorem dec_lt : ∀ (k n : Nat), n < k → ∀ x ∈ dec n, x < 128
  | 0, _, h => absurd h (Nat.not_lt_zero _)
  | k + 1, n, h => fun x hx => by
    by_cases h9 : n ≤ 9
    · rw [dec_s h9, List.mem_singleton] at hx; omega
    · rw [dec_m h9, List.mem_append, List.mem_singleton] at hx
      rcases hx with hx | hx
      · exact dec_lt k (n / 10) (by omega) x hx
      · omega
theorem nb_b (k : Nat) : vp_nar .byte (nI k) = sb_b k := vp_nar_byte _
theorem tO {r : Nat} (h : r < 100) : dgO (nI r).toNatClampNeg = .int (nI (48 + r % 10)) := by rw [nI_clamp (by omega)]; rfl
theorem tT {r : Nat} (h : r < 100) : dgT (nI r).toNatClampNeg = .int (nI (48 + r / 10)) := by rw [nI_clamp (by omega)]; rfl
section SBX
variable {Ω : Om} {p : Program} {l : Launch} {s : State} {m : MethodId} {args : Array Value} {meth : Method} {c : Code} {own : String} {cc : ByteArray} {nL : Nat} {ret : Option FieldType}
theorem Fx.tabO (X : Fx Ω p l s m args meth c own cc nL ret) : va_T .byte (oM Ω 340) 100 dgO (oA Ω) s s.heap := X.2.2.2.2.2.2.2.1.2.2.2.2.2.2.2.2.2.2.1 (.byte, oM Ω 340, 100, dgO) (List.mem_cons_of_mem _ (List.mem_cons_of_mem _ List.mem_cons_self))
theorem Fx.tabT (X : Fx Ω p l s m args meth c own cc nL ret) : va_T .byte (oM Ω 341) 100 dgT (oA Ω) s s.heap := X.2.2.2.2.2.2.2.1.2.2.2.2.2.2.2.2.2.2.1 (.byte, oM Ω 341, 100, dgT) (List.mem_cons_of_mem _ (List.mem_cons_of_mem _ (List.mem_cons_of_mem _ List.mem_cons_self)))
end SBX
section SB1
variable {l : Launch} {Ω : Om} {Γ : LH} {I : Heap → Prop} {b v n cap : Nat} {f : Nat → Int32} {mb n0 : Int32}
set_option maxRecDepth 100000
theorem ct_J21_stringSize (hst : l.stackTraces = false) {w : Nat} (hw : w < 1000000) : CM Ω l yJ21_stringSize (ws_ yJ21_stringSize cJ21_stringSize 4 (some .int)) 2 0 0 [.int (nI w)] I (QP (some (.int (nI (sb_dg w)))) I) nX := by
  refine CM.of (L := [some (.int (nI w)), none, none, none]) hst (by decide) (Nat.le_of_ble_eq_true rfl) rfl ?_
  intro p e s m below meth c X hnm htab
  refine g_iconst X dJ21_stringSize_0 rfl (v := (nI 1)) rfl ?_
  refine g_istore_n X dJ21_stringSize_1 rfl (by decide) rfl rfl ?_
  refine g_iload_n X dJ21_stringSize_2 rfl rfl ?_
  refine g_if_lt (tgt := 11) X dJ21_stringSize_3 rfl (by decide) (fun c => absurd c (nI_pos (by omega))) (fun c_3 => ?_)
  refine g_iconst X dJ21_stringSize_6 rfl (v := (nI 0)) rfl ?_
  refine g_istore_n X dJ21_stringSize_7 rfl (by decide) rfl rfl ?_
  refine g_iload_n X dJ21_stringSize_8 rfl rfl ?_
  refine g_ineg X dJ21_stringSize_9 rfl (rfl : -nI w = -nI w) ?_
  refine g_istore_n X dJ21_stringSize_10 rfl (by decide) rfl rfl ?_
  refine g_bipush X dJ21_stringSize_11 rfl (v := (-nI (10 ^ 1))) (by decide) ?_
  refine g_istore_n X dJ21_stringSize_13 rfl (by decide) rfl rfl ?_
  refine g_iconst X dJ21_stringSize_14 rfl (v := (nI 1)) rfl ?_
  refine g_istore_n X dJ21_stringSize_15 rfl (by decide) rfl rfl ?_
  refine GJ.loc ((fun (k : Nat) => [some (.int (-nI w)), some (.int (nI 0)), some (.int (-nI (10 ^ k))), some (.int (nI k))]) 1) (lvle_c rfl (lvle_c rfl (lvle_c rfl (lvle_c rfl lvle_e)))) ?_
  refine GJ.loopP (fun (k : Nat) => [some (.int (-nI w)), some (.int (nI 0)), some (.int (-nI (10 ^ k))), some (.int (nI k))]) (fun (k : Nat) => (7 - k)) (fun (k : Nat) => (1 ≤ k ∧ k ≤ 7 ∧ (k = 1 ∨ 10 ^ (k - 1) ≤ w))) 1 ⟨by decide, by decide, Or.inl rfl⟩ ?_
  intro k hk ih
  obtain ⟨h1, h2, h3⟩ := hk
  have h7 : k ≤ 6 := by
    rcases Nat.lt_or_ge k 7 with g | g
    · omega
    · obtain rfl : k = 7 := by omega
      rcases h3 with g3 | g3
      · omega
      · have : 10 ^ (7 - 1) = 1000000 := by decide
        omega
  have hP : 10 ^ k ≤ 1000000 := Nat.le_trans (Nat.pow_le_pow_right (by decide) h7) (by decide)
  refine g_iload_n X dJ21_stringSize_16 rfl rfl ?_
  refine g_bipush X dJ21_stringSize_17 rfl (v := (nI 10)) (by decide) ?_
  refine g_icmp_ge (tgt := 42) X dJ21_stringSize_19 rfl (by decide) (fun c => absurd ((nI_leI (by omega) (by omega)).mp c) (by omega)) (fun c_19 => ?_)
  refine g_iload_n X dJ21_stringSize_22 rfl rfl ?_
  refine g_iload_n X dJ21_stringSize_23 rfl rfl ?_
  refine g_icmp_le (tgt := 31) X dJ21_stringSize_24 rfl (by decide) (fun c_24 => ?_) (fun c_24 => ?_)
  · rw [sb_nle (by omega) (by omega)] at c_24
    refine g_bipush X dJ21_stringSize_31 rfl (v := (nI 10)) (by decide) ?_
    refine g_iload_n X dJ21_stringSize_33 rfl rfl ?_
    refine g_imul X dJ21_stringSize_34 rfl (show nI 10 * -nI (10 ^ k) = -nI (10 ^ (k + 1)) by rw [Int32.mul_neg, pk_mul, Nat.pow_succ, Nat.mul_comm]) ?_
    refine g_istore_n X dJ21_stringSize_35 rfl (by decide) rfl rfl ?_
    refine g_iinc X dJ21_stringSize_36 rfl rfl (by first | exact nI_1 _ | rfl) (by decide) rfl rfl ?_
    refine g_goto (tgt := 16) X dJ21_stringSize_39 rfl (by decide) ?_
    exact ih (k + 1) ⟨by omega, by omega, Or.inr c_24⟩ (by omega)
  · rw [sb_nle (by omega) (by omega)] at c_24
    have he : k + 0 = sb_dg w := by
      have hk' : k = 1 ∨ k = 2 ∨ k = 3 ∨ k = 4 ∨ k = 5 ∨ k = 6 := by omega
      rcases hk' with rfl | rfl | rfl | rfl | rfl | rfl <;> (unfold sb_dg; (repeat' split) <;> omega)
    refine g_iload_n X dJ21_stringSize_27 rfl rfl ?_
    refine g_iload_n X dJ21_stringSize_28 rfl rfl ?_
    refine g_iadd X dJ21_stringSize_29 rfl (by first | exact nI_add _ _ | rfl) ?_
    refine g_iret X dJ21_stringSize_30 rfl (by first | exact Nat.le_of_ble_eq_true rfl | omega | (dsimp only [rmD]; omega)) (by first | exact Nat.le_of_ble_eq_true rfl | omega | (dsimp only [rmD]; omega)) (fun H hH => ⟨(), by rw [he], hH⟩)
theorem ct_J22_canEncode (hst : l.stackTraces = false) {w : Nat} (hw : w < 128) : CM Ω l yJ22_canEncode (ws_ yJ22_canEncode cJ22_canEncode 1 (some .boolean)) 2 0 0 [.int (nI w)] I (QP (some (.int (nI 1))) I) nX := by
  refine CM.of (L := [some (.int (nI w))]) hst (by decide) (Nat.le_of_ble_eq_true rfl) rfl ?_
  intro p e s m below meth c X hnm htab
  refine g_iload_n X dJ22_canEncode_0 rfl rfl ?_
  refine g_sipush X dJ22_canEncode_1 rfl (v := (nI 255)) (by decide) ?_
  refine g_icmp_gt (tgt := 11) X dJ22_canEncode_4 rfl (by decide) (fun c => absurd c (nI_nlt (by omega) (by decide))) (fun c_4 => ?_)
  refine g_iconst X dJ22_canEncode_7 rfl (v := (nI 1)) rfl ?_
  refine g_goto (tgt := 12) X dJ22_canEncode_8 rfl (by decide) ?_
  refine g_zret X dJ22_canEncode_12 rfl rfl (by first | exact Nat.le_of_ble_eq_true rfl | omega | (dsimp only [rmD]; omega)) (by first | exact Nat.le_of_ble_eq_true rfl | omega | (dsimp only [rmD]; omega)) (fun H hH => ⟨(), rfl, hH⟩)
abbrev gcP (f : Nat → Int32) (n p0 w : Nat) (f' : Nat → Int32) : Prop := (∀ j, j < n ∨ p0 ≤ j → f' j = f j) ∧ (∀ i, i < sb_dg w → f' (p0 - 1 - i) = sb_b (48 + w / 10 ^ i % 10)) ∧ (sb_Fit f → sb_Fit f')
theorem ct_J21_getChars (hst : l.stackTraces = false) (ha : Γ v = some (.inl (cI Ω 2 cap f))) {w p0 : Nat} (hw : w < 1000000) (hp0 : p0 = n + sb_dg w) (hcp : p0 ≤ cap) (hc : cap ≤ 1000) : CM Ω l yJ21_getChars (ws_ yJ21_getChars cJ21_getChars 7 (some .int)) 2 0 0 [.int (nI w), .int (nI p0), .ref v] (hL Ω Γ) (QV (fun _ : {f' : Nat → Int32 // gcP f n p0 w f'} => some (.int (nI n))) (fun y => hL Ω (hu Γ v (.inl (cI Ω 2 cap y.1))))) nX := by
  refine CM.of (L := [some (.int (nI w)), some (.int (nI p0)), some (.ref v), none, none, none, none]) hst (by decide) (Nat.le_of_ble_eq_true rfl) rfl ?_
  intro p e s m below meth c X hnm htab
  refine g_iload_n X dJ21_getChars_0 rfl rfl ?_
  refine g_istore X dJ21_getChars_1 rfl (by decide) rfl rfl ?_
  refine g_iload_n X dJ21_getChars_3 rfl rfl ?_
  refine g_if_ge (tgt := 11) X dJ21_getChars_4 rfl (by decide) (fun c_4 => ?_) (fun c => absurd ((nI_leI (a := 0) (by omega) (by omega)).mpr (Nat.zero_le _)) c)
  refine g_iconst X dJ21_getChars_11 rfl (v := (nI 0)) rfl ?_
  refine g_istore X dJ21_getChars_12 rfl (by decide) rfl rfl ?_
  refine g_iload X dJ21_getChars_14 rfl rfl ?_
  refine g_if_ne (tgt := 22) X dJ21_getChars_16 rfl (by decide) (fun c => absurd c (by decide)) (fun c_16 => ?_)
  refine g_iload_n X dJ21_getChars_19 rfl rfl ?_
  refine g_ineg X dJ21_getChars_20 rfl (rfl : -nI w = -nI w) ?_
  refine g_istore_n X dJ21_getChars_21 rfl (by decide) rfl rfl ?_
  refine GJ.loc ((fun y : Nat × Nat × (Nat → Int32) => [some (.int (-nI y.1)), some (.int (nI p0)), some (.ref v), none, none, some (.int (nI y.2.1)), some (.int (nI 0))]) (w, p0, f)) (lvle_c rfl (lvle_c rfl (lvle_c rfl (lvle_n (lvle_n (lvle_c rfl (lvle_c rfl lvle_e))))))) ?_
  refine GJ.imp (I' := hL Ω (hu Γ v (.inl (cI Ω 2 cap f)))) (fun H hH => by rw [show hu Γ v (.inl (cI Ω 2 cap f)) = Γ from funext (fun q => by by_cases h : q = v <;> simp [hu, h, ha])]; exact hH) ?_
  refine GJ.loop (fun y : Nat × Nat × (Nat → Int32) => hL Ω (hu Γ v (.inl (cI Ω 2 cap y.2.2)))) (fun _ => 0) (fun _ => 0) (fun y : Nat × Nat × (Nat → Int32) => [some (.int (-nI y.1)), some (.int (nI p0)), some (.ref v), none, none, some (.int (nI y.2.1)), some (.int (nI 0))]) (fun y => y.1) (fun y => y.1 ≤ w ∧ y.2.1 = n + sb_dg y.1 ∧ y.2.1 ≤ cap ∧ ∀ a', (∀ j, j < n ∨ y.2.1 ≤ j → a' j = y.2.2 j) → (∀ i, i < sb_dg y.1 → a' (y.2.1 - 1 - i) = sb_b (48 + y.1 / 10 ^ i % 10)) → (sb_Fit y.2.2 → sb_Fit a') → gcP f n p0 w a') (w, p0, f) ⟨Nat.le_refl _, hp0, hcp, fun a' h1 h2 h3 => ⟨h1, h2, h3⟩⟩ ?_
  intro ⟨w', p', a⟩ hk ih
  dsimp only at hk ih ⊢
  obtain ⟨k1, k2, k3, k4⟩ := hk
  have hd1 := (sb_dg_in w').1
  have hda : hu Γ v (.inl (cI Ω 2 cap a)) v = some (.inl (cI Ω 2 cap a)) := hu_s _ _ _
  have e1 : -(-nI w') = nI w' := Int32.neg_neg
  refine g_iload_n X dJ21_getChars_22 rfl rfl ?_
  refine g_bipush X dJ21_getChars_23 rfl (v := (-nI 100)) (by decide) ?_
  refine g_icmp_gt (tgt := 72) X dJ21_getChars_25 rfl (by decide) (fun c_25 => ?_) (fun c_25 => ?_)
  · rw [sb_nlt (by decide) (by omega)] at c_25
    refine g_aload_n X dJ21_getChars_72 rfl rfl ?_
    refine g_iinc X dJ21_getChars_73 rfl rfl (sb_m1 (by omega)) (by decide) rfl rfl ?_
    refine g_iload X dJ21_getChars_76 rfl rfl ?_
    refine g_gets X (v := .ref (oM Ω 340)) dJ21_getChars_78 rfl (by simp [stl]) q1741 (fun _ h => h) ?_
    refine g_iload_n X dJ21_getChars_81 rfl rfl ?_
    refine g_ineg X dJ21_getChars_82 rfl e1 ?_
    refine g_tb X dJ21_getChars_83 rfl X.tabO (vp_in_nI (by omega) (by omega)) (tO c_25) ?_
    refine l_bas X dJ21_getChars_84 rfl hda (vp_in_nI (by omega) (by omega)) (by rw [hu_hu, nI_clamp (by omega), nb_b]) ?_
    have hdb : ∀ a2 : Nat → Int32, hu Γ v (.inl (cI Ω 2 cap a2)) v = some (.inl (cI Ω 2 cap a2)) := fun a2 => hu_s _ _ _
    refine g_iload_n X dJ21_getChars_85 rfl rfl ?_
    refine g_bipush X dJ21_getChars_86 rfl (v := (-nI 9)) (by decide) ?_
    refine g_icmp_ge (tgt := 104) X dJ21_getChars_88 rfl (by decide) (fun c_88 => ?_) (fun c_88 => ?_)
    · rw [sb_nle (by decide) (by omega)] at c_88
      have hd : sb_dg w' = 1 := if_pos (by omega)
      refine g_iload X dJ21_getChars_104 rfl rfl ?_
      refine g_if_eq (tgt := 118) X dJ21_getChars_106 rfl (by decide) (fun c_106 => ?_) (fun c => absurd rfl c)
      refine g_iload X dJ21_getChars_118 rfl rfl ?_
      refine g_iret X dJ21_getChars_120 rfl (by first | exact Nat.le_of_ble_eq_true rfl | omega | (dsimp only [rmD]; omega)) (by first | exact Nat.le_of_ble_eq_true rfl | omega | (dsimp only [rmD]; omega)) (fun H hH => ⟨⟨upd a (p' - 1) (sb_b (48 + w' % 10)), k4 _ (fun j hj => pk_un (by omega)) (fun i hi => by obtain rfl : i = 0 := (by omega); rw [Nat.sub_zero, pk_us, Nat.pow_zero, Nat.div_one]) (fun hf => sb_fitU hf (sb_fitB _))⟩, congrArg (fun z => some (Value.int (nI z))) (show p' - 1 = n by omega), hH⟩)
    · rw [sb_nle (by decide) (by omega)] at c_88
      have hd : sb_dg w' = 2 := by rw [sb_dg, if_neg (by omega), if_pos c_25]
      refine g_aload_n X dJ21_getChars_91 rfl rfl ?_
      refine g_iinc X dJ21_getChars_92 rfl rfl (sb_m1 (by omega)) (by decide) rfl rfl ?_
      refine g_iload X dJ21_getChars_95 rfl rfl ?_
      refine g_gets X (v := .ref (oM Ω 341)) dJ21_getChars_97 rfl (by simp [stl]) q1743 (fun _ h => h) ?_
      refine g_iload_n X dJ21_getChars_100 rfl rfl ?_
      refine g_ineg X dJ21_getChars_101 rfl e1 ?_
      refine g_tb X dJ21_getChars_102 rfl X.tabT (vp_in_nI (by omega) (by omega)) (tT c_25) ?_
      refine l_bas X dJ21_getChars_103 rfl (hdb _) (vp_in_nI (by omega) (by omega)) (by rw [hu_hu, nI_clamp (by omega), nb_b]) ?_
      refine g_iload X dJ21_getChars_104 rfl rfl ?_
      refine g_if_eq (tgt := 118) X dJ21_getChars_106 rfl (by decide) (fun c_106 => ?_) (fun c => absurd rfl c)
      refine g_iload X dJ21_getChars_118 rfl rfl ?_
      refine g_iret X dJ21_getChars_120 rfl (by first | exact Nat.le_of_ble_eq_true rfl | omega | (dsimp only [rmD]; omega)) (by first | exact Nat.le_of_ble_eq_true rfl | omega | (dsimp only [rmD]; omega)) (fun H hH => ?_)
      refine ⟨⟨_, k4 _ (fun j hj => ?_) (fun i hi => ?_) (fun hf => sb_fitU (sb_fitU hf (sb_fitB _)) (sb_fitB _))⟩, congrArg (fun z => some (Value.int (nI z))) (show p' - 1 - 1 = n by omega), hH⟩
      · rw [pk_un (by omega), pk_un (by omega)]
      · obtain rfl | rfl : i = 0 ∨ i = 1 := by omega
        · rw [Nat.sub_zero, pk_un (by omega), pk_us, Nat.pow_zero, Nat.div_one]
        · rw [pk_us, Nat.pow_one, show w' / 10 % 10 = w' / 10 by omega]
  · rw [sb_nlt (by decide) (by omega)] at c_25
    have hd := sb_dg100 (w := w') (by omega) (by omega)
    have hd2 := (sb_dg_in (w' / 100)).1
    have hr : w' % 100 < 100 := Nat.mod_lt _ (by decide)
    refine g_iload_n X dJ21_getChars_28 rfl rfl ?_
    refine g_bipush X dJ21_getChars_29 rfl (v := 100) (by decide) ?_
    refine g_idiv X dJ21_getChars_31 rfl (by decide) (sb_ndiv (by omega)) ?_
    refine g_istore_n X dJ21_getChars_32 rfl (by decide) rfl rfl ?_
    refine g_iload_n X dJ21_getChars_33 rfl rfl ?_
    refine g_bipush X dJ21_getChars_34 rfl (v := 100) (by decide) ?_
    refine g_imul X dJ21_getChars_36 rfl rfl ?_
    refine g_iload_n X dJ21_getChars_37 rfl rfl ?_
    refine g_isub X dJ21_getChars_38 rfl (sb_nrem (by omega)) ?_
    refine g_istore X dJ21_getChars_39 rfl (by decide) rfl rfl ?_
    refine g_iload_n X dJ21_getChars_41 rfl rfl ?_
    refine g_istore_n X dJ21_getChars_42 rfl (by decide) rfl rfl ?_
    refine g_aload_n X dJ21_getChars_43 rfl rfl ?_
    refine g_iinc X dJ21_getChars_44 rfl rfl (sb_m1 (by omega)) (by decide) rfl rfl ?_
    refine g_iload X dJ21_getChars_47 rfl rfl ?_
    refine g_gets X (v := .ref (oM Ω 340)) dJ21_getChars_49 rfl (by simp [stl]) q1741 (fun _ h => h) ?_
    refine g_iload X dJ21_getChars_52 rfl rfl ?_
    refine g_tb X dJ21_getChars_54 rfl X.tabO (vp_in_nI (by omega) (by omega)) (tO hr) ?_
    refine l_bas X dJ21_getChars_55 rfl hda (vp_in_nI (by omega) (by omega)) (by rw [hu_hu, nI_clamp (by omega), nb_b, show w' % 100 % 10 = w' % 10 by omega]) ?_
    have hdb : ∀ a2 : Nat → Int32, hu Γ v (.inl (cI Ω 2 cap a2)) v = some (.inl (cI Ω 2 cap a2)) := fun a2 => hu_s _ _ _
    refine g_aload_n X dJ21_getChars_56 rfl rfl ?_
    refine g_iinc X dJ21_getChars_57 rfl rfl (sb_m1 (by omega)) (by decide) rfl rfl ?_
    refine g_iload X dJ21_getChars_60 rfl rfl ?_
    refine g_gets X (v := .ref (oM Ω 341)) dJ21_getChars_62 rfl (by simp [stl]) q1743 (fun _ h => h) ?_
    refine g_iload X dJ21_getChars_65 rfl rfl ?_
    refine g_tb X dJ21_getChars_67 rfl X.tabT (vp_in_nI (by omega) (by omega)) (tT hr) ?_
    refine l_bas X dJ21_getChars_68 rfl (hdb _) (vp_in_nI (by omega) (by omega)) (by rw [hu_hu, nI_clamp (by omega), nb_b, show w' % 100 / 10 = w' / 10 % 10 by omega]) ?_
    refine g_goto (tgt := 22) X dJ21_getChars_69 rfl (by decide) ?_
    refine GJ.loc [some (.int (-nI (w' / 100))), some (.int (nI p0)), some (.ref v), none, none, some (.int (nI (p' - 1 - 1))), some (.int (nI 0))] (lvle_c rfl (lvle_c rfl (lvle_c rfl (lvle_n (lvle_n (lvle_c rfl (lvle_c rfl lvle_e))))))) ?_
    refine ih (w' / 100, p' - 1 - 1, upd (upd a (p' - 1) (sb_b (48 + w' % 10))) (p' - 1 - 1) (sb_b (48 + w' / 10 % 10))) ⟨by omega, by dsimp only; omega, by dsimp only; omega, fun a' g1 g2 g3 => ?_⟩ (by dsimp only; omega)
    dsimp only at g1 g2 g3
    refine k4 a' (fun j hj => by rw [g1 j (by omega), pk_un (by omega), pk_un (by omega)]) (fun i hi => ?_) (fun hf => g3 (sb_fitU (sb_fitU hf (sb_fitB _)) (sb_fitB _)))
    match i, hi with
    | 0, _ => rw [Nat.sub_zero, g1 _ (by omega), pk_un (by omega), pk_us, Nat.pow_zero, Nat.div_one]
    | 1, _ => rw [g1 _ (by omega), pk_us, Nat.pow_one]
    | k + 2, hi => rw [show p' - 1 - (k + 2) = p' - 1 - 1 - 1 - k by omega, g2 k (by omega), Nat.div_div_eq_div_mul, show 100 * 10 ^ k = 10 ^ (k + 2) by rw [show k + 2 = k + 1 + 1 from rfl, Nat.pow_succ, Nat.pow_succ]; omega]
theorem ct_J11_copyOf_3 (hst : l.stackTraces = false) (ha : Γ v = some (.inl (cI Ω 2 cap f))) (hf : sb_Fit f) {N0 : Nat} (h1 : cap < N0) (h2 : N0 ≤ 1000) : CM Ω l yJ11_copyOf_3 (ws_ yJ11_copyOf_3 cJ11_copyOf_3 3 (some (.array .byte))) 3 1 N0 [.ref v, .int (nI N0)] (hL Ω Γ) (QV (fun q : {q : Nat // Γ q = none} => some (.ref q.1)) (fun q => hL Ω (hu Γ q.1 (.inl (cI Ω 2 N0 (va_cpy f (fun _ => 0) 0 0 cap)))))) nX := by
  refine CM.of (L := [some (.ref v), some (.int (nI N0)), none]) hst (by decide) (Nat.le_of_ble_eq_true rfl) rfl ?_
  intro p e s m below meth c X hnm htab
  refine g_iload_n X dJ11_copyOf_3_0 rfl rfl ?_
  refine g_aload_n X dJ11_copyOf_3_1 rfl rfl ?_
  refine l_alen X (t := 2) dJ11_copyOf_3_2 rfl ha rfl rfl ?_
  refine g_icmp_ne (tgt := 14) X dJ11_copyOf_3_3 rfl (by decide) (fun c_3 => ?_) (fun c => absurd ((nI_eq (by omega) (by omega)).mp (show nI N0 = nI cap from c)) (by omega))
  refine g_iload_n X dJ11_copyOf_3_14 rfl rfl ?_
  refine l_newa_byte X dJ11_copyOf_3_15 rfl (nI_pos (by omega)) (nI_clamp (by omega)) (by show N0 * 1 ≤ 536870912; omega) (by first | exact Nat.le_of_ble_eq_true rfl | omega | (dsimp only [rmD]; omega)) (by show 0 + N0 ≤ N0; omega) (fun q0 nq => ?_)
  have hq : v ≠ q0 := fun g => by rw [g, nq] at ha; simp at ha
  have d1 : hu Γ q0 (.inl (cI Ω 2 N0 (fun _ => 0))) v = some (.inl (cI Ω 2 cap f)) := (hu_n hq).trans ha
  refine g_astore_n X dJ11_copyOf_3_17 rfl (by decide) rfl rfl ?_
  refine g_aload_n X dJ11_copyOf_3_18 rfl rfl ?_
  refine g_iconst X dJ11_copyOf_3_19 rfl (v := (nI 0)) rfl ?_
  refine g_aload_n X dJ11_copyOf_3_20 rfl rfl ?_
  refine g_iconst X dJ11_copyOf_3_21 rfl (v := (nI 0)) rfl ?_
  refine g_aload_n X dJ11_copyOf_3_22 rfl rfl ?_
  refine l_alen X (t := 2) dJ11_copyOf_3_23 rfl d1 rfl rfl ?_
  refine g_iload_n X dJ11_copyOf_3_24 rfl rfl ?_
  refine g_min X dJ11_copyOf_3_25 rfl q680 (Nat.le_of_ble_eq_true rfl) (Nat.le_of_ble_eq_true rfl) (by first | exact Nat.le_of_ble_eq_true rfl | omega | (dsimp only [rmD]; omega)) (by show 0 + N0 ≤ N0; omega) ((mn_nI (by omega) (by omega)).trans (congrArg nI (Nat.min_eq_left (Nat.le_of_lt h1)))) ?_
  refine l_copyB X dJ11_copyOf_3_28 rfl q683 (nI_pos (by omega)) (nI_pos (by omega)) (nI_pos (by omega)) (c2_le (nI_clamp (by omega)) (nI_clamp (by omega)) (by omega)) (c2_le (nI_clamp (by omega)) (nI_clamp (by omega)) (by omega)) d1 (hu_s _ _ _) (fun i _ => hf _) (Nat.le_of_ble_eq_true rfl) (Nat.le_of_ble_eq_true rfl) rfl ?_
  refine g_aload_n X dJ11_copyOf_3_31 rfl rfl ?_
  refine g_aret X (Or.inr ⟨_, rfl⟩) (Or.inr ⟨_, rfl⟩) dJ11_copyOf_3_32 rfl (by first | exact Nat.le_of_ble_eq_true rfl | omega | (dsimp only [rmD]; omega)) (by show 0 + N0 ≤ N0; omega) (fun H hH => ⟨⟨q0, nq⟩, rfl, by rw [nI_clamp (n := 0) (by omega), nI_clamp (n := cap) (by omega), hu_hu] at hH; exact hH⟩)
theorem ct_J3_isLatin1 (hst : l.stackTraces = false) (hx : isO Γ b 13 [.ref v, .int 0, .int mb, .int n0]) : CM Ω l yJ3_isLatin1 (ws_ yJ3_isLatin1 cJ3_isLatin1 1 (some .boolean)) 2 0 0 [.ref b] (hL Ω Γ) (QP (some (.int (nI 1))) (hL Ω Γ)) nX := by
  refine CM.of (L := [some (.ref b)]) hst (by decide) (Nat.le_of_ble_eq_true rfl) rfl ?_
  intro p e s m below meth c X hnm htab
  refine g_gets X (v := .int 1) dJ3_isLatin1_0 rfl (by simp [stl]) q208 (fun _ h => h) ?_
  refine g_if_eq (tgt := 17) X dJ3_isLatin1_3 rfl (by decide) (fun c => absurd c (by decide)) (fun c_3 => ?_)
  refine g_aload_n X dJ3_isLatin1_6 rfl rfl ?_
  refine l_get X dJ3_isLatin1_7 rfl in_J4 (ci := 13) rfl 1 (by decide) q218 (fun _ h => h) hx rfl ?_
  refine g_if_ne (tgt := 17) X dJ3_isLatin1_10 rfl (by decide) (fun c => absurd rfl c) (fun c_10 => ?_)
  refine g_iconst X dJ3_isLatin1_13 rfl (v := (nI 1)) rfl ?_
  refine g_goto (tgt := 18) X dJ3_isLatin1_14 rfl (by decide) ?_
  refine g_zret X dJ3_isLatin1_18 rfl rfl (by first | exact Nat.le_of_ble_eq_true rfl | omega | (dsimp only [rmD]; omega)) (by first | exact Nat.le_of_ble_eq_true rfl | omega | (dsimp only [rmD]; omega)) (fun H hH => ⟨(), rfl, hH⟩)
theorem ct_J3_newCapacity (hst : l.stackTraces = false) (hS : SBp Ω Γ b v cap f mb n0) {k : Nat} (h1 : cap < k) (h2 : k ≤ 400) : CM Ω l yJ3_newCapacity (ws_ yJ3_newCapacity cJ3_newCapacity 6 (some .int)) 4 0 0 [.ref b, .int (nI k)] (hL Ω Γ) (QP (some (.int (nI (sb_cap k cap)))) (hL Ω Γ)) nX := by
  obtain ⟨hx, ha, -, h16, h1000⟩ := hS
  have e2 : nI 2 <<< ((0 : Int32) &&& 31) = nI 2 := sb_shl0 _
  have hc : cap + max (k - cap) (cap + 2) = sb_cap k cap := by
    unfold sb_cap
    rw [if_neg (by omega)]
    split <;> omega
  have hl : sb_cap k cap ≤ 802 := by rw [← hc]; omega
  refine CM.of (L := [some (.ref b), some (.int (nI k)), none, none, none, none]) hst (by decide) (Nat.le_of_ble_eq_true rfl) rfl ?_
  intro p e s m below meth c X hnm htab
  refine g_aload_n X dJ3_newCapacity_0 rfl rfl ?_
  refine l_get X dJ3_newCapacity_1 rfl in_J4 (ci := 13) rfl 0 (by decide) q217 (fun _ h => h) hx rfl ?_
  refine l_alen X (t := 2) dJ3_newCapacity_4 rfl ha rfl rfl ?_
  refine g_istore_n X dJ3_newCapacity_5 rfl (by decide) rfl rfl ?_
  refine g_iload_n X dJ3_newCapacity_6 rfl rfl ?_
  refine g_aload_n X dJ3_newCapacity_7 rfl rfl ?_
  refine l_get X dJ3_newCapacity_8 rfl in_J4 (ci := 13) rfl 1 (by decide) q218 (fun _ h => h) hx rfl ?_
  refine g_ishl X dJ3_newCapacity_11 rfl (sb_shl0 _) ?_
  refine g_istore_n X dJ3_newCapacity_12 rfl (by decide) rfl rfl ?_
  refine g_iload_n X dJ3_newCapacity_13 rfl rfl ?_
  refine g_iload_n X dJ3_newCapacity_14 rfl rfl ?_
  refine g_isub X dJ3_newCapacity_15 rfl (pk_sub (by omega)) ?_
  refine g_istore X dJ3_newCapacity_16 rfl (by decide) rfl rfl ?_
  refine g_iload_n X dJ3_newCapacity_18 rfl rfl ?_
  refine g_iload X dJ3_newCapacity_19 rfl rfl ?_
  refine g_iload_n X dJ3_newCapacity_21 rfl rfl ?_
  refine g_iconst X dJ3_newCapacity_22 rfl (v := (nI 2)) rfl ?_
  refine g_aload_n X dJ3_newCapacity_23 rfl rfl ?_
  refine l_get X dJ3_newCapacity_24 rfl in_J4 (ci := 13) rfl 1 (by decide) q218 (fun _ h => h) hx rfl ?_
  refine g_ishl X dJ3_newCapacity_27 rfl e2 ?_
  refine g_iadd X dJ3_newCapacity_28 rfl (by first | exact nI_add _ _ | rfl) ?_
  refine g_callS X (ct_J9_newLength hst (by omega) (by omega)) dJ3_newCapacity_29 rfl (lw_S q1661 q636 q80 q637) hyS_J9_newLength (fun H hH => hH) ⟨Nat.le_of_ble_eq_true rfl, Nat.le_of_ble_eq_true rfl⟩ ⟨by first | exact Nat.le_of_ble_eq_true rfl | omega | (dsimp only [rmD]; omega), by first | exact Nat.le_of_ble_eq_true rfl | omega | (dsimp only [rmD]; omega)⟩ (Nat.le_of_ble_eq_true rfl) rfl (fun x_29 => ?_)
  rw [hc]
  refine g_istore X dJ3_newCapacity_32 rfl (by decide) rfl rfl ?_
  refine g_iload X dJ3_newCapacity_34 rfl rfl ?_
  refine g_ldcI X dJ3_newCapacity_36 rfl q1662 ?_
  refine g_icmp_ne (tgt := 51) X dJ3_newCapacity_38 rfl (by decide) (fun c_38 => ?_) (fun c => absurd ((nI_eq (by omega) (by decide)).mp (show nI (sb_cap k cap) = nI 2147483647 from c)) (by omega))
  refine g_iload X dJ3_newCapacity_51 rfl rfl ?_
  refine g_aload_n X dJ3_newCapacity_53 rfl rfl ?_
  refine l_get X dJ3_newCapacity_54 rfl in_J4 (ci := 13) rfl 1 (by decide) q218 (fun _ h => h) hx rfl ?_
  refine g_ishr X dJ3_newCapacity_57 rfl (sb_shr0 _) ?_
  refine g_iret X dJ3_newCapacity_58 rfl (by first | exact Nat.le_of_ble_eq_true rfl | omega | (dsimp only [rmD]; omega)) (by first | exact Nat.le_of_ble_eq_true rfl | omega | (dsimp only [rmD]; omega)) (fun H hH => ⟨(), rfl, hH⟩)
/-- after room is made: the bytes may lie elsewhere -/
abbrev ENp (Ω : Om) (Γ : LH) (b v cap : Nat) (f : Nat → Int32) (mb n0 : Int32) (k : Nat) (y : LH × Nat × Nat × (Nat → Int32)) : Prop := SBp Ω y.1 b y.2.1 y.2.2.1 y.2.2.2 mb n0 ∧ cap ≤ y.2.2.1 ∧ k ≤ y.2.2.1 ∧ (∀ j, j < cap → y.2.2.2 j = f j) ∧ SBK b v Γ y.1 y.2.1
theorem ct_J3_ensureCapacityInternal (hst : l.stackTraces = false) (hS : SBp Ω Γ b v cap f mb n0) {k : Nat} (h2 : k ≤ 400) : CM Ω l yJ3_ensureCapacityInternal (ws_ yJ3_ensureCapacityInternal cJ3_ensureCapacityInternal 3 none) 6 1 802 [.ref b, .int (nI k)] (hL Ω Γ) (QV (fun _ : {y : LH × Nat × Nat × (Nat → Int32) // ENp Ω Γ b v cap f mb n0 k y} => none) (fun y => hL Ω y.1.1)) nX := by
  obtain ⟨hx, ha, hf, h16, h1000⟩ := hS
  refine CM.of (L := [some (.ref b), some (.int (nI k)), none]) hst (by decide) (Nat.le_of_ble_eq_true rfl) rfl ?_
  intro p e s m below meth c X hnm htab
  refine g_aload_n X dJ3_ensureCapacityInternal_0 rfl rfl ?_
  refine l_get X dJ3_ensureCapacityInternal_1 rfl in_J4 (ci := 13) rfl 0 (by decide) q217 (fun _ h => h) hx rfl ?_
  refine l_alen X (t := 2) dJ3_ensureCapacityInternal_4 rfl ha rfl rfl ?_
  refine g_aload_n X dJ3_ensureCapacityInternal_5 rfl rfl ?_
  refine l_get X dJ3_ensureCapacityInternal_6 rfl in_J4 (ci := 13) rfl 1 (by decide) q218 (fun _ h => h) hx rfl ?_
  refine g_ishr X dJ3_ensureCapacityInternal_9 rfl (sb_shr0 _) ?_
  refine g_istore_n X dJ3_ensureCapacityInternal_10 rfl (by decide) rfl rfl ?_
  have e1 : (nI k - nI cap).toInt = (k : Int) - cap := pk_sub_toInt (by omega) (by omega)
  have e2 : nI k - nI cap ≤ 0 ↔ k ≤ cap := by rw [Int32.le_iff_toInt_le, e1, Int32.toInt_zero]; omega
  refine g_iload_n X dJ3_ensureCapacityInternal_11 rfl rfl ?_
  refine g_iload_n X dJ3_ensureCapacityInternal_12 rfl rfl ?_
  refine g_isub X dJ3_ensureCapacityInternal_13 rfl (rfl : nI k - nI cap = nI k - nI cap) ?_
  refine g_if_le (tgt := 38) X dJ3_ensureCapacityInternal_14 rfl (by decide) (fun c_14 => ?_) (fun c_14 => ?_)
  · rw [e2] at c_14
    refine g_vret X dJ3_ensureCapacityInternal_38 rfl (by first | exact Nat.le_of_ble_eq_true rfl | omega | (dsimp only [rmD]; omega)) (by first | exact Nat.le_of_ble_eq_true rfl | omega | (dsimp only [rmD]; omega)) (fun H hH => ⟨⟨(Γ, v, cap, f), ⟨hx, ha, hf, h16, h1000⟩, Nat.le_refl _, c_14, fun _ _ => rfl, SBK.rf⟩, rfl, hH⟩)
  · rw [e2] at c_14
    have hc : sb_cap k cap ≤ 802 ∧ k ≤ sb_cap k cap ∧ cap < sb_cap k cap := by
      unfold sb_cap
      rw [if_neg (by omega)]
      split <;> omega
    refine g_aload_n X dJ3_ensureCapacityInternal_17 rfl rfl ?_
    refine g_aload_n X dJ3_ensureCapacityInternal_18 rfl rfl ?_
    refine l_get X dJ3_ensureCapacityInternal_19 rfl in_J4 (ci := 13) rfl 0 (by decide) q217 (fun _ h => h) hx rfl ?_
    refine g_aload_n X dJ3_ensureCapacityInternal_22 rfl rfl ?_
    refine g_iload_n X dJ3_ensureCapacityInternal_23 rfl rfl ?_
    refine g_callP X (C := "java/lang/StringBuilder") (ct_J3_newCapacity hst ⟨hx, ha, hf, h16, h1000⟩ (by omega) h2) dJ3_ensureCapacityInternal_24 rfl q1657 q2384 q1676 rfl q1658 q1659 q72 q1660 ⟨by decide, by decide, (show _ = some 1 by decide +kernel)⟩ (fun H hH => hL.recv X.2.2.2.2.2.2.2.1 hH (hx) rfl) (fun H hH => hH) ⟨Nat.le_of_ble_eq_true rfl, Nat.le_of_ble_eq_true rfl⟩ ⟨by first | exact Nat.le_of_ble_eq_true rfl | omega | (dsimp only [rmD]; omega), by first | exact Nat.le_of_ble_eq_true rfl | omega | (dsimp only [rmD]; omega)⟩ (Nat.le_of_ble_eq_true rfl) rfl (fun x_24 => ?_)
    refine g_aload_n X dJ3_ensureCapacityInternal_27 rfl rfl ?_
    refine l_get X dJ3_ensureCapacityInternal_28 rfl in_J4 (ci := 13) rfl 1 (by decide) q218 (fun _ h => h) hx rfl ?_
    refine g_ishl X dJ3_ensureCapacityInternal_31 rfl (sb_shl0 _) ?_
    refine g_callS X (ct_J11_copyOf_3 hst ha hf hc.2.2 (by omega)) dJ3_ensureCapacityInternal_32 rfl (lw_S q1663 q1664 q82 q1665) hyS_J11_copyOf_3 (fun H hH => hH) ⟨Nat.le_of_ble_eq_true rfl, Nat.le_of_ble_eq_true rfl⟩ ⟨by show 0 + 1 ≤ 1; omega, by show 0 + sb_cap k cap ≤ 802; omega⟩ (Nat.le_of_ble_eq_true rfl) rfl (fun qq => ?_)
    obtain ⟨q, nq⟩ := qq
    dsimp only
    have hq : b ≠ q := fun g => by rw [g] at hx; rw [isO, nq] at hx; simp at hx
    have d1 : isO (hu Γ q (.inl (cI Ω 2 (sb_cap k cap) (va_cpy f (fun _ => 0) 0 0 cap)))) b 13 [.ref v, .int 0, .int mb, .int n0] := (hu_n hq).trans hx
    refine l_put X dJ3_ensureCapacityInternal_35 rfl in_J4 tyJ4_ok nmJ4 (ci := 13) rfl 0 (by decide) q217 (fun _ h => h) rfl rfl rfl rfl d1 (Nat.le_of_ble_eq_true rfl) rfl ?_
    refine g_vret X dJ3_ensureCapacityInternal_38 rfl (by first | exact Nat.le_of_ble_eq_true rfl | omega | (dsimp only [rmD]; omega)) (by show 0 + sb_cap k cap ≤ 802; omega) (fun H hH => ?_)
    refine ⟨⟨(_, q, sb_cap k cap, va_cpy f (fun _ => 0) 0 0 cap), ⟨hu_s _ _ _, (hu_n (fun g => hq g.symm)).trans (hu_s _ _ _), sb_fitC hf sb_fit0, by dsimp only; omega, by dsimp only; omega⟩, by dsimp only; omega, by dsimp only; omega, fun j hj => (show va_cpy f (fun _ => 0) 0 0 cap j = f j from sb_cpy0 hj), ⟨fun q' u hq' n1 n2 => (hu_n n1).trans ((hu_n (fun g => by rw [g, nq] at hq'; simp at hq')).trans hq'), Or.inr nq⟩⟩, rfl, hH⟩
end SB1
