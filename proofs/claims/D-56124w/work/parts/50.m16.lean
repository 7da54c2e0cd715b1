/-! MODEL: reading a command -/
theorem rdC_d {inp : List Nat} {b : Nat} (hk : ¬ isK (bh inp b)) : rdC inp b = (skS inp (sTx 0) b true, 0, 0, 0) := by
  unfold rdC
  cases h : inp[b]? with
  | none => rfl
  | some c =>
    have e := bh_some h
    have h1 : ∀ n, c = n → bh inp b = nI n := fun n hn => by rw [e, hn]
    dsimp only
    unfold isK at hk
    rw [if_neg (fun g => hk (by rcases g with g | g <;> simp [h1 _ g])), if_neg (fun g => hk (by simp [h1 _ g])), if_neg (fun g => hk (by simp [h1 _ g])), if_neg (fun g => hk (by simp [h1 _ g])), if_neg (fun g => hk (by simp [h1 _ g]))]
section M16
variable {l : Launch} {Ω : Om} {h : RH} {a : Nat} {ad : Nat → Nat} {v : Nat → Int32} {F : Nat → Nat → Int32} {g : Nat → Int32} {inp : List Nat} {b : Nat} {ok : Bool}
set_option maxRecDepth 100000
theorem ct_X4_readCommand_f (hst : l.stackTraces = false) (hd : mDi a ad) (hP : PS v F inp b false) : CM Ω l yX4_readCommand (ws_ yX4_readCommand cX4_readCommand 3 none) 9 0 0 [.ref a] (hR Ω (mW Ω h a ad v F)) (QP none (hR Ω (mW Ω h a ad v F))) nX := by
  have h12 : v 12 = nI 1 := hP.2.2
  refine CM.of (L := [some (.ref a), none, none]) hst (by decide) (Nat.le_of_ble_eq_true rfl) rfl ?_
  intro p e s m below meth c X hnm htab
  refine g_aload_n X dX4_readCommand_0 rfl rfl ?_
  refine g_get X dX4_readCommand_1 rfl in_X4 (ci := 3) rfl 12 (by decide) q1928 (fun _ h => h) mW_a (gv h12) ?_
  refine g_if_eq (tgt := 8) X dX4_readCommand_4 rfl (by decide) (fun c => absurd c (by decide)) (fun c_4 => ?_)
  refine g_vret X dX4_readCommand_7 rfl (Nat.le_of_ble_eq_true rfl) (Nat.le_of_ble_eq_true rfl) (fun H hH => ⟨(), rfl, hH⟩)
abbrev RC (Ω : Om) (h : RH) (a : Nat) (ad : Nat → Nat) (v : Nat → Int32) (F : Nat → Nat → Int32) (g : Nat → Int32) (inp : List Nat) (b c : Nat) : Option Value → Heap → Prop := QV (fun _ : {x : (Nat → Int32) × (Nat → Int32) // PS x.1 (FU F 6 x.2) inp (rdC inp b).1.1 (rdC inp b).1.2 ∧ (x.1 16 = nI (c + 1) ∧ PVc v x.1) ∧ CE x.2 c (bh inp b) (rdC inp b).2 ∧ ∀ j, j < 4 * c → x.2 j = g j} => none) (fun x => hR Ω (mW Ω h a ad x.1.1 (FU F 6 x.1.2)))
theorem ct_X4_readCommand_t (hst : l.stackTraces = false) (hd : mDi a ad) (hP : PS v (FU F 6 g) inp b true) (hb : b ≤ inp.length) {c0 : Nat} (h16 : v 16 = nI c0) (hc : c0 < 60) : CM Ω l yX4_readCommand (ws_ yX4_readCommand cX4_readCommand 3 none) 9 0 0 [.ref a] (hR Ω (mW Ω h a ad v (FU F 6 g))) (RC Ω h a ad v F g inp b c0) nX := by
  have h12 : v 12 = nI 0 := hP.2.2
  have q1 : PS (vU v 16 (nI (c0 + 1))) (FU F 6 (upd g (4 * c0) (bh inp b))) inp b true := PS_g (PS_u hP (by decide))
  have hgo : ∀ (g' : Nat → Int32), (∀ j, j ≠ 4 * c0 → j ≠ 4 * c0 + 1 → j ≠ 4 * c0 + 2 → j ≠ 4 * c0 + 3 → g' j = g j) → ∀ j, j < 4 * c0 → g' j = g j := fun g' hg j hj => hg j (by omega) (by omega) (by omega) (by omega)
  refine CM.of (L := [some (.ref a), none, none]) hst (by decide) (Nat.le_of_ble_eq_true rfl) rfl ?_
  intro p e s m below meth c X hnm htab
  refine g_aload_n X dX4_readCommand_0 rfl rfl ?_
  refine g_get X dX4_readCommand_1 rfl in_X4 (ci := 3) rfl 12 (by decide) q1928 (fun _ h => h) mW_a (gv h12) ?_
  refine g_if_eq (tgt := 8) X dX4_readCommand_4 rfl (by decide) (fun c_4 => ?_) (fun c => absurd rfl c)
  refine g_aload_n X dX4_readCommand_8 rfl rfl ?_
  refine g_callV X (ct_X4_behind hst hd hP hb) dX4_readCommand_9 rfl (lw_V q2323 q2325 qs60 q76 q2326) hyV_X4_behind (fun H hH => hR.recv X.2.2.2.2.2.2.2.1 hH mW_a rfl) (fun H hH => hH) ⟨Nat.le_of_ble_eq_true rfl, Nat.le_of_ble_eq_true rfl⟩ ⟨Nat.le_of_ble_eq_true rfl, Nat.le_of_ble_eq_true rfl⟩ (Nat.le_of_ble_eq_true rfl) rfl (fun x_9 => ?_)
  refine g_istore_n X dX4_readCommand_12 rfl (by decide) rfl rfl ?_
  refine g_iconst X dX4_readCommand_13 rfl (v := (nI 4)) rfl ?_
  refine g_aload_n X dX4_readCommand_14 rfl rfl ?_
  refine g_get X dX4_readCommand_15 rfl in_X4 (ci := 3) rfl 16 (by decide) q1932 (fun _ h => h) mW_a (gv h16) ?_
  refine g_imul X dX4_readCommand_18 rfl (by first | exact pk_mul _ _ | rfl) ?_
  refine g_istore_n X dX4_readCommand_19 rfl (by decide) rfl rfl ?_
  refine g_aload_n X dX4_readCommand_20 rfl rfl ?_
  refine g_dup X dX4_readCommand_21 rfl rfl ?_
  refine g_get X dX4_readCommand_22 rfl in_X4 (ci := 3) rfl 16 (by decide) q1932 (fun _ h => h) mW_a (gv h16) ?_
  refine g_iconst X dX4_readCommand_25 rfl (v := (nI 1)) rfl ?_
  refine g_iadd X dX4_readCommand_26 rfl (by first | exact nI_add _ _ | rfl) ?_
  refine g_put X dX4_readCommand_27 rfl in_X4 tyX4_ok nmX4 (ci := 3) rfl 16 (by decide) q1932 (fun _ h => h) rfl rfl rfl rfl mW_a (Nat.le_of_ble_eq_true rfl) mW_u16 ?_
  refine g_aload_n X dX4_readCommand_30 rfl rfl ?_
  refine g_get X dX4_readCommand_31 rfl in_X4 (ci := 3) rfl 15 (by decide) q1931 (fun _ h => h) mW_a rfl ?_
  refine g_iload_n X dX4_readCommand_34 rfl rfl ?_
  refine g_iload_n X dX4_readCommand_35 rfl rfl ?_
  refine g_ias X dX4_readCommand_36 rfl (mW_6z hd) (vp_in_nI (by omega) (by decide)) (mW_g6 hd (nI_clamp (by omega))) ?_
  refine g_iload_n X dX4_readCommand_37 rfl rfl ?_
  by_cases hk : isK (bh inp b)
  · rcases hk with hk | hk | hk | hk | hk | hk
    · have hc9 : inp[b]? = some 98 := (bh_eq hP.b (by decide)).mp hk
      have hkb : bh inp b = nI 98 := hk
      have er : rdC inp b = (let s := (skS inp (sTx 1) b true); let n := nuS inp 1 s.1 s.2; let m := nuS inp 1 n.1 n.2.1; let o := nuS inp 4 m.1 m.2.1; ((o.1, o.2.1), n.2.2, m.2.2, o.2.2)) := by unfold rdC; rw [hc9]; rfl
      dsimp only at er
      rw [hkb]
      refine g_lookup (off := 104) (tgt := 142) X dX4_readCommand_38 rfl (by decide) (by decide) (by decide) ?_
      unfold RC
      rw [er, hkb]
      refine g_aload_n X dX4_readCommand_142 rfl rfl ?_
      refine g_ldcS X (tx := "book") (j := 1) dX4_readCommand_143 rfl (by decide) ?_
      refine g_callV X (ct_X4_skip hst hd (PS_g q1) hb (j := 1) (by decide)) dX4_readCommand_145 rfl (lw_V q2329 q2331 qs61 q76 q2332) hyV_X4_skip (fun H hH => hR.recv X.2.2.2.2.2.2.2.1 hH mW_a rfl) (fun H hH => hH) ⟨Nat.le_of_ble_eq_true rfl, Nat.le_of_ble_eq_true rfl⟩ ⟨Nat.le_of_ble_eq_true rfl, Nat.le_of_ble_eq_true rfl⟩ (Nat.le_of_ble_eq_true rfl) rfl (fun y1 => ?_)
      refine g_aload_n X dX4_readCommand_148 rfl rfl ?_
      refine g_get X dX4_readCommand_149 rfl in_X4 (ci := 3) rfl 15 (by decide) q1931 (fun _ h => h) mW_a rfl ?_
      refine g_iload_n X dX4_readCommand_152 rfl rfl ?_
      refine g_iconst X dX4_readCommand_153 rfl (v := (nI 1)) rfl ?_
      refine g_iadd X dX4_readCommand_154 rfl (by first | exact nI_add _ _ | rfl) ?_
      refine g_aload_n X dX4_readCommand_155 rfl rfl ?_
      refine g_iconst X dX4_readCommand_156 rfl (v := (nI 1)) rfl ?_
      refine g_callV X (ct_X4_readNumber hst hd (PS_g y1.2.1) (skS_le hb) (most := 1) (by decide) (by decide)) dX4_readCommand_157 rfl (lw_V q2335 q2337 qs62 q76 q2338) hyV_X4_readNumber (fun H hH => hR.recv X.2.2.2.2.2.2.2.1 hH mW_a rfl) (fun H hH => hH) ⟨Nat.le_of_ble_eq_true rfl, Nat.le_of_ble_eq_true rfl⟩ ⟨Nat.le_of_ble_eq_true rfl, Nat.le_of_ble_eq_true rfl⟩ (Nat.le_of_ble_eq_true rfl) rfl (fun y2 => ?_)
      refine g_ias X dX4_readCommand_160 rfl (mW_6z hd) (vp_in_nI (by omega) (by decide)) (mW_g6 hd (nI_clamp (by omega))) ?_
      refine g_aload_n X dX4_readCommand_161 rfl rfl ?_
      refine g_get X dX4_readCommand_162 rfl in_X4 (ci := 3) rfl 15 (by decide) q1931 (fun _ h => h) mW_a rfl ?_
      refine g_iload_n X dX4_readCommand_165 rfl rfl ?_
      refine g_iconst X dX4_readCommand_166 rfl (v := (nI 2)) rfl ?_
      refine g_iadd X dX4_readCommand_167 rfl (by first | exact nI_add _ _ | rfl) ?_
      refine g_aload_n X dX4_readCommand_168 rfl rfl ?_
      refine g_iconst X dX4_readCommand_169 rfl (v := (nI 1)) rfl ?_
      refine g_callV X (ct_X4_readNumber hst hd (PS_g y2.2.1) (nuS_le (skS_le hb)) (most := 1) (by decide) (by decide)) dX4_readCommand_170 rfl (lw_V q2335 q2337 qs62 q76 q2338) hyV_X4_readNumber (fun H hH => hR.recv X.2.2.2.2.2.2.2.1 hH mW_a rfl) (fun H hH => hH) ⟨Nat.le_of_ble_eq_true rfl, Nat.le_of_ble_eq_true rfl⟩ ⟨Nat.le_of_ble_eq_true rfl, Nat.le_of_ble_eq_true rfl⟩ (Nat.le_of_ble_eq_true rfl) rfl (fun y3 => ?_)
      refine g_ias X dX4_readCommand_173 rfl (mW_6z hd) (vp_in_nI (by omega) (by decide)) (mW_g6 hd (nI_clamp (by omega))) ?_
      refine g_aload_n X dX4_readCommand_174 rfl rfl ?_
      refine g_get X dX4_readCommand_175 rfl in_X4 (ci := 3) rfl 15 (by decide) q1931 (fun _ h => h) mW_a rfl ?_
      refine g_iload_n X dX4_readCommand_178 rfl rfl ?_
      refine g_iconst X dX4_readCommand_179 rfl (v := (nI 3)) rfl ?_
      refine g_iadd X dX4_readCommand_180 rfl (by first | exact nI_add _ _ | rfl) ?_
      refine g_aload_n X dX4_readCommand_181 rfl rfl ?_
      refine g_iconst X dX4_readCommand_182 rfl (v := (nI 4)) rfl ?_
      refine g_callV X (ct_X4_readNumber hst hd (PS_g y3.2.1) (nuS_le (nuS_le (skS_le hb))) (most := 4) (by decide) (by decide)) dX4_readCommand_183 rfl (lw_V q2335 q2337 qs62 q76 q2338) hyV_X4_readNumber (fun H hH => hR.recv X.2.2.2.2.2.2.2.1 hH mW_a rfl) (fun H hH => hH) ⟨Nat.le_of_ble_eq_true rfl, Nat.le_of_ble_eq_true rfl⟩ ⟨Nat.le_of_ble_eq_true rfl, Nat.le_of_ble_eq_true rfl⟩ (Nat.le_of_ble_eq_true rfl) rfl (fun y4 => ?_)
      refine g_ias X dX4_readCommand_186 rfl (mW_6z hd) (vp_in_nI (by omega) (by decide)) (mW_g6 hd (nI_clamp (by omega))) ?_
      refine g_goto (tgt := 282) X dX4_readCommand_187 rfl (by decide) ?_
      refine g_vret X dX4_readCommand_282 rfl (Nat.le_of_ble_eq_true rfl) (Nat.le_of_ble_eq_true rfl) (fun H hH => ⟨⟨(y4.1, _), PS_g y4.2.1, PVc_of (((y1.2.2.tr y2.2.2).tr y3.2.2).tr y4.2.2), ⟨(upd_n (by omega)).trans ((upd_n (by omega)).trans ((upd_n (by omega)).trans upd_s)), fun _ => ⟨(upd_n (by omega)).trans ((upd_n (by omega)).trans upd_s), (upd_n (by omega)).trans upd_s⟩, fun _ => upd_s, fun e => absurd e (by decide)⟩, fun j hj => (upd_n (by omega)).trans ((upd_n (by omega)).trans ((upd_n (by omega)).trans (upd_n (by omega))))⟩, rfl, hH⟩)
    · have hc9 : inp[b]? = some 99 := (bh_eq hP.b (by decide)).mp hk
      have hkb : bh inp b = nI 99 := hk
      have er : rdC inp b = (let s := (skS inp (sTx 2) b true); let n := nuS inp 2 s.1 s.2; ((n.1, n.2.1), n.2.2, 0, 0)) := by unfold rdC; rw [hc9]; rfl
      dsimp only at er
      rw [hkb]
      refine g_lookup (off := 152) (tgt := 190) X dX4_readCommand_38 rfl (by decide) (by decide) (by decide) ?_
      unfold RC
      rw [er, hkb]
      refine g_aload_n X dX4_readCommand_190 rfl rfl ?_
      refine g_ldcS X (tx := "cancel") (j := 2) dX4_readCommand_191 rfl (by decide) ?_
      refine g_callV X (ct_X4_skip hst hd (PS_g q1) hb (j := 2) (by decide)) dX4_readCommand_193 rfl (lw_V q2329 q2331 qs61 q76 q2332) hyV_X4_skip (fun H hH => hR.recv X.2.2.2.2.2.2.2.1 hH mW_a rfl) (fun H hH => hH) ⟨Nat.le_of_ble_eq_true rfl, Nat.le_of_ble_eq_true rfl⟩ ⟨Nat.le_of_ble_eq_true rfl, Nat.le_of_ble_eq_true rfl⟩ (Nat.le_of_ble_eq_true rfl) rfl (fun y1 => ?_)
      refine g_aload_n X dX4_readCommand_196 rfl rfl ?_
      refine g_get X dX4_readCommand_197 rfl in_X4 (ci := 3) rfl 15 (by decide) q1931 (fun _ h => h) mW_a rfl ?_
      refine g_iload_n X dX4_readCommand_200 rfl rfl ?_
      refine g_iconst X dX4_readCommand_201 rfl (v := (nI 1)) rfl ?_
      refine g_iadd X dX4_readCommand_202 rfl (by first | exact nI_add _ _ | rfl) ?_
      refine g_aload_n X dX4_readCommand_203 rfl rfl ?_
      refine g_iconst X dX4_readCommand_204 rfl (v := (nI 2)) rfl ?_
      refine g_callV X (ct_X4_readNumber hst hd (PS_g y1.2.1) (skS_le hb) (most := 2) (by decide) (by decide)) dX4_readCommand_205 rfl (lw_V q2335 q2337 qs62 q76 q2338) hyV_X4_readNumber (fun H hH => hR.recv X.2.2.2.2.2.2.2.1 hH mW_a rfl) (fun H hH => hH) ⟨Nat.le_of_ble_eq_true rfl, Nat.le_of_ble_eq_true rfl⟩ ⟨Nat.le_of_ble_eq_true rfl, Nat.le_of_ble_eq_true rfl⟩ (Nat.le_of_ble_eq_true rfl) rfl (fun y2 => ?_)
      refine g_ias X dX4_readCommand_208 rfl (mW_6z hd) (vp_in_nI (by omega) (by decide)) (mW_g6 hd (nI_clamp (by omega))) ?_
      refine g_goto (tgt := 282) X dX4_readCommand_209 rfl (by decide) ?_
      refine g_vret X dX4_readCommand_282 rfl (Nat.le_of_ble_eq_true rfl) (Nat.le_of_ble_eq_true rfl) (fun H hH => ⟨⟨(y2.1, _), PS_g y2.2.1, PVc_of (y1.2.2.tr y2.2.2), ⟨(upd_n (by omega)).trans upd_s, fun e => absurd e (by decide), fun e => absurd e (by decide), fun _ => upd_s⟩, fun j hj => (upd_n (by omega)).trans (upd_n (by omega))⟩, rfl, hH⟩)
    · have hc9 : inp[b]? = some 108 := (bh_eq hP.b (by decide)).mp hk
      have hkb : bh inp b = nI 108 := hk
      have er : rdC inp b = (let s := (skS inp (sTx 4) b true); let n := nuS inp 1 s.1 s.2; ((n.1, n.2.1), n.2.2, 0, 0)) := by unfold rdC; rw [hc9]; rfl
      dsimp only at er
      rw [hkb]
      refine g_lookup (off := 174) (tgt := 212) X dX4_readCommand_38 rfl (by decide) (by decide) (by decide) ?_
      unfold RC
      rw [er, hkb]
      refine g_aload_n X dX4_readCommand_212 rfl rfl ?_
      refine g_ldcS X (tx := "leave") (j := 4) dX4_readCommand_213 rfl (by decide) ?_
      refine g_callV X (ct_X4_skip hst hd (PS_g q1) hb (j := 4) (by decide)) dX4_readCommand_215 rfl (lw_V q2329 q2331 qs61 q76 q2332) hyV_X4_skip (fun H hH => hR.recv X.2.2.2.2.2.2.2.1 hH mW_a rfl) (fun H hH => hH) ⟨Nat.le_of_ble_eq_true rfl, Nat.le_of_ble_eq_true rfl⟩ ⟨Nat.le_of_ble_eq_true rfl, Nat.le_of_ble_eq_true rfl⟩ (Nat.le_of_ble_eq_true rfl) rfl (fun y1 => ?_)
      refine g_aload_n X dX4_readCommand_218 rfl rfl ?_
      refine g_get X dX4_readCommand_219 rfl in_X4 (ci := 3) rfl 15 (by decide) q1931 (fun _ h => h) mW_a rfl ?_
      refine g_iload_n X dX4_readCommand_222 rfl rfl ?_
      refine g_iconst X dX4_readCommand_223 rfl (v := (nI 1)) rfl ?_
      refine g_iadd X dX4_readCommand_224 rfl (by first | exact nI_add _ _ | rfl) ?_
      refine g_aload_n X dX4_readCommand_225 rfl rfl ?_
      refine g_iconst X dX4_readCommand_226 rfl (v := (nI 1)) rfl ?_
      refine g_callV X (ct_X4_readNumber hst hd (PS_g y1.2.1) (skS_le hb) (most := 1) (by decide) (by decide)) dX4_readCommand_227 rfl (lw_V q2335 q2337 qs62 q76 q2338) hyV_X4_readNumber (fun H hH => hR.recv X.2.2.2.2.2.2.2.1 hH mW_a rfl) (fun H hH => hH) ⟨Nat.le_of_ble_eq_true rfl, Nat.le_of_ble_eq_true rfl⟩ ⟨Nat.le_of_ble_eq_true rfl, Nat.le_of_ble_eq_true rfl⟩ (Nat.le_of_ble_eq_true rfl) rfl (fun y2 => ?_)
      refine g_ias X dX4_readCommand_230 rfl (mW_6z hd) (vp_in_nI (by omega) (by decide)) (mW_g6 hd (nI_clamp (by omega))) ?_
      refine g_goto (tgt := 282) X dX4_readCommand_231 rfl (by decide) ?_
      refine g_vret X dX4_readCommand_282 rfl (Nat.le_of_ble_eq_true rfl) (Nat.le_of_ble_eq_true rfl) (fun H hH => ⟨⟨(y2.1, _), PS_g y2.2.1, PVc_of (y1.2.2.tr y2.2.2), ⟨(upd_n (by omega)).trans upd_s, fun e => absurd e (by decide), fun e => absurd e (by decide), fun _ => upd_s⟩, fun j hj => (upd_n (by omega)).trans (upd_n (by omega))⟩, rfl, hH⟩)
    · have hc9 : inp[b]? = some 113 := (bh_eq hP.b (by decide)).mp hk
      have hkb : bh inp b = nI 113 := hk
      have er : rdC inp b = (((nuS inp 1 (nuS inp 1 (skS inp (sTx 3) b true).1 (skS inp (sTx 3) b true).2).1 (nuS inp 1 (skS inp (sTx 3) b true).1 (skS inp (sTx 3) b true).2).2.1).1, (nuS inp 1 (nuS inp 1 (skS inp (sTx 3) b true).1 (skS inp (sTx 3) b true).2).1 (nuS inp 1 (skS inp (sTx 3) b true).1 (skS inp (sTx 3) b true).2).2.1).2.1), (nuS inp 1 (skS inp (sTx 3) b true).1 (skS inp (sTx 3) b true).2).2.2, (nuS inp 1 (nuS inp 1 (skS inp (sTx 3) b true).1 (skS inp (sTx 3) b true).2).1 (nuS inp 1 (skS inp (sTx 3) b true).1 (skS inp (sTx 3) b true).2).2.1).2.2, 0) := by unfold rdC; rw [hc9]; rfl
      rw [hkb]
      refine g_lookup (off := 58) (tgt := 96) X dX4_readCommand_38 rfl (by decide) (by decide) (by decide) ?_
      unfold RC
      rw [er, hkb]
      refine g_aload_n X dX4_readCommand_96 rfl rfl ?_
      refine g_iload_n X dX4_readCommand_97 rfl rfl ?_
      refine g_bipush X dX4_readCommand_98 rfl (v := (nI 115)) (by decide) ?_
      refine g_icmp_ne (tgt := 108) X dX4_readCommand_100 rfl (by decide) (fun c_100 => ?_) (fun c => absurd c (by decide))
      refine g_ldcS X (tx := "queue") (j := 3) dX4_readCommand_108 rfl (by decide) ?_
      refine g_callV X (ct_X4_skip hst hd (PS_g q1) hb (j := 3) (by decide)) dX4_readCommand_110 rfl (lw_V q2329 q2331 qs61 q76 q2332) hyV_X4_skip (fun H hH => hR.recv X.2.2.2.2.2.2.2.1 hH mW_a rfl) (fun H hH => hH) ⟨Nat.le_of_ble_eq_true rfl, Nat.le_of_ble_eq_true rfl⟩ ⟨Nat.le_of_ble_eq_true rfl, Nat.le_of_ble_eq_true rfl⟩ (Nat.le_of_ble_eq_true rfl) rfl (fun y1 => ?_)
      refine g_aload_n X dX4_readCommand_113 rfl rfl ?_
      refine g_get X dX4_readCommand_114 rfl in_X4 (ci := 3) rfl 15 (by decide) q1931 (fun _ h => h) mW_a rfl ?_
      refine g_iload_n X dX4_readCommand_117 rfl rfl ?_
      refine g_iconst X dX4_readCommand_118 rfl (v := (nI 1)) rfl ?_
      refine g_iadd X dX4_readCommand_119 rfl (by first | exact nI_add _ _ | rfl) ?_
      refine g_aload_n X dX4_readCommand_120 rfl rfl ?_
      refine g_iconst X dX4_readCommand_121 rfl (v := (nI 1)) rfl ?_
      refine g_callV X (ct_X4_readNumber hst hd (PS_g y1.2.1) (skS_le hb) (most := 1) (by decide) (by decide)) dX4_readCommand_122 rfl (lw_V q2335 q2337 qs62 q76 q2338) hyV_X4_readNumber (fun H hH => hR.recv X.2.2.2.2.2.2.2.1 hH mW_a rfl) (fun H hH => hH) ⟨Nat.le_of_ble_eq_true rfl, Nat.le_of_ble_eq_true rfl⟩ ⟨Nat.le_of_ble_eq_true rfl, Nat.le_of_ble_eq_true rfl⟩ (Nat.le_of_ble_eq_true rfl) rfl (fun y2 => ?_)
      refine g_ias X dX4_readCommand_125 rfl (mW_6z hd) (vp_in_nI (by omega) (by decide)) (mW_g6 hd (nI_clamp (by omega))) ?_
      refine g_aload_n X dX4_readCommand_126 rfl rfl ?_
      refine g_get X dX4_readCommand_127 rfl in_X4 (ci := 3) rfl 15 (by decide) q1931 (fun _ h => h) mW_a rfl ?_
      refine g_iload_n X dX4_readCommand_130 rfl rfl ?_
      refine g_iconst X dX4_readCommand_131 rfl (v := (nI 2)) rfl ?_
      refine g_iadd X dX4_readCommand_132 rfl (by first | exact nI_add _ _ | rfl) ?_
      refine g_aload_n X dX4_readCommand_133 rfl rfl ?_
      refine g_iconst X dX4_readCommand_134 rfl (v := (nI 1)) rfl ?_
      refine g_callV X (ct_X4_readNumber hst hd (PS_g y2.2.1) (nuS_le (skS_le hb)) (most := 1) (by decide) (by decide)) dX4_readCommand_135 rfl (lw_V q2335 q2337 qs62 q76 q2338) hyV_X4_readNumber (fun H hH => hR.recv X.2.2.2.2.2.2.2.1 hH mW_a rfl) (fun H hH => hH) ⟨Nat.le_of_ble_eq_true rfl, Nat.le_of_ble_eq_true rfl⟩ ⟨Nat.le_of_ble_eq_true rfl, Nat.le_of_ble_eq_true rfl⟩ (Nat.le_of_ble_eq_true rfl) rfl (fun y3 => ?_)
      refine g_ias X dX4_readCommand_138 rfl (mW_6z hd) (vp_in_nI (by omega) (by decide)) (mW_g6 hd (nI_clamp (by omega))) ?_
      refine g_goto (tgt := 282) X dX4_readCommand_139 rfl (by decide) ?_
      refine g_vret X dX4_readCommand_282 rfl (Nat.le_of_ble_eq_true rfl) (Nat.le_of_ble_eq_true rfl) (fun H hH => ⟨⟨(y3.1, _), PS_g y3.2.1, PVc_of ((y1.2.2.tr y2.2.2).tr y3.2.2), ⟨(upd_n (by omega)).trans ((upd_n (by omega)).trans upd_s), fun _ => ⟨(upd_n (by omega)).trans upd_s, upd_s⟩, fun e => absurd e (by decide), fun e => absurd e (by decide)⟩, fun j hj => (upd_n (by omega)).trans ((upd_n (by omega)).trans (upd_n (by omega)))⟩, rfl, hH⟩)
    · have hc9 : inp[b]? = some 115 := (bh_eq hP.b (by decide)).mp hk
      have hkb : bh inp b = nI 115 := hk
      have er : rdC inp b = (((nuS inp 1 (nuS inp 1 (skS inp (sTx 6) b true).1 (skS inp (sTx 6) b true).2).1 (nuS inp 1 (skS inp (sTx 6) b true).1 (skS inp (sTx 6) b true).2).2.1).1, (nuS inp 1 (nuS inp 1 (skS inp (sTx 6) b true).1 (skS inp (sTx 6) b true).2).1 (nuS inp 1 (skS inp (sTx 6) b true).1 (skS inp (sTx 6) b true).2).2.1).2.1), (nuS inp 1 (skS inp (sTx 6) b true).1 (skS inp (sTx 6) b true).2).2.2, (nuS inp 1 (nuS inp 1 (skS inp (sTx 6) b true).1 (skS inp (sTx 6) b true).2).1 (nuS inp 1 (skS inp (sTx 6) b true).1 (skS inp (sTx 6) b true).2).2.1).2.2, 0) := by unfold rdC; rw [hc9]; rfl
      rw [hkb]
      refine g_lookup (off := 58) (tgt := 96) X dX4_readCommand_38 rfl (by decide) (by decide) (by decide) ?_
      unfold RC
      rw [er, hkb]
      refine g_aload_n X dX4_readCommand_96 rfl rfl ?_
      refine g_iload_n X dX4_readCommand_97 rfl rfl ?_
      refine g_bipush X dX4_readCommand_98 rfl (v := (nI 115)) (by decide) ?_
      refine g_icmp_ne (tgt := 108) X dX4_readCommand_100 rfl (by decide) (fun c => absurd rfl c) (fun c_100 => ?_)
      refine g_ldcS X (tx := "slide") (j := 6) dX4_readCommand_103 rfl (by decide) ?_
      refine g_goto (tgt := 110) X dX4_readCommand_105 rfl (by decide) ?_
      refine g_callV X (ct_X4_skip hst hd (PS_g q1) hb (j := 6) (by decide)) dX4_readCommand_110 rfl (lw_V q2329 q2331 qs61 q76 q2332) hyV_X4_skip (fun H hH => hR.recv X.2.2.2.2.2.2.2.1 hH mW_a rfl) (fun H hH => hH) ⟨Nat.le_of_ble_eq_true rfl, Nat.le_of_ble_eq_true rfl⟩ ⟨Nat.le_of_ble_eq_true rfl, Nat.le_of_ble_eq_true rfl⟩ (Nat.le_of_ble_eq_true rfl) rfl (fun y1 => ?_)
      refine g_aload_n X dX4_readCommand_113 rfl rfl ?_
      refine g_get X dX4_readCommand_114 rfl in_X4 (ci := 3) rfl 15 (by decide) q1931 (fun _ h => h) mW_a rfl ?_
      refine g_iload_n X dX4_readCommand_117 rfl rfl ?_
      refine g_iconst X dX4_readCommand_118 rfl (v := (nI 1)) rfl ?_
      refine g_iadd X dX4_readCommand_119 rfl (by first | exact nI_add _ _ | rfl) ?_
      refine g_aload_n X dX4_readCommand_120 rfl rfl ?_
      refine g_iconst X dX4_readCommand_121 rfl (v := (nI 1)) rfl ?_
      refine g_callV X (ct_X4_readNumber hst hd (PS_g y1.2.1) (skS_le hb) (most := 1) (by decide) (by decide)) dX4_readCommand_122 rfl (lw_V q2335 q2337 qs62 q76 q2338) hyV_X4_readNumber (fun H hH => hR.recv X.2.2.2.2.2.2.2.1 hH mW_a rfl) (fun H hH => hH) ⟨Nat.le_of_ble_eq_true rfl, Nat.le_of_ble_eq_true rfl⟩ ⟨Nat.le_of_ble_eq_true rfl, Nat.le_of_ble_eq_true rfl⟩ (Nat.le_of_ble_eq_true rfl) rfl (fun y2 => ?_)
      refine g_ias X dX4_readCommand_125 rfl (mW_6z hd) (vp_in_nI (by omega) (by decide)) (mW_g6 hd (nI_clamp (by omega))) ?_
      refine g_aload_n X dX4_readCommand_126 rfl rfl ?_
      refine g_get X dX4_readCommand_127 rfl in_X4 (ci := 3) rfl 15 (by decide) q1931 (fun _ h => h) mW_a rfl ?_
      refine g_iload_n X dX4_readCommand_130 rfl rfl ?_
      refine g_iconst X dX4_readCommand_131 rfl (v := (nI 2)) rfl ?_
      refine g_iadd X dX4_readCommand_132 rfl (by first | exact nI_add _ _ | rfl) ?_
      refine g_aload_n X dX4_readCommand_133 rfl rfl ?_
      refine g_iconst X dX4_readCommand_134 rfl (v := (nI 1)) rfl ?_
      refine g_callV X (ct_X4_readNumber hst hd (PS_g y2.2.1) (nuS_le (skS_le hb)) (most := 1) (by decide) (by decide)) dX4_readCommand_135 rfl (lw_V q2335 q2337 qs62 q76 q2338) hyV_X4_readNumber (fun H hH => hR.recv X.2.2.2.2.2.2.2.1 hH mW_a rfl) (fun H hH => hH) ⟨Nat.le_of_ble_eq_true rfl, Nat.le_of_ble_eq_true rfl⟩ ⟨Nat.le_of_ble_eq_true rfl, Nat.le_of_ble_eq_true rfl⟩ (Nat.le_of_ble_eq_true rfl) rfl (fun y3 => ?_)
      refine g_ias X dX4_readCommand_138 rfl (mW_6z hd) (vp_in_nI (by omega) (by decide)) (mW_g6 hd (nI_clamp (by omega))) ?_
      refine g_goto (tgt := 282) X dX4_readCommand_139 rfl (by decide) ?_
      refine g_vret X dX4_readCommand_282 rfl (Nat.le_of_ble_eq_true rfl) (Nat.le_of_ble_eq_true rfl) (fun H hH => ⟨⟨(y3.1, _), PS_g y3.2.1, PVc_of ((y1.2.2.tr y2.2.2).tr y3.2.2), ⟨(upd_n (by omega)).trans ((upd_n (by omega)).trans upd_s), fun _ => ⟨(upd_n (by omega)).trans upd_s, upd_s⟩, fun e => absurd e (by decide), fun e => absurd e (by decide)⟩, fun j hj => (upd_n (by omega)).trans ((upd_n (by omega)).trans (upd_n (by omega)))⟩, rfl, hH⟩)
    · have hc9 : inp[b]? = some 119 := (bh_eq hP.b (by decide)).mp hk
      have hkb : bh inp b = nI 119 := hk
      rw [hkb]
      refine g_lookup (off := 196) (tgt := 234) X dX4_readCommand_38 rfl (by decide) (by decide) (by decide) ?_
      unfold RC
      rw [hkb]
      refine g_aload_n X dX4_readCommand_234 rfl rfl ?_
      refine g_ldcS X (tx := "wait") (j := 5) dX4_readCommand_235 rfl (by decide) ?_
      refine g_callV X (ct_X4_skip hst hd (PS_g q1) hb (j := 5) (by decide)) dX4_readCommand_237 rfl (lw_V q2329 q2331 qs61 q76 q2332) hyV_X4_skip (fun H hH => hR.recv X.2.2.2.2.2.2.2.1 hH mW_a rfl) (fun H hH => hH) ⟨Nat.le_of_ble_eq_true rfl, Nat.le_of_ble_eq_true rfl⟩ ⟨Nat.le_of_ble_eq_true rfl, Nat.le_of_ble_eq_true rfl⟩ (Nat.le_of_ble_eq_true rfl) rfl (fun y1 => ?_)
      have hls := skS_le (inp := inp) (cs := sTx 5) (ok := true) hb
      have er0 : rdC inp b = (let s := (skS inp (sTx 5) b true); if s.2 = true ∧ inp[s.1]? = some 32 then (let n := nuS inp 2 s.1 s.2; ((n.1, n.2.1), n.2.2, 0, 0)) else (s, 1, 0, 0)) := by unfold rdC; rw [hc9]; rfl
      dsimp only at er0
      obtain ⟨v1, p1, p2⟩ := y1
      dsimp only
      generalize hs : skS inp (sTx 5) b true = s1 at *
      obtain ⟨a1, o1⟩ := s1
      dsimp only at p1 hls er0 ⊢
      have e12 := p1.2.2
      cases o1 with
      | false =>
        rw [if_neg (fun g => Bool.noConfusion g.1)] at er0
        rw [er0]
        have e12 : v1 12 = nI 1 := e12
        refine g_aload_n X dX4_readCommand_240 rfl rfl ?_
        refine g_get X dX4_readCommand_241 rfl in_X4 (ci := 3) rfl 15 (by decide) q1931 (fun _ h => h) mW_a rfl ?_
        refine g_iload_n X dX4_readCommand_244 rfl rfl ?_
        refine g_iconst X dX4_readCommand_245 rfl (v := (nI 1)) rfl ?_
        refine g_iadd X dX4_readCommand_246 rfl (by first | exact nI_add _ _ | rfl) ?_
        refine g_aload_n X dX4_readCommand_247 rfl rfl ?_
        refine g_get X dX4_readCommand_248 rfl in_X4 (ci := 3) rfl 12 (by decide) q1928 (fun _ h => h) mW_a (gv e12) ?_
        refine g_if_ne (tgt := 271) X dX4_readCommand_251 rfl (by decide) (fun c_251 => ?_) (fun c => absurd c (by decide))
        refine g_iconst X dX4_readCommand_271 rfl (v := (nI 1)) rfl ?_
        refine g_ias X dX4_readCommand_272 rfl (mW_6z hd) (vp_in_nI (by omega) (by decide)) (mW_g6 hd (nI_clamp (by omega))) ?_
        refine g_goto (tgt := 282) X dX4_readCommand_273 rfl (by decide) ?_
        refine g_vret X dX4_readCommand_282 rfl (Nat.le_of_ble_eq_true rfl) (Nat.le_of_ble_eq_true rfl) (fun H hH => ⟨⟨(v1, _), PS_g p1, PVc_of p2, ⟨(upd_n (by omega)).trans upd_s, fun e => absurd e (by decide), fun e => absurd e (by decide), fun _ => upd_s⟩, fun j hj => (upd_n (by omega)).trans (upd_n (by omega))⟩, rfl, hH⟩)
      | true =>
        have e12 : v1 12 = nI 0 := e12
        by_cases h32 : inp[a1]? = some 32
        · rw [if_pos ⟨rfl, h32⟩] at er0
          rw [er0]
          refine g_aload_n X dX4_readCommand_240 rfl rfl ?_
          refine g_get X dX4_readCommand_241 rfl in_X4 (ci := 3) rfl 15 (by decide) q1931 (fun _ h => h) mW_a rfl ?_
          refine g_iload_n X dX4_readCommand_244 rfl rfl ?_
          refine g_iconst X dX4_readCommand_245 rfl (v := (nI 1)) rfl ?_
          refine g_iadd X dX4_readCommand_246 rfl (by first | exact nI_add _ _ | rfl) ?_
          refine g_aload_n X dX4_readCommand_247 rfl rfl ?_
          refine g_get X dX4_readCommand_248 rfl in_X4 (ci := 3) rfl 12 (by decide) q1928 (fun _ h => h) mW_a (gv e12) ?_
          refine g_if_ne (tgt := 271) X dX4_readCommand_251 rfl (by decide) (fun c => absurd rfl c) (fun c_251 => ?_)
          refine g_aload_n X dX4_readCommand_254 rfl rfl ?_
          refine g_callV X (ct_X4_behind hst hd (PS_g p1) hls) dX4_readCommand_255 rfl (lw_V q2323 q2325 qs60 q76 q2326) hyV_X4_behind (fun H hH => hR.recv X.2.2.2.2.2.2.2.1 hH mW_a rfl) (fun H hH => hH) ⟨Nat.le_of_ble_eq_true rfl, Nat.le_of_ble_eq_true rfl⟩ ⟨Nat.le_of_ble_eq_true rfl, Nat.le_of_ble_eq_true rfl⟩ (Nat.le_of_ble_eq_true rfl) rfl (fun x_255 => ?_)
          refine g_bipush X dX4_readCommand_258 rfl (v := (nI 32)) (by decide) ?_
          refine g_icmp_ne (tgt := 271) X dX4_readCommand_260 rfl (by decide) (fun c => absurd ((bh_eq hP.b (by decide)).mpr h32) c) (fun c_260 => ?_)
          refine g_aload_n X dX4_readCommand_263 rfl rfl ?_
          refine g_iconst X dX4_readCommand_264 rfl (v := (nI 2)) rfl ?_
          refine g_callV X (ct_X4_readNumber hst hd (PS_g p1) hls (most := 2) (by decide) (by decide)) dX4_readCommand_265 rfl (lw_V q2335 q2337 qs62 q76 q2338) hyV_X4_readNumber (fun H hH => hR.recv X.2.2.2.2.2.2.2.1 hH mW_a rfl) (fun H hH => hH) ⟨Nat.le_of_ble_eq_true rfl, Nat.le_of_ble_eq_true rfl⟩ ⟨Nat.le_of_ble_eq_true rfl, Nat.le_of_ble_eq_true rfl⟩ (Nat.le_of_ble_eq_true rfl) rfl (fun y2 => ?_)
          refine g_goto (tgt := 272) X dX4_readCommand_268 rfl (by decide) ?_
          refine g_ias X dX4_readCommand_272 rfl (mW_6z hd) (vp_in_nI (by omega) (by decide)) (mW_g6 hd (nI_clamp (by omega))) ?_
          refine g_goto (tgt := 282) X dX4_readCommand_273 rfl (by decide) ?_
          refine g_vret X dX4_readCommand_282 rfl (Nat.le_of_ble_eq_true rfl) (Nat.le_of_ble_eq_true rfl) (fun H hH => ⟨⟨(y2.1, _), PS_g y2.2.1, PVc_of (p2.tr y2.2.2), ⟨(upd_n (by omega)).trans upd_s, fun e => absurd e (by decide), fun e => absurd e (by decide), fun _ => upd_s⟩, fun j hj => (upd_n (by omega)).trans (upd_n (by omega))⟩, rfl, hH⟩)
        · rw [if_neg (fun g => h32 g.2)] at er0
          rw [er0]
          refine g_aload_n X dX4_readCommand_240 rfl rfl ?_
          refine g_get X dX4_readCommand_241 rfl in_X4 (ci := 3) rfl 15 (by decide) q1931 (fun _ h => h) mW_a rfl ?_
          refine g_iload_n X dX4_readCommand_244 rfl rfl ?_
          refine g_iconst X dX4_readCommand_245 rfl (v := (nI 1)) rfl ?_
          refine g_iadd X dX4_readCommand_246 rfl (by first | exact nI_add _ _ | rfl) ?_
          refine g_aload_n X dX4_readCommand_247 rfl rfl ?_
          refine g_get X dX4_readCommand_248 rfl in_X4 (ci := 3) rfl 12 (by decide) q1928 (fun _ h => h) mW_a (gv e12) ?_
          refine g_if_ne (tgt := 271) X dX4_readCommand_251 rfl (by decide) (fun c => absurd rfl c) (fun c_251 => ?_)
          refine g_aload_n X dX4_readCommand_254 rfl rfl ?_
          refine g_callV X (ct_X4_behind hst hd (PS_g p1) hls) dX4_readCommand_255 rfl (lw_V q2323 q2325 qs60 q76 q2326) hyV_X4_behind (fun H hH => hR.recv X.2.2.2.2.2.2.2.1 hH mW_a rfl) (fun H hH => hH) ⟨Nat.le_of_ble_eq_true rfl, Nat.le_of_ble_eq_true rfl⟩ ⟨Nat.le_of_ble_eq_true rfl, Nat.le_of_ble_eq_true rfl⟩ (Nat.le_of_ble_eq_true rfl) rfl (fun x_255 => ?_)
          refine g_bipush X dX4_readCommand_258 rfl (v := (nI 32)) (by decide) ?_
          refine g_icmp_ne (tgt := 271) X dX4_readCommand_260 rfl (by decide) (fun c_260 => ?_) (fun c => absurd ((bh_eq hP.b (by decide)).mp c) h32)
          refine g_iconst X dX4_readCommand_271 rfl (v := (nI 1)) rfl ?_
          refine g_ias X dX4_readCommand_272 rfl (mW_6z hd) (vp_in_nI (by omega) (by decide)) (mW_g6 hd (nI_clamp (by omega))) ?_
          refine g_goto (tgt := 282) X dX4_readCommand_273 rfl (by decide) ?_
          refine g_vret X dX4_readCommand_282 rfl (Nat.le_of_ble_eq_true rfl) (Nat.le_of_ble_eq_true rfl) (fun H hH => ⟨⟨(v1, _), PS_g p1, PVc_of p2, ⟨(upd_n (by omega)).trans upd_s, fun e => absurd e (by decide), fun e => absurd e (by decide), fun _ => upd_s⟩, fun j hj => (upd_n (by omega)).trans (upd_n (by omega))⟩, rfl, hH⟩)
  · have er : rdC inp b = (skS inp (sTx 0) b true, 0, 0, 0) := rdC_d hk
    refine g_lookup (off := 238) (tgt := 276) X dX4_readCommand_38 rfl (by decide) (lk_d _ _ _ _ _ _ _ hk) (by decide) ?_
    unfold RC
    rw [er]
    refine g_aload_n X dX4_readCommand_276 rfl rfl ?_
    refine g_ldcS X (tx := "guest") (j := 0) dX4_readCommand_277 rfl (by decide) ?_
    refine g_callV X (ct_X4_skip hst hd (PS_g q1) hb (j := 0) (by decide)) dX4_readCommand_279 rfl (lw_V q2329 q2331 qs61 q76 q2332) hyV_X4_skip (fun H hH => hR.recv X.2.2.2.2.2.2.2.1 hH mW_a rfl) (fun H hH => hH) ⟨Nat.le_of_ble_eq_true rfl, Nat.le_of_ble_eq_true rfl⟩ ⟨Nat.le_of_ble_eq_true rfl, Nat.le_of_ble_eq_true rfl⟩ (Nat.le_of_ble_eq_true rfl) rfl (fun y1 => ?_)
    refine g_vret X dX4_readCommand_282 rfl (Nat.le_of_ble_eq_true rfl) (Nat.le_of_ble_eq_true rfl) (fun H hH => ⟨⟨(y1.1, _), PS_g y1.2.1, PVc_of y1.2.2, CE_d upd_s hk, fun j hj => upd_n (by omega)⟩, rfl, hH⟩)
end M16
