/-! the class: who stands where wins -/
set_option maxRecDepth 100000
theorem hdS_X0_jumperOf : yX0_jumperOf.cls = "LineCalls" ∧ yX0_jumperOf.cls ≠ "java/lang/invoke/MethodHandle" ∧ yX0_jumperOf.cls ≠ "java/lang/invoke/VarHandle" ∧ (parseMethodDescriptor yX0_jumperOf.desc).map (fun d => d.parameters.length) = some 1 := by decide +kernel
set_option maxHeartbeats 4000000 in
theorem tL_jumperOf (l : Launch) (G : nG) (ad : Nat → Nat) (w w1 w2 w3 : rw84) (X : mM) (sp : xSp) (sh : xSh) (k kd : Nat) (hk : k < 8) (hd : kd < 7) (ek : w (44 + 5 * k + 0) = nI kd) : Met l yX0_jumperOf (ws_ yX0_jumperOf cX0_jumperOf 2 (some (.object "LineCalls$Jumper"))) { frames := 0, cells := 0, slots := 0, locals := 0 } (va_Pc [.ref (ad 64), .int (nI k)] (nC G (xE G ad (xV w w1 w2 w3) X sp sh))) (va_Sq (fun r => r = some (ad (200 + (8 * kd + k))))) 0 0 (fun _ => False) := by
  refine n_head (by decide) (Nat.le_of_ble_eq_true rfl) ?_
  intro p e s m below meth c ls hx hb hr hlk hml hown hts hB0 hl
  have hown : s.vm.findClass "LineCalls" = some m.cls := hown
  have hw := nS.start hB0
  have hl : lv_has ls 2 [(0, .ref (ad 64)), (1, .int (nI k))] := hl
  refine lv_aload_n hx hb dX0_jumperOf_0 rfl (lv_at hl 0 rfl) ?_
  refine n_get (k := 64) hx hb hts in_X0 hown hw (xp 64) rfl 7 (by decide) q422 rfl dX0_jumperOf_1 ?_
  refine lv_bipush (v := 8) hx hb dX0_jumperOf_4 (by decide) ?_
  refine lv_aload_n hx hb dX0_jumperOf_6 rfl (lv_at hl 0 rfl) ?_
  refine n_get (k := 64) hx hb hts in_X0 hown hw (xp 64) rfl 3 (by decide) q418 rfl dX0_jumperOf_7 ?_
  refine n_getN (k := 16 * 0 + 0) hx hb hts in_X4 hown hw (xv0 0) rfl 6 (by decide) q243 rfl dX0_jumperOf_10 ?_
  refine lv_iconst (v := 0) hx hb dX0_jumperOf_13 (by decide) ?_
  refine n_aaldS (k := 16 * 0 + 7) (t := 4) (j := 0) (b := ad (16 * 0 + 8)) hx hb hw (xv0 7) (Or.inr rfl) rfl (by decide) (by decide) rfl dX0_jumperOf_14 ?_
  refine lv_iload_n hx hb dX0_jumperOf_15 rfl (lv_at hl 1 rfl) ?_
  refine n_iald (k := 16 * 0 + 8) (j := k) hx hb hw (xv0 8) rfl (by omega) (by decide) dX0_jumperOf_16 ?_
  refine n_topE ek ?_
  refine lv_imul hx hb dX0_jumperOf_17 ?_
  refine n_topE (pk_mul 8 kd) ?_
  refine lv_iload_n hx hb dX0_jumperOf_18 rfl (lv_at hl 1 rfl) ?_
  refine lv_iadd hx hb dX0_jumperOf_19 ?_
  refine n_topE (nI_add (8 * kd) k) ?_
  refine n_aaldS (k := 69) (t := 3) (j := 8 * kd + k) (b := ad (100 + (8 * kd + k))) hx hb hw (xp 69) (Or.inl rfl) rfl (by omega) (by decide) rfl dX0_jumperOf_20 ?_
  refine n_getN (k := 100 + (8 * kd + k)) hx hb hts in_X5 hown hw (xslot (8 * kd + k) (by omega)) rfl 0 (by decide) q312 rfl dX0_jumperOf_21 ?_
  refine x_castJ hx hb hown hts hw hd hk dX0_jumperOf_24 ?_
  exact n_qret hx hb hr (Or.inl ⟨_, rfl⟩) hlk rfl dX0_jumperOf_27
theorem hdS_X0_isJumper : yX0_isJumper.cls = "LineCalls" ∧ yX0_isJumper.cls ≠ "java/lang/invoke/MethodHandle" ∧ yX0_isJumper.cls ≠ "java/lang/invoke/VarHandle" ∧ (parseMethodDescriptor yX0_isJumper.desc).map (fun d => d.parameters.length) = some 1 := by decide +kernel
set_option maxHeartbeats 4000000 in
theorem tL_isJumper (l : Launch) (G : nG) (ad : Nat → Nat) (w w1 w2 w3 : rw84) (X : mM) (sp : xSp) (sh : xSh) (v : Int32) : Met l yX0_isJumper (ws_ yX0_isJumper cX0_isJumper 2 (some .boolean)) { frames := 1, cells := 0, slots := 0, locals := 22 } (va_Pc [.ref (ad 64), .int v] (nC G (xE G ad (xV w w1 w2 w3) X sp sh))) (vp_Si (fun r => r = inF v 0 (w 1 - 1))) 0 0 (fun _ => False) := by
  refine n_head (by decide) (Nat.le_of_ble_eq_true rfl) ?_
  intro p e s m below meth c ls hx hb hr hlk hml hown hts hB0 hl
  have hown : s.vm.findClass "LineCalls" = some m.cls := hown
  have hw := nS.start hB0
  have hl : lv_has ls 2 [(0, .ref (ad 64)), (1, .int v)] := hl
  refine lv_iload_n hx hb dX0_isJumper_0 rfl (lv_at hl 1 rfl) ?_
  refine lv_iconst (v := 0) hx hb dX0_isJumper_1 (by decide) ?_
  refine lv_aload_n hx hb dX0_isJumper_2 rfl (lv_at hl 0 rfl) ?_
  refine n_get (k := 64) hx hb hts in_X0 hown hw (xp 64) rfl 3 (by decide) q418 rfl dX0_isJumper_3 ?_
  refine n_getN (k := 16 * 0 + 0) hx hb hts in_X4 hown hw (xv0 0) rfl 5 (by decide) q239 rfl dX0_isJumper_6 ?_
  refine lv_iconst (v := 1) hx hb dX0_isJumper_9 (by decide) ?_
  refine lv_isub hx hb dX0_isJumper_10 ?_
  refine n_callp (va_runS ⟨hx, hb, hml, hown, hts⟩ (tX_in l _ _ _) (va_cwS 3 hts (lw_S q459 q460 q90 q461) rfl rfl rfl (hdS_X0_in).2 ⟨by decide, by decide⟩) pu_pre rfl rfl hl.1 rfl (lv_room (by simp [Value.category])) dX0_isJumper_11 ⟨Nat.zero_le _, Nat.zero_le _⟩) (fun r_11 e_11 => ?_)
  subst e_11
  exact n_pret hx hb hr hlk (inF_b _ _ _) rfl dX0_isJumper_14
theorem hdS_X0_wouldWin : yX0_wouldWin.cls = "LineCalls" ∧ yX0_wouldWin.cls ≠ "java/lang/invoke/MethodHandle" ∧ yX0_wouldWin.cls ≠ "java/lang/invoke/VarHandle" ∧ (parseMethodDescriptor yX0_wouldWin.desc).map (fun d => d.parameters.length) = some 1 := by decide +kernel
set_option maxHeartbeats 4000000 in
theorem tL_wouldWin (l : Launch) (G : nG) (ad : Nat → Nat) (w w1 w2 w3 : rw84) (X : mM) (sp : xSp) (sh : xSh) (q B : Nat) (hq : q < 7) (hI : Inv B w) : Met l yX0_wouldWin (ws_ yX0_wouldWin cX0_wouldWin 3 (some .boolean)) { frames := 5, cells := 0, slots := 0, locals := 101 } (va_Pc [.ref (ad 64), .int (nI q)] (nC G (xE G ad (xV w w1 w2 w3) X sp sh))) (vp_Si (fun r => r = winF w q)) 0 0 (fun _ => False) := by
  refine n_head (by decide) (Nat.le_of_ble_eq_true rfl) ?_
  intro p e s m below meth c ls hx hb hr hlk hml hown hts hB0 hl
  have hown : s.vm.findClass "LineCalls" = some m.cls := hown
  have hw := nS.start hB0
  have hl : lv_has ls 3 [(0, .ref (ad 64)), (1, .int (nI q))] := hl
  refine lv_aload_n hx hb dX0_wouldWin_0 rfl (lv_at hl 0 rfl) ?_
  refine n_get (k := 64) hx hb hts in_X0 hown hw (xp 64) rfl 3 (by decide) q418 rfl dX0_wouldWin_1 ?_
  refine n_getN (k := 16 * 0 + 0) hx hb hts in_X4 hown hw (xv0 0) rfl 0 (by decide) q221 rfl dX0_wouldWin_4 ?_
  refine lv_iload_n hx hb dX0_wouldWin_7 rfl (lv_at hl 1 rfl) ?_
  refine n_iald (k := 16 * 0 + 1) (j := q) hx hb hw (xv0 1) rfl (by omega) (by decide) dX0_wouldWin_8 ?_
  refine lv_istore_n hx hb dX0_wouldWin_9 rfl hl (by decide) rfl (fun ls hl => ?_)
  refine lv_iload_n hx hb dX0_wouldWin_10 rfl (lv_at hl 0 rfl) ?_
  refine lv_iconst (v := (-1)) hx hb dX0_wouldWin_11 (by decide) ?_
  refine lv_icmp_eq (tgt := 38) hx hb dX0_wouldWin_12 (by decide) (fun c_12 => ?_) (fun c_12 => ?_)
  · skip
    have c_12 : w (17 + q) < 0 := by rw [c_12]; decide
    refine lv_iconst (v := 0) hx hb dX0_wouldWin_38 (by decide) ?_
    exact n_pret hx hb hr hlk rfl (by rw [winF, if_pos c_12]) dX0_wouldWin_39
  · skip
    obtain ⟨k, hk, e0⟩ := (hI.line hq).resolve_left c_12
    have c_12 : ¬ w (17 + q) < 0 := by rw [e0]; exact nI_pos (by omega)
    obtain ⟨kd, hkd, ek⟩ := hI.kind hk
    have hd : kd < 7 := by omega
    refine lv_aload_n hx hb dX0_wouldWin_15 rfl (lv_at hl 1 rfl) ?_
    refine lv_iload_n hx hb dX0_wouldWin_16 rfl (lv_at hl 0 rfl) ?_
    refine n_topE e0 ?_
    refine n_callpq (va_runV ⟨hx, hb, hml, hown, hts⟩ (tL_jumperOf l G ad _ _ _ _ _ _ _ k kd hk hd ek) (cwV 1 hts (lw_V q549 q551 qs4 q90 q552) rfl rfl rfl hdS_X0_jumperOf ⟨by decide, by decide⟩) (hw.preV (k := 64) (xp 64) rfl) rfl rfl hl.1 rfl (lv_room (by simp [Value.category])) dX0_wouldWin_17 ⟨Nat.zero_le _, Nat.zero_le _⟩) (fun r_17 e_17 => ?_)
    subst e_17
    refine dJ_high hx hb (hml.trans hl.1.symm) hown hts hw hd hk ek ⟨by decide, by decide⟩ ⟨Nat.zero_le _, Nat.zero_le _⟩ (by simp [Value.category]) dX0_wouldWin_20 ?_
    refine lv_aload_n hx hb dX0_wouldWin_23 rfl (lv_at hl 1 rfl) ?_
    refine n_get (k := 64) hx hb hts in_X0 hown hw (xp 64) rfl 3 (by decide) q418 rfl dX0_wouldWin_24 ?_
    refine lv_iload_n hx hb dX0_wouldWin_27 rfl (lv_at hl 2 rfl) ?_
    refine n_callp (va_runV ⟨hx, hb, hml, hown, hts⟩ (tX4_force l G ad _ _ _ _ 0 (by decide) _ (xV_at0 _ _ _ _) (q) (by first | assumption | omega)) (cwV 1 hts (lw_V q483 q484 q485 q97 q486) rfl rfl rfl hdS_X4_force ⟨by decide, by decide⟩) (hw.preV (k := 16 * 0 + 0) (xv0 0) rfl) rfl rfl hl.1 rfl (lv_room (by simp [Value.category])) dX0_wouldWin_28 ⟨Nat.zero_le _, Nat.zero_le _⟩) (fun r_28 e_28 => ?_)
    subst e_28
    refine lv_icmp_le (tgt := 38) hx hb dX0_wouldWin_31 (by decide) (fun c_31 => ?_) (fun c_31 => ?_)
    · skip
      have c_31 : highF w (w (17 + q)).toNatClampNeg ≤ forceF w q := by rw [e0, nI_clamp (by omega)]; exact c_31
      refine lv_iconst (v := 0) hx hb dX0_wouldWin_38 (by decide) ?_
      exact n_pret hx hb hr hlk rfl (by rw [winF, if_neg c_12, if_pos c_31]) dX0_wouldWin_39
    · skip
      have c_31 : ¬ highF w (w (17 + q)).toNatClampNeg ≤ forceF w q := by rw [e0, nI_clamp (by omega)]; exact c_31
      refine lv_iconst (v := 1) hx hb dX0_wouldWin_34 (by decide) ?_
      refine lv_goto (tgt := 39) hx hb dX0_wouldWin_35 (by decide) ?_
      exact n_pret hx hb hr hlk rfl (by rw [winF, if_neg c_12, if_neg c_31]) dX0_wouldWin_39
