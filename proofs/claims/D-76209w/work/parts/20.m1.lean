/-! the reference: its plain methods -/
set_option maxRecDepth 100000
theorem hdS_X13_within : yX13_within.cls = "LineCallsModel" ∧ yX13_within.cls ≠ "java/lang/invoke/MethodHandle" ∧ yX13_within.cls ≠ "java/lang/invoke/VarHandle" ∧ (parseMethodDescriptor yX13_within.desc).map (fun d => d.parameters.length) = some 3 := by decide +kernel
set_option maxHeartbeats 4000000 in
theorem tM_within (l : Launch) (v lo hi : Int32) : Met l yX13_within (ws_ yX13_within cX13_within 3 (some .boolean)) { frames := 0, cells := 0, slots := 0, locals := 0 } (va_Pc [.int v, .int lo, .int hi] (fun _ => True)) (vp_Si (fun r => r = inF v lo hi)) 0 0 (fun _ => False) := by
  refine n_head (by decide) (Nat.le_of_ble_eq_true rfl) ?_
  intro p e s m below meth c ls hx hb hr hlk hml hown hts hB0 hl
  have hown : s.vm.findClass "LineCallsModel" = some m.cls := hown
  have hl : lv_has ls 3 [(0, .int v), (1, .int lo), (2, .int hi)] := hl
  refine lv_iload_n hx hb dX13_within_0 rfl (lv_at hl 0 rfl) ?_
  refine lv_iload_n hx hb dX13_within_1 rfl (lv_at hl 1 rfl) ?_
  refine lv_icmp_lt (tgt := 14) hx hb dX13_within_2 (by decide) (fun c_2 => ?_) (fun c_2 => ?_)
  · skip
    refine lv_iconst (v := 0) hx hb dX13_within_14 (by decide) ?_
    exact n_pret hx hb hr hlk rfl (by rw [inF, if_pos c_2]) dX13_within_15
  · skip
    refine lv_iload_n hx hb dX13_within_5 rfl (lv_at hl 0 rfl) ?_
    refine lv_iload_n hx hb dX13_within_6 rfl (lv_at hl 2 rfl) ?_
    refine lv_icmp_gt (tgt := 14) hx hb dX13_within_7 (by decide) (fun c_7 => ?_) (fun c_7 => ?_)
    · skip
      refine lv_iconst (v := 0) hx hb dX13_within_14 (by decide) ?_
      exact n_pret hx hb hr hlk rfl (by rw [inF, if_neg c_2, if_pos c_7]) dX13_within_15
    · skip
      refine lv_iconst (v := 1) hx hb dX13_within_10 (by decide) ?_
      refine lv_goto (tgt := 15) hx hb dX13_within_11 (by decide) ?_
      exact n_pret hx hb hr hlk rfl (by rw [inF, if_neg c_2, if_neg c_7]) dX13_within_15
theorem hdS_X13_isPlace : yX13_isPlace.cls = "LineCallsModel" ∧ yX13_isPlace.cls ≠ "java/lang/invoke/MethodHandle" ∧ yX13_isPlace.cls ≠ "java/lang/invoke/VarHandle" ∧ (parseMethodDescriptor yX13_isPlace.desc).map (fun d => d.parameters.length) = some 1 := by decide +kernel
set_option maxHeartbeats 4000000 in
theorem tM_isPlace (l : Launch) (v : Int32) : Met l yX13_isPlace (ws_ yX13_isPlace cX13_isPlace 1 (some .boolean)) { frames := 1, cells := 0, slots := 0, locals := 22 } (va_Pc [.int v] (fun _ => True)) (vp_Si (fun r => r = inF v 0 6)) 0 0 (fun _ => False) := by
  refine n_head (by decide) (Nat.le_of_ble_eq_true rfl) ?_
  intro p e s m below meth c ls hx hb hr hlk hml hown hts hB0 hl
  have hown : s.vm.findClass "LineCallsModel" = some m.cls := hown
  have hl : lv_has ls 1 [(0, .int v)] := hl
  refine lv_iload_n hx hb dX13_isPlace_0 rfl (lv_at hl 0 rfl) ?_
  refine lv_iconst (v := 0) hx hb dX13_isPlace_1 (by decide) ?_
  refine lv_bipush (v := 6) hx hb dX13_isPlace_2 (by decide) ?_
  refine n_callp (va_runS ⟨hx, hb, hml, hown, hts⟩ (tM_within l _ _ _) (va_cwS 3 hts (lw_S q1281 q1282 q106 q1283) rfl rfl rfl (hdS_X13_within).2 ⟨by decide, by decide⟩) pu_pre rfl rfl hl.1 rfl (lv_room (by simp [Value.category])) dX13_isPlace_4 ⟨Nat.zero_le _, Nat.zero_le _⟩) (fun r_4 e_4 => ?_)
  subst e_4
  exact n_pret hx hb hr hlk (inF_b _ _ _) rfl dX13_isPlace_7
theorem hdS_X13_isCall : yX13_isCall.cls = "LineCallsModel" ∧ yX13_isCall.cls ≠ "java/lang/invoke/MethodHandle" ∧ yX13_isCall.cls ≠ "java/lang/invoke/VarHandle" ∧ (parseMethodDescriptor yX13_isCall.desc).map (fun d => d.parameters.length) = some 1 := by decide +kernel
set_option maxHeartbeats 4000000 in
theorem tM_isCall (l : Launch) (v : Int32) : Met l yX13_isCall (ws_ yX13_isCall cX13_isCall 1 (some .boolean)) { frames := 1, cells := 0, slots := 0, locals := 22 } (va_Pc [.int v] (fun _ => True)) (vp_Si (fun r => r = inF v 0 999)) 0 0 (fun _ => False) := by
  refine n_head (by decide) (Nat.le_of_ble_eq_true rfl) ?_
  intro p e s m below meth c ls hx hb hr hlk hml hown hts hB0 hl
  have hown : s.vm.findClass "LineCallsModel" = some m.cls := hown
  have hl : lv_has ls 1 [(0, .int v)] := hl
  refine lv_iload_n hx hb dX13_isCall_0 rfl (lv_at hl 0 rfl) ?_
  refine lv_iconst (v := 0) hx hb dX13_isCall_1 (by decide) ?_
  refine lv_sipush (v := 999) hx hb dX13_isCall_2 (by decide) ?_
  refine n_callp (va_runS ⟨hx, hb, hml, hown, hts⟩ (tM_within l _ _ _) (va_cwS 3 hts (lw_S q1281 q1282 q106 q1283) rfl rfl rfl (hdS_X13_within).2 ⟨by decide, by decide⟩) pu_pre rfl rfl hl.1 rfl (lv_room (by simp [Value.category])) dX13_isCall_5 ⟨Nat.zero_le _, Nat.zero_le _⟩) (fun r_5 e_5 => ?_)
  subst e_5
  exact n_pret hx hb hr hlk (inF_b _ _ _) rfl dX13_isCall_8
theorem hdS_X13_isKind : yX13_isKind.cls = "LineCallsModel" ∧ yX13_isKind.cls ≠ "java/lang/invoke/MethodHandle" ∧ yX13_isKind.cls ≠ "java/lang/invoke/VarHandle" ∧ (parseMethodDescriptor yX13_isKind.desc).map (fun d => d.parameters.length) = some 1 := by decide +kernel
set_option maxHeartbeats 4000000 in
theorem tM_isKind (l : Launch) (v : Int32) : Met l yX13_isKind (ws_ yX13_isKind cX13_isKind 1 (some .boolean)) { frames := 1, cells := 0, slots := 0, locals := 22 } (va_Pc [.int v] (fun _ => True)) (vp_Si (fun r => r = inF v 0 6)) 0 0 (fun _ => False) := by
  refine n_head (by decide) (Nat.le_of_ble_eq_true rfl) ?_
  intro p e s m below meth c ls hx hb hr hlk hml hown hts hB0 hl
  have hown : s.vm.findClass "LineCallsModel" = some m.cls := hown
  have hl : lv_has ls 1 [(0, .int v)] := hl
  refine lv_iload_n hx hb dX13_isKind_0 rfl (lv_at hl 0 rfl) ?_
  refine lv_iconst (v := 0) hx hb dX13_isKind_1 (by decide) ?_
  refine lv_bipush (v := 6) hx hb dX13_isKind_2 (by decide) ?_
  refine n_callp (va_runS ⟨hx, hb, hml, hown, hts⟩ (tM_within l _ _ _) (va_cwS 3 hts (lw_S q1281 q1282 q106 q1283) rfl rfl rfl (hdS_X13_within).2 ⟨by decide, by decide⟩) pu_pre rfl rfl hl.1 rfl (lv_room (by simp [Value.category])) dX13_isKind_4 ⟨Nat.zero_le _, Nat.zero_le _⟩) (fun r_4 e_4 => ?_)
  subst e_4
  exact n_pret hx hb hr hlk (inF_b _ _ _) rfl dX13_isKind_7
theorem hdS_X13_isThought : yX13_isThought.cls = "LineCallsModel" ∧ yX13_isThought.cls ≠ "java/lang/invoke/MethodHandle" ∧ yX13_isThought.cls ≠ "java/lang/invoke/VarHandle" ∧ (parseMethodDescriptor yX13_isThought.desc).map (fun d => d.parameters.length) = some 1 := by decide +kernel
set_option maxHeartbeats 4000000 in
theorem tM_isThought (l : Launch) (v : Int32) : Met l yX13_isThought (ws_ yX13_isThought cX13_isThought 1 (some .boolean)) { frames := 1, cells := 0, slots := 0, locals := 22 } (va_Pc [.int v] (fun _ => True)) (vp_Si (fun r => r = inF v 0 40)) 0 0 (fun _ => False) := by
  refine n_head (by decide) (Nat.le_of_ble_eq_true rfl) ?_
  intro p e s m below meth c ls hx hb hr hlk hml hown hts hB0 hl
  have hown : s.vm.findClass "LineCallsModel" = some m.cls := hown
  have hl : lv_has ls 1 [(0, .int v)] := hl
  refine lv_iload_n hx hb dX13_isThought_0 rfl (lv_at hl 0 rfl) ?_
  refine lv_iconst (v := 0) hx hb dX13_isThought_1 (by decide) ?_
  refine lv_bipush (v := 40) hx hb dX13_isThought_2 (by decide) ?_
  refine n_callp (va_runS ⟨hx, hb, hml, hown, hts⟩ (tM_within l _ _ _) (va_cwS 3 hts (lw_S q1281 q1282 q106 q1283) rfl rfl rfl (hdS_X13_within).2 ⟨by decide, by decide⟩) pu_pre rfl rfl hl.1 rfl (lv_room (by simp [Value.category])) dX13_isThought_4 ⟨Nat.zero_le _, Nat.zero_le _⟩) (fun r_4 e_4 => ?_)
  subst e_4
  exact n_pret hx hb hr hlk (inF_b _ _ _) rfl dX13_isThought_7
theorem hdS_X13_isSpot : yX13_isSpot.cls = "LineCallsModel" ∧ yX13_isSpot.cls ≠ "java/lang/invoke/MethodHandle" ∧ yX13_isSpot.cls ≠ "java/lang/invoke/VarHandle" ∧ (parseMethodDescriptor yX13_isSpot.desc).map (fun d => d.parameters.length) = some 1 := by decide +kernel
set_option maxHeartbeats 4000000 in
theorem tM_isSpot (l : Launch) (v : Int32) : Met l yX13_isSpot (ws_ yX13_isSpot cX13_isSpot 1 (some .boolean)) { frames := 1, cells := 0, slots := 0, locals := 22 } (va_Pc [.int v] (fun _ => True)) (vp_Si (fun r => r = inF v 0 9)) 0 0 (fun _ => False) := by
  refine n_head (by decide) (Nat.le_of_ble_eq_true rfl) ?_
  intro p e s m below meth c ls hx hb hr hlk hml hown hts hB0 hl
  have hown : s.vm.findClass "LineCallsModel" = some m.cls := hown
  have hl : lv_has ls 1 [(0, .int v)] := hl
  refine lv_iload_n hx hb dX13_isSpot_0 rfl (lv_at hl 0 rfl) ?_
  refine lv_iconst (v := 0) hx hb dX13_isSpot_1 (by decide) ?_
  refine lv_bipush (v := 9) hx hb dX13_isSpot_2 (by decide) ?_
  refine n_callp (va_runS ⟨hx, hb, hml, hown, hts⟩ (tM_within l _ _ _) (va_cwS 3 hts (lw_S q1281 q1282 q106 q1283) rfl rfl rfl (hdS_X13_within).2 ⟨by decide, by decide⟩) pu_pre rfl rfl hl.1 rfl (lv_room (by simp [Value.category])) dX13_isSpot_4 ⟨Nat.zero_le _, Nat.zero_le _⟩) (fun r_4 e_4 => ?_)
  subst e_4
  exact n_pret hx hb hr hlk (inF_b _ _ _) rfl dX13_isSpot_7
theorem hdS_X13_isSheet : yX13_isSheet.cls = "LineCallsModel" ∧ yX13_isSheet.cls ≠ "java/lang/invoke/MethodHandle" ∧ yX13_isSheet.cls ≠ "java/lang/invoke/VarHandle" ∧ (parseMethodDescriptor yX13_isSheet.desc).map (fun d => d.parameters.length) = some 1 := by decide +kernel
set_option maxHeartbeats 4000000 in
theorem tM_isSheet (l : Launch) (v : Int32) : Met l yX13_isSheet (ws_ yX13_isSheet cX13_isSheet 1 (some .boolean)) { frames := 1, cells := 0, slots := 0, locals := 22 } (va_Pc [.int v] (fun _ => True)) (vp_Si (fun r => r = inF v 0 3)) 0 0 (fun _ => False) := by
  refine n_head (by decide) (Nat.le_of_ble_eq_true rfl) ?_
  intro p e s m below meth c ls hx hb hr hlk hml hown hts hB0 hl
  have hown : s.vm.findClass "LineCallsModel" = some m.cls := hown
  have hl : lv_has ls 1 [(0, .int v)] := hl
  refine lv_iload_n hx hb dX13_isSheet_0 rfl (lv_at hl 0 rfl) ?_
  refine lv_iconst (v := 0) hx hb dX13_isSheet_1 (by decide) ?_
  refine lv_iconst (v := 3) hx hb dX13_isSheet_2 (by decide) ?_
  refine n_callp (va_runS ⟨hx, hb, hml, hown, hts⟩ (tM_within l _ _ _) (va_cwS 3 hts (lw_S q1281 q1282 q106 q1283) rfl rfl rfl (hdS_X13_within).2 ⟨by decide, by decide⟩) pu_pre rfl rfl hl.1 rfl (lv_room (by simp [Value.category])) dX13_isSheet_3 ⟨Nat.zero_le _, Nat.zero_le _⟩) (fun r_3 e_3 => ?_)
  subst e_3
  exact n_pret hx hb hr hlk (inF_b _ _ _) rfl dX13_isSheet_6
theorem hdS_X13_isField : yX13_isField.cls = "LineCallsModel" ∧ yX13_isField.cls ≠ "java/lang/invoke/MethodHandle" ∧ yX13_isField.cls ≠ "java/lang/invoke/VarHandle" ∧ (parseMethodDescriptor yX13_isField.desc).map (fun d => d.parameters.length) = some 2 := by decide +kernel
set_option maxHeartbeats 4000000 in
theorem tM_isField (l : Launch) (x v : Int32) : Met l yX13_isField (ws_ yX13_isField cX13_isField 2 (some .boolean)) { frames := 2, cells := 0, slots := 0, locals := 42 } (va_Pc [.int x, .int v] (fun _ => True)) (vp_Si (fun r => r = fldF x v)) 0 0 (fun _ => False) := by
  refine n_head (by decide) (Nat.le_of_ble_eq_true rfl) ?_
  intro p e s m below meth c ls hx hb hr hlk hml hown hts hB0 hl
  have hown : s.vm.findClass "LineCallsModel" = some m.cls := hown
  have hl : lv_has ls 2 [(0, .int x), (1, .int v)] := hl
  refine lv_iload_n hx hb dX13_isField_0 rfl (lv_at hl 0 rfl) ?_
  by_cases s_1_0 : x = 0
  · skip
    refine lv_tableIn (tgt := 36) hx hb dX13_isField_1 (by rw [s_1_0]; decide) (by rw [s_1_0]; decide) (off := 35) (by rw [s_1_0]; rfl) (by decide) ?_
    refine lv_iload_n hx hb dX13_isField_36 rfl (lv_at hl 1 rfl) ?_
    refine n_callp (va_runS ⟨hx, hb, hml, hown, hts⟩ (tM_isKind l _) (va_cwS 1 hts (lw_S q1346 q1347 q106 q1348) rfl rfl rfl (hdS_X13_isKind).2 ⟨by decide, by decide⟩) pu_pre rfl rfl hl.1 rfl (lv_room (by simp [Value.category])) dX13_isField_37 ⟨Nat.zero_le _, Nat.zero_le _⟩) (fun r_37 e_37 => ?_)
    subst e_37
    exact n_pret hx hb hr hlk (inF_b _ _ _) (by rw [fldF, if_pos s_1_0]) dX13_isField_40
  by_cases s_1_1 : x = 1
  · skip
    refine lv_tableIn (tgt := 41) hx hb dX13_isField_1 (by rw [s_1_1]; decide) (by rw [s_1_1]; decide) (off := 40) (by rw [s_1_1]; rfl) (by decide) ?_
    refine lv_iload_n hx hb dX13_isField_41 rfl (lv_at hl 1 rfl) ?_
    refine lv_iconst (v := 0) hx hb dX13_isField_42 (by decide) ?_
    refine lv_bipush (v := 99) hx hb dX13_isField_43 (by decide) ?_
    refine n_callp (va_runS ⟨hx, hb, hml, hown, hts⟩ (tM_within l _ _ _) (va_cwS 3 hts (lw_S q1281 q1282 q106 q1283) rfl rfl rfl (hdS_X13_within).2 ⟨by decide, by decide⟩) pu_pre rfl rfl hl.1 rfl (lv_room (by simp [Value.category])) dX13_isField_45 ⟨Nat.zero_le _, Nat.zero_le _⟩) (fun r_45 e_45 => ?_)
    subst e_45
    exact n_pret hx hb hr hlk (inF_b _ _ _) (by rw [fldF, if_neg s_1_0, if_pos s_1_1]) dX13_isField_48
  by_cases s_1_2 : x = 2
  · skip
    refine lv_tableIn (tgt := 41) hx hb dX13_isField_1 (by rw [s_1_2]; decide) (by rw [s_1_2]; decide) (off := 40) (by rw [s_1_2]; rfl) (by decide) ?_
    refine lv_iload_n hx hb dX13_isField_41 rfl (lv_at hl 1 rfl) ?_
    refine lv_iconst (v := 0) hx hb dX13_isField_42 (by decide) ?_
    refine lv_bipush (v := 99) hx hb dX13_isField_43 (by decide) ?_
    refine n_callp (va_runS ⟨hx, hb, hml, hown, hts⟩ (tM_within l _ _ _) (va_cwS 3 hts (lw_S q1281 q1282 q106 q1283) rfl rfl rfl (hdS_X13_within).2 ⟨by decide, by decide⟩) pu_pre rfl rfl hl.1 rfl (lv_room (by simp [Value.category])) dX13_isField_45 ⟨Nat.zero_le _, Nat.zero_le _⟩) (fun r_45 e_45 => ?_)
    subst e_45
    exact n_pret hx hb hr hlk (inF_b _ _ _) (by rw [fldF, if_neg s_1_0, if_neg s_1_1, if_pos s_1_2]) dX13_isField_48
  by_cases s_1_3 : x = 3
  · skip
    refine lv_tableIn (tgt := 49) hx hb dX13_isField_1 (by rw [s_1_3]; decide) (by rw [s_1_3]; decide) (off := 48) (by rw [s_1_3]; rfl) (by decide) ?_
    refine lv_iload_n hx hb dX13_isField_49 rfl (lv_at hl 1 rfl) ?_
    refine lv_iconst (v := 0) hx hb dX13_isField_50 (by decide) ?_
    refine lv_sipush (v := 9999) hx hb dX13_isField_51 (by decide) ?_
    refine n_callp (va_runS ⟨hx, hb, hml, hown, hts⟩ (tM_within l _ _ _) (va_cwS 3 hts (lw_S q1281 q1282 q106 q1283) rfl rfl rfl (hdS_X13_within).2 ⟨by decide, by decide⟩) pu_pre rfl rfl hl.1 rfl (lv_room (by simp [Value.category])) dX13_isField_54 ⟨Nat.zero_le _, Nat.zero_le _⟩) (fun r_54 e_54 => ?_)
    subst e_54
    exact n_pret hx hb hr hlk (inF_b _ _ _) (by rw [fldF, if_neg s_1_0, if_neg s_1_1, if_neg s_1_2, if_pos s_1_3]) dX13_isField_57
  by_cases s_1_4 : x = 4
  · skip
    refine lv_tableIn (tgt := 49) hx hb dX13_isField_1 (by rw [s_1_4]; decide) (by rw [s_1_4]; decide) (off := 48) (by rw [s_1_4]; rfl) (by decide) ?_
    refine lv_iload_n hx hb dX13_isField_49 rfl (lv_at hl 1 rfl) ?_
    refine lv_iconst (v := 0) hx hb dX13_isField_50 (by decide) ?_
    refine lv_sipush (v := 9999) hx hb dX13_isField_51 (by decide) ?_
    refine n_callp (va_runS ⟨hx, hb, hml, hown, hts⟩ (tM_within l _ _ _) (va_cwS 3 hts (lw_S q1281 q1282 q106 q1283) rfl rfl rfl (hdS_X13_within).2 ⟨by decide, by decide⟩) pu_pre rfl rfl hl.1 rfl (lv_room (by simp [Value.category])) dX13_isField_54 ⟨Nat.zero_le _, Nat.zero_le _⟩) (fun r_54 e_54 => ?_)
    subst e_54
    exact n_pret hx hb hr hlk (inF_b _ _ _) (by rw [fldF, if_neg s_1_0, if_neg s_1_1, if_neg s_1_2, if_neg s_1_3, if_pos s_1_4]) dX13_isField_57
  refine lv_tableOut (tgt := 58) hx hb dX13_isField_1 (by have a_0 := ne_ti (k := 0) s_1_0 (by decide); have a_1 := ne_ti (k := 1) s_1_1 (by decide); have a_2 := ne_ti (k := 2) s_1_2 (by decide); have a_3 := ne_ti (k := 3) s_1_3 (by decide); have a_4 := ne_ti (k := 4) s_1_4 (by decide); omega) (by decide) ?_
  refine lv_iconst (v := 0) hx hb dX13_isField_58 (by decide) ?_
  exact n_pret hx hb hr hlk rfl (by rw [fldF, if_neg s_1_0, if_neg s_1_1, if_neg s_1_2, if_neg s_1_3, if_neg s_1_4]) dX13_isField_59
theorem hdS_X13_jumperAt : yX13_jumperAt.cls = "LineCallsModel" ∧ yX13_jumperAt.cls ≠ "java/lang/invoke/MethodHandle" ∧ yX13_jumperAt.cls ≠ "java/lang/invoke/VarHandle" ∧ (parseMethodDescriptor yX13_jumperAt.desc).map (fun d => d.parameters.length) = some 2 := by decide +kernel
set_option maxHeartbeats 4000000 in
theorem tM_jumperAt (l : Launch) (j f : Nat) : Met l yX13_jumperAt (ws_ yX13_jumperAt cX13_jumperAt 2 (some .int)) { frames := 0, cells := 0, slots := 0, locals := 0 } (va_Pc [.int (nI j), .int (nI f)] (fun _ => True)) (vp_Si (fun r => r = nI (44 + 5 * j + f))) 0 0 (fun _ => False) := by
  refine n_head (by decide) (Nat.le_of_ble_eq_true rfl) ?_
  intro p e s m below meth c ls hx hb hr hlk hml hown hts hB0 hl
  have hown : s.vm.findClass "LineCallsModel" = some m.cls := hown
  have hl : lv_has ls 2 [(0, .int (nI j)), (1, .int (nI f))] := hl
  refine lv_bipush (v := 44) hx hb dX13_jumperAt_0 (by decide) ?_
  refine lv_iconst (v := 5) hx hb dX13_jumperAt_2 (by decide) ?_
  refine lv_iload_n hx hb dX13_jumperAt_3 rfl (lv_at hl 0 rfl) ?_
  refine lv_imul hx hb dX13_jumperAt_4 ?_
  refine n_topE (pk_mul 5 j) ?_
  refine lv_iadd hx hb dX13_jumperAt_5 ?_
  refine n_topE (nI_add 44 (5 * j)) ?_
  refine lv_iload_n hx hb dX13_jumperAt_6 rfl (lv_at hl 1 rfl) ?_
  refine lv_iadd hx hb dX13_jumperAt_7 ?_
  refine n_topE (nI_add (44 + (5 * j)) f) ?_
  exact n_pret hx hb hr hlk rfl rfl dX13_jumperAt_8
theorem hdS_X13_bits : yX13_bits.cls = "LineCallsModel" ∧ yX13_bits.cls ≠ "java/lang/invoke/MethodHandle" ∧ yX13_bits.cls ≠ "java/lang/invoke/VarHandle" ∧ (parseMethodDescriptor yX13_bits.desc).map (fun d => d.parameters.length) = some 1 := by decide +kernel
set_option maxHeartbeats 4000000 in
theorem tM_bits (l : Launch) (x : Int32) : Met l yX13_bits (ws_ yX13_bits cX13_bits 3 (some .int)) { frames := 0, cells := 0, slots := 0, locals := 0 } (va_Pc [.int x] (fun _ => True)) (vp_Si (fun r => r = bitsF x)) 0 0 (fun _ => False) := by
  refine n_head (by decide) (Nat.le_of_ble_eq_true rfl) ?_
  intro p e s m below meth c ls hx hb hr hlk hml hown hts hB0 hl
  have hown : s.vm.findClass "LineCallsModel" = some m.cls := hown
  have hl : lv_has ls 3 [(0, .int x)] := hl
  refine lv_iconst (v := 0) hx hb dX13_bits_0 (by decide) ?_
  refine lv_istore_n hx hb dX13_bits_1 rfl hl (by decide) rfl (fun ls hl => ?_)
  refine lv_iload_n hx hb dX13_bits_2 rfl (lv_at hl 1 rfl) ?_
  refine lv_istore_n hx hb dX13_bits_3 rfl hl (by decide) rfl (fun ls hl => ?_)
  refine n_loopR (α := Nat × Int32 × Int32) (fun z ls => z.2.1.toBitVec.toNat ≤ z.1 ∧ btF z.1 z.2.1 z.2.2 = bitsF x ∧ lv_has ls 3 [(0, .int x), (1, .int z.2.2), (2, .int z.2.1)]) (fun z => z.1) 4 ?_ (x.toBitVec.toNat, x, 0) _ ⟨Nat.le_refl _, rfl, (lv_sub hl [2, 1, 0] rfl)⟩
  clear hl
  intro z ls hI ih_4
  obtain ⟨hz, hf, hl⟩ := hI
  obtain ⟨f, y, n⟩ := z
  dsimp only at hz hf hl
  refine lv_iload_n hx hb dX13_bits_4 rfl (lv_at hl 2 rfl) ?_
  refine lv_if_eq (tgt := 20) hx hb dX13_bits_5 (by decide) (fun c_5 => ?_) (fun c_5 => ?_)
  · skip
    rw [c_5, btF_0] at hf
    refine lv_iload_n hx hb dX13_bits_20 rfl (lv_at hl 1 rfl) ?_
    exact n_pret hx hb hr hlk rfl hf dX13_bits_21
  · skip
    refine lv_iinc hx hb dX13_bits_8 hl (k := 1) rfl rfl (by decide) rfl (fun ls hl => ?_)
    refine lv_iload_n hx hb dX13_bits_11 rfl (lv_at hl 2 rfl) ?_
    refine lv_iload_n hx hb dX13_bits_12 rfl (lv_at hl 2 rfl) ?_
    refine lv_iconst (v := 1) hx hb dX13_bits_13 (by decide) ?_
    refine lv_isub hx hb dX13_bits_14 ?_
    refine lv_iand hx hb dX13_bits_15 ?_
    refine lv_istore_n hx hb dX13_bits_16 rfl hl (by decide) rfl (fun ls hl => ?_)
    refine lv_goto (tgt := 4) hx hb dX13_bits_17 (by decide) ?_
    exact ih_4 (f - 1, y &&& (y - 1), n + 1) _ (by have := bt_dec c_5; dsimp only; omega) ⟨by have := bt_dec c_5; dsimp only; omega, bt_nx hz hf c_5, (lv_sub hl [2, 1, 0] rfl)⟩
theorem hdS_X13_saysBy : yX13_saysBy.cls = "LineCallsModel" ∧ yX13_saysBy.cls ≠ "java/lang/invoke/MethodHandle" ∧ yX13_saysBy.cls ≠ "java/lang/invoke/VarHandle" ∧ (parseMethodDescriptor yX13_saysBy.desc).map (fun d => d.parameters.length) = some 2 := by decide +kernel
set_option maxHeartbeats 4000000 in
theorem tM_saysBy (l : Launch) (x cd : Int32) : Met l yX13_saysBy (ws_ yX13_saysBy cX13_saysBy 4 (some .int)) { frames := 1, cells := 0, slots := 0, locals := 22 } (va_Pc [.int x, .int cd] (fun _ => True)) (vp_Si (fun r => r = saysF x cd)) 0 0 (fun _ => False) := by
  refine n_head (by decide) (Nat.le_of_ble_eq_true rfl) ?_
  intro p e s m below meth c ls hx hb hr hlk hml hown hts hB0 hl
  have hown : s.vm.findClass "LineCallsModel" = some m.cls := hown
  have hl : lv_has ls 4 [(0, .int x), (1, .int cd)] := hl
  refine lv_iload_n hx hb dX13_saysBy_0 rfl (lv_at hl 0 rfl) ?_
  refine lv_bipush (v := 10) hx hb dX13_saysBy_1 (by decide) ?_
  refine lv_irem hx hb dX13_saysBy_3 (by decide) ?_
  refine lv_istore_n hx hb dX13_saysBy_4 rfl hl (by decide) rfl (fun ls hl => ?_)
  refine lv_iload_n hx hb dX13_saysBy_5 rfl (lv_at hl 1 rfl) ?_
  refine lv_bipush (v := 10) hx hb dX13_saysBy_6 (by decide) ?_
  refine lv_idiv hx hb dX13_saysBy_8 (by decide) ?_
  refine lv_bipush (v := 10) hx hb dX13_saysBy_9 (by decide) ?_
  refine lv_irem hx hb dX13_saysBy_11 (by decide) ?_
  refine lv_istore_n hx hb dX13_saysBy_12 rfl hl (by decide) rfl (fun ls hl => ?_)
  refine lv_iload_n hx hb dX13_saysBy_13 rfl (lv_at hl 3 rfl) ?_
  by_cases s_14_0 : cd = 0
  · skip
    refine lv_tableIn (tgt := 44) hx hb dX13_saysBy_14 (by rw [s_14_0]; decide) (by rw [s_14_0]; decide) (off := 30) (by rw [s_14_0]; rfl) (by decide) ?_
    refine lv_iload_n hx hb dX13_saysBy_44 rfl (lv_at hl 1 rfl) ?_
    refine lv_bipush (v := 7) hx hb dX13_saysBy_45 (by decide) ?_
    refine lv_irem hx hb dX13_saysBy_47 (by decide) ?_
    exact n_pret hx hb hr hlk rfl (by rw [saysF, if_pos s_14_0]) dX13_saysBy_48
  by_cases s_14_1 : cd = 1
  · skip
    refine lv_tableIn (tgt := 49) hx hb dX13_saysBy_14 (by rw [s_14_1]; decide) (by rw [s_14_1]; decide) (off := 35) (by rw [s_14_1]; rfl) (by decide) ?_
    refine lv_iload_n hx hb dX13_saysBy_49 rfl (lv_at hl 1 rfl) ?_
    refine lv_iload_n hx hb dX13_saysBy_50 rfl (lv_at hl 0 rfl) ?_
    refine lv_iadd hx hb dX13_saysBy_51 ?_
    refine lv_iload_n hx hb dX13_saysBy_52 rfl (lv_at hl 2 rfl) ?_
    refine lv_bipush (v := 100) hx hb dX13_saysBy_53 (by decide) ?_
    refine lv_idiv hx hb dX13_saysBy_55 (by decide) ?_
    refine lv_iadd hx hb dX13_saysBy_56 ?_
    refine lv_bipush (v := 7) hx hb dX13_saysBy_57 (by decide) ?_
    refine lv_irem hx hb dX13_saysBy_59 (by decide) ?_
    exact n_pret hx hb hr hlk rfl (by rw [saysF, if_neg s_14_0, if_pos s_14_1]) dX13_saysBy_60
  by_cases s_14_2 : cd = 2
  · skip
    refine lv_tableIn (tgt := 61) hx hb dX13_saysBy_14 (by rw [s_14_2]; decide) (by rw [s_14_2]; decide) (off := 47) (by rw [s_14_2]; rfl) (by decide) ?_
    refine lv_iload_n hx hb dX13_saysBy_61 rfl (lv_at hl 2 rfl) ?_
    refine lv_bipush (v := 100) hx hb dX13_saysBy_62 (by decide) ?_
    refine lv_idiv hx hb dX13_saysBy_64 (by decide) ?_
    refine lv_bipush (v := 7) hx hb dX13_saysBy_65 (by decide) ?_
    refine lv_irem hx hb dX13_saysBy_67 (by decide) ?_
    exact n_pret hx hb hr hlk rfl (by rw [saysF, if_neg s_14_0, if_neg s_14_1, if_pos s_14_2]) dX13_saysBy_68
  by_cases s_14_3 : cd = 3
  · skip
    refine lv_tableIn (tgt := 69) hx hb dX13_saysBy_14 (by rw [s_14_3]; decide) (by rw [s_14_3]; decide) (off := 55) (by rw [s_14_3]; rfl) (by decide) ?_
    refine lv_iload_n hx hb dX13_saysBy_69 rfl (lv_at hl 1 rfl) ?_
    refine lv_iconst (v := 2) hx hb dX13_saysBy_70 (by decide) ?_
    refine lv_irem hx hb dX13_saysBy_71 (by decide) ?_
    refine lv_iconst (v := 1) hx hb dX13_saysBy_72 (by decide) ?_
    refine lv_icmp_ne (tgt := 80) hx hb dX13_saysBy_73 (by decide) (fun c_73 => ?_) (fun c_73 => ?_)
    · skip
      refine lv_iload_n hx hb dX13_saysBy_80 rfl (lv_at hl 0 rfl) ?_
      refine lv_iconst (v := 2) hx hb dX13_saysBy_81 (by decide) ?_
      refine lv_irem hx hb dX13_saysBy_82 (by decide) ?_
      refine lv_iconst (v := 1) hx hb dX13_saysBy_83 (by decide) ?_
      refine lv_icmp_ne (tgt := 91) hx hb dX13_saysBy_84 (by decide) (fun c_84 => ?_) (fun c_84 => ?_)
      · skip
        refine lv_bipush (v := 6) hx hb dX13_saysBy_91 (by decide) ?_
        exact n_pret hx hb hr hlk rfl (by rw [saysF, if_neg s_14_0, if_neg s_14_1, if_neg s_14_2, if_pos s_14_3, if_neg c_73, if_neg c_84]) dX13_saysBy_93
      · skip
        refine lv_iconst (v := 3) hx hb dX13_saysBy_87 (by decide) ?_
        refine lv_goto (tgt := 93) hx hb dX13_saysBy_88 (by decide) ?_
        exact n_pret hx hb hr hlk rfl (by rw [saysF, if_neg s_14_0, if_neg s_14_1, if_neg s_14_2, if_pos s_14_3, if_neg c_73, if_pos c_84]) dX13_saysBy_93
    · skip
      refine lv_iconst (v := 0) hx hb dX13_saysBy_76 (by decide) ?_
      refine lv_goto (tgt := 93) hx hb dX13_saysBy_77 (by decide) ?_
      exact n_pret hx hb hr hlk rfl (by rw [saysF, if_neg s_14_0, if_neg s_14_1, if_neg s_14_2, if_pos s_14_3, if_pos c_73]) dX13_saysBy_93
  refine lv_tableOut (tgt := 94) hx hb dX13_saysBy_14 (by have a_0 := ne_ti (k := 0) s_14_0 (by decide); have a_1 := ne_ti (k := 1) s_14_1 (by decide); have a_2 := ne_ti (k := 2) s_14_2 (by decide); have a_3 := ne_ti (k := 3) s_14_3 (by decide); omega) (by decide) ?_
  refine lv_iload_n hx hb dX13_saysBy_94 rfl (lv_at hl 2 rfl) ?_
  refine n_callp (va_runS ⟨hx, hb, hml, hown, hts⟩ (tM_bits l _) (va_cwS 1 hts (lw_S q1339 q1340 q106 q1341) rfl rfl rfl (hdS_X13_bits).2 ⟨by decide, by decide⟩) pu_pre rfl rfl hl.1 rfl (lv_room (by simp [Value.category])) dX13_saysBy_95 ⟨Nat.zero_le _, Nat.zero_le _⟩) (fun r_95 e_95 => ?_)
  subst e_95
  refine lv_bipush (v := 7) hx hb dX13_saysBy_98 (by decide) ?_
  refine lv_irem hx hb dX13_saysBy_100 (by decide) ?_
  exact n_pret hx hb hr hlk rfl (by rw [saysF, if_neg s_14_0, if_neg s_14_1, if_neg s_14_2, if_neg s_14_3]) dX13_saysBy_101
theorem hdS_X13_hasBit : yX13_hasBit.cls = "LineCallsModel" ∧ yX13_hasBit.cls ≠ "java/lang/invoke/MethodHandle" ∧ yX13_hasBit.cls ≠ "java/lang/invoke/VarHandle" ∧ (parseMethodDescriptor yX13_hasBit.desc).map (fun d => d.parameters.length) = some 2 := by decide +kernel
set_option maxHeartbeats 4000000 in
theorem tM_hasBit (l : Launch) (x k : Int32) : Met l yX13_hasBit (ws_ yX13_hasBit cX13_hasBit 2 (some .boolean)) { frames := 0, cells := 0, slots := 0, locals := 0 } (va_Pc [.int x, .int k] (fun _ => True)) (vp_Si (fun r => r = hbF x k)) 0 0 (fun _ => False) := by
  refine n_head (by decide) (Nat.le_of_ble_eq_true rfl) ?_
  intro p e s m below meth c ls hx hb hr hlk hml hown hts hB0 hl
  have hown : s.vm.findClass "LineCallsModel" = some m.cls := hown
  have hl : lv_has ls 2 [(0, .int x), (1, .int k)] := hl
  refine lv_iload_n hx hb dX13_hasBit_0 rfl (lv_at hl 0 rfl) ?_
  refine lv_iload_n hx hb dX13_hasBit_1 rfl (lv_at hl 1 rfl) ?_
  refine lv_ishr hx hb dX13_hasBit_2 ?_
  refine lv_iconst (v := 1) hx hb dX13_hasBit_3 (by decide) ?_
  refine lv_iand hx hb dX13_hasBit_4 ?_
  refine lv_iconst (v := 1) hx hb dX13_hasBit_5 (by decide) ?_
  refine lv_icmp_ne (tgt := 13) hx hb dX13_hasBit_6 (by decide) (fun c_6 => ?_) (fun c_6 => ?_)
  · skip
    refine lv_iconst (v := 0) hx hb dX13_hasBit_13 (by decide) ?_
    exact n_pret hx hb hr hlk rfl (by rw [hbF, if_neg c_6]) dX13_hasBit_14
  · skip
    refine lv_iconst (v := 1) hx hb dX13_hasBit_9 (by decide) ?_
    refine lv_goto (tgt := 14) hx hb dX13_hasBit_10 (by decide) ?_
    exact n_pret hx hb hr hlk rfl (by rw [hbF, if_pos c_6]) dX13_hasBit_14
theorem hdS_X13_above : yX13_above.cls = "LineCallsModel" ∧ yX13_above.cls ≠ "java/lang/invoke/MethodHandle" ∧ yX13_above.cls ≠ "java/lang/invoke/VarHandle" ∧ (parseMethodDescriptor yX13_above.desc).map (fun d => d.parameters.length) = some 1 := by decide +kernel
set_option maxHeartbeats 4000000 in
theorem tM_above (l : Launch) (k : Int32) : Met l yX13_above (ws_ yX13_above cX13_above 1 (some .int)) { frames := 0, cells := 0, slots := 0, locals := 0 } (va_Pc [.int k] (fun _ => True)) (vp_Si (fun r => r = abF k)) 0 0 (fun _ => False) := by
  refine n_head (by decide) (Nat.le_of_ble_eq_true rfl) ?_
  intro p e s m below meth c ls hx hb hr hlk hml hown hts hB0 hl
  have hown : s.vm.findClass "LineCallsModel" = some m.cls := hown
  have hl : lv_has ls 1 [(0, .int k)] := hl
  refine lv_iload_n hx hb dX13_above_0 rfl (lv_at hl 0 rfl) ?_
  refine lv_if_ne (tgt := 8) hx hb dX13_above_1 (by decide) (fun c_1 => ?_) (fun c_1 => ?_)
  · skip
    refine lv_iload_n hx hb dX13_above_8 rfl (lv_at hl 0 rfl) ?_
    refine lv_iconst (v := 3) hx hb dX13_above_9 (by decide) ?_
    refine lv_icmp_ne (tgt := 17) hx hb dX13_above_10 (by decide) (fun c_10 => ?_) (fun c_10 => ?_)
    · skip
      refine lv_iload_n hx hb dX13_above_17 rfl (lv_at hl 0 rfl) ?_
      refine lv_iconst (v := 4) hx hb dX13_above_18 (by decide) ?_
      refine lv_icmp_ne (tgt := 26) hx hb dX13_above_19 (by decide) (fun c_19 => ?_) (fun c_19 => ?_)
      · skip
        refine lv_iload_n hx hb dX13_above_26 rfl (lv_at hl 0 rfl) ?_
        refine lv_bipush (v := 6) hx hb dX13_above_27 (by decide) ?_
        refine lv_icmp_ne (tgt := 36) hx hb dX13_above_29 (by decide) (fun c_29 => ?_) (fun c_29 => ?_)
        · skip
          refine lv_iconst (v := 0) hx hb dX13_above_36 (by decide) ?_
          exact n_pret hx hb hr hlk rfl (by rw [abF, if_neg c_1, if_neg c_10, if_neg c_19, if_neg c_29]) dX13_above_37
        · skip
          refine lv_iconst (v := 1) hx hb dX13_above_32 (by decide) ?_
          refine lv_goto (tgt := 37) hx hb dX13_above_33 (by decide) ?_
          exact n_pret hx hb hr hlk rfl (by rw [abF, if_neg c_1, if_neg c_10, if_neg c_19, if_pos c_29]) dX13_above_37
      · skip
        refine lv_iconst (v := 3) hx hb dX13_above_22 (by decide) ?_
        refine lv_goto (tgt := 37) hx hb dX13_above_23 (by decide) ?_
        exact n_pret hx hb hr hlk rfl (by rw [abF, if_neg c_1, if_neg c_10, if_pos c_19]) dX13_above_37
    · skip
      refine lv_iconst (v := 2) hx hb dX13_above_13 (by decide) ?_
      refine lv_goto (tgt := 37) hx hb dX13_above_14 (by decide) ?_
      exact n_pret hx hb hr hlk rfl (by rw [abF, if_neg c_1, if_pos c_10]) dX13_above_37
  · skip
    refine lv_iconst (v := (-1)) hx hb dX13_above_4 (by decide) ?_
    refine lv_goto (tgt := 37) hx hb dX13_above_5 (by decide) ?_
    exact n_pret hx hb hr hlk rfl (by rw [abF, if_pos c_1]) dX13_above_37
theorem hdS_X13_cutTo : yX13_cutTo.cls = "LineCallsModel" ∧ yX13_cutTo.cls ≠ "java/lang/invoke/MethodHandle" ∧ yX13_cutTo.cls ≠ "java/lang/invoke/VarHandle" ∧ (parseMethodDescriptor yX13_cutTo.desc).map (fun d => d.parameters.length) = some 2 := by decide +kernel
set_option maxHeartbeats 4000000 in
theorem tM_cutTo (l : Launch) (v b : Int32) : Met l yX13_cutTo (ws_ yX13_cutTo cX13_cutTo 2 (some .int)) { frames := 0, cells := 0, slots := 0, locals := 0 } (va_Pc [.int v, .int b] (fun _ => True)) (vp_Si (fun r => r = cutF v b)) 0 0 (fun _ => False) := by
  refine n_head (by decide) (Nat.le_of_ble_eq_true rfl) ?_
  intro p e s m below meth c ls hx hb hr hlk hml hown hts hB0 hl
  have hown : s.vm.findClass "LineCallsModel" = some m.cls := hown
  have hl : lv_has ls 2 [(0, .int v), (1, .int b)] := hl
  refine lv_iload_n hx hb dX13_cutTo_0 rfl (lv_at hl 1 rfl) ?_
  refine lv_bipush (v := 8) hx hb dX13_cutTo_1 (by decide) ?_
  refine lv_icmp_ne (tgt := 11) hx hb dX13_cutTo_3 (by decide) (fun c_3 => ?_) (fun c_3 => ?_)
  · skip
    refine lv_iload_n hx hb dX13_cutTo_11 rfl (lv_at hl 1 rfl) ?_
    refine lv_bipush (v := 16) hx hb dX13_cutTo_12 (by decide) ?_
    refine lv_icmp_ne (tgt := 22) hx hb dX13_cutTo_14 (by decide) (fun c_14 => ?_) (fun c_14 => ?_)
    · skip
      refine lv_iload_n hx hb dX13_cutTo_22 rfl (lv_at hl 0 rfl) ?_
      exact n_pret hx hb hr hlk rfl (by rw [cutF, if_neg c_3, if_neg c_14]) dX13_cutTo_23
    · skip
      refine lv_iload_n hx hb dX13_cutTo_17 rfl (lv_at hl 0 rfl) ?_
      refine lv_i2s hx hb dX13_cutTo_18 rfl ?_
      refine lv_goto (tgt := 23) hx hb dX13_cutTo_19 (by decide) ?_
      exact n_pret hx hb hr hlk rfl (by rw [cutF, if_neg c_3, if_pos c_14]) dX13_cutTo_23
  · skip
    refine lv_iload_n hx hb dX13_cutTo_6 rfl (lv_at hl 0 rfl) ?_
    refine lv_i2b hx hb dX13_cutTo_7 rfl ?_
    refine lv_goto (tgt := 23) hx hb dX13_cutTo_8 (by decide) ?_
    exact n_pret hx hb hr hlk rfl (by rw [cutF, if_pos c_3]) dX13_cutTo_23
theorem hdS_X13_isUnder : yX13_isUnder.cls = "LineCallsModel" ∧ yX13_isUnder.cls ≠ "java/lang/invoke/MethodHandle" ∧ yX13_isUnder.cls ≠ "java/lang/invoke/VarHandle" ∧ (parseMethodDescriptor yX13_isUnder.desc).map (fun d => d.parameters.length) = some 2 := by decide +kernel
set_option maxHeartbeats 4000000 in
theorem tM_isUnder (l : Launch) (k0 o : Int32) : Met l yX13_isUnder (ws_ yX13_isUnder cX13_isUnder 3 (some .boolean)) { frames := 1, cells := 0, slots := 0, locals := 20 } (va_Pc [.int k0, .int o] (fun _ => True)) (vp_Si (fun r => r = (if unF (unM k0) k0 o < 0 then 0 else 1))) 0 0 (fun _ => False) := by
  refine n_head (by decide) (Nat.le_of_ble_eq_true rfl) ?_
  intro p e s m below meth c ls hx hb hr hlk hml hown hts hB0 hl
  have hown : s.vm.findClass "LineCallsModel" = some m.cls := hown
  have hl : lv_has ls 3 [(0, .int k0), (1, .int o)] := hl
  refine lv_iload_n hx hb dX13_isUnder_0 rfl (lv_at hl 0 rfl) ?_
  refine lv_istore_n hx hb dX13_isUnder_1 rfl hl (by decide) rfl (fun ls hl => ?_)
  refine n_loopR (α := Nat × Int32) (fun z ls => unM z.2 ≤ z.1 ∧ unF z.1 z.2 o = unF (unM k0) k0 o ∧ lv_has ls 3 [(0, .int k0), (1, .int o), (2, .int z.2)]) (fun z => z.1) 2 ?_ (unM k0, k0) _ ⟨Nat.le_refl _, rfl, (lv_sub hl [1, 2, 0] rfl)⟩
  clear hl
  intro z ls hI ih_2
  obtain ⟨hz, hf, hl⟩ := hI
  obtain ⟨f, k⟩ := z
  dsimp only at hz hf hl
  refine lv_iload_n hx hb dX13_isUnder_2 rfl (lv_at hl 2 rfl) ?_
  refine lv_if_lt (tgt := 19) hx hb dX13_isUnder_3 (by decide) (fun c_3 => ?_) (fun c_3 => ?_)
  · skip
    rw [unF_at (Or.inl c_3)] at hf
    refine lv_iload_n hx hb dX13_isUnder_19 rfl (lv_at hl 2 rfl) ?_
    refine lv_if_lt (tgt := 27) hx hb dX13_isUnder_20 (by decide) (fun c_20 => ?_) (fun c_20 => ?_)
    · skip
      refine lv_iconst (v := 0) hx hb dX13_isUnder_27 (by decide) ?_
      exact n_pret hx hb hr hlk rfl (by rw [← hf]; first | rw [if_pos c_20] | rw [if_neg c_20]) dX13_isUnder_28
    · skip
      refine lv_iconst (v := 1) hx hb dX13_isUnder_23 (by decide) ?_
      refine lv_goto (tgt := 28) hx hb dX13_isUnder_24 (by decide) ?_
      exact n_pret hx hb hr hlk rfl (by rw [← hf]; first | rw [if_pos c_20] | rw [if_neg c_20]) dX13_isUnder_28
  · skip
    refine lv_iload_n hx hb dX13_isUnder_6 rfl (lv_at hl 2 rfl) ?_
    refine lv_iload_n hx hb dX13_isUnder_7 rfl (lv_at hl 1 rfl) ?_
    refine lv_icmp_eq (tgt := 19) hx hb dX13_isUnder_8 (by decide) (fun c_8 => ?_) (fun c_8 => ?_)
    · skip
      rw [unF_at (Or.inr c_8)] at hf
      refine lv_iload_n hx hb dX13_isUnder_19 rfl (lv_at hl 2 rfl) ?_
      refine lv_if_lt (tgt := 27) hx hb dX13_isUnder_20 (by decide) (fun c_20 => ?_) (fun c_20 => ?_)
      · skip
        refine lv_iconst (v := 0) hx hb dX13_isUnder_27 (by decide) ?_
        exact n_pret hx hb hr hlk rfl (by rw [← hf]; first | rw [if_pos c_20] | rw [if_neg c_20]) dX13_isUnder_28
      · skip
        refine lv_iconst (v := 1) hx hb dX13_isUnder_23 (by decide) ?_
        refine lv_goto (tgt := 28) hx hb dX13_isUnder_24 (by decide) ?_
        exact n_pret hx hb hr hlk rfl (by rw [← hf]; first | rw [if_pos c_20] | rw [if_neg c_20]) dX13_isUnder_28
    · skip
      refine lv_iload_n hx hb dX13_isUnder_11 rfl (lv_at hl 2 rfl) ?_
      refine n_callp (va_runS ⟨hx, hb, hml, hown, hts⟩ (tM_above l _) (va_cwS 1 hts (lw_S q1637 q1638 q106 q1639) rfl rfl rfl (hdS_X13_above).2 ⟨by decide, by decide⟩) pu_pre rfl rfl hl.1 rfl (lv_room (by simp [Value.category])) dX13_isUnder_12 ⟨Nat.zero_le _, Nat.zero_le _⟩) (fun r_12 e_12 => ?_)
      subst e_12
      refine lv_istore_n hx hb dX13_isUnder_15 rfl hl (by decide) rfl (fun ls hl => ?_)
      refine lv_goto (tgt := 2) hx hb dX13_isUnder_16 (by decide) ?_
      exact ih_2 (f - 1, abF k) _ (by have h1 := unM_pos c_3; dsimp only; omega) ⟨by have h1 := unM_dec c_3; dsimp only; omega, un_nx hz hf c_3 c_8, (lv_sub hl [1, 2, 0] rfl)⟩
theorem hdS_X13_finding : yX13_finding.cls = "LineCallsModel" ∧ yX13_finding.cls ≠ "java/lang/invoke/MethodHandle" ∧ yX13_finding.cls ≠ "java/lang/invoke/VarHandle" ∧ (parseMethodDescriptor yX13_finding.desc).map (fun d => d.parameters.length) = some 1 := by decide +kernel
set_option maxHeartbeats 4000000 in
theorem tM_finding (l : Launch) (G : nG) (ad : Nat → Nat) (w : rw84) (M : mM) (v : Int32) (k : Nat) (hk : k < 7) (hv : -1000001 - v + 1 = nI (k + 1)) : Met l yX13_finding (ws_ yX13_finding cX13_finding 2 (some .int)) { frames := 0, cells := 0, slots := 0, locals := 0 } (va_Pc [.ref (ad 0), .int v] (nC G (mE G ad w M))) (va_Qi (fun (r : Int32) (u : rw84 × mM) => r = v ∧ u = (w, mFind M k)) (fun u => nC G (mE G ad u.1 u.2)) (nA G)) 0 0 (nA G) := by
  refine n_head (by decide) (Nat.le_of_ble_eq_true rfl) ?_
  intro p e s m below meth c ls hx hb hr hlk hml hown hts hB0 hl
  have hown : s.vm.findClass "LineCallsModel" = some m.cls := hown
  have hw := nS.start hB0
  have hl : lv_has ls 2 [(0, .ref (ad 0)), (1, .int v)] := hl
  refine lv_aload_n hx hb dX13_finding_0 rfl (lv_at hl 0 rfl) ?_
  refine n_get (k := 0) hx hb hts in_X13 hown hw rfl rfl 4 (by decide) q1202 rfl dX13_finding_1 ?_
  refine lv_ldc (v := (-1000001)) hx hb hown (hts _ q1296) dX13_finding_4 ?_
  refine lv_iload_n hx hb dX13_finding_6 rfl (lv_at hl 1 rfl) ?_
  refine lv_isub hx hb dX13_finding_7 ?_
  refine lv_iconst (v := 1) hx hb dX13_finding_8 (by decide) ?_
  refine lv_iadd hx hb dX13_finding_9 ?_
  refine n_topE hv ?_
  refine lv_dup2_11 hx hb dX13_finding_10 rfl rfl ?_
  refine n_iald (k := 5) (j := k + 1) hx hb hw rfl rfl (by omega) (by decide) dX13_finding_11 ?_
  refine lv_iconst (v := 1) hx hb dX13_finding_12 (by decide) ?_
  refine lv_iadd hx hb dX13_finding_13 ?_
  refine m_iast (j := k + 1) hx hb hw 4 rfl (mU_4 _ _ _ _) rfl (by omega) (by decide) dX13_finding_14 (fun H locs hw => ?_)
  refine lv_aload_n hx hb dX13_finding_15 rfl (lv_at hl 0 rfl) ?_
  refine n_get (k := 0) hx hb hts in_X13 hown hw rfl rfl 4 (by decide) q1202 rfl dX13_finding_16 ?_
  refine lv_iconst (v := 0) hx hb dX13_finding_19 (by decide) ?_
  refine lv_dup2_11 hx hb dX13_finding_20 rfl rfl ?_
  refine n_iald (k := 5) (j := 0) hx hb hw rfl rfl (by decide) (by decide) dX13_finding_21 ?_
  refine lv_iconst (v := 1) hx hb dX13_finding_22 (by decide) ?_
  refine lv_iadd hx hb dX13_finding_23 ?_
  refine m_iast (j := 0) hx hb hw 4 rfl (mU_4 _ _ _ _) rfl (by decide) (by decide) dX13_finding_24 (fun H locs hw => ?_)
  refine lv_iload_n hx hb dX13_finding_25 rfl (lv_at hl 1 rfl) ?_
  exact m_iret hx hb hr hlk rfl hw ⟨rfl, rfl⟩ dX13_finding_26
