/-! the reference: what only reads -/
set_option maxRecDepth 100000
theorem hdS_X13_isJumper : yX13_isJumper.cls = "LineCallsModel" ∧ yX13_isJumper.cls ≠ "java/lang/invoke/MethodHandle" ∧ yX13_isJumper.cls ≠ "java/lang/invoke/VarHandle" ∧ (parseMethodDescriptor yX13_isJumper.desc).map (fun d => d.parameters.length) = some 1 := by decide +kernel
set_option maxHeartbeats 4000000 in
theorem tM_isJumper (l : Launch) (G : nG) (ad : Nat → Nat) (w : rw84) (M : mM) (v : Int32) : Met l yX13_isJumper (ws_ yX13_isJumper cX13_isJumper 2 (some .boolean)) { frames := 1, cells := 0, slots := 0, locals := 22 } (va_Pc [.ref (ad 0), .int v] (nC G (mE G ad w M))) (vp_Si (fun r => r = inF v 0 (w 1 - 1))) 0 0 (fun _ => False) := by
  refine n_head (by decide) (Nat.le_of_ble_eq_true rfl) ?_
  intro p e s m below meth c ls hx hb hr hlk hml hown hts hB0 hl
  have hown : s.vm.findClass "LineCallsModel" = some m.cls := hown
  have hw := nS.start hB0
  have hl : lv_has ls 2 [(0, .ref (ad 0)), (1, .int v)] := hl
  refine lv_iload_n hx hb dX13_isJumper_0 rfl (lv_at hl 1 rfl) ?_
  refine lv_iconst (v := 0) hx hb dX13_isJumper_1 (by decide) ?_
  refine lv_aload_n hx hb dX13_isJumper_2 rfl (lv_at hl 0 rfl) ?_
  refine n_get (k := 0) hx hb hts in_X13 hown hw rfl rfl 0 (by decide) q1198 rfl dX13_isJumper_3 ?_
  refine lv_iconst (v := 1) hx hb dX13_isJumper_6 (by decide) ?_
  refine n_iald (k := 1) (j := 1) hx hb hw rfl rfl (by decide) (by decide) dX13_isJumper_7 ?_
  refine lv_iconst (v := 1) hx hb dX13_isJumper_8 (by decide) ?_
  refine lv_isub hx hb dX13_isJumper_9 ?_
  refine n_callp (va_runS ⟨hx, hb, hml, hown, hts⟩ (tM_within l _ _ _) (va_cwS 3 hts (lw_S q1281 q1282 q106 q1283) rfl rfl rfl (hdS_X13_within).2 ⟨by decide, by decide⟩) pu_pre rfl rfl hl.1 rfl (lv_room (by simp [Value.category])) dX13_isJumper_10 ⟨Nat.zero_le _, Nat.zero_le _⟩) (fun r_10 e_10 => ?_)
  subst e_10
  exact n_pret hx hb hr hlk (inF_b _ _ _) rfl dX13_isJumper_13
theorem hdS_X13_placeOf : yX13_placeOf.cls = "LineCallsModel" ∧ yX13_placeOf.cls ≠ "java/lang/invoke/MethodHandle" ∧ yX13_placeOf.cls ≠ "java/lang/invoke/VarHandle" ∧ (parseMethodDescriptor yX13_placeOf.desc).map (fun d => d.parameters.length) = some 1 := by decide +kernel
set_option maxHeartbeats 4000000 in
theorem tM_placeOf (l : Launch) (G : nG) (ad : Nat → Nat) (w : rw84) (M : mM) (k : Int32) : Met l yX13_placeOf (ws_ yX13_placeOf cX13_placeOf 4 (some .int)) { frames := 0, cells := 0, slots := 0, locals := 0 } (va_Pc [.ref (ad 0), .int k] (nC G (mE G ad w M))) (vp_Si (fun r => r = oI (stN w k 7))) 0 0 (fun _ => False) := by
  refine n_head (by decide) (Nat.le_of_ble_eq_true rfl) ?_
  intro p e s m below meth c ls hx hb hr hlk hml hown hts hB0 hl
  have hown : s.vm.findClass "LineCallsModel" = some m.cls := hown
  have hw := nS.start hB0
  have hl : lv_has ls 4 [(0, .ref (ad 0)), (1, .int k)] := hl
  refine lv_iconst (v := (-1)) hx hb dX13_placeOf_0 (by decide) ?_
  refine lv_istore_n hx hb dX13_placeOf_1 rfl hl (by decide) rfl (fun ls hl => ?_)
  refine lv_iconst (v := 0) hx hb dX13_placeOf_2 (by decide) ?_
  refine lv_istore_n hx hb dX13_placeOf_3 rfl hl (by decide) rfl (fun ls hl => ?_)
  refine n_loopR (α := Nat) (fun q ls => q ≤ 7 ∧ lv_has ls 4 [(0, .ref (ad 0)), (1, .int k), (2, .int (oI (stN w k q))), (3, .int (nI q))]) (fun q => 7 - q) 4 ?_ 0 _ ⟨Nat.zero_le _, (lv_sub hl [2, 3, 1, 0] rfl)⟩
  clear hl
  intro q ls hI ih_4
  obtain ⟨hq, hl⟩ := hI
  refine lv_iload_n hx hb dX13_placeOf_4 rfl (lv_at hl 3 rfl) ?_
  refine lv_bipush (v := 7) hx hb dX13_placeOf_5 (by decide) ?_
  refine lv_icmp_ge (tgt := 35) hx hb dX13_placeOf_7 (by decide) (fun c_7 => ?_) (fun c_7 => ?_)
  · skip
    have n_7 : 7 ≤ q := (nI_leI (a := 7) (b := q) (by omega) (by omega)).mp c_7
    obtain rfl : q = 7 := by omega
    refine lv_iload_n hx hb dX13_placeOf_35 rfl (lv_at hl 2 rfl) ?_
    exact n_pret hx hb hr hlk rfl rfl dX13_placeOf_36
  · skip
    have n_7 : ¬ 7 ≤ q := fun h => c_7 ((nI_leI (a := 7) (b := q) (by omega) (by omega)).mpr h)
    refine lv_aload_n hx hb dX13_placeOf_10 rfl (lv_at hl 0 rfl) ?_
    refine n_get (k := 0) hx hb hts in_X13 hown hw rfl rfl 0 (by decide) q1198 rfl dX13_placeOf_11 ?_
    refine lv_bipush (v := 17) hx hb dX13_placeOf_14 (by decide) ?_
    refine lv_iload_n hx hb dX13_placeOf_16 rfl (lv_at hl 3 rfl) ?_
    refine lv_iadd hx hb dX13_placeOf_17 ?_
    refine n_topE (nI_add 17 q) ?_
    refine n_iald (k := 1) (j := 17 + q) hx hb hw rfl rfl (by omega) (by decide) dX13_placeOf_18 ?_
    refine lv_iload_n hx hb dX13_placeOf_19 rfl (lv_at hl 1 rfl) ?_
    refine lv_icmp_ne (tgt := 27) hx hb dX13_placeOf_20 (by decide) (fun c_20 => ?_) (fun c_20 => ?_)
    · skip
      refine lv_iload_n hx hb dX13_placeOf_27 rfl (lv_at hl 2 rfl) ?_
      refine lv_istore_n hx hb dX13_placeOf_28 rfl hl (by decide) rfl (fun ls hl => ?_)
      refine lv_iinc (v := nI (q + 1)) hx hb dX13_placeOf_29 hl (k := 3) rfl (nI_1 _) (by decide) rfl (fun ls hl => ?_)
      refine lv_goto (tgt := 4) hx hb dX13_placeOf_32 (by decide) ?_
      exact ih_4 (q + 1) _ (by first | omega | (dsimp only; omega)) ⟨by omega, by rw [stN, if_neg c_20]; exact (lv_sub hl [2, 3, 1, 0] rfl)⟩
    · skip
      refine lv_iload_n hx hb dX13_placeOf_23 rfl (lv_at hl 3 rfl) ?_
      refine lv_goto (tgt := 28) hx hb dX13_placeOf_24 (by decide) ?_
      refine lv_istore_n hx hb dX13_placeOf_28 rfl hl (by decide) rfl (fun ls hl => ?_)
      refine lv_iinc (v := nI (q + 1)) hx hb dX13_placeOf_29 hl (k := 3) rfl (nI_1 _) (by decide) rfl (fun ls hl => ?_)
      refine lv_goto (tgt := 4) hx hb dX13_placeOf_32 (by decide) ?_
      exact ih_4 (q + 1) _ (by first | omega | (dsimp only; omega)) ⟨by omega, by rw [stN, if_pos c_20]; exact (lv_sub hl [2, 3, 1, 0] rfl)⟩
theorem hdS_X13_force : yX13_force.cls = "LineCallsModel" ∧ yX13_force.cls ≠ "java/lang/invoke/MethodHandle" ∧ yX13_force.cls ≠ "java/lang/invoke/VarHandle" ∧ (parseMethodDescriptor yX13_force.desc).map (fun d => d.parameters.length) = some 1 := by decide +kernel
set_option maxHeartbeats 4000000 in
theorem tM_force (l : Launch) (G : nG) (ad : Nat → Nat) (w : rw84) (M : mM) (q : Nat) (hq : q < 7) : Met l yX13_force (ws_ yX13_force cX13_force 2 (some .int)) { frames := 0, cells := 0, slots := 0, locals := 0 } (va_Pc [.ref (ad 0), .int (nI q)] (nC G (mE G ad w M))) (vp_Si (fun r => r = forceF w q)) 0 0 (fun _ => False) := by
  refine n_head (by decide) (Nat.le_of_ble_eq_true rfl) ?_
  intro p e s m below meth c ls hx hb hr hlk hml hown hts hB0 hl
  have hown : s.vm.findClass "LineCallsModel" = some m.cls := hown
  have hw := nS.start hB0
  have hl : lv_has ls 2 [(0, .ref (ad 0)), (1, .int (nI q))] := hl
  refine lv_aload_n hx hb dX13_force_0 rfl (lv_at hl 0 rfl) ?_
  refine n_get (k := 0) hx hb hts in_X13 hown hw rfl rfl 0 (by decide) q1198 rfl dX13_force_1 ?_
  refine lv_bipush (v := 24) hx hb dX13_force_4 (by decide) ?_
  refine lv_iload_n hx hb dX13_force_6 rfl (lv_at hl 1 rfl) ?_
  refine lv_iadd hx hb dX13_force_7 ?_
  refine n_topE (nI_add 24 q) ?_
  refine n_iald (k := 1) (j := 24 + q) hx hb hw rfl rfl (by omega) (by decide) dX13_force_8 ?_
  refine lv_aload_n hx hb dX13_force_9 rfl (lv_at hl 0 rfl) ?_
  refine n_get (k := 0) hx hb hts in_X13 hown hw rfl rfl 0 (by decide) q1198 rfl dX13_force_10 ?_
  refine lv_bipush (v := 31) hx hb dX13_force_13 (by decide) ?_
  refine lv_iload_n hx hb dX13_force_15 rfl (lv_at hl 1 rfl) ?_
  refine lv_iadd hx hb dX13_force_16 ?_
  refine n_topE (nI_add 31 q) ?_
  refine n_iald (k := 1) (j := 31 + q) hx hb hw rfl rfl (by omega) (by decide) dX13_force_17 ?_
  refine lv_iconst (v := 2) hx hb dX13_force_18 (by decide) ?_
  refine lv_idiv hx hb dX13_force_19 (by decide) ?_
  refine lv_iadd hx hb dX13_force_20 ?_
  exact n_pret hx hb hr hlk rfl rfl dX13_force_21
theorem hdS_X13_jumperIs : yX13_jumperIs.cls = "LineCallsModel" ∧ yX13_jumperIs.cls ≠ "java/lang/invoke/MethodHandle" ∧ yX13_jumperIs.cls ≠ "java/lang/invoke/VarHandle" ∧ (parseMethodDescriptor yX13_jumperIs.desc).map (fun d => d.parameters.length) = some 2 := by decide +kernel
set_option maxHeartbeats 4000000 in
theorem tM_jumperIs (l : Launch) (G : nG) (ad : Nat → Nat) (w : rw84) (M : mM) (j f : Nat) (hj : j < 8) (hf : f < 5) : Met l yX13_jumperIs (ws_ yX13_jumperIs cX13_jumperIs 3 (some .int)) { frames := 1, cells := 0, slots := 0, locals := 21 } (va_Pc [.ref (ad 0), .int (nI j), .int (nI f)] (nC G (mE G ad w M))) (vp_Si (fun r => r = w (44 + 5 * j + f))) 0 0 (fun _ => False) := by
  refine n_head (by decide) (Nat.le_of_ble_eq_true rfl) ?_
  intro p e s m below meth c ls hx hb hr hlk hml hown hts hB0 hl
  have hown : s.vm.findClass "LineCallsModel" = some m.cls := hown
  have hw := nS.start hB0
  have hl : lv_has ls 3 [(0, .ref (ad 0)), (1, .int (nI j)), (2, .int (nI f))] := hl
  refine lv_aload_n hx hb dX13_jumperIs_0 rfl (lv_at hl 0 rfl) ?_
  refine n_get (k := 0) hx hb hts in_X13 hown hw rfl rfl 0 (by decide) q1198 rfl dX13_jumperIs_1 ?_
  refine lv_iload_n hx hb dX13_jumperIs_4 rfl (lv_at hl 1 rfl) ?_
  refine lv_iload_n hx hb dX13_jumperIs_5 rfl (lv_at hl 2 rfl) ?_
  refine n_callp (va_runS ⟨hx, hb, hml, hown, hts⟩ (tM_jumperAt l (j) (f)) (va_cwS 2 hts (lw_S q1354 q1355 q106 q1356) rfl rfl rfl (hdS_X13_jumperAt).2 ⟨by decide, by decide⟩) pu_pre rfl rfl hl.1 rfl (lv_room (by simp [Value.category])) dX13_jumperIs_6 ⟨Nat.zero_le _, Nat.zero_le _⟩) (fun r_6 e_6 => ?_)
  subst e_6
  refine n_iald (k := 1) (j := 44 + 5 * j + f) hx hb hw rfl rfl (by omega) (by decide) dX13_jumperIs_9 ?_
  exact n_pret hx hb hr hlk rfl rfl dX13_jumperIs_10
theorem hdS_X13_high : yX13_high.cls = "LineCallsModel" ∧ yX13_high.cls ≠ "java/lang/invoke/MethodHandle" ∧ yX13_high.cls ≠ "java/lang/invoke/VarHandle" ∧ (parseMethodDescriptor yX13_high.desc).map (fun d => d.parameters.length) = some 1 := by decide +kernel
set_option maxHeartbeats 4000000 in
theorem tM_high (l : Launch) (G : nG) (ad : Nat → Nat) (w : rw84) (M : mM) (j : Nat) (hj : j < 8) : Met l yX13_high (ws_ yX13_high cX13_high 4 (some .int)) { frames := 2, cells := 0, slots := 0, locals := 43 } (va_Pc [.ref (ad 0), .int (nI j)] (nC G (mE G ad w M))) (vp_Si (fun r => r = highF w j)) 0 0 (fun _ => False) := by
  refine n_head (by decide) (Nat.le_of_ble_eq_true rfl) ?_
  intro p e s m below meth c ls hx hb hr hlk hml hown hts hB0 hl
  have hown : s.vm.findClass "LineCallsModel" = some m.cls := hown
  have hw := nS.start hB0
  have hl : lv_has ls 4 [(0, .ref (ad 0)), (1, .int (nI j))] := hl
  refine lv_iconst (v := 0) hx hb dX13_high_0 (by decide) ?_
  refine lv_aload_n hx hb dX13_high_1 rfl (lv_at hl 0 rfl) ?_
  refine lv_iload_n hx hb dX13_high_2 rfl (lv_at hl 1 rfl) ?_
  refine lv_iconst (v := 1) hx hb dX13_high_3 (by decide) ?_
  refine n_callp (va_runV ⟨hx, hb, hml, hown, hts⟩ (tM_jumperIs l G ad _ _ (j) (1) (by first | assumption | omega) (by first | assumption | omega)) (cwV 2 hts (lw_V q1361 q1363 qs57 q106 q1364) rfl rfl rfl hdS_X13_jumperIs ⟨by decide, by decide⟩) (hw.preV (k := 0) rfl rfl) rfl rfl hl.1 rfl (lv_room (by simp [Value.category])) dX13_high_4 ⟨Nat.zero_le _, Nat.zero_le _⟩) (fun r_4 e_4 => ?_)
  subst e_4
  refine lv_aload_n hx hb dX13_high_7 rfl (lv_at hl 0 rfl) ?_
  refine lv_iload_n hx hb dX13_high_8 rfl (lv_at hl 1 rfl) ?_
  refine lv_iconst (v := 2) hx hb dX13_high_9 (by decide) ?_
  refine n_callp (va_runV ⟨hx, hb, hml, hown, hts⟩ (tM_jumperIs l G ad _ _ (j) (2) (by first | assumption | omega) (by first | assumption | omega)) (cwV 2 hts (lw_V q1361 q1363 qs57 q106 q1364) rfl rfl rfl hdS_X13_jumperIs ⟨by decide, by decide⟩) (hw.preV (k := 0) rfl rfl) rfl rfl hl.1 rfl (lv_room (by simp [Value.category])) dX13_high_10 ⟨Nat.zero_le _, Nat.zero_le _⟩) (fun r_10 e_10 => ?_)
  subst e_10
  refine lv_iconst (v := 4) hx hb dX13_high_13 (by decide) ?_
  refine lv_idiv hx hb dX13_high_14 (by decide) ?_
  refine lv_isub hx hb dX13_high_15 ?_
  refine va_mmax hx hb (hml.trans hl.1.symm) hown (hts _ q1369) (hts _ q625) (hts _ q108) (hts _ q626) (by decide) (by simp [Value.category]) (Nat.zero_le _) (Nat.zero_le _) dX13_high_16 ?_
  refine lv_istore_n hx hb dX13_high_19 rfl hl (by decide) rfl (fun ls hl => ?_)
  refine lv_iload_n hx hb dX13_high_20 rfl (lv_at hl 0 rfl) ?_
  refine lv_bipush (v := 15) hx hb dX13_high_21 (by decide) ?_
  refine lv_iadd hx hb dX13_high_23 ?_
  refine lv_aload_n hx hb dX13_high_24 rfl (lv_at hl 1 rfl) ?_
  refine n_get (k := 0) hx hb hts in_X13 hown hw rfl rfl 0 (by decide) q1198 rfl dX13_high_25 ?_
  refine lv_iconst (v := 4) hx hb dX13_high_28 (by decide) ?_
  refine n_iald (k := 1) (j := 4) hx hb hw rfl rfl (by decide) (by decide) dX13_high_29 ?_
  refine lv_isub hx hb dX13_high_30 ?_
  refine lv_istore_n hx hb dX13_high_31 rfl hl (by decide) rfl (fun ls hl => ?_)
  refine lv_aload_n hx hb dX13_high_32 rfl (lv_at hl 2 rfl) ?_
  refine lv_iload_n hx hb dX13_high_33 rfl (lv_at hl 3 rfl) ?_
  refine lv_iconst (v := 0) hx hb dX13_high_34 (by decide) ?_
  refine n_callp (va_runV ⟨hx, hb, hml, hown, hts⟩ (tM_jumperIs l G ad _ _ (j) (0) (by first | assumption | omega) (by first | assumption | omega)) (cwV 2 hts (lw_V q1361 q1363 qs57 q106 q1364) rfl rfl rfl hdS_X13_jumperIs ⟨by decide, by decide⟩) (hw.preV (k := 0) rfl rfl) rfl rfl hl.1 rfl (lv_room (by simp [Value.category])) dX13_high_35 ⟨Nat.zero_le _, Nat.zero_le _⟩) (fun r_35 e_35 => ?_)
  subst e_35
  by_cases s_38_1 : w (44 + 5 * j + 0) = 1
  · skip
    refine lv_tableIn (tgt := 76) hx hb dX13_high_38 (by rw [s_38_1]; decide) (by rw [s_38_1]; decide) (off := 38) (by rw [s_38_1]; rfl) (by decide) ?_
    refine lv_iload_n hx hb dX13_high_76 rfl (lv_at hl 1 rfl) ?_
    refine lv_iconst (v := 2) hx hb dX13_high_77 (by decide) ?_
    refine lv_idiv hx hb dX13_high_78 (by decide) ?_
    exact n_pret hx hb hr hlk rfl (by rw [highF, if_pos s_38_1] <;> rfl) dX13_high_79
  by_cases s_38_2 : w (44 + 5 * j + 0) = 2
  · skip
    refine lv_tableIn (tgt := 94) hx hb dX13_high_38 (by rw [s_38_2]; decide) (by rw [s_38_2]; decide) (off := 56) (by rw [s_38_2]; rfl) (by decide) ?_
    refine lv_iload_n hx hb dX13_high_94 rfl (lv_at hl 1 rfl) ?_
    refine lv_bipush (v := 10) hx hb dX13_high_95 (by decide) ?_
    refine lv_iadd hx hb dX13_high_97 ?_
    exact n_pret hx hb hr hlk rfl (by rw [highF, if_neg s_38_1, if_pos s_38_2] <;> rfl) dX13_high_98
  by_cases s_38_3 : w (44 + 5 * j + 0) = 3
  · skip
    refine lv_tableIn (tgt := 99) hx hb dX13_high_38 (by rw [s_38_3]; decide) (by rw [s_38_3]; decide) (off := 61) (by rw [s_38_3]; rfl) (by decide) ?_
    refine lv_iload_n hx hb dX13_high_99 rfl (lv_at hl 0 rfl) ?_
    exact n_pret hx hb hr hlk rfl (by rw [highF, if_neg s_38_1, if_neg s_38_2, if_pos s_38_3] <;> rfl) dX13_high_100
  by_cases s_38_4 : w (44 + 5 * j + 0) = 4
  · skip
    refine lv_tableIn (tgt := 101) hx hb dX13_high_38 (by rw [s_38_4]; decide) (by rw [s_38_4]; decide) (off := 63) (by rw [s_38_4]; rfl) (by decide) ?_
    refine lv_aload_n hx hb dX13_high_101 rfl (lv_at hl 2 rfl) ?_
    refine lv_iload_n hx hb dX13_high_102 rfl (lv_at hl 3 rfl) ?_
    refine lv_iconst (v := 2) hx hb dX13_high_103 (by decide) ?_
    refine n_callp (va_runV ⟨hx, hb, hml, hown, hts⟩ (tM_jumperIs l G ad _ _ (j) (2) (by first | assumption | omega) (by first | assumption | omega)) (cwV 2 hts (lw_V q1361 q1363 qs57 q106 q1364) rfl rfl rfl hdS_X13_jumperIs ⟨by decide, by decide⟩) (hw.preV (k := 0) rfl rfl) rfl rfl hl.1 rfl (lv_room (by simp [Value.category])) dX13_high_104 ⟨Nat.zero_le _, Nat.zero_le _⟩) (fun r_104 e_104 => ?_)
    subst e_104
    refine lv_bipush (v := 20) hx hb dX13_high_107 (by decide) ?_
    refine lv_icmp_ge (tgt := 119) hx hb dX13_high_109 (by decide) (fun c_109 => ?_) (fun c_109 => ?_)
    · skip
      refine lv_iload_n hx hb dX13_high_119 rfl (lv_at hl 0 rfl) ?_
      exact n_pret hx hb hr hlk rfl (by rw [highF, if_neg s_38_1, if_neg s_38_2, if_neg s_38_3, if_pos s_38_4, if_pos c_109] <;> rfl) dX13_high_120
    · skip
      refine lv_iload_n hx hb dX13_high_112 rfl (lv_at hl 0 rfl) ?_
      refine lv_bipush (v := 10) hx hb dX13_high_113 (by decide) ?_
      refine lv_iadd hx hb dX13_high_115 ?_
      refine lv_goto (tgt := 120) hx hb dX13_high_116 (by decide) ?_
      exact n_pret hx hb hr hlk rfl (by rw [highF, if_neg s_38_1, if_neg s_38_2, if_neg s_38_3, if_pos s_38_4, if_neg c_109] <;> rfl) dX13_high_120
  by_cases s_38_5 : w (44 + 5 * j + 0) = 5
  · skip
    refine lv_tableIn (tgt := 121) hx hb dX13_high_38 (by rw [s_38_5]; decide) (by rw [s_38_5]; decide) (off := 83) (by rw [s_38_5]; rfl) (by decide) ?_
    refine lv_aload_n hx hb dX13_high_121 rfl (lv_at hl 2 rfl) ?_
    refine n_get (k := 0) hx hb hts in_X13 hown hw rfl rfl 0 (by decide) q1198 rfl dX13_high_122 ?_
    refine lv_iconst (v := 0) hx hb dX13_high_125 (by decide) ?_
    refine n_iald (k := 1) (j := 0) hx hb hw rfl rfl (by decide) (by decide) dX13_high_126 ?_
    refine lv_iconst (v := 2) hx hb dX13_high_127 (by decide) ?_
    refine lv_irem hx hb dX13_high_128 (by decide) ?_
    refine lv_iconst (v := 1) hx hb dX13_high_129 (by decide) ?_
    refine lv_icmp_ne (tgt := 137) hx hb dX13_high_130 (by decide) (fun c_130 => ?_) (fun c_130 => ?_)
    · skip
      refine lv_iload_n hx hb dX13_high_137 rfl (lv_at hl 1 rfl) ?_
      exact n_pret hx hb hr hlk rfl (by rw [highF, if_neg s_38_1, if_neg s_38_2, if_neg s_38_3, if_neg s_38_4, if_pos s_38_5, if_neg c_130] <;> rfl) dX13_high_138
    · skip
      refine lv_iconst (v := 0) hx hb dX13_high_133 (by decide) ?_
      refine lv_goto (tgt := 138) hx hb dX13_high_134 (by decide) ?_
      exact n_pret hx hb hr hlk rfl (by rw [highF, if_neg s_38_1, if_neg s_38_2, if_neg s_38_3, if_neg s_38_4, if_pos s_38_5, if_pos c_130] <;> rfl) dX13_high_138
  by_cases s_38_6 : w (44 + 5 * j + 0) = 6
  · skip
    refine lv_tableIn (tgt := 80) hx hb dX13_high_38 (by rw [s_38_6]; decide) (by rw [s_38_6]; decide) (off := 42) (by rw [s_38_6]; rfl) (by decide) ?_
    refine lv_iload_n hx hb dX13_high_80 rfl (lv_at hl 1 rfl) ?_
    refine lv_iconst (v := 2) hx hb dX13_high_81 (by decide) ?_
    refine lv_idiv hx hb dX13_high_82 (by decide) ?_
    refine lv_bipush (v := 30) hx hb dX13_high_83 (by decide) ?_
    refine lv_iadd hx hb dX13_high_85 ?_
    refine lv_aload_n hx hb dX13_high_86 rfl (lv_at hl 2 rfl) ?_
    refine n_get (k := 0) hx hb hts in_X13 hown hw rfl rfl 0 (by decide) q1198 rfl dX13_high_87 ?_
    refine lv_iconst (v := 5) hx hb dX13_high_90 (by decide) ?_
    refine n_iald (k := 1) (j := 5) hx hb hw rfl rfl (by decide) (by decide) dX13_high_91 ?_
    refine lv_isub hx hb dX13_high_92 ?_
    exact n_pret hx hb hr hlk rfl (by rw [highF, if_neg s_38_1, if_neg s_38_2, if_neg s_38_3, if_neg s_38_4, if_neg s_38_5, if_pos s_38_6] <;> rfl) dX13_high_93
  refine lv_tableOut (tgt := 139) hx hb dX13_high_38 (by have a_0 := ne_ti (k := 1) s_38_1 (by decide); have a_1 := ne_ti (k := 2) s_38_2 (by decide); have a_2 := ne_ti (k := 3) s_38_3 (by decide); have a_3 := ne_ti (k := 4) s_38_4 (by decide); have a_4 := ne_ti (k := 5) s_38_5 (by decide); have a_5 := ne_ti (k := 6) s_38_6 (by decide); omega) (by decide) ?_
  refine lv_iload_n hx hb dX13_high_139 rfl (lv_at hl 1 rfl) ?_
  exact n_pret hx hb hr hlk rfl (by rw [highF, if_neg s_38_1, if_neg s_38_2, if_neg s_38_3, if_neg s_38_4, if_neg s_38_5, if_neg s_38_6] <;> rfl) dX13_high_140
theorem hdS_X13_gainsIn : yX13_gainsIn.cls = "LineCallsModel" ∧ yX13_gainsIn.cls ≠ "java/lang/invoke/MethodHandle" ∧ yX13_gainsIn.cls ≠ "java/lang/invoke/VarHandle" ∧ (parseMethodDescriptor yX13_gainsIn.desc).map (fun d => d.parameters.length) = some 2 := by decide +kernel
set_option maxHeartbeats 4000000 in
theorem tM_gainsIn (l : Launch) (G : nG) (ad : Nat → Nat) (w : rw84) (M : mM) (j : Nat) (v : Int32) (hj : j < 8) : Met l yX13_gainsIn (ws_ yX13_gainsIn cX13_gainsIn 3 (some .int)) { frames := 2, cells := 0, slots := 0, locals := 43 } (va_Pc [.ref (ad 0), .int (nI j), .int v] (nC G (mE G ad w M))) (vp_Si (fun r => r = gainF w j v)) 0 0 (fun _ => False) := by
  refine n_head (by decide) (Nat.le_of_ble_eq_true rfl) ?_
  intro p e s m below meth c ls hx hb hr hlk hml hown hts hB0 hl
  have hown : s.vm.findClass "LineCallsModel" = some m.cls := hown
  have hw := nS.start hB0
  have hl : lv_has ls 3 [(0, .ref (ad 0)), (1, .int (nI j)), (2, .int v)] := hl
  refine lv_aload_n hx hb dX13_gainsIn_0 rfl (lv_at hl 0 rfl) ?_
  refine lv_iload_n hx hb dX13_gainsIn_1 rfl (lv_at hl 1 rfl) ?_
  refine lv_iconst (v := 0) hx hb dX13_gainsIn_2 (by decide) ?_
  refine n_callp (va_runV ⟨hx, hb, hml, hown, hts⟩ (tM_jumperIs l G ad _ _ (j) (0) (by first | assumption | omega) (by first | assumption | omega)) (cwV 2 hts (lw_V q1361 q1363 qs57 q106 q1364) rfl rfl rfl hdS_X13_jumperIs ⟨by decide, by decide⟩) (hw.preV (k := 0) rfl rfl) rfl rfl hl.1 rfl (lv_room (by simp [Value.category])) dX13_gainsIn_3 ⟨Nat.zero_le _, Nat.zero_le _⟩) (fun r_3 e_3 => ?_)
  subst e_3
  by_cases s_6_1 : w (44 + 5 * j + 0) = 1
  · skip
    refine lv_tableIn (tgt := 44) hx hb dX13_gainsIn_6 (by rw [s_6_1]; decide) (by rw [s_6_1]; decide) (off := 38) (by rw [s_6_1]; rfl) (by decide) ?_
    refine lv_iconst (v := 1) hx hb dX13_gainsIn_44 (by decide) ?_
    exact n_pret hx hb hr hlk rfl (by rw [gainF, if_pos s_6_1] <;> rfl) dX13_gainsIn_45
  by_cases s_6_2 : w (44 + 5 * j + 0) = 2
  · skip
    refine lv_tableIn (tgt := 52) hx hb dX13_gainsIn_6 (by rw [s_6_2]; decide) (by rw [s_6_2]; decide) (off := 46) (by rw [s_6_2]; rfl) (by decide) ?_
    refine lv_iload_n hx hb dX13_gainsIn_52 rfl (lv_at hl 2 rfl) ?_
    refine lv_iconst (v := 2) hx hb dX13_gainsIn_53 (by decide) ?_
    refine lv_iadd hx hb dX13_gainsIn_54 ?_
    exact n_pret hx hb hr hlk rfl (by rw [gainF, if_neg s_6_1, if_pos s_6_2] <;> rfl) dX13_gainsIn_55
  by_cases s_6_3 : w (44 + 5 * j + 0) = 3
  · skip
    refine lv_tableIn (tgt := 52) hx hb dX13_gainsIn_6 (by rw [s_6_3]; decide) (by rw [s_6_3]; decide) (off := 46) (by rw [s_6_3]; rfl) (by decide) ?_
    refine lv_iload_n hx hb dX13_gainsIn_52 rfl (lv_at hl 2 rfl) ?_
    refine lv_iconst (v := 2) hx hb dX13_gainsIn_53 (by decide) ?_
    refine lv_iadd hx hb dX13_gainsIn_54 ?_
    exact n_pret hx hb hr hlk rfl (by rw [gainF, if_neg s_6_1, if_neg s_6_2, if_pos s_6_3] <;> rfl) dX13_gainsIn_55
  by_cases s_6_4 : w (44 + 5 * j + 0) = 4
  · skip
    refine lv_tableIn (tgt := 56) hx hb dX13_gainsIn_6 (by rw [s_6_4]; decide) (by rw [s_6_4]; decide) (off := 50) (by rw [s_6_4]; rfl) (by decide) ?_
    refine lv_iconst (v := 0) hx hb dX13_gainsIn_56 (by decide) ?_
    refine lv_iload_n hx hb dX13_gainsIn_57 rfl (lv_at hl 2 rfl) ?_
    refine lv_iconst (v := 2) hx hb dX13_gainsIn_58 (by decide) ?_
    refine lv_iadd hx hb dX13_gainsIn_59 ?_
    refine lv_aload_n hx hb dX13_gainsIn_60 rfl (lv_at hl 0 rfl) ?_
    refine n_get (k := 0) hx hb hts in_X13 hown hw rfl rfl 0 (by decide) q1198 rfl dX13_gainsIn_61 ?_
    refine lv_iconst (v := 4) hx hb dX13_gainsIn_64 (by decide) ?_
    refine n_iald (k := 1) (j := 4) hx hb hw rfl rfl (by decide) (by decide) dX13_gainsIn_65 ?_
    refine lv_isub hx hb dX13_gainsIn_66 ?_
    refine va_mmax hx hb (hml.trans hl.1.symm) hown (hts _ q1369) (hts _ q625) (hts _ q108) (hts _ q626) (by decide) (by simp [Value.category]) (Nat.zero_le _) (Nat.zero_le _) dX13_gainsIn_67 ?_
    exact n_pret hx hb hr hlk rfl (by rw [gainF, if_neg s_6_1, if_neg s_6_2, if_neg s_6_3, if_pos s_6_4] <;> rfl) dX13_gainsIn_70
  by_cases s_6_5 : w (44 + 5 * j + 0) = 5
  · skip
    refine lv_tableIn (tgt := 71) hx hb dX13_gainsIn_6 (by rw [s_6_5]; decide) (by rw [s_6_5]; decide) (off := 65) (by rw [s_6_5]; rfl) (by decide) ?_
    refine lv_iload_n hx hb dX13_gainsIn_71 rfl (lv_at hl 2 rfl) ?_
    exact n_pret hx hb hr hlk rfl (by rw [gainF, if_neg s_6_1, if_neg s_6_2, if_neg s_6_3, if_neg s_6_4, if_pos s_6_5] <;> rfl) dX13_gainsIn_72
  by_cases s_6_6 : w (44 + 5 * j + 0) = 6
  · skip
    refine lv_tableIn (tgt := 46) hx hb dX13_gainsIn_6 (by rw [s_6_6]; decide) (by rw [s_6_6]; decide) (off := 40) (by rw [s_6_6]; rfl) (by decide) ?_
    refine lv_iconst (v := 1) hx hb dX13_gainsIn_46 (by decide) ?_
    refine lv_iconst (v := 2) hx hb dX13_gainsIn_47 (by decide) ?_
    refine lv_iload_n hx hb dX13_gainsIn_48 rfl (lv_at hl 2 rfl) ?_
    refine lv_imul hx hb dX13_gainsIn_49 ?_
    refine lv_iadd hx hb dX13_gainsIn_50 ?_
    exact n_pret hx hb hr hlk rfl (by rw [gainF, if_neg s_6_1, if_neg s_6_2, if_neg s_6_3, if_neg s_6_4, if_neg s_6_5, if_pos s_6_6] <;> rfl) dX13_gainsIn_51
  refine lv_tableOut (tgt := 71) hx hb dX13_gainsIn_6 (by have a_0 := ne_ti (k := 1) s_6_1 (by decide); have a_1 := ne_ti (k := 2) s_6_2 (by decide); have a_2 := ne_ti (k := 3) s_6_3 (by decide); have a_3 := ne_ti (k := 4) s_6_4 (by decide); have a_4 := ne_ti (k := 5) s_6_5 (by decide); have a_5 := ne_ti (k := 6) s_6_6 (by decide); omega) (by decide) ?_
  refine lv_iload_n hx hb dX13_gainsIn_71 rfl (lv_at hl 2 rfl) ?_
  exact n_pret hx hb hr hlk rfl (by rw [gainF, if_neg s_6_1, if_neg s_6_2, if_neg s_6_3, if_neg s_6_4, if_neg s_6_5, if_neg s_6_6] <;> rfl) dX13_gainsIn_72
theorem hdS_X13_tires : yX13_tires.cls = "LineCallsModel" ∧ yX13_tires.cls ≠ "java/lang/invoke/MethodHandle" ∧ yX13_tires.cls ≠ "java/lang/invoke/VarHandle" ∧ (parseMethodDescriptor yX13_tires.desc).map (fun d => d.parameters.length) = some 1 := by decide +kernel
set_option maxHeartbeats 4000000 in
theorem tM_tires (l : Launch) (G : nG) (ad : Nat → Nat) (w : rw84) (M : mM) (j : Nat) (hj : j < 8) : Met l yX13_tires (ws_ yX13_tires cX13_tires 2 (some .int)) { frames := 2, cells := 0, slots := 0, locals := 43 } (va_Pc [.ref (ad 0), .int (nI j)] (nC G (mE G ad w M))) (vp_Si (fun r => r = tireF w j)) 0 0 (fun _ => False) := by
  refine n_head (by decide) (Nat.le_of_ble_eq_true rfl) ?_
  intro p e s m below meth c ls hx hb hr hlk hml hown hts hB0 hl
  have hown : s.vm.findClass "LineCallsModel" = some m.cls := hown
  have hw := nS.start hB0
  have hl : lv_has ls 2 [(0, .ref (ad 0)), (1, .int (nI j))] := hl
  refine lv_aload_n hx hb dX13_tires_0 rfl (lv_at hl 0 rfl) ?_
  refine lv_iload_n hx hb dX13_tires_1 rfl (lv_at hl 1 rfl) ?_
  refine lv_iconst (v := 0) hx hb dX13_tires_2 (by decide) ?_
  refine n_callp (va_runV ⟨hx, hb, hml, hown, hts⟩ (tM_jumperIs l G ad _ _ (j) (0) (by first | assumption | omega) (by first | assumption | omega)) (cwV 2 hts (lw_V q1361 q1363 qs57 q106 q1364) rfl rfl rfl hdS_X13_jumperIs ⟨by decide, by decide⟩) (hw.preV (k := 0) rfl rfl) rfl rfl hl.1 rfl (lv_room (by simp [Value.category])) dX13_tires_3 ⟨Nat.zero_le _, Nat.zero_le _⟩) (fun r_3 e_3 => ?_)
  subst e_3
  by_cases s_6_1 : w (44 + 5 * j + 0) = 1
  · skip
    refine lv_tableIn (tgt := 44) hx hb dX13_tires_6 (by rw [s_6_1]; decide) (by rw [s_6_1]; decide) (off := 38) (by rw [s_6_1]; rfl) (by decide) ?_
    refine lv_bipush (v := 8) hx hb dX13_tires_44 (by decide) ?_
    exact n_pret hx hb hr hlk rfl (by rw [tireF, if_pos s_6_1] <;> rfl) dX13_tires_46
  by_cases s_6_2 : w (44 + 5 * j + 0) = 2
  · skip
    refine lv_tableIn (tgt := 49) hx hb dX13_tires_6 (by rw [s_6_2]; decide) (by rw [s_6_2]; decide) (off := 43) (by rw [s_6_2]; rfl) (by decide) ?_
    refine lv_iconst (v := 4) hx hb dX13_tires_49 (by decide) ?_
    exact n_pret hx hb hr hlk rfl (by rw [tireF, if_neg s_6_1, if_pos s_6_2] <;> rfl) dX13_tires_50
  by_cases s_6_3 : w (44 + 5 * j + 0) = 3
  · skip
    refine lv_tableIn (tgt := 49) hx hb dX13_tires_6 (by rw [s_6_3]; decide) (by rw [s_6_3]; decide) (off := 43) (by rw [s_6_3]; rfl) (by decide) ?_
    refine lv_iconst (v := 4) hx hb dX13_tires_49 (by decide) ?_
    exact n_pret hx hb hr hlk rfl (by rw [tireF, if_neg s_6_1, if_neg s_6_2, if_pos s_6_3] <;> rfl) dX13_tires_50
  by_cases s_6_4 : w (44 + 5 * j + 0) = 4
  · skip
    refine lv_tableIn (tgt := 44) hx hb dX13_tires_6 (by rw [s_6_4]; decide) (by rw [s_6_4]; decide) (off := 38) (by rw [s_6_4]; rfl) (by decide) ?_
    refine lv_bipush (v := 8) hx hb dX13_tires_44 (by decide) ?_
    exact n_pret hx hb hr hlk rfl (by rw [tireF, if_neg s_6_1, if_neg s_6_2, if_neg s_6_3, if_pos s_6_4] <;> rfl) dX13_tires_46
  by_cases s_6_5 : w (44 + 5 * j + 0) = 5
  · skip
    refine lv_tableIn (tgt := 51) hx hb dX13_tires_6 (by rw [s_6_5]; decide) (by rw [s_6_5]; decide) (off := 45) (by rw [s_6_5]; rfl) (by decide) ?_
    refine lv_iconst (v := 5) hx hb dX13_tires_51 (by decide) ?_
    refine lv_aload_n hx hb dX13_tires_52 rfl (lv_at hl 0 rfl) ?_
    refine n_get (k := 0) hx hb hts in_X13 hown hw rfl rfl 0 (by decide) q1198 rfl dX13_tires_53 ?_
    refine lv_iconst (v := 5) hx hb dX13_tires_56 (by decide) ?_
    refine n_iald (k := 1) (j := 5) hx hb hw rfl rfl (by decide) (by decide) dX13_tires_57 ?_
    refine lv_iadd hx hb dX13_tires_58 ?_
    exact n_pret hx hb hr hlk rfl (by rw [tireF, if_neg s_6_1, if_neg s_6_2, if_neg s_6_3, if_neg s_6_4, if_pos s_6_5] <;> rfl) dX13_tires_59
  by_cases s_6_6 : w (44 + 5 * j + 0) = 6
  · skip
    refine lv_tableIn (tgt := 47) hx hb dX13_tires_6 (by rw [s_6_6]; decide) (by rw [s_6_6]; decide) (off := 41) (by rw [s_6_6]; rfl) (by decide) ?_
    refine lv_iconst (v := 2) hx hb dX13_tires_47 (by decide) ?_
    exact n_pret hx hb hr hlk rfl (by rw [tireF, if_neg s_6_1, if_neg s_6_2, if_neg s_6_3, if_neg s_6_4, if_neg s_6_5, if_pos s_6_6] <;> rfl) dX13_tires_48
  refine lv_tableOut (tgt := 60) hx hb dX13_tires_6 (by have a_0 := ne_ti (k := 1) s_6_1 (by decide); have a_1 := ne_ti (k := 2) s_6_2 (by decide); have a_2 := ne_ti (k := 3) s_6_3 (by decide); have a_3 := ne_ti (k := 4) s_6_4 (by decide); have a_4 := ne_ti (k := 5) s_6_5 (by decide); have a_5 := ne_ti (k := 6) s_6_6 (by decide); omega) (by decide) ?_
  refine lv_iconst (v := 5) hx hb dX13_tires_60 (by decide) ?_
  exact n_pret hx hb hr hlk rfl (by rw [tireF, if_neg s_6_1, if_neg s_6_2, if_neg s_6_3, if_neg s_6_4, if_neg s_6_5, if_neg s_6_6] <;> rfl) dX13_tires_61
theorem hdS_X13_placeNext : yX13_placeNext.cls = "LineCallsModel" ∧ yX13_placeNext.cls ≠ "java/lang/invoke/MethodHandle" ∧ yX13_placeNext.cls ≠ "java/lang/invoke/VarHandle" ∧ (parseMethodDescriptor yX13_placeNext.desc).map (fun d => d.parameters.length) = some 0 := by decide +kernel
set_option maxHeartbeats 4000000 in
theorem tM_placeNext (l : Launch) (G : nG) (ad : Nat → Nat) (w : rw84) (M : mM) (B : Nat) (hI : Inv B w) (hB : B < 2 ^ 31) : Met l yX13_placeNext (ws_ yX13_placeNext cX13_placeNext 1 (some .int)) { frames := 2, cells := 0, slots := 0, locals := 45 } (va_Pc [.ref (ad 0)] (nC G (mE G ad w M))) (vp_Si (fun r => r = nextF w)) 0 0 (fun _ => False) := by
  refine n_head (by decide) (Nat.le_of_ble_eq_true rfl) ?_
  intro p e s m below meth c ls hx hb hr hlk hml hown hts hB0 hl
  have hown : s.vm.findClass "LineCallsModel" = some m.cls := hown
  have hw := nS.start hB0
  have hl : lv_has ls 1 [(0, .ref (ad 0))] := hl
  obtain ⟨n, hn, en⟩ := hI.thr
  have hn6 : n % 6 < 6 := Nat.mod_lt _ (by decide)
  refine lv_aload_n hx hb dX13_placeNext_0 rfl (lv_at hl 0 rfl) ?_
  refine n_get (k := 0) hx hb hts in_X13 hown hw rfl rfl 0 (by decide) q1198 rfl dX13_placeNext_1 ?_
  refine lv_bipush (v := 38) hx hb dX13_placeNext_4 (by decide) ?_
  refine lv_aload_n hx hb dX13_placeNext_6 rfl (lv_at hl 0 rfl) ?_
  refine n_get (k := 0) hx hb hts in_X13 hown hw rfl rfl 0 (by decide) q1198 rfl dX13_placeNext_7 ?_
  refine lv_iconst (v := 0) hx hb dX13_placeNext_10 (by decide) ?_
  refine n_iald (k := 1) (j := 0) hx hb hw rfl rfl (by decide) (by decide) dX13_placeNext_11 ?_
  refine lv_bipush (v := 6) hx hb dX13_placeNext_12 (by decide) ?_
  refine lv_irem hx hb dX13_placeNext_14 (by decide) ?_
  refine n_topE (next_eq (by omega) en) ?_
  refine lv_iadd hx hb dX13_placeNext_15 ?_
  refine n_topE (nI_add 38 (n % 6)) ?_
  refine n_iald (k := 1) (j := 38 + (n % 6)) hx hb hw rfl rfl (by omega) (by decide) dX13_placeNext_16 ?_
  refine lv_aload_n hx hb dX13_placeNext_17 rfl (lv_at hl 0 rfl) ?_
  refine n_get (k := 0) hx hb hts in_X13 hown hw rfl rfl 0 (by decide) q1198 rfl dX13_placeNext_18 ?_
  refine lv_bipush (v := 6) hx hb dX13_placeNext_21 (by decide) ?_
  refine n_iald (k := 1) (j := 6) hx hb hw rfl rfl (by decide) (by decide) dX13_placeNext_23 ?_
  refine n_callp (va_runS ⟨hx, hb, hml, hown, hts⟩ (tM_saysBy l _ _) (va_cwS 2 hts (lw_S q1336 q1337 q106 q1338) rfl rfl rfl (hdS_X13_saysBy).2 ⟨by decide, by decide⟩) pu_pre rfl rfl hl.1 rfl (lv_room (by simp [Value.category])) dX13_placeNext_24 ⟨Nat.zero_le _, Nat.zero_le _⟩) (fun r_24 e_24 => ?_)
  subst e_24
  exact n_pret hx hb hr hlk rfl (next_at (by omega) en).symm dX13_placeNext_27
theorem hdS_X13_isWonIn : yX13_isWonIn.cls = "LineCallsModel" ∧ yX13_isWonIn.cls ≠ "java/lang/invoke/MethodHandle" ∧ yX13_isWonIn.cls ≠ "java/lang/invoke/VarHandle" ∧ (parseMethodDescriptor yX13_isWonIn.desc).map (fun d => d.parameters.length) = some 1 := by decide +kernel
set_option maxHeartbeats 4000000 in
theorem tM_isWonIn (l : Launch) (G : nG) (ad : Nat → Nat) (w : rw84) (M : mM) (q B : Nat) (hq : q < 7) (hI : Inv B w) : Met l yX13_isWonIn (ws_ yX13_isWonIn cX13_isWonIn 2 (some .boolean)) { frames := 3, cells := 0, slots := 0, locals := 66 } (va_Pc [.ref (ad 0), .int (nI q)] (nC G (mE G ad w M))) (vp_Si (fun r => r = winF w q)) 0 0 (fun _ => False) := by
  refine n_head (by decide) (Nat.le_of_ble_eq_true rfl) ?_
  intro p e s m below meth c ls hx hb hr hlk hml hown hts hB0 hl
  have hown : s.vm.findClass "LineCallsModel" = some m.cls := hown
  have hw := nS.start hB0
  have hl : lv_has ls 2 [(0, .ref (ad 0)), (1, .int (nI q))] := hl
  refine lv_aload_n hx hb dX13_isWonIn_0 rfl (lv_at hl 0 rfl) ?_
  refine n_get (k := 0) hx hb hts in_X13 hown hw rfl rfl 0 (by decide) q1198 rfl dX13_isWonIn_1 ?_
  refine lv_bipush (v := 17) hx hb dX13_isWonIn_4 (by decide) ?_
  refine lv_iload_n hx hb dX13_isWonIn_6 rfl (lv_at hl 1 rfl) ?_
  refine lv_iadd hx hb dX13_isWonIn_7 ?_
  refine n_topE (nI_add 17 q) ?_
  refine n_iald (k := 1) (j := 17 + q) hx hb hw rfl rfl (by omega) (by decide) dX13_isWonIn_8 ?_
  refine lv_if_lt (tgt := 37) hx hb dX13_isWonIn_9 (by decide) (fun c_9 => ?_) (fun c_9 => ?_)
  · skip
    refine lv_iconst (v := 0) hx hb dX13_isWonIn_37 (by decide) ?_
    exact n_pret hx hb hr hlk rfl (by rw [winF, if_pos c_9]) dX13_isWonIn_38
  · skip
    obtain ⟨k, hk, ek⟩ := hI.who hq c_9
    refine lv_aload_n hx hb dX13_isWonIn_12 rfl (lv_at hl 0 rfl) ?_
    refine lv_aload_n hx hb dX13_isWonIn_13 rfl (lv_at hl 0 rfl) ?_
    refine n_get (k := 0) hx hb hts in_X13 hown hw rfl rfl 0 (by decide) q1198 rfl dX13_isWonIn_14 ?_
    refine lv_bipush (v := 17) hx hb dX13_isWonIn_17 (by decide) ?_
    refine lv_iload_n hx hb dX13_isWonIn_19 rfl (lv_at hl 1 rfl) ?_
    refine lv_iadd hx hb dX13_isWonIn_20 ?_
    refine n_topE (nI_add 17 q) ?_
    refine n_iald (k := 1) (j := 17 + q) hx hb hw rfl rfl (by omega) (by decide) dX13_isWonIn_21 ?_
    refine n_topE ek ?_
    refine n_callp (va_runV ⟨hx, hb, hml, hown, hts⟩ (tM_high l G ad _ _ (k) (by first | assumption | omega)) (cwV 1 hts (lw_V q1365 q1367 qs58 q106 q1368) rfl rfl rfl hdS_X13_high ⟨by decide, by decide⟩) (hw.preV (k := 0) rfl rfl) rfl rfl hl.1 rfl (lv_room (by simp [Value.category])) dX13_isWonIn_22 ⟨Nat.zero_le _, Nat.zero_le _⟩) (fun r_22 e_22 => ?_)
    subst e_22
    refine lv_aload_n hx hb dX13_isWonIn_25 rfl (lv_at hl 0 rfl) ?_
    refine lv_iload_n hx hb dX13_isWonIn_26 rfl (lv_at hl 1 rfl) ?_
    refine n_callp (va_runV ⟨hx, hb, hml, hown, hts⟩ (tM_force l G ad _ _ (q) (by first | assumption | omega)) (cwV 1 hts (lw_V q1305 q1307 qs54 q106 q1308) rfl rfl rfl hdS_X13_force ⟨by decide, by decide⟩) (hw.preV (k := 0) rfl rfl) rfl rfl hl.1 rfl (lv_room (by simp [Value.category])) dX13_isWonIn_27 ⟨Nat.zero_le _, Nat.zero_le _⟩) (fun r_27 e_27 => ?_)
    subst e_27
    refine lv_icmp_le (tgt := 37) hx hb dX13_isWonIn_30 (by decide) (fun c_30 => ?_) (fun c_30 => ?_)
    · skip
      have c_30 : highF w (w (17 + q)).toNatClampNeg ≤ forceF w q := by rw [ek, nI_clamp (by omega)]; exact c_30
      refine lv_iconst (v := 0) hx hb dX13_isWonIn_37 (by decide) ?_
      exact n_pret hx hb hr hlk rfl (by rw [winF, if_neg c_9, if_pos c_30]) dX13_isWonIn_38
    · skip
      have c_30 : ¬ highF w (w (17 + q)).toNatClampNeg ≤ forceF w q := by rw [ek, nI_clamp (by omega)]; exact c_30
      refine lv_iconst (v := 1) hx hb dX13_isWonIn_33 (by decide) ?_
      refine lv_goto (tgt := 38) hx hb dX13_isWonIn_34 (by decide) ?_
      exact n_pret hx hb hr hlk rfl (by rw [winF, if_neg c_9, if_neg c_30]) dX13_isWonIn_38
theorem hdS_X13_sumOf : yX13_sumOf.cls = "LineCallsModel" ∧ yX13_sumOf.cls ≠ "java/lang/invoke/MethodHandle" ∧ yX13_sumOf.cls ≠ "java/lang/invoke/VarHandle" ∧ (parseMethodDescriptor yX13_sumOf.desc).map (fun d => d.parameters.length) = some 1 := by decide +kernel
set_option maxHeartbeats 4000000 in
theorem tM_sumOf (l : Launch) (G : nG) (ad : Nat → Nat) (w : rw84) (M : mM) (f n : Nat) (hf : f < 5) (hn : n ≤ 8) (en : w 1 = nI n) : Met l yX13_sumOf (ws_ yX13_sumOf cX13_sumOf 4 (some .int)) { frames := 2, cells := 0, slots := 0, locals := 43 } (va_Pc [.ref (ad 0), .int (nI f)] (nC G (mE G ad w M))) (vp_Si (fun r => r = sumF w f n)) 0 0 (fun _ => False) := by
  refine n_head (by decide) (Nat.le_of_ble_eq_true rfl) ?_
  intro p e s m below meth c ls hx hb hr hlk hml hown hts hB0 hl
  have hown : s.vm.findClass "LineCallsModel" = some m.cls := hown
  have hw := nS.start hB0
  have hl : lv_has ls 4 [(0, .ref (ad 0)), (1, .int (nI f))] := hl
  refine lv_iconst (v := 0) hx hb dX13_sumOf_0 (by decide) ?_
  refine lv_istore_n hx hb dX13_sumOf_1 rfl hl (by decide) rfl (fun ls hl => ?_)
  refine lv_iconst (v := 0) hx hb dX13_sumOf_2 (by decide) ?_
  refine lv_istore_n hx hb dX13_sumOf_3 rfl hl (by decide) rfl (fun ls hl => ?_)
  refine n_loopR (α := Nat) (fun q ls => q ≤ n ∧ lv_has ls 4 [(0, .ref (ad 0)), (1, .int (nI f)), (2, .int (sumF w f q)), (3, .int (nI q))]) (fun q => n - q) 4 ?_ 0 _ ⟨Nat.zero_le _, (lv_sub hl [2, 3, 1, 0] rfl)⟩
  clear hl
  intro q ls hI ih_4
  obtain ⟨hq, hl⟩ := hI
  refine lv_iload_n hx hb dX13_sumOf_4 rfl (lv_at hl 3 rfl) ?_
  refine lv_aload_n hx hb dX13_sumOf_5 rfl (lv_at hl 0 rfl) ?_
  refine n_get (k := 0) hx hb hts in_X13 hown hw rfl rfl 0 (by decide) q1198 rfl dX13_sumOf_6 ?_
  refine lv_iconst (v := 1) hx hb dX13_sumOf_9 (by decide) ?_
  refine n_iald (k := 1) (j := 1) hx hb hw rfl rfl (by decide) (by decide) dX13_sumOf_10 ?_
  refine n_topE en ?_
  refine lv_icmp_ge (tgt := 29) hx hb dX13_sumOf_11 (by decide) (fun c_11 => ?_) (fun c_11 => ?_)
  · skip
    have n_11 : n ≤ q := (nI_leI (a := n) (b := q) (by omega) (by omega)).mp c_11
    obtain rfl : q = n := by omega
    refine lv_iload_n hx hb dX13_sumOf_29 rfl (lv_at hl 2 rfl) ?_
    exact n_pret hx hb hr hlk rfl rfl dX13_sumOf_30
  · skip
    have n_11 : ¬ n ≤ q := fun h => c_11 ((nI_leI (a := n) (b := q) (by omega) (by omega)).mpr h)
    refine lv_iload_n hx hb dX13_sumOf_14 rfl (lv_at hl 2 rfl) ?_
    refine lv_aload_n hx hb dX13_sumOf_15 rfl (lv_at hl 0 rfl) ?_
    refine lv_iload_n hx hb dX13_sumOf_16 rfl (lv_at hl 3 rfl) ?_
    refine lv_iload_n hx hb dX13_sumOf_17 rfl (lv_at hl 1 rfl) ?_
    refine n_callp (va_runV ⟨hx, hb, hml, hown, hts⟩ (tM_jumperIs l G ad _ _ (q) (f) (by first | assumption | omega) (by first | assumption | omega)) (cwV 2 hts (lw_V q1361 q1363 qs57 q106 q1364) rfl rfl rfl hdS_X13_jumperIs ⟨by decide, by decide⟩) (hw.preV (k := 0) rfl rfl) rfl rfl hl.1 rfl (lv_room (by simp [Value.category])) dX13_sumOf_18 ⟨Nat.zero_le _, Nat.zero_le _⟩) (fun r_18 e_18 => ?_)
    subst e_18
    refine lv_iadd hx hb dX13_sumOf_21 ?_
    refine lv_istore_n hx hb dX13_sumOf_22 rfl hl (by decide) rfl (fun ls hl => ?_)
    refine lv_iinc (v := nI (q + 1)) hx hb dX13_sumOf_23 hl (k := 3) rfl (nI_1 _) (by decide) rfl (fun ls hl => ?_)
    refine lv_goto (tgt := 4) hx hb dX13_sumOf_26 (by decide) ?_
    exact ih_4 (q + 1) _ (by first | omega | (dsimp only; omega)) ⟨by omega, (lv_sub hl [2, 3, 1, 0] rfl)⟩
theorem hdS_X13_placesWon : yX13_placesWon.cls = "LineCallsModel" ∧ yX13_placesWon.cls ≠ "java/lang/invoke/MethodHandle" ∧ yX13_placesWon.cls ≠ "java/lang/invoke/VarHandle" ∧ (parseMethodDescriptor yX13_placesWon.desc).map (fun d => d.parameters.length) = some 0 := by decide +kernel
set_option maxHeartbeats 4000000 in
theorem tM_placesWon (l : Launch) (G : nG) (ad : Nat → Nat) (w : rw84) (M : mM) (B : Nat) (hI : Inv B w) : Met l yX13_placesWon (ws_ yX13_placesWon cX13_placesWon 3 (some .int)) { frames := 4, cells := 0, slots := 0, locals := 87 } (va_Pc [.ref (ad 0)] (nC G (mE G ad w M))) (vp_Si (fun r => r = wonF w 7)) 0 0 (fun _ => False) := by
  refine n_head (by decide) (Nat.le_of_ble_eq_true rfl) ?_
  intro p e s m below meth c ls hx hb hr hlk hml hown hts hB0 hl
  have hown : s.vm.findClass "LineCallsModel" = some m.cls := hown
  have hw := nS.start hB0
  have hl : lv_has ls 3 [(0, .ref (ad 0))] := hl
  refine lv_iconst (v := 0) hx hb dX13_placesWon_0 (by decide) ?_
  refine lv_istore_n hx hb dX13_placesWon_1 rfl hl (by decide) rfl (fun ls hl => ?_)
  refine lv_iconst (v := 0) hx hb dX13_placesWon_2 (by decide) ?_
  refine lv_istore_n hx hb dX13_placesWon_3 rfl hl (by decide) rfl (fun ls hl => ?_)
  refine n_loopR (α := Nat) (fun q ls => q ≤ 7 ∧ lv_has ls 3 [(0, .ref (ad 0)), (1, .int (wonF w q)), (2, .int (nI q))]) (fun q => 7 - q) 4 ?_ 0 _ ⟨Nat.zero_le _, (lv_sub hl [2, 1, 0] rfl)⟩
  clear hl
  intro q ls hI ih_4
  obtain ⟨hq, hl⟩ := hI
  refine lv_iload_n hx hb dX13_placesWon_4 rfl (lv_at hl 2 rfl) ?_
  refine lv_bipush (v := 7) hx hb dX13_placesWon_5 (by decide) ?_
  refine lv_icmp_ge (tgt := 34) hx hb dX13_placesWon_7 (by decide) (fun c_7 => ?_) (fun c_7 => ?_)
  · skip
    have n_7 : 7 ≤ q := (nI_leI (a := 7) (b := q) (by omega) (by omega)).mp c_7
    obtain rfl : q = 7 := by omega
    refine lv_iload_n hx hb dX13_placesWon_34 rfl (lv_at hl 1 rfl) ?_
    exact n_pret hx hb hr hlk rfl rfl dX13_placesWon_35
  · skip
    have n_7 : ¬ 7 ≤ q := fun h => c_7 ((nI_leI (a := 7) (b := q) (by omega) (by omega)).mpr h)
    refine lv_iload_n hx hb dX13_placesWon_10 rfl (lv_at hl 1 rfl) ?_
    refine lv_aload_n hx hb dX13_placesWon_11 rfl (lv_at hl 0 rfl) ?_
    refine lv_iload_n hx hb dX13_placesWon_12 rfl (lv_at hl 2 rfl) ?_
    refine n_callp (va_runV ⟨hx, hb, hml, hown, hts⟩ (tM_isWonIn l G ad _ _ (q) B (by first | assumption | omega) hI) (cwV 1 hts (lw_V q1411 q1413 qs65 q106 q1414) rfl rfl rfl hdS_X13_isWonIn ⟨by decide, by decide⟩) (hw.preV (k := 0) rfl rfl) rfl rfl hl.1 rfl (lv_room (by simp [Value.category])) dX13_placesWon_13 ⟨Nat.zero_le _, Nat.zero_le _⟩) (fun r_13 e_13 => ?_)
    subst e_13
    refine lv_if_eq (tgt := 25) hx hb dX13_placesWon_16 (by decide) (fun c_16 => ?_) (fun c_16 => ?_)
    · skip
      refine lv_iconst (v := 0) hx hb dX13_placesWon_25 (by decide) ?_
      refine lv_ior hx hb dX13_placesWon_26 ?_
      refine lv_istore_n hx hb dX13_placesWon_27 rfl hl (by decide) rfl (fun ls hl => ?_)
      refine lv_iinc (v := nI (q + 1)) hx hb dX13_placesWon_28 hl (k := 2) rfl (nI_1 _) (by decide) rfl (fun ls hl => ?_)
      refine lv_goto (tgt := 4) hx hb dX13_placesWon_31 (by decide) ?_
      exact ih_4 (q + 1) _ (by first | omega | (dsimp only; omega)) ⟨by omega, by rw [wonF, if_pos c_16]; exact (lv_sub hl [2, 1, 0] rfl)⟩
    · skip
      refine lv_iconst (v := 1) hx hb dX13_placesWon_19 (by decide) ?_
      refine lv_iload_n hx hb dX13_placesWon_20 rfl (lv_at hl 2 rfl) ?_
      refine lv_ishl hx hb dX13_placesWon_21 ?_
      refine lv_goto (tgt := 26) hx hb dX13_placesWon_22 (by decide) ?_
      refine lv_ior hx hb dX13_placesWon_26 ?_
      refine lv_istore_n hx hb dX13_placesWon_27 rfl hl (by decide) rfl (fun ls hl => ?_)
      refine lv_iinc (v := nI (q + 1)) hx hb dX13_placesWon_28 hl (k := 2) rfl (nI_1 _) (by decide) rfl (fun ls hl => ?_)
      refine lv_goto (tgt := 4) hx hb dX13_placesWon_31 (by decide) ?_
      exact ih_4 (q + 1) _ (by first | omega | (dsimp only; omega)) ⟨by omega, by rw [wonF, if_neg c_16]; exact (lv_sub hl [2, 1, 0] rfl)⟩
theorem hdS_X13_placesSaid : yX13_placesSaid.cls = "LineCallsModel" ∧ yX13_placesSaid.cls ≠ "java/lang/invoke/MethodHandle" ∧ yX13_placesSaid.cls ≠ "java/lang/invoke/VarHandle" ∧ (parseMethodDescriptor yX13_placesSaid.desc).map (fun d => d.parameters.length) = some 1 := by decide +kernel
set_option maxHeartbeats 4000000 in
theorem tM_placesSaid (l : Launch) (G : nG) (ad : Nat → Nat) (w : rw84) (M : mM) (x : Int32) : Met l yX13_placesSaid (ws_ yX13_placesSaid cX13_placesSaid 4 (some .int)) { frames := 2, cells := 0, slots := 0, locals := 45 } (va_Pc [.ref (ad 0), .int x] (nC G (mE G ad w M))) (vp_Si (fun r => r = saidF w x 6)) 0 0 (fun _ => False) := by
  refine n_head (by decide) (Nat.le_of_ble_eq_true rfl) ?_
  intro p e s m below meth c ls hx hb hr hlk hml hown hts hB0 hl
  have hown : s.vm.findClass "LineCallsModel" = some m.cls := hown
  have hw := nS.start hB0
  have hl : lv_has ls 4 [(0, .ref (ad 0)), (1, .int x)] := hl
  refine lv_iconst (v := 0) hx hb dX13_placesSaid_0 (by decide) ?_
  refine lv_istore_n hx hb dX13_placesSaid_1 rfl hl (by decide) rfl (fun ls hl => ?_)
  refine lv_iconst (v := 0) hx hb dX13_placesSaid_2 (by decide) ?_
  refine lv_istore_n hx hb dX13_placesSaid_3 rfl hl (by decide) rfl (fun ls hl => ?_)
  refine n_loopR (α := Nat) (fun q ls => q ≤ 6 ∧ lv_has ls 4 [(0, .ref (ad 0)), (1, .int x), (2, .int (saidF w x q)), (3, .int (nI q))]) (fun q => 6 - q) 4 ?_ 0 _ ⟨Nat.zero_le _, (lv_sub hl [2, 3, 1, 0] rfl)⟩
  clear hl
  intro q ls hI ih_4
  obtain ⟨hq, hl⟩ := hI
  refine lv_iload_n hx hb dX13_placesSaid_4 rfl (lv_at hl 3 rfl) ?_
  refine lv_bipush (v := 6) hx hb dX13_placesSaid_5 (by decide) ?_
  refine lv_icmp_ge (tgt := 52) hx hb dX13_placesSaid_7 (by decide) (fun c_7 => ?_) (fun c_7 => ?_)
  · skip
    have n_7 : 6 ≤ q := (nI_leI (a := 6) (b := q) (by omega) (by omega)).mp c_7
    obtain rfl : q = 6 := by omega
    refine lv_iload_n hx hb dX13_placesSaid_52 rfl (lv_at hl 2 rfl) ?_
    exact n_pret hx hb hr hlk rfl rfl dX13_placesSaid_53
  · skip
    have n_7 : ¬ 6 ≤ q := fun h => c_7 ((nI_leI (a := 6) (b := q) (by omega) (by omega)).mpr h)
    refine lv_iload_n hx hb dX13_placesSaid_10 rfl (lv_at hl 2 rfl) ?_
    refine lv_iload_n hx hb dX13_placesSaid_11 rfl (lv_at hl 1 rfl) ?_
    refine lv_iload_n hx hb dX13_placesSaid_12 rfl (lv_at hl 3 rfl) ?_
    refine n_callp (va_runS ⟨hx, hb, hml, hown, hts⟩ (tM_hasBit l _ _) (va_cwS 2 hts (lw_S q1432 q1433 q106 q1434) rfl rfl rfl (hdS_X13_hasBit).2 ⟨by decide, by decide⟩) pu_pre rfl rfl hl.1 rfl (lv_room (by simp [Value.category])) dX13_placesSaid_13 ⟨Nat.zero_le _, Nat.zero_le _⟩) (fun r_13 e_13 => ?_)
    subst e_13
    refine lv_if_eq (tgt := 43) hx hb dX13_placesSaid_16 (by decide) (fun c_16 => ?_) (fun c_16 => ?_)
    · skip
      refine lv_iconst (v := 0) hx hb dX13_placesSaid_43 (by decide) ?_
      refine lv_ior hx hb dX13_placesSaid_44 ?_
      refine lv_istore_n hx hb dX13_placesSaid_45 rfl hl (by decide) rfl (fun ls hl => ?_)
      refine lv_iinc (v := nI (q + 1)) hx hb dX13_placesSaid_46 hl (k := 3) rfl (nI_1 _) (by decide) rfl (fun ls hl => ?_)
      refine lv_goto (tgt := 4) hx hb dX13_placesSaid_49 (by decide) ?_
      exact ih_4 (q + 1) _ (by first | omega | (dsimp only; omega)) ⟨by omega, by rw [saidF, if_pos c_16]; exact (lv_sub hl [2, 3, 1, 0] rfl)⟩
    · skip
      refine lv_iconst (v := 1) hx hb dX13_placesSaid_19 (by decide) ?_
      refine lv_aload_n hx hb dX13_placesSaid_20 rfl (lv_at hl 0 rfl) ?_
      refine n_get (k := 0) hx hb hts in_X13 hown hw rfl rfl 0 (by decide) q1198 rfl dX13_placesSaid_21 ?_
      refine lv_bipush (v := 38) hx hb dX13_placesSaid_24 (by decide) ?_
      refine lv_iload_n hx hb dX13_placesSaid_26 rfl (lv_at hl 3 rfl) ?_
      refine lv_iadd hx hb dX13_placesSaid_27 ?_
      refine n_topE (nI_add 38 q) ?_
      refine n_iald (k := 1) (j := 38 + q) hx hb hw rfl rfl (by omega) (by decide) dX13_placesSaid_28 ?_
      refine lv_aload_n hx hb dX13_placesSaid_29 rfl (lv_at hl 0 rfl) ?_
      refine n_get (k := 0) hx hb hts in_X13 hown hw rfl rfl 0 (by decide) q1198 rfl dX13_placesSaid_30 ?_
      refine lv_bipush (v := 6) hx hb dX13_placesSaid_33 (by decide) ?_
      refine n_iald (k := 1) (j := 6) hx hb hw rfl rfl (by decide) (by decide) dX13_placesSaid_35 ?_
      refine n_callp (va_runS ⟨hx, hb, hml, hown, hts⟩ (tM_saysBy l _ _) (va_cwS 2 hts (lw_S q1336 q1337 q106 q1338) rfl rfl rfl (hdS_X13_saysBy).2 ⟨by decide, by decide⟩) pu_pre rfl rfl hl.1 rfl (lv_room (by simp [Value.category])) dX13_placesSaid_36 ⟨Nat.zero_le _, Nat.zero_le _⟩) (fun r_36 e_36 => ?_)
      subst e_36
      refine lv_ishl hx hb dX13_placesSaid_39 ?_
      refine lv_goto (tgt := 44) hx hb dX13_placesSaid_40 (by decide) ?_
      refine lv_ior hx hb dX13_placesSaid_44 ?_
      refine lv_istore_n hx hb dX13_placesSaid_45 rfl hl (by decide) rfl (fun ls hl => ?_)
      refine lv_iinc (v := nI (q + 1)) hx hb dX13_placesSaid_46 hl (k := 3) rfl (nI_1 _) (by decide) rfl (fun ls hl => ?_)
      refine lv_goto (tgt := 4) hx hb dX13_placesSaid_49 (by decide) ?_
      exact ih_4 (q + 1) _ (by first | omega | (dsimp only; omega)) ⟨by omega, by rw [saidF, if_neg c_16]; exact (lv_sub hl [2, 3, 1, 0] rfl)⟩
