/-! the class: its public methods, third part -/
set_option maxRecDepth 100000
theorem hdS_X0_hold : yX0_hold.cls = "LineCalls" ∧ yX0_hold.cls ≠ "java/lang/invoke/MethodHandle" ∧ yX0_hold.cls ≠ "java/lang/invoke/VarHandle" ∧ (parseMethodDescriptor yX0_hold.desc).map (fun d => d.parameters.length) = some 2 := by decide +kernel
set_option maxHeartbeats 4000000 in
theorem tL_hold (l : Launch) (G : nG) (ad : Nat → Nat) (w w1 w2 w3 : rw84) (X : mM) (sp : xSp) (sh : xSh) (x k : Int32) (B : Nat) (hI : Inv B w) (hB : B ≤ 100000) : Met l yX0_hold (ws_ yX0_hold cX0_hold 3 (some .int)) { frames := 2, cells := 0, slots := 0, locals := 43 } (va_Pc [.ref (ad 64), .int x, .int k] (nC G (xE G ad (xV w w1 w2 w3) X sp sh))) (va_Qi (fun (r : Int32) (u : xSt) => r = (holdO w x k).1 ∧ u = ((holdO w x k).2.1, w1, w2, w3, xfnd (holdO w x k).2.2 X, sp, sh)) (fun u => nC G (xE G ad (xV u.1 u.2.1 u.2.2.1 u.2.2.2.1) u.2.2.2.2.1 u.2.2.2.2.2.1 u.2.2.2.2.2.2)) (nA G)) 0 0 (nA G) := by
  refine n_head (by decide) (Nat.le_of_ble_eq_true rfl) ?_
  intro p e s m below meth c ls hx hb hr hlk hml hown hts hB0 hl
  have hown : s.vm.findClass "LineCalls" = some m.cls := hown
  have hw := nS.start hB0
  have hl : lv_has ls 3 [(0, .ref (ad 64)), (1, .int x), (2, .int k)] := hl
  obtain ⟨n, hn, en⟩ := hI.num
  refine lv_iload_n hx hb dX0_hold_0 rfl (lv_at hl 1 rfl) ?_
  refine n_callp (va_runS ⟨hx, hb, hml, hown, hts⟩ (tX_isSpot l _) (va_cwS 1 hts (lw_S q1089 q1090 q90 q1091) rfl rfl rfl (hdS_X0_isSpot).2 ⟨by decide, by decide⟩) pu_pre rfl rfl hl.1 rfl (lv_room (by simp [Value.category])) dX0_hold_1 ⟨Nat.zero_le _, Nat.zero_le _⟩) (fun r_1 e_1 => ?_)
  subst e_1
  refine lv_if_eq (tgt := 20) hx hb dX0_hold_4 (by decide) (fun c_4 => ?_) (fun c_4 => ?_)
  · skip
    refine lv_aload_n hx hb dX0_hold_20 rfl (lv_at hl 0 rfl) ?_
    refine lv_iconst (v := 0) hx hb dX0_hold_21 (by decide) ?_
    refine n_calli (va_runV ⟨hx, hb, hml, hown, hts⟩ (tL_finding l G ad _ _ _ _ _ _ _ (0) (by decide)) (cwV 1 hts (lw_V q466 q468 qs3 q90 q469) rfl rfl rfl hdS_X0_finding ⟨by decide, by decide⟩) (hw.preV (k := 64) (xp 64) rfl) rfl rfl hl.1 rfl (lv_room (by simp [Value.category])) dX0_hold_22 ⟨Nat.zero_le _, Nat.zero_le _⟩) hw (fun r_22 u_22 H locs e_22 hw => ?_)
    obtain ⟨rfl, rfl⟩ := e_22
    have hw : nS G (xE G ad (xV _ _ _ _) _ _ _) s H locs := hw
    exact l_iret hx hb hr hlk rfl hw (by rw [holdO, if_pos c_4]; first | (rw [iq]; exact ⟨rfl, rfl⟩) | exact ⟨rfl, rfl⟩) dX0_hold_25
  · skip
    obtain ⟨q, hq, rfl⟩ := in_nat (N := 9) rfl (by decide) c_4
    have iq : ix (nI q) = q := nI_clamp (by omega)
    refine lv_iload_n hx hb dX0_hold_7 rfl (lv_at hl 2 rfl) ?_
    refine lv_iconst (v := (-1)) hx hb dX0_hold_8 (by decide) ?_
    refine lv_icmp_eq (tgt := 26) hx hb dX0_hold_9 (by decide) (fun c_9 => ?_) (fun c_9 => ?_)
    · skip
      refine lv_aload_n hx hb dX0_hold_26 rfl (lv_at hl 0 rfl) ?_
      refine n_get (k := 64) hx hb hts in_X0 hown hw (xp 64) rfl 3 (by decide) q418 rfl dX0_hold_27 ?_
      refine n_getN (k := 16 * 0 + 0) hx hb hts in_X4 hown hw (xv0 0) rfl 9 (by decide) q250 rfl dX0_hold_30 ?_
      refine lv_iload_n hx hb dX0_hold_33 rfl (lv_at hl 1 rfl) ?_
      refine lv_iload_n hx hb dX0_hold_34 rfl (lv_at hl 2 rfl) ?_
      refine l0_iast hx hb hw 13 (by decide) (q := q) rfl (show _ < 10 by omega) (pos := 7 + q) rfl dX0_hold_35 (fun H locs hw => ?_)
      refine lv_iconst (v := 1) hx hb dX0_hold_36 (by decide) ?_
      exact l_iret hx hb hr hlk rfl hw (by rw [holdO, if_neg c_4, if_pos c_9]; first | (rw [iq]; exact ⟨rfl, rfl⟩) | exact ⟨rfl, rfl⟩) dX0_hold_37
    · skip
      refine lv_aload_n hx hb dX0_hold_12 rfl (lv_at hl 0 rfl) ?_
      refine lv_iload_n hx hb dX0_hold_13 rfl (lv_at hl 2 rfl) ?_
      refine n_callp (va_runV ⟨hx, hb, hml, hown, hts⟩ (tL_isJumper l G ad _ _ _ _ _ _ _ _) (cwV 1 hts (lw_V q462 q464 qs2 q90 q465) rfl rfl rfl hdS_X0_isJumper ⟨by decide, by decide⟩) (hw.preV (k := 64) (xp 64) rfl) rfl rfl hl.1 rfl (lv_room (by simp [Value.category])) dX0_hold_14 ⟨Nat.zero_le _, Nat.zero_le _⟩) (fun r_14 e_14 => ?_)
      subst e_14
      refine lv_if_ne (tgt := 26) hx hb dX0_hold_17 (by decide) (fun c_17 => ?_) (fun c_17 => ?_)
      · skip
        refine lv_aload_n hx hb dX0_hold_26 rfl (lv_at hl 0 rfl) ?_
        refine n_get (k := 64) hx hb hts in_X0 hown hw (xp 64) rfl 3 (by decide) q418 rfl dX0_hold_27 ?_
        refine n_getN (k := 16 * 0 + 0) hx hb hts in_X4 hown hw (xv0 0) rfl 9 (by decide) q250 rfl dX0_hold_30 ?_
        refine lv_iload_n hx hb dX0_hold_33 rfl (lv_at hl 1 rfl) ?_
        refine lv_iload_n hx hb dX0_hold_34 rfl (lv_at hl 2 rfl) ?_
        refine l0_iast hx hb hw 13 (by decide) (q := q) rfl (show _ < 10 by omega) (pos := 7 + q) rfl dX0_hold_35 (fun H locs hw => ?_)
        refine lv_iconst (v := 1) hx hb dX0_hold_36 (by decide) ?_
        exact l_iret hx hb hr hlk rfl hw (by rw [holdO, if_neg c_4, if_neg c_9, if_neg c_17]; first | (rw [iq]; exact ⟨rfl, rfl⟩) | exact ⟨rfl, rfl⟩) dX0_hold_37
      · skip
        refine lv_aload_n hx hb dX0_hold_20 rfl (lv_at hl 0 rfl) ?_
        refine lv_iconst (v := 0) hx hb dX0_hold_21 (by decide) ?_
        refine n_calli (va_runV ⟨hx, hb, hml, hown, hts⟩ (tL_finding l G ad _ _ _ _ _ _ _ (0) (by decide)) (cwV 1 hts (lw_V q466 q468 qs3 q90 q469) rfl rfl rfl hdS_X0_finding ⟨by decide, by decide⟩) (hw.preV (k := 64) (xp 64) rfl) rfl rfl hl.1 rfl (lv_room (by simp [Value.category])) dX0_hold_22 ⟨Nat.zero_le _, Nat.zero_le _⟩) hw (fun r_22 u_22 H locs e_22 hw => ?_)
        obtain ⟨rfl, rfl⟩ := e_22
        have hw : nS G (xE G ad (xV _ _ _ _) _ _ _) s H locs := hw
        exact l_iret hx hb hr hlk rfl hw (by rw [holdO, if_neg c_4, if_neg c_9, if_pos c_17]; first | (rw [iq]; exact ⟨rfl, rfl⟩) | exact ⟨rfl, rfl⟩) dX0_hold_25
theorem hdS_X0_image : yX0_image.cls = "LineCalls" ∧ yX0_image.cls ≠ "java/lang/invoke/MethodHandle" ∧ yX0_image.cls ≠ "java/lang/invoke/VarHandle" ∧ (parseMethodDescriptor yX0_image.desc).map (fun d => d.parameters.length) = some 0 := by decide +kernel
set_option maxHeartbeats 4000000 in
theorem tL_image (l : Launch) (G : nG) (ad : Nat → Nat) (w w1 w2 w3 : rw84) (X : mM) (sp : xSp) (sh : xSh)  : Met l yX0_image (ws_ yX0_image cX0_image 1 (some .int)) { frames := 4, cells := 0, slots := 0, locals := 104 } (va_Pc [.ref (ad 64)] (nC G (xE G ad (xV w w1 w2 w3) X sp sh))) (va_Qi (fun (r : Int32) (u : xSt) => r = 1 ∧ u = (w, w, w2, w3, u2 X 6 0 1, sp, sh)) (fun u => nC G (xE G ad (xV u.1 u.2.1 u.2.2.1 u.2.2.2.1) u.2.2.2.2.1 u.2.2.2.2.2.1 u.2.2.2.2.2.2)) (nA G)) 0 0 (nA G) := by
  refine n_head (by decide) (Nat.le_of_ble_eq_true rfl) ?_
  intro p e s m below meth c ls hx hb hr hlk hml hown hts hB0 hl
  have hown : s.vm.findClass "LineCalls" = some m.cls := hown
  have hw := nS.start hB0
  have hl : lv_has ls 1 [(0, .ref (ad 64))] := hl
  refine lv_aload_n hx hb dX0_image_0 rfl (lv_at hl 0 rfl) ?_
  refine n_get (k := 64) hx hb hts in_X0 hown hw (xp 64) rfl 4 (by decide) q419 rfl dX0_image_1 ?_
  refine lv_aload_n hx hb dX0_image_4 rfl (lv_at hl 0 rfl) ?_
  refine n_get (k := 64) hx hb hts in_X0 hown hw (xp 64) rfl 3 (by decide) q418 rfl dX0_image_5 ?_
  refine n_callv (va_runV ⟨hx, hb, hml, hown, hts⟩ (tX4_become l G ad _ _ _ _ 1 (by decide) _ (xV_at1 _ _ _ _) 0 _ (by decide) (by decide) (xV_at0 _ _ _ _)) (cwV 1 hts (lw_V q773 q774 q775 q97 q776) rfl rfl rfl hdS_X4_become ⟨by decide, by decide⟩) (hw.preV (k := 16 * 1 + 0) (xv1 0) rfl) rfl rfl hl.1 rfl (lv_room (by simp [Value.category])) dX0_image_8 ⟨Nat.zero_le _, Nat.zero_le _⟩) hw (fun u_8 H locs e_8 hw => ?_)
  subst e_8
  have hw : nS G (xE G ad (va_up (xV _ _ _ _) 1 _) _ _ _) s H locs := hw
  rw [xV_1] at hw
  refine lv_aload_n hx hb dX0_image_11 rfl (lv_at hl 0 rfl) ?_
  refine lv_iconst (v := 1) hx hb dX0_image_12 (by decide) ?_
  refine l_put hx hb hts hown hw 6 (by decide) q421 rfl rfl dX0_image_13 (fun H locs hw => ?_)
  refine lv_iconst (v := 1) hx hb dX0_image_16 (by decide) ?_
  exact l_iret hx hb hr hlk rfl hw ⟨rfl, rfl⟩ dX0_image_17
theorem hdS_X0_undo : yX0_undo.cls = "LineCalls" ∧ yX0_undo.cls ≠ "java/lang/invoke/MethodHandle" ∧ yX0_undo.cls ≠ "java/lang/invoke/VarHandle" ∧ (parseMethodDescriptor yX0_undo.desc).map (fun d => d.parameters.length) = some 0 := by decide +kernel
set_option maxHeartbeats 4000000 in
theorem tL_undo (l : Launch) (G : nG) (ad : Nat → Nat) (w w1 w2 w3 : rw84) (X : mM) (sp : xSp) (sh : xSh)  : Met l yX0_undo (ws_ yX0_undo cX0_undo 1 (some .int)) { frames := 4, cells := 0, slots := 0, locals := 104 } (va_Pc [.ref (ad 64)] (nC G (xE G ad (xV w w1 w2 w3) X sp sh))) (va_Qi (fun (r : Int32) (u : xSt) => r = (if X 6 0 = 0 then -1000004 else w1 0) ∧ u = (if X 6 0 = 0 then (w, w1, w2, w3, xfnd (some 3) X, sp, sh) else (w1, w1, w2, w3, X, sp, sh))) (fun u => nC G (xE G ad (xV u.1 u.2.1 u.2.2.1 u.2.2.2.1) u.2.2.2.2.1 u.2.2.2.2.2.1 u.2.2.2.2.2.2)) (nA G)) 0 0 (nA G) := by
  refine n_head (by decide) (Nat.le_of_ble_eq_true rfl) ?_
  intro p e s m below meth c ls hx hb hr hlk hml hown hts hB0 hl
  have hown : s.vm.findClass "LineCalls" = some m.cls := hown
  have hw := nS.start hB0
  have hl : lv_has ls 1 [(0, .ref (ad 64))] := hl
  refine lv_aload_n hx hb dX0_undo_0 rfl (lv_at hl 0 rfl) ?_
  refine n_get (k := 64) hx hb hts in_X0 hown hw (xp 64) rfl 6 (by decide) q421 rfl dX0_undo_1 ?_
  refine lv_if_ne (tgt := 13) hx hb dX0_undo_4 (by decide) (fun c_4 => ?_) (fun c_4 => ?_)
  · skip
    refine lv_aload_n hx hb dX0_undo_13 rfl (lv_at hl 0 rfl) ?_
    refine n_get (k := 64) hx hb hts in_X0 hown hw (xp 64) rfl 3 (by decide) q418 rfl dX0_undo_14 ?_
    refine lv_aload_n hx hb dX0_undo_17 rfl (lv_at hl 0 rfl) ?_
    refine n_get (k := 64) hx hb hts in_X0 hown hw (xp 64) rfl 4 (by decide) q419 rfl dX0_undo_18 ?_
    refine n_callv (va_runV ⟨hx, hb, hml, hown, hts⟩ (tX4_become l G ad _ _ _ _ 0 (by decide) _ (xV_at0 _ _ _ _) 1 _ (by decide) (by decide) (xV_at1 _ _ _ _)) (cwV 1 hts (lw_V q773 q774 q775 q97 q776) rfl rfl rfl hdS_X4_become ⟨by decide, by decide⟩) (hw.preV (k := 16 * 0 + 0) (xv0 0) rfl) rfl rfl hl.1 rfl (lv_room (by simp [Value.category])) dX0_undo_21 ⟨Nat.zero_le _, Nat.zero_le _⟩) hw (fun u_21 H locs e_21 hw => ?_)
    subst e_21
    have hw : nS G (xE G ad (va_up (xV _ _ _ _) 0 _) _ _ _) s H locs := hw
    rw [xV_0] at hw
    refine lv_aload_n hx hb dX0_undo_24 rfl (lv_at hl 0 rfl) ?_
    refine n_get (k := 64) hx hb hts in_X0 hown hw (xp 64) rfl 3 (by decide) q418 rfl dX0_undo_25 ?_
    refine n_getN (k := 16 * 0 + 0) hx hb hts in_X4 hown hw (xv0 0) rfl 7 (by decide) q246 rfl dX0_undo_28 ?_
    exact l_iret hx hb hr hlk rfl hw (by rw [if_neg c_4, if_neg c_4]; exact ⟨rfl, rfl⟩) dX0_undo_31
  · skip
    refine lv_aload_n hx hb dX0_undo_7 rfl (lv_at hl 0 rfl) ?_
    refine lv_iconst (v := 3) hx hb dX0_undo_8 (by decide) ?_
    refine n_calli (va_runV ⟨hx, hb, hml, hown, hts⟩ (tL_finding l G ad _ _ _ _ _ _ _ (3) (by decide)) (cwV 1 hts (lw_V q466 q468 qs3 q90 q469) rfl rfl rfl hdS_X0_finding ⟨by decide, by decide⟩) (hw.preV (k := 64) (xp 64) rfl) rfl rfl hl.1 rfl (lv_room (by simp [Value.category])) dX0_undo_9 ⟨Nat.zero_le _, Nat.zero_le _⟩) hw (fun r_9 u_9 H locs e_9 hw => ?_)
    obtain ⟨rfl, rfl⟩ := e_9
    have hw : nS G (xE G ad (xV _ _ _ _) _ _ _) s H locs := hw
    exact l_iret hx hb hr hlk rfl hw (by rw [if_pos c_4, if_pos c_4]; exact ⟨rfl, rfl⟩) dX0_undo_12
theorem hdS_X0_tear : yX0_tear.cls = "LineCalls" ∧ yX0_tear.cls ≠ "java/lang/invoke/MethodHandle" ∧ yX0_tear.cls ≠ "java/lang/invoke/VarHandle" ∧ (parseMethodDescriptor yX0_tear.desc).map (fun d => d.parameters.length) = some 0 := by decide +kernel
set_option maxHeartbeats 4000000 in
theorem tL_tear (l : Launch) (G : nG) (ad : Nat → Nat) (w w1 w2 w3 : rw84) (X : mM) (sp : xSp) (sh : xSh)  : Met l yX0_tear (ws_ yX0_tear cX0_tear 2 (some .int)) { frames := 0, cells := 0, slots := 0, locals := 0 } (va_Pc [.ref (ad 64)] (nC G (xE G ad (xV w w1 w2 w3) X sp sh))) (va_Qi (fun (r : Int32) (u : xSt) => r = (if X 6 0 = 0 then 0 else 1) ∧ u = (w, w1, w2, w3, u2 X 6 0 0, sp, sh)) (fun u => nC G (xE G ad (xV u.1 u.2.1 u.2.2.1 u.2.2.2.1) u.2.2.2.2.1 u.2.2.2.2.2.1 u.2.2.2.2.2.2)) (nA G)) 0 0 (nA G) := by
  refine n_head (by decide) (Nat.le_of_ble_eq_true rfl) ?_
  intro p e s m below meth c ls hx hb hr hlk hml hown hts hB0 hl
  have hown : s.vm.findClass "LineCalls" = some m.cls := hown
  have hw := nS.start hB0
  have hl : lv_has ls 2 [(0, .ref (ad 64))] := hl
  refine lv_aload_n hx hb dX0_tear_0 rfl (lv_at hl 0 rfl) ?_
  refine n_get (k := 64) hx hb hts in_X0 hown hw (xp 64) rfl 6 (by decide) q421 rfl dX0_tear_1 ?_
  refine lv_if_eq (tgt := 11) hx hb dX0_tear_4 (by decide) (fun c_4 => ?_) (fun c_4 => ?_)
  · skip
    refine lv_iconst (v := 0) hx hb dX0_tear_11 (by decide) ?_
    refine lv_istore_n hx hb dX0_tear_12 rfl hl (by decide) rfl (fun ls hl => ?_)
    refine lv_aload_n hx hb dX0_tear_13 rfl (lv_at hl 1 rfl) ?_
    refine lv_iconst (v := 0) hx hb dX0_tear_14 (by decide) ?_
    refine l_put hx hb hts hown hw 6 (by decide) q421 rfl rfl dX0_tear_15 (fun H locs hw => ?_)
    refine lv_iload_n hx hb dX0_tear_18 rfl (lv_at hl 0 rfl) ?_
    exact l_iret hx hb hr hlk rfl hw (by rw [if_pos c_4]; exact ⟨rfl, rfl⟩) dX0_tear_19
  · skip
    refine lv_iconst (v := 1) hx hb dX0_tear_7 (by decide) ?_
    refine lv_goto (tgt := 12) hx hb dX0_tear_8 (by decide) ?_
    refine lv_istore_n hx hb dX0_tear_12 rfl hl (by decide) rfl (fun ls hl => ?_)
    refine lv_aload_n hx hb dX0_tear_13 rfl (lv_at hl 1 rfl) ?_
    refine lv_iconst (v := 0) hx hb dX0_tear_14 (by decide) ?_
    refine l_put hx hb hts hown hw 6 (by decide) q421 rfl rfl dX0_tear_15 (fun H locs hw => ?_)
    refine lv_iload_n hx hb dX0_tear_18 rfl (lv_at hl 0 rfl) ?_
    exact l_iret hx hb hr hlk rfl hw (by rw [if_neg c_4]; exact ⟨rfl, rfl⟩) dX0_tear_19
theorem hdS_X0_wipe : yX0_wipe.cls = "LineCalls" ∧ yX0_wipe.cls ≠ "java/lang/invoke/MethodHandle" ∧ yX0_wipe.cls ≠ "java/lang/invoke/VarHandle" ∧ (parseMethodDescriptor yX0_wipe.desc).map (fun d => d.parameters.length) = some 0 := by decide +kernel
set_option maxHeartbeats 4000000 in
theorem tL_wipe (l : Launch) (G : nG) (ad : Nat → Nat) (w w1 w2 w3 : rw84) (X : mM) (sp : xSp) (sh : xSh)  : Met l yX0_wipe (ws_ yX0_wipe cX0_wipe 2 (some .int)) { frames := 0, cells := 0, slots := 0, locals := 0 } (va_Pc [.ref (ad 64)] (nC G (xE G ad (xV w w1 w2 w3) X sp sh))) (va_Qi (fun (r : Int32) (u : xSt) => r = X 2 0 ∧ u = (w, w1, w2, w3, u2 X 2 0 0, sp, sh)) (fun u => nC G (xE G ad (xV u.1 u.2.1 u.2.2.1 u.2.2.2.1) u.2.2.2.2.1 u.2.2.2.2.2.1 u.2.2.2.2.2.2)) (nA G)) 0 0 (nA G) := by
  refine n_head (by decide) (Nat.le_of_ble_eq_true rfl) ?_
  intro p e s m below meth c ls hx hb hr hlk hml hown hts hB0 hl
  have hown : s.vm.findClass "LineCalls" = some m.cls := hown
  have hw := nS.start hB0
  have hl : lv_has ls 2 [(0, .ref (ad 64))] := hl
  refine lv_aload_n hx hb dX0_wipe_0 rfl (lv_at hl 0 rfl) ?_
  refine n_get (k := 64) hx hb hts in_X0 hown hw (xp 64) rfl 2 (by decide) q412 rfl dX0_wipe_1 ?_
  refine lv_istore_n hx hb dX0_wipe_4 rfl hl (by decide) rfl (fun ls hl => ?_)
  refine lv_aload_n hx hb dX0_wipe_5 rfl (lv_at hl 1 rfl) ?_
  refine lv_iconst (v := 0) hx hb dX0_wipe_6 (by decide) ?_
  refine l_put hx hb hts hown hw 2 (by decide) q412 rfl rfl dX0_wipe_7 (fun H locs hw => ?_)
  refine lv_iload_n hx hb dX0_wipe_10 rfl (lv_at hl 0 rfl) ?_
  exact l_iret hx hb hr hlk rfl hw ⟨rfl, rfl⟩ dX0_wipe_11
