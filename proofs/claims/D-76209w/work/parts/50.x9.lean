/-! the class: its public methods, second part -/
set_option maxRecDepth 100000
theorem hdS_X0_gains : yX0_gains.cls = "LineCalls" ∧ yX0_gains.cls ≠ "java/lang/invoke/MethodHandle" ∧ yX0_gains.cls ≠ "java/lang/invoke/VarHandle" ∧ (parseMethodDescriptor yX0_gains.desc).map (fun d => d.parameters.length) = some 2 := by decide +kernel
set_option maxHeartbeats 4000000 in
theorem tL_gains (l : Launch) (G : nG) (ad : Nat → Nat) (w w1 w2 w3 : rw84) (X : mM) (sp : xSp) (sh : xSh) (k v : Int32) (B : Nat) (hI : Inv B w) (hB : B ≤ 100000) : Met l yX0_gains (ws_ yX0_gains cX0_gains 3 (some .int)) { frames := 3, cells := 0, slots := 0, locals := 63 } (va_Pc [.ref (ad 64), .int k, .int v] (nC G (xE G ad (xV w w1 w2 w3) X sp sh))) (va_Qi (fun (r : Int32) (u : xSt) => r = (gainsO w k v).1 ∧ u = ((gainsO w k v).2.1, w1, w2, w3, xfnd (gainsO w k v).2.2 X, sp, sh)) (fun u => nC G (xE G ad (xV u.1 u.2.1 u.2.2.1 u.2.2.2.1) u.2.2.2.2.1 u.2.2.2.2.2.1 u.2.2.2.2.2.2)) (nA G)) 0 0 (nA G) := by
  refine n_head (by decide) (Nat.le_of_ble_eq_true rfl) ?_
  intro p e s m below meth c ls hx hb hr hlk hml hown hts hB0 hl
  have hown : s.vm.findClass "LineCalls" = some m.cls := hown
  have hw := nS.start hB0
  have hl : lv_has ls 3 [(0, .ref (ad 64)), (1, .int k), (2, .int v)] := hl
  obtain ⟨n, hn, en⟩ := hI.num
  refine lv_aload_n hx hb dX0_gains_0 rfl (lv_at hl 0 rfl) ?_
  refine lv_iload_n hx hb dX0_gains_1 rfl (lv_at hl 1 rfl) ?_
  refine n_callp (va_runV ⟨hx, hb, hml, hown, hts⟩ (tL_isJumper l G ad _ _ _ _ _ _ _ _) (cwV 1 hts (lw_V q462 q464 qs2 q90 q465) rfl rfl rfl hdS_X0_isJumper ⟨by decide, by decide⟩) (hw.preV (k := 64) (xp 64) rfl) rfl rfl hl.1 rfl (lv_room (by simp [Value.category])) dX0_gains_2 ⟨Nat.zero_le _, Nat.zero_le _⟩) (fun r_2 e_2 => ?_)
  subst e_2
  refine lv_if_eq (tgt := 27) hx hb dX0_gains_5 (by decide) (fun c_5 => ?_) (fun c_5 => ?_)
  · skip
    refine lv_aload_n hx hb dX0_gains_27 rfl (lv_at hl 0 rfl) ?_
    refine lv_iconst (v := 0) hx hb dX0_gains_28 (by decide) ?_
    refine n_calli (va_runV ⟨hx, hb, hml, hown, hts⟩ (tL_finding l G ad _ _ _ _ _ _ _ (0) (by decide)) (cwV 1 hts (lw_V q466 q468 qs3 q90 q469) rfl rfl rfl hdS_X0_finding ⟨by decide, by decide⟩) (hw.preV (k := 64) (xp 64) rfl) rfl rfl hl.1 rfl (lv_room (by simp [Value.category])) dX0_gains_29 ⟨Nat.zero_le _, Nat.zero_le _⟩) hw (fun r_29 u_29 H locs e_29 hw => ?_)
    obtain ⟨rfl, rfl⟩ := e_29
    have hw : nS G (xE G ad (xV _ _ _ _) _ _ _) s H locs := hw
    exact l_iret hx hb hr hlk rfl hw (by rw [gainsO, if_pos c_5]; first | (rw [ij]; exact ⟨rfl, rfl⟩) | exact ⟨rfl, rfl⟩) dX0_gains_32
  · skip
    obtain ⟨j, hjn, hj, rfl⟩ := in_num en hn c_5
    have ij : ix (nI j) = j := nI_clamp (by omega)
    refine lv_iload_n hx hb dX0_gains_8 rfl (lv_at hl 2 rfl) ?_
    refine n_callp (va_runS ⟨hx, hb, hml, hown, hts⟩ (tX_isPlace l _) (va_cwS 1 hts (lw_S q456 q457 q90 q458) rfl rfl rfl (hdS_X0_isPlace).2 ⟨by decide, by decide⟩) pu_pre rfl rfl hl.1 rfl (lv_room (by simp [Value.category])) dX0_gains_9 ⟨Nat.zero_le _, Nat.zero_le _⟩) (fun r_9 e_9 => ?_)
    subst e_9
    refine lv_if_eq (tgt := 27) hx hb dX0_gains_12 (by decide) (fun c_12 => ?_) (fun c_12 => ?_)
    · skip
      refine lv_aload_n hx hb dX0_gains_27 rfl (lv_at hl 0 rfl) ?_
      refine lv_iconst (v := 0) hx hb dX0_gains_28 (by decide) ?_
      refine n_calli (va_runV ⟨hx, hb, hml, hown, hts⟩ (tL_finding l G ad _ _ _ _ _ _ _ (0) (by decide)) (cwV 1 hts (lw_V q466 q468 qs3 q90 q469) rfl rfl rfl hdS_X0_finding ⟨by decide, by decide⟩) (hw.preV (k := 64) (xp 64) rfl) rfl rfl hl.1 rfl (lv_room (by simp [Value.category])) dX0_gains_29 ⟨Nat.zero_le _, Nat.zero_le _⟩) hw (fun r_29 u_29 H locs e_29 hw => ?_)
      obtain ⟨rfl, rfl⟩ := e_29
      have hw : nS G (xE G ad (xV _ _ _ _) _ _ _) s H locs := hw
      exact l_iret hx hb hr hlk rfl hw (by rw [gainsO, if_neg c_5, if_pos c_12]; first | (rw [ij]; exact ⟨rfl, rfl⟩) | exact ⟨rfl, rfl⟩) dX0_gains_32
    · skip
      refine lv_aload_n hx hb dX0_gains_15 rfl (lv_at hl 0 rfl) ?_
      refine lv_iload_n hx hb dX0_gains_16 rfl (lv_at hl 1 rfl) ?_
      obtain ⟨kd, hkd, ek⟩ := hI.kind hj
      have hd : kd < 7 := by omega
      refine n_callpq (va_runV ⟨hx, hb, hml, hown, hts⟩ (tL_jumperOf l G ad _ _ _ _ _ _ _ j kd hj hd ek) (cwV 1 hts (lw_V q549 q551 qs4 q90 q552) rfl rfl rfl hdS_X0_jumperOf ⟨by decide, by decide⟩) (hw.preV (k := 64) (xp 64) rfl) rfl rfl hl.1 rfl (lv_room (by simp [Value.category])) dX0_gains_17 ⟨Nat.zero_le _, Nat.zero_le _⟩) (fun r_17 e_17 => ?_)
      subst e_17
      refine lv_iload_n hx hb dX0_gains_20 rfl (lv_at hl 2 rfl) ?_
      refine dJ_gains hx hb (hml.trans hl.1.symm) hown hts hw hd hj ek ⟨by decide, by decide⟩ ⟨Nat.zero_le _, Nat.zero_le _⟩ (by simp [Value.category]) dX0_gains_21 ?_
      refine lv_goto (tgt := 32) hx hb dX0_gains_24 (by decide) ?_
      exact l_iret hx hb hr hlk rfl hw (by rw [gainsO, if_neg c_5, if_neg c_12]; first | (rw [ij]; exact ⟨rfl, rfl⟩) | exact ⟨rfl, rfl⟩) dX0_gains_32
theorem hdS_X0_go : yX0_go.cls = "LineCalls" ∧ yX0_go.cls ≠ "java/lang/invoke/MethodHandle" ∧ yX0_go.cls ≠ "java/lang/invoke/VarHandle" ∧ (parseMethodDescriptor yX0_go.desc).map (fun d => d.parameters.length) = some 1 := by decide +kernel
set_option maxHeartbeats 4000000 in
theorem tL_go (l : Launch) (G : nG) (ad : Nat → Nat) (w w1 w2 w3 : rw84) (X : mM) (sp : xSp) (sh : xSh) (x : Int32) (B : Nat) (hI : Inv B w) (hB : B ≤ 100000) : Met l yX0_go (ws_ yX0_go cX0_go 2 (some .int)) { frames := 9, cells := 0, slots := 0, locals := 189 } (va_Pc [.ref (ad 64), .int x] (nC G (xE G ad (xV w w1 w2 w3) X sp sh))) (va_Qi (fun (r : Int32) (u : xSt) => r = (goO w x).1 ∧ u = ((goO w x).2.1, w1, w2, w3, xfnd (goO w x).2.2 X, sp, sh)) (fun u => nC G (xE G ad (xV u.1 u.2.1 u.2.2.1 u.2.2.2.1) u.2.2.2.2.1 u.2.2.2.2.2.1 u.2.2.2.2.2.2)) (nA G)) 0 0 (nA G) := by
  refine n_head (by decide) (Nat.le_of_ble_eq_true rfl) ?_
  intro p e s m below meth c ls hx hb hr hlk hml hown hts hB0 hl
  have hown : s.vm.findClass "LineCalls" = some m.cls := hown
  have hw := nS.start hB0
  have hl : lv_has ls 2 [(0, .ref (ad 64)), (1, .int x)] := hl
  obtain ⟨n, hn, en⟩ := hI.num
  refine lv_iload_n hx hb dX0_go_0 rfl (lv_at hl 1 rfl) ?_
  refine lv_iconst (v := 1) hx hb dX0_go_1 (by decide) ?_
  refine lv_bipush (v := 60) hx hb dX0_go_2 (by decide) ?_
  refine n_callp (va_runS ⟨hx, hb, hml, hown, hts⟩ (tX_in l _ _ _) (va_cwS 3 hts (lw_S q459 q460 q90 q461) rfl rfl rfl (hdS_X0_in).2 ⟨by decide, by decide⟩) pu_pre rfl rfl hl.1 rfl (lv_room (by simp [Value.category])) dX0_go_4 ⟨Nat.zero_le _, Nat.zero_le _⟩) (fun r_4 e_4 => ?_)
  subst e_4
  refine lv_if_ne (tgt := 16) hx hb dX0_go_7 (by decide) (fun c_7 => ?_) (fun c_7 => ?_)
  · skip
    obtain ⟨q, h1q, hq, rfl⟩ := in_nat1 (N := 60) rfl (by decide) c_7
    have iq : ix (nI q) = q := nI_clamp (by omega)
    refine lv_aload_n hx hb dX0_go_16 rfl (lv_at hl 0 rfl) ?_
    refine n_get (k := 64) hx hb hts in_X0 hown hw (xp 64) rfl 3 (by decide) q418 rfl dX0_go_17 ?_
    refine lv_iload_n hx hb dX0_go_20 rfl (lv_at hl 1 rfl) ?_
    refine n_callp (va_runV ⟨hx, hb, hml, hown, hts⟩ (tX4_isLate l G ad _ _ _ _ 0 (by decide) _ (xV_at0 _ _ _ _) _) (cwV 1 hts (lw_V q699 q700 q701 q97 q702) rfl rfl rfl hdS_X4_isLate ⟨by decide, by decide⟩) (hw.preV (k := 16 * 0 + 0) (xv0 0) rfl) rfl rfl hl.1 rfl (lv_room (by simp [Value.category])) dX0_go_21 ⟨Nat.zero_le _, Nat.zero_le _⟩) (fun r_21 e_21 => ?_)
    subst e_21
    refine lv_if_eq (tgt := 35) hx hb dX0_go_24 (by decide) (fun c_24 => ?_) (fun c_24 => ?_)
    · skip
      have c_24 : w 0 + nI q ≤ 99999 := by (by_cases h : w 0 + nI q ≤ 99999; exact h; rw [if_neg h] at c_24; exact absurd c_24 (by decide))
      refine lv_aload_n hx hb dX0_go_35 rfl (lv_at hl 0 rfl) ?_
      refine lv_iload_n hx hb dX0_go_36 rfl (lv_at hl 1 rfl) ?_
      refine n_calli (va_runV ⟨hx, hb, hml, hown, hts⟩ (tL_goesOn l G ad _ _ _ _ _ _ _ q B hI (by omega)) (cwV 1 hts (lw_V q704 q706 qs5 q90 q707) rfl rfl rfl hdS_X0_goesOn ⟨by decide, by decide⟩) (hw.preV (k := 64) (xp 64) rfl) rfl rfl hl.1 rfl (lv_room (by simp [Value.category])) dX0_go_37 ⟨Nat.zero_le _, Nat.zero_le _⟩) hw (fun r_37 u_37 H locs e_37 hw => ?_)
      obtain ⟨rfl, rfl⟩ := e_37
      have hw : nS G (xE G ad (xV _ _ _ _) _ _ _) s H locs := hw
      exact l_iret hx hb hr hlk rfl hw (by rw [goO, if_neg c_7, if_pos c_24]; first | (rw [iq]; exact ⟨rfl, rfl⟩) | exact ⟨rfl, rfl⟩) dX0_go_40
    · skip
      have c_24 : ¬ w 0 + nI q ≤ 99999 := by (intro h; rw [if_pos h] at c_24; exact c_24 rfl)
      refine lv_aload_n hx hb dX0_go_27 rfl (lv_at hl 0 rfl) ?_
      refine lv_iconst (v := 4) hx hb dX0_go_28 (by decide) ?_
      refine n_calli (va_runV ⟨hx, hb, hml, hown, hts⟩ (tL_finding l G ad _ _ _ _ _ _ _ (4) (by decide)) (cwV 1 hts (lw_V q466 q468 qs3 q90 q469) rfl rfl rfl hdS_X0_finding ⟨by decide, by decide⟩) (hw.preV (k := 64) (xp 64) rfl) rfl rfl hl.1 rfl (lv_room (by simp [Value.category])) dX0_go_29 ⟨Nat.zero_le _, Nat.zero_le _⟩) hw (fun r_29 u_29 H locs e_29 hw => ?_)
      obtain ⟨rfl, rfl⟩ := e_29
      have hw : nS G (xE G ad (xV _ _ _ _) _ _ _) s H locs := hw
      refine lv_goto (tgt := 40) hx hb dX0_go_32 (by decide) ?_
      exact l_iret hx hb hr hlk rfl hw (by rw [goO, if_neg c_7, if_neg c_24]; first | (rw [iq]; exact ⟨rfl, rfl⟩) | exact ⟨rfl, rfl⟩) dX0_go_40
  · skip
    refine lv_aload_n hx hb dX0_go_10 rfl (lv_at hl 0 rfl) ?_
    refine lv_iconst (v := 0) hx hb dX0_go_11 (by decide) ?_
    refine n_calli (va_runV ⟨hx, hb, hml, hown, hts⟩ (tL_finding l G ad _ _ _ _ _ _ _ (0) (by decide)) (cwV 1 hts (lw_V q466 q468 qs3 q90 q469) rfl rfl rfl hdS_X0_finding ⟨by decide, by decide⟩) (hw.preV (k := 64) (xp 64) rfl) rfl rfl hl.1 rfl (lv_room (by simp [Value.category])) dX0_go_12 ⟨Nat.zero_le _, Nat.zero_le _⟩) hw (fun r_12 u_12 H locs e_12 hw => ?_)
    obtain ⟨rfl, rfl⟩ := e_12
    have hw : nS G (xE G ad (xV _ _ _ _) _ _ _) s H locs := hw
    exact l_iret hx hb hr hlk rfl hw (by rw [goO, if_pos c_7]; first | (rw [iq]; exact ⟨rfl, rfl⟩) | exact ⟨rfl, rfl⟩) dX0_go_15
theorem hdS_X0_now : yX0_now.cls = "LineCalls" ∧ yX0_now.cls ≠ "java/lang/invoke/MethodHandle" ∧ yX0_now.cls ≠ "java/lang/invoke/VarHandle" ∧ (parseMethodDescriptor yX0_now.desc).map (fun d => d.parameters.length) = some 1 := by decide +kernel
set_option maxHeartbeats 4000000 in
theorem tL_now (l : Launch) (G : nG) (ad : Nat → Nat) (w w1 w2 w3 : rw84) (X : mM) (sp : xSp) (sh : xSh) (x : Int32) (B : Nat) (hI : Inv B w) (hB : B ≤ 100000) : Met l yX0_now (ws_ yX0_now cX0_now 2 (some .int)) { frames := 7, cells := 0, slots := 0, locals := 145 } (va_Pc [.ref (ad 64), .int x] (nC G (xE G ad (xV w w1 w2 w3) X sp sh))) (va_Qi (fun (r : Int32) (u : xSt) => r = (nowO w x).1 ∧ u = ((nowO w x).2.1, w1, w2, w3, xfnd (nowO w x).2.2 X, sp, sh)) (fun u => nC G (xE G ad (xV u.1 u.2.1 u.2.2.1 u.2.2.2.1) u.2.2.2.2.1 u.2.2.2.2.2.1 u.2.2.2.2.2.2)) (nA G)) 0 0 (nA G) := by
  refine n_head (by decide) (Nat.le_of_ble_eq_true rfl) ?_
  intro p e s m below meth c ls hx hb hr hlk hml hown hts hB0 hl
  have hown : s.vm.findClass "LineCalls" = some m.cls := hown
  have hw := nS.start hB0
  have hl : lv_has ls 2 [(0, .ref (ad 64)), (1, .int x)] := hl
  obtain ⟨n, hn, en⟩ := hI.num
  have iw : ix (w 1) = n := by rw [en]; exact nI_clamp (by omega)
  refine lv_iload_n hx hb dX0_now_0 rfl (lv_at hl 1 rfl) ?_
  by_cases s_1_0 : x = 0
  · skip
    refine lv_tableIn (tgt := 44) hx hb dX0_now_1 (by rw [s_1_0]; decide) (by rw [s_1_0]; decide) (off := 43) (by rw [s_1_0]; rfl) (by decide) ?_
    refine lv_aload_n hx hb dX0_now_44 rfl (lv_at hl 0 rfl) ?_
    refine n_get (k := 64) hx hb hts in_X0 hown hw (xp 64) rfl 3 (by decide) q418 rfl dX0_now_45 ?_
    refine n_getN (k := 16 * 0 + 0) hx hb hts in_X4 hown hw (xv0 0) rfl 7 (by decide) q246 rfl dX0_now_48 ?_
    exact l_iret hx hb hr hlk rfl hw (by rw [nowO, if_pos s_1_0]; first | exact ⟨rfl, rfl⟩ | (rw [iw]; exact ⟨rfl, rfl⟩)) dX0_now_51
  by_cases s_1_1 : x = 1
  · skip
    refine lv_tableIn (tgt := 52) hx hb dX0_now_1 (by rw [s_1_1]; decide) (by rw [s_1_1]; decide) (off := 51) (by rw [s_1_1]; rfl) (by decide) ?_
    refine lv_aload_n hx hb dX0_now_52 rfl (lv_at hl 0 rfl) ?_
    refine n_get (k := 64) hx hb hts in_X0 hown hw (xp 64) rfl 3 (by decide) q418 rfl dX0_now_53 ?_
    refine n_getN (k := 16 * 0 + 0) hx hb hts in_X4 hown hw (xv0 0) rfl 4 (by decide) q236 rfl dX0_now_56 ?_
    exact l_iret hx hb hr hlk rfl hw (by rw [nowO, if_neg s_1_0, if_pos s_1_1]; first | exact ⟨rfl, rfl⟩ | (rw [iw]; exact ⟨rfl, rfl⟩)) dX0_now_59
  by_cases s_1_2 : x = 2
  · skip
    refine lv_tableIn (tgt := 60) hx hb dX0_now_1 (by rw [s_1_2]; decide) (by rw [s_1_2]; decide) (off := 59) (by rw [s_1_2]; rfl) (by decide) ?_
    refine lv_aload_n hx hb dX0_now_60 rfl (lv_at hl 0 rfl) ?_
    refine n_get (k := 64) hx hb hts in_X0 hown hw (xp 64) rfl 3 (by decide) q418 rfl dX0_now_61 ?_
    refine lv_iconst (v := 3) hx hb dX0_now_64 (by decide) ?_
    refine n_callp (va_runV ⟨hx, hb, hml, hown, hts⟩ (tX4_sumOf l G ad _ _ _ _ 0 (by decide) _ (xV_at0 _ _ _ _) 3 n (by decide) hn en) (cwV 1 hts (lw_V q750 q751 q752 q97 q753) rfl rfl rfl hdS_X4_sumOf ⟨by decide, by decide⟩) (hw.preV (k := 16 * 0 + 0) (xv0 0) rfl) rfl rfl hl.1 rfl (lv_room (by simp [Value.category])) dX0_now_65 ⟨Nat.zero_le _, Nat.zero_le _⟩) (fun r_65 e_65 => ?_)
    subst e_65
    exact l_iret hx hb hr hlk rfl hw (by rw [nowO, if_neg s_1_0, if_neg s_1_1, if_pos s_1_2]; first | exact ⟨rfl, rfl⟩ | (rw [iw]; exact ⟨rfl, rfl⟩)) dX0_now_68
  by_cases s_1_3 : x = 3
  · skip
    refine lv_tableIn (tgt := 69) hx hb dX0_now_1 (by rw [s_1_3]; decide) (by rw [s_1_3]; decide) (off := 68) (by rw [s_1_3]; rfl) (by decide) ?_
    refine lv_aload_n hx hb dX0_now_69 rfl (lv_at hl 0 rfl) ?_
    refine n_get (k := 64) hx hb hts in_X0 hown hw (xp 64) rfl 3 (by decide) q418 rfl dX0_now_70 ?_
    refine lv_iconst (v := 4) hx hb dX0_now_73 (by decide) ?_
    refine n_callp (va_runV ⟨hx, hb, hml, hown, hts⟩ (tX4_sumOf l G ad _ _ _ _ 0 (by decide) _ (xV_at0 _ _ _ _) 4 n (by decide) hn en) (cwV 1 hts (lw_V q750 q751 q752 q97 q753) rfl rfl rfl hdS_X4_sumOf ⟨by decide, by decide⟩) (hw.preV (k := 16 * 0 + 0) (xv0 0) rfl) rfl rfl hl.1 rfl (lv_room (by simp [Value.category])) dX0_now_74 ⟨Nat.zero_le _, Nat.zero_le _⟩) (fun r_74 e_74 => ?_)
    subst e_74
    exact l_iret hx hb hr hlk rfl hw (by rw [nowO, if_neg s_1_0, if_neg s_1_1, if_neg s_1_2, if_pos s_1_3]; first | exact ⟨rfl, rfl⟩ | (rw [iw]; exact ⟨rfl, rfl⟩)) dX0_now_77
  by_cases s_1_4 : x = 4
  · skip
    refine lv_tableIn (tgt := 78) hx hb dX0_now_1 (by rw [s_1_4]; decide) (by rw [s_1_4]; decide) (off := 77) (by rw [s_1_4]; rfl) (by decide) ?_
    refine lv_aload_n hx hb dX0_now_78 rfl (lv_at hl 0 rfl) ?_
    refine n_get (k := 64) hx hb hts in_X0 hown hw (xp 64) rfl 3 (by decide) q418 rfl dX0_now_79 ?_
    refine n_callp (va_runV ⟨hx, hb, hml, hown, hts⟩ (tX4_next l G ad _ _ _ _ 0 (by decide) _ (xV_at0 _ _ _ _) B hI (by omega)) (cwV 0 hts (lw_V q716 q717 q718 q97 q719) rfl rfl rfl hdS_X4_next ⟨by decide, by decide⟩) (hw.preV (k := 16 * 0 + 0) (xv0 0) rfl) rfl rfl hl.1 rfl (lv_room (by simp [Value.category])) dX0_now_82 ⟨Nat.zero_le _, Nat.zero_le _⟩) (fun r_82 e_82 => ?_)
    subst e_82
    exact l_iret hx hb hr hlk rfl hw (by rw [nowO, if_neg s_1_0, if_neg s_1_1, if_neg s_1_2, if_neg s_1_3, if_pos s_1_4]; first | exact ⟨rfl, rfl⟩ | (rw [iw]; exact ⟨rfl, rfl⟩)) dX0_now_85
  by_cases s_1_5 : x = 5
  · skip
    refine lv_tableIn (tgt := 86) hx hb dX0_now_1 (by rw [s_1_5]; decide) (by rw [s_1_5]; decide) (off := 85) (by rw [s_1_5]; rfl) (by decide) ?_
    refine lv_aload_n hx hb dX0_now_86 rfl (lv_at hl 0 rfl) ?_
    refine n_callp (va_runV ⟨hx, hb, hml, hown, hts⟩ (tL_won l G ad _ _ _ _ _ _ _ B hI) (cwV 0 hts (lw_V q754 q756 qs9 q90 q757) rfl rfl rfl hdS_X0_won ⟨by decide, by decide⟩) (hw.preV (k := 64) (xp 64) rfl) rfl rfl hl.1 rfl (lv_room (by simp [Value.category])) dX0_now_87 ⟨Nat.zero_le _, Nat.zero_le _⟩) (fun r_87 e_87 => ?_)
    subst e_87
    exact l_iret hx hb hr hlk rfl hw (by rw [nowO, if_neg s_1_0, if_neg s_1_1, if_neg s_1_2, if_neg s_1_3, if_neg s_1_4, if_pos s_1_5]; first | exact ⟨rfl, rfl⟩ | (rw [iw]; exact ⟨rfl, rfl⟩)) dX0_now_90
  by_cases s_1_6 : x = 6
  · skip
    refine lv_tableIn (tgt := 91) hx hb dX0_now_1 (by rw [s_1_6]; decide) (by rw [s_1_6]; decide) (off := 90) (by rw [s_1_6]; rfl) (by decide) ?_
    refine lv_aload_n hx hb dX0_now_91 rfl (lv_at hl 0 rfl) ?_
    refine n_get (k := 64) hx hb hts in_X0 hown hw (xp 64) rfl 3 (by decide) q418 rfl dX0_now_92 ?_
    refine lv_bipush (v := 63) hx hb dX0_now_95 (by decide) ?_
    refine n_callp (va_runV ⟨hx, hb, hml, hown, hts⟩ (tX4_said l G ad _ _ _ _ 0 (by decide) _ (xV_at0 _ _ _ _) _ B hI) (cwV 1 hts (lw_V q758 q759 q760 q97 q761) rfl rfl rfl hdS_X4_said ⟨by decide, by decide⟩) (hw.preV (k := 16 * 0 + 0) (xv0 0) rfl) rfl rfl hl.1 rfl (lv_room (by simp [Value.category])) dX0_now_97 ⟨Nat.zero_le _, Nat.zero_le _⟩) (fun r_97 e_97 => ?_)
    subst e_97
    exact l_iret hx hb hr hlk rfl hw (by rw [nowO, if_neg s_1_0, if_neg s_1_1, if_neg s_1_2, if_neg s_1_3, if_neg s_1_4, if_neg s_1_5, if_pos s_1_6]; first | exact ⟨rfl, rfl⟩ | (rw [iw]; exact ⟨rfl, rfl⟩)) dX0_now_100
  refine lv_tableOut (tgt := 101) hx hb dX0_now_1 (by have a_0 := ne_ti (k := 0) s_1_0 (by decide); have a_1 := ne_ti (k := 1) s_1_1 (by decide); have a_2 := ne_ti (k := 2) s_1_2 (by decide); have a_3 := ne_ti (k := 3) s_1_3 (by decide); have a_4 := ne_ti (k := 4) s_1_4 (by decide); have a_5 := ne_ti (k := 5) s_1_5 (by decide); have a_6 := ne_ti (k := 6) s_1_6 (by decide); omega) (by decide) ?_
  refine lv_aload_n hx hb dX0_now_101 rfl (lv_at hl 0 rfl) ?_
  refine lv_iconst (v := 0) hx hb dX0_now_102 (by decide) ?_
  refine n_calli (va_runV ⟨hx, hb, hml, hown, hts⟩ (tL_finding l G ad _ _ _ _ _ _ _ (0) (by decide)) (cwV 1 hts (lw_V q466 q468 qs3 q90 q469) rfl rfl rfl hdS_X0_finding ⟨by decide, by decide⟩) (hw.preV (k := 64) (xp 64) rfl) rfl rfl hl.1 rfl (lv_room (by simp [Value.category])) dX0_now_103 ⟨Nat.zero_le _, Nat.zero_le _⟩) hw (fun r_103 u_103 H locs e_103 hw => ?_)
  obtain ⟨rfl, rfl⟩ := e_103
  have hw : nS G (xE G ad (xV _ _ _ _) _ _ _) s H locs := hw
  exact l_iret hx hb hr hlk rfl hw (by rw [nowO, if_neg s_1_0, if_neg s_1_1, if_neg s_1_2, if_neg s_1_3, if_neg s_1_4, if_neg s_1_5, if_neg s_1_6]; first | exact ⟨rfl, rfl⟩ | (rw [iw]; exact ⟨rfl, rfl⟩)) dX0_now_106
theorem hdS_X0_change : yX0_change.cls = "LineCalls" ∧ yX0_change.cls ≠ "java/lang/invoke/MethodHandle" ∧ yX0_change.cls ≠ "java/lang/invoke/VarHandle" ∧ (parseMethodDescriptor yX0_change.desc).map (fun d => d.parameters.length) = some 3 := by decide +kernel
set_option maxHeartbeats 4000000 in
theorem tL_change (l : Launch) (G : nG) (ad : Nat → Nat) (w w1 w2 w3 : rw84) (X : mM) (sp : xSp) (sh : xSh) (k x y : Int32) (B : Nat) (hI : Inv B w) (hB : B ≤ 100000) : Met l yX0_change (ws_ yX0_change cX0_change 5 (some .int)) { frames := 3, cells := 0, slots := 0, locals := 63 } (va_Pc [.ref (ad 64), .int k, .int x, .int y] (nC G (xE G ad (xV w w1 w2 w3) X sp sh))) (va_Qi (fun (r : Int32) (u : xSt) => r = (changeO w k x y).1 ∧ u = ((changeO w k x y).2.1, w1, w2, w3, xfnd (changeO w k x y).2.2 X, sp, sh)) (fun u => nC G (xE G ad (xV u.1 u.2.1 u.2.2.1 u.2.2.2.1) u.2.2.2.2.1 u.2.2.2.2.2.1 u.2.2.2.2.2.2)) (nA G)) 0 0 (nA G) := by
  refine n_head (by decide) (Nat.le_of_ble_eq_true rfl) ?_
  intro p e s m below meth c ls hx hb hr hlk hml hown hts hB0 hl
  have hown : s.vm.findClass "LineCalls" = some m.cls := hown
  have hw := nS.start hB0
  have hl : lv_has ls 5 [(0, .ref (ad 64)), (1, .int k), (2, .int x), (3, .int y)] := hl
  obtain ⟨n, hn, en⟩ := hI.num
  refine lv_aload_n hx hb dX0_change_0 rfl (lv_at hl 0 rfl) ?_
  refine lv_iload_n hx hb dX0_change_1 rfl (lv_at hl 1 rfl) ?_
  refine n_callp (va_runV ⟨hx, hb, hml, hown, hts⟩ (tL_isJumper l G ad _ _ _ _ _ _ _ _) (cwV 1 hts (lw_V q462 q464 qs2 q90 q465) rfl rfl rfl hdS_X0_isJumper ⟨by decide, by decide⟩) (hw.preV (k := 64) (xp 64) rfl) rfl rfl hl.1 rfl (lv_room (by simp [Value.category])) dX0_change_2 ⟨Nat.zero_le _, Nat.zero_le _⟩) (fun r_2 e_2 => ?_)
  subst e_2
  refine lv_if_eq (tgt := 16) hx hb dX0_change_5 (by decide) (fun c_5 => ?_) (fun c_5 => ?_)
  · skip
    refine lv_aload_n hx hb dX0_change_16 rfl (lv_at hl 0 rfl) ?_
    refine lv_iconst (v := 0) hx hb dX0_change_17 (by decide) ?_
    refine n_calli (va_runV ⟨hx, hb, hml, hown, hts⟩ (tL_finding l G ad _ _ _ _ _ _ _ (0) (by decide)) (cwV 1 hts (lw_V q466 q468 qs3 q90 q469) rfl rfl rfl hdS_X0_finding ⟨by decide, by decide⟩) (hw.preV (k := 64) (xp 64) rfl) rfl rfl hl.1 rfl (lv_room (by simp [Value.category])) dX0_change_18 ⟨Nat.zero_le _, Nat.zero_le _⟩) hw (fun r_18 u_18 H locs e_18 hw => ?_)
    obtain ⟨rfl, rfl⟩ := e_18
    have hw : nS G (xE G ad (xV _ _ _ _) _ _ _) s H locs := hw
    exact l_iret hx hb hr hlk rfl hw (by rw [changeO, if_pos c_5]; first | (rw [ij, iq]; exact ⟨rfl, rfl⟩) | (rw [ij]; exact ⟨rfl, rfl⟩) | (rw [iq]; exact ⟨rfl, rfl⟩) | exact ⟨rfl, rfl⟩) dX0_change_21
  · skip
    obtain ⟨j, hjn, hj, rfl⟩ := in_num en hn c_5
    have ij : ix (nI j) = j := nI_clamp (by omega)
    refine lv_iload_n hx hb dX0_change_8 rfl (lv_at hl 2 rfl) ?_
    refine lv_iload_n hx hb dX0_change_9 rfl (lv_at hl 3 rfl) ?_
    refine n_callp (va_runS ⟨hx, hb, hml, hown, hts⟩ (tX_isTold l _ _) (va_cwS 2 hts (lw_S q660 q661 q90 q662) rfl rfl rfl (hdS_X0_isTold).2 ⟨by decide, by decide⟩) pu_pre rfl rfl hl.1 rfl (lv_room (by simp [Value.category])) dX0_change_10 ⟨Nat.zero_le _, Nat.zero_le _⟩) (fun r_10 e_10 => ?_)
    subst e_10
    refine lv_if_ne (tgt := 22) hx hb dX0_change_13 (by decide) (fun c_13 => ?_) (fun c_13 => ?_)
    · skip
      obtain ⟨q, hq, rfl⟩ := fld_nat c_13
      have iq : ix (nI q) = q := nI_clamp (by omega)
      refine lv_aload_n hx hb dX0_change_22 rfl (lv_at hl 0 rfl) ?_
      refine n_get (k := 64) hx hb hts in_X0 hown hw (xp 64) rfl 3 (by decide) q418 rfl dX0_change_23 ?_
      refine n_getN (k := 16 * 0 + 0) hx hb hts in_X4 hown hw (xv0 0) rfl 6 (by decide) q243 rfl dX0_change_26 ?_
      refine lv_iload_n hx hb dX0_change_29 rfl (lv_at hl 2 rfl) ?_
      refine n_aaldS (k := 16 * 0 + 7) (t := 4) (j := q) (b := ad (16 * 0 + (8 + q))) hx hb hw (xv0 7) (Or.inr rfl) rfl (by omega) (by decide) rfl dX0_change_30 ?_
      refine lv_iload_n hx hb dX0_change_31 rfl (lv_at hl 1 rfl) ?_
      refine n_iald (k := 16 * 0 + (8 + q)) (j := j) hx hb hw (xv0_row (by omega)) rfl (by omega) (by decide) dX0_change_32 ?_
      refine lv_istore hx hb dX0_change_33 hl (by decide) rfl (fun ls hl => ?_)
      refine lv_aload_n hx hb dX0_change_35 rfl (lv_at hl 1 rfl) ?_
      refine n_get (k := 64) hx hb hts in_X0 hown hw (xp 64) rfl 3 (by decide) q418 rfl dX0_change_36 ?_
      refine n_getN (k := 16 * 0 + 0) hx hb hts in_X4 hown hw (xv0 0) rfl 6 (by decide) q243 rfl dX0_change_39 ?_
      refine lv_iload_n hx hb dX0_change_42 rfl (lv_at hl 3 rfl) ?_
      refine n_aaldS (k := 16 * 0 + 7) (t := 4) (j := q) (b := ad (16 * 0 + (8 + q))) hx hb hw (xv0 7) (Or.inr rfl) rfl (by omega) (by decide) rfl dX0_change_43 ?_
      refine lv_iload_n hx hb dX0_change_44 rfl (lv_at hl 2 rfl) ?_
      refine lv_iload_n hx hb dX0_change_45 rfl (lv_at hl 4 rfl) ?_
      refine l0_iast hx hb hw (8 + q) (by omega) (q := j) rfl (by rw [wlen_row (by omega)]; omega) (pos := 44 + 5 * j + q) (wpos_row (by omega) _) dX0_change_46 (fun H locs hw => ?_)
      refine lv_iload hx hb dX0_change_47 (lv_at hl 0 rfl) ?_
      exact l_iret hx hb hr hlk rfl hw (by rw [changeO, if_neg c_5, if_neg c_13]; first | (rw [ij, iq]; exact ⟨rfl, rfl⟩) | (rw [ij]; exact ⟨rfl, rfl⟩) | (rw [iq]; exact ⟨rfl, rfl⟩) | exact ⟨rfl, rfl⟩) dX0_change_49
    · skip
      refine lv_aload_n hx hb dX0_change_16 rfl (lv_at hl 0 rfl) ?_
      refine lv_iconst (v := 0) hx hb dX0_change_17 (by decide) ?_
      refine n_calli (va_runV ⟨hx, hb, hml, hown, hts⟩ (tL_finding l G ad _ _ _ _ _ _ _ (0) (by decide)) (cwV 1 hts (lw_V q466 q468 qs3 q90 q469) rfl rfl rfl hdS_X0_finding ⟨by decide, by decide⟩) (hw.preV (k := 64) (xp 64) rfl) rfl rfl hl.1 rfl (lv_room (by simp [Value.category])) dX0_change_18 ⟨Nat.zero_le _, Nat.zero_le _⟩) hw (fun r_18 u_18 H locs e_18 hw => ?_)
      obtain ⟨rfl, rfl⟩ := e_18
      have hw : nS G (xE G ad (xV _ _ _ _) _ _ _) s H locs := hw
      exact l_iret hx hb hr hlk rfl hw (by rw [changeO, if_neg c_5, if_pos c_13]; first | (rw [ij, iq]; exact ⟨rfl, rfl⟩) | (rw [ij]; exact ⟨rfl, rfl⟩) | (rw [iq]; exact ⟨rfl, rfl⟩) | exact ⟨rfl, rfl⟩) dX0_change_21
