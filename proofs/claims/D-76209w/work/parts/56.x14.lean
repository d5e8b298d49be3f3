/-! the class: what will be, public -/
set_option maxRecDepth 100000
theorem hdS_X0_metres : yX0_metres.cls = "LineCalls" ∧ yX0_metres.cls ≠ "java/lang/invoke/MethodHandle" ∧ yX0_metres.cls ≠ "java/lang/invoke/VarHandle" ∧ (parseMethodDescriptor yX0_metres.desc).map (fun d => d.parameters.length) = some 1 := by decide +kernel
set_option maxHeartbeats 4000000 in
theorem tL_metres (l : Launch) (G : nG) (ad : Nat → Nat) (w w1 w2 w3 : rw84) (X : mM) (sp : xSp) (sh : xSh) (x : Int32) (B : Nat) (hI : Inv B w) (hB : B ≤ 100000) : Met l yX0_metres (ws_ yX0_metres cX0_metres 2 (some .int)) { frames := 10, cells := 0, slots := 0, locals := 212 } (va_Pc [.ref (ad 64), .int x] (nC G (xE G ad (xV w w1 w2 w3) X sp sh))) (va_Qi (fun (r : Int32) (u : xSt) => r = (metresO w x).1 ∧ ∃ g, u = ((metresO w x).2.1, w1, g, w3, xfnd (metresO w x).2.2 X, sp, sh)) (fun u => nC G (xE G ad (xV u.1 u.2.1 u.2.2.1 u.2.2.2.1) u.2.2.2.2.1 u.2.2.2.2.2.1 u.2.2.2.2.2.2)) (nA G)) 0 0 (nA G) := by
  refine n_head (by decide) (Nat.le_of_ble_eq_true rfl) ?_
  intro p e s m below meth c ls hx hb hr hlk hml hown hts hB0 hl
  have hown : s.vm.findClass "LineCalls" = some m.cls := hown
  have hw := nS.start hB0
  have hl : lv_has ls 2 [(0, .ref (ad 64)), (1, .int x)] := hl
  obtain ⟨n, hn, en⟩ := hI.num
  refine lv_iload_n hx hb dX0_metres_0 rfl (lv_at hl 1 rfl) ?_
  refine lv_iconst (v := 0) hx hb dX0_metres_1 (by decide) ?_
  refine lv_bipush (v := 100) hx hb dX0_metres_2 (by decide) ?_
  refine n_callp (va_runS ⟨hx, hb, hml, hown, hts⟩ (tX_in l _ _ _) (va_cwS 3 hts (lw_S q459 q460 q90 q461) rfl rfl rfl (hdS_X0_in).2 ⟨by decide, by decide⟩) pu_pre rfl rfl hl.1 rfl (lv_room (by simp [Value.category])) dX0_metres_4 ⟨Nat.zero_le _, Nat.zero_le _⟩) (fun r_4 e_4 => ?_)
  subst e_4
  refine lv_if_eq (tgt := 18) hx hb dX0_metres_7 (by decide) (fun c_7 => ?_) (fun c_7 => ?_)
  · skip
    refine lv_aload_n hx hb dX0_metres_18 rfl (lv_at hl 0 rfl) ?_
    refine lv_iconst (v := 0) hx hb dX0_metres_19 (by decide) ?_
    refine n_calli (va_runV ⟨hx, hb, hml, hown, hts⟩ (tL_finding l G ad _ _ _ _ _ _ _ (0) (by decide)) (cwV 1 hts (lw_V q466 q468 qs3 q90 q469) rfl rfl rfl hdS_X0_finding ⟨by decide, by decide⟩) (hw.preV (k := 64) (xp 64) rfl) rfl rfl hl.1 rfl (lv_room (by simp [Value.category])) dX0_metres_20 ⟨Nat.zero_le _, Nat.zero_le _⟩) hw (fun r_20 u_20 H locs e_20 hw => ?_)
    obtain ⟨rfl, rfl⟩ := e_20
    have hw : nS G (xE G ad (xV _ _ _ _) _ _ _) s H locs := hw
    exact l_iret hx hb hr hlk rfl hw (by rw [metresO, if_pos c_7]; first | (rw [iq]; exact ⟨rfl, _, rfl⟩) | exact ⟨rfl, _, rfl⟩) dX0_metres_23
  · skip
    obtain ⟨q, hq, rfl⟩ := in_nat (N := 100) rfl (by decide) c_7
    have iq : ix (nI q) = q := nI_clamp (by omega)
    refine lv_aload_n hx hb dX0_metres_10 rfl (lv_at hl 0 rfl) ?_
    refine lv_iload_n hx hb dX0_metres_11 rfl (lv_at hl 1 rfl) ?_
    refine n_calli (x_runVW ⟨hx, hb, hml, hown, hts⟩ (tL_metresBehind l G ad _ _ _ _ _ _ _ q B hI (by omega)) (x_cwVW 1 hts (lw_VW q794 q796 qs12 q90 q797) rfl rfl hdS_X0_metresBehind ⟨by decide, by decide⟩) (hw.preV (k := 64) (xp 64) rfl) rfl rfl hl.1 rfl (lv_room (by simp [Value.category])) dX0_metres_12 ⟨Nat.zero_le _, Nat.zero_le _⟩) hw (fun r_12 u_12 H locs e_12 hw => ?_)
    obtain ⟨rfl, rfl⟩ := e_12
    have hw : nS G (xE G ad (xV _ _ _ _) _ _ _) s H locs := hw
    refine lv_goto (tgt := 23) hx hb dX0_metres_15 (by decide) ?_
    exact l_iret hx hb hr hlk rfl hw (by rw [metresO, if_neg c_7]; first | (rw [iq]; exact ⟨rfl, _, rfl⟩) | exact ⟨rfl, _, rfl⟩) dX0_metres_23
theorem hdS_X0_ahead : yX0_ahead.cls = "LineCalls" ∧ yX0_ahead.cls ≠ "java/lang/invoke/MethodHandle" ∧ yX0_ahead.cls ≠ "java/lang/invoke/VarHandle" ∧ (parseMethodDescriptor yX0_ahead.desc).map (fun d => d.parameters.length) = some 3 := by decide +kernel
set_option maxHeartbeats 4000000 in
theorem tL_ahead (l : Launch) (G : nG) (ad : Nat → Nat) (w w1 w2 w3 : rw84) (X : mM) (sp : xSp) (sh : xSh) (k x y : Int32) (B : Nat) (hI : Inv B w) (hB : B ≤ 100000) : Met l yX0_ahead (ws_ yX0_ahead cX0_ahead 4 (some .int)) { frames := 9, cells := 0, slots := 0, locals := 193 } (va_Pc [.ref (ad 64), .int k, .int x, .int y] (nC G (xE G ad (xV w w1 w2 w3) X sp sh))) (va_Qi (fun (r : Int32) (u : xSt) => r = (aheadO w k x y).1 ∧ ∃ g, u = ((aheadO w k x y).2.1, w1, g, w3, xfnd (aheadO w k x y).2.2 X, sp, sh)) (fun u => nC G (xE G ad (xV u.1 u.2.1 u.2.2.1 u.2.2.2.1) u.2.2.2.2.1 u.2.2.2.2.2.1 u.2.2.2.2.2.2)) (nA G)) 0 0 (nA G) := by
  refine n_head (by decide) (Nat.le_of_ble_eq_true rfl) ?_
  intro p e s m below meth c ls hx hb hr hlk hml hown hts hB0 hl
  have hown : s.vm.findClass "LineCalls" = some m.cls := hown
  have hw := nS.start hB0
  have hl : lv_has ls 4 [(0, .ref (ad 64)), (1, .int k), (2, .int x), (3, .int y)] := hl
  obtain ⟨n, hn, en⟩ := hI.num
  refine lv_aload_n hx hb dX0_ahead_0 rfl (lv_at hl 0 rfl) ?_
  refine lv_iload_n hx hb dX0_ahead_1 rfl (lv_at hl 1 rfl) ?_
  refine n_callp (va_runV ⟨hx, hb, hml, hown, hts⟩ (tL_isJumper l G ad _ _ _ _ _ _ _ _) (cwV 1 hts (lw_V q462 q464 qs2 q90 q465) rfl rfl rfl hdS_X0_isJumper ⟨by decide, by decide⟩) (hw.preV (k := 64) (xp 64) rfl) rfl rfl hl.1 rfl (lv_room (by simp [Value.category])) dX0_ahead_2 ⟨Nat.zero_le _, Nat.zero_le _⟩) (fun r_2 e_2 => ?_)
  subst e_2
  refine lv_if_eq (tgt := 37) hx hb dX0_ahead_5 (by decide) (fun c_5 => ?_) (fun c_5 => ?_)
  · skip
    refine lv_aload_n hx hb dX0_ahead_37 rfl (lv_at hl 0 rfl) ?_
    refine lv_iconst (v := 0) hx hb dX0_ahead_38 (by decide) ?_
    refine n_calli (va_runV ⟨hx, hb, hml, hown, hts⟩ (tL_finding l G ad _ _ _ _ _ _ _ (0) (by decide)) (cwV 1 hts (lw_V q466 q468 qs3 q90 q469) rfl rfl rfl hdS_X0_finding ⟨by decide, by decide⟩) (hw.preV (k := 64) (xp 64) rfl) rfl rfl hl.1 rfl (lv_room (by simp [Value.category])) dX0_ahead_39 ⟨Nat.zero_le _, Nat.zero_le _⟩) hw (fun r_39 u_39 H locs e_39 hw => ?_)
    obtain ⟨rfl, rfl⟩ := e_39
    have hw : nS G (xE G ad (xV _ _ _ _) _ _ _) s H locs := hw
    exact l_iret hx hb hr hlk rfl hw (by rw [aheadO, if_pos c_5]; first | exact ⟨rfl, _, rfl⟩ | (rw [ij, iq, iz]; by_cases e5 : nI q = 5; (rw [if_pos e5, if_pos e5]; exact ⟨rfl, _, rfl⟩); (rw [if_neg e5, if_neg e5]; exact ⟨rfl, _, rfl⟩))) dX0_ahead_42
  · skip
    obtain ⟨j, hjn, hj, rfl⟩ := in_num en hn c_5
    have ij : ix (nI j) = j := nI_clamp (by omega)
    refine lv_iload_n hx hb dX0_ahead_8 rfl (lv_at hl 2 rfl) ?_
    refine lv_iconst (v := 2) hx hb dX0_ahead_9 (by decide) ?_
    refine lv_iconst (v := 5) hx hb dX0_ahead_10 (by decide) ?_
    refine n_callp (va_runS ⟨hx, hb, hml, hown, hts⟩ (tX_in l _ _ _) (va_cwS 3 hts (lw_S q459 q460 q90 q461) rfl rfl rfl (hdS_X0_in).2 ⟨by decide, by decide⟩) pu_pre rfl rfl hl.1 rfl (lv_room (by simp [Value.category])) dX0_ahead_11 ⟨Nat.zero_le _, Nat.zero_le _⟩) (fun r_11 e_11 => ?_)
    subst e_11
    refine lv_if_eq (tgt := 37) hx hb dX0_ahead_14 (by decide) (fun c_14 => ?_) (fun c_14 => ?_)
    · skip
      refine lv_aload_n hx hb dX0_ahead_37 rfl (lv_at hl 0 rfl) ?_
      refine lv_iconst (v := 0) hx hb dX0_ahead_38 (by decide) ?_
      refine n_calli (va_runV ⟨hx, hb, hml, hown, hts⟩ (tL_finding l G ad _ _ _ _ _ _ _ (0) (by decide)) (cwV 1 hts (lw_V q466 q468 qs3 q90 q469) rfl rfl rfl hdS_X0_finding ⟨by decide, by decide⟩) (hw.preV (k := 64) (xp 64) rfl) rfl rfl hl.1 rfl (lv_room (by simp [Value.category])) dX0_ahead_39 ⟨Nat.zero_le _, Nat.zero_le _⟩) hw (fun r_39 u_39 H locs e_39 hw => ?_)
      obtain ⟨rfl, rfl⟩ := e_39
      have hw : nS G (xE G ad (xV _ _ _ _) _ _ _) s H locs := hw
      exact l_iret hx hb hr hlk rfl hw (by rw [aheadO, if_neg c_5, if_pos c_14]; first | exact ⟨rfl, _, rfl⟩ | (rw [ij, iq, iz]; by_cases e5 : nI q = 5; (rw [if_pos e5, if_pos e5]; exact ⟨rfl, _, rfl⟩); (rw [if_neg e5, if_neg e5]; exact ⟨rfl, _, rfl⟩))) dX0_ahead_42
    · skip
      obtain ⟨q, h2q, hq, rfl⟩ := in_nat2 (N := 5) rfl (by decide) c_14
      have iq : ix (nI q) = q := nI_clamp (by omega)
      refine lv_iload_n hx hb dX0_ahead_17 rfl (lv_at hl 3 rfl) ?_
      refine lv_iconst (v := 0) hx hb dX0_ahead_18 (by decide) ?_
      refine lv_bipush (v := 100) hx hb dX0_ahead_19 (by decide) ?_
      refine n_callp (va_runS ⟨hx, hb, hml, hown, hts⟩ (tX_in l _ _ _) (va_cwS 3 hts (lw_S q459 q460 q90 q461) rfl rfl rfl (hdS_X0_in).2 ⟨by decide, by decide⟩) pu_pre rfl rfl hl.1 rfl (lv_room (by simp [Value.category])) dX0_ahead_21 ⟨Nat.zero_le _, Nat.zero_le _⟩) (fun r_21 e_21 => ?_)
      subst e_21
      refine lv_if_eq (tgt := 37) hx hb dX0_ahead_24 (by decide) (fun c_24 => ?_) (fun c_24 => ?_)
      · skip
        refine lv_aload_n hx hb dX0_ahead_37 rfl (lv_at hl 0 rfl) ?_
        refine lv_iconst (v := 0) hx hb dX0_ahead_38 (by decide) ?_
        refine n_calli (va_runV ⟨hx, hb, hml, hown, hts⟩ (tL_finding l G ad _ _ _ _ _ _ _ (0) (by decide)) (cwV 1 hts (lw_V q466 q468 qs3 q90 q469) rfl rfl rfl hdS_X0_finding ⟨by decide, by decide⟩) (hw.preV (k := 64) (xp 64) rfl) rfl rfl hl.1 rfl (lv_room (by simp [Value.category])) dX0_ahead_39 ⟨Nat.zero_le _, Nat.zero_le _⟩) hw (fun r_39 u_39 H locs e_39 hw => ?_)
        obtain ⟨rfl, rfl⟩ := e_39
        have hw : nS G (xE G ad (xV _ _ _ _) _ _ _) s H locs := hw
        exact l_iret hx hb hr hlk rfl hw (by rw [aheadO, if_neg c_5, if_neg c_14, if_pos c_24]; first | exact ⟨rfl, _, rfl⟩ | (rw [ij, iq, iz]; by_cases e5 : nI q = 5; (rw [if_pos e5, if_pos e5]; exact ⟨rfl, _, rfl⟩); (rw [if_neg e5, if_neg e5]; exact ⟨rfl, _, rfl⟩))) dX0_ahead_42
      · skip
        obtain ⟨z, hz, rfl⟩ := in_nat (N := 100) rfl (by decide) c_24
        have iz : ix (nI z) = z := nI_clamp (by omega)
        refine lv_aload_n hx hb dX0_ahead_27 rfl (lv_at hl 0 rfl) ?_
        refine lv_iload_n hx hb dX0_ahead_28 rfl (lv_at hl 1 rfl) ?_
        refine lv_iload_n hx hb dX0_ahead_29 rfl (lv_at hl 2 rfl) ?_
        refine lv_iload_n hx hb dX0_ahead_30 rfl (lv_at hl 3 rfl) ?_
        refine n_calli (x_runVW ⟨hx, hb, hml, hown, hts⟩ (tL_toldBehind l G ad _ _ _ _ _ _ _ j q z B hj hq hI (by omega)) (x_cwVW 3 hts (lw_VW q769 q771 qs10 q90 q772) rfl rfl hdS_X0_toldBehind ⟨by decide, by decide⟩) (hw.preV (k := 64) (xp 64) rfl) rfl rfl hl.1 rfl (lv_room (by simp [Value.category])) dX0_ahead_31 ⟨Nat.zero_le _, Nat.zero_le _⟩) hw (fun r_31 u_31 H locs e_31 hw => ?_)
        obtain ⟨rfl, rfl⟩ := e_31
        have hw : nS G (xE G ad (xV _ _ _ _) _ _ _) s H locs := hw
        refine lv_goto (tgt := 42) hx hb dX0_ahead_34 (by decide) ?_
        exact l_iret hx hb hr hlk rfl hw (by rw [aheadO, if_neg c_5, if_neg c_14, if_neg c_24]; first | exact ⟨rfl, _, rfl⟩ | (rw [ij, iq, iz]; by_cases e5 : nI q = 5; (rw [if_pos e5, if_pos e5]; exact ⟨rfl, _, rfl⟩); (rw [if_neg e5, if_neg e5]; exact ⟨rfl, _, rfl⟩))) dX0_ahead_42
