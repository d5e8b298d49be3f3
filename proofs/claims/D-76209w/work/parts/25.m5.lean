/-! the reference: its public methods, first part -/
set_option maxRecDepth 100000
theorem hdS_X13_stand : yX13_stand.cls = "LineCallsModel" ∧ yX13_stand.cls ≠ "java/lang/invoke/MethodHandle" ∧ yX13_stand.cls ≠ "java/lang/invoke/VarHandle" ∧ (parseMethodDescriptor yX13_stand.desc).map (fun d => d.parameters.length) = some 2 := by decide +kernel
set_option maxHeartbeats 4000000 in
theorem tM_stand (l : Launch) (G : nG) (ad : Nat → Nat) (w : rw84) (M : mM) (v k : Int32) (B : Nat) (hI : Inv B w) (hB : B ≤ 100000) : Met l yX13_stand (ws_ yX13_stand cX13_stand 3 (some .int)) { frames := 2, cells := 0, slots := 0, locals := 47 } (va_Pc [.ref (ad 0), .int v, .int k] (nC G (mE G ad w M))) (va_Qi (fun (r : Int32) (u : rw84 × mM) => r = (standO w v k).1 ∧ u = ((standO w v k).2.1, fnd (standO w v k).2.2 M)) (fun u => nC G (mE G ad u.1 u.2)) (nA G)) 0 0 (nA G) := by
  refine n_head (by decide) (Nat.le_of_ble_eq_true rfl) ?_
  intro p e s m below meth c ls hx hb hr hlk hml hown hts hB0 hl
  have hown : s.vm.findClass "LineCallsModel" = some m.cls := hown
  have hw := nS.start hB0
  have hl : lv_has ls 3 [(0, .ref (ad 0)), (1, .int v), (2, .int k)] := hl
  obtain ⟨n, hn, en⟩ := hI.num
  refine lv_iload_n hx hb dX13_stand_0 rfl (lv_at hl 1 rfl) ?_
  refine n_callp (va_runS ⟨hx, hb, hml, hown, hts⟩ (tM_isPlace l _) (va_cwS 1 hts (lw_S q1278 q1279 q106 q1280) rfl rfl rfl (hdS_X13_isPlace).2 ⟨by decide, by decide⟩) pu_pre rfl rfl hl.1 rfl (lv_room (by simp [Value.category])) dX13_stand_1 ⟨Nat.zero_le _, Nat.zero_le _⟩) (fun r_1 e_1 => ?_)
  subst e_1
  refine lv_if_eq (tgt := 29) hx hb dX13_stand_4 (by decide) (fun c_4 => ?_) (fun c_4 => ?_)
  · skip
    refine lv_aload_n hx hb dX13_stand_29 rfl (lv_at hl 0 rfl) ?_
    refine lv_ldc (v := (-1000001)) hx hb hown (hts _ q1296) dX13_stand_30 ?_
    refine n_calli (va_runV ⟨hx, hb, hml, hown, hts⟩ (tM_finding l G ad _ _ (-1000001) 0 (by decide) (by decide)) (cwV 1 hts (lw_V q1297 q1299 qs53 q106 q1300) rfl rfl rfl hdS_X13_finding ⟨by decide, by decide⟩) (hw.preV (k := 0) rfl rfl) rfl rfl hl.1 rfl (lv_room (by simp [Value.category])) dX13_stand_32 ⟨Nat.zero_le _, Nat.zero_le _⟩) hw (fun r_32 u_32 H locs e_32 hw => ?_)
    obtain ⟨rfl, rfl⟩ := e_32
    have hw : nS G (mE G ad _ _) s H locs := hw
    exact m_iret hx hb hr hlk rfl hw (by rw [standO, if_pos c_4]; first | (rw [iq]; exact ⟨rfl, rfl⟩) | exact ⟨rfl, rfl⟩) dX13_stand_35
  · skip
    obtain ⟨q, hq, rfl⟩ := in_nat (N := 6) rfl (by decide) c_4
    have iq : ix (nI q) = q := nI_clamp (by omega)
    refine lv_iload_n hx hb dX13_stand_7 rfl (lv_at hl 2 rfl) ?_
    refine lv_iconst (v := (-1)) hx hb dX13_stand_8 (by decide) ?_
    refine lv_icmp_eq (tgt := 20) hx hb dX13_stand_9 (by decide) (fun c_9 => ?_) (fun c_9 => ?_)
    · skip
      refine lv_aload_n hx hb dX13_stand_20 rfl (lv_at hl 0 rfl) ?_
      refine lv_iload_n hx hb dX13_stand_21 rfl (lv_at hl 1 rfl) ?_
      refine lv_iload_n hx hb dX13_stand_22 rfl (lv_at hl 2 rfl) ?_
      refine n_calli (va_runV ⟨hx, hb, hml, hown, hts⟩ (tM_stands l G ad _ _ (q) _ (by first | assumption | omega)) (cwV 2 hts (lw_V q1288 q1290 qs51 q106 q1291) rfl rfl rfl hdS_X13_stands ⟨by decide, by decide⟩) (hw.preV (k := 0) rfl rfl) rfl rfl hl.1 rfl (lv_room (by simp [Value.category])) dX13_stand_23 ⟨Nat.zero_le _, Nat.zero_le _⟩) hw (fun r_23 u_23 H locs e_23 hw => ?_)
      obtain ⟨rfl, rfl⟩ := e_23
      have hw : nS G (mE G ad _ _) s H locs := hw
      refine lv_goto (tgt := 35) hx hb dX13_stand_26 (by decide) ?_
      exact m_iret hx hb hr hlk rfl hw (by rw [standO, if_neg c_4, if_pos c_9]; first | (rw [iq]; exact ⟨rfl, rfl⟩) | exact ⟨rfl, rfl⟩) dX13_stand_35
    · skip
      refine lv_aload_n hx hb dX13_stand_12 rfl (lv_at hl 0 rfl) ?_
      refine lv_iload_n hx hb dX13_stand_13 rfl (lv_at hl 2 rfl) ?_
      refine n_callp (va_runV ⟨hx, hb, hml, hown, hts⟩ (tM_isJumper l G ad _ _ _) (cwV 1 hts (lw_V q1284 q1286 qs50 q106 q1287) rfl rfl rfl hdS_X13_isJumper ⟨by decide, by decide⟩) (hw.preV (k := 0) rfl rfl) rfl rfl hl.1 rfl (lv_room (by simp [Value.category])) dX13_stand_14 ⟨Nat.zero_le _, Nat.zero_le _⟩) (fun r_14 e_14 => ?_)
      subst e_14
      refine lv_if_eq (tgt := 29) hx hb dX13_stand_17 (by decide) (fun c_17 => ?_) (fun c_17 => ?_)
      · skip
        refine lv_aload_n hx hb dX13_stand_29 rfl (lv_at hl 0 rfl) ?_
        refine lv_ldc (v := (-1000001)) hx hb hown (hts _ q1296) dX13_stand_30 ?_
        refine n_calli (va_runV ⟨hx, hb, hml, hown, hts⟩ (tM_finding l G ad _ _ (-1000001) 0 (by decide) (by decide)) (cwV 1 hts (lw_V q1297 q1299 qs53 q106 q1300) rfl rfl rfl hdS_X13_finding ⟨by decide, by decide⟩) (hw.preV (k := 0) rfl rfl) rfl rfl hl.1 rfl (lv_room (by simp [Value.category])) dX13_stand_32 ⟨Nat.zero_le _, Nat.zero_le _⟩) hw (fun r_32 u_32 H locs e_32 hw => ?_)
        obtain ⟨rfl, rfl⟩ := e_32
        have hw : nS G (mE G ad _ _) s H locs := hw
        exact m_iret hx hb hr hlk rfl hw (by rw [standO, if_neg c_4, if_neg c_9, if_pos c_17]; first | (rw [iq]; exact ⟨rfl, rfl⟩) | exact ⟨rfl, rfl⟩) dX13_stand_35
      · skip
        refine lv_aload_n hx hb dX13_stand_20 rfl (lv_at hl 0 rfl) ?_
        refine lv_iload_n hx hb dX13_stand_21 rfl (lv_at hl 1 rfl) ?_
        refine lv_iload_n hx hb dX13_stand_22 rfl (lv_at hl 2 rfl) ?_
        refine n_calli (va_runV ⟨hx, hb, hml, hown, hts⟩ (tM_stands l G ad _ _ (q) _ (by first | assumption | omega)) (cwV 2 hts (lw_V q1288 q1290 qs51 q106 q1291) rfl rfl rfl hdS_X13_stands ⟨by decide, by decide⟩) (hw.preV (k := 0) rfl rfl) rfl rfl hl.1 rfl (lv_room (by simp [Value.category])) dX13_stand_23 ⟨Nat.zero_le _, Nat.zero_le _⟩) hw (fun r_23 u_23 H locs e_23 hw => ?_)
        obtain ⟨rfl, rfl⟩ := e_23
        have hw : nS G (mE G ad _ _) s H locs := hw
        refine lv_goto (tgt := 35) hx hb dX13_stand_26 (by decide) ?_
        exact m_iret hx hb hr hlk rfl hw (by rw [standO, if_neg c_4, if_neg c_9, if_neg c_17]; first | (rw [iq]; exact ⟨rfl, rfl⟩) | exact ⟨rfl, rfl⟩) dX13_stand_35
theorem hdS_X13_place : yX13_place.cls = "LineCallsModel" ∧ yX13_place.cls ≠ "java/lang/invoke/MethodHandle" ∧ yX13_place.cls ≠ "java/lang/invoke/VarHandle" ∧ (parseMethodDescriptor yX13_place.desc).map (fun d => d.parameters.length) = some 2 := by decide +kernel
set_option maxHeartbeats 4000000 in
theorem tM_place (l : Launch) (G : nG) (ad : Nat → Nat) (w : rw84) (M : mM) (v x : Int32) : Met l yX13_place (ws_ yX13_place cX13_place 3 (some .int)) { frames := 2, cells := 0, slots := 0, locals := 42 } (va_Pc [.ref (ad 0), .int v, .int x] (nC G (mE G ad w M))) (va_Qi (fun (r : Int32) (u : rw84 × mM) => r = (placeO w v x).1 ∧ u = ((placeO w v x).2.1, fnd (placeO w v x).2.2 M)) (fun u => nC G (mE G ad u.1 u.2)) (nA G)) 0 0 (nA G) := by
  refine n_head (by decide) (Nat.le_of_ble_eq_true rfl) ?_
  intro p e s m below meth c ls hx hb hr hlk hml hown hts hB0 hl
  have hown : s.vm.findClass "LineCallsModel" = some m.cls := hown
  have hw := nS.start hB0
  have hl : lv_has ls 3 [(0, .ref (ad 0)), (1, .int v), (2, .int x)] := hl
  refine lv_iload_n hx hb dX13_place_0 rfl (lv_at hl 1 rfl) ?_
  refine n_callp (va_runS ⟨hx, hb, hml, hown, hts⟩ (tM_isPlace l _) (va_cwS 1 hts (lw_S q1278 q1279 q106 q1280) rfl rfl rfl (hdS_X13_isPlace).2 ⟨by decide, by decide⟩) pu_pre rfl rfl hl.1 rfl (lv_room (by simp [Value.category])) dX13_place_1 ⟨Nat.zero_le _, Nat.zero_le _⟩) (fun r_1 e_1 => ?_)
  subst e_1
  refine lv_if_ne (tgt := 14) hx hb dX13_place_4 (by decide) (fun c_4 => ?_) (fun c_4 => ?_)
  · skip
    obtain ⟨q, hq, rfl⟩ := in_nat (N := 6) rfl (by decide) c_4
    have iq : ix (nI q) = q := nI_clamp (by omega)
    refine lv_iload_n hx hb dX13_place_14 rfl (lv_at hl 2 rfl) ?_
    by_cases s_15_0 : x = 0
    · skip
      refine lv_tableIn (tgt := 44) hx hb dX13_place_15 (by rw [s_15_0]; decide) (by rw [s_15_0]; decide) (off := 29) (by rw [s_15_0]; rfl) (by decide) ?_
      refine lv_aload_n hx hb dX13_place_44 rfl (lv_at hl 0 rfl) ?_
      refine n_get (k := 0) hx hb hts in_X13 hown hw rfl rfl 0 (by decide) q1198 rfl dX13_place_45 ?_
      refine lv_bipush (v := 17) hx hb dX13_place_48 (by decide) ?_
      refine lv_iload_n hx hb dX13_place_50 rfl (lv_at hl 1 rfl) ?_
      refine lv_iadd hx hb dX13_place_51 ?_
      refine n_topE (nI_add 17 q) ?_
      refine n_iald (k := 1) (j := 17 + q) hx hb hw rfl rfl (by omega) (by decide) dX13_place_52 ?_
      exact m_iret hx hb hr hlk rfl hw (by rw [placeO, if_neg c_4, if_pos s_15_0]; first | (rw [iq]; exact ⟨rfl, rfl⟩) | exact ⟨rfl, rfl⟩) dX13_place_53
    by_cases s_15_1 : x = 1
    · skip
      refine lv_tableIn (tgt := 54) hx hb dX13_place_15 (by rw [s_15_1]; decide) (by rw [s_15_1]; decide) (off := 39) (by rw [s_15_1]; rfl) (by decide) ?_
      refine lv_aload_n hx hb dX13_place_54 rfl (lv_at hl 0 rfl) ?_
      refine n_get (k := 0) hx hb hts in_X13 hown hw rfl rfl 0 (by decide) q1198 rfl dX13_place_55 ?_
      refine lv_bipush (v := 24) hx hb dX13_place_58 (by decide) ?_
      refine lv_iload_n hx hb dX13_place_60 rfl (lv_at hl 1 rfl) ?_
      refine lv_iadd hx hb dX13_place_61 ?_
      refine n_topE (nI_add 24 q) ?_
      refine n_iald (k := 1) (j := 24 + q) hx hb hw rfl rfl (by omega) (by decide) dX13_place_62 ?_
      exact m_iret hx hb hr hlk rfl hw (by rw [placeO, if_neg c_4, if_neg s_15_0, if_pos s_15_1]; first | (rw [iq]; exact ⟨rfl, rfl⟩) | exact ⟨rfl, rfl⟩) dX13_place_63
    by_cases s_15_2 : x = 2
    · skip
      refine lv_tableIn (tgt := 64) hx hb dX13_place_15 (by rw [s_15_2]; decide) (by rw [s_15_2]; decide) (off := 49) (by rw [s_15_2]; rfl) (by decide) ?_
      refine lv_aload_n hx hb dX13_place_64 rfl (lv_at hl 0 rfl) ?_
      refine n_get (k := 0) hx hb hts in_X13 hown hw rfl rfl 0 (by decide) q1198 rfl dX13_place_65 ?_
      refine lv_bipush (v := 31) hx hb dX13_place_68 (by decide) ?_
      refine lv_iload_n hx hb dX13_place_70 rfl (lv_at hl 1 rfl) ?_
      refine lv_iadd hx hb dX13_place_71 ?_
      refine n_topE (nI_add 31 q) ?_
      refine n_iald (k := 1) (j := 31 + q) hx hb hw rfl rfl (by omega) (by decide) dX13_place_72 ?_
      exact m_iret hx hb hr hlk rfl hw (by rw [placeO, if_neg c_4, if_neg s_15_0, if_neg s_15_1, if_pos s_15_2]; first | (rw [iq]; exact ⟨rfl, rfl⟩) | exact ⟨rfl, rfl⟩) dX13_place_73
    by_cases s_15_3 : x = 3
    · skip
      refine lv_tableIn (tgt := 74) hx hb dX13_place_15 (by rw [s_15_3]; decide) (by rw [s_15_3]; decide) (off := 59) (by rw [s_15_3]; rfl) (by decide) ?_
      refine lv_aload_n hx hb dX13_place_74 rfl (lv_at hl 0 rfl) ?_
      refine lv_iload_n hx hb dX13_place_75 rfl (lv_at hl 1 rfl) ?_
      refine n_callp (va_runV ⟨hx, hb, hml, hown, hts⟩ (tM_force l G ad _ _ (q) (by first | assumption | omega)) (cwV 1 hts (lw_V q1305 q1307 qs54 q106 q1308) rfl rfl rfl hdS_X13_force ⟨by decide, by decide⟩) (hw.preV (k := 0) rfl rfl) rfl rfl hl.1 rfl (lv_room (by simp [Value.category])) dX13_place_76 ⟨Nat.zero_le _, Nat.zero_le _⟩) (fun r_76 e_76 => ?_)
      subst e_76
      exact m_iret hx hb hr hlk rfl hw (by rw [placeO, if_neg c_4, if_neg s_15_0, if_neg s_15_1, if_neg s_15_2, if_pos s_15_3]; first | (rw [iq]; exact ⟨rfl, rfl⟩) | exact ⟨rfl, rfl⟩) dX13_place_79
    refine lv_tableOut (tgt := 80) hx hb dX13_place_15 (by have a_0 := ne_ti (k := 0) s_15_0 (by decide); have a_1 := ne_ti (k := 1) s_15_1 (by decide); have a_2 := ne_ti (k := 2) s_15_2 (by decide); have a_3 := ne_ti (k := 3) s_15_3 (by decide); omega) (by decide) ?_
    refine lv_aload_n hx hb dX13_place_80 rfl (lv_at hl 0 rfl) ?_
    refine lv_ldc (v := (-1000001)) hx hb hown (hts _ q1296) dX13_place_81 ?_
    refine n_calli (va_runV ⟨hx, hb, hml, hown, hts⟩ (tM_finding l G ad _ _ (-1000001) 0 (by decide) (by decide)) (cwV 1 hts (lw_V q1297 q1299 qs53 q106 q1300) rfl rfl rfl hdS_X13_finding ⟨by decide, by decide⟩) (hw.preV (k := 0) rfl rfl) rfl rfl hl.1 rfl (lv_room (by simp [Value.category])) dX13_place_83 ⟨Nat.zero_le _, Nat.zero_le _⟩) hw (fun r_83 u_83 H locs e_83 hw => ?_)
    obtain ⟨rfl, rfl⟩ := e_83
    have hw : nS G (mE G ad _ _) s H locs := hw
    exact m_iret hx hb hr hlk rfl hw (by rw [placeO, if_neg c_4, if_neg s_15_0, if_neg s_15_1, if_neg s_15_2, if_neg s_15_3]; first | (rw [iq]; exact ⟨rfl, rfl⟩) | exact ⟨rfl, rfl⟩) dX13_place_86
  · skip
    refine lv_aload_n hx hb dX13_place_7 rfl (lv_at hl 0 rfl) ?_
    refine lv_ldc (v := (-1000001)) hx hb hown (hts _ q1296) dX13_place_8 ?_
    refine n_calli (va_runV ⟨hx, hb, hml, hown, hts⟩ (tM_finding l G ad _ _ (-1000001) 0 (by decide) (by decide)) (cwV 1 hts (lw_V q1297 q1299 qs53 q106 q1300) rfl rfl rfl hdS_X13_finding ⟨by decide, by decide⟩) (hw.preV (k := 0) rfl rfl) rfl rfl hl.1 rfl (lv_room (by simp [Value.category])) dX13_place_10 ⟨Nat.zero_le _, Nat.zero_le _⟩) hw (fun r_10 u_10 H locs e_10 hw => ?_)
    obtain ⟨rfl, rfl⟩ := e_10
    have hw : nS G (mE G ad _ _) s H locs := hw
    exact m_iret hx hb hr hlk rfl hw (by rw [placeO, if_pos c_4]; first | (rw [iq]; exact ⟨rfl, rfl⟩) | exact ⟨rfl, rfl⟩) dX13_place_13
theorem hdS_X13_theirs : yX13_theirs.cls = "LineCallsModel" ∧ yX13_theirs.cls ≠ "java/lang/invoke/MethodHandle" ∧ yX13_theirs.cls ≠ "java/lang/invoke/VarHandle" ∧ (parseMethodDescriptor yX13_theirs.desc).map (fun d => d.parameters.length) = some 3 := by decide +kernel
set_option maxHeartbeats 4000000 in
theorem tM_theirs (l : Launch) (G : nG) (ad : Nat → Nat) (w : rw84) (M : mM) (v x y : Int32) : Met l yX13_theirs (ws_ yX13_theirs cX13_theirs 4 (some .int)) { frames := 2, cells := 0, slots := 0, locals := 42 } (va_Pc [.ref (ad 0), .int v, .int x, .int y] (nC G (mE G ad w M))) (va_Qi (fun (r : Int32) (u : rw84 × mM) => r = (theirsO w v x y).1 ∧ u = ((theirsO w v x y).2.1, fnd (theirsO w v x y).2.2 M)) (fun u => nC G (mE G ad u.1 u.2)) (nA G)) 0 0 (nA G) := by
  refine n_head (by decide) (Nat.le_of_ble_eq_true rfl) ?_
  intro p e s m below meth c ls hx hb hr hlk hml hown hts hB0 hl
  have hown : s.vm.findClass "LineCallsModel" = some m.cls := hown
  have hw := nS.start hB0
  have hl : lv_has ls 4 [(0, .ref (ad 0)), (1, .int v), (2, .int x), (3, .int y)] := hl
  refine lv_iload_n hx hb dX13_theirs_0 rfl (lv_at hl 1 rfl) ?_
  refine n_callp (va_runS ⟨hx, hb, hml, hown, hts⟩ (tM_isPlace l _) (va_cwS 1 hts (lw_S q1278 q1279 q106 q1280) rfl rfl rfl (hdS_X13_isPlace).2 ⟨by decide, by decide⟩) pu_pre rfl rfl hl.1 rfl (lv_room (by simp [Value.category])) dX13_theirs_1 ⟨Nat.zero_le _, Nat.zero_le _⟩) (fun r_1 e_1 => ?_)
  subst e_1
  refine lv_if_eq (tgt := 26) hx hb dX13_theirs_4 (by decide) (fun c_4 => ?_) (fun c_4 => ?_)
  · skip
    refine lv_aload_n hx hb dX13_theirs_26 rfl (lv_at hl 0 rfl) ?_
    refine lv_ldc (v := (-1000001)) hx hb hown (hts _ q1296) dX13_theirs_27 ?_
    refine n_calli (va_runV ⟨hx, hb, hml, hown, hts⟩ (tM_finding l G ad _ _ (-1000001) 0 (by decide) (by decide)) (cwV 1 hts (lw_V q1297 q1299 qs53 q106 q1300) rfl rfl rfl hdS_X13_finding ⟨by decide, by decide⟩) (hw.preV (k := 0) rfl rfl) rfl rfl hl.1 rfl (lv_room (by simp [Value.category])) dX13_theirs_29 ⟨Nat.zero_le _, Nat.zero_le _⟩) hw (fun r_29 u_29 H locs e_29 hw => ?_)
    obtain ⟨rfl, rfl⟩ := e_29
    have hw : nS G (mE G ad _ _) s H locs := hw
    exact m_iret hx hb hr hlk rfl hw (by rw [theirsO, if_pos c_4]; first | (rw [iq]; exact ⟨rfl, rfl⟩) | exact ⟨rfl, rfl⟩) dX13_theirs_32
  · skip
    obtain ⟨q, hq, rfl⟩ := in_nat (N := 6) rfl (by decide) c_4
    have iq : ix (nI q) = q := nI_clamp (by omega)
    refine lv_iload_n hx hb dX13_theirs_7 rfl (lv_at hl 2 rfl) ?_
    refine lv_iconst (v := 1) hx hb dX13_theirs_8 (by decide) ?_
    refine lv_iconst (v := 2) hx hb dX13_theirs_9 (by decide) ?_
    refine n_callp (va_runS ⟨hx, hb, hml, hown, hts⟩ (tM_within l _ _ _) (va_cwS 3 hts (lw_S q1281 q1282 q106 q1283) rfl rfl rfl (hdS_X13_within).2 ⟨by decide, by decide⟩) pu_pre rfl rfl hl.1 rfl (lv_room (by simp [Value.category])) dX13_theirs_10 ⟨Nat.zero_le _, Nat.zero_le _⟩) (fun r_10 e_10 => ?_)
    subst e_10
    refine lv_if_eq (tgt := 26) hx hb dX13_theirs_13 (by decide) (fun c_13 => ?_) (fun c_13 => ?_)
    · skip
      refine lv_aload_n hx hb dX13_theirs_26 rfl (lv_at hl 0 rfl) ?_
      refine lv_ldc (v := (-1000001)) hx hb hown (hts _ q1296) dX13_theirs_27 ?_
      refine n_calli (va_runV ⟨hx, hb, hml, hown, hts⟩ (tM_finding l G ad _ _ (-1000001) 0 (by decide) (by decide)) (cwV 1 hts (lw_V q1297 q1299 qs53 q106 q1300) rfl rfl rfl hdS_X13_finding ⟨by decide, by decide⟩) (hw.preV (k := 0) rfl rfl) rfl rfl hl.1 rfl (lv_room (by simp [Value.category])) dX13_theirs_29 ⟨Nat.zero_le _, Nat.zero_le _⟩) hw (fun r_29 u_29 H locs e_29 hw => ?_)
      obtain ⟨rfl, rfl⟩ := e_29
      have hw : nS G (mE G ad _ _) s H locs := hw
      exact m_iret hx hb hr hlk rfl hw (by rw [theirsO, if_neg c_4, if_pos c_13]; first | (rw [iq]; exact ⟨rfl, rfl⟩) | exact ⟨rfl, rfl⟩) dX13_theirs_32
    · skip
      refine lv_iload_n hx hb dX13_theirs_16 rfl (lv_at hl 3 rfl) ?_
      refine lv_iconst (v := 0) hx hb dX13_theirs_17 (by decide) ?_
      refine lv_bipush (v := 99) hx hb dX13_theirs_18 (by decide) ?_
      refine n_callp (va_runS ⟨hx, hb, hml, hown, hts⟩ (tM_within l _ _ _) (va_cwS 3 hts (lw_S q1281 q1282 q106 q1283) rfl rfl rfl (hdS_X13_within).2 ⟨by decide, by decide⟩) pu_pre rfl rfl hl.1 rfl (lv_room (by simp [Value.category])) dX13_theirs_20 ⟨Nat.zero_le _, Nat.zero_le _⟩) (fun r_20 e_20 => ?_)
      subst e_20
      refine lv_if_ne (tgt := 33) hx hb dX13_theirs_23 (by decide) (fun c_23 => ?_) (fun c_23 => ?_)
      · skip
        refine lv_aload_n hx hb dX13_theirs_33 rfl (lv_at hl 0 rfl) ?_
        refine lv_iload_n hx hb dX13_theirs_34 rfl (lv_at hl 2 rfl) ?_
        refine lv_iconst (v := 1) hx hb dX13_theirs_35 (by decide) ?_
        refine lv_icmp_ne (tgt := 44) hx hb dX13_theirs_36 (by decide) (fun c_36 => ?_) (fun c_36 => ?_)
        · skip
          refine lv_bipush (v := 31) hx hb dX13_theirs_44 (by decide) ?_
          refine lv_iload_n hx hb dX13_theirs_46 rfl (lv_at hl 1 rfl) ?_
          refine lv_iadd hx hb dX13_theirs_47 ?_
          refine n_topE (nI_add 31 q) ?_
          refine lv_iload_n hx hb dX13_theirs_48 rfl (lv_at hl 3 rfl) ?_
          refine n_calli (va_runV ⟨hx, hb, hml, hown, hts⟩ (tM_become l G ad _ _ (31 + q) _ (by omega)) (cwV 2 hts (lw_V q1313 q1315 qs55 q106 q1316) rfl rfl rfl hdS_X13_become ⟨by decide, by decide⟩) (hw.preV (k := 0) rfl rfl) rfl rfl hl.1 rfl (lv_room (by simp [Value.category])) dX13_theirs_49 ⟨Nat.zero_le _, Nat.zero_le _⟩) hw (fun r_49 u_49 H locs e_49 hw => ?_)
          obtain ⟨rfl, rfl⟩ := e_49
          have hw : nS G (mE G ad _ _) s H locs := hw
          exact m_iret hx hb hr hlk rfl hw (by rw [theirsO, if_neg c_4, if_neg c_13, if_neg c_23, if_neg c_36]; first | (rw [iq]; exact ⟨rfl, rfl⟩) | exact ⟨rfl, rfl⟩) dX13_theirs_52
        · skip
          refine lv_bipush (v := 24) hx hb dX13_theirs_39 (by decide) ?_
          refine lv_goto (tgt := 46) hx hb dX13_theirs_41 (by decide) ?_
          refine lv_iload_n hx hb dX13_theirs_46 rfl (lv_at hl 1 rfl) ?_
          refine lv_iadd hx hb dX13_theirs_47 ?_
          refine n_topE (nI_add 24 q) ?_
          refine lv_iload_n hx hb dX13_theirs_48 rfl (lv_at hl 3 rfl) ?_
          refine n_calli (va_runV ⟨hx, hb, hml, hown, hts⟩ (tM_become l G ad _ _ (24 + q) _ (by omega)) (cwV 2 hts (lw_V q1313 q1315 qs55 q106 q1316) rfl rfl rfl hdS_X13_become ⟨by decide, by decide⟩) (hw.preV (k := 0) rfl rfl) rfl rfl hl.1 rfl (lv_room (by simp [Value.category])) dX13_theirs_49 ⟨Nat.zero_le _, Nat.zero_le _⟩) hw (fun r_49 u_49 H locs e_49 hw => ?_)
          obtain ⟨rfl, rfl⟩ := e_49
          have hw : nS G (mE G ad _ _) s H locs := hw
          exact m_iret hx hb hr hlk rfl hw (by rw [theirsO, if_neg c_4, if_neg c_13, if_neg c_23, if_pos c_36]; first | (rw [iq]; exact ⟨rfl, rfl⟩) | exact ⟨rfl, rfl⟩) dX13_theirs_52
      · skip
        refine lv_aload_n hx hb dX13_theirs_26 rfl (lv_at hl 0 rfl) ?_
        refine lv_ldc (v := (-1000001)) hx hb hown (hts _ q1296) dX13_theirs_27 ?_
        refine n_calli (va_runV ⟨hx, hb, hml, hown, hts⟩ (tM_finding l G ad _ _ (-1000001) 0 (by decide) (by decide)) (cwV 1 hts (lw_V q1297 q1299 qs53 q106 q1300) rfl rfl rfl hdS_X13_finding ⟨by decide, by decide⟩) (hw.preV (k := 0) rfl rfl) rfl rfl hl.1 rfl (lv_room (by simp [Value.category])) dX13_theirs_29 ⟨Nat.zero_le _, Nat.zero_le _⟩) hw (fun r_29 u_29 H locs e_29 hw => ?_)
        obtain ⟨rfl, rfl⟩ := e_29
        have hw : nS G (mE G ad _ _) s H locs := hw
        exact m_iret hx hb hr hlk rfl hw (by rw [theirsO, if_neg c_4, if_neg c_13, if_pos c_23]; first | (rw [iq]; exact ⟨rfl, rfl⟩) | exact ⟨rfl, rfl⟩) dX13_theirs_32
theorem hdS_X13_set : yX13_set.cls = "LineCallsModel" ∧ yX13_set.cls ≠ "java/lang/invoke/MethodHandle" ∧ yX13_set.cls ≠ "java/lang/invoke/VarHandle" ∧ (parseMethodDescriptor yX13_set.desc).map (fun d => d.parameters.length) = some 2 := by decide +kernel
set_option maxHeartbeats 4000000 in
theorem tM_set (l : Launch) (G : nG) (ad : Nat → Nat) (w : rw84) (M : mM) (x y : Int32) : Met l yX13_set (ws_ yX13_set cX13_set 3 (some .int)) { frames := 1, cells := 0, slots := 0, locals := 23 } (va_Pc [.ref (ad 0), .int x, .int y] (nC G (mE G ad w M))) (va_Qi (fun (r : Int32) (u : rw84 × mM) => r = (setO w x y).1 ∧ u = ((setO w x y).2.1, fnd (setO w x y).2.2 M)) (fun u => nC G (mE G ad u.1 u.2)) (nA G)) 0 0 (nA G) := by
  refine n_head (by decide) (Nat.le_of_ble_eq_true rfl) ?_
  intro p e s m below meth c ls hx hb hr hlk hml hown hts hB0 hl
  have hown : s.vm.findClass "LineCallsModel" = some m.cls := hown
  have hw := nS.start hB0
  have hl : lv_has ls 3 [(0, .ref (ad 0)), (1, .int x), (2, .int y)] := hl
  refine lv_iload_n hx hb dX13_set_0 rfl (lv_at hl 1 rfl) ?_
  refine lv_iconst (v := 0) hx hb dX13_set_1 (by decide) ?_
  refine lv_iconst (v := 2) hx hb dX13_set_2 (by decide) ?_
  refine n_callp (va_runS ⟨hx, hb, hml, hown, hts⟩ (tM_within l _ _ _) (va_cwS 3 hts (lw_S q1281 q1282 q106 q1283) rfl rfl rfl (hdS_X13_within).2 ⟨by decide, by decide⟩) pu_pre rfl rfl hl.1 rfl (lv_room (by simp [Value.category])) dX13_set_3 ⟨Nat.zero_le _, Nat.zero_le _⟩) (fun r_3 e_3 => ?_)
  subst e_3
  refine lv_if_eq (tgt := 39) hx hb dX13_set_6 (by decide) (fun c_6 => ?_) (fun c_6 => ?_)
  · skip
    refine lv_aload_n hx hb dX13_set_39 rfl (lv_at hl 0 rfl) ?_
    refine lv_ldc (v := (-1000001)) hx hb hown (hts _ q1296) dX13_set_40 ?_
    refine n_calli (va_runV ⟨hx, hb, hml, hown, hts⟩ (tM_finding l G ad _ _ (-1000001) 0 (by decide) (by decide)) (cwV 1 hts (lw_V q1297 q1299 qs53 q106 q1300) rfl rfl rfl hdS_X13_finding ⟨by decide, by decide⟩) (hw.preV (k := 0) rfl rfl) rfl rfl hl.1 rfl (lv_room (by simp [Value.category])) dX13_set_42 ⟨Nat.zero_le _, Nat.zero_le _⟩) hw (fun r_42 u_42 H locs e_42 hw => ?_)
    obtain ⟨rfl, rfl⟩ := e_42
    have hw : nS G (mE G ad _ _) s H locs := hw
    exact m_iret hx hb hr hlk rfl hw (by rw [setO, if_pos c_6]; first | (rw [iq]; exact ⟨rfl, rfl⟩) | exact ⟨rfl, rfl⟩) dX13_set_45
  · skip
    obtain ⟨q, hq, rfl⟩ := in_nat (N := 2) rfl (by decide) c_6
    have iq : ix (nI q) = q := nI_clamp (by omega)
    refine lv_iload_n hx hb dX13_set_9 rfl (lv_at hl 2 rfl) ?_
    refine lv_iconst (v := 0) hx hb dX13_set_10 (by decide) ?_
    refine lv_iload_n hx hb dX13_set_11 rfl (lv_at hl 1 rfl) ?_
    refine lv_iconst (v := 2) hx hb dX13_set_12 (by decide) ?_
    refine n_join2 (fun v => v = (if nI q = 2 then 4 else 9)) 22 (fun v_13 hv_13 => ?_) (fun hj_13 => ?_)
    · skip
      subst hv_13
      refine n_callp (va_runS ⟨hx, hb, hml, hown, hts⟩ (tM_within l _ _ _) (va_cwS 3 hts (lw_S q1281 q1282 q106 q1283) rfl rfl rfl (hdS_X13_within).2 ⟨by decide, by decide⟩) pu_pre rfl rfl hl.1 rfl (lv_room (by simp [Value.category])) dX13_set_22 ⟨Nat.zero_le _, Nat.zero_le _⟩) (fun r_22 e_22 => ?_)
      subst e_22
      refine lv_if_eq (tgt := 39) hx hb dX13_set_25 (by decide) (fun c_25 => ?_) (fun c_25 => ?_)
      · skip
        refine lv_aload_n hx hb dX13_set_39 rfl (lv_at hl 0 rfl) ?_
        refine lv_ldc (v := (-1000001)) hx hb hown (hts _ q1296) dX13_set_40 ?_
        refine n_calli (va_runV ⟨hx, hb, hml, hown, hts⟩ (tM_finding l G ad _ _ (-1000001) 0 (by decide) (by decide)) (cwV 1 hts (lw_V q1297 q1299 qs53 q106 q1300) rfl rfl rfl hdS_X13_finding ⟨by decide, by decide⟩) (hw.preV (k := 0) rfl rfl) rfl rfl hl.1 rfl (lv_room (by simp [Value.category])) dX13_set_42 ⟨Nat.zero_le _, Nat.zero_le _⟩) hw (fun r_42 u_42 H locs e_42 hw => ?_)
        obtain ⟨rfl, rfl⟩ := e_42
        have hw : nS G (mE G ad _ _) s H locs := hw
        exact m_iret hx hb hr hlk rfl hw (by rw [setO, if_neg c_6, if_pos c_25]; first | (rw [iq]; exact ⟨rfl, rfl⟩) | exact ⟨rfl, rfl⟩) dX13_set_45
      · skip
        refine lv_aload_n hx hb dX13_set_28 rfl (lv_at hl 0 rfl) ?_
        refine lv_iconst (v := 4) hx hb dX13_set_29 (by decide) ?_
        refine lv_iload_n hx hb dX13_set_30 rfl (lv_at hl 1 rfl) ?_
        refine lv_iadd hx hb dX13_set_31 ?_
        refine n_topE (nI_add 4 q) ?_
        refine lv_iload_n hx hb dX13_set_32 rfl (lv_at hl 2 rfl) ?_
        refine n_calli (va_runV ⟨hx, hb, hml, hown, hts⟩ (tM_become l G ad _ _ (4 + q) _ (by omega)) (cwV 2 hts (lw_V q1313 q1315 qs55 q106 q1316) rfl rfl rfl hdS_X13_become ⟨by decide, by decide⟩) (hw.preV (k := 0) rfl rfl) rfl rfl hl.1 rfl (lv_room (by simp [Value.category])) dX13_set_33 ⟨Nat.zero_le _, Nat.zero_le _⟩) hw (fun r_33 u_33 H locs e_33 hw => ?_)
        obtain ⟨rfl, rfl⟩ := e_33
        have hw : nS G (mE G ad _ _) s H locs := hw
        refine lv_goto (tgt := 45) hx hb dX13_set_36 (by decide) ?_
        exact m_iret hx hb hr hlk rfl hw (by rw [setO, if_neg c_6, if_neg c_25]; first | (rw [iq]; exact ⟨rfl, rfl⟩) | exact ⟨rfl, rfl⟩) dX13_set_45
    · skip
      refine lv_icmp_ne (tgt := 20) hx hb dX13_set_13 (by decide) (fun c_13 => ?_) (fun c_13 => ?_)
      · skip
        refine lv_bipush (v := 9) hx hb dX13_set_20 (by decide) ?_
        exact hj_13 _ (by rw [if_neg c_13])
      · skip
        refine lv_iconst (v := 4) hx hb dX13_set_16 (by decide) ?_
        refine lv_goto (tgt := 22) hx hb dX13_set_17 (by decide) ?_
        exact hj_13 _ (by rw [if_pos c_13])
theorem hdS_X13_call : yX13_call.cls = "LineCallsModel" ∧ yX13_call.cls ≠ "java/lang/invoke/MethodHandle" ∧ yX13_call.cls ≠ "java/lang/invoke/VarHandle" ∧ (parseMethodDescriptor yX13_call.desc).map (fun d => d.parameters.length) = some 2 := by decide +kernel
set_option maxHeartbeats 4000000 in
theorem tM_call (l : Launch) (G : nG) (ad : Nat → Nat) (w : rw84) (M : mM) (x y : Int32) : Met l yX13_call (ws_ yX13_call cX13_call 3 (some .int)) { frames := 2, cells := 0, slots := 0, locals := 42 } (va_Pc [.ref (ad 0), .int x, .int y] (nC G (mE G ad w M))) (va_Qi (fun (r : Int32) (u : rw84 × mM) => r = (callO w x y).1 ∧ u = ((callO w x y).2.1, fnd (callO w x y).2.2 M)) (fun u => nC G (mE G ad u.1 u.2)) (nA G)) 0 0 (nA G) := by
  refine n_head (by decide) (Nat.le_of_ble_eq_true rfl) ?_
  intro p e s m below meth c ls hx hb hr hlk hml hown hts hB0 hl
  have hown : s.vm.findClass "LineCallsModel" = some m.cls := hown
  have hw := nS.start hB0
  have hl : lv_has ls 3 [(0, .ref (ad 0)), (1, .int x), (2, .int y)] := hl
  refine lv_iload_n hx hb dX13_call_0 rfl (lv_at hl 1 rfl) ?_
  refine lv_iconst (v := 0) hx hb dX13_call_1 (by decide) ?_
  refine lv_iconst (v := 5) hx hb dX13_call_2 (by decide) ?_
  refine n_callp (va_runS ⟨hx, hb, hml, hown, hts⟩ (tM_within l _ _ _) (va_cwS 3 hts (lw_S q1281 q1282 q106 q1283) rfl rfl rfl (hdS_X13_within).2 ⟨by decide, by decide⟩) pu_pre rfl rfl hl.1 rfl (lv_room (by simp [Value.category])) dX13_call_3 ⟨Nat.zero_le _, Nat.zero_le _⟩) (fun r_3 e_3 => ?_)
  subst e_3
  refine lv_if_eq (tgt := 28) hx hb dX13_call_6 (by decide) (fun c_6 => ?_) (fun c_6 => ?_)
  · skip
    refine lv_aload_n hx hb dX13_call_28 rfl (lv_at hl 0 rfl) ?_
    refine lv_ldc (v := (-1000001)) hx hb hown (hts _ q1296) dX13_call_29 ?_
    refine n_calli (va_runV ⟨hx, hb, hml, hown, hts⟩ (tM_finding l G ad _ _ (-1000001) 0 (by decide) (by decide)) (cwV 1 hts (lw_V q1297 q1299 qs53 q106 q1300) rfl rfl rfl hdS_X13_finding ⟨by decide, by decide⟩) (hw.preV (k := 0) rfl rfl) rfl rfl hl.1 rfl (lv_room (by simp [Value.category])) dX13_call_31 ⟨Nat.zero_le _, Nat.zero_le _⟩) hw (fun r_31 u_31 H locs e_31 hw => ?_)
    obtain ⟨rfl, rfl⟩ := e_31
    have hw : nS G (mE G ad _ _) s H locs := hw
    exact m_iret hx hb hr hlk rfl hw (by rw [callO, if_pos c_6]; first | (rw [iq]; exact ⟨rfl, rfl⟩) | exact ⟨rfl, rfl⟩) dX13_call_34
  · skip
    obtain ⟨q, hq, rfl⟩ := in_nat (N := 5) rfl (by decide) c_6
    have iq : ix (nI q) = q := nI_clamp (by omega)
    refine lv_iload_n hx hb dX13_call_9 rfl (lv_at hl 2 rfl) ?_
    refine n_callp (va_runS ⟨hx, hb, hml, hown, hts⟩ (tM_isCall l _) (va_cwS 1 hts (lw_S q1325 q1326 q106 q1327) rfl rfl rfl (hdS_X13_isCall).2 ⟨by decide, by decide⟩) pu_pre rfl rfl hl.1 rfl (lv_room (by simp [Value.category])) dX13_call_10 ⟨Nat.zero_le _, Nat.zero_le _⟩) (fun r_10 e_10 => ?_)
    subst e_10
    refine lv_if_eq (tgt := 28) hx hb dX13_call_13 (by decide) (fun c_13 => ?_) (fun c_13 => ?_)
    · skip
      refine lv_aload_n hx hb dX13_call_28 rfl (lv_at hl 0 rfl) ?_
      refine lv_ldc (v := (-1000001)) hx hb hown (hts _ q1296) dX13_call_29 ?_
      refine n_calli (va_runV ⟨hx, hb, hml, hown, hts⟩ (tM_finding l G ad _ _ (-1000001) 0 (by decide) (by decide)) (cwV 1 hts (lw_V q1297 q1299 qs53 q106 q1300) rfl rfl rfl hdS_X13_finding ⟨by decide, by decide⟩) (hw.preV (k := 0) rfl rfl) rfl rfl hl.1 rfl (lv_room (by simp [Value.category])) dX13_call_31 ⟨Nat.zero_le _, Nat.zero_le _⟩) hw (fun r_31 u_31 H locs e_31 hw => ?_)
      obtain ⟨rfl, rfl⟩ := e_31
      have hw : nS G (mE G ad _ _) s H locs := hw
      exact m_iret hx hb hr hlk rfl hw (by rw [callO, if_neg c_6, if_pos c_13]; first | (rw [iq]; exact ⟨rfl, rfl⟩) | exact ⟨rfl, rfl⟩) dX13_call_34
    · skip
      refine lv_aload_n hx hb dX13_call_16 rfl (lv_at hl 0 rfl) ?_
      refine lv_bipush (v := 38) hx hb dX13_call_17 (by decide) ?_
      refine lv_iload_n hx hb dX13_call_19 rfl (lv_at hl 1 rfl) ?_
      refine lv_iadd hx hb dX13_call_20 ?_
      refine n_topE (nI_add 38 q) ?_
      refine lv_iload_n hx hb dX13_call_21 rfl (lv_at hl 2 rfl) ?_
      refine n_calli (va_runV ⟨hx, hb, hml, hown, hts⟩ (tM_become l G ad _ _ (38 + q) _ (by omega)) (cwV 2 hts (lw_V q1313 q1315 qs55 q106 q1316) rfl rfl rfl hdS_X13_become ⟨by decide, by decide⟩) (hw.preV (k := 0) rfl rfl) rfl rfl hl.1 rfl (lv_room (by simp [Value.category])) dX13_call_22 ⟨Nat.zero_le _, Nat.zero_le _⟩) hw (fun r_22 u_22 H locs e_22 hw => ?_)
      obtain ⟨rfl, rfl⟩ := e_22
      have hw : nS G (mE G ad _ _) s H locs := hw
      refine lv_goto (tgt := 34) hx hb dX13_call_25 (by decide) ?_
      exact m_iret hx hb hr hlk rfl hw (by rw [callO, if_neg c_6, if_neg c_13]; first | (rw [iq]; exact ⟨rfl, rfl⟩) | exact ⟨rfl, rfl⟩) dX13_call_34
theorem hdS_X13_listed : yX13_listed.cls = "LineCallsModel" ∧ yX13_listed.cls ≠ "java/lang/invoke/MethodHandle" ∧ yX13_listed.cls ≠ "java/lang/invoke/VarHandle" ∧ (parseMethodDescriptor yX13_listed.desc).map (fun d => d.parameters.length) = some 1 := by decide +kernel
set_option maxHeartbeats 4000000 in
theorem tM_listed (l : Launch) (G : nG) (ad : Nat → Nat) (w : rw84) (M : mM) (x : Int32) : Met l yX13_listed (ws_ yX13_listed cX13_listed 2 (some .int)) { frames := 1, cells := 0, slots := 0, locals := 22 } (va_Pc [.ref (ad 0), .int x] (nC G (mE G ad w M))) (va_Qi (fun (r : Int32) (u : rw84 × mM) => r = (listedO w x).1 ∧ u = ((listedO w x).2.1, fnd (listedO w x).2.2 M)) (fun u => nC G (mE G ad u.1 u.2)) (nA G)) 0 0 (nA G) := by
  refine n_head (by decide) (Nat.le_of_ble_eq_true rfl) ?_
  intro p e s m below meth c ls hx hb hr hlk hml hown hts hB0 hl
  have hown : s.vm.findClass "LineCallsModel" = some m.cls := hown
  have hw := nS.start hB0
  have hl : lv_has ls 2 [(0, .ref (ad 0)), (1, .int x)] := hl
  refine lv_iload_n hx hb dX13_listed_0 rfl (lv_at hl 1 rfl) ?_
  refine lv_iconst (v := 0) hx hb dX13_listed_1 (by decide) ?_
  refine lv_iconst (v := 5) hx hb dX13_listed_2 (by decide) ?_
  refine n_callp (va_runS ⟨hx, hb, hml, hown, hts⟩ (tM_within l _ _ _) (va_cwS 3 hts (lw_S q1281 q1282 q106 q1283) rfl rfl rfl (hdS_X13_within).2 ⟨by decide, by decide⟩) pu_pre rfl rfl hl.1 rfl (lv_room (by simp [Value.category])) dX13_listed_3 ⟨Nat.zero_le _, Nat.zero_le _⟩) (fun r_3 e_3 => ?_)
  subst e_3
  refine lv_if_eq (tgt := 21) hx hb dX13_listed_6 (by decide) (fun c_6 => ?_) (fun c_6 => ?_)
  · skip
    refine lv_aload_n hx hb dX13_listed_21 rfl (lv_at hl 0 rfl) ?_
    refine lv_ldc (v := (-1000001)) hx hb hown (hts _ q1296) dX13_listed_22 ?_
    refine n_calli (va_runV ⟨hx, hb, hml, hown, hts⟩ (tM_finding l G ad _ _ (-1000001) 0 (by decide) (by decide)) (cwV 1 hts (lw_V q1297 q1299 qs53 q106 q1300) rfl rfl rfl hdS_X13_finding ⟨by decide, by decide⟩) (hw.preV (k := 0) rfl rfl) rfl rfl hl.1 rfl (lv_room (by simp [Value.category])) dX13_listed_24 ⟨Nat.zero_le _, Nat.zero_le _⟩) hw (fun r_24 u_24 H locs e_24 hw => ?_)
    obtain ⟨rfl, rfl⟩ := e_24
    have hw : nS G (mE G ad _ _) s H locs := hw
    exact m_iret hx hb hr hlk rfl hw (by rw [listedO, if_pos c_6]; first | (rw [iq]; exact ⟨rfl, rfl⟩) | exact ⟨rfl, rfl⟩) dX13_listed_27
  · skip
    obtain ⟨q, hq, rfl⟩ := in_nat (N := 5) rfl (by decide) c_6
    have iq : ix (nI q) = q := nI_clamp (by omega)
    refine lv_aload_n hx hb dX13_listed_9 rfl (lv_at hl 0 rfl) ?_
    refine n_get (k := 0) hx hb hts in_X13 hown hw rfl rfl 0 (by decide) q1198 rfl dX13_listed_10 ?_
    refine lv_bipush (v := 38) hx hb dX13_listed_13 (by decide) ?_
    refine lv_iload_n hx hb dX13_listed_15 rfl (lv_at hl 1 rfl) ?_
    refine lv_iadd hx hb dX13_listed_16 ?_
    refine n_topE (nI_add 38 q) ?_
    refine n_iald (k := 1) (j := 38 + q) hx hb hw rfl rfl (by omega) (by decide) dX13_listed_17 ?_
    refine lv_goto (tgt := 27) hx hb dX13_listed_18 (by decide) ?_
    exact m_iret hx hb hr hlk rfl hw (by rw [listedO, if_neg c_6]; first | (rw [iq]; exact ⟨rfl, rfl⟩) | exact ⟨rfl, rfl⟩) dX13_listed_27
theorem hdS_X13_says : yX13_says.cls = "LineCallsModel" ∧ yX13_says.cls ≠ "java/lang/invoke/MethodHandle" ∧ yX13_says.cls ≠ "java/lang/invoke/VarHandle" ∧ (parseMethodDescriptor yX13_says.desc).map (fun d => d.parameters.length) = some 2 := by decide +kernel
set_option maxHeartbeats 4000000 in
theorem tM_says (l : Launch) (G : nG) (ad : Nat → Nat) (w : rw84) (M : mM) (x y : Int32) : Met l yX13_says (ws_ yX13_says cX13_says 3 (some .int)) { frames := 2, cells := 0, slots := 0, locals := 45 } (va_Pc [.ref (ad 0), .int x, .int y] (nC G (mE G ad w M))) (va_Qi (fun (r : Int32) (u : rw84 × mM) => r = (saysO w x y).1 ∧ u = ((saysO w x y).2.1, fnd (saysO w x y).2.2 M)) (fun u => nC G (mE G ad u.1 u.2)) (nA G)) 0 0 (nA G) := by
  refine n_head (by decide) (Nat.le_of_ble_eq_true rfl) ?_
  intro p e s m below meth c ls hx hb hr hlk hml hown hts hB0 hl
  have hown : s.vm.findClass "LineCallsModel" = some m.cls := hown
  have hw := nS.start hB0
  have hl : lv_has ls 3 [(0, .ref (ad 0)), (1, .int x), (2, .int y)] := hl
  refine lv_iload_n hx hb dX13_says_0 rfl (lv_at hl 1 rfl) ?_
  refine n_callp (va_runS ⟨hx, hb, hml, hown, hts⟩ (tM_isCall l _) (va_cwS 1 hts (lw_S q1325 q1326 q106 q1327) rfl rfl rfl (hdS_X13_isCall).2 ⟨by decide, by decide⟩) pu_pre rfl rfl hl.1 rfl (lv_room (by simp [Value.category])) dX13_says_1 ⟨Nat.zero_le _, Nat.zero_le _⟩) (fun r_1 e_1 => ?_)
  subst e_1
  refine lv_if_eq (tgt := 24) hx hb dX13_says_4 (by decide) (fun c_4 => ?_) (fun c_4 => ?_)
  · skip
    refine lv_aload_n hx hb dX13_says_24 rfl (lv_at hl 0 rfl) ?_
    refine lv_ldc (v := (-1000001)) hx hb hown (hts _ q1296) dX13_says_25 ?_
    refine n_calli (va_runV ⟨hx, hb, hml, hown, hts⟩ (tM_finding l G ad _ _ (-1000001) 0 (by decide) (by decide)) (cwV 1 hts (lw_V q1297 q1299 qs53 q106 q1300) rfl rfl rfl hdS_X13_finding ⟨by decide, by decide⟩) (hw.preV (k := 0) rfl rfl) rfl rfl hl.1 rfl (lv_room (by simp [Value.category])) dX13_says_27 ⟨Nat.zero_le _, Nat.zero_le _⟩) hw (fun r_27 u_27 H locs e_27 hw => ?_)
    obtain ⟨rfl, rfl⟩ := e_27
    have hw : nS G (mE G ad _ _) s H locs := hw
    exact m_iret hx hb hr hlk rfl hw (by rw [saysO, if_pos c_4]; first | exact ⟨rfl, rfl⟩) dX13_says_30
  · skip
    refine lv_iload_n hx hb dX13_says_7 rfl (lv_at hl 2 rfl) ?_
    refine lv_iconst (v := 0) hx hb dX13_says_8 (by decide) ?_
    refine lv_iconst (v := 4) hx hb dX13_says_9 (by decide) ?_
    refine n_callp (va_runS ⟨hx, hb, hml, hown, hts⟩ (tM_within l _ _ _) (va_cwS 3 hts (lw_S q1281 q1282 q106 q1283) rfl rfl rfl (hdS_X13_within).2 ⟨by decide, by decide⟩) pu_pre rfl rfl hl.1 rfl (lv_room (by simp [Value.category])) dX13_says_10 ⟨Nat.zero_le _, Nat.zero_le _⟩) (fun r_10 e_10 => ?_)
    subst e_10
    refine lv_if_eq (tgt := 24) hx hb dX13_says_13 (by decide) (fun c_13 => ?_) (fun c_13 => ?_)
    · skip
      refine lv_aload_n hx hb dX13_says_24 rfl (lv_at hl 0 rfl) ?_
      refine lv_ldc (v := (-1000001)) hx hb hown (hts _ q1296) dX13_says_25 ?_
      refine n_calli (va_runV ⟨hx, hb, hml, hown, hts⟩ (tM_finding l G ad _ _ (-1000001) 0 (by decide) (by decide)) (cwV 1 hts (lw_V q1297 q1299 qs53 q106 q1300) rfl rfl rfl hdS_X13_finding ⟨by decide, by decide⟩) (hw.preV (k := 0) rfl rfl) rfl rfl hl.1 rfl (lv_room (by simp [Value.category])) dX13_says_27 ⟨Nat.zero_le _, Nat.zero_le _⟩) hw (fun r_27 u_27 H locs e_27 hw => ?_)
      obtain ⟨rfl, rfl⟩ := e_27
      have hw : nS G (mE G ad _ _) s H locs := hw
      exact m_iret hx hb hr hlk rfl hw (by rw [saysO, if_neg c_4, if_pos c_13]; first | exact ⟨rfl, rfl⟩) dX13_says_30
    · skip
      refine lv_iload_n hx hb dX13_says_16 rfl (lv_at hl 1 rfl) ?_
      refine lv_iload_n hx hb dX13_says_17 rfl (lv_at hl 2 rfl) ?_
      refine n_callp (va_runS ⟨hx, hb, hml, hown, hts⟩ (tM_saysBy l _ _) (va_cwS 2 hts (lw_S q1336 q1337 q106 q1338) rfl rfl rfl (hdS_X13_saysBy).2 ⟨by decide, by decide⟩) pu_pre rfl rfl hl.1 rfl (lv_room (by simp [Value.category])) dX13_says_18 ⟨Nat.zero_le _, Nat.zero_le _⟩) (fun r_18 e_18 => ?_)
      subst e_18
      refine lv_goto (tgt := 30) hx hb dX13_says_21 (by decide) ?_
      exact m_iret hx hb hr hlk rfl hw (by rw [saysO, if_neg c_4, if_neg c_13]; first | exact ⟨rfl, rfl⟩) dX13_says_30
theorem hdS_X13_jumper : yX13_jumper.cls = "LineCallsModel" ∧ yX13_jumper.cls ≠ "java/lang/invoke/MethodHandle" ∧ yX13_jumper.cls ≠ "java/lang/invoke/VarHandle" ∧ (parseMethodDescriptor yX13_jumper.desc).map (fun d => d.parameters.length) = some 2 := by decide +kernel
set_option maxHeartbeats 4000000 in
theorem tM_jumper (l : Launch) (G : nG) (ad : Nat → Nat) (w : rw84) (M : mM) (k t : Int32) (B : Nat) (hI : Inv B w) (hB : B ≤ 100000) : Met l yX13_jumper (ws_ yX13_jumper cX13_jumper 3 (some .int)) { frames := 2, cells := 0, slots := 0, locals := 45 } (va_Pc [.ref (ad 0), .int k, .int t] (nC G (mE G ad w M))) (va_Qi (fun (r : Int32) (u : rw84 × mM) => r = (jumperO w k t).1 ∧ u = ((jumperO w k t).2.1, fnd (jumperO w k t).2.2 M)) (fun u => nC G (mE G ad u.1 u.2)) (nA G)) 0 0 (nA G) := by
  refine n_head (by decide) (Nat.le_of_ble_eq_true rfl) ?_
  intro p e s m below meth c ls hx hb hr hlk hml hown hts hB0 hl
  have hown : s.vm.findClass "LineCallsModel" = some m.cls := hown
  have hw := nS.start hB0
  have hl : lv_has ls 3 [(0, .ref (ad 0)), (1, .int k), (2, .int t)] := hl
  obtain ⟨n, hn, en⟩ := hI.num
  refine lv_iload_n hx hb dX13_jumper_0 rfl (lv_at hl 1 rfl) ?_
  refine n_callp (va_runS ⟨hx, hb, hml, hown, hts⟩ (tM_isKind l _) (va_cwS 1 hts (lw_S q1346 q1347 q106 q1348) rfl rfl rfl (hdS_X13_isKind).2 ⟨by decide, by decide⟩) pu_pre rfl rfl hl.1 rfl (lv_room (by simp [Value.category])) dX13_jumper_1 ⟨Nat.zero_le _, Nat.zero_le _⟩) (fun r_1 e_1 => ?_)
  subst e_1
  refine lv_if_eq (tgt := 17) hx hb dX13_jumper_4 (by decide) (fun c_4 => ?_) (fun c_4 => ?_)
  · skip
    refine lv_aload_n hx hb dX13_jumper_17 rfl (lv_at hl 0 rfl) ?_
    refine lv_ldc (v := (-1000001)) hx hb hown (hts _ q1296) dX13_jumper_18 ?_
    refine n_calli (va_runV ⟨hx, hb, hml, hown, hts⟩ (tM_finding l G ad _ _ (-1000001) 0 (by decide) (by decide)) (cwV 1 hts (lw_V q1297 q1299 qs53 q106 q1300) rfl rfl rfl hdS_X13_finding ⟨by decide, by decide⟩) (hw.preV (k := 0) rfl rfl) rfl rfl hl.1 rfl (lv_room (by simp [Value.category])) dX13_jumper_20 ⟨Nat.zero_le _, Nat.zero_le _⟩) hw (fun r_20 u_20 H locs e_20 hw => ?_)
    obtain ⟨rfl, rfl⟩ := e_20
    have hw : nS G (mE G ad _ _) s H locs := hw
    exact m_iret hx hb hr hlk rfl hw (by rw [jumperO, if_pos c_4]; first | exact ⟨rfl, rfl⟩) dX13_jumper_23
  · skip
    refine lv_iload_n hx hb dX13_jumper_7 rfl (lv_at hl 2 rfl) ?_
    refine lv_iconst (v := 0) hx hb dX13_jumper_8 (by decide) ?_
    refine lv_bipush (v := 99) hx hb dX13_jumper_9 (by decide) ?_
    refine n_callp (va_runS ⟨hx, hb, hml, hown, hts⟩ (tM_within l _ _ _) (va_cwS 3 hts (lw_S q1281 q1282 q106 q1283) rfl rfl rfl (hdS_X13_within).2 ⟨by decide, by decide⟩) pu_pre rfl rfl hl.1 rfl (lv_room (by simp [Value.category])) dX13_jumper_11 ⟨Nat.zero_le _, Nat.zero_le _⟩) (fun r_11 e_11 => ?_)
    subst e_11
    refine lv_if_ne (tgt := 24) hx hb dX13_jumper_14 (by decide) (fun c_14 => ?_) (fun c_14 => ?_)
    · skip
      refine lv_aload_n hx hb dX13_jumper_24 rfl (lv_at hl 0 rfl) ?_
      refine n_get (k := 0) hx hb hts in_X13 hown hw rfl rfl 0 (by decide) q1198 rfl dX13_jumper_25 ?_
      refine lv_iconst (v := 1) hx hb dX13_jumper_28 (by decide) ?_
      refine n_iald (k := 1) (j := 1) hx hb hw rfl rfl (by decide) (by decide) dX13_jumper_29 ?_
      refine lv_bipush (v := 8) hx hb dX13_jumper_30 (by decide) ?_
      refine lv_icmp_ne (tgt := 44) hx hb dX13_jumper_32 (by decide) (fun c_32 => ?_) (fun c_32 => ?_)
      · skip
        have hn7 : n < 8 := by rcases Nat.lt_or_ge n 8 with z | z; exact z; exact absurd (by rw [en, show n = 8 by omega]; rfl) c_32
        have iw : ix (w 1) = n := by rw [en]; exact nI_clamp (by omega)
        refine lv_aload_n hx hb dX13_jumper_44 rfl (lv_at hl 0 rfl) ?_
        refine lv_iload_n hx hb dX13_jumper_45 rfl (lv_at hl 1 rfl) ?_
        refine lv_iload_n hx hb dX13_jumper_46 rfl (lv_at hl 2 rfl) ?_
        refine n_calli (va_runV ⟨hx, hb, hml, hown, hts⟩ (tM_comes l G ad _ _ _ _ n hn7 en) (cwV 2 hts (lw_V q1350 q1352 qs56 q106 q1353) rfl rfl rfl hdS_X13_comes ⟨by decide, by decide⟩) (hw.preV (k := 0) rfl rfl) rfl rfl hl.1 rfl (lv_room (by simp [Value.category])) dX13_jumper_47 ⟨Nat.zero_le _, Nat.zero_le _⟩) hw (fun r_47 u_47 H locs e_47 hw => ?_)
        obtain ⟨rfl, rfl⟩ := e_47
        have hw : nS G (mE G ad _ _) s H locs := hw
        exact m_iret hx hb hr hlk rfl hw (by rw [jumperO, if_neg c_4, if_neg c_14, if_neg c_32]; first | exact ⟨rfl, rfl⟩ | (rw [iw, en]; exact ⟨rfl, rfl⟩)) dX13_jumper_50
      · skip
        refine lv_aload_n hx hb dX13_jumper_35 rfl (lv_at hl 0 rfl) ?_
        refine lv_ldc (v := (-1000002)) hx hb hown (hts _ q1349) dX13_jumper_36 ?_
        refine n_calli (va_runV ⟨hx, hb, hml, hown, hts⟩ (tM_finding l G ad _ _ (-1000002) 1 (by decide) (by decide)) (cwV 1 hts (lw_V q1297 q1299 qs53 q106 q1300) rfl rfl rfl hdS_X13_finding ⟨by decide, by decide⟩) (hw.preV (k := 0) rfl rfl) rfl rfl hl.1 rfl (lv_room (by simp [Value.category])) dX13_jumper_38 ⟨Nat.zero_le _, Nat.zero_le _⟩) hw (fun r_38 u_38 H locs e_38 hw => ?_)
        obtain ⟨rfl, rfl⟩ := e_38
        have hw : nS G (mE G ad _ _) s H locs := hw
        refine lv_goto (tgt := 50) hx hb dX13_jumper_41 (by decide) ?_
        exact m_iret hx hb hr hlk rfl hw (by rw [jumperO, if_neg c_4, if_neg c_14, if_pos c_32]; first | exact ⟨rfl, rfl⟩ | (rw [iw, en]; exact ⟨rfl, rfl⟩)) dX13_jumper_50
    · skip
      refine lv_aload_n hx hb dX13_jumper_17 rfl (lv_at hl 0 rfl) ?_
      refine lv_ldc (v := (-1000001)) hx hb hown (hts _ q1296) dX13_jumper_18 ?_
      refine n_calli (va_runV ⟨hx, hb, hml, hown, hts⟩ (tM_finding l G ad _ _ (-1000001) 0 (by decide) (by decide)) (cwV 1 hts (lw_V q1297 q1299 qs53 q106 q1300) rfl rfl rfl hdS_X13_finding ⟨by decide, by decide⟩) (hw.preV (k := 0) rfl rfl) rfl rfl hl.1 rfl (lv_room (by simp [Value.category])) dX13_jumper_20 ⟨Nat.zero_le _, Nat.zero_le _⟩) hw (fun r_20 u_20 H locs e_20 hw => ?_)
      obtain ⟨rfl, rfl⟩ := e_20
      have hw : nS G (mE G ad _ _) s H locs := hw
      exact m_iret hx hb hr hlk rfl hw (by rw [jumperO, if_neg c_4, if_pos c_14]; first | exact ⟨rfl, rfl⟩) dX13_jumper_23
theorem hdS_X13_of : yX13_of.cls = "LineCallsModel" ∧ yX13_of.cls ≠ "java/lang/invoke/MethodHandle" ∧ yX13_of.cls ≠ "java/lang/invoke/VarHandle" ∧ (parseMethodDescriptor yX13_of.desc).map (fun d => d.parameters.length) = some 2 := by decide +kernel
set_option maxHeartbeats 4000000 in
theorem tM_of (l : Launch) (G : nG) (ad : Nat → Nat) (w : rw84) (M : mM) (k x : Int32) (B : Nat) (hI : Inv B w) (hB : B ≤ 100000) : Met l yX13_of (ws_ yX13_of cX13_of 3 (some .int)) { frames := 3, cells := 0, slots := 0, locals := 66 } (va_Pc [.ref (ad 0), .int k, .int x] (nC G (mE G ad w M))) (va_Qi (fun (r : Int32) (u : rw84 × mM) => r = (ofO w k x).1 ∧ u = ((ofO w k x).2.1, fnd (ofO w k x).2.2 M)) (fun u => nC G (mE G ad u.1 u.2)) (nA G)) 0 0 (nA G) := by
  refine n_head (by decide) (Nat.le_of_ble_eq_true rfl) ?_
  intro p e s m below meth c ls hx hb hr hlk hml hown hts hB0 hl
  have hown : s.vm.findClass "LineCallsModel" = some m.cls := hown
  have hw := nS.start hB0
  have hl : lv_has ls 3 [(0, .ref (ad 0)), (1, .int k), (2, .int x)] := hl
  obtain ⟨n, hn, en⟩ := hI.num
  refine lv_aload_n hx hb dX13_of_0 rfl (lv_at hl 0 rfl) ?_
  refine lv_iload_n hx hb dX13_of_1 rfl (lv_at hl 1 rfl) ?_
  refine n_callp (va_runV ⟨hx, hb, hml, hown, hts⟩ (tM_isJumper l G ad _ _ _) (cwV 1 hts (lw_V q1284 q1286 qs50 q106 q1287) rfl rfl rfl hdS_X13_isJumper ⟨by decide, by decide⟩) (hw.preV (k := 0) rfl rfl) rfl rfl hl.1 rfl (lv_room (by simp [Value.category])) dX13_of_2 ⟨Nat.zero_le _, Nat.zero_le _⟩) (fun r_2 e_2 => ?_)
  subst e_2
  refine lv_if_eq (tgt := 18) hx hb dX13_of_5 (by decide) (fun c_5 => ?_) (fun c_5 => ?_)
  · skip
    refine lv_aload_n hx hb dX13_of_18 rfl (lv_at hl 0 rfl) ?_
    refine lv_ldc (v := (-1000001)) hx hb hown (hts _ q1296) dX13_of_19 ?_
    refine n_calli (va_runV ⟨hx, hb, hml, hown, hts⟩ (tM_finding l G ad _ _ (-1000001) 0 (by decide) (by decide)) (cwV 1 hts (lw_V q1297 q1299 qs53 q106 q1300) rfl rfl rfl hdS_X13_finding ⟨by decide, by decide⟩) (hw.preV (k := 0) rfl rfl) rfl rfl hl.1 rfl (lv_room (by simp [Value.category])) dX13_of_21 ⟨Nat.zero_le _, Nat.zero_le _⟩) hw (fun r_21 u_21 H locs e_21 hw => ?_)
    obtain ⟨rfl, rfl⟩ := e_21
    have hw : nS G (mE G ad _ _) s H locs := hw
    exact m_iret hx hb hr hlk rfl hw (by rw [ofO, if_pos c_5]; first | (rw [ij, iq]; exact ⟨rfl, rfl⟩) | (rw [ij]; exact ⟨rfl, rfl⟩) | (rw [iq]; exact ⟨rfl, rfl⟩) | exact ⟨rfl, rfl⟩) dX13_of_24
  · skip
    obtain ⟨j, hjn, hj, rfl⟩ := in_num en hn c_5
    have ij : ix (nI j) = j := nI_clamp (by omega)
    refine lv_iload_n hx hb dX13_of_8 rfl (lv_at hl 2 rfl) ?_
    refine lv_iconst (v := 0) hx hb dX13_of_9 (by decide) ?_
    refine lv_bipush (v := 7) hx hb dX13_of_10 (by decide) ?_
    refine n_callp (va_runS ⟨hx, hb, hml, hown, hts⟩ (tM_within l _ _ _) (va_cwS 3 hts (lw_S q1281 q1282 q106 q1283) rfl rfl rfl (hdS_X13_within).2 ⟨by decide, by decide⟩) pu_pre rfl rfl hl.1 rfl (lv_room (by simp [Value.category])) dX13_of_12 ⟨Nat.zero_le _, Nat.zero_le _⟩) (fun r_12 e_12 => ?_)
    subst e_12
    refine lv_if_ne (tgt := 25) hx hb dX13_of_15 (by decide) (fun c_15 => ?_) (fun c_15 => ?_)
    · skip
      obtain ⟨q, hq, rfl⟩ := in_nat (N := 7) rfl (by decide) c_15
      have iq : ix (nI q) = q := nI_clamp (by omega)
      refine lv_iload_n hx hb dX13_of_25 rfl (lv_at hl 2 rfl) ?_
      refine lv_iconst (v := 5) hx hb dX13_of_26 (by decide) ?_
      refine lv_icmp_ge (tgt := 39) hx hb dX13_of_27 (by decide) (fun c_27 => ?_) (fun c_27 => ?_)
      · skip
        have n_27 : 5 ≤ q := (nI_leI (a := 5) (b := q) (by omega) (by omega)).mp c_27
        refine lv_iload_n hx hb dX13_of_39 rfl (lv_at hl 2 rfl) ?_
        refine lv_iconst (v := 5) hx hb dX13_of_40 (by decide) ?_
        refine lv_icmp_ne (tgt := 52) hx hb dX13_of_41 (by decide) (fun c_41 => ?_) (fun c_41 => ?_)
        · skip
          refine lv_iload_n hx hb dX13_of_52 rfl (lv_at hl 2 rfl) ?_
          refine lv_bipush (v := 6) hx hb dX13_of_53 (by decide) ?_
          refine lv_icmp_ne (tgt := 66) hx hb dX13_of_55 (by decide) (fun c_55 => ?_) (fun c_55 => ?_)
          · skip
            refine lv_aload_n hx hb dX13_of_66 rfl (lv_at hl 0 rfl) ?_
            refine lv_iload_n hx hb dX13_of_67 rfl (lv_at hl 1 rfl) ?_
            refine n_callp (va_runV ⟨hx, hb, hml, hown, hts⟩ (tM_placeOf l G ad _ _ _) (cwV 1 hts (lw_V q1292 q1294 qs52 q106 q1295) rfl rfl rfl hdS_X13_placeOf ⟨by decide, by decide⟩) (hw.preV (k := 0) rfl rfl) rfl rfl hl.1 rfl (lv_room (by simp [Value.category])) dX13_of_68 ⟨Nat.zero_le _, Nat.zero_le _⟩) (fun r_68 e_68 => ?_)
            subst e_68
            exact m_iret hx hb hr hlk rfl hw (by rw [ofO, if_neg c_5, if_neg c_15, if_pos c_27, if_neg c_41, if_neg c_55]; first | (rw [ij, iq]; exact ⟨rfl, rfl⟩) | (rw [ij]; exact ⟨rfl, rfl⟩) | (rw [iq]; exact ⟨rfl, rfl⟩) | exact ⟨rfl, rfl⟩) dX13_of_71
          · skip
            refine lv_aload_n hx hb dX13_of_58 rfl (lv_at hl 0 rfl) ?_
            refine lv_iload_n hx hb dX13_of_59 rfl (lv_at hl 1 rfl) ?_
            refine n_callp (va_runV ⟨hx, hb, hml, hown, hts⟩ (tM_tires l G ad _ _ (j) (by first | assumption | omega)) (cwV 1 hts (lw_V q1370 q1372 qs59 q106 q1373) rfl rfl rfl hdS_X13_tires ⟨by decide, by decide⟩) (hw.preV (k := 0) rfl rfl) rfl rfl hl.1 rfl (lv_room (by simp [Value.category])) dX13_of_60 ⟨Nat.zero_le _, Nat.zero_le _⟩) (fun r_60 e_60 => ?_)
            subst e_60
            refine lv_goto (tgt := 71) hx hb dX13_of_63 (by decide) ?_
            exact m_iret hx hb hr hlk rfl hw (by rw [ofO, if_neg c_5, if_neg c_15, if_pos c_27, if_neg c_41, if_pos c_55]; first | (rw [ij, iq]; exact ⟨rfl, rfl⟩) | (rw [ij]; exact ⟨rfl, rfl⟩) | (rw [iq]; exact ⟨rfl, rfl⟩) | exact ⟨rfl, rfl⟩) dX13_of_71
        · skip
          refine lv_aload_n hx hb dX13_of_44 rfl (lv_at hl 0 rfl) ?_
          refine lv_iload_n hx hb dX13_of_45 rfl (lv_at hl 1 rfl) ?_
          refine n_callp (va_runV ⟨hx, hb, hml, hown, hts⟩ (tM_high l G ad _ _ (j) (by first | assumption | omega)) (cwV 1 hts (lw_V q1365 q1367 qs58 q106 q1368) rfl rfl rfl hdS_X13_high ⟨by decide, by decide⟩) (hw.preV (k := 0) rfl rfl) rfl rfl hl.1 rfl (lv_room (by simp [Value.category])) dX13_of_46 ⟨Nat.zero_le _, Nat.zero_le _⟩) (fun r_46 e_46 => ?_)
          subst e_46
          refine lv_goto (tgt := 71) hx hb dX13_of_49 (by decide) ?_
          exact m_iret hx hb hr hlk rfl hw (by rw [ofO, if_neg c_5, if_neg c_15, if_pos c_27, if_pos c_41]; first | (rw [ij, iq]; exact ⟨rfl, rfl⟩) | (rw [ij]; exact ⟨rfl, rfl⟩) | (rw [iq]; exact ⟨rfl, rfl⟩) | exact ⟨rfl, rfl⟩) dX13_of_71
      · skip
        have n_27 : ¬ 5 ≤ q := fun h => c_27 ((nI_leI (a := 5) (b := q) (by omega) (by omega)).mpr h)
        refine lv_aload_n hx hb dX13_of_30 rfl (lv_at hl 0 rfl) ?_
        refine lv_iload_n hx hb dX13_of_31 rfl (lv_at hl 1 rfl) ?_
        refine lv_iload_n hx hb dX13_of_32 rfl (lv_at hl 2 rfl) ?_
        refine n_callp (va_runV ⟨hx, hb, hml, hown, hts⟩ (tM_jumperIs l G ad _ _ j q hj (by omega)) (cwV 2 hts (lw_V q1361 q1363 qs57 q106 q1364) rfl rfl rfl hdS_X13_jumperIs ⟨by decide, by decide⟩) (hw.preV (k := 0) rfl rfl) rfl rfl hl.1 rfl (lv_room (by simp [Value.category])) dX13_of_33 ⟨Nat.zero_le _, Nat.zero_le _⟩) (fun r_33 e_33 => ?_)
        subst e_33
        refine lv_goto (tgt := 71) hx hb dX13_of_36 (by decide) ?_
        exact m_iret hx hb hr hlk rfl hw (by rw [ofO, if_neg c_5, if_neg c_15, if_neg c_27]; first | (rw [ij, iq]; exact ⟨rfl, rfl⟩) | (rw [ij]; exact ⟨rfl, rfl⟩) | (rw [iq]; exact ⟨rfl, rfl⟩) | exact ⟨rfl, rfl⟩) dX13_of_71
    · skip
      refine lv_aload_n hx hb dX13_of_18 rfl (lv_at hl 0 rfl) ?_
      refine lv_ldc (v := (-1000001)) hx hb hown (hts _ q1296) dX13_of_19 ?_
      refine n_calli (va_runV ⟨hx, hb, hml, hown, hts⟩ (tM_finding l G ad _ _ (-1000001) 0 (by decide) (by decide)) (cwV 1 hts (lw_V q1297 q1299 qs53 q106 q1300) rfl rfl rfl hdS_X13_finding ⟨by decide, by decide⟩) (hw.preV (k := 0) rfl rfl) rfl rfl hl.1 rfl (lv_room (by simp [Value.category])) dX13_of_21 ⟨Nat.zero_le _, Nat.zero_le _⟩) hw (fun r_21 u_21 H locs e_21 hw => ?_)
      obtain ⟨rfl, rfl⟩ := e_21
      have hw : nS G (mE G ad _ _) s H locs := hw
      exact m_iret hx hb hr hlk rfl hw (by rw [ofO, if_neg c_5, if_pos c_15]; first | (rw [ij, iq]; exact ⟨rfl, rfl⟩) | (rw [ij]; exact ⟨rfl, rfl⟩) | (rw [iq]; exact ⟨rfl, rfl⟩) | exact ⟨rfl, rfl⟩) dX13_of_24
theorem hdS_X13_change : yX13_change.cls = "LineCallsModel" ∧ yX13_change.cls ≠ "java/lang/invoke/MethodHandle" ∧ yX13_change.cls ≠ "java/lang/invoke/VarHandle" ∧ (parseMethodDescriptor yX13_change.desc).map (fun d => d.parameters.length) = some 3 := by decide +kernel
set_option maxHeartbeats 4000000 in
theorem tM_change (l : Launch) (G : nG) (ad : Nat → Nat) (w : rw84) (M : mM) (k x y : Int32) (B : Nat) (hI : Inv B w) (hB : B ≤ 100000) : Met l yX13_change (ws_ yX13_change cX13_change 4 (some .int)) { frames := 3, cells := 0, slots := 0, locals := 63 } (va_Pc [.ref (ad 0), .int k, .int x, .int y] (nC G (mE G ad w M))) (va_Qi (fun (r : Int32) (u : rw84 × mM) => r = (changeO w k x y).1 ∧ u = ((changeO w k x y).2.1, fnd (changeO w k x y).2.2 M)) (fun u => nC G (mE G ad u.1 u.2)) (nA G)) 0 0 (nA G) := by
  refine n_head (by decide) (Nat.le_of_ble_eq_true rfl) ?_
  intro p e s m below meth c ls hx hb hr hlk hml hown hts hB0 hl
  have hown : s.vm.findClass "LineCallsModel" = some m.cls := hown
  have hw := nS.start hB0
  have hl : lv_has ls 4 [(0, .ref (ad 0)), (1, .int k), (2, .int x), (3, .int y)] := hl
  obtain ⟨n, hn, en⟩ := hI.num
  refine lv_aload_n hx hb dX13_change_0 rfl (lv_at hl 0 rfl) ?_
  refine lv_iload_n hx hb dX13_change_1 rfl (lv_at hl 1 rfl) ?_
  refine n_callp (va_runV ⟨hx, hb, hml, hown, hts⟩ (tM_isJumper l G ad _ _ _) (cwV 1 hts (lw_V q1284 q1286 qs50 q106 q1287) rfl rfl rfl hdS_X13_isJumper ⟨by decide, by decide⟩) (hw.preV (k := 0) rfl rfl) rfl rfl hl.1 rfl (lv_room (by simp [Value.category])) dX13_change_2 ⟨Nat.zero_le _, Nat.zero_le _⟩) (fun r_2 e_2 => ?_)
  subst e_2
  refine lv_if_eq (tgt := 29) hx hb dX13_change_5 (by decide) (fun c_5 => ?_) (fun c_5 => ?_)
  · skip
    refine lv_aload_n hx hb dX13_change_29 rfl (lv_at hl 0 rfl) ?_
    refine lv_ldc (v := (-1000001)) hx hb hown (hts _ q1296) dX13_change_30 ?_
    refine n_calli (va_runV ⟨hx, hb, hml, hown, hts⟩ (tM_finding l G ad _ _ (-1000001) 0 (by decide) (by decide)) (cwV 1 hts (lw_V q1297 q1299 qs53 q106 q1300) rfl rfl rfl hdS_X13_finding ⟨by decide, by decide⟩) (hw.preV (k := 0) rfl rfl) rfl rfl hl.1 rfl (lv_room (by simp [Value.category])) dX13_change_32 ⟨Nat.zero_le _, Nat.zero_le _⟩) hw (fun r_32 u_32 H locs e_32 hw => ?_)
    obtain ⟨rfl, rfl⟩ := e_32
    have hw : nS G (mE G ad _ _) s H locs := hw
    exact m_iret hx hb hr hlk rfl hw (by rw [changeO, if_pos c_5]; first | (rw [ij, iq]; exact ⟨rfl, rfl⟩) | (rw [ij]; exact ⟨rfl, rfl⟩) | (rw [iq]; exact ⟨rfl, rfl⟩) | exact ⟨rfl, rfl⟩) dX13_change_35
  · skip
    obtain ⟨j, hjn, hj, rfl⟩ := in_num en hn c_5
    have ij : ix (nI j) = j := nI_clamp (by omega)
    refine lv_iload_n hx hb dX13_change_8 rfl (lv_at hl 2 rfl) ?_
    refine lv_iload_n hx hb dX13_change_9 rfl (lv_at hl 3 rfl) ?_
    refine n_callp (va_runS ⟨hx, hb, hml, hown, hts⟩ (tM_isField l _ _) (va_cwS 2 hts (lw_S q1378 q1379 q106 q1380) rfl rfl rfl (hdS_X13_isField).2 ⟨by decide, by decide⟩) pu_pre rfl rfl hl.1 rfl (lv_room (by simp [Value.category])) dX13_change_10 ⟨Nat.zero_le _, Nat.zero_le _⟩) (fun r_10 e_10 => ?_)
    subst e_10
    refine lv_if_eq (tgt := 29) hx hb dX13_change_13 (by decide) (fun c_13 => ?_) (fun c_13 => ?_)
    · skip
      refine lv_aload_n hx hb dX13_change_29 rfl (lv_at hl 0 rfl) ?_
      refine lv_ldc (v := (-1000001)) hx hb hown (hts _ q1296) dX13_change_30 ?_
      refine n_calli (va_runV ⟨hx, hb, hml, hown, hts⟩ (tM_finding l G ad _ _ (-1000001) 0 (by decide) (by decide)) (cwV 1 hts (lw_V q1297 q1299 qs53 q106 q1300) rfl rfl rfl hdS_X13_finding ⟨by decide, by decide⟩) (hw.preV (k := 0) rfl rfl) rfl rfl hl.1 rfl (lv_room (by simp [Value.category])) dX13_change_32 ⟨Nat.zero_le _, Nat.zero_le _⟩) hw (fun r_32 u_32 H locs e_32 hw => ?_)
      obtain ⟨rfl, rfl⟩ := e_32
      have hw : nS G (mE G ad _ _) s H locs := hw
      exact m_iret hx hb hr hlk rfl hw (by rw [changeO, if_neg c_5, if_pos c_13]; first | (rw [ij, iq]; exact ⟨rfl, rfl⟩) | (rw [ij]; exact ⟨rfl, rfl⟩) | (rw [iq]; exact ⟨rfl, rfl⟩) | exact ⟨rfl, rfl⟩) dX13_change_35
    · skip
      obtain ⟨q, hq, rfl⟩ := fld_nat c_13
      have iq : ix (nI q) = q := nI_clamp (by omega)
      refine lv_aload_n hx hb dX13_change_16 rfl (lv_at hl 0 rfl) ?_
      refine lv_iload_n hx hb dX13_change_17 rfl (lv_at hl 1 rfl) ?_
      refine lv_iload_n hx hb dX13_change_18 rfl (lv_at hl 2 rfl) ?_
      refine n_callp (va_runS ⟨hx, hb, hml, hown, hts⟩ (tM_jumperAt l (j) (q)) (va_cwS 2 hts (lw_S q1354 q1355 q106 q1356) rfl rfl rfl (hdS_X13_jumperAt).2 ⟨by decide, by decide⟩) pu_pre rfl rfl hl.1 rfl (lv_room (by simp [Value.category])) dX13_change_19 ⟨Nat.zero_le _, Nat.zero_le _⟩) (fun r_19 e_19 => ?_)
      subst e_19
      refine lv_iload_n hx hb dX13_change_22 rfl (lv_at hl 3 rfl) ?_
      refine n_calli (va_runV ⟨hx, hb, hml, hown, hts⟩ (tM_become l G ad _ _ (44 + 5 * j + q) _ (by omega)) (cwV 2 hts (lw_V q1313 q1315 qs55 q106 q1316) rfl rfl rfl hdS_X13_become ⟨by decide, by decide⟩) (hw.preV (k := 0) rfl rfl) rfl rfl hl.1 rfl (lv_room (by simp [Value.category])) dX13_change_23 ⟨Nat.zero_le _, Nat.zero_le _⟩) hw (fun r_23 u_23 H locs e_23 hw => ?_)
      obtain ⟨rfl, rfl⟩ := e_23
      have hw : nS G (mE G ad _ _) s H locs := hw
      refine lv_goto (tgt := 35) hx hb dX13_change_26 (by decide) ?_
      exact m_iret hx hb hr hlk rfl hw (by rw [changeO, if_neg c_5, if_neg c_13]; first | (rw [ij, iq]; exact ⟨rfl, rfl⟩) | (rw [ij]; exact ⟨rfl, rfl⟩) | (rw [iq]; exact ⟨rfl, rfl⟩) | exact ⟨rfl, rfl⟩) dX13_change_35
theorem hdS_X13_gains : yX13_gains.cls = "LineCallsModel" ∧ yX13_gains.cls ≠ "java/lang/invoke/MethodHandle" ∧ yX13_gains.cls ≠ "java/lang/invoke/VarHandle" ∧ (parseMethodDescriptor yX13_gains.desc).map (fun d => d.parameters.length) = some 2 := by decide +kernel
set_option maxHeartbeats 4000000 in
theorem tM_gains (l : Launch) (G : nG) (ad : Nat → Nat) (w : rw84) (M : mM) (k v : Int32) (B : Nat) (hI : Inv B w) (hB : B ≤ 100000) : Met l yX13_gains (ws_ yX13_gains cX13_gains 3 (some .int)) { frames := 3, cells := 0, slots := 0, locals := 65 } (va_Pc [.ref (ad 0), .int k, .int v] (nC G (mE G ad w M))) (va_Qi (fun (r : Int32) (u : rw84 × mM) => r = (gainsO w k v).1 ∧ u = ((gainsO w k v).2.1, fnd (gainsO w k v).2.2 M)) (fun u => nC G (mE G ad u.1 u.2)) (nA G)) 0 0 (nA G) := by
  refine n_head (by decide) (Nat.le_of_ble_eq_true rfl) ?_
  intro p e s m below meth c ls hx hb hr hlk hml hown hts hB0 hl
  have hown : s.vm.findClass "LineCallsModel" = some m.cls := hown
  have hw := nS.start hB0
  have hl : lv_has ls 3 [(0, .ref (ad 0)), (1, .int k), (2, .int v)] := hl
  obtain ⟨n, hn, en⟩ := hI.num
  refine lv_aload_n hx hb dX13_gains_0 rfl (lv_at hl 0 rfl) ?_
  refine lv_iload_n hx hb dX13_gains_1 rfl (lv_at hl 1 rfl) ?_
  refine n_callp (va_runV ⟨hx, hb, hml, hown, hts⟩ (tM_isJumper l G ad _ _ _) (cwV 1 hts (lw_V q1284 q1286 qs50 q106 q1287) rfl rfl rfl hdS_X13_isJumper ⟨by decide, by decide⟩) (hw.preV (k := 0) rfl rfl) rfl rfl hl.1 rfl (lv_room (by simp [Value.category])) dX13_gains_2 ⟨Nat.zero_le _, Nat.zero_le _⟩) (fun r_2 e_2 => ?_)
  subst e_2
  refine lv_if_eq (tgt := 24) hx hb dX13_gains_5 (by decide) (fun c_5 => ?_) (fun c_5 => ?_)
  · skip
    refine lv_aload_n hx hb dX13_gains_24 rfl (lv_at hl 0 rfl) ?_
    refine lv_ldc (v := (-1000001)) hx hb hown (hts _ q1296) dX13_gains_25 ?_
    refine n_calli (va_runV ⟨hx, hb, hml, hown, hts⟩ (tM_finding l G ad _ _ (-1000001) 0 (by decide) (by decide)) (cwV 1 hts (lw_V q1297 q1299 qs53 q106 q1300) rfl rfl rfl hdS_X13_finding ⟨by decide, by decide⟩) (hw.preV (k := 0) rfl rfl) rfl rfl hl.1 rfl (lv_room (by simp [Value.category])) dX13_gains_27 ⟨Nat.zero_le _, Nat.zero_le _⟩) hw (fun r_27 u_27 H locs e_27 hw => ?_)
    obtain ⟨rfl, rfl⟩ := e_27
    have hw : nS G (mE G ad _ _) s H locs := hw
    exact m_iret hx hb hr hlk rfl hw (by rw [gainsO, if_pos c_5]; first | (rw [ij]; exact ⟨rfl, rfl⟩) | exact ⟨rfl, rfl⟩) dX13_gains_30
  · skip
    obtain ⟨j, hjn, hj, rfl⟩ := in_num en hn c_5
    have ij : ix (nI j) = j := nI_clamp (by omega)
    refine lv_iload_n hx hb dX13_gains_8 rfl (lv_at hl 2 rfl) ?_
    refine n_callp (va_runS ⟨hx, hb, hml, hown, hts⟩ (tM_isPlace l _) (va_cwS 1 hts (lw_S q1278 q1279 q106 q1280) rfl rfl rfl (hdS_X13_isPlace).2 ⟨by decide, by decide⟩) pu_pre rfl rfl hl.1 rfl (lv_room (by simp [Value.category])) dX13_gains_9 ⟨Nat.zero_le _, Nat.zero_le _⟩) (fun r_9 e_9 => ?_)
    subst e_9
    refine lv_if_eq (tgt := 24) hx hb dX13_gains_12 (by decide) (fun c_12 => ?_) (fun c_12 => ?_)
    · skip
      refine lv_aload_n hx hb dX13_gains_24 rfl (lv_at hl 0 rfl) ?_
      refine lv_ldc (v := (-1000001)) hx hb hown (hts _ q1296) dX13_gains_25 ?_
      refine n_calli (va_runV ⟨hx, hb, hml, hown, hts⟩ (tM_finding l G ad _ _ (-1000001) 0 (by decide) (by decide)) (cwV 1 hts (lw_V q1297 q1299 qs53 q106 q1300) rfl rfl rfl hdS_X13_finding ⟨by decide, by decide⟩) (hw.preV (k := 0) rfl rfl) rfl rfl hl.1 rfl (lv_room (by simp [Value.category])) dX13_gains_27 ⟨Nat.zero_le _, Nat.zero_le _⟩) hw (fun r_27 u_27 H locs e_27 hw => ?_)
      obtain ⟨rfl, rfl⟩ := e_27
      have hw : nS G (mE G ad _ _) s H locs := hw
      exact m_iret hx hb hr hlk rfl hw (by rw [gainsO, if_neg c_5, if_pos c_12]; first | (rw [ij]; exact ⟨rfl, rfl⟩) | exact ⟨rfl, rfl⟩) dX13_gains_30
    · skip
      refine lv_aload_n hx hb dX13_gains_15 rfl (lv_at hl 0 rfl) ?_
      refine lv_iload_n hx hb dX13_gains_16 rfl (lv_at hl 1 rfl) ?_
      refine lv_iload_n hx hb dX13_gains_17 rfl (lv_at hl 2 rfl) ?_
      refine n_callp (va_runV ⟨hx, hb, hml, hown, hts⟩ (tM_gainsIn l G ad _ _ (j) _ (by first | assumption | omega)) (cwV 2 hts (lw_V q1385 q1387 qs60 q106 q1388) rfl rfl rfl hdS_X13_gainsIn ⟨by decide, by decide⟩) (hw.preV (k := 0) rfl rfl) rfl rfl hl.1 rfl (lv_room (by simp [Value.category])) dX13_gains_18 ⟨Nat.zero_le _, Nat.zero_le _⟩) (fun r_18 e_18 => ?_)
      subst e_18
      refine lv_goto (tgt := 30) hx hb dX13_gains_21 (by decide) ?_
      exact m_iret hx hb hr hlk rfl hw (by rw [gainsO, if_neg c_5, if_neg c_12]; first | (rw [ij]; exact ⟨rfl, rfl⟩) | exact ⟨rfl, rfl⟩) dX13_gains_30
theorem hdS_X13_go : yX13_go.cls = "LineCallsModel" ∧ yX13_go.cls ≠ "java/lang/invoke/MethodHandle" ∧ yX13_go.cls ≠ "java/lang/invoke/VarHandle" ∧ (parseMethodDescriptor yX13_go.desc).map (fun d => d.parameters.length) = some 1 := by decide +kernel
set_option maxHeartbeats 4000000 in
theorem tM_go (l : Launch) (G : nG) (ad : Nat → Nat) (w : rw84) (M : mM) (x : Int32) (B : Nat) (hI : Inv B w) (hB : B ≤ 100000) : Met l yX13_go (ws_ yX13_go cX13_go 2 (some .int)) { frames := 7, cells := 0, slots := 0, locals := 158 } (va_Pc [.ref (ad 0), .int x] (nC G (mE G ad w M))) (va_Qi (fun (r : Int32) (u : rw84 × mM) => r = (goO w x).1 ∧ u = ((goO w x).2.1, fnd (goO w x).2.2 M)) (fun u => nC G (mE G ad u.1 u.2)) (nA G)) 0 0 (nA G) := by
  refine n_head (by decide) (Nat.le_of_ble_eq_true rfl) ?_
  intro p e s m below meth c ls hx hb hr hlk hml hown hts hB0 hl
  have hown : s.vm.findClass "LineCallsModel" = some m.cls := hown
  have hw := nS.start hB0
  have hl : lv_has ls 2 [(0, .ref (ad 0)), (1, .int x)] := hl
  obtain ⟨n, hn, en⟩ := hI.num
  refine lv_iload_n hx hb dX13_go_0 rfl (lv_at hl 1 rfl) ?_
  refine lv_iconst (v := 1) hx hb dX13_go_1 (by decide) ?_
  refine lv_bipush (v := 60) hx hb dX13_go_2 (by decide) ?_
  refine n_callp (va_runS ⟨hx, hb, hml, hown, hts⟩ (tM_within l _ _ _) (va_cwS 3 hts (lw_S q1281 q1282 q106 q1283) rfl rfl rfl (hdS_X13_within).2 ⟨by decide, by decide⟩) pu_pre rfl rfl hl.1 rfl (lv_room (by simp [Value.category])) dX13_go_4 ⟨Nat.zero_le _, Nat.zero_le _⟩) (fun r_4 e_4 => ?_)
  subst e_4
  refine lv_if_ne (tgt := 17) hx hb dX13_go_7 (by decide) (fun c_7 => ?_) (fun c_7 => ?_)
  · skip
    obtain ⟨q, h1q, hq, rfl⟩ := in_nat1 (N := 60) rfl (by decide) c_7
    have iq : ix (nI q) = q := nI_clamp (by omega)
    refine lv_aload_n hx hb dX13_go_17 rfl (lv_at hl 0 rfl) ?_
    refine n_get (k := 0) hx hb hts in_X13 hown hw rfl rfl 0 (by decide) q1198 rfl dX13_go_18 ?_
    refine lv_iconst (v := 0) hx hb dX13_go_21 (by decide) ?_
    refine n_iald (k := 1) (j := 0) hx hb hw rfl rfl (by decide) (by decide) dX13_go_22 ?_
    refine lv_iload_n hx hb dX13_go_23 rfl (lv_at hl 1 rfl) ?_
    refine lv_iadd hx hb dX13_go_24 ?_
    refine lv_ldc (v := 99999) hx hb hown (hts _ q1393) dX13_go_25 ?_
    refine lv_icmp_le (tgt := 37) hx hb dX13_go_27 (by decide) (fun c_27 => ?_) (fun c_27 => ?_)
    · skip
      refine lv_aload_n hx hb dX13_go_37 rfl (lv_at hl 0 rfl) ?_
      refine lv_iload_n hx hb dX13_go_38 rfl (lv_at hl 1 rfl) ?_
      refine n_callv (va_runV ⟨hx, hb, hml, hown, hts⟩ (tM_throwsGo l G ad _ _ q B hI (by omega)) (cwV 1 hts (lw_V q1395 q1397 qs61 q106 q1398) rfl rfl rfl hdS_X13_throwsGo ⟨by decide, by decide⟩) (hw.preV (k := 0) rfl rfl) rfl rfl hl.1 rfl (lv_room (by simp [Value.category])) dX13_go_39 ⟨Nat.zero_le _, Nat.zero_le _⟩) hw (fun u_39 H locs e_39 hw => ?_)
      subst e_39
      have hw : nS G (mE G ad _ _) s H locs := hw
      refine lv_aload_n hx hb dX13_go_42 rfl (lv_at hl 0 rfl) ?_
      refine n_get (k := 0) hx hb hts in_X13 hown hw rfl rfl 0 (by decide) q1198 rfl dX13_go_43 ?_
      refine lv_iconst (v := 3) hx hb dX13_go_46 (by decide) ?_
      refine n_iald (k := 1) (j := 3) hx hb hw rfl rfl (by decide) (by decide) dX13_go_47 ?_
      exact m_iret hx hb hr hlk rfl hw (by rw [goO, if_neg c_7, if_pos c_27]; first | (rw [iq]; exact ⟨rfl, rfl⟩) | exact ⟨rfl, rfl⟩) dX13_go_48
    · skip
      refine lv_aload_n hx hb dX13_go_30 rfl (lv_at hl 0 rfl) ?_
      refine lv_ldc (v := (-1000005)) hx hb hown (hts _ q1394) dX13_go_31 ?_
      refine n_calli (va_runV ⟨hx, hb, hml, hown, hts⟩ (tM_finding l G ad _ _ (-1000005) 4 (by decide) (by decide)) (cwV 1 hts (lw_V q1297 q1299 qs53 q106 q1300) rfl rfl rfl hdS_X13_finding ⟨by decide, by decide⟩) (hw.preV (k := 0) rfl rfl) rfl rfl hl.1 rfl (lv_room (by simp [Value.category])) dX13_go_33 ⟨Nat.zero_le _, Nat.zero_le _⟩) hw (fun r_33 u_33 H locs e_33 hw => ?_)
      obtain ⟨rfl, rfl⟩ := e_33
      have hw : nS G (mE G ad _ _) s H locs := hw
      exact m_iret hx hb hr hlk rfl hw (by rw [goO, if_neg c_7, if_neg c_27]; first | (rw [iq]; exact ⟨rfl, rfl⟩) | exact ⟨rfl, rfl⟩) dX13_go_36
  · skip
    refine lv_aload_n hx hb dX13_go_10 rfl (lv_at hl 0 rfl) ?_
    refine lv_ldc (v := (-1000001)) hx hb hown (hts _ q1296) dX13_go_11 ?_
    refine n_calli (va_runV ⟨hx, hb, hml, hown, hts⟩ (tM_finding l G ad _ _ (-1000001) 0 (by decide) (by decide)) (cwV 1 hts (lw_V q1297 q1299 qs53 q106 q1300) rfl rfl rfl hdS_X13_finding ⟨by decide, by decide⟩) (hw.preV (k := 0) rfl rfl) rfl rfl hl.1 rfl (lv_room (by simp [Value.category])) dX13_go_13 ⟨Nat.zero_le _, Nat.zero_le _⟩) hw (fun r_13 u_13 H locs e_13 hw => ?_)
    obtain ⟨rfl, rfl⟩ := e_13
    have hw : nS G (mE G ad _ _) s H locs := hw
    exact m_iret hx hb hr hlk rfl hw (by rw [goO, if_pos c_7]; first | (rw [iq]; exact ⟨rfl, rfl⟩) | exact ⟨rfl, rfl⟩) dX13_go_16
theorem hdS_X13_now : yX13_now.cls = "LineCallsModel" ∧ yX13_now.cls ≠ "java/lang/invoke/MethodHandle" ∧ yX13_now.cls ≠ "java/lang/invoke/VarHandle" ∧ (parseMethodDescriptor yX13_now.desc).map (fun d => d.parameters.length) = some 1 := by decide +kernel
set_option maxHeartbeats 4000000 in
theorem tM_now (l : Launch) (G : nG) (ad : Nat → Nat) (w : rw84) (M : mM) (x : Int32) (B : Nat) (hI : Inv B w) (hB : B ≤ 100000) : Met l yX13_now (ws_ yX13_now cX13_now 2 (some .int)) { frames := 5, cells := 0, slots := 0, locals := 109 } (va_Pc [.ref (ad 0), .int x] (nC G (mE G ad w M))) (va_Qi (fun (r : Int32) (u : rw84 × mM) => r = (nowO w x).1 ∧ u = ((nowO w x).2.1, fnd (nowO w x).2.2 M)) (fun u => nC G (mE G ad u.1 u.2)) (nA G)) 0 0 (nA G) := by
  refine n_head (by decide) (Nat.le_of_ble_eq_true rfl) ?_
  intro p e s m below meth c ls hx hb hr hlk hml hown hts hB0 hl
  have hown : s.vm.findClass "LineCallsModel" = some m.cls := hown
  have hw := nS.start hB0
  have hl : lv_has ls 2 [(0, .ref (ad 0)), (1, .int x)] := hl
  obtain ⟨n, hn, en⟩ := hI.num
  have iw : ix (w 1) = n := by rw [en]; exact nI_clamp (by omega)
  refine lv_iload_n hx hb dX13_now_0 rfl (lv_at hl 1 rfl) ?_
  by_cases s_1_0 : x = 0
  · skip
    refine lv_tableIn (tgt := 44) hx hb dX13_now_1 (by rw [s_1_0]; decide) (by rw [s_1_0]; decide) (off := 43) (by rw [s_1_0]; rfl) (by decide) ?_
    refine lv_aload_n hx hb dX13_now_44 rfl (lv_at hl 0 rfl) ?_
    refine n_get (k := 0) hx hb hts in_X13 hown hw rfl rfl 0 (by decide) q1198 rfl dX13_now_45 ?_
    refine lv_iconst (v := 0) hx hb dX13_now_48 (by decide) ?_
    refine n_iald (k := 1) (j := 0) hx hb hw rfl rfl (by decide) (by decide) dX13_now_49 ?_
    exact m_iret hx hb hr hlk rfl hw (by rw [nowO, if_pos s_1_0]; first | exact ⟨rfl, rfl⟩ | (rw [iw]; exact ⟨rfl, rfl⟩)) dX13_now_50
  by_cases s_1_1 : x = 1
  · skip
    refine lv_tableIn (tgt := 51) hx hb dX13_now_1 (by rw [s_1_1]; decide) (by rw [s_1_1]; decide) (off := 50) (by rw [s_1_1]; rfl) (by decide) ?_
    refine lv_aload_n hx hb dX13_now_51 rfl (lv_at hl 0 rfl) ?_
    refine n_get (k := 0) hx hb hts in_X13 hown hw rfl rfl 0 (by decide) q1198 rfl dX13_now_52 ?_
    refine lv_iconst (v := 3) hx hb dX13_now_55 (by decide) ?_
    refine n_iald (k := 1) (j := 3) hx hb hw rfl rfl (by decide) (by decide) dX13_now_56 ?_
    exact m_iret hx hb hr hlk rfl hw (by rw [nowO, if_neg s_1_0, if_pos s_1_1]; first | exact ⟨rfl, rfl⟩ | (rw [iw]; exact ⟨rfl, rfl⟩)) dX13_now_57
  by_cases s_1_2 : x = 2
  · skip
    refine lv_tableIn (tgt := 58) hx hb dX13_now_1 (by rw [s_1_2]; decide) (by rw [s_1_2]; decide) (off := 57) (by rw [s_1_2]; rfl) (by decide) ?_
    refine lv_aload_n hx hb dX13_now_58 rfl (lv_at hl 0 rfl) ?_
    refine lv_iconst (v := 3) hx hb dX13_now_59 (by decide) ?_
    refine n_callp (va_runV ⟨hx, hb, hml, hown, hts⟩ (tM_sumOf l G ad _ _ 3 n (by decide) hn en) (cwV 1 hts (lw_V q1420 q1422 qs66 q106 q1423) rfl rfl rfl hdS_X13_sumOf ⟨by decide, by decide⟩) (hw.preV (k := 0) rfl rfl) rfl rfl hl.1 rfl (lv_room (by simp [Value.category])) dX13_now_60 ⟨Nat.zero_le _, Nat.zero_le _⟩) (fun r_60 e_60 => ?_)
    subst e_60
    exact m_iret hx hb hr hlk rfl hw (by rw [nowO, if_neg s_1_0, if_neg s_1_1, if_pos s_1_2]; first | exact ⟨rfl, rfl⟩ | (rw [iw]; exact ⟨rfl, rfl⟩)) dX13_now_63
  by_cases s_1_3 : x = 3
  · skip
    refine lv_tableIn (tgt := 64) hx hb dX13_now_1 (by rw [s_1_3]; decide) (by rw [s_1_3]; decide) (off := 63) (by rw [s_1_3]; rfl) (by decide) ?_
    refine lv_aload_n hx hb dX13_now_64 rfl (lv_at hl 0 rfl) ?_
    refine lv_iconst (v := 4) hx hb dX13_now_65 (by decide) ?_
    refine n_callp (va_runV ⟨hx, hb, hml, hown, hts⟩ (tM_sumOf l G ad _ _ 4 n (by decide) hn en) (cwV 1 hts (lw_V q1420 q1422 qs66 q106 q1423) rfl rfl rfl hdS_X13_sumOf ⟨by decide, by decide⟩) (hw.preV (k := 0) rfl rfl) rfl rfl hl.1 rfl (lv_room (by simp [Value.category])) dX13_now_66 ⟨Nat.zero_le _, Nat.zero_le _⟩) (fun r_66 e_66 => ?_)
    subst e_66
    exact m_iret hx hb hr hlk rfl hw (by rw [nowO, if_neg s_1_0, if_neg s_1_1, if_neg s_1_2, if_pos s_1_3]; first | exact ⟨rfl, rfl⟩ | (rw [iw]; exact ⟨rfl, rfl⟩)) dX13_now_69
  by_cases s_1_4 : x = 4
  · skip
    refine lv_tableIn (tgt := 70) hx hb dX13_now_1 (by rw [s_1_4]; decide) (by rw [s_1_4]; decide) (off := 69) (by rw [s_1_4]; rfl) (by decide) ?_
    refine lv_aload_n hx hb dX13_now_70 rfl (lv_at hl 0 rfl) ?_
    refine n_callp (va_runV ⟨hx, hb, hml, hown, hts⟩ (tM_placeNext l G ad _ _ B hI (by omega)) (cwV 0 hts (lw_V q1403 q1405 qs63 q106 q1406) rfl rfl rfl hdS_X13_placeNext ⟨by decide, by decide⟩) (hw.preV (k := 0) rfl rfl) rfl rfl hl.1 rfl (lv_room (by simp [Value.category])) dX13_now_71 ⟨Nat.zero_le _, Nat.zero_le _⟩) (fun r_71 e_71 => ?_)
    subst e_71
    exact m_iret hx hb hr hlk rfl hw (by rw [nowO, if_neg s_1_0, if_neg s_1_1, if_neg s_1_2, if_neg s_1_3, if_pos s_1_4]; first | exact ⟨rfl, rfl⟩ | (rw [iw]; exact ⟨rfl, rfl⟩)) dX13_now_74
  by_cases s_1_5 : x = 5
  · skip
    refine lv_tableIn (tgt := 75) hx hb dX13_now_1 (by rw [s_1_5]; decide) (by rw [s_1_5]; decide) (off := 74) (by rw [s_1_5]; rfl) (by decide) ?_
    refine lv_aload_n hx hb dX13_now_75 rfl (lv_at hl 0 rfl) ?_
    refine n_callp (va_runV ⟨hx, hb, hml, hown, hts⟩ (tM_placesWon l G ad _ _ B hI) (cwV 0 hts (lw_V q1424 q1426 qs67 q106 q1427) rfl rfl rfl hdS_X13_placesWon ⟨by decide, by decide⟩) (hw.preV (k := 0) rfl rfl) rfl rfl hl.1 rfl (lv_room (by simp [Value.category])) dX13_now_76 ⟨Nat.zero_le _, Nat.zero_le _⟩) (fun r_76 e_76 => ?_)
    subst e_76
    exact m_iret hx hb hr hlk rfl hw (by rw [nowO, if_neg s_1_0, if_neg s_1_1, if_neg s_1_2, if_neg s_1_3, if_neg s_1_4, if_pos s_1_5]; first | exact ⟨rfl, rfl⟩ | (rw [iw]; exact ⟨rfl, rfl⟩)) dX13_now_79
  by_cases s_1_6 : x = 6
  · skip
    refine lv_tableIn (tgt := 80) hx hb dX13_now_1 (by rw [s_1_6]; decide) (by rw [s_1_6]; decide) (off := 79) (by rw [s_1_6]; rfl) (by decide) ?_
    refine lv_aload_n hx hb dX13_now_80 rfl (lv_at hl 0 rfl) ?_
    refine lv_bipush (v := 63) hx hb dX13_now_81 (by decide) ?_
    refine n_callp (va_runV ⟨hx, hb, hml, hown, hts⟩ (tM_placesSaid l G ad _ _ _) (cwV 1 hts (lw_V q1428 q1430 qs68 q106 q1431) rfl rfl rfl hdS_X13_placesSaid ⟨by decide, by decide⟩) (hw.preV (k := 0) rfl rfl) rfl rfl hl.1 rfl (lv_room (by simp [Value.category])) dX13_now_83 ⟨Nat.zero_le _, Nat.zero_le _⟩) (fun r_83 e_83 => ?_)
    subst e_83
    exact m_iret hx hb hr hlk rfl hw (by rw [nowO, if_neg s_1_0, if_neg s_1_1, if_neg s_1_2, if_neg s_1_3, if_neg s_1_4, if_neg s_1_5, if_pos s_1_6]; first | exact ⟨rfl, rfl⟩ | (rw [iw]; exact ⟨rfl, rfl⟩)) dX13_now_86
  refine lv_tableOut (tgt := 87) hx hb dX13_now_1 (by have a_0 := ne_ti (k := 0) s_1_0 (by decide); have a_1 := ne_ti (k := 1) s_1_1 (by decide); have a_2 := ne_ti (k := 2) s_1_2 (by decide); have a_3 := ne_ti (k := 3) s_1_3 (by decide); have a_4 := ne_ti (k := 4) s_1_4 (by decide); have a_5 := ne_ti (k := 5) s_1_5 (by decide); have a_6 := ne_ti (k := 6) s_1_6 (by decide); omega) (by decide) ?_
  refine lv_aload_n hx hb dX13_now_87 rfl (lv_at hl 0 rfl) ?_
  refine lv_ldc (v := (-1000001)) hx hb hown (hts _ q1296) dX13_now_88 ?_
  refine n_calli (va_runV ⟨hx, hb, hml, hown, hts⟩ (tM_finding l G ad _ _ (-1000001) 0 (by decide) (by decide)) (cwV 1 hts (lw_V q1297 q1299 qs53 q106 q1300) rfl rfl rfl hdS_X13_finding ⟨by decide, by decide⟩) (hw.preV (k := 0) rfl rfl) rfl rfl hl.1 rfl (lv_room (by simp [Value.category])) dX13_now_90 ⟨Nat.zero_le _, Nat.zero_le _⟩) hw (fun r_90 u_90 H locs e_90 hw => ?_)
  obtain ⟨rfl, rfl⟩ := e_90
  have hw : nS G (mE G ad _ _) s H locs := hw
  exact m_iret hx hb hr hlk rfl hw (by rw [nowO, if_neg s_1_0, if_neg s_1_1, if_neg s_1_2, if_neg s_1_3, if_neg s_1_4, if_neg s_1_5, if_neg s_1_6]; first | exact ⟨rfl, rfl⟩ | (rw [iw]; exact ⟨rfl, rfl⟩)) dX13_now_93
theorem hdS_X13_ahead : yX13_ahead.cls = "LineCallsModel" ∧ yX13_ahead.cls ≠ "java/lang/invoke/MethodHandle" ∧ yX13_ahead.cls ≠ "java/lang/invoke/VarHandle" ∧ (parseMethodDescriptor yX13_ahead.desc).map (fun d => d.parameters.length) = some 3 := by decide +kernel
set_option maxHeartbeats 4000000 in
theorem tM_ahead (l : Launch) (G : nG) (ad : Nat → Nat) (w : rw84) (M : mM) (k x y : Int32) (B : Nat) (hI : Inv B w) (hB : B ≤ 100000) : Met l yX13_ahead (ws_ yX13_ahead cX13_ahead 4 (some .int)) { frames := 7, cells := 0, slots := 0, locals := 158 } (va_Pc [.ref (ad 0), .int k, .int x, .int y] (nC G (mE G ad w M))) (va_Qi (fun (r : Int32) (u : rw84 × mM) => r = (aheadO w k x y).1 ∧ ∃ g, u = ((aheadO w k x y).2.1, ur (fnd (aheadO w k x y).2.2 M) 2 g)) (fun u => nC G (mE G ad u.1 u.2)) (nA G)) 0 0 (nA G) := by
  refine n_head (by decide) (Nat.le_of_ble_eq_true rfl) ?_
  intro p e s m below meth c ls hx hb hr hlk hml hown hts hB0 hl
  have hown : s.vm.findClass "LineCallsModel" = some m.cls := hown
  have hw := nS.start hB0
  have hl : lv_has ls 4 [(0, .ref (ad 0)), (1, .int k), (2, .int x), (3, .int y)] := hl
  obtain ⟨n, hn, en⟩ := hI.num
  refine lv_aload_n hx hb dX13_ahead_0 rfl (lv_at hl 0 rfl) ?_
  refine lv_iload_n hx hb dX13_ahead_1 rfl (lv_at hl 1 rfl) ?_
  refine n_callp (va_runV ⟨hx, hb, hml, hown, hts⟩ (tM_isJumper l G ad _ _ _) (cwV 1 hts (lw_V q1284 q1286 qs50 q106 q1287) rfl rfl rfl hdS_X13_isJumper ⟨by decide, by decide⟩) (hw.preV (k := 0) rfl rfl) rfl rfl hl.1 rfl (lv_room (by simp [Value.category])) dX13_ahead_2 ⟨Nat.zero_le _, Nat.zero_le _⟩) (fun r_2 e_2 => ?_)
  subst e_2
  refine lv_if_eq (tgt := 27) hx hb dX13_ahead_5 (by decide) (fun c_5 => ?_) (fun c_5 => ?_)
  · skip
    refine lv_aload_n hx hb dX13_ahead_27 rfl (lv_at hl 0 rfl) ?_
    refine lv_ldc (v := (-1000001)) hx hb hown (hts _ q1296) dX13_ahead_28 ?_
    refine n_calli (va_runV ⟨hx, hb, hml, hown, hts⟩ (tM_finding l G ad _ _ (-1000001) 0 (by decide) (by decide)) (cwV 1 hts (lw_V q1297 q1299 qs53 q106 q1300) rfl rfl rfl hdS_X13_finding ⟨by decide, by decide⟩) (hw.preV (k := 0) rfl rfl) rfl rfl hl.1 rfl (lv_room (by simp [Value.category])) dX13_ahead_30 ⟨Nat.zero_le _, Nat.zero_le _⟩) hw (fun r_30 u_30 H locs e_30 hw => ?_)
    obtain ⟨rfl, rfl⟩ := e_30
    have hw : nS G (mE G ad _ _) s H locs := hw
    exact m_iret hx hb hr hlk rfl hw (by rw [aheadO, if_pos c_5]; first | (rw [ij, iq, iz]; (first | exact ⟨rfl, _, rfl⟩ | exact ⟨rfl, _, sc_self _ _⟩)) | (rw [ij, iq]; (first | exact ⟨rfl, _, rfl⟩ | exact ⟨rfl, _, sc_self _ _⟩)) | (rw [ij, iz]; (first | exact ⟨rfl, _, rfl⟩ | exact ⟨rfl, _, sc_self _ _⟩)) | (rw [iq, iz]; (first | exact ⟨rfl, _, rfl⟩ | exact ⟨rfl, _, sc_self _ _⟩)) | (rw [ij]; (first | exact ⟨rfl, _, rfl⟩ | exact ⟨rfl, _, sc_self _ _⟩)) | (rw [iq]; (first | exact ⟨rfl, _, rfl⟩ | exact ⟨rfl, _, sc_self _ _⟩)) | (rw [iz]; (first | exact ⟨rfl, _, rfl⟩ | exact ⟨rfl, _, sc_self _ _⟩)) | (first | exact ⟨rfl, _, rfl⟩ | exact ⟨rfl, _, sc_self _ _⟩)) dX13_ahead_33
  · skip
    obtain ⟨j, hjn, hj, rfl⟩ := in_num en hn c_5
    have ij : ix (nI j) = j := nI_clamp (by omega)
    refine lv_iload_n hx hb dX13_ahead_8 rfl (lv_at hl 2 rfl) ?_
    refine lv_iconst (v := 2) hx hb dX13_ahead_9 (by decide) ?_
    refine lv_iconst (v := 5) hx hb dX13_ahead_10 (by decide) ?_
    refine n_callp (va_runS ⟨hx, hb, hml, hown, hts⟩ (tM_within l _ _ _) (va_cwS 3 hts (lw_S q1281 q1282 q106 q1283) rfl rfl rfl (hdS_X13_within).2 ⟨by decide, by decide⟩) pu_pre rfl rfl hl.1 rfl (lv_room (by simp [Value.category])) dX13_ahead_11 ⟨Nat.zero_le _, Nat.zero_le _⟩) (fun r_11 e_11 => ?_)
    subst e_11
    refine lv_if_eq (tgt := 27) hx hb dX13_ahead_14 (by decide) (fun c_14 => ?_) (fun c_14 => ?_)
    · skip
      refine lv_aload_n hx hb dX13_ahead_27 rfl (lv_at hl 0 rfl) ?_
      refine lv_ldc (v := (-1000001)) hx hb hown (hts _ q1296) dX13_ahead_28 ?_
      refine n_calli (va_runV ⟨hx, hb, hml, hown, hts⟩ (tM_finding l G ad _ _ (-1000001) 0 (by decide) (by decide)) (cwV 1 hts (lw_V q1297 q1299 qs53 q106 q1300) rfl rfl rfl hdS_X13_finding ⟨by decide, by decide⟩) (hw.preV (k := 0) rfl rfl) rfl rfl hl.1 rfl (lv_room (by simp [Value.category])) dX13_ahead_30 ⟨Nat.zero_le _, Nat.zero_le _⟩) hw (fun r_30 u_30 H locs e_30 hw => ?_)
      obtain ⟨rfl, rfl⟩ := e_30
      have hw : nS G (mE G ad _ _) s H locs := hw
      exact m_iret hx hb hr hlk rfl hw (by rw [aheadO, if_neg c_5, if_pos c_14]; first | (rw [ij, iq, iz]; (first | exact ⟨rfl, _, rfl⟩ | exact ⟨rfl, _, sc_self _ _⟩)) | (rw [ij, iq]; (first | exact ⟨rfl, _, rfl⟩ | exact ⟨rfl, _, sc_self _ _⟩)) | (rw [ij, iz]; (first | exact ⟨rfl, _, rfl⟩ | exact ⟨rfl, _, sc_self _ _⟩)) | (rw [iq, iz]; (first | exact ⟨rfl, _, rfl⟩ | exact ⟨rfl, _, sc_self _ _⟩)) | (rw [ij]; (first | exact ⟨rfl, _, rfl⟩ | exact ⟨rfl, _, sc_self _ _⟩)) | (rw [iq]; (first | exact ⟨rfl, _, rfl⟩ | exact ⟨rfl, _, sc_self _ _⟩)) | (rw [iz]; (first | exact ⟨rfl, _, rfl⟩ | exact ⟨rfl, _, sc_self _ _⟩)) | (first | exact ⟨rfl, _, rfl⟩ | exact ⟨rfl, _, sc_self _ _⟩)) dX13_ahead_33
    · skip
      obtain ⟨q, h2q, hq, rfl⟩ := in_nat2 (N := 5) rfl (by decide) c_14
      have iq : ix (nI q) = q := nI_clamp (by omega)
      refine lv_iload_n hx hb dX13_ahead_17 rfl (lv_at hl 3 rfl) ?_
      refine lv_iconst (v := 0) hx hb dX13_ahead_18 (by decide) ?_
      refine lv_bipush (v := 100) hx hb dX13_ahead_19 (by decide) ?_
      refine n_callp (va_runS ⟨hx, hb, hml, hown, hts⟩ (tM_within l _ _ _) (va_cwS 3 hts (lw_S q1281 q1282 q106 q1283) rfl rfl rfl (hdS_X13_within).2 ⟨by decide, by decide⟩) pu_pre rfl rfl hl.1 rfl (lv_room (by simp [Value.category])) dX13_ahead_21 ⟨Nat.zero_le _, Nat.zero_le _⟩) (fun r_21 e_21 => ?_)
      subst e_21
      refine lv_if_ne (tgt := 34) hx hb dX13_ahead_24 (by decide) (fun c_24 => ?_) (fun c_24 => ?_)
      · skip
        obtain ⟨z, hz, rfl⟩ := in_nat (N := 100) rfl (by decide) c_24
        have iz : ix (nI z) = z := nI_clamp (by omega)
        refine lv_aload_n hx hb dX13_ahead_34 rfl (lv_at hl 0 rfl) ?_
        refine n_get (k := 0) hx hb hts in_X13 hown hw rfl rfl 0 (by decide) q1198 rfl dX13_ahead_35 ?_
        refine lv_aload_n hx hb dX13_ahead_38 rfl (lv_at hl 0 rfl) ?_
        refine n_get (k := 0) hx hb hts in_X13 hown hw rfl rfl 2 (by decide) q1200 rfl dX13_ahead_39 ?_
        refine n_callv (va_runS ⟨hx, hb, hml, hown, hts⟩ (tM_copyRow_0_2 l G ad _ _ ) (va_cwS 2 hts (lw_S q1439 q1440 q106 q1441) rfl rfl rfl (hdS_X13_copyRow).2 ⟨by decide, by decide⟩) hw.preS rfl rfl hl.1 rfl (lv_room (by simp [Value.category])) dX13_ahead_42 ⟨Nat.zero_le _, Nat.zero_le _⟩) hw (fun u_42 H locs e_42 hw => ?_)
        subst e_42
        have hw : nS G (mE G ad _ _) s H locs := hw
        refine lv_aload_n hx hb dX13_ahead_45 rfl (lv_at hl 0 rfl) ?_
        refine lv_iload_n hx hb dX13_ahead_46 rfl (lv_at hl 3 rfl) ?_
        refine n_callv (va_runV ⟨hx, hb, hml, hown, hts⟩ (tM_throwsGo l G ad _ _ z B hI (by omega)) (cwV 1 hts (lw_V q1395 q1397 qs61 q106 q1398) rfl rfl rfl hdS_X13_throwsGo ⟨by decide, by decide⟩) (hw.preV (k := 0) rfl rfl) rfl rfl hl.1 rfl (lv_room (by simp [Value.category])) dX13_ahead_47 ⟨Nat.zero_le _, Nat.zero_le _⟩) hw (fun u_47 H locs e_47 hw => ?_)
        subst e_47
        have hw : nS G (mE G ad _ _) s H locs := hw
        refine lv_aload_n hx hb dX13_ahead_50 rfl (lv_at hl 0 rfl) ?_
        refine lv_iload_n hx hb dX13_ahead_51 rfl (lv_at hl 2 rfl) ?_
        refine lv_iconst (v := 5) hx hb dX13_ahead_52 (by decide) ?_
        refine n_join2 (fun v => v = (if nI q = 5 then highF (thrN w z) j else thrN w z (44 + 5 * j + q))) 70 (fun v_53 hv_53 => ?_) (fun hj_53 => ?_)
        · skip
          subst hv_53
          refine n_calli (va_runV ⟨hx, hb, hml, hown, hts⟩ (tM_putBack l G ad _ _ _) (cwV 1 hts (lw_V q1442 q1444 qs69 q106 q1445) rfl rfl rfl hdS_X13_putBack ⟨by decide, by decide⟩) (hw.preV (k := 0) rfl rfl) rfl rfl hl.1 rfl (lv_room (by simp [Value.category])) dX13_ahead_70 ⟨Nat.zero_le _, Nat.zero_le _⟩) hw (fun r_70 u_70 H locs e_70 hw => ?_)
          obtain ⟨rfl, rfl⟩ := e_70
          have hw : nS G (mE G ad _ _) s H locs := hw
          exact m_iret hx hb hr hlk rfl hw (by rw [aheadO, if_neg c_5, if_neg c_14, if_neg c_24, ij, iq, iz]; by_cases e5 : nI q = 5; (rw [if_pos e5, if_pos e5]; exact ⟨rfl, _, rfl⟩); (rw [if_neg e5, if_neg e5]; exact ⟨rfl, _, rfl⟩)) dX13_ahead_73
        · skip
          refine lv_icmp_ne (tgt := 64) hx hb dX13_ahead_53 (by decide) (fun c_53 => ?_) (fun c_53 => ?_)
          · skip
            have hq5 : q < 5 := by rcases Nat.lt_or_ge q 5 with o | o; exact o; exact absurd (by rw [show q = 5 by omega]; rfl) c_53
            refine lv_aload_n hx hb dX13_ahead_64 rfl (lv_at hl 0 rfl) ?_
            refine lv_iload_n hx hb dX13_ahead_65 rfl (lv_at hl 1 rfl) ?_
            refine lv_iload_n hx hb dX13_ahead_66 rfl (lv_at hl 2 rfl) ?_
            refine n_callp (va_runV ⟨hx, hb, hml, hown, hts⟩ (tM_jumperIs l G ad _ _ j q hj hq5) (cwV 2 hts (lw_V q1361 q1363 qs57 q106 q1364) rfl rfl rfl hdS_X13_jumperIs ⟨by decide, by decide⟩) (hw.preV (k := 0) rfl rfl) rfl rfl hl.1 rfl (lv_room (by simp [Value.category])) dX13_ahead_67 ⟨Nat.zero_le _, Nat.zero_le _⟩) (fun r_67 e_67 => ?_)
            subst e_67
            exact hj_53 _ (by rw [if_neg c_53])
          · skip
            refine lv_aload_n hx hb dX13_ahead_56 rfl (lv_at hl 0 rfl) ?_
            refine lv_iload_n hx hb dX13_ahead_57 rfl (lv_at hl 1 rfl) ?_
            refine n_callp (va_runV ⟨hx, hb, hml, hown, hts⟩ (tM_high l G ad _ _ (j) (by first | assumption | omega)) (cwV 1 hts (lw_V q1365 q1367 qs58 q106 q1368) rfl rfl rfl hdS_X13_high ⟨by decide, by decide⟩) (hw.preV (k := 0) rfl rfl) rfl rfl hl.1 rfl (lv_room (by simp [Value.category])) dX13_ahead_58 ⟨Nat.zero_le _, Nat.zero_le _⟩) (fun r_58 e_58 => ?_)
            subst e_58
            refine lv_goto (tgt := 70) hx hb dX13_ahead_61 (by decide) ?_
            exact hj_53 _ (by rw [if_pos c_53])
      · skip
        refine lv_aload_n hx hb dX13_ahead_27 rfl (lv_at hl 0 rfl) ?_
        refine lv_ldc (v := (-1000001)) hx hb hown (hts _ q1296) dX13_ahead_28 ?_
        refine n_calli (va_runV ⟨hx, hb, hml, hown, hts⟩ (tM_finding l G ad _ _ (-1000001) 0 (by decide) (by decide)) (cwV 1 hts (lw_V q1297 q1299 qs53 q106 q1300) rfl rfl rfl hdS_X13_finding ⟨by decide, by decide⟩) (hw.preV (k := 0) rfl rfl) rfl rfl hl.1 rfl (lv_room (by simp [Value.category])) dX13_ahead_30 ⟨Nat.zero_le _, Nat.zero_le _⟩) hw (fun r_30 u_30 H locs e_30 hw => ?_)
        obtain ⟨rfl, rfl⟩ := e_30
        have hw : nS G (mE G ad _ _) s H locs := hw
        exact m_iret hx hb hr hlk rfl hw (by rw [aheadO, if_neg c_5, if_neg c_14, if_pos c_24]; first | (rw [ij, iq, iz]; (first | exact ⟨rfl, _, rfl⟩ | exact ⟨rfl, _, sc_self _ _⟩)) | (rw [ij, iq]; (first | exact ⟨rfl, _, rfl⟩ | exact ⟨rfl, _, sc_self _ _⟩)) | (rw [ij, iz]; (first | exact ⟨rfl, _, rfl⟩ | exact ⟨rfl, _, sc_self _ _⟩)) | (rw [iq, iz]; (first | exact ⟨rfl, _, rfl⟩ | exact ⟨rfl, _, sc_self _ _⟩)) | (rw [ij]; (first | exact ⟨rfl, _, rfl⟩ | exact ⟨rfl, _, sc_self _ _⟩)) | (rw [iq]; (first | exact ⟨rfl, _, rfl⟩ | exact ⟨rfl, _, sc_self _ _⟩)) | (rw [iz]; (first | exact ⟨rfl, _, rfl⟩ | exact ⟨rfl, _, sc_self _ _⟩)) | (first | exact ⟨rfl, _, rfl⟩ | exact ⟨rfl, _, sc_self _ _⟩)) dX13_ahead_33
theorem hdS_X13_metres : yX13_metres.cls = "LineCallsModel" ∧ yX13_metres.cls ≠ "java/lang/invoke/MethodHandle" ∧ yX13_metres.cls ≠ "java/lang/invoke/VarHandle" ∧ (parseMethodDescriptor yX13_metres.desc).map (fun d => d.parameters.length) = some 1 := by decide +kernel
set_option maxHeartbeats 4000000 in
theorem tM_metres (l : Launch) (G : nG) (ad : Nat → Nat) (w : rw84) (M : mM) (x : Int32) (B : Nat) (hI : Inv B w) (hB : B ≤ 100000) : Met l yX13_metres (ws_ yX13_metres cX13_metres 2 (some .int)) { frames := 8, cells := 0, slots := 0, locals := 180 } (va_Pc [.ref (ad 0), .int x] (nC G (mE G ad w M))) (va_Qi (fun (r : Int32) (u : rw84 × mM) => r = (metresO w x).1 ∧ ∃ g, u = ((metresO w x).2.1, ur (fnd (metresO w x).2.2 M) 2 g)) (fun u => nC G (mE G ad u.1 u.2)) (nA G)) 0 0 (nA G) := by
  refine n_head (by decide) (Nat.le_of_ble_eq_true rfl) ?_
  intro p e s m below meth c ls hx hb hr hlk hml hown hts hB0 hl
  have hown : s.vm.findClass "LineCallsModel" = some m.cls := hown
  have hw := nS.start hB0
  have hl : lv_has ls 2 [(0, .ref (ad 0)), (1, .int x)] := hl
  obtain ⟨n, hn, en⟩ := hI.num
  refine lv_iload_n hx hb dX13_metres_0 rfl (lv_at hl 1 rfl) ?_
  refine lv_iconst (v := 0) hx hb dX13_metres_1 (by decide) ?_
  refine lv_bipush (v := 100) hx hb dX13_metres_2 (by decide) ?_
  refine n_callp (va_runS ⟨hx, hb, hml, hown, hts⟩ (tM_within l _ _ _) (va_cwS 3 hts (lw_S q1281 q1282 q106 q1283) rfl rfl rfl (hdS_X13_within).2 ⟨by decide, by decide⟩) pu_pre rfl rfl hl.1 rfl (lv_room (by simp [Value.category])) dX13_metres_4 ⟨Nat.zero_le _, Nat.zero_le _⟩) (fun r_4 e_4 => ?_)
  subst e_4
  refine lv_if_eq (tgt := 19) hx hb dX13_metres_7 (by decide) (fun c_7 => ?_) (fun c_7 => ?_)
  · skip
    refine lv_aload_n hx hb dX13_metres_19 rfl (lv_at hl 0 rfl) ?_
    refine lv_ldc (v := (-1000001)) hx hb hown (hts _ q1296) dX13_metres_20 ?_
    refine n_calli (va_runV ⟨hx, hb, hml, hown, hts⟩ (tM_finding l G ad _ _ (-1000001) 0 (by decide) (by decide)) (cwV 1 hts (lw_V q1297 q1299 qs53 q106 q1300) rfl rfl rfl hdS_X13_finding ⟨by decide, by decide⟩) (hw.preV (k := 0) rfl rfl) rfl rfl hl.1 rfl (lv_room (by simp [Value.category])) dX13_metres_22 ⟨Nat.zero_le _, Nat.zero_le _⟩) hw (fun r_22 u_22 H locs e_22 hw => ?_)
    obtain ⟨rfl, rfl⟩ := e_22
    have hw : nS G (mE G ad _ _) s H locs := hw
    exact m_iret hx hb hr hlk rfl hw (by rw [metresO, if_pos c_7]; first | (rw [iq]; (first | exact ⟨rfl, _, rfl⟩ | exact ⟨rfl, _, sc_self _ _⟩)) | (first | exact ⟨rfl, _, rfl⟩ | exact ⟨rfl, _, sc_self _ _⟩)) dX13_metres_25
  · skip
    obtain ⟨q, hq, rfl⟩ := in_nat (N := 100) rfl (by decide) c_7
    have iq : ix (nI q) = q := nI_clamp (by omega)
    refine lv_aload_n hx hb dX13_metres_10 rfl (lv_at hl 0 rfl) ?_
    refine lv_iconst (v := 3) hx hb dX13_metres_11 (by decide) ?_
    refine lv_iload_n hx hb dX13_metres_12 rfl (lv_at hl 1 rfl) ?_
    refine n_calli (va_runV ⟨hx, hb, hml, hown, hts⟩ (tM_behind l G ad _ _ 3 q B (by decide) hI (by omega)) (cwV 2 hts (lw_V q1450 q1452 qs70 q106 q1453) rfl rfl rfl hdS_X13_behind ⟨by decide, by decide⟩) (hw.preV (k := 0) rfl rfl) rfl rfl hl.1 rfl (lv_room (by simp [Value.category])) dX13_metres_13 ⟨Nat.zero_le _, Nat.zero_le _⟩) hw (fun r_13 u_13 H locs e_13 hw => ?_)
    obtain ⟨rfl, rfl⟩ := e_13
    have hw : nS G (mE G ad _ _) s H locs := hw
    refine lv_goto (tgt := 25) hx hb dX13_metres_16 (by decide) ?_
    exact m_iret hx hb hr hlk rfl hw (by rw [metresO, if_neg c_7]; first | (rw [iq]; (first | exact ⟨rfl, _, rfl⟩ | exact ⟨rfl, _, sc_self _ _⟩)) | (first | exact ⟨rfl, _, rfl⟩ | exact ⟨rfl, _, sc_self _ _⟩)) dX13_metres_25
theorem hdS_X13_when : yX13_when.cls = "LineCallsModel" ∧ yX13_when.cls ≠ "java/lang/invoke/MethodHandle" ∧ yX13_when.cls ≠ "java/lang/invoke/VarHandle" ∧ (parseMethodDescriptor yX13_when.desc).map (fun d => d.parameters.length) = some 2 := by decide +kernel
set_option maxHeartbeats 4000000 in
theorem tM_when (l : Launch) (G : nG) (ad : Nat → Nat) (w : rw84) (M : mM) (k y : Int32) (B : Nat) (hI : Inv B w) (hB : B ≤ 100000) : Met l yX13_when (ws_ yX13_when cX13_when 4 (some .int)) { frames := 6, cells := 0, slots := 0, locals := 136 } (va_Pc [.ref (ad 0), .int k, .int y] (nC G (mE G ad w M))) (va_Qi (fun (r : Int32) (u : rw84 × mM) => r = (whenO w k y).1 ∧ ∃ g, u = ((whenO w k y).2.1, ur (fnd (whenO w k y).2.2 M) 2 g)) (fun u => nC G (mE G ad u.1 u.2)) (nA G)) 0 0 (nA G) := by
  refine n_head (by decide) (Nat.le_of_ble_eq_true rfl) ?_
  intro p e s m below meth c ls hx hb hr hlk hml hown hts hB0 hl
  have hown : s.vm.findClass "LineCallsModel" = some m.cls := hown
  have hw := nS.start hB0
  have hl : lv_has ls 4 [(0, .ref (ad 0)), (1, .int k), (2, .int y)] := hl
  obtain ⟨n, hn, en⟩ := hI.num
  refine lv_aload_n hx hb dX13_when_0 rfl (lv_at hl 0 rfl) ?_
  refine lv_iload_n hx hb dX13_when_1 rfl (lv_at hl 1 rfl) ?_
  refine n_callp (va_runV ⟨hx, hb, hml, hown, hts⟩ (tM_isJumper l G ad _ _ _) (cwV 1 hts (lw_V q1284 q1286 qs50 q106 q1287) rfl rfl rfl hdS_X13_isJumper ⟨by decide, by decide⟩) (hw.preV (k := 0) rfl rfl) rfl rfl hl.1 rfl (lv_room (by simp [Value.category])) dX13_when_2 ⟨Nat.zero_le _, Nat.zero_le _⟩) (fun r_2 e_2 => ?_)
  subst e_2
  refine lv_if_eq (tgt := 19) hx hb dX13_when_5 (by decide) (fun c_5 => ?_) (fun c_5 => ?_)
  · skip
    refine lv_aload_n hx hb dX13_when_19 rfl (lv_at hl 0 rfl) ?_
    refine lv_ldc (v := (-1000001)) hx hb hown (hts _ q1296) dX13_when_20 ?_
    refine n_calli (va_runV ⟨hx, hb, hml, hown, hts⟩ (tM_finding l G ad _ _ (-1000001) 0 (by decide) (by decide)) (cwV 1 hts (lw_V q1297 q1299 qs53 q106 q1300) rfl rfl rfl hdS_X13_finding ⟨by decide, by decide⟩) (hw.preV (k := 0) rfl rfl) rfl rfl hl.1 rfl (lv_room (by simp [Value.category])) dX13_when_22 ⟨Nat.zero_le _, Nat.zero_le _⟩) hw (fun r_22 u_22 H locs e_22 hw => ?_)
    obtain ⟨rfl, rfl⟩ := e_22
    have hw : nS G (mE G ad _ _) s H locs := hw
    exact m_iret hx hb hr hlk rfl hw (by rw [whenO, if_pos c_5]; first | (first | exact ⟨rfl, _, rfl⟩ | exact ⟨rfl, _, sc_self _ _⟩)) dX13_when_25
  · skip
    obtain ⟨j, hjn, hj, rfl⟩ := in_num en hn c_5
    have ij : ix (nI j) = j := nI_clamp (by omega)
    refine lv_iload_n hx hb dX13_when_8 rfl (lv_at hl 2 rfl) ?_
    refine lv_iconst (v := 0) hx hb dX13_when_9 (by decide) ?_
    refine lv_sipush (v := 9999) hx hb dX13_when_10 (by decide) ?_
    refine n_callp (va_runS ⟨hx, hb, hml, hown, hts⟩ (tM_within l _ _ _) (va_cwS 3 hts (lw_S q1281 q1282 q106 q1283) rfl rfl rfl (hdS_X13_within).2 ⟨by decide, by decide⟩) pu_pre rfl rfl hl.1 rfl (lv_room (by simp [Value.category])) dX13_when_13 ⟨Nat.zero_le _, Nat.zero_le _⟩) (fun r_13 e_13 => ?_)
    subst e_13
    refine lv_if_ne (tgt := 26) hx hb dX13_when_16 (by decide) (fun c_16 => ?_) (fun c_16 => ?_)
    · skip
      refine lv_aload_n hx hb dX13_when_26 rfl (lv_at hl 0 rfl) ?_
      refine n_get (k := 0) hx hb hts in_X13 hown hw rfl rfl 0 (by decide) q1198 rfl dX13_when_27 ?_
      refine lv_aload_n hx hb dX13_when_30 rfl (lv_at hl 0 rfl) ?_
      refine n_get (k := 0) hx hb hts in_X13 hown hw rfl rfl 2 (by decide) q1200 rfl dX13_when_31 ?_
      refine n_callv (va_runS ⟨hx, hb, hml, hown, hts⟩ (tM_copyRow_0_2 l G ad _ _ ) (va_cwS 2 hts (lw_S q1439 q1440 q106 q1441) rfl rfl rfl (hdS_X13_copyRow).2 ⟨by decide, by decide⟩) hw.preS rfl rfl hl.1 rfl (lv_room (by simp [Value.category])) dX13_when_34 ⟨Nat.zero_le _, Nat.zero_le _⟩) hw (fun u_34 H locs e_34 hw => ?_)
      subst e_34
      have hw : nS G (mE G ad _ _) s H locs := hw
      refine lv_iconst (v := 0) hx hb dX13_when_37 (by decide) ?_
      refine lv_istore_n hx hb dX13_when_38 rfl hl (by decide) rfl (fun ls hl => ?_)
      refine n_loop (α := Nat) (fun z H locs ls => z ≤ 100 ∧ untilF (fun n => decide (y ≤ thrN w n (44 + 5 * j + 3))) (100 - z) z = untilF (fun n => decide (y ≤ thrN w n (44 + 5 * j + 3))) 100 0 ∧ nS G (mE G ad (thrN w z) (ur M 2 w)) s H locs ∧ lv_has ls 4 [(0, .ref (ad 0)), (1, .int (nI j)), (2, .int y), (3, .int (nI z))]) (fun z => 100 - z) 39 ?_ 0 _ _ _ ⟨Nat.zero_le _, rfl, hw, (lv_sub hl [1, 2, 3, 0] rfl)⟩
      clear hl hw
      intro z H locs ls hI ih_39
      obtain ⟨hz, hu, hw, hl⟩ := hI
      refine lv_iload_n hx hb dX13_when_39 rfl (lv_at hl 3 rfl) ?_
      refine lv_bipush (v := 100) hx hb dX13_when_40 (by decide) ?_
      refine lv_icmp_ge (tgt := 65) hx hb dX13_when_42 (by decide) (fun c_42 => ?_) (fun c_42 => ?_)
      · skip
        have n_42 : 100 ≤ z := (nI_leI (a := 100) (b := z) (by omega) (by omega)).mp c_42
        obtain rfl : z = 100 := by omega
        have hN : untilF (fun n => decide (y ≤ thrN w n (44 + 5 * j + 3))) 100 0 = 100 := hu.symm
        refine lv_aload_n hx hb dX13_when_65 rfl (lv_at hl 0 rfl) ?_
        refine lv_aload_n hx hb dX13_when_66 rfl (lv_at hl 0 rfl) ?_
        refine lv_aload_n hx hb dX13_when_67 rfl (lv_at hl 0 rfl) ?_
        refine lv_iload_n hx hb dX13_when_68 rfl (lv_at hl 1 rfl) ?_
        refine lv_iconst (v := 3) hx hb dX13_when_69 (by decide) ?_
        refine n_callp (va_runV ⟨hx, hb, hml, hown, hts⟩ (tM_jumperIs l G ad _ _ (j) (3) (by first | assumption | omega) (by first | assumption | omega)) (cwV 2 hts (lw_V q1361 q1363 qs57 q106 q1364) rfl rfl rfl hdS_X13_jumperIs ⟨by decide, by decide⟩) (hw.preV (k := 0) rfl rfl) rfl rfl hl.1 rfl (lv_room (by simp [Value.category])) dX13_when_70 ⟨Nat.zero_le _, Nat.zero_le _⟩) (fun r_70 e_70 => ?_)
        subst e_70
        refine lv_iload_n hx hb dX13_when_73 rfl (lv_at hl 2 rfl) ?_
        refine n_join2 (fun v => v = whenR (fun n => decide (y ≤ thrN w n (44 + 5 * j + 3)))) 82 (fun v_74 hv_74 => ?_) (fun hj_74 => ?_)
        · skip
          subst hv_74
          refine n_calli (va_runV ⟨hx, hb, hml, hown, hts⟩ (tM_putBack l G ad _ _ _) (cwV 1 hts (lw_V q1442 q1444 qs69 q106 q1445) rfl rfl rfl hdS_X13_putBack ⟨by decide, by decide⟩) (hw.preV (k := 0) rfl rfl) rfl rfl hl.1 rfl (lv_room (by simp [Value.category])) dX13_when_82 ⟨Nat.zero_le _, Nat.zero_le _⟩) hw (fun r_82 u_82 H locs e_82 hw => ?_)
          obtain ⟨rfl, rfl⟩ := e_82
          have hw : nS G (mE G ad _ _) s H locs := hw
          refine n_calli (va_runV ⟨hx, hb, hml, hown, hts⟩ (tM_orNone l G ad _ _ _) (cwV 1 hts (lw_V q1458 q1460 qs71 q106 q1461) rfl rfl rfl hdS_X13_orNone ⟨by decide, by decide⟩) (hw.preV (k := 0) rfl rfl) rfl rfl hl.1 rfl (lv_room (by simp [Value.category])) dX13_when_85 ⟨Nat.zero_le _, Nat.zero_le _⟩) hw (fun r_85 u_85 H locs e_85 hw => ?_)
          obtain ⟨rfl, rfl⟩ := e_85
          have hw : nS G (mE G ad _ _) s H locs := hw
          exact m_iret hx hb hr hlk rfl hw (by rw [whenO, if_neg c_5, if_neg c_16, ij]; exact none_ret _ _ _ _) dX13_when_88
        · skip
          refine lv_icmp_ge (tgt := 81) hx hb dX13_when_74 (by decide) (fun c_74 => ?_) (fun c_74 => ?_)
          · skip
            refine lv_iload_n hx hb dX13_when_81 rfl (lv_at hl 3 rfl) ?_
            exact hj_74 _ (by first | exact wh_yes hN (by simpa using c_74) | exact wh_no hN (by simpa using c_74))
          · skip
            refine lv_iconst (v := (-1)) hx hb dX13_when_77 (by decide) ?_
            refine lv_goto (tgt := 82) hx hb dX13_when_78 (by decide) ?_
            exact hj_74 _ (by first | exact wh_yes hN (by simpa using c_74) | exact wh_no hN (by simpa using c_74))
      · skip
        have n_42 : ¬ 100 ≤ z := fun h => c_42 ((nI_leI (a := 100) (b := z) (by omega) (by omega)).mpr h)
        refine lv_aload_n hx hb dX13_when_45 rfl (lv_at hl 0 rfl) ?_
        refine lv_iload_n hx hb dX13_when_46 rfl (lv_at hl 1 rfl) ?_
        refine lv_iconst (v := 3) hx hb dX13_when_47 (by decide) ?_
        refine n_callp (va_runV ⟨hx, hb, hml, hown, hts⟩ (tM_jumperIs l G ad _ _ (j) (3) (by first | assumption | omega) (by first | assumption | omega)) (cwV 2 hts (lw_V q1361 q1363 qs57 q106 q1364) rfl rfl rfl hdS_X13_jumperIs ⟨by decide, by decide⟩) (hw.preV (k := 0) rfl rfl) rfl rfl hl.1 rfl (lv_room (by simp [Value.category])) dX13_when_48 ⟨Nat.zero_le _, Nat.zero_le _⟩) (fun r_48 e_48 => ?_)
        subst e_48
        refine lv_iload_n hx hb dX13_when_51 rfl (lv_at hl 2 rfl) ?_
        refine lv_icmp_ge (tgt := 65) hx hb dX13_when_52 (by decide) (fun c_52 => ?_) (fun c_52 => ?_)
        · skip
          have hN := hu.symm.trans (un_hit (by omega) (by simpa using c_52))
          refine lv_aload_n hx hb dX13_when_65 rfl (lv_at hl 0 rfl) ?_
          refine lv_aload_n hx hb dX13_when_66 rfl (lv_at hl 0 rfl) ?_
          refine lv_aload_n hx hb dX13_when_67 rfl (lv_at hl 0 rfl) ?_
          refine lv_iload_n hx hb dX13_when_68 rfl (lv_at hl 1 rfl) ?_
          refine lv_iconst (v := 3) hx hb dX13_when_69 (by decide) ?_
          refine n_callp (va_runV ⟨hx, hb, hml, hown, hts⟩ (tM_jumperIs l G ad _ _ (j) (3) (by first | assumption | omega) (by first | assumption | omega)) (cwV 2 hts (lw_V q1361 q1363 qs57 q106 q1364) rfl rfl rfl hdS_X13_jumperIs ⟨by decide, by decide⟩) (hw.preV (k := 0) rfl rfl) rfl rfl hl.1 rfl (lv_room (by simp [Value.category])) dX13_when_70 ⟨Nat.zero_le _, Nat.zero_le _⟩) (fun r_70 e_70 => ?_)
          subst e_70
          refine lv_iload_n hx hb dX13_when_73 rfl (lv_at hl 2 rfl) ?_
          refine n_join2 (fun v => v = whenR (fun n => decide (y ≤ thrN w n (44 + 5 * j + 3)))) 82 (fun v_74 hv_74 => ?_) (fun hj_74 => ?_)
          · skip
            subst hv_74
            refine n_calli (va_runV ⟨hx, hb, hml, hown, hts⟩ (tM_putBack l G ad _ _ _) (cwV 1 hts (lw_V q1442 q1444 qs69 q106 q1445) rfl rfl rfl hdS_X13_putBack ⟨by decide, by decide⟩) (hw.preV (k := 0) rfl rfl) rfl rfl hl.1 rfl (lv_room (by simp [Value.category])) dX13_when_82 ⟨Nat.zero_le _, Nat.zero_le _⟩) hw (fun r_82 u_82 H locs e_82 hw => ?_)
            obtain ⟨rfl, rfl⟩ := e_82
            have hw : nS G (mE G ad _ _) s H locs := hw
            refine n_calli (va_runV ⟨hx, hb, hml, hown, hts⟩ (tM_orNone l G ad _ _ _) (cwV 1 hts (lw_V q1458 q1460 qs71 q106 q1461) rfl rfl rfl hdS_X13_orNone ⟨by decide, by decide⟩) (hw.preV (k := 0) rfl rfl) rfl rfl hl.1 rfl (lv_room (by simp [Value.category])) dX13_when_85 ⟨Nat.zero_le _, Nat.zero_le _⟩) hw (fun r_85 u_85 H locs e_85 hw => ?_)
            obtain ⟨rfl, rfl⟩ := e_85
            have hw : nS G (mE G ad _ _) s H locs := hw
            exact m_iret hx hb hr hlk rfl hw (by rw [whenO, if_neg c_5, if_neg c_16, ij]; exact none_ret _ _ _ _) dX13_when_88
          · skip
            refine lv_icmp_ge (tgt := 81) hx hb dX13_when_74 (by decide) (fun c_74 => ?_) (fun c_74 => ?_)
            · skip
              refine lv_iload_n hx hb dX13_when_81 rfl (lv_at hl 3 rfl) ?_
              exact hj_74 _ (by first | exact wh_yes hN (by simpa using c_74) | exact wh_no hN (by simpa using c_74))
            · skip
              refine lv_iconst (v := (-1)) hx hb dX13_when_77 (by decide) ?_
              refine lv_goto (tgt := 82) hx hb dX13_when_78 (by decide) ?_
              exact hj_74 _ (by first | exact wh_yes hN (by simpa using c_74) | exact wh_no hN (by simpa using c_74))
        · skip
          refine lv_aload_n hx hb dX13_when_55 rfl (lv_at hl 0 rfl) ?_
          refine n_callv (va_runV ⟨hx, hb, hml, hown, hts⟩ (tM_oneThrow l G ad _ _ (B + z) (hI.thrN (by omega)) (by omega)) (cwV 0 hts (lw_V q1399 q1401 qs62 q106 q1402) rfl rfl rfl hdS_X13_oneThrow ⟨by decide, by decide⟩) (hw.preV (k := 0) rfl rfl) rfl rfl hl.1 rfl (lv_room (by simp [Value.category])) dX13_when_56 ⟨Nat.zero_le _, Nat.zero_le _⟩) hw (fun u_56 H locs e_56 hw => ?_)
          subst e_56
          have hw : nS G (mE G ad _ _) s H locs := hw
          refine lv_iinc (v := nI (z + 1)) hx hb dX13_when_59 hl (k := 3) rfl (nI_1 _) (by decide) rfl (fun ls hl => ?_)
          refine lv_goto (tgt := 39) hx hb dX13_when_62 (by decide) ?_
          exact ih_39 (z + 1) _ _ _ (by first | omega | (dsimp only; omega)) ⟨by omega, (un_go (by omega) (by simpa using c_52)).symm.trans hu, hw, (lv_sub hl [1, 2, 3, 0] rfl)⟩
    · skip
      refine lv_aload_n hx hb dX13_when_19 rfl (lv_at hl 0 rfl) ?_
      refine lv_ldc (v := (-1000001)) hx hb hown (hts _ q1296) dX13_when_20 ?_
      refine n_calli (va_runV ⟨hx, hb, hml, hown, hts⟩ (tM_finding l G ad _ _ (-1000001) 0 (by decide) (by decide)) (cwV 1 hts (lw_V q1297 q1299 qs53 q106 q1300) rfl rfl rfl hdS_X13_finding ⟨by decide, by decide⟩) (hw.preV (k := 0) rfl rfl) rfl rfl hl.1 rfl (lv_room (by simp [Value.category])) dX13_when_22 ⟨Nat.zero_le _, Nat.zero_le _⟩) hw (fun r_22 u_22 H locs e_22 hw => ?_)
      obtain ⟨rfl, rfl⟩ := e_22
      have hw : nS G (mE G ad _ _) s H locs := hw
      exact m_iret hx hb hr hlk rfl hw (by rw [whenO, if_neg c_5, if_pos c_16]; first | (first | exact ⟨rfl, _, rfl⟩ | exact ⟨rfl, _, sc_self _ _⟩)) dX13_when_25
theorem hdS_X13_known : yX13_known.cls = "LineCallsModel" ∧ yX13_known.cls ≠ "java/lang/invoke/MethodHandle" ∧ yX13_known.cls ≠ "java/lang/invoke/VarHandle" ∧ (parseMethodDescriptor yX13_known.desc).map (fun d => d.parameters.length) = some 0 := by decide +kernel
set_option maxHeartbeats 4000000 in
theorem tM_known (l : Launch) (G : nG) (ad : Nat → Nat) (w : rw84) (M : mM)  (B : Nat) (hI : Inv B w) (hB : B ≤ 100000) : Met l yX13_known (ws_ yX13_known cX13_known 2 (some .int)) { frames := 6, cells := 0, slots := 0, locals := 136 } (va_Pc [.ref (ad 0)] (nC G (mE G ad w M))) (va_Qi (fun (r : Int32) (u : rw84 × mM) => r = (knownO w).1 ∧ ∃ g, u = ((knownO w).2.1, ur (fnd (knownO w).2.2 M) 2 g)) (fun u => nC G (mE G ad u.1 u.2)) (nA G)) 0 0 (nA G) := by
  refine n_head (by decide) (Nat.le_of_ble_eq_true rfl) ?_
  intro p e s m below meth c ls hx hb hr hlk hml hown hts hB0 hl
  have hown : s.vm.findClass "LineCallsModel" = some m.cls := hown
  have hw := nS.start hB0
  have hl : lv_has ls 2 [(0, .ref (ad 0))] := hl
  obtain ⟨n, hn, en⟩ := hI.num
  refine lv_aload_n hx hb dX13_known_0 rfl (lv_at hl 0 rfl) ?_
  refine n_get (k := 0) hx hb hts in_X13 hown hw rfl rfl 0 (by decide) q1198 rfl dX13_known_1 ?_
  refine lv_aload_n hx hb dX13_known_4 rfl (lv_at hl 0 rfl) ?_
  refine n_get (k := 0) hx hb hts in_X13 hown hw rfl rfl 2 (by decide) q1200 rfl dX13_known_5 ?_
  refine n_callv (va_runS ⟨hx, hb, hml, hown, hts⟩ (tM_copyRow_0_2 l G ad _ _ ) (va_cwS 2 hts (lw_S q1439 q1440 q106 q1441) rfl rfl rfl (hdS_X13_copyRow).2 ⟨by decide, by decide⟩) hw.preS rfl rfl hl.1 rfl (lv_room (by simp [Value.category])) dX13_known_8 ⟨Nat.zero_le _, Nat.zero_le _⟩) hw (fun u_8 H locs e_8 hw => ?_)
  subst e_8
  have hw : nS G (mE G ad _ _) s H locs := hw
  refine lv_iconst (v := 0) hx hb dX13_known_11 (by decide) ?_
  refine lv_istore_n hx hb dX13_known_12 rfl hl (by decide) rfl (fun ls hl => ?_)
  refine n_loop (α := Nat) (fun z H locs ls => z ≤ 100 ∧ untilF (fun n => decide (wonF (thrN w n) 7 = 0)) (100 - z) z = untilF (fun n => decide (wonF (thrN w n) 7 = 0)) 100 0 ∧ nS G (mE G ad (thrN w z) (ur M 2 w)) s H locs ∧ lv_has ls 2 [(0, .ref (ad 0)), (1, .int (nI z))]) (fun z => 100 - z) 13 ?_ 0 _ _ _ ⟨Nat.zero_le _, rfl, hw, (lv_sub hl [1, 0] rfl)⟩
  clear hl hw
  intro z H locs ls hI ih_13
  obtain ⟨hz, hu, hw, hl⟩ := hI
  have hIz : Inv (B + z) (thrN w z) := hI.thrN (by omega)
  refine lv_iload_n hx hb dX13_known_13 rfl (lv_at hl 1 rfl) ?_
  refine lv_bipush (v := 100) hx hb dX13_known_14 (by decide) ?_
  refine lv_icmp_ge (tgt := 36) hx hb dX13_known_16 (by decide) (fun c_16 => ?_) (fun c_16 => ?_)
  · skip
    have n_16 : 100 ≤ z := (nI_leI (a := 100) (b := z) (by omega) (by omega)).mp c_16
    obtain rfl : z = 100 := by omega
    have hN : untilF (fun n => decide (wonF (thrN w n) 7 = 0)) 100 0 = 100 := hu.symm
    refine lv_aload_n hx hb dX13_known_36 rfl (lv_at hl 0 rfl) ?_
    refine lv_aload_n hx hb dX13_known_37 rfl (lv_at hl 0 rfl) ?_
    refine lv_aload_n hx hb dX13_known_38 rfl (lv_at hl 0 rfl) ?_
    refine n_callp (va_runV ⟨hx, hb, hml, hown, hts⟩ (tM_placesWon l G ad _ _ _ hIz) (cwV 0 hts (lw_V q1424 q1426 qs67 q106 q1427) rfl rfl rfl hdS_X13_placesWon ⟨by decide, by decide⟩) (hw.preV (k := 0) rfl rfl) rfl rfl hl.1 rfl (lv_room (by simp [Value.category])) dX13_known_39 ⟨Nat.zero_le _, Nat.zero_le _⟩) (fun r_39 e_39 => ?_)
    subst e_39
    refine n_join1 (fun v => v = whenR (fun n => decide (wonF (thrN w n) 7 = 0))) 50 (fun v_42 hv_42 => ?_) (fun hj_42 => ?_)
    · skip
      subst hv_42
      refine n_calli (va_runV ⟨hx, hb, hml, hown, hts⟩ (tM_putBack l G ad _ _ _) (cwV 1 hts (lw_V q1442 q1444 qs69 q106 q1445) rfl rfl rfl hdS_X13_putBack ⟨by decide, by decide⟩) (hw.preV (k := 0) rfl rfl) rfl rfl hl.1 rfl (lv_room (by simp [Value.category])) dX13_known_50 ⟨Nat.zero_le _, Nat.zero_le _⟩) hw (fun r_50 u_50 H locs e_50 hw => ?_)
      obtain ⟨rfl, rfl⟩ := e_50
      have hw : nS G (mE G ad _ _) s H locs := hw
      refine n_calli (va_runV ⟨hx, hb, hml, hown, hts⟩ (tM_orNone l G ad _ _ _) (cwV 1 hts (lw_V q1458 q1460 qs71 q106 q1461) rfl rfl rfl hdS_X13_orNone ⟨by decide, by decide⟩) (hw.preV (k := 0) rfl rfl) rfl rfl hl.1 rfl (lv_room (by simp [Value.category])) dX13_known_53 ⟨Nat.zero_le _, Nat.zero_le _⟩) hw (fun r_53 u_53 H locs e_53 hw => ?_)
      obtain ⟨rfl, rfl⟩ := e_53
      have hw : nS G (mE G ad _ _) s H locs := hw
      exact m_iret hx hb hr hlk rfl hw (by rw [knownO]; exact none_ret _ _ _ _) dX13_known_56
    · skip
      refine lv_if_eq (tgt := 49) hx hb dX13_known_42 (by decide) (fun c_42 => ?_) (fun c_42 => ?_)
      · skip
        refine lv_iload_n hx hb dX13_known_49 rfl (lv_at hl 1 rfl) ?_
        exact hj_42 _ (by first | exact wh_yes hN (by simpa using c_42) | exact wh_no hN (by simpa using c_42))
      · skip
        refine lv_iconst (v := (-1)) hx hb dX13_known_45 (by decide) ?_
        refine lv_goto (tgt := 50) hx hb dX13_known_46 (by decide) ?_
        exact hj_42 _ (by first | exact wh_yes hN (by simpa using c_42) | exact wh_no hN (by simpa using c_42))
  · skip
    have n_16 : ¬ 100 ≤ z := fun h => c_16 ((nI_leI (a := 100) (b := z) (by omega) (by omega)).mpr h)
    refine lv_aload_n hx hb dX13_known_19 rfl (lv_at hl 0 rfl) ?_
    refine n_callp (va_runV ⟨hx, hb, hml, hown, hts⟩ (tM_placesWon l G ad _ _ (B + z) hIz) (cwV 0 hts (lw_V q1424 q1426 qs67 q106 q1427) rfl rfl rfl hdS_X13_placesWon ⟨by decide, by decide⟩) (hw.preV (k := 0) rfl rfl) rfl rfl hl.1 rfl (lv_room (by simp [Value.category])) dX13_known_20 ⟨Nat.zero_le _, Nat.zero_le _⟩) (fun r_20 e_20 => ?_)
    subst e_20
    refine lv_if_eq (tgt := 36) hx hb dX13_known_23 (by decide) (fun c_23 => ?_) (fun c_23 => ?_)
    · skip
      have hN := hu.symm.trans (un_hit (by omega) (by simpa using c_23))
      refine lv_aload_n hx hb dX13_known_36 rfl (lv_at hl 0 rfl) ?_
      refine lv_aload_n hx hb dX13_known_37 rfl (lv_at hl 0 rfl) ?_
      refine lv_aload_n hx hb dX13_known_38 rfl (lv_at hl 0 rfl) ?_
      refine n_callp (va_runV ⟨hx, hb, hml, hown, hts⟩ (tM_placesWon l G ad _ _ _ hIz) (cwV 0 hts (lw_V q1424 q1426 qs67 q106 q1427) rfl rfl rfl hdS_X13_placesWon ⟨by decide, by decide⟩) (hw.preV (k := 0) rfl rfl) rfl rfl hl.1 rfl (lv_room (by simp [Value.category])) dX13_known_39 ⟨Nat.zero_le _, Nat.zero_le _⟩) (fun r_39 e_39 => ?_)
      subst e_39
      refine n_join1 (fun v => v = whenR (fun n => decide (wonF (thrN w n) 7 = 0))) 50 (fun v_42 hv_42 => ?_) (fun hj_42 => ?_)
      · skip
        subst hv_42
        refine n_calli (va_runV ⟨hx, hb, hml, hown, hts⟩ (tM_putBack l G ad _ _ _) (cwV 1 hts (lw_V q1442 q1444 qs69 q106 q1445) rfl rfl rfl hdS_X13_putBack ⟨by decide, by decide⟩) (hw.preV (k := 0) rfl rfl) rfl rfl hl.1 rfl (lv_room (by simp [Value.category])) dX13_known_50 ⟨Nat.zero_le _, Nat.zero_le _⟩) hw (fun r_50 u_50 H locs e_50 hw => ?_)
        obtain ⟨rfl, rfl⟩ := e_50
        have hw : nS G (mE G ad _ _) s H locs := hw
        refine n_calli (va_runV ⟨hx, hb, hml, hown, hts⟩ (tM_orNone l G ad _ _ _) (cwV 1 hts (lw_V q1458 q1460 qs71 q106 q1461) rfl rfl rfl hdS_X13_orNone ⟨by decide, by decide⟩) (hw.preV (k := 0) rfl rfl) rfl rfl hl.1 rfl (lv_room (by simp [Value.category])) dX13_known_53 ⟨Nat.zero_le _, Nat.zero_le _⟩) hw (fun r_53 u_53 H locs e_53 hw => ?_)
        obtain ⟨rfl, rfl⟩ := e_53
        have hw : nS G (mE G ad _ _) s H locs := hw
        exact m_iret hx hb hr hlk rfl hw (by rw [knownO]; exact none_ret _ _ _ _) dX13_known_56
      · skip
        refine lv_if_eq (tgt := 49) hx hb dX13_known_42 (by decide) (fun c_42 => ?_) (fun c_42 => ?_)
        · skip
          refine lv_iload_n hx hb dX13_known_49 rfl (lv_at hl 1 rfl) ?_
          exact hj_42 _ (by first | exact wh_yes hN (by simpa using c_42) | exact wh_no hN (by simpa using c_42))
        · skip
          refine lv_iconst (v := (-1)) hx hb dX13_known_45 (by decide) ?_
          refine lv_goto (tgt := 50) hx hb dX13_known_46 (by decide) ?_
          exact hj_42 _ (by first | exact wh_yes hN (by simpa using c_42) | exact wh_no hN (by simpa using c_42))
    · skip
      refine lv_aload_n hx hb dX13_known_26 rfl (lv_at hl 0 rfl) ?_
      refine n_callv (va_runV ⟨hx, hb, hml, hown, hts⟩ (tM_oneThrow l G ad _ _ (B + z) hIz (by omega)) (cwV 0 hts (lw_V q1399 q1401 qs62 q106 q1402) rfl rfl rfl hdS_X13_oneThrow ⟨by decide, by decide⟩) (hw.preV (k := 0) rfl rfl) rfl rfl hl.1 rfl (lv_room (by simp [Value.category])) dX13_known_27 ⟨Nat.zero_le _, Nat.zero_le _⟩) hw (fun u_27 H locs e_27 hw => ?_)
      subst e_27
      have hw : nS G (mE G ad _ _) s H locs := hw
      refine lv_iinc (v := nI (z + 1)) hx hb dX13_known_30 hl (k := 1) rfl (nI_1 _) (by decide) rfl (fun ls hl => ?_)
      refine lv_goto (tgt := 13) hx hb dX13_known_33 (by decide) ?_
      exact ih_13 (z + 1) _ _ _ (by first | omega | (dsimp only; omega)) ⟨by omega, (un_go (by omega) (by simpa using c_23)).symm.trans hu, hw, (lv_sub hl [1, 0] rfl)⟩
