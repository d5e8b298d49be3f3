/-! the reference: its public methods, second part -/
set_option maxRecDepth 100000
theorem hdS_X13_codeFor : yX13_codeFor.cls = "LineCallsModel" ∧ yX13_codeFor.cls ≠ "java/lang/invoke/MethodHandle" ∧ yX13_codeFor.cls ≠ "java/lang/invoke/VarHandle" ∧ (parseMethodDescriptor yX13_codeFor.desc).map (fun d => d.parameters.length) = some 1 := by decide +kernel
set_option maxHeartbeats 4000000 in
theorem tM_codeFor (l : Launch) (G : nG) (ad : Nat → Nat) (w : rw84) (M : mM) (x : Int32) (B : Nat) (hI : Inv B w) (hB : B ≤ 100000) : Met l yX13_codeFor (ws_ yX13_codeFor cX13_codeFor 2 (some .int)) { frames := 9, cells := 0, slots := 0, locals := 209 } (va_Pc [.ref (ad 0), .int x] (nC G (mE G ad w M))) (va_Qi (fun (r : Int32) (u : rw84 × mM) => r = (codeForO w x).1 ∧ ∃ g, u = ((codeForO w x).2.1, ur (fnd (codeForO w x).2.2 M) 2 g)) (fun u => nC G (mE G ad u.1 u.2)) (nA G)) 0 0 (nA G) := by
  refine n_head (by decide) (Nat.le_of_ble_eq_true rfl) ?_
  intro p e s m below meth c ls hx hb hr hlk hml hown hts hB0 hl
  have hown : s.vm.findClass "LineCallsModel" = some m.cls := hown
  have hw := nS.start hB0
  have hl : lv_has ls 2 [(0, .ref (ad 0)), (1, .int x)] := hl
  obtain ⟨n, hn, en⟩ := hI.num
  refine lv_iload_n hx hb dX13_codeFor_0 rfl (lv_at hl 1 rfl) ?_
  refine n_callp (va_runS ⟨hx, hb, hml, hown, hts⟩ (tM_isThought l _) (va_cwS 1 hts (lw_S q1471 q1472 q106 q1473) rfl rfl rfl (hdS_X13_isThought).2 ⟨by decide, by decide⟩) pu_pre rfl rfl hl.1 rfl (lv_room (by simp [Value.category])) dX13_codeFor_1 ⟨Nat.zero_le _, Nat.zero_le _⟩) (fun r_1 e_1 => ?_)
  subst e_1
  refine lv_if_eq (tgt := 19) hx hb dX13_codeFor_4 (by decide) (fun c_4 => ?_) (fun c_4 => ?_)
  · skip
    refine lv_aload_n hx hb dX13_codeFor_19 rfl (lv_at hl 0 rfl) ?_
    refine lv_ldc (v := (-1000001)) hx hb hown (hts _ q1296) dX13_codeFor_20 ?_
    refine n_calli (va_runV ⟨hx, hb, hml, hown, hts⟩ (tM_finding l G ad _ _ (-1000001) 0 (by decide) (by decide)) (cwV 1 hts (lw_V q1297 q1299 qs53 q106 q1300) rfl rfl rfl hdS_X13_finding ⟨by decide, by decide⟩) (hw.preV (k := 0) rfl rfl) rfl rfl hl.1 rfl (lv_room (by simp [Value.category])) dX13_codeFor_22 ⟨Nat.zero_le _, Nat.zero_le _⟩) hw (fun r_22 u_22 H locs e_22 hw => ?_)
    obtain ⟨rfl, rfl⟩ := e_22
    have hw : nS G (mE G ad _ _) s H locs := hw
    exact m_iret hx hb hr hlk rfl hw (by rw [codeForO, if_pos c_4]; first | (rw [iq]; (first | exact ⟨rfl, _, rfl⟩ | exact ⟨rfl, _, sc_self _ _⟩)) | (first | exact ⟨rfl, _, rfl⟩ | exact ⟨rfl, _, sc_self _ _⟩)) dX13_codeFor_25
  · skip
    obtain ⟨q, hq, rfl⟩ := in_nat (N := 40) rfl (by decide) c_4
    have iq : ix (nI q) = q := nI_clamp (by omega)
    refine lv_aload_n hx hb dX13_codeFor_7 rfl (lv_at hl 0 rfl) ?_
    refine lv_bipush (v := 6) hx hb dX13_codeFor_8 (by decide) ?_
    refine lv_iconst (v := 4) hx hb dX13_codeFor_10 (by decide) ?_
    refine lv_iconst (v := 3) hx hb dX13_codeFor_11 (by decide) ?_
    refine lv_iload_n hx hb dX13_codeFor_12 rfl (lv_at hl 1 rfl) ?_
    refine n_calli (va_runV ⟨hx, hb, hml, hown, hts⟩ (tM_bestFor l G ad _ _ 6 4 3 q B (by decide) (by decide) (by decide) (fun v hv => hI.code hv) (by omega)) (cwV 4 hts (lw_V q1474 q1476 qs72 q106 q1477) rfl rfl rfl hdS_X13_bestFor ⟨by decide, by decide⟩) (hw.preV (k := 0) rfl rfl) rfl rfl hl.1 rfl (lv_room (by simp [Value.category])) dX13_codeFor_13 ⟨Nat.zero_le _, Nat.zero_le _⟩) hw (fun r_13 u_13 H locs e_13 hw => ?_)
    obtain ⟨rfl, g_13, rfl⟩ := e_13
    have hw : nS G (mE G ad _ _) s H locs := hw
    refine lv_goto (tgt := 25) hx hb dX13_codeFor_16 (by decide) ?_
    exact m_iret hx hb hr hlk rfl hw (by rw [codeForO, if_neg c_4]; first | (rw [iq]; (first | exact ⟨rfl, _, rfl⟩ | exact ⟨rfl, _, sc_self _ _⟩)) | (first | exact ⟨rfl, _, rfl⟩ | exact ⟨rfl, _, sc_self _ _⟩)) dX13_codeFor_25
theorem hdS_X13_callFor : yX13_callFor.cls = "LineCallsModel" ∧ yX13_callFor.cls ≠ "java/lang/invoke/MethodHandle" ∧ yX13_callFor.cls ≠ "java/lang/invoke/VarHandle" ∧ (parseMethodDescriptor yX13_callFor.desc).map (fun d => d.parameters.length) = some 1 := by decide +kernel
set_option maxHeartbeats 4000000 in
theorem tM_callFor (l : Launch) (G : nG) (ad : Nat → Nat) (w : rw84) (M : mM) (x : Int32) (B : Nat) (hI : Inv B w) (hB : B ≤ 100000) : Met l yX13_callFor (ws_ yX13_callFor cX13_callFor 2 (some .int)) { frames := 9, cells := 0, slots := 0, locals := 209 } (va_Pc [.ref (ad 0), .int x] (nC G (mE G ad w M))) (va_Qi (fun (r : Int32) (u : rw84 × mM) => r = (callForO w x).1 ∧ ∃ g, u = ((callForO w x).2.1, ur (fnd (callForO w x).2.2 M) 2 g)) (fun u => nC G (mE G ad u.1 u.2)) (nA G)) 0 0 (nA G) := by
  refine n_head (by decide) (Nat.le_of_ble_eq_true rfl) ?_
  intro p e s m below meth c ls hx hb hr hlk hml hown hts hB0 hl
  have hown : s.vm.findClass "LineCallsModel" = some m.cls := hown
  have hw := nS.start hB0
  have hl : lv_has ls 2 [(0, .ref (ad 0)), (1, .int x)] := hl
  obtain ⟨n, hn, en⟩ := hI.num
  obtain ⟨m, hm, em⟩ := hI.thr
  have hm6 : m % 6 < 6 := Nat.mod_lt _ (by decide)
  have im : ix (rm (w 0) 6) = m % 6 := by rw [next_eq (by omega) em]; exact nI_clamp (by omega)
  refine lv_iload_n hx hb dX13_callFor_0 rfl (lv_at hl 1 rfl) ?_
  refine lv_iconst (v := 0) hx hb dX13_callFor_1 (by decide) ?_
  refine lv_bipush (v := 10) hx hb dX13_callFor_2 (by decide) ?_
  refine n_callp (va_runS ⟨hx, hb, hml, hown, hts⟩ (tM_within l _ _ _) (va_cwS 3 hts (lw_S q1281 q1282 q106 q1283) rfl rfl rfl (hdS_X13_within).2 ⟨by decide, by decide⟩) pu_pre rfl rfl hl.1 rfl (lv_room (by simp [Value.category])) dX13_callFor_4 ⟨Nat.zero_le _, Nat.zero_le _⟩) (fun r_4 e_4 => ?_)
  subst e_4
  refine lv_if_eq (tgt := 34) hx hb dX13_callFor_7 (by decide) (fun c_7 => ?_) (fun c_7 => ?_)
  · skip
    refine lv_aload_n hx hb dX13_callFor_34 rfl (lv_at hl 0 rfl) ?_
    refine lv_ldc (v := (-1000001)) hx hb hown (hts _ q1296) dX13_callFor_35 ?_
    refine n_calli (va_runV ⟨hx, hb, hml, hown, hts⟩ (tM_finding l G ad _ _ (-1000001) 0 (by decide) (by decide)) (cwV 1 hts (lw_V q1297 q1299 qs53 q106 q1300) rfl rfl rfl hdS_X13_finding ⟨by decide, by decide⟩) (hw.preV (k := 0) rfl rfl) rfl rfl hl.1 rfl (lv_room (by simp [Value.category])) dX13_callFor_37 ⟨Nat.zero_le _, Nat.zero_le _⟩) hw (fun r_37 u_37 H locs e_37 hw => ?_)
    obtain ⟨rfl, rfl⟩ := e_37
    have hw : nS G (mE G ad _ _) s H locs := hw
    exact m_iret hx hb hr hlk rfl hw (by rw [callForO, if_pos c_7]; first | (rw [iq, im]; exact ⟨rfl, _, rfl⟩) | exact ⟨rfl, _, sc_self _ _⟩) dX13_callFor_40
  · skip
    obtain ⟨q, hq, rfl⟩ := in_nat (N := 10) rfl (by decide) c_7
    have iq : ix (nI q) = q := nI_clamp (by omega)
    refine lv_aload_n hx hb dX13_callFor_10 rfl (lv_at hl 0 rfl) ?_
    refine lv_bipush (v := 38) hx hb dX13_callFor_11 (by decide) ?_
    refine lv_aload_n hx hb dX13_callFor_13 rfl (lv_at hl 0 rfl) ?_
    refine n_get (k := 0) hx hb hts in_X13 hown hw rfl rfl 0 (by decide) q1198 rfl dX13_callFor_14 ?_
    refine lv_iconst (v := 0) hx hb dX13_callFor_17 (by decide) ?_
    refine n_iald (k := 1) (j := 0) hx hb hw rfl rfl (by decide) (by decide) dX13_callFor_18 ?_
    refine lv_bipush (v := 6) hx hb dX13_callFor_19 (by decide) ?_
    refine lv_irem hx hb dX13_callFor_21 (by decide) ?_
    refine n_topE (next_eq (by omega) em) ?_
    refine lv_iadd hx hb dX13_callFor_22 ?_
    refine n_topE (nI_add 38 (m % 6)) ?_
    refine lv_sipush (v := 999) hx hb dX13_callFor_23 (by decide) ?_
    refine lv_iconst (v := 3) hx hb dX13_callFor_26 (by decide) ?_
    refine lv_iload_n hx hb dX13_callFor_27 rfl (lv_at hl 1 rfl) ?_
    refine n_calli (va_runV ⟨hx, hb, hml, hown, hts⟩ (tM_bestFor l G ad _ _ (38 + m % 6) 999 3 q B (by omega) (by decide) (by decide) (fun v hv => hI.called hm6 hv) (by omega)) (cwV 4 hts (lw_V q1474 q1476 qs72 q106 q1477) rfl rfl rfl hdS_X13_bestFor ⟨by decide, by decide⟩) (hw.preV (k := 0) rfl rfl) rfl rfl hl.1 rfl (lv_room (by simp [Value.category])) dX13_callFor_28 ⟨Nat.zero_le _, Nat.zero_le _⟩) hw (fun r_28 u_28 H locs e_28 hw => ?_)
    obtain ⟨rfl, g_28, rfl⟩ := e_28
    have hw : nS G (mE G ad _ _) s H locs := hw
    refine lv_goto (tgt := 40) hx hb dX13_callFor_31 (by decide) ?_
    exact m_iret hx hb hr hlk rfl hw (by rw [callForO, if_neg c_7]; first | (rw [iq, im]; exact ⟨rfl, _, rfl⟩) | exact ⟨rfl, _, sc_self _ _⟩) dX13_callFor_40
theorem hdS_X13_standFor : yX13_standFor.cls = "LineCallsModel" ∧ yX13_standFor.cls ≠ "java/lang/invoke/MethodHandle" ∧ yX13_standFor.cls ≠ "java/lang/invoke/VarHandle" ∧ (parseMethodDescriptor yX13_standFor.desc).map (fun d => d.parameters.length) = some 2 := by decide +kernel
set_option maxHeartbeats 4000000 in
theorem tM_standFor (l : Launch) (G : nG) (ad : Nat → Nat) (w : rw84) (M : mM) (k x : Int32) (B : Nat) (hI : Inv B w) (hB : B ≤ 100000) : Met l yX13_standFor (ws_ yX13_standFor cX13_standFor 7 (some .int)) { frames := 8, cells := 0, slots := 0, locals := 183 } (va_Pc [.ref (ad 0), .int k, .int x] (nC G (mE G ad w M))) (va_Qi (fun (r : Int32) (u : rw84 × mM) => r = (standForO w k x).1 ∧ ∃ g, u = ((standForO w k x).2.1, ur (fnd (standForO w k x).2.2 M) 2 g)) (fun u => nC G (mE G ad u.1 u.2)) (nA G)) 0 0 (nA G) := by
  refine n_head (by decide) (Nat.le_of_ble_eq_true rfl) ?_
  intro p e s m below meth c ls hx hb hr hlk hml hown hts hB0 hl
  have hown : s.vm.findClass "LineCallsModel" = some m.cls := hown
  have hw := nS.start hB0
  have hl : lv_has ls 7 [(0, .ref (ad 0)), (1, .int k), (2, .int x)] := hl
  obtain ⟨n, hn, en⟩ := hI.num
  refine lv_aload_n hx hb dX13_standFor_0 rfl (lv_at hl 0 rfl) ?_
  refine lv_iload_n hx hb dX13_standFor_1 rfl (lv_at hl 1 rfl) ?_
  refine n_callp (va_runV ⟨hx, hb, hml, hown, hts⟩ (tM_isJumper l G ad _ _ _) (cwV 1 hts (lw_V q1284 q1286 qs50 q106 q1287) rfl rfl rfl hdS_X13_isJumper ⟨by decide, by decide⟩) (hw.preV (k := 0) rfl rfl) rfl rfl hl.1 rfl (lv_room (by simp [Value.category])) dX13_standFor_2 ⟨Nat.zero_le _, Nat.zero_le _⟩) (fun r_2 e_2 => ?_)
  subst e_2
  refine lv_if_eq (tgt := 15) hx hb dX13_standFor_5 (by decide) (fun c_5 => ?_) (fun c_5 => ?_)
  · skip
    refine lv_aload_n hx hb dX13_standFor_15 rfl (lv_at hl 0 rfl) ?_
    refine lv_ldc (v := (-1000001)) hx hb hown (hts _ q1296) dX13_standFor_16 ?_
    refine n_calli (va_runV ⟨hx, hb, hml, hown, hts⟩ (tM_finding l G ad _ _ (-1000001) 0 (by decide) (by decide)) (cwV 1 hts (lw_V q1297 q1299 qs53 q106 q1300) rfl rfl rfl hdS_X13_finding ⟨by decide, by decide⟩) (hw.preV (k := 0) rfl rfl) rfl rfl hl.1 rfl (lv_room (by simp [Value.category])) dX13_standFor_18 ⟨Nat.zero_le _, Nat.zero_le _⟩) hw (fun r_18 u_18 H locs e_18 hw => ?_)
    obtain ⟨rfl, rfl⟩ := e_18
    have hw : nS G (mE G ad _ _) s H locs := hw
    exact m_iret hx hb hr hlk rfl hw (by rw [standForO, if_pos c_5]; first | (rw [ij, iq]; (first | exact ⟨rfl, _, rfl⟩ | exact ⟨rfl, _, sc_self _ _⟩)) | (rw [ij]; (first | exact ⟨rfl, _, rfl⟩ | exact ⟨rfl, _, sc_self _ _⟩)) | (rw [iq]; (first | exact ⟨rfl, _, rfl⟩ | exact ⟨rfl, _, sc_self _ _⟩)) | (first | exact ⟨rfl, _, rfl⟩ | exact ⟨rfl, _, sc_self _ _⟩)) dX13_standFor_21
  · skip
    obtain ⟨j, hjn, hj, rfl⟩ := in_num en hn c_5
    have ij : ix (nI j) = j := nI_clamp (by omega)
    refine lv_iload_n hx hb dX13_standFor_8 rfl (lv_at hl 2 rfl) ?_
    refine n_callp (va_runS ⟨hx, hb, hml, hown, hts⟩ (tM_isThought l _) (va_cwS 1 hts (lw_S q1471 q1472 q106 q1473) rfl rfl rfl (hdS_X13_isThought).2 ⟨by decide, by decide⟩) pu_pre rfl rfl hl.1 rfl (lv_room (by simp [Value.category])) dX13_standFor_9 ⟨Nat.zero_le _, Nat.zero_le _⟩) (fun r_9 e_9 => ?_)
    subst e_9
    refine lv_if_ne (tgt := 22) hx hb dX13_standFor_12 (by decide) (fun c_12 => ?_) (fun c_12 => ?_)
    · skip
      obtain ⟨q, hq, rfl⟩ := in_nat (N := 40) rfl (by decide) c_12
      have iq : ix (nI q) = q := nI_clamp (by omega)
      refine lv_iconst (v := 0) hx hb dX13_standFor_22 (by decide) ?_
      refine lv_istore_n hx hb dX13_standFor_23 rfl hl (by decide) rfl (fun ls hl => ?_)
      refine lv_iconst (v := (-1)) hx hb dX13_standFor_24 (by decide) ?_
      refine lv_istore hx hb dX13_standFor_25 hl (by decide) rfl (fun ls hl => ?_)
      refine lv_iconst (v := 0) hx hb dX13_standFor_27 (by decide) ?_
      refine lv_istore hx hb dX13_standFor_28 hl (by decide) rfl (fun ls hl => ?_)
      refine n_loop (α := Nat × rw84) (fun x H locs ls => x.1 ≤ 7 ∧ nS G (mE G ad w (ur M 2 x.2)) s H locs ∧ lv_has ls 7 [(0, .ref (ad 0)), (1, .int (nI j)), (2, .int (nI q)), (3, .int (bestF (fun v => thrN (chF w v (nI j)) q 3) x.1).1), (4, .int (bestF (fun v => thrN (chF w v (nI j)) q 3) x.1).2), (5, .int (nI x.1))]) (fun x => 7 - x.1) 30 ?_ (0, M 2) _ _ _ ⟨Nat.zero_le _, by rw [ur_self]; exact hw, (lv_sub hl [3, 4, 5, 2, 1, 0] rfl)⟩
      clear hl hw
      intro x H locs ls hI ih_30
      obtain ⟨hv, hw, hl⟩ := hI
      obtain ⟨v, g⟩ := x
      dsimp only at hv hw hl
      refine lv_iload hx hb dX13_standFor_30 (lv_at hl 5 rfl) ?_
      refine lv_bipush (v := 7) hx hb dX13_standFor_32 (by decide) ?_
      refine lv_icmp_ge (tgt := 76) hx hb dX13_standFor_34 (by decide) (fun c_34 => ?_) (fun c_34 => ?_)
      · skip
        have n_34 : 7 ≤ v := (nI_leI (a := 7) (b := v) (by omega) (by omega)).mp c_34
        obtain rfl : v = 7 := by omega
        refine lv_iload_n hx hb dX13_standFor_76 rfl (lv_at hl 3 rfl) ?_
        exact m_iret hx hb hr hlk rfl hw (by rw [standForO, if_neg c_5, if_neg c_12, iq]; exact ⟨rfl, _, rfl⟩) dX13_standFor_77
      · skip
        have n_34 : ¬ 7 ≤ v := fun h => c_34 ((nI_leI (a := 7) (b := v) (by omega) (by omega)).mpr h)
        refine lv_aload_n hx hb dX13_standFor_37 rfl (lv_at hl 0 rfl) ?_
        refine lv_iload_n hx hb dX13_standFor_38 rfl (lv_at hl 1 rfl) ?_
        refine lv_iload hx hb dX13_standFor_39 (lv_at hl 5 rfl) ?_
        refine lv_iload_n hx hb dX13_standFor_41 rfl (lv_at hl 2 rfl) ?_
        refine n_calli (va_runV ⟨hx, hb, hml, hown, hts⟩ (tM_metresStanding l G ad _ _ j v q B hj (by omega) (hI.ch (by omega) (Or.inr ⟨j, n, en, hn, hjn, rfl⟩)) (by omega)) (cwV 3 hts (lw_V q1486 q1488 qs73 q106 q1489) rfl rfl rfl hdS_X13_metresStanding ⟨by decide, by decide⟩) (hw.preV (k := 0) rfl rfl) rfl rfl hl.1 rfl (lv_room (by simp [Value.category])) dX13_standFor_42 ⟨Nat.zero_le _, Nat.zero_le _⟩) hw (fun r_42 u_42 H locs e_42 hw => ?_)
        obtain ⟨rfl, rfl⟩ := e_42
        have hw : nS G (mE G ad _ _) s H locs := hw
        rw [ur_ur] at hw
        refine lv_istore hx hb dX13_standFor_45 hl (by decide) rfl (fun ls hl => ?_)
        refine lv_iload hx hb dX13_standFor_47 (lv_at hl 0 rfl) ?_
        refine lv_iload hx hb dX13_standFor_49 (lv_at hl 5 rfl) ?_
        refine lv_icmp_le (tgt := 59) hx hb dX13_standFor_51 (by decide) (fun c_51 => ?_) (fun c_51 => ?_)
        · skip
          refine lv_iload_n hx hb dX13_standFor_59 rfl (lv_at hl 4 rfl) ?_
          refine lv_istore_n hx hb dX13_standFor_60 rfl hl (by decide) rfl (fun ls hl => ?_)
          refine lv_iload hx hb dX13_standFor_61 (lv_at hl 5 rfl) ?_
          refine lv_iload hx hb dX13_standFor_63 (lv_at hl 1 rfl) ?_
          refine va_mmax hx hb (hml.trans hl.1.symm) hown (hts _ q1369) (hts _ q625) (hts _ q108) (hts _ q626) (by decide) (by simp [Value.category]) (Nat.zero_le _) (Nat.zero_le _) dX13_standFor_65 ?_
          refine lv_istore hx hb dX13_standFor_68 hl (by decide) rfl (fun ls hl => ?_)
          refine lv_iinc (v := nI (v + 1)) hx hb dX13_standFor_70 hl (k := 6) rfl (nI_1 _) (by decide) rfl (fun ls hl => ?_)
          refine lv_goto (tgt := 30) hx hb dX13_standFor_73 (by decide) ?_
          exact ih_30 (v + 1, w) _ _ _ (by first | omega | (dsimp only; omega)) ⟨by dsimp only; omega, hw, by dsimp only; rw [bestF, if_pos c_51]; exact (lv_sub hl [4, 5, 6, 2, 1, 0] rfl)⟩
        · skip
          refine lv_iload hx hb dX13_standFor_54 (lv_at hl 6 rfl) ?_
          refine lv_goto (tgt := 60) hx hb dX13_standFor_56 (by decide) ?_
          refine lv_istore_n hx hb dX13_standFor_60 rfl hl (by decide) rfl (fun ls hl => ?_)
          refine lv_iload hx hb dX13_standFor_61 (lv_at hl 5 rfl) ?_
          refine lv_iload hx hb dX13_standFor_63 (lv_at hl 1 rfl) ?_
          refine va_mmax hx hb (hml.trans hl.1.symm) hown (hts _ q1369) (hts _ q625) (hts _ q108) (hts _ q626) (by decide) (by simp [Value.category]) (Nat.zero_le _) (Nat.zero_le _) dX13_standFor_65 ?_
          refine lv_istore hx hb dX13_standFor_68 hl (by decide) rfl (fun ls hl => ?_)
          refine lv_iinc (v := nI (v + 1)) hx hb dX13_standFor_70 hl (k := 6) rfl (nI_1 _) (by decide) rfl (fun ls hl => ?_)
          refine lv_goto (tgt := 30) hx hb dX13_standFor_73 (by decide) ?_
          exact ih_30 (v + 1, w) _ _ _ (by first | omega | (dsimp only; omega)) ⟨by dsimp only; omega, hw, by dsimp only; rw [bestF, if_neg c_51]; exact (lv_sub hl [4, 5, 6, 2, 1, 0] rfl)⟩
    · skip
      refine lv_aload_n hx hb dX13_standFor_15 rfl (lv_at hl 0 rfl) ?_
      refine lv_ldc (v := (-1000001)) hx hb hown (hts _ q1296) dX13_standFor_16 ?_
      refine n_calli (va_runV ⟨hx, hb, hml, hown, hts⟩ (tM_finding l G ad _ _ (-1000001) 0 (by decide) (by decide)) (cwV 1 hts (lw_V q1297 q1299 qs53 q106 q1300) rfl rfl rfl hdS_X13_finding ⟨by decide, by decide⟩) (hw.preV (k := 0) rfl rfl) rfl rfl hl.1 rfl (lv_room (by simp [Value.category])) dX13_standFor_18 ⟨Nat.zero_le _, Nat.zero_le _⟩) hw (fun r_18 u_18 H locs e_18 hw => ?_)
      obtain ⟨rfl, rfl⟩ := e_18
      have hw : nS G (mE G ad _ _) s H locs := hw
      exact m_iret hx hb hr hlk rfl hw (by rw [standForO, if_neg c_5, if_pos c_12]; first | (rw [ij, iq]; (first | exact ⟨rfl, _, rfl⟩ | exact ⟨rfl, _, sc_self _ _⟩)) | (rw [ij]; (first | exact ⟨rfl, _, rfl⟩ | exact ⟨rfl, _, sc_self _ _⟩)) | (rw [iq]; (first | exact ⟨rfl, _, rfl⟩ | exact ⟨rfl, _, sc_self _ _⟩)) | (first | exact ⟨rfl, _, rfl⟩ | exact ⟨rfl, _, sc_self _ _⟩)) dX13_standFor_21
theorem hdS_X13_kindFor : yX13_kindFor.cls = "LineCallsModel" ∧ yX13_kindFor.cls ≠ "java/lang/invoke/MethodHandle" ∧ yX13_kindFor.cls ≠ "java/lang/invoke/VarHandle" ∧ (parseMethodDescriptor yX13_kindFor.desc).map (fun d => d.parameters.length) = some 2 := by decide +kernel
set_option maxHeartbeats 4000000 in
theorem tM_kindFor (l : Launch) (G : nG) (ad : Nat → Nat) (w : rw84) (M : mM) (k x : Int32) (B : Nat) (hI : Inv B w) (hB : B ≤ 100000) : Met l yX13_kindFor (ws_ yX13_kindFor cX13_kindFor 3 (some .int)) { frames := 9, cells := 0, slots := 0, locals := 209 } (va_Pc [.ref (ad 0), .int k, .int x] (nC G (mE G ad w M))) (va_Qi (fun (r : Int32) (u : rw84 × mM) => r = (kindForO w k x).1 ∧ ∃ g, u = ((kindForO w k x).2.1, ur (fnd (kindForO w k x).2.2 M) 2 g)) (fun u => nC G (mE G ad u.1 u.2)) (nA G)) 0 0 (nA G) := by
  refine n_head (by decide) (Nat.le_of_ble_eq_true rfl) ?_
  intro p e s m below meth c ls hx hb hr hlk hml hown hts hB0 hl
  have hown : s.vm.findClass "LineCallsModel" = some m.cls := hown
  have hw := nS.start hB0
  have hl : lv_has ls 3 [(0, .ref (ad 0)), (1, .int k), (2, .int x)] := hl
  obtain ⟨n, hn, en⟩ := hI.num
  refine lv_aload_n hx hb dX13_kindFor_0 rfl (lv_at hl 0 rfl) ?_
  refine lv_iload_n hx hb dX13_kindFor_1 rfl (lv_at hl 1 rfl) ?_
  refine n_callp (va_runV ⟨hx, hb, hml, hown, hts⟩ (tM_isJumper l G ad _ _ _) (cwV 1 hts (lw_V q1284 q1286 qs50 q106 q1287) rfl rfl rfl hdS_X13_isJumper ⟨by decide, by decide⟩) (hw.preV (k := 0) rfl rfl) rfl rfl hl.1 rfl (lv_room (by simp [Value.category])) dX13_kindFor_2 ⟨Nat.zero_le _, Nat.zero_le _⟩) (fun r_2 e_2 => ?_)
  subst e_2
  refine lv_if_eq (tgt := 35) hx hb dX13_kindFor_5 (by decide) (fun c_5 => ?_) (fun c_5 => ?_)
  · skip
    refine lv_aload_n hx hb dX13_kindFor_35 rfl (lv_at hl 0 rfl) ?_
    refine lv_ldc (v := (-1000001)) hx hb hown (hts _ q1296) dX13_kindFor_36 ?_
    refine n_calli (va_runV ⟨hx, hb, hml, hown, hts⟩ (tM_finding l G ad _ _ (-1000001) 0 (by decide) (by decide)) (cwV 1 hts (lw_V q1297 q1299 qs53 q106 q1300) rfl rfl rfl hdS_X13_finding ⟨by decide, by decide⟩) (hw.preV (k := 0) rfl rfl) rfl rfl hl.1 rfl (lv_room (by simp [Value.category])) dX13_kindFor_38 ⟨Nat.zero_le _, Nat.zero_le _⟩) hw (fun r_38 u_38 H locs e_38 hw => ?_)
    obtain ⟨rfl, rfl⟩ := e_38
    have hw : nS G (mE G ad _ _) s H locs := hw
    exact m_iret hx hb hr hlk rfl hw (by rw [kindForO, if_pos c_5]; first | (rw [ij, iq]; (first | exact ⟨rfl, _, rfl⟩ | exact ⟨rfl, _, sc_self _ _⟩)) | (rw [ij]; (first | exact ⟨rfl, _, rfl⟩ | exact ⟨rfl, _, sc_self _ _⟩)) | (rw [iq]; (first | exact ⟨rfl, _, rfl⟩ | exact ⟨rfl, _, sc_self _ _⟩)) | (first | exact ⟨rfl, _, rfl⟩ | exact ⟨rfl, _, sc_self _ _⟩)) dX13_kindFor_41
  · skip
    obtain ⟨j, hjn, hj, rfl⟩ := in_num en hn c_5
    have ij : ix (nI j) = j := nI_clamp (by omega)
    refine lv_iload_n hx hb dX13_kindFor_8 rfl (lv_at hl 2 rfl) ?_
    refine n_callp (va_runS ⟨hx, hb, hml, hown, hts⟩ (tM_isThought l _) (va_cwS 1 hts (lw_S q1471 q1472 q106 q1473) rfl rfl rfl (hdS_X13_isThought).2 ⟨by decide, by decide⟩) pu_pre rfl rfl hl.1 rfl (lv_room (by simp [Value.category])) dX13_kindFor_9 ⟨Nat.zero_le _, Nat.zero_le _⟩) (fun r_9 e_9 => ?_)
    subst e_9
    refine lv_if_eq (tgt := 35) hx hb dX13_kindFor_12 (by decide) (fun c_12 => ?_) (fun c_12 => ?_)
    · skip
      refine lv_aload_n hx hb dX13_kindFor_35 rfl (lv_at hl 0 rfl) ?_
      refine lv_ldc (v := (-1000001)) hx hb hown (hts _ q1296) dX13_kindFor_36 ?_
      refine n_calli (va_runV ⟨hx, hb, hml, hown, hts⟩ (tM_finding l G ad _ _ (-1000001) 0 (by decide) (by decide)) (cwV 1 hts (lw_V q1297 q1299 qs53 q106 q1300) rfl rfl rfl hdS_X13_finding ⟨by decide, by decide⟩) (hw.preV (k := 0) rfl rfl) rfl rfl hl.1 rfl (lv_room (by simp [Value.category])) dX13_kindFor_38 ⟨Nat.zero_le _, Nat.zero_le _⟩) hw (fun r_38 u_38 H locs e_38 hw => ?_)
      obtain ⟨rfl, rfl⟩ := e_38
      have hw : nS G (mE G ad _ _) s H locs := hw
      exact m_iret hx hb hr hlk rfl hw (by rw [kindForO, if_neg c_5, if_pos c_12]; first | (rw [ij, iq]; (first | exact ⟨rfl, _, rfl⟩ | exact ⟨rfl, _, sc_self _ _⟩)) | (rw [ij]; (first | exact ⟨rfl, _, rfl⟩ | exact ⟨rfl, _, sc_self _ _⟩)) | (rw [iq]; (first | exact ⟨rfl, _, rfl⟩ | exact ⟨rfl, _, sc_self _ _⟩)) | (first | exact ⟨rfl, _, rfl⟩ | exact ⟨rfl, _, sc_self _ _⟩)) dX13_kindFor_41
    · skip
      obtain ⟨q, hq, rfl⟩ := in_nat (N := 40) rfl (by decide) c_12
      have iq : ix (nI q) = q := nI_clamp (by omega)
      refine lv_aload_n hx hb dX13_kindFor_15 rfl (lv_at hl 0 rfl) ?_
      refine lv_iload_n hx hb dX13_kindFor_16 rfl (lv_at hl 1 rfl) ?_
      refine lv_iconst (v := 0) hx hb dX13_kindFor_17 (by decide) ?_
      refine n_callp (va_runS ⟨hx, hb, hml, hown, hts⟩ (tM_jumperAt l (j) (0)) (va_cwS 2 hts (lw_S q1354 q1355 q106 q1356) rfl rfl rfl (hdS_X13_jumperAt).2 ⟨by decide, by decide⟩) pu_pre rfl rfl hl.1 rfl (lv_room (by simp [Value.category])) dX13_kindFor_18 ⟨Nat.zero_le _, Nat.zero_le _⟩) (fun r_18 e_18 => ?_)
      subst e_18
      refine lv_bipush (v := 6) hx hb dX13_kindFor_21 (by decide) ?_
      refine lv_iload_n hx hb dX13_kindFor_23 rfl (lv_at hl 1 rfl) ?_
      refine lv_iconst (v := 3) hx hb dX13_kindFor_24 (by decide) ?_
      refine n_callp (va_runS ⟨hx, hb, hml, hown, hts⟩ (tM_jumperAt l (j) (3)) (va_cwS 2 hts (lw_S q1354 q1355 q106 q1356) rfl rfl rfl (hdS_X13_jumperAt).2 ⟨by decide, by decide⟩) pu_pre rfl rfl hl.1 rfl (lv_room (by simp [Value.category])) dX13_kindFor_25 ⟨Nat.zero_le _, Nat.zero_le _⟩) (fun r_25 e_25 => ?_)
      subst e_25
      refine lv_iload_n hx hb dX13_kindFor_28 rfl (lv_at hl 2 rfl) ?_
      refine n_calli (va_runV ⟨hx, hb, hml, hown, hts⟩ (tM_bestFor l G ad _ _ (44 + 5 * j + 0) 6 (44 + 5 * j + 3) q B (by omega) (by omega) (by decide) (fun v hv => hI.kindU hj hv) (by omega)) (cwV 4 hts (lw_V q1474 q1476 qs72 q106 q1477) rfl rfl rfl hdS_X13_bestFor ⟨by decide, by decide⟩) (hw.preV (k := 0) rfl rfl) rfl rfl hl.1 rfl (lv_room (by simp [Value.category])) dX13_kindFor_29 ⟨Nat.zero_le _, Nat.zero_le _⟩) hw (fun r_29 u_29 H locs e_29 hw => ?_)
      obtain ⟨rfl, g_29, rfl⟩ := e_29
      have hw : nS G (mE G ad _ _) s H locs := hw
      refine lv_goto (tgt := 41) hx hb dX13_kindFor_32 (by decide) ?_
      exact m_iret hx hb hr hlk rfl hw (by rw [kindForO, if_neg c_5, if_neg c_12]; first | (rw [ij, iq]; (first | exact ⟨rfl, _, rfl⟩ | exact ⟨rfl, _, sc_self _ _⟩)) | (rw [ij]; (first | exact ⟨rfl, _, rfl⟩ | exact ⟨rfl, _, sc_self _ _⟩)) | (rw [iq]; (first | exact ⟨rfl, _, rfl⟩ | exact ⟨rfl, _, sc_self _ _⟩)) | (first | exact ⟨rfl, _, rfl⟩ | exact ⟨rfl, _, sc_self _ _⟩)) dX13_kindFor_41
theorem hdS_X13_tallFor : yX13_tallFor.cls = "LineCallsModel" ∧ yX13_tallFor.cls ≠ "java/lang/invoke/MethodHandle" ∧ yX13_tallFor.cls ≠ "java/lang/invoke/VarHandle" ∧ (parseMethodDescriptor yX13_tallFor.desc).map (fun d => d.parameters.length) = some 3 := by decide +kernel
set_option maxHeartbeats 4000000 in
theorem tM_tallFor (l : Launch) (G : nG) (ad : Nat → Nat) (w : rw84) (M : mM) (k y x : Int32) (B : Nat) (hI : Inv B w) (hB : B ≤ 100000) : Met l yX13_tallFor (ws_ yX13_tallFor cX13_tallFor 8 (some .int)) { frames := 8, cells := 0, slots := 0, locals := 180 } (va_Pc [.ref (ad 0), .int k, .int y, .int x] (nC G (mE G ad w M))) (va_Qi (fun (r : Int32) (u : rw84 × mM) => r = (tallForO w k y x).1 ∧ ∃ g, u = ((tallForO w k y x).2.1, ur (fnd (tallForO w k y x).2.2 M) 2 g)) (fun u => nC G (mE G ad u.1 u.2)) (nA G)) 0 0 (nA G) := by
  refine n_head (by decide) (Nat.le_of_ble_eq_true rfl) ?_
  intro p e s m below meth c ls hx hb hr hlk hml hown hts hB0 hl
  have hown : s.vm.findClass "LineCallsModel" = some m.cls := hown
  have hw := nS.start hB0
  have hl : lv_has ls 8 [(0, .ref (ad 0)), (1, .int k), (2, .int y), (3, .int x)] := hl
  obtain ⟨n, hn, en⟩ := hI.num
  refine lv_aload_n hx hb dX13_tallFor_0 rfl (lv_at hl 0 rfl) ?_
  refine lv_iload_n hx hb dX13_tallFor_1 rfl (lv_at hl 1 rfl) ?_
  refine n_callp (va_runV ⟨hx, hb, hml, hown, hts⟩ (tM_isJumper l G ad _ _ _) (cwV 1 hts (lw_V q1284 q1286 qs50 q106 q1287) rfl rfl rfl hdS_X13_isJumper ⟨by decide, by decide⟩) (hw.preV (k := 0) rfl rfl) rfl rfl hl.1 rfl (lv_room (by simp [Value.category])) dX13_tallFor_2 ⟨Nat.zero_le _, Nat.zero_le _⟩) (fun r_2 e_2 => ?_)
  subst e_2
  refine lv_if_eq (tgt := 26) hx hb dX13_tallFor_5 (by decide) (fun c_5 => ?_) (fun c_5 => ?_)
  · skip
    refine lv_aload_n hx hb dX13_tallFor_26 rfl (lv_at hl 0 rfl) ?_
    refine lv_ldc (v := (-1000001)) hx hb hown (hts _ q1296) dX13_tallFor_27 ?_
    refine n_calli (va_runV ⟨hx, hb, hml, hown, hts⟩ (tM_finding l G ad _ _ (-1000001) 0 (by decide) (by decide)) (cwV 1 hts (lw_V q1297 q1299 qs53 q106 q1300) rfl rfl rfl hdS_X13_finding ⟨by decide, by decide⟩) (hw.preV (k := 0) rfl rfl) rfl rfl hl.1 rfl (lv_room (by simp [Value.category])) dX13_tallFor_29 ⟨Nat.zero_le _, Nat.zero_le _⟩) hw (fun r_29 u_29 H locs e_29 hw => ?_)
    obtain ⟨rfl, rfl⟩ := e_29
    have hw : nS G (mE G ad _ _) s H locs := hw
    exact m_iret hx hb hr hlk rfl hw (by rw [tallForO, if_pos c_5]; first | (rw [ij, iq]; (first | exact ⟨rfl, _, rfl⟩ | exact ⟨rfl, _, sc_self _ _⟩)) | (rw [ij]; (first | exact ⟨rfl, _, rfl⟩ | exact ⟨rfl, _, sc_self _ _⟩)) | (rw [iq]; (first | exact ⟨rfl, _, rfl⟩ | exact ⟨rfl, _, sc_self _ _⟩)) | (first | exact ⟨rfl, _, rfl⟩ | exact ⟨rfl, _, sc_self _ _⟩)) dX13_tallFor_32
  · skip
    obtain ⟨j, hjn, hj, rfl⟩ := in_num en hn c_5
    have ij : ix (nI j) = j := nI_clamp (by omega)
    refine lv_iload_n hx hb dX13_tallFor_8 rfl (lv_at hl 2 rfl) ?_
    refine lv_iconst (v := 0) hx hb dX13_tallFor_9 (by decide) ?_
    refine lv_sipush (v := 9999) hx hb dX13_tallFor_10 (by decide) ?_
    refine n_callp (va_runS ⟨hx, hb, hml, hown, hts⟩ (tM_within l _ _ _) (va_cwS 3 hts (lw_S q1281 q1282 q106 q1283) rfl rfl rfl (hdS_X13_within).2 ⟨by decide, by decide⟩) pu_pre rfl rfl hl.1 rfl (lv_room (by simp [Value.category])) dX13_tallFor_13 ⟨Nat.zero_le _, Nat.zero_le _⟩) (fun r_13 e_13 => ?_)
    subst e_13
    refine lv_if_eq (tgt := 26) hx hb dX13_tallFor_16 (by decide) (fun c_16 => ?_) (fun c_16 => ?_)
    · skip
      refine lv_aload_n hx hb dX13_tallFor_26 rfl (lv_at hl 0 rfl) ?_
      refine lv_ldc (v := (-1000001)) hx hb hown (hts _ q1296) dX13_tallFor_27 ?_
      refine n_calli (va_runV ⟨hx, hb, hml, hown, hts⟩ (tM_finding l G ad _ _ (-1000001) 0 (by decide) (by decide)) (cwV 1 hts (lw_V q1297 q1299 qs53 q106 q1300) rfl rfl rfl hdS_X13_finding ⟨by decide, by decide⟩) (hw.preV (k := 0) rfl rfl) rfl rfl hl.1 rfl (lv_room (by simp [Value.category])) dX13_tallFor_29 ⟨Nat.zero_le _, Nat.zero_le _⟩) hw (fun r_29 u_29 H locs e_29 hw => ?_)
      obtain ⟨rfl, rfl⟩ := e_29
      have hw : nS G (mE G ad _ _) s H locs := hw
      exact m_iret hx hb hr hlk rfl hw (by rw [tallForO, if_neg c_5, if_pos c_16]; first | (rw [ij, iq]; (first | exact ⟨rfl, _, rfl⟩ | exact ⟨rfl, _, sc_self _ _⟩)) | (rw [ij]; (first | exact ⟨rfl, _, rfl⟩ | exact ⟨rfl, _, sc_self _ _⟩)) | (rw [iq]; (first | exact ⟨rfl, _, rfl⟩ | exact ⟨rfl, _, sc_self _ _⟩)) | (first | exact ⟨rfl, _, rfl⟩ | exact ⟨rfl, _, sc_self _ _⟩)) dX13_tallFor_32
    · skip
      refine lv_iload_n hx hb dX13_tallFor_19 rfl (lv_at hl 3 rfl) ?_
      refine n_callp (va_runS ⟨hx, hb, hml, hown, hts⟩ (tM_isThought l _) (va_cwS 1 hts (lw_S q1471 q1472 q106 q1473) rfl rfl rfl (hdS_X13_isThought).2 ⟨by decide, by decide⟩) pu_pre rfl rfl hl.1 rfl (lv_room (by simp [Value.category])) dX13_tallFor_20 ⟨Nat.zero_le _, Nat.zero_le _⟩) (fun r_20 e_20 => ?_)
      subst e_20
      refine lv_if_ne (tgt := 33) hx hb dX13_tallFor_23 (by decide) (fun c_23 => ?_) (fun c_23 => ?_)
      · skip
        obtain ⟨q, hq, rfl⟩ := in_nat (N := 40) rfl (by decide) c_23
        have iq : ix (nI q) = q := nI_clamp (by omega)
        refine lv_iload_n hx hb dX13_tallFor_33 rfl (lv_at hl 1 rfl) ?_
        refine lv_iconst (v := 1) hx hb dX13_tallFor_34 (by decide) ?_
        refine n_callp (va_runS ⟨hx, hb, hml, hown, hts⟩ (tM_jumperAt l (j) (1)) (va_cwS 2 hts (lw_S q1354 q1355 q106 q1356) rfl rfl rfl (hdS_X13_jumperAt).2 ⟨by decide, by decide⟩) pu_pre rfl rfl hl.1 rfl (lv_room (by simp [Value.category])) dX13_tallFor_35 ⟨Nat.zero_le _, Nat.zero_le _⟩) (fun r_35 e_35 => ?_)
        subst e_35
        refine lv_istore hx hb dX13_tallFor_38 hl (by decide) rfl (fun ls hl => ?_)
        refine lv_aload_n hx hb dX13_tallFor_40 rfl (lv_at hl 1 rfl) ?_
        refine n_get (k := 0) hx hb hts in_X13 hown hw rfl rfl 0 (by decide) q1198 rfl dX13_tallFor_41 ?_
        refine lv_iload hx hb dX13_tallFor_44 (lv_at hl 0 rfl) ?_
        refine n_iald (k := 1) (j := 44 + 5 * j + 1) hx hb hw rfl rfl (by omega) (by decide) dX13_tallFor_46 ?_
        refine lv_istore hx hb dX13_tallFor_47 hl (by decide) rfl (fun ls hl => ?_)
        refine lv_iconst (v := (-1)) hx hb dX13_tallFor_49 (by decide) ?_
        refine lv_istore hx hb dX13_tallFor_50 hl (by decide) rfl (fun ls hl => ?_)
        refine lv_bipush (v := 99) hx hb dX13_tallFor_52 (by decide) ?_
        refine lv_istore hx hb dX13_tallFor_54 hl (by decide) rfl (fun ls hl => ?_)
        refine n_loop (α := Nat × rw84) (fun x H locs ls => x.1 ≤ 100 ∧ nS G (mE G ad (tdF w (44 + 5 * j + 1) x.1) (ur M 2 x.2)) s H locs ∧ lv_has ls 8 [(0, .ref (ad 0)), (1, .int (nI j)), (2, .int y), (3, .int (nI q)), (4, .int (nI (44 + 5 * j + 1))), (5, .int (w (44 + 5 * j + 1))), (6, .int (tlF (fun t => thrN (upd w (44 + 5 * j + 1) (nI t)) q (44 + 5 * j + 3)) y x.1)), (7, .int (dn x.1))]) (fun x => 100 - x.1) 56 ?_ (0, M 2) _ _ _ ⟨Nat.zero_le _, by rw [ur_self]; exact hw, (lv_sub hl [4, 5, 6, 7, 3, 2, 1, 0] rfl)⟩
        clear hl hw
        intro x H locs ls hI ih_56
        obtain ⟨hi, hw, hl⟩ := hI
        obtain ⟨t, g⟩ := x
        dsimp only at hi hw hl
        refine lv_iload hx hb dX13_tallFor_56 (lv_at hl 7 rfl) ?_
        refine lv_if_lt (tgt := 99) hx hb dX13_tallFor_58 (by decide) (fun c_58 => ?_) (fun c_58 => ?_)
        · skip
          have hy := dn_neg c_58
          obtain rfl : t = 100 := by omega
          refine lv_aload_n hx hb dX13_tallFor_99 rfl (lv_at hl 0 rfl) ?_
          refine n_get (k := 0) hx hb hts in_X13 hown hw rfl rfl 0 (by decide) q1198 rfl dX13_tallFor_100 ?_
          refine lv_iload hx hb dX13_tallFor_103 (lv_at hl 4 rfl) ?_
          refine lv_iload hx hb dX13_tallFor_105 (lv_at hl 5 rfl) ?_
          refine m_iastw (j := 44 + 5 * j + 1) hx hb hw rfl (by omega) dX13_tallFor_107 (fun H locs hw => ?_)
          rw [td_up, up_self] at hw
          refine lv_aload_n hx hb dX13_tallFor_108 rfl (lv_at hl 0 rfl) ?_
          refine lv_iload hx hb dX13_tallFor_109 (lv_at hl 6 rfl) ?_
          refine n_calli (va_runV ⟨hx, hb, hml, hown, hts⟩ (tM_orNone l G ad _ _ _) (cwV 1 hts (lw_V q1458 q1460 qs71 q106 q1461) rfl rfl rfl hdS_X13_orNone ⟨by decide, by decide⟩) (hw.preV (k := 0) rfl rfl) rfl rfl hl.1 rfl (lv_room (by simp [Value.category])) dX13_tallFor_111 ⟨Nat.zero_le _, Nat.zero_le _⟩) hw (fun r_111 u_111 H locs e_111 hw => ?_)
          obtain ⟨rfl, rfl⟩ := e_111
          have hw : nS G (mE G ad _ _) s H locs := hw
          exact m_iret hx hb hr hlk rfl hw (by rw [tallForO, if_neg c_5, if_neg c_16, if_neg c_23, ij, iq]; exact none_ret _ _ _ _) dX13_tallFor_114
        · skip
          have hy := dn_pos c_58
          refine lv_aload_n hx hb dX13_tallFor_61 rfl (lv_at hl 0 rfl) ?_
          refine n_get (k := 0) hx hb hts in_X13 hown hw rfl rfl 0 (by decide) q1198 rfl dX13_tallFor_62 ?_
          refine lv_iload hx hb dX13_tallFor_65 (lv_at hl 4 rfl) ?_
          refine lv_iload hx hb dX13_tallFor_67 (lv_at hl 7 rfl) ?_
          refine n_topE (dn_at hy) ?_
          refine m_iastw (j := 44 + 5 * j + 1) hx hb hw rfl (by omega) dX13_tallFor_69 (fun H locs hw => ?_)
          rw [td_up] at hw
          refine lv_aload_n hx hb dX13_tallFor_70 rfl (lv_at hl 0 rfl) ?_
          refine lv_iload_n hx hb dX13_tallFor_71 rfl (lv_at hl 1 rfl) ?_
          refine lv_iconst (v := 3) hx hb dX13_tallFor_72 (by decide) ?_
          refine n_callp (va_runS ⟨hx, hb, hml, hown, hts⟩ (tM_jumperAt l (j) (3)) (va_cwS 2 hts (lw_S q1354 q1355 q106 q1356) rfl rfl rfl (hdS_X13_jumperAt).2 ⟨by decide, by decide⟩) pu_pre rfl rfl hl.1 rfl (lv_room (by simp [Value.category])) dX13_tallFor_73 ⟨Nat.zero_le _, Nat.zero_le _⟩) (fun r_73 e_73 => ?_)
          subst e_73
          refine lv_iload_n hx hb dX13_tallFor_76 rfl (lv_at hl 3 rfl) ?_
          refine n_calli (va_runV ⟨hx, hb, hml, hown, hts⟩ (tM_behind l G ad _ _ (44 + 5 * j + 3) q B (by omega) (hI.tallU _ hj) (by omega)) (cwV 2 hts (lw_V q1450 q1452 qs70 q106 q1453) rfl rfl rfl hdS_X13_behind ⟨by decide, by decide⟩) (hw.preV (k := 0) rfl rfl) rfl rfl hl.1 rfl (lv_room (by simp [Value.category])) dX13_tallFor_77 ⟨Nat.zero_le _, Nat.zero_le _⟩) hw (fun r_77 u_77 H locs e_77 hw => ?_)
          obtain ⟨rfl, rfl⟩ := e_77
          have hw : nS G (mE G ad _ _) s H locs := hw
          rw [ur_ur] at hw
          refine lv_iload_n hx hb dX13_tallFor_80 rfl (lv_at hl 2 rfl) ?_
          refine lv_icmp_lt (tgt := 89) hx hb dX13_tallFor_81 (by decide) (fun c_81 => ?_) (fun c_81 => ?_)
          · skip
            refine lv_iload hx hb dX13_tallFor_89 (lv_at hl 6 rfl) ?_
            refine lv_istore hx hb dX13_tallFor_91 hl (by decide) rfl (fun ls hl => ?_)
            refine lv_iinc (v := dn (t + 1)) hx hb dX13_tallFor_93 hl (k := 7) rfl (dn_s hy) (by decide) rfl (fun ls hl => ?_)
            refine lv_goto (tgt := 56) hx hb dX13_tallFor_96 (by decide) ?_
            exact ih_56 (t + 1, upd w (44 + 5 * j + 1) (nI (99 - t))) _ _ _ (by first | omega | (dsimp only; omega)) ⟨by dsimp only; omega, hw, by dsimp only; rw [tlF, if_pos c_81]; exact (lv_sub hl [2, 3, 4, 5, 6, 7, 1, 0] rfl)⟩
          · skip
            refine lv_iload hx hb dX13_tallFor_84 (lv_at hl 7 rfl) ?_
            refine n_topE (dn_at hy) ?_
            refine lv_goto (tgt := 91) hx hb dX13_tallFor_86 (by decide) ?_
            refine lv_istore hx hb dX13_tallFor_91 hl (by decide) rfl (fun ls hl => ?_)
            refine lv_iinc (v := dn (t + 1)) hx hb dX13_tallFor_93 hl (k := 7) rfl (dn_s hy) (by decide) rfl (fun ls hl => ?_)
            refine lv_goto (tgt := 56) hx hb dX13_tallFor_96 (by decide) ?_
            exact ih_56 (t + 1, upd w (44 + 5 * j + 1) (nI (99 - t))) _ _ _ (by first | omega | (dsimp only; omega)) ⟨by dsimp only; omega, hw, by dsimp only; rw [tlF, if_neg c_81]; exact (lv_sub hl [2, 3, 4, 5, 6, 7, 1, 0] rfl)⟩
      · skip
        refine lv_aload_n hx hb dX13_tallFor_26 rfl (lv_at hl 0 rfl) ?_
        refine lv_ldc (v := (-1000001)) hx hb hown (hts _ q1296) dX13_tallFor_27 ?_
        refine n_calli (va_runV ⟨hx, hb, hml, hown, hts⟩ (tM_finding l G ad _ _ (-1000001) 0 (by decide) (by decide)) (cwV 1 hts (lw_V q1297 q1299 qs53 q106 q1300) rfl rfl rfl hdS_X13_finding ⟨by decide, by decide⟩) (hw.preV (k := 0) rfl rfl) rfl rfl hl.1 rfl (lv_room (by simp [Value.category])) dX13_tallFor_29 ⟨Nat.zero_le _, Nat.zero_le _⟩) hw (fun r_29 u_29 H locs e_29 hw => ?_)
        obtain ⟨rfl, rfl⟩ := e_29
        have hw : nS G (mE G ad _ _) s H locs := hw
        exact m_iret hx hb hr hlk rfl hw (by rw [tallForO, if_neg c_5, if_neg c_16, if_pos c_23]; first | (rw [ij, iq]; (first | exact ⟨rfl, _, rfl⟩ | exact ⟨rfl, _, sc_self _ _⟩)) | (rw [ij]; (first | exact ⟨rfl, _, rfl⟩ | exact ⟨rfl, _, sc_self _ _⟩)) | (rw [iq]; (first | exact ⟨rfl, _, rfl⟩ | exact ⟨rfl, _, sc_self _ _⟩)) | (first | exact ⟨rfl, _, rfl⟩ | exact ⟨rfl, _, sc_self _ _⟩)) dX13_tallFor_32
theorem hdS_X13_cover : yX13_cover.cls = "LineCallsModel" ∧ yX13_cover.cls ≠ "java/lang/invoke/MethodHandle" ∧ yX13_cover.cls ≠ "java/lang/invoke/VarHandle" ∧ (parseMethodDescriptor yX13_cover.desc).map (fun d => d.parameters.length) = some 0 := by decide +kernel
set_option maxHeartbeats 4000000 in
theorem tM_cover (l : Launch) (G : nG) (ad : Nat → Nat) (w : rw84) (M : mM)  : Met l yX13_cover (ws_ yX13_cover cX13_cover 4 (some .int)) { frames := 3, cells := 0, slots := 0, locals := 68 } (va_Pc [.ref (ad 0)] (nC G (mE G ad w M))) (va_Qi (fun (r : Int32) (u : rw84 × mM) => r = (coverO w).1 ∧ u = ((coverO w).2.1, fnd (coverO w).2.2 M)) (fun u => nC G (mE G ad u.1 u.2)) (nA G)) 0 0 (nA G) := by
  refine n_head (by decide) (Nat.le_of_ble_eq_true rfl) ?_
  intro p e s m below meth c ls hx hb hr hlk hml hown hts hB0 hl
  have hown : s.vm.findClass "LineCallsModel" = some m.cls := hown
  have hw := nS.start hB0
  have hl : lv_has ls 4 [(0, .ref (ad 0))] := hl
  refine lv_aload_n hx hb dX13_cover_0 rfl (lv_at hl 0 rfl) ?_
  refine lv_bipush (v := 63) hx hb dX13_cover_1 (by decide) ?_
  refine n_callp (va_runV ⟨hx, hb, hml, hown, hts⟩ (tM_placesSaid l G ad _ _ _) (cwV 1 hts (lw_V q1428 q1430 qs68 q106 q1431) rfl rfl rfl hdS_X13_placesSaid ⟨by decide, by decide⟩) (hw.preV (k := 0) rfl rfl) rfl rfl hl.1 rfl (lv_room (by simp [Value.category])) dX13_cover_3 ⟨Nat.zero_le _, Nat.zero_le _⟩) (fun r_3 e_3 => ?_)
  subst e_3
  refine lv_istore_n hx hb dX13_cover_6 rfl hl (by decide) rfl (fun ls hl => ?_)
  refine lv_bipush (v := 63) hx hb dX13_cover_7 (by decide) ?_
  refine lv_istore_n hx hb dX13_cover_9 rfl hl (by decide) rfl (fun ls hl => ?_)
  refine lv_bipush (v := 63) hx hb dX13_cover_10 (by decide) ?_
  refine lv_istore_n hx hb dX13_cover_12 rfl hl (by decide) rfl (fun ls hl => ?_)
  refine n_loopR (α := Nat) (fun x ls => x ≤ 64 ∧ lv_has ls 4 [(0, .ref (ad 0)), (1, .int (saidF w 63 6)), (2, .int (cvF w x)), (3, .int (dw 63 x))]) (fun x => 64 - x) 13 ?_ 0 _ ⟨Nat.zero_le _, (lv_sub hl [3, 2, 1, 0] rfl)⟩
  clear hl
  intro x ls hI ih_13
  obtain ⟨hx2, hl⟩ := hI
  refine lv_iload_n hx hb dX13_cover_13 rfl (lv_at hl 3 rfl) ?_
  refine lv_if_lt (tgt := 49) hx hb dX13_cover_14 (by decide) (fun c_14 => ?_) (fun c_14 => ?_)
  · skip
    have hy := dw_neg (by decide) c_14
    obtain rfl : x = 64 := by omega
    refine lv_iload_n hx hb dX13_cover_49 rfl (lv_at hl 2 rfl) ?_
    exact m_iret hx hb hr hlk rfl hw ⟨rfl, rfl⟩ dX13_cover_50
  · skip
    have hy := dw_pos c_14
    refine lv_aload_n hx hb dX13_cover_17 rfl (lv_at hl 0 rfl) ?_
    refine lv_iload_n hx hb dX13_cover_18 rfl (lv_at hl 3 rfl) ?_
    refine n_topE (dw_at hy) ?_
    refine n_callp (va_runV ⟨hx, hb, hml, hown, hts⟩ (tM_placesSaid l G ad _ _ _) (cwV 1 hts (lw_V q1428 q1430 qs68 q106 q1431) rfl rfl rfl hdS_X13_placesSaid ⟨by decide, by decide⟩) (hw.preV (k := 0) rfl rfl) rfl rfl hl.1 rfl (lv_room (by simp [Value.category])) dX13_cover_19 ⟨Nat.zero_le _, Nat.zero_le _⟩) (fun r_19 e_19 => ?_)
    subst e_19
    refine lv_iload_n hx hb dX13_cover_22 rfl (lv_at hl 1 rfl) ?_
    refine lv_icmp_ne (tgt := 41) hx hb dX13_cover_23 (by decide) (fun c_23 => ?_) (fun c_23 => ?_)
    · skip
      refine lv_iload_n hx hb dX13_cover_41 rfl (lv_at hl 2 rfl) ?_
      refine lv_istore_n hx hb dX13_cover_42 rfl hl (by decide) rfl (fun ls hl => ?_)
      refine lv_iinc (v := dw 63 (x + 1)) hx hb dX13_cover_43 hl (k := 3) rfl (dw_s hy) (by decide) rfl (fun ls hl => ?_)
      refine lv_goto (tgt := 13) hx hb dX13_cover_46 (by decide) ?_
      exact ih_13 (x + 1) _ (by first | omega | (dsimp only; omega)) ⟨by omega, by rw [cvF, if_neg c_23]; exact (lv_sub hl [2, 3, 1, 0] rfl)⟩
    · skip
      refine lv_iload_n hx hb dX13_cover_26 rfl (lv_at hl 3 rfl) ?_
      refine n_topE (dw_at hy) ?_
      refine n_callp (va_runS ⟨hx, hb, hml, hown, hts⟩ (tM_bits l _) (va_cwS 1 hts (lw_S q1339 q1340 q106 q1341) rfl rfl rfl (hdS_X13_bits).2 ⟨by decide, by decide⟩) pu_pre rfl rfl hl.1 rfl (lv_room (by simp [Value.category])) dX13_cover_27 ⟨Nat.zero_le _, Nat.zero_le _⟩) (fun r_27 e_27 => ?_)
      subst e_27
      refine lv_iload_n hx hb dX13_cover_30 rfl (lv_at hl 2 rfl) ?_
      refine n_callp (va_runS ⟨hx, hb, hml, hown, hts⟩ (tM_bits l _) (va_cwS 1 hts (lw_S q1339 q1340 q106 q1341) rfl rfl rfl (hdS_X13_bits).2 ⟨by decide, by decide⟩) pu_pre rfl rfl hl.1 rfl (lv_room (by simp [Value.category])) dX13_cover_31 ⟨Nat.zero_le _, Nat.zero_le _⟩) (fun r_31 e_31 => ?_)
      subst e_31
      refine lv_icmp_gt (tgt := 41) hx hb dX13_cover_34 (by decide) (fun c_34 => ?_) (fun c_34 => ?_)
      · skip
        refine lv_iload_n hx hb dX13_cover_41 rfl (lv_at hl 2 rfl) ?_
        refine lv_istore_n hx hb dX13_cover_42 rfl hl (by decide) rfl (fun ls hl => ?_)
        refine lv_iinc (v := dw 63 (x + 1)) hx hb dX13_cover_43 hl (k := 3) rfl (dw_s hy) (by decide) rfl (fun ls hl => ?_)
        refine lv_goto (tgt := 13) hx hb dX13_cover_46 (by decide) ?_
        exact ih_13 (x + 1) _ (by first | omega | (dsimp only; omega)) ⟨by omega, by rw [cvF, if_pos c_23, if_pos c_34]; exact (lv_sub hl [2, 3, 1, 0] rfl)⟩
      · skip
        refine lv_iload_n hx hb dX13_cover_37 rfl (lv_at hl 3 rfl) ?_
        refine n_topE (dw_at hy) ?_
        refine lv_goto (tgt := 42) hx hb dX13_cover_38 (by decide) ?_
        refine lv_istore_n hx hb dX13_cover_42 rfl hl (by decide) rfl (fun ls hl => ?_)
        refine lv_iinc (v := dw 63 (x + 1)) hx hb dX13_cover_43 hl (k := 3) rfl (dw_s hy) (by decide) rfl (fun ls hl => ?_)
        refine lv_goto (tgt := 13) hx hb dX13_cover_46 (by decide) ?_
        exact ih_13 (x + 1) _ (by first | omega | (dsimp only; omega)) ⟨by omega, by rw [cvF, if_pos c_23, if_neg c_34]; exact (lv_sub hl [2, 3, 1, 0] rfl)⟩
theorem hdS_X13_mix : yX13_mix.cls = "LineCallsModel" ∧ yX13_mix.cls ≠ "java/lang/invoke/MethodHandle" ∧ yX13_mix.cls ≠ "java/lang/invoke/VarHandle" ∧ (parseMethodDescriptor yX13_mix.desc).map (fun d => d.parameters.length) = some 1 := by decide +kernel
set_option maxHeartbeats 4000000 in
theorem tM_mix (l : Launch) (G : nG) (ad : Nat → Nat) (w : rw84) (M : mM) (x : Int32) (B : Nat) (hI : Inv B w) (hB : B ≤ 100000) : Met l yX13_mix (ws_ yX13_mix cX13_mix 3 (some .int)) { frames := 6, cells := 0, slots := 0, locals := 136 } (va_Pc [.ref (ad 0), .int x] (nC G (mE G ad w M))) (va_Qi (fun (r : Int32) (u : rw84 × mM) => r = (mixO w x).1 ∧ u = ((mixO w x).2.1, fnd (mixO w x).2.2 M)) (fun u => nC G (mE G ad u.1 u.2)) (nA G)) 0 0 (nA G) := by
  refine n_head (by decide) (Nat.le_of_ble_eq_true rfl) ?_
  intro p e s m below meth c ls hx hb hr hlk hml hown hts hB0 hl
  have hown : s.vm.findClass "LineCallsModel" = some m.cls := hown
  have hw := nS.start hB0
  have hl : lv_has ls 3 [(0, .ref (ad 0)), (1, .int x)] := hl
  obtain ⟨n, hn, en⟩ := hI.num
  refine lv_iload_n hx hb dX13_mix_0 rfl (lv_at hl 1 rfl) ?_
  refine lv_iconst (v := 1) hx hb dX13_mix_1 (by decide) ?_
  refine lv_bipush (v := 20) hx hb dX13_mix_2 (by decide) ?_
  refine n_callp (va_runS ⟨hx, hb, hml, hown, hts⟩ (tM_within l _ _ _) (va_cwS 3 hts (lw_S q1281 q1282 q106 q1283) rfl rfl rfl (hdS_X13_within).2 ⟨by decide, by decide⟩) pu_pre rfl rfl hl.1 rfl (lv_room (by simp [Value.category])) dX13_mix_4 ⟨Nat.zero_le _, Nat.zero_le _⟩) (fun r_4 e_4 => ?_)
  subst e_4
  refine lv_if_ne (tgt := 17) hx hb dX13_mix_7 (by decide) (fun c_7 => ?_) (fun c_7 => ?_)
  · skip
    obtain ⟨q, h1q, hq, rfl⟩ := in_nat1 (N := 20) rfl (by decide) c_7
    have iq : ix (nI q) = q := nI_clamp (by omega)
    refine lv_aload_n hx hb dX13_mix_17 rfl (lv_at hl 0 rfl) ?_
    refine n_get (k := 0) hx hb hts in_X13 hown hw rfl rfl 0 (by decide) q1198 rfl dX13_mix_18 ?_
    refine lv_iconst (v := 0) hx hb dX13_mix_21 (by decide) ?_
    refine n_iald (k := 1) (j := 0) hx hb hw rfl rfl (by decide) (by decide) dX13_mix_22 ?_
    refine lv_iload_n hx hb dX13_mix_23 rfl (lv_at hl 1 rfl) ?_
    refine lv_iadd hx hb dX13_mix_24 ?_
    refine lv_ldc (v := 99999) hx hb hown (hts _ q1393) dX13_mix_25 ?_
    refine lv_icmp_le (tgt := 37) hx hb dX13_mix_27 (by decide) (fun c_27 => ?_) (fun c_27 => ?_)
    · skip
      refine lv_iconst (v := 0) hx hb dX13_mix_37 (by decide) ?_
      refine lv_istore_n hx hb dX13_mix_38 rfl hl (by decide) rfl (fun ls hl => ?_)
      refine n_loop (α := Nat) (fun k H locs ls => k ≤ q ∧ nS G (mE G ad (mixN w k) M) s H locs ∧ lv_has ls 3 [(0, .ref (ad 0)), (1, .int (nI q)), (2, .int (nI k))]) (fun k => q - k) 39 ?_ 0 _ _ _ ⟨Nat.zero_le _, hw, (lv_sub hl [1, 2, 0] rfl)⟩
      clear hl hw
      intro k H locs ls hI ih_39
      obtain ⟨hk, hw, hl⟩ := hI
      have hIk : Inv (B + k) (mixN w k) := hI.mixN (by omega)
      obtain ⟨m, hm, em⟩ := hIk.thr
      have hm6 : m % 6 < 6 := Nat.mod_lt _ (by decide)
      have im : ix (rm (mixN w k 0) 6) = m % 6 := by rw [next_eq (by omega) em]; exact nI_clamp (by omega)
      refine lv_iload_n hx hb dX13_mix_39 rfl (lv_at hl 2 rfl) ?_
      refine lv_iload_n hx hb dX13_mix_40 rfl (lv_at hl 1 rfl) ?_
      refine lv_icmp_ge (tgt := 92) hx hb dX13_mix_41 (by decide) (fun c_41 => ?_) (fun c_41 => ?_)
      · skip
        have n_41 : q ≤ k := (nI_leI (a := q) (b := k) (by omega) (by omega)).mp c_41
        obtain rfl : k = q := by omega
        refine lv_aload_n hx hb dX13_mix_92 rfl (lv_at hl 0 rfl) ?_
        refine n_get (k := 0) hx hb hts in_X13 hown hw rfl rfl 0 (by decide) q1198 rfl dX13_mix_93 ?_
        refine lv_iconst (v := 3) hx hb dX13_mix_96 (by decide) ?_
        refine n_iald (k := 1) (j := 3) hx hb hw rfl rfl (by decide) (by decide) dX13_mix_97 ?_
        exact m_iret hx hb hr hlk rfl hw (by rw [mixO, if_neg c_7, if_pos c_27, iq]; exact ⟨rfl, rfl⟩) dX13_mix_98
      · skip
        have n_41 : ¬ q ≤ k := fun h => c_41 ((nI_leI (a := q) (b := k) (by omega) (by omega)).mpr h)
        refine lv_aload_n hx hb dX13_mix_44 rfl (lv_at hl 0 rfl) ?_
        refine n_get (k := 0) hx hb hts in_X13 hown hw rfl rfl 0 (by decide) q1198 rfl dX13_mix_45 ?_
        refine lv_bipush (v := 38) hx hb dX13_mix_48 (by decide) ?_
        refine lv_aload_n hx hb dX13_mix_50 rfl (lv_at hl 0 rfl) ?_
        refine n_get (k := 0) hx hb hts in_X13 hown hw rfl rfl 0 (by decide) q1198 rfl dX13_mix_51 ?_
        refine lv_iconst (v := 0) hx hb dX13_mix_54 (by decide) ?_
        refine n_iald (k := 1) (j := 0) hx hb hw rfl rfl (by decide) (by decide) dX13_mix_55 ?_
        refine lv_bipush (v := 6) hx hb dX13_mix_56 (by decide) ?_
        refine lv_irem hx hb dX13_mix_58 (by decide) ?_
        refine n_topE (next_eq (by omega) em) ?_
        refine lv_iadd hx hb dX13_mix_59 ?_
        refine n_topE (nI_add 38 (m % 6)) ?_
        refine lv_aload_n hx hb dX13_mix_60 rfl (lv_at hl 0 rfl) ?_
        refine n_calli (va_runV ⟨hx, hb, hml, hown, hts⟩ (tM_drawn l G ad _ _ ) (cwV 0 hts (lw_V q1538 q1540 qs77 q106 q1541) rfl rfl rfl hdS_X13_drawn ⟨by decide, by decide⟩) (hw.preV (k := 0) rfl rfl) rfl rfl hl.1 rfl (lv_room (by simp [Value.category])) dX13_mix_61 ⟨Nat.zero_le _, Nat.zero_le _⟩) hw (fun r_61 u_61 H locs e_61 hw => ?_)
        obtain ⟨rfl, rfl⟩ := e_61
        have hw : nS G (mE G ad _ _) s H locs := hw
        refine lv_sipush (v := 1000) hx hb dX13_mix_64 (by decide) ?_
        refine lv_irem hx hb dX13_mix_67 (by decide) ?_
        refine m_iastw (j := 38 + (m % 6)) hx hb hw rfl (by omega) dX13_mix_68 (fun H locs hw => ?_)
        rw [← im] at hw
        refine lv_aload_n hx hb dX13_mix_69 rfl (lv_at hl 0 rfl) ?_
        refine n_get (k := 0) hx hb hts in_X13 hown hw rfl rfl 0 (by decide) q1198 rfl dX13_mix_70 ?_
        refine lv_iconst (v := 4) hx hb dX13_mix_73 (by decide) ?_
        refine lv_aload_n hx hb dX13_mix_74 rfl (lv_at hl 0 rfl) ?_
        refine n_calli (va_runV ⟨hx, hb, hml, hown, hts⟩ (tM_drawn l G ad _ _ ) (cwV 0 hts (lw_V q1538 q1540 qs77 q106 q1541) rfl rfl rfl hdS_X13_drawn ⟨by decide, by decide⟩) (hw.preV (k := 0) rfl rfl) rfl rfl hl.1 rfl (lv_room (by simp [Value.category])) dX13_mix_75 ⟨Nat.zero_le _, Nat.zero_le _⟩) hw (fun r_75 u_75 H locs e_75 hw => ?_)
        obtain ⟨rfl, rfl⟩ := e_75
        have hw : nS G (mE G ad _ _) s H locs := hw
        refine lv_bipush (v := 10) hx hb dX13_mix_78 (by decide) ?_
        refine lv_irem hx hb dX13_mix_80 (by decide) ?_
        refine m_iastw (j := 4) hx hb hw rfl (by decide) dX13_mix_81 (fun H locs hw => ?_)
        refine lv_aload_n hx hb dX13_mix_82 rfl (lv_at hl 0 rfl) ?_
        refine n_callv (va_runV ⟨hx, hb, hml, hown, hts⟩ (tM_oneThrow l G ad _ _ (B + k) (hIk.mid (by omega)) (by omega)) (cwV 0 hts (lw_V q1399 q1401 qs62 q106 q1402) rfl rfl rfl hdS_X13_oneThrow ⟨by decide, by decide⟩) (hw.preV (k := 0) rfl rfl) rfl rfl hl.1 rfl (lv_room (by simp [Value.category])) dX13_mix_83 ⟨Nat.zero_le _, Nat.zero_le _⟩) hw (fun u_83 H locs e_83 hw => ?_)
        subst e_83
        have hw : nS G (mE G ad _ _) s H locs := hw
        refine lv_iinc (v := nI (k + 1)) hx hb dX13_mix_86 hl (k := 2) rfl (nI_1 _) (by decide) rfl (fun ls hl => ?_)
        refine lv_goto (tgt := 39) hx hb dX13_mix_89 (by decide) ?_
        exact ih_39 (k + 1) _ _ _ (by first | omega | (dsimp only; omega)) ⟨by omega, hw, (lv_sub hl [1, 2, 0] rfl)⟩
    · skip
      refine lv_aload_n hx hb dX13_mix_30 rfl (lv_at hl 0 rfl) ?_
      refine lv_ldc (v := (-1000005)) hx hb hown (hts _ q1394) dX13_mix_31 ?_
      refine n_calli (va_runV ⟨hx, hb, hml, hown, hts⟩ (tM_finding l G ad _ _ (-1000005) 4 (by decide) (by decide)) (cwV 1 hts (lw_V q1297 q1299 qs53 q106 q1300) rfl rfl rfl hdS_X13_finding ⟨by decide, by decide⟩) (hw.preV (k := 0) rfl rfl) rfl rfl hl.1 rfl (lv_room (by simp [Value.category])) dX13_mix_33 ⟨Nat.zero_le _, Nat.zero_le _⟩) hw (fun r_33 u_33 H locs e_33 hw => ?_)
      obtain ⟨rfl, rfl⟩ := e_33
      have hw : nS G (mE G ad _ _) s H locs := hw
      exact m_iret hx hb hr hlk rfl hw (by rw [mixO, if_neg c_7, if_neg c_27]; first | (rw [iq]; exact ⟨rfl, rfl⟩) | exact ⟨rfl, rfl⟩) dX13_mix_36
  · skip
    refine lv_aload_n hx hb dX13_mix_10 rfl (lv_at hl 0 rfl) ?_
    refine lv_ldc (v := (-1000001)) hx hb hown (hts _ q1296) dX13_mix_11 ?_
    refine n_calli (va_runV ⟨hx, hb, hml, hown, hts⟩ (tM_finding l G ad _ _ (-1000001) 0 (by decide) (by decide)) (cwV 1 hts (lw_V q1297 q1299 qs53 q106 q1300) rfl rfl rfl hdS_X13_finding ⟨by decide, by decide⟩) (hw.preV (k := 0) rfl rfl) rfl rfl hl.1 rfl (lv_room (by simp [Value.category])) dX13_mix_13 ⟨Nat.zero_le _, Nat.zero_le _⟩) hw (fun r_13 u_13 H locs e_13 hw => ?_)
    obtain ⟨rfl, rfl⟩ := e_13
    have hw : nS G (mE G ad _ _) s H locs := hw
    exact m_iret hx hb hr hlk rfl hw (by rw [mixO, if_pos c_7]; first | (rw [iq]; exact ⟨rfl, rfl⟩) | exact ⟨rfl, rfl⟩) dX13_mix_16
theorem hdS_X13_seed : yX13_seed.cls = "LineCallsModel" ∧ yX13_seed.cls ≠ "java/lang/invoke/MethodHandle" ∧ yX13_seed.cls ≠ "java/lang/invoke/VarHandle" ∧ (parseMethodDescriptor yX13_seed.desc).map (fun d => d.parameters.length) = some 1 := by decide +kernel
set_option maxHeartbeats 4000000 in
theorem tM_seed (l : Launch) (G : nG) (ad : Nat → Nat) (w : rw84) (M : mM) (x : Int32) : Met l yX13_seed (ws_ yX13_seed cX13_seed 2 (some .int)) { frames := 1, cells := 0, slots := 0, locals := 23 } (va_Pc [.ref (ad 0), .int x] (nC G (mE G ad w M))) (va_Qi (fun (r : Int32) (u : rw84 × mM) => r = (seedO w x).1 ∧ u = ((seedO w x).2.1, fnd (seedO w x).2.2 M)) (fun u => nC G (mE G ad u.1 u.2)) (nA G)) 0 0 (nA G) := by
  refine n_head (by decide) (Nat.le_of_ble_eq_true rfl) ?_
  intro p e s m below meth c ls hx hb hr hlk hml hown hts hB0 hl
  have hown : s.vm.findClass "LineCallsModel" = some m.cls := hown
  have hw := nS.start hB0
  have hl : lv_has ls 2 [(0, .ref (ad 0)), (1, .int x)] := hl
  refine lv_aload_n hx hb dX13_seed_0 rfl (lv_at hl 0 rfl) ?_
  refine lv_iconst (v := 2) hx hb dX13_seed_1 (by decide) ?_
  refine lv_iload_n hx hb dX13_seed_2 rfl (lv_at hl 1 rfl) ?_
  refine n_calli (va_runV ⟨hx, hb, hml, hown, hts⟩ (tM_become l G ad _ _ (2) _ (by omega)) (cwV 2 hts (lw_V q1313 q1315 qs55 q106 q1316) rfl rfl rfl hdS_X13_become ⟨by decide, by decide⟩) (hw.preV (k := 0) rfl rfl) rfl rfl hl.1 rfl (lv_room (by simp [Value.category])) dX13_seed_3 ⟨Nat.zero_le _, Nat.zero_le _⟩) hw (fun r_3 u_3 H locs e_3 hw => ?_)
  obtain ⟨rfl, rfl⟩ := e_3
  have hw : nS G (mE G ad _ _) s H locs := hw
  exact m_iret hx hb hr hlk rfl hw ⟨rfl, rfl⟩ dX13_seed_6
theorem hdS_X13_hold : yX13_hold.cls = "LineCallsModel" ∧ yX13_hold.cls ≠ "java/lang/invoke/MethodHandle" ∧ yX13_hold.cls ≠ "java/lang/invoke/VarHandle" ∧ (parseMethodDescriptor yX13_hold.desc).map (fun d => d.parameters.length) = some 2 := by decide +kernel
set_option maxHeartbeats 4000000 in
theorem tM_hold (l : Launch) (G : nG) (ad : Nat → Nat) (w : rw84) (M : mM) (x k : Int32) (B : Nat) (hI : Inv B w) (hB : B ≤ 100000) : Met l yX13_hold (ws_ yX13_hold cX13_hold 3 (some .int)) { frames := 2, cells := 0, slots := 0, locals := 43 } (va_Pc [.ref (ad 0), .int x, .int k] (nC G (mE G ad w M))) (va_Qi (fun (r : Int32) (u : rw84 × mM) => r = (holdO w x k).1 ∧ u = ((holdO w x k).2.1, fnd (holdO w x k).2.2 M)) (fun u => nC G (mE G ad u.1 u.2)) (nA G)) 0 0 (nA G) := by
  refine n_head (by decide) (Nat.le_of_ble_eq_true rfl) ?_
  intro p e s m below meth c ls hx hb hr hlk hml hown hts hB0 hl
  have hown : s.vm.findClass "LineCallsModel" = some m.cls := hown
  have hw := nS.start hB0
  have hl : lv_has ls 3 [(0, .ref (ad 0)), (1, .int x), (2, .int k)] := hl
  obtain ⟨n, hn, en⟩ := hI.num
  refine lv_iload_n hx hb dX13_hold_0 rfl (lv_at hl 1 rfl) ?_
  refine n_callp (va_runS ⟨hx, hb, hml, hown, hts⟩ (tM_isSpot l _) (va_cwS 1 hts (lw_S q1627 q1628 q106 q1629) rfl rfl rfl (hdS_X13_isSpot).2 ⟨by decide, by decide⟩) pu_pre rfl rfl hl.1 rfl (lv_room (by simp [Value.category])) dX13_hold_1 ⟨Nat.zero_le _, Nat.zero_le _⟩) (fun r_1 e_1 => ?_)
  subst e_1
  refine lv_if_eq (tgt := 20) hx hb dX13_hold_4 (by decide) (fun c_4 => ?_) (fun c_4 => ?_)
  · skip
    refine lv_aload_n hx hb dX13_hold_20 rfl (lv_at hl 0 rfl) ?_
    refine lv_ldc (v := (-1000001)) hx hb hown (hts _ q1296) dX13_hold_21 ?_
    refine n_calli (va_runV ⟨hx, hb, hml, hown, hts⟩ (tM_finding l G ad _ _ (-1000001) 0 (by decide) (by decide)) (cwV 1 hts (lw_V q1297 q1299 qs53 q106 q1300) rfl rfl rfl hdS_X13_finding ⟨by decide, by decide⟩) (hw.preV (k := 0) rfl rfl) rfl rfl hl.1 rfl (lv_room (by simp [Value.category])) dX13_hold_23 ⟨Nat.zero_le _, Nat.zero_le _⟩) hw (fun r_23 u_23 H locs e_23 hw => ?_)
    obtain ⟨rfl, rfl⟩ := e_23
    have hw : nS G (mE G ad _ _) s H locs := hw
    exact m_iret hx hb hr hlk rfl hw (by rw [holdO, if_pos c_4]; first | (rw [iq]; exact ⟨rfl, rfl⟩) | exact ⟨rfl, rfl⟩) dX13_hold_26
  · skip
    obtain ⟨q, hq, rfl⟩ := in_nat (N := 9) rfl (by decide) c_4
    have iq : ix (nI q) = q := nI_clamp (by omega)
    refine lv_iload_n hx hb dX13_hold_7 rfl (lv_at hl 2 rfl) ?_
    refine lv_iconst (v := (-1)) hx hb dX13_hold_8 (by decide) ?_
    refine lv_icmp_eq (tgt := 27) hx hb dX13_hold_9 (by decide) (fun c_9 => ?_) (fun c_9 => ?_)
    · skip
      refine lv_aload_n hx hb dX13_hold_27 rfl (lv_at hl 0 rfl) ?_
      refine n_get (k := 0) hx hb hts in_X13 hown hw rfl rfl 0 (by decide) q1198 rfl dX13_hold_28 ?_
      refine lv_bipush (v := 7) hx hb dX13_hold_31 (by decide) ?_
      refine lv_iload_n hx hb dX13_hold_33 rfl (lv_at hl 1 rfl) ?_
      refine lv_iadd hx hb dX13_hold_34 ?_
      refine n_topE (nI_add 7 q) ?_
      refine lv_iload_n hx hb dX13_hold_35 rfl (lv_at hl 2 rfl) ?_
      refine m_iastw (j := 7 + q) hx hb hw rfl (by omega) dX13_hold_36 (fun H locs hw => ?_)
      refine lv_iconst (v := 1) hx hb dX13_hold_37 (by decide) ?_
      exact m_iret hx hb hr hlk rfl hw (by rw [holdO, if_neg c_4, if_pos c_9]; first | (rw [iq]; exact ⟨rfl, rfl⟩) | exact ⟨rfl, rfl⟩) dX13_hold_38
    · skip
      refine lv_aload_n hx hb dX13_hold_12 rfl (lv_at hl 0 rfl) ?_
      refine lv_iload_n hx hb dX13_hold_13 rfl (lv_at hl 2 rfl) ?_
      refine n_callp (va_runV ⟨hx, hb, hml, hown, hts⟩ (tM_isJumper l G ad _ _ _) (cwV 1 hts (lw_V q1284 q1286 qs50 q106 q1287) rfl rfl rfl hdS_X13_isJumper ⟨by decide, by decide⟩) (hw.preV (k := 0) rfl rfl) rfl rfl hl.1 rfl (lv_room (by simp [Value.category])) dX13_hold_14 ⟨Nat.zero_le _, Nat.zero_le _⟩) (fun r_14 e_14 => ?_)
      subst e_14
      refine lv_if_ne (tgt := 27) hx hb dX13_hold_17 (by decide) (fun c_17 => ?_) (fun c_17 => ?_)
      · skip
        refine lv_aload_n hx hb dX13_hold_27 rfl (lv_at hl 0 rfl) ?_
        refine n_get (k := 0) hx hb hts in_X13 hown hw rfl rfl 0 (by decide) q1198 rfl dX13_hold_28 ?_
        refine lv_bipush (v := 7) hx hb dX13_hold_31 (by decide) ?_
        refine lv_iload_n hx hb dX13_hold_33 rfl (lv_at hl 1 rfl) ?_
        refine lv_iadd hx hb dX13_hold_34 ?_
        refine n_topE (nI_add 7 q) ?_
        refine lv_iload_n hx hb dX13_hold_35 rfl (lv_at hl 2 rfl) ?_
        refine m_iastw (j := 7 + q) hx hb hw rfl (by omega) dX13_hold_36 (fun H locs hw => ?_)
        refine lv_iconst (v := 1) hx hb dX13_hold_37 (by decide) ?_
        exact m_iret hx hb hr hlk rfl hw (by rw [holdO, if_neg c_4, if_neg c_9, if_neg c_17]; first | (rw [iq]; exact ⟨rfl, rfl⟩) | exact ⟨rfl, rfl⟩) dX13_hold_38
      · skip
        refine lv_aload_n hx hb dX13_hold_20 rfl (lv_at hl 0 rfl) ?_
        refine lv_ldc (v := (-1000001)) hx hb hown (hts _ q1296) dX13_hold_21 ?_
        refine n_calli (va_runV ⟨hx, hb, hml, hown, hts⟩ (tM_finding l G ad _ _ (-1000001) 0 (by decide) (by decide)) (cwV 1 hts (lw_V q1297 q1299 qs53 q106 q1300) rfl rfl rfl hdS_X13_finding ⟨by decide, by decide⟩) (hw.preV (k := 0) rfl rfl) rfl rfl hl.1 rfl (lv_room (by simp [Value.category])) dX13_hold_23 ⟨Nat.zero_le _, Nat.zero_le _⟩) hw (fun r_23 u_23 H locs e_23 hw => ?_)
        obtain ⟨rfl, rfl⟩ := e_23
        have hw : nS G (mE G ad _ _) s H locs := hw
        exact m_iret hx hb hr hlk rfl hw (by rw [holdO, if_neg c_4, if_neg c_9, if_pos c_17]; first | (rw [iq]; exact ⟨rfl, rfl⟩) | exact ⟨rfl, rfl⟩) dX13_hold_26
theorem hdS_X13_as : yX13_as.cls = "LineCallsModel" ∧ yX13_as.cls ≠ "java/lang/invoke/MethodHandle" ∧ yX13_as.cls ≠ "java/lang/invoke/VarHandle" ∧ (parseMethodDescriptor yX13_as.desc).map (fun d => d.parameters.length) = some 2 := by decide +kernel
set_option maxHeartbeats 4000000 in
theorem tM_as (l : Launch) (G : nG) (ad : Nat → Nat) (w : rw84) (M : mM) (x k : Int32) (B : Nat) (hI : Inv B w) (hB : B ≤ 100000) : Met l yX13_as (ws_ yX13_as cX13_as 4 (some .int)) { frames := 2, cells := 0, slots := 0, locals := 43 } (va_Pc [.ref (ad 0), .int x, .int k] (nC G (mE G ad w M))) (va_Qi (fun (r : Int32) (u : rw84 × mM) => r = (asO w x k).1 ∧ u = ((asO w x k).2.1, fnd (asO w x k).2.2 M)) (fun u => nC G (mE G ad u.1 u.2)) (nA G)) 0 0 (nA G) := by
  refine n_head (by decide) (Nat.le_of_ble_eq_true rfl) ?_
  intro p e s m below meth c ls hx hb hr hlk hml hown hts hB0 hl
  have hown : s.vm.findClass "LineCallsModel" = some m.cls := hown
  have hw := nS.start hB0
  have hl : lv_has ls 4 [(0, .ref (ad 0)), (1, .int x), (2, .int k)] := hl
  obtain ⟨n, hn, en⟩ := hI.num
  refine lv_iload_n hx hb dX13_as_0 rfl (lv_at hl 1 rfl) ?_
  refine n_callp (va_runS ⟨hx, hb, hml, hown, hts⟩ (tM_isSpot l _) (va_cwS 1 hts (lw_S q1627 q1628 q106 q1629) rfl rfl rfl (hdS_X13_isSpot).2 ⟨by decide, by decide⟩) pu_pre rfl rfl hl.1 rfl (lv_room (by simp [Value.category])) dX13_as_1 ⟨Nat.zero_le _, Nat.zero_le _⟩) (fun r_1 e_1 => ?_)
  subst e_1
  refine lv_if_eq (tgt := 14) hx hb dX13_as_4 (by decide) (fun c_4 => ?_) (fun c_4 => ?_)
  · skip
    refine lv_aload_n hx hb dX13_as_14 rfl (lv_at hl 0 rfl) ?_
    refine lv_ldc (v := (-1000001)) hx hb hown (hts _ q1296) dX13_as_15 ?_
    refine n_calli (va_runV ⟨hx, hb, hml, hown, hts⟩ (tM_finding l G ad _ _ (-1000001) 0 (by decide) (by decide)) (cwV 1 hts (lw_V q1297 q1299 qs53 q106 q1300) rfl rfl rfl hdS_X13_finding ⟨by decide, by decide⟩) (hw.preV (k := 0) rfl rfl) rfl rfl hl.1 rfl (lv_room (by simp [Value.category])) dX13_as_17 ⟨Nat.zero_le _, Nat.zero_le _⟩) hw (fun r_17 u_17 H locs e_17 hw => ?_)
    obtain ⟨rfl, rfl⟩ := e_17
    have hw : nS G (mE G ad _ _) s H locs := hw
    exact m_iret hx hb hr hlk rfl hw (by rw [asO, if_pos c_4]; first | exact ⟨rfl, rfl⟩) dX13_as_20
  · skip
    obtain ⟨q, hq, rfl⟩ := in_nat (N := 9) rfl (by decide) c_4
    have iq : ix (nI q) = q := nI_clamp (by omega)
    refine lv_iload_n hx hb dX13_as_7 rfl (lv_at hl 2 rfl) ?_
    refine n_callp (va_runS ⟨hx, hb, hml, hown, hts⟩ (tM_isKind l _) (va_cwS 1 hts (lw_S q1346 q1347 q106 q1348) rfl rfl rfl (hdS_X13_isKind).2 ⟨by decide, by decide⟩) pu_pre rfl rfl hl.1 rfl (lv_room (by simp [Value.category])) dX13_as_8 ⟨Nat.zero_le _, Nat.zero_le _⟩) (fun r_8 e_8 => ?_)
    subst e_8
    refine lv_if_ne (tgt := 21) hx hb dX13_as_11 (by decide) (fun c_11 => ?_) (fun c_11 => ?_)
    · skip
      refine lv_aload_n hx hb dX13_as_21 rfl (lv_at hl 0 rfl) ?_
      refine n_get (k := 0) hx hb hts in_X13 hown hw rfl rfl 0 (by decide) q1198 rfl dX13_as_22 ?_
      refine lv_bipush (v := 7) hx hb dX13_as_25 (by decide) ?_
      refine lv_iload_n hx hb dX13_as_27 rfl (lv_at hl 1 rfl) ?_
      refine lv_iadd hx hb dX13_as_28 ?_
      refine n_topE (nI_add 7 q) ?_
      refine n_iald (k := 1) (j := 7 + q) hx hb hw rfl rfl (by omega) (by decide) dX13_as_29 ?_
      refine lv_istore_n hx hb dX13_as_30 rfl hl (by decide) rfl (fun ls hl => ?_)
      refine lv_iload_n hx hb dX13_as_31 rfl (lv_at hl 0 rfl) ?_
      refine lv_if_ge (tgt := 42) hx hb dX13_as_32 (by decide) (fun c_32 => ?_) (fun c_32 => ?_)
      · skip
        obtain ⟨c, hc, ec⟩ := hI.spot (by omega) c_32
        have iw : ix (w (7 + q)) = c := by rw [ec]; exact nI_clamp (by omega)
        refine lv_aload_n hx hb dX13_as_42 rfl (lv_at hl 1 rfl) ?_
        refine lv_iload_n hx hb dX13_as_43 rfl (lv_at hl 0 rfl) ?_
        refine n_topE ec ?_
        refine lv_iconst (v := 0) hx hb dX13_as_44 (by decide) ?_
        refine n_callp (va_runV ⟨hx, hb, hml, hown, hts⟩ (tM_jumperIs l G ad _ _ c 0 hc (by decide)) (cwV 2 hts (lw_V q1361 q1363 qs57 q106 q1364) rfl rfl rfl hdS_X13_jumperIs ⟨by decide, by decide⟩) (hw.preV (k := 0) rfl rfl) rfl rfl hl.1 rfl (lv_room (by simp [Value.category])) dX13_as_45 ⟨Nat.zero_le _, Nat.zero_le _⟩) (fun r_45 e_45 => ?_)
        subst e_45
        refine lv_iload_n hx hb dX13_as_48 rfl (lv_at hl 3 rfl) ?_
        refine n_callp (va_runS ⟨hx, hb, hml, hown, hts⟩ (tM_isUnder l _ _) (va_cwS 2 hts (lw_S q1634 q1635 q106 q1636) rfl rfl rfl (hdS_X13_isUnder).2 ⟨by decide, by decide⟩) pu_pre rfl rfl hl.1 rfl (lv_room (by simp [Value.category])) dX13_as_49 ⟨Nat.zero_le _, Nat.zero_le _⟩) (fun r_49 e_49 => ?_)
        subst e_49
        refine lv_if_eq (tgt := 59) hx hb dX13_as_52 (by decide) (fun c_52 => ?_) (fun c_52 => ?_)
        · skip
          refine lv_aload_n hx hb dX13_as_59 rfl (lv_at hl 1 rfl) ?_
          refine lv_ldcw (v := (-1000003)) hx hb hown (hts _ q1640) dX13_as_60 ?_
          refine n_calli (va_runV ⟨hx, hb, hml, hown, hts⟩ (tM_finding l G ad _ _ (-1000003) 2 (by decide) (by decide)) (cwV 1 hts (lw_V q1297 q1299 qs53 q106 q1300) rfl rfl rfl hdS_X13_finding ⟨by decide, by decide⟩) (hw.preV (k := 0) rfl rfl) rfl rfl hl.1 rfl (lv_room (by simp [Value.category])) dX13_as_63 ⟨Nat.zero_le _, Nat.zero_le _⟩) hw (fun r_63 u_63 H locs e_63 hw => ?_)
          obtain ⟨rfl, rfl⟩ := e_63
          have hw : nS G (mE G ad _ _) s H locs := hw
          exact m_iret hx hb hr hlk rfl hw (by rw [asO, if_neg c_4, if_neg c_11, iq, if_pos c_32, iw]; first | (rw [if_pos (show undF _ _ = 0 from c_52)]; exact ⟨rfl, rfl⟩) | (rw [if_neg (show ¬ undF _ _ = 0 from c_52)]; exact ⟨rfl, rfl⟩)) dX13_as_66
        · skip
          refine lv_iload_n hx hb dX13_as_55 rfl (lv_at hl 0 rfl) ?_
          refine lv_goto (tgt := 66) hx hb dX13_as_56 (by decide) ?_
          exact m_iret hx hb hr hlk rfl hw (by rw [asO, if_neg c_4, if_neg c_11, iq, if_pos c_32, iw]; first | (rw [if_pos (show undF _ _ = 0 from c_52)]; exact ⟨rfl, rfl⟩) | (rw [if_neg (show ¬ undF _ _ = 0 from c_52)]; exact ⟨rfl, rfl⟩)) dX13_as_66
      · skip
        refine lv_aload_n hx hb dX13_as_35 rfl (lv_at hl 1 rfl) ?_
        refine lv_ldc (v := (-1000006)) hx hb hown (hts _ q1513) dX13_as_36 ?_
        refine n_calli (va_runV ⟨hx, hb, hml, hown, hts⟩ (tM_finding l G ad _ _ (-1000006) 5 (by decide) (by decide)) (cwV 1 hts (lw_V q1297 q1299 qs53 q106 q1300) rfl rfl rfl hdS_X13_finding ⟨by decide, by decide⟩) (hw.preV (k := 0) rfl rfl) rfl rfl hl.1 rfl (lv_room (by simp [Value.category])) dX13_as_38 ⟨Nat.zero_le _, Nat.zero_le _⟩) hw (fun r_38 u_38 H locs e_38 hw => ?_)
        obtain ⟨rfl, rfl⟩ := e_38
        have hw : nS G (mE G ad _ _) s H locs := hw
        exact m_iret hx hb hr hlk rfl hw (by rw [asO, if_neg c_4, if_neg c_11, iq, if_neg c_32]; exact ⟨rfl, rfl⟩) dX13_as_41
    · skip
      refine lv_aload_n hx hb dX13_as_14 rfl (lv_at hl 0 rfl) ?_
      refine lv_ldc (v := (-1000001)) hx hb hown (hts _ q1296) dX13_as_15 ?_
      refine n_calli (va_runV ⟨hx, hb, hml, hown, hts⟩ (tM_finding l G ad _ _ (-1000001) 0 (by decide) (by decide)) (cwV 1 hts (lw_V q1297 q1299 qs53 q106 q1300) rfl rfl rfl hdS_X13_finding ⟨by decide, by decide⟩) (hw.preV (k := 0) rfl rfl) rfl rfl hl.1 rfl (lv_room (by simp [Value.category])) dX13_as_17 ⟨Nat.zero_le _, Nat.zero_le _⟩) hw (fun r_17 u_17 H locs e_17 hw => ?_)
      obtain ⟨rfl, rfl⟩ := e_17
      have hw : nS G (mE G ad _ _) s H locs := hw
      exact m_iret hx hb hr hlk rfl hw (by rw [asO, if_neg c_4, if_pos c_11]; first | exact ⟨rfl, rfl⟩) dX13_as_20
