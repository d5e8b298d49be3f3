/-! the class: sheets, public -/
set_option maxRecDepth 100000
theorem f_0 : (-1000001 : Int32) - nI 0 = -1000001 := by decide
theorem f_2 : (-1000001 : Int32) - nI 2 = -1000003 := by decide
theorem f_3 : (-1000001 : Int32) - nI 3 = -1000004 := by decide
theorem f_5 : (-1000001 : Int32) - nI 5 = -1000006 := by decide
theorem f_6 : (-1000001 : Int32) - nI 6 = -1000007 := by decide
theorem hdS_X0_codes : yX0_codes.cls = "LineCalls" ∧ yX0_codes.cls ≠ "java/lang/invoke/MethodHandle" ∧ yX0_codes.cls ≠ "java/lang/invoke/VarHandle" ∧ (parseMethodDescriptor yX0_codes.desc).map (fun d => d.parameters.length) = some 1 := by decide +kernel
set_option maxHeartbeats 4000000 in
theorem tL_codes (l : Launch) (G : nG) (ad : Nat → Nat) (w w1 w2 w3 : rw84) (X : mM) (sp : xSp) (sh : xSh) (t : Int32) (wd sz nb : rw84) (hS : ShR sh wd sz nb) (B : Nat) (hI : Inv B w) (hB : B ≤ 100000) : Met l yX0_codes (wsW_ yX0_codes cX0_codes 3 (some .int) [((0), (25), (26), (59))]) { frames := 9, cells := 0, slots := 0, locals := 194 } (va_Pc [.ref (ad 64), .int t] (nC G (xE G ad (xV w w1 w2 w3) X sp sh))) (va_Qi (fun (r : Int32) (u : xSt) => r = (codesO w wd sz nb t).1 ∧ xU (codesO w wd sz nb t).2.1 w1 (xfnd (codesO w wd sz nb t).2.2 X) sh u) (fun u => nC G (xE G ad (xV u.1 u.2.1 u.2.2.1 u.2.2.2.1) u.2.2.2.2.1 u.2.2.2.2.2.1 u.2.2.2.2.2.2)) (nA G)) 0 0 (nA G) := by
  refine n_headW (by decide) (Nat.le_of_ble_eq_true rfl) ?_
  intro p e s m below meth c ls hx hb hr hlk hml hown hts htab hB0 hl
  have hown : s.vm.findClass "LineCalls" = some m.cls := hown
  have hw := nS.start hB0
  have hl : lv_has ls 3 [(0, .ref (ad 64)), (1, .int t)] := hl
  obtain ⟨n1, hn1, en1⟩ := hI.num
  refine lv_aload_n hx hb dX0_codes_0 rfl (lv_at hl 0 rfl) ?_
  refine lv_iload_n hx hb dX0_codes_1 rfl (lv_at hl 1 rfl) ?_
  refine x_callA ⟨hx, hb, hml, hown, hts⟩ (tL_rowAt l G ad _ _ _ _ _ _ _ _) (cwV 1 hts (lw_V q879 q881 qs23 q90 q882) rfl rfl rfl hdS_X0_rowAt ⟨by decide, by decide⟩) (hw.preV (k := 64) (xp 64) rfl) rfl hl.1 rfl (by simp [Value.category]) dX0_codes_2 ⟨Nat.zero_le _, Nat.zero_le _⟩ hw (fun u_2 H locs e_2 hw => ?_) (fun u_2 H locs e_2 hw => ?_)
  · skip
    obtain ⟨t_2, rfl⟩ := e_2
    have hw : nS G (xE G ad (xV _ _ _ _) _ _ _) s H locs := hw
    obtain ⟨q, hq, rfl⟩ := in_nat (N := 3) rfl (by decide) t_2
    have iq : ix (nI q) = q := nI_clamp (by omega)
    rw [iq]
    rcases hsh : sh q with _ | ⟨a, ty, n, f⟩
    · skip
      refine lv_astore_nN hx hb dX0_codes_5 rfl hl (by decide) rfl (fun ls hl => ?_)
      refine lv_aload_n hx hb dX0_codes_6 rfl (lv_at hl 1 rfl) ?_
      refine lv_aload_nN hx hb dX0_codes_7 rfl (lv_at hl 0 rfl) ?_
      refine lv_ifnullN (tgt := 15) hx hb dX0_codes_8 (by decide) ?_
      refine lv_iconst (v := 0) hx hb dX0_codes_15 (by decide) ?_
      refine lv_iconst (v := 5) hx hb dX0_codes_16 (by decide) ?_
      refine x_callN ⟨hx, hb, hml, hown, hts⟩ (tL_need l G ad _ _ _ _ _ _ _ _ (5)) (cwV 2 hts (lw_V q886 q888 qs24 q90 q889) rfl rfl rfl hdS_X0_need ⟨by decide, by decide⟩) (hw.preV (k := 64) (xp 64) rfl) rfl hl.1 rfl (by simp [Value.category]) dX0_codes_17 ⟨Nat.zero_le _, Nat.zero_le _⟩ hw (fun u_17 H locs e_17 hw => ?_) (fun u_17 H locs e_17 hw => ?_)
      · skip
        obtain ⟨t_17, rfl⟩ := e_17
        have hw : nS G (xE G ad (xV _ _ _ _) _ _ _) s H locs := hw
        exact absurd rfl t_17
      · skip
        obtain ⟨t_17, rfl⟩ := e_17
        have hw : nS G (xE G ad (xV _ _ _ _) _ _ _) s H locs := hw
        refine x_catch (k := 65) hown hts htab ⟨by decide, by decide⟩ (by decide) q122 hw (xp 65) rfl q124 ?_
        refine lv_astore_n hx hb dX0_codes_26 rfl hl (by decide) rfl (fun ls hl => ?_)
        refine lv_aload_n hx hb dX0_codes_27 rfl (lv_at hl 1 rfl) ?_
        refine lv_aload_n hx hb dX0_codes_28 rfl (lv_at hl 0 rfl) ?_
        refine n_getN (k := 65) hx hb hts in_X1 hown hw (xp 65) rfl 6 (by decide) q174 rfl dX0_codes_29 ?_
        refine n_topE (y := nI 5) rfl ?_
        refine n_calli (va_runV ⟨hx, hb, hml, hown, hts⟩ (tL_finding l G ad _ _ _ _ _ _ _ 5 (by decide)) (cwV 1 hts (lw_V q466 q468 qs3 q90 q469) rfl rfl rfl hdS_X0_finding ⟨by decide, by decide⟩) (hw.preV (k := 64) (xp 64) rfl) rfl rfl hl.1 rfl (lv_room (by simp [Value.category])) dX0_codes_32 ⟨Nat.zero_le _, Nat.zero_le _⟩) hw (fun r_32 u_32 H locs e_32 hw => ?_)
        obtain ⟨rfl, rfl⟩ := e_32
        have hw : nS G (xE G ad (xV _ _ _ _) _ _ _) s H locs := hw
        exact l_iret hx hb hr hlk rfl hw (by first | (rw [codesO, lack_a t_2, lkO (by decide) (show lk (-1000001) = 0 by decide)]; exact ⟨by first | exact f_0 | exact f_5 | exact f_2 | exact f_3 | exact f_6, xU.of ⟨rfl, rfl, rfl, rfl⟩⟩) | (rw [codesO, lack_b hS hq t_2 hsh, lkO (by decide) (show lk (-1000006) = 5 by decide)]; exact ⟨by first | exact f_0 | exact f_5 | exact f_2 | exact f_3 | exact f_6, xU.of ⟨rfl, rfl, rfl, rfl⟩⟩)) dX0_codes_35
    · skip
      obtain ⟨hty, hwdq, hn, hszq, hfq⟩ := hS.som (by omega) hsh
      refine lv_astore_n hx hb dX0_codes_5 rfl hl (by decide) rfl (fun ls hl => ?_)
      refine lv_aload_n hx hb dX0_codes_6 rfl (lv_at hl 1 rfl) ?_
      refine lv_aload_n hx hb dX0_codes_7 rfl (lv_at hl 0 rfl) ?_
      refine lv_ifnull hx hb dX0_codes_8 ?_
      refine lv_iconst (v := 1) hx hb dX0_codes_11 (by decide) ?_
      refine lv_goto (tgt := 16) hx hb dX0_codes_12 (by decide) ?_
      refine lv_iconst (v := 5) hx hb dX0_codes_16 (by decide) ?_
      refine x_callN ⟨hx, hb, hml, hown, hts⟩ (tL_need l G ad _ _ _ _ _ _ _ _ (5)) (cwV 2 hts (lw_V q886 q888 qs24 q90 q889) rfl rfl rfl hdS_X0_need ⟨by decide, by decide⟩) (hw.preV (k := 64) (xp 64) rfl) rfl hl.1 rfl (by simp [Value.category]) dX0_codes_17 ⟨Nat.zero_le _, Nat.zero_le _⟩ hw (fun u_17 H locs e_17 hw => ?_) (fun u_17 H locs e_17 hw => ?_)
      · skip
        obtain ⟨t_17, rfl⟩ := e_17
        have hw : nS G (xE G ad (xV _ _ _ _) _ _ _) s H locs := hw
        refine lv_aload_n hx hb dX0_codes_20 rfl (lv_at hl 1 rfl) ?_
        refine lv_aload_n hx hb dX0_codes_21 rfl (lv_at hl 0 rfl) ?_
        refine n_calli (va_runV ⟨hx, hb, hml, hown, hts⟩ (tL_codesThatFit l G ad _ _ _ _ _ _ _ a ty n q B f hq hsh hty hn hI hB) (cwV 1 hts (lw_V q894 q896 qs26 q90 q897) rfl rfl rfl hdS_X0_codesThatFit ⟨by decide, by decide⟩) (hw.preV (k := 64) (xp 64) rfl) rfl rfl hl.1 rfl (lv_room (by simp [Value.category])) dX0_codes_22 ⟨Nat.zero_le _, Nat.zero_le _⟩) hw (fun r_22 u_22 H locs e_22 hw => ?_)
        obtain ⟨rfl, g_22, rfl⟩ := e_22
        have hw : nS G (xE G ad (xV _ _ _ _) _ _ _) s H locs := hw
        exact l_iret hx hb hr hlk rfl hw (by rw [codesO, lack_c hS hq t_2 hsh (by decide), if_pos rfl, show (fun v => soR (shR nb (nI q)) (ix (sz (ix (nI q)))) 0 (upd w 6 (nI v))) = (fun v => soR f n 0 (upd w 6 (nI v))) from funext (fun v => so_sh hS hq hsh _)]; exact ⟨rfl, xU.of (xSc.rf _)⟩) dX0_codes_25
      · skip
        obtain ⟨t_17, rfl⟩ := e_17
        have hw : nS G (xE G ad (xV _ _ _ _) _ _ _) s H locs := hw
        exact absurd t_17 (by decide)
  · skip
    obtain ⟨t_2, rfl⟩ := e_2
    have hw : nS G (xE G ad (xV _ _ _ _) _ _ _) s H locs := hw
    refine x_catch (k := 65) hown hts htab ⟨by decide, by decide⟩ (by decide) q122 hw (xp 65) rfl q124 ?_
    refine lv_astore_n hx hb dX0_codes_26 rfl hl (by decide) rfl (fun ls hl => ?_)
    refine lv_aload_n hx hb dX0_codes_27 rfl (lv_at hl 1 rfl) ?_
    refine lv_aload_n hx hb dX0_codes_28 rfl (lv_at hl 0 rfl) ?_
    refine n_getN (k := 65) hx hb hts in_X1 hown hw (xp 65) rfl 6 (by decide) q174 rfl dX0_codes_29 ?_
    refine n_topE (y := nI 0) rfl ?_
    refine n_calli (va_runV ⟨hx, hb, hml, hown, hts⟩ (tL_finding l G ad _ _ _ _ _ _ _ 0 (by decide)) (cwV 1 hts (lw_V q466 q468 qs3 q90 q469) rfl rfl rfl hdS_X0_finding ⟨by decide, by decide⟩) (hw.preV (k := 64) (xp 64) rfl) rfl rfl hl.1 rfl (lv_room (by simp [Value.category])) dX0_codes_32 ⟨Nat.zero_le _, Nat.zero_le _⟩) hw (fun r_32 u_32 H locs e_32 hw => ?_)
    obtain ⟨rfl, rfl⟩ := e_32
    have hw : nS G (xE G ad (xV _ _ _ _) _ _ _) s H locs := hw
    exact l_iret hx hb hr hlk rfl hw (by first | (rw [codesO, lack_a t_2, lkO (by decide) (show lk (-1000001) = 0 by decide)]; exact ⟨by first | exact f_0 | exact f_5 | exact f_2 | exact f_3 | exact f_6, xU.of ⟨rfl, rfl, rfl, rfl⟩⟩) | (rw [codesO, lack_b hS hq t_2 hsh, lkO (by decide) (show lk (-1000006) = 5 by decide)]; exact ⟨by first | exact f_0 | exact f_5 | exact f_2 | exact f_3 | exact f_6, xU.of ⟨rfl, rfl, rfl, rfl⟩⟩)) dX0_codes_35
theorem hdS_X0_load : yX0_load.cls = "LineCalls" ∧ yX0_load.cls ≠ "java/lang/invoke/MethodHandle" ∧ yX0_load.cls ≠ "java/lang/invoke/VarHandle" ∧ (parseMethodDescriptor yX0_load.desc).map (fun d => d.parameters.length) = some 1 := by decide +kernel
set_option maxHeartbeats 4000000 in
theorem tL_load (l : Launch) (G : nG) (ad : Nat → Nat) (w w1 w2 w3 : rw84) (X : mM) (sp : xSp) (sh : xSh) (t : Int32) (wd sz nb : rw84) (hS : ShR sh wd sz nb) (B : Nat) (hI : Inv B w) (hB : B ≤ 100000) : Met l yX0_load (wsW_ yX0_load cX0_load 3 (some .int) [((0), (25), (26), (59))]) { frames := 3, cells := 0, slots := 0, locals := 64 } (va_Pc [.ref (ad 64), .int t] (nC G (xE G ad (xV w w1 w2 w3) X sp sh))) (va_Qi (fun (r : Int32) (u : xSt) => r = (loadO w wd sz nb t).1 ∧ xU (loadO w wd sz nb t).2.1 w1 (xfnd (loadO w wd sz nb t).2.2 X) sh u) (fun u => nC G (xE G ad (xV u.1 u.2.1 u.2.2.1 u.2.2.2.1) u.2.2.2.2.1 u.2.2.2.2.2.1 u.2.2.2.2.2.2)) (nA G)) 0 0 (nA G) := by
  refine n_headW (by decide) (Nat.le_of_ble_eq_true rfl) ?_
  intro p e s m below meth c ls hx hb hr hlk hml hown hts htab hB0 hl
  have hown : s.vm.findClass "LineCalls" = some m.cls := hown
  have hw := nS.start hB0
  have hl : lv_has ls 3 [(0, .ref (ad 64)), (1, .int t)] := hl
  obtain ⟨n1, hn1, en1⟩ := hI.num
  refine lv_aload_n hx hb dX0_load_0 rfl (lv_at hl 0 rfl) ?_
  refine lv_iload_n hx hb dX0_load_1 rfl (lv_at hl 1 rfl) ?_
  refine x_callA ⟨hx, hb, hml, hown, hts⟩ (tL_rowAt l G ad _ _ _ _ _ _ _ _) (cwV 1 hts (lw_V q879 q881 qs23 q90 q882) rfl rfl rfl hdS_X0_rowAt ⟨by decide, by decide⟩) (hw.preV (k := 64) (xp 64) rfl) rfl hl.1 rfl (by simp [Value.category]) dX0_load_2 ⟨Nat.zero_le _, Nat.zero_le _⟩ hw (fun u_2 H locs e_2 hw => ?_) (fun u_2 H locs e_2 hw => ?_)
  · skip
    obtain ⟨t_2, rfl⟩ := e_2
    have hw : nS G (xE G ad (xV _ _ _ _) _ _ _) s H locs := hw
    obtain ⟨q, hq, rfl⟩ := in_nat (N := 3) rfl (by decide) t_2
    have iq : ix (nI q) = q := nI_clamp (by omega)
    rw [iq]
    rcases hsh : sh q with _ | ⟨a, ty, n, f⟩
    · skip
      refine lv_astore_nN hx hb dX0_load_5 rfl hl (by decide) rfl (fun ls hl => ?_)
      refine lv_aload_n hx hb dX0_load_6 rfl (lv_at hl 1 rfl) ?_
      refine lv_aload_nN hx hb dX0_load_7 rfl (lv_at hl 0 rfl) ?_
      refine lv_ifnullN (tgt := 15) hx hb dX0_load_8 (by decide) ?_
      refine lv_iconst (v := 0) hx hb dX0_load_15 (by decide) ?_
      refine lv_iconst (v := 5) hx hb dX0_load_16 (by decide) ?_
      refine x_callN ⟨hx, hb, hml, hown, hts⟩ (tL_need l G ad _ _ _ _ _ _ _ _ (5)) (cwV 2 hts (lw_V q886 q888 qs24 q90 q889) rfl rfl rfl hdS_X0_need ⟨by decide, by decide⟩) (hw.preV (k := 64) (xp 64) rfl) rfl hl.1 rfl (by simp [Value.category]) dX0_load_17 ⟨Nat.zero_le _, Nat.zero_le _⟩ hw (fun u_17 H locs e_17 hw => ?_) (fun u_17 H locs e_17 hw => ?_)
      · skip
        obtain ⟨t_17, rfl⟩ := e_17
        have hw : nS G (xE G ad (xV _ _ _ _) _ _ _) s H locs := hw
        exact absurd rfl t_17
      · skip
        obtain ⟨t_17, rfl⟩ := e_17
        have hw : nS G (xE G ad (xV _ _ _ _) _ _ _) s H locs := hw
        refine x_catch (k := 65) hown hts htab ⟨by decide, by decide⟩ (by decide) q122 hw (xp 65) rfl q124 ?_
        refine lv_astore_n hx hb dX0_load_26 rfl hl (by decide) rfl (fun ls hl => ?_)
        refine lv_aload_n hx hb dX0_load_27 rfl (lv_at hl 1 rfl) ?_
        refine lv_aload_n hx hb dX0_load_28 rfl (lv_at hl 0 rfl) ?_
        refine n_getN (k := 65) hx hb hts in_X1 hown hw (xp 65) rfl 6 (by decide) q174 rfl dX0_load_29 ?_
        refine n_topE (y := nI 5) rfl ?_
        refine n_calli (va_runV ⟨hx, hb, hml, hown, hts⟩ (tL_finding l G ad _ _ _ _ _ _ _ 5 (by decide)) (cwV 1 hts (lw_V q466 q468 qs3 q90 q469) rfl rfl rfl hdS_X0_finding ⟨by decide, by decide⟩) (hw.preV (k := 64) (xp 64) rfl) rfl rfl hl.1 rfl (lv_room (by simp [Value.category])) dX0_load_32 ⟨Nat.zero_le _, Nat.zero_le _⟩) hw (fun r_32 u_32 H locs e_32 hw => ?_)
        obtain ⟨rfl, rfl⟩ := e_32
        have hw : nS G (xE G ad (xV _ _ _ _) _ _ _) s H locs := hw
        exact l_iret hx hb hr hlk rfl hw (by first | (rw [loadO, lack_a t_2, lkO (by decide) (show lk (-1000001) = 0 by decide)]; exact ⟨by first | exact f_0 | exact f_5 | exact f_2 | exact f_3 | exact f_6, xU.of ⟨rfl, rfl, rfl, rfl⟩⟩) | (rw [loadO, lack_b hS hq t_2 hsh, lkO (by decide) (show lk (-1000006) = 5 by decide)]; exact ⟨by first | exact f_0 | exact f_5 | exact f_2 | exact f_3 | exact f_6, xU.of ⟨rfl, rfl, rfl, rfl⟩⟩)) dX0_load_35
    · skip
      obtain ⟨hty, hwdq, hn, hszq, hfq⟩ := hS.som (by omega) hsh
      refine lv_astore_n hx hb dX0_load_5 rfl hl (by decide) rfl (fun ls hl => ?_)
      refine lv_aload_n hx hb dX0_load_6 rfl (lv_at hl 1 rfl) ?_
      refine lv_aload_n hx hb dX0_load_7 rfl (lv_at hl 0 rfl) ?_
      refine lv_ifnull hx hb dX0_load_8 ?_
      refine lv_iconst (v := 1) hx hb dX0_load_11 (by decide) ?_
      refine lv_goto (tgt := 16) hx hb dX0_load_12 (by decide) ?_
      refine lv_iconst (v := 5) hx hb dX0_load_16 (by decide) ?_
      refine x_callN ⟨hx, hb, hml, hown, hts⟩ (tL_need l G ad _ _ _ _ _ _ _ _ (5)) (cwV 2 hts (lw_V q886 q888 qs24 q90 q889) rfl rfl rfl hdS_X0_need ⟨by decide, by decide⟩) (hw.preV (k := 64) (xp 64) rfl) rfl hl.1 rfl (by simp [Value.category]) dX0_load_17 ⟨Nat.zero_le _, Nat.zero_le _⟩ hw (fun u_17 H locs e_17 hw => ?_) (fun u_17 H locs e_17 hw => ?_)
      · skip
        obtain ⟨t_17, rfl⟩ := e_17
        have hw : nS G (xE G ad (xV _ _ _ _) _ _ _) s H locs := hw
        refine lv_aload_n hx hb dX0_load_20 rfl (lv_at hl 1 rfl) ?_
        refine lv_aload_n hx hb dX0_load_21 rfl (lv_at hl 0 rfl) ?_
        refine n_calli (va_runV ⟨hx, hb, hml, hown, hts⟩ (tL_loads l G ad _ _ _ _ _ _ _ a ty n q B f hq hsh hty hn hI hB) (cwV 1 hts (lw_V q1151 q1153 qs48 q90 q1154) rfl rfl rfl hdS_X0_loads ⟨by decide, by decide⟩) (hw.preV (k := 64) (xp 64) rfl) rfl rfl hl.1 rfl (lv_room (by simp [Value.category])) dX0_load_22 ⟨Nat.zero_le _, Nat.zero_le _⟩) hw (fun r_22 u_22 H locs e_22 hw => ?_)
        obtain ⟨rfl, rfl⟩ := e_22
        have hw : nS G (xE G ad (xV _ _ _ _) _ _ _) s H locs := hw
        exact l_iret hx hb hr hlk rfl hw (by rw [loadO, lack_c hS hq t_2 hsh (by decide), if_pos rfl, iq, hszq, show ix (nI n) = n from nI_clamp (by omega), shR_at iq, ldR_cong (f := fun k => nb (40 * q + k)) (g := f) (min n 6) 0 w (fun i _ hi => ((hfq i (by omega)).1).symm)]; exact ⟨rfl, xU.of (xSc.rf _)⟩) dX0_load_25
      · skip
        obtain ⟨t_17, rfl⟩ := e_17
        have hw : nS G (xE G ad (xV _ _ _ _) _ _ _) s H locs := hw
        exact absurd t_17 (by decide)
  · skip
    obtain ⟨t_2, rfl⟩ := e_2
    have hw : nS G (xE G ad (xV _ _ _ _) _ _ _) s H locs := hw
    refine x_catch (k := 65) hown hts htab ⟨by decide, by decide⟩ (by decide) q122 hw (xp 65) rfl q124 ?_
    refine lv_astore_n hx hb dX0_load_26 rfl hl (by decide) rfl (fun ls hl => ?_)
    refine lv_aload_n hx hb dX0_load_27 rfl (lv_at hl 1 rfl) ?_
    refine lv_aload_n hx hb dX0_load_28 rfl (lv_at hl 0 rfl) ?_
    refine n_getN (k := 65) hx hb hts in_X1 hown hw (xp 65) rfl 6 (by decide) q174 rfl dX0_load_29 ?_
    refine n_topE (y := nI 0) rfl ?_
    refine n_calli (va_runV ⟨hx, hb, hml, hown, hts⟩ (tL_finding l G ad _ _ _ _ _ _ _ 0 (by decide)) (cwV 1 hts (lw_V q466 q468 qs3 q90 q469) rfl rfl rfl hdS_X0_finding ⟨by decide, by decide⟩) (hw.preV (k := 64) (xp 64) rfl) rfl rfl hl.1 rfl (lv_room (by simp [Value.category])) dX0_load_32 ⟨Nat.zero_le _, Nat.zero_le _⟩) hw (fun r_32 u_32 H locs e_32 hw => ?_)
    obtain ⟨rfl, rfl⟩ := e_32
    have hw : nS G (xE G ad (xV _ _ _ _) _ _ _) s H locs := hw
    exact l_iret hx hb hr hlk rfl hw (by first | (rw [loadO, lack_a t_2, lkO (by decide) (show lk (-1000001) = 0 by decide)]; exact ⟨by first | exact f_0 | exact f_5 | exact f_2 | exact f_3 | exact f_6, xU.of ⟨rfl, rfl, rfl, rfl⟩⟩) | (rw [loadO, lack_b hS hq t_2 hsh, lkO (by decide) (show lk (-1000006) = 5 by decide)]; exact ⟨by first | exact f_0 | exact f_5 | exact f_2 | exact f_3 | exact f_6, xU.of ⟨rfl, rfl, rfl, rfl⟩⟩)) dX0_load_35
theorem hdS_X0_judge : yX0_judge.cls = "LineCalls" ∧ yX0_judge.cls ≠ "java/lang/invoke/MethodHandle" ∧ yX0_judge.cls ≠ "java/lang/invoke/VarHandle" ∧ (parseMethodDescriptor yX0_judge.desc).map (fun d => d.parameters.length) = some 1 := by decide +kernel
set_option maxHeartbeats 4000000 in
theorem tL_judge (l : Launch) (G : nG) (ad : Nat → Nat) (w w1 w2 w3 : rw84) (X : mM) (sp : xSp) (sh : xSh) (t : Int32) (wd sz nb : rw84) (hS : ShR sh wd sz nb) (B : Nat) (hI : Inv B w) (hB : B ≤ 100000) : Met l yX0_judge (wsW_ yX0_judge cX0_judge 4 (some .int) [((0), (78), (79), (59))]) { frames := 3, cells := 0, slots := 0, locals := 64 } (va_Pc [.ref (ad 64), .int t] (nC G (xE G ad (xV w w1 w2 w3) X sp sh))) (va_Qi (fun (r : Int32) (u : xSt) => r = (judgeO w wd sz nb t).1 ∧ xU (judgeO w wd sz nb t).2.1 w1 (xfnd (judgeO w wd sz nb t).2.2 X) sh u) (fun u => nC G (xE G ad (xV u.1 u.2.1 u.2.2.1 u.2.2.2.1) u.2.2.2.2.1 u.2.2.2.2.2.1 u.2.2.2.2.2.2)) (nA G)) 0 0 (nA G) := by
  refine n_headW (by decide) (Nat.le_of_ble_eq_true rfl) ?_
  intro p e s m below meth c ls hx hb hr hlk hml hown hts htab hB0 hl
  have hown : s.vm.findClass "LineCalls" = some m.cls := hown
  have hw := nS.start hB0
  have hl : lv_has ls 4 [(0, .ref (ad 64)), (1, .int t)] := hl
  obtain ⟨n1, hn1, en1⟩ := hI.num
  refine lv_aload_n hx hb dX0_judge_0 rfl (lv_at hl 0 rfl) ?_
  refine lv_iload_n hx hb dX0_judge_1 rfl (lv_at hl 1 rfl) ?_
  refine x_callA ⟨hx, hb, hml, hown, hts⟩ (tL_rowAt l G ad _ _ _ _ _ _ _ _) (cwV 1 hts (lw_V q879 q881 qs23 q90 q882) rfl rfl rfl hdS_X0_rowAt ⟨by decide, by decide⟩) (hw.preV (k := 64) (xp 64) rfl) rfl hl.1 rfl (by simp [Value.category]) dX0_judge_2 ⟨Nat.zero_le _, Nat.zero_le _⟩ hw (fun u_2 H locs e_2 hw => ?_) (fun u_2 H locs e_2 hw => ?_)
  · skip
    obtain ⟨t_2, rfl⟩ := e_2
    have hw : nS G (xE G ad (xV _ _ _ _) _ _ _) s H locs := hw
    obtain ⟨q, hq, rfl⟩ := in_nat (N := 3) rfl (by decide) t_2
    have iq : ix (nI q) = q := nI_clamp (by omega)
    rw [iq]
    rcases hsh : sh q with _ | ⟨a, ty, n, f⟩
    · skip
      refine lv_astore_nN hx hb dX0_judge_5 rfl hl (by decide) rfl (fun ls hl => ?_)
      refine lv_aload_n hx hb dX0_judge_6 rfl (lv_at hl 1 rfl) ?_
      refine lv_aload_nN hx hb dX0_judge_7 rfl (lv_at hl 0 rfl) ?_
      refine lv_ifnullN (tgt := 15) hx hb dX0_judge_8 (by decide) ?_
      refine lv_iconst (v := 0) hx hb dX0_judge_15 (by decide) ?_
      refine lv_iconst (v := 5) hx hb dX0_judge_16 (by decide) ?_
      refine x_callN ⟨hx, hb, hml, hown, hts⟩ (tL_need l G ad _ _ _ _ _ _ _ _ (5)) (cwV 2 hts (lw_V q886 q888 qs24 q90 q889) rfl rfl rfl hdS_X0_need ⟨by decide, by decide⟩) (hw.preV (k := 64) (xp 64) rfl) rfl hl.1 rfl (by simp [Value.category]) dX0_judge_17 ⟨Nat.zero_le _, Nat.zero_le _⟩ hw (fun u_17 H locs e_17 hw => ?_) (fun u_17 H locs e_17 hw => ?_)
      · skip
        obtain ⟨t_17, rfl⟩ := e_17
        have hw : nS G (xE G ad (xV _ _ _ _) _ _ _) s H locs := hw
        exact absurd rfl t_17
      · skip
        obtain ⟨t_17, rfl⟩ := e_17
        have hw : nS G (xE G ad (xV _ _ _ _) _ _ _) s H locs := hw
        refine x_catch (k := 65) hown hts htab ⟨by decide, by decide⟩ (by decide) q122 hw (xp 65) rfl q124 ?_
        refine lv_astore_n hx hb dX0_judge_79 rfl hl (by decide) rfl (fun ls hl => ?_)
        refine lv_aload_n hx hb dX0_judge_80 rfl (lv_at hl 1 rfl) ?_
        refine lv_aload_n hx hb dX0_judge_81 rfl (lv_at hl 0 rfl) ?_
        refine n_getN (k := 65) hx hb hts in_X1 hown hw (xp 65) rfl 6 (by decide) q174 rfl dX0_judge_82 ?_
        refine n_topE (y := nI 5) rfl ?_
        refine n_calli (va_runV ⟨hx, hb, hml, hown, hts⟩ (tL_finding l G ad _ _ _ _ _ _ _ 5 (by decide)) (cwV 1 hts (lw_V q466 q468 qs3 q90 q469) rfl rfl rfl hdS_X0_finding ⟨by decide, by decide⟩) (hw.preV (k := 64) (xp 64) rfl) rfl rfl hl.1 rfl (lv_room (by simp [Value.category])) dX0_judge_85 ⟨Nat.zero_le _, Nat.zero_le _⟩) hw (fun r_85 u_85 H locs e_85 hw => ?_)
        obtain ⟨rfl, rfl⟩ := e_85
        have hw : nS G (xE G ad (xV _ _ _ _) _ _ _) s H locs := hw
        exact l_iret hx hb hr hlk rfl hw (by first | (rw [judgeO, lack_a t_2, lkO (by decide) (show lk (-1000001) = 0 by decide)]; exact ⟨by first | exact f_0 | exact f_5 | exact f_2 | exact f_3 | exact f_6, xU.of ⟨rfl, rfl, rfl, rfl⟩⟩) | (rw [judgeO, lack_b hS hq t_2 hsh, lkO (by decide) (show lk (-1000006) = 5 by decide)]; exact ⟨by first | exact f_0 | exact f_5 | exact f_2 | exact f_3 | exact f_6, xU.of ⟨rfl, rfl, rfl, rfl⟩⟩)) dX0_judge_88
    · skip
      obtain ⟨hty, hwdq, hn, hszq, hfq⟩ := hS.som (by omega) hsh
      refine lv_astore_n hx hb dX0_judge_5 rfl hl (by decide) rfl (fun ls hl => ?_)
      refine lv_aload_n hx hb dX0_judge_6 rfl (lv_at hl 1 rfl) ?_
      refine lv_aload_n hx hb dX0_judge_7 rfl (lv_at hl 0 rfl) ?_
      refine lv_ifnull hx hb dX0_judge_8 ?_
      refine lv_iconst (v := 1) hx hb dX0_judge_11 (by decide) ?_
      refine lv_goto (tgt := 16) hx hb dX0_judge_12 (by decide) ?_
      refine lv_iconst (v := 5) hx hb dX0_judge_16 (by decide) ?_
      refine x_callN ⟨hx, hb, hml, hown, hts⟩ (tL_need l G ad _ _ _ _ _ _ _ _ (5)) (cwV 2 hts (lw_V q886 q888 qs24 q90 q889) rfl rfl rfl hdS_X0_need ⟨by decide, by decide⟩) (hw.preV (k := 64) (xp 64) rfl) rfl hl.1 rfl (by simp [Value.category]) dX0_judge_17 ⟨Nat.zero_le _, Nat.zero_le _⟩ hw (fun u_17 H locs e_17 hw => ?_) (fun u_17 H locs e_17 hw => ?_)
      · skip
        obtain ⟨t_17, rfl⟩ := e_17
        have hw : nS G (xE G ad (xV _ _ _ _) _ _ _) s H locs := hw
        refine lv_iconst (v := 0) hx hb dX0_judge_20 (by decide) ?_
        refine lv_istore_n hx hb dX0_judge_21 rfl hl (by decide) rfl (fun ls hl => ?_)
        refine n_loopR (α := Nat) (fun k ls => k ≤ n ∧ jdR f w (n - k) k = jdR f w n 0 ∧ lv_has ls 4 [(0, .ref (ad 64)), (2, .ref a), (3, .int (nI k))]) (fun k => n - k) 22 ?_ 0 _ ⟨Nat.zero_le _, rfl, (lv_sub hl [2, 1, 0] rfl)⟩
        clear hl
        intro k ls hI ih_22
        obtain ⟨hk, hf, hl⟩ := hI
        refine lv_iload_n hx hb dX0_judge_22 rfl (lv_at hl 2 rfl) ?_
        refine lv_aload_n hx hb dX0_judge_23 rfl (lv_at hl 1 rfl) ?_
        refine n_callp (va_runS ⟨hx, hb, hml, hown, hts⟩ (tX_length l G _ (320 + q) ty n a f (sh_at (by omega) hsh) hty hn) (va_cwS 1 hts (lw_S q902 q903 q90 q904) rfl rfl rfl (hdS_X0_length).2 ⟨by decide, by decide⟩) hw.preS rfl rfl hl.1 rfl (lv_room (by simp [Value.category])) dX0_judge_24 ⟨Nat.zero_le _, Nat.zero_le _⟩) (fun r_24 e_24 => ?_)
        subst e_24
        refine lv_icmp_ge (tgt := 63) hx hb dX0_judge_27 (by decide) (fun c_27 => ?_) (fun c_27 => ?_)
        · skip
          have n_27 : n ≤ k := (nI_leI (a := n) (b := k) (by omega) (by omega)).mp c_27
          have hN := (jd_end (show n - k = 0 by omega)).symm.trans hf
          refine lv_iload_n hx hb dX0_judge_63 rfl (lv_at hl 2 rfl) ?_
          refine lv_aload_n hx hb dX0_judge_64 rfl (lv_at hl 1 rfl) ?_
          refine n_callp (va_runS ⟨hx, hb, hml, hown, hts⟩ (tX_length l G _ (320 + q) ty n a f (sh_at (by omega) hsh) hty hn) (va_cwS 1 hts (lw_S q902 q903 q90 q904) rfl rfl rfl (hdS_X0_length).2 ⟨by decide, by decide⟩) hw.preS rfl rfl hl.1 rfl (lv_room (by simp [Value.category])) dX0_judge_65 ⟨Nat.zero_le _, Nat.zero_le _⟩) (fun r_65 e_65 => ?_)
          subst e_65
          refine lv_icmp_ne (tgt := 75) hx hb dX0_judge_68 (by decide) (fun c_68 => ?_) (fun c_68 => ?_)
          · skip
            refine lv_iconst (v := 1) hx hb dX0_judge_75 (by decide) ?_
            refine lv_iload_n hx hb dX0_judge_76 rfl (lv_at hl 2 rfl) ?_
            refine lv_iadd hx hb dX0_judge_77 ?_
            refine n_topE (nI_add 1 k) ?_
            exact l_iret hx hb hr hlk rfl hw (by rw [judgeO, lack_c hS hq t_2 hsh (by decide), if_pos rfl, iq, hszq, show ix (nI n) = n from nI_clamp (by omega), shR_at iq, jdR_cong (f := fun k => nb (40 * q + k)) (g := f) n 0 (fun i _ hi => ((hfq i (by omega)).1).symm), ← hN]; first | (rw [if_pos c_68]; exact ⟨rfl, xU.of (xSc.rf _)⟩) | (rw [if_neg c_68]; exact ⟨by first | rfl | rw [show (1 : Int32) = nI 1 from rfl, nI_add], xU.of (xSc.rf _)⟩)) dX0_judge_78
          · skip
            refine lv_iconst (v := 0) hx hb dX0_judge_71 (by decide) ?_
            refine lv_goto (tgt := 78) hx hb dX0_judge_72 (by decide) ?_
            exact l_iret hx hb hr hlk rfl hw (by rw [judgeO, lack_c hS hq t_2 hsh (by decide), if_pos rfl, iq, hszq, show ix (nI n) = n from nI_clamp (by omega), shR_at iq, jdR_cong (f := fun k => nb (40 * q + k)) (g := f) n 0 (fun i _ hi => ((hfq i (by omega)).1).symm), ← hN]; first | (rw [if_pos c_68]; exact ⟨rfl, xU.of (xSc.rf _)⟩) | (rw [if_neg c_68]; exact ⟨by first | rfl | rw [show (1 : Int32) = nI 1 from rfl, nI_add], xU.of (xSc.rf _)⟩)) dX0_judge_78
        · skip
          have n_27 : ¬ n ≤ k := fun h => c_27 ((nI_leI (a := n) (b := k) (by omega) (by omega)).mpr h)
          refine lv_aload_n hx hb dX0_judge_30 rfl (lv_at hl 0 rfl) ?_
          refine lv_iload_n hx hb dX0_judge_31 rfl (lv_at hl 2 rfl) ?_
          refine n_callp (va_runV ⟨hx, hb, hml, hown, hts⟩ (tL_isJumper l G ad _ _ _ _ _ _ _ _) (cwV 1 hts (lw_V q462 q464 qs2 q90 q465) rfl rfl rfl hdS_X0_isJumper ⟨by decide, by decide⟩) (hw.preV (k := 64) (xp 64) rfl) rfl rfl hl.1 rfl (lv_room (by simp [Value.category])) dX0_judge_32 ⟨Nat.zero_le _, Nat.zero_le _⟩) (fun r_32 e_32 => ?_)
          subst e_32
          refine lv_if_eq (tgt := 63) hx hb dX0_judge_35 (by decide) (fun c_35 => ?_) (fun c_35 => ?_)
          · skip
            have hN := (jd_st1 (n - k) c_35).symm.trans hf
            refine lv_iload_n hx hb dX0_judge_63 rfl (lv_at hl 2 rfl) ?_
            refine lv_aload_n hx hb dX0_judge_64 rfl (lv_at hl 1 rfl) ?_
            refine n_callp (va_runS ⟨hx, hb, hml, hown, hts⟩ (tX_length l G _ (320 + q) ty n a f (sh_at (by omega) hsh) hty hn) (va_cwS 1 hts (lw_S q902 q903 q90 q904) rfl rfl rfl (hdS_X0_length).2 ⟨by decide, by decide⟩) hw.preS rfl rfl hl.1 rfl (lv_room (by simp [Value.category])) dX0_judge_65 ⟨Nat.zero_le _, Nat.zero_le _⟩) (fun r_65 e_65 => ?_)
            subst e_65
            refine lv_icmp_ne (tgt := 75) hx hb dX0_judge_68 (by decide) (fun c_68 => ?_) (fun c_68 => ?_)
            · skip
              refine lv_iconst (v := 1) hx hb dX0_judge_75 (by decide) ?_
              refine lv_iload_n hx hb dX0_judge_76 rfl (lv_at hl 2 rfl) ?_
              refine lv_iadd hx hb dX0_judge_77 ?_
              refine n_topE (nI_add 1 k) ?_
              exact l_iret hx hb hr hlk rfl hw (by rw [judgeO, lack_c hS hq t_2 hsh (by decide), if_pos rfl, iq, hszq, show ix (nI n) = n from nI_clamp (by omega), shR_at iq, jdR_cong (f := fun k => nb (40 * q + k)) (g := f) n 0 (fun i _ hi => ((hfq i (by omega)).1).symm), ← hN]; first | (rw [if_pos c_68]; exact ⟨rfl, xU.of (xSc.rf _)⟩) | (rw [if_neg c_68]; exact ⟨by first | rfl | rw [show (1 : Int32) = nI 1 from rfl, nI_add], xU.of (xSc.rf _)⟩)) dX0_judge_78
            · skip
              refine lv_iconst (v := 0) hx hb dX0_judge_71 (by decide) ?_
              refine lv_goto (tgt := 78) hx hb dX0_judge_72 (by decide) ?_
              exact l_iret hx hb hr hlk rfl hw (by rw [judgeO, lack_c hS hq t_2 hsh (by decide), if_pos rfl, iq, hszq, show ix (nI n) = n from nI_clamp (by omega), shR_at iq, jdR_cong (f := fun k => nb (40 * q + k)) (g := f) n 0 (fun i _ hi => ((hfq i (by omega)).1).symm), ← hN]; first | (rw [if_pos c_68]; exact ⟨rfl, xU.of (xSc.rf _)⟩) | (rw [if_neg c_68]; exact ⟨by first | rfl | rw [show (1 : Int32) = nI 1 from rfl, nI_add], xU.of (xSc.rf _)⟩)) dX0_judge_78
          · skip
            obtain ⟨j, hjn, hj8, ej⟩ := in_num en1 hn1 c_35
            have hk8 : k < 8 := by have := (nI_eq (by omega) (by omega)).mp ej; omega
            refine lv_aload_n hx hb dX0_judge_38 rfl (lv_at hl 1 rfl) ?_
            refine lv_iload_n hx hb dX0_judge_39 rfl (lv_at hl 2 rfl) ?_
            refine n_callp (va_runS ⟨hx, hb, hml, hown, hts⟩ (tX_number l G _ (320 + q) ty n a f (sh_at (by omega) hsh) hty hn (k) (by omega)) (va_cwS 2 hts (lw_S q908 q909 q90 q910) rfl rfl rfl (hdS_X0_number).2 ⟨by decide, by decide⟩) hw.preS rfl rfl hl.1 rfl (lv_room (by simp [Value.category])) dX0_judge_40 ⟨Nat.zero_le _, Nat.zero_le _⟩) (fun r_40 e_40 => ?_)
            subst e_40
            refine lv_aload_n hx hb dX0_judge_43 rfl (lv_at hl 0 rfl) ?_
            refine n_get (k := 64) hx hb hts in_X0 hown hw (xp 64) rfl 3 (by decide) q418 rfl dX0_judge_44 ?_
            refine n_getN (k := 16 * 0 + 0) hx hb hts in_X4 hown hw (xv0 0) rfl 6 (by decide) q243 rfl dX0_judge_47 ?_
            refine lv_iconst (v := 3) hx hb dX0_judge_50 (by decide) ?_
            refine n_aaldS (k := 16 * 0 + 7) (t := 4) (j := 3) (b := ad (16 * 0 + 11)) hx hb hw (xv0 7) (Or.inr rfl) rfl (by decide) (by decide) rfl dX0_judge_51 ?_
            refine lv_iload_n hx hb dX0_judge_52 rfl (lv_at hl 2 rfl) ?_
            refine n_iald (k := 16 * 0 + 11) (j := k) hx hb hw (xv0 11) rfl (by omega) (by decide) dX0_judge_53 ?_
            refine lv_icmp_ne (tgt := 63) hx hb dX0_judge_54 (by decide) (fun c_54 => ?_) (fun c_54 => ?_)
            · skip
              have hN := (jd_st2 (n - k) c_35 c_54).symm.trans hf
              refine lv_iload_n hx hb dX0_judge_63 rfl (lv_at hl 2 rfl) ?_
              refine lv_aload_n hx hb dX0_judge_64 rfl (lv_at hl 1 rfl) ?_
              refine n_callp (va_runS ⟨hx, hb, hml, hown, hts⟩ (tX_length l G _ (320 + q) ty n a f (sh_at (by omega) hsh) hty hn) (va_cwS 1 hts (lw_S q902 q903 q90 q904) rfl rfl rfl (hdS_X0_length).2 ⟨by decide, by decide⟩) hw.preS rfl rfl hl.1 rfl (lv_room (by simp [Value.category])) dX0_judge_65 ⟨Nat.zero_le _, Nat.zero_le _⟩) (fun r_65 e_65 => ?_)
              subst e_65
              refine lv_icmp_ne (tgt := 75) hx hb dX0_judge_68 (by decide) (fun c_68 => ?_) (fun c_68 => ?_)
              · skip
                refine lv_iconst (v := 1) hx hb dX0_judge_75 (by decide) ?_
                refine lv_iload_n hx hb dX0_judge_76 rfl (lv_at hl 2 rfl) ?_
                refine lv_iadd hx hb dX0_judge_77 ?_
                refine n_topE (nI_add 1 k) ?_
                exact l_iret hx hb hr hlk rfl hw (by rw [judgeO, lack_c hS hq t_2 hsh (by decide), if_pos rfl, iq, hszq, show ix (nI n) = n from nI_clamp (by omega), shR_at iq, jdR_cong (f := fun k => nb (40 * q + k)) (g := f) n 0 (fun i _ hi => ((hfq i (by omega)).1).symm), ← hN]; first | (rw [if_pos c_68]; exact ⟨rfl, xU.of (xSc.rf _)⟩) | (rw [if_neg c_68]; exact ⟨by first | rfl | rw [show (1 : Int32) = nI 1 from rfl, nI_add], xU.of (xSc.rf _)⟩)) dX0_judge_78
              · skip
                refine lv_iconst (v := 0) hx hb dX0_judge_71 (by decide) ?_
                refine lv_goto (tgt := 78) hx hb dX0_judge_72 (by decide) ?_
                exact l_iret hx hb hr hlk rfl hw (by rw [judgeO, lack_c hS hq t_2 hsh (by decide), if_pos rfl, iq, hszq, show ix (nI n) = n from nI_clamp (by omega), shR_at iq, jdR_cong (f := fun k => nb (40 * q + k)) (g := f) n 0 (fun i _ hi => ((hfq i (by omega)).1).symm), ← hN]; first | (rw [if_pos c_68]; exact ⟨rfl, xU.of (xSc.rf _)⟩) | (rw [if_neg c_68]; exact ⟨by first | rfl | rw [show (1 : Int32) = nI 1 from rfl, nI_add], xU.of (xSc.rf _)⟩)) dX0_judge_78
            · skip
              refine lv_iinc (v := nI (k + 1)) hx hb dX0_judge_57 hl (k := 2) rfl (nI_1 _) (by decide) rfl (fun ls hl => ?_)
              refine lv_goto (tgt := 22) hx hb dX0_judge_60 (by decide) ?_
              exact ih_22 (k + 1) _ (by first | omega | (dsimp only; omega)) ⟨by omega, (jd_go (by omega) c_35 c_54).symm.trans hf, (lv_sub hl [1, 2, 0] rfl)⟩
      · skip
        obtain ⟨t_17, rfl⟩ := e_17
        have hw : nS G (xE G ad (xV _ _ _ _) _ _ _) s H locs := hw
        exact absurd t_17 (by decide)
  · skip
    obtain ⟨t_2, rfl⟩ := e_2
    have hw : nS G (xE G ad (xV _ _ _ _) _ _ _) s H locs := hw
    refine x_catch (k := 65) hown hts htab ⟨by decide, by decide⟩ (by decide) q122 hw (xp 65) rfl q124 ?_
    refine lv_astore_n hx hb dX0_judge_79 rfl hl (by decide) rfl (fun ls hl => ?_)
    refine lv_aload_n hx hb dX0_judge_80 rfl (lv_at hl 1 rfl) ?_
    refine lv_aload_n hx hb dX0_judge_81 rfl (lv_at hl 0 rfl) ?_
    refine n_getN (k := 65) hx hb hts in_X1 hown hw (xp 65) rfl 6 (by decide) q174 rfl dX0_judge_82 ?_
    refine n_topE (y := nI 0) rfl ?_
    refine n_calli (va_runV ⟨hx, hb, hml, hown, hts⟩ (tL_finding l G ad _ _ _ _ _ _ _ 0 (by decide)) (cwV 1 hts (lw_V q466 q468 qs3 q90 q469) rfl rfl rfl hdS_X0_finding ⟨by decide, by decide⟩) (hw.preV (k := 64) (xp 64) rfl) rfl rfl hl.1 rfl (lv_room (by simp [Value.category])) dX0_judge_85 ⟨Nat.zero_le _, Nat.zero_le _⟩) hw (fun r_85 u_85 H locs e_85 hw => ?_)
    obtain ⟨rfl, rfl⟩ := e_85
    have hw : nS G (xE G ad (xV _ _ _ _) _ _ _) s H locs := hw
    exact l_iret hx hb hr hlk rfl hw (by first | (rw [judgeO, lack_a t_2, lkO (by decide) (show lk (-1000001) = 0 by decide)]; exact ⟨by first | exact f_0 | exact f_5 | exact f_2 | exact f_3 | exact f_6, xU.of ⟨rfl, rfl, rfl, rfl⟩⟩) | (rw [judgeO, lack_b hS hq t_2 hsh, lkO (by decide) (show lk (-1000006) = 5 by decide)]; exact ⟨by first | exact f_0 | exact f_5 | exact f_2 | exact f_3 | exact f_6, xU.of ⟨rfl, rfl, rfl, rfl⟩⟩)) dX0_judge_88
theorem hdS_X0_rowFor : yX0_rowFor.cls = "LineCalls" ∧ yX0_rowFor.cls ≠ "java/lang/invoke/MethodHandle" ∧ yX0_rowFor.cls ≠ "java/lang/invoke/VarHandle" ∧ (parseMethodDescriptor yX0_rowFor.desc).map (fun d => d.parameters.length) = some 2 := by decide +kernel
set_option maxHeartbeats 4000000 in
theorem tL_rowFor (l : Launch) (G : nG) (ad : Nat → Nat) (w w1 w2 w3 : rw84) (X : mM) (sp : xSp) (sh : xSh) (t k : Int32) : MetX l yX0_rowFor (ws_ yX0_rowFor cX0_rowFor 4 (some (.object "java/lang/Object"))) { frames := 3, cells := 0, slots := 0, locals := 64 } (va_Pc [.ref (ad 64), .int t, .int k] (nC G (xE G ad (xV w w1 w2 w3) X sp sh))) (xQ G (fun (_ : xSt) => some (va_rf ((sh (ix t)).map (fun q => q.1)))) (fun (u : xSt) => ¬ inF t 0 3 = 0 ∧ ¬ sh (ix t) = none ∧ ¬ inF k 0 (w 1 - 1) = 0 ∧ u = (w, w1, w2, w3, X, sp, sh)) (fun (u : xSt) => ∃ k0, LkX sh t (inF k 0 (w 1 - 1)) k0 ∧ u = (w, w1, w2, w3, u2 X 20 0 (nI k0), sp, sh)) (ad 65) (fun u => xE G ad (xV u.1 u.2.1 u.2.2.1 u.2.2.2.1) u.2.2.2.2.1 u.2.2.2.2.2.1 u.2.2.2.2.2.2)) 0 0 (nA G) := by
  refine x_head (by decide) (Nat.le_of_ble_eq_true rfl) ?_
  intro p e s m below meth c ls hx hb hr hlk hml hown hts hnh hB0 hl
  have hown : s.vm.findClass "LineCalls" = some m.cls := hown
  have hw := nS.start hB0
  have hl : lv_has ls 4 [(0, .ref (ad 64)), (1, .int t), (2, .int k)] := hl
  refine lv_aload_n hx hb dX0_rowFor_0 rfl (lv_at hl 0 rfl) ?_
  refine lv_iload_n hx hb dX0_rowFor_1 rfl (lv_at hl 1 rfl) ?_
  refine x_callA ⟨hx, hb, hml, hown, hts⟩ (tL_rowAt l G ad _ _ _ _ _ _ _ _) (cwV 1 hts (lw_V q879 q881 qs23 q90 q882) rfl rfl rfl hdS_X0_rowAt ⟨by decide, by decide⟩) (hw.preV (k := 64) (xp 64) rfl) rfl hl.1 rfl (by simp [Value.category]) dX0_rowFor_2 ⟨Nat.zero_le _, Nat.zero_le _⟩ hw (fun u_2 H locs e_2 hw => ?_) (fun u_2 H locs e_2 hw => ?_)
  · skip
    obtain ⟨t_2, rfl⟩ := e_2
    have hw : nS G (xE G ad (xV _ _ _ _) _ _ _) s H locs := hw
    rcases hsh : sh (ix t) with _ | ⟨a, ty, n, f⟩
    · skip
      refine lv_astore_nN hx hb dX0_rowFor_5 rfl hl (by decide) rfl (fun ls hl => ?_)
      refine lv_aload_n hx hb dX0_rowFor_6 rfl (lv_at hl 1 rfl) ?_
      refine lv_aload_nN hx hb dX0_rowFor_7 rfl (lv_at hl 0 rfl) ?_
      refine lv_ifnullN (tgt := 15) hx hb dX0_rowFor_8 (by decide) ?_
      refine lv_iconst (v := 0) hx hb dX0_rowFor_15 (by decide) ?_
      refine lv_iconst (v := 5) hx hb dX0_rowFor_16 (by decide) ?_
      refine x_callN ⟨hx, hb, hml, hown, hts⟩ (tL_need l G ad _ _ _ _ _ _ _ _ (5)) (cwV 2 hts (lw_V q886 q888 qs24 q90 q889) rfl rfl rfl hdS_X0_need ⟨by decide, by decide⟩) (hw.preV (k := 64) (xp 64) rfl) rfl hl.1 rfl (by simp [Value.category]) dX0_rowFor_17 ⟨Nat.zero_le _, Nat.zero_le _⟩ hw (fun u_17 H locs e_17 hw => ?_) (fun u_17 H locs e_17 hw => ?_)
      · skip
        obtain ⟨t_17, rfl⟩ := e_17
        have hw : nS G (xE G ad (xV _ _ _ _) _ _ _) s H locs := hw
        exact absurd rfl t_17
      · skip
        obtain ⟨t_17, rfl⟩ := e_17
        have hw : nS G (xE G ad (xV _ _ _ _) _ _ _) s H locs := hw
        exact lx_out hlk hnh hw ⟨5, Or.inr (Or.inl ⟨t_2, hsh, rfl⟩), rfl⟩
    · skip
      refine lv_astore_n hx hb dX0_rowFor_5 rfl hl (by decide) rfl (fun ls hl => ?_)
      refine lv_aload_n hx hb dX0_rowFor_6 rfl (lv_at hl 1 rfl) ?_
      refine lv_aload_n hx hb dX0_rowFor_7 rfl (lv_at hl 0 rfl) ?_
      refine lv_ifnull hx hb dX0_rowFor_8 ?_
      refine lv_iconst (v := 1) hx hb dX0_rowFor_11 (by decide) ?_
      refine lv_goto (tgt := 16) hx hb dX0_rowFor_12 (by decide) ?_
      refine lv_iconst (v := 5) hx hb dX0_rowFor_16 (by decide) ?_
      refine x_callN ⟨hx, hb, hml, hown, hts⟩ (tL_need l G ad _ _ _ _ _ _ _ _ (5)) (cwV 2 hts (lw_V q886 q888 qs24 q90 q889) rfl rfl rfl hdS_X0_need ⟨by decide, by decide⟩) (hw.preV (k := 64) (xp 64) rfl) rfl hl.1 rfl (by simp [Value.category]) dX0_rowFor_17 ⟨Nat.zero_le _, Nat.zero_le _⟩ hw (fun u_17 H locs e_17 hw => ?_) (fun u_17 H locs e_17 hw => ?_)
      · skip
        obtain ⟨t_17, rfl⟩ := e_17
        have hw : nS G (xE G ad (xV _ _ _ _) _ _ _) s H locs := hw
        refine lv_aload_n hx hb dX0_rowFor_20 rfl (lv_at hl 1 rfl) ?_
        refine lv_aload_n hx hb dX0_rowFor_21 rfl (lv_at hl 1 rfl) ?_
        refine lv_iload_n hx hb dX0_rowFor_22 rfl (lv_at hl 3 rfl) ?_
        refine n_callp (va_runV ⟨hx, hb, hml, hown, hts⟩ (tL_isJumper l G ad _ _ _ _ _ _ _ _) (cwV 1 hts (lw_V q462 q464 qs2 q90 q465) rfl rfl rfl hdS_X0_isJumper ⟨by decide, by decide⟩) (hw.preV (k := 64) (xp 64) rfl) rfl rfl hl.1 rfl (lv_room (by simp [Value.category])) dX0_rowFor_23 ⟨Nat.zero_le _, Nat.zero_le _⟩) (fun r_23 e_23 => ?_)
        subst e_23
        refine lv_iconst (v := 0) hx hb dX0_rowFor_26 (by decide) ?_
        refine x_callN ⟨hx, hb, hml, hown, hts⟩ (tL_need l G ad _ _ _ _ _ _ _ _ (0)) (cwV 2 hts (lw_V q886 q888 qs24 q90 q889) rfl rfl rfl hdS_X0_need ⟨by decide, by decide⟩) (hw.preV (k := 64) (xp 64) rfl) rfl hl.1 rfl (by simp [Value.category]) dX0_rowFor_27 ⟨Nat.zero_le _, Nat.zero_le _⟩ hw (fun u_27 H locs e_27 hw => ?_) (fun u_27 H locs e_27 hw => ?_)
        · skip
          obtain ⟨t_27, rfl⟩ := e_27
          have hw : nS G (xE G ad (xV _ _ _ _) _ _ _) s H locs := hw
          refine lv_aload_n hx hb dX0_rowFor_30 rfl (lv_at hl 0 rfl) ?_
          exact lx_aret hx hb hr (Or.inl ⟨_, rfl⟩) hlk (Or.inr ⟨_, rfl⟩) hw ⟨t_2, (by first | (rw [hsh]; exact nofun) | exact nofun), t_27, rfl⟩ dX0_rowFor_31
        · skip
          obtain ⟨t_27, rfl⟩ := e_27
          have hw : nS G (xE G ad (xV _ _ _ _) _ _ _) s H locs := hw
          exact lx_out hlk hnh hw ⟨0, Or.inr (Or.inr ⟨t_2, (by first | (rw [hsh]; exact nofun) | exact nofun), t_27, rfl⟩), rfl⟩
      · skip
        obtain ⟨t_17, rfl⟩ := e_17
        have hw : nS G (xE G ad (xV _ _ _ _) _ _ _) s H locs := hw
        exact absurd t_17 (by decide)
  · skip
    obtain ⟨t_2, rfl⟩ := e_2
    have hw : nS G (xE G ad (xV _ _ _ _) _ _ _) s H locs := hw
    exact lx_out hlk hnh hw ⟨0, Or.inl ⟨t_2, rfl⟩, rfl⟩
