/-! the class: its public methods, first part -/
set_option maxRecDepth 100000
def xfnd (o : Option Nat) (X : mM) : mM := match o with
  | none => X
  | some k => u2 X 10 k (X 10 k + 1)
theorem hdS_X0_finding : yX0_finding.cls = "LineCalls" ∧ yX0_finding.cls ≠ "java/lang/invoke/MethodHandle" ∧ yX0_finding.cls ≠ "java/lang/invoke/VarHandle" ∧ (parseMethodDescriptor yX0_finding.desc).map (fun d => d.parameters.length) = some 1 := by decide +kernel
set_option maxHeartbeats 4000000 in
theorem tL_finding (l : Launch) (G : nG) (ad : Nat → Nat) (w w1 w2 w3 : rw84) (X : mM) (sp : xSp) (sh : xSh) (k : Nat) (hk : k < 7) : Met l yX0_finding (ws_ yX0_finding cX0_finding 2 (some .int)) { frames := 0, cells := 0, slots := 0, locals := 0 } (va_Pc [.ref (ad 64), .int (nI k)] (nC G (xE G ad (xV w w1 w2 w3) X sp sh))) (va_Qi (fun (r : Int32) (u : xSt) => r = -1000001 - nI k ∧ u = (w, w1, w2, w3, u2 X 10 k (X 10 k + 1), sp, sh)) (fun u => nC G (xE G ad (xV u.1 u.2.1 u.2.2.1 u.2.2.2.1) u.2.2.2.2.1 u.2.2.2.2.2.1 u.2.2.2.2.2.2)) (nA G)) 0 0 (nA G) := by
  refine n_head (by decide) (Nat.le_of_ble_eq_true rfl) ?_
  intro p e s m below meth c ls hx hb hr hlk hml hown hts hB0 hl
  have hown : s.vm.findClass "LineCalls" = some m.cls := hown
  have hw := nS.start hB0
  have hl : lv_has ls 2 [(0, .ref (ad 64)), (1, .int (nI k))] := hl
  refine lv_aload_n hx hb dX0_finding_0 rfl (lv_at hl 0 rfl) ?_
  refine n_get (k := 64) hx hb hts in_X0 hown hw (xp 64) rfl 10 (by decide) q425 rfl dX0_finding_1 ?_
  refine lv_iload_n hx hb dX0_finding_4 rfl (lv_at hl 1 rfl) ?_
  refine lv_dup2_11 hx hb dX0_finding_5 rfl rfl ?_
  refine n_iald (k := 72) (j := k) hx hb hw (xp 72) rfl (by omega) (by decide) dX0_finding_6 ?_
  refine lv_iconst (v := 1) hx hb dX0_finding_7 (by decide) ?_
  refine lv_iadd hx hb dX0_finding_8 ?_
  refine l_fnd hx hb hw (q := k) rfl (by omega) dX0_finding_9 (fun H locs hw => ?_)
  refine lv_ldc (v := (-1000001)) hx hb hown (hts _ q470) dX0_finding_10 ?_
  refine lv_iload_n hx hb dX0_finding_12 rfl (lv_at hl 1 rfl) ?_
  refine lv_isub hx hb dX0_finding_13 ?_
  exact l_iret hx hb hr hlk rfl hw ⟨rfl, rfl⟩ dX0_finding_14
theorem hdS_X0_orNone : yX0_orNone.cls = "LineCalls" ∧ yX0_orNone.cls ≠ "java/lang/invoke/MethodHandle" ∧ yX0_orNone.cls ≠ "java/lang/invoke/VarHandle" ∧ (parseMethodDescriptor yX0_orNone.desc).map (fun d => d.parameters.length) = some 1 := by decide +kernel
set_option maxHeartbeats 4000000 in
theorem tL_orNone (l : Launch) (G : nG) (ad : Nat → Nat) (w w1 w2 w3 : rw84) (X : mM) (sp : xSp) (sh : xSh) (v : Int32) : Met l yX0_orNone (ws_ yX0_orNone cX0_orNone 2 (some .int)) { frames := 1, cells := 0, slots := 0, locals := 21 } (va_Pc [.ref (ad 64), .int v] (nC G (xE G ad (xV w w1 w2 w3) X sp sh))) (va_Qi (fun (r : Int32) (u : xSt) => r = (if v = -1 then -1000004 else v) ∧ u = (w, w1, w2, w3, if v = -1 then xfnd (some 3) X else X, sp, sh)) (fun u => nC G (xE G ad (xV u.1 u.2.1 u.2.2.1 u.2.2.2.1) u.2.2.2.2.1 u.2.2.2.2.2.1 u.2.2.2.2.2.2)) (nA G)) 0 0 (nA G) := by
  refine n_head (by decide) (Nat.le_of_ble_eq_true rfl) ?_
  intro p e s m below meth c ls hx hb hr hlk hml hown hts hB0 hl
  have hown : s.vm.findClass "LineCalls" = some m.cls := hown
  have hw := nS.start hB0
  have hl : lv_has ls 2 [(0, .ref (ad 64)), (1, .int v)] := hl
  refine lv_iload_n hx hb dX0_orNone_0 rfl (lv_at hl 1 rfl) ?_
  refine lv_iconst (v := (-1)) hx hb dX0_orNone_1 (by decide) ?_
  refine lv_icmp_ne (tgt := 13) hx hb dX0_orNone_2 (by decide) (fun c_2 => ?_) (fun c_2 => ?_)
  · skip
    refine lv_iload_n hx hb dX0_orNone_13 rfl (lv_at hl 1 rfl) ?_
    exact l_iret hx hb hr hlk rfl hw (by rw [if_neg c_2, if_neg c_2]; exact ⟨rfl, rfl⟩) dX0_orNone_14
  · skip
    refine lv_aload_n hx hb dX0_orNone_5 rfl (lv_at hl 0 rfl) ?_
    refine lv_iconst (v := 3) hx hb dX0_orNone_6 (by decide) ?_
    refine n_calli (va_runV ⟨hx, hb, hml, hown, hts⟩ (tL_finding l G ad _ _ _ _ _ _ _ (3) (by decide)) (cwV 1 hts (lw_V q466 q468 qs3 q90 q469) rfl rfl rfl hdS_X0_finding ⟨by decide, by decide⟩) (hw.preV (k := 64) (xp 64) rfl) rfl rfl hl.1 rfl (lv_room (by simp [Value.category])) dX0_orNone_7 ⟨Nat.zero_le _, Nat.zero_le _⟩) hw (fun r_7 u_7 H locs e_7 hw => ?_)
    obtain ⟨rfl, rfl⟩ := e_7
    have hw : nS G (xE G ad (xV _ _ _ _) _ _ _) s H locs := hw
    refine lv_goto (tgt := 14) hx hb dX0_orNone_10 (by decide) ?_
    exact l_iret hx hb hr hlk rfl hw (by rw [if_pos c_2, if_pos c_2]; exact ⟨rfl, rfl⟩) dX0_orNone_14
theorem hdS_X0_listed : yX0_listed.cls = "LineCalls" ∧ yX0_listed.cls ≠ "java/lang/invoke/MethodHandle" ∧ yX0_listed.cls ≠ "java/lang/invoke/VarHandle" ∧ (parseMethodDescriptor yX0_listed.desc).map (fun d => d.parameters.length) = some 1 := by decide +kernel
set_option maxHeartbeats 4000000 in
theorem tL_listed (l : Launch) (G : nG) (ad : Nat → Nat) (w w1 w2 w3 : rw84) (X : mM) (sp : xSp) (sh : xSh) (x : Int32) : Met l yX0_listed (ws_ yX0_listed cX0_listed 2 (some .int)) { frames := 2, cells := 0, slots := 0, locals := 42 } (va_Pc [.ref (ad 64), .int x] (nC G (xE G ad (xV w w1 w2 w3) X sp sh))) (va_Qi (fun (r : Int32) (u : xSt) => r = (listedO w x).1 ∧ u = ((listedO w x).2.1, w1, w2, w3, xfnd (listedO w x).2.2 X, sp, sh)) (fun u => nC G (xE G ad (xV u.1 u.2.1 u.2.2.1 u.2.2.2.1) u.2.2.2.2.1 u.2.2.2.2.2.1 u.2.2.2.2.2.2)) (nA G)) 0 0 (nA G) := by
  refine n_head (by decide) (Nat.le_of_ble_eq_true rfl) ?_
  intro p e s m below meth c ls hx hb hr hlk hml hown hts hB0 hl
  have hown : s.vm.findClass "LineCalls" = some m.cls := hown
  have hw := nS.start hB0
  have hl : lv_has ls 2 [(0, .ref (ad 64)), (1, .int x)] := hl
  refine lv_iload_n hx hb dX0_listed_0 rfl (lv_at hl 1 rfl) ?_
  refine n_callp (va_runS ⟨hx, hb, hml, hown, hts⟩ (tX_isListed l _) (va_cwS 1 hts (lw_S q505 q506 q90 q507) rfl rfl rfl (hdS_X0_isListed).2 ⟨by decide, by decide⟩) pu_pre rfl rfl hl.1 rfl (lv_room (by simp [Value.category])) dX0_listed_1 ⟨Nat.zero_le _, Nat.zero_le _⟩) (fun r_1 e_1 => ?_)
  subst e_1
  refine lv_if_eq (tgt := 19) hx hb dX0_listed_4 (by decide) (fun c_4 => ?_) (fun c_4 => ?_)
  · skip
    refine lv_aload_n hx hb dX0_listed_19 rfl (lv_at hl 0 rfl) ?_
    refine lv_iconst (v := 0) hx hb dX0_listed_20 (by decide) ?_
    refine n_calli (va_runV ⟨hx, hb, hml, hown, hts⟩ (tL_finding l G ad _ _ _ _ _ _ _ (0) (by decide)) (cwV 1 hts (lw_V q466 q468 qs3 q90 q469) rfl rfl rfl hdS_X0_finding ⟨by decide, by decide⟩) (hw.preV (k := 64) (xp 64) rfl) rfl rfl hl.1 rfl (lv_room (by simp [Value.category])) dX0_listed_21 ⟨Nat.zero_le _, Nat.zero_le _⟩) hw (fun r_21 u_21 H locs e_21 hw => ?_)
    obtain ⟨rfl, rfl⟩ := e_21
    have hw : nS G (xE G ad (xV _ _ _ _) _ _ _) s H locs := hw
    exact l_iret hx hb hr hlk rfl hw (by rw [listedO, if_pos c_4]; first | (rw [iq]; exact ⟨rfl, rfl⟩) | exact ⟨rfl, rfl⟩) dX0_listed_24
  · skip
    obtain ⟨q, hq, rfl⟩ := in_nat (N := 5) rfl (by decide) c_4
    have iq : ix (nI q) = q := nI_clamp (by omega)
    refine lv_aload_n hx hb dX0_listed_7 rfl (lv_at hl 0 rfl) ?_
    refine n_get (k := 64) hx hb hts in_X0 hown hw (xp 64) rfl 3 (by decide) q418 rfl dX0_listed_8 ?_
    refine n_getN (k := 16 * 0 + 0) hx hb hts in_X4 hown hw (xv0 0) rfl 3 (by decide) q234 rfl dX0_listed_11 ?_
    refine lv_iload_n hx hb dX0_listed_14 rfl (lv_at hl 1 rfl) ?_
    refine n_iald (k := 16 * 0 + 6) (j := q) hx hb hw (xv0 6) rfl (by omega) (by decide) dX0_listed_15 ?_
    refine lv_goto (tgt := 24) hx hb dX0_listed_16 (by decide) ?_
    exact l_iret hx hb hr hlk rfl hw (by rw [listedO, if_neg c_4]; first | (rw [iq]; exact ⟨rfl, rfl⟩) | exact ⟨rfl, rfl⟩) dX0_listed_24
theorem hdS_X0_call : yX0_call.cls = "LineCalls" ∧ yX0_call.cls ≠ "java/lang/invoke/MethodHandle" ∧ yX0_call.cls ≠ "java/lang/invoke/VarHandle" ∧ (parseMethodDescriptor yX0_call.desc).map (fun d => d.parameters.length) = some 2 := by decide +kernel
set_option maxHeartbeats 4000000 in
theorem tL_call (l : Launch) (G : nG) (ad : Nat → Nat) (w w1 w2 w3 : rw84) (X : mM) (sp : xSp) (sh : xSh) (x y : Int32) : Met l yX0_call (ws_ yX0_call cX0_call 4 (some .int)) { frames := 2, cells := 0, slots := 0, locals := 42 } (va_Pc [.ref (ad 64), .int x, .int y] (nC G (xE G ad (xV w w1 w2 w3) X sp sh))) (va_Qi (fun (r : Int32) (u : xSt) => r = (callO w x y).1 ∧ u = ((callO w x y).2.1, w1, w2, w3, xfnd (callO w x y).2.2 X, sp, sh)) (fun u => nC G (xE G ad (xV u.1 u.2.1 u.2.2.1 u.2.2.2.1) u.2.2.2.2.1 u.2.2.2.2.2.1 u.2.2.2.2.2.2)) (nA G)) 0 0 (nA G) := by
  refine n_head (by decide) (Nat.le_of_ble_eq_true rfl) ?_
  intro p e s m below meth c ls hx hb hr hlk hml hown hts hB0 hl
  have hown : s.vm.findClass "LineCalls" = some m.cls := hown
  have hw := nS.start hB0
  have hl : lv_has ls 4 [(0, .ref (ad 64)), (1, .int x), (2, .int y)] := hl
  refine lv_iload_n hx hb dX0_call_0 rfl (lv_at hl 1 rfl) ?_
  refine n_callp (va_runS ⟨hx, hb, hml, hown, hts⟩ (tX_isListed l _) (va_cwS 1 hts (lw_S q505 q506 q90 q507) rfl rfl rfl (hdS_X0_isListed).2 ⟨by decide, by decide⟩) pu_pre rfl rfl hl.1 rfl (lv_room (by simp [Value.category])) dX0_call_1 ⟨Nat.zero_le _, Nat.zero_le _⟩) (fun r_1 e_1 => ?_)
  subst e_1
  refine lv_if_eq (tgt := 14) hx hb dX0_call_4 (by decide) (fun c_4 => ?_) (fun c_4 => ?_)
  · skip
    refine lv_aload_n hx hb dX0_call_14 rfl (lv_at hl 0 rfl) ?_
    refine lv_iconst (v := 0) hx hb dX0_call_15 (by decide) ?_
    refine n_calli (va_runV ⟨hx, hb, hml, hown, hts⟩ (tL_finding l G ad _ _ _ _ _ _ _ (0) (by decide)) (cwV 1 hts (lw_V q466 q468 qs3 q90 q469) rfl rfl rfl hdS_X0_finding ⟨by decide, by decide⟩) (hw.preV (k := 64) (xp 64) rfl) rfl rfl hl.1 rfl (lv_room (by simp [Value.category])) dX0_call_16 ⟨Nat.zero_le _, Nat.zero_le _⟩) hw (fun r_16 u_16 H locs e_16 hw => ?_)
    obtain ⟨rfl, rfl⟩ := e_16
    have hw : nS G (xE G ad (xV _ _ _ _) _ _ _) s H locs := hw
    exact l_iret hx hb hr hlk rfl hw (by rw [callO, if_pos c_4]; first | (rw [iq]; exact ⟨rfl, rfl⟩) | exact ⟨rfl, rfl⟩) dX0_call_19
  · skip
    obtain ⟨q, hq, rfl⟩ := in_nat (N := 5) rfl (by decide) c_4
    have iq : ix (nI q) = q := nI_clamp (by omega)
    refine lv_iload_n hx hb dX0_call_7 rfl (lv_at hl 2 rfl) ?_
    refine n_callp (va_runS ⟨hx, hb, hml, hown, hts⟩ (tX_isCall l _) (va_cwS 1 hts (lw_S q508 q509 q90 q510) rfl rfl rfl (hdS_X0_isCall).2 ⟨by decide, by decide⟩) pu_pre rfl rfl hl.1 rfl (lv_room (by simp [Value.category])) dX0_call_8 ⟨Nat.zero_le _, Nat.zero_le _⟩) (fun r_8 e_8 => ?_)
    subst e_8
    refine lv_if_ne (tgt := 20) hx hb dX0_call_11 (by decide) (fun c_11 => ?_) (fun c_11 => ?_)
    · skip
      refine lv_aload_n hx hb dX0_call_20 rfl (lv_at hl 0 rfl) ?_
      refine n_get (k := 64) hx hb hts in_X0 hown hw (xp 64) rfl 3 (by decide) q418 rfl dX0_call_21 ?_
      refine n_getN (k := 16 * 0 + 0) hx hb hts in_X4 hown hw (xv0 0) rfl 3 (by decide) q234 rfl dX0_call_24 ?_
      refine lv_iload_n hx hb dX0_call_27 rfl (lv_at hl 1 rfl) ?_
      refine n_iald (k := 16 * 0 + 6) (j := q) hx hb hw (xv0 6) rfl (by omega) (by decide) dX0_call_28 ?_
      refine lv_istore_n hx hb dX0_call_29 rfl hl (by decide) rfl (fun ls hl => ?_)
      refine lv_aload_n hx hb dX0_call_30 rfl (lv_at hl 1 rfl) ?_
      refine n_get (k := 64) hx hb hts in_X0 hown hw (xp 64) rfl 3 (by decide) q418 rfl dX0_call_31 ?_
      refine n_getN (k := 16 * 0 + 0) hx hb hts in_X4 hown hw (xv0 0) rfl 3 (by decide) q234 rfl dX0_call_34 ?_
      refine lv_iload_n hx hb dX0_call_37 rfl (lv_at hl 2 rfl) ?_
      refine lv_iload_n hx hb dX0_call_38 rfl (lv_at hl 3 rfl) ?_
      refine l0_iast hx hb hw 6 (by decide) (q := q) rfl (show _ < 6 by omega) (pos := 38 + q) rfl dX0_call_39 (fun H locs hw => ?_)
      refine lv_iload_n hx hb dX0_call_40 rfl (lv_at hl 0 rfl) ?_
      exact l_iret hx hb hr hlk rfl hw (by rw [callO, if_neg c_4, if_neg c_11]; first | (rw [iq]; exact ⟨rfl, rfl⟩) | exact ⟨rfl, rfl⟩) dX0_call_41
    · skip
      refine lv_aload_n hx hb dX0_call_14 rfl (lv_at hl 0 rfl) ?_
      refine lv_iconst (v := 0) hx hb dX0_call_15 (by decide) ?_
      refine n_calli (va_runV ⟨hx, hb, hml, hown, hts⟩ (tL_finding l G ad _ _ _ _ _ _ _ (0) (by decide)) (cwV 1 hts (lw_V q466 q468 qs3 q90 q469) rfl rfl rfl hdS_X0_finding ⟨by decide, by decide⟩) (hw.preV (k := 64) (xp 64) rfl) rfl rfl hl.1 rfl (lv_room (by simp [Value.category])) dX0_call_16 ⟨Nat.zero_le _, Nat.zero_le _⟩) hw (fun r_16 u_16 H locs e_16 hw => ?_)
      obtain ⟨rfl, rfl⟩ := e_16
      have hw : nS G (xE G ad (xV _ _ _ _) _ _ _) s H locs := hw
      exact l_iret hx hb hr hlk rfl hw (by rw [callO, if_neg c_4, if_pos c_11]; first | (rw [iq]; exact ⟨rfl, rfl⟩) | exact ⟨rfl, rfl⟩) dX0_call_19
theorem in_pos {v h : Int32} (hn : ¬ inF v 0 h = 0) : ¬ v < 0 := by
  intro h1
  rw [inF, if_pos h1] at hn
  exact hn rfl
theorem come_1 (w : rw84) (n : Nat) (k t : Int32) : comeF w n k t 1 - 1 = w 1 := by
  have e : comeF w n k t 1 = w 1 + 1 := by
    unfold comeF
    rw [pk_us, up_ne (by omega), up_ne (by omega), zeroF_1]
  rw [e, Int32.add_sub_cancel]
theorem hdS_X0_says : yX0_says.cls = "LineCalls" ∧ yX0_says.cls ≠ "java/lang/invoke/MethodHandle" ∧ yX0_says.cls ≠ "java/lang/invoke/VarHandle" ∧ (parseMethodDescriptor yX0_says.desc).map (fun d => d.parameters.length) = some 2 := by decide +kernel
set_option maxHeartbeats 4000000 in
theorem tL_says (l : Launch) (G : nG) (ad : Nat → Nat) (w w1 w2 w3 : rw84) (X : mM) (sp : xSp) (sh : xSh) (x y : Int32) : Met l yX0_says (ws_ yX0_says cX0_says 3 (some .int)) { frames := 4, cells := 0, slots := 0, locals := 85 } (va_Pc [.ref (ad 64), .int x, .int y] (nC G (xE G ad (xV w w1 w2 w3) X sp sh))) (va_Qi (fun (r : Int32) (u : xSt) => r = (saysO w x y).1 ∧ u = ((saysO w x y).2.1, w1, w2, w3, xfnd (saysO w x y).2.2 X, sp, sh)) (fun u => nC G (xE G ad (xV u.1 u.2.1 u.2.2.1 u.2.2.2.1) u.2.2.2.2.1 u.2.2.2.2.2.1 u.2.2.2.2.2.2)) (nA G)) 0 0 (nA G) := by
  refine n_head (by decide) (Nat.le_of_ble_eq_true rfl) ?_
  intro p e s m below meth c ls hx hb hr hlk hml hown hts hB0 hl
  have hown : s.vm.findClass "LineCalls" = some m.cls := hown
  have hw := nS.start hB0
  have hl : lv_has ls 3 [(0, .ref (ad 64)), (1, .int x), (2, .int y)] := hl
  refine lv_iload_n hx hb dX0_says_0 rfl (lv_at hl 1 rfl) ?_
  refine n_callp (va_runS ⟨hx, hb, hml, hown, hts⟩ (tX_isCall l _) (va_cwS 1 hts (lw_S q508 q509 q90 q510) rfl rfl rfl (hdS_X0_isCall).2 ⟨by decide, by decide⟩) pu_pre rfl rfl hl.1 rfl (lv_room (by simp [Value.category])) dX0_says_1 ⟨Nat.zero_le _, Nat.zero_le _⟩) (fun r_1 e_1 => ?_)
  subst e_1
  refine lv_if_eq (tgt := 22) hx hb dX0_says_4 (by decide) (fun c_4 => ?_) (fun c_4 => ?_)
  · skip
    refine lv_aload_n hx hb dX0_says_22 rfl (lv_at hl 0 rfl) ?_
    refine lv_iconst (v := 0) hx hb dX0_says_23 (by decide) ?_
    refine n_calli (va_runV ⟨hx, hb, hml, hown, hts⟩ (tL_finding l G ad _ _ _ _ _ _ _ (0) (by decide)) (cwV 1 hts (lw_V q466 q468 qs3 q90 q469) rfl rfl rfl hdS_X0_finding ⟨by decide, by decide⟩) (hw.preV (k := 64) (xp 64) rfl) rfl rfl hl.1 rfl (lv_room (by simp [Value.category])) dX0_says_24 ⟨Nat.zero_le _, Nat.zero_le _⟩) hw (fun r_24 u_24 H locs e_24 hw => ?_)
    obtain ⟨rfl, rfl⟩ := e_24
    have hw : nS G (xE G ad (xV _ _ _ _) _ _ _) s H locs := hw
    exact l_iret hx hb hr hlk rfl hw (by rw [saysO, if_pos c_4]; first | exact ⟨rfl, rfl⟩) dX0_says_27
  · skip
    obtain ⟨q, hq, rfl⟩ := in_nat (N := 999) rfl (by decide) c_4
    have iq : ix (nI q) = q := nI_clamp (by omega)
    refine lv_iload_n hx hb dX0_says_7 rfl (lv_at hl 2 rfl) ?_
    refine n_callp (va_runS ⟨hx, hb, hml, hown, hts⟩ (tX_isCode l _) (va_cwS 1 hts (lw_S q498 q499 q90 q500) rfl rfl rfl (hdS_X0_isCode).2 ⟨by decide, by decide⟩) pu_pre rfl rfl hl.1 rfl (lv_room (by simp [Value.category])) dX0_says_8 ⟨Nat.zero_le _, Nat.zero_le _⟩) (fun r_8 e_8 => ?_)
    subst e_8
    refine lv_if_eq (tgt := 22) hx hb dX0_says_11 (by decide) (fun c_11 => ?_) (fun c_11 => ?_)
    · skip
      refine lv_aload_n hx hb dX0_says_22 rfl (lv_at hl 0 rfl) ?_
      refine lv_iconst (v := 0) hx hb dX0_says_23 (by decide) ?_
      refine n_calli (va_runV ⟨hx, hb, hml, hown, hts⟩ (tL_finding l G ad _ _ _ _ _ _ _ (0) (by decide)) (cwV 1 hts (lw_V q466 q468 qs3 q90 q469) rfl rfl rfl hdS_X0_finding ⟨by decide, by decide⟩) (hw.preV (k := 64) (xp 64) rfl) rfl rfl hl.1 rfl (lv_room (by simp [Value.category])) dX0_says_24 ⟨Nat.zero_le _, Nat.zero_le _⟩) hw (fun r_24 u_24 H locs e_24 hw => ?_)
      obtain ⟨rfl, rfl⟩ := e_24
      have hw : nS G (xE G ad (xV _ _ _ _) _ _ _) s H locs := hw
      exact l_iret hx hb hr hlk rfl hw (by rw [saysO, if_neg c_4, if_pos c_11]; first | exact ⟨rfl, rfl⟩) dX0_says_27
    · skip
      refine lv_iload_n hx hb dX0_says_14 rfl (lv_at hl 1 rfl) ?_
      refine lv_iload_n hx hb dX0_says_15 rfl (lv_at hl 2 rfl) ?_
      refine n_callp (va_runS ⟨hx, hb, hml, hown, hts⟩ (tX_placeOf l _ _ (bc_nat q (by omega))) (va_cwS 2 hts (lw_S q519 q520 q90 q521) rfl rfl rfl (hdS_X0_placeOf).2 ⟨by decide, by decide⟩) pu_pre rfl rfl hl.1 rfl (lv_room (by simp [Value.category])) dX0_says_16 ⟨Nat.zero_le _, Nat.zero_le _⟩) (fun r_16 e_16 => ?_)
      subst e_16
      refine lv_goto (tgt := 27) hx hb dX0_says_19 (by decide) ?_
      exact l_iret hx hb hr hlk rfl hw (by rw [saysO, if_neg c_4, if_neg c_11]; first | exact ⟨rfl, rfl⟩) dX0_says_27
theorem hdS_X0_stand : yX0_stand.cls = "LineCalls" ∧ yX0_stand.cls ≠ "java/lang/invoke/MethodHandle" ∧ yX0_stand.cls ≠ "java/lang/invoke/VarHandle" ∧ (parseMethodDescriptor yX0_stand.desc).map (fun d => d.parameters.length) = some 2 := by decide +kernel
set_option maxHeartbeats 4000000 in
theorem tL_stand (l : Launch) (G : nG) (ad : Nat → Nat) (w w1 w2 w3 : rw84) (X : mM) (sp : xSp) (sh : xSh) (v k : Int32) (B : Nat) (hI : Inv B w) (hB : B ≤ 100000) : Met l yX0_stand (ws_ yX0_stand cX0_stand 3 (some .int)) { frames := 2, cells := 0, slots := 0, locals := 47 } (va_Pc [.ref (ad 64), .int v, .int k] (nC G (xE G ad (xV w w1 w2 w3) X sp sh))) (va_Qi (fun (r : Int32) (u : xSt) => r = (standO w v k).1 ∧ u = ((standO w v k).2.1, w1, w2, w3, xfnd (standO w v k).2.2 X, sp, sh)) (fun u => nC G (xE G ad (xV u.1 u.2.1 u.2.2.1 u.2.2.2.1) u.2.2.2.2.1 u.2.2.2.2.2.1 u.2.2.2.2.2.2)) (nA G)) 0 0 (nA G) := by
  refine n_head (by decide) (Nat.le_of_ble_eq_true rfl) ?_
  intro p e s m below meth c ls hx hb hr hlk hml hown hts hB0 hl
  have hown : s.vm.findClass "LineCalls" = some m.cls := hown
  have hw := nS.start hB0
  have hl : lv_has ls 3 [(0, .ref (ad 64)), (1, .int v), (2, .int k)] := hl
  obtain ⟨n, hn, en⟩ := hI.num
  refine lv_iload_n hx hb dX0_stand_0 rfl (lv_at hl 1 rfl) ?_
  refine n_callp (va_runS ⟨hx, hb, hml, hown, hts⟩ (tX_isPlace l _) (va_cwS 1 hts (lw_S q456 q457 q90 q458) rfl rfl rfl (hdS_X0_isPlace).2 ⟨by decide, by decide⟩) pu_pre rfl rfl hl.1 rfl (lv_room (by simp [Value.category])) dX0_stand_1 ⟨Nat.zero_le _, Nat.zero_le _⟩) (fun r_1 e_1 => ?_)
  subst e_1
  refine lv_if_eq (tgt := 20) hx hb dX0_stand_4 (by decide) (fun c_4 => ?_) (fun c_4 => ?_)
  · skip
    refine lv_aload_n hx hb dX0_stand_20 rfl (lv_at hl 0 rfl) ?_
    refine lv_iconst (v := 0) hx hb dX0_stand_21 (by decide) ?_
    refine n_calli (va_runV ⟨hx, hb, hml, hown, hts⟩ (tL_finding l G ad _ _ _ _ _ _ _ (0) (by decide)) (cwV 1 hts (lw_V q466 q468 qs3 q90 q469) rfl rfl rfl hdS_X0_finding ⟨by decide, by decide⟩) (hw.preV (k := 64) (xp 64) rfl) rfl rfl hl.1 rfl (lv_room (by simp [Value.category])) dX0_stand_22 ⟨Nat.zero_le _, Nat.zero_le _⟩) hw (fun r_22 u_22 H locs e_22 hw => ?_)
    obtain ⟨rfl, rfl⟩ := e_22
    have hw : nS G (xE G ad (xV _ _ _ _) _ _ _) s H locs := hw
    exact l_iret hx hb hr hlk rfl hw (by rw [standO, if_pos c_4]; first | (rw [iq]; exact ⟨rfl, rfl⟩) | exact ⟨rfl, rfl⟩) dX0_stand_25
  · skip
    obtain ⟨q, hq, rfl⟩ := in_nat (N := 6) rfl (by decide) c_4
    have iq : ix (nI q) = q := nI_clamp (by omega)
    refine lv_iload_n hx hb dX0_stand_7 rfl (lv_at hl 2 rfl) ?_
    refine lv_iconst (v := (-1)) hx hb dX0_stand_8 (by decide) ?_
    refine lv_icmp_eq (tgt := 26) hx hb dX0_stand_9 (by decide) (fun c_9 => ?_) (fun c_9 => ?_)
    · skip
      refine lv_aload_n hx hb dX0_stand_26 rfl (lv_at hl 0 rfl) ?_
      refine n_get (k := 64) hx hb hts in_X0 hown hw (xp 64) rfl 3 (by decide) q418 rfl dX0_stand_27 ?_
      refine lv_iload_n hx hb dX0_stand_30 rfl (lv_at hl 1 rfl) ?_
      refine lv_iload_n hx hb dX0_stand_31 rfl (lv_at hl 2 rfl) ?_
      refine n_calli (va_runV ⟨hx, hb, hml, hown, hts⟩ (tX4_stands l G ad _ _ _ _ 0 (by decide) _ (xV_at0 _ _ _ _) (q) _ (by omega) (by first | exact Or.inl c_9 | exact Or.inr (in_pos c_17))) (cwV 2 hts (lw_V q471 q472 q473 q97 q474) rfl rfl rfl hdS_X4_stands ⟨by decide, by decide⟩) (hw.preV (k := 16 * 0 + 0) (xv0 0) rfl) rfl rfl hl.1 rfl (lv_room (by simp [Value.category])) dX0_stand_32 ⟨Nat.zero_le _, Nat.zero_le _⟩) hw (fun r_32 u_32 H locs e_32 hw => ?_)
      obtain ⟨rfl, rfl⟩ := e_32
      have hw : nS G (xE G ad (va_up (xV _ _ _ _) 0 _) _ _ _) s H locs := hw
      rw [xV_0] at hw
      exact l_iret hx hb hr hlk rfl hw (by rw [standO, if_neg c_4, if_pos c_9]; first | (rw [iq]; exact ⟨rfl, rfl⟩) | exact ⟨rfl, rfl⟩) dX0_stand_35
    · skip
      refine lv_aload_n hx hb dX0_stand_12 rfl (lv_at hl 0 rfl) ?_
      refine lv_iload_n hx hb dX0_stand_13 rfl (lv_at hl 2 rfl) ?_
      refine n_callp (va_runV ⟨hx, hb, hml, hown, hts⟩ (tL_isJumper l G ad _ _ _ _ _ _ _ _) (cwV 1 hts (lw_V q462 q464 qs2 q90 q465) rfl rfl rfl hdS_X0_isJumper ⟨by decide, by decide⟩) (hw.preV (k := 64) (xp 64) rfl) rfl rfl hl.1 rfl (lv_room (by simp [Value.category])) dX0_stand_14 ⟨Nat.zero_le _, Nat.zero_le _⟩) (fun r_14 e_14 => ?_)
      subst e_14
      refine lv_if_ne (tgt := 26) hx hb dX0_stand_17 (by decide) (fun c_17 => ?_) (fun c_17 => ?_)
      · skip
        refine lv_aload_n hx hb dX0_stand_26 rfl (lv_at hl 0 rfl) ?_
        refine n_get (k := 64) hx hb hts in_X0 hown hw (xp 64) rfl 3 (by decide) q418 rfl dX0_stand_27 ?_
        refine lv_iload_n hx hb dX0_stand_30 rfl (lv_at hl 1 rfl) ?_
        refine lv_iload_n hx hb dX0_stand_31 rfl (lv_at hl 2 rfl) ?_
        refine n_calli (va_runV ⟨hx, hb, hml, hown, hts⟩ (tX4_stands l G ad _ _ _ _ 0 (by decide) _ (xV_at0 _ _ _ _) (q) _ (by omega) (by first | exact Or.inl c_9 | exact Or.inr (in_pos c_17))) (cwV 2 hts (lw_V q471 q472 q473 q97 q474) rfl rfl rfl hdS_X4_stands ⟨by decide, by decide⟩) (hw.preV (k := 16 * 0 + 0) (xv0 0) rfl) rfl rfl hl.1 rfl (lv_room (by simp [Value.category])) dX0_stand_32 ⟨Nat.zero_le _, Nat.zero_le _⟩) hw (fun r_32 u_32 H locs e_32 hw => ?_)
        obtain ⟨rfl, rfl⟩ := e_32
        have hw : nS G (xE G ad (va_up (xV _ _ _ _) 0 _) _ _ _) s H locs := hw
        rw [xV_0] at hw
        exact l_iret hx hb hr hlk rfl hw (by rw [standO, if_neg c_4, if_neg c_9, if_neg c_17]; first | (rw [iq]; exact ⟨rfl, rfl⟩) | exact ⟨rfl, rfl⟩) dX0_stand_35
      · skip
        refine lv_aload_n hx hb dX0_stand_20 rfl (lv_at hl 0 rfl) ?_
        refine lv_iconst (v := 0) hx hb dX0_stand_21 (by decide) ?_
        refine n_calli (va_runV ⟨hx, hb, hml, hown, hts⟩ (tL_finding l G ad _ _ _ _ _ _ _ (0) (by decide)) (cwV 1 hts (lw_V q466 q468 qs3 q90 q469) rfl rfl rfl hdS_X0_finding ⟨by decide, by decide⟩) (hw.preV (k := 64) (xp 64) rfl) rfl rfl hl.1 rfl (lv_room (by simp [Value.category])) dX0_stand_22 ⟨Nat.zero_le _, Nat.zero_le _⟩) hw (fun r_22 u_22 H locs e_22 hw => ?_)
        obtain ⟨rfl, rfl⟩ := e_22
        have hw : nS G (xE G ad (xV _ _ _ _) _ _ _) s H locs := hw
        exact l_iret hx hb hr hlk rfl hw (by rw [standO, if_neg c_4, if_neg c_9, if_pos c_17]; first | (rw [iq]; exact ⟨rfl, rfl⟩) | exact ⟨rfl, rfl⟩) dX0_stand_25
theorem hdS_X0_place : yX0_place.cls = "LineCalls" ∧ yX0_place.cls ≠ "java/lang/invoke/MethodHandle" ∧ yX0_place.cls ≠ "java/lang/invoke/VarHandle" ∧ (parseMethodDescriptor yX0_place.desc).map (fun d => d.parameters.length) = some 2 := by decide +kernel
set_option maxHeartbeats 4000000 in
theorem tL_place (l : Launch) (G : nG) (ad : Nat → Nat) (w w1 w2 w3 : rw84) (X : mM) (sp : xSp) (sh : xSh) (v x : Int32) : Met l yX0_place (ws_ yX0_place cX0_place 3 (some .int)) { frames := 2, cells := 0, slots := 0, locals := 42 } (va_Pc [.ref (ad 64), .int v, .int x] (nC G (xE G ad (xV w w1 w2 w3) X sp sh))) (va_Qi (fun (r : Int32) (u : xSt) => r = (placeO w v x).1 ∧ u = ((placeO w v x).2.1, w1, w2, w3, xfnd (placeO w v x).2.2 X, sp, sh)) (fun u => nC G (xE G ad (xV u.1 u.2.1 u.2.2.1 u.2.2.2.1) u.2.2.2.2.1 u.2.2.2.2.2.1 u.2.2.2.2.2.2)) (nA G)) 0 0 (nA G) := by
  refine n_head (by decide) (Nat.le_of_ble_eq_true rfl) ?_
  intro p e s m below meth c ls hx hb hr hlk hml hown hts hB0 hl
  have hown : s.vm.findClass "LineCalls" = some m.cls := hown
  have hw := nS.start hB0
  have hl : lv_has ls 3 [(0, .ref (ad 64)), (1, .int v), (2, .int x)] := hl
  refine lv_iload_n hx hb dX0_place_0 rfl (lv_at hl 1 rfl) ?_
  refine n_callp (va_runS ⟨hx, hb, hml, hown, hts⟩ (tX_isPlace l _) (va_cwS 1 hts (lw_S q456 q457 q90 q458) rfl rfl rfl (hdS_X0_isPlace).2 ⟨by decide, by decide⟩) pu_pre rfl rfl hl.1 rfl (lv_room (by simp [Value.category])) dX0_place_1 ⟨Nat.zero_le _, Nat.zero_le _⟩) (fun r_1 e_1 => ?_)
  subst e_1
  refine lv_if_ne (tgt := 13) hx hb dX0_place_4 (by decide) (fun c_4 => ?_) (fun c_4 => ?_)
  · skip
    obtain ⟨q, hq, rfl⟩ := in_nat (N := 6) rfl (by decide) c_4
    have iq : ix (nI q) = q := nI_clamp (by omega)
    refine lv_iload_n hx hb dX0_place_13 rfl (lv_at hl 2 rfl) ?_
    by_cases s_14_0 : x = 0
    · skip
      refine lv_tableIn (tgt := 44) hx hb dX0_place_14 (by rw [s_14_0]; decide) (by rw [s_14_0]; decide) (off := 30) (by rw [s_14_0]; rfl) (by decide) ?_
      refine lv_aload_n hx hb dX0_place_44 rfl (lv_at hl 0 rfl) ?_
      refine n_get (k := 64) hx hb hts in_X0 hown hw (xp 64) rfl 3 (by decide) q418 rfl dX0_place_45 ?_
      refine n_getN (k := 16 * 0 + 0) hx hb hts in_X4 hown hw (xv0 0) rfl 0 (by decide) q221 rfl dX0_place_48 ?_
      refine lv_iload_n hx hb dX0_place_51 rfl (lv_at hl 1 rfl) ?_
      refine n_iald (k := 16 * 0 + 1) (j := q) hx hb hw (xv0 1) rfl (by omega) (by decide) dX0_place_52 ?_
      exact l_iret hx hb hr hlk rfl hw (by rw [placeO, if_neg c_4, if_pos s_14_0]; first | (rw [iq]; exact ⟨rfl, rfl⟩) | exact ⟨rfl, rfl⟩) dX0_place_53
    by_cases s_14_1 : x = 1
    · skip
      refine lv_tableIn (tgt := 54) hx hb dX0_place_14 (by rw [s_14_1]; decide) (by rw [s_14_1]; decide) (off := 40) (by rw [s_14_1]; rfl) (by decide) ?_
      refine lv_aload_n hx hb dX0_place_54 rfl (lv_at hl 0 rfl) ?_
      refine n_get (k := 64) hx hb hts in_X0 hown hw (xp 64) rfl 3 (by decide) q418 rfl dX0_place_55 ?_
      refine n_getN (k := 16 * 0 + 0) hx hb hts in_X4 hown hw (xv0 0) rfl 1 (by decide) q224 rfl dX0_place_58 ?_
      refine lv_iconst (v := 0) hx hb dX0_place_61 (by decide) ?_
      refine n_aaldS (k := 16 * 0 + 2) (t := 4) (j := 0) (b := ad (16 * 0 + 3)) hx hb hw (xv0 2) (Or.inr rfl) rfl (by decide) (by decide) rfl dX0_place_62 ?_
      refine lv_iload_n hx hb dX0_place_63 rfl (lv_at hl 1 rfl) ?_
      refine n_iald (k := 16 * 0 + 3) (j := q) hx hb hw (xv0 3) rfl (by omega) (by decide) dX0_place_64 ?_
      exact l_iret hx hb hr hlk rfl hw (by rw [placeO, if_neg c_4, if_neg s_14_0, if_pos s_14_1]; first | (rw [iq]; exact ⟨rfl, rfl⟩) | exact ⟨rfl, rfl⟩) dX0_place_65
    by_cases s_14_2 : x = 2
    · skip
      refine lv_tableIn (tgt := 66) hx hb dX0_place_14 (by rw [s_14_2]; decide) (by rw [s_14_2]; decide) (off := 52) (by rw [s_14_2]; rfl) (by decide) ?_
      refine lv_aload_n hx hb dX0_place_66 rfl (lv_at hl 0 rfl) ?_
      refine n_get (k := 64) hx hb hts in_X0 hown hw (xp 64) rfl 3 (by decide) q418 rfl dX0_place_67 ?_
      refine n_getN (k := 16 * 0 + 0) hx hb hts in_X4 hown hw (xv0 0) rfl 1 (by decide) q224 rfl dX0_place_70 ?_
      refine lv_iconst (v := 1) hx hb dX0_place_73 (by decide) ?_
      refine n_aaldS (k := 16 * 0 + 2) (t := 4) (j := 1) (b := ad (16 * 0 + 4)) hx hb hw (xv0 2) (Or.inr rfl) rfl (by decide) (by decide) rfl dX0_place_74 ?_
      refine lv_iload_n hx hb dX0_place_75 rfl (lv_at hl 1 rfl) ?_
      refine n_iald (k := 16 * 0 + 4) (j := q) hx hb hw (xv0 4) rfl (by omega) (by decide) dX0_place_76 ?_
      exact l_iret hx hb hr hlk rfl hw (by rw [placeO, if_neg c_4, if_neg s_14_0, if_neg s_14_1, if_pos s_14_2]; first | (rw [iq]; exact ⟨rfl, rfl⟩) | exact ⟨rfl, rfl⟩) dX0_place_77
    by_cases s_14_3 : x = 3
    · skip
      refine lv_tableIn (tgt := 78) hx hb dX0_place_14 (by rw [s_14_3]; decide) (by rw [s_14_3]; decide) (off := 64) (by rw [s_14_3]; rfl) (by decide) ?_
      refine lv_aload_n hx hb dX0_place_78 rfl (lv_at hl 0 rfl) ?_
      refine n_get (k := 64) hx hb hts in_X0 hown hw (xp 64) rfl 3 (by decide) q418 rfl dX0_place_79 ?_
      refine lv_iload_n hx hb dX0_place_82 rfl (lv_at hl 1 rfl) ?_
      refine n_callp (va_runV ⟨hx, hb, hml, hown, hts⟩ (tX4_force l G ad _ _ _ _ 0 (by decide) _ (xV_at0 _ _ _ _) (q) (by omega)) (cwV 1 hts (lw_V q483 q484 q485 q97 q486) rfl rfl rfl hdS_X4_force ⟨by decide, by decide⟩) (hw.preV (k := 16 * 0 + 0) (xv0 0) rfl) rfl rfl hl.1 rfl (lv_room (by simp [Value.category])) dX0_place_83 ⟨Nat.zero_le _, Nat.zero_le _⟩) (fun r_83 e_83 => ?_)
      subst e_83
      exact l_iret hx hb hr hlk rfl hw (by rw [placeO, if_neg c_4, if_neg s_14_0, if_neg s_14_1, if_neg s_14_2, if_pos s_14_3]; first | (rw [iq]; exact ⟨rfl, rfl⟩) | exact ⟨rfl, rfl⟩) dX0_place_86
    refine lv_tableOut (tgt := 87) hx hb dX0_place_14 (by have a_0 := ne_ti (k := 0) s_14_0 (by decide); have a_1 := ne_ti (k := 1) s_14_1 (by decide); have a_2 := ne_ti (k := 2) s_14_2 (by decide); have a_3 := ne_ti (k := 3) s_14_3 (by decide); omega) (by decide) ?_
    refine lv_aload_n hx hb dX0_place_87 rfl (lv_at hl 0 rfl) ?_
    refine lv_iconst (v := 0) hx hb dX0_place_88 (by decide) ?_
    refine n_calli (va_runV ⟨hx, hb, hml, hown, hts⟩ (tL_finding l G ad _ _ _ _ _ _ _ (0) (by decide)) (cwV 1 hts (lw_V q466 q468 qs3 q90 q469) rfl rfl rfl hdS_X0_finding ⟨by decide, by decide⟩) (hw.preV (k := 64) (xp 64) rfl) rfl rfl hl.1 rfl (lv_room (by simp [Value.category])) dX0_place_89 ⟨Nat.zero_le _, Nat.zero_le _⟩) hw (fun r_89 u_89 H locs e_89 hw => ?_)
    obtain ⟨rfl, rfl⟩ := e_89
    have hw : nS G (xE G ad (xV _ _ _ _) _ _ _) s H locs := hw
    exact l_iret hx hb hr hlk rfl hw (by rw [placeO, if_neg c_4, if_neg s_14_0, if_neg s_14_1, if_neg s_14_2, if_neg s_14_3]; first | (rw [iq]; exact ⟨rfl, rfl⟩) | exact ⟨rfl, rfl⟩) dX0_place_92
  · skip
    refine lv_aload_n hx hb dX0_place_7 rfl (lv_at hl 0 rfl) ?_
    refine lv_iconst (v := 0) hx hb dX0_place_8 (by decide) ?_
    refine n_calli (va_runV ⟨hx, hb, hml, hown, hts⟩ (tL_finding l G ad _ _ _ _ _ _ _ (0) (by decide)) (cwV 1 hts (lw_V q466 q468 qs3 q90 q469) rfl rfl rfl hdS_X0_finding ⟨by decide, by decide⟩) (hw.preV (k := 64) (xp 64) rfl) rfl rfl hl.1 rfl (lv_room (by simp [Value.category])) dX0_place_9 ⟨Nat.zero_le _, Nat.zero_le _⟩) hw (fun r_9 u_9 H locs e_9 hw => ?_)
    obtain ⟨rfl, rfl⟩ := e_9
    have hw : nS G (xE G ad (xV _ _ _ _) _ _ _) s H locs := hw
    exact l_iret hx hb hr hlk rfl hw (by rw [placeO, if_pos c_4]; first | (rw [iq]; exact ⟨rfl, rfl⟩) | exact ⟨rfl, rfl⟩) dX0_place_12
theorem hdS_X0_jumper : yX0_jumper.cls = "LineCalls" ∧ yX0_jumper.cls ≠ "java/lang/invoke/MethodHandle" ∧ yX0_jumper.cls ≠ "java/lang/invoke/VarHandle" ∧ (parseMethodDescriptor yX0_jumper.desc).map (fun d => d.parameters.length) = some 2 := by decide +kernel
set_option maxHeartbeats 4000000 in
theorem tL_jumper (l : Launch) (G : nG) (ad : Nat → Nat) (w w1 w2 w3 : rw84) (X : mM) (sp : xSp) (sh : xSh) (k t : Int32) (B : Nat) (hI : Inv B w) (hB : B ≤ 100000) : Met l yX0_jumper (ws_ yX0_jumper cX0_jumper 3 (some .int)) { frames := 2, cells := 0, slots := 0, locals := 42 } (va_Pc [.ref (ad 64), .int k, .int t] (nC G (xE G ad (xV w w1 w2 w3) X sp sh))) (va_Qi (fun (r : Int32) (u : xSt) => r = (jumperO w k t).1 ∧ u = ((jumperO w k t).2.1, w1, w2, w3, xfnd (jumperO w k t).2.2 X, sp, sh)) (fun u => nC G (xE G ad (xV u.1 u.2.1 u.2.2.1 u.2.2.2.1) u.2.2.2.2.1 u.2.2.2.2.2.1 u.2.2.2.2.2.2)) (nA G)) 0 0 (nA G) := by
  refine n_head (by decide) (Nat.le_of_ble_eq_true rfl) ?_
  intro p e s m below meth c ls hx hb hr hlk hml hown hts hB0 hl
  have hown : s.vm.findClass "LineCalls" = some m.cls := hown
  have hw := nS.start hB0
  have hl : lv_has ls 3 [(0, .ref (ad 64)), (1, .int k), (2, .int t)] := hl
  obtain ⟨n, hn, en⟩ := hI.num
  refine lv_iload_n hx hb dX0_jumper_0 rfl (lv_at hl 1 rfl) ?_
  refine n_callp (va_runS ⟨hx, hb, hml, hown, hts⟩ (tX_isKind l _) (va_cwS 1 hts (lw_S q538 q539 q90 q540) rfl rfl rfl (hdS_X0_isKind).2 ⟨by decide, by decide⟩) pu_pre rfl rfl hl.1 rfl (lv_room (by simp [Value.category])) dX0_jumper_1 ⟨Nat.zero_le _, Nat.zero_le _⟩) (fun r_1 e_1 => ?_)
  subst e_1
  refine lv_if_eq (tgt := 14) hx hb dX0_jumper_4 (by decide) (fun c_4 => ?_) (fun c_4 => ?_)
  · skip
    refine lv_aload_n hx hb dX0_jumper_14 rfl (lv_at hl 0 rfl) ?_
    refine lv_iconst (v := 0) hx hb dX0_jumper_15 (by decide) ?_
    refine n_calli (va_runV ⟨hx, hb, hml, hown, hts⟩ (tL_finding l G ad _ _ _ _ _ _ _ (0) (by decide)) (cwV 1 hts (lw_V q466 q468 qs3 q90 q469) rfl rfl rfl hdS_X0_finding ⟨by decide, by decide⟩) (hw.preV (k := 64) (xp 64) rfl) rfl rfl hl.1 rfl (lv_room (by simp [Value.category])) dX0_jumper_16 ⟨Nat.zero_le _, Nat.zero_le _⟩) hw (fun r_16 u_16 H locs e_16 hw => ?_)
    obtain ⟨rfl, rfl⟩ := e_16
    have hw : nS G (xE G ad (xV _ _ _ _) _ _ _) s H locs := hw
    exact l_iret hx hb hr hlk rfl hw (by rw [jumperO, if_pos c_4]; first | exact ⟨rfl, rfl⟩) dX0_jumper_19
  · skip
    refine lv_iload_n hx hb dX0_jumper_7 rfl (lv_at hl 2 rfl) ?_
    refine n_callp (va_runS ⟨hx, hb, hml, hown, hts⟩ (tX_isHigh l _) (va_cwS 1 hts (lw_S q491 q492 q90 q493) rfl rfl rfl (hdS_X0_isHigh).2 ⟨by decide, by decide⟩) pu_pre rfl rfl hl.1 rfl (lv_room (by simp [Value.category])) dX0_jumper_8 ⟨Nat.zero_le _, Nat.zero_le _⟩) (fun r_8 e_8 => ?_)
    subst e_8
    refine lv_if_ne (tgt := 20) hx hb dX0_jumper_11 (by decide) (fun c_11 => ?_) (fun c_11 => ?_)
    · skip
      refine lv_aload_n hx hb dX0_jumper_20 rfl (lv_at hl 0 rfl) ?_
      refine n_get (k := 64) hx hb hts in_X0 hown hw (xp 64) rfl 3 (by decide) q418 rfl dX0_jumper_21 ?_
      refine n_getN (k := 16 * 0 + 0) hx hb hts in_X4 hown hw (xv0 0) rfl 5 (by decide) q239 rfl dX0_jumper_24 ?_
      refine lv_bipush (v := 8) hx hb dX0_jumper_27 (by decide) ?_
      refine lv_icmp_ne (tgt := 38) hx hb dX0_jumper_29 (by decide) (fun c_29 => ?_) (fun c_29 => ?_)
      · skip
        have hn8 : n < 8 := by (rcases Nat.lt_or_eq_of_le hn with h | h; exact h; exact absurd (by rw [en, h]; rfl) c_29)
        have hix : ix (w 1) = n := by rw [en]; exact nI_clamp (by omega)
        refine lv_aload_n hx hb dX0_jumper_38 rfl (lv_at hl 0 rfl) ?_
        refine n_get (k := 64) hx hb hts in_X0 hown hw (xp 64) rfl 3 (by decide) q418 rfl dX0_jumper_39 ?_
        refine lv_iload_n hx hb dX0_jumper_42 rfl (lv_at hl 1 rfl) ?_
        refine lv_iload_n hx hb dX0_jumper_43 rfl (lv_at hl 2 rfl) ?_
        refine n_callv (va_runV ⟨hx, hb, hml, hown, hts⟩ (tX4_add l G ad _ _ _ _ 0 (by decide) _ (xV_at0 _ _ _ _) _ _ n hn8 en) (cwV 2 hts (lw_V q541 q542 q543 q97 q544) rfl rfl rfl hdS_X4_add ⟨by decide, by decide⟩) (hw.preV (k := 16 * 0 + 0) (xv0 0) rfl) rfl rfl hl.1 rfl (lv_room (by simp [Value.category])) dX0_jumper_44 ⟨Nat.zero_le _, Nat.zero_le _⟩) hw (fun u_44 H locs e_44 hw => ?_)
        subst e_44
        have hw : nS G (xE G ad (va_up (xV _ _ _ _) 0 _) _ _ _) s H locs := hw
        rw [xV_0] at hw
        refine lv_aload_n hx hb dX0_jumper_47 rfl (lv_at hl 0 rfl) ?_
        refine n_get (k := 64) hx hb hts in_X0 hown hw (xp 64) rfl 3 (by decide) q418 rfl dX0_jumper_48 ?_
        refine n_getN (k := 16 * 0 + 0) hx hb hts in_X4 hown hw (xv0 0) rfl 5 (by decide) q239 rfl dX0_jumper_51 ?_
        refine lv_iconst (v := 1) hx hb dX0_jumper_54 (by decide) ?_
        refine lv_isub hx hb dX0_jumper_55 ?_
        exact l_iret hx hb hr hlk rfl hw (by rw [jumperO, if_neg c_4, if_neg c_11, if_neg c_29, hix]; exact ⟨come_1 _ _ _ _, rfl⟩) dX0_jumper_56
      · skip
        refine lv_aload_n hx hb dX0_jumper_32 rfl (lv_at hl 0 rfl) ?_
        refine lv_iconst (v := 1) hx hb dX0_jumper_33 (by decide) ?_
        refine n_calli (va_runV ⟨hx, hb, hml, hown, hts⟩ (tL_finding l G ad _ _ _ _ _ _ _ (1) (by decide)) (cwV 1 hts (lw_V q466 q468 qs3 q90 q469) rfl rfl rfl hdS_X0_finding ⟨by decide, by decide⟩) (hw.preV (k := 64) (xp 64) rfl) rfl rfl hl.1 rfl (lv_room (by simp [Value.category])) dX0_jumper_34 ⟨Nat.zero_le _, Nat.zero_le _⟩) hw (fun r_34 u_34 H locs e_34 hw => ?_)
        obtain ⟨rfl, rfl⟩ := e_34
        have hw : nS G (xE G ad (xV _ _ _ _) _ _ _) s H locs := hw
        exact l_iret hx hb hr hlk rfl hw (by rw [jumperO, if_neg c_4, if_neg c_11, if_pos c_29]; first | exact ⟨rfl, rfl⟩) dX0_jumper_37
    · skip
      refine lv_aload_n hx hb dX0_jumper_14 rfl (lv_at hl 0 rfl) ?_
      refine lv_iconst (v := 0) hx hb dX0_jumper_15 (by decide) ?_
      refine n_calli (va_runV ⟨hx, hb, hml, hown, hts⟩ (tL_finding l G ad _ _ _ _ _ _ _ (0) (by decide)) (cwV 1 hts (lw_V q466 q468 qs3 q90 q469) rfl rfl rfl hdS_X0_finding ⟨by decide, by decide⟩) (hw.preV (k := 64) (xp 64) rfl) rfl rfl hl.1 rfl (lv_room (by simp [Value.category])) dX0_jumper_16 ⟨Nat.zero_le _, Nat.zero_le _⟩) hw (fun r_16 u_16 H locs e_16 hw => ?_)
      obtain ⟨rfl, rfl⟩ := e_16
      have hw : nS G (xE G ad (xV _ _ _ _) _ _ _) s H locs := hw
      exact l_iret hx hb hr hlk rfl hw (by rw [jumperO, if_neg c_4, if_pos c_11]; first | exact ⟨rfl, rfl⟩) dX0_jumper_19
