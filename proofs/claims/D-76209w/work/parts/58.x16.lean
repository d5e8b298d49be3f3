/-! the class: when, public -/
set_option maxRecDepth 100000
theorem wh_or (b : Nat → Bool) : whenR b = -1 ∨ (¬ whenR b = -1 ∧ 0 ≤ whenR b) := by
  unfold whenR
  split
  · have hu := un_le b 100 0
    refine Or.inr ⟨fun h => ?_, nI_pos' (by omega)⟩
    have := congrArg Int32.toInt h
    rw [nI_toInt (by omega)] at this
    have h2 : (-1 : Int32).toInt = -1 := by decide
    omega
  · exact Or.inl rfl
theorem none_x (b : Nat → Bool) (w w1 g w3 : rw84) (X : mM) (sp : xSp) (sh : xSh) : (if whenR b = -1 then -1000004 else whenR b) = (noneO w (whenR b)).1 ∧ ∃ g', (w, w1, g, w3, (if whenR b = -1 then xfnd (some 3) X else X), sp, sh) = ((noneO w (whenR b)).2.1, w1, g', w3, xfnd (noneO w (whenR b)).2.2 X, sp, sh) := by
  rcases wh_or b with h | ⟨h, h0⟩
  · rw [if_pos h, if_pos h, noneO, if_neg (by rw [h]; decide)]
    exact ⟨rfl, g, rfl⟩
  · rw [if_neg h, if_neg h, noneO, if_pos h0]
    exact ⟨rfl, g, rfl⟩
theorem hdS_X0_when : yX0_when.cls = "LineCalls" ∧ yX0_when.cls ≠ "java/lang/invoke/MethodHandle" ∧ yX0_when.cls ≠ "java/lang/invoke/VarHandle" ∧ (parseMethodDescriptor yX0_when.desc).map (fun d => d.parameters.length) = some 2 := by decide +kernel
set_option maxHeartbeats 4000000 in
theorem tL_when (l : Launch) (G : nG) (ad : Nat → Nat) (w w1 w2 w3 : rw84) (X : mM) (sp : xSp) (sh : xSh) (k y : Int32) (B : Nat) (hI : Inv B w) (hB : B ≤ 100000) : Met l yX0_when (ws_ yX0_when cX0_when 3 (some .int)) { frames := 8, cells := 0, slots := 0, locals := 171 } (va_Pc [.ref (ad 64), .int k, .int y] (nC G (xE G ad (xV w w1 w2 w3) X sp sh))) (va_Qi (fun (r : Int32) (u : xSt) => r = (whenO w k y).1 ∧ ∃ g, u = ((whenO w k y).2.1, w1, g, w3, xfnd (whenO w k y).2.2 X, sp, sh)) (fun u => nC G (xE G ad (xV u.1 u.2.1 u.2.2.1 u.2.2.2.1) u.2.2.2.2.1 u.2.2.2.2.2.1 u.2.2.2.2.2.2)) (nA G)) 0 0 (nA G) := by
  refine n_head (by decide) (Nat.le_of_ble_eq_true rfl) ?_
  intro p e s m below meth c ls hx hb hr hlk hml hown hts hB0 hl
  have hown : s.vm.findClass "LineCalls" = some m.cls := hown
  have hw := nS.start hB0
  have hl : lv_has ls 3 [(0, .ref (ad 64)), (1, .int k), (2, .int y)] := hl
  obtain ⟨n, hn, en⟩ := hI.num
  refine lv_aload_n hx hb dX0_when_0 rfl (lv_at hl 0 rfl) ?_
  refine lv_iload_n hx hb dX0_when_1 rfl (lv_at hl 1 rfl) ?_
  refine n_callp (va_runV ⟨hx, hb, hml, hown, hts⟩ (tL_isJumper l G ad _ _ _ _ _ _ _ _) (cwV 1 hts (lw_V q462 q464 qs2 q90 q465) rfl rfl rfl hdS_X0_isJumper ⟨by decide, by decide⟩) (hw.preV (k := 64) (xp 64) rfl) rfl rfl hl.1 rfl (lv_room (by simp [Value.category])) dX0_when_2 ⟨Nat.zero_le _, Nat.zero_le _⟩) (fun r_2 e_2 => ?_)
  subst e_2
  refine lv_if_eq (tgt := 28) hx hb dX0_when_5 (by decide) (fun c_5 => ?_) (fun c_5 => ?_)
  · skip
    refine lv_aload_n hx hb dX0_when_28 rfl (lv_at hl 0 rfl) ?_
    refine lv_iconst (v := 0) hx hb dX0_when_29 (by decide) ?_
    refine n_calli (va_runV ⟨hx, hb, hml, hown, hts⟩ (tL_finding l G ad _ _ _ _ _ _ _ (0) (by decide)) (cwV 1 hts (lw_V q466 q468 qs3 q90 q469) rfl rfl rfl hdS_X0_finding ⟨by decide, by decide⟩) (hw.preV (k := 64) (xp 64) rfl) rfl rfl hl.1 rfl (lv_room (by simp [Value.category])) dX0_when_30 ⟨Nat.zero_le _, Nat.zero_le _⟩) hw (fun r_30 u_30 H locs e_30 hw => ?_)
    obtain ⟨rfl, rfl⟩ := e_30
    have hw : nS G (xE G ad (xV _ _ _ _) _ _ _) s H locs := hw
    exact l_iret hx hb hr hlk rfl hw (by rw [whenO, if_pos c_5]; first | exact ⟨rfl, _, rfl⟩ | (rw [ij]; exact none_x _ _ _ _ _ _ _ _)) dX0_when_33
  · skip
    obtain ⟨j, hjn, hj, rfl⟩ := in_num en hn c_5
    have ij : ix (nI j) = j := nI_clamp (by omega)
    refine lv_iload_n hx hb dX0_when_8 rfl (lv_at hl 2 rfl) ?_
    refine n_callp (va_runS ⟨hx, hb, hml, hown, hts⟩ (tX_isMany l _) (va_cwS 1 hts (lw_S q663 q664 q90 q665) rfl rfl rfl (hdS_X0_isMany).2 ⟨by decide, by decide⟩) pu_pre rfl rfl hl.1 rfl (lv_room (by simp [Value.category])) dX0_when_9 ⟨Nat.zero_le _, Nat.zero_le _⟩) (fun r_9 e_9 => ?_)
    subst e_9
    refine lv_if_eq (tgt := 28) hx hb dX0_when_12 (by decide) (fun c_12 => ?_) (fun c_12 => ?_)
    · skip
      refine lv_aload_n hx hb dX0_when_28 rfl (lv_at hl 0 rfl) ?_
      refine lv_iconst (v := 0) hx hb dX0_when_29 (by decide) ?_
      refine n_calli (va_runV ⟨hx, hb, hml, hown, hts⟩ (tL_finding l G ad _ _ _ _ _ _ _ (0) (by decide)) (cwV 1 hts (lw_V q466 q468 qs3 q90 q469) rfl rfl rfl hdS_X0_finding ⟨by decide, by decide⟩) (hw.preV (k := 64) (xp 64) rfl) rfl rfl hl.1 rfl (lv_room (by simp [Value.category])) dX0_when_30 ⟨Nat.zero_le _, Nat.zero_le _⟩) hw (fun r_30 u_30 H locs e_30 hw => ?_)
      obtain ⟨rfl, rfl⟩ := e_30
      have hw : nS G (xE G ad (xV _ _ _ _) _ _ _) s H locs := hw
      exact l_iret hx hb hr hlk rfl hw (by rw [whenO, if_neg c_5, if_pos c_12]; first | exact ⟨rfl, _, rfl⟩ | (rw [ij]; exact none_x _ _ _ _ _ _ _ _)) dX0_when_33
    · skip
      refine lv_aload_n hx hb dX0_when_15 rfl (lv_at hl 0 rfl) ?_
      refine lv_aload_n hx hb dX0_when_16 rfl (lv_at hl 0 rfl) ?_
      refine lv_iload_n hx hb dX0_when_17 rfl (lv_at hl 1 rfl) ?_
      refine lv_iload_n hx hb dX0_when_18 rfl (lv_at hl 2 rfl) ?_
      refine n_calli (x_runVW ⟨hx, hb, hml, hown, hts⟩ (tL_wonBehind l G ad _ _ _ _ _ _ _ j _ hj B hI hB) (x_cwVW 2 hts (lw_VW q802 q804 qs13 q90 q805) rfl rfl hdS_X0_wonBehind ⟨by decide, by decide⟩) (hw.preV (k := 64) (xp 64) rfl) rfl rfl hl.1 rfl (lv_room (by simp [Value.category])) dX0_when_19 ⟨Nat.zero_le _, Nat.zero_le _⟩) hw (fun r_19 u_19 H locs e_19 hw => ?_)
      obtain ⟨rfl, rfl⟩ := e_19
      have hw : nS G (xE G ad (xV _ _ _ _) _ _ _) s H locs := hw
      refine n_calli (va_runV ⟨hx, hb, hml, hown, hts⟩ (tL_orNone l G ad _ _ _ _ _ _ _ _) (cwV 1 hts (lw_V q806 q808 qs14 q90 q809) rfl rfl rfl hdS_X0_orNone ⟨by decide, by decide⟩) (hw.preV (k := 64) (xp 64) rfl) rfl rfl hl.1 rfl (lv_room (by simp [Value.category])) dX0_when_22 ⟨Nat.zero_le _, Nat.zero_le _⟩) hw (fun r_22 u_22 H locs e_22 hw => ?_)
      obtain ⟨rfl, rfl⟩ := e_22
      have hw : nS G (xE G ad (xV _ _ _ _) _ _ _) s H locs := hw
      refine lv_goto (tgt := 33) hx hb dX0_when_25 (by decide) ?_
      exact l_iret hx hb hr hlk rfl hw (by rw [whenO, if_neg c_5, if_neg c_12]; first | exact ⟨rfl, _, rfl⟩ | (rw [ij]; exact none_x _ _ _ _ _ _ _ _)) dX0_when_33
theorem hdS_X0_known : yX0_known.cls = "LineCalls" ∧ yX0_known.cls ≠ "java/lang/invoke/MethodHandle" ∧ yX0_known.cls ≠ "java/lang/invoke/VarHandle" ∧ (parseMethodDescriptor yX0_known.desc).map (fun d => d.parameters.length) = some 0 := by decide +kernel
set_option maxHeartbeats 4000000 in
theorem tL_known (l : Launch) (G : nG) (ad : Nat → Nat) (w w1 w2 w3 : rw84) (X : mM) (sp : xSp) (sh : xSh)  (B : Nat) (hI : Inv B w) (hB : B ≤ 100000) : Met l yX0_known (ws_ yX0_known cX0_known 1 (some .int)) { frames := 8, cells := 0, slots := 0, locals := 169 } (va_Pc [.ref (ad 64)] (nC G (xE G ad (xV w w1 w2 w3) X sp sh))) (va_Qi (fun (r : Int32) (u : xSt) => r = (knownO w).1 ∧ ∃ g, u = ((knownO w).2.1, w1, g, w3, xfnd (knownO w).2.2 X, sp, sh)) (fun u => nC G (xE G ad (xV u.1 u.2.1 u.2.2.1 u.2.2.2.1) u.2.2.2.2.1 u.2.2.2.2.2.1 u.2.2.2.2.2.2)) (nA G)) 0 0 (nA G) := by
  refine n_head (by decide) (Nat.le_of_ble_eq_true rfl) ?_
  intro p e s m below meth c ls hx hb hr hlk hml hown hts hB0 hl
  have hown : s.vm.findClass "LineCalls" = some m.cls := hown
  have hw := nS.start hB0
  have hl : lv_has ls 1 [(0, .ref (ad 64))] := hl
  obtain ⟨n, hn, en⟩ := hI.num
  refine lv_aload_n hx hb dX0_known_0 rfl (lv_at hl 0 rfl) ?_
  refine lv_aload_n hx hb dX0_known_1 rfl (lv_at hl 0 rfl) ?_
  refine n_calli (x_runVW ⟨hx, hb, hml, hown, hts⟩ (tL_knownBehind l G ad _ _ _ _ _ _ _ B hI hB) (x_cwVW 0 hts (lw_VW q814 q816 qs15 q90 q817) rfl rfl hdS_X0_knownBehind ⟨by decide, by decide⟩) (hw.preV (k := 64) (xp 64) rfl) rfl rfl hl.1 rfl (lv_room (by simp [Value.category])) dX0_known_2 ⟨Nat.zero_le _, Nat.zero_le _⟩) hw (fun r_2 u_2 H locs e_2 hw => ?_)
  obtain ⟨rfl, rfl⟩ := e_2
  have hw : nS G (xE G ad (xV _ _ _ _) _ _ _) s H locs := hw
  refine n_calli (va_runV ⟨hx, hb, hml, hown, hts⟩ (tL_orNone l G ad _ _ _ _ _ _ _ _) (cwV 1 hts (lw_V q806 q808 qs14 q90 q809) rfl rfl rfl hdS_X0_orNone ⟨by decide, by decide⟩) (hw.preV (k := 64) (xp 64) rfl) rfl rfl hl.1 rfl (lv_room (by simp [Value.category])) dX0_known_5 ⟨Nat.zero_le _, Nat.zero_le _⟩) hw (fun r_5 u_5 H locs e_5 hw => ?_)
  obtain ⟨rfl, rfl⟩ := e_5
  have hw : nS G (xE G ad (xV _ _ _ _) _ _ _) s H locs := hw
  exact l_iret hx hb hr hlk rfl hw (by rw [knownO]; exact none_x _ _ _ _ _ _ _ _) dX0_known_8
