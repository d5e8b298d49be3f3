/-! the class: what will be, thought and put back -/
set_option maxRecDepth 100000
theorem hdS_X0_metresBehind : yX0_metresBehind.cls = "LineCalls" ∧ yX0_metresBehind.cls ≠ "java/lang/invoke/MethodHandle" ∧ yX0_metresBehind.cls ≠ "java/lang/invoke/VarHandle" ∧ (parseMethodDescriptor yX0_metresBehind.desc).map (fun d => d.parameters.length) = some 1 := by decide +kernel
set_option maxHeartbeats 4000000 in
theorem tL_metresBehind (l : Launch) (G : nG) (ad : Nat → Nat) (w w1 w2 w3 : rw84) (X : mM) (sp : xSp) (sh : xSh) (q B : Nat) (hI : Inv B w) (hB : B + q < 2 ^ 30) : Met l yX0_metresBehind (wsW_ yX0_metresBehind cX0_metresBehind 4 (some .int) [((11), (17), (30), (0))]) { frames := 9, cells := 0, slots := 0, locals := 189 } (va_Pc [.ref (ad 64), .int (nI q)] (nC G (xE G ad (xV w w1 w2 w3) X sp sh))) (va_Qi (fun (r : Int32) (u : xSt) => r = thrN w q 3 ∧ u = (w, w1, w, w3, X, sp, sh)) (fun u => nC G (xE G ad (xV u.1 u.2.1 u.2.2.1 u.2.2.2.1) u.2.2.2.2.1 u.2.2.2.2.2.1 u.2.2.2.2.2.2)) (nA G)) 0 0 (nA G) := by
  refine n_headW (by decide) (Nat.le_of_ble_eq_true rfl) ?_
  intro p e s m below meth c ls hx hb hr hlk hml hown hts htab hB0 hl
  have hown : s.vm.findClass "LineCalls" = some m.cls := hown
  have hw := nS.start hB0
  have hl : lv_has ls 4 [(0, .ref (ad 64)), (1, .int (nI q))] := hl
  refine lv_aload_n hx hb dX0_metresBehind_0 rfl (lv_at hl 0 rfl) ?_
  refine n_get (k := 64) hx hb hts in_X0 hown hw (xp 64) rfl 5 (by decide) q420 rfl dX0_metresBehind_1 ?_
  refine lv_aload_n hx hb dX0_metresBehind_4 rfl (lv_at hl 0 rfl) ?_
  refine n_get (k := 64) hx hb hts in_X0 hown hw (xp 64) rfl 3 (by decide) q418 rfl dX0_metresBehind_5 ?_
  refine n_callv (va_runV ⟨hx, hb, hml, hown, hts⟩ (tX4_become l G ad _ _ _ _ 2 (by decide) _ (xV_at2 _ _ _ _) 0 _ (by decide) (by decide) (xV_at0 _ _ _ _)) (cwV 1 hts (lw_V q773 q774 q775 q97 q776) rfl rfl rfl hdS_X4_become ⟨by decide, by decide⟩) (hw.preV (k := 16 * 2 + 0) (xv2 0) rfl) rfl rfl hl.1 rfl (lv_room (by simp [Value.category])) dX0_metresBehind_8 ⟨Nat.zero_le _, Nat.zero_le _⟩) hw (fun u_8 H locs e_8 hw => ?_)
  subst e_8
  have hw : nS G (xE G ad (va_up (xV _ _ _ _) 2 _) _ _ _) s H locs := hw
  rw [xV_2] at hw
  refine lv_aload_n hx hb dX0_metresBehind_11 rfl (lv_at hl 0 rfl) ?_
  refine lv_iload_n hx hb dX0_metresBehind_12 rfl (lv_at hl 1 rfl) ?_
  refine n_calli (va_runV ⟨hx, hb, hml, hown, hts⟩ (tL_goesOn l G ad _ _ _ _ _ _ _ (q) B (by assumption) (by omega)) (cwV 1 hts (lw_V q704 q706 qs5 q90 q707) rfl rfl rfl hdS_X0_goesOn ⟨by decide, by decide⟩) (hw.preV (k := 64) (xp 64) rfl) rfl rfl hl.1 rfl (lv_room (by simp [Value.category])) dX0_metresBehind_13 ⟨Nat.zero_le _, Nat.zero_le _⟩) hw (fun r_13 u_13 H locs e_13 hw => ?_)
  obtain ⟨rfl, rfl⟩ := e_13
  have hw : nS G (xE G ad (xV _ _ _ _) _ _ _) s H locs := hw
  refine lv_istore_n hx hb dX0_metresBehind_16 rfl hl (by decide) rfl (fun ls hl => ?_)
  refine lv_aload_n hx hb dX0_metresBehind_17 rfl (lv_at hl 1 rfl) ?_
  refine n_get (k := 64) hx hb hts in_X0 hown hw (xp 64) rfl 3 (by decide) q418 rfl dX0_metresBehind_18 ?_
  refine lv_aload_n hx hb dX0_metresBehind_21 rfl (lv_at hl 1 rfl) ?_
  refine n_get (k := 64) hx hb hts in_X0 hown hw (xp 64) rfl 5 (by decide) q420 rfl dX0_metresBehind_22 ?_
  refine n_callv (va_runV ⟨hx, hb, hml, hown, hts⟩ (tX4_become l G ad _ _ _ _ 0 (by decide) _ (xV_at0 _ _ _ _) 2 _ (by decide) (by decide) (xV_at2 _ _ _ _)) (cwV 1 hts (lw_V q773 q774 q775 q97 q776) rfl rfl rfl hdS_X4_become ⟨by decide, by decide⟩) (hw.preV (k := 16 * 0 + 0) (xv0 0) rfl) rfl rfl hl.1 rfl (lv_room (by simp [Value.category])) dX0_metresBehind_25 ⟨Nat.zero_le _, Nat.zero_le _⟩) hw (fun u_25 H locs e_25 hw => ?_)
  subst e_25
  have hw : nS G (xE G ad (va_up (xV _ _ _ _) 0 _) _ _ _) s H locs := hw
  rw [xV_0] at hw
  refine lv_iload_n hx hb dX0_metresBehind_28 rfl (lv_at hl 0 rfl) ?_
  exact l_iret hx hb hr hlk rfl hw ⟨rfl, rfl⟩ dX0_metresBehind_29
theorem hdS_X0_toldBehind : yX0_toldBehind.cls = "LineCalls" ∧ yX0_toldBehind.cls ≠ "java/lang/invoke/MethodHandle" ∧ yX0_toldBehind.cls ≠ "java/lang/invoke/VarHandle" ∧ (parseMethodDescriptor yX0_toldBehind.desc).map (fun d => d.parameters.length) = some 3 := by decide +kernel
set_option maxHeartbeats 4000000 in
theorem tL_toldBehind (l : Launch) (G : nG) (ad : Nat → Nat) (w w1 w2 w3 : rw84) (X : mM) (sp : xSp) (sh : xSh) (j f q B : Nat) (hj : j < 8) (hf : f ≤ 5) (hI : Inv B w) (hB : B + q < 2 ^ 30) : Met l yX0_toldBehind (wsW_ yX0_toldBehind cX0_toldBehind 6 (some .int) [((11), (24), (38), (0)), ((38), (40), (38), (0))]) { frames := 8, cells := 0, slots := 0, locals := 168 } (va_Pc [.ref (ad 64), .int (nI j), .int (nI f), .int (nI q)] (nC G (xE G ad (xV w w1 w2 w3) X sp sh))) (va_Qi (fun (r : Int32) (u : xSt) => r = (if nI f = 5 then highF (thrN w q) j else thrN w q (44 + 5 * j + f)) ∧ u = (w, w1, w, w3, X, sp, sh)) (fun u => nC G (xE G ad (xV u.1 u.2.1 u.2.2.1 u.2.2.2.1) u.2.2.2.2.1 u.2.2.2.2.2.1 u.2.2.2.2.2.2)) (nA G)) 0 0 (nA G) := by
  refine n_headW (by decide) (Nat.le_of_ble_eq_true rfl) ?_
  intro p e s m below meth c ls hx hb hr hlk hml hown hts htab hB0 hl
  have hown : s.vm.findClass "LineCalls" = some m.cls := hown
  have hw := nS.start hB0
  have hl : lv_has ls 6 [(0, .ref (ad 64)), (1, .int (nI j)), (2, .int (nI f)), (3, .int (nI q))] := hl
  refine lv_aload_n hx hb dX0_toldBehind_0 rfl (lv_at hl 0 rfl) ?_
  refine n_get (k := 64) hx hb hts in_X0 hown hw (xp 64) rfl 5 (by decide) q420 rfl dX0_toldBehind_1 ?_
  refine lv_aload_n hx hb dX0_toldBehind_4 rfl (lv_at hl 0 rfl) ?_
  refine n_get (k := 64) hx hb hts in_X0 hown hw (xp 64) rfl 3 (by decide) q418 rfl dX0_toldBehind_5 ?_
  refine n_callv (va_runV ⟨hx, hb, hml, hown, hts⟩ (tX4_become l G ad _ _ _ _ 2 (by decide) _ (xV_at2 _ _ _ _) 0 _ (by decide) (by decide) (xV_at0 _ _ _ _)) (cwV 1 hts (lw_V q773 q774 q775 q97 q776) rfl rfl rfl hdS_X4_become ⟨by decide, by decide⟩) (hw.preV (k := 16 * 2 + 0) (xv2 0) rfl) rfl rfl hl.1 rfl (lv_room (by simp [Value.category])) dX0_toldBehind_8 ⟨Nat.zero_le _, Nat.zero_le _⟩) hw (fun u_8 H locs e_8 hw => ?_)
  subst e_8
  have hw : nS G (xE G ad (va_up (xV _ _ _ _) 2 _) _ _ _) s H locs := hw
  rw [xV_2] at hw
  refine lv_aload_n hx hb dX0_toldBehind_11 rfl (lv_at hl 0 rfl) ?_
  refine lv_iload_n hx hb dX0_toldBehind_12 rfl (lv_at hl 3 rfl) ?_
  refine n_callv (va_runV ⟨hx, hb, hml, hown, hts⟩ (tL_passes l G ad _ _ _ _ _ _ _ (q) B (by assumption) (by omega)) (cwV 1 hts (lw_V q708 q710 qs6 q90 q711) rfl rfl rfl hdS_X0_passes ⟨by decide, by decide⟩) (hw.preV (k := 64) (xp 64) rfl) rfl rfl hl.1 rfl (lv_room (by simp [Value.category])) dX0_toldBehind_13 ⟨Nat.zero_le _, Nat.zero_le _⟩) hw (fun u_13 H locs e_13 hw => ?_)
  subst e_13
  have hw : nS G (xE G ad (xV _ _ _ _) _ _ _) s H locs := hw
  refine lv_aload_n hx hb dX0_toldBehind_16 rfl (lv_at hl 0 rfl) ?_
  refine lv_iload_n hx hb dX0_toldBehind_17 rfl (lv_at hl 1 rfl) ?_
  refine lv_iload_n hx hb dX0_toldBehind_18 rfl (lv_at hl 2 rfl) ?_
  refine n_callp (va_runV ⟨hx, hb, hml, hown, hts⟩ (tL_toldOf l G ad _ _ _ _ _ _ _ (j) (f) (B + q) hj hf (hI.thrN (by omega))) (cwV 2 hts (lw_V q786 q788 qs11 q90 q789) rfl rfl rfl hdS_X0_toldOf ⟨by decide, by decide⟩) (hw.preV (k := 64) (xp 64) rfl) rfl rfl hl.1 rfl (lv_room (by simp [Value.category])) dX0_toldBehind_19 ⟨Nat.zero_le _, Nat.zero_le _⟩) (fun r_19 e_19 => ?_)
  subst e_19
  refine lv_istore hx hb dX0_toldBehind_22 hl (by decide) rfl (fun ls hl => ?_)
  refine lv_aload_n hx hb dX0_toldBehind_24 rfl (lv_at hl 1 rfl) ?_
  refine n_get (k := 64) hx hb hts in_X0 hown hw (xp 64) rfl 3 (by decide) q418 rfl dX0_toldBehind_25 ?_
  refine lv_aload_n hx hb dX0_toldBehind_28 rfl (lv_at hl 1 rfl) ?_
  refine n_get (k := 64) hx hb hts in_X0 hown hw (xp 64) rfl 5 (by decide) q420 rfl dX0_toldBehind_29 ?_
  refine n_callv (va_runV ⟨hx, hb, hml, hown, hts⟩ (tX4_become l G ad _ _ _ _ 0 (by decide) _ (xV_at0 _ _ _ _) 2 _ (by decide) (by decide) (xV_at2 _ _ _ _)) (cwV 1 hts (lw_V q773 q774 q775 q97 q776) rfl rfl rfl hdS_X4_become ⟨by decide, by decide⟩) (hw.preV (k := 16 * 0 + 0) (xv0 0) rfl) rfl rfl hl.1 rfl (lv_room (by simp [Value.category])) dX0_toldBehind_32 ⟨Nat.zero_le _, Nat.zero_le _⟩) hw (fun u_32 H locs e_32 hw => ?_)
  subst e_32
  have hw : nS G (xE G ad (va_up (xV _ _ _ _) 0 _) _ _ _) s H locs := hw
  rw [xV_0] at hw
  refine lv_iload hx hb dX0_toldBehind_35 (lv_at hl 0 rfl) ?_
  exact l_iret hx hb hr hlk rfl hw ⟨rfl, rfl⟩ dX0_toldBehind_37
theorem hdS_X0_metresFrom : yX0_metresFrom.cls = "LineCalls" ∧ yX0_metresFrom.cls ≠ "java/lang/invoke/MethodHandle" ∧ yX0_metresFrom.cls ≠ "java/lang/invoke/VarHandle" ∧ (parseMethodDescriptor yX0_metresFrom.desc).map (fun d => d.parameters.length) = some 3 := by decide +kernel
set_option maxHeartbeats 4000000 in
theorem tL_metresFrom (l : Launch) (G : nG) (ad : Nat → Nat) (w w1 w2 w3 : rw84) (X : mM) (sp : xSp) (sh : xSh) (k z q B : Nat) (hz : z < 7) (hI : Inv B (chF w z (nI k))) (hB : B + q < 2 ^ 30) : Met l yX0_metresFrom (wsW_ yX0_metresFrom cX0_metresFrom 6 (some .int) [((11), (27), (41), (0)), ((41), (43), (41), (0))]) { frames := 9, cells := 0, slots := 0, locals := 189 } (va_Pc [.ref (ad 64), .int (nI k), .int (nI z), .int (nI q)] (nC G (xE G ad (xV w w1 w2 w3) X sp sh))) (va_Qi (fun (r : Int32) (u : xSt) => r = thrN (chF w z (nI k)) q 3 ∧ u = (w, w1, w, w3, X, sp, sh)) (fun u => nC G (xE G ad (xV u.1 u.2.1 u.2.2.1 u.2.2.2.1) u.2.2.2.2.1 u.2.2.2.2.2.1 u.2.2.2.2.2.2)) (nA G)) 0 0 (nA G) := by
  refine n_headW (by decide) (Nat.le_of_ble_eq_true rfl) ?_
  intro p e s m below meth c ls hx hb hr hlk hml hown hts htab hB0 hl
  have hown : s.vm.findClass "LineCalls" = some m.cls := hown
  have hw := nS.start hB0
  have hl : lv_has ls 6 [(0, .ref (ad 64)), (1, .int (nI k)), (2, .int (nI z)), (3, .int (nI q))] := hl
  refine lv_aload_n hx hb dX0_metresFrom_0 rfl (lv_at hl 0 rfl) ?_
  refine n_get (k := 64) hx hb hts in_X0 hown hw (xp 64) rfl 5 (by decide) q420 rfl dX0_metresFrom_1 ?_
  refine lv_aload_n hx hb dX0_metresFrom_4 rfl (lv_at hl 0 rfl) ?_
  refine n_get (k := 64) hx hb hts in_X0 hown hw (xp 64) rfl 3 (by decide) q418 rfl dX0_metresFrom_5 ?_
  refine n_callv (va_runV ⟨hx, hb, hml, hown, hts⟩ (tX4_become l G ad _ _ _ _ 2 (by decide) _ (xV_at2 _ _ _ _) 0 _ (by decide) (by decide) (xV_at0 _ _ _ _)) (cwV 1 hts (lw_V q773 q774 q775 q97 q776) rfl rfl rfl hdS_X4_become ⟨by decide, by decide⟩) (hw.preV (k := 16 * 2 + 0) (xv2 0) rfl) rfl rfl hl.1 rfl (lv_room (by simp [Value.category])) dX0_metresFrom_8 ⟨Nat.zero_le _, Nat.zero_le _⟩) hw (fun u_8 H locs e_8 hw => ?_)
  subst e_8
  have hw : nS G (xE G ad (va_up (xV _ _ _ _) 2 _) _ _ _) s H locs := hw
  rw [xV_2] at hw
  refine lv_aload_n hx hb dX0_metresFrom_11 rfl (lv_at hl 0 rfl) ?_
  refine n_get (k := 64) hx hb hts in_X0 hown hw (xp 64) rfl 3 (by decide) q418 rfl dX0_metresFrom_12 ?_
  refine lv_iload_n hx hb dX0_metresFrom_15 rfl (lv_at hl 2 rfl) ?_
  refine lv_iload_n hx hb dX0_metresFrom_16 rfl (lv_at hl 1 rfl) ?_
  refine n_callv (va_runV ⟨hx, hb, hml, hown, hts⟩ (tX4_changes l G ad _ _ _ _ 0 (by decide) _ (xV_at0 _ _ _ _) (z) _ (by first | assumption | omega)) (cwV 2 hts (lw_V q851 q852 q853 q97 q854) rfl rfl rfl hdS_X4_changes ⟨by decide, by decide⟩) (hw.preV (k := 16 * 0 + 0) (xv0 0) rfl) rfl rfl hl.1 rfl (lv_room (by simp [Value.category])) dX0_metresFrom_17 ⟨Nat.zero_le _, Nat.zero_le _⟩) hw (fun u_17 H locs e_17 hw => ?_)
  subst e_17
  have hw : nS G (xE G ad (va_up (xV _ _ _ _) 0 _) _ _ _) s H locs := hw
  rw [xV_0] at hw
  refine lv_aload_n hx hb dX0_metresFrom_20 rfl (lv_at hl 0 rfl) ?_
  refine lv_iload_n hx hb dX0_metresFrom_21 rfl (lv_at hl 3 rfl) ?_
  refine n_calli (va_runV ⟨hx, hb, hml, hown, hts⟩ (tL_goesOn l G ad _ _ _ _ _ _ _ (q) B (by assumption) (by omega)) (cwV 1 hts (lw_V q704 q706 qs5 q90 q707) rfl rfl rfl hdS_X0_goesOn ⟨by decide, by decide⟩) (hw.preV (k := 64) (xp 64) rfl) rfl rfl hl.1 rfl (lv_room (by simp [Value.category])) dX0_metresFrom_22 ⟨Nat.zero_le _, Nat.zero_le _⟩) hw (fun r_22 u_22 H locs e_22 hw => ?_)
  obtain ⟨rfl, rfl⟩ := e_22
  have hw : nS G (xE G ad (xV _ _ _ _) _ _ _) s H locs := hw
  refine lv_istore hx hb dX0_metresFrom_25 hl (by decide) rfl (fun ls hl => ?_)
  refine lv_aload_n hx hb dX0_metresFrom_27 rfl (lv_at hl 1 rfl) ?_
  refine n_get (k := 64) hx hb hts in_X0 hown hw (xp 64) rfl 3 (by decide) q418 rfl dX0_metresFrom_28 ?_
  refine lv_aload_n hx hb dX0_metresFrom_31 rfl (lv_at hl 1 rfl) ?_
  refine n_get (k := 64) hx hb hts in_X0 hown hw (xp 64) rfl 5 (by decide) q420 rfl dX0_metresFrom_32 ?_
  refine n_callv (va_runV ⟨hx, hb, hml, hown, hts⟩ (tX4_become l G ad _ _ _ _ 0 (by decide) _ (xV_at0 _ _ _ _) 2 _ (by decide) (by decide) (xV_at2 _ _ _ _)) (cwV 1 hts (lw_V q773 q774 q775 q97 q776) rfl rfl rfl hdS_X4_become ⟨by decide, by decide⟩) (hw.preV (k := 16 * 0 + 0) (xv0 0) rfl) rfl rfl hl.1 rfl (lv_room (by simp [Value.category])) dX0_metresFrom_35 ⟨Nat.zero_le _, Nat.zero_le _⟩) hw (fun u_35 H locs e_35 hw => ?_)
  subst e_35
  have hw : nS G (xE G ad (va_up (xV _ _ _ _) 0 _) _ _ _) s H locs := hw
  rw [xV_0] at hw
  refine lv_iload hx hb dX0_metresFrom_38 (lv_at hl 0 rfl) ?_
  exact l_iret hx hb hr hlk rfl hw ⟨rfl, rfl⟩ dX0_metresFrom_40
