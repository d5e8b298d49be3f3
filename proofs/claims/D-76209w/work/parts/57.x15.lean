/-! the class: when -/
set_option maxRecDepth 100000
theorem wh_next {b : Nat → Bool} {z : Nat} (hu : untilF b (100 - z) z = untilF b 100 0) (h : ¬ b z = true) (hz : z ≤ 100) : (z + 1 ≤ 100 ∧ untilF b (100 - (z + 1)) (z + 1) = untilF b 100 0) ∨ (z + 1 = 101 ∧ whenR b = -1) := by
  rcases Nat.lt_or_ge z 100 with h1 | h1
  · exact Or.inl ⟨h1, (un_go h1 h).symm.trans hu⟩
  · obtain rfl : z = 100 := by omega
    exact Or.inr ⟨rfl, (wh_no hu.symm h).symm⟩
theorem hdS_X0_wonBehind : yX0_wonBehind.cls = "LineCalls" ∧ yX0_wonBehind.cls ≠ "java/lang/invoke/MethodHandle" ∧ yX0_wonBehind.cls ≠ "java/lang/invoke/VarHandle" ∧ (parseMethodDescriptor yX0_wonBehind.desc).map (fun d => d.parameters.length) = some 2 := by decide +kernel
set_option maxHeartbeats 4000000 in
theorem tL_wonBehind (l : Launch) (G : nG) (ad : Nat → Nat) (w w1 w2 w3 : rw84) (X : mM) (sp : xSp) (sh : xSh) (j : Nat) (y : Int32) (hj : j < 8) (B : Nat) (hI : Inv B w) (hB : B ≤ 100000) : Met l yX0_wonBehind (wsW_ yX0_wonBehind cX0_wonBehind 6 (some .int) [((11), (57), (71), (0)), ((71), (73), (71), (0))]) { frames := 7, cells := 0, slots := 0, locals := 146 } (va_Pc [.ref (ad 64), .int (nI j), .int y] (nC G (xE G ad (xV w w1 w2 w3) X sp sh))) (va_Qi (fun (r : Int32) (u : xSt) => r = whenR (fun n => decide (y ≤ thrN w n (44 + 5 * j + 3))) ∧ u = (w, w1, w, w3, X, sp, sh)) (fun u => nC G (xE G ad (xV u.1 u.2.1 u.2.2.1 u.2.2.2.1) u.2.2.2.2.1 u.2.2.2.2.2.1 u.2.2.2.2.2.2)) (nA G)) 0 0 (nA G) := by
  refine n_headW (by decide) (Nat.le_of_ble_eq_true rfl) ?_
  intro p e s m below meth c ls hx hb hr hlk hml hown hts htab hB0 hl
  have hown : s.vm.findClass "LineCalls" = some m.cls := hown
  have hw := nS.start hB0
  have hl : lv_has ls 6 [(0, .ref (ad 64)), (1, .int (nI j)), (2, .int y)] := hl
  refine lv_aload_n hx hb dX0_wonBehind_0 rfl (lv_at hl 0 rfl) ?_
  refine n_get (k := 64) hx hb hts in_X0 hown hw (xp 64) rfl 5 (by decide) q420 rfl dX0_wonBehind_1 ?_
  refine lv_aload_n hx hb dX0_wonBehind_4 rfl (lv_at hl 0 rfl) ?_
  refine n_get (k := 64) hx hb hts in_X0 hown hw (xp 64) rfl 3 (by decide) q418 rfl dX0_wonBehind_5 ?_
  refine n_callv (va_runV ⟨hx, hb, hml, hown, hts⟩ (tX4_become l G ad _ _ _ _ 2 (by decide) _ (xV_at2 _ _ _ _) 0 _ (by decide) (by decide) (xV_at0 _ _ _ _)) (cwV 1 hts (lw_V q773 q774 q775 q97 q776) rfl rfl rfl hdS_X4_become ⟨by decide, by decide⟩) (hw.preV (k := 16 * 2 + 0) (xv2 0) rfl) rfl rfl hl.1 rfl (lv_room (by simp [Value.category])) dX0_wonBehind_8 ⟨Nat.zero_le _, Nat.zero_le _⟩) hw (fun u_8 H locs e_8 hw => ?_)
  (replace e_8 : u_8 = _ := e_8; rw [e_8] at hw)
  have hw : nS G (xE G ad (va_up (xV _ _ _ _) 2 _) _ _ _) s H locs := hw
  rw [xV_2] at hw
  refine lv_iconst (v := 0) hx hb dX0_wonBehind_11 (by decide) ?_
  refine lv_istore_n hx hb dX0_wonBehind_12 rfl hl (by decide) rfl (fun ls hl => ?_)
  refine n_loop (α := Nat) (fun z H locs ls => z ≤ 101 ∧ ((z ≤ 100 ∧ untilF (fun n => decide (y ≤ thrN w n (44 + 5 * j + 3))) (100 - z) z = untilF (fun n => decide (y ≤ thrN w n (44 + 5 * j + 3))) 100 0) ∨ (z = 101 ∧ whenR (fun n => decide (y ≤ thrN w n (44 + 5 * j + 3))) = -1)) ∧ nS G (xE G ad (xV (thrN w z) w1 w w3) X sp sh) s H locs ∧ lv_has ls 6 [(0, .ref (ad 64)), (1, .int (nI j)), (2, .int y), (3, .int (nI z))]) (fun z => 101 - z) 13 ?_ 0 _ _ _ ⟨Nat.zero_le _, Or.inl ⟨Nat.zero_le _, rfl⟩, hw, (lv_sub hl [1, 2, 3, 0] rfl)⟩
  clear hl hw
  intro z H locs ls hI ih_13
  obtain ⟨hz, hw0, hw, hl⟩ := hI
  have hIz : Inv (B + z) (thrN w z) := hI.thrN (by omega)
  refine lv_iload_n hx hb dX0_wonBehind_13 rfl (lv_at hl 3 rfl) ?_
  refine lv_bipush (v := 100) hx hb dX0_wonBehind_14 (by decide) ?_
  refine lv_icmp_gt (tgt := 44) hx hb dX0_wonBehind_16 (by decide) (fun c_16 => ?_) (fun c_16 => ?_)
  · skip
    have n_16 : 100 < z := (nI_ltI (a := 100) (b := z) (by omega) (by omega)).mp c_16
    have hm1 : whenR (fun n => decide (y ≤ thrN w n (44 + 5 * j + 3))) = -1 := by (rcases hw0 with ⟨h1, -⟩ | ⟨-, h2⟩; omega; exact h2)
    refine lv_iload_n hx hb dX0_wonBehind_44 rfl (lv_at hl 3 rfl) ?_
    refine lv_bipush (v := 100) hx hb dX0_wonBehind_45 (by decide) ?_
    refine lv_icmp_gt (tgt := 54) hx hb dX0_wonBehind_47 (by decide) (fun c_47 => ?_) (fun c_47 => ?_)
    · skip
      have n_47 : 100 < z := (nI_ltI (a := 100) (b := z) (by omega) (by omega)).mp c_47
      refine lv_iconst (v := (-1)) hx hb dX0_wonBehind_54 (by decide) ?_
      refine lv_istore hx hb dX0_wonBehind_55 hl (by decide) rfl (fun ls hl => ?_)
      refine lv_aload_n hx hb dX0_wonBehind_57 rfl (lv_at hl 1 rfl) ?_
      refine n_get (k := 64) hx hb hts in_X0 hown hw (xp 64) rfl 3 (by decide) q418 rfl dX0_wonBehind_58 ?_
      refine lv_aload_n hx hb dX0_wonBehind_61 rfl (lv_at hl 1 rfl) ?_
      refine n_get (k := 64) hx hb hts in_X0 hown hw (xp 64) rfl 5 (by decide) q420 rfl dX0_wonBehind_62 ?_
      refine n_callv (va_runV ⟨hx, hb, hml, hown, hts⟩ (tX4_become l G ad _ _ _ _ 0 (by decide) _ (xV_at0 _ _ _ _) 2 _ (by decide) (by decide) (xV_at2 _ _ _ _)) (cwV 1 hts (lw_V q773 q774 q775 q97 q776) rfl rfl rfl hdS_X4_become ⟨by decide, by decide⟩) (hw.preV (k := 16 * 0 + 0) (xv0 0) rfl) rfl rfl hl.1 rfl (lv_room (by simp [Value.category])) dX0_wonBehind_65 ⟨Nat.zero_le _, Nat.zero_le _⟩) hw (fun u_65 H locs e_65 hw => ?_)
      subst e_65
      have hw : nS G (xE G ad (va_up (xV _ _ _ _) 0 _) _ _ _) s H locs := hw
      rw [xV_0] at hw
      refine lv_iload hx hb dX0_wonBehind_68 (lv_at hl 0 rfl) ?_
      exact l_iret hx hb hr hlk rfl hw ⟨by first | exact hm1.symm | exact wh_yes hN (by simpa using c_31) | (exfalso; omega), rfl⟩ dX0_wonBehind_70
    · skip
      have n_47 : ¬ 100 < z := fun h => c_47 ((nI_ltI (a := 100) (b := z) (by omega) (by omega)).mpr h)
      refine lv_iload_n hx hb dX0_wonBehind_50 rfl (lv_at hl 3 rfl) ?_
      refine lv_goto (tgt := 55) hx hb dX0_wonBehind_51 (by decide) ?_
      refine lv_istore hx hb dX0_wonBehind_55 hl (by decide) rfl (fun ls hl => ?_)
      refine lv_aload_n hx hb dX0_wonBehind_57 rfl (lv_at hl 1 rfl) ?_
      refine n_get (k := 64) hx hb hts in_X0 hown hw (xp 64) rfl 3 (by decide) q418 rfl dX0_wonBehind_58 ?_
      refine lv_aload_n hx hb dX0_wonBehind_61 rfl (lv_at hl 1 rfl) ?_
      refine n_get (k := 64) hx hb hts in_X0 hown hw (xp 64) rfl 5 (by decide) q420 rfl dX0_wonBehind_62 ?_
      refine n_callv (va_runV ⟨hx, hb, hml, hown, hts⟩ (tX4_become l G ad _ _ _ _ 0 (by decide) _ (xV_at0 _ _ _ _) 2 _ (by decide) (by decide) (xV_at2 _ _ _ _)) (cwV 1 hts (lw_V q773 q774 q775 q97 q776) rfl rfl rfl hdS_X4_become ⟨by decide, by decide⟩) (hw.preV (k := 16 * 0 + 0) (xv0 0) rfl) rfl rfl hl.1 rfl (lv_room (by simp [Value.category])) dX0_wonBehind_65 ⟨Nat.zero_le _, Nat.zero_le _⟩) hw (fun u_65 H locs e_65 hw => ?_)
      subst e_65
      have hw : nS G (xE G ad (va_up (xV _ _ _ _) 0 _) _ _ _) s H locs := hw
      rw [xV_0] at hw
      refine lv_iload hx hb dX0_wonBehind_68 (lv_at hl 0 rfl) ?_
      exact l_iret hx hb hr hlk rfl hw ⟨by first | exact hm1.symm | exact wh_yes hN (by simpa using c_31) | (exfalso; omega), rfl⟩ dX0_wonBehind_70
  · skip
    have n_16 : ¬ 100 < z := fun h => c_16 ((nI_ltI (a := 100) (b := z) (by omega) (by omega)).mpr h)
    have hu : untilF (fun n => decide (y ≤ thrN w n (44 + 5 * j + 3))) (100 - z) z = untilF (fun n => decide (y ≤ thrN w n (44 + 5 * j + 3))) 100 0 := by (rcases hw0 with ⟨-, h1⟩ | ⟨h2, -⟩; exact h1; omega)
    refine lv_aload_n hx hb dX0_wonBehind_19 rfl (lv_at hl 0 rfl) ?_
    refine n_get (k := 64) hx hb hts in_X0 hown hw (xp 64) rfl 3 (by decide) q418 rfl dX0_wonBehind_20 ?_
    refine n_getN (k := 16 * 0 + 0) hx hb hts in_X4 hown hw (xv0 0) rfl 6 (by decide) q243 rfl dX0_wonBehind_23 ?_
    refine lv_iconst (v := 3) hx hb dX0_wonBehind_26 (by decide) ?_
    refine n_aaldS (k := 16 * 0 + 7) (t := 4) (j := 3) (b := ad (16 * 0 + 11)) hx hb hw (xv0 7) (Or.inr rfl) rfl (by decide) (by decide) rfl dX0_wonBehind_27 ?_
    refine lv_iload_n hx hb dX0_wonBehind_28 rfl (lv_at hl 1 rfl) ?_
    refine n_iald (k := 16 * 0 + 11) (j := j) hx hb hw (xv0 11) rfl (by omega) (by decide) dX0_wonBehind_29 ?_
    refine lv_iload_n hx hb dX0_wonBehind_30 rfl (lv_at hl 2 rfl) ?_
    refine lv_icmp_ge (tgt := 44) hx hb dX0_wonBehind_31 (by decide) (fun c_31 => ?_) (fun c_31 => ?_)
    · skip
      have hN := hu.symm.trans (un_hit (by omega) (by simpa using c_31))
      refine lv_iload_n hx hb dX0_wonBehind_44 rfl (lv_at hl 3 rfl) ?_
      refine lv_bipush (v := 100) hx hb dX0_wonBehind_45 (by decide) ?_
      refine lv_icmp_gt (tgt := 54) hx hb dX0_wonBehind_47 (by decide) (fun c_47 => ?_) (fun c_47 => ?_)
      · skip
        have n_47 : 100 < z := (nI_ltI (a := 100) (b := z) (by omega) (by omega)).mp c_47
        refine lv_iconst (v := (-1)) hx hb dX0_wonBehind_54 (by decide) ?_
        refine lv_istore hx hb dX0_wonBehind_55 hl (by decide) rfl (fun ls hl => ?_)
        refine lv_aload_n hx hb dX0_wonBehind_57 rfl (lv_at hl 1 rfl) ?_
        refine n_get (k := 64) hx hb hts in_X0 hown hw (xp 64) rfl 3 (by decide) q418 rfl dX0_wonBehind_58 ?_
        refine lv_aload_n hx hb dX0_wonBehind_61 rfl (lv_at hl 1 rfl) ?_
        refine n_get (k := 64) hx hb hts in_X0 hown hw (xp 64) rfl 5 (by decide) q420 rfl dX0_wonBehind_62 ?_
        refine n_callv (va_runV ⟨hx, hb, hml, hown, hts⟩ (tX4_become l G ad _ _ _ _ 0 (by decide) _ (xV_at0 _ _ _ _) 2 _ (by decide) (by decide) (xV_at2 _ _ _ _)) (cwV 1 hts (lw_V q773 q774 q775 q97 q776) rfl rfl rfl hdS_X4_become ⟨by decide, by decide⟩) (hw.preV (k := 16 * 0 + 0) (xv0 0) rfl) rfl rfl hl.1 rfl (lv_room (by simp [Value.category])) dX0_wonBehind_65 ⟨Nat.zero_le _, Nat.zero_le _⟩) hw (fun u_65 H locs e_65 hw => ?_)
        subst e_65
        have hw : nS G (xE G ad (va_up (xV _ _ _ _) 0 _) _ _ _) s H locs := hw
        rw [xV_0] at hw
        refine lv_iload hx hb dX0_wonBehind_68 (lv_at hl 0 rfl) ?_
        exact l_iret hx hb hr hlk rfl hw ⟨by first | exact hm1.symm | exact wh_yes hN (by simpa using c_31) | (exfalso; omega), rfl⟩ dX0_wonBehind_70
      · skip
        have n_47 : ¬ 100 < z := fun h => c_47 ((nI_ltI (a := 100) (b := z) (by omega) (by omega)).mpr h)
        refine lv_iload_n hx hb dX0_wonBehind_50 rfl (lv_at hl 3 rfl) ?_
        refine lv_goto (tgt := 55) hx hb dX0_wonBehind_51 (by decide) ?_
        refine lv_istore hx hb dX0_wonBehind_55 hl (by decide) rfl (fun ls hl => ?_)
        refine lv_aload_n hx hb dX0_wonBehind_57 rfl (lv_at hl 1 rfl) ?_
        refine n_get (k := 64) hx hb hts in_X0 hown hw (xp 64) rfl 3 (by decide) q418 rfl dX0_wonBehind_58 ?_
        refine lv_aload_n hx hb dX0_wonBehind_61 rfl (lv_at hl 1 rfl) ?_
        refine n_get (k := 64) hx hb hts in_X0 hown hw (xp 64) rfl 5 (by decide) q420 rfl dX0_wonBehind_62 ?_
        refine n_callv (va_runV ⟨hx, hb, hml, hown, hts⟩ (tX4_become l G ad _ _ _ _ 0 (by decide) _ (xV_at0 _ _ _ _) 2 _ (by decide) (by decide) (xV_at2 _ _ _ _)) (cwV 1 hts (lw_V q773 q774 q775 q97 q776) rfl rfl rfl hdS_X4_become ⟨by decide, by decide⟩) (hw.preV (k := 16 * 0 + 0) (xv0 0) rfl) rfl rfl hl.1 rfl (lv_room (by simp [Value.category])) dX0_wonBehind_65 ⟨Nat.zero_le _, Nat.zero_le _⟩) hw (fun u_65 H locs e_65 hw => ?_)
        subst e_65
        have hw : nS G (xE G ad (va_up (xV _ _ _ _) 0 _) _ _ _) s H locs := hw
        rw [xV_0] at hw
        refine lv_iload hx hb dX0_wonBehind_68 (lv_at hl 0 rfl) ?_
        exact l_iret hx hb hr hlk rfl hw ⟨by first | exact hm1.symm | exact wh_yes hN (by simpa using c_31) | (exfalso; omega), rfl⟩ dX0_wonBehind_70
    · skip
      refine lv_aload_n hx hb dX0_wonBehind_34 rfl (lv_at hl 0 rfl) ?_
      refine n_callv (va_runV ⟨hx, hb, hml, hown, hts⟩ (tL_passes_2 l G ad _ _ _ _ _ _ _ (B + z) hIz (by omega)) (cwV 0 hts (lw_V q712 q714 qs7 q90 q715) rfl rfl rfl hdS_X0_passes_2 ⟨by decide, by decide⟩) (hw.preV (k := 64) (xp 64) rfl) rfl rfl hl.1 rfl (lv_room (by simp [Value.category])) dX0_wonBehind_35 ⟨Nat.zero_le _, Nat.zero_le _⟩) hw (fun u_35 H locs e_35 hw => ?_)
      subst e_35
      have hw : nS G (xE G ad (xV _ _ _ _) _ _ _) s H locs := hw
      refine lv_iinc (v := nI (z + 1)) hx hb dX0_wonBehind_38 hl (k := 3) rfl (nI_1 _) (by decide) rfl (fun ls hl => ?_)
      refine lv_goto (tgt := 13) hx hb dX0_wonBehind_41 (by decide) ?_
      exact ih_13 (z + 1) _ _ _ (by first | omega | (dsimp only; omega)) ⟨by omega, wh_next hu (by simpa using c_31) (by omega), hw, (lv_sub hl [1, 2, 3, 0] rfl)⟩
theorem hdS_X0_knownBehind : yX0_knownBehind.cls = "LineCalls" ∧ yX0_knownBehind.cls ≠ "java/lang/invoke/MethodHandle" ∧ yX0_knownBehind.cls ≠ "java/lang/invoke/VarHandle" ∧ (parseMethodDescriptor yX0_knownBehind.desc).map (fun d => d.parameters.length) = some 0 := by decide +kernel
set_option maxHeartbeats 4000000 in
theorem tL_knownBehind (l : Launch) (G : nG) (ad : Nat → Nat) (w w1 w2 w3 : rw84) (X : mM) (sp : xSp) (sh : xSh)  (B : Nat) (hI : Inv B w) (hB : B ≤ 100000) : Met l yX0_knownBehind (wsW_ yX0_knownBehind cX0_knownBehind 4 (some .int) [((11), (48), (61), (0))]) { frames := 7, cells := 0, slots := 0, locals := 146 } (va_Pc [.ref (ad 64)] (nC G (xE G ad (xV w w1 w2 w3) X sp sh))) (va_Qi (fun (r : Int32) (u : xSt) => r = whenR (fun n => decide (wonF (thrN w n) 7 = 0)) ∧ u = (w, w1, w, w3, X, sp, sh)) (fun u => nC G (xE G ad (xV u.1 u.2.1 u.2.2.1 u.2.2.2.1) u.2.2.2.2.1 u.2.2.2.2.2.1 u.2.2.2.2.2.2)) (nA G)) 0 0 (nA G) := by
  refine n_headW (by decide) (Nat.le_of_ble_eq_true rfl) ?_
  intro p e s m below meth c ls hx hb hr hlk hml hown hts htab hB0 hl
  have hown : s.vm.findClass "LineCalls" = some m.cls := hown
  have hw := nS.start hB0
  have hl : lv_has ls 4 [(0, .ref (ad 64))] := hl
  refine lv_aload_n hx hb dX0_knownBehind_0 rfl (lv_at hl 0 rfl) ?_
  refine n_get (k := 64) hx hb hts in_X0 hown hw (xp 64) rfl 5 (by decide) q420 rfl dX0_knownBehind_1 ?_
  refine lv_aload_n hx hb dX0_knownBehind_4 rfl (lv_at hl 0 rfl) ?_
  refine n_get (k := 64) hx hb hts in_X0 hown hw (xp 64) rfl 3 (by decide) q418 rfl dX0_knownBehind_5 ?_
  refine n_callv (va_runV ⟨hx, hb, hml, hown, hts⟩ (tX4_become l G ad _ _ _ _ 2 (by decide) _ (xV_at2 _ _ _ _) 0 _ (by decide) (by decide) (xV_at0 _ _ _ _)) (cwV 1 hts (lw_V q773 q774 q775 q97 q776) rfl rfl rfl hdS_X4_become ⟨by decide, by decide⟩) (hw.preV (k := 16 * 2 + 0) (xv2 0) rfl) rfl rfl hl.1 rfl (lv_room (by simp [Value.category])) dX0_knownBehind_8 ⟨Nat.zero_le _, Nat.zero_le _⟩) hw (fun u_8 H locs e_8 hw => ?_)
  (replace e_8 : u_8 = _ := e_8; rw [e_8] at hw)
  have hw : nS G (xE G ad (va_up (xV _ _ _ _) 2 _) _ _ _) s H locs := hw
  rw [xV_2] at hw
  refine lv_iconst (v := 0) hx hb dX0_knownBehind_11 (by decide) ?_
  refine lv_istore_n hx hb dX0_knownBehind_12 rfl hl (by decide) rfl (fun ls hl => ?_)
  refine n_loop (α := Nat) (fun z H locs ls => z ≤ 101 ∧ ((z ≤ 100 ∧ untilF (fun n => decide (wonF (thrN w n) 7 = 0)) (100 - z) z = untilF (fun n => decide (wonF (thrN w n) 7 = 0)) 100 0) ∨ (z = 101 ∧ whenR (fun n => decide (wonF (thrN w n) 7 = 0)) = -1)) ∧ nS G (xE G ad (xV (thrN w z) w1 w w3) X sp sh) s H locs ∧ lv_has ls 4 [(0, .ref (ad 64)), (1, .int (nI z))]) (fun z => 101 - z) 13 ?_ 0 _ _ _ ⟨Nat.zero_le _, Or.inl ⟨Nat.zero_le _, rfl⟩, hw, (lv_sub hl [1, 0] rfl)⟩
  clear hl hw
  intro z H locs ls hI ih_13
  obtain ⟨hz, hw0, hw, hl⟩ := hI
  have hIz : Inv (B + z) (thrN w z) := hI.thrN (by omega)
  refine lv_iload_n hx hb dX0_knownBehind_13 rfl (lv_at hl 1 rfl) ?_
  refine lv_bipush (v := 100) hx hb dX0_knownBehind_14 (by decide) ?_
  refine lv_icmp_gt (tgt := 36) hx hb dX0_knownBehind_16 (by decide) (fun c_16 => ?_) (fun c_16 => ?_)
  · skip
    have n_16 : 100 < z := (nI_ltI (a := 100) (b := z) (by omega) (by omega)).mp c_16
    have hm1 : whenR (fun n => decide (wonF (thrN w n) 7 = 0)) = -1 := by (rcases hw0 with ⟨h1, -⟩ | ⟨-, h2⟩; omega; exact h2)
    refine lv_iload_n hx hb dX0_knownBehind_36 rfl (lv_at hl 1 rfl) ?_
    refine lv_bipush (v := 100) hx hb dX0_knownBehind_37 (by decide) ?_
    refine lv_icmp_gt (tgt := 46) hx hb dX0_knownBehind_39 (by decide) (fun c_39 => ?_) (fun c_39 => ?_)
    · skip
      have n_39 : 100 < z := (nI_ltI (a := 100) (b := z) (by omega) (by omega)).mp c_39
      refine lv_iconst (v := (-1)) hx hb dX0_knownBehind_46 (by decide) ?_
      refine lv_istore_n hx hb dX0_knownBehind_47 rfl hl (by decide) rfl (fun ls hl => ?_)
      refine lv_aload_n hx hb dX0_knownBehind_48 rfl (lv_at hl 1 rfl) ?_
      refine n_get (k := 64) hx hb hts in_X0 hown hw (xp 64) rfl 3 (by decide) q418 rfl dX0_knownBehind_49 ?_
      refine lv_aload_n hx hb dX0_knownBehind_52 rfl (lv_at hl 1 rfl) ?_
      refine n_get (k := 64) hx hb hts in_X0 hown hw (xp 64) rfl 5 (by decide) q420 rfl dX0_knownBehind_53 ?_
      refine n_callv (va_runV ⟨hx, hb, hml, hown, hts⟩ (tX4_become l G ad _ _ _ _ 0 (by decide) _ (xV_at0 _ _ _ _) 2 _ (by decide) (by decide) (xV_at2 _ _ _ _)) (cwV 1 hts (lw_V q773 q774 q775 q97 q776) rfl rfl rfl hdS_X4_become ⟨by decide, by decide⟩) (hw.preV (k := 16 * 0 + 0) (xv0 0) rfl) rfl rfl hl.1 rfl (lv_room (by simp [Value.category])) dX0_knownBehind_56 ⟨Nat.zero_le _, Nat.zero_le _⟩) hw (fun u_56 H locs e_56 hw => ?_)
      subst e_56
      have hw : nS G (xE G ad (va_up (xV _ _ _ _) 0 _) _ _ _) s H locs := hw
      rw [xV_0] at hw
      refine lv_iload_n hx hb dX0_knownBehind_59 rfl (lv_at hl 0 rfl) ?_
      exact l_iret hx hb hr hlk rfl hw ⟨by first | exact hm1.symm | exact wh_yes hN (by simpa using c_23) | (exfalso; omega), rfl⟩ dX0_knownBehind_60
    · skip
      have n_39 : ¬ 100 < z := fun h => c_39 ((nI_ltI (a := 100) (b := z) (by omega) (by omega)).mpr h)
      refine lv_iload_n hx hb dX0_knownBehind_42 rfl (lv_at hl 1 rfl) ?_
      refine lv_goto (tgt := 47) hx hb dX0_knownBehind_43 (by decide) ?_
      refine lv_istore_n hx hb dX0_knownBehind_47 rfl hl (by decide) rfl (fun ls hl => ?_)
      refine lv_aload_n hx hb dX0_knownBehind_48 rfl (lv_at hl 1 rfl) ?_
      refine n_get (k := 64) hx hb hts in_X0 hown hw (xp 64) rfl 3 (by decide) q418 rfl dX0_knownBehind_49 ?_
      refine lv_aload_n hx hb dX0_knownBehind_52 rfl (lv_at hl 1 rfl) ?_
      refine n_get (k := 64) hx hb hts in_X0 hown hw (xp 64) rfl 5 (by decide) q420 rfl dX0_knownBehind_53 ?_
      refine n_callv (va_runV ⟨hx, hb, hml, hown, hts⟩ (tX4_become l G ad _ _ _ _ 0 (by decide) _ (xV_at0 _ _ _ _) 2 _ (by decide) (by decide) (xV_at2 _ _ _ _)) (cwV 1 hts (lw_V q773 q774 q775 q97 q776) rfl rfl rfl hdS_X4_become ⟨by decide, by decide⟩) (hw.preV (k := 16 * 0 + 0) (xv0 0) rfl) rfl rfl hl.1 rfl (lv_room (by simp [Value.category])) dX0_knownBehind_56 ⟨Nat.zero_le _, Nat.zero_le _⟩) hw (fun u_56 H locs e_56 hw => ?_)
      subst e_56
      have hw : nS G (xE G ad (va_up (xV _ _ _ _) 0 _) _ _ _) s H locs := hw
      rw [xV_0] at hw
      refine lv_iload_n hx hb dX0_knownBehind_59 rfl (lv_at hl 0 rfl) ?_
      exact l_iret hx hb hr hlk rfl hw ⟨by first | exact hm1.symm | exact wh_yes hN (by simpa using c_23) | (exfalso; omega), rfl⟩ dX0_knownBehind_60
  · skip
    have n_16 : ¬ 100 < z := fun h => c_16 ((nI_ltI (a := 100) (b := z) (by omega) (by omega)).mpr h)
    have hu : untilF (fun n => decide (wonF (thrN w n) 7 = 0)) (100 - z) z = untilF (fun n => decide (wonF (thrN w n) 7 = 0)) 100 0 := by (rcases hw0 with ⟨-, h1⟩ | ⟨h2, -⟩; exact h1; omega)
    refine lv_aload_n hx hb dX0_knownBehind_19 rfl (lv_at hl 0 rfl) ?_
    refine n_callp (va_runV ⟨hx, hb, hml, hown, hts⟩ (tL_won l G ad _ _ _ _ _ _ _ (B + z) hIz) (cwV 0 hts (lw_V q754 q756 qs9 q90 q757) rfl rfl rfl hdS_X0_won ⟨by decide, by decide⟩) (hw.preV (k := 64) (xp 64) rfl) rfl rfl hl.1 rfl (lv_room (by simp [Value.category])) dX0_knownBehind_20 ⟨Nat.zero_le _, Nat.zero_le _⟩) (fun r_20 e_20 => ?_)
    subst e_20
    refine lv_if_eq (tgt := 36) hx hb dX0_knownBehind_23 (by decide) (fun c_23 => ?_) (fun c_23 => ?_)
    · skip
      have hN := hu.symm.trans (un_hit (by omega) (by simpa using c_23))
      refine lv_iload_n hx hb dX0_knownBehind_36 rfl (lv_at hl 1 rfl) ?_
      refine lv_bipush (v := 100) hx hb dX0_knownBehind_37 (by decide) ?_
      refine lv_icmp_gt (tgt := 46) hx hb dX0_knownBehind_39 (by decide) (fun c_39 => ?_) (fun c_39 => ?_)
      · skip
        have n_39 : 100 < z := (nI_ltI (a := 100) (b := z) (by omega) (by omega)).mp c_39
        refine lv_iconst (v := (-1)) hx hb dX0_knownBehind_46 (by decide) ?_
        refine lv_istore_n hx hb dX0_knownBehind_47 rfl hl (by decide) rfl (fun ls hl => ?_)
        refine lv_aload_n hx hb dX0_knownBehind_48 rfl (lv_at hl 1 rfl) ?_
        refine n_get (k := 64) hx hb hts in_X0 hown hw (xp 64) rfl 3 (by decide) q418 rfl dX0_knownBehind_49 ?_
        refine lv_aload_n hx hb dX0_knownBehind_52 rfl (lv_at hl 1 rfl) ?_
        refine n_get (k := 64) hx hb hts in_X0 hown hw (xp 64) rfl 5 (by decide) q420 rfl dX0_knownBehind_53 ?_
        refine n_callv (va_runV ⟨hx, hb, hml, hown, hts⟩ (tX4_become l G ad _ _ _ _ 0 (by decide) _ (xV_at0 _ _ _ _) 2 _ (by decide) (by decide) (xV_at2 _ _ _ _)) (cwV 1 hts (lw_V q773 q774 q775 q97 q776) rfl rfl rfl hdS_X4_become ⟨by decide, by decide⟩) (hw.preV (k := 16 * 0 + 0) (xv0 0) rfl) rfl rfl hl.1 rfl (lv_room (by simp [Value.category])) dX0_knownBehind_56 ⟨Nat.zero_le _, Nat.zero_le _⟩) hw (fun u_56 H locs e_56 hw => ?_)
        subst e_56
        have hw : nS G (xE G ad (va_up (xV _ _ _ _) 0 _) _ _ _) s H locs := hw
        rw [xV_0] at hw
        refine lv_iload_n hx hb dX0_knownBehind_59 rfl (lv_at hl 0 rfl) ?_
        exact l_iret hx hb hr hlk rfl hw ⟨by first | exact hm1.symm | exact wh_yes hN (by simpa using c_23) | (exfalso; omega), rfl⟩ dX0_knownBehind_60
      · skip
        have n_39 : ¬ 100 < z := fun h => c_39 ((nI_ltI (a := 100) (b := z) (by omega) (by omega)).mpr h)
        refine lv_iload_n hx hb dX0_knownBehind_42 rfl (lv_at hl 1 rfl) ?_
        refine lv_goto (tgt := 47) hx hb dX0_knownBehind_43 (by decide) ?_
        refine lv_istore_n hx hb dX0_knownBehind_47 rfl hl (by decide) rfl (fun ls hl => ?_)
        refine lv_aload_n hx hb dX0_knownBehind_48 rfl (lv_at hl 1 rfl) ?_
        refine n_get (k := 64) hx hb hts in_X0 hown hw (xp 64) rfl 3 (by decide) q418 rfl dX0_knownBehind_49 ?_
        refine lv_aload_n hx hb dX0_knownBehind_52 rfl (lv_at hl 1 rfl) ?_
        refine n_get (k := 64) hx hb hts in_X0 hown hw (xp 64) rfl 5 (by decide) q420 rfl dX0_knownBehind_53 ?_
        refine n_callv (va_runV ⟨hx, hb, hml, hown, hts⟩ (tX4_become l G ad _ _ _ _ 0 (by decide) _ (xV_at0 _ _ _ _) 2 _ (by decide) (by decide) (xV_at2 _ _ _ _)) (cwV 1 hts (lw_V q773 q774 q775 q97 q776) rfl rfl rfl hdS_X4_become ⟨by decide, by decide⟩) (hw.preV (k := 16 * 0 + 0) (xv0 0) rfl) rfl rfl hl.1 rfl (lv_room (by simp [Value.category])) dX0_knownBehind_56 ⟨Nat.zero_le _, Nat.zero_le _⟩) hw (fun u_56 H locs e_56 hw => ?_)
        subst e_56
        have hw : nS G (xE G ad (va_up (xV _ _ _ _) 0 _) _ _ _) s H locs := hw
        rw [xV_0] at hw
        refine lv_iload_n hx hb dX0_knownBehind_59 rfl (lv_at hl 0 rfl) ?_
        exact l_iret hx hb hr hlk rfl hw ⟨by first | exact hm1.symm | exact wh_yes hN (by simpa using c_23) | (exfalso; omega), rfl⟩ dX0_knownBehind_60
    · skip
      refine lv_aload_n hx hb dX0_knownBehind_26 rfl (lv_at hl 0 rfl) ?_
      refine n_callv (va_runV ⟨hx, hb, hml, hown, hts⟩ (tL_passes_2 l G ad _ _ _ _ _ _ _ (B + z) hIz (by omega)) (cwV 0 hts (lw_V q712 q714 qs7 q90 q715) rfl rfl rfl hdS_X0_passes_2 ⟨by decide, by decide⟩) (hw.preV (k := 64) (xp 64) rfl) rfl rfl hl.1 rfl (lv_room (by simp [Value.category])) dX0_knownBehind_27 ⟨Nat.zero_le _, Nat.zero_le _⟩) hw (fun u_27 H locs e_27 hw => ?_)
      subst e_27
      have hw : nS G (xE G ad (xV _ _ _ _) _ _ _) s H locs := hw
      refine lv_iinc (v := nI (z + 1)) hx hb dX0_knownBehind_30 hl (k := 1) rfl (nI_1 _) (by decide) rfl (fun ls hl => ?_)
      refine lv_goto (tgt := 13) hx hb dX0_knownBehind_33 (by decide) ?_
      exact ih_13 (z + 1) _ _ _ (by first | omega | (dsimp only; omega)) ⟨by omega, wh_next hu (by simpa using c_23) (by omega), hw, (lv_sub hl [1, 0] rfl)⟩
