/-! the class: throws -/
set_option maxRecDepth 100000
theorem hdS_X0_passes_2 : yX0_passes_2.cls = "LineCalls" ∧ yX0_passes_2.cls ≠ "java/lang/invoke/MethodHandle" ∧ yX0_passes_2.cls ≠ "java/lang/invoke/VarHandle" ∧ (parseMethodDescriptor yX0_passes_2.desc).map (fun d => d.parameters.length) = some 0 := by decide +kernel
set_option maxHeartbeats 4000000 in
theorem tL_passes_2 (l : Launch) (G : nG) (ad : Nat → Nat) (w w1 w2 w3 : rw84) (X : mM) (sp : xSp) (sh : xSh) (B : Nat) (hI : Inv B w) (hB : B < 2 ^ 30) : Met l yX0_passes_2 (ws_ yX0_passes_2 cX0_passes_2 4 (none)) { frames := 6, cells := 0, slots := 0, locals := 123 } (va_Pc [.ref (ad 64)] (nC G (xE G ad (xV w w1 w2 w3) X sp sh))) (va_Qv (fun (u : xSt) => u = (thrF w, w1, w2, w3, X, sp, sh)) (fun u => nC G (xE G ad (xV u.1 u.2.1 u.2.2.1 u.2.2.2.1) u.2.2.2.2.1 u.2.2.2.2.2.1 u.2.2.2.2.2.2)) (nA G)) 0 0 (nA G) := by
  refine n_head (by decide) (Nat.le_of_ble_eq_true rfl) ?_
  intro p e s m below meth c ls hx hb hr hlk hml hown hts hB0 hl
  have hown : s.vm.findClass "LineCalls" = some m.cls := hown
  have hw := nS.start hB0
  have hl : lv_has ls 4 [(0, .ref (ad 64))] := hl
  obtain ⟨q, hq, eq⟩ := hI.next (by omega)
  obtain ⟨n, hn, en, hl0, -⟩ := hI.2.1
  refine lv_aload_n hx hb dX0_passes_2_0 rfl (lv_at hl 0 rfl) ?_
  refine n_get (k := 64) hx hb hts in_X0 hown hw (xp 64) rfl 3 (by decide) q418 rfl dX0_passes_2_1 ?_
  refine n_callp (va_runV ⟨hx, hb, hml, hown, hts⟩ (tX4_next l G ad _ _ _ _ 0 (by decide) _ (xV_at0 _ _ _ _) B hI (by omega)) (cwV 0 hts (lw_V q716 q717 q718 q97 q719) rfl rfl rfl hdS_X4_next ⟨by decide, by decide⟩) (hw.preV (k := 16 * 0 + 0) (xv0 0) rfl) rfl rfl hl.1 rfl (lv_room (by simp [Value.category])) dX0_passes_2_4 ⟨Nat.zero_le _, Nat.zero_le _⟩) (fun r_4 e_4 => ?_)
  subst e_4
  refine n_topE eq ?_
  refine lv_istore_n hx hb dX0_passes_2_7 rfl hl (by decide) rfl (fun ls hl => ?_)
  refine lv_aload_n hx hb dX0_passes_2_8 rfl (lv_at hl 1 rfl) ?_
  refine n_get (k := 64) hx hb hts in_X0 hown hw (xp 64) rfl 3 (by decide) q418 rfl dX0_passes_2_9 ?_
  refine n_getN (k := 16 * 0 + 0) hx hb hts in_X4 hown hw (xv0 0) rfl 0 (by decide) q221 rfl dX0_passes_2_12 ?_
  refine lv_iload_n hx hb dX0_passes_2_15 rfl (lv_at hl 0 rfl) ?_
  refine n_iald (k := 16 * 0 + 1) (j := q) hx hb hw (xv0 1) rfl (by omega) (by decide) dX0_passes_2_16 ?_
  refine lv_istore_n hx hb dX0_passes_2_17 rfl hl (by decide) rfl (fun ls hl => ?_)
  refine lv_iload_n hx hb dX0_passes_2_18 rfl (lv_at hl 0 rfl) ?_
  refine lv_iconst (v := (-1)) hx hb dX0_passes_2_19 (by decide) ?_
  refine lv_icmp_ne (tgt := 27) hx hb dX0_passes_2_20 (by decide) (fun c_20 => ?_) (fun c_20 => ?_)
  · skip
    obtain ⟨k, hk, e0⟩ := (hl0 q hq).resolve_left c_20
    have hk8 : k < 8 := by omega
    obtain ⟨kd, hkd, ek⟩ := hI.kind hk8
    have hd : kd < 7 := by omega
    refine lv_aload_n hx hb dX0_passes_2_27 rfl (lv_at hl 2 rfl) ?_
    refine lv_iload_n hx hb dX0_passes_2_28 rfl (lv_at hl 0 rfl) ?_
    refine n_topE e0 ?_
    refine n_callpq (va_runV ⟨hx, hb, hml, hown, hts⟩ (tL_jumperOf l G ad _ _ _ _ _ _ _ k kd hk8 hd ek) (cwV 1 hts (lw_V q549 q551 qs4 q90 q552) rfl rfl rfl hdS_X0_jumperOf ⟨by decide, by decide⟩) (hw.preV (k := 64) (xp 64) rfl) rfl rfl hl.1 rfl (lv_room (by simp [Value.category])) dX0_passes_2_29 ⟨Nat.zero_le _, Nat.zero_le _⟩) (fun r_29 e_29 => ?_)
    subst e_29
    refine dJ_tires hx hb (hml.trans hl.1.symm) hown hts hw hd hk8 ek ⟨by decide, by decide⟩ ⟨Nat.zero_le _, Nat.zero_le _⟩ (by simp [Value.category]) dX0_passes_2_32 ?_
    refine lv_istore_n hx hb dX0_passes_2_35 rfl hl (by decide) rfl (fun ls hl => ?_)
    refine lv_iload_n hx hb dX0_passes_2_36 rfl (lv_at hl 1 rfl) ?_
    refine lv_iconst (v := (-1)) hx hb dX0_passes_2_37 (by decide) ?_
    refine lv_icmp_ne (tgt := 52) hx hb dX0_passes_2_38 (by decide) (fun c_38 => ?_) (fun c_38 => ?_)
    · skip
      refine lv_aload_n hx hb dX0_passes_2_52 rfl (lv_at hl 3 rfl) ?_
      refine lv_iload_n hx hb dX0_passes_2_53 rfl (lv_at hl 2 rfl) ?_
      refine n_callp (va_runV ⟨hx, hb, hml, hown, hts⟩ (tL_wouldWin l G ad _ _ _ _ _ _ _ (q) B hq hI) (cwV 1 hts (lw_V q726 q728 qs8 q90 q729) rfl rfl rfl hdS_X0_wouldWin ⟨by decide, by decide⟩) (hw.preV (k := 64) (xp 64) rfl) rfl rfl hl.1 rfl (lv_room (by simp [Value.category])) dX0_passes_2_54 ⟨Nat.zero_le _, Nat.zero_le _⟩) (fun r_54 e_54 => ?_)
      subst e_54
      refine lv_if_eq (tgt := 80) hx hb dX0_passes_2_57 (by decide) (fun c_57 => ?_) (fun c_57 => ?_)
      · skip
        refine lv_aload_n hx hb dX0_passes_2_80 rfl (lv_at hl 3 rfl) ?_
        refine n_get (k := 64) hx hb hts in_X0 hown hw (xp 64) rfl 3 (by decide) q418 rfl dX0_passes_2_81 ?_
        refine lv_iload_n hx hb dX0_passes_2_84 rfl (lv_at hl 1 rfl) ?_
        refine n_topE e0 ?_
        refine n_callv (va_runV ⟨hx, hb, hml, hown, hts⟩ (tX4_loses l G ad _ _ _ _ 0 (by decide) _ (xV_at0 _ _ _ _) k hk8) (cwV 1 hts (lw_V q737 q738 q739 q97 q740) rfl rfl rfl hdS_X4_loses ⟨by decide, by decide⟩) (hw.preV (k := 16 * 0 + 0) (xv0 0) rfl) rfl rfl hl.1 rfl (lv_room (by simp [Value.category])) dX0_passes_2_85 ⟨Nat.zero_le _, Nat.zero_le _⟩) hw (fun u_85 H locs e_85 hw => ?_)
        subst e_85
        have hw : nS G (xE G ad (va_up (xV _ _ _ _) 0 _) _ _ _) s H locs := hw
        rw [xV_0] at hw
        refine lv_aload_n hx hb dX0_passes_2_88 rfl (lv_at hl 3 rfl) ?_
        refine n_get (k := 64) hx hb hts in_X0 hown hw (xp 64) rfl 3 (by decide) q418 rfl dX0_passes_2_89 ?_
        refine lv_iload_n hx hb dX0_passes_2_92 rfl (lv_at hl 2 rfl) ?_
        refine lv_iload_n hx hb dX0_passes_2_93 rfl (lv_at hl 1 rfl) ?_
        refine lv_iload_n hx hb dX0_passes_2_94 rfl (lv_at hl 0 rfl) ?_
        refine n_callv (va_runV ⟨hx, hb, hml, hown, hts⟩ (tX4_ends l G ad _ _ _ _ 0 (by decide) _ (xV_at0 _ _ _ _) q _ _ n hq hn (by first | exact en | (rw [up_ne (by decide)]; exact en) | (unfold winsF; rw [up_ne (by omega), up_ne (by omega)]; exact en) | (unfold losesF; rw [up_ne (by omega), up_ne (by omega)]; exact en))) (cwV 3 hts (lw_V q742 q743 q744 q97 q745) rfl rfl rfl hdS_X4_ends ⟨by decide, by decide⟩) (hw.preV (k := 16 * 0 + 0) (xv0 0) rfl) rfl rfl hl.1 rfl (lv_room (by simp [Value.category])) dX0_passes_2_95 ⟨Nat.zero_le _, Nat.zero_le _⟩) hw (fun u_95 H locs e_95 hw => ?_)
        subst e_95
        have hw : nS G (xE G ad (va_up (xV _ _ _ _) 0 _) _ _ _) s H locs := hw
        rw [xV_0] at hw
        exact l_vret hx hb hr hlk hw (by first | rw [ps_none hI hq eq hn en c_20] | rw [ps_win hI hq eq hn en hk e0 c_57] | rw [ps_lose hI hq eq hn en hk e0 c_57]) dX0_passes_2_98
      · skip
        refine lv_aload_n hx hb dX0_passes_2_60 rfl (lv_at hl 3 rfl) ?_
        refine n_get (k := 64) hx hb hts in_X0 hown hw (xp 64) rfl 3 (by decide) q418 rfl dX0_passes_2_61 ?_
        refine lv_iload_n hx hb dX0_passes_2_64 rfl (lv_at hl 1 rfl) ?_
        refine n_topE e0 ?_
        refine lv_aload_n hx hb dX0_passes_2_65 rfl (lv_at hl 3 rfl) ?_
        refine lv_iload_n hx hb dX0_passes_2_66 rfl (lv_at hl 1 rfl) ?_
        refine n_topE e0 ?_
        refine n_callpq (va_runV ⟨hx, hb, hml, hown, hts⟩ (tL_jumperOf l G ad _ _ _ _ _ _ _ k kd hk8 hd ek) (cwV 1 hts (lw_V q549 q551 qs4 q90 q552) rfl rfl rfl hdS_X0_jumperOf ⟨by decide, by decide⟩) (hw.preV (k := 64) (xp 64) rfl) rfl rfl hl.1 rfl (lv_room (by simp [Value.category])) dX0_passes_2_67 ⟨Nat.zero_le _, Nat.zero_le _⟩) (fun r_67 e_67 => ?_)
        subst e_67
        refine lv_iload_n hx hb dX0_passes_2_70 rfl (lv_at hl 2 rfl) ?_
        refine dJ_gains hx hb (hml.trans hl.1.symm) hown hts hw hd hk8 ek ⟨by decide, by decide⟩ ⟨Nat.zero_le _, Nat.zero_le _⟩ (by simp [Value.category]) dX0_passes_2_71 ?_
        refine n_callv (va_runV ⟨hx, hb, hml, hown, hts⟩ (tX4_wins l G ad _ _ _ _ 0 (by decide) _ (xV_at0 _ _ _ _) k _ hk8) (cwV 2 hts (lw_V q730 q731 q732 q97 q733) rfl rfl rfl hdS_X4_wins ⟨by decide, by decide⟩) (hw.preV (k := 16 * 0 + 0) (xv0 0) rfl) rfl rfl hl.1 rfl (lv_room (by simp [Value.category])) dX0_passes_2_74 ⟨Nat.zero_le _, Nat.zero_le _⟩) hw (fun u_74 H locs e_74 hw => ?_)
        subst e_74
        have hw : nS G (xE G ad (va_up (xV _ _ _ _) 0 _) _ _ _) s H locs := hw
        rw [xV_0] at hw
        refine lv_goto (tgt := 88) hx hb dX0_passes_2_77 (by decide) ?_
        refine lv_aload_n hx hb dX0_passes_2_88 rfl (lv_at hl 3 rfl) ?_
        refine n_get (k := 64) hx hb hts in_X0 hown hw (xp 64) rfl 3 (by decide) q418 rfl dX0_passes_2_89 ?_
        refine lv_iload_n hx hb dX0_passes_2_92 rfl (lv_at hl 2 rfl) ?_
        refine lv_iload_n hx hb dX0_passes_2_93 rfl (lv_at hl 1 rfl) ?_
        refine lv_iload_n hx hb dX0_passes_2_94 rfl (lv_at hl 0 rfl) ?_
        refine n_callv (va_runV ⟨hx, hb, hml, hown, hts⟩ (tX4_ends l G ad _ _ _ _ 0 (by decide) _ (xV_at0 _ _ _ _) q _ _ n hq hn (by first | exact en | (rw [up_ne (by decide)]; exact en) | (unfold winsF; rw [up_ne (by omega), up_ne (by omega)]; exact en) | (unfold losesF; rw [up_ne (by omega), up_ne (by omega)]; exact en))) (cwV 3 hts (lw_V q742 q743 q744 q97 q745) rfl rfl rfl hdS_X4_ends ⟨by decide, by decide⟩) (hw.preV (k := 16 * 0 + 0) (xv0 0) rfl) rfl rfl hl.1 rfl (lv_room (by simp [Value.category])) dX0_passes_2_95 ⟨Nat.zero_le _, Nat.zero_le _⟩) hw (fun u_95 H locs e_95 hw => ?_)
        subst e_95
        have hw : nS G (xE G ad (va_up (xV _ _ _ _) 0 _) _ _ _) s H locs := hw
        rw [xV_0] at hw
        exact l_vret hx hb hr hlk hw (by first | rw [ps_none hI hq eq hn en c_20] | rw [ps_win hI hq eq hn en hk e0 c_57] | rw [ps_lose hI hq eq hn en hk e0 c_57]) dX0_passes_2_98
    · skip
      exact absurd c_38 c_20
  · skip
    refine lv_iconst (v := 0) hx hb dX0_passes_2_23 (by decide) ?_
    refine lv_goto (tgt := 35) hx hb dX0_passes_2_24 (by decide) ?_
    refine lv_istore_n hx hb dX0_passes_2_35 rfl hl (by decide) rfl (fun ls hl => ?_)
    refine lv_iload_n hx hb dX0_passes_2_36 rfl (lv_at hl 1 rfl) ?_
    refine lv_iconst (v := (-1)) hx hb dX0_passes_2_37 (by decide) ?_
    refine lv_icmp_ne (tgt := 52) hx hb dX0_passes_2_38 (by decide) (fun c_38 => ?_) (fun c_38 => ?_)
    · skip
      exact absurd c_20 c_38
    · skip
      refine lv_aload_n hx hb dX0_passes_2_41 rfl (lv_at hl 3 rfl) ?_
      refine n_get (k := 64) hx hb hts in_X0 hown hw (xp 64) rfl 3 (by decide) q418 rfl dX0_passes_2_42 ?_
      refine lv_iconst (v := 5) hx hb dX0_passes_2_45 (by decide) ?_
      refine n_callv (va_runV ⟨hx, hb, hml, hown, hts⟩ (tX4_goesBack l G ad _ _ _ _ 0 (by decide) _ (xV_at0 _ _ _ _) _) (cwV 1 hts (lw_V q721 q722 q723 q97 q724) rfl rfl rfl hdS_X4_goesBack ⟨by decide, by decide⟩) (hw.preV (k := 16 * 0 + 0) (xv0 0) rfl) rfl rfl hl.1 rfl (lv_room (by simp [Value.category])) dX0_passes_2_46 ⟨Nat.zero_le _, Nat.zero_le _⟩) hw (fun u_46 H locs e_46 hw => ?_)
      subst e_46
      have hw : nS G (xE G ad (va_up (xV _ _ _ _) 0 _) _ _ _) s H locs := hw
      rw [xV_0] at hw
      refine lv_goto (tgt := 88) hx hb dX0_passes_2_49 (by decide) ?_
      refine lv_aload_n hx hb dX0_passes_2_88 rfl (lv_at hl 3 rfl) ?_
      refine n_get (k := 64) hx hb hts in_X0 hown hw (xp 64) rfl 3 (by decide) q418 rfl dX0_passes_2_89 ?_
      refine lv_iload_n hx hb dX0_passes_2_92 rfl (lv_at hl 2 rfl) ?_
      refine lv_iload_n hx hb dX0_passes_2_93 rfl (lv_at hl 1 rfl) ?_
      refine lv_iload_n hx hb dX0_passes_2_94 rfl (lv_at hl 0 rfl) ?_
      refine n_callv (va_runV ⟨hx, hb, hml, hown, hts⟩ (tX4_ends l G ad _ _ _ _ 0 (by decide) _ (xV_at0 _ _ _ _) q _ _ n hq hn (by first | exact en | (rw [up_ne (by decide)]; exact en) | (unfold winsF; rw [up_ne (by omega), up_ne (by omega)]; exact en) | (unfold losesF; rw [up_ne (by omega), up_ne (by omega)]; exact en))) (cwV 3 hts (lw_V q742 q743 q744 q97 q745) rfl rfl rfl hdS_X4_ends ⟨by decide, by decide⟩) (hw.preV (k := 16 * 0 + 0) (xv0 0) rfl) rfl rfl hl.1 rfl (lv_room (by simp [Value.category])) dX0_passes_2_95 ⟨Nat.zero_le _, Nat.zero_le _⟩) hw (fun u_95 H locs e_95 hw => ?_)
      subst e_95
      have hw : nS G (xE G ad (va_up (xV _ _ _ _) 0 _) _ _ _) s H locs := hw
      rw [xV_0] at hw
      exact l_vret hx hb hr hlk hw (by first | rw [ps_none hI hq eq hn en c_20] | rw [ps_win hI hq eq hn en hk e0 c_57] | rw [ps_lose hI hq eq hn en hk e0 c_57]) dX0_passes_2_98
theorem hdS_X0_passes : yX0_passes.cls = "LineCalls" ∧ yX0_passes.cls ≠ "java/lang/invoke/MethodHandle" ∧ yX0_passes.cls ≠ "java/lang/invoke/VarHandle" ∧ (parseMethodDescriptor yX0_passes.desc).map (fun d => d.parameters.length) = some 1 := by decide +kernel
set_option maxHeartbeats 4000000 in
theorem tL_passes (l : Launch) (G : nG) (ad : Nat → Nat) (w w1 w2 w3 : rw84) (X : mM) (sp : xSp) (sh : xSh) (n B : Nat) (hI : Inv B w) (hB : B + n < 2 ^ 30) : Met l yX0_passes (ws_ yX0_passes cX0_passes 3 (none)) { frames := 7, cells := 0, slots := 0, locals := 146 } (va_Pc [.ref (ad 64), .int (nI n)] (nC G (xE G ad (xV w w1 w2 w3) X sp sh))) (va_Qv (fun (u : xSt) => u = (thrN w n, w1, w2, w3, X, sp, sh)) (fun u => nC G (xE G ad (xV u.1 u.2.1 u.2.2.1 u.2.2.2.1) u.2.2.2.2.1 u.2.2.2.2.2.1 u.2.2.2.2.2.2)) (nA G)) 0 0 (nA G) := by
  refine n_head (by decide) (Nat.le_of_ble_eq_true rfl) ?_
  intro p e s m below meth c ls hx hb hr hlk hml hown hts hB0 hl
  have hown : s.vm.findClass "LineCalls" = some m.cls := hown
  have hw := nS.start hB0
  have hl : lv_has ls 3 [(0, .ref (ad 64)), (1, .int (nI n))] := hl
  refine lv_iconst (v := 0) hx hb dX0_passes_0 (by decide) ?_
  refine lv_istore_n hx hb dX0_passes_1 rfl hl (by decide) rfl (fun ls hl => ?_)
  refine n_loop (α := Nat) (fun k H locs ls => k ≤ n ∧ nS G (xE G ad (xV (thrN w k) w1 w2 w3) X sp sh) s H locs ∧ lv_has ls 3 [(0, .ref (ad 64)), (1, .int (nI n)), (2, .int (nI k))]) (fun k => n - k) 2 ?_ 0 _ _ _ ⟨Nat.zero_le _, hw, (lv_sub hl [1, 2, 0] rfl)⟩
  clear hl hw
  intro k H locs ls hI ih_2
  obtain ⟨hk, hw, hl⟩ := hI
  refine lv_iload_n hx hb dX0_passes_2 rfl (lv_at hl 2 rfl) ?_
  refine lv_iload_n hx hb dX0_passes_3 rfl (lv_at hl 1 rfl) ?_
  refine lv_icmp_ge (tgt := 17) hx hb dX0_passes_4 (by decide) (fun c_4 => ?_) (fun c_4 => ?_)
  · skip
    have n_4 : n ≤ k := (nI_leI (a := n) (b := k) (by omega) (by omega)).mp c_4
    obtain rfl : k = n := by omega
    exact l_vret hx hb hr hlk hw rfl dX0_passes_17
  · skip
    have n_4 : ¬ n ≤ k := fun h => c_4 ((nI_leI (a := n) (b := k) (by omega) (by omega)).mpr h)
    refine lv_aload_n hx hb dX0_passes_7 rfl (lv_at hl 0 rfl) ?_
    refine n_callv (va_runV ⟨hx, hb, hml, hown, hts⟩ (tL_passes_2 l G ad _ _ _ _ _ _ _ (B + k) (hI.thrN (by omega)) (by omega)) (cwV 0 hts (lw_V q712 q714 qs7 q90 q715) rfl rfl rfl hdS_X0_passes_2 ⟨by decide, by decide⟩) (hw.preV (k := 64) (xp 64) rfl) rfl rfl hl.1 rfl (lv_room (by simp [Value.category])) dX0_passes_8 ⟨Nat.zero_le _, Nat.zero_le _⟩) hw (fun u_8 H locs e_8 hw => ?_)
    subst e_8
    have hw : nS G (xE G ad (xV _ _ _ _) _ _ _) s H locs := hw
    refine lv_iinc (v := nI (k + 1)) hx hb dX0_passes_11 hl (k := 2) rfl (nI_1 _) (by decide) rfl (fun ls hl => ?_)
    refine lv_goto (tgt := 2) hx hb dX0_passes_14 (by decide) ?_
    exact ih_2 (k + 1) _ _ _ (by first | omega | (dsimp only; omega)) ⟨by omega, hw, (lv_sub hl [1, 2, 0] rfl)⟩
theorem hdS_X0_goesOn : yX0_goesOn.cls = "LineCalls" ∧ yX0_goesOn.cls ≠ "java/lang/invoke/MethodHandle" ∧ yX0_goesOn.cls ≠ "java/lang/invoke/VarHandle" ∧ (parseMethodDescriptor yX0_goesOn.desc).map (fun d => d.parameters.length) = some 1 := by decide +kernel
set_option maxHeartbeats 4000000 in
theorem tL_goesOn (l : Launch) (G : nG) (ad : Nat → Nat) (w w1 w2 w3 : rw84) (X : mM) (sp : xSp) (sh : xSh) (n B : Nat) (hI : Inv B w) (hB : B + n < 2 ^ 30) : Met l yX0_goesOn (ws_ yX0_goesOn cX0_goesOn 2 (some .int)) { frames := 8, cells := 0, slots := 0, locals := 168 } (va_Pc [.ref (ad 64), .int (nI n)] (nC G (xE G ad (xV w w1 w2 w3) X sp sh))) (va_Qi (fun (r : Int32) (u : xSt) => r = thrN w n 3 ∧ u = (thrN w n, w1, w2, w3, X, sp, sh)) (fun u => nC G (xE G ad (xV u.1 u.2.1 u.2.2.1 u.2.2.2.1) u.2.2.2.2.1 u.2.2.2.2.2.1 u.2.2.2.2.2.2)) (nA G)) 0 0 (nA G) := by
  refine n_head (by decide) (Nat.le_of_ble_eq_true rfl) ?_
  intro p e s m below meth c ls hx hb hr hlk hml hown hts hB0 hl
  have hown : s.vm.findClass "LineCalls" = some m.cls := hown
  have hw := nS.start hB0
  have hl : lv_has ls 2 [(0, .ref (ad 64)), (1, .int (nI n))] := hl
  refine lv_aload_n hx hb dX0_goesOn_0 rfl (lv_at hl 0 rfl) ?_
  refine lv_iload_n hx hb dX0_goesOn_1 rfl (lv_at hl 1 rfl) ?_
  refine n_callv (va_runV ⟨hx, hb, hml, hown, hts⟩ (tL_passes l G ad _ _ _ _ _ _ _ (n) B (by assumption) (by omega)) (cwV 1 hts (lw_V q708 q710 qs6 q90 q711) rfl rfl rfl hdS_X0_passes ⟨by decide, by decide⟩) (hw.preV (k := 64) (xp 64) rfl) rfl rfl hl.1 rfl (lv_room (by simp [Value.category])) dX0_goesOn_2 ⟨Nat.zero_le _, Nat.zero_le _⟩) hw (fun u_2 H locs e_2 hw => ?_)
  subst e_2
  have hw : nS G (xE G ad (xV _ _ _ _) _ _ _) s H locs := hw
  refine lv_aload_n hx hb dX0_goesOn_5 rfl (lv_at hl 0 rfl) ?_
  refine n_get (k := 64) hx hb hts in_X0 hown hw (xp 64) rfl 3 (by decide) q418 rfl dX0_goesOn_6 ?_
  refine n_getN (k := 16 * 0 + 0) hx hb hts in_X4 hown hw (xv0 0) rfl 4 (by decide) q236 rfl dX0_goesOn_9 ?_
  exact l_iret hx hb hr hlk rfl hw ⟨rfl, rfl⟩ dX0_goesOn_12
theorem hdS_X0_won : yX0_won.cls = "LineCalls" ∧ yX0_won.cls ≠ "java/lang/invoke/MethodHandle" ∧ yX0_won.cls ≠ "java/lang/invoke/VarHandle" ∧ (parseMethodDescriptor yX0_won.desc).map (fun d => d.parameters.length) = some 0 := by decide +kernel
set_option maxHeartbeats 4000000 in
theorem tL_won (l : Launch) (G : nG) (ad : Nat → Nat) (w w1 w2 w3 : rw84) (X : mM) (sp : xSp) (sh : xSh) (B : Nat) (hI : Inv B w) : Met l yX0_won (ws_ yX0_won cX0_won 3 (some .int)) { frames := 6, cells := 0, slots := 0, locals := 123 } (va_Pc [.ref (ad 64)] (nC G (xE G ad (xV w w1 w2 w3) X sp sh))) (vp_Si (fun r => r = wonF w 7)) 0 0 (fun _ => False) := by
  refine n_head (by decide) (Nat.le_of_ble_eq_true rfl) ?_
  intro p e s m below meth c ls hx hb hr hlk hml hown hts hB0 hl
  have hown : s.vm.findClass "LineCalls" = some m.cls := hown
  have hw := nS.start hB0
  have hl : lv_has ls 3 [(0, .ref (ad 64))] := hl
  refine lv_iconst (v := 0) hx hb dX0_won_0 (by decide) ?_
  refine lv_istore_n hx hb dX0_won_1 rfl hl (by decide) rfl (fun ls hl => ?_)
  refine lv_iconst (v := 0) hx hb dX0_won_2 (by decide) ?_
  refine lv_istore_n hx hb dX0_won_3 rfl hl (by decide) rfl (fun ls hl => ?_)
  refine n_loopR (α := Nat) (fun q ls => q ≤ 7 ∧ lv_has ls 3 [(0, .ref (ad 64)), (1, .int (wonF w q)), (2, .int (nI q))]) (fun q => 7 - q) 4 ?_ 0 _ ⟨Nat.zero_le _, (lv_sub hl [2, 1, 0] rfl)⟩
  clear hl
  intro q ls hI ih_4
  obtain ⟨hq, hl⟩ := hI
  refine lv_iload_n hx hb dX0_won_4 rfl (lv_at hl 2 rfl) ?_
  refine lv_bipush (v := 7) hx hb dX0_won_5 (by decide) ?_
  refine lv_icmp_ge (tgt := 34) hx hb dX0_won_7 (by decide) (fun c_7 => ?_) (fun c_7 => ?_)
  · skip
    have n_7 : 7 ≤ q := (nI_leI (a := 7) (b := q) (by omega) (by omega)).mp c_7
    obtain rfl : q = 7 := by omega
    refine lv_iload_n hx hb dX0_won_34 rfl (lv_at hl 1 rfl) ?_
    exact n_pret hx hb hr hlk rfl rfl dX0_won_35
  · skip
    have n_7 : ¬ 7 ≤ q := fun h => c_7 ((nI_leI (a := 7) (b := q) (by omega) (by omega)).mpr h)
    refine lv_iload_n hx hb dX0_won_10 rfl (lv_at hl 1 rfl) ?_
    refine lv_aload_n hx hb dX0_won_11 rfl (lv_at hl 0 rfl) ?_
    refine lv_iload_n hx hb dX0_won_12 rfl (lv_at hl 2 rfl) ?_
    refine n_callp (va_runV ⟨hx, hb, hml, hown, hts⟩ (tL_wouldWin l G ad _ _ _ _ _ _ _ (q) B (by first | assumption | omega) hI) (cwV 1 hts (lw_V q726 q728 qs8 q90 q729) rfl rfl rfl hdS_X0_wouldWin ⟨by decide, by decide⟩) (hw.preV (k := 64) (xp 64) rfl) rfl rfl hl.1 rfl (lv_room (by simp [Value.category])) dX0_won_13 ⟨Nat.zero_le _, Nat.zero_le _⟩) (fun r_13 e_13 => ?_)
    subst e_13
    refine lv_if_eq (tgt := 25) hx hb dX0_won_16 (by decide) (fun c_16 => ?_) (fun c_16 => ?_)
    · skip
      refine lv_iconst (v := 0) hx hb dX0_won_25 (by decide) ?_
      refine lv_ior hx hb dX0_won_26 ?_
      refine lv_istore_n hx hb dX0_won_27 rfl hl (by decide) rfl (fun ls hl => ?_)
      refine lv_iinc (v := nI (q + 1)) hx hb dX0_won_28 hl (k := 2) rfl (nI_1 _) (by decide) rfl (fun ls hl => ?_)
      refine lv_goto (tgt := 4) hx hb dX0_won_31 (by decide) ?_
      exact ih_4 (q + 1) _ (by first | omega | (dsimp only; omega)) ⟨by omega, by rw [wonF, if_pos c_16]; exact (lv_sub hl [2, 1, 0] rfl)⟩
    · skip
      refine lv_iconst (v := 1) hx hb dX0_won_19 (by decide) ?_
      refine lv_iload_n hx hb dX0_won_20 rfl (lv_at hl 2 rfl) ?_
      refine lv_ishl hx hb dX0_won_21 ?_
      refine lv_goto (tgt := 26) hx hb dX0_won_22 (by decide) ?_
      refine lv_ior hx hb dX0_won_26 ?_
      refine lv_istore_n hx hb dX0_won_27 rfl hl (by decide) rfl (fun ls hl => ?_)
      refine lv_iinc (v := nI (q + 1)) hx hb dX0_won_28 hl (k := 2) rfl (nI_1 _) (by decide) rfl (fun ls hl => ?_)
      refine lv_goto (tgt := 4) hx hb dX0_won_31 (by decide) ?_
      exact ih_4 (q + 1) _ (by first | omega | (dsimp only; omega)) ⟨by omega, by rw [wonF, if_neg c_16]; exact (lv_sub hl [2, 1, 0] rfl)⟩
