/-! the class: its public methods, fifth part -/
set_option maxRecDepth 100000
theorem hdS_X0_mixed : yX0_mixed.cls = "LineCalls" ∧ yX0_mixed.cls ≠ "java/lang/invoke/MethodHandle" ∧ yX0_mixed.cls ≠ "java/lang/invoke/VarHandle" ∧ (parseMethodDescriptor yX0_mixed.desc).map (fun d => d.parameters.length) = some 1 := by decide +kernel
set_option maxHeartbeats 4000000 in
theorem tL_mixed (l : Launch) (G : nG) (ad : Nat → Nat) (w w1 w2 w3 : rw84) (X : mM) (sp : xSp) (sh : xSh) (q B : Nat) (hI : Inv B w) (hB : B + q < 2 ^ 30) : Met l yX0_mixed (ws_ yX0_mixed cX0_mixed 3 (some .int)) { frames := 7, cells := 0, slots := 0, locals := 146 } (va_Pc [.ref (ad 64), .int (nI q)] (nC G (xE G ad (xV w w1 w2 w3) X sp sh))) (va_Qi (fun (r : Int32) (u : xSt) => r = mixN w q 3 ∧ u = (mixN w q, w1, w2, w3, X, sp, sh)) (fun u => nC G (xE G ad (xV u.1 u.2.1 u.2.2.1 u.2.2.2.1) u.2.2.2.2.1 u.2.2.2.2.2.1 u.2.2.2.2.2.2)) (nA G)) 0 0 (nA G) := by
  refine n_head (by decide) (Nat.le_of_ble_eq_true rfl) ?_
  intro p e s m below meth c ls hx hb hr hlk hml hown hts hB0 hl
  have hown : s.vm.findClass "LineCalls" = some m.cls := hown
  have hw := nS.start hB0
  have hl : lv_has ls 3 [(0, .ref (ad 64)), (1, .int (nI q))] := hl
  refine lv_iconst (v := 0) hx hb dX0_mixed_0 (by decide) ?_
  refine lv_istore_n hx hb dX0_mixed_1 rfl hl (by decide) rfl (fun ls hl => ?_)
  refine n_loop (α := Nat) (fun k H locs ls => k ≤ q ∧ nS G (xE G ad (xV (mixN w k) w1 w2 w3) X sp sh) s H locs ∧ lv_has ls 3 [(0, .ref (ad 64)), (1, .int (nI q)), (2, .int (nI k))]) (fun k => q - k) 2 ?_ 0 _ _ _ ⟨Nat.zero_le _, hw, (lv_sub hl [1, 2, 0] rfl)⟩
  clear hl hw
  intro k H locs ls hI ih_2
  obtain ⟨hk, hw, hl⟩ := hI
  have hIk : Inv (B + k) (mixN w k) := hI.mixN (by omega)
  obtain ⟨m, hm, em⟩ := hIk.thr
  have hm6 : m % 6 < 6 := Nat.mod_lt _ (by decide)
  have im : ix (rm (mixN w k 0) 6) = m % 6 := by rw [next_eq (by omega) em]; exact nI_clamp (by omega)
  refine lv_iload_n hx hb dX0_mixed_2 rfl (lv_at hl 2 rfl) ?_
  refine lv_iload_n hx hb dX0_mixed_3 rfl (lv_at hl 1 rfl) ?_
  refine lv_icmp_ge (tgt := 65) hx hb dX0_mixed_4 (by decide) (fun c_4 => ?_) (fun c_4 => ?_)
  · skip
    have n_4 : q ≤ k := (nI_leI (a := q) (b := k) (by omega) (by omega)).mp c_4
    obtain rfl : k = q := by omega
    refine lv_aload_n hx hb dX0_mixed_65 rfl (lv_at hl 0 rfl) ?_
    refine n_get (k := 64) hx hb hts in_X0 hown hw (xp 64) rfl 3 (by decide) q418 rfl dX0_mixed_66 ?_
    refine n_getN (k := 16 * 0 + 0) hx hb hts in_X4 hown hw (xv0 0) rfl 4 (by decide) q236 rfl dX0_mixed_69 ?_
    exact l_iret hx hb hr hlk rfl hw ⟨rfl, rfl⟩ dX0_mixed_72
  · skip
    have n_4 : ¬ q ≤ k := fun h => c_4 ((nI_leI (a := q) (b := k) (by omega) (by omega)).mpr h)
    refine lv_aload_n hx hb dX0_mixed_7 rfl (lv_at hl 0 rfl) ?_
    refine n_get (k := 64) hx hb hts in_X0 hown hw (xp 64) rfl 3 (by decide) q418 rfl dX0_mixed_8 ?_
    refine n_getN (k := 16 * 0 + 0) hx hb hts in_X4 hown hw (xv0 0) rfl 3 (by decide) q234 rfl dX0_mixed_11 ?_
    refine lv_aload_n hx hb dX0_mixed_14 rfl (lv_at hl 0 rfl) ?_
    refine n_get (k := 64) hx hb hts in_X0 hown hw (xp 64) rfl 3 (by decide) q418 rfl dX0_mixed_15 ?_
    refine n_getN (k := 16 * 0 + 0) hx hb hts in_X4 hown hw (xv0 0) rfl 7 (by decide) q246 rfl dX0_mixed_18 ?_
    refine lv_bipush (v := 6) hx hb dX0_mixed_21 (by decide) ?_
    refine lv_irem hx hb dX0_mixed_23 (by decide) ?_
    refine n_topE (next_eq (by omega) em) ?_
    refine lv_aload_n hx hb dX0_mixed_24 rfl (lv_at hl 0 rfl) ?_
    refine n_get (k := 64) hx hb hts in_X0 hown hw (xp 64) rfl 3 (by decide) q418 rfl dX0_mixed_25 ?_
    refine n_calli (va_runV ⟨hx, hb, hml, hown, hts⟩ (tX4_draw l G ad _ _ _ _ 0 (by decide) _ (xV_at0 _ _ _ _) ) (cwV 0 hts (lw_V q943 q944 q945 q97 q946) rfl rfl rfl hdS_X4_draw ⟨by decide, by decide⟩) (hw.preV (k := 16 * 0 + 0) (xv0 0) rfl) rfl rfl hl.1 rfl (lv_room (by simp [Value.category])) dX0_mixed_28 ⟨Nat.zero_le _, Nat.zero_le _⟩) hw (fun r_28 u_28 H locs e_28 hw => ?_)
    obtain ⟨rfl, rfl⟩ := e_28
    have hw : nS G (xE G ad (va_up (xV _ _ _ _) 0 _) _ _ _) s H locs := hw
    rw [xV_0] at hw
    refine lv_sipush (v := 1000) hx hb dX0_mixed_31 (by decide) ?_
    refine lv_irem hx hb dX0_mixed_34 (by decide) ?_
    refine l0_iast hx hb hw 6 (by decide) (q := m % 6) rfl (show _ < 6 by omega) (pos := 38 + (m % 6)) rfl dX0_mixed_35 (fun H locs hw => ?_)
    rw [← im] at hw
    refine lv_aload_n hx hb dX0_mixed_36 rfl (lv_at hl 0 rfl) ?_
    refine n_get (k := 64) hx hb hts in_X0 hown hw (xp 64) rfl 3 (by decide) q418 rfl dX0_mixed_37 ?_
    refine n_getN (k := 16 * 0 + 0) hx hb hts in_X4 hown hw (xv0 0) rfl 2 (by decide) q231 rfl dX0_mixed_40 ?_
    refine lv_iconst (v := 0) hx hb dX0_mixed_43 (by decide) ?_
    refine lv_aload_n hx hb dX0_mixed_44 rfl (lv_at hl 0 rfl) ?_
    refine n_get (k := 64) hx hb hts in_X0 hown hw (xp 64) rfl 3 (by decide) q418 rfl dX0_mixed_45 ?_
    refine n_calli (va_runV ⟨hx, hb, hml, hown, hts⟩ (tX4_draw l G ad _ _ _ _ 0 (by decide) _ (xV_at0 _ _ _ _) ) (cwV 0 hts (lw_V q943 q944 q945 q97 q946) rfl rfl rfl hdS_X4_draw ⟨by decide, by decide⟩) (hw.preV (k := 16 * 0 + 0) (xv0 0) rfl) rfl rfl hl.1 rfl (lv_room (by simp [Value.category])) dX0_mixed_48 ⟨Nat.zero_le _, Nat.zero_le _⟩) hw (fun r_48 u_48 H locs e_48 hw => ?_)
    obtain ⟨rfl, rfl⟩ := e_48
    have hw : nS G (xE G ad (va_up (xV _ _ _ _) 0 _) _ _ _) s H locs := hw
    rw [xV_0] at hw
    refine lv_bipush (v := 10) hx hb dX0_mixed_51 (by decide) ?_
    refine lv_irem hx hb dX0_mixed_53 (by decide) ?_
    refine l0_iast hx hb hw 5 (by decide) (q := 0) rfl (by decide) (pos := 4 + 0) rfl dX0_mixed_54 (fun H locs hw => ?_)
    refine lv_aload_n hx hb dX0_mixed_55 rfl (lv_at hl 0 rfl) ?_
    refine n_callv (va_runV ⟨hx, hb, hml, hown, hts⟩ (tL_passes_2 l G ad _ _ _ _ _ _ _ (B + k) (hIk.mid (by omega)) (by omega)) (cwV 0 hts (lw_V q712 q714 qs7 q90 q715) rfl rfl rfl hdS_X0_passes_2 ⟨by decide, by decide⟩) (hw.preV (k := 64) (xp 64) rfl) rfl rfl hl.1 rfl (lv_room (by simp [Value.category])) dX0_mixed_56 ⟨Nat.zero_le _, Nat.zero_le _⟩) hw (fun u_56 H locs e_56 hw => ?_)
    subst e_56
    have hw : nS G (xE G ad (xV _ _ _ _) _ _ _) s H locs := hw
    refine lv_iinc (v := nI (k + 1)) hx hb dX0_mixed_59 hl (k := 2) rfl (nI_1 _) (by decide) rfl (fun ls hl => ?_)
    refine lv_goto (tgt := 2) hx hb dX0_mixed_62 (by decide) ?_
    exact ih_2 (k + 1) _ _ _ (by first | omega | (dsimp only; omega)) ⟨by omega, hw, (lv_sub hl [1, 2, 0] rfl)⟩
theorem hdS_X0_mix : yX0_mix.cls = "LineCalls" ∧ yX0_mix.cls ≠ "java/lang/invoke/MethodHandle" ∧ yX0_mix.cls ≠ "java/lang/invoke/VarHandle" ∧ (parseMethodDescriptor yX0_mix.desc).map (fun d => d.parameters.length) = some 1 := by decide +kernel
set_option maxHeartbeats 4000000 in
theorem tL_mix (l : Launch) (G : nG) (ad : Nat → Nat) (w w1 w2 w3 : rw84) (X : mM) (sp : xSp) (sh : xSh) (x : Int32) (B : Nat) (hI : Inv B w) (hB : B ≤ 100000) : Met l yX0_mix (ws_ yX0_mix cX0_mix 2 (some .int)) { frames := 8, cells := 0, slots := 0, locals := 168 } (va_Pc [.ref (ad 64), .int x] (nC G (xE G ad (xV w w1 w2 w3) X sp sh))) (va_Qi (fun (r : Int32) (u : xSt) => r = (mixO w x).1 ∧ u = ((mixO w x).2.1, w1, w2, w3, xfnd (mixO w x).2.2 X, sp, sh)) (fun u => nC G (xE G ad (xV u.1 u.2.1 u.2.2.1 u.2.2.2.1) u.2.2.2.2.1 u.2.2.2.2.2.1 u.2.2.2.2.2.2)) (nA G)) 0 0 (nA G) := by
  refine n_head (by decide) (Nat.le_of_ble_eq_true rfl) ?_
  intro p e s m below meth c ls hx hb hr hlk hml hown hts hB0 hl
  have hown : s.vm.findClass "LineCalls" = some m.cls := hown
  have hw := nS.start hB0
  have hl : lv_has ls 2 [(0, .ref (ad 64)), (1, .int x)] := hl
  obtain ⟨n, hn, en⟩ := hI.num
  refine lv_iload_n hx hb dX0_mix_0 rfl (lv_at hl 1 rfl) ?_
  refine lv_iconst (v := 1) hx hb dX0_mix_1 (by decide) ?_
  refine lv_bipush (v := 20) hx hb dX0_mix_2 (by decide) ?_
  refine n_callp (va_runS ⟨hx, hb, hml, hown, hts⟩ (tX_in l _ _ _) (va_cwS 3 hts (lw_S q459 q460 q90 q461) rfl rfl rfl (hdS_X0_in).2 ⟨by decide, by decide⟩) pu_pre rfl rfl hl.1 rfl (lv_room (by simp [Value.category])) dX0_mix_4 ⟨Nat.zero_le _, Nat.zero_le _⟩) (fun r_4 e_4 => ?_)
  subst e_4
  refine lv_if_ne (tgt := 16) hx hb dX0_mix_7 (by decide) (fun c_7 => ?_) (fun c_7 => ?_)
  · skip
    obtain ⟨q, h1q, hq, rfl⟩ := in_nat1 (N := 20) rfl (by decide) c_7
    have iq : ix (nI q) = q := nI_clamp (by omega)
    refine lv_aload_n hx hb dX0_mix_16 rfl (lv_at hl 0 rfl) ?_
    refine n_get (k := 64) hx hb hts in_X0 hown hw (xp 64) rfl 3 (by decide) q418 rfl dX0_mix_17 ?_
    refine lv_iload_n hx hb dX0_mix_20 rfl (lv_at hl 1 rfl) ?_
    refine n_callp (va_runV ⟨hx, hb, hml, hown, hts⟩ (tX4_isLate l G ad _ _ _ _ 0 (by decide) _ (xV_at0 _ _ _ _) _) (cwV 1 hts (lw_V q699 q700 q701 q97 q702) rfl rfl rfl hdS_X4_isLate ⟨by decide, by decide⟩) (hw.preV (k := 16 * 0 + 0) (xv0 0) rfl) rfl rfl hl.1 rfl (lv_room (by simp [Value.category])) dX0_mix_21 ⟨Nat.zero_le _, Nat.zero_le _⟩) (fun r_21 e_21 => ?_)
    subst e_21
    refine lv_if_eq (tgt := 35) hx hb dX0_mix_24 (by decide) (fun c_24 => ?_) (fun c_24 => ?_)
    · skip
      have c_24 : w 0 + nI q ≤ 99999 := by (by_cases h : w 0 + nI q ≤ 99999; exact h; rw [if_neg h] at c_24; exact absurd c_24 (by decide))
      refine lv_aload_n hx hb dX0_mix_35 rfl (lv_at hl 0 rfl) ?_
      refine lv_iload_n hx hb dX0_mix_36 rfl (lv_at hl 1 rfl) ?_
      refine n_calli (va_runV ⟨hx, hb, hml, hown, hts⟩ (tL_mixed l G ad _ _ _ _ _ _ _ q B hI (by omega)) (cwV 1 hts (lw_V q939 q941 qs31 q90 q942) rfl rfl rfl hdS_X0_mixed ⟨by decide, by decide⟩) (hw.preV (k := 64) (xp 64) rfl) rfl rfl hl.1 rfl (lv_room (by simp [Value.category])) dX0_mix_37 ⟨Nat.zero_le _, Nat.zero_le _⟩) hw (fun r_37 u_37 H locs e_37 hw => ?_)
      obtain ⟨rfl, rfl⟩ := e_37
      have hw : nS G (xE G ad (xV _ _ _ _) _ _ _) s H locs := hw
      exact l_iret hx hb hr hlk rfl hw (by rw [mixO, if_neg c_7, if_pos c_24]; first | (rw [iq]; exact ⟨rfl, rfl⟩) | exact ⟨rfl, rfl⟩) dX0_mix_40
    · skip
      have c_24 : ¬ w 0 + nI q ≤ 99999 := by (intro h; rw [if_pos h] at c_24; exact c_24 rfl)
      refine lv_aload_n hx hb dX0_mix_27 rfl (lv_at hl 0 rfl) ?_
      refine lv_iconst (v := 4) hx hb dX0_mix_28 (by decide) ?_
      refine n_calli (va_runV ⟨hx, hb, hml, hown, hts⟩ (tL_finding l G ad _ _ _ _ _ _ _ (4) (by decide)) (cwV 1 hts (lw_V q466 q468 qs3 q90 q469) rfl rfl rfl hdS_X0_finding ⟨by decide, by decide⟩) (hw.preV (k := 64) (xp 64) rfl) rfl rfl hl.1 rfl (lv_room (by simp [Value.category])) dX0_mix_29 ⟨Nat.zero_le _, Nat.zero_le _⟩) hw (fun r_29 u_29 H locs e_29 hw => ?_)
      obtain ⟨rfl, rfl⟩ := e_29
      have hw : nS G (xE G ad (xV _ _ _ _) _ _ _) s H locs := hw
      refine lv_goto (tgt := 40) hx hb dX0_mix_32 (by decide) ?_
      exact l_iret hx hb hr hlk rfl hw (by rw [mixO, if_neg c_7, if_neg c_24]; first | (rw [iq]; exact ⟨rfl, rfl⟩) | exact ⟨rfl, rfl⟩) dX0_mix_40
  · skip
    refine lv_aload_n hx hb dX0_mix_10 rfl (lv_at hl 0 rfl) ?_
    refine lv_iconst (v := 0) hx hb dX0_mix_11 (by decide) ?_
    refine n_calli (va_runV ⟨hx, hb, hml, hown, hts⟩ (tL_finding l G ad _ _ _ _ _ _ _ (0) (by decide)) (cwV 1 hts (lw_V q466 q468 qs3 q90 q469) rfl rfl rfl hdS_X0_finding ⟨by decide, by decide⟩) (hw.preV (k := 64) (xp 64) rfl) rfl rfl hl.1 rfl (lv_room (by simp [Value.category])) dX0_mix_12 ⟨Nat.zero_le _, Nat.zero_le _⟩) hw (fun r_12 u_12 H locs e_12 hw => ?_)
    obtain ⟨rfl, rfl⟩ := e_12
    have hw : nS G (xE G ad (xV _ _ _ _) _ _ _) s H locs := hw
    exact l_iret hx hb hr hlk rfl hw (by rw [mixO, if_pos c_7]; first | (rw [iq]; exact ⟨rfl, rfl⟩) | exact ⟨rfl, rfl⟩) dX0_mix_15
theorem hdS_X0_toldOf : yX0_toldOf.cls = "LineCalls" ∧ yX0_toldOf.cls ≠ "java/lang/invoke/MethodHandle" ∧ yX0_toldOf.cls ≠ "java/lang/invoke/VarHandle" ∧ (parseMethodDescriptor yX0_toldOf.desc).map (fun d => d.parameters.length) = some 2 := by decide +kernel
set_option maxHeartbeats 4000000 in
theorem tL_toldOf (l : Launch) (G : nG) (ad : Nat → Nat) (w w1 w2 w3 : rw84) (X : mM) (sp : xSp) (sh : xSh) (j f B : Nat) (hj : j < 8) (hf : f ≤ 5) (hI : Inv B w) : Met l yX0_toldOf (ws_ yX0_toldOf cX0_toldOf 3 (some .int)) { frames := 5, cells := 0, slots := 0, locals := 101 } (va_Pc [.ref (ad 64), .int (nI j), .int (nI f)] (nC G (xE G ad (xV w w1 w2 w3) X sp sh))) (vp_Si (fun r => r = (if nI f = 5 then highF w j else w (44 + 5 * j + f)))) 0 0 (fun _ => False) := by
  refine n_head (by decide) (Nat.le_of_ble_eq_true rfl) ?_
  intro p e s m below meth c ls hx hb hr hlk hml hown hts hB0 hl
  have hown : s.vm.findClass "LineCalls" = some m.cls := hown
  have hw := nS.start hB0
  have hl : lv_has ls 3 [(0, .ref (ad 64)), (1, .int (nI j)), (2, .int (nI f))] := hl
  refine lv_iload_n hx hb dX0_toldOf_0 rfl (lv_at hl 2 rfl) ?_
  refine lv_iconst (v := 5) hx hb dX0_toldOf_1 (by decide) ?_
  refine lv_icmp_ne (tgt := 16) hx hb dX0_toldOf_2 (by decide) (fun c_2 => ?_) (fun c_2 => ?_)
  · skip
    have hf5 : f < 5 := by rcases Nat.lt_or_ge f 5 with o | o; exact o; exact absurd (by rw [show f = 5 by omega]; rfl) c_2
    refine lv_aload_n hx hb dX0_toldOf_16 rfl (lv_at hl 0 rfl) ?_
    refine n_get (k := 64) hx hb hts in_X0 hown hw (xp 64) rfl 3 (by decide) q418 rfl dX0_toldOf_17 ?_
    refine n_getN (k := 16 * 0 + 0) hx hb hts in_X4 hown hw (xv0 0) rfl 6 (by decide) q243 rfl dX0_toldOf_20 ?_
    refine lv_iload_n hx hb dX0_toldOf_23 rfl (lv_at hl 2 rfl) ?_
    refine n_aaldS (k := 16 * 0 + 7) (t := 4) (j := f) (b := ad (16 * 0 + (8 + f))) hx hb hw (xv0 7) (Or.inr rfl) rfl (by omega) (by decide) rfl dX0_toldOf_24 ?_
    refine lv_iload_n hx hb dX0_toldOf_25 rfl (lv_at hl 1 rfl) ?_
    refine n_iald (k := 16 * 0 + (8 + f)) (j := j) hx hb hw (xv0_row hf5) rfl (by omega) (by decide) dX0_toldOf_26 ?_
    exact n_pret hx hb hr hlk rfl (by rw [if_neg c_2]) dX0_toldOf_27
  · skip
    refine lv_aload_n hx hb dX0_toldOf_5 rfl (lv_at hl 0 rfl) ?_
    refine lv_iload_n hx hb dX0_toldOf_6 rfl (lv_at hl 1 rfl) ?_
    obtain ⟨kd, hkd, ek⟩ := hI.kind hj
    have hd : kd < 7 := by omega
    refine n_callpq (va_runV ⟨hx, hb, hml, hown, hts⟩ (tL_jumperOf l G ad _ _ _ _ _ _ _ j kd hj hd ek) (cwV 1 hts (lw_V q549 q551 qs4 q90 q552) rfl rfl rfl hdS_X0_jumperOf ⟨by decide, by decide⟩) (hw.preV (k := 64) (xp 64) rfl) rfl rfl hl.1 rfl (lv_room (by simp [Value.category])) dX0_toldOf_7 ⟨Nat.zero_le _, Nat.zero_le _⟩) (fun r_7 e_7 => ?_)
    subst e_7
    refine dJ_high hx hb (hml.trans hl.1.symm) hown hts hw hd hj ek ⟨by decide, by decide⟩ ⟨Nat.zero_le _, Nat.zero_le _⟩ (by simp [Value.category]) dX0_toldOf_10 ?_
    refine lv_goto (tgt := 27) hx hb dX0_toldOf_13 (by decide) ?_
    exact n_pret hx hb hr hlk rfl (by rw [if_pos c_2]) dX0_toldOf_27
