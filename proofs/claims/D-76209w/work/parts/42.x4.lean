/-! the class: kinds of jumpers -/
set_option maxRecDepth 100000
theorem hdS_X6_told : yX6_told.cls = "LineCalls$Jumper" ∧ yX6_told.cls ≠ "java/lang/invoke/MethodHandle" ∧ yX6_told.cls ≠ "java/lang/invoke/VarHandle" ∧ (parseMethodDescriptor yX6_told.desc).map (fun d => d.parameters.length) = some 1 := by decide +kernel
set_option maxHeartbeats 4000000 in
theorem tJX6_told_0 (l : Launch) (G : nG) (ad : Nat → Nat) (w w1 w2 w3 : rw84) (X : mM) (sp : xSp) (sh : xSh) (k : Nat) (hk : k < 8) (f : Nat) (hf : f < 5) : Met l yX6_told (ws_ yX6_told cX6_told 2 (some .int)) { frames := 0, cells := 0, slots := 0, locals := 0 } (va_Pc [.ref (ad (200 + (8 * 0 + k))), .int (nI f)] (nC G (xE G ad (xV w w1 w2 w3) X sp sh))) (vp_Si (fun r => r = w (44 + 5 * k + f))) 0 0 (fun _ => False) := by
  refine n_head (by decide) (Nat.le_of_ble_eq_true rfl) ?_
  intro p e s m below meth c ls hx hb hr hlk hml hown hts hB0 hl
  have hown : s.vm.findClass "LineCalls$Jumper" = some m.cls := hown
  have hw := nS.start hB0
  have hl : lv_has ls 2 [(0, .ref (ad (200 + (8 * 0 + k)))), (1, .int (nI f))] := hl
  refine lv_aload_n hx hb dX6_told_0 rfl (lv_at hl 0 rfl) ?_
  refine n_get (k := 200 + (8 * 0 + k)) hx hb hts in_X6 hown hw (xjump 0 k (by decide) hk) rfl 1 (by decide) q332 rfl dX6_told_1 ?_
  refine n_getN (k := 64) hx hb hts in_X0 hown hw (xp 64) rfl 3 (by decide) q415 rfl dX6_told_4 ?_
  refine n_getN (k := 16 * 0 + 0) hx hb hts in_X4 hown hw (xv0 0) rfl 6 (by decide) q241 rfl dX6_told_7 ?_
  refine lv_iload_n hx hb dX6_told_10 rfl (lv_at hl 1 rfl) ?_
  refine n_aaldS (k := 16 * 0 + 7) (t := 4) (j := f) (b := ad (16 * 0 + (8 + f))) hx hb hw (xv0 7) (Or.inr rfl) rfl (by omega) (by decide) rfl dX6_told_11 ?_
  refine lv_aload_n hx hb dX6_told_12 rfl (lv_at hl 0 rfl) ?_
  refine n_get (k := 200 + (8 * 0 + k)) hx hb hts in_X6 hown hw (xjump 0 k (by decide) hk) rfl 0 (by decide) q330 rfl dX6_told_13 ?_
  refine n_iald (k := 16 * 0 + (8 + f)) (j := k) hx hb hw (xv0_row hf) rfl (by omega) (by decide) dX6_told_16 ?_
  exact n_pret hx hb hr hlk rfl rfl dX6_told_17
theorem hdS_X6_kind : yX6_kind.cls = "LineCalls$Jumper" ∧ yX6_kind.cls ≠ "java/lang/invoke/MethodHandle" ∧ yX6_kind.cls ≠ "java/lang/invoke/VarHandle" ∧ (parseMethodDescriptor yX6_kind.desc).map (fun d => d.parameters.length) = some 0 := by decide +kernel
set_option maxHeartbeats 4000000 in
theorem tJX6_kind_0 (l : Launch) (G : nG) (ad : Nat → Nat) (w w1 w2 w3 : rw84) (X : mM) (sp : xSp) (sh : xSh) (k : Nat) (hk : k < 8)  : Met l yX6_kind (ws_ yX6_kind cX6_kind 1 (some .int)) { frames := 0, cells := 0, slots := 0, locals := 0 } (va_Pc [.ref (ad (200 + (8 * 0 + k)))] (nC G (xE G ad (xV w w1 w2 w3) X sp sh))) (vp_Si (fun r => r = 0)) 0 0 (fun _ => False) := by
  refine n_head (by decide) (Nat.le_of_ble_eq_true rfl) ?_
  intro p e s m below meth c ls hx hb hr hlk hml hown hts hB0 hl
  have hown : s.vm.findClass "LineCalls$Jumper" = some m.cls := hown
  have hw := nS.start hB0
  have hl : lv_has ls 1 [(0, .ref (ad (200 + (8 * 0 + k))))] := hl
  refine lv_iconst (v := 0) hx hb dX6_kind_0 (by decide) ?_
  exact n_pret hx hb hr hlk rfl rfl dX6_kind_1
theorem hdS_X6_tires : yX6_tires.cls = "LineCalls$Jumper" ∧ yX6_tires.cls ≠ "java/lang/invoke/MethodHandle" ∧ yX6_tires.cls ≠ "java/lang/invoke/VarHandle" ∧ (parseMethodDescriptor yX6_tires.desc).map (fun d => d.parameters.length) = some 0 := by decide +kernel
set_option maxHeartbeats 4000000 in
theorem tJX6_tires_0 (l : Launch) (G : nG) (ad : Nat → Nat) (w w1 w2 w3 : rw84) (X : mM) (sp : xSp) (sh : xSh) (k : Nat) (hk : k < 8)  : Met l yX6_tires (ws_ yX6_tires cX6_tires 1 (some .int)) { frames := 0, cells := 0, slots := 0, locals := 0 } (va_Pc [.ref (ad (200 + (8 * 0 + k)))] (nC G (xE G ad (xV w w1 w2 w3) X sp sh))) (vp_Si (fun r => r = 5)) 0 0 (fun _ => False) := by
  refine n_head (by decide) (Nat.le_of_ble_eq_true rfl) ?_
  intro p e s m below meth c ls hx hb hr hlk hml hown hts hB0 hl
  have hown : s.vm.findClass "LineCalls$Jumper" = some m.cls := hown
  have hw := nS.start hB0
  have hl : lv_has ls 1 [(0, .ref (ad (200 + (8 * 0 + k))))] := hl
  refine lv_iconst (v := 5) hx hb dX6_tires_0 (by decide) ?_
  exact n_pret hx hb hr hlk rfl rfl dX6_tires_1
theorem hdS_X6_gains : yX6_gains.cls = "LineCalls$Jumper" ∧ yX6_gains.cls ≠ "java/lang/invoke/MethodHandle" ∧ yX6_gains.cls ≠ "java/lang/invoke/VarHandle" ∧ (parseMethodDescriptor yX6_gains.desc).map (fun d => d.parameters.length) = some 1 := by decide +kernel
set_option maxHeartbeats 4000000 in
theorem tJX6_gains_0 (l : Launch) (G : nG) (ad : Nat → Nat) (w w1 w2 w3 : rw84) (X : mM) (sp : xSp) (sh : xSh) (k : Nat) (hk : k < 8) (v : Int32) : Met l yX6_gains (ws_ yX6_gains cX6_gains 2 (some .int)) { frames := 0, cells := 0, slots := 0, locals := 0 } (va_Pc [.ref (ad (200 + (8 * 0 + k))), .int v] (nC G (xE G ad (xV w w1 w2 w3) X sp sh))) (vp_Si (fun r => r = v)) 0 0 (fun _ => False) := by
  refine n_head (by decide) (Nat.le_of_ble_eq_true rfl) ?_
  intro p e s m below meth c ls hx hb hr hlk hml hown hts hB0 hl
  have hown : s.vm.findClass "LineCalls$Jumper" = some m.cls := hown
  have hw := nS.start hB0
  have hl : lv_has ls 2 [(0, .ref (ad (200 + (8 * 0 + k)))), (1, .int v)] := hl
  refine lv_iload_n hx hb dX6_gains_0 rfl (lv_at hl 1 rfl) ?_
  exact n_pret hx hb hr hlk rfl rfl dX6_gains_1
theorem hdS_X6_high : yX6_high.cls = "LineCalls$Jumper" ∧ yX6_high.cls ≠ "java/lang/invoke/MethodHandle" ∧ yX6_high.cls ≠ "java/lang/invoke/VarHandle" ∧ (parseMethodDescriptor yX6_high.desc).map (fun d => d.parameters.length) = some 0 := by decide +kernel
set_option maxHeartbeats 4000000 in
theorem tJX6_high_0 (l : Launch) (G : nG) (ad : Nat → Nat) (w w1 w2 w3 : rw84) (X : mM) (sp : xSp) (sh : xSh) (k : Nat) (hk : k < 8)  : Met l yX6_high (ws_ yX6_high cX6_high 1 (some .int)) { frames := 1, cells := 0, slots := 0, locals := 21 } (va_Pc [.ref (ad (200 + (8 * 0 + k)))] (nC G (xE G ad (xV w w1 w2 w3) X sp sh))) (vp_Si (fun r => r = plainF w k)) 0 0 (fun _ => False) := by
  refine n_head (by decide) (Nat.le_of_ble_eq_true rfl) ?_
  intro p e s m below meth c ls hx hb hr hlk hml hown hts hB0 hl
  have hown : s.vm.findClass "LineCalls$Jumper" = some m.cls := hown
  have hw := nS.start hB0
  have hl : lv_has ls 1 [(0, .ref (ad (200 + (8 * 0 + k))))] := hl
  refine lv_iconst (v := 0) hx hb dX6_high_0 (by decide) ?_
  refine lv_aload_n hx hb dX6_high_1 rfl (lv_at hl 0 rfl) ?_
  refine lv_iconst (v := 1) hx hb dX6_high_2 (by decide) ?_
  refine n_callp (va_runU ⟨hx, hb, hml, hown, hts⟩ (tJX6_told_0 l G ad _ _ _ _ _ _ _ _ hk (1) (by decide)) (va_cwU 1 hts (lw_U q623 q1692 q1695 q613 q99 q614) rfl rfl rfl rfl (hdS_X6_told).2 ⟨by decide, by decide⟩) (hw.preV (k := 200 + (8 * 0 + k)) (xjump 0 k (by decide) hk) rfl) rfl rfl hl.1 rfl (lv_room (by simp [Value.category])) dX6_high_3 ⟨Nat.zero_le _, Nat.zero_le _⟩) (fun r_3 e_3 => ?_)
  subst e_3
  refine lv_aload_n hx hb dX6_high_6 rfl (lv_at hl 0 rfl) ?_
  refine lv_iconst (v := 2) hx hb dX6_high_7 (by decide) ?_
  refine n_callp (va_runU ⟨hx, hb, hml, hown, hts⟩ (tJX6_told_0 l G ad _ _ _ _ _ _ _ _ hk (2) (by decide)) (va_cwU 1 hts (lw_U q623 q1692 q1695 q613 q99 q614) rfl rfl rfl rfl (hdS_X6_told).2 ⟨by decide, by decide⟩) (hw.preV (k := 200 + (8 * 0 + k)) (xjump 0 k (by decide) hk) rfl) rfl rfl hl.1 rfl (lv_room (by simp [Value.category])) dX6_high_8 ⟨Nat.zero_le _, Nat.zero_le _⟩) (fun r_8 e_8 => ?_)
  subst e_8
  refine lv_iconst (v := 4) hx hb dX6_high_11 (by decide) ?_
  refine lv_idiv hx hb dX6_high_12 (by decide) ?_
  refine lv_isub hx hb dX6_high_13 ?_
  refine va_mmax hx hb (hml.trans hl.1.symm) hown (hts _ q624) (hts _ q625) (hts _ q108) (hts _ q626) (by decide) (by simp [Value.category]) (Nat.zero_le _) (Nat.zero_le _) dX6_high_14 ?_
  exact n_pret hx hb hr hlk rfl (by first | rfl | rw []) dX6_high_17
set_option maxHeartbeats 4000000 in
theorem tJX6_told_1 (l : Launch) (G : nG) (ad : Nat → Nat) (w w1 w2 w3 : rw84) (X : mM) (sp : xSp) (sh : xSh) (k : Nat) (hk : k < 8) (f : Nat) (hf : f < 5) : Met l yX6_told (ws_ yX6_told cX6_told 2 (some .int)) { frames := 0, cells := 0, slots := 0, locals := 0 } (va_Pc [.ref (ad (200 + (8 * 1 + k))), .int (nI f)] (nC G (xE G ad (xV w w1 w2 w3) X sp sh))) (vp_Si (fun r => r = w (44 + 5 * k + f))) 0 0 (fun _ => False) := by
  refine n_head (by decide) (Nat.le_of_ble_eq_true rfl) ?_
  intro p e s m below meth c ls hx hb hr hlk hml hown hts hB0 hl
  have hown : s.vm.findClass "LineCalls$Jumper" = some m.cls := hown
  have hw := nS.start hB0
  have hl : lv_has ls 2 [(0, .ref (ad (200 + (8 * 1 + k)))), (1, .int (nI f))] := hl
  refine lv_aload_n hx hb dX6_told_0 rfl (lv_at hl 0 rfl) ?_
  refine n_get (k := 200 + (8 * 1 + k)) hx hb hts in_X7 hown hw (xjump 1 k (by decide) hk) rfl 1 (by decide) q332 rfl dX6_told_1 ?_
  refine n_getN (k := 64) hx hb hts in_X0 hown hw (xp 64) rfl 3 (by decide) q415 rfl dX6_told_4 ?_
  refine n_getN (k := 16 * 0 + 0) hx hb hts in_X4 hown hw (xv0 0) rfl 6 (by decide) q241 rfl dX6_told_7 ?_
  refine lv_iload_n hx hb dX6_told_10 rfl (lv_at hl 1 rfl) ?_
  refine n_aaldS (k := 16 * 0 + 7) (t := 4) (j := f) (b := ad (16 * 0 + (8 + f))) hx hb hw (xv0 7) (Or.inr rfl) rfl (by omega) (by decide) rfl dX6_told_11 ?_
  refine lv_aload_n hx hb dX6_told_12 rfl (lv_at hl 0 rfl) ?_
  refine n_get (k := 200 + (8 * 1 + k)) hx hb hts in_X7 hown hw (xjump 1 k (by decide) hk) rfl 0 (by decide) q330 rfl dX6_told_13 ?_
  refine n_iald (k := 16 * 0 + (8 + f)) (j := k) hx hb hw (xv0_row hf) rfl (by omega) (by decide) dX6_told_16 ?_
  exact n_pret hx hb hr hlk rfl rfl dX6_told_17
set_option maxHeartbeats 4000000 in
theorem tJX6_kind_1 (l : Launch) (G : nG) (ad : Nat → Nat) (w w1 w2 w3 : rw84) (X : mM) (sp : xSp) (sh : xSh) (k : Nat) (hk : k < 8)  : Met l yX6_kind (ws_ yX6_kind cX6_kind 1 (some .int)) { frames := 0, cells := 0, slots := 0, locals := 0 } (va_Pc [.ref (ad (200 + (8 * 1 + k)))] (nC G (xE G ad (xV w w1 w2 w3) X sp sh))) (vp_Si (fun r => r = 0)) 0 0 (fun _ => False) := by
  refine n_head (by decide) (Nat.le_of_ble_eq_true rfl) ?_
  intro p e s m below meth c ls hx hb hr hlk hml hown hts hB0 hl
  have hown : s.vm.findClass "LineCalls$Jumper" = some m.cls := hown
  have hw := nS.start hB0
  have hl : lv_has ls 1 [(0, .ref (ad (200 + (8 * 1 + k))))] := hl
  refine lv_iconst (v := 0) hx hb dX6_kind_0 (by decide) ?_
  exact n_pret hx hb hr hlk rfl rfl dX6_kind_1
set_option maxHeartbeats 4000000 in
theorem tJX6_tires_1 (l : Launch) (G : nG) (ad : Nat → Nat) (w w1 w2 w3 : rw84) (X : mM) (sp : xSp) (sh : xSh) (k : Nat) (hk : k < 8)  : Met l yX6_tires (ws_ yX6_tires cX6_tires 1 (some .int)) { frames := 0, cells := 0, slots := 0, locals := 0 } (va_Pc [.ref (ad (200 + (8 * 1 + k)))] (nC G (xE G ad (xV w w1 w2 w3) X sp sh))) (vp_Si (fun r => r = 5)) 0 0 (fun _ => False) := by
  refine n_head (by decide) (Nat.le_of_ble_eq_true rfl) ?_
  intro p e s m below meth c ls hx hb hr hlk hml hown hts hB0 hl
  have hown : s.vm.findClass "LineCalls$Jumper" = some m.cls := hown
  have hw := nS.start hB0
  have hl : lv_has ls 1 [(0, .ref (ad (200 + (8 * 1 + k))))] := hl
  refine lv_iconst (v := 5) hx hb dX6_tires_0 (by decide) ?_
  exact n_pret hx hb hr hlk rfl rfl dX6_tires_1
set_option maxHeartbeats 4000000 in
theorem tJX6_high_1 (l : Launch) (G : nG) (ad : Nat → Nat) (w w1 w2 w3 : rw84) (X : mM) (sp : xSp) (sh : xSh) (k : Nat) (hk : k < 8)  : Met l yX6_high (ws_ yX6_high cX6_high 1 (some .int)) { frames := 1, cells := 0, slots := 0, locals := 21 } (va_Pc [.ref (ad (200 + (8 * 1 + k)))] (nC G (xE G ad (xV w w1 w2 w3) X sp sh))) (vp_Si (fun r => r = plainF w k)) 0 0 (fun _ => False) := by
  refine n_head (by decide) (Nat.le_of_ble_eq_true rfl) ?_
  intro p e s m below meth c ls hx hb hr hlk hml hown hts hB0 hl
  have hown : s.vm.findClass "LineCalls$Jumper" = some m.cls := hown
  have hw := nS.start hB0
  have hl : lv_has ls 1 [(0, .ref (ad (200 + (8 * 1 + k))))] := hl
  refine lv_iconst (v := 0) hx hb dX6_high_0 (by decide) ?_
  refine lv_aload_n hx hb dX6_high_1 rfl (lv_at hl 0 rfl) ?_
  refine lv_iconst (v := 1) hx hb dX6_high_2 (by decide) ?_
  refine n_callp (va_runU ⟨hx, hb, hml, hown, hts⟩ (tJX6_told_1 l G ad _ _ _ _ _ _ _ _ hk (1) (by decide)) (va_cwU 1 hts (lw_U q623 q1692 q1697 q613 q99 q614) rfl rfl rfl rfl (hdS_X6_told).2 ⟨by decide, by decide⟩) (hw.preV (k := 200 + (8 * 1 + k)) (xjump 1 k (by decide) hk) rfl) rfl rfl hl.1 rfl (lv_room (by simp [Value.category])) dX6_high_3 ⟨Nat.zero_le _, Nat.zero_le _⟩) (fun r_3 e_3 => ?_)
  subst e_3
  refine lv_aload_n hx hb dX6_high_6 rfl (lv_at hl 0 rfl) ?_
  refine lv_iconst (v := 2) hx hb dX6_high_7 (by decide) ?_
  refine n_callp (va_runU ⟨hx, hb, hml, hown, hts⟩ (tJX6_told_1 l G ad _ _ _ _ _ _ _ _ hk (2) (by decide)) (va_cwU 1 hts (lw_U q623 q1692 q1697 q613 q99 q614) rfl rfl rfl rfl (hdS_X6_told).2 ⟨by decide, by decide⟩) (hw.preV (k := 200 + (8 * 1 + k)) (xjump 1 k (by decide) hk) rfl) rfl rfl hl.1 rfl (lv_room (by simp [Value.category])) dX6_high_8 ⟨Nat.zero_le _, Nat.zero_le _⟩) (fun r_8 e_8 => ?_)
  subst e_8
  refine lv_iconst (v := 4) hx hb dX6_high_11 (by decide) ?_
  refine lv_idiv hx hb dX6_high_12 (by decide) ?_
  refine lv_isub hx hb dX6_high_13 ?_
  refine va_mmax hx hb (hml.trans hl.1.symm) hown (hts _ q624) (hts _ q625) (hts _ q108) (hts _ q626) (by decide) (by simp [Value.category]) (Nat.zero_le _) (Nat.zero_le _) dX6_high_14 ?_
  exact n_pret hx hb hr hlk rfl (by first | rfl | rw []) dX6_high_17
theorem hdS_X7_kind : yX7_kind.cls = "LineCalls$Prop" ∧ yX7_kind.cls ≠ "java/lang/invoke/MethodHandle" ∧ yX7_kind.cls ≠ "java/lang/invoke/VarHandle" ∧ (parseMethodDescriptor yX7_kind.desc).map (fun d => d.parameters.length) = some 0 := by decide +kernel
set_option maxHeartbeats 4000000 in
theorem tJX7_kind_1 (l : Launch) (G : nG) (ad : Nat → Nat) (w w1 w2 w3 : rw84) (X : mM) (sp : xSp) (sh : xSh) (k : Nat) (hk : k < 8)  : Met l yX7_kind (ws_ yX7_kind cX7_kind 1 (some .int)) { frames := 1, cells := 0, slots := 0, locals := 20 } (va_Pc [.ref (ad (200 + (8 * 1 + k)))] (nC G (xE G ad (xV w w1 w2 w3) X sp sh))) (vp_Si (fun r => r = 1)) 0 0 (fun _ => False) := by
  refine n_head (by decide) (Nat.le_of_ble_eq_true rfl) ?_
  intro p e s m below meth c ls hx hb hr hlk hml hown hts hB0 hl
  have hown : s.vm.findClass "LineCalls$Prop" = some m.cls := hown
  have hw := nS.start hB0
  have hl : lv_has ls 1 [(0, .ref (ad (200 + (8 * 1 + k))))] := hl
  refine lv_iconst (v := 1) hx hb dX7_kind_0 (by decide) ?_
  refine lv_aload_n hx hb dX7_kind_1 rfl (lv_at hl 0 rfl) ?_
  refine n_callp (va_runSU (hw.cls (ci := 7) (q := (RX7, TX7, 3)) rfl) ⟨hx, hb, hml, hown, hts⟩ (tJX6_kind_1 l G ad _ _ _ _ _ _ _ _ hk) (va_cwSU 0 hts (lw_SU q563 q556 q339 q554 q99 q581) rfl rfl rfl ⟨by decide, (hdS_X6_kind).2.2.2⟩ ⟨by decide, by decide⟩) (hw.preV (k := 200 + (8 * 1 + k)) (xjump 1 k (by decide) hk) rfl) rfl rfl hl.1 rfl (lv_room (by simp [Value.category])) dX7_kind_2 ⟨Nat.zero_le _, Nat.zero_le _⟩) (fun r_2 e_2 => ?_)
  subst e_2
  refine lv_iadd hx hb dX7_kind_5 ?_
  exact n_pret hx hb hr hlk rfl rfl dX7_kind_6
theorem hdS_X7_tires : yX7_tires.cls = "LineCalls$Prop" ∧ yX7_tires.cls ≠ "java/lang/invoke/MethodHandle" ∧ yX7_tires.cls ≠ "java/lang/invoke/VarHandle" ∧ (parseMethodDescriptor yX7_tires.desc).map (fun d => d.parameters.length) = some 0 := by decide +kernel
set_option maxHeartbeats 4000000 in
theorem tJX7_tires_1 (l : Launch) (G : nG) (ad : Nat → Nat) (w w1 w2 w3 : rw84) (X : mM) (sp : xSp) (sh : xSh) (k : Nat) (hk : k < 8)  : Met l yX7_tires (ws_ yX7_tires cX7_tires 1 (some .int)) { frames := 1, cells := 0, slots := 0, locals := 20 } (va_Pc [.ref (ad (200 + (8 * 1 + k)))] (nC G (xE G ad (xV w w1 w2 w3) X sp sh))) (vp_Si (fun r => r = 8)) 0 0 (fun _ => False) := by
  refine n_head (by decide) (Nat.le_of_ble_eq_true rfl) ?_
  intro p e s m below meth c ls hx hb hr hlk hml hown hts hB0 hl
  have hown : s.vm.findClass "LineCalls$Prop" = some m.cls := hown
  have hw := nS.start hB0
  have hl : lv_has ls 1 [(0, .ref (ad (200 + (8 * 1 + k))))] := hl
  refine lv_aload_n hx hb dX7_tires_0 rfl (lv_at hl 0 rfl) ?_
  refine n_callp (va_runSU (hw.cls (ci := 7) (q := (RX7, TX7, 3)) rfl) ⟨hx, hb, hml, hown, hts⟩ (tJX6_tires_1 l G ad _ _ _ _ _ _ _ _ hk) (va_cwSU 0 hts (lw_SU q637 q630 q339 q628 q99 q654) rfl rfl rfl ⟨by decide, (hdS_X6_tires).2.2.2⟩ ⟨by decide, by decide⟩) (hw.preV (k := 200 + (8 * 1 + k)) (xjump 1 k (by decide) hk) rfl) rfl rfl hl.1 rfl (lv_room (by simp [Value.category])) dX7_tires_1 ⟨Nat.zero_le _, Nat.zero_le _⟩) (fun r_1 e_1 => ?_)
  subst e_1
  refine lv_iconst (v := 3) hx hb dX7_tires_4 (by decide) ?_
  refine lv_iadd hx hb dX7_tires_5 ?_
  exact n_pret hx hb hr hlk rfl rfl dX7_tires_6
theorem hdS_X7_gains : yX7_gains.cls = "LineCalls$Prop" ∧ yX7_gains.cls ≠ "java/lang/invoke/MethodHandle" ∧ yX7_gains.cls ≠ "java/lang/invoke/VarHandle" ∧ (parseMethodDescriptor yX7_gains.desc).map (fun d => d.parameters.length) = some 1 := by decide +kernel
set_option maxHeartbeats 4000000 in
theorem tJX7_gains_1 (l : Launch) (G : nG) (ad : Nat → Nat) (w w1 w2 w3 : rw84) (X : mM) (sp : xSp) (sh : xSh) (k : Nat) (hk : k < 8) (v : Int32) : Met l yX7_gains (ws_ yX7_gains cX7_gains 2 (some .int)) { frames := 0, cells := 0, slots := 0, locals := 0 } (va_Pc [.ref (ad (200 + (8 * 1 + k))), .int v] (nC G (xE G ad (xV w w1 w2 w3) X sp sh))) (vp_Si (fun r => r = 1)) 0 0 (fun _ => False) := by
  refine n_head (by decide) (Nat.le_of_ble_eq_true rfl) ?_
  intro p e s m below meth c ls hx hb hr hlk hml hown hts hB0 hl
  have hown : s.vm.findClass "LineCalls$Prop" = some m.cls := hown
  have hw := nS.start hB0
  have hl : lv_has ls 2 [(0, .ref (ad (200 + (8 * 1 + k)))), (1, .int v)] := hl
  refine lv_iconst (v := 1) hx hb dX7_gains_0 (by decide) ?_
  exact n_pret hx hb hr hlk rfl rfl dX7_gains_1
theorem hdS_X7_high : yX7_high.cls = "LineCalls$Prop" ∧ yX7_high.cls ≠ "java/lang/invoke/MethodHandle" ∧ yX7_high.cls ≠ "java/lang/invoke/VarHandle" ∧ (parseMethodDescriptor yX7_high.desc).map (fun d => d.parameters.length) = some 0 := by decide +kernel
set_option maxHeartbeats 4000000 in
theorem tJX7_high_1 (l : Launch) (G : nG) (ad : Nat → Nat) (w w1 w2 w3 : rw84) (X : mM) (sp : xSp) (sh : xSh) (k : Nat) (hk : k < 8)  : Met l yX7_high (ws_ yX7_high cX7_high 1 (some .int)) { frames := 2, cells := 0, slots := 0, locals := 41 } (va_Pc [.ref (ad (200 + (8 * 1 + k)))] (nC G (xE G ad (xV w w1 w2 w3) X sp sh))) (vp_Si (fun r => r = plainF w k / 2)) 0 0 (fun _ => False) := by
  refine n_head (by decide) (Nat.le_of_ble_eq_true rfl) ?_
  intro p e s m below meth c ls hx hb hr hlk hml hown hts hB0 hl
  have hown : s.vm.findClass "LineCalls$Prop" = some m.cls := hown
  have hw := nS.start hB0
  have hl : lv_has ls 1 [(0, .ref (ad (200 + (8 * 1 + k))))] := hl
  refine lv_aload_n hx hb dX7_high_0 rfl (lv_at hl 0 rfl) ?_
  refine lv_aload_n hx hb dX7_high_1 rfl (lv_at hl 0 rfl) ?_
  refine n_callp (va_runSU (hw.cls (ci := 7) (q := (RX7, TX7, 3)) rfl) ⟨hx, hb, hml, hown, hts⟩ (tJX6_high_1 l G ad _ _ _ _ _ _ _ _ hk) (va_cwSU 0 hts (lw_SU q592 q585 q339 q583 q99 q622) rfl rfl rfl ⟨by decide, (hdS_X6_high).2.2.2⟩ ⟨by decide, by decide⟩) (hw.preV (k := 200 + (8 * 1 + k)) (xjump 1 k (by decide) hk) rfl) rfl rfl hl.1 rfl (lv_room (by simp [Value.category])) dX7_high_2 ⟨Nat.zero_le _, Nat.zero_le _⟩) (fun r_2 e_2 => ?_)
  subst e_2
  refine x_half hx hb (hml.trans hl.1.symm) hts hown hw (C := "LineCalls$Prop") hw.X.2.2.2.2.2.2.2.2.2.2.2.1 (hw.recv (xjump 1 k (by decide) hk) rfl) (by decide) (by decide) dX7_high_5 ?_
  exact n_pret hx hb hr hlk rfl (by first | rfl | rw []) dX7_high_8
set_option maxHeartbeats 4000000 in
theorem tJX6_told_2 (l : Launch) (G : nG) (ad : Nat → Nat) (w w1 w2 w3 : rw84) (X : mM) (sp : xSp) (sh : xSh) (k : Nat) (hk : k < 8) (f : Nat) (hf : f < 5) : Met l yX6_told (ws_ yX6_told cX6_told 2 (some .int)) { frames := 0, cells := 0, slots := 0, locals := 0 } (va_Pc [.ref (ad (200 + (8 * 2 + k))), .int (nI f)] (nC G (xE G ad (xV w w1 w2 w3) X sp sh))) (vp_Si (fun r => r = w (44 + 5 * k + f))) 0 0 (fun _ => False) := by
  refine n_head (by decide) (Nat.le_of_ble_eq_true rfl) ?_
  intro p e s m below meth c ls hx hb hr hlk hml hown hts hB0 hl
  have hown : s.vm.findClass "LineCalls$Jumper" = some m.cls := hown
  have hw := nS.start hB0
  have hl : lv_has ls 2 [(0, .ref (ad (200 + (8 * 2 + k)))), (1, .int (nI f))] := hl
  refine lv_aload_n hx hb dX6_told_0 rfl (lv_at hl 0 rfl) ?_
  refine n_get (k := 200 + (8 * 2 + k)) hx hb hts in_X8 hown hw (xjump 2 k (by decide) hk) rfl 1 (by decide) q332 rfl dX6_told_1 ?_
  refine n_getN (k := 64) hx hb hts in_X0 hown hw (xp 64) rfl 3 (by decide) q415 rfl dX6_told_4 ?_
  refine n_getN (k := 16 * 0 + 0) hx hb hts in_X4 hown hw (xv0 0) rfl 6 (by decide) q241 rfl dX6_told_7 ?_
  refine lv_iload_n hx hb dX6_told_10 rfl (lv_at hl 1 rfl) ?_
  refine n_aaldS (k := 16 * 0 + 7) (t := 4) (j := f) (b := ad (16 * 0 + (8 + f))) hx hb hw (xv0 7) (Or.inr rfl) rfl (by omega) (by decide) rfl dX6_told_11 ?_
  refine lv_aload_n hx hb dX6_told_12 rfl (lv_at hl 0 rfl) ?_
  refine n_get (k := 200 + (8 * 2 + k)) hx hb hts in_X8 hown hw (xjump 2 k (by decide) hk) rfl 0 (by decide) q330 rfl dX6_told_13 ?_
  refine n_iald (k := 16 * 0 + (8 + f)) (j := k) hx hb hw (xv0_row hf) rfl (by omega) (by decide) dX6_told_16 ?_
  exact n_pret hx hb hr hlk rfl rfl dX6_told_17
set_option maxHeartbeats 4000000 in
theorem tJX6_kind_2 (l : Launch) (G : nG) (ad : Nat → Nat) (w w1 w2 w3 : rw84) (X : mM) (sp : xSp) (sh : xSh) (k : Nat) (hk : k < 8)  : Met l yX6_kind (ws_ yX6_kind cX6_kind 1 (some .int)) { frames := 0, cells := 0, slots := 0, locals := 0 } (va_Pc [.ref (ad (200 + (8 * 2 + k)))] (nC G (xE G ad (xV w w1 w2 w3) X sp sh))) (vp_Si (fun r => r = 0)) 0 0 (fun _ => False) := by
  refine n_head (by decide) (Nat.le_of_ble_eq_true rfl) ?_
  intro p e s m below meth c ls hx hb hr hlk hml hown hts hB0 hl
  have hown : s.vm.findClass "LineCalls$Jumper" = some m.cls := hown
  have hw := nS.start hB0
  have hl : lv_has ls 1 [(0, .ref (ad (200 + (8 * 2 + k))))] := hl
  refine lv_iconst (v := 0) hx hb dX6_kind_0 (by decide) ?_
  exact n_pret hx hb hr hlk rfl rfl dX6_kind_1
set_option maxHeartbeats 4000000 in
theorem tJX6_tires_2 (l : Launch) (G : nG) (ad : Nat → Nat) (w w1 w2 w3 : rw84) (X : mM) (sp : xSp) (sh : xSh) (k : Nat) (hk : k < 8)  : Met l yX6_tires (ws_ yX6_tires cX6_tires 1 (some .int)) { frames := 0, cells := 0, slots := 0, locals := 0 } (va_Pc [.ref (ad (200 + (8 * 2 + k)))] (nC G (xE G ad (xV w w1 w2 w3) X sp sh))) (vp_Si (fun r => r = 5)) 0 0 (fun _ => False) := by
  refine n_head (by decide) (Nat.le_of_ble_eq_true rfl) ?_
  intro p e s m below meth c ls hx hb hr hlk hml hown hts hB0 hl
  have hown : s.vm.findClass "LineCalls$Jumper" = some m.cls := hown
  have hw := nS.start hB0
  have hl : lv_has ls 1 [(0, .ref (ad (200 + (8 * 2 + k))))] := hl
  refine lv_iconst (v := 5) hx hb dX6_tires_0 (by decide) ?_
  exact n_pret hx hb hr hlk rfl rfl dX6_tires_1
set_option maxHeartbeats 4000000 in
theorem tJX6_gains_2 (l : Launch) (G : nG) (ad : Nat → Nat) (w w1 w2 w3 : rw84) (X : mM) (sp : xSp) (sh : xSh) (k : Nat) (hk : k < 8) (v : Int32) : Met l yX6_gains (ws_ yX6_gains cX6_gains 2 (some .int)) { frames := 0, cells := 0, slots := 0, locals := 0 } (va_Pc [.ref (ad (200 + (8 * 2 + k))), .int v] (nC G (xE G ad (xV w w1 w2 w3) X sp sh))) (vp_Si (fun r => r = v)) 0 0 (fun _ => False) := by
  refine n_head (by decide) (Nat.le_of_ble_eq_true rfl) ?_
  intro p e s m below meth c ls hx hb hr hlk hml hown hts hB0 hl
  have hown : s.vm.findClass "LineCalls$Jumper" = some m.cls := hown
  have hw := nS.start hB0
  have hl : lv_has ls 2 [(0, .ref (ad (200 + (8 * 2 + k)))), (1, .int v)] := hl
  refine lv_iload_n hx hb dX6_gains_0 rfl (lv_at hl 1 rfl) ?_
  exact n_pret hx hb hr hlk rfl rfl dX6_gains_1
set_option maxHeartbeats 4000000 in
theorem tJX6_high_2 (l : Launch) (G : nG) (ad : Nat → Nat) (w w1 w2 w3 : rw84) (X : mM) (sp : xSp) (sh : xSh) (k : Nat) (hk : k < 8)  : Met l yX6_high (ws_ yX6_high cX6_high 1 (some .int)) { frames := 1, cells := 0, slots := 0, locals := 21 } (va_Pc [.ref (ad (200 + (8 * 2 + k)))] (nC G (xE G ad (xV w w1 w2 w3) X sp sh))) (vp_Si (fun r => r = plainF w k)) 0 0 (fun _ => False) := by
  refine n_head (by decide) (Nat.le_of_ble_eq_true rfl) ?_
  intro p e s m below meth c ls hx hb hr hlk hml hown hts hB0 hl
  have hown : s.vm.findClass "LineCalls$Jumper" = some m.cls := hown
  have hw := nS.start hB0
  have hl : lv_has ls 1 [(0, .ref (ad (200 + (8 * 2 + k))))] := hl
  refine lv_iconst (v := 0) hx hb dX6_high_0 (by decide) ?_
  refine lv_aload_n hx hb dX6_high_1 rfl (lv_at hl 0 rfl) ?_
  refine lv_iconst (v := 1) hx hb dX6_high_2 (by decide) ?_
  refine n_callp (va_runU ⟨hx, hb, hml, hown, hts⟩ (tJX6_told_2 l G ad _ _ _ _ _ _ _ _ hk (1) (by decide)) (va_cwU 1 hts (lw_U q623 q1692 q1696 q613 q99 q614) rfl rfl rfl rfl (hdS_X6_told).2 ⟨by decide, by decide⟩) (hw.preV (k := 200 + (8 * 2 + k)) (xjump 2 k (by decide) hk) rfl) rfl rfl hl.1 rfl (lv_room (by simp [Value.category])) dX6_high_3 ⟨Nat.zero_le _, Nat.zero_le _⟩) (fun r_3 e_3 => ?_)
  subst e_3
  refine lv_aload_n hx hb dX6_high_6 rfl (lv_at hl 0 rfl) ?_
  refine lv_iconst (v := 2) hx hb dX6_high_7 (by decide) ?_
  refine n_callp (va_runU ⟨hx, hb, hml, hown, hts⟩ (tJX6_told_2 l G ad _ _ _ _ _ _ _ _ hk (2) (by decide)) (va_cwU 1 hts (lw_U q623 q1692 q1696 q613 q99 q614) rfl rfl rfl rfl (hdS_X6_told).2 ⟨by decide, by decide⟩) (hw.preV (k := 200 + (8 * 2 + k)) (xjump 2 k (by decide) hk) rfl) rfl rfl hl.1 rfl (lv_room (by simp [Value.category])) dX6_high_8 ⟨Nat.zero_le _, Nat.zero_le _⟩) (fun r_8 e_8 => ?_)
  subst e_8
  refine lv_iconst (v := 4) hx hb dX6_high_11 (by decide) ?_
  refine lv_idiv hx hb dX6_high_12 (by decide) ?_
  refine lv_isub hx hb dX6_high_13 ?_
  refine va_mmax hx hb (hml.trans hl.1.symm) hown (hts _ q624) (hts _ q625) (hts _ q108) (hts _ q626) (by decide) (by simp [Value.category]) (Nat.zero_le _) (Nat.zero_le _) dX6_high_14 ?_
  exact n_pret hx hb hr hlk rfl (by first | rfl | rw []) dX6_high_17
theorem hdS_X8_kind : yX8_kind.cls = "LineCalls$Lock" ∧ yX8_kind.cls ≠ "java/lang/invoke/MethodHandle" ∧ yX8_kind.cls ≠ "java/lang/invoke/VarHandle" ∧ (parseMethodDescriptor yX8_kind.desc).map (fun d => d.parameters.length) = some 0 := by decide +kernel
set_option maxHeartbeats 4000000 in
theorem tJX8_kind_2 (l : Launch) (G : nG) (ad : Nat → Nat) (w w1 w2 w3 : rw84) (X : mM) (sp : xSp) (sh : xSh) (k : Nat) (hk : k < 8)  : Met l yX8_kind (ws_ yX8_kind cX8_kind 1 (some .int)) { frames := 1, cells := 0, slots := 0, locals := 20 } (va_Pc [.ref (ad (200 + (8 * 2 + k)))] (nC G (xE G ad (xV w w1 w2 w3) X sp sh))) (vp_Si (fun r => r = 2)) 0 0 (fun _ => False) := by
  refine n_head (by decide) (Nat.le_of_ble_eq_true rfl) ?_
  intro p e s m below meth c ls hx hb hr hlk hml hown hts hB0 hl
  have hown : s.vm.findClass "LineCalls$Lock" = some m.cls := hown
  have hw := nS.start hB0
  have hl : lv_has ls 1 [(0, .ref (ad (200 + (8 * 2 + k))))] := hl
  refine lv_iconst (v := 2) hx hb dX8_kind_0 (by decide) ?_
  refine lv_aload_n hx hb dX8_kind_1 rfl (lv_at hl 0 rfl) ?_
  refine n_callp (va_runSU (hw.cls (ci := 8) (q := (RX8, TX8, 3)) rfl) ⟨hx, hb, hml, hown, hts⟩ (tJX6_kind_2 l G ad _ _ _ _ _ _ _ _ hk) (va_cwSU 0 hts (lw_SU q573 q556 q351 q554 q99 q581) rfl rfl rfl ⟨by decide, (hdS_X6_kind).2.2.2⟩ ⟨by decide, by decide⟩) (hw.preV (k := 200 + (8 * 2 + k)) (xjump 2 k (by decide) hk) rfl) rfl rfl hl.1 rfl (lv_room (by simp [Value.category])) dX8_kind_2 ⟨Nat.zero_le _, Nat.zero_le _⟩) (fun r_2 e_2 => ?_)
  subst e_2
  refine lv_iadd hx hb dX8_kind_5 ?_
  exact n_pret hx hb hr hlk rfl rfl dX8_kind_6
theorem hdS_X8_tires : yX8_tires.cls = "LineCalls$Lock" ∧ yX8_tires.cls ≠ "java/lang/invoke/MethodHandle" ∧ yX8_tires.cls ≠ "java/lang/invoke/VarHandle" ∧ (parseMethodDescriptor yX8_tires.desc).map (fun d => d.parameters.length) = some 0 := by decide +kernel
set_option maxHeartbeats 4000000 in
theorem tJX8_tires_2 (l : Launch) (G : nG) (ad : Nat → Nat) (w w1 w2 w3 : rw84) (X : mM) (sp : xSp) (sh : xSh) (k : Nat) (hk : k < 8)  : Met l yX8_tires (ws_ yX8_tires cX8_tires 1 (some .int)) { frames := 1, cells := 0, slots := 0, locals := 20 } (va_Pc [.ref (ad (200 + (8 * 2 + k)))] (nC G (xE G ad (xV w w1 w2 w3) X sp sh))) (vp_Si (fun r => r = 4)) 0 0 (fun _ => False) := by
  refine n_head (by decide) (Nat.le_of_ble_eq_true rfl) ?_
  intro p e s m below meth c ls hx hb hr hlk hml hown hts hB0 hl
  have hown : s.vm.findClass "LineCalls$Lock" = some m.cls := hown
  have hw := nS.start hB0
  have hl : lv_has ls 1 [(0, .ref (ad (200 + (8 * 2 + k))))] := hl
  refine lv_aload_n hx hb dX8_tires_0 rfl (lv_at hl 0 rfl) ?_
  refine n_callp (va_runSU (hw.cls (ci := 8) (q := (RX8, TX8, 3)) rfl) ⟨hx, hb, hml, hown, hts⟩ (tJX6_tires_2 l G ad _ _ _ _ _ _ _ _ hk) (va_cwSU 0 hts (lw_SU q646 q630 q351 q628 q99 q654) rfl rfl rfl ⟨by decide, (hdS_X6_tires).2.2.2⟩ ⟨by decide, by decide⟩) (hw.preV (k := 200 + (8 * 2 + k)) (xjump 2 k (by decide) hk) rfl) rfl rfl hl.1 rfl (lv_room (by simp [Value.category])) dX8_tires_1 ⟨Nat.zero_le _, Nat.zero_le _⟩) (fun r_1 e_1 => ?_)
  subst e_1
  refine lv_iconst (v := 1) hx hb dX8_tires_4 (by decide) ?_
  refine lv_isub hx hb dX8_tires_5 ?_
  exact n_pret hx hb hr hlk rfl rfl dX8_tires_6
theorem hdS_X8_gains : yX8_gains.cls = "LineCalls$Lock" ∧ yX8_gains.cls ≠ "java/lang/invoke/MethodHandle" ∧ yX8_gains.cls ≠ "java/lang/invoke/VarHandle" ∧ (parseMethodDescriptor yX8_gains.desc).map (fun d => d.parameters.length) = some 1 := by decide +kernel
set_option maxHeartbeats 4000000 in
theorem tJX8_gains_2 (l : Launch) (G : nG) (ad : Nat → Nat) (w w1 w2 w3 : rw84) (X : mM) (sp : xSp) (sh : xSh) (k : Nat) (hk : k < 8) (v : Int32) : Met l yX8_gains (ws_ yX8_gains cX8_gains 2 (some .int)) { frames := 1, cells := 0, slots := 0, locals := 21 } (va_Pc [.ref (ad (200 + (8 * 2 + k))), .int v] (nC G (xE G ad (xV w w1 w2 w3) X sp sh))) (vp_Si (fun r => r = v + 2)) 0 0 (fun _ => False) := by
  refine n_head (by decide) (Nat.le_of_ble_eq_true rfl) ?_
  intro p e s m below meth c ls hx hb hr hlk hml hown hts hB0 hl
  have hown : s.vm.findClass "LineCalls$Lock" = some m.cls := hown
  have hw := nS.start hB0
  have hl : lv_has ls 2 [(0, .ref (ad (200 + (8 * 2 + k)))), (1, .int v)] := hl
  refine lv_aload_n hx hb dX8_gains_0 rfl (lv_at hl 0 rfl) ?_
  refine lv_iload_n hx hb dX8_gains_1 rfl (lv_at hl 1 rfl) ?_
  refine n_callp (va_runSU (hw.cls (ci := 8) (q := (RX8, TX8, 3)) rfl) ⟨hx, hb, hml, hown, hts⟩ (tJX6_gains_2 l G ad _ _ _ _ _ _ _ _ hk _) (va_cwSU 1 hts (lw_SU q688 q673 q351 q671 q99 q694) rfl rfl rfl ⟨by decide, (hdS_X6_gains).2.2.2⟩ ⟨by decide, by decide⟩) (hw.preV (k := 200 + (8 * 2 + k)) (xjump 2 k (by decide) hk) rfl) rfl rfl hl.1 rfl (lv_room (by simp [Value.category])) dX8_gains_2 ⟨Nat.zero_le _, Nat.zero_le _⟩) (fun r_2 e_2 => ?_)
  subst e_2
  refine lv_iconst (v := 2) hx hb dX8_gains_5 (by decide) ?_
  refine lv_iadd hx hb dX8_gains_6 ?_
  exact n_pret hx hb hr hlk rfl rfl dX8_gains_7
theorem hdS_X8_high : yX8_high.cls = "LineCalls$Lock" ∧ yX8_high.cls ≠ "java/lang/invoke/MethodHandle" ∧ yX8_high.cls ≠ "java/lang/invoke/VarHandle" ∧ (parseMethodDescriptor yX8_high.desc).map (fun d => d.parameters.length) = some 0 := by decide +kernel
set_option maxHeartbeats 4000000 in
theorem tJX8_high_2 (l : Launch) (G : nG) (ad : Nat → Nat) (w w1 w2 w3 : rw84) (X : mM) (sp : xSp) (sh : xSh) (k : Nat) (hk : k < 8)  : Met l yX8_high (ws_ yX8_high cX8_high 1 (some .int)) { frames := 2, cells := 0, slots := 0, locals := 41 } (va_Pc [.ref (ad (200 + (8 * 2 + k)))] (nC G (xE G ad (xV w w1 w2 w3) X sp sh))) (vp_Si (fun r => r = plainF w k + 10)) 0 0 (fun _ => False) := by
  refine n_head (by decide) (Nat.le_of_ble_eq_true rfl) ?_
  intro p e s m below meth c ls hx hb hr hlk hml hown hts hB0 hl
  have hown : s.vm.findClass "LineCalls$Lock" = some m.cls := hown
  have hw := nS.start hB0
  have hl : lv_has ls 1 [(0, .ref (ad (200 + (8 * 2 + k))))] := hl
  refine lv_aload_n hx hb dX8_high_0 rfl (lv_at hl 0 rfl) ?_
  refine n_callp (va_runSU (hw.cls (ci := 8) (q := (RX8, TX8, 3)) rfl) ⟨hx, hb, hml, hown, hts⟩ (tJX6_high_2 l G ad _ _ _ _ _ _ _ _ hk) (va_cwSU 0 hts (lw_SU q608 q585 q351 q583 q99 q622) rfl rfl rfl ⟨by decide, (hdS_X6_high).2.2.2⟩ ⟨by decide, by decide⟩) (hw.preV (k := 200 + (8 * 2 + k)) (xjump 2 k (by decide) hk) rfl) rfl rfl hl.1 rfl (lv_room (by simp [Value.category])) dX8_high_1 ⟨Nat.zero_le _, Nat.zero_le _⟩) (fun r_1 e_1 => ?_)
  subst e_1
  refine lv_bipush (v := 10) hx hb dX8_high_4 (by decide) ?_
  refine lv_iadd hx hb dX8_high_6 ?_
  exact n_pret hx hb hr hlk rfl (by first | rfl | rw []) dX8_high_7
set_option maxHeartbeats 4000000 in
theorem tJX6_told_3 (l : Launch) (G : nG) (ad : Nat → Nat) (w w1 w2 w3 : rw84) (X : mM) (sp : xSp) (sh : xSh) (k : Nat) (hk : k < 8) (f : Nat) (hf : f < 5) : Met l yX6_told (ws_ yX6_told cX6_told 2 (some .int)) { frames := 0, cells := 0, slots := 0, locals := 0 } (va_Pc [.ref (ad (200 + (8 * 3 + k))), .int (nI f)] (nC G (xE G ad (xV w w1 w2 w3) X sp sh))) (vp_Si (fun r => r = w (44 + 5 * k + f))) 0 0 (fun _ => False) := by
  refine n_head (by decide) (Nat.le_of_ble_eq_true rfl) ?_
  intro p e s m below meth c ls hx hb hr hlk hml hown hts hB0 hl
  have hown : s.vm.findClass "LineCalls$Jumper" = some m.cls := hown
  have hw := nS.start hB0
  have hl : lv_has ls 2 [(0, .ref (ad (200 + (8 * 3 + k)))), (1, .int (nI f))] := hl
  refine lv_aload_n hx hb dX6_told_0 rfl (lv_at hl 0 rfl) ?_
  refine n_get (k := 200 + (8 * 3 + k)) hx hb hts in_X9 hown hw (xjump 3 k (by decide) hk) rfl 1 (by decide) q332 rfl dX6_told_1 ?_
  refine n_getN (k := 64) hx hb hts in_X0 hown hw (xp 64) rfl 3 (by decide) q415 rfl dX6_told_4 ?_
  refine n_getN (k := 16 * 0 + 0) hx hb hts in_X4 hown hw (xv0 0) rfl 6 (by decide) q241 rfl dX6_told_7 ?_
  refine lv_iload_n hx hb dX6_told_10 rfl (lv_at hl 1 rfl) ?_
  refine n_aaldS (k := 16 * 0 + 7) (t := 4) (j := f) (b := ad (16 * 0 + (8 + f))) hx hb hw (xv0 7) (Or.inr rfl) rfl (by omega) (by decide) rfl dX6_told_11 ?_
  refine lv_aload_n hx hb dX6_told_12 rfl (lv_at hl 0 rfl) ?_
  refine n_get (k := 200 + (8 * 3 + k)) hx hb hts in_X9 hown hw (xjump 3 k (by decide) hk) rfl 0 (by decide) q330 rfl dX6_told_13 ?_
  refine n_iald (k := 16 * 0 + (8 + f)) (j := k) hx hb hw (xv0_row hf) rfl (by omega) (by decide) dX6_told_16 ?_
  exact n_pret hx hb hr hlk rfl rfl dX6_told_17
set_option maxHeartbeats 4000000 in
theorem tJX6_kind_3 (l : Launch) (G : nG) (ad : Nat → Nat) (w w1 w2 w3 : rw84) (X : mM) (sp : xSp) (sh : xSh) (k : Nat) (hk : k < 8)  : Met l yX6_kind (ws_ yX6_kind cX6_kind 1 (some .int)) { frames := 0, cells := 0, slots := 0, locals := 0 } (va_Pc [.ref (ad (200 + (8 * 3 + k)))] (nC G (xE G ad (xV w w1 w2 w3) X sp sh))) (vp_Si (fun r => r = 0)) 0 0 (fun _ => False) := by
  refine n_head (by decide) (Nat.le_of_ble_eq_true rfl) ?_
  intro p e s m below meth c ls hx hb hr hlk hml hown hts hB0 hl
  have hown : s.vm.findClass "LineCalls$Jumper" = some m.cls := hown
  have hw := nS.start hB0
  have hl : lv_has ls 1 [(0, .ref (ad (200 + (8 * 3 + k))))] := hl
  refine lv_iconst (v := 0) hx hb dX6_kind_0 (by decide) ?_
  exact n_pret hx hb hr hlk rfl rfl dX6_kind_1
set_option maxHeartbeats 4000000 in
theorem tJX6_tires_3 (l : Launch) (G : nG) (ad : Nat → Nat) (w w1 w2 w3 : rw84) (X : mM) (sp : xSp) (sh : xSh) (k : Nat) (hk : k < 8)  : Met l yX6_tires (ws_ yX6_tires cX6_tires 1 (some .int)) { frames := 0, cells := 0, slots := 0, locals := 0 } (va_Pc [.ref (ad (200 + (8 * 3 + k)))] (nC G (xE G ad (xV w w1 w2 w3) X sp sh))) (vp_Si (fun r => r = 5)) 0 0 (fun _ => False) := by
  refine n_head (by decide) (Nat.le_of_ble_eq_true rfl) ?_
  intro p e s m below meth c ls hx hb hr hlk hml hown hts hB0 hl
  have hown : s.vm.findClass "LineCalls$Jumper" = some m.cls := hown
  have hw := nS.start hB0
  have hl : lv_has ls 1 [(0, .ref (ad (200 + (8 * 3 + k))))] := hl
  refine lv_iconst (v := 5) hx hb dX6_tires_0 (by decide) ?_
  exact n_pret hx hb hr hlk rfl rfl dX6_tires_1
set_option maxHeartbeats 4000000 in
theorem tJX6_gains_3 (l : Launch) (G : nG) (ad : Nat → Nat) (w w1 w2 w3 : rw84) (X : mM) (sp : xSp) (sh : xSh) (k : Nat) (hk : k < 8) (v : Int32) : Met l yX6_gains (ws_ yX6_gains cX6_gains 2 (some .int)) { frames := 0, cells := 0, slots := 0, locals := 0 } (va_Pc [.ref (ad (200 + (8 * 3 + k))), .int v] (nC G (xE G ad (xV w w1 w2 w3) X sp sh))) (vp_Si (fun r => r = v)) 0 0 (fun _ => False) := by
  refine n_head (by decide) (Nat.le_of_ble_eq_true rfl) ?_
  intro p e s m below meth c ls hx hb hr hlk hml hown hts hB0 hl
  have hown : s.vm.findClass "LineCalls$Jumper" = some m.cls := hown
  have hw := nS.start hB0
  have hl : lv_has ls 2 [(0, .ref (ad (200 + (8 * 3 + k)))), (1, .int v)] := hl
  refine lv_iload_n hx hb dX6_gains_0 rfl (lv_at hl 1 rfl) ?_
  exact n_pret hx hb hr hlk rfl rfl dX6_gains_1
set_option maxHeartbeats 4000000 in
theorem tJX6_high_3 (l : Launch) (G : nG) (ad : Nat → Nat) (w w1 w2 w3 : rw84) (X : mM) (sp : xSp) (sh : xSh) (k : Nat) (hk : k < 8)  : Met l yX6_high (ws_ yX6_high cX6_high 1 (some .int)) { frames := 1, cells := 0, slots := 0, locals := 21 } (va_Pc [.ref (ad (200 + (8 * 3 + k)))] (nC G (xE G ad (xV w w1 w2 w3) X sp sh))) (vp_Si (fun r => r = plainF w k)) 0 0 (fun _ => False) := by
  refine n_head (by decide) (Nat.le_of_ble_eq_true rfl) ?_
  intro p e s m below meth c ls hx hb hr hlk hml hown hts hB0 hl
  have hown : s.vm.findClass "LineCalls$Jumper" = some m.cls := hown
  have hw := nS.start hB0
  have hl : lv_has ls 1 [(0, .ref (ad (200 + (8 * 3 + k))))] := hl
  refine lv_iconst (v := 0) hx hb dX6_high_0 (by decide) ?_
  refine lv_aload_n hx hb dX6_high_1 rfl (lv_at hl 0 rfl) ?_
  refine lv_iconst (v := 1) hx hb dX6_high_2 (by decide) ?_
  refine n_callp (va_runU ⟨hx, hb, hml, hown, hts⟩ (tJX6_told_3 l G ad _ _ _ _ _ _ _ _ hk (1) (by decide)) (va_cwU 1 hts (lw_U q623 q1692 q1699 q613 q99 q614) rfl rfl rfl rfl (hdS_X6_told).2 ⟨by decide, by decide⟩) (hw.preV (k := 200 + (8 * 3 + k)) (xjump 3 k (by decide) hk) rfl) rfl rfl hl.1 rfl (lv_room (by simp [Value.category])) dX6_high_3 ⟨Nat.zero_le _, Nat.zero_le _⟩) (fun r_3 e_3 => ?_)
  subst e_3
  refine lv_aload_n hx hb dX6_high_6 rfl (lv_at hl 0 rfl) ?_
  refine lv_iconst (v := 2) hx hb dX6_high_7 (by decide) ?_
  refine n_callp (va_runU ⟨hx, hb, hml, hown, hts⟩ (tJX6_told_3 l G ad _ _ _ _ _ _ _ _ hk (2) (by decide)) (va_cwU 1 hts (lw_U q623 q1692 q1699 q613 q99 q614) rfl rfl rfl rfl (hdS_X6_told).2 ⟨by decide, by decide⟩) (hw.preV (k := 200 + (8 * 3 + k)) (xjump 3 k (by decide) hk) rfl) rfl rfl hl.1 rfl (lv_room (by simp [Value.category])) dX6_high_8 ⟨Nat.zero_le _, Nat.zero_le _⟩) (fun r_8 e_8 => ?_)
  subst e_8
  refine lv_iconst (v := 4) hx hb dX6_high_11 (by decide) ?_
  refine lv_idiv hx hb dX6_high_12 (by decide) ?_
  refine lv_isub hx hb dX6_high_13 ?_
  refine va_mmax hx hb (hml.trans hl.1.symm) hown (hts _ q624) (hts _ q625) (hts _ q108) (hts _ q626) (by decide) (by simp [Value.category]) (Nat.zero_le _) (Nat.zero_le _) dX6_high_14 ?_
  exact n_pret hx hb hr hlk rfl (by first | rfl | rw []) dX6_high_17
set_option maxHeartbeats 4000000 in
theorem tJX8_kind_3 (l : Launch) (G : nG) (ad : Nat → Nat) (w w1 w2 w3 : rw84) (X : mM) (sp : xSp) (sh : xSh) (k : Nat) (hk : k < 8)  : Met l yX8_kind (ws_ yX8_kind cX8_kind 1 (some .int)) { frames := 1, cells := 0, slots := 0, locals := 20 } (va_Pc [.ref (ad (200 + (8 * 3 + k)))] (nC G (xE G ad (xV w w1 w2 w3) X sp sh))) (vp_Si (fun r => r = 2)) 0 0 (fun _ => False) := by
  refine n_head (by decide) (Nat.le_of_ble_eq_true rfl) ?_
  intro p e s m below meth c ls hx hb hr hlk hml hown hts hB0 hl
  have hown : s.vm.findClass "LineCalls$Lock" = some m.cls := hown
  have hw := nS.start hB0
  have hl : lv_has ls 1 [(0, .ref (ad (200 + (8 * 3 + k))))] := hl
  refine lv_iconst (v := 2) hx hb dX8_kind_0 (by decide) ?_
  refine lv_aload_n hx hb dX8_kind_1 rfl (lv_at hl 0 rfl) ?_
  refine n_callp (va_runSU (hw.cls (ci := 9) (q := (RX9, TX9, 4)) rfl) ⟨hx, hb, hml, hown, hts⟩ (tJX6_kind_3 l G ad _ _ _ _ _ _ _ _ hk) (va_cwSU 0 hts (lw_SU q573 q556 q351 q554 q99 q581) rfl rfl rfl ⟨by decide, (hdS_X6_kind).2.2.2⟩ ⟨by decide, by decide⟩) (hw.preV (k := 200 + (8 * 3 + k)) (xjump 3 k (by decide) hk) rfl) rfl rfl hl.1 rfl (lv_room (by simp [Value.category])) dX8_kind_2 ⟨Nat.zero_le _, Nat.zero_le _⟩) (fun r_2 e_2 => ?_)
  subst e_2
  refine lv_iadd hx hb dX8_kind_5 ?_
  exact n_pret hx hb hr hlk rfl rfl dX8_kind_6
set_option maxHeartbeats 4000000 in
theorem tJX8_tires_3 (l : Launch) (G : nG) (ad : Nat → Nat) (w w1 w2 w3 : rw84) (X : mM) (sp : xSp) (sh : xSh) (k : Nat) (hk : k < 8)  : Met l yX8_tires (ws_ yX8_tires cX8_tires 1 (some .int)) { frames := 1, cells := 0, slots := 0, locals := 20 } (va_Pc [.ref (ad (200 + (8 * 3 + k)))] (nC G (xE G ad (xV w w1 w2 w3) X sp sh))) (vp_Si (fun r => r = 4)) 0 0 (fun _ => False) := by
  refine n_head (by decide) (Nat.le_of_ble_eq_true rfl) ?_
  intro p e s m below meth c ls hx hb hr hlk hml hown hts hB0 hl
  have hown : s.vm.findClass "LineCalls$Lock" = some m.cls := hown
  have hw := nS.start hB0
  have hl : lv_has ls 1 [(0, .ref (ad (200 + (8 * 3 + k))))] := hl
  refine lv_aload_n hx hb dX8_tires_0 rfl (lv_at hl 0 rfl) ?_
  refine n_callp (va_runSU (hw.cls (ci := 9) (q := (RX9, TX9, 4)) rfl) ⟨hx, hb, hml, hown, hts⟩ (tJX6_tires_3 l G ad _ _ _ _ _ _ _ _ hk) (va_cwSU 0 hts (lw_SU q646 q630 q351 q628 q99 q654) rfl rfl rfl ⟨by decide, (hdS_X6_tires).2.2.2⟩ ⟨by decide, by decide⟩) (hw.preV (k := 200 + (8 * 3 + k)) (xjump 3 k (by decide) hk) rfl) rfl rfl hl.1 rfl (lv_room (by simp [Value.category])) dX8_tires_1 ⟨Nat.zero_le _, Nat.zero_le _⟩) (fun r_1 e_1 => ?_)
  subst e_1
  refine lv_iconst (v := 1) hx hb dX8_tires_4 (by decide) ?_
  refine lv_isub hx hb dX8_tires_5 ?_
  exact n_pret hx hb hr hlk rfl rfl dX8_tires_6
set_option maxHeartbeats 4000000 in
theorem tJX8_gains_3 (l : Launch) (G : nG) (ad : Nat → Nat) (w w1 w2 w3 : rw84) (X : mM) (sp : xSp) (sh : xSh) (k : Nat) (hk : k < 8) (v : Int32) : Met l yX8_gains (ws_ yX8_gains cX8_gains 2 (some .int)) { frames := 1, cells := 0, slots := 0, locals := 21 } (va_Pc [.ref (ad (200 + (8 * 3 + k))), .int v] (nC G (xE G ad (xV w w1 w2 w3) X sp sh))) (vp_Si (fun r => r = v + 2)) 0 0 (fun _ => False) := by
  refine n_head (by decide) (Nat.le_of_ble_eq_true rfl) ?_
  intro p e s m below meth c ls hx hb hr hlk hml hown hts hB0 hl
  have hown : s.vm.findClass "LineCalls$Lock" = some m.cls := hown
  have hw := nS.start hB0
  have hl : lv_has ls 2 [(0, .ref (ad (200 + (8 * 3 + k)))), (1, .int v)] := hl
  refine lv_aload_n hx hb dX8_gains_0 rfl (lv_at hl 0 rfl) ?_
  refine lv_iload_n hx hb dX8_gains_1 rfl (lv_at hl 1 rfl) ?_
  refine n_callp (va_runSU (hw.cls (ci := 9) (q := (RX9, TX9, 4)) rfl) ⟨hx, hb, hml, hown, hts⟩ (tJX6_gains_3 l G ad _ _ _ _ _ _ _ _ hk _) (va_cwSU 1 hts (lw_SU q688 q673 q351 q671 q99 q694) rfl rfl rfl ⟨by decide, (hdS_X6_gains).2.2.2⟩ ⟨by decide, by decide⟩) (hw.preV (k := 200 + (8 * 3 + k)) (xjump 3 k (by decide) hk) rfl) rfl rfl hl.1 rfl (lv_room (by simp [Value.category])) dX8_gains_2 ⟨Nat.zero_le _, Nat.zero_le _⟩) (fun r_2 e_2 => ?_)
  subst e_2
  refine lv_iconst (v := 2) hx hb dX8_gains_5 (by decide) ?_
  refine lv_iadd hx hb dX8_gains_6 ?_
  exact n_pret hx hb hr hlk rfl rfl dX8_gains_7
set_option maxHeartbeats 4000000 in
theorem tJX8_high_3 (l : Launch) (G : nG) (ad : Nat → Nat) (w w1 w2 w3 : rw84) (X : mM) (sp : xSp) (sh : xSh) (k : Nat) (hk : k < 8)  : Met l yX8_high (ws_ yX8_high cX8_high 1 (some .int)) { frames := 2, cells := 0, slots := 0, locals := 41 } (va_Pc [.ref (ad (200 + (8 * 3 + k)))] (nC G (xE G ad (xV w w1 w2 w3) X sp sh))) (vp_Si (fun r => r = plainF w k + 10)) 0 0 (fun _ => False) := by
  refine n_head (by decide) (Nat.le_of_ble_eq_true rfl) ?_
  intro p e s m below meth c ls hx hb hr hlk hml hown hts hB0 hl
  have hown : s.vm.findClass "LineCalls$Lock" = some m.cls := hown
  have hw := nS.start hB0
  have hl : lv_has ls 1 [(0, .ref (ad (200 + (8 * 3 + k))))] := hl
  refine lv_aload_n hx hb dX8_high_0 rfl (lv_at hl 0 rfl) ?_
  refine n_callp (va_runSU (hw.cls (ci := 9) (q := (RX9, TX9, 4)) rfl) ⟨hx, hb, hml, hown, hts⟩ (tJX6_high_3 l G ad _ _ _ _ _ _ _ _ hk) (va_cwSU 0 hts (lw_SU q608 q585 q351 q583 q99 q622) rfl rfl rfl ⟨by decide, (hdS_X6_high).2.2.2⟩ ⟨by decide, by decide⟩) (hw.preV (k := 200 + (8 * 3 + k)) (xjump 3 k (by decide) hk) rfl) rfl rfl hl.1 rfl (lv_room (by simp [Value.category])) dX8_high_1 ⟨Nat.zero_le _, Nat.zero_le _⟩) (fun r_1 e_1 => ?_)
  subst e_1
  refine lv_bipush (v := 10) hx hb dX8_high_4 (by decide) ?_
  refine lv_iadd hx hb dX8_high_6 ?_
  exact n_pret hx hb hr hlk rfl (by first | rfl | rw []) dX8_high_7
theorem hdS_X9_kind : yX9_kind.cls = "LineCalls$Tower" ∧ yX9_kind.cls ≠ "java/lang/invoke/MethodHandle" ∧ yX9_kind.cls ≠ "java/lang/invoke/VarHandle" ∧ (parseMethodDescriptor yX9_kind.desc).map (fun d => d.parameters.length) = some 0 := by decide +kernel
set_option maxHeartbeats 4000000 in
theorem tJX9_kind_3 (l : Launch) (G : nG) (ad : Nat → Nat) (w w1 w2 w3 : rw84) (X : mM) (sp : xSp) (sh : xSh) (k : Nat) (hk : k < 8)  : Met l yX9_kind (ws_ yX9_kind cX9_kind 1 (some .int)) { frames := 2, cells := 0, slots := 0, locals := 40 } (va_Pc [.ref (ad (200 + (8 * 3 + k)))] (nC G (xE G ad (xV w w1 w2 w3) X sp sh))) (vp_Si (fun r => r = 3)) 0 0 (fun _ => False) := by
  refine n_head (by decide) (Nat.le_of_ble_eq_true rfl) ?_
  intro p e s m below meth c ls hx hb hr hlk hml hown hts hB0 hl
  have hown : s.vm.findClass "LineCalls$Tower" = some m.cls := hown
  have hw := nS.start hB0
  have hl : lv_has ls 1 [(0, .ref (ad (200 + (8 * 3 + k))))] := hl
  refine lv_iconst (v := 1) hx hb dX9_kind_0 (by decide) ?_
  refine lv_aload_n hx hb dX9_kind_1 rfl (lv_at hl 0 rfl) ?_
  refine n_callp (va_runSU (hw.cls (ci := 9) (q := (RX9, TX9, 4)) rfl) ⟨hx, hb, hml, hown, hts⟩ (tJX8_kind_3 l G ad _ _ _ _ _ _ _ _ hk) (va_cwSU 0 hts (lw_SU q570 q1688 q364 q571 q101 q572) rfl rfl rfl ⟨by decide, (hdS_X8_kind).2.2.2⟩ ⟨by decide, by decide⟩) (hw.preV (k := 200 + (8 * 3 + k)) (xjump 3 k (by decide) hk) rfl) rfl rfl hl.1 rfl (lv_room (by simp [Value.category])) dX9_kind_2 ⟨Nat.zero_le _, Nat.zero_le _⟩) (fun r_2 e_2 => ?_)
  subst e_2
  refine lv_iadd hx hb dX9_kind_5 ?_
  exact n_pret hx hb hr hlk rfl rfl dX9_kind_6
theorem hdS_X9_high : yX9_high.cls = "LineCalls$Tower" ∧ yX9_high.cls ≠ "java/lang/invoke/MethodHandle" ∧ yX9_high.cls ≠ "java/lang/invoke/VarHandle" ∧ (parseMethodDescriptor yX9_high.desc).map (fun d => d.parameters.length) = some 0 := by decide +kernel
set_option maxHeartbeats 4000000 in
theorem tJX9_high_3 (l : Launch) (G : nG) (ad : Nat → Nat) (w w1 w2 w3 : rw84) (X : mM) (sp : xSp) (sh : xSh) (k : Nat) (hk : k < 8)  : Met l yX9_high (ws_ yX9_high cX9_high 1 (some .int)) { frames := 3, cells := 0, slots := 0, locals := 61 } (va_Pc [.ref (ad (200 + (8 * 3 + k)))] (nC G (xE G ad (xV w w1 w2 w3) X sp sh))) (vp_Si (fun r => r = plainF w k + 10 + 5 - w 4)) 0 0 (fun _ => False) := by
  refine n_head (by decide) (Nat.le_of_ble_eq_true rfl) ?_
  intro p e s m below meth c ls hx hb hr hlk hml hown hts hB0 hl
  have hown : s.vm.findClass "LineCalls$Tower" = some m.cls := hown
  have hw := nS.start hB0
  have hl : lv_has ls 1 [(0, .ref (ad (200 + (8 * 3 + k))))] := hl
  refine lv_aload_n hx hb dX9_high_0 rfl (lv_at hl 0 rfl) ?_
  refine n_callp (va_runSU (hw.cls (ci := 9) (q := (RX9, TX9, 4)) rfl) ⟨hx, hb, hml, hown, hts⟩ (tJX8_high_3 l G ad _ _ _ _ _ _ _ _ hk) (va_cwSU 0 hts (lw_SU q605 q1691 q364 q606 q101 q607) rfl rfl rfl ⟨by decide, (hdS_X8_high).2.2.2⟩ ⟨by decide, by decide⟩) (hw.preV (k := 200 + (8 * 3 + k)) (xjump 3 k (by decide) hk) rfl) rfl rfl hl.1 rfl (lv_room (by simp [Value.category])) dX9_high_1 ⟨Nat.zero_le _, Nat.zero_le _⟩) (fun r_1 e_1 => ?_)
  subst e_1
  refine lv_iconst (v := 5) hx hb dX9_high_4 (by decide) ?_
  refine lv_iadd hx hb dX9_high_5 ?_
  refine lv_aload_n hx hb dX9_high_6 rfl (lv_at hl 0 rfl) ?_
  refine n_get (k := 200 + (8 * 3 + k)) hx hb hts in_X9 hown hw (xjump 3 k (by decide) hk) rfl 3 (by decide) q358 rfl dX9_high_7 ?_
  refine n_getN (k := 64) hx hb hts in_X0 hown hw (xp 64) rfl 3 (by decide) q416 rfl dX9_high_10 ?_
  refine n_getN (k := 16 * 0 + 0) hx hb hts in_X4 hown hw (xv0 0) rfl 2 (by decide) q228 rfl dX9_high_13 ?_
  refine lv_iconst (v := 0) hx hb dX9_high_16 (by decide) ?_
  refine n_iald (k := 16 * 0 + 5) (j := 0) hx hb hw (xv0 5) rfl (by decide) (by decide) dX9_high_17 ?_
  refine lv_isub hx hb dX9_high_18 ?_
  exact n_pret hx hb hr hlk rfl (by first | rfl | rw []) dX9_high_19
set_option maxHeartbeats 4000000 in
theorem tJX6_told_4 (l : Launch) (G : nG) (ad : Nat → Nat) (w w1 w2 w3 : rw84) (X : mM) (sp : xSp) (sh : xSh) (k : Nat) (hk : k < 8) (f : Nat) (hf : f < 5) : Met l yX6_told (ws_ yX6_told cX6_told 2 (some .int)) { frames := 0, cells := 0, slots := 0, locals := 0 } (va_Pc [.ref (ad (200 + (8 * 4 + k))), .int (nI f)] (nC G (xE G ad (xV w w1 w2 w3) X sp sh))) (vp_Si (fun r => r = w (44 + 5 * k + f))) 0 0 (fun _ => False) := by
  refine n_head (by decide) (Nat.le_of_ble_eq_true rfl) ?_
  intro p e s m below meth c ls hx hb hr hlk hml hown hts hB0 hl
  have hown : s.vm.findClass "LineCalls$Jumper" = some m.cls := hown
  have hw := nS.start hB0
  have hl : lv_has ls 2 [(0, .ref (ad (200 + (8 * 4 + k)))), (1, .int (nI f))] := hl
  refine lv_aload_n hx hb dX6_told_0 rfl (lv_at hl 0 rfl) ?_
  refine n_get (k := 200 + (8 * 4 + k)) hx hb hts in_X10 hown hw (xjump 4 k (by decide) hk) rfl 1 (by decide) q332 rfl dX6_told_1 ?_
  refine n_getN (k := 64) hx hb hts in_X0 hown hw (xp 64) rfl 3 (by decide) q415 rfl dX6_told_4 ?_
  refine n_getN (k := 16 * 0 + 0) hx hb hts in_X4 hown hw (xv0 0) rfl 6 (by decide) q241 rfl dX6_told_7 ?_
  refine lv_iload_n hx hb dX6_told_10 rfl (lv_at hl 1 rfl) ?_
  refine n_aaldS (k := 16 * 0 + 7) (t := 4) (j := f) (b := ad (16 * 0 + (8 + f))) hx hb hw (xv0 7) (Or.inr rfl) rfl (by omega) (by decide) rfl dX6_told_11 ?_
  refine lv_aload_n hx hb dX6_told_12 rfl (lv_at hl 0 rfl) ?_
  refine n_get (k := 200 + (8 * 4 + k)) hx hb hts in_X10 hown hw (xjump 4 k (by decide) hk) rfl 0 (by decide) q330 rfl dX6_told_13 ?_
  refine n_iald (k := 16 * 0 + (8 + f)) (j := k) hx hb hw (xv0_row hf) rfl (by omega) (by decide) dX6_told_16 ?_
  exact n_pret hx hb hr hlk rfl rfl dX6_told_17
set_option maxHeartbeats 4000000 in
theorem tJX6_kind_4 (l : Launch) (G : nG) (ad : Nat → Nat) (w w1 w2 w3 : rw84) (X : mM) (sp : xSp) (sh : xSh) (k : Nat) (hk : k < 8)  : Met l yX6_kind (ws_ yX6_kind cX6_kind 1 (some .int)) { frames := 0, cells := 0, slots := 0, locals := 0 } (va_Pc [.ref (ad (200 + (8 * 4 + k)))] (nC G (xE G ad (xV w w1 w2 w3) X sp sh))) (vp_Si (fun r => r = 0)) 0 0 (fun _ => False) := by
  refine n_head (by decide) (Nat.le_of_ble_eq_true rfl) ?_
  intro p e s m below meth c ls hx hb hr hlk hml hown hts hB0 hl
  have hown : s.vm.findClass "LineCalls$Jumper" = some m.cls := hown
  have hw := nS.start hB0
  have hl : lv_has ls 1 [(0, .ref (ad (200 + (8 * 4 + k))))] := hl
  refine lv_iconst (v := 0) hx hb dX6_kind_0 (by decide) ?_
  exact n_pret hx hb hr hlk rfl rfl dX6_kind_1
set_option maxHeartbeats 4000000 in
theorem tJX6_tires_4 (l : Launch) (G : nG) (ad : Nat → Nat) (w w1 w2 w3 : rw84) (X : mM) (sp : xSp) (sh : xSh) (k : Nat) (hk : k < 8)  : Met l yX6_tires (ws_ yX6_tires cX6_tires 1 (some .int)) { frames := 0, cells := 0, slots := 0, locals := 0 } (va_Pc [.ref (ad (200 + (8 * 4 + k)))] (nC G (xE G ad (xV w w1 w2 w3) X sp sh))) (vp_Si (fun r => r = 5)) 0 0 (fun _ => False) := by
  refine n_head (by decide) (Nat.le_of_ble_eq_true rfl) ?_
  intro p e s m below meth c ls hx hb hr hlk hml hown hts hB0 hl
  have hown : s.vm.findClass "LineCalls$Jumper" = some m.cls := hown
  have hw := nS.start hB0
  have hl : lv_has ls 1 [(0, .ref (ad (200 + (8 * 4 + k))))] := hl
  refine lv_iconst (v := 5) hx hb dX6_tires_0 (by decide) ?_
  exact n_pret hx hb hr hlk rfl rfl dX6_tires_1
set_option maxHeartbeats 4000000 in
theorem tJX6_gains_4 (l : Launch) (G : nG) (ad : Nat → Nat) (w w1 w2 w3 : rw84) (X : mM) (sp : xSp) (sh : xSh) (k : Nat) (hk : k < 8) (v : Int32) : Met l yX6_gains (ws_ yX6_gains cX6_gains 2 (some .int)) { frames := 0, cells := 0, slots := 0, locals := 0 } (va_Pc [.ref (ad (200 + (8 * 4 + k))), .int v] (nC G (xE G ad (xV w w1 w2 w3) X sp sh))) (vp_Si (fun r => r = v)) 0 0 (fun _ => False) := by
  refine n_head (by decide) (Nat.le_of_ble_eq_true rfl) ?_
  intro p e s m below meth c ls hx hb hr hlk hml hown hts hB0 hl
  have hown : s.vm.findClass "LineCalls$Jumper" = some m.cls := hown
  have hw := nS.start hB0
  have hl : lv_has ls 2 [(0, .ref (ad (200 + (8 * 4 + k)))), (1, .int v)] := hl
  refine lv_iload_n hx hb dX6_gains_0 rfl (lv_at hl 1 rfl) ?_
  exact n_pret hx hb hr hlk rfl rfl dX6_gains_1
set_option maxHeartbeats 4000000 in
theorem tJX6_high_4 (l : Launch) (G : nG) (ad : Nat → Nat) (w w1 w2 w3 : rw84) (X : mM) (sp : xSp) (sh : xSh) (k : Nat) (hk : k < 8)  : Met l yX6_high (ws_ yX6_high cX6_high 1 (some .int)) { frames := 1, cells := 0, slots := 0, locals := 21 } (va_Pc [.ref (ad (200 + (8 * 4 + k)))] (nC G (xE G ad (xV w w1 w2 w3) X sp sh))) (vp_Si (fun r => r = plainF w k)) 0 0 (fun _ => False) := by
  refine n_head (by decide) (Nat.le_of_ble_eq_true rfl) ?_
  intro p e s m below meth c ls hx hb hr hlk hml hown hts hB0 hl
  have hown : s.vm.findClass "LineCalls$Jumper" = some m.cls := hown
  have hw := nS.start hB0
  have hl : lv_has ls 1 [(0, .ref (ad (200 + (8 * 4 + k))))] := hl
  refine lv_iconst (v := 0) hx hb dX6_high_0 (by decide) ?_
  refine lv_aload_n hx hb dX6_high_1 rfl (lv_at hl 0 rfl) ?_
  refine lv_iconst (v := 1) hx hb dX6_high_2 (by decide) ?_
  refine n_callp (va_runU ⟨hx, hb, hml, hown, hts⟩ (tJX6_told_4 l G ad _ _ _ _ _ _ _ _ hk (1) (by decide)) (va_cwU 1 hts (lw_U q623 q1692 q1694 q613 q99 q614) rfl rfl rfl rfl (hdS_X6_told).2 ⟨by decide, by decide⟩) (hw.preV (k := 200 + (8 * 4 + k)) (xjump 4 k (by decide) hk) rfl) rfl rfl hl.1 rfl (lv_room (by simp [Value.category])) dX6_high_3 ⟨Nat.zero_le _, Nat.zero_le _⟩) (fun r_3 e_3 => ?_)
  subst e_3
  refine lv_aload_n hx hb dX6_high_6 rfl (lv_at hl 0 rfl) ?_
  refine lv_iconst (v := 2) hx hb dX6_high_7 (by decide) ?_
  refine n_callp (va_runU ⟨hx, hb, hml, hown, hts⟩ (tJX6_told_4 l G ad _ _ _ _ _ _ _ _ hk (2) (by decide)) (va_cwU 1 hts (lw_U q623 q1692 q1694 q613 q99 q614) rfl rfl rfl rfl (hdS_X6_told).2 ⟨by decide, by decide⟩) (hw.preV (k := 200 + (8 * 4 + k)) (xjump 4 k (by decide) hk) rfl) rfl rfl hl.1 rfl (lv_room (by simp [Value.category])) dX6_high_8 ⟨Nat.zero_le _, Nat.zero_le _⟩) (fun r_8 e_8 => ?_)
  subst e_8
  refine lv_iconst (v := 4) hx hb dX6_high_11 (by decide) ?_
  refine lv_idiv hx hb dX6_high_12 (by decide) ?_
  refine lv_isub hx hb dX6_high_13 ?_
  refine va_mmax hx hb (hml.trans hl.1.symm) hown (hts _ q624) (hts _ q625) (hts _ q108) (hts _ q626) (by decide) (by simp [Value.category]) (Nat.zero_le _) (Nat.zero_le _) dX6_high_14 ?_
  exact n_pret hx hb hr hlk rfl (by first | rfl | rw []) dX6_high_17
set_option maxHeartbeats 4000000 in
theorem tJX8_kind_4 (l : Launch) (G : nG) (ad : Nat → Nat) (w w1 w2 w3 : rw84) (X : mM) (sp : xSp) (sh : xSh) (k : Nat) (hk : k < 8)  : Met l yX8_kind (ws_ yX8_kind cX8_kind 1 (some .int)) { frames := 1, cells := 0, slots := 0, locals := 20 } (va_Pc [.ref (ad (200 + (8 * 4 + k)))] (nC G (xE G ad (xV w w1 w2 w3) X sp sh))) (vp_Si (fun r => r = 2)) 0 0 (fun _ => False) := by
  refine n_head (by decide) (Nat.le_of_ble_eq_true rfl) ?_
  intro p e s m below meth c ls hx hb hr hlk hml hown hts hB0 hl
  have hown : s.vm.findClass "LineCalls$Lock" = some m.cls := hown
  have hw := nS.start hB0
  have hl : lv_has ls 1 [(0, .ref (ad (200 + (8 * 4 + k))))] := hl
  refine lv_iconst (v := 2) hx hb dX8_kind_0 (by decide) ?_
  refine lv_aload_n hx hb dX8_kind_1 rfl (lv_at hl 0 rfl) ?_
  refine n_callp (va_runSU (hw.cls (ci := 10) (q := (RX10, TX10, 5)) rfl) ⟨hx, hb, hml, hown, hts⟩ (tJX6_kind_4 l G ad _ _ _ _ _ _ _ _ hk) (va_cwSU 0 hts (lw_SU q573 q556 q351 q554 q99 q581) rfl rfl rfl ⟨by decide, (hdS_X6_kind).2.2.2⟩ ⟨by decide, by decide⟩) (hw.preV (k := 200 + (8 * 4 + k)) (xjump 4 k (by decide) hk) rfl) rfl rfl hl.1 rfl (lv_room (by simp [Value.category])) dX8_kind_2 ⟨Nat.zero_le _, Nat.zero_le _⟩) (fun r_2 e_2 => ?_)
  subst e_2
  refine lv_iadd hx hb dX8_kind_5 ?_
  exact n_pret hx hb hr hlk rfl rfl dX8_kind_6
set_option maxHeartbeats 4000000 in
theorem tJX8_tires_4 (l : Launch) (G : nG) (ad : Nat → Nat) (w w1 w2 w3 : rw84) (X : mM) (sp : xSp) (sh : xSh) (k : Nat) (hk : k < 8)  : Met l yX8_tires (ws_ yX8_tires cX8_tires 1 (some .int)) { frames := 1, cells := 0, slots := 0, locals := 20 } (va_Pc [.ref (ad (200 + (8 * 4 + k)))] (nC G (xE G ad (xV w w1 w2 w3) X sp sh))) (vp_Si (fun r => r = 4)) 0 0 (fun _ => False) := by
  refine n_head (by decide) (Nat.le_of_ble_eq_true rfl) ?_
  intro p e s m below meth c ls hx hb hr hlk hml hown hts hB0 hl
  have hown : s.vm.findClass "LineCalls$Lock" = some m.cls := hown
  have hw := nS.start hB0
  have hl : lv_has ls 1 [(0, .ref (ad (200 + (8 * 4 + k))))] := hl
  refine lv_aload_n hx hb dX8_tires_0 rfl (lv_at hl 0 rfl) ?_
  refine n_callp (va_runSU (hw.cls (ci := 10) (q := (RX10, TX10, 5)) rfl) ⟨hx, hb, hml, hown, hts⟩ (tJX6_tires_4 l G ad _ _ _ _ _ _ _ _ hk) (va_cwSU 0 hts (lw_SU q646 q630 q351 q628 q99 q654) rfl rfl rfl ⟨by decide, (hdS_X6_tires).2.2.2⟩ ⟨by decide, by decide⟩) (hw.preV (k := 200 + (8 * 4 + k)) (xjump 4 k (by decide) hk) rfl) rfl rfl hl.1 rfl (lv_room (by simp [Value.category])) dX8_tires_1 ⟨Nat.zero_le _, Nat.zero_le _⟩) (fun r_1 e_1 => ?_)
  subst e_1
  refine lv_iconst (v := 1) hx hb dX8_tires_4 (by decide) ?_
  refine lv_isub hx hb dX8_tires_5 ?_
  exact n_pret hx hb hr hlk rfl rfl dX8_tires_6
set_option maxHeartbeats 4000000 in
theorem tJX8_gains_4 (l : Launch) (G : nG) (ad : Nat → Nat) (w w1 w2 w3 : rw84) (X : mM) (sp : xSp) (sh : xSh) (k : Nat) (hk : k < 8) (v : Int32) : Met l yX8_gains (ws_ yX8_gains cX8_gains 2 (some .int)) { frames := 1, cells := 0, slots := 0, locals := 21 } (va_Pc [.ref (ad (200 + (8 * 4 + k))), .int v] (nC G (xE G ad (xV w w1 w2 w3) X sp sh))) (vp_Si (fun r => r = v + 2)) 0 0 (fun _ => False) := by
  refine n_head (by decide) (Nat.le_of_ble_eq_true rfl) ?_
  intro p e s m below meth c ls hx hb hr hlk hml hown hts hB0 hl
  have hown : s.vm.findClass "LineCalls$Lock" = some m.cls := hown
  have hw := nS.start hB0
  have hl : lv_has ls 2 [(0, .ref (ad (200 + (8 * 4 + k)))), (1, .int v)] := hl
  refine lv_aload_n hx hb dX8_gains_0 rfl (lv_at hl 0 rfl) ?_
  refine lv_iload_n hx hb dX8_gains_1 rfl (lv_at hl 1 rfl) ?_
  refine n_callp (va_runSU (hw.cls (ci := 10) (q := (RX10, TX10, 5)) rfl) ⟨hx, hb, hml, hown, hts⟩ (tJX6_gains_4 l G ad _ _ _ _ _ _ _ _ hk _) (va_cwSU 1 hts (lw_SU q688 q673 q351 q671 q99 q694) rfl rfl rfl ⟨by decide, (hdS_X6_gains).2.2.2⟩ ⟨by decide, by decide⟩) (hw.preV (k := 200 + (8 * 4 + k)) (xjump 4 k (by decide) hk) rfl) rfl rfl hl.1 rfl (lv_room (by simp [Value.category])) dX8_gains_2 ⟨Nat.zero_le _, Nat.zero_le _⟩) (fun r_2 e_2 => ?_)
  subst e_2
  refine lv_iconst (v := 2) hx hb dX8_gains_5 (by decide) ?_
  refine lv_iadd hx hb dX8_gains_6 ?_
  exact n_pret hx hb hr hlk rfl rfl dX8_gains_7
set_option maxHeartbeats 4000000 in
theorem tJX8_high_4 (l : Launch) (G : nG) (ad : Nat → Nat) (w w1 w2 w3 : rw84) (X : mM) (sp : xSp) (sh : xSh) (k : Nat) (hk : k < 8)  : Met l yX8_high (ws_ yX8_high cX8_high 1 (some .int)) { frames := 2, cells := 0, slots := 0, locals := 41 } (va_Pc [.ref (ad (200 + (8 * 4 + k)))] (nC G (xE G ad (xV w w1 w2 w3) X sp sh))) (vp_Si (fun r => r = plainF w k + 10)) 0 0 (fun _ => False) := by
  refine n_head (by decide) (Nat.le_of_ble_eq_true rfl) ?_
  intro p e s m below meth c ls hx hb hr hlk hml hown hts hB0 hl
  have hown : s.vm.findClass "LineCalls$Lock" = some m.cls := hown
  have hw := nS.start hB0
  have hl : lv_has ls 1 [(0, .ref (ad (200 + (8 * 4 + k))))] := hl
  refine lv_aload_n hx hb dX8_high_0 rfl (lv_at hl 0 rfl) ?_
  refine n_callp (va_runSU (hw.cls (ci := 10) (q := (RX10, TX10, 5)) rfl) ⟨hx, hb, hml, hown, hts⟩ (tJX6_high_4 l G ad _ _ _ _ _ _ _ _ hk) (va_cwSU 0 hts (lw_SU q608 q585 q351 q583 q99 q622) rfl rfl rfl ⟨by decide, (hdS_X6_high).2.2.2⟩ ⟨by decide, by decide⟩) (hw.preV (k := 200 + (8 * 4 + k)) (xjump 4 k (by decide) hk) rfl) rfl rfl hl.1 rfl (lv_room (by simp [Value.category])) dX8_high_1 ⟨Nat.zero_le _, Nat.zero_le _⟩) (fun r_1 e_1 => ?_)
  subst e_1
  refine lv_bipush (v := 10) hx hb dX8_high_4 (by decide) ?_
  refine lv_iadd hx hb dX8_high_6 ?_
  exact n_pret hx hb hr hlk rfl (by first | rfl | rw []) dX8_high_7
set_option maxHeartbeats 4000000 in
theorem tJX9_kind_4 (l : Launch) (G : nG) (ad : Nat → Nat) (w w1 w2 w3 : rw84) (X : mM) (sp : xSp) (sh : xSh) (k : Nat) (hk : k < 8)  : Met l yX9_kind (ws_ yX9_kind cX9_kind 1 (some .int)) { frames := 2, cells := 0, slots := 0, locals := 40 } (va_Pc [.ref (ad (200 + (8 * 4 + k)))] (nC G (xE G ad (xV w w1 w2 w3) X sp sh))) (vp_Si (fun r => r = 3)) 0 0 (fun _ => False) := by
  refine n_head (by decide) (Nat.le_of_ble_eq_true rfl) ?_
  intro p e s m below meth c ls hx hb hr hlk hml hown hts hB0 hl
  have hown : s.vm.findClass "LineCalls$Tower" = some m.cls := hown
  have hw := nS.start hB0
  have hl : lv_has ls 1 [(0, .ref (ad (200 + (8 * 4 + k))))] := hl
  refine lv_iconst (v := 1) hx hb dX9_kind_0 (by decide) ?_
  refine lv_aload_n hx hb dX9_kind_1 rfl (lv_at hl 0 rfl) ?_
  refine n_callp (va_runSU (hw.cls (ci := 10) (q := (RX10, TX10, 5)) rfl) ⟨hx, hb, hml, hown, hts⟩ (tJX8_kind_4 l G ad _ _ _ _ _ _ _ _ hk) (va_cwSU 0 hts (lw_SU q570 q1688 q364 q571 q101 q572) rfl rfl rfl ⟨by decide, (hdS_X8_kind).2.2.2⟩ ⟨by decide, by decide⟩) (hw.preV (k := 200 + (8 * 4 + k)) (xjump 4 k (by decide) hk) rfl) rfl rfl hl.1 rfl (lv_room (by simp [Value.category])) dX9_kind_2 ⟨Nat.zero_le _, Nat.zero_le _⟩) (fun r_2 e_2 => ?_)
  subst e_2
  refine lv_iadd hx hb dX9_kind_5 ?_
  exact n_pret hx hb hr hlk rfl rfl dX9_kind_6
set_option maxHeartbeats 4000000 in
theorem tJX9_high_4 (l : Launch) (G : nG) (ad : Nat → Nat) (w w1 w2 w3 : rw84) (X : mM) (sp : xSp) (sh : xSh) (k : Nat) (hk : k < 8)  : Met l yX9_high (ws_ yX9_high cX9_high 1 (some .int)) { frames := 3, cells := 0, slots := 0, locals := 61 } (va_Pc [.ref (ad (200 + (8 * 4 + k)))] (nC G (xE G ad (xV w w1 w2 w3) X sp sh))) (vp_Si (fun r => r = plainF w k + 10 + 5 - w 4)) 0 0 (fun _ => False) := by
  refine n_head (by decide) (Nat.le_of_ble_eq_true rfl) ?_
  intro p e s m below meth c ls hx hb hr hlk hml hown hts hB0 hl
  have hown : s.vm.findClass "LineCalls$Tower" = some m.cls := hown
  have hw := nS.start hB0
  have hl : lv_has ls 1 [(0, .ref (ad (200 + (8 * 4 + k))))] := hl
  refine lv_aload_n hx hb dX9_high_0 rfl (lv_at hl 0 rfl) ?_
  refine n_callp (va_runSU (hw.cls (ci := 10) (q := (RX10, TX10, 5)) rfl) ⟨hx, hb, hml, hown, hts⟩ (tJX8_high_4 l G ad _ _ _ _ _ _ _ _ hk) (va_cwSU 0 hts (lw_SU q605 q1691 q364 q606 q101 q607) rfl rfl rfl ⟨by decide, (hdS_X8_high).2.2.2⟩ ⟨by decide, by decide⟩) (hw.preV (k := 200 + (8 * 4 + k)) (xjump 4 k (by decide) hk) rfl) rfl rfl hl.1 rfl (lv_room (by simp [Value.category])) dX9_high_1 ⟨Nat.zero_le _, Nat.zero_le _⟩) (fun r_1 e_1 => ?_)
  subst e_1
  refine lv_iconst (v := 5) hx hb dX9_high_4 (by decide) ?_
  refine lv_iadd hx hb dX9_high_5 ?_
  refine lv_aload_n hx hb dX9_high_6 rfl (lv_at hl 0 rfl) ?_
  refine n_get (k := 200 + (8 * 4 + k)) hx hb hts in_X10 hown hw (xjump 4 k (by decide) hk) rfl 3 (by decide) q358 rfl dX9_high_7 ?_
  refine n_getN (k := 64) hx hb hts in_X0 hown hw (xp 64) rfl 3 (by decide) q416 rfl dX9_high_10 ?_
  refine n_getN (k := 16 * 0 + 0) hx hb hts in_X4 hown hw (xv0 0) rfl 2 (by decide) q228 rfl dX9_high_13 ?_
  refine lv_iconst (v := 0) hx hb dX9_high_16 (by decide) ?_
  refine n_iald (k := 16 * 0 + 5) (j := 0) hx hb hw (xv0 5) rfl (by decide) (by decide) dX9_high_17 ?_
  refine lv_isub hx hb dX9_high_18 ?_
  exact n_pret hx hb hr hlk rfl (by first | rfl | rw []) dX9_high_19
theorem hdS_X10_kind : yX10_kind.cls = "LineCalls$Giant" ∧ yX10_kind.cls ≠ "java/lang/invoke/MethodHandle" ∧ yX10_kind.cls ≠ "java/lang/invoke/VarHandle" ∧ (parseMethodDescriptor yX10_kind.desc).map (fun d => d.parameters.length) = some 0 := by decide +kernel
set_option maxHeartbeats 4000000 in
theorem tJX10_kind_4 (l : Launch) (G : nG) (ad : Nat → Nat) (w w1 w2 w3 : rw84) (X : mM) (sp : xSp) (sh : xSh) (k : Nat) (hk : k < 8)  : Met l yX10_kind (ws_ yX10_kind cX10_kind 1 (some .int)) { frames := 3, cells := 0, slots := 0, locals := 60 } (va_Pc [.ref (ad (200 + (8 * 4 + k)))] (nC G (xE G ad (xV w w1 w2 w3) X sp sh))) (vp_Si (fun r => r = 4)) 0 0 (fun _ => False) := by
  refine n_head (by decide) (Nat.le_of_ble_eq_true rfl) ?_
  intro p e s m below meth c ls hx hb hr hlk hml hown hts hB0 hl
  have hown : s.vm.findClass "LineCalls$Giant" = some m.cls := hown
  have hw := nS.start hB0
  have hl : lv_has ls 1 [(0, .ref (ad (200 + (8 * 4 + k))))] := hl
  refine lv_iconst (v := 1) hx hb dX10_kind_0 (by decide) ?_
  refine lv_aload_n hx hb dX10_kind_1 rfl (lv_at hl 0 rfl) ?_
  refine n_callp (va_runSU (hw.cls (ci := 10) (q := (RX10, TX10, 5)) rfl) ⟨hx, hb, hml, hown, hts⟩ (tJX9_kind_4 l G ad _ _ _ _ _ _ _ _ hk) (va_cwSU 0 hts (lw_SU q567 q1687 q378 q568 q102 q569) rfl rfl rfl ⟨by decide, (hdS_X9_kind).2.2.2⟩ ⟨by decide, by decide⟩) (hw.preV (k := 200 + (8 * 4 + k)) (xjump 4 k (by decide) hk) rfl) rfl rfl hl.1 rfl (lv_room (by simp [Value.category])) dX10_kind_2 ⟨Nat.zero_le _, Nat.zero_le _⟩) (fun r_2 e_2 => ?_)
  subst e_2
  refine lv_iadd hx hb dX10_kind_5 ?_
  exact n_pret hx hb hr hlk rfl rfl dX10_kind_6
theorem hdS_X10_tires : yX10_tires.cls = "LineCalls$Giant" ∧ yX10_tires.cls ≠ "java/lang/invoke/MethodHandle" ∧ yX10_tires.cls ≠ "java/lang/invoke/VarHandle" ∧ (parseMethodDescriptor yX10_tires.desc).map (fun d => d.parameters.length) = some 0 := by decide +kernel
set_option maxHeartbeats 4000000 in
theorem tJX10_tires_4 (l : Launch) (G : nG) (ad : Nat → Nat) (w w1 w2 w3 : rw84) (X : mM) (sp : xSp) (sh : xSh) (k : Nat) (hk : k < 8)  : Met l yX10_tires (ws_ yX10_tires cX10_tires 1 (some .int)) { frames := 2, cells := 0, slots := 0, locals := 40 } (va_Pc [.ref (ad (200 + (8 * 4 + k)))] (nC G (xE G ad (xV w w1 w2 w3) X sp sh))) (vp_Si (fun r => r = 8)) 0 0 (fun _ => False) := by
  refine n_head (by decide) (Nat.le_of_ble_eq_true rfl) ?_
  intro p e s m below meth c ls hx hb hr hlk hml hown hts hB0 hl
  have hown : s.vm.findClass "LineCalls$Giant" = some m.cls := hown
  have hw := nS.start hB0
  have hl : lv_has ls 1 [(0, .ref (ad (200 + (8 * 4 + k))))] := hl
  refine lv_iconst (v := 2) hx hb dX10_tires_0 (by decide) ?_
  refine lv_aload_n hx hb dX10_tires_1 rfl (lv_at hl 0 rfl) ?_
  refine n_callp (x_runSI (S0 := "LineCalls$Tower") (hw.cls (ci := 10) (q := (RX10, TX10, 5)) rfl) ⟨hx, hb, hml, hown, hts⟩ (tJX8_tires_4 l G ad _ _ _ _ _ _ _ _ hk) rfl rfl ⟨by decide, by decide⟩ q641 q642 q378 q364 q644 q101 q645 (lw_meth q645) (by decide) (hdS_X8_tires).2.2.2 (hw.preV (k := 200 + (8 * 4 + k)) (xjump 4 k (by decide) hk) rfl) rfl rfl hl.1 rfl (lv_room (by simp [Value.category])) dX10_tires_2 ⟨Nat.zero_le _, Nat.zero_le _⟩) (fun r_2 e_2 => ?_)
  subst e_2
  refine lv_imul hx hb dX10_tires_5 ?_
  exact n_pret hx hb hr hlk rfl rfl dX10_tires_6
theorem hdS_X10_gains : yX10_gains.cls = "LineCalls$Giant" ∧ yX10_gains.cls ≠ "java/lang/invoke/MethodHandle" ∧ yX10_gains.cls ≠ "java/lang/invoke/VarHandle" ∧ (parseMethodDescriptor yX10_gains.desc).map (fun d => d.parameters.length) = some 1 := by decide +kernel
set_option maxHeartbeats 4000000 in
theorem tJX10_gains_4 (l : Launch) (G : nG) (ad : Nat → Nat) (w w1 w2 w3 : rw84) (X : mM) (sp : xSp) (sh : xSh) (k : Nat) (hk : k < 8) (v : Int32) : Met l yX10_gains (ws_ yX10_gains cX10_gains 2 (some .int)) { frames := 2, cells := 0, slots := 0, locals := 42 } (va_Pc [.ref (ad (200 + (8 * 4 + k))), .int v] (nC G (xE G ad (xV w w1 w2 w3) X sp sh))) (vp_Si (fun r => r = mx 0 (v + 2 - w 4))) 0 0 (fun _ => False) := by
  refine n_head (by decide) (Nat.le_of_ble_eq_true rfl) ?_
  intro p e s m below meth c ls hx hb hr hlk hml hown hts hB0 hl
  have hown : s.vm.findClass "LineCalls$Giant" = some m.cls := hown
  have hw := nS.start hB0
  have hl : lv_has ls 2 [(0, .ref (ad (200 + (8 * 4 + k)))), (1, .int v)] := hl
  refine lv_iconst (v := 0) hx hb dX10_gains_0 (by decide) ?_
  refine lv_aload_n hx hb dX10_gains_1 rfl (lv_at hl 0 rfl) ?_
  refine lv_iload_n hx hb dX10_gains_2 rfl (lv_at hl 1 rfl) ?_
  refine n_callp (x_runSI (S0 := "LineCalls$Tower") (hw.cls (ci := 10) (q := (RX10, TX10, 5)) rfl) ⟨hx, hb, hml, hown, hts⟩ (tJX8_gains_4 l G ad _ _ _ _ _ _ _ _ hk _) rfl rfl ⟨by decide, by decide⟩ q683 q684 q378 q364 q686 q101 q687 (lw_meth q687) (by decide) (hdS_X8_gains).2.2.2 (hw.preV (k := 200 + (8 * 4 + k)) (xjump 4 k (by decide) hk) rfl) rfl rfl hl.1 rfl (lv_room (by simp [Value.category])) dX10_gains_3 ⟨Nat.zero_le _, Nat.zero_le _⟩) (fun r_3 e_3 => ?_)
  subst e_3
  refine lv_aload_n hx hb dX10_gains_6 rfl (lv_at hl 0 rfl) ?_
  refine n_get (k := 200 + (8 * 4 + k)) hx hb hts in_X10 hown hw (xjump 4 k (by decide) hk) rfl 4 (by decide) q371 rfl dX10_gains_7 ?_
  refine n_getN (k := 64) hx hb hts in_X0 hown hw (xp 64) rfl 3 (by decide) q417 rfl dX10_gains_10 ?_
  refine n_getN (k := 16 * 0 + 0) hx hb hts in_X4 hown hw (xv0 0) rfl 2 (by decide) q229 rfl dX10_gains_13 ?_
  refine lv_iconst (v := 0) hx hb dX10_gains_16 (by decide) ?_
  refine n_iald (k := 16 * 0 + 5) (j := 0) hx hb hw (xv0 5) rfl (by decide) (by decide) dX10_gains_17 ?_
  refine lv_isub hx hb dX10_gains_18 ?_
  refine va_mmax hx hb (hml.trans hl.1.symm) hown (hts _ q689) (hts _ q625) (hts _ q108) (hts _ q626) (by decide) (by simp [Value.category]) (Nat.zero_le _) (Nat.zero_le _) dX10_gains_19 ?_
  exact n_pret hx hb hr hlk rfl rfl dX10_gains_22
theorem hdS_X10_high : yX10_high.cls = "LineCalls$Giant" ∧ yX10_high.cls ≠ "java/lang/invoke/MethodHandle" ∧ yX10_high.cls ≠ "java/lang/invoke/VarHandle" ∧ (parseMethodDescriptor yX10_high.desc).map (fun d => d.parameters.length) = some 0 := by decide +kernel
set_option maxHeartbeats 4000000 in
theorem tJX10_high_4 (l : Launch) (G : nG) (ad : Nat → Nat) (w w1 w2 w3 : rw84) (X : mM) (sp : xSp) (sh : xSh) (k : Nat) (hk : k < 8)  : Met l yX10_high (ws_ yX10_high cX10_high 1 (some .int)) { frames := 4, cells := 0, slots := 0, locals := 81 } (va_Pc [.ref (ad (200 + (8 * 4 + k)))] (nC G (xE G ad (xV w w1 w2 w3) X sp sh))) (vp_Si (fun r => r = (plainF w k + 10 + 5 - w 4) + (if 20 ≤ w (44 + 5 * k + 2) then 0 else 10))) 0 0 (fun _ => False) := by
  refine n_head (by decide) (Nat.le_of_ble_eq_true rfl) ?_
  intro p e s m below meth c ls hx hb hr hlk hml hown hts hB0 hl
  have hown : s.vm.findClass "LineCalls$Giant" = some m.cls := hown
  have hw := nS.start hB0
  have hl : lv_has ls 1 [(0, .ref (ad (200 + (8 * 4 + k))))] := hl
  refine lv_aload_n hx hb dX10_high_0 rfl (lv_at hl 0 rfl) ?_
  refine n_callp (va_runSU (hw.cls (ci := 10) (q := (RX10, TX10, 5)) rfl) ⟨hx, hb, hml, hown, hts⟩ (tJX9_high_4 l G ad _ _ _ _ _ _ _ _ hk) (va_cwSU 0 hts (lw_SU q602 q1690 q378 q603 q102 q604) rfl rfl rfl ⟨by decide, (hdS_X9_high).2.2.2⟩ ⟨by decide, by decide⟩) (hw.preV (k := 200 + (8 * 4 + k)) (xjump 4 k (by decide) hk) rfl) rfl rfl hl.1 rfl (lv_room (by simp [Value.category])) dX10_high_1 ⟨Nat.zero_le _, Nat.zero_le _⟩) (fun r_1 e_1 => ?_)
  subst e_1
  refine lv_aload_n hx hb dX10_high_4 rfl (lv_at hl 0 rfl) ?_
  refine lv_iconst (v := 2) hx hb dX10_high_5 (by decide) ?_
  refine n_callp (va_runU ⟨hx, hb, hml, hown, hts⟩ (tJX6_told_4 l G ad _ _ _ _ _ _ _ _ hk (2) (by decide)) (va_cwU 1 hts (lw_U q609 q610 q612 q613 q99 q614) rfl rfl rfl rfl (hdS_X6_told).2 ⟨by decide, by decide⟩) (hw.preV (k := 200 + (8 * 4 + k)) (xjump 4 k (by decide) hk) rfl) rfl rfl hl.1 rfl (lv_room (by simp [Value.category])) dX10_high_6 ⟨Nat.zero_le _, Nat.zero_le _⟩) (fun r_6 e_6 => ?_)
  subst e_6
  refine lv_bipush (v := 20) hx hb dX10_high_9 (by decide) ?_
  refine lv_icmp_ge (tgt := 19) hx hb dX10_high_11 (by decide) (fun c_11 => ?_) (fun c_11 => ?_)
  · skip
    refine lv_iconst (v := 0) hx hb dX10_high_19 (by decide) ?_
    refine lv_iadd hx hb dX10_high_20 ?_
    exact n_pret hx hb hr hlk rfl (by first | rfl | rw [if_pos c_11]) dX10_high_21
  · skip
    refine lv_bipush (v := 10) hx hb dX10_high_14 (by decide) ?_
    refine lv_goto (tgt := 20) hx hb dX10_high_16 (by decide) ?_
    refine lv_iadd hx hb dX10_high_20 ?_
    exact n_pret hx hb hr hlk rfl (by first | rfl | rw [if_neg c_11]) dX10_high_21
set_option maxHeartbeats 4000000 in
theorem tJX6_told_5 (l : Launch) (G : nG) (ad : Nat → Nat) (w w1 w2 w3 : rw84) (X : mM) (sp : xSp) (sh : xSh) (k : Nat) (hk : k < 8) (f : Nat) (hf : f < 5) : Met l yX6_told (ws_ yX6_told cX6_told 2 (some .int)) { frames := 0, cells := 0, slots := 0, locals := 0 } (va_Pc [.ref (ad (200 + (8 * 5 + k))), .int (nI f)] (nC G (xE G ad (xV w w1 w2 w3) X sp sh))) (vp_Si (fun r => r = w (44 + 5 * k + f))) 0 0 (fun _ => False) := by
  refine n_head (by decide) (Nat.le_of_ble_eq_true rfl) ?_
  intro p e s m below meth c ls hx hb hr hlk hml hown hts hB0 hl
  have hown : s.vm.findClass "LineCalls$Jumper" = some m.cls := hown
  have hw := nS.start hB0
  have hl : lv_has ls 2 [(0, .ref (ad (200 + (8 * 5 + k)))), (1, .int (nI f))] := hl
  refine lv_aload_n hx hb dX6_told_0 rfl (lv_at hl 0 rfl) ?_
  refine n_get (k := 200 + (8 * 5 + k)) hx hb hts in_X11 hown hw (xjump 5 k (by decide) hk) rfl 1 (by decide) q332 rfl dX6_told_1 ?_
  refine n_getN (k := 64) hx hb hts in_X0 hown hw (xp 64) rfl 3 (by decide) q415 rfl dX6_told_4 ?_
  refine n_getN (k := 16 * 0 + 0) hx hb hts in_X4 hown hw (xv0 0) rfl 6 (by decide) q241 rfl dX6_told_7 ?_
  refine lv_iload_n hx hb dX6_told_10 rfl (lv_at hl 1 rfl) ?_
  refine n_aaldS (k := 16 * 0 + 7) (t := 4) (j := f) (b := ad (16 * 0 + (8 + f))) hx hb hw (xv0 7) (Or.inr rfl) rfl (by omega) (by decide) rfl dX6_told_11 ?_
  refine lv_aload_n hx hb dX6_told_12 rfl (lv_at hl 0 rfl) ?_
  refine n_get (k := 200 + (8 * 5 + k)) hx hb hts in_X11 hown hw (xjump 5 k (by decide) hk) rfl 0 (by decide) q330 rfl dX6_told_13 ?_
  refine n_iald (k := 16 * 0 + (8 + f)) (j := k) hx hb hw (xv0_row hf) rfl (by omega) (by decide) dX6_told_16 ?_
  exact n_pret hx hb hr hlk rfl rfl dX6_told_17
set_option maxHeartbeats 4000000 in
theorem tJX6_kind_5 (l : Launch) (G : nG) (ad : Nat → Nat) (w w1 w2 w3 : rw84) (X : mM) (sp : xSp) (sh : xSh) (k : Nat) (hk : k < 8)  : Met l yX6_kind (ws_ yX6_kind cX6_kind 1 (some .int)) { frames := 0, cells := 0, slots := 0, locals := 0 } (va_Pc [.ref (ad (200 + (8 * 5 + k)))] (nC G (xE G ad (xV w w1 w2 w3) X sp sh))) (vp_Si (fun r => r = 0)) 0 0 (fun _ => False) := by
  refine n_head (by decide) (Nat.le_of_ble_eq_true rfl) ?_
  intro p e s m below meth c ls hx hb hr hlk hml hown hts hB0 hl
  have hown : s.vm.findClass "LineCalls$Jumper" = some m.cls := hown
  have hw := nS.start hB0
  have hl : lv_has ls 1 [(0, .ref (ad (200 + (8 * 5 + k))))] := hl
  refine lv_iconst (v := 0) hx hb dX6_kind_0 (by decide) ?_
  exact n_pret hx hb hr hlk rfl rfl dX6_kind_1
set_option maxHeartbeats 4000000 in
theorem tJX6_tires_5 (l : Launch) (G : nG) (ad : Nat → Nat) (w w1 w2 w3 : rw84) (X : mM) (sp : xSp) (sh : xSh) (k : Nat) (hk : k < 8)  : Met l yX6_tires (ws_ yX6_tires cX6_tires 1 (some .int)) { frames := 0, cells := 0, slots := 0, locals := 0 } (va_Pc [.ref (ad (200 + (8 * 5 + k)))] (nC G (xE G ad (xV w w1 w2 w3) X sp sh))) (vp_Si (fun r => r = 5)) 0 0 (fun _ => False) := by
  refine n_head (by decide) (Nat.le_of_ble_eq_true rfl) ?_
  intro p e s m below meth c ls hx hb hr hlk hml hown hts hB0 hl
  have hown : s.vm.findClass "LineCalls$Jumper" = some m.cls := hown
  have hw := nS.start hB0
  have hl : lv_has ls 1 [(0, .ref (ad (200 + (8 * 5 + k))))] := hl
  refine lv_iconst (v := 5) hx hb dX6_tires_0 (by decide) ?_
  exact n_pret hx hb hr hlk rfl rfl dX6_tires_1
set_option maxHeartbeats 4000000 in
theorem tJX6_gains_5 (l : Launch) (G : nG) (ad : Nat → Nat) (w w1 w2 w3 : rw84) (X : mM) (sp : xSp) (sh : xSh) (k : Nat) (hk : k < 8) (v : Int32) : Met l yX6_gains (ws_ yX6_gains cX6_gains 2 (some .int)) { frames := 0, cells := 0, slots := 0, locals := 0 } (va_Pc [.ref (ad (200 + (8 * 5 + k))), .int v] (nC G (xE G ad (xV w w1 w2 w3) X sp sh))) (vp_Si (fun r => r = v)) 0 0 (fun _ => False) := by
  refine n_head (by decide) (Nat.le_of_ble_eq_true rfl) ?_
  intro p e s m below meth c ls hx hb hr hlk hml hown hts hB0 hl
  have hown : s.vm.findClass "LineCalls$Jumper" = some m.cls := hown
  have hw := nS.start hB0
  have hl : lv_has ls 2 [(0, .ref (ad (200 + (8 * 5 + k)))), (1, .int v)] := hl
  refine lv_iload_n hx hb dX6_gains_0 rfl (lv_at hl 1 rfl) ?_
  exact n_pret hx hb hr hlk rfl rfl dX6_gains_1
set_option maxHeartbeats 4000000 in
theorem tJX6_high_5 (l : Launch) (G : nG) (ad : Nat → Nat) (w w1 w2 w3 : rw84) (X : mM) (sp : xSp) (sh : xSh) (k : Nat) (hk : k < 8)  : Met l yX6_high (ws_ yX6_high cX6_high 1 (some .int)) { frames := 1, cells := 0, slots := 0, locals := 21 } (va_Pc [.ref (ad (200 + (8 * 5 + k)))] (nC G (xE G ad (xV w w1 w2 w3) X sp sh))) (vp_Si (fun r => r = plainF w k)) 0 0 (fun _ => False) := by
  refine n_head (by decide) (Nat.le_of_ble_eq_true rfl) ?_
  intro p e s m below meth c ls hx hb hr hlk hml hown hts hB0 hl
  have hown : s.vm.findClass "LineCalls$Jumper" = some m.cls := hown
  have hw := nS.start hB0
  have hl : lv_has ls 1 [(0, .ref (ad (200 + (8 * 5 + k))))] := hl
  refine lv_iconst (v := 0) hx hb dX6_high_0 (by decide) ?_
  refine lv_aload_n hx hb dX6_high_1 rfl (lv_at hl 0 rfl) ?_
  refine lv_iconst (v := 1) hx hb dX6_high_2 (by decide) ?_
  refine n_callp (va_runU ⟨hx, hb, hml, hown, hts⟩ (tJX6_told_5 l G ad _ _ _ _ _ _ _ _ hk (1) (by decide)) (va_cwU 1 hts (lw_U q623 q1692 q1698 q613 q99 q614) rfl rfl rfl rfl (hdS_X6_told).2 ⟨by decide, by decide⟩) (hw.preV (k := 200 + (8 * 5 + k)) (xjump 5 k (by decide) hk) rfl) rfl rfl hl.1 rfl (lv_room (by simp [Value.category])) dX6_high_3 ⟨Nat.zero_le _, Nat.zero_le _⟩) (fun r_3 e_3 => ?_)
  subst e_3
  refine lv_aload_n hx hb dX6_high_6 rfl (lv_at hl 0 rfl) ?_
  refine lv_iconst (v := 2) hx hb dX6_high_7 (by decide) ?_
  refine n_callp (va_runU ⟨hx, hb, hml, hown, hts⟩ (tJX6_told_5 l G ad _ _ _ _ _ _ _ _ hk (2) (by decide)) (va_cwU 1 hts (lw_U q623 q1692 q1698 q613 q99 q614) rfl rfl rfl rfl (hdS_X6_told).2 ⟨by decide, by decide⟩) (hw.preV (k := 200 + (8 * 5 + k)) (xjump 5 k (by decide) hk) rfl) rfl rfl hl.1 rfl (lv_room (by simp [Value.category])) dX6_high_8 ⟨Nat.zero_le _, Nat.zero_le _⟩) (fun r_8 e_8 => ?_)
  subst e_8
  refine lv_iconst (v := 4) hx hb dX6_high_11 (by decide) ?_
  refine lv_idiv hx hb dX6_high_12 (by decide) ?_
  refine lv_isub hx hb dX6_high_13 ?_
  refine va_mmax hx hb (hml.trans hl.1.symm) hown (hts _ q624) (hts _ q625) (hts _ q108) (hts _ q626) (by decide) (by simp [Value.category]) (Nat.zero_le _) (Nat.zero_le _) dX6_high_14 ?_
  exact n_pret hx hb hr hlk rfl (by first | rfl | rw []) dX6_high_17
theorem hdS_X11_kind : yX11_kind.cls = "LineCalls$Rookie" ∧ yX11_kind.cls ≠ "java/lang/invoke/MethodHandle" ∧ yX11_kind.cls ≠ "java/lang/invoke/VarHandle" ∧ (parseMethodDescriptor yX11_kind.desc).map (fun d => d.parameters.length) = some 0 := by decide +kernel
set_option maxHeartbeats 4000000 in
theorem tJX11_kind_5 (l : Launch) (G : nG) (ad : Nat → Nat) (w w1 w2 w3 : rw84) (X : mM) (sp : xSp) (sh : xSh) (k : Nat) (hk : k < 8)  : Met l yX11_kind (ws_ yX11_kind cX11_kind 1 (some .int)) { frames := 1, cells := 0, slots := 0, locals := 20 } (va_Pc [.ref (ad (200 + (8 * 5 + k)))] (nC G (xE G ad (xV w w1 w2 w3) X sp sh))) (vp_Si (fun r => r = 5)) 0 0 (fun _ => False) := by
  refine n_head (by decide) (Nat.le_of_ble_eq_true rfl) ?_
  intro p e s m below meth c ls hx hb hr hlk hml hown hts hB0 hl
  have hown : s.vm.findClass "LineCalls$Rookie" = some m.cls := hown
  have hw := nS.start hB0
  have hl : lv_has ls 1 [(0, .ref (ad (200 + (8 * 5 + k))))] := hl
  refine lv_iconst (v := 5) hx hb dX11_kind_0 (by decide) ?_
  refine lv_aload_n hx hb dX11_kind_1 rfl (lv_at hl 0 rfl) ?_
  refine n_callp (va_runSU (hw.cls (ci := 11) (q := (RX11, TX11, 3)) rfl) ⟨hx, hb, hml, hown, hts⟩ (tJX6_kind_5 l G ad _ _ _ _ _ _ _ _ hk) (va_cwSU 0 hts (lw_SU q579 q556 q390 q554 q99 q581) rfl rfl rfl ⟨by decide, (hdS_X6_kind).2.2.2⟩ ⟨by decide, by decide⟩) (hw.preV (k := 200 + (8 * 5 + k)) (xjump 5 k (by decide) hk) rfl) rfl rfl hl.1 rfl (lv_room (by simp [Value.category])) dX11_kind_2 ⟨Nat.zero_le _, Nat.zero_le _⟩) (fun r_2 e_2 => ?_)
  subst e_2
  refine lv_iadd hx hb dX11_kind_5 ?_
  exact n_pret hx hb hr hlk rfl rfl dX11_kind_6
theorem hdS_X11_tires : yX11_tires.cls = "LineCalls$Rookie" ∧ yX11_tires.cls ≠ "java/lang/invoke/MethodHandle" ∧ yX11_tires.cls ≠ "java/lang/invoke/VarHandle" ∧ (parseMethodDescriptor yX11_tires.desc).map (fun d => d.parameters.length) = some 0 := by decide +kernel
set_option maxHeartbeats 4000000 in
theorem tJX11_tires_5 (l : Launch) (G : nG) (ad : Nat → Nat) (w w1 w2 w3 : rw84) (X : mM) (sp : xSp) (sh : xSh) (k : Nat) (hk : k < 8)  : Met l yX11_tires (ws_ yX11_tires cX11_tires 1 (some .int)) { frames := 1, cells := 0, slots := 0, locals := 20 } (va_Pc [.ref (ad (200 + (8 * 5 + k)))] (nC G (xE G ad (xV w w1 w2 w3) X sp sh))) (vp_Si (fun r => r = 5 + w 5)) 0 0 (fun _ => False) := by
  refine n_head (by decide) (Nat.le_of_ble_eq_true rfl) ?_
  intro p e s m below meth c ls hx hb hr hlk hml hown hts hB0 hl
  have hown : s.vm.findClass "LineCalls$Rookie" = some m.cls := hown
  have hw := nS.start hB0
  have hl : lv_has ls 1 [(0, .ref (ad (200 + (8 * 5 + k))))] := hl
  refine lv_aload_n hx hb dX11_tires_0 rfl (lv_at hl 0 rfl) ?_
  refine n_callp (va_runSU (hw.cls (ci := 11) (q := (RX11, TX11, 3)) rfl) ⟨hx, hb, hml, hown, hts⟩ (tJX6_tires_5 l G ad _ _ _ _ _ _ _ _ hk) (va_cwSU 0 hts (lw_SU q652 q630 q390 q628 q99 q654) rfl rfl rfl ⟨by decide, (hdS_X6_tires).2.2.2⟩ ⟨by decide, by decide⟩) (hw.preV (k := 200 + (8 * 5 + k)) (xjump 5 k (by decide) hk) rfl) rfl rfl hl.1 rfl (lv_room (by simp [Value.category])) dX11_tires_1 ⟨Nat.zero_le _, Nat.zero_le _⟩) (fun r_1 e_1 => ?_)
  subst e_1
  refine lv_aload_n hx hb dX11_tires_4 rfl (lv_at hl 0 rfl) ?_
  refine n_get (k := 200 + (8 * 5 + k)) hx hb hts in_X11 hown hw (xjump 5 k (by decide) hk) rfl 2 (by decide) q385 rfl dX11_tires_5 ?_
  refine n_getN (k := 64) hx hb hts in_X0 hown hw (xp 64) rfl 3 (by decide) q413 rfl dX11_tires_8 ?_
  refine n_getN (k := 16 * 0 + 0) hx hb hts in_X4 hown hw (xv0 0) rfl 2 (by decide) q227 rfl dX11_tires_11 ?_
  refine lv_iconst (v := 1) hx hb dX11_tires_14 (by decide) ?_
  refine n_iald (k := 16 * 0 + 5) (j := 1) hx hb hw (xv0 5) rfl (by decide) (by decide) dX11_tires_15 ?_
  refine lv_iadd hx hb dX11_tires_16 ?_
  exact n_pret hx hb hr hlk rfl rfl dX11_tires_17
theorem hdS_X11_high : yX11_high.cls = "LineCalls$Rookie" ∧ yX11_high.cls ≠ "java/lang/invoke/MethodHandle" ∧ yX11_high.cls ≠ "java/lang/invoke/VarHandle" ∧ (parseMethodDescriptor yX11_high.desc).map (fun d => d.parameters.length) = some 0 := by decide +kernel
set_option maxHeartbeats 4000000 in
theorem tJX11_high_5 (l : Launch) (G : nG) (ad : Nat → Nat) (w w1 w2 w3 : rw84) (X : mM) (sp : xSp) (sh : xSh) (k : Nat) (hk : k < 8)  : Met l yX11_high (ws_ yX11_high cX11_high 1 (some .int)) { frames := 2, cells := 0, slots := 0, locals := 41 } (va_Pc [.ref (ad (200 + (8 * 5 + k)))] (nC G (xE G ad (xV w w1 w2 w3) X sp sh))) (vp_Si (fun r => r = (if rm (w 0) 2 = 1 then 0 else plainF w k))) 0 0 (fun _ => False) := by
  refine n_head (by decide) (Nat.le_of_ble_eq_true rfl) ?_
  intro p e s m below meth c ls hx hb hr hlk hml hown hts hB0 hl
  have hown : s.vm.findClass "LineCalls$Rookie" = some m.cls := hown
  have hw := nS.start hB0
  have hl : lv_has ls 1 [(0, .ref (ad (200 + (8 * 5 + k))))] := hl
  refine lv_aload_n hx hb dX11_high_0 rfl (lv_at hl 0 rfl) ?_
  refine n_get (k := 200 + (8 * 5 + k)) hx hb hts in_X11 hown hw (xjump 5 k (by decide) hk) rfl 2 (by decide) q385 rfl dX11_high_1 ?_
  refine n_getN (k := 64) hx hb hts in_X0 hown hw (xp 64) rfl 3 (by decide) q413 rfl dX11_high_4 ?_
  refine n_getN (k := 16 * 0 + 0) hx hb hts in_X4 hown hw (xv0 0) rfl 7 (by decide) q244 rfl dX11_high_7 ?_
  refine lv_iconst (v := 2) hx hb dX11_high_10 (by decide) ?_
  refine lv_irem hx hb dX11_high_11 (by decide) ?_
  refine lv_iconst (v := 1) hx hb dX11_high_12 (by decide) ?_
  refine lv_icmp_ne (tgt := 20) hx hb dX11_high_13 (by decide) (fun c_13 => ?_) (fun c_13 => ?_)
  · skip
    refine lv_aload_n hx hb dX11_high_20 rfl (lv_at hl 0 rfl) ?_
    refine n_callp (va_runSU (hw.cls (ci := 11) (q := (RX11, TX11, 3)) rfl) ⟨hx, hb, hml, hown, hts⟩ (tJX6_high_5 l G ad _ _ _ _ _ _ _ _ hk) (va_cwSU 0 hts (lw_SU q620 q585 q390 q583 q99 q622) rfl rfl rfl ⟨by decide, (hdS_X6_high).2.2.2⟩ ⟨by decide, by decide⟩) (hw.preV (k := 200 + (8 * 5 + k)) (xjump 5 k (by decide) hk) rfl) rfl rfl hl.1 rfl (lv_room (by simp [Value.category])) dX11_high_21 ⟨Nat.zero_le _, Nat.zero_le _⟩) (fun r_21 e_21 => ?_)
    subst e_21
    exact n_pret hx hb hr hlk rfl (by first | rfl | rw [if_neg c_13]) dX11_high_24
  · skip
    refine lv_iconst (v := 0) hx hb dX11_high_16 (by decide) ?_
    refine lv_goto (tgt := 24) hx hb dX11_high_17 (by decide) ?_
    exact n_pret hx hb hr hlk rfl (by first | rfl | rw [if_pos c_13]) dX11_high_24
set_option maxHeartbeats 4000000 in
theorem tJX6_told_6 (l : Launch) (G : nG) (ad : Nat → Nat) (w w1 w2 w3 : rw84) (X : mM) (sp : xSp) (sh : xSh) (k : Nat) (hk : k < 8) (f : Nat) (hf : f < 5) : Met l yX6_told (ws_ yX6_told cX6_told 2 (some .int)) { frames := 0, cells := 0, slots := 0, locals := 0 } (va_Pc [.ref (ad (200 + (8 * 6 + k))), .int (nI f)] (nC G (xE G ad (xV w w1 w2 w3) X sp sh))) (vp_Si (fun r => r = w (44 + 5 * k + f))) 0 0 (fun _ => False) := by
  refine n_head (by decide) (Nat.le_of_ble_eq_true rfl) ?_
  intro p e s m below meth c ls hx hb hr hlk hml hown hts hB0 hl
  have hown : s.vm.findClass "LineCalls$Jumper" = some m.cls := hown
  have hw := nS.start hB0
  have hl : lv_has ls 2 [(0, .ref (ad (200 + (8 * 6 + k)))), (1, .int (nI f))] := hl
  refine lv_aload_n hx hb dX6_told_0 rfl (lv_at hl 0 rfl) ?_
  refine n_get (k := 200 + (8 * 6 + k)) hx hb hts in_X12 hown hw (xjump 6 k (by decide) hk) rfl 1 (by decide) q332 rfl dX6_told_1 ?_
  refine n_getN (k := 64) hx hb hts in_X0 hown hw (xp 64) rfl 3 (by decide) q415 rfl dX6_told_4 ?_
  refine n_getN (k := 16 * 0 + 0) hx hb hts in_X4 hown hw (xv0 0) rfl 6 (by decide) q241 rfl dX6_told_7 ?_
  refine lv_iload_n hx hb dX6_told_10 rfl (lv_at hl 1 rfl) ?_
  refine n_aaldS (k := 16 * 0 + 7) (t := 4) (j := f) (b := ad (16 * 0 + (8 + f))) hx hb hw (xv0 7) (Or.inr rfl) rfl (by omega) (by decide) rfl dX6_told_11 ?_
  refine lv_aload_n hx hb dX6_told_12 rfl (lv_at hl 0 rfl) ?_
  refine n_get (k := 200 + (8 * 6 + k)) hx hb hts in_X12 hown hw (xjump 6 k (by decide) hk) rfl 0 (by decide) q330 rfl dX6_told_13 ?_
  refine n_iald (k := 16 * 0 + (8 + f)) (j := k) hx hb hw (xv0_row hf) rfl (by omega) (by decide) dX6_told_16 ?_
  exact n_pret hx hb hr hlk rfl rfl dX6_told_17
set_option maxHeartbeats 4000000 in
theorem tJX6_kind_6 (l : Launch) (G : nG) (ad : Nat → Nat) (w w1 w2 w3 : rw84) (X : mM) (sp : xSp) (sh : xSh) (k : Nat) (hk : k < 8)  : Met l yX6_kind (ws_ yX6_kind cX6_kind 1 (some .int)) { frames := 0, cells := 0, slots := 0, locals := 0 } (va_Pc [.ref (ad (200 + (8 * 6 + k)))] (nC G (xE G ad (xV w w1 w2 w3) X sp sh))) (vp_Si (fun r => r = 0)) 0 0 (fun _ => False) := by
  refine n_head (by decide) (Nat.le_of_ble_eq_true rfl) ?_
  intro p e s m below meth c ls hx hb hr hlk hml hown hts hB0 hl
  have hown : s.vm.findClass "LineCalls$Jumper" = some m.cls := hown
  have hw := nS.start hB0
  have hl : lv_has ls 1 [(0, .ref (ad (200 + (8 * 6 + k))))] := hl
  refine lv_iconst (v := 0) hx hb dX6_kind_0 (by decide) ?_
  exact n_pret hx hb hr hlk rfl rfl dX6_kind_1
set_option maxHeartbeats 4000000 in
theorem tJX6_tires_6 (l : Launch) (G : nG) (ad : Nat → Nat) (w w1 w2 w3 : rw84) (X : mM) (sp : xSp) (sh : xSh) (k : Nat) (hk : k < 8)  : Met l yX6_tires (ws_ yX6_tires cX6_tires 1 (some .int)) { frames := 0, cells := 0, slots := 0, locals := 0 } (va_Pc [.ref (ad (200 + (8 * 6 + k)))] (nC G (xE G ad (xV w w1 w2 w3) X sp sh))) (vp_Si (fun r => r = 5)) 0 0 (fun _ => False) := by
  refine n_head (by decide) (Nat.le_of_ble_eq_true rfl) ?_
  intro p e s m below meth c ls hx hb hr hlk hml hown hts hB0 hl
  have hown : s.vm.findClass "LineCalls$Jumper" = some m.cls := hown
  have hw := nS.start hB0
  have hl : lv_has ls 1 [(0, .ref (ad (200 + (8 * 6 + k))))] := hl
  refine lv_iconst (v := 5) hx hb dX6_tires_0 (by decide) ?_
  exact n_pret hx hb hr hlk rfl rfl dX6_tires_1
set_option maxHeartbeats 4000000 in
theorem tJX6_high_6 (l : Launch) (G : nG) (ad : Nat → Nat) (w w1 w2 w3 : rw84) (X : mM) (sp : xSp) (sh : xSh) (k : Nat) (hk : k < 8)  : Met l yX6_high (ws_ yX6_high cX6_high 1 (some .int)) { frames := 1, cells := 0, slots := 0, locals := 21 } (va_Pc [.ref (ad (200 + (8 * 6 + k)))] (nC G (xE G ad (xV w w1 w2 w3) X sp sh))) (vp_Si (fun r => r = plainF w k)) 0 0 (fun _ => False) := by
  refine n_head (by decide) (Nat.le_of_ble_eq_true rfl) ?_
  intro p e s m below meth c ls hx hb hr hlk hml hown hts hB0 hl
  have hown : s.vm.findClass "LineCalls$Jumper" = some m.cls := hown
  have hw := nS.start hB0
  have hl : lv_has ls 1 [(0, .ref (ad (200 + (8 * 6 + k))))] := hl
  refine lv_iconst (v := 0) hx hb dX6_high_0 (by decide) ?_
  refine lv_aload_n hx hb dX6_high_1 rfl (lv_at hl 0 rfl) ?_
  refine lv_iconst (v := 1) hx hb dX6_high_2 (by decide) ?_
  refine n_callp (va_runU ⟨hx, hb, hml, hown, hts⟩ (tJX6_told_6 l G ad _ _ _ _ _ _ _ _ hk (1) (by decide)) (va_cwU 1 hts (lw_U q623 q1692 q1693 q613 q99 q614) rfl rfl rfl rfl (hdS_X6_told).2 ⟨by decide, by decide⟩) (hw.preV (k := 200 + (8 * 6 + k)) (xjump 6 k (by decide) hk) rfl) rfl rfl hl.1 rfl (lv_room (by simp [Value.category])) dX6_high_3 ⟨Nat.zero_le _, Nat.zero_le _⟩) (fun r_3 e_3 => ?_)
  subst e_3
  refine lv_aload_n hx hb dX6_high_6 rfl (lv_at hl 0 rfl) ?_
  refine lv_iconst (v := 2) hx hb dX6_high_7 (by decide) ?_
  refine n_callp (va_runU ⟨hx, hb, hml, hown, hts⟩ (tJX6_told_6 l G ad _ _ _ _ _ _ _ _ hk (2) (by decide)) (va_cwU 1 hts (lw_U q623 q1692 q1693 q613 q99 q614) rfl rfl rfl rfl (hdS_X6_told).2 ⟨by decide, by decide⟩) (hw.preV (k := 200 + (8 * 6 + k)) (xjump 6 k (by decide) hk) rfl) rfl rfl hl.1 rfl (lv_room (by simp [Value.category])) dX6_high_8 ⟨Nat.zero_le _, Nat.zero_le _⟩) (fun r_8 e_8 => ?_)
  subst e_8
  refine lv_iconst (v := 4) hx hb dX6_high_11 (by decide) ?_
  refine lv_idiv hx hb dX6_high_12 (by decide) ?_
  refine lv_isub hx hb dX6_high_13 ?_
  refine va_mmax hx hb (hml.trans hl.1.symm) hown (hts _ q624) (hts _ q625) (hts _ q108) (hts _ q626) (by decide) (by simp [Value.category]) (Nat.zero_le _) (Nat.zero_le _) dX6_high_14 ?_
  exact n_pret hx hb hr hlk rfl (by first | rfl | rw []) dX6_high_17
set_option maxHeartbeats 4000000 in
theorem tJX7_kind_6 (l : Launch) (G : nG) (ad : Nat → Nat) (w w1 w2 w3 : rw84) (X : mM) (sp : xSp) (sh : xSh) (k : Nat) (hk : k < 8)  : Met l yX7_kind (ws_ yX7_kind cX7_kind 1 (some .int)) { frames := 1, cells := 0, slots := 0, locals := 20 } (va_Pc [.ref (ad (200 + (8 * 6 + k)))] (nC G (xE G ad (xV w w1 w2 w3) X sp sh))) (vp_Si (fun r => r = 1)) 0 0 (fun _ => False) := by
  refine n_head (by decide) (Nat.le_of_ble_eq_true rfl) ?_
  intro p e s m below meth c ls hx hb hr hlk hml hown hts hB0 hl
  have hown : s.vm.findClass "LineCalls$Prop" = some m.cls := hown
  have hw := nS.start hB0
  have hl : lv_has ls 1 [(0, .ref (ad (200 + (8 * 6 + k))))] := hl
  refine lv_iconst (v := 1) hx hb dX7_kind_0 (by decide) ?_
  refine lv_aload_n hx hb dX7_kind_1 rfl (lv_at hl 0 rfl) ?_
  refine n_callp (va_runSU (hw.cls (ci := 12) (q := (RX12, TX12, 4)) rfl) ⟨hx, hb, hml, hown, hts⟩ (tJX6_kind_6 l G ad _ _ _ _ _ _ _ _ hk) (va_cwSU 0 hts (lw_SU q563 q556 q339 q554 q99 q581) rfl rfl rfl ⟨by decide, (hdS_X6_kind).2.2.2⟩ ⟨by decide, by decide⟩) (hw.preV (k := 200 + (8 * 6 + k)) (xjump 6 k (by decide) hk) rfl) rfl rfl hl.1 rfl (lv_room (by simp [Value.category])) dX7_kind_2 ⟨Nat.zero_le _, Nat.zero_le _⟩) (fun r_2 e_2 => ?_)
  subst e_2
  refine lv_iadd hx hb dX7_kind_5 ?_
  exact n_pret hx hb hr hlk rfl rfl dX7_kind_6
set_option maxHeartbeats 4000000 in
theorem tJX7_tires_6 (l : Launch) (G : nG) (ad : Nat → Nat) (w w1 w2 w3 : rw84) (X : mM) (sp : xSp) (sh : xSh) (k : Nat) (hk : k < 8)  : Met l yX7_tires (ws_ yX7_tires cX7_tires 1 (some .int)) { frames := 1, cells := 0, slots := 0, locals := 20 } (va_Pc [.ref (ad (200 + (8 * 6 + k)))] (nC G (xE G ad (xV w w1 w2 w3) X sp sh))) (vp_Si (fun r => r = 8)) 0 0 (fun _ => False) := by
  refine n_head (by decide) (Nat.le_of_ble_eq_true rfl) ?_
  intro p e s m below meth c ls hx hb hr hlk hml hown hts hB0 hl
  have hown : s.vm.findClass "LineCalls$Prop" = some m.cls := hown
  have hw := nS.start hB0
  have hl : lv_has ls 1 [(0, .ref (ad (200 + (8 * 6 + k))))] := hl
  refine lv_aload_n hx hb dX7_tires_0 rfl (lv_at hl 0 rfl) ?_
  refine n_callp (va_runSU (hw.cls (ci := 12) (q := (RX12, TX12, 4)) rfl) ⟨hx, hb, hml, hown, hts⟩ (tJX6_tires_6 l G ad _ _ _ _ _ _ _ _ hk) (va_cwSU 0 hts (lw_SU q637 q630 q339 q628 q99 q654) rfl rfl rfl ⟨by decide, (hdS_X6_tires).2.2.2⟩ ⟨by decide, by decide⟩) (hw.preV (k := 200 + (8 * 6 + k)) (xjump 6 k (by decide) hk) rfl) rfl rfl hl.1 rfl (lv_room (by simp [Value.category])) dX7_tires_1 ⟨Nat.zero_le _, Nat.zero_le _⟩) (fun r_1 e_1 => ?_)
  subst e_1
  refine lv_iconst (v := 3) hx hb dX7_tires_4 (by decide) ?_
  refine lv_iadd hx hb dX7_tires_5 ?_
  exact n_pret hx hb hr hlk rfl rfl dX7_tires_6
set_option maxHeartbeats 4000000 in
theorem tJX7_gains_6 (l : Launch) (G : nG) (ad : Nat → Nat) (w w1 w2 w3 : rw84) (X : mM) (sp : xSp) (sh : xSh) (k : Nat) (hk : k < 8) (v : Int32) : Met l yX7_gains (ws_ yX7_gains cX7_gains 2 (some .int)) { frames := 0, cells := 0, slots := 0, locals := 0 } (va_Pc [.ref (ad (200 + (8 * 6 + k))), .int v] (nC G (xE G ad (xV w w1 w2 w3) X sp sh))) (vp_Si (fun r => r = 1)) 0 0 (fun _ => False) := by
  refine n_head (by decide) (Nat.le_of_ble_eq_true rfl) ?_
  intro p e s m below meth c ls hx hb hr hlk hml hown hts hB0 hl
  have hown : s.vm.findClass "LineCalls$Prop" = some m.cls := hown
  have hw := nS.start hB0
  have hl : lv_has ls 2 [(0, .ref (ad (200 + (8 * 6 + k)))), (1, .int v)] := hl
  refine lv_iconst (v := 1) hx hb dX7_gains_0 (by decide) ?_
  exact n_pret hx hb hr hlk rfl rfl dX7_gains_1
set_option maxHeartbeats 4000000 in
theorem tJX7_high_6 (l : Launch) (G : nG) (ad : Nat → Nat) (w w1 w2 w3 : rw84) (X : mM) (sp : xSp) (sh : xSh) (k : Nat) (hk : k < 8)  : Met l yX7_high (ws_ yX7_high cX7_high 1 (some .int)) { frames := 2, cells := 0, slots := 0, locals := 41 } (va_Pc [.ref (ad (200 + (8 * 6 + k)))] (nC G (xE G ad (xV w w1 w2 w3) X sp sh))) (vp_Si (fun r => r = plainF w k / 2)) 0 0 (fun _ => False) := by
  refine n_head (by decide) (Nat.le_of_ble_eq_true rfl) ?_
  intro p e s m below meth c ls hx hb hr hlk hml hown hts hB0 hl
  have hown : s.vm.findClass "LineCalls$Prop" = some m.cls := hown
  have hw := nS.start hB0
  have hl : lv_has ls 1 [(0, .ref (ad (200 + (8 * 6 + k))))] := hl
  refine lv_aload_n hx hb dX7_high_0 rfl (lv_at hl 0 rfl) ?_
  refine lv_aload_n hx hb dX7_high_1 rfl (lv_at hl 0 rfl) ?_
  refine n_callp (va_runSU (hw.cls (ci := 12) (q := (RX12, TX12, 4)) rfl) ⟨hx, hb, hml, hown, hts⟩ (tJX6_high_6 l G ad _ _ _ _ _ _ _ _ hk) (va_cwSU 0 hts (lw_SU q592 q585 q339 q583 q99 q622) rfl rfl rfl ⟨by decide, (hdS_X6_high).2.2.2⟩ ⟨by decide, by decide⟩) (hw.preV (k := 200 + (8 * 6 + k)) (xjump 6 k (by decide) hk) rfl) rfl rfl hl.1 rfl (lv_room (by simp [Value.category])) dX7_high_2 ⟨Nat.zero_le _, Nat.zero_le _⟩) (fun r_2 e_2 => ?_)
  subst e_2
  refine x_half hx hb (hml.trans hl.1.symm) hts hown hw (C := "LineCalls$Flanker") hw.X.2.2.2.2.2.2.2.2.2.2.2.2 (hw.recv (xjump 6 k (by decide) hk) rfl) (by decide) (by decide) dX7_high_5 ?_
  exact n_pret hx hb hr hlk rfl (by first | rfl | rw []) dX7_high_8
theorem hdS_X12_kind : yX12_kind.cls = "LineCalls$Flanker" ∧ yX12_kind.cls ≠ "java/lang/invoke/MethodHandle" ∧ yX12_kind.cls ≠ "java/lang/invoke/VarHandle" ∧ (parseMethodDescriptor yX12_kind.desc).map (fun d => d.parameters.length) = some 0 := by decide +kernel
set_option maxHeartbeats 4000000 in
theorem tJX12_kind_6 (l : Launch) (G : nG) (ad : Nat → Nat) (w w1 w2 w3 : rw84) (X : mM) (sp : xSp) (sh : xSh) (k : Nat) (hk : k < 8)  : Met l yX12_kind (ws_ yX12_kind cX12_kind 1 (some .int)) { frames := 2, cells := 0, slots := 0, locals := 40 } (va_Pc [.ref (ad (200 + (8 * 6 + k)))] (nC G (xE G ad (xV w w1 w2 w3) X sp sh))) (vp_Si (fun r => r = 6)) 0 0 (fun _ => False) := by
  refine n_head (by decide) (Nat.le_of_ble_eq_true rfl) ?_
  intro p e s m below meth c ls hx hb hr hlk hml hown hts hB0 hl
  have hown : s.vm.findClass "LineCalls$Flanker" = some m.cls := hown
  have hw := nS.start hB0
  have hl : lv_has ls 1 [(0, .ref (ad (200 + (8 * 6 + k))))] := hl
  refine lv_iconst (v := 5) hx hb dX12_kind_0 (by decide) ?_
  refine lv_aload_n hx hb dX12_kind_1 rfl (lv_at hl 0 rfl) ?_
  refine n_callp (va_runSU (hw.cls (ci := 12) (q := (RX12, TX12, 4)) rfl) ⟨hx, hb, hml, hown, hts⟩ (tJX7_kind_6 l G ad _ _ _ _ _ _ _ _ hk) (va_cwSU 0 hts (lw_SU q560 q1686 q403 q561 q100 q562) rfl rfl rfl ⟨by decide, (hdS_X7_kind).2.2.2⟩ ⟨by decide, by decide⟩) (hw.preV (k := 200 + (8 * 6 + k)) (xjump 6 k (by decide) hk) rfl) rfl rfl hl.1 rfl (lv_room (by simp [Value.category])) dX12_kind_2 ⟨Nat.zero_le _, Nat.zero_le _⟩) (fun r_2 e_2 => ?_)
  subst e_2
  refine lv_iadd hx hb dX12_kind_5 ?_
  exact n_pret hx hb hr hlk rfl rfl dX12_kind_6
theorem hdS_X12_tires : yX12_tires.cls = "LineCalls$Flanker" ∧ yX12_tires.cls ≠ "java/lang/invoke/MethodHandle" ∧ yX12_tires.cls ≠ "java/lang/invoke/VarHandle" ∧ (parseMethodDescriptor yX12_tires.desc).map (fun d => d.parameters.length) = some 0 := by decide +kernel
set_option maxHeartbeats 4000000 in
theorem tJX12_tires_6 (l : Launch) (G : nG) (ad : Nat → Nat) (w w1 w2 w3 : rw84) (X : mM) (sp : xSp) (sh : xSh) (k : Nat) (hk : k < 8)  : Met l yX12_tires (ws_ yX12_tires cX12_tires 1 (some .int)) { frames := 2, cells := 0, slots := 0, locals := 40 } (va_Pc [.ref (ad (200 + (8 * 6 + k)))] (nC G (xE G ad (xV w w1 w2 w3) X sp sh))) (vp_Si (fun r => r = 2)) 0 0 (fun _ => False) := by
  refine n_head (by decide) (Nat.le_of_ble_eq_true rfl) ?_
  intro p e s m below meth c ls hx hb hr hlk hml hown hts hB0 hl
  have hown : s.vm.findClass "LineCalls$Flanker" = some m.cls := hown
  have hw := nS.start hB0
  have hl : lv_has ls 1 [(0, .ref (ad (200 + (8 * 6 + k))))] := hl
  refine lv_aload_n hx hb dX12_tires_0 rfl (lv_at hl 0 rfl) ?_
  refine n_callp (va_runSU (hw.cls (ci := 12) (q := (RX12, TX12, 4)) rfl) ⟨hx, hb, hml, hown, hts⟩ (tJX7_tires_6 l G ad _ _ _ _ _ _ _ _ hk) (va_cwSU 0 hts (lw_SU q634 q1700 q403 q635 q100 q636) rfl rfl rfl ⟨by decide, (hdS_X7_tires).2.2.2⟩ ⟨by decide, by decide⟩) (hw.preV (k := 200 + (8 * 6 + k)) (xjump 6 k (by decide) hk) rfl) rfl rfl hl.1 rfl (lv_room (by simp [Value.category])) dX12_tires_1 ⟨Nat.zero_le _, Nat.zero_le _⟩) (fun r_1 e_1 => ?_)
  subst e_1
  refine lv_bipush (v := 6) hx hb dX12_tires_4 (by decide) ?_
  refine lv_isub hx hb dX12_tires_6 ?_
  exact n_pret hx hb hr hlk rfl rfl dX12_tires_7
theorem hdS_X12_gains : yX12_gains.cls = "LineCalls$Flanker" ∧ yX12_gains.cls ≠ "java/lang/invoke/MethodHandle" ∧ yX12_gains.cls ≠ "java/lang/invoke/VarHandle" ∧ (parseMethodDescriptor yX12_gains.desc).map (fun d => d.parameters.length) = some 1 := by decide +kernel
set_option maxHeartbeats 4000000 in
theorem tJX12_gains_6 (l : Launch) (G : nG) (ad : Nat → Nat) (w w1 w2 w3 : rw84) (X : mM) (sp : xSp) (sh : xSh) (k : Nat) (hk : k < 8) (v : Int32) : Met l yX12_gains (ws_ yX12_gains cX12_gains 2 (some .int)) { frames := 1, cells := 0, slots := 0, locals := 21 } (va_Pc [.ref (ad (200 + (8 * 6 + k))), .int v] (nC G (xE G ad (xV w w1 w2 w3) X sp sh))) (vp_Si (fun r => r = 1 + 2 * v)) 0 0 (fun _ => False) := by
  refine n_head (by decide) (Nat.le_of_ble_eq_true rfl) ?_
  intro p e s m below meth c ls hx hb hr hlk hml hown hts hB0 hl
  have hown : s.vm.findClass "LineCalls$Flanker" = some m.cls := hown
  have hw := nS.start hB0
  have hl : lv_has ls 2 [(0, .ref (ad (200 + (8 * 6 + k)))), (1, .int v)] := hl
  refine lv_aload_n hx hb dX12_gains_0 rfl (lv_at hl 0 rfl) ?_
  refine lv_iload_n hx hb dX12_gains_1 rfl (lv_at hl 1 rfl) ?_
  refine n_callp (va_runSU (hw.cls (ci := 12) (q := (RX12, TX12, 4)) rfl) ⟨hx, hb, hml, hown, hts⟩ (tJX7_gains_6 l G ad _ _ _ _ _ _ _ _ hk _) (va_cwSU 1 hts (lw_SU q677 q1701 q403 q678 q100 q679) rfl rfl rfl ⟨by decide, (hdS_X7_gains).2.2.2⟩ ⟨by decide, by decide⟩) (hw.preV (k := 200 + (8 * 6 + k)) (xjump 6 k (by decide) hk) rfl) rfl rfl hl.1 rfl (lv_room (by simp [Value.category])) dX12_gains_2 ⟨Nat.zero_le _, Nat.zero_le _⟩) (fun r_2 e_2 => ?_)
  subst e_2
  refine lv_iconst (v := 2) hx hb dX12_gains_5 (by decide) ?_
  refine lv_iload_n hx hb dX12_gains_6 rfl (lv_at hl 1 rfl) ?_
  refine lv_imul hx hb dX12_gains_7 ?_
  refine lv_iadd hx hb dX12_gains_8 ?_
  exact n_pret hx hb hr hlk rfl rfl dX12_gains_9
theorem hdS_X12_high : yX12_high.cls = "LineCalls$Flanker" ∧ yX12_high.cls ≠ "java/lang/invoke/MethodHandle" ∧ yX12_high.cls ≠ "java/lang/invoke/VarHandle" ∧ (parseMethodDescriptor yX12_high.desc).map (fun d => d.parameters.length) = some 0 := by decide +kernel
set_option maxHeartbeats 4000000 in
theorem tJX12_high_6 (l : Launch) (G : nG) (ad : Nat → Nat) (w w1 w2 w3 : rw84) (X : mM) (sp : xSp) (sh : xSh) (k : Nat) (hk : k < 8)  : Met l yX12_high (ws_ yX12_high cX12_high 1 (some .int)) { frames := 3, cells := 0, slots := 0, locals := 61 } (va_Pc [.ref (ad (200 + (8 * 6 + k)))] (nC G (xE G ad (xV w w1 w2 w3) X sp sh))) (vp_Si (fun r => r = plainF w k / 2 + 30 - w 5)) 0 0 (fun _ => False) := by
  refine n_head (by decide) (Nat.le_of_ble_eq_true rfl) ?_
  intro p e s m below meth c ls hx hb hr hlk hml hown hts hB0 hl
  have hown : s.vm.findClass "LineCalls$Flanker" = some m.cls := hown
  have hw := nS.start hB0
  have hl : lv_has ls 1 [(0, .ref (ad (200 + (8 * 6 + k))))] := hl
  refine lv_aload_n hx hb dX12_high_0 rfl (lv_at hl 0 rfl) ?_
  refine n_callp (va_runSU (hw.cls (ci := 12) (q := (RX12, TX12, 4)) rfl) ⟨hx, hb, hml, hown, hts⟩ (tJX7_high_6 l G ad _ _ _ _ _ _ _ _ hk) (va_cwSU 0 hts (lw_SU q589 q1689 q403 q590 q100 q591) rfl rfl rfl ⟨by decide, (hdS_X7_high).2.2.2⟩ ⟨by decide, by decide⟩) (hw.preV (k := 200 + (8 * 6 + k)) (xjump 6 k (by decide) hk) rfl) rfl rfl hl.1 rfl (lv_room (by simp [Value.category])) dX12_high_1 ⟨Nat.zero_le _, Nat.zero_le _⟩) (fun r_1 e_1 => ?_)
  subst e_1
  refine lv_bipush (v := 30) hx hb dX12_high_4 (by decide) ?_
  refine lv_iadd hx hb dX12_high_6 ?_
  refine lv_aload_n hx hb dX12_high_7 rfl (lv_at hl 0 rfl) ?_
  refine n_get (k := 200 + (8 * 6 + k)) hx hb hts in_X12 hown hw (xjump 6 k (by decide) hk) rfl 3 (by decide) q397 rfl dX12_high_8 ?_
  refine n_getN (k := 64) hx hb hts in_X0 hown hw (xp 64) rfl 3 (by decide) q414 rfl dX12_high_11 ?_
  refine n_getN (k := 16 * 0 + 0) hx hb hts in_X4 hown hw (xv0 0) rfl 2 (by decide) q226 rfl dX12_high_14 ?_
  refine lv_iconst (v := 1) hx hb dX12_high_17 (by decide) ?_
  refine n_iald (k := 16 * 0 + 5) (j := 1) hx hb hw (xv0 5) rfl (by decide) (by decide) dX12_high_18 ?_
  refine lv_isub hx hb dX12_high_19 ?_
  exact n_pret hx hb hr hlk rfl (by first | rfl | rw []) dX12_high_20
def un6 (kd v : Int32) : Int32 := if v = 0 then 1 else if v = kd then 1 else 0
def unS (c u v : Int32) : Int32 := if v = c then 1 else if u = 0 then 0 else 1
theorem hdS_X6_isUnder : yX6_isUnder.cls = "LineCalls$Jumper" ∧ yX6_isUnder.cls ≠ "java/lang/invoke/MethodHandle" ∧ yX6_isUnder.cls ≠ "java/lang/invoke/VarHandle" ∧ (parseMethodDescriptor yX6_isUnder.desc).map (fun d => d.parameters.length) = some 1 := by decide +kernel
set_option maxHeartbeats 4000000 in
theorem tJX6_isUnder_0 (l : Launch) (G : nG) (ad : Nat → Nat) (w w1 w2 w3 : rw84) (X : mM) (sp : xSp) (sh : xSh) (k : Nat) (hk : k < 8) (v : Int32) : Met l yX6_isUnder (ws_ yX6_isUnder cX6_isUnder 2 (some .boolean)) { frames := 1, cells := 0, slots := 0, locals := 20 } (va_Pc [.ref (ad (200 + (8 * 0 + k))), .int v] (nC G (xE G ad (xV w w1 w2 w3) X sp sh))) (vp_Si (fun r => r = un6 0 v)) 0 0 (fun _ => False) := by
  refine n_head (by decide) (Nat.le_of_ble_eq_true rfl) ?_
  intro p e s m below meth c ls hx hb hr hlk hml hown hts hB0 hl
  have hown : s.vm.findClass "LineCalls$Jumper" = some m.cls := hown
  have hw := nS.start hB0
  have hl : lv_has ls 2 [(0, .ref (ad (200 + (8 * 0 + k)))), (1, .int v)] := hl
  refine lv_iload_n hx hb dX6_isUnder_0 rfl (lv_at hl 1 rfl) ?_
  refine lv_if_eq (tgt := 12) hx hb dX6_isUnder_1 (by decide) (fun c_1 => ?_) (fun c_1 => ?_)
  · skip
    refine lv_iconst (v := 1) hx hb dX6_isUnder_12 (by decide) ?_
    refine lv_goto (tgt := 17) hx hb dX6_isUnder_13 (by decide) ?_
    exact n_pret hx hb hr hlk rfl (by rw [un6, if_pos c_1]) dX6_isUnder_17
  · skip
    refine lv_iload_n hx hb dX6_isUnder_4 rfl (lv_at hl 1 rfl) ?_
    refine lv_aload_n hx hb dX6_isUnder_5 rfl (lv_at hl 0 rfl) ?_
    refine n_callp (va_runU ⟨hx, hb, hml, hown, hts⟩ (tJX6_kind_0 l G ad _ _ _ _ _ _ _ _ hk) (va_cwU 0 hts (lw_U q1120 q556 q555 q554 q99 q581) rfl rfl rfl rfl (hdS_X6_kind).2 ⟨by decide, by decide⟩) (hw.preV (k := 200 + (8 * 0 + k)) (xjump 0 k (by decide) hk) rfl) rfl rfl hl.1 rfl (lv_room (by simp [Value.category])) dX6_isUnder_6 ⟨Nat.zero_le _, Nat.zero_le _⟩) (fun r_6 e_6 => ?_)
    subst e_6
    refine lv_icmp_ne (tgt := 16) hx hb dX6_isUnder_9 (by decide) (fun c_9 => ?_) (fun c_9 => ?_)
    · skip
      refine lv_iconst (v := 0) hx hb dX6_isUnder_16 (by decide) ?_
      exact n_pret hx hb hr hlk rfl (by rw [un6, if_neg c_1, if_neg c_9]) dX6_isUnder_17
    · skip
      refine lv_iconst (v := 1) hx hb dX6_isUnder_12 (by decide) ?_
      refine lv_goto (tgt := 17) hx hb dX6_isUnder_13 (by decide) ?_
      exact n_pret hx hb hr hlk rfl (by rw [un6, if_neg c_1, if_pos c_9]) dX6_isUnder_17
set_option maxHeartbeats 4000000 in
theorem tJX6_isUnder_1 (l : Launch) (G : nG) (ad : Nat → Nat) (w w1 w2 w3 : rw84) (X : mM) (sp : xSp) (sh : xSh) (k : Nat) (hk : k < 8) (v : Int32) : Met l yX6_isUnder (ws_ yX6_isUnder cX6_isUnder 2 (some .boolean)) { frames := 2, cells := 0, slots := 0, locals := 40 } (va_Pc [.ref (ad (200 + (8 * 1 + k))), .int v] (nC G (xE G ad (xV w w1 w2 w3) X sp sh))) (vp_Si (fun r => r = un6 1 v)) 0 0 (fun _ => False) := by
  refine n_head (by decide) (Nat.le_of_ble_eq_true rfl) ?_
  intro p e s m below meth c ls hx hb hr hlk hml hown hts hB0 hl
  have hown : s.vm.findClass "LineCalls$Jumper" = some m.cls := hown
  have hw := nS.start hB0
  have hl : lv_has ls 2 [(0, .ref (ad (200 + (8 * 1 + k)))), (1, .int v)] := hl
  refine lv_iload_n hx hb dX6_isUnder_0 rfl (lv_at hl 1 rfl) ?_
  refine lv_if_eq (tgt := 12) hx hb dX6_isUnder_1 (by decide) (fun c_1 => ?_) (fun c_1 => ?_)
  · skip
    refine lv_iconst (v := 1) hx hb dX6_isUnder_12 (by decide) ?_
    refine lv_goto (tgt := 17) hx hb dX6_isUnder_13 (by decide) ?_
    exact n_pret hx hb hr hlk rfl (by rw [un6, if_pos c_1]) dX6_isUnder_17
  · skip
    refine lv_iload_n hx hb dX6_isUnder_4 rfl (lv_at hl 1 rfl) ?_
    refine lv_aload_n hx hb dX6_isUnder_5 rfl (lv_at hl 0 rfl) ?_
    refine n_callp (va_runU ⟨hx, hb, hml, hown, hts⟩ (tJX7_kind_1 l G ad _ _ _ _ _ _ _ _ hk) (va_cwO 0 hts (lw_O q1120 q556 q554 q575 q561 q100 q562) rfl rfl rfl q581 (hdS_X6_kind).2 ⟨by decide, by decide⟩) (hw.preV (k := 200 + (8 * 1 + k)) (xjump 1 k (by decide) hk) rfl) rfl rfl hl.1 rfl (lv_room (by simp [Value.category])) dX6_isUnder_6 ⟨Nat.zero_le _, Nat.zero_le _⟩) (fun r_6 e_6 => ?_)
    subst e_6
    refine lv_icmp_ne (tgt := 16) hx hb dX6_isUnder_9 (by decide) (fun c_9 => ?_) (fun c_9 => ?_)
    · skip
      refine lv_iconst (v := 0) hx hb dX6_isUnder_16 (by decide) ?_
      exact n_pret hx hb hr hlk rfl (by rw [un6, if_neg c_1, if_neg c_9]) dX6_isUnder_17
    · skip
      refine lv_iconst (v := 1) hx hb dX6_isUnder_12 (by decide) ?_
      refine lv_goto (tgt := 17) hx hb dX6_isUnder_13 (by decide) ?_
      exact n_pret hx hb hr hlk rfl (by rw [un6, if_neg c_1, if_pos c_9]) dX6_isUnder_17
theorem hdS_X7_isUnder : yX7_isUnder.cls = "LineCalls$Prop" ∧ yX7_isUnder.cls ≠ "java/lang/invoke/MethodHandle" ∧ yX7_isUnder.cls ≠ "java/lang/invoke/VarHandle" ∧ (parseMethodDescriptor yX7_isUnder.desc).map (fun d => d.parameters.length) = some 1 := by decide +kernel
set_option maxHeartbeats 4000000 in
theorem tJX7_isUnder_1 (l : Launch) (G : nG) (ad : Nat → Nat) (w w1 w2 w3 : rw84) (X : mM) (sp : xSp) (sh : xSh) (k : Nat) (hk : k < 8) (v : Int32) : Met l yX7_isUnder (ws_ yX7_isUnder cX7_isUnder 2 (some .boolean)) { frames := 3, cells := 0, slots := 0, locals := 61 } (va_Pc [.ref (ad (200 + (8 * 1 + k))), .int v] (nC G (xE G ad (xV w w1 w2 w3) X sp sh))) (vp_Si (fun r => r = unS 1 (un6 1 v) v)) 0 0 (fun _ => False) := by
  refine n_head (by decide) (Nat.le_of_ble_eq_true rfl) ?_
  intro p e s m below meth c ls hx hb hr hlk hml hown hts hB0 hl
  have hown : s.vm.findClass "LineCalls$Prop" = some m.cls := hown
  have hw := nS.start hB0
  have hl : lv_has ls 2 [(0, .ref (ad (200 + (8 * 1 + k)))), (1, .int v)] := hl
  refine lv_iload_n hx hb dX7_isUnder_0 rfl (lv_at hl 1 rfl) ?_
  refine lv_iconst (v := 1) hx hb dX7_isUnder_1 (by decide) ?_
  refine lv_icmp_eq (tgt := 13) hx hb dX7_isUnder_2 (by decide) (fun c_2 => ?_) (fun c_2 => ?_)
  · skip
    refine lv_iconst (v := 1) hx hb dX7_isUnder_13 (by decide) ?_
    refine lv_goto (tgt := 18) hx hb dX7_isUnder_14 (by decide) ?_
    exact n_pret hx hb hr hlk rfl (by rw [unS, if_pos c_2]) dX7_isUnder_18
  · skip
    refine lv_aload_n hx hb dX7_isUnder_5 rfl (lv_at hl 0 rfl) ?_
    refine lv_iload_n hx hb dX7_isUnder_6 rfl (lv_at hl 1 rfl) ?_
    refine n_callp (va_runSU (hw.cls (ci := 7) (q := (RX7, TX7, 3)) rfl) ⟨hx, hb, hml, hown, hts⟩ (tJX6_isUnder_1 l G ad _ _ _ _ _ _ _ _ hk _) (va_cwSU 1 hts (lw_SU q1107 q1103 q339 q1101 q99 q1119) rfl rfl rfl ⟨by decide, (hdS_X6_isUnder).2.2.2⟩ ⟨by decide, by decide⟩) (hw.preV (k := 200 + (8 * 1 + k)) (xjump 1 k (by decide) hk) rfl) rfl rfl hl.1 rfl (lv_room (by simp [Value.category])) dX7_isUnder_7 ⟨Nat.zero_le _, Nat.zero_le _⟩) (fun r_7 e_7 => ?_)
    subst e_7
    refine lv_if_eq (tgt := 17) hx hb dX7_isUnder_10 (by decide) (fun c_10 => ?_) (fun c_10 => ?_)
    · skip
      refine lv_iconst (v := 0) hx hb dX7_isUnder_17 (by decide) ?_
      exact n_pret hx hb hr hlk rfl (by rw [unS, if_neg c_2, if_pos c_10]) dX7_isUnder_18
    · skip
      refine lv_iconst (v := 1) hx hb dX7_isUnder_13 (by decide) ?_
      refine lv_goto (tgt := 18) hx hb dX7_isUnder_14 (by decide) ?_
      exact n_pret hx hb hr hlk rfl (by rw [unS, if_neg c_2, if_neg c_10]) dX7_isUnder_18
set_option maxHeartbeats 4000000 in
theorem tJX6_isUnder_2 (l : Launch) (G : nG) (ad : Nat → Nat) (w w1 w2 w3 : rw84) (X : mM) (sp : xSp) (sh : xSh) (k : Nat) (hk : k < 8) (v : Int32) : Met l yX6_isUnder (ws_ yX6_isUnder cX6_isUnder 2 (some .boolean)) { frames := 2, cells := 0, slots := 0, locals := 40 } (va_Pc [.ref (ad (200 + (8 * 2 + k))), .int v] (nC G (xE G ad (xV w w1 w2 w3) X sp sh))) (vp_Si (fun r => r = un6 2 v)) 0 0 (fun _ => False) := by
  refine n_head (by decide) (Nat.le_of_ble_eq_true rfl) ?_
  intro p e s m below meth c ls hx hb hr hlk hml hown hts hB0 hl
  have hown : s.vm.findClass "LineCalls$Jumper" = some m.cls := hown
  have hw := nS.start hB0
  have hl : lv_has ls 2 [(0, .ref (ad (200 + (8 * 2 + k)))), (1, .int v)] := hl
  refine lv_iload_n hx hb dX6_isUnder_0 rfl (lv_at hl 1 rfl) ?_
  refine lv_if_eq (tgt := 12) hx hb dX6_isUnder_1 (by decide) (fun c_1 => ?_) (fun c_1 => ?_)
  · skip
    refine lv_iconst (v := 1) hx hb dX6_isUnder_12 (by decide) ?_
    refine lv_goto (tgt := 17) hx hb dX6_isUnder_13 (by decide) ?_
    exact n_pret hx hb hr hlk rfl (by rw [un6, if_pos c_1]) dX6_isUnder_17
  · skip
    refine lv_iload_n hx hb dX6_isUnder_4 rfl (lv_at hl 1 rfl) ?_
    refine lv_aload_n hx hb dX6_isUnder_5 rfl (lv_at hl 0 rfl) ?_
    refine n_callp (va_runU ⟨hx, hb, hml, hown, hts⟩ (tJX8_kind_2 l G ad _ _ _ _ _ _ _ _ hk) (va_cwO 0 hts (lw_O q1120 q556 q554 q574 q571 q101 q572) rfl rfl rfl q581 (hdS_X6_kind).2 ⟨by decide, by decide⟩) (hw.preV (k := 200 + (8 * 2 + k)) (xjump 2 k (by decide) hk) rfl) rfl rfl hl.1 rfl (lv_room (by simp [Value.category])) dX6_isUnder_6 ⟨Nat.zero_le _, Nat.zero_le _⟩) (fun r_6 e_6 => ?_)
    subst e_6
    refine lv_icmp_ne (tgt := 16) hx hb dX6_isUnder_9 (by decide) (fun c_9 => ?_) (fun c_9 => ?_)
    · skip
      refine lv_iconst (v := 0) hx hb dX6_isUnder_16 (by decide) ?_
      exact n_pret hx hb hr hlk rfl (by rw [un6, if_neg c_1, if_neg c_9]) dX6_isUnder_17
    · skip
      refine lv_iconst (v := 1) hx hb dX6_isUnder_12 (by decide) ?_
      refine lv_goto (tgt := 17) hx hb dX6_isUnder_13 (by decide) ?_
      exact n_pret hx hb hr hlk rfl (by rw [un6, if_neg c_1, if_pos c_9]) dX6_isUnder_17
theorem hdS_X8_isUnder : yX8_isUnder.cls = "LineCalls$Lock" ∧ yX8_isUnder.cls ≠ "java/lang/invoke/MethodHandle" ∧ yX8_isUnder.cls ≠ "java/lang/invoke/VarHandle" ∧ (parseMethodDescriptor yX8_isUnder.desc).map (fun d => d.parameters.length) = some 1 := by decide +kernel
set_option maxHeartbeats 4000000 in
theorem tJX8_isUnder_2 (l : Launch) (G : nG) (ad : Nat → Nat) (w w1 w2 w3 : rw84) (X : mM) (sp : xSp) (sh : xSh) (k : Nat) (hk : k < 8) (v : Int32) : Met l yX8_isUnder (ws_ yX8_isUnder cX8_isUnder 2 (some .boolean)) { frames := 3, cells := 0, slots := 0, locals := 61 } (va_Pc [.ref (ad (200 + (8 * 2 + k))), .int v] (nC G (xE G ad (xV w w1 w2 w3) X sp sh))) (vp_Si (fun r => r = unS 2 (un6 2 v) v)) 0 0 (fun _ => False) := by
  refine n_head (by decide) (Nat.le_of_ble_eq_true rfl) ?_
  intro p e s m below meth c ls hx hb hr hlk hml hown hts hB0 hl
  have hown : s.vm.findClass "LineCalls$Lock" = some m.cls := hown
  have hw := nS.start hB0
  have hl : lv_has ls 2 [(0, .ref (ad (200 + (8 * 2 + k)))), (1, .int v)] := hl
  refine lv_iload_n hx hb dX8_isUnder_0 rfl (lv_at hl 1 rfl) ?_
  refine lv_iconst (v := 2) hx hb dX8_isUnder_1 (by decide) ?_
  refine lv_icmp_eq (tgt := 13) hx hb dX8_isUnder_2 (by decide) (fun c_2 => ?_) (fun c_2 => ?_)
  · skip
    refine lv_iconst (v := 1) hx hb dX8_isUnder_13 (by decide) ?_
    refine lv_goto (tgt := 18) hx hb dX8_isUnder_14 (by decide) ?_
    exact n_pret hx hb hr hlk rfl (by rw [unS, if_pos c_2]) dX8_isUnder_18
  · skip
    refine lv_aload_n hx hb dX8_isUnder_5 rfl (lv_at hl 0 rfl) ?_
    refine lv_iload_n hx hb dX8_isUnder_6 rfl (lv_at hl 1 rfl) ?_
    refine n_callp (va_runSU (hw.cls (ci := 8) (q := (RX8, TX8, 3)) rfl) ⟨hx, hb, hml, hown, hts⟩ (tJX6_isUnder_2 l G ad _ _ _ _ _ _ _ _ hk _) (va_cwSU 1 hts (lw_SU q1114 q1103 q351 q1101 q99 q1119) rfl rfl rfl ⟨by decide, (hdS_X6_isUnder).2.2.2⟩ ⟨by decide, by decide⟩) (hw.preV (k := 200 + (8 * 2 + k)) (xjump 2 k (by decide) hk) rfl) rfl rfl hl.1 rfl (lv_room (by simp [Value.category])) dX8_isUnder_7 ⟨Nat.zero_le _, Nat.zero_le _⟩) (fun r_7 e_7 => ?_)
    subst e_7
    refine lv_if_eq (tgt := 17) hx hb dX8_isUnder_10 (by decide) (fun c_10 => ?_) (fun c_10 => ?_)
    · skip
      refine lv_iconst (v := 0) hx hb dX8_isUnder_17 (by decide) ?_
      exact n_pret hx hb hr hlk rfl (by rw [unS, if_neg c_2, if_pos c_10]) dX8_isUnder_18
    · skip
      refine lv_iconst (v := 1) hx hb dX8_isUnder_13 (by decide) ?_
      refine lv_goto (tgt := 18) hx hb dX8_isUnder_14 (by decide) ?_
      exact n_pret hx hb hr hlk rfl (by rw [unS, if_neg c_2, if_neg c_10]) dX8_isUnder_18
set_option maxHeartbeats 4000000 in
theorem tJX6_isUnder_3 (l : Launch) (G : nG) (ad : Nat → Nat) (w w1 w2 w3 : rw84) (X : mM) (sp : xSp) (sh : xSh) (k : Nat) (hk : k < 8) (v : Int32) : Met l yX6_isUnder (ws_ yX6_isUnder cX6_isUnder 2 (some .boolean)) { frames := 3, cells := 0, slots := 0, locals := 60 } (va_Pc [.ref (ad (200 + (8 * 3 + k))), .int v] (nC G (xE G ad (xV w w1 w2 w3) X sp sh))) (vp_Si (fun r => r = un6 3 v)) 0 0 (fun _ => False) := by
  refine n_head (by decide) (Nat.le_of_ble_eq_true rfl) ?_
  intro p e s m below meth c ls hx hb hr hlk hml hown hts hB0 hl
  have hown : s.vm.findClass "LineCalls$Jumper" = some m.cls := hown
  have hw := nS.start hB0
  have hl : lv_has ls 2 [(0, .ref (ad (200 + (8 * 3 + k)))), (1, .int v)] := hl
  refine lv_iload_n hx hb dX6_isUnder_0 rfl (lv_at hl 1 rfl) ?_
  refine lv_if_eq (tgt := 12) hx hb dX6_isUnder_1 (by decide) (fun c_1 => ?_) (fun c_1 => ?_)
  · skip
    refine lv_iconst (v := 1) hx hb dX6_isUnder_12 (by decide) ?_
    refine lv_goto (tgt := 17) hx hb dX6_isUnder_13 (by decide) ?_
    exact n_pret hx hb hr hlk rfl (by rw [un6, if_pos c_1]) dX6_isUnder_17
  · skip
    refine lv_iload_n hx hb dX6_isUnder_4 rfl (lv_at hl 1 rfl) ?_
    refine lv_aload_n hx hb dX6_isUnder_5 rfl (lv_at hl 0 rfl) ?_
    refine n_callp (va_runU ⟨hx, hb, hml, hown, hts⟩ (tJX9_kind_3 l G ad _ _ _ _ _ _ _ _ hk) (va_cwO 0 hts (lw_O q1120 q556 q554 q580 q568 q102 q569) rfl rfl rfl q581 (hdS_X6_kind).2 ⟨by decide, by decide⟩) (hw.preV (k := 200 + (8 * 3 + k)) (xjump 3 k (by decide) hk) rfl) rfl rfl hl.1 rfl (lv_room (by simp [Value.category])) dX6_isUnder_6 ⟨Nat.zero_le _, Nat.zero_le _⟩) (fun r_6 e_6 => ?_)
    subst e_6
    refine lv_icmp_ne (tgt := 16) hx hb dX6_isUnder_9 (by decide) (fun c_9 => ?_) (fun c_9 => ?_)
    · skip
      refine lv_iconst (v := 0) hx hb dX6_isUnder_16 (by decide) ?_
      exact n_pret hx hb hr hlk rfl (by rw [un6, if_neg c_1, if_neg c_9]) dX6_isUnder_17
    · skip
      refine lv_iconst (v := 1) hx hb dX6_isUnder_12 (by decide) ?_
      refine lv_goto (tgt := 17) hx hb dX6_isUnder_13 (by decide) ?_
      exact n_pret hx hb hr hlk rfl (by rw [un6, if_neg c_1, if_pos c_9]) dX6_isUnder_17
set_option maxHeartbeats 4000000 in
theorem tJX8_isUnder_3 (l : Launch) (G : nG) (ad : Nat → Nat) (w w1 w2 w3 : rw84) (X : mM) (sp : xSp) (sh : xSh) (k : Nat) (hk : k < 8) (v : Int32) : Met l yX8_isUnder (ws_ yX8_isUnder cX8_isUnder 2 (some .boolean)) { frames := 4, cells := 0, slots := 0, locals := 81 } (va_Pc [.ref (ad (200 + (8 * 3 + k))), .int v] (nC G (xE G ad (xV w w1 w2 w3) X sp sh))) (vp_Si (fun r => r = unS 2 (un6 3 v) v)) 0 0 (fun _ => False) := by
  refine n_head (by decide) (Nat.le_of_ble_eq_true rfl) ?_
  intro p e s m below meth c ls hx hb hr hlk hml hown hts hB0 hl
  have hown : s.vm.findClass "LineCalls$Lock" = some m.cls := hown
  have hw := nS.start hB0
  have hl : lv_has ls 2 [(0, .ref (ad (200 + (8 * 3 + k)))), (1, .int v)] := hl
  refine lv_iload_n hx hb dX8_isUnder_0 rfl (lv_at hl 1 rfl) ?_
  refine lv_iconst (v := 2) hx hb dX8_isUnder_1 (by decide) ?_
  refine lv_icmp_eq (tgt := 13) hx hb dX8_isUnder_2 (by decide) (fun c_2 => ?_) (fun c_2 => ?_)
  · skip
    refine lv_iconst (v := 1) hx hb dX8_isUnder_13 (by decide) ?_
    refine lv_goto (tgt := 18) hx hb dX8_isUnder_14 (by decide) ?_
    exact n_pret hx hb hr hlk rfl (by rw [unS, if_pos c_2]) dX8_isUnder_18
  · skip
    refine lv_aload_n hx hb dX8_isUnder_5 rfl (lv_at hl 0 rfl) ?_
    refine lv_iload_n hx hb dX8_isUnder_6 rfl (lv_at hl 1 rfl) ?_
    refine n_callp (va_runSU (hw.cls (ci := 9) (q := (RX9, TX9, 4)) rfl) ⟨hx, hb, hml, hown, hts⟩ (tJX6_isUnder_3 l G ad _ _ _ _ _ _ _ _ hk _) (va_cwSU 1 hts (lw_SU q1114 q1103 q351 q1101 q99 q1119) rfl rfl rfl ⟨by decide, (hdS_X6_isUnder).2.2.2⟩ ⟨by decide, by decide⟩) (hw.preV (k := 200 + (8 * 3 + k)) (xjump 3 k (by decide) hk) rfl) rfl rfl hl.1 rfl (lv_room (by simp [Value.category])) dX8_isUnder_7 ⟨Nat.zero_le _, Nat.zero_le _⟩) (fun r_7 e_7 => ?_)
    subst e_7
    refine lv_if_eq (tgt := 17) hx hb dX8_isUnder_10 (by decide) (fun c_10 => ?_) (fun c_10 => ?_)
    · skip
      refine lv_iconst (v := 0) hx hb dX8_isUnder_17 (by decide) ?_
      exact n_pret hx hb hr hlk rfl (by rw [unS, if_neg c_2, if_pos c_10]) dX8_isUnder_18
    · skip
      refine lv_iconst (v := 1) hx hb dX8_isUnder_13 (by decide) ?_
      refine lv_goto (tgt := 18) hx hb dX8_isUnder_14 (by decide) ?_
      exact n_pret hx hb hr hlk rfl (by rw [unS, if_neg c_2, if_neg c_10]) dX8_isUnder_18
theorem hdS_X9_isUnder : yX9_isUnder.cls = "LineCalls$Tower" ∧ yX9_isUnder.cls ≠ "java/lang/invoke/MethodHandle" ∧ yX9_isUnder.cls ≠ "java/lang/invoke/VarHandle" ∧ (parseMethodDescriptor yX9_isUnder.desc).map (fun d => d.parameters.length) = some 1 := by decide +kernel
set_option maxHeartbeats 4000000 in
theorem tJX9_isUnder_3 (l : Launch) (G : nG) (ad : Nat → Nat) (w w1 w2 w3 : rw84) (X : mM) (sp : xSp) (sh : xSh) (k : Nat) (hk : k < 8) (v : Int32) : Met l yX9_isUnder (ws_ yX9_isUnder cX9_isUnder 2 (some .boolean)) { frames := 5, cells := 0, slots := 0, locals := 102 } (va_Pc [.ref (ad (200 + (8 * 3 + k))), .int v] (nC G (xE G ad (xV w w1 w2 w3) X sp sh))) (vp_Si (fun r => r = unS 3 (unS 2 (un6 3 v) v) v)) 0 0 (fun _ => False) := by
  refine n_head (by decide) (Nat.le_of_ble_eq_true rfl) ?_
  intro p e s m below meth c ls hx hb hr hlk hml hown hts hB0 hl
  have hown : s.vm.findClass "LineCalls$Tower" = some m.cls := hown
  have hw := nS.start hB0
  have hl : lv_has ls 2 [(0, .ref (ad (200 + (8 * 3 + k)))), (1, .int v)] := hl
  refine lv_iload_n hx hb dX9_isUnder_0 rfl (lv_at hl 1 rfl) ?_
  refine lv_iconst (v := 3) hx hb dX9_isUnder_1 (by decide) ?_
  refine lv_icmp_eq (tgt := 13) hx hb dX9_isUnder_2 (by decide) (fun c_2 => ?_) (fun c_2 => ?_)
  · skip
    refine lv_iconst (v := 1) hx hb dX9_isUnder_13 (by decide) ?_
    refine lv_goto (tgt := 18) hx hb dX9_isUnder_14 (by decide) ?_
    exact n_pret hx hb hr hlk rfl (by rw [unS, if_pos c_2]) dX9_isUnder_18
  · skip
    refine lv_aload_n hx hb dX9_isUnder_5 rfl (lv_at hl 0 rfl) ?_
    refine lv_iload_n hx hb dX9_isUnder_6 rfl (lv_at hl 1 rfl) ?_
    refine n_callp (va_runSU (hw.cls (ci := 9) (q := (RX9, TX9, 4)) rfl) ⟨hx, hb, hml, hown, hts⟩ (tJX8_isUnder_3 l G ad _ _ _ _ _ _ _ _ hk _) (va_cwSU 1 hts (lw_SU q1111 q1702 q364 q1112 q101 q1113) rfl rfl rfl ⟨by decide, (hdS_X8_isUnder).2.2.2⟩ ⟨by decide, by decide⟩) (hw.preV (k := 200 + (8 * 3 + k)) (xjump 3 k (by decide) hk) rfl) rfl rfl hl.1 rfl (lv_room (by simp [Value.category])) dX9_isUnder_7 ⟨Nat.zero_le _, Nat.zero_le _⟩) (fun r_7 e_7 => ?_)
    subst e_7
    refine lv_if_eq (tgt := 17) hx hb dX9_isUnder_10 (by decide) (fun c_10 => ?_) (fun c_10 => ?_)
    · skip
      refine lv_iconst (v := 0) hx hb dX9_isUnder_17 (by decide) ?_
      exact n_pret hx hb hr hlk rfl (by rw [unS, if_neg c_2, if_pos c_10]) dX9_isUnder_18
    · skip
      refine lv_iconst (v := 1) hx hb dX9_isUnder_13 (by decide) ?_
      refine lv_goto (tgt := 18) hx hb dX9_isUnder_14 (by decide) ?_
      exact n_pret hx hb hr hlk rfl (by rw [unS, if_neg c_2, if_neg c_10]) dX9_isUnder_18
set_option maxHeartbeats 4000000 in
theorem tJX6_isUnder_4 (l : Launch) (G : nG) (ad : Nat → Nat) (w w1 w2 w3 : rw84) (X : mM) (sp : xSp) (sh : xSh) (k : Nat) (hk : k < 8) (v : Int32) : Met l yX6_isUnder (ws_ yX6_isUnder cX6_isUnder 2 (some .boolean)) { frames := 4, cells := 0, slots := 0, locals := 80 } (va_Pc [.ref (ad (200 + (8 * 4 + k))), .int v] (nC G (xE G ad (xV w w1 w2 w3) X sp sh))) (vp_Si (fun r => r = un6 4 v)) 0 0 (fun _ => False) := by
  refine n_head (by decide) (Nat.le_of_ble_eq_true rfl) ?_
  intro p e s m below meth c ls hx hb hr hlk hml hown hts hB0 hl
  have hown : s.vm.findClass "LineCalls$Jumper" = some m.cls := hown
  have hw := nS.start hB0
  have hl : lv_has ls 2 [(0, .ref (ad (200 + (8 * 4 + k)))), (1, .int v)] := hl
  refine lv_iload_n hx hb dX6_isUnder_0 rfl (lv_at hl 1 rfl) ?_
  refine lv_if_eq (tgt := 12) hx hb dX6_isUnder_1 (by decide) (fun c_1 => ?_) (fun c_1 => ?_)
  · skip
    refine lv_iconst (v := 1) hx hb dX6_isUnder_12 (by decide) ?_
    refine lv_goto (tgt := 17) hx hb dX6_isUnder_13 (by decide) ?_
    exact n_pret hx hb hr hlk rfl (by rw [un6, if_pos c_1]) dX6_isUnder_17
  · skip
    refine lv_iload_n hx hb dX6_isUnder_4 rfl (lv_at hl 1 rfl) ?_
    refine lv_aload_n hx hb dX6_isUnder_5 rfl (lv_at hl 0 rfl) ?_
    refine n_callp (va_runU ⟨hx, hb, hml, hown, hts⟩ (tJX10_kind_4 l G ad _ _ _ _ _ _ _ _ hk) (va_cwO 0 hts (lw_O q1120 q556 q554 q564 q565 q103 q566) rfl rfl rfl q581 (hdS_X6_kind).2 ⟨by decide, by decide⟩) (hw.preV (k := 200 + (8 * 4 + k)) (xjump 4 k (by decide) hk) rfl) rfl rfl hl.1 rfl (lv_room (by simp [Value.category])) dX6_isUnder_6 ⟨Nat.zero_le _, Nat.zero_le _⟩) (fun r_6 e_6 => ?_)
    subst e_6
    refine lv_icmp_ne (tgt := 16) hx hb dX6_isUnder_9 (by decide) (fun c_9 => ?_) (fun c_9 => ?_)
    · skip
      refine lv_iconst (v := 0) hx hb dX6_isUnder_16 (by decide) ?_
      exact n_pret hx hb hr hlk rfl (by rw [un6, if_neg c_1, if_neg c_9]) dX6_isUnder_17
    · skip
      refine lv_iconst (v := 1) hx hb dX6_isUnder_12 (by decide) ?_
      refine lv_goto (tgt := 17) hx hb dX6_isUnder_13 (by decide) ?_
      exact n_pret hx hb hr hlk rfl (by rw [un6, if_neg c_1, if_pos c_9]) dX6_isUnder_17
set_option maxHeartbeats 4000000 in
theorem tJX8_isUnder_4 (l : Launch) (G : nG) (ad : Nat → Nat) (w w1 w2 w3 : rw84) (X : mM) (sp : xSp) (sh : xSh) (k : Nat) (hk : k < 8) (v : Int32) : Met l yX8_isUnder (ws_ yX8_isUnder cX8_isUnder 2 (some .boolean)) { frames := 5, cells := 0, slots := 0, locals := 101 } (va_Pc [.ref (ad (200 + (8 * 4 + k))), .int v] (nC G (xE G ad (xV w w1 w2 w3) X sp sh))) (vp_Si (fun r => r = unS 2 (un6 4 v) v)) 0 0 (fun _ => False) := by
  refine n_head (by decide) (Nat.le_of_ble_eq_true rfl) ?_
  intro p e s m below meth c ls hx hb hr hlk hml hown hts hB0 hl
  have hown : s.vm.findClass "LineCalls$Lock" = some m.cls := hown
  have hw := nS.start hB0
  have hl : lv_has ls 2 [(0, .ref (ad (200 + (8 * 4 + k)))), (1, .int v)] := hl
  refine lv_iload_n hx hb dX8_isUnder_0 rfl (lv_at hl 1 rfl) ?_
  refine lv_iconst (v := 2) hx hb dX8_isUnder_1 (by decide) ?_
  refine lv_icmp_eq (tgt := 13) hx hb dX8_isUnder_2 (by decide) (fun c_2 => ?_) (fun c_2 => ?_)
  · skip
    refine lv_iconst (v := 1) hx hb dX8_isUnder_13 (by decide) ?_
    refine lv_goto (tgt := 18) hx hb dX8_isUnder_14 (by decide) ?_
    exact n_pret hx hb hr hlk rfl (by rw [unS, if_pos c_2]) dX8_isUnder_18
  · skip
    refine lv_aload_n hx hb dX8_isUnder_5 rfl (lv_at hl 0 rfl) ?_
    refine lv_iload_n hx hb dX8_isUnder_6 rfl (lv_at hl 1 rfl) ?_
    refine n_callp (va_runSU (hw.cls (ci := 10) (q := (RX10, TX10, 5)) rfl) ⟨hx, hb, hml, hown, hts⟩ (tJX6_isUnder_4 l G ad _ _ _ _ _ _ _ _ hk _) (va_cwSU 1 hts (lw_SU q1114 q1103 q351 q1101 q99 q1119) rfl rfl rfl ⟨by decide, (hdS_X6_isUnder).2.2.2⟩ ⟨by decide, by decide⟩) (hw.preV (k := 200 + (8 * 4 + k)) (xjump 4 k (by decide) hk) rfl) rfl rfl hl.1 rfl (lv_room (by simp [Value.category])) dX8_isUnder_7 ⟨Nat.zero_le _, Nat.zero_le _⟩) (fun r_7 e_7 => ?_)
    subst e_7
    refine lv_if_eq (tgt := 17) hx hb dX8_isUnder_10 (by decide) (fun c_10 => ?_) (fun c_10 => ?_)
    · skip
      refine lv_iconst (v := 0) hx hb dX8_isUnder_17 (by decide) ?_
      exact n_pret hx hb hr hlk rfl (by rw [unS, if_neg c_2, if_pos c_10]) dX8_isUnder_18
    · skip
      refine lv_iconst (v := 1) hx hb dX8_isUnder_13 (by decide) ?_
      refine lv_goto (tgt := 18) hx hb dX8_isUnder_14 (by decide) ?_
      exact n_pret hx hb hr hlk rfl (by rw [unS, if_neg c_2, if_neg c_10]) dX8_isUnder_18
set_option maxHeartbeats 4000000 in
theorem tJX9_isUnder_4 (l : Launch) (G : nG) (ad : Nat → Nat) (w w1 w2 w3 : rw84) (X : mM) (sp : xSp) (sh : xSh) (k : Nat) (hk : k < 8) (v : Int32) : Met l yX9_isUnder (ws_ yX9_isUnder cX9_isUnder 2 (some .boolean)) { frames := 6, cells := 0, slots := 0, locals := 122 } (va_Pc [.ref (ad (200 + (8 * 4 + k))), .int v] (nC G (xE G ad (xV w w1 w2 w3) X sp sh))) (vp_Si (fun r => r = unS 3 (unS 2 (un6 4 v) v) v)) 0 0 (fun _ => False) := by
  refine n_head (by decide) (Nat.le_of_ble_eq_true rfl) ?_
  intro p e s m below meth c ls hx hb hr hlk hml hown hts hB0 hl
  have hown : s.vm.findClass "LineCalls$Tower" = some m.cls := hown
  have hw := nS.start hB0
  have hl : lv_has ls 2 [(0, .ref (ad (200 + (8 * 4 + k)))), (1, .int v)] := hl
  refine lv_iload_n hx hb dX9_isUnder_0 rfl (lv_at hl 1 rfl) ?_
  refine lv_iconst (v := 3) hx hb dX9_isUnder_1 (by decide) ?_
  refine lv_icmp_eq (tgt := 13) hx hb dX9_isUnder_2 (by decide) (fun c_2 => ?_) (fun c_2 => ?_)
  · skip
    refine lv_iconst (v := 1) hx hb dX9_isUnder_13 (by decide) ?_
    refine lv_goto (tgt := 18) hx hb dX9_isUnder_14 (by decide) ?_
    exact n_pret hx hb hr hlk rfl (by rw [unS, if_pos c_2]) dX9_isUnder_18
  · skip
    refine lv_aload_n hx hb dX9_isUnder_5 rfl (lv_at hl 0 rfl) ?_
    refine lv_iload_n hx hb dX9_isUnder_6 rfl (lv_at hl 1 rfl) ?_
    refine n_callp (va_runSU (hw.cls (ci := 10) (q := (RX10, TX10, 5)) rfl) ⟨hx, hb, hml, hown, hts⟩ (tJX8_isUnder_4 l G ad _ _ _ _ _ _ _ _ hk _) (va_cwSU 1 hts (lw_SU q1111 q1702 q364 q1112 q101 q1113) rfl rfl rfl ⟨by decide, (hdS_X8_isUnder).2.2.2⟩ ⟨by decide, by decide⟩) (hw.preV (k := 200 + (8 * 4 + k)) (xjump 4 k (by decide) hk) rfl) rfl rfl hl.1 rfl (lv_room (by simp [Value.category])) dX9_isUnder_7 ⟨Nat.zero_le _, Nat.zero_le _⟩) (fun r_7 e_7 => ?_)
    subst e_7
    refine lv_if_eq (tgt := 17) hx hb dX9_isUnder_10 (by decide) (fun c_10 => ?_) (fun c_10 => ?_)
    · skip
      refine lv_iconst (v := 0) hx hb dX9_isUnder_17 (by decide) ?_
      exact n_pret hx hb hr hlk rfl (by rw [unS, if_neg c_2, if_pos c_10]) dX9_isUnder_18
    · skip
      refine lv_iconst (v := 1) hx hb dX9_isUnder_13 (by decide) ?_
      refine lv_goto (tgt := 18) hx hb dX9_isUnder_14 (by decide) ?_
      exact n_pret hx hb hr hlk rfl (by rw [unS, if_neg c_2, if_neg c_10]) dX9_isUnder_18
set_option maxHeartbeats 4000000 in
theorem tJX6_isUnder_5 (l : Launch) (G : nG) (ad : Nat → Nat) (w w1 w2 w3 : rw84) (X : mM) (sp : xSp) (sh : xSh) (k : Nat) (hk : k < 8) (v : Int32) : Met l yX6_isUnder (ws_ yX6_isUnder cX6_isUnder 2 (some .boolean)) { frames := 2, cells := 0, slots := 0, locals := 40 } (va_Pc [.ref (ad (200 + (8 * 5 + k))), .int v] (nC G (xE G ad (xV w w1 w2 w3) X sp sh))) (vp_Si (fun r => r = un6 5 v)) 0 0 (fun _ => False) := by
  refine n_head (by decide) (Nat.le_of_ble_eq_true rfl) ?_
  intro p e s m below meth c ls hx hb hr hlk hml hown hts hB0 hl
  have hown : s.vm.findClass "LineCalls$Jumper" = some m.cls := hown
  have hw := nS.start hB0
  have hl : lv_has ls 2 [(0, .ref (ad (200 + (8 * 5 + k)))), (1, .int v)] := hl
  refine lv_iload_n hx hb dX6_isUnder_0 rfl (lv_at hl 1 rfl) ?_
  refine lv_if_eq (tgt := 12) hx hb dX6_isUnder_1 (by decide) (fun c_1 => ?_) (fun c_1 => ?_)
  · skip
    refine lv_iconst (v := 1) hx hb dX6_isUnder_12 (by decide) ?_
    refine lv_goto (tgt := 17) hx hb dX6_isUnder_13 (by decide) ?_
    exact n_pret hx hb hr hlk rfl (by rw [un6, if_pos c_1]) dX6_isUnder_17
  · skip
    refine lv_iload_n hx hb dX6_isUnder_4 rfl (lv_at hl 1 rfl) ?_
    refine lv_aload_n hx hb dX6_isUnder_5 rfl (lv_at hl 0 rfl) ?_
    refine n_callp (va_runU ⟨hx, hb, hml, hown, hts⟩ (tJX11_kind_5 l G ad _ _ _ _ _ _ _ _ hk) (va_cwO 0 hts (lw_O q1120 q556 q554 q576 q577 q104 q578) rfl rfl rfl q581 (hdS_X6_kind).2 ⟨by decide, by decide⟩) (hw.preV (k := 200 + (8 * 5 + k)) (xjump 5 k (by decide) hk) rfl) rfl rfl hl.1 rfl (lv_room (by simp [Value.category])) dX6_isUnder_6 ⟨Nat.zero_le _, Nat.zero_le _⟩) (fun r_6 e_6 => ?_)
    subst e_6
    refine lv_icmp_ne (tgt := 16) hx hb dX6_isUnder_9 (by decide) (fun c_9 => ?_) (fun c_9 => ?_)
    · skip
      refine lv_iconst (v := 0) hx hb dX6_isUnder_16 (by decide) ?_
      exact n_pret hx hb hr hlk rfl (by rw [un6, if_neg c_1, if_neg c_9]) dX6_isUnder_17
    · skip
      refine lv_iconst (v := 1) hx hb dX6_isUnder_12 (by decide) ?_
      refine lv_goto (tgt := 17) hx hb dX6_isUnder_13 (by decide) ?_
      exact n_pret hx hb hr hlk rfl (by rw [un6, if_neg c_1, if_pos c_9]) dX6_isUnder_17
set_option maxHeartbeats 4000000 in
theorem tJX6_isUnder_6 (l : Launch) (G : nG) (ad : Nat → Nat) (w w1 w2 w3 : rw84) (X : mM) (sp : xSp) (sh : xSh) (k : Nat) (hk : k < 8) (v : Int32) : Met l yX6_isUnder (ws_ yX6_isUnder cX6_isUnder 2 (some .boolean)) { frames := 3, cells := 0, slots := 0, locals := 60 } (va_Pc [.ref (ad (200 + (8 * 6 + k))), .int v] (nC G (xE G ad (xV w w1 w2 w3) X sp sh))) (vp_Si (fun r => r = un6 6 v)) 0 0 (fun _ => False) := by
  refine n_head (by decide) (Nat.le_of_ble_eq_true rfl) ?_
  intro p e s m below meth c ls hx hb hr hlk hml hown hts hB0 hl
  have hown : s.vm.findClass "LineCalls$Jumper" = some m.cls := hown
  have hw := nS.start hB0
  have hl : lv_has ls 2 [(0, .ref (ad (200 + (8 * 6 + k)))), (1, .int v)] := hl
  refine lv_iload_n hx hb dX6_isUnder_0 rfl (lv_at hl 1 rfl) ?_
  refine lv_if_eq (tgt := 12) hx hb dX6_isUnder_1 (by decide) (fun c_1 => ?_) (fun c_1 => ?_)
  · skip
    refine lv_iconst (v := 1) hx hb dX6_isUnder_12 (by decide) ?_
    refine lv_goto (tgt := 17) hx hb dX6_isUnder_13 (by decide) ?_
    exact n_pret hx hb hr hlk rfl (by rw [un6, if_pos c_1]) dX6_isUnder_17
  · skip
    refine lv_iload_n hx hb dX6_isUnder_4 rfl (lv_at hl 1 rfl) ?_
    refine lv_aload_n hx hb dX6_isUnder_5 rfl (lv_at hl 0 rfl) ?_
    refine n_callp (va_runU ⟨hx, hb, hml, hown, hts⟩ (tJX12_kind_6 l G ad _ _ _ _ _ _ _ _ hk) (va_cwO 0 hts (lw_O q1120 q556 q554 q557 q558 q105 q559) rfl rfl rfl q581 (hdS_X6_kind).2 ⟨by decide, by decide⟩) (hw.preV (k := 200 + (8 * 6 + k)) (xjump 6 k (by decide) hk) rfl) rfl rfl hl.1 rfl (lv_room (by simp [Value.category])) dX6_isUnder_6 ⟨Nat.zero_le _, Nat.zero_le _⟩) (fun r_6 e_6 => ?_)
    subst e_6
    refine lv_icmp_ne (tgt := 16) hx hb dX6_isUnder_9 (by decide) (fun c_9 => ?_) (fun c_9 => ?_)
    · skip
      refine lv_iconst (v := 0) hx hb dX6_isUnder_16 (by decide) ?_
      exact n_pret hx hb hr hlk rfl (by rw [un6, if_neg c_1, if_neg c_9]) dX6_isUnder_17
    · skip
      refine lv_iconst (v := 1) hx hb dX6_isUnder_12 (by decide) ?_
      refine lv_goto (tgt := 17) hx hb dX6_isUnder_13 (by decide) ?_
      exact n_pret hx hb hr hlk rfl (by rw [un6, if_neg c_1, if_pos c_9]) dX6_isUnder_17
set_option maxHeartbeats 4000000 in
theorem tJX7_isUnder_6 (l : Launch) (G : nG) (ad : Nat → Nat) (w w1 w2 w3 : rw84) (X : mM) (sp : xSp) (sh : xSh) (k : Nat) (hk : k < 8) (v : Int32) : Met l yX7_isUnder (ws_ yX7_isUnder cX7_isUnder 2 (some .boolean)) { frames := 4, cells := 0, slots := 0, locals := 81 } (va_Pc [.ref (ad (200 + (8 * 6 + k))), .int v] (nC G (xE G ad (xV w w1 w2 w3) X sp sh))) (vp_Si (fun r => r = unS 1 (un6 6 v) v)) 0 0 (fun _ => False) := by
  refine n_head (by decide) (Nat.le_of_ble_eq_true rfl) ?_
  intro p e s m below meth c ls hx hb hr hlk hml hown hts hB0 hl
  have hown : s.vm.findClass "LineCalls$Prop" = some m.cls := hown
  have hw := nS.start hB0
  have hl : lv_has ls 2 [(0, .ref (ad (200 + (8 * 6 + k)))), (1, .int v)] := hl
  refine lv_iload_n hx hb dX7_isUnder_0 rfl (lv_at hl 1 rfl) ?_
  refine lv_iconst (v := 1) hx hb dX7_isUnder_1 (by decide) ?_
  refine lv_icmp_eq (tgt := 13) hx hb dX7_isUnder_2 (by decide) (fun c_2 => ?_) (fun c_2 => ?_)
  · skip
    refine lv_iconst (v := 1) hx hb dX7_isUnder_13 (by decide) ?_
    refine lv_goto (tgt := 18) hx hb dX7_isUnder_14 (by decide) ?_
    exact n_pret hx hb hr hlk rfl (by rw [unS, if_pos c_2]) dX7_isUnder_18
  · skip
    refine lv_aload_n hx hb dX7_isUnder_5 rfl (lv_at hl 0 rfl) ?_
    refine lv_iload_n hx hb dX7_isUnder_6 rfl (lv_at hl 1 rfl) ?_
    refine n_callp (va_runSU (hw.cls (ci := 12) (q := (RX12, TX12, 4)) rfl) ⟨hx, hb, hml, hown, hts⟩ (tJX6_isUnder_6 l G ad _ _ _ _ _ _ _ _ hk _) (va_cwSU 1 hts (lw_SU q1107 q1103 q339 q1101 q99 q1119) rfl rfl rfl ⟨by decide, (hdS_X6_isUnder).2.2.2⟩ ⟨by decide, by decide⟩) (hw.preV (k := 200 + (8 * 6 + k)) (xjump 6 k (by decide) hk) rfl) rfl rfl hl.1 rfl (lv_room (by simp [Value.category])) dX7_isUnder_7 ⟨Nat.zero_le _, Nat.zero_le _⟩) (fun r_7 e_7 => ?_)
    subst e_7
    refine lv_if_eq (tgt := 17) hx hb dX7_isUnder_10 (by decide) (fun c_10 => ?_) (fun c_10 => ?_)
    · skip
      refine lv_iconst (v := 0) hx hb dX7_isUnder_17 (by decide) ?_
      exact n_pret hx hb hr hlk rfl (by rw [unS, if_neg c_2, if_pos c_10]) dX7_isUnder_18
    · skip
      refine lv_iconst (v := 1) hx hb dX7_isUnder_13 (by decide) ?_
      refine lv_goto (tgt := 18) hx hb dX7_isUnder_14 (by decide) ?_
      exact n_pret hx hb hr hlk rfl (by rw [unS, if_neg c_2, if_neg c_10]) dX7_isUnder_18
