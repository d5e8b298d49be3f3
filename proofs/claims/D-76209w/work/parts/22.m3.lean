/-! the reference: what writes its row -/
set_option maxRecDepth 100000
theorem hdS_X13_copyRow : yX13_copyRow.cls = "LineCallsModel" ∧ yX13_copyRow.cls ≠ "java/lang/invoke/MethodHandle" ∧ yX13_copyRow.cls ≠ "java/lang/invoke/VarHandle" ∧ (parseMethodDescriptor yX13_copyRow.desc).map (fun d => d.parameters.length) = some 2 := by decide +kernel
set_option maxHeartbeats 4000000 in
theorem tM_copyRow_0_2 (l : Launch) (G : nG) (ad : Nat → Nat) (w : rw84) (M : mM)  : Met l yX13_copyRow (ws_ yX13_copyRow cX13_copyRow 3 (none)) { frames := 0, cells := 0, slots := 0, locals := 0 } (va_Pc [.ref (ad 1), .ref (ad 3)] (nC G (mE G ad w M))) (va_Qv (fun (u : rw84 × mM) => u = (w, ur M 2 w)) (fun u => nC G (mE G ad u.1 u.2)) (nA G)) 0 0 (nA G) := by
  refine n_head (by decide) (Nat.le_of_ble_eq_true rfl) ?_
  intro p e s m below meth c ls hx hb hr hlk hml hown hts hB0 hl
  have hown : s.vm.findClass "LineCallsModel" = some m.cls := hown
  have hw := nS.start hB0
  have hl : lv_has ls 3 [(0, .ref (ad 1)), (1, .ref (ad 3))] := hl
  refine lv_iconst (v := 0) hx hb dX13_copyRow_0 (by decide) ?_
  refine lv_istore_n hx hb dX13_copyRow_1 rfl hl (by decide) rfl (fun ls hl => ?_)
  refine n_loop (α := Nat) (fun q H locs ls => q ≤ 84 ∧ nS G (mE G ad w (ur M 2 (cpF w (M 2) q))) s H locs ∧ lv_has ls 3 [(0, .ref (ad 1)), (1, .ref (ad 3)), (2, .int (nI q))]) (fun q => 84 - q) 2 ?_ 0 _ _ _ ⟨Nat.zero_le _, (by rw [cp_0, ur_self]; exact hw), (lv_sub hl [1, 2, 0] rfl)⟩
  clear hl hw
  intro q H locs ls hI ih_2
  obtain ⟨hq, hw, hl⟩ := hI
  refine lv_iload_n hx hb dX13_copyRow_2 rfl (lv_at hl 2 rfl) ?_
  refine lv_bipush (v := 84) hx hb dX13_copyRow_3 (by decide) ?_
  refine lv_icmp_ge (tgt := 20) hx hb dX13_copyRow_5 (by decide) (fun c_5 => ?_) (fun c_5 => ?_)
  · skip
    have n_5 : 84 ≤ q := (nI_leI (a := 84) (b := q) (by omega) (by omega)).mp c_5
    obtain rfl : q = 84 := by omega
    have hw := mE_row 2 (by decide) hw cp_84
    exact m_vret hx hb hr hlk hw rfl dX13_copyRow_20
  · skip
    have n_5 : ¬ 84 ≤ q := fun h => c_5 ((nI_leI (a := 84) (b := q) (by omega) (by omega)).mpr h)
    refine lv_aload_n hx hb dX13_copyRow_8 rfl (lv_at hl 1 rfl) ?_
    refine lv_iload_n hx hb dX13_copyRow_9 rfl (lv_at hl 2 rfl) ?_
    refine lv_aload_n hx hb dX13_copyRow_10 rfl (lv_at hl 0 rfl) ?_
    refine lv_iload_n hx hb dX13_copyRow_11 rfl (lv_at hl 2 rfl) ?_
    refine n_iald (k := 1) (j := q) hx hb hw rfl rfl (by omega) (by decide) dX13_copyRow_12 ?_
    refine m_iast (j := q) hx hb hw 2 rfl (mU_2 _ _ _ _) rfl (by omega) (by decide) dX13_copyRow_13 (fun H locs hw => ?_)
    refine lv_iinc (v := nI (q + 1)) hx hb dX13_copyRow_14 hl (k := 2) rfl (nI_1 _) (by decide) rfl (fun ls hl => ?_)
    refine lv_goto (tgt := 2) hx hb dX13_copyRow_17 (by decide) ?_
    exact ih_2 (q + 1) _ _ _ (by first | omega | (dsimp only; omega)) ⟨by omega, cp_row hw, (lv_sub hl [1, 2, 0] rfl)⟩
set_option maxHeartbeats 4000000 in
theorem tM_copyRow_2_0 (l : Launch) (G : nG) (ad : Nat → Nat) (w : rw84) (M : mM)  : Met l yX13_copyRow (ws_ yX13_copyRow cX13_copyRow 3 (none)) { frames := 0, cells := 0, slots := 0, locals := 0 } (va_Pc [.ref (ad 3), .ref (ad 1)] (nC G (mE G ad w M))) (va_Qv (fun (u : rw84 × mM) => u = (M 2, M)) (fun u => nC G (mE G ad u.1 u.2)) (nA G)) 0 0 (nA G) := by
  refine n_head (by decide) (Nat.le_of_ble_eq_true rfl) ?_
  intro p e s m below meth c ls hx hb hr hlk hml hown hts hB0 hl
  have hown : s.vm.findClass "LineCallsModel" = some m.cls := hown
  have hw := nS.start hB0
  have hl : lv_has ls 3 [(0, .ref (ad 3)), (1, .ref (ad 1))] := hl
  refine lv_iconst (v := 0) hx hb dX13_copyRow_0 (by decide) ?_
  refine lv_istore_n hx hb dX13_copyRow_1 rfl hl (by decide) rfl (fun ls hl => ?_)
  refine n_loop (α := Nat) (fun q H locs ls => q ≤ 84 ∧ nS G (mE G ad (cpF (M 2) w q) M) s H locs ∧ lv_has ls 3 [(0, .ref (ad 3)), (1, .ref (ad 1)), (2, .int (nI q))]) (fun q => 84 - q) 2 ?_ 0 _ _ _ ⟨Nat.zero_le _, (by rw [cp_0]; exact hw), (lv_sub hl [1, 2, 0] rfl)⟩
  clear hl hw
  intro q H locs ls hI ih_2
  obtain ⟨hq, hw, hl⟩ := hI
  refine lv_iload_n hx hb dX13_copyRow_2 rfl (lv_at hl 2 rfl) ?_
  refine lv_bipush (v := 84) hx hb dX13_copyRow_3 (by decide) ?_
  refine lv_icmp_ge (tgt := 20) hx hb dX13_copyRow_5 (by decide) (fun c_5 => ?_) (fun c_5 => ?_)
  · skip
    have n_5 : 84 ≤ q := (nI_leI (a := 84) (b := q) (by omega) (by omega)).mp c_5
    obtain rfl : q = 84 := by omega
    have hw := mE_now hw cp_84
    exact m_vret hx hb hr hlk hw rfl dX13_copyRow_20
  · skip
    have n_5 : ¬ 84 ≤ q := fun h => c_5 ((nI_leI (a := 84) (b := q) (by omega) (by omega)).mpr h)
    refine lv_aload_n hx hb dX13_copyRow_8 rfl (lv_at hl 1 rfl) ?_
    refine lv_iload_n hx hb dX13_copyRow_9 rfl (lv_at hl 2 rfl) ?_
    refine lv_aload_n hx hb dX13_copyRow_10 rfl (lv_at hl 0 rfl) ?_
    refine lv_iload_n hx hb dX13_copyRow_11 rfl (lv_at hl 2 rfl) ?_
    refine n_iald (k := 3) (j := q) hx hb hw rfl rfl (by omega) (by decide) dX13_copyRow_12 ?_
    refine m_iastw (j := q) hx hb hw rfl (by omega) dX13_copyRow_13 (fun H locs hw => ?_)
    refine lv_iinc (v := nI (q + 1)) hx hb dX13_copyRow_14 hl (k := 2) rfl (nI_1 _) (by decide) rfl (fun ls hl => ?_)
    refine lv_goto (tgt := 2) hx hb dX13_copyRow_17 (by decide) ?_
    exact ih_2 (q + 1) _ _ _ (by first | omega | (dsimp only; omega)) ⟨by omega, cp_now hw, (lv_sub hl [1, 2, 0] rfl)⟩
set_option maxHeartbeats 4000000 in
theorem tM_copyRow_0_1 (l : Launch) (G : nG) (ad : Nat → Nat) (w : rw84) (M : mM)  : Met l yX13_copyRow (ws_ yX13_copyRow cX13_copyRow 3 (none)) { frames := 0, cells := 0, slots := 0, locals := 0 } (va_Pc [.ref (ad 1), .ref (ad 2)] (nC G (mE G ad w M))) (va_Qv (fun (u : rw84 × mM) => u = (w, ur M 1 w)) (fun u => nC G (mE G ad u.1 u.2)) (nA G)) 0 0 (nA G) := by
  refine n_head (by decide) (Nat.le_of_ble_eq_true rfl) ?_
  intro p e s m below meth c ls hx hb hr hlk hml hown hts hB0 hl
  have hown : s.vm.findClass "LineCallsModel" = some m.cls := hown
  have hw := nS.start hB0
  have hl : lv_has ls 3 [(0, .ref (ad 1)), (1, .ref (ad 2))] := hl
  refine lv_iconst (v := 0) hx hb dX13_copyRow_0 (by decide) ?_
  refine lv_istore_n hx hb dX13_copyRow_1 rfl hl (by decide) rfl (fun ls hl => ?_)
  refine n_loop (α := Nat) (fun q H locs ls => q ≤ 84 ∧ nS G (mE G ad w (ur M 1 (cpF w (M 1) q))) s H locs ∧ lv_has ls 3 [(0, .ref (ad 1)), (1, .ref (ad 2)), (2, .int (nI q))]) (fun q => 84 - q) 2 ?_ 0 _ _ _ ⟨Nat.zero_le _, (by rw [cp_0, ur_self]; exact hw), (lv_sub hl [1, 2, 0] rfl)⟩
  clear hl hw
  intro q H locs ls hI ih_2
  obtain ⟨hq, hw, hl⟩ := hI
  refine lv_iload_n hx hb dX13_copyRow_2 rfl (lv_at hl 2 rfl) ?_
  refine lv_bipush (v := 84) hx hb dX13_copyRow_3 (by decide) ?_
  refine lv_icmp_ge (tgt := 20) hx hb dX13_copyRow_5 (by decide) (fun c_5 => ?_) (fun c_5 => ?_)
  · skip
    have n_5 : 84 ≤ q := (nI_leI (a := 84) (b := q) (by omega) (by omega)).mp c_5
    obtain rfl : q = 84 := by omega
    have hw := mE_row 1 (by decide) hw cp_84
    exact m_vret hx hb hr hlk hw rfl dX13_copyRow_20
  · skip
    have n_5 : ¬ 84 ≤ q := fun h => c_5 ((nI_leI (a := 84) (b := q) (by omega) (by omega)).mpr h)
    refine lv_aload_n hx hb dX13_copyRow_8 rfl (lv_at hl 1 rfl) ?_
    refine lv_iload_n hx hb dX13_copyRow_9 rfl (lv_at hl 2 rfl) ?_
    refine lv_aload_n hx hb dX13_copyRow_10 rfl (lv_at hl 0 rfl) ?_
    refine lv_iload_n hx hb dX13_copyRow_11 rfl (lv_at hl 2 rfl) ?_
    refine n_iald (k := 1) (j := q) hx hb hw rfl rfl (by omega) (by decide) dX13_copyRow_12 ?_
    refine m_iast (j := q) hx hb hw 1 rfl (mU_1 _ _ _ _) rfl (by omega) (by decide) dX13_copyRow_13 (fun H locs hw => ?_)
    refine lv_iinc (v := nI (q + 1)) hx hb dX13_copyRow_14 hl (k := 2) rfl (nI_1 _) (by decide) rfl (fun ls hl => ?_)
    refine lv_goto (tgt := 2) hx hb dX13_copyRow_17 (by decide) ?_
    exact ih_2 (q + 1) _ _ _ (by first | omega | (dsimp only; omega)) ⟨by omega, cp_row hw, (lv_sub hl [1, 2, 0] rfl)⟩
set_option maxHeartbeats 4000000 in
theorem tM_copyRow_1_0 (l : Launch) (G : nG) (ad : Nat → Nat) (w : rw84) (M : mM)  : Met l yX13_copyRow (ws_ yX13_copyRow cX13_copyRow 3 (none)) { frames := 0, cells := 0, slots := 0, locals := 0 } (va_Pc [.ref (ad 2), .ref (ad 1)] (nC G (mE G ad w M))) (va_Qv (fun (u : rw84 × mM) => u = (M 1, M)) (fun u => nC G (mE G ad u.1 u.2)) (nA G)) 0 0 (nA G) := by
  refine n_head (by decide) (Nat.le_of_ble_eq_true rfl) ?_
  intro p e s m below meth c ls hx hb hr hlk hml hown hts hB0 hl
  have hown : s.vm.findClass "LineCallsModel" = some m.cls := hown
  have hw := nS.start hB0
  have hl : lv_has ls 3 [(0, .ref (ad 2)), (1, .ref (ad 1))] := hl
  refine lv_iconst (v := 0) hx hb dX13_copyRow_0 (by decide) ?_
  refine lv_istore_n hx hb dX13_copyRow_1 rfl hl (by decide) rfl (fun ls hl => ?_)
  refine n_loop (α := Nat) (fun q H locs ls => q ≤ 84 ∧ nS G (mE G ad (cpF (M 1) w q) M) s H locs ∧ lv_has ls 3 [(0, .ref (ad 2)), (1, .ref (ad 1)), (2, .int (nI q))]) (fun q => 84 - q) 2 ?_ 0 _ _ _ ⟨Nat.zero_le _, (by rw [cp_0]; exact hw), (lv_sub hl [1, 2, 0] rfl)⟩
  clear hl hw
  intro q H locs ls hI ih_2
  obtain ⟨hq, hw, hl⟩ := hI
  refine lv_iload_n hx hb dX13_copyRow_2 rfl (lv_at hl 2 rfl) ?_
  refine lv_bipush (v := 84) hx hb dX13_copyRow_3 (by decide) ?_
  refine lv_icmp_ge (tgt := 20) hx hb dX13_copyRow_5 (by decide) (fun c_5 => ?_) (fun c_5 => ?_)
  · skip
    have n_5 : 84 ≤ q := (nI_leI (a := 84) (b := q) (by omega) (by omega)).mp c_5
    obtain rfl : q = 84 := by omega
    have hw := mE_now hw cp_84
    exact m_vret hx hb hr hlk hw rfl dX13_copyRow_20
  · skip
    have n_5 : ¬ 84 ≤ q := fun h => c_5 ((nI_leI (a := 84) (b := q) (by omega) (by omega)).mpr h)
    refine lv_aload_n hx hb dX13_copyRow_8 rfl (lv_at hl 1 rfl) ?_
    refine lv_iload_n hx hb dX13_copyRow_9 rfl (lv_at hl 2 rfl) ?_
    refine lv_aload_n hx hb dX13_copyRow_10 rfl (lv_at hl 0 rfl) ?_
    refine lv_iload_n hx hb dX13_copyRow_11 rfl (lv_at hl 2 rfl) ?_
    refine n_iald (k := 2) (j := q) hx hb hw rfl rfl (by omega) (by decide) dX13_copyRow_12 ?_
    refine m_iastw (j := q) hx hb hw rfl (by omega) dX13_copyRow_13 (fun H locs hw => ?_)
    refine lv_iinc (v := nI (q + 1)) hx hb dX13_copyRow_14 hl (k := 2) rfl (nI_1 _) (by decide) rfl (fun ls hl => ?_)
    refine lv_goto (tgt := 2) hx hb dX13_copyRow_17 (by decide) ?_
    exact ih_2 (q + 1) _ _ _ (by first | omega | (dsimp only; omega)) ⟨by omega, cp_now hw, (lv_sub hl [1, 2, 0] rfl)⟩
theorem hdS_X13_become : yX13_become.cls = "LineCallsModel" ∧ yX13_become.cls ≠ "java/lang/invoke/MethodHandle" ∧ yX13_become.cls ≠ "java/lang/invoke/VarHandle" ∧ (parseMethodDescriptor yX13_become.desc).map (fun d => d.parameters.length) = some 2 := by decide +kernel
set_option maxHeartbeats 4000000 in
theorem tM_become (l : Launch) (G : nG) (ad : Nat → Nat) (w : rw84) (M : mM) (q : Nat) (v : Int32) (hq : q < 84) : Met l yX13_become (ws_ yX13_become cX13_become 4 (some .int)) { frames := 0, cells := 0, slots := 0, locals := 0 } (va_Pc [.ref (ad 0), .int (nI q), .int v] (nC G (mE G ad w M))) (va_Qi (fun (r : Int32) (u : rw84 × mM) => r = w q ∧ u = (upd w q v, M)) (fun u => nC G (mE G ad u.1 u.2)) (nA G)) 0 0 (nA G) := by
  refine n_head (by decide) (Nat.le_of_ble_eq_true rfl) ?_
  intro p e s m below meth c ls hx hb hr hlk hml hown hts hB0 hl
  have hown : s.vm.findClass "LineCallsModel" = some m.cls := hown
  have hw := nS.start hB0
  have hl : lv_has ls 4 [(0, .ref (ad 0)), (1, .int (nI q)), (2, .int v)] := hl
  refine lv_aload_n hx hb dX13_become_0 rfl (lv_at hl 0 rfl) ?_
  refine n_get (k := 0) hx hb hts in_X13 hown hw rfl rfl 0 (by decide) q1198 rfl dX13_become_1 ?_
  refine lv_iload_n hx hb dX13_become_4 rfl (lv_at hl 1 rfl) ?_
  refine n_iald (k := 1) (j := q) hx hb hw rfl rfl (by omega) (by decide) dX13_become_5 ?_
  refine lv_istore_n hx hb dX13_become_6 rfl hl (by decide) rfl (fun ls hl => ?_)
  refine lv_aload_n hx hb dX13_become_7 rfl (lv_at hl 1 rfl) ?_
  refine n_get (k := 0) hx hb hts in_X13 hown hw rfl rfl 0 (by decide) q1198 rfl dX13_become_8 ?_
  refine lv_iload_n hx hb dX13_become_11 rfl (lv_at hl 2 rfl) ?_
  refine lv_iload_n hx hb dX13_become_12 rfl (lv_at hl 3 rfl) ?_
  refine m_iastw (j := q) hx hb hw rfl (by omega) dX13_become_13 (fun H locs hw => ?_)
  refine lv_iload_n hx hb dX13_become_14 rfl (lv_at hl 0 rfl) ?_
  exact m_iret hx hb hr hlk rfl hw ⟨rfl, rfl⟩ dX13_become_15
theorem hdS_X13_putBack : yX13_putBack.cls = "LineCallsModel" ∧ yX13_putBack.cls ≠ "java/lang/invoke/MethodHandle" ∧ yX13_putBack.cls ≠ "java/lang/invoke/VarHandle" ∧ (parseMethodDescriptor yX13_putBack.desc).map (fun d => d.parameters.length) = some 1 := by decide +kernel
set_option maxHeartbeats 4000000 in
theorem tM_putBack (l : Launch) (G : nG) (ad : Nat → Nat) (w : rw84) (M : mM) (v : Int32) : Met l yX13_putBack (ws_ yX13_putBack cX13_putBack 2 (some .int)) { frames := 1, cells := 0, slots := 0, locals := 22 } (va_Pc [.ref (ad 0), .int v] (nC G (mE G ad w M))) (va_Qi (fun (r : Int32) (u : rw84 × mM) => r = v ∧ u = (M 2, M)) (fun u => nC G (mE G ad u.1 u.2)) (nA G)) 0 0 (nA G) := by
  refine n_head (by decide) (Nat.le_of_ble_eq_true rfl) ?_
  intro p e s m below meth c ls hx hb hr hlk hml hown hts hB0 hl
  have hown : s.vm.findClass "LineCallsModel" = some m.cls := hown
  have hw := nS.start hB0
  have hl : lv_has ls 2 [(0, .ref (ad 0)), (1, .int v)] := hl
  refine lv_aload_n hx hb dX13_putBack_0 rfl (lv_at hl 0 rfl) ?_
  refine n_get (k := 0) hx hb hts in_X13 hown hw rfl rfl 2 (by decide) q1200 rfl dX13_putBack_1 ?_
  refine lv_aload_n hx hb dX13_putBack_4 rfl (lv_at hl 0 rfl) ?_
  refine n_get (k := 0) hx hb hts in_X13 hown hw rfl rfl 0 (by decide) q1198 rfl dX13_putBack_5 ?_
  refine n_callv (va_runS ⟨hx, hb, hml, hown, hts⟩ (tM_copyRow_2_0 l G ad _ _ ) (va_cwS 2 hts (lw_S q1439 q1440 q106 q1441) rfl rfl rfl (hdS_X13_copyRow).2 ⟨by decide, by decide⟩) hw.preS rfl rfl hl.1 rfl (lv_room (by simp [Value.category])) dX13_putBack_8 ⟨Nat.zero_le _, Nat.zero_le _⟩) hw (fun u_8 H locs e_8 hw => ?_)
  subst e_8
  have hw : nS G (mE G ad _ _) s H locs := hw
  refine lv_iload_n hx hb dX13_putBack_11 rfl (lv_at hl 1 rfl) ?_
  exact m_iret hx hb hr hlk rfl hw ⟨rfl, rfl⟩ dX13_putBack_12
theorem hdS_X13_orNone : yX13_orNone.cls = "LineCallsModel" ∧ yX13_orNone.cls ≠ "java/lang/invoke/MethodHandle" ∧ yX13_orNone.cls ≠ "java/lang/invoke/VarHandle" ∧ (parseMethodDescriptor yX13_orNone.desc).map (fun d => d.parameters.length) = some 1 := by decide +kernel
set_option maxHeartbeats 4000000 in
theorem tM_orNone (l : Launch) (G : nG) (ad : Nat → Nat) (w : rw84) (M : mM) (v : Int32) : Met l yX13_orNone (ws_ yX13_orNone cX13_orNone 2 (some .int)) { frames := 1, cells := 0, slots := 0, locals := 21 } (va_Pc [.ref (ad 0), .int v] (nC G (mE G ad w M))) (va_Qi (fun (r : Int32) (u : rw84 × mM) => r = (if 0 ≤ v then v else -1000004) ∧ u = (w, if 0 ≤ v then M else mFind M 3)) (fun u => nC G (mE G ad u.1 u.2)) (nA G)) 0 0 (nA G) := by
  refine n_head (by decide) (Nat.le_of_ble_eq_true rfl) ?_
  intro p e s m below meth c ls hx hb hr hlk hml hown hts hB0 hl
  have hown : s.vm.findClass "LineCallsModel" = some m.cls := hown
  have hw := nS.start hB0
  have hl : lv_has ls 2 [(0, .ref (ad 0)), (1, .int v)] := hl
  refine lv_iload_n hx hb dX13_orNone_0 rfl (lv_at hl 1 rfl) ?_
  refine lv_if_ge (tgt := 13) hx hb dX13_orNone_1 (by decide) (fun c_1 => ?_) (fun c_1 => ?_)
  · skip
    refine lv_iload_n hx hb dX13_orNone_13 rfl (lv_at hl 1 rfl) ?_
    exact m_iret hx hb hr hlk rfl hw ⟨by rw [if_pos c_1], by rw [if_pos c_1]⟩ dX13_orNone_14
  · skip
    refine lv_aload_n hx hb dX13_orNone_4 rfl (lv_at hl 0 rfl) ?_
    refine lv_ldc (v := (-1000004)) hx hb hown (hts _ q1462) dX13_orNone_5 ?_
    refine n_calli (va_runV ⟨hx, hb, hml, hown, hts⟩ (tM_finding l G ad _ _ (-1000004) 3 (by decide) (by decide)) (cwV 1 hts (lw_V q1297 q1299 qs53 q106 q1300) rfl rfl rfl hdS_X13_finding ⟨by decide, by decide⟩) (hw.preV (k := 0) rfl rfl) rfl rfl hl.1 rfl (lv_room (by simp [Value.category])) dX13_orNone_7 ⟨Nat.zero_le _, Nat.zero_le _⟩) hw (fun r_7 u_7 H locs e_7 hw => ?_)
    obtain ⟨rfl, rfl⟩ := e_7
    have hw : nS G (mE G ad _ _) s H locs := hw
    refine lv_goto (tgt := 14) hx hb dX13_orNone_10 (by decide) ?_
    exact m_iret hx hb hr hlk rfl hw ⟨by rw [if_neg c_1], by rw [if_neg c_1]⟩ dX13_orNone_14
theorem hdS_X13_stands : yX13_stands.cls = "LineCallsModel" ∧ yX13_stands.cls ≠ "java/lang/invoke/MethodHandle" ∧ yX13_stands.cls ≠ "java/lang/invoke/VarHandle" ∧ (parseMethodDescriptor yX13_stands.desc).map (fun d => d.parameters.length) = some 2 := by decide +kernel
set_option maxHeartbeats 4000000 in
theorem tM_stands (l : Launch) (G : nG) (ad : Nat → Nat) (w : rw84) (M : mM) (q : Nat) (k : Int32) (hq : q < 7) : Met l yX13_stands (ws_ yX13_stands cX13_stands 5 (some .int)) { frames := 1, cells := 0, slots := 0, locals := 23 } (va_Pc [.ref (ad 0), .int (nI q), .int k] (nC G (mE G ad w M))) (va_Qi (fun (r : Int32) (u : rw84 × mM) => r = w (17 + q) ∧ u = (standF w q k, M)) (fun u => nC G (mE G ad u.1 u.2)) (nA G)) 0 0 (nA G) := by
  refine n_head (by decide) (Nat.le_of_ble_eq_true rfl) ?_
  intro p e s m below meth c ls hx hb hr hlk hml hown hts hB0 hl
  have hown : s.vm.findClass "LineCallsModel" = some m.cls := hown
  have hw := nS.start hB0
  have hl : lv_has ls 5 [(0, .ref (ad 0)), (1, .int (nI q)), (2, .int k)] := hl
  refine lv_aload_n hx hb dX13_stands_0 rfl (lv_at hl 0 rfl) ?_
  refine n_get (k := 0) hx hb hts in_X13 hown hw rfl rfl 0 (by decide) q1198 rfl dX13_stands_1 ?_
  refine lv_bipush (v := 17) hx hb dX13_stands_4 (by decide) ?_
  refine lv_iload_n hx hb dX13_stands_6 rfl (lv_at hl 1 rfl) ?_
  refine lv_iadd hx hb dX13_stands_7 ?_
  refine n_topE (nI_add 17 q) ?_
  refine n_iald (k := 1) (j := 17 + q) hx hb hw rfl rfl (by omega) (by decide) dX13_stands_8 ?_
  refine lv_istore_n hx hb dX13_stands_9 rfl hl (by decide) rfl (fun ls hl => ?_)
  refine lv_iload_n hx hb dX13_stands_10 rfl (lv_at hl 3 rfl) ?_
  refine n_join1 (fun v => v = oI (if k < 0 then none else stN w k 7)) 23 (fun v_11 hv_11 => ?_) (fun hj_11 => ?_)
  · skip
    subst hv_11
    refine lv_istore hx hb dX13_stands_23 hl (by decide) rfl (fun ls hl => ?_)
    refine lv_iload hx hb dX13_stands_25 (lv_at hl 0 rfl) ?_
    refine lv_if_lt (tgt := 41) hx hb dX13_stands_27 (by decide) (fun c_27 => ?_) (fun c_27 => ?_)
    · skip
      have ho := oI_neg (fun z hz => by split at hz; cases hz; have := stN_lt hz; omega) c_27
      refine lv_aload_n hx hb dX13_stands_41 rfl (lv_at hl 2 rfl) ?_
      refine n_get (k := 0) hx hb hts in_X13 hown hw rfl rfl 0 (by decide) q1198 rfl dX13_stands_42 ?_
      refine lv_bipush (v := 17) hx hb dX13_stands_45 (by decide) ?_
      refine lv_iload_n hx hb dX13_stands_47 rfl (lv_at hl 3 rfl) ?_
      refine lv_iadd hx hb dX13_stands_48 ?_
      refine n_topE (nI_add 17 q) ?_
      refine lv_iload_n hx hb dX13_stands_49 rfl (lv_at hl 4 rfl) ?_
      refine m_iastw (j := 17 + q) hx hb hw rfl (by omega) dX13_stands_50 (fun H locs hw => ?_)
      refine lv_iload_n hx hb dX13_stands_51 rfl (lv_at hl 1 rfl) ?_
      exact m_iret hx hb hr hlk rfl hw ⟨rfl, by rw [standF]; first | rw [ho] | rw [hz]⟩ dX13_stands_52
    · skip
      obtain ⟨z, hz, ez⟩ := oI_pos c_27
      have hz7 : z < 7 := by (have hz2 := hz; split at hz2; cases hz2; exact stN_lt hz2)
      refine lv_aload_n hx hb dX13_stands_30 rfl (lv_at hl 2 rfl) ?_
      refine n_get (k := 0) hx hb hts in_X13 hown hw rfl rfl 0 (by decide) q1198 rfl dX13_stands_31 ?_
      refine lv_bipush (v := 17) hx hb dX13_stands_34 (by decide) ?_
      refine lv_iload hx hb dX13_stands_36 (lv_at hl 0 rfl) ?_
      refine n_topE ez ?_
      refine lv_iadd hx hb dX13_stands_38 ?_
      refine n_topE (nI_add 17 z) ?_
      refine lv_iconst (v := (-1)) hx hb dX13_stands_39 (by decide) ?_
      refine m_iastw (j := 17 + z) hx hb hw rfl (by omega) dX13_stands_40 (fun H locs hw => ?_)
      refine lv_aload_n hx hb dX13_stands_41 rfl (lv_at hl 2 rfl) ?_
      refine n_get (k := 0) hx hb hts in_X13 hown hw rfl rfl 0 (by decide) q1198 rfl dX13_stands_42 ?_
      refine lv_bipush (v := 17) hx hb dX13_stands_45 (by decide) ?_
      refine lv_iload_n hx hb dX13_stands_47 rfl (lv_at hl 3 rfl) ?_
      refine lv_iadd hx hb dX13_stands_48 ?_
      refine n_topE (nI_add 17 q) ?_
      refine lv_iload_n hx hb dX13_stands_49 rfl (lv_at hl 4 rfl) ?_
      refine m_iastw (j := 17 + q) hx hb hw rfl (by omega) dX13_stands_50 (fun H locs hw => ?_)
      refine lv_iload_n hx hb dX13_stands_51 rfl (lv_at hl 1 rfl) ?_
      exact m_iret hx hb hr hlk rfl hw ⟨rfl, by rw [standF]; first | rw [ho] | rw [hz]⟩ dX13_stands_52
  · skip
    refine lv_if_ge (tgt := 18) hx hb dX13_stands_11 (by decide) (fun c_11 => ?_) (fun c_11 => ?_)
    · skip
      refine lv_aload_n hx hb dX13_stands_18 rfl (lv_at hl 1 rfl) ?_
      refine lv_iload_n hx hb dX13_stands_19 rfl (lv_at hl 3 rfl) ?_
      refine n_callp (va_runV ⟨hx, hb, hml, hown, hts⟩ (tM_placeOf l G ad _ _ _) (cwV 1 hts (lw_V q1292 q1294 qs52 q106 q1295) rfl rfl rfl hdS_X13_placeOf ⟨by decide, by decide⟩) (hw.preV (k := 0) rfl rfl) rfl rfl hl.1 rfl (lv_room (by simp [Value.category])) dX13_stands_20 ⟨Nat.zero_le _, Nat.zero_le _⟩) (fun r_20 e_20 => ?_)
      subst e_20
      exact hj_11 _ (by first | rw [if_neg (fun h => absurd c_11 (by rw [Int32.not_le]; exact h))] | rw [if_pos (Int32.not_le.mp c_11)]; rfl)
    · skip
      refine lv_iconst (v := (-1)) hx hb dX13_stands_14 (by decide) ?_
      refine lv_goto (tgt := 23) hx hb dX13_stands_15 (by decide) ?_
      exact hj_11 _ (by first | rw [if_neg (fun h => absurd c_11 (by rw [Int32.not_le]; exact h))] | rw [if_pos (Int32.not_le.mp c_11)]; rfl)
theorem hdS_X13_comes : yX13_comes.cls = "LineCallsModel" ∧ yX13_comes.cls ≠ "java/lang/invoke/MethodHandle" ∧ yX13_comes.cls ≠ "java/lang/invoke/VarHandle" ∧ (parseMethodDescriptor yX13_comes.desc).map (fun d => d.parameters.length) = some 2 := by decide +kernel
set_option maxHeartbeats 4000000 in
theorem tM_comes (l : Launch) (G : nG) (ad : Nat → Nat) (w : rw84) (M : mM) (k t : Int32) (n : Nat) (hn : n < 8) (en : w 1 = nI n) : Met l yX13_comes (ws_ yX13_comes cX13_comes 5 (some .int)) { frames := 1, cells := 0, slots := 0, locals := 21 } (va_Pc [.ref (ad 0), .int k, .int t] (nC G (mE G ad w M))) (va_Qi (fun (r : Int32) (u : rw84 × mM) => r = nI n ∧ u = (comeF w n k t, M)) (fun u => nC G (mE G ad u.1 u.2)) (nA G)) 0 0 (nA G) := by
  refine n_head (by decide) (Nat.le_of_ble_eq_true rfl) ?_
  intro p e s m below meth c ls hx hb hr hlk hml hown hts hB0 hl
  have hown : s.vm.findClass "LineCallsModel" = some m.cls := hown
  have hw := nS.start hB0
  have hl : lv_has ls 5 [(0, .ref (ad 0)), (1, .int k), (2, .int t)] := hl
  refine lv_aload_n hx hb dX13_comes_0 rfl (lv_at hl 0 rfl) ?_
  refine n_get (k := 0) hx hb hts in_X13 hown hw rfl rfl 0 (by decide) q1198 rfl dX13_comes_1 ?_
  refine lv_iconst (v := 1) hx hb dX13_comes_4 (by decide) ?_
  refine n_iald (k := 1) (j := 1) hx hb hw rfl rfl (by decide) (by decide) dX13_comes_5 ?_
  refine n_topE en ?_
  refine lv_istore_n hx hb dX13_comes_6 rfl hl (by decide) rfl (fun ls hl => ?_)
  refine lv_iconst (v := 0) hx hb dX13_comes_7 (by decide) ?_
  refine lv_istore hx hb dX13_comes_8 hl (by decide) rfl (fun ls hl => ?_)
  refine n_loop (α := Nat) (fun f H locs ls => f ≤ 5 ∧ nS G (mE G ad (zeroF w n f) M) s H locs ∧ lv_has ls 5 [(0, .ref (ad 0)), (1, .int k), (2, .int t), (3, .int (nI n)), (4, .int (nI f))]) (fun f => 5 - f) 10 ?_ 0 _ _ _ ⟨Nat.zero_le _, hw, (lv_sub hl [2, 3, 4, 1, 0] rfl)⟩
  clear hl hw
  intro f H locs ls hI ih_10
  obtain ⟨hf, hw, hl⟩ := hI
  refine lv_iload hx hb dX13_comes_10 (lv_at hl 4 rfl) ?_
  refine lv_iconst (v := 5) hx hb dX13_comes_12 (by decide) ?_
  refine lv_icmp_ge (tgt := 34) hx hb dX13_comes_13 (by decide) (fun c_13 => ?_) (fun c_13 => ?_)
  · skip
    have n_13 : 5 ≤ f := (nI_leI (a := 5) (b := f) (by omega) (by omega)).mp c_13
    obtain rfl : f = 5 := by omega
    refine lv_aload_n hx hb dX13_comes_34 rfl (lv_at hl 0 rfl) ?_
    refine n_get (k := 0) hx hb hts in_X13 hown hw rfl rfl 0 (by decide) q1198 rfl dX13_comes_35 ?_
    refine lv_iload_n hx hb dX13_comes_38 rfl (lv_at hl 3 rfl) ?_
    refine lv_iconst (v := 0) hx hb dX13_comes_39 (by decide) ?_
    refine n_callp (va_runS ⟨hx, hb, hml, hown, hts⟩ (tM_jumperAt l (n) (0)) (va_cwS 2 hts (lw_S q1354 q1355 q106 q1356) rfl rfl rfl (hdS_X13_jumperAt).2 ⟨by decide, by decide⟩) pu_pre rfl rfl hl.1 rfl (lv_room (by simp [Value.category])) dX13_comes_40 ⟨Nat.zero_le _, Nat.zero_le _⟩) (fun r_40 e_40 => ?_)
    subst e_40
    refine lv_iload_n hx hb dX13_comes_43 rfl (lv_at hl 1 rfl) ?_
    refine m_iastw (j := 44 + 5 * n + 0) hx hb hw rfl (by omega) dX13_comes_44 (fun H locs hw => ?_)
    refine lv_aload_n hx hb dX13_comes_45 rfl (lv_at hl 0 rfl) ?_
    refine n_get (k := 0) hx hb hts in_X13 hown hw rfl rfl 0 (by decide) q1198 rfl dX13_comes_46 ?_
    refine lv_iload_n hx hb dX13_comes_49 rfl (lv_at hl 3 rfl) ?_
    refine lv_iconst (v := 1) hx hb dX13_comes_50 (by decide) ?_
    refine n_callp (va_runS ⟨hx, hb, hml, hown, hts⟩ (tM_jumperAt l (n) (1)) (va_cwS 2 hts (lw_S q1354 q1355 q106 q1356) rfl rfl rfl (hdS_X13_jumperAt).2 ⟨by decide, by decide⟩) pu_pre rfl rfl hl.1 rfl (lv_room (by simp [Value.category])) dX13_comes_51 ⟨Nat.zero_le _, Nat.zero_le _⟩) (fun r_51 e_51 => ?_)
    subst e_51
    refine lv_iload_n hx hb dX13_comes_54 rfl (lv_at hl 2 rfl) ?_
    refine m_iastw (j := 44 + 5 * n + 1) hx hb hw rfl (by omega) dX13_comes_55 (fun H locs hw => ?_)
    refine lv_aload_n hx hb dX13_comes_56 rfl (lv_at hl 0 rfl) ?_
    refine n_get (k := 0) hx hb hts in_X13 hown hw rfl rfl 0 (by decide) q1198 rfl dX13_comes_57 ?_
    refine lv_iconst (v := 1) hx hb dX13_comes_60 (by decide) ?_
    refine lv_dup2_11 hx hb dX13_comes_61 rfl rfl ?_
    refine n_iald (k := 1) (j := 1) hx hb hw rfl rfl (by decide) (by decide) dX13_comes_62 ?_
    refine lv_iconst (v := 1) hx hb dX13_comes_63 (by decide) ?_
    refine lv_iadd hx hb dX13_comes_64 ?_
    refine m_iastw (j := 1) hx hb hw rfl (by decide) dX13_comes_65 (fun H locs hw => ?_)
    refine lv_iload_n hx hb dX13_comes_66 rfl (lv_at hl 3 rfl) ?_
    exact m_iret hx hb hr hlk rfl hw ⟨rfl, rfl⟩ dX13_comes_67
  · skip
    have n_13 : ¬ 5 ≤ f := fun h => c_13 ((nI_leI (a := 5) (b := f) (by omega) (by omega)).mpr h)
    refine lv_aload_n hx hb dX13_comes_16 rfl (lv_at hl 0 rfl) ?_
    refine n_get (k := 0) hx hb hts in_X13 hown hw rfl rfl 0 (by decide) q1198 rfl dX13_comes_17 ?_
    refine lv_iload_n hx hb dX13_comes_20 rfl (lv_at hl 3 rfl) ?_
    refine lv_iload hx hb dX13_comes_21 (lv_at hl 4 rfl) ?_
    refine n_callp (va_runS ⟨hx, hb, hml, hown, hts⟩ (tM_jumperAt l (n) (f)) (va_cwS 2 hts (lw_S q1354 q1355 q106 q1356) rfl rfl rfl (hdS_X13_jumperAt).2 ⟨by decide, by decide⟩) pu_pre rfl rfl hl.1 rfl (lv_room (by simp [Value.category])) dX13_comes_23 ⟨Nat.zero_le _, Nat.zero_le _⟩) (fun r_23 e_23 => ?_)
    subst e_23
    refine lv_iconst (v := 0) hx hb dX13_comes_26 (by decide) ?_
    refine m_iastw (j := 44 + 5 * n + f) hx hb hw rfl (by omega) dX13_comes_27 (fun H locs hw => ?_)
    refine lv_iinc (v := nI (f + 1)) hx hb dX13_comes_28 hl (k := 4) rfl (nI_1 _) (by decide) rfl (fun ls hl => ?_)
    refine lv_goto (tgt := 10) hx hb dX13_comes_31 (by decide) ?_
    exact ih_10 (f + 1) _ _ _ (by first | omega | (dsimp only; omega)) ⟨by omega, hw, (lv_sub hl [1, 2, 3, 4, 0] rfl)⟩
theorem hdS_X13_thrownTo : yX13_thrownTo.cls = "LineCallsModel" ∧ yX13_thrownTo.cls ≠ "java/lang/invoke/MethodHandle" ∧ yX13_thrownTo.cls ≠ "java/lang/invoke/VarHandle" ∧ (parseMethodDescriptor yX13_thrownTo.desc).map (fun d => d.parameters.length) = some 2 := by decide +kernel
set_option maxHeartbeats 4000000 in
theorem tM_thrownTo (l : Launch) (G : nG) (ad : Nat → Nat) (w : rw84) (M : mM) (j q B : Nat) (hj : j < 8) (hq : q < 7) (hI : Inv B w) : Met l yX13_thrownTo (ws_ yX13_thrownTo cX13_thrownTo 6 (none)) { frames := 4, cells := 0, slots := 0, locals := 87 } (va_Pc [.ref (ad 0), .int (nI j), .int (nI q)] (nC G (mE G ad w M))) (va_Qv (fun (u : rw84 × mM) => u = (thr1F w j q, M)) (fun u => nC G (mE G ad u.1 u.2)) (nA G)) 0 0 (nA G) := by
  refine n_head (by decide) (Nat.le_of_ble_eq_true rfl) ?_
  intro p e s m below meth c ls hx hb hr hlk hml hown hts hB0 hl
  have hown : s.vm.findClass "LineCallsModel" = some m.cls := hown
  have hw := nS.start hB0
  have hl : lv_has ls 6 [(0, .ref (ad 0)), (1, .int (nI j)), (2, .int (nI q))] := hl
  refine lv_aload_n hx hb dX13_thrownTo_0 rfl (lv_at hl 0 rfl) ?_
  refine lv_iload_n hx hb dX13_thrownTo_1 rfl (lv_at hl 2 rfl) ?_
  refine n_callp (va_runV ⟨hx, hb, hml, hown, hts⟩ (tM_isWonIn l G ad _ _ (q) B (by first | assumption | omega) hI) (cwV 1 hts (lw_V q1411 q1413 qs65 q106 q1414) rfl rfl rfl hdS_X13_isWonIn ⟨by decide, by decide⟩) (hw.preV (k := 0) rfl rfl) rfl rfl hl.1 rfl (lv_room (by simp [Value.category])) dX13_thrownTo_2 ⟨Nat.zero_le _, Nat.zero_le _⟩) (fun r_2 e_2 => ?_)
  subst e_2
  refine lv_istore_n hx hb dX13_thrownTo_5 rfl hl (by decide) rfl (fun ls hl => ?_)
  refine lv_iload_n hx hb dX13_thrownTo_6 rfl (lv_at hl 0 rfl) ?_
  refine n_join1 (fun v => v = (if winF w q = 0 then w 3 - 3 else w 3 + gainF w j (nI q))) 34 (fun v_7 hv_7 => ?_) (fun hj_7 => ?_)
  · skip
    subst hv_7
    refine lv_istore hx hb dX13_thrownTo_34 hl (by decide) rfl (fun ls hl => ?_)
    refine lv_aload_n hx hb dX13_thrownTo_36 rfl (lv_at hl 2 rfl) ?_
    refine n_get (k := 0) hx hb hts in_X13 hown hw rfl rfl 0 (by decide) q1198 rfl dX13_thrownTo_37 ?_
    refine lv_iconst (v := 3) hx hb dX13_thrownTo_40 (by decide) ?_
    refine lv_iconst (v := 0) hx hb dX13_thrownTo_41 (by decide) ?_
    refine lv_ldc (v := 99999) hx hb hown (hts _ q1393) dX13_thrownTo_42 ?_
    refine lv_iload hx hb dX13_thrownTo_44 (lv_at hl 0 rfl) ?_
    refine va_mmin hx hb (hml.trans hl.1.symm) hown (hts _ q1415) (hts _ q735) (hts _ q108) (hts _ q736) (by decide) (by simp [Value.category]) (Nat.zero_le _) (Nat.zero_le _) dX13_thrownTo_46 ?_
    refine va_mmax hx hb (hml.trans hl.1.symm) hown (hts _ q1369) (hts _ q625) (hts _ q108) (hts _ q626) (by decide) (by simp [Value.category]) (Nat.zero_le _) (Nat.zero_le _) dX13_thrownTo_49 ?_
    refine m_iastw (j := 3) hx hb hw rfl (by decide) dX13_thrownTo_52 (fun H locs hw => ?_)
    refine lv_iload_n hx hb dX13_thrownTo_53 rfl (lv_at hl 3 rfl) ?_
    refine lv_iload_n hx hb dX13_thrownTo_54 rfl (lv_at hl 1 rfl) ?_
    refine n_join1 (fun v => v = nI (if winF w q = 0 then 4 else 3)) 63 (fun v_55 hv_55 => ?_) (fun hj_55 => ?_)
    · skip
      subst hv_55
      have hv4 : (if winF w q = 0 then 4 else 3) < 5 := by split <;> decide
      refine n_callp (va_runS ⟨hx, hb, hml, hown, hts⟩ (tM_jumperAt l (j) ((if winF w q = 0 then 4 else 3))) (va_cwS 2 hts (lw_S q1354 q1355 q106 q1356) rfl rfl rfl (hdS_X13_jumperAt).2 ⟨by decide, by decide⟩) pu_pre rfl rfl hl.1 rfl (lv_room (by simp [Value.category])) dX13_thrownTo_63 ⟨Nat.zero_le _, Nat.zero_le _⟩) (fun r_63 e_63 => ?_)
      subst e_63
      refine lv_istore hx hb dX13_thrownTo_66 hl (by decide) rfl (fun ls hl => ?_)
      refine lv_aload_n hx hb dX13_thrownTo_68 rfl (lv_at hl 3 rfl) ?_
      refine n_get (k := 0) hx hb hts in_X13 hown hw rfl rfl 0 (by decide) q1198 rfl dX13_thrownTo_69 ?_
      refine lv_iload hx hb dX13_thrownTo_72 (lv_at hl 0 rfl) ?_
      refine lv_sipush (v := 9999) hx hb dX13_thrownTo_74 (by decide) ?_
      refine lv_aload_n hx hb dX13_thrownTo_77 rfl (lv_at hl 3 rfl) ?_
      refine n_get (k := 0) hx hb hts in_X13 hown hw rfl rfl 0 (by decide) q1198 rfl dX13_thrownTo_78 ?_
      refine lv_iload hx hb dX13_thrownTo_81 (lv_at hl 0 rfl) ?_
      refine n_iald (k := 1) (j := 44 + 5 * j + (if winF w q = 0 then 4 else 3)) hx hb hw rfl rfl (by omega) (by decide) dX13_thrownTo_83 ?_
      refine lv_iconst (v := 1) hx hb dX13_thrownTo_84 (by decide) ?_
      refine lv_iadd hx hb dX13_thrownTo_85 ?_
      refine va_mmin hx hb (hml.trans hl.1.symm) hown (hts _ q1415) (hts _ q735) (hts _ q108) (hts _ q736) (by decide) (by simp [Value.category]) (Nat.zero_le _) (Nat.zero_le _) dX13_thrownTo_86 ?_
      refine m_iastw (j := 44 + 5 * j + (if winF w q = 0 then 4 else 3)) hx hb hw rfl (by omega) dX13_thrownTo_89 (fun H locs hw => ?_)
      refine lv_aload_n hx hb dX13_thrownTo_90 rfl (lv_at hl 3 rfl) ?_
      refine n_get (k := 0) hx hb hts in_X13 hown hw rfl rfl 0 (by decide) q1198 rfl dX13_thrownTo_91 ?_
      refine lv_iload_n hx hb dX13_thrownTo_94 rfl (lv_at hl 4 rfl) ?_
      refine lv_iconst (v := 2) hx hb dX13_thrownTo_95 (by decide) ?_
      refine n_callp (va_runS ⟨hx, hb, hml, hown, hts⟩ (tM_jumperAt l (j) (2)) (va_cwS 2 hts (lw_S q1354 q1355 q106 q1356) rfl rfl rfl (hdS_X13_jumperAt).2 ⟨by decide, by decide⟩) pu_pre rfl rfl hl.1 rfl (lv_room (by simp [Value.category])) dX13_thrownTo_96 ⟨Nat.zero_le _, Nat.zero_le _⟩) (fun r_96 e_96 => ?_)
      subst e_96
      refine lv_bipush (v := 99) hx hb dX13_thrownTo_99 (by decide) ?_
      refine lv_aload_n hx hb dX13_thrownTo_101 rfl (lv_at hl 3 rfl) ?_
      refine lv_iload_n hx hb dX13_thrownTo_102 rfl (lv_at hl 4 rfl) ?_
      refine lv_iconst (v := 2) hx hb dX13_thrownTo_103 (by decide) ?_
      refine n_callp (va_runV ⟨hx, hb, hml, hown, hts⟩ (tM_jumperIs l G ad _ _ (j) (2) (by first | assumption | omega) (by first | assumption | omega)) (cwV 2 hts (lw_V q1361 q1363 qs57 q106 q1364) rfl rfl rfl hdS_X13_jumperIs ⟨by decide, by decide⟩) (hw.preV (k := 0) rfl rfl) rfl rfl hl.1 rfl (lv_room (by simp [Value.category])) dX13_thrownTo_104 ⟨Nat.zero_le _, Nat.zero_le _⟩) (fun r_104 e_104 => ?_)
      subst e_104
      refine lv_aload_n hx hb dX13_thrownTo_107 rfl (lv_at hl 3 rfl) ?_
      refine lv_iload_n hx hb dX13_thrownTo_108 rfl (lv_at hl 4 rfl) ?_
      refine n_callp (va_runV ⟨hx, hb, hml, hown, hts⟩ (tM_tires l G ad _ _ (j) (by first | assumption | omega)) (cwV 1 hts (lw_V q1370 q1372 qs59 q106 q1373) rfl rfl rfl hdS_X13_tires ⟨by decide, by decide⟩) (hw.preV (k := 0) rfl rfl) rfl rfl hl.1 rfl (lv_room (by simp [Value.category])) dX13_thrownTo_109 ⟨Nat.zero_le _, Nat.zero_le _⟩) (fun r_109 e_109 => ?_)
      subst e_109
      refine lv_iadd hx hb dX13_thrownTo_112 ?_
      refine va_mmin hx hb (hml.trans hl.1.symm) hown (hts _ q1415) (hts _ q735) (hts _ q108) (hts _ q736) (by decide) (by simp [Value.category]) (Nat.zero_le _) (Nat.zero_le _) dX13_thrownTo_113 ?_
      refine m_iastw (j := 44 + 5 * j + 2) hx hb hw rfl (by omega) dX13_thrownTo_116 (fun H locs hw => ?_)
      exact m_vret hx hb hr hlk hw rfl dX13_thrownTo_117
    · skip
      refine lv_if_eq (tgt := 62) hx hb dX13_thrownTo_55 (by decide) (fun c_55 => ?_) (fun c_55 => ?_)
      · skip
        refine lv_iconst (v := 4) hx hb dX13_thrownTo_62 (by decide) ?_
        exact hj_55 _ (by rw [if_pos c_55]; rfl)
      · skip
        refine lv_iconst (v := 3) hx hb dX13_thrownTo_58 (by decide) ?_
        refine lv_goto (tgt := 63) hx hb dX13_thrownTo_59 (by decide) ?_
        exact hj_55 _ (by rw [if_neg c_55]; rfl)
  · skip
    refine lv_if_eq (tgt := 26) hx hb dX13_thrownTo_7 (by decide) (fun c_7 => ?_) (fun c_7 => ?_)
    · skip
      refine lv_aload_n hx hb dX13_thrownTo_26 rfl (lv_at hl 1 rfl) ?_
      refine n_get (k := 0) hx hb hts in_X13 hown hw rfl rfl 0 (by decide) q1198 rfl dX13_thrownTo_27 ?_
      refine lv_iconst (v := 3) hx hb dX13_thrownTo_30 (by decide) ?_
      refine n_iald (k := 1) (j := 3) hx hb hw rfl rfl (by decide) (by decide) dX13_thrownTo_31 ?_
      refine lv_iconst (v := 3) hx hb dX13_thrownTo_32 (by decide) ?_
      refine lv_isub hx hb dX13_thrownTo_33 ?_
      exact hj_7 _ (by rw [if_pos c_7])
    · skip
      refine lv_aload_n hx hb dX13_thrownTo_10 rfl (lv_at hl 1 rfl) ?_
      refine n_get (k := 0) hx hb hts in_X13 hown hw rfl rfl 0 (by decide) q1198 rfl dX13_thrownTo_11 ?_
      refine lv_iconst (v := 3) hx hb dX13_thrownTo_14 (by decide) ?_
      refine n_iald (k := 1) (j := 3) hx hb hw rfl rfl (by decide) (by decide) dX13_thrownTo_15 ?_
      refine lv_aload_n hx hb dX13_thrownTo_16 rfl (lv_at hl 1 rfl) ?_
      refine lv_iload_n hx hb dX13_thrownTo_17 rfl (lv_at hl 2 rfl) ?_
      refine lv_iload_n hx hb dX13_thrownTo_18 rfl (lv_at hl 3 rfl) ?_
      refine n_callp (va_runV ⟨hx, hb, hml, hown, hts⟩ (tM_gainsIn l G ad _ _ (j) _ (by first | assumption | omega)) (cwV 2 hts (lw_V q1385 q1387 qs60 q106 q1388) rfl rfl rfl hdS_X13_gainsIn ⟨by decide, by decide⟩) (hw.preV (k := 0) rfl rfl) rfl rfl hl.1 rfl (lv_room (by simp [Value.category])) dX13_thrownTo_19 ⟨Nat.zero_le _, Nat.zero_le _⟩) (fun r_19 e_19 => ?_)
      subst e_19
      refine lv_iadd hx hb dX13_thrownTo_22 ?_
      refine lv_goto (tgt := 34) hx hb dX13_thrownTo_23 (by decide) ?_
      exact hj_7 _ (by rw [if_neg c_7])
theorem hdS_X13_oneThrow : yX13_oneThrow.cls = "LineCallsModel" ∧ yX13_oneThrow.cls ≠ "java/lang/invoke/MethodHandle" ∧ yX13_oneThrow.cls ≠ "java/lang/invoke/VarHandle" ∧ (parseMethodDescriptor yX13_oneThrow.desc).map (fun d => d.parameters.length) = some 0 := by decide +kernel
set_option maxHeartbeats 4000000 in
theorem tM_oneThrow (l : Launch) (G : nG) (ad : Nat → Nat) (w : rw84) (M : mM) (B : Nat) (hI : Inv B w) (hB : B < 2 ^ 30) : Met l yX13_oneThrow (ws_ yX13_oneThrow cX13_oneThrow 5 (none)) { frames := 5, cells := 0, slots := 0, locals := 112 } (va_Pc [.ref (ad 0)] (nC G (mE G ad w M))) (va_Qv (fun (u : rw84 × mM) => u = (thrF w, M)) (fun u => nC G (mE G ad u.1 u.2)) (nA G)) 0 0 (nA G) := by
  refine n_head (by decide) (Nat.le_of_ble_eq_true rfl) ?_
  intro p e s m below meth c ls hx hb hr hlk hml hown hts hB0 hl
  have hown : s.vm.findClass "LineCallsModel" = some m.cls := hown
  have hw := nS.start hB0
  have hl : lv_has ls 5 [(0, .ref (ad 0))] := hl
  obtain ⟨q, hq, eq⟩ := hI.next (by omega)
  obtain ⟨n, hn, en⟩ := hI.num
  refine lv_aload_n hx hb dX13_oneThrow_0 rfl (lv_at hl 0 rfl) ?_
  refine n_callp (va_runV ⟨hx, hb, hml, hown, hts⟩ (tM_placeNext l G ad _ _ B hI (by omega)) (cwV 0 hts (lw_V q1403 q1405 qs63 q106 q1406) rfl rfl rfl hdS_X13_placeNext ⟨by decide, by decide⟩) (hw.preV (k := 0) rfl rfl) rfl rfl hl.1 rfl (lv_room (by simp [Value.category])) dX13_oneThrow_1 ⟨Nat.zero_le _, Nat.zero_le _⟩) (fun r_1 e_1 => ?_)
  subst e_1
  refine n_topE eq ?_
  refine lv_istore_n hx hb dX13_oneThrow_4 rfl hl (by decide) rfl (fun ls hl => ?_)
  refine lv_aload_n hx hb dX13_oneThrow_5 rfl (lv_at hl 1 rfl) ?_
  refine n_get (k := 0) hx hb hts in_X13 hown hw rfl rfl 0 (by decide) q1198 rfl dX13_oneThrow_6 ?_
  refine lv_bipush (v := 17) hx hb dX13_oneThrow_9 (by decide) ?_
  refine lv_iload_n hx hb dX13_oneThrow_11 rfl (lv_at hl 0 rfl) ?_
  refine lv_iadd hx hb dX13_oneThrow_12 ?_
  refine n_topE (nI_add 17 q) ?_
  refine n_iald (k := 1) (j := 17 + q) hx hb hw rfl rfl (by omega) (by decide) dX13_oneThrow_13 ?_
  refine lv_istore_n hx hb dX13_oneThrow_14 rfl hl (by decide) rfl (fun ls hl => ?_)
  refine lv_iload_n hx hb dX13_oneThrow_15 rfl (lv_at hl 0 rfl) ?_
  refine lv_if_lt (tgt := 28) hx hb dX13_oneThrow_16 (by decide) (fun c_16 => ?_) (fun c_16 => ?_)
  · skip
    refine lv_aload_n hx hb dX13_oneThrow_28 rfl (lv_at hl 2 rfl) ?_
    refine n_get (k := 0) hx hb hts in_X13 hown hw rfl rfl 0 (by decide) q1198 rfl dX13_oneThrow_29 ?_
    refine lv_iconst (v := 3) hx hb dX13_oneThrow_32 (by decide) ?_
    refine lv_iconst (v := 0) hx hb dX13_oneThrow_33 (by decide) ?_
    refine lv_aload_n hx hb dX13_oneThrow_34 rfl (lv_at hl 2 rfl) ?_
    refine n_get (k := 0) hx hb hts in_X13 hown hw rfl rfl 0 (by decide) q1198 rfl dX13_oneThrow_35 ?_
    refine lv_iconst (v := 3) hx hb dX13_oneThrow_38 (by decide) ?_
    refine n_iald (k := 1) (j := 3) hx hb hw rfl rfl (by decide) (by decide) dX13_oneThrow_39 ?_
    refine lv_iconst (v := 5) hx hb dX13_oneThrow_40 (by decide) ?_
    refine lv_isub hx hb dX13_oneThrow_41 ?_
    refine va_mmax hx hb (hml.trans hl.1.symm) hown (hts _ q1369) (hts _ q625) (hts _ q108) (hts _ q626) (by decide) (by simp [Value.category]) (Nat.zero_le _) (Nat.zero_le _) dX13_oneThrow_42 ?_
    refine m_iastw (j := 3) hx hb hw rfl (by decide) dX13_oneThrow_45 (fun H locs hw => ?_)
    obtain ⟨A, hA, hw⟩ : ∃ A, A = throwA w q ∧ nS G (mE G ad A M) s H locs := ⟨_, by first | rw [throwA, if_pos c_16] | rw [throwA, if_neg c_16, ek, nI_clamp (by omega)], hw⟩
    have eA : A 1 = nI n := by rw [hA, throwA_1]; exact en
    refine lv_iconst (v := 0) hx hb dX13_oneThrow_46 (by decide) ?_
    refine lv_istore_n hx hb dX13_oneThrow_47 rfl hl (by decide) rfl (fun ls hl => ?_)
    refine n_loop (α := Nat) (fun o H locs ls => o ≤ n ∧ nS G (mE G ad (restF A (w (17 + q)) o) M) s H locs ∧ lv_has ls 5 [(0, .ref (ad 0)), (1, .int (nI q)), (2, .int (w (17 + q))), (3, .int (nI o))]) (fun o => n - o) 48 ?_ 0 _ _ _ ⟨Nat.zero_le _, hw, (lv_sub hl [3, 2, 1, 0] rfl)⟩
    clear hl hw
    intro o H locs ls hI ih_48
    obtain ⟨ho, hw, hl⟩ := hI
    refine lv_iload_n hx hb dX13_oneThrow_48 rfl (lv_at hl 3 rfl) ?_
    refine lv_aload_n hx hb dX13_oneThrow_49 rfl (lv_at hl 0 rfl) ?_
    refine n_get (k := 0) hx hb hts in_X13 hown hw rfl rfl 0 (by decide) q1198 rfl dX13_oneThrow_50 ?_
    refine lv_iconst (v := 1) hx hb dX13_oneThrow_53 (by decide) ?_
    refine n_iald (k := 1) (j := 1) hx hb hw rfl rfl (by decide) (by decide) dX13_oneThrow_54 ?_
    refine n_topE ((restF_out (fun _ _ => by omega)).trans eA) ?_
    refine lv_icmp_ge (tgt := 99) hx hb dX13_oneThrow_55 (by decide) (fun c_55 => ?_) (fun c_55 => ?_)
    · skip
      have n_55 : n ≤ o := (nI_leI (a := n) (b := o) (by omega) (by omega)).mp c_55
      obtain rfl : o = n := by omega
      refine lv_iconst (v := 0) hx hb dX13_oneThrow_99 (by decide) ?_
      refine lv_istore_n hx hb dX13_oneThrow_100 rfl hl (by decide) rfl (fun ls hl => ?_)
      refine n_loop (α := Nat) (fun y H locs ls => y ≤ 7 ∧ nS G (mE G ad (readF (restF A (w (17 + q)) o) (nI q) y) M) s H locs ∧ lv_has ls 5 [(0, .ref (ad 0)), (1, .int (nI q)), (3, .int (nI y))]) (fun y => 7 - y) 101 ?_ 0 _ _ _ ⟨Nat.zero_le _, hw, (lv_sub hl [1, 2, 0] rfl)⟩
      clear hl hw
      intro y H locs ls hI ih_101
      obtain ⟨hy, hw, hl⟩ := hI
      refine lv_iload_n hx hb dX13_oneThrow_101 rfl (lv_at hl 2 rfl) ?_
      refine lv_bipush (v := 7) hx hb dX13_oneThrow_102 (by decide) ?_
      refine lv_icmp_ge (tgt := 156) hx hb dX13_oneThrow_104 (by decide) (fun c_104 => ?_) (fun c_104 => ?_)
      · skip
        have n_104 : 7 ≤ y := (nI_leI (a := 7) (b := y) (by omega) (by omega)).mp c_104
        obtain rfl : y = 7 := by omega
        refine lv_aload_n hx hb dX13_oneThrow_156 rfl (lv_at hl 0 rfl) ?_
        refine n_get (k := 0) hx hb hts in_X13 hown hw rfl rfl 0 (by decide) q1198 rfl dX13_oneThrow_157 ?_
        refine lv_iconst (v := 0) hx hb dX13_oneThrow_160 (by decide) ?_
        refine lv_dup2_11 hx hb dX13_oneThrow_161 rfl rfl ?_
        refine n_iald (k := 1) (j := 0) hx hb hw rfl rfl (by decide) (by decide) dX13_oneThrow_162 ?_
        refine lv_iconst (v := 1) hx hb dX13_oneThrow_163 (by decide) ?_
        refine lv_iadd hx hb dX13_oneThrow_164 ?_
        refine m_iastw (j := 0) hx hb hw rfl (by decide) dX13_oneThrow_165 (fun H locs hw => ?_)
        exact m_vret hx hb hr hlk hw (by rw [thr_at hq eq hn en, ← hA]) dX13_oneThrow_166
      · skip
        have n_104 : ¬ 7 ≤ y := fun h => c_104 ((nI_leI (a := 7) (b := y) (by omega) (by omega)).mpr h)
        refine lv_iload_n hx hb dX13_oneThrow_107 rfl (lv_at hl 2 rfl) ?_
        refine lv_iload_n hx hb dX13_oneThrow_108 rfl (lv_at hl 1 rfl) ?_
        refine lv_icmp_ne (tgt := 117) hx hb dX13_oneThrow_109 (by decide) (fun c_109 => ?_) (fun c_109 => ?_)
        · skip
          have n_109 : ¬ y = q := fun h => c_109 ((nI_eq (a := y) (b := q) (by omega) (by omega)).mpr h)
          refine lv_iconst (v := (-1)) hx hb dX13_oneThrow_117 (by decide) ?_
          refine lv_istore hx hb dX13_oneThrow_118 hl (by decide) rfl (fun ls hl => ?_)
          refine lv_aload_n hx hb dX13_oneThrow_120 rfl (lv_at hl 1 rfl) ?_
          refine n_get (k := 0) hx hb hts in_X13 hown hw rfl rfl 0 (by decide) q1198 rfl dX13_oneThrow_121 ?_
          refine lv_bipush (v := 31) hx hb dX13_oneThrow_124 (by decide) ?_
          refine lv_iload_n hx hb dX13_oneThrow_126 rfl (lv_at hl 3 rfl) ?_
          refine lv_iadd hx hb dX13_oneThrow_127 ?_
          refine n_topE (nI_add 31 y) ?_
          refine lv_iconst (v := 0) hx hb dX13_oneThrow_128 (by decide) ?_
          refine lv_bipush (v := 99) hx hb dX13_oneThrow_129 (by decide) ?_
          refine lv_aload_n hx hb dX13_oneThrow_131 rfl (lv_at hl 1 rfl) ?_
          refine n_get (k := 0) hx hb hts in_X13 hown hw rfl rfl 0 (by decide) q1198 rfl dX13_oneThrow_132 ?_
          refine lv_bipush (v := 31) hx hb dX13_oneThrow_135 (by decide) ?_
          refine lv_iload_n hx hb dX13_oneThrow_137 rfl (lv_at hl 3 rfl) ?_
          refine lv_iadd hx hb dX13_oneThrow_138 ?_
          refine n_topE (nI_add 31 y) ?_
          refine n_iald (k := 1) (j := 31 + y) hx hb hw rfl rfl (by omega) (by decide) dX13_oneThrow_139 ?_
          refine lv_iload hx hb dX13_oneThrow_140 (lv_at hl 0 rfl) ?_
          refine lv_iadd hx hb dX13_oneThrow_142 ?_
          refine va_mmin hx hb (hml.trans hl.1.symm) hown (hts _ q1415) (hts _ q735) (hts _ q108) (hts _ q736) (by decide) (by simp [Value.category]) (Nat.zero_le _) (Nat.zero_le _) dX13_oneThrow_143 ?_
          refine va_mmax hx hb (hml.trans hl.1.symm) hown (hts _ q1369) (hts _ q625) (hts _ q108) (hts _ q626) (by decide) (by simp [Value.category]) (Nat.zero_le _) (Nat.zero_le _) dX13_oneThrow_146 ?_
          refine m_iastw (j := 31 + y) hx hb hw rfl (by omega) dX13_oneThrow_149 (fun H locs hw => ?_)
          refine lv_iinc (v := nI (y + 1)) hx hb dX13_oneThrow_150 hl (k := 3) rfl (nI_1 _) (by decide) rfl (fun ls hl => ?_)
          refine lv_goto (tgt := 101) hx hb dX13_oneThrow_153 (by decide) ?_
          exact ih_101 (y + 1) _ _ _ (by first | omega | (dsimp only; omega)) ⟨by omega, by rw [readF, if_neg c_109]; exact hw, (lv_sub hl [2, 3, 0] rfl)⟩
        · skip
          have n_109 : y = q := (nI_eq (a := y) (b := q) (by omega) (by omega)).mp c_109
          refine lv_bipush (v := 6) hx hb dX13_oneThrow_112 (by decide) ?_
          refine lv_goto (tgt := 118) hx hb dX13_oneThrow_114 (by decide) ?_
          refine lv_istore hx hb dX13_oneThrow_118 hl (by decide) rfl (fun ls hl => ?_)
          refine lv_aload_n hx hb dX13_oneThrow_120 rfl (lv_at hl 1 rfl) ?_
          refine n_get (k := 0) hx hb hts in_X13 hown hw rfl rfl 0 (by decide) q1198 rfl dX13_oneThrow_121 ?_
          refine lv_bipush (v := 31) hx hb dX13_oneThrow_124 (by decide) ?_
          refine lv_iload_n hx hb dX13_oneThrow_126 rfl (lv_at hl 3 rfl) ?_
          refine lv_iadd hx hb dX13_oneThrow_127 ?_
          refine n_topE (nI_add 31 y) ?_
          refine lv_iconst (v := 0) hx hb dX13_oneThrow_128 (by decide) ?_
          refine lv_bipush (v := 99) hx hb dX13_oneThrow_129 (by decide) ?_
          refine lv_aload_n hx hb dX13_oneThrow_131 rfl (lv_at hl 1 rfl) ?_
          refine n_get (k := 0) hx hb hts in_X13 hown hw rfl rfl 0 (by decide) q1198 rfl dX13_oneThrow_132 ?_
          refine lv_bipush (v := 31) hx hb dX13_oneThrow_135 (by decide) ?_
          refine lv_iload_n hx hb dX13_oneThrow_137 rfl (lv_at hl 3 rfl) ?_
          refine lv_iadd hx hb dX13_oneThrow_138 ?_
          refine n_topE (nI_add 31 y) ?_
          refine n_iald (k := 1) (j := 31 + y) hx hb hw rfl rfl (by omega) (by decide) dX13_oneThrow_139 ?_
          refine lv_iload hx hb dX13_oneThrow_140 (lv_at hl 0 rfl) ?_
          refine lv_iadd hx hb dX13_oneThrow_142 ?_
          refine va_mmin hx hb (hml.trans hl.1.symm) hown (hts _ q1415) (hts _ q735) (hts _ q108) (hts _ q736) (by decide) (by simp [Value.category]) (Nat.zero_le _) (Nat.zero_le _) dX13_oneThrow_143 ?_
          refine va_mmax hx hb (hml.trans hl.1.symm) hown (hts _ q1369) (hts _ q625) (hts _ q108) (hts _ q626) (by decide) (by simp [Value.category]) (Nat.zero_le _) (Nat.zero_le _) dX13_oneThrow_146 ?_
          refine m_iastw (j := 31 + y) hx hb hw rfl (by omega) dX13_oneThrow_149 (fun H locs hw => ?_)
          refine lv_iinc (v := nI (y + 1)) hx hb dX13_oneThrow_150 hl (k := 3) rfl (nI_1 _) (by decide) rfl (fun ls hl => ?_)
          refine lv_goto (tgt := 101) hx hb dX13_oneThrow_153 (by decide) ?_
          exact ih_101 (y + 1) _ _ _ (by first | omega | (dsimp only; omega)) ⟨by omega, by rw [readF, if_pos c_109]; exact hw, (lv_sub hl [2, 3, 0] rfl)⟩
    · skip
      have n_55 : ¬ n ≤ o := fun h => c_55 ((nI_leI (a := n) (b := o) (by omega) (by omega)).mpr h)
      refine lv_iload_n hx hb dX13_oneThrow_58 rfl (lv_at hl 3 rfl) ?_
      refine lv_iload_n hx hb dX13_oneThrow_59 rfl (lv_at hl 2 rfl) ?_
      refine lv_icmp_ne (tgt := 67) hx hb dX13_oneThrow_60 (by decide) (fun c_60 => ?_) (fun c_60 => ?_)
      · skip
        refine lv_iconst (v := 2) hx hb dX13_oneThrow_67 (by decide) ?_
        refine lv_istore hx hb dX13_oneThrow_68 hl (by decide) rfl (fun ls hl => ?_)
        refine lv_aload_n hx hb dX13_oneThrow_70 rfl (lv_at hl 1 rfl) ?_
        refine n_get (k := 0) hx hb hts in_X13 hown hw rfl rfl 0 (by decide) q1198 rfl dX13_oneThrow_71 ?_
        refine lv_iload_n hx hb dX13_oneThrow_74 rfl (lv_at hl 4 rfl) ?_
        refine lv_iconst (v := 2) hx hb dX13_oneThrow_75 (by decide) ?_
        refine n_callp (va_runS ⟨hx, hb, hml, hown, hts⟩ (tM_jumperAt l (o) (2)) (va_cwS 2 hts (lw_S q1354 q1355 q106 q1356) rfl rfl rfl (hdS_X13_jumperAt).2 ⟨by decide, by decide⟩) pu_pre rfl rfl hl.1 rfl (lv_room (by simp [Value.category])) dX13_oneThrow_76 ⟨Nat.zero_le _, Nat.zero_le _⟩) (fun r_76 e_76 => ?_)
        subst e_76
        refine lv_iconst (v := 0) hx hb dX13_oneThrow_79 (by decide) ?_
        refine lv_aload_n hx hb dX13_oneThrow_80 rfl (lv_at hl 1 rfl) ?_
        refine lv_iload_n hx hb dX13_oneThrow_81 rfl (lv_at hl 4 rfl) ?_
        refine lv_iconst (v := 2) hx hb dX13_oneThrow_82 (by decide) ?_
        refine n_callp (va_runV ⟨hx, hb, hml, hown, hts⟩ (tM_jumperIs l G ad _ _ (o) (2) (by first | assumption | omega) (by first | assumption | omega)) (cwV 2 hts (lw_V q1361 q1363 qs57 q106 q1364) rfl rfl rfl hdS_X13_jumperIs ⟨by decide, by decide⟩) (hw.preV (k := 0) rfl rfl) rfl rfl hl.1 rfl (lv_room (by simp [Value.category])) dX13_oneThrow_83 ⟨Nat.zero_le _, Nat.zero_le _⟩) (fun r_83 e_83 => ?_)
        subst e_83
        refine lv_iload hx hb dX13_oneThrow_86 (lv_at hl 0 rfl) ?_
        refine lv_isub hx hb dX13_oneThrow_88 ?_
        refine va_mmax hx hb (hml.trans hl.1.symm) hown (hts _ q1369) (hts _ q625) (hts _ q108) (hts _ q626) (by decide) (by simp [Value.category]) (Nat.zero_le _) (Nat.zero_le _) dX13_oneThrow_89 ?_
        refine m_iastw (j := 44 + 5 * o + 2) hx hb hw rfl (by omega) dX13_oneThrow_92 (fun H locs hw => ?_)
        refine lv_iinc (v := nI (o + 1)) hx hb dX13_oneThrow_93 hl (k := 4) rfl (nI_1 _) (by decide) rfl (fun ls hl => ?_)
        refine lv_goto (tgt := 48) hx hb dX13_oneThrow_96 (by decide) ?_
        exact ih_48 (o + 1) _ _ _ (by first | omega | (dsimp only; omega)) ⟨by omega, by rw [restF, if_neg c_60]; exact hw, (lv_sub hl [2, 3, 4, 0] rfl)⟩
      · skip
        refine lv_iconst (v := 0) hx hb dX13_oneThrow_63 (by decide) ?_
        refine lv_goto (tgt := 68) hx hb dX13_oneThrow_64 (by decide) ?_
        refine lv_istore hx hb dX13_oneThrow_68 hl (by decide) rfl (fun ls hl => ?_)
        refine lv_aload_n hx hb dX13_oneThrow_70 rfl (lv_at hl 1 rfl) ?_
        refine n_get (k := 0) hx hb hts in_X13 hown hw rfl rfl 0 (by decide) q1198 rfl dX13_oneThrow_71 ?_
        refine lv_iload_n hx hb dX13_oneThrow_74 rfl (lv_at hl 4 rfl) ?_
        refine lv_iconst (v := 2) hx hb dX13_oneThrow_75 (by decide) ?_
        refine n_callp (va_runS ⟨hx, hb, hml, hown, hts⟩ (tM_jumperAt l (o) (2)) (va_cwS 2 hts (lw_S q1354 q1355 q106 q1356) rfl rfl rfl (hdS_X13_jumperAt).2 ⟨by decide, by decide⟩) pu_pre rfl rfl hl.1 rfl (lv_room (by simp [Value.category])) dX13_oneThrow_76 ⟨Nat.zero_le _, Nat.zero_le _⟩) (fun r_76 e_76 => ?_)
        subst e_76
        refine lv_iconst (v := 0) hx hb dX13_oneThrow_79 (by decide) ?_
        refine lv_aload_n hx hb dX13_oneThrow_80 rfl (lv_at hl 1 rfl) ?_
        refine lv_iload_n hx hb dX13_oneThrow_81 rfl (lv_at hl 4 rfl) ?_
        refine lv_iconst (v := 2) hx hb dX13_oneThrow_82 (by decide) ?_
        refine n_callp (va_runV ⟨hx, hb, hml, hown, hts⟩ (tM_jumperIs l G ad _ _ (o) (2) (by first | assumption | omega) (by first | assumption | omega)) (cwV 2 hts (lw_V q1361 q1363 qs57 q106 q1364) rfl rfl rfl hdS_X13_jumperIs ⟨by decide, by decide⟩) (hw.preV (k := 0) rfl rfl) rfl rfl hl.1 rfl (lv_room (by simp [Value.category])) dX13_oneThrow_83 ⟨Nat.zero_le _, Nat.zero_le _⟩) (fun r_83 e_83 => ?_)
        subst e_83
        refine lv_iload hx hb dX13_oneThrow_86 (lv_at hl 0 rfl) ?_
        refine lv_isub hx hb dX13_oneThrow_88 ?_
        refine va_mmax hx hb (hml.trans hl.1.symm) hown (hts _ q1369) (hts _ q625) (hts _ q108) (hts _ q626) (by decide) (by simp [Value.category]) (Nat.zero_le _) (Nat.zero_le _) dX13_oneThrow_89 ?_
        refine m_iastw (j := 44 + 5 * o + 2) hx hb hw rfl (by omega) dX13_oneThrow_92 (fun H locs hw => ?_)
        refine lv_iinc (v := nI (o + 1)) hx hb dX13_oneThrow_93 hl (k := 4) rfl (nI_1 _) (by decide) rfl (fun ls hl => ?_)
        refine lv_goto (tgt := 48) hx hb dX13_oneThrow_96 (by decide) ?_
        exact ih_48 (o + 1) _ _ _ (by first | omega | (dsimp only; omega)) ⟨by omega, by rw [restF, if_pos c_60]; exact hw, (lv_sub hl [2, 3, 4, 0] rfl)⟩
  · skip
    obtain ⟨k, hk, ek⟩ := hI.who hq c_16
    refine lv_aload_n hx hb dX13_oneThrow_19 rfl (lv_at hl 2 rfl) ?_
    refine lv_iload_n hx hb dX13_oneThrow_20 rfl (lv_at hl 0 rfl) ?_
    refine n_topE ek ?_
    refine lv_iload_n hx hb dX13_oneThrow_21 rfl (lv_at hl 1 rfl) ?_
    refine n_callv (va_runV ⟨hx, hb, hml, hown, hts⟩ (tM_thrownTo l G ad _ _ k q B hk hq hI) (cwV 2 hts (lw_V q1407 q1409 qs64 q106 q1410) rfl rfl rfl hdS_X13_thrownTo ⟨by decide, by decide⟩) (hw.preV (k := 0) rfl rfl) rfl rfl hl.1 rfl (lv_room (by simp [Value.category])) dX13_oneThrow_22 ⟨Nat.zero_le _, Nat.zero_le _⟩) hw (fun u_22 H locs e_22 hw => ?_)
    subst e_22
    have hw : nS G (mE G ad _ _) s H locs := hw
    refine lv_goto (tgt := 46) hx hb dX13_oneThrow_25 (by decide) ?_
    obtain ⟨A, hA, hw⟩ : ∃ A, A = throwA w q ∧ nS G (mE G ad A M) s H locs := ⟨_, by first | rw [throwA, if_pos c_16] | rw [throwA, if_neg c_16, ek, nI_clamp (by omega)], hw⟩
    have eA : A 1 = nI n := by rw [hA, throwA_1]; exact en
    refine lv_iconst (v := 0) hx hb dX13_oneThrow_46 (by decide) ?_
    refine lv_istore_n hx hb dX13_oneThrow_47 rfl hl (by decide) rfl (fun ls hl => ?_)
    refine n_loop (α := Nat) (fun o H locs ls => o ≤ n ∧ nS G (mE G ad (restF A (w (17 + q)) o) M) s H locs ∧ lv_has ls 5 [(0, .ref (ad 0)), (1, .int (nI q)), (2, .int (w (17 + q))), (3, .int (nI o))]) (fun o => n - o) 48 ?_ 0 _ _ _ ⟨Nat.zero_le _, hw, (lv_sub hl [3, 2, 1, 0] rfl)⟩
    clear hl hw
    intro o H locs ls hI ih_48
    obtain ⟨ho, hw, hl⟩ := hI
    refine lv_iload_n hx hb dX13_oneThrow_48 rfl (lv_at hl 3 rfl) ?_
    refine lv_aload_n hx hb dX13_oneThrow_49 rfl (lv_at hl 0 rfl) ?_
    refine n_get (k := 0) hx hb hts in_X13 hown hw rfl rfl 0 (by decide) q1198 rfl dX13_oneThrow_50 ?_
    refine lv_iconst (v := 1) hx hb dX13_oneThrow_53 (by decide) ?_
    refine n_iald (k := 1) (j := 1) hx hb hw rfl rfl (by decide) (by decide) dX13_oneThrow_54 ?_
    refine n_topE ((restF_out (fun _ _ => by omega)).trans eA) ?_
    refine lv_icmp_ge (tgt := 99) hx hb dX13_oneThrow_55 (by decide) (fun c_55 => ?_) (fun c_55 => ?_)
    · skip
      have n_55 : n ≤ o := (nI_leI (a := n) (b := o) (by omega) (by omega)).mp c_55
      obtain rfl : o = n := by omega
      refine lv_iconst (v := 0) hx hb dX13_oneThrow_99 (by decide) ?_
      refine lv_istore_n hx hb dX13_oneThrow_100 rfl hl (by decide) rfl (fun ls hl => ?_)
      refine n_loop (α := Nat) (fun y H locs ls => y ≤ 7 ∧ nS G (mE G ad (readF (restF A (w (17 + q)) o) (nI q) y) M) s H locs ∧ lv_has ls 5 [(0, .ref (ad 0)), (1, .int (nI q)), (3, .int (nI y))]) (fun y => 7 - y) 101 ?_ 0 _ _ _ ⟨Nat.zero_le _, hw, (lv_sub hl [1, 2, 0] rfl)⟩
      clear hl hw
      intro y H locs ls hI ih_101
      obtain ⟨hy, hw, hl⟩ := hI
      refine lv_iload_n hx hb dX13_oneThrow_101 rfl (lv_at hl 2 rfl) ?_
      refine lv_bipush (v := 7) hx hb dX13_oneThrow_102 (by decide) ?_
      refine lv_icmp_ge (tgt := 156) hx hb dX13_oneThrow_104 (by decide) (fun c_104 => ?_) (fun c_104 => ?_)
      · skip
        have n_104 : 7 ≤ y := (nI_leI (a := 7) (b := y) (by omega) (by omega)).mp c_104
        obtain rfl : y = 7 := by omega
        refine lv_aload_n hx hb dX13_oneThrow_156 rfl (lv_at hl 0 rfl) ?_
        refine n_get (k := 0) hx hb hts in_X13 hown hw rfl rfl 0 (by decide) q1198 rfl dX13_oneThrow_157 ?_
        refine lv_iconst (v := 0) hx hb dX13_oneThrow_160 (by decide) ?_
        refine lv_dup2_11 hx hb dX13_oneThrow_161 rfl rfl ?_
        refine n_iald (k := 1) (j := 0) hx hb hw rfl rfl (by decide) (by decide) dX13_oneThrow_162 ?_
        refine lv_iconst (v := 1) hx hb dX13_oneThrow_163 (by decide) ?_
        refine lv_iadd hx hb dX13_oneThrow_164 ?_
        refine m_iastw (j := 0) hx hb hw rfl (by decide) dX13_oneThrow_165 (fun H locs hw => ?_)
        exact m_vret hx hb hr hlk hw (by rw [thr_at hq eq hn en, ← hA]) dX13_oneThrow_166
      · skip
        have n_104 : ¬ 7 ≤ y := fun h => c_104 ((nI_leI (a := 7) (b := y) (by omega) (by omega)).mpr h)
        refine lv_iload_n hx hb dX13_oneThrow_107 rfl (lv_at hl 2 rfl) ?_
        refine lv_iload_n hx hb dX13_oneThrow_108 rfl (lv_at hl 1 rfl) ?_
        refine lv_icmp_ne (tgt := 117) hx hb dX13_oneThrow_109 (by decide) (fun c_109 => ?_) (fun c_109 => ?_)
        · skip
          have n_109 : ¬ y = q := fun h => c_109 ((nI_eq (a := y) (b := q) (by omega) (by omega)).mpr h)
          refine lv_iconst (v := (-1)) hx hb dX13_oneThrow_117 (by decide) ?_
          refine lv_istore hx hb dX13_oneThrow_118 hl (by decide) rfl (fun ls hl => ?_)
          refine lv_aload_n hx hb dX13_oneThrow_120 rfl (lv_at hl 1 rfl) ?_
          refine n_get (k := 0) hx hb hts in_X13 hown hw rfl rfl 0 (by decide) q1198 rfl dX13_oneThrow_121 ?_
          refine lv_bipush (v := 31) hx hb dX13_oneThrow_124 (by decide) ?_
          refine lv_iload_n hx hb dX13_oneThrow_126 rfl (lv_at hl 3 rfl) ?_
          refine lv_iadd hx hb dX13_oneThrow_127 ?_
          refine n_topE (nI_add 31 y) ?_
          refine lv_iconst (v := 0) hx hb dX13_oneThrow_128 (by decide) ?_
          refine lv_bipush (v := 99) hx hb dX13_oneThrow_129 (by decide) ?_
          refine lv_aload_n hx hb dX13_oneThrow_131 rfl (lv_at hl 1 rfl) ?_
          refine n_get (k := 0) hx hb hts in_X13 hown hw rfl rfl 0 (by decide) q1198 rfl dX13_oneThrow_132 ?_
          refine lv_bipush (v := 31) hx hb dX13_oneThrow_135 (by decide) ?_
          refine lv_iload_n hx hb dX13_oneThrow_137 rfl (lv_at hl 3 rfl) ?_
          refine lv_iadd hx hb dX13_oneThrow_138 ?_
          refine n_topE (nI_add 31 y) ?_
          refine n_iald (k := 1) (j := 31 + y) hx hb hw rfl rfl (by omega) (by decide) dX13_oneThrow_139 ?_
          refine lv_iload hx hb dX13_oneThrow_140 (lv_at hl 0 rfl) ?_
          refine lv_iadd hx hb dX13_oneThrow_142 ?_
          refine va_mmin hx hb (hml.trans hl.1.symm) hown (hts _ q1415) (hts _ q735) (hts _ q108) (hts _ q736) (by decide) (by simp [Value.category]) (Nat.zero_le _) (Nat.zero_le _) dX13_oneThrow_143 ?_
          refine va_mmax hx hb (hml.trans hl.1.symm) hown (hts _ q1369) (hts _ q625) (hts _ q108) (hts _ q626) (by decide) (by simp [Value.category]) (Nat.zero_le _) (Nat.zero_le _) dX13_oneThrow_146 ?_
          refine m_iastw (j := 31 + y) hx hb hw rfl (by omega) dX13_oneThrow_149 (fun H locs hw => ?_)
          refine lv_iinc (v := nI (y + 1)) hx hb dX13_oneThrow_150 hl (k := 3) rfl (nI_1 _) (by decide) rfl (fun ls hl => ?_)
          refine lv_goto (tgt := 101) hx hb dX13_oneThrow_153 (by decide) ?_
          exact ih_101 (y + 1) _ _ _ (by first | omega | (dsimp only; omega)) ⟨by omega, by rw [readF, if_neg c_109]; exact hw, (lv_sub hl [2, 3, 0] rfl)⟩
        · skip
          have n_109 : y = q := (nI_eq (a := y) (b := q) (by omega) (by omega)).mp c_109
          refine lv_bipush (v := 6) hx hb dX13_oneThrow_112 (by decide) ?_
          refine lv_goto (tgt := 118) hx hb dX13_oneThrow_114 (by decide) ?_
          refine lv_istore hx hb dX13_oneThrow_118 hl (by decide) rfl (fun ls hl => ?_)
          refine lv_aload_n hx hb dX13_oneThrow_120 rfl (lv_at hl 1 rfl) ?_
          refine n_get (k := 0) hx hb hts in_X13 hown hw rfl rfl 0 (by decide) q1198 rfl dX13_oneThrow_121 ?_
          refine lv_bipush (v := 31) hx hb dX13_oneThrow_124 (by decide) ?_
          refine lv_iload_n hx hb dX13_oneThrow_126 rfl (lv_at hl 3 rfl) ?_
          refine lv_iadd hx hb dX13_oneThrow_127 ?_
          refine n_topE (nI_add 31 y) ?_
          refine lv_iconst (v := 0) hx hb dX13_oneThrow_128 (by decide) ?_
          refine lv_bipush (v := 99) hx hb dX13_oneThrow_129 (by decide) ?_
          refine lv_aload_n hx hb dX13_oneThrow_131 rfl (lv_at hl 1 rfl) ?_
          refine n_get (k := 0) hx hb hts in_X13 hown hw rfl rfl 0 (by decide) q1198 rfl dX13_oneThrow_132 ?_
          refine lv_bipush (v := 31) hx hb dX13_oneThrow_135 (by decide) ?_
          refine lv_iload_n hx hb dX13_oneThrow_137 rfl (lv_at hl 3 rfl) ?_
          refine lv_iadd hx hb dX13_oneThrow_138 ?_
          refine n_topE (nI_add 31 y) ?_
          refine n_iald (k := 1) (j := 31 + y) hx hb hw rfl rfl (by omega) (by decide) dX13_oneThrow_139 ?_
          refine lv_iload hx hb dX13_oneThrow_140 (lv_at hl 0 rfl) ?_
          refine lv_iadd hx hb dX13_oneThrow_142 ?_
          refine va_mmin hx hb (hml.trans hl.1.symm) hown (hts _ q1415) (hts _ q735) (hts _ q108) (hts _ q736) (by decide) (by simp [Value.category]) (Nat.zero_le _) (Nat.zero_le _) dX13_oneThrow_143 ?_
          refine va_mmax hx hb (hml.trans hl.1.symm) hown (hts _ q1369) (hts _ q625) (hts _ q108) (hts _ q626) (by decide) (by simp [Value.category]) (Nat.zero_le _) (Nat.zero_le _) dX13_oneThrow_146 ?_
          refine m_iastw (j := 31 + y) hx hb hw rfl (by omega) dX13_oneThrow_149 (fun H locs hw => ?_)
          refine lv_iinc (v := nI (y + 1)) hx hb dX13_oneThrow_150 hl (k := 3) rfl (nI_1 _) (by decide) rfl (fun ls hl => ?_)
          refine lv_goto (tgt := 101) hx hb dX13_oneThrow_153 (by decide) ?_
          exact ih_101 (y + 1) _ _ _ (by first | omega | (dsimp only; omega)) ⟨by omega, by rw [readF, if_pos c_109]; exact hw, (lv_sub hl [2, 3, 0] rfl)⟩
    · skip
      have n_55 : ¬ n ≤ o := fun h => c_55 ((nI_leI (a := n) (b := o) (by omega) (by omega)).mpr h)
      refine lv_iload_n hx hb dX13_oneThrow_58 rfl (lv_at hl 3 rfl) ?_
      refine lv_iload_n hx hb dX13_oneThrow_59 rfl (lv_at hl 2 rfl) ?_
      refine lv_icmp_ne (tgt := 67) hx hb dX13_oneThrow_60 (by decide) (fun c_60 => ?_) (fun c_60 => ?_)
      · skip
        refine lv_iconst (v := 2) hx hb dX13_oneThrow_67 (by decide) ?_
        refine lv_istore hx hb dX13_oneThrow_68 hl (by decide) rfl (fun ls hl => ?_)
        refine lv_aload_n hx hb dX13_oneThrow_70 rfl (lv_at hl 1 rfl) ?_
        refine n_get (k := 0) hx hb hts in_X13 hown hw rfl rfl 0 (by decide) q1198 rfl dX13_oneThrow_71 ?_
        refine lv_iload_n hx hb dX13_oneThrow_74 rfl (lv_at hl 4 rfl) ?_
        refine lv_iconst (v := 2) hx hb dX13_oneThrow_75 (by decide) ?_
        refine n_callp (va_runS ⟨hx, hb, hml, hown, hts⟩ (tM_jumperAt l (o) (2)) (va_cwS 2 hts (lw_S q1354 q1355 q106 q1356) rfl rfl rfl (hdS_X13_jumperAt).2 ⟨by decide, by decide⟩) pu_pre rfl rfl hl.1 rfl (lv_room (by simp [Value.category])) dX13_oneThrow_76 ⟨Nat.zero_le _, Nat.zero_le _⟩) (fun r_76 e_76 => ?_)
        subst e_76
        refine lv_iconst (v := 0) hx hb dX13_oneThrow_79 (by decide) ?_
        refine lv_aload_n hx hb dX13_oneThrow_80 rfl (lv_at hl 1 rfl) ?_
        refine lv_iload_n hx hb dX13_oneThrow_81 rfl (lv_at hl 4 rfl) ?_
        refine lv_iconst (v := 2) hx hb dX13_oneThrow_82 (by decide) ?_
        refine n_callp (va_runV ⟨hx, hb, hml, hown, hts⟩ (tM_jumperIs l G ad _ _ (o) (2) (by first | assumption | omega) (by first | assumption | omega)) (cwV 2 hts (lw_V q1361 q1363 qs57 q106 q1364) rfl rfl rfl hdS_X13_jumperIs ⟨by decide, by decide⟩) (hw.preV (k := 0) rfl rfl) rfl rfl hl.1 rfl (lv_room (by simp [Value.category])) dX13_oneThrow_83 ⟨Nat.zero_le _, Nat.zero_le _⟩) (fun r_83 e_83 => ?_)
        subst e_83
        refine lv_iload hx hb dX13_oneThrow_86 (lv_at hl 0 rfl) ?_
        refine lv_isub hx hb dX13_oneThrow_88 ?_
        refine va_mmax hx hb (hml.trans hl.1.symm) hown (hts _ q1369) (hts _ q625) (hts _ q108) (hts _ q626) (by decide) (by simp [Value.category]) (Nat.zero_le _) (Nat.zero_le _) dX13_oneThrow_89 ?_
        refine m_iastw (j := 44 + 5 * o + 2) hx hb hw rfl (by omega) dX13_oneThrow_92 (fun H locs hw => ?_)
        refine lv_iinc (v := nI (o + 1)) hx hb dX13_oneThrow_93 hl (k := 4) rfl (nI_1 _) (by decide) rfl (fun ls hl => ?_)
        refine lv_goto (tgt := 48) hx hb dX13_oneThrow_96 (by decide) ?_
        exact ih_48 (o + 1) _ _ _ (by first | omega | (dsimp only; omega)) ⟨by omega, by rw [restF, if_neg c_60]; exact hw, (lv_sub hl [2, 3, 4, 0] rfl)⟩
      · skip
        refine lv_iconst (v := 0) hx hb dX13_oneThrow_63 (by decide) ?_
        refine lv_goto (tgt := 68) hx hb dX13_oneThrow_64 (by decide) ?_
        refine lv_istore hx hb dX13_oneThrow_68 hl (by decide) rfl (fun ls hl => ?_)
        refine lv_aload_n hx hb dX13_oneThrow_70 rfl (lv_at hl 1 rfl) ?_
        refine n_get (k := 0) hx hb hts in_X13 hown hw rfl rfl 0 (by decide) q1198 rfl dX13_oneThrow_71 ?_
        refine lv_iload_n hx hb dX13_oneThrow_74 rfl (lv_at hl 4 rfl) ?_
        refine lv_iconst (v := 2) hx hb dX13_oneThrow_75 (by decide) ?_
        refine n_callp (va_runS ⟨hx, hb, hml, hown, hts⟩ (tM_jumperAt l (o) (2)) (va_cwS 2 hts (lw_S q1354 q1355 q106 q1356) rfl rfl rfl (hdS_X13_jumperAt).2 ⟨by decide, by decide⟩) pu_pre rfl rfl hl.1 rfl (lv_room (by simp [Value.category])) dX13_oneThrow_76 ⟨Nat.zero_le _, Nat.zero_le _⟩) (fun r_76 e_76 => ?_)
        subst e_76
        refine lv_iconst (v := 0) hx hb dX13_oneThrow_79 (by decide) ?_
        refine lv_aload_n hx hb dX13_oneThrow_80 rfl (lv_at hl 1 rfl) ?_
        refine lv_iload_n hx hb dX13_oneThrow_81 rfl (lv_at hl 4 rfl) ?_
        refine lv_iconst (v := 2) hx hb dX13_oneThrow_82 (by decide) ?_
        refine n_callp (va_runV ⟨hx, hb, hml, hown, hts⟩ (tM_jumperIs l G ad _ _ (o) (2) (by first | assumption | omega) (by first | assumption | omega)) (cwV 2 hts (lw_V q1361 q1363 qs57 q106 q1364) rfl rfl rfl hdS_X13_jumperIs ⟨by decide, by decide⟩) (hw.preV (k := 0) rfl rfl) rfl rfl hl.1 rfl (lv_room (by simp [Value.category])) dX13_oneThrow_83 ⟨Nat.zero_le _, Nat.zero_le _⟩) (fun r_83 e_83 => ?_)
        subst e_83
        refine lv_iload hx hb dX13_oneThrow_86 (lv_at hl 0 rfl) ?_
        refine lv_isub hx hb dX13_oneThrow_88 ?_
        refine va_mmax hx hb (hml.trans hl.1.symm) hown (hts _ q1369) (hts _ q625) (hts _ q108) (hts _ q626) (by decide) (by simp [Value.category]) (Nat.zero_le _) (Nat.zero_le _) dX13_oneThrow_89 ?_
        refine m_iastw (j := 44 + 5 * o + 2) hx hb hw rfl (by omega) dX13_oneThrow_92 (fun H locs hw => ?_)
        refine lv_iinc (v := nI (o + 1)) hx hb dX13_oneThrow_93 hl (k := 4) rfl (nI_1 _) (by decide) rfl (fun ls hl => ?_)
        refine lv_goto (tgt := 48) hx hb dX13_oneThrow_96 (by decide) ?_
        exact ih_48 (o + 1) _ _ _ (by first | omega | (dsimp only; omega)) ⟨by omega, by rw [restF, if_pos c_60]; exact hw, (lv_sub hl [2, 3, 4, 0] rfl)⟩
theorem hdS_X13_throwsGo : yX13_throwsGo.cls = "LineCallsModel" ∧ yX13_throwsGo.cls ≠ "java/lang/invoke/MethodHandle" ∧ yX13_throwsGo.cls ≠ "java/lang/invoke/VarHandle" ∧ (parseMethodDescriptor yX13_throwsGo.desc).map (fun d => d.parameters.length) = some 1 := by decide +kernel
set_option maxHeartbeats 4000000 in
theorem tM_throwsGo (l : Launch) (G : nG) (ad : Nat → Nat) (w : rw84) (M : mM) (n B : Nat) (hI : Inv B w) (hB : B + n < 2 ^ 30) : Met l yX13_throwsGo (ws_ yX13_throwsGo cX13_throwsGo 3 (none)) { frames := 6, cells := 0, slots := 0, locals := 136 } (va_Pc [.ref (ad 0), .int (nI n)] (nC G (mE G ad w M))) (va_Qv (fun (u : rw84 × mM) => u = (thrN w n, M)) (fun u => nC G (mE G ad u.1 u.2)) (nA G)) 0 0 (nA G) := by
  refine n_head (by decide) (Nat.le_of_ble_eq_true rfl) ?_
  intro p e s m below meth c ls hx hb hr hlk hml hown hts hB0 hl
  have hown : s.vm.findClass "LineCallsModel" = some m.cls := hown
  have hw := nS.start hB0
  have hl : lv_has ls 3 [(0, .ref (ad 0)), (1, .int (nI n))] := hl
  refine lv_iconst (v := 0) hx hb dX13_throwsGo_0 (by decide) ?_
  refine lv_istore_n hx hb dX13_throwsGo_1 rfl hl (by decide) rfl (fun ls hl => ?_)
  refine n_loop (α := Nat) (fun k H locs ls => k ≤ n ∧ nS G (mE G ad (thrN w k) M) s H locs ∧ lv_has ls 3 [(0, .ref (ad 0)), (1, .int (nI n)), (2, .int (nI k))]) (fun k => n - k) 2 ?_ 0 _ _ _ ⟨Nat.zero_le _, hw, (lv_sub hl [1, 2, 0] rfl)⟩
  clear hl hw
  intro k H locs ls hI ih_2
  obtain ⟨hk, hw, hl⟩ := hI
  refine lv_iload_n hx hb dX13_throwsGo_2 rfl (lv_at hl 2 rfl) ?_
  refine lv_iload_n hx hb dX13_throwsGo_3 rfl (lv_at hl 1 rfl) ?_
  refine lv_icmp_ge (tgt := 17) hx hb dX13_throwsGo_4 (by decide) (fun c_4 => ?_) (fun c_4 => ?_)
  · skip
    have n_4 : n ≤ k := (nI_leI (a := n) (b := k) (by omega) (by omega)).mp c_4
    obtain rfl : k = n := by omega
    exact m_vret hx hb hr hlk hw rfl dX13_throwsGo_17
  · skip
    have n_4 : ¬ n ≤ k := fun h => c_4 ((nI_leI (a := n) (b := k) (by omega) (by omega)).mpr h)
    refine lv_aload_n hx hb dX13_throwsGo_7 rfl (lv_at hl 0 rfl) ?_
    refine n_callv (va_runV ⟨hx, hb, hml, hown, hts⟩ (tM_oneThrow l G ad _ _ (B + k) (hI.thrN (by omega)) (by omega)) (cwV 0 hts (lw_V q1399 q1401 qs62 q106 q1402) rfl rfl rfl hdS_X13_oneThrow ⟨by decide, by decide⟩) (hw.preV (k := 0) rfl rfl) rfl rfl hl.1 rfl (lv_room (by simp [Value.category])) dX13_throwsGo_8 ⟨Nat.zero_le _, Nat.zero_le _⟩) hw (fun u_8 H locs e_8 hw => ?_)
    subst e_8
    have hw : nS G (mE G ad _ _) s H locs := hw
    refine lv_iinc (v := nI (k + 1)) hx hb dX13_throwsGo_11 hl (k := 2) rfl (nI_1 _) (by decide) rfl (fun ls hl => ?_)
    refine lv_goto (tgt := 2) hx hb dX13_throwsGo_14 (by decide) ?_
    exact ih_2 (k + 1) _ _ _ (by first | omega | (dsimp only; omega)) ⟨by omega, hw, (lv_sub hl [1, 2, 0] rfl)⟩
theorem hdS_X13_drawn : yX13_drawn.cls = "LineCallsModel" ∧ yX13_drawn.cls ≠ "java/lang/invoke/MethodHandle" ∧ yX13_drawn.cls ≠ "java/lang/invoke/VarHandle" ∧ (parseMethodDescriptor yX13_drawn.desc).map (fun d => d.parameters.length) = some 0 := by decide +kernel
set_option maxHeartbeats 4000000 in
theorem tM_drawn (l : Launch) (G : nG) (ad : Nat → Nat) (w : rw84) (M : mM)  : Met l yX13_drawn (ws_ yX13_drawn cX13_drawn 1 (some .int)) { frames := 0, cells := 0, slots := 0, locals := 0 } (va_Pc [.ref (ad 0)] (nC G (mE G ad w M))) (va_Qi (fun (r : Int32) (u : rw84 × mM) => r = drawR w ∧ u = (drawF w, M)) (fun u => nC G (mE G ad u.1 u.2)) (nA G)) 0 0 (nA G) := by
  refine n_head (by decide) (Nat.le_of_ble_eq_true rfl) ?_
  intro p e s m below meth c ls hx hb hr hlk hml hown hts hB0 hl
  have hown : s.vm.findClass "LineCallsModel" = some m.cls := hown
  have hw := nS.start hB0
  have hl : lv_has ls 1 [(0, .ref (ad 0))] := hl
  refine lv_aload_n hx hb dX13_drawn_0 rfl (lv_at hl 0 rfl) ?_
  refine n_get (k := 0) hx hb hts in_X13 hown hw rfl rfl 0 (by decide) q1198 rfl dX13_drawn_1 ?_
  refine lv_iconst (v := 2) hx hb dX13_drawn_4 (by decide) ?_
  refine lv_aload_n hx hb dX13_drawn_5 rfl (lv_at hl 0 rfl) ?_
  refine n_get (k := 0) hx hb hts in_X13 hown hw rfl rfl 0 (by decide) q1198 rfl dX13_drawn_6 ?_
  refine lv_iconst (v := 2) hx hb dX13_drawn_9 (by decide) ?_
  refine n_iald (k := 1) (j := 2) hx hb hw rfl rfl (by decide) (by decide) dX13_drawn_10 ?_
  refine lv_ldc (v := 1103515245) hx hb hown (hts _ q1542) dX13_drawn_11 ?_
  refine lv_imul hx hb dX13_drawn_13 ?_
  refine lv_sipush (v := 12345) hx hb dX13_drawn_14 (by decide) ?_
  refine lv_iadd hx hb dX13_drawn_17 ?_
  refine m_iastw (j := 2) hx hb hw rfl (by decide) dX13_drawn_18 (fun H locs hw => ?_)
  refine lv_aload_n hx hb dX13_drawn_19 rfl (lv_at hl 0 rfl) ?_
  refine n_get (k := 0) hx hb hts in_X13 hown hw rfl rfl 0 (by decide) q1198 rfl dX13_drawn_20 ?_
  refine lv_iconst (v := 2) hx hb dX13_drawn_23 (by decide) ?_
  refine n_iald (k := 1) (j := 2) hx hb hw rfl rfl (by decide) (by decide) dX13_drawn_24 ?_
  refine lv_bipush (v := 8) hx hb dX13_drawn_25 (by decide) ?_
  refine lv_iushr hx hb dX13_drawn_27 rfl ?_
  exact m_iret hx hb hr hlk rfl hw ⟨rfl, rfl⟩ dX13_drawn_28
