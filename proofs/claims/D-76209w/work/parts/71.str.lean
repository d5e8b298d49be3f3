/-! texts of the program: length and charAt -/
set_option maxRecDepth 100000
section STR
variable {p : Program} {l : Launch} {e : Env} {R : Room} {s : State} {m : MethodId} {args : Array Value} {below : List Frame} {meth : Method} {c : Code} {H : Heap} {locs : List Loc} {cells slots : Nat} {Q : State → Prop}
variable {cc : ByteArray} {pc : Nat} {ls : Array Slot} {rest st0 : List Value} {G : nG} {E : nE}
theorem nS.preT {i : Nat} {As : List Value} (h : nS G E s H locs) (hi : i < 15) : PreV s H "java/lang/String" (G.2.2.2.1 i) (va_Pc (.ref (G.2.2.2.1 i) :: As) (nC G E)) As := ⟨nC.blind, vk_recv h.X.1 hi h.S, fun _ hU hW => ⟨rfl, h.at hU hW⟩⟩
theorem n_svret (hexec : p.tables.exec = Jvm.exec) (hb : c.code = cc) (hr : meth.sig.returnType = none) (hlk : meth.locks = false) (hdg : decode cc pc = .ok (.return_, 1)) : W p l e R s m args below meth c s.heap [] cells slots (MQ below (va_Sv (fun _ => True)) args s cells slots (fun _ => False)) (F0 m pc ls []) :=
  W.vret hexec hb hr (fun t ht hW => ⟨rfl, trivial, ht⟩) (fun _ h => by cases h) hdg hlk
theorem n_callsv {a : Array Value} (hr : va_Run p l e R s m args below meth c H locs cells slots 0 0 (F0 m pc ls st0) rest (va_Sv (fun _ => True) a) (fun _ => False)) (kk : W p l e R s m args below meth c H locs cells slots Q (F0 m (pc + 3) ls rest)) : W p l e R s m args below meth c H locs cells slots Q (F0 m pc ls st0) := va_csv hr.run (fun _ => kk)
end STR
theorem sL_lt : ∀ i, i < 15 → sL i < 100 := by decide
theorem hdS_J5_coder : yJ5_coder.cls = "java/lang/String" ∧ yJ5_coder.cls ≠ "java/lang/invoke/MethodHandle" ∧ yJ5_coder.cls ≠ "java/lang/invoke/VarHandle" ∧ (parseMethodDescriptor yJ5_coder.desc).map (fun d => d.parameters.length) = some 0 := by decide +kernel
set_option maxHeartbeats 4000000 in
theorem tS_J5_coder (l : Launch) (G : nG) (E : nE) (i : Nat) (hi : i < 15) : Met l yJ5_coder (ws_ yJ5_coder cJ5_coder 1 (some .byte)) { frames := 0, cells := 0, slots := 0, locals := 0 } (va_Pc [.ref (G.2.2.2.1 i)] (nC G (E))) (vp_Si (fun r => r = 0)) 0 0 (fun _ => False) := by
  refine n_head (by decide) (Nat.le_of_ble_eq_true rfl) ?_
  intro p e s m below meth c ls hx hb hr hlk hml hown hts hB0 hl
  have hown : s.vm.findClass "java/lang/String" = some m.cls := hown
  have hw := nS.start hB0
  have hl : lv_has ls 1 [(0, .ref (G.2.2.2.1 i))] := hl
  refine va_gets hx hb hw.X.2.2.1 hw.S hown (hts _ q1009) (fun _ h => h) dJ5_coder_0 ?_
  refine lv_if_eq (tgt := 13) hx hb dJ5_coder_3 (by decide) (fun c_3 => ?_) (fun c_3 => ?_)
  · skip
    exact absurd c_3 (by decide)
  · skip
    refine lv_aload_n hx hb dJ5_coder_6 rfl (lv_at hl 0 rfl) ?_
    refine vk_getf hx hb (hw.X.1.1 i hi).2.1 hw.S hown (hts _ q1713) (fun _ h => h) dJ5_coder_7 ?_
    refine lv_goto (tgt := 14) hx hb dJ5_coder_10 (by decide) ?_
    exact n_pret hx hb hr hlk rfl rfl dJ5_coder_14
theorem hdS_J5_isLatin1 : yJ5_isLatin1.cls = "java/lang/String" ∧ yJ5_isLatin1.cls ≠ "java/lang/invoke/MethodHandle" ∧ yJ5_isLatin1.cls ≠ "java/lang/invoke/VarHandle" ∧ (parseMethodDescriptor yJ5_isLatin1.desc).map (fun d => d.parameters.length) = some 0 := by decide +kernel
set_option maxHeartbeats 4000000 in
theorem tS_J5_isLatin1 (l : Launch) (G : nG) (E : nE) (i : Nat) (hi : i < 15) : Met l yJ5_isLatin1 (ws_ yJ5_isLatin1 cJ5_isLatin1 1 (some .boolean)) { frames := 0, cells := 0, slots := 0, locals := 0 } (va_Pc [.ref (G.2.2.2.1 i)] (nC G (E))) (vp_Si (fun r => r = 1)) 0 0 (fun _ => False) := by
  refine n_head (by decide) (Nat.le_of_ble_eq_true rfl) ?_
  intro p e s m below meth c ls hx hb hr hlk hml hown hts hB0 hl
  have hown : s.vm.findClass "java/lang/String" = some m.cls := hown
  have hw := nS.start hB0
  have hl : lv_has ls 1 [(0, .ref (G.2.2.2.1 i))] := hl
  refine va_gets hx hb hw.X.2.2.1 hw.S hown (hts _ q1009) (fun _ h => h) dJ5_isLatin1_0 ?_
  refine lv_if_eq (tgt := 17) hx hb dJ5_isLatin1_3 (by decide) (fun c_3 => ?_) (fun c_3 => ?_)
  · skip
    exact absurd c_3 (by decide)
  · skip
    refine lv_aload_n hx hb dJ5_isLatin1_6 rfl (lv_at hl 0 rfl) ?_
    refine vk_getf hx hb (hw.X.1.1 i hi).2.1 hw.S hown (hts _ q1713) (fun _ h => h) dJ5_isLatin1_7 ?_
    refine lv_if_ne (tgt := 17) hx hb dJ5_isLatin1_10 (by decide) (fun c_10 => ?_) (fun c_10 => ?_)
    · skip
      exact absurd rfl c_10
    · skip
      refine lv_iconst (v := 1) hx hb dJ5_isLatin1_13 (by decide) ?_
      refine lv_goto (tgt := 18) hx hb dJ5_isLatin1_14 (by decide) ?_
      exact n_pret hx hb hr hlk rfl rfl dJ5_isLatin1_18
theorem hdS_J5_length : yJ5_length.cls = "java/lang/String" ∧ yJ5_length.cls ≠ "java/lang/invoke/MethodHandle" ∧ yJ5_length.cls ≠ "java/lang/invoke/VarHandle" ∧ (parseMethodDescriptor yJ5_length.desc).map (fun d => d.parameters.length) = some 0 := by decide +kernel
set_option maxHeartbeats 4000000 in
theorem tS_J5_length (l : Launch) (G : nG) (E : nE) (i : Nat) (hi : i < 15) : Met l yJ5_length (ws_ yJ5_length cJ5_length 1 (some .int)) { frames := 1, cells := 0, slots := 0, locals := 20 } (va_Pc [.ref (G.2.2.2.1 i)] (nC G (E))) (vp_Si (fun r => r = nI (sL i))) 0 0 (fun _ => False) := by
  refine n_head (by decide) (Nat.le_of_ble_eq_true rfl) ?_
  intro p e s m below meth c ls hx hb hr hlk hml hown hts hB0 hl
  have hown : s.vm.findClass "java/lang/String" = some m.cls := hown
  have hw := nS.start hB0
  have hl : lv_has ls 1 [(0, .ref (G.2.2.2.1 i))] := hl
  refine lv_aload_n hx hb dJ5_length_0 rfl (lv_at hl 0 rfl) ?_
  refine vk_getf hx hb (hw.X.1.1 i hi).2.2.1 hw.S hown (hts _ q1714) (fun _ h => h) dJ5_length_1 ?_
  refine va_tlen hx hb (hw.X.1.1 i hi).2.2.2 hw.S (v := nI (sL i)) rfl dJ5_length_4 ?_
  refine lv_aload_n hx hb dJ5_length_5 rfl (lv_at hl 0 rfl) ?_
  refine n_callp (va_runV ⟨hx, hb, hml, hown, hts⟩ (tS_J5_coder l G _ i hi ) (cwV 0 hts (lw_V q1583 q1584 q1585 q110 q1586) rfl rfl rfl hdS_J5_coder ⟨by decide, by decide⟩) (hw.preT hi) rfl rfl hl.1 rfl (lv_room (by simp [Value.category])) dJ5_length_6 ⟨Nat.zero_le _, Nat.zero_le _⟩) (fun r_6 e_6 => ?_)
  subst e_6
  refine lv_ishr hx hb dJ5_length_9 ?_
  refine n_topE (sb_shr0 _) ?_
  exact n_pret hx hb hr hlk rfl rfl dJ5_length_10
theorem hdS_J7_checkIndex : yJ7_checkIndex.cls = "jdk/internal/util/Preconditions" ∧ yJ7_checkIndex.cls ≠ "java/lang/invoke/MethodHandle" ∧ yJ7_checkIndex.cls ≠ "java/lang/invoke/VarHandle" ∧ (parseMethodDescriptor yJ7_checkIndex.desc).map (fun d => d.parameters.length) = some 3 := by decide +kernel
set_option maxHeartbeats 4000000 in
theorem tS_J7_checkIndexN (l : Launch) (k n : Nat) (hk : k < n) (hn : n < 2 ^ 31) : Met l yJ7_checkIndex (ws_ yJ7_checkIndex cJ7_checkIndex 3 (some .int)) { frames := 0, cells := 0, slots := 0, locals := 0 } (va_Pc [.int (nI k), .int (nI n), .null] (fun _ => True)) (vp_Si (fun r => r = nI k)) 0 0 (fun _ => False) := by
  refine n_head (by decide) (Nat.le_of_ble_eq_true rfl) ?_
  intro p e s m below meth c ls hx hb hr hlk hml hown hts hB0 hl
  have hown : s.vm.findClass "jdk/internal/util/Preconditions" = some m.cls := hown
  have hl : lv_has ls 3 [(0, .int (nI k)), (1, .int (nI n)), (2, .null)] := hl
  refine lv_iload_n hx hb dJ7_checkIndex_0 rfl (lv_at hl 0 rfl) ?_
  refine lv_if_lt (tgt := 9) hx hb dJ7_checkIndex_1 (by decide) (fun c_1 => ?_) (fun c_1 => ?_)
  · skip
    exact absurd c_1 (nI_pos (by omega))
  · skip
    refine lv_iload_n hx hb dJ7_checkIndex_4 rfl (lv_at hl 0 rfl) ?_
    refine lv_iload_n hx hb dJ7_checkIndex_5 rfl (lv_at hl 1 rfl) ?_
    refine lv_icmp_lt (tgt := 16) hx hb dJ7_checkIndex_6 (by decide) (fun c_6 => ?_) (fun c_6 => ?_)
    · skip
      have n_6 : k < n := (nI_ltI (a := k) (b := n) (by omega) (by omega)).mp c_6
      refine lv_iload_n hx hb dJ7_checkIndex_16 rfl (lv_at hl 0 rfl) ?_
      exact n_pret hx hb hr hlk rfl rfl dJ7_checkIndex_17
    · skip
      exact absurd (nI_lt hk hn) c_6
set_option maxHeartbeats 4000000 in
theorem tS_J7_checkIndex (l : Launch) (k n : Nat) (t : Nat) (hk : k < n) (hn : n < 2 ^ 31) : Met l yJ7_checkIndex (ws_ yJ7_checkIndex cJ7_checkIndex 3 (some .int)) { frames := 0, cells := 0, slots := 0, locals := 0 } (va_Pc [.int (nI k), .int (nI n), .ref t] (fun _ => True)) (vp_Si (fun r => r = nI k)) 0 0 (fun _ => False) := by
  refine n_head (by decide) (Nat.le_of_ble_eq_true rfl) ?_
  intro p e s m below meth c ls hx hb hr hlk hml hown hts hB0 hl
  have hown : s.vm.findClass "jdk/internal/util/Preconditions" = some m.cls := hown
  have hl : lv_has ls 3 [(0, .int (nI k)), (1, .int (nI n)), (2, .ref t)] := hl
  refine lv_iload_n hx hb dJ7_checkIndex_0 rfl (lv_at hl 0 rfl) ?_
  refine lv_if_lt (tgt := 9) hx hb dJ7_checkIndex_1 (by decide) (fun c_1 => ?_) (fun c_1 => ?_)
  · skip
    exact absurd c_1 (nI_pos (by omega))
  · skip
    refine lv_iload_n hx hb dJ7_checkIndex_4 rfl (lv_at hl 0 rfl) ?_
    refine lv_iload_n hx hb dJ7_checkIndex_5 rfl (lv_at hl 1 rfl) ?_
    refine lv_icmp_lt (tgt := 16) hx hb dJ7_checkIndex_6 (by decide) (fun c_6 => ?_) (fun c_6 => ?_)
    · skip
      have n_6 : k < n := (nI_ltI (a := k) (b := n) (by omega) (by omega)).mp c_6
      refine lv_iload_n hx hb dJ7_checkIndex_16 rfl (lv_at hl 0 rfl) ?_
      exact n_pret hx hb hr hlk rfl rfl dJ7_checkIndex_17
    · skip
      exact absurd (nI_lt hk hn) c_6
theorem hdS_J5_checkIndex : yJ5_checkIndex.cls = "java/lang/String" ∧ yJ5_checkIndex.cls ≠ "java/lang/invoke/MethodHandle" ∧ yJ5_checkIndex.cls ≠ "java/lang/invoke/VarHandle" ∧ (parseMethodDescriptor yJ5_checkIndex.desc).map (fun d => d.parameters.length) = some 2 := by decide +kernel
set_option maxHeartbeats 4000000 in
theorem tS_J5_checkIndex (l : Launch) (G : nG) (E : nE) (k n : Nat) (hk : k < n) (hn : n < 2 ^ 31) : Met l yJ5_checkIndex (ws_ yJ5_checkIndex cJ5_checkIndex 2 (none)) { frames := 1, cells := 0, slots := 0, locals := 22 } (va_Pc [.int (nI k), .int (nI n)] (nC G (E))) (va_Sv (fun _ => True)) 0 0 (fun _ => False) := by
  refine n_head (by decide) (Nat.le_of_ble_eq_true rfl) ?_
  intro p e s m below meth c ls hx hb hr hlk hml hown hts hB0 hl
  have hown : s.vm.findClass "java/lang/String" = some m.cls := hown
  have hw := nS.start hB0
  have hl : lv_has ls 2 [(0, .int (nI k)), (1, .int (nI n))] := hl
  refine lv_iload_n hx hb dJ5_checkIndex_0 rfl (lv_at hl 0 rfl) ?_
  refine lv_iload_n hx hb dJ5_checkIndex_1 rfl (lv_at hl 1 rfl) ?_
  rcases hw.X.2.2.2.1 with hz | ⟨t, hz⟩
  · skip
    refine va_gets hx hb hz hw.S hown (hts _ q1017) (fun _ h => h) dJ5_checkIndex_2 ?_
    refine n_callp (va_runS ⟨hx, hb, hml, hown, hts⟩ (tS_J7_checkIndexN l (k) (n) hk hn) (va_cwS 3 hts (lw_S q1019 q1020 q112 q1021) rfl rfl rfl (hdS_J7_checkIndex).2 ⟨by decide, by decide⟩) pu_pre rfl rfl hl.1 rfl (lv_room (by simp [Value.category])) dJ5_checkIndex_5 ⟨Nat.zero_le _, Nat.zero_le _⟩) (fun r_5 e_5 => ?_)
    subst e_5
    refine lv_pop hx hb dJ5_checkIndex_8 rfl ?_
    exact n_svret hx hb hr hlk dJ5_checkIndex_9
  · skip
    refine va_gets hx hb hz hw.S hown (hts _ q1017) (fun _ h => h) dJ5_checkIndex_2 ?_
    refine n_callp (va_runS ⟨hx, hb, hml, hown, hts⟩ (tS_J7_checkIndex l (k) (n) t hk hn) (va_cwS 3 hts (lw_S q1019 q1020 q112 q1021) rfl rfl rfl (hdS_J7_checkIndex).2 ⟨by decide, by decide⟩) pu_pre rfl rfl hl.1 rfl (lv_room (by simp [Value.category])) dJ5_checkIndex_5 ⟨Nat.zero_le _, Nat.zero_le _⟩) (fun r_5 e_5 => ?_)
    subst e_5
    refine lv_pop hx hb dJ5_checkIndex_8 rfl ?_
    exact n_svret hx hb hr hlk dJ5_checkIndex_9
theorem hdS_J6_charAt : yJ6_charAt.cls = "java/lang/StringLatin1" ∧ yJ6_charAt.cls ≠ "java/lang/invoke/MethodHandle" ∧ yJ6_charAt.cls ≠ "java/lang/invoke/VarHandle" ∧ (parseMethodDescriptor yJ6_charAt.desc).map (fun d => d.parameters.length) = some 2 := by decide +kernel
set_option maxHeartbeats 4000000 in
theorem tS_J6_charAt (l : Launch) (G : nG) (E : nE) (i : Nat) (hi : i < 15) (k : Nat) (hk : k < sL i) : Met l yJ6_charAt (ws_ yJ6_charAt cJ6_charAt 2 (some .char)) { frames := 2, cells := 0, slots := 0, locals := 43 } (va_Pc [.ref (G.2.2.2.2 i), .int (nI k)] (nC G (E))) (vp_Si (fun r => r = sB i k &&& 255)) 0 0 (fun _ => False) := by
  refine n_head (by decide) (Nat.le_of_ble_eq_true rfl) ?_
  intro p e s m below meth c ls hx hb hr hlk hml hown hts hB0 hl
  have hown : s.vm.findClass "java/lang/StringLatin1" = some m.cls := hown
  have hw := nS.start hB0
  have hl : lv_has ls 2 [(0, .ref (G.2.2.2.2 i)), (1, .int (nI k))] := hl
  have hsl := sL_lt i hi
  refine lv_iload_n hx hb dJ6_charAt_0 rfl (lv_at hl 1 rfl) ?_
  refine lv_aload_n hx hb dJ6_charAt_1 rfl (lv_at hl 0 rfl) ?_
  refine va_tlen hx hb (hw.X.1.1 i hi).2.2.2 hw.S (v := nI (sL i)) rfl dJ6_charAt_2 ?_
  refine n_callsv (va_runS ⟨hx, hb, hml, hown, hts⟩ (tS_J5_checkIndex l G _ (k) (sL i) hk (by omega)) (va_cwS 2 hts (lw_S q1014 q1015 q110 q1016) rfl rfl rfl (hdS_J5_checkIndex).2 ⟨by decide, by decide⟩) hw.preS rfl rfl hl.1 rfl (lv_room (by simp [Value.category])) dJ6_charAt_3 ⟨Nat.zero_le _, Nat.zero_le _⟩) ?_
  refine lv_aload_n hx hb dJ6_charAt_6 rfl (lv_at hl 0 rfl) ?_
  refine lv_iload_n hx hb dJ6_charAt_7 rfl (lv_at hl 1 rfl) ?_
  refine va_tb hx hb (hw.X.1.1 i hi).2.2.2 hw.S (vp_in_nI (n := k) hk (show sL i < 2 ^ 31 by omega)) (v := .int (sB i k)) (by rw [nI_clamp (by omega)]; rfl) dJ6_charAt_8 ?_
  refine lv_sipush (v := 255) hx hb dJ6_charAt_9 (by decide) ?_
  refine lv_iand hx hb dJ6_charAt_12 ?_
  refine lv_i2c hx hb dJ6_charAt_13 rfl ?_
  refine n_topE (sc_c2 _) ?_
  exact n_pret hx hb hr hlk (sc_nar _) rfl dJ6_charAt_14
theorem hdS_J5_charAt : yJ5_charAt.cls = "java/lang/String" ∧ yJ5_charAt.cls ≠ "java/lang/invoke/MethodHandle" ∧ yJ5_charAt.cls ≠ "java/lang/invoke/VarHandle" ∧ (parseMethodDescriptor yJ5_charAt.desc).map (fun d => d.parameters.length) = some 1 := by decide +kernel
set_option maxHeartbeats 4000000 in
theorem tS_J5_charAt (l : Launch) (G : nG) (E : nE) (i : Nat) (hi : i < 15) (k : Nat) (hk : k < sL i) : Met l yJ5_charAt (ws_ yJ5_charAt cJ5_charAt 2 (some .char)) { frames := 3, cells := 0, slots := 0, locals := 64 } (va_Pc [.ref (G.2.2.2.1 i), .int (nI k)] (nC G (E))) (vp_Si (fun r => r = sB i k &&& 255)) 0 0 (fun _ => False) := by
  refine n_head (by decide) (Nat.le_of_ble_eq_true rfl) ?_
  intro p e s m below meth c ls hx hb hr hlk hml hown hts hB0 hl
  have hown : s.vm.findClass "java/lang/String" = some m.cls := hown
  have hw := nS.start hB0
  have hl : lv_has ls 2 [(0, .ref (G.2.2.2.1 i)), (1, .int (nI k))] := hl
  have hsl := sL_lt i hi
  refine lv_aload_n hx hb dJ5_charAt_0 rfl (lv_at hl 0 rfl) ?_
  refine n_callp (va_runV ⟨hx, hb, hml, hown, hts⟩ (tS_J5_isLatin1 l G _ i hi ) (cwV 0 hts (lw_V q1005 q1006 q1007 q110 q1008) rfl rfl rfl hdS_J5_isLatin1 ⟨by decide, by decide⟩) (hw.preT hi) rfl rfl hl.1 rfl (lv_room (by simp [Value.category])) dJ5_charAt_1 ⟨Nat.zero_le _, Nat.zero_le _⟩) (fun r_1 e_1 => ?_)
  subst e_1
  refine lv_if_eq (tgt := 16) hx hb dJ5_charAt_4 (by decide) (fun c_4 => ?_) (fun c_4 => ?_)
  · skip
    exact absurd c_4 (by decide)
  · skip
    refine lv_aload_n hx hb dJ5_charAt_7 rfl (lv_at hl 0 rfl) ?_
    refine vk_getf hx hb (hw.X.1.1 i hi).2.2.1 hw.S hown (hts _ q1714) (fun _ h => h) dJ5_charAt_8 ?_
    refine lv_iload_n hx hb dJ5_charAt_11 rfl (lv_at hl 1 rfl) ?_
    refine n_callp (va_runS ⟨hx, hb, hml, hown, hts⟩ (tS_J6_charAt l G _ i hi (k) hk) (va_cwS 2 hts (lw_S q1011 q1012 q111 q1013) rfl rfl rfl (hdS_J6_charAt).2 ⟨by decide, by decide⟩) hw.preS rfl rfl hl.1 rfl (lv_room (by simp [Value.category])) dJ5_charAt_12 ⟨Nat.zero_le _, Nat.zero_le _⟩) (fun r_12 e_12 => ?_)
    subst e_12
    exact n_pret hx hb hr hlk (sc_nar _) rfl dJ5_charAt_15
