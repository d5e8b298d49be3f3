/-! the class: its plain methods -/
set_option maxRecDepth 100000
abbrev ushF (x y : Int32) : Int32 := (x.toUInt32 >>> (y.toUInt32 &&& Int32.toUInt32 31)).toInt32
def bc1 (x : Int32) : Int32 := x - (ushF x 1 &&& 1431655765)
def bc2 (x : Int32) : Int32 := (x &&& 858993459) + (ushF x 2 &&& 858993459)
def bc3 (x : Int32) : Int32 := (x + ushF x 4) &&& 252645135
def bc4 (x : Int32) : Int32 := x + ushF x 8
def bc5 (x : Int32) : Int32 := x + ushF x 16
def bcF (x : Int32) : Int32 := bc5 (bc4 (bc3 (bc2 (bc1 x)))) &&& 63
theorem bc_nat : ∀ n, n < 1000 → bcF (nI n) = bitsF (nI n) := by decide +kernel
theorem nI_upto {x : Int32} {n : Nat} (h0 : 0 ≤ x) (h1 : x ≤ nI n) (hn : n < 2 ^ 31) : ∃ k, k ≤ n ∧ x = nI k := by
  have a := Int32.le_iff_toInt_le.mp h0
  have b := Int32.le_iff_toInt_le.mp h1
  rw [nI_toInt hn] at b
  have a' : 0 ≤ x.toInt := by simpa using a
  refine ⟨x.toInt.toNat, by omega, Int32.toInt_inj.mp ?_⟩
  rw [nI_toInt (by omega)]
  omega
theorem bc_ok {x : Int32} (h0 : 0 ≤ x) (h1 : x ≤ 999) : bcF x = bitsF x := by
  obtain ⟨k, hk, rfl⟩ := nI_upto (n := 999) h0 h1 (by decide)
  exact bc_nat k (by omega)
theorem hdS_J3_bitCount : yJ3_bitCount.cls = "java/lang/Integer" ∧ yJ3_bitCount.cls ≠ "java/lang/invoke/MethodHandle" ∧ yJ3_bitCount.cls ≠ "java/lang/invoke/VarHandle" ∧ (parseMethodDescriptor yJ3_bitCount.desc).map (fun d => d.parameters.length) = some 1 := by decide +kernel
set_option maxHeartbeats 4000000 in
theorem tJ_bitCount (l : Launch) (x : Int32) : Met l yJ3_bitCount (ws_ yJ3_bitCount cJ3_bitCount 1 (some .int)) { frames := 0, cells := 0, slots := 0, locals := 0 } (va_Pc [.int x] (fun _ => True)) (vp_Si (fun r => r = bcF x)) 0 0 (fun _ => False) := by
  refine n_head (by decide) (Nat.le_of_ble_eq_true rfl) ?_
  intro p e s m below meth c ls hx hb hr hlk hml hown hts hB0 hl
  have hown : s.vm.findClass "java/lang/Integer" = some m.cls := hown
  have hl : lv_has ls 1 [(0, .int x)] := hl
  refine lv_iload_n hx hb dJ3_bitCount_0 rfl (lv_at hl 0 rfl) ?_
  refine lv_iload_n hx hb dJ3_bitCount_1 rfl (lv_at hl 0 rfl) ?_
  refine lv_iconst (v := 1) hx hb dJ3_bitCount_2 (by decide) ?_
  refine lv_iushr hx hb dJ3_bitCount_3 rfl ?_
  refine lv_ldcw (v := (1431655765)) hx hb hown (hts _ q531) dJ3_bitCount_4 ?_
  refine lv_iand hx hb dJ3_bitCount_7 ?_
  refine lv_isub hx hb dJ3_bitCount_8 ?_
  refine n_topE (show _ = bc1 x from rfl) ?_
  refine lv_istore_n hx hb dJ3_bitCount_9 rfl hl (by decide) rfl (fun ls hl => ?_)
  refine lv_iload_n hx hb dJ3_bitCount_10 rfl (lv_at hl 0 rfl) ?_
  refine lv_ldcw (v := (858993459)) hx hb hown (hts _ q532) dJ3_bitCount_11 ?_
  refine lv_iand hx hb dJ3_bitCount_14 ?_
  refine lv_iload_n hx hb dJ3_bitCount_15 rfl (lv_at hl 0 rfl) ?_
  refine lv_iconst (v := 2) hx hb dJ3_bitCount_16 (by decide) ?_
  refine lv_iushr hx hb dJ3_bitCount_17 rfl ?_
  refine lv_ldcw (v := (858993459)) hx hb hown (hts _ q532) dJ3_bitCount_18 ?_
  refine lv_iand hx hb dJ3_bitCount_21 ?_
  refine lv_iadd hx hb dJ3_bitCount_22 ?_
  refine n_topE (show _ = bc2 (bc1 x) from rfl) ?_
  refine lv_istore_n hx hb dJ3_bitCount_23 rfl hl (by decide) rfl (fun ls hl => ?_)
  refine lv_iload_n hx hb dJ3_bitCount_24 rfl (lv_at hl 0 rfl) ?_
  refine lv_iload_n hx hb dJ3_bitCount_25 rfl (lv_at hl 0 rfl) ?_
  refine lv_iconst (v := 4) hx hb dJ3_bitCount_26 (by decide) ?_
  refine lv_iushr hx hb dJ3_bitCount_27 rfl ?_
  refine lv_iadd hx hb dJ3_bitCount_28 ?_
  refine lv_ldcw (v := (252645135)) hx hb hown (hts _ q533) dJ3_bitCount_29 ?_
  refine lv_iand hx hb dJ3_bitCount_32 ?_
  refine n_topE (show _ = bc3 (bc2 (bc1 x)) from rfl) ?_
  refine lv_istore_n hx hb dJ3_bitCount_33 rfl hl (by decide) rfl (fun ls hl => ?_)
  refine lv_iload_n hx hb dJ3_bitCount_34 rfl (lv_at hl 0 rfl) ?_
  refine lv_iload_n hx hb dJ3_bitCount_35 rfl (lv_at hl 0 rfl) ?_
  refine lv_bipush (v := 8) hx hb dJ3_bitCount_36 (by decide) ?_
  refine lv_iushr hx hb dJ3_bitCount_38 rfl ?_
  refine lv_iadd hx hb dJ3_bitCount_39 ?_
  refine n_topE (show _ = bc4 (bc3 (bc2 (bc1 x))) from rfl) ?_
  refine lv_istore_n hx hb dJ3_bitCount_40 rfl hl (by decide) rfl (fun ls hl => ?_)
  refine lv_iload_n hx hb dJ3_bitCount_41 rfl (lv_at hl 0 rfl) ?_
  refine lv_iload_n hx hb dJ3_bitCount_42 rfl (lv_at hl 0 rfl) ?_
  refine lv_bipush (v := 16) hx hb dJ3_bitCount_43 (by decide) ?_
  refine lv_iushr hx hb dJ3_bitCount_45 rfl ?_
  refine lv_iadd hx hb dJ3_bitCount_46 ?_
  refine n_topE (show _ = bc5 (bc4 (bc3 (bc2 (bc1 x)))) from rfl) ?_
  refine lv_istore_n hx hb dJ3_bitCount_47 rfl hl (by decide) rfl (fun ls hl => ?_)
  refine lv_iload_n hx hb dJ3_bitCount_48 rfl (lv_at hl 0 rfl) ?_
  refine lv_bipush (v := 63) hx hb dJ3_bitCount_49 (by decide) ?_
  refine lv_iand hx hb dJ3_bitCount_51 ?_
  exact n_pret hx hb hr hlk rfl rfl dJ3_bitCount_52
theorem hdS_X0_in : yX0_in.cls = "LineCalls" ∧ yX0_in.cls ≠ "java/lang/invoke/MethodHandle" ∧ yX0_in.cls ≠ "java/lang/invoke/VarHandle" ∧ (parseMethodDescriptor yX0_in.desc).map (fun d => d.parameters.length) = some 3 := by decide +kernel
set_option maxHeartbeats 4000000 in
theorem tX_in (l : Launch) (v lo hi : Int32) : Met l yX0_in (ws_ yX0_in cX0_in 3 (some .boolean)) { frames := 0, cells := 0, slots := 0, locals := 0 } (va_Pc [.int v, .int lo, .int hi] (fun _ => True)) (vp_Si (fun r => r = inF v lo hi)) 0 0 (fun _ => False) := by
  refine n_head (by decide) (Nat.le_of_ble_eq_true rfl) ?_
  intro p e s m below meth c ls hx hb hr hlk hml hown hts hB0 hl
  have hown : s.vm.findClass "LineCalls" = some m.cls := hown
  have hl : lv_has ls 3 [(0, .int v), (1, .int lo), (2, .int hi)] := hl
  refine lv_iload_n hx hb dX0_in_0 rfl (lv_at hl 0 rfl) ?_
  refine lv_iload_n hx hb dX0_in_1 rfl (lv_at hl 1 rfl) ?_
  refine lv_icmp_lt (tgt := 14) hx hb dX0_in_2 (by decide) (fun c_2 => ?_) (fun c_2 => ?_)
  · skip
    refine lv_iconst (v := 0) hx hb dX0_in_14 (by decide) ?_
    exact n_pret hx hb hr hlk rfl (by rw [inF, if_pos c_2]) dX0_in_15
  · skip
    refine lv_iload_n hx hb dX0_in_5 rfl (lv_at hl 0 rfl) ?_
    refine lv_iload_n hx hb dX0_in_6 rfl (lv_at hl 2 rfl) ?_
    refine lv_icmp_gt (tgt := 14) hx hb dX0_in_7 (by decide) (fun c_7 => ?_) (fun c_7 => ?_)
    · skip
      refine lv_iconst (v := 0) hx hb dX0_in_14 (by decide) ?_
      exact n_pret hx hb hr hlk rfl (by rw [inF, if_neg c_2, if_pos c_7]) dX0_in_15
    · skip
      refine lv_iconst (v := 1) hx hb dX0_in_10 (by decide) ?_
      refine lv_goto (tgt := 15) hx hb dX0_in_11 (by decide) ?_
      exact n_pret hx hb hr hlk rfl (by rw [inF, if_neg c_2, if_neg c_7]) dX0_in_15
theorem hdS_X0_isPlace : yX0_isPlace.cls = "LineCalls" ∧ yX0_isPlace.cls ≠ "java/lang/invoke/MethodHandle" ∧ yX0_isPlace.cls ≠ "java/lang/invoke/VarHandle" ∧ (parseMethodDescriptor yX0_isPlace.desc).map (fun d => d.parameters.length) = some 1 := by decide +kernel
set_option maxHeartbeats 4000000 in
theorem tX_isPlace (l : Launch) (v : Int32) : Met l yX0_isPlace (ws_ yX0_isPlace cX0_isPlace 1 (some .boolean)) { frames := 1, cells := 0, slots := 0, locals := 22 } (va_Pc [.int v] (fun _ => True)) (vp_Si (fun r => r = inF v 0 6)) 0 0 (fun _ => False) := by
  refine n_head (by decide) (Nat.le_of_ble_eq_true rfl) ?_
  intro p e s m below meth c ls hx hb hr hlk hml hown hts hB0 hl
  have hown : s.vm.findClass "LineCalls" = some m.cls := hown
  have hl : lv_has ls 1 [(0, .int v)] := hl
  refine lv_iload_n hx hb dX0_isPlace_0 rfl (lv_at hl 0 rfl) ?_
  refine lv_iconst (v := 0) hx hb dX0_isPlace_1 (by decide) ?_
  refine lv_bipush (v := 6) hx hb dX0_isPlace_2 (by decide) ?_
  refine n_callp (va_runS ⟨hx, hb, hml, hown, hts⟩ (tX_in l _ _ _) (va_cwS 3 hts (lw_S q459 q460 q90 q461) rfl rfl rfl (hdS_X0_in).2 ⟨by decide, by decide⟩) pu_pre rfl rfl hl.1 rfl (lv_room (by simp [Value.category])) dX0_isPlace_4 ⟨Nat.zero_le _, Nat.zero_le _⟩) (fun r_4 e_4 => ?_)
  subst e_4
  exact n_pret hx hb hr hlk (inF_b _ _ _) rfl dX0_isPlace_7
theorem hdS_X0_isCall : yX0_isCall.cls = "LineCalls" ∧ yX0_isCall.cls ≠ "java/lang/invoke/MethodHandle" ∧ yX0_isCall.cls ≠ "java/lang/invoke/VarHandle" ∧ (parseMethodDescriptor yX0_isCall.desc).map (fun d => d.parameters.length) = some 1 := by decide +kernel
set_option maxHeartbeats 4000000 in
theorem tX_isCall (l : Launch) (v : Int32) : Met l yX0_isCall (ws_ yX0_isCall cX0_isCall 1 (some .boolean)) { frames := 1, cells := 0, slots := 0, locals := 22 } (va_Pc [.int v] (fun _ => True)) (vp_Si (fun r => r = inF v 0 999)) 0 0 (fun _ => False) := by
  refine n_head (by decide) (Nat.le_of_ble_eq_true rfl) ?_
  intro p e s m below meth c ls hx hb hr hlk hml hown hts hB0 hl
  have hown : s.vm.findClass "LineCalls" = some m.cls := hown
  have hl : lv_has ls 1 [(0, .int v)] := hl
  refine lv_iload_n hx hb dX0_isCall_0 rfl (lv_at hl 0 rfl) ?_
  refine lv_iconst (v := 0) hx hb dX0_isCall_1 (by decide) ?_
  refine lv_sipush (v := 999) hx hb dX0_isCall_2 (by decide) ?_
  refine n_callp (va_runS ⟨hx, hb, hml, hown, hts⟩ (tX_in l _ _ _) (va_cwS 3 hts (lw_S q459 q460 q90 q461) rfl rfl rfl (hdS_X0_in).2 ⟨by decide, by decide⟩) pu_pre rfl rfl hl.1 rfl (lv_room (by simp [Value.category])) dX0_isCall_5 ⟨Nat.zero_le _, Nat.zero_le _⟩) (fun r_5 e_5 => ?_)
  subst e_5
  exact n_pret hx hb hr hlk (inF_b _ _ _) rfl dX0_isCall_8
theorem hdS_X0_isKind : yX0_isKind.cls = "LineCalls" ∧ yX0_isKind.cls ≠ "java/lang/invoke/MethodHandle" ∧ yX0_isKind.cls ≠ "java/lang/invoke/VarHandle" ∧ (parseMethodDescriptor yX0_isKind.desc).map (fun d => d.parameters.length) = some 1 := by decide +kernel
set_option maxHeartbeats 4000000 in
theorem tX_isKind (l : Launch) (v : Int32) : Met l yX0_isKind (ws_ yX0_isKind cX0_isKind 1 (some .boolean)) { frames := 1, cells := 0, slots := 0, locals := 22 } (va_Pc [.int v] (fun _ => True)) (vp_Si (fun r => r = inF v 0 6)) 0 0 (fun _ => False) := by
  refine n_head (by decide) (Nat.le_of_ble_eq_true rfl) ?_
  intro p e s m below meth c ls hx hb hr hlk hml hown hts hB0 hl
  have hown : s.vm.findClass "LineCalls" = some m.cls := hown
  have hl : lv_has ls 1 [(0, .int v)] := hl
  refine lv_iload_n hx hb dX0_isKind_0 rfl (lv_at hl 0 rfl) ?_
  refine lv_iconst (v := 0) hx hb dX0_isKind_1 (by decide) ?_
  refine lv_bipush (v := 6) hx hb dX0_isKind_2 (by decide) ?_
  refine n_callp (va_runS ⟨hx, hb, hml, hown, hts⟩ (tX_in l _ _ _) (va_cwS 3 hts (lw_S q459 q460 q90 q461) rfl rfl rfl (hdS_X0_in).2 ⟨by decide, by decide⟩) pu_pre rfl rfl hl.1 rfl (lv_room (by simp [Value.category])) dX0_isKind_4 ⟨Nat.zero_le _, Nat.zero_le _⟩) (fun r_4 e_4 => ?_)
  subst e_4
  exact n_pret hx hb hr hlk (inF_b _ _ _) rfl dX0_isKind_7
theorem hdS_X0_isSpot : yX0_isSpot.cls = "LineCalls" ∧ yX0_isSpot.cls ≠ "java/lang/invoke/MethodHandle" ∧ yX0_isSpot.cls ≠ "java/lang/invoke/VarHandle" ∧ (parseMethodDescriptor yX0_isSpot.desc).map (fun d => d.parameters.length) = some 1 := by decide +kernel
set_option maxHeartbeats 4000000 in
theorem tX_isSpot (l : Launch) (v : Int32) : Met l yX0_isSpot (ws_ yX0_isSpot cX0_isSpot 1 (some .boolean)) { frames := 1, cells := 0, slots := 0, locals := 22 } (va_Pc [.int v] (fun _ => True)) (vp_Si (fun r => r = inF v 0 9)) 0 0 (fun _ => False) := by
  refine n_head (by decide) (Nat.le_of_ble_eq_true rfl) ?_
  intro p e s m below meth c ls hx hb hr hlk hml hown hts hB0 hl
  have hown : s.vm.findClass "LineCalls" = some m.cls := hown
  have hl : lv_has ls 1 [(0, .int v)] := hl
  refine lv_iload_n hx hb dX0_isSpot_0 rfl (lv_at hl 0 rfl) ?_
  refine lv_iconst (v := 0) hx hb dX0_isSpot_1 (by decide) ?_
  refine lv_bipush (v := 9) hx hb dX0_isSpot_2 (by decide) ?_
  refine n_callp (va_runS ⟨hx, hb, hml, hown, hts⟩ (tX_in l _ _ _) (va_cwS 3 hts (lw_S q459 q460 q90 q461) rfl rfl rfl (hdS_X0_in).2 ⟨by decide, by decide⟩) pu_pre rfl rfl hl.1 rfl (lv_room (by simp [Value.category])) dX0_isSpot_4 ⟨Nat.zero_le _, Nat.zero_le _⟩) (fun r_4 e_4 => ?_)
  subst e_4
  exact n_pret hx hb hr hlk (inF_b _ _ _) rfl dX0_isSpot_7
theorem hdS_X0_isSheet : yX0_isSheet.cls = "LineCalls" ∧ yX0_isSheet.cls ≠ "java/lang/invoke/MethodHandle" ∧ yX0_isSheet.cls ≠ "java/lang/invoke/VarHandle" ∧ (parseMethodDescriptor yX0_isSheet.desc).map (fun d => d.parameters.length) = some 1 := by decide +kernel
set_option maxHeartbeats 4000000 in
theorem tX_isSheet (l : Launch) (v : Int32) : Met l yX0_isSheet (ws_ yX0_isSheet cX0_isSheet 1 (some .boolean)) { frames := 1, cells := 0, slots := 0, locals := 22 } (va_Pc [.int v] (fun _ => True)) (vp_Si (fun r => r = inF v 0 3)) 0 0 (fun _ => False) := by
  refine n_head (by decide) (Nat.le_of_ble_eq_true rfl) ?_
  intro p e s m below meth c ls hx hb hr hlk hml hown hts hB0 hl
  have hown : s.vm.findClass "LineCalls" = some m.cls := hown
  have hl : lv_has ls 1 [(0, .int v)] := hl
  refine lv_iload_n hx hb dX0_isSheet_0 rfl (lv_at hl 0 rfl) ?_
  refine lv_iconst (v := 0) hx hb dX0_isSheet_1 (by decide) ?_
  refine lv_iconst (v := 3) hx hb dX0_isSheet_2 (by decide) ?_
  refine n_callp (va_runS ⟨hx, hb, hml, hown, hts⟩ (tX_in l _ _ _) (va_cwS 3 hts (lw_S q459 q460 q90 q461) rfl rfl rfl (hdS_X0_in).2 ⟨by decide, by decide⟩) pu_pre rfl rfl hl.1 rfl (lv_room (by simp [Value.category])) dX0_isSheet_3 ⟨Nat.zero_le _, Nat.zero_le _⟩) (fun r_3 e_3 => ?_)
  subst e_3
  exact n_pret hx hb hr hlk (inF_b _ _ _) rfl dX0_isSheet_6
theorem hdS_X0_isListed : yX0_isListed.cls = "LineCalls" ∧ yX0_isListed.cls ≠ "java/lang/invoke/MethodHandle" ∧ yX0_isListed.cls ≠ "java/lang/invoke/VarHandle" ∧ (parseMethodDescriptor yX0_isListed.desc).map (fun d => d.parameters.length) = some 1 := by decide +kernel
set_option maxHeartbeats 4000000 in
theorem tX_isListed (l : Launch) (v : Int32) : Met l yX0_isListed (ws_ yX0_isListed cX0_isListed 1 (some .boolean)) { frames := 1, cells := 0, slots := 0, locals := 22 } (va_Pc [.int v] (fun _ => True)) (vp_Si (fun r => r = inF v 0 5)) 0 0 (fun _ => False) := by
  refine n_head (by decide) (Nat.le_of_ble_eq_true rfl) ?_
  intro p e s m below meth c ls hx hb hr hlk hml hown hts hB0 hl
  have hown : s.vm.findClass "LineCalls" = some m.cls := hown
  have hl : lv_has ls 1 [(0, .int v)] := hl
  refine lv_iload_n hx hb dX0_isListed_0 rfl (lv_at hl 0 rfl) ?_
  refine lv_iconst (v := 0) hx hb dX0_isListed_1 (by decide) ?_
  refine lv_iconst (v := 5) hx hb dX0_isListed_2 (by decide) ?_
  refine n_callp (va_runS ⟨hx, hb, hml, hown, hts⟩ (tX_in l _ _ _) (va_cwS 3 hts (lw_S q459 q460 q90 q461) rfl rfl rfl (hdS_X0_in).2 ⟨by decide, by decide⟩) pu_pre rfl rfl hl.1 rfl (lv_room (by simp [Value.category])) dX0_isListed_3 ⟨Nat.zero_le _, Nat.zero_le _⟩) (fun r_3 e_3 => ?_)
  subst e_3
  exact n_pret hx hb hr hlk (inF_b _ _ _) rfl dX0_isListed_6
theorem hdS_X0_isCode : yX0_isCode.cls = "LineCalls" ∧ yX0_isCode.cls ≠ "java/lang/invoke/MethodHandle" ∧ yX0_isCode.cls ≠ "java/lang/invoke/VarHandle" ∧ (parseMethodDescriptor yX0_isCode.desc).map (fun d => d.parameters.length) = some 1 := by decide +kernel
set_option maxHeartbeats 4000000 in
theorem tX_isCode (l : Launch) (v : Int32) : Met l yX0_isCode (ws_ yX0_isCode cX0_isCode 1 (some .boolean)) { frames := 1, cells := 0, slots := 0, locals := 22 } (va_Pc [.int v] (fun _ => True)) (vp_Si (fun r => r = inF v 0 4)) 0 0 (fun _ => False) := by
  refine n_head (by decide) (Nat.le_of_ble_eq_true rfl) ?_
  intro p e s m below meth c ls hx hb hr hlk hml hown hts hB0 hl
  have hown : s.vm.findClass "LineCalls" = some m.cls := hown
  have hl : lv_has ls 1 [(0, .int v)] := hl
  refine lv_iload_n hx hb dX0_isCode_0 rfl (lv_at hl 0 rfl) ?_
  refine lv_iconst (v := 0) hx hb dX0_isCode_1 (by decide) ?_
  refine lv_iconst (v := 4) hx hb dX0_isCode_2 (by decide) ?_
  refine n_callp (va_runS ⟨hx, hb, hml, hown, hts⟩ (tX_in l _ _ _) (va_cwS 3 hts (lw_S q459 q460 q90 q461) rfl rfl rfl (hdS_X0_in).2 ⟨by decide, by decide⟩) pu_pre rfl rfl hl.1 rfl (lv_room (by simp [Value.category])) dX0_isCode_3 ⟨Nat.zero_le _, Nat.zero_le _⟩) (fun r_3 e_3 => ?_)
  subst e_3
  exact n_pret hx hb hr hlk (inF_b _ _ _) rfl dX0_isCode_6
theorem hdS_X0_isHigh : yX0_isHigh.cls = "LineCalls" ∧ yX0_isHigh.cls ≠ "java/lang/invoke/MethodHandle" ∧ yX0_isHigh.cls ≠ "java/lang/invoke/VarHandle" ∧ (parseMethodDescriptor yX0_isHigh.desc).map (fun d => d.parameters.length) = some 1 := by decide +kernel
set_option maxHeartbeats 4000000 in
theorem tX_isHigh (l : Launch) (v : Int32) : Met l yX0_isHigh (ws_ yX0_isHigh cX0_isHigh 1 (some .boolean)) { frames := 1, cells := 0, slots := 0, locals := 22 } (va_Pc [.int v] (fun _ => True)) (vp_Si (fun r => r = inF v 0 99)) 0 0 (fun _ => False) := by
  refine n_head (by decide) (Nat.le_of_ble_eq_true rfl) ?_
  intro p e s m below meth c ls hx hb hr hlk hml hown hts hB0 hl
  have hown : s.vm.findClass "LineCalls" = some m.cls := hown
  have hl : lv_has ls 1 [(0, .int v)] := hl
  refine lv_iload_n hx hb dX0_isHigh_0 rfl (lv_at hl 0 rfl) ?_
  refine lv_iconst (v := 0) hx hb dX0_isHigh_1 (by decide) ?_
  refine lv_bipush (v := 99) hx hb dX0_isHigh_2 (by decide) ?_
  refine n_callp (va_runS ⟨hx, hb, hml, hown, hts⟩ (tX_in l _ _ _) (va_cwS 3 hts (lw_S q459 q460 q90 q461) rfl rfl rfl (hdS_X0_in).2 ⟨by decide, by decide⟩) pu_pre rfl rfl hl.1 rfl (lv_room (by simp [Value.category])) dX0_isHigh_4 ⟨Nat.zero_le _, Nat.zero_le _⟩) (fun r_4 e_4 => ?_)
  subst e_4
  exact n_pret hx hb hr hlk (inF_b _ _ _) rfl dX0_isHigh_7
theorem hdS_X0_isMany : yX0_isMany.cls = "LineCalls" ∧ yX0_isMany.cls ≠ "java/lang/invoke/MethodHandle" ∧ yX0_isMany.cls ≠ "java/lang/invoke/VarHandle" ∧ (parseMethodDescriptor yX0_isMany.desc).map (fun d => d.parameters.length) = some 1 := by decide +kernel
set_option maxHeartbeats 4000000 in
theorem tX_isMany (l : Launch) (v : Int32) : Met l yX0_isMany (ws_ yX0_isMany cX0_isMany 1 (some .boolean)) { frames := 1, cells := 0, slots := 0, locals := 22 } (va_Pc [.int v] (fun _ => True)) (vp_Si (fun r => r = inF v 0 9999)) 0 0 (fun _ => False) := by
  refine n_head (by decide) (Nat.le_of_ble_eq_true rfl) ?_
  intro p e s m below meth c ls hx hb hr hlk hml hown hts hB0 hl
  have hown : s.vm.findClass "LineCalls" = some m.cls := hown
  have hl : lv_has ls 1 [(0, .int v)] := hl
  refine lv_iload_n hx hb dX0_isMany_0 rfl (lv_at hl 0 rfl) ?_
  refine lv_iconst (v := 0) hx hb dX0_isMany_1 (by decide) ?_
  refine lv_sipush (v := 9999) hx hb dX0_isMany_2 (by decide) ?_
  refine n_callp (va_runS ⟨hx, hb, hml, hown, hts⟩ (tX_in l _ _ _) (va_cwS 3 hts (lw_S q459 q460 q90 q461) rfl rfl rfl (hdS_X0_in).2 ⟨by decide, by decide⟩) pu_pre rfl rfl hl.1 rfl (lv_room (by simp [Value.category])) dX0_isMany_5 ⟨Nat.zero_le _, Nat.zero_le _⟩) (fun r_5 e_5 => ?_)
  subst e_5
  exact n_pret hx hb hr hlk (inF_b _ _ _) rfl dX0_isMany_8
theorem hdS_X2_isDigit : yX2_isDigit.cls = "LineCalls$Reader" ∧ yX2_isDigit.cls ≠ "java/lang/invoke/MethodHandle" ∧ yX2_isDigit.cls ≠ "java/lang/invoke/VarHandle" ∧ (parseMethodDescriptor yX2_isDigit.desc).map (fun d => d.parameters.length) = some 1 := by decide +kernel
set_option maxHeartbeats 4000000 in
theorem tX_isDigit (l : Launch) (G : nG) (E : nE) (v : Int32) : Met l yX2_isDigit (ws_ yX2_isDigit cX2_isDigit 1 (some .boolean)) { frames := 1, cells := 0, slots := 0, locals := 22 } (va_Pc [.int v] (nC G (E))) (vp_Si (fun r => r = inF v 48 57)) 0 0 (fun _ => False) := by
  refine n_head (by decide) (Nat.le_of_ble_eq_true rfl) ?_
  intro p e s m below meth c ls hx hb hr hlk hml hown hts hB0 hl
  have hown : s.vm.findClass "LineCalls$Reader" = some m.cls := hown
  have hw := nS.start hB0
  have hl : lv_has ls 1 [(0, .int v)] := hl
  refine lv_iload_n hx hb dX2_isDigit_0 rfl (lv_at hl 0 rfl) ?_
  refine lv_bipush (v := 48) hx hb dX2_isDigit_1 (by decide) ?_
  refine lv_bipush (v := 57) hx hb dX2_isDigit_3 (by decide) ?_
  refine n_callp (va_runSN ⟨hx, hb, hml, hown, hts⟩ (tX_in l _ _ _) (⟨va_cnB 3 hts (lw_meth q461) rfl rfl rfl (hw.N _ q991 rfl) (hts _ q90) (hdS_X0_in).2 ⟨by decide, by decide⟩, hts _ q460, trivial⟩) pu_pre rfl rfl hl.1 rfl (lv_room (by simp [Value.category])) dX2_isDigit_5 ⟨Nat.zero_le _, Nat.zero_le _⟩) (fun r_5 e_5 => ?_)
  subst e_5
  exact n_pret hx hb hr hlk (inF_b _ _ _) rfl dX2_isDigit_8
theorem hdS_X2_isLetter : yX2_isLetter.cls = "LineCalls$Reader" ∧ yX2_isLetter.cls ≠ "java/lang/invoke/MethodHandle" ∧ yX2_isLetter.cls ≠ "java/lang/invoke/VarHandle" ∧ (parseMethodDescriptor yX2_isLetter.desc).map (fun d => d.parameters.length) = some 1 := by decide +kernel
set_option maxHeartbeats 4000000 in
theorem tX_isLetter (l : Launch) (G : nG) (E : nE) (v : Int32) : Met l yX2_isLetter (ws_ yX2_isLetter cX2_isLetter 1 (some .boolean)) { frames := 1, cells := 0, slots := 0, locals := 22 } (va_Pc [.int v] (nC G (E))) (vp_Si (fun r => r = inF v 97 122)) 0 0 (fun _ => False) := by
  refine n_head (by decide) (Nat.le_of_ble_eq_true rfl) ?_
  intro p e s m below meth c ls hx hb hr hlk hml hown hts hB0 hl
  have hown : s.vm.findClass "LineCalls$Reader" = some m.cls := hown
  have hw := nS.start hB0
  have hl : lv_has ls 1 [(0, .int v)] := hl
  refine lv_iload_n hx hb dX2_isLetter_0 rfl (lv_at hl 0 rfl) ?_
  refine lv_bipush (v := 97) hx hb dX2_isLetter_1 (by decide) ?_
  refine lv_bipush (v := 122) hx hb dX2_isLetter_3 (by decide) ?_
  refine n_callp (va_runSN ⟨hx, hb, hml, hown, hts⟩ (tX_in l _ _ _) (⟨va_cnB 3 hts (lw_meth q461) rfl rfl rfl (hw.N _ q991 rfl) (hts _ q90) (hdS_X0_in).2 ⟨by decide, by decide⟩, hts _ q460, trivial⟩) pu_pre rfl rfl hl.1 rfl (lv_room (by simp [Value.category])) dX2_isLetter_5 ⟨Nat.zero_le _, Nat.zero_le _⟩) (fun r_5 e_5 => ?_)
  subst e_5
  exact n_pret hx hb hr hlk (inF_b _ _ _) rfl dX2_isLetter_8
theorem hdS_X0_isTold : yX0_isTold.cls = "LineCalls" ∧ yX0_isTold.cls ≠ "java/lang/invoke/MethodHandle" ∧ yX0_isTold.cls ≠ "java/lang/invoke/VarHandle" ∧ (parseMethodDescriptor yX0_isTold.desc).map (fun d => d.parameters.length) = some 2 := by decide +kernel
set_option maxHeartbeats 4000000 in
theorem tX_isTold (l : Launch) (x v : Int32) : Met l yX0_isTold (ws_ yX0_isTold cX0_isTold 2 (some .boolean)) { frames := 2, cells := 0, slots := 0, locals := 42 } (va_Pc [.int x, .int v] (fun _ => True)) (vp_Si (fun r => r = fldF x v)) 0 0 (fun _ => False) := by
  refine n_head (by decide) (Nat.le_of_ble_eq_true rfl) ?_
  intro p e s m below meth c ls hx hb hr hlk hml hown hts hB0 hl
  have hown : s.vm.findClass "LineCalls" = some m.cls := hown
  have hl : lv_has ls 2 [(0, .int x), (1, .int v)] := hl
  refine lv_iload_n hx hb dX0_isTold_0 rfl (lv_at hl 0 rfl) ?_
  by_cases s_1_0 : x = 0
  · skip
    refine lv_tableIn (tgt := 36) hx hb dX0_isTold_1 (by rw [s_1_0]; decide) (by rw [s_1_0]; decide) (off := 35) (by rw [s_1_0]; rfl) (by decide) ?_
    refine lv_iload_n hx hb dX0_isTold_36 rfl (lv_at hl 1 rfl) ?_
    refine n_callp (va_runS ⟨hx, hb, hml, hown, hts⟩ (tX_isKind l _) (va_cwS 1 hts (lw_S q538 q539 q90 q540) rfl rfl rfl (hdS_X0_isKind).2 ⟨by decide, by decide⟩) pu_pre rfl rfl hl.1 rfl (lv_room (by simp [Value.category])) dX0_isTold_37 ⟨Nat.zero_le _, Nat.zero_le _⟩) (fun r_37 e_37 => ?_)
    subst e_37
    exact n_pret hx hb hr hlk (inF_b _ _ _) (by rw [fldF, if_pos s_1_0]) dX0_isTold_40
  by_cases s_1_1 : x = 1
  · skip
    refine lv_tableIn (tgt := 41) hx hb dX0_isTold_1 (by rw [s_1_1]; decide) (by rw [s_1_1]; decide) (off := 40) (by rw [s_1_1]; rfl) (by decide) ?_
    refine lv_iload_n hx hb dX0_isTold_41 rfl (lv_at hl 1 rfl) ?_
    refine n_callp (va_runS ⟨hx, hb, hml, hown, hts⟩ (tX_isHigh l _) (va_cwS 1 hts (lw_S q491 q492 q90 q493) rfl rfl rfl (hdS_X0_isHigh).2 ⟨by decide, by decide⟩) pu_pre rfl rfl hl.1 rfl (lv_room (by simp [Value.category])) dX0_isTold_42 ⟨Nat.zero_le _, Nat.zero_le _⟩) (fun r_42 e_42 => ?_)
    subst e_42
    exact n_pret hx hb hr hlk (inF_b _ _ _) (by rw [fldF, if_neg s_1_0, if_pos s_1_1]) dX0_isTold_45
  by_cases s_1_2 : x = 2
  · skip
    refine lv_tableIn (tgt := 41) hx hb dX0_isTold_1 (by rw [s_1_2]; decide) (by rw [s_1_2]; decide) (off := 40) (by rw [s_1_2]; rfl) (by decide) ?_
    refine lv_iload_n hx hb dX0_isTold_41 rfl (lv_at hl 1 rfl) ?_
    refine n_callp (va_runS ⟨hx, hb, hml, hown, hts⟩ (tX_isHigh l _) (va_cwS 1 hts (lw_S q491 q492 q90 q493) rfl rfl rfl (hdS_X0_isHigh).2 ⟨by decide, by decide⟩) pu_pre rfl rfl hl.1 rfl (lv_room (by simp [Value.category])) dX0_isTold_42 ⟨Nat.zero_le _, Nat.zero_le _⟩) (fun r_42 e_42 => ?_)
    subst e_42
    exact n_pret hx hb hr hlk (inF_b _ _ _) (by rw [fldF, if_neg s_1_0, if_neg s_1_1, if_pos s_1_2]) dX0_isTold_45
  by_cases s_1_3 : x = 3
  · skip
    refine lv_tableIn (tgt := 46) hx hb dX0_isTold_1 (by rw [s_1_3]; decide) (by rw [s_1_3]; decide) (off := 45) (by rw [s_1_3]; rfl) (by decide) ?_
    refine lv_iload_n hx hb dX0_isTold_46 rfl (lv_at hl 1 rfl) ?_
    refine n_callp (va_runS ⟨hx, hb, hml, hown, hts⟩ (tX_isMany l _) (va_cwS 1 hts (lw_S q663 q664 q90 q665) rfl rfl rfl (hdS_X0_isMany).2 ⟨by decide, by decide⟩) pu_pre rfl rfl hl.1 rfl (lv_room (by simp [Value.category])) dX0_isTold_47 ⟨Nat.zero_le _, Nat.zero_le _⟩) (fun r_47 e_47 => ?_)
    subst e_47
    exact n_pret hx hb hr hlk (inF_b _ _ _) (by rw [fldF, if_neg s_1_0, if_neg s_1_1, if_neg s_1_2, if_pos s_1_3]) dX0_isTold_50
  by_cases s_1_4 : x = 4
  · skip
    refine lv_tableIn (tgt := 46) hx hb dX0_isTold_1 (by rw [s_1_4]; decide) (by rw [s_1_4]; decide) (off := 45) (by rw [s_1_4]; rfl) (by decide) ?_
    refine lv_iload_n hx hb dX0_isTold_46 rfl (lv_at hl 1 rfl) ?_
    refine n_callp (va_runS ⟨hx, hb, hml, hown, hts⟩ (tX_isMany l _) (va_cwS 1 hts (lw_S q663 q664 q90 q665) rfl rfl rfl (hdS_X0_isMany).2 ⟨by decide, by decide⟩) pu_pre rfl rfl hl.1 rfl (lv_room (by simp [Value.category])) dX0_isTold_47 ⟨Nat.zero_le _, Nat.zero_le _⟩) (fun r_47 e_47 => ?_)
    subst e_47
    exact n_pret hx hb hr hlk (inF_b _ _ _) (by rw [fldF, if_neg s_1_0, if_neg s_1_1, if_neg s_1_2, if_neg s_1_3, if_pos s_1_4]) dX0_isTold_50
  refine lv_tableOut (tgt := 51) hx hb dX0_isTold_1 (by have a_0 := ne_ti (k := 0) s_1_0 (by decide); have a_1 := ne_ti (k := 1) s_1_1 (by decide); have a_2 := ne_ti (k := 2) s_1_2 (by decide); have a_3 := ne_ti (k := 3) s_1_3 (by decide); have a_4 := ne_ti (k := 4) s_1_4 (by decide); omega) (by decide) ?_
  refine lv_iconst (v := 0) hx hb dX0_isTold_51 (by decide) ?_
  exact n_pret hx hb hr hlk rfl (by rw [fldF, if_neg s_1_0, if_neg s_1_1, if_neg s_1_2, if_neg s_1_3, if_neg s_1_4]) dX0_isTold_52
theorem hdS_X0_has : yX0_has.cls = "LineCalls" ∧ yX0_has.cls ≠ "java/lang/invoke/MethodHandle" ∧ yX0_has.cls ≠ "java/lang/invoke/VarHandle" ∧ (parseMethodDescriptor yX0_has.desc).map (fun d => d.parameters.length) = some 2 := by decide +kernel
set_option maxHeartbeats 4000000 in
theorem tX_has (l : Launch) (x k : Int32) : Met l yX0_has (ws_ yX0_has cX0_has 2 (some .boolean)) { frames := 0, cells := 0, slots := 0, locals := 0 } (va_Pc [.int x, .int k] (fun _ => True)) (vp_Si (fun r => r = hbF x k)) 0 0 (fun _ => False) := by
  refine n_head (by decide) (Nat.le_of_ble_eq_true rfl) ?_
  intro p e s m below meth c ls hx hb hr hlk hml hown hts hB0 hl
  have hown : s.vm.findClass "LineCalls" = some m.cls := hown
  have hl : lv_has ls 2 [(0, .int x), (1, .int k)] := hl
  refine lv_iload_n hx hb dX0_has_0 rfl (lv_at hl 0 rfl) ?_
  refine lv_iload_n hx hb dX0_has_1 rfl (lv_at hl 1 rfl) ?_
  refine lv_ishr hx hb dX0_has_2 ?_
  refine lv_iconst (v := 1) hx hb dX0_has_3 (by decide) ?_
  refine lv_iand hx hb dX0_has_4 ?_
  refine lv_iconst (v := 1) hx hb dX0_has_5 (by decide) ?_
  refine lv_icmp_ne (tgt := 13) hx hb dX0_has_6 (by decide) (fun c_6 => ?_) (fun c_6 => ?_)
  · skip
    refine lv_iconst (v := 0) hx hb dX0_has_13 (by decide) ?_
    exact n_pret hx hb hr hlk rfl (by rw [hbF, if_neg c_6]) dX0_has_14
  · skip
    refine lv_iconst (v := 1) hx hb dX0_has_9 (by decide) ?_
    refine lv_goto (tgt := 14) hx hb dX0_has_10 (by decide) ?_
    exact n_pret hx hb hr hlk rfl (by rw [hbF, if_pos c_6]) dX0_has_14
theorem hdS_X0_ones : yX0_ones.cls = "LineCalls" ∧ yX0_ones.cls ≠ "java/lang/invoke/MethodHandle" ∧ yX0_ones.cls ≠ "java/lang/invoke/VarHandle" ∧ (parseMethodDescriptor yX0_ones.desc).map (fun d => d.parameters.length) = some 1 := by decide +kernel
set_option maxHeartbeats 4000000 in
theorem tX_ones (l : Launch) (x : Int32) : Met l yX0_ones (ws_ yX0_ones cX0_ones 1 (some .int)) { frames := 1, cells := 0, slots := 0, locals := 20 } (va_Pc [.int x] (fun _ => True)) (vp_Si (fun r => r = bcF x)) 0 0 (fun _ => False) := by
  refine n_head (by decide) (Nat.le_of_ble_eq_true rfl) ?_
  intro p e s m below meth c ls hx hb hr hlk hml hown hts hB0 hl
  have hown : s.vm.findClass "LineCalls" = some m.cls := hown
  have hl : lv_has ls 1 [(0, .int x)] := hl
  refine lv_iload_n hx hb dX0_ones_0 rfl (lv_at hl 0 rfl) ?_
  refine n_callp (va_runS ⟨hx, hb, hml, hown, hts⟩ (tJ_bitCount l _) (va_cwS 1 hts (lw_S q528 q529 q107 q530) rfl rfl rfl (hdS_J3_bitCount).2 ⟨by decide, by decide⟩) pu_pre rfl rfl hl.1 rfl (lv_room (by simp [Value.category])) dX0_ones_1 ⟨Nat.zero_le _, Nat.zero_le _⟩) (fun r_1 e_1 => ?_)
  subst e_1
  exact n_pret hx hb hr hlk rfl rfl dX0_ones_4
def cntF (c code : Int32) : Int32 := if code = 0 then rm c 10 else if code = 1 then c / 100 + rm (c / 10) 10 + rm c 10 else if code = 2 then c / 100 else if code = 3 then (if rm (rm c 10) 2 = 1 then 0 else if rm (rm (c / 10) 10) 2 = 1 then 3 else 6) else bcF c
theorem cnt_says {c code : Int32} (h : bcF c = bitsF c) : rm (cntF c code) 7 = saysF c code := by
  unfold cntF saysF
  split
  · rfl
  split
  · rw [show c / 100 + rm (c / 10) 10 + rm c 10 = rm c 10 + rm (c / 10) 10 + c / 100 by rw [Int32.add_comm (rm c 10), Int32.add_comm _ (c / 100), Int32.add_assoc, Int32.add_comm (c / 100), Int32.add_assoc, Int32.add_comm (rm c 10)]]
  split
  · rfl
  split
  · split
    · rfl
    · split <;> rfl
  · rw [h]
theorem hdS_X0_counts : yX0_counts.cls = "LineCalls" ∧ yX0_counts.cls ≠ "java/lang/invoke/MethodHandle" ∧ yX0_counts.cls ≠ "java/lang/invoke/VarHandle" ∧ (parseMethodDescriptor yX0_counts.desc).map (fun d => d.parameters.length) = some 2 := by decide +kernel
set_option maxHeartbeats 4000000 in
theorem tX_counts (l : Launch) (x cd : Int32) : Met l yX0_counts (ws_ yX0_counts cX0_counts 5 (some .int)) { frames := 2, cells := 0, slots := 0, locals := 40 } (va_Pc [.int x, .int cd] (fun _ => True)) (vp_Si (fun r => r = cntF x cd)) 0 0 (fun _ => False) := by
  refine n_head (by decide) (Nat.le_of_ble_eq_true rfl) ?_
  intro p e s m below meth c ls hx hb hr hlk hml hown hts hB0 hl
  have hown : s.vm.findClass "LineCalls" = some m.cls := hown
  have hl : lv_has ls 5 [(0, .int x), (1, .int cd)] := hl
  refine lv_iload_n hx hb dX0_counts_0 rfl (lv_at hl 0 rfl) ?_
  refine lv_bipush (v := 100) hx hb dX0_counts_1 (by decide) ?_
  refine lv_idiv hx hb dX0_counts_3 (by decide) ?_
  refine lv_istore_n hx hb dX0_counts_4 rfl hl (by decide) rfl (fun ls hl => ?_)
  refine lv_iload_n hx hb dX0_counts_5 rfl (lv_at hl 1 rfl) ?_
  refine lv_bipush (v := 10) hx hb dX0_counts_6 (by decide) ?_
  refine lv_idiv hx hb dX0_counts_8 (by decide) ?_
  refine lv_bipush (v := 10) hx hb dX0_counts_9 (by decide) ?_
  refine lv_irem hx hb dX0_counts_11 (by decide) ?_
  refine lv_istore_n hx hb dX0_counts_12 rfl hl (by decide) rfl (fun ls hl => ?_)
  refine lv_iload_n hx hb dX0_counts_13 rfl (lv_at hl 2 rfl) ?_
  refine lv_bipush (v := 10) hx hb dX0_counts_14 (by decide) ?_
  refine lv_irem hx hb dX0_counts_16 (by decide) ?_
  refine lv_istore hx hb dX0_counts_17 hl (by decide) rfl (fun ls hl => ?_)
  refine lv_iload_n hx hb dX0_counts_19 rfl (lv_at hl 4 rfl) ?_
  by_cases s_20_0 : cd = 0
  · skip
    refine lv_tableIn (tgt := 52) hx hb dX0_counts_20 (by rw [s_20_0]; decide) (by rw [s_20_0]; decide) (off := 32) (by rw [s_20_0]; rfl) (by decide) ?_
    refine lv_iload hx hb dX0_counts_52 (lv_at hl 0 rfl) ?_
    exact n_pret hx hb hr hlk rfl (by rw [cntF, if_pos s_20_0]) dX0_counts_54
  by_cases s_20_1 : cd = 1
  · skip
    refine lv_tableIn (tgt := 55) hx hb dX0_counts_20 (by rw [s_20_1]; decide) (by rw [s_20_1]; decide) (off := 35) (by rw [s_20_1]; rfl) (by decide) ?_
    refine lv_iload_n hx hb dX0_counts_55 rfl (lv_at hl 2 rfl) ?_
    refine lv_iload_n hx hb dX0_counts_56 rfl (lv_at hl 1 rfl) ?_
    refine lv_iadd hx hb dX0_counts_57 ?_
    refine lv_iload hx hb dX0_counts_58 (lv_at hl 0 rfl) ?_
    refine lv_iadd hx hb dX0_counts_60 ?_
    exact n_pret hx hb hr hlk rfl (by rw [cntF, if_neg s_20_0, if_pos s_20_1]) dX0_counts_61
  by_cases s_20_2 : cd = 2
  · skip
    refine lv_tableIn (tgt := 62) hx hb dX0_counts_20 (by rw [s_20_2]; decide) (by rw [s_20_2]; decide) (off := 42) (by rw [s_20_2]; rfl) (by decide) ?_
    refine lv_iload_n hx hb dX0_counts_62 rfl (lv_at hl 2 rfl) ?_
    exact n_pret hx hb hr hlk rfl (by rw [cntF, if_neg s_20_0, if_neg s_20_1, if_pos s_20_2]) dX0_counts_63
  by_cases s_20_3 : cd = 3
  · skip
    refine lv_tableIn (tgt := 64) hx hb dX0_counts_20 (by rw [s_20_3]; decide) (by rw [s_20_3]; decide) (off := 44) (by rw [s_20_3]; rfl) (by decide) ?_
    refine lv_iload hx hb dX0_counts_64 (lv_at hl 0 rfl) ?_
    refine lv_iconst (v := 2) hx hb dX0_counts_66 (by decide) ?_
    refine lv_irem hx hb dX0_counts_67 (by decide) ?_
    refine lv_iconst (v := 1) hx hb dX0_counts_68 (by decide) ?_
    refine lv_icmp_ne (tgt := 76) hx hb dX0_counts_69 (by decide) (fun c_69 => ?_) (fun c_69 => ?_)
    · skip
      refine lv_iload_n hx hb dX0_counts_76 rfl (lv_at hl 1 rfl) ?_
      refine lv_iconst (v := 2) hx hb dX0_counts_77 (by decide) ?_
      refine lv_irem hx hb dX0_counts_78 (by decide) ?_
      refine lv_iconst (v := 1) hx hb dX0_counts_79 (by decide) ?_
      refine lv_icmp_ne (tgt := 87) hx hb dX0_counts_80 (by decide) (fun c_80 => ?_) (fun c_80 => ?_)
      · skip
        refine lv_bipush (v := 6) hx hb dX0_counts_87 (by decide) ?_
        exact n_pret hx hb hr hlk rfl (by rw [cntF, if_neg s_20_0, if_neg s_20_1, if_neg s_20_2, if_pos s_20_3, if_neg c_69, if_neg c_80]) dX0_counts_89
      · skip
        refine lv_iconst (v := 3) hx hb dX0_counts_83 (by decide) ?_
        refine lv_goto (tgt := 89) hx hb dX0_counts_84 (by decide) ?_
        exact n_pret hx hb hr hlk rfl (by rw [cntF, if_neg s_20_0, if_neg s_20_1, if_neg s_20_2, if_pos s_20_3, if_neg c_69, if_pos c_80]) dX0_counts_89
    · skip
      refine lv_iconst (v := 0) hx hb dX0_counts_72 (by decide) ?_
      refine lv_goto (tgt := 89) hx hb dX0_counts_73 (by decide) ?_
      exact n_pret hx hb hr hlk rfl (by rw [cntF, if_neg s_20_0, if_neg s_20_1, if_neg s_20_2, if_pos s_20_3, if_pos c_69]) dX0_counts_89
  refine lv_tableOut (tgt := 90) hx hb dX0_counts_20 (by have a_0 := ne_ti (k := 0) s_20_0 (by decide); have a_1 := ne_ti (k := 1) s_20_1 (by decide); have a_2 := ne_ti (k := 2) s_20_2 (by decide); have a_3 := ne_ti (k := 3) s_20_3 (by decide); omega) (by decide) ?_
  refine lv_iload_n hx hb dX0_counts_90 rfl (lv_at hl 3 rfl) ?_
  refine n_callp (va_runS ⟨hx, hb, hml, hown, hts⟩ (tX_ones l _) (va_cwS 1 hts (lw_S q525 q526 q90 q527) rfl rfl rfl (hdS_X0_ones).2 ⟨by decide, by decide⟩) pu_pre rfl rfl hl.1 rfl (lv_room (by simp [Value.category])) dX0_counts_91 ⟨Nat.zero_le _, Nat.zero_le _⟩) (fun r_91 e_91 => ?_)
  subst e_91
  exact n_pret hx hb hr hlk rfl (by rw [cntF, if_neg s_20_0, if_neg s_20_1, if_neg s_20_2, if_neg s_20_3]) dX0_counts_94
theorem hdS_X0_placeOf : yX0_placeOf.cls = "LineCalls" ∧ yX0_placeOf.cls ≠ "java/lang/invoke/MethodHandle" ∧ yX0_placeOf.cls ≠ "java/lang/invoke/VarHandle" ∧ (parseMethodDescriptor yX0_placeOf.desc).map (fun d => d.parameters.length) = some 2 := by decide +kernel
set_option maxHeartbeats 4000000 in
theorem tX_placeOf (l : Launch) (x cd : Int32) (hbc : bcF x = bitsF x) : Met l yX0_placeOf (ws_ yX0_placeOf cX0_placeOf 2 (some .int)) { frames := 3, cells := 0, slots := 0, locals := 64 } (va_Pc [.int x, .int cd] (fun _ => True)) (vp_Si (fun r => r = saysF x cd)) 0 0 (fun _ => False) := by
  refine n_head (by decide) (Nat.le_of_ble_eq_true rfl) ?_
  intro p e s m below meth c ls hx hb hr hlk hml hown hts hB0 hl
  have hown : s.vm.findClass "LineCalls" = some m.cls := hown
  have hl : lv_has ls 2 [(0, .int x), (1, .int cd)] := hl
  refine lv_iload_n hx hb dX0_placeOf_0 rfl (lv_at hl 0 rfl) ?_
  refine lv_iload_n hx hb dX0_placeOf_1 rfl (lv_at hl 1 rfl) ?_
  refine n_callp (va_runS ⟨hx, hb, hml, hown, hts⟩ (tX_counts l _ _) (va_cwS 2 hts (lw_S q522 q523 q90 q524) rfl rfl rfl (hdS_X0_counts).2 ⟨by decide, by decide⟩) pu_pre rfl rfl hl.1 rfl (lv_room (by simp [Value.category])) dX0_placeOf_2 ⟨Nat.zero_le _, Nat.zero_le _⟩) (fun r_2 e_2 => ?_)
  subst e_2
  refine lv_bipush (v := 7) hx hb dX0_placeOf_5 (by decide) ?_
  refine lv_irem hx hb dX0_placeOf_7 (by decide) ?_
  exact n_pret hx hb hr hlk rfl (cnt_says hbc) dX0_placeOf_8
