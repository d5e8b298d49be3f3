/-! the class: worlds copied -/
set_option maxRecDepth 100000
theorem hdS_X4_copy : yX4_copy.cls = "LineCalls$World" ∧ yX4_copy.cls ≠ "java/lang/invoke/MethodHandle" ∧ yX4_copy.cls ≠ "java/lang/invoke/VarHandle" ∧ (parseMethodDescriptor yX4_copy.desc).map (fun d => d.parameters.length) = some 2 := by decide +kernel
set_option maxHeartbeats 4000000 in
theorem tX4_copy (l : Launch) (G : nG) (E : nE) (k0 k1 a0 a n : Nat) (f g : Nat → Int32) (he0 : E k0 = some (a0, .inl (G.2.1 0, n, .inl f))) (he1 : E k1 = some (a, .inl (G.2.1 0, n, .inl g))) (hn : n < 2 ^ 31) : Met l yX4_copy (ws_ yX4_copy cX4_copy 2 (none)) { frames := 1, cells := 0, slots := 0, locals := 40 } (va_Pc [.ref a0, .ref a] (nC G (E))) (va_Qv (fun (u : Unit) => True) (fun u => nC G (va_up E k1 (some (a, .inl (G.2.1 0, n, .inl (va_cpy f g 0 0 n)))))) (nA G)) 0 0 (nA G) := by
  refine n_head (by decide) (Nat.le_of_ble_eq_true rfl) ?_
  intro p e s m below meth c ls hx hb hr hlk hml hown hts hB0 hl
  have hown : s.vm.findClass "LineCalls$World" = some m.cls := hown
  have hw := nS.start hB0
  have hl : lv_has ls 2 [(0, .ref a0), (1, .ref a)] := hl
  refine lv_aload_n hx hb dX4_copy_0 rfl (lv_at hl 0 rfl) ?_
  refine lv_iconst (v := 0) hx hb dX4_copy_1 (by decide) ?_
  refine lv_aload_n hx hb dX4_copy_2 rfl (lv_at hl 1 rfl) ?_
  refine lv_iconst (v := 0) hx hb dX4_copy_3 (by decide) ?_
  refine lv_aload_n hx hb dX4_copy_4 rfl (lv_at hl 1 rfl) ?_
  refine n_alen (k := k1) (t := 0) hx hb hw he1 (by decide) dX4_copy_5 ?_
  refine n_copyi hx hb (hml.trans hl.1.symm) hown (hts _ q780) (hts _ q782) (hts _ q781) (hts _ q109) hw he0 he1 (t := 0) rfl rfl (sp := 0) (dp := 0) (n := n) (by omega) (by omega) hn hn (fun _ _ => rfl) (by decide) (by decide) dX4_copy_6 (fun H locs hw => ?_)
  exact n_vret hx hb hr hlk () hw trivial dX4_copy_9
theorem hdS_X4_copyAll : yX4_copyAll.cls = "LineCalls$World" ∧ yX4_copyAll.cls ≠ "java/lang/invoke/MethodHandle" ∧ yX4_copyAll.cls ≠ "java/lang/invoke/VarHandle" ∧ (parseMethodDescriptor yX4_copyAll.desc).map (fun d => d.parameters.length) = some 2 := by decide +kernel
set_option maxHeartbeats 4000000 in
theorem tX4_copyAll (l : Launch) (G : nG) (ad : Nat → Nat) (V : xWs) (X : mM) (sp : xSp) (sh : xSh) (i j : Nat) (hi : i < 4) (hj : j < 4) (hij : i ≠ j) (v w : rw84) (hVi : V i = v) (hVj : V j = w) (b o n : Nat) (hbo : (b = 3 ∧ o = 2 ∧ n = 2) ∨ (b = 8 ∧ o = 7 ∧ n = 5)) : Met l yX4_copyAll (ws_ yX4_copyAll cX4_copyAll 3 (none)) { frames := 2, cells := 0, slots := 0, locals := 61 } (va_Pc [.ref (ad (16 * i + o)), .ref (ad (16 * j + o))] (nC G (xE G ad V X sp sh))) (va_Qv (fun (u : rw84) => u = rcp b n v w) (fun u => nC G (xE G ad (va_up V j u) X sp sh)) (nA G)) 0 0 (nA G) := by
  refine n_head (by decide) (Nat.le_of_ble_eq_true rfl) ?_
  intro p e s m below meth c ls hx hb hr hlk hml hown hts hB0 hl
  have hown : s.vm.findClass "LineCalls$World" = some m.cls := hown
  have hw := nS.start hB0
  have hl : lv_has ls 3 [(0, .ref (ad (16 * i + o))), (1, .ref (ad (16 * j + o)))] := hl
  have hw : nS G (xE G ad (va_up V j w) X sp sh) s _ _ := n_E (by rw [← va_up_eq hVj]) hw
  have hn5 : n ≤ 5 := by omega
  refine lv_iconst (v := 0) hx hb dX4_copyAll_0 (by decide) ?_
  refine lv_istore_n hx hb dX4_copyAll_1 rfl hl (by decide) rfl (fun ls hl => ?_)
  refine n_loop (α := Nat) (fun r H locs ls => r ≤ n ∧ nS G (xE G ad (va_up V j (rcp b r v w)) X sp sh) s H locs ∧ lv_has ls 3 [(0, .ref (ad (16 * i + o))), (1, .ref (ad (16 * j + o))), (2, .int (nI r))]) (fun r => n - r) 2 ?_ 0 _ _ _ ⟨Nat.zero_le _, by rw [rcp_0]; exact hw, (lv_sub hl [1, 2, 0] rfl)⟩
  clear hl hw
  intro r H locs ls hI ih_2
  obtain ⟨hrn, hw, hl⟩ := hI
  refine lv_iload_n hx hb dX4_copyAll_2 rfl (lv_at hl 2 rfl) ?_
  refine lv_aload_n hx hb dX4_copyAll_3 rfl (lv_at hl 1 rfl) ?_
  refine n_qlen (k := 16 * j + o) hx hb hw (xo hj hbo) dX4_copyAll_4 ?_
  refine lv_icmp_ge (tgt := 23) hx hb dX4_copyAll_5 (by decide) (fun c_5 => ?_) (fun c_5 => ?_)
  · skip
    have n_5 : n ≤ r := (nI_leI (a := n) (b := r) (by omega) (by omega)).mp c_5
    obtain rfl : r = n := by omega
    exact n_vret hx hb hr hlk _ hw rfl dX4_copyAll_23
  · skip
    have n_5 : ¬ n ≤ r := fun h => c_5 ((nI_leI (a := n) (b := r) (by omega) (by omega)).mpr h)
    obtain ⟨g1, g2, g3⟩ := bo_len hbo (show r < n by omega)
    refine lv_aload_n hx hb dX4_copyAll_8 rfl (lv_at hl 0 rfl) ?_
    refine lv_iload_n hx hb dX4_copyAll_9 rfl (lv_at hl 2 rfl) ?_
    refine n_aaldS (k := 16 * i + o) (t := 4) (j := r) (b := ad (16 * i + (b + r))) hx hb hw (xo hi hbo) (Or.inr rfl) rfl (by omega) (by omega) rfl dX4_copyAll_10 ?_
    refine lv_aload_n hx hb dX4_copyAll_11 rfl (lv_at hl 1 rfl) ?_
    refine lv_iload_n hx hb dX4_copyAll_12 rfl (lv_at hl 2 rfl) ?_
    refine n_aaldS (k := 16 * j + o) (t := 4) (j := r) (b := ad (16 * j + (b + r))) hx hb hw (xo hj hbo) (Or.inr rfl) rfl (by omega) (by omega) rfl dX4_copyAll_13 ?_
    refine n_callv (va_runS ⟨hx, hb, hml, hown, hts⟩ (tX4_copy l G _ (16 * i + (b + r)) (16 * j + (b + r)) _ _ _ _ _ (xr_i hi hij hVi g1 g2) (xr_j hj g1 g2) g3) (va_cwS 2 hts (lw_S q777 q778 q97 q779) rfl rfl rfl (hdS_X4_copy).2 ⟨by decide, by decide⟩) hw.preS rfl rfl hl.1 rfl (lv_room (by simp [Value.category])) dX4_copyAll_14 ⟨Nat.zero_le _, Nat.zero_le _⟩) hw (fun u_14 H locs e_14 hw => ?_)
    have hw := xE_cpy hj g1 g2 hw
    refine lv_iinc (v := nI (r + 1)) hx hb dX4_copyAll_17 hl (k := 2) rfl (nI_1 _) (by decide) rfl (fun ls hl => ?_)
    refine lv_goto (tgt := 2) hx hb dX4_copyAll_20 (by decide) ?_
    exact ih_2 (r + 1) _ _ _ (by first | omega | (dsimp only; omega)) ⟨by omega, by rw [← rcp_s]; exact hw, (lv_sub hl [1, 2, 0] rfl)⟩
theorem hdS_X4_become : yX4_become.cls = "LineCalls$World" ∧ yX4_become.cls ≠ "java/lang/invoke/MethodHandle" ∧ yX4_become.cls ≠ "java/lang/invoke/VarHandle" ∧ (parseMethodDescriptor yX4_become.desc).map (fun d => d.parameters.length) = some 1 := by decide +kernel
set_option maxHeartbeats 4000000 in
theorem tX4_become (l : Launch) (G : nG) (ad : Nat → Nat) (V : xWs) (X : mM) (sp : xSp) (sh : xSh) (j : Nat) (hj : j < 4) (w : rw84) (hVj : V j = w) (i : Nat) (v : rw84) (hi : i < 4) (hij : i ≠ j) (hVi : V i = v) : Met l yX4_become (ws_ yX4_become cX4_become 2 (none)) { frames := 3, cells := 0, slots := 0, locals := 83 } (va_Pc [.ref (ad (16 * j + 0)), .ref (ad (16 * i + 0))] (nC G (xE G ad V X sp sh))) (va_Qv (fun (u : rw84) => u = v) (fun u => nC G (xE G ad (va_up V j u) X sp sh)) (nA G)) 0 0 (nA G) := by
  refine n_head (by decide) (Nat.le_of_ble_eq_true rfl) ?_
  intro p e s m below meth c ls hx hb hr hlk hml hown hts hB0 hl
  have hown : s.vm.findClass "LineCalls$World" = some m.cls := hown
  have hw := nS.start hB0
  have hl : lv_has ls 2 [(0, .ref (ad (16 * j + 0))), (1, .ref (ad (16 * i + 0)))] := hl
  have hw : nS G (xE G ad (va_up V j w) X sp sh) s _ _ := n_E (by rw [← va_up_eq hVj]) hw
  refine lv_aload_n hx hb dX4_become_0 rfl (lv_at hl 1 rfl) ?_
  refine n_get (k := 16 * i + 0) hx hb hts in_X4 hown hw (xwi hi hij hVi 0) rfl 0 (by decide) q219 rfl dX4_become_1 ?_
  refine lv_aload_n hx hb dX4_become_4 rfl (lv_at hl 0 rfl) ?_
  refine n_get (k := 16 * j + 0) hx hb hts in_X4 hown hw (xwv hj 0) rfl 0 (by decide) q219 rfl dX4_become_5 ?_
  refine n_callv (va_runS ⟨hx, hb, hml, hown, hts⟩ (tX4_copy l G _ (16 * i + 1) (16 * j + 1) _ _ _ _ _ (xr_i hi hij hVi (k := 1) (by decide) (by decide)) (xr_j hj (by decide) (by decide)) (by decide)) (va_cwS 2 hts (lw_S q777 q778 q97 q779) rfl rfl rfl (hdS_X4_copy).2 ⟨by decide, by decide⟩) hw.preS rfl rfl hl.1 rfl (lv_room (by simp [Value.category])) dX4_become_8 ⟨Nat.zero_le _, Nat.zero_le _⟩) hw (fun u_8 H locs e_8 hw => ?_)
  have hw := xE_cpy (k := 1) hj (by decide) (by decide) hw
  refine lv_aload_n hx hb dX4_become_11 rfl (lv_at hl 1 rfl) ?_
  refine n_get (k := 16 * i + 0) hx hb hts in_X4 hown hw (xwi hi hij hVi 0) rfl 1 (by decide) q222 rfl dX4_become_12 ?_
  refine lv_aload_n hx hb dX4_become_15 rfl (lv_at hl 0 rfl) ?_
  refine n_get (k := 16 * j + 0) hx hb hts in_X4 hown hw (xwv hj 0) rfl 1 (by decide) q222 rfl dX4_become_16 ?_
  refine n_callv (va_runS ⟨hx, hb, hml, hown, hts⟩ (tX4_copyAll l G ad _ _ _ _ i j hi hj hij _ _ ((va_up_ne _ _ hij).trans hVi) (va_up_self _ _ _) 3 2 2 (by decide)) (va_cwS 2 hts (lw_S q783 q784 q97 q785) rfl rfl rfl (hdS_X4_copyAll).2 ⟨by decide, by decide⟩) hw.preS rfl rfl hl.1 rfl (lv_room (by simp [Value.category])) dX4_become_19 ⟨Nat.zero_le _, Nat.zero_le _⟩) hw (fun u_19 H locs e_19 hw => ?_)
  (subst e_19; have hw : nS G (xE G ad (va_up (va_up V j _) j _) X sp sh) s H locs := hw; rw [va_up_up] at hw)
  refine lv_aload_n hx hb dX4_become_22 rfl (lv_at hl 1 rfl) ?_
  refine n_get (k := 16 * i + 0) hx hb hts in_X4 hown hw (xwi hi hij hVi 0) rfl 2 (by decide) q225 rfl dX4_become_23 ?_
  refine lv_aload_n hx hb dX4_become_26 rfl (lv_at hl 0 rfl) ?_
  refine n_get (k := 16 * j + 0) hx hb hts in_X4 hown hw (xwv hj 0) rfl 2 (by decide) q225 rfl dX4_become_27 ?_
  refine n_callv (va_runS ⟨hx, hb, hml, hown, hts⟩ (tX4_copy l G _ (16 * i + 5) (16 * j + 5) _ _ _ _ _ (xr_i hi hij hVi (k := 5) (by decide) (by decide)) (xr_j hj (by decide) (by decide)) (by decide)) (va_cwS 2 hts (lw_S q777 q778 q97 q779) rfl rfl rfl (hdS_X4_copy).2 ⟨by decide, by decide⟩) hw.preS rfl rfl hl.1 rfl (lv_room (by simp [Value.category])) dX4_become_30 ⟨Nat.zero_le _, Nat.zero_le _⟩) hw (fun u_30 H locs e_30 hw => ?_)
  have hw := xE_cpy (k := 5) hj (by decide) (by decide) hw
  refine lv_aload_n hx hb dX4_become_33 rfl (lv_at hl 1 rfl) ?_
  refine n_get (k := 16 * i + 0) hx hb hts in_X4 hown hw (xwi hi hij hVi 0) rfl 3 (by decide) q232 rfl dX4_become_34 ?_
  refine lv_aload_n hx hb dX4_become_37 rfl (lv_at hl 0 rfl) ?_
  refine n_get (k := 16 * j + 0) hx hb hts in_X4 hown hw (xwv hj 0) rfl 3 (by decide) q232 rfl dX4_become_38 ?_
  refine n_callv (va_runS ⟨hx, hb, hml, hown, hts⟩ (tX4_copy l G _ (16 * i + 6) (16 * j + 6) _ _ _ _ _ (xr_i hi hij hVi (k := 6) (by decide) (by decide)) (xr_j hj (by decide) (by decide)) (by decide)) (va_cwS 2 hts (lw_S q777 q778 q97 q779) rfl rfl rfl (hdS_X4_copy).2 ⟨by decide, by decide⟩) hw.preS rfl rfl hl.1 rfl (lv_room (by simp [Value.category])) dX4_become_41 ⟨Nat.zero_le _, Nat.zero_le _⟩) hw (fun u_41 H locs e_41 hw => ?_)
  have hw := xE_cpy (k := 6) hj (by decide) (by decide) hw
  refine lv_aload_n hx hb dX4_become_44 rfl (lv_at hl 0 rfl) ?_
  refine lv_aload_n hx hb dX4_become_45 rfl (lv_at hl 1 rfl) ?_
  refine n_get (k := 16 * i + 0) hx hb hts in_X4 hown hw (xwi hi hij hVi 0) rfl 4 (by decide) q235 rfl dX4_become_46 ?_
  refine w_put hx hb hts hown hw hj 4 (by decide) q235 (pos := 3) rfl dX4_become_49 (fun H locs hw => ?_)
  refine lv_aload_n hx hb dX4_become_52 rfl (lv_at hl 0 rfl) ?_
  refine lv_aload_n hx hb dX4_become_53 rfl (lv_at hl 1 rfl) ?_
  refine n_get (k := 16 * i + 0) hx hb hts in_X4 hown hw (xwi hi hij hVi 0) rfl 5 (by decide) q237 rfl dX4_become_54 ?_
  refine w_put hx hb hts hown hw hj 5 (by decide) q237 (pos := 1) rfl dX4_become_57 (fun H locs hw => ?_)
  refine lv_aload_n hx hb dX4_become_60 rfl (lv_at hl 1 rfl) ?_
  refine n_get (k := 16 * i + 0) hx hb hts in_X4 hown hw (xwi hi hij hVi 0) rfl 6 (by decide) q240 rfl dX4_become_61 ?_
  refine lv_aload_n hx hb dX4_become_64 rfl (lv_at hl 0 rfl) ?_
  refine n_get (k := 16 * j + 0) hx hb hts in_X4 hown hw (xwv hj 0) rfl 6 (by decide) q240 rfl dX4_become_65 ?_
  refine n_callv (va_runS ⟨hx, hb, hml, hown, hts⟩ (tX4_copyAll l G ad _ _ _ _ i j hi hj hij _ _ ((va_up_ne _ _ hij).trans hVi) (va_up_self _ _ _) 8 7 5 (by decide)) (va_cwS 2 hts (lw_S q783 q784 q97 q785) rfl rfl rfl (hdS_X4_copyAll).2 ⟨by decide, by decide⟩) hw.preS rfl rfl hl.1 rfl (lv_room (by simp [Value.category])) dX4_become_68 ⟨Nat.zero_le _, Nat.zero_le _⟩) hw (fun u_68 H locs e_68 hw => ?_)
  (subst e_68; have hw : nS G (xE G ad (va_up (va_up V j _) j _) X sp sh) s H locs := hw; rw [va_up_up] at hw)
  refine lv_aload_n hx hb dX4_become_71 rfl (lv_at hl 0 rfl) ?_
  refine lv_aload_n hx hb dX4_become_72 rfl (lv_at hl 1 rfl) ?_
  refine n_get (k := 16 * i + 0) hx hb hts in_X4 hown hw (xwi hi hij hVi 0) rfl 7 (by decide) q245 rfl dX4_become_73 ?_
  refine w_put hx hb hts hown hw hj 7 (by decide) q245 (pos := 0) rfl dX4_become_76 (fun H locs hw => ?_)
  refine lv_aload_n hx hb dX4_become_79 rfl (lv_at hl 0 rfl) ?_
  refine lv_aload_n hx hb dX4_become_80 rfl (lv_at hl 1 rfl) ?_
  refine n_get (k := 16 * i + 0) hx hb hts in_X4 hown hw (xwi hi hij hVi 0) rfl 8 (by decide) q247 rfl dX4_become_81 ?_
  refine w_put hx hb hts hown hw hj 8 (by decide) q247 (pos := 2) rfl dX4_become_84 (fun H locs hw => ?_)
  refine lv_aload_n hx hb dX4_become_87 rfl (lv_at hl 1 rfl) ?_
  refine n_get (k := 16 * i + 0) hx hb hts in_X4 hown hw (xwi hi hij hVi 0) rfl 9 (by decide) q249 rfl dX4_become_88 ?_
  refine lv_aload_n hx hb dX4_become_91 rfl (lv_at hl 0 rfl) ?_
  refine n_get (k := 16 * j + 0) hx hb hts in_X4 hown hw (xwv hj 0) rfl 9 (by decide) q249 rfl dX4_become_92 ?_
  refine n_callv (va_runS ⟨hx, hb, hml, hown, hts⟩ (tX4_copy l G _ (16 * i + 13) (16 * j + 13) _ _ _ _ _ (xr_i hi hij hVi (k := 13) (by decide) (by decide)) (xr_j hj (by decide) (by decide)) (by decide)) (va_cwS 2 hts (lw_S q777 q778 q97 q779) rfl rfl rfl (hdS_X4_copy).2 ⟨by decide, by decide⟩) hw.preS rfl rfl hl.1 rfl (lv_room (by simp [Value.category])) dX4_become_95 ⟨Nat.zero_le _, Nat.zero_le _⟩) hw (fun u_95 H locs e_95 hw => ?_)
  have hw := xE_cpy (k := 13) hj (by decide) (by decide) hw
  have hw : nS G (xE G ad (va_up V j (allcp v w)) X sp sh) s H locs := hw
  have hw := xE_W (w' := v) hj hw (fun q hq => by rw [va_up_self]; exact allcp_eq v w q hq)
  rw [va_up_up] at hw
  exact n_vret hx hb hr hlk _ hw rfl dX4_become_98
