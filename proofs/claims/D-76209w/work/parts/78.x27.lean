/-! the class: texts -/
set_option maxRecDepth 100000
theorem sc_text {X Y : mM} (h : xFr (u2 (u2 X 33 0 (X 2 0)) 2 0 0) Y) : xSc (u2 X 2 0 0) Y := ⟨h 2 (by decide) (by decide) (by decide) (by decide), h 6 (by decide) (by decide) (by decide) (by decide), h 10 (by decide) (by decide) (by decide) (by decide), h 31 (by decide) (by decide) (by decide) (by decide)⟩
theorem hdS_X0_text : yX0_text.cls = "LineCalls" ∧ yX0_text.cls ≠ "java/lang/invoke/MethodHandle" ∧ yX0_text.cls ≠ "java/lang/invoke/VarHandle" ∧ (parseMethodDescriptor yX0_text.desc).map (fun d => d.parameters.length) = some 0 := by decide +kernel
set_option maxHeartbeats 4000000 in
theorem tL_text (l : Launch) (G : nG) (ad : Nat → Nat) (w w1 w2 w3 : rw84) (X : mM) (sp : xSp) (sh : xSh) (bt : Nat → Int32) (len : Nat) (hby : Byt bt len) (e2 : X 2 0 = nI len) (htp : ∀ k, k < len → X 31 k &&& 255 = bt k) (B : Nat) (hI : Inv B w) : Met l yX0_text (wsW_ yX0_text cX0_text 2 (some .int) [((30), (53), (54), (356))]) { frames := 12, cells := 0, slots := 0, locals := 259 } (va_Pc [.ref (ad 64)] (nC G (xE G ad (xV w w1 w2 w3) X sp sh))) (va_Qi (fun (r : Int32) (u : xSt) => r = (textO bt w).1 ∧ xU (textO bt w).2 w1 (u2 X 2 0 0) sh u) (fun u => nC G (xE G ad (xV u.1 u.2.1 u.2.2.1 u.2.2.2.1) u.2.2.2.2.1 u.2.2.2.2.2.1 u.2.2.2.2.2.2)) (nA G)) 0 0 (nA G) := by
  refine n_headW (by decide) (Nat.le_of_ble_eq_true rfl) ?_
  intro p e s m below meth c ls hx hb hr hlk hml hown hts htab hB0 hl
  have hown : s.vm.findClass "LineCalls" = some m.cls := hown
  have hw := nS.start hB0
  have hl : lv_has ls 2 [(0, .ref (ad 64))] := hl
  obtain ⟨n, hn, en⟩ := hI.num
  obtain ⟨R, hRs⟩ : ∃ R, wholeP bt 121 w 0 (tokF bt 0) = R := ⟨_, rfl⟩
  refine lv_aload_n hx hb dX0_text_0 rfl (lv_at hl 0 rfl) ?_
  refine n_get (k := 64) hx hb hts in_X0 hown hw (xp 64) rfl 1 (by decide) q411 rfl dX0_text_1 ?_
  refine lv_aload_n hx hb dX0_text_4 rfl (lv_at hl 0 rfl) ?_
  refine n_get (k := 64) hx hb hts in_X0 hown hw (xp 64) rfl 2 (by decide) q412 rfl dX0_text_5 ?_
  refine l_putL hx hb hts hown hw q280 dX0_text_8 (fun H locs hw => ?_)
  refine lv_aload_n hx hb dX0_text_11 rfl (lv_at hl 0 rfl) ?_
  refine lv_iconst (v := 0) hx hb dX0_text_12 (by decide) ?_
  refine l_put hx hb hts hown hw 2 (by decide) q412 rfl rfl dX0_text_13 (fun H locs hw => ?_)
  refine lv_aload_n hx hb dX0_text_16 rfl (lv_at hl 0 rfl) ?_
  refine n_get (k := 64) hx hb hts in_X0 hown hw (xp 64) rfl 1 (by decide) q411 rfl dX0_text_17 ?_
  refine n_getN (k := 66) hx hb hts in_X2 hown hw (xp 66) rfl 2 (by decide) q278 rfl dX0_text_20 ?_
  refine lv_aload_n hx hb dX0_text_23 rfl (lv_at hl 0 rfl) ?_
  refine n_get (k := 64) hx hb hts in_X0 hown hw (xp 64) rfl 3 (by decide) q418 rfl dX0_text_24 ?_
  refine n_callv (va_runV ⟨hx, hb, hml, hown, hts⟩ (tX4_become l G ad _ _ _ _ 3 (by decide) _ (xV_at3 _ _ _ _) 0 _ (by decide) (by decide) (xV_at0 _ _ _ _)) (cwV 1 hts (lw_V q773 q774 q775 q97 q776) rfl rfl rfl hdS_X4_become ⟨by decide, by decide⟩) (hw.preV (k := 16 * 3 + 0) (xv3 0) rfl) rfl rfl hl.1 rfl (lv_room (by simp [Value.category])) dX0_text_27 ⟨Nat.zero_le _, Nat.zero_le _⟩) hw (fun u_27 H locs e_27 hw => ?_)
  (replace e_27 : u_27 = _ := e_27; rw [e_27] at hw)
  have hw : nS G (xE G ad (va_up (xV _ _ _ _) 3 _) _ _ _) s H locs := hw
  rw [xV_3] at hw
  refine lv_aload_n hx hb dX0_text_30 rfl (lv_at hl 0 rfl) ?_
  refine n_get (k := 64) hx hb hts in_X0 hown hw (xp 64) rfl 1 (by decide) q411 rfl dX0_text_31 ?_
  refine x_callA ⟨hx, hb, hml, hown, hts⟩ (tR_whole l G ad _ _ _ _ _ _ _ bt len hby (show RdX bt len (u2 (u2 X 33 0 (X 2 0)) 2 0 0) from ⟨e2, htp⟩) n hn en R hRs) (cwV 0 hts (lw_V q976 q977 q978 q95 q979) rfl rfl rfl hdS_X2_whole ⟨by decide, by decide⟩) (hw.preV (k := 66) (xp 66) rfl) rfl hl.1 rfl (by simp [Value.category]) dX0_text_34 ⟨Nat.zero_le _, Nat.zero_le _⟩ hw (fun u_34 H locs e_34 hw => ?_) (fun u_34 H locs e_34 hw => ?_)
  · skip
    obtain ⟨qq, rfl, X1, rfl, hf1⟩ := e_34
    have hw : nS G (xE G ad (xV _ _ _ _) _ _ _) s H locs := hw
    refine n_topE (y := nI qq.1) rfl ?_
    refine lv_istore_n hx hb dX0_text_37 rfl hl (by decide) rfl (fun ls hl => ?_)
    refine lv_aload_n hx hb dX0_text_38 rfl (lv_at hl 1 rfl) ?_
    refine n_get (k := 64) hx hb hts in_X0 hown hw (xp 64) rfl 3 (by decide) q418 rfl dX0_text_39 ?_
    refine lv_aload_n hx hb dX0_text_42 rfl (lv_at hl 1 rfl) ?_
    refine n_get (k := 64) hx hb hts in_X0 hown hw (xp 64) rfl 1 (by decide) q411 rfl dX0_text_43 ?_
    refine n_getN (k := 66) hx hb hts in_X2 hown hw (xp 66) rfl 2 (by decide) q278 rfl dX0_text_46 ?_
    refine n_callv (va_runV ⟨hx, hb, hml, hown, hts⟩ (tX4_become l G ad _ _ _ _ 0 (by decide) _ (xV_at0 _ _ _ _) 3 _ (by decide) (by decide) (xV_at3 _ _ _ _)) (cwV 1 hts (lw_V q773 q774 q775 q97 q776) rfl rfl rfl hdS_X4_become ⟨by decide, by decide⟩) (hw.preV (k := 16 * 0 + 0) (xv0 0) rfl) rfl rfl hl.1 rfl (lv_room (by simp [Value.category])) dX0_text_49 ⟨Nat.zero_le _, Nat.zero_le _⟩) hw (fun u_49 H locs e_49 hw => ?_)
    (replace e_49 : u_49 = _ := e_49; rw [e_49] at hw)
    have hw : nS G (xE G ad (va_up (xV _ _ _ _) 0 _) _ _ _) s H locs := hw
    rw [xV_0] at hw
    refine lv_iload_n hx hb dX0_text_52 rfl (lv_at hl 0 rfl) ?_
    exact l_iret hx hb hr hlk rfl hw (by rw [textO, hRs]; exact ⟨rfl, xU.of (sc_text hf1)⟩) dX0_text_53
  · skip
    obtain ⟨z, rfl, X1, w3x, rfl, hR1, hf1⟩ := e_34
    have hw : nS G (xE G ad (xV _ _ _ _) _ _ _) s H locs := hw
    refine x_catch (k := 67) hown hts htab ⟨by decide, by decide⟩ (by decide) q975 hw (xp 67) rfl q198 ?_
    refine lv_astore_n hx hb dX0_text_54 rfl hl (by decide) rfl (fun ls hl => ?_)
    refine lv_iconst (v := (-1)) hx hb dX0_text_55 (by decide) ?_
    refine lv_aload_n hx hb dX0_text_56 rfl (lv_at hl 1 rfl) ?_
    refine n_get (k := 64) hx hb hts in_X0 hown hw (xp 64) rfl 1 (by decide) q411 rfl dX0_text_57 ?_
    refine n_getN (k := 66) hx hb hts in_X2 hown hw (xp 66) rfl 5 (by decide) q283 rfl dX0_text_60 ?_
    refine n_topE hR1 ?_
    refine lv_isub hx hb dX0_text_63 ?_
    exact l_iret hx hb hr hlk rfl hw (by rw [textO, hRs]; exact ⟨rfl, xU.of (sc_text hf1)⟩) dX0_text_64
