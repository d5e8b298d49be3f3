/-! the class: sheets, public, second part -/
set_option maxRecDepth 100000
theorem hdS_X0_fits : yX0_fits.cls = "LineCalls" ∧ yX0_fits.cls ≠ "java/lang/invoke/MethodHandle" ∧ yX0_fits.cls ≠ "java/lang/invoke/VarHandle" ∧ (parseMethodDescriptor yX0_fits.desc).map (fun d => d.parameters.length) = some 2 := by decide +kernel
set_option maxHeartbeats 4000000 in
theorem tL_fits (l : Launch) (G : nG) (ad : Nat → Nat) (w w1 w2 w3 : rw84) (X : mM) (sp : xSp) (sh : xSh) (t k : Int32) (wd sz nb : rw84) (hS : ShR sh wd sz nb) (B : Nat) (hI : Inv B w) (hB : B ≤ 100000) : Met l yX0_fits (wsW_ yX0_fits cX0_fits 4 (some .int) [((0), (11), (12), (59))]) { frames := 9, cells := 0, slots := 0, locals := 196 } (va_Pc [.ref (ad 64), .int t, .int k] (nC G (xE G ad (xV w w1 w2 w3) X sp sh))) (va_Qi (fun (r : Int32) (u : xSt) => r = (fitsO w wd sz nb t k).1 ∧ xU (fitsO w wd sz nb t k).2.1 w1 (xfnd (fitsO w wd sz nb t k).2.2 X) sh u) (fun u => nC G (xE G ad (xV u.1 u.2.1 u.2.2.1 u.2.2.2.1) u.2.2.2.2.1 u.2.2.2.2.2.1 u.2.2.2.2.2.2)) (nA G)) 0 0 (nA G) := by
  refine n_headW (by decide) (Nat.le_of_ble_eq_true rfl) ?_
  intro p e s m below meth c ls hx hb hr hlk hml hown hts htab hB0 hl
  have hown : s.vm.findClass "LineCalls" = some m.cls := hown
  have hw := nS.start hB0
  have hl : lv_has ls 4 [(0, .ref (ad 64)), (1, .int t), (2, .int k)] := hl
  obtain ⟨n1, hn1, en1⟩ := hI.num
  refine lv_aload_n hx hb dX0_fits_0 rfl (lv_at hl 0 rfl) ?_
  refine lv_aload_n hx hb dX0_fits_1 rfl (lv_at hl 0 rfl) ?_
  refine lv_iload_n hx hb dX0_fits_2 rfl (lv_at hl 1 rfl) ?_
  refine lv_iload_n hx hb dX0_fits_3 rfl (lv_at hl 2 rfl) ?_
  refine x_callA ⟨hx, hb, hml, hown, hts⟩ (tL_rowFor l G ad _ _ _ _ _ _ _ _ _) (cwV 2 hts (lw_V q915 q917 qs28 q90 q918) rfl rfl rfl hdS_X0_rowFor ⟨by decide, by decide⟩) (hw.preV (k := 64) (xp 64) rfl) rfl hl.1 rfl (by simp [Value.category]) dX0_fits_4 ⟨Nat.zero_le _, Nat.zero_le _⟩ hw (fun u_4 H locs e_4 hw => ?_) (fun u_4 H locs e_4 hw => ?_)
  · skip
    obtain ⟨t_4, m_4, k_4, rfl⟩ := e_4
    have hw : nS G (xE G ad (xV _ _ _ _) _ _ _) s H locs := hw
    obtain ⟨q, hq, rfl⟩ := in_nat (N := 3) rfl (by decide) t_4
    have iq : ix (nI q) = q := nI_clamp (by omega)
    rw [iq] at m_4 ⊢
    obtain ⟨⟨a, ty, n, f⟩, hsh⟩ := Option.ne_none_iff_exists'.mp m_4
    rw [hsh]
    obtain ⟨hty, hwdq, hn, hszq, hfq⟩ := hS.som (by omega) hsh
    obtain ⟨j, hjn, hj, rfl⟩ := in_num en1 hn1 k_4
    have ij : ix (nI j) = j := nI_clamp (by omega)
    refine lv_iload_n hx hb dX0_fits_7 rfl (lv_at hl 2 rfl) ?_
    refine n_calli (va_runV ⟨hx, hb, hml, hown, hts⟩ (tL_manyFits l G ad _ _ _ _ _ _ _ a ty n q B f hq hsh hty hn hI hB j hj) (cwV 2 hts (lw_V q919 q921 qs29 q90 q922) rfl rfl rfl hdS_X0_manyFits ⟨by decide, by decide⟩) (hw.preV (k := 64) (xp 64) rfl) rfl rfl hl.1 rfl (lv_room (by simp [Value.category])) dX0_fits_8 ⟨Nat.zero_le _, Nat.zero_le _⟩) hw (fun r_8 u_8 H locs e_8 hw => ?_)
    obtain ⟨rfl, g_8, rfl⟩ := e_8
    have hw : nS G (xE G ad (xV _ _ _ _) _ _ _) s H locs := hw
    exact l_iret hx hb hr hlk rfl hw (by rw [fitsO, lack_c hS hq t_4 hsh k_4, if_pos rfl, show fitG w sz nb (nI q) (nI j) = (fun v => soR f n 0 (upd w (44 + 5 * j + 1) (nI v))) from funext (fun v => by unfold fitG; rw [so_sh hS hq hsh, ij])]; exact ⟨rfl, xU.of ⟨rfl, rfl, rfl, rfl⟩⟩) dX0_fits_11
  · skip
    obtain ⟨k0, hLk, rfl⟩ := e_4
    have hw : nS G (xE G ad (xV _ _ _ _) _ _ _) s H locs := hw
    refine x_catch (k := 65) hown hts htab ⟨by decide, by decide⟩ (by decide) q122 hw (xp 65) rfl q124 ?_
    refine lv_astore_n hx hb dX0_fits_12 rfl hl (by decide) rfl (fun ls hl => ?_)
    have hk0 := hLk.lt
    refine lv_aload_n hx hb dX0_fits_13 rfl (lv_at hl 1 rfl) ?_
    refine lv_aload_n hx hb dX0_fits_14 rfl (lv_at hl 0 rfl) ?_
    refine n_getN (k := 65) hx hb hts in_X1 hown hw (xp 65) rfl 6 (by decide) q174 rfl dX0_fits_15 ?_
    refine n_topE (y := nI k0) rfl ?_
    refine n_calli (va_runV ⟨hx, hb, hml, hown, hts⟩ (tL_finding l G ad _ _ _ _ _ _ _ k0 hk0) (cwV 1 hts (lw_V q466 q468 qs3 q90 q469) rfl rfl rfl hdS_X0_finding ⟨by decide, by decide⟩) (hw.preV (k := 64) (xp 64) rfl) rfl rfl hl.1 rfl (lv_room (by simp [Value.category])) dX0_fits_18 ⟨Nat.zero_le _, Nat.zero_le _⟩) hw (fun r_18 u_18 H locs e_18 hw => ?_)
    obtain ⟨rfl, rfl⟩ := e_18
    have hw : nS G (xE G ad (xV _ _ _ _) _ _ _) s H locs := hw
    exact l_iret hx hb hr hlk rfl hw (by obtain ⟨g1, g2, g3⟩ := lk_of hS hLk; rw [fitsO, lkO g1 g2, g3]; exact ⟨rfl, xU.of ⟨rfl, rfl, rfl, rfl⟩⟩) dX0_fits_21
theorem hdS_X0_kinds : yX0_kinds.cls = "LineCalls" ∧ yX0_kinds.cls ≠ "java/lang/invoke/MethodHandle" ∧ yX0_kinds.cls ≠ "java/lang/invoke/VarHandle" ∧ (parseMethodDescriptor yX0_kinds.desc).map (fun d => d.parameters.length) = some 2 := by decide +kernel
set_option maxHeartbeats 4000000 in
theorem tL_kinds (l : Launch) (G : nG) (ad : Nat → Nat) (w w1 w2 w3 : rw84) (X : mM) (sp : xSp) (sh : xSh) (t k : Int32) (wd sz nb : rw84) (hS : ShR sh wd sz nb) (B : Nat) (hI : Inv B w) (hB : B ≤ 100000) : Met l yX0_kinds (wsW_ yX0_kinds cX0_kinds 4 (some .int) [((0), (11), (12), (59))]) { frames := 9, cells := 0, slots := 0, locals := 195 } (va_Pc [.ref (ad 64), .int t, .int k] (nC G (xE G ad (xV w w1 w2 w3) X sp sh))) (va_Qi (fun (r : Int32) (u : xSt) => r = (kindsO w wd sz nb t k).1 ∧ xU (kindsO w wd sz nb t k).2.1 w1 (xfnd (kindsO w wd sz nb t k).2.2 X) sh u) (fun u => nC G (xE G ad (xV u.1 u.2.1 u.2.2.1 u.2.2.2.1) u.2.2.2.2.1 u.2.2.2.2.2.1 u.2.2.2.2.2.2)) (nA G)) 0 0 (nA G) := by
  refine n_headW (by decide) (Nat.le_of_ble_eq_true rfl) ?_
  intro p e s m below meth c ls hx hb hr hlk hml hown hts htab hB0 hl
  have hown : s.vm.findClass "LineCalls" = some m.cls := hown
  have hw := nS.start hB0
  have hl : lv_has ls 4 [(0, .ref (ad 64)), (1, .int t), (2, .int k)] := hl
  obtain ⟨n1, hn1, en1⟩ := hI.num
  refine lv_aload_n hx hb dX0_kinds_0 rfl (lv_at hl 0 rfl) ?_
  refine lv_aload_n hx hb dX0_kinds_1 rfl (lv_at hl 0 rfl) ?_
  refine lv_iload_n hx hb dX0_kinds_2 rfl (lv_at hl 1 rfl) ?_
  refine lv_iload_n hx hb dX0_kinds_3 rfl (lv_at hl 2 rfl) ?_
  refine x_callA ⟨hx, hb, hml, hown, hts⟩ (tL_rowFor l G ad _ _ _ _ _ _ _ _ _) (cwV 2 hts (lw_V q915 q917 qs28 q90 q918) rfl rfl rfl hdS_X0_rowFor ⟨by decide, by decide⟩) (hw.preV (k := 64) (xp 64) rfl) rfl hl.1 rfl (by simp [Value.category]) dX0_kinds_4 ⟨Nat.zero_le _, Nat.zero_le _⟩ hw (fun u_4 H locs e_4 hw => ?_) (fun u_4 H locs e_4 hw => ?_)
  · skip
    obtain ⟨t_4, m_4, k_4, rfl⟩ := e_4
    have hw : nS G (xE G ad (xV _ _ _ _) _ _ _) s H locs := hw
    obtain ⟨q, hq, rfl⟩ := in_nat (N := 3) rfl (by decide) t_4
    have iq : ix (nI q) = q := nI_clamp (by omega)
    rw [iq] at m_4 ⊢
    obtain ⟨⟨a, ty, n, f⟩, hsh⟩ := Option.ne_none_iff_exists'.mp m_4
    rw [hsh]
    obtain ⟨hty, hwdq, hn, hszq, hfq⟩ := hS.som (by omega) hsh
    obtain ⟨j, hjn, hj, rfl⟩ := in_num en1 hn1 k_4
    have ij : ix (nI j) = j := nI_clamp (by omega)
    refine lv_iload_n hx hb dX0_kinds_7 rfl (lv_at hl 2 rfl) ?_
    refine n_calli (va_runV ⟨hx, hb, hml, hown, hts⟩ (tL_kindsThatFit l G ad _ _ _ _ _ _ _ a ty n q B f hq hsh hty hn hI hB j hj) (cwV 2 hts (lw_V q931 q933 qs30 q90 q934) rfl rfl rfl hdS_X0_kindsThatFit ⟨by decide, by decide⟩) (hw.preV (k := 64) (xp 64) rfl) rfl rfl hl.1 rfl (lv_room (by simp [Value.category])) dX0_kinds_8 ⟨Nat.zero_le _, Nat.zero_le _⟩) hw (fun r_8 u_8 H locs e_8 hw => ?_)
    obtain ⟨rfl, g_8, rfl⟩ := e_8
    have hw : nS G (xE G ad (xV _ _ _ _) _ _ _) s H locs := hw
    exact l_iret hx hb hr hlk rfl hw (by rw [kindsO, lack_c hS hq t_4 hsh k_4, if_pos rfl, ij, show (fun v => soR (shR nb (nI q)) (ix (sz (ix (nI q)))) 0 (upd w (44 + 5 * j + 0) (nI v))) = (fun v => soR f n 0 (upd w (44 + 5 * j + 0) (nI v))) from funext (fun v => so_sh hS hq hsh _)]; exact ⟨rfl, xU.of (xSc.rf _)⟩) dX0_kinds_11
  · skip
    obtain ⟨k0, hLk, rfl⟩ := e_4
    have hw : nS G (xE G ad (xV _ _ _ _) _ _ _) s H locs := hw
    refine x_catch (k := 65) hown hts htab ⟨by decide, by decide⟩ (by decide) q122 hw (xp 65) rfl q124 ?_
    refine lv_astore_n hx hb dX0_kinds_12 rfl hl (by decide) rfl (fun ls hl => ?_)
    have hk0 := hLk.lt
    refine lv_aload_n hx hb dX0_kinds_13 rfl (lv_at hl 1 rfl) ?_
    refine lv_aload_n hx hb dX0_kinds_14 rfl (lv_at hl 0 rfl) ?_
    refine n_getN (k := 65) hx hb hts in_X1 hown hw (xp 65) rfl 6 (by decide) q174 rfl dX0_kinds_15 ?_
    refine n_topE (y := nI k0) rfl ?_
    refine n_calli (va_runV ⟨hx, hb, hml, hown, hts⟩ (tL_finding l G ad _ _ _ _ _ _ _ k0 hk0) (cwV 1 hts (lw_V q466 q468 qs3 q90 q469) rfl rfl rfl hdS_X0_finding ⟨by decide, by decide⟩) (hw.preV (k := 64) (xp 64) rfl) rfl rfl hl.1 rfl (lv_room (by simp [Value.category])) dX0_kinds_18 ⟨Nat.zero_le _, Nat.zero_le _⟩) hw (fun r_18 u_18 H locs e_18 hw => ?_)
    obtain ⟨rfl, rfl⟩ := e_18
    have hw : nS G (xE G ad (xV _ _ _ _) _ _ _) s H locs := hw
    exact l_iret hx hb hr hlk rfl hw (by obtain ⟨g1, g2, g3⟩ := lk_of hS hLk; rw [kindsO, lkO g1 g2, g3]; exact ⟨rfl, xU.of ⟨rfl, rfl, rfl, rfl⟩⟩) dX0_kinds_21
theorem hdS_X0_tall : yX0_tall.cls = "LineCalls" ∧ yX0_tall.cls ≠ "java/lang/invoke/MethodHandle" ∧ yX0_tall.cls ≠ "java/lang/invoke/VarHandle" ∧ (parseMethodDescriptor yX0_tall.desc).map (fun d => d.parameters.length) = some 2 := by decide +kernel
set_option maxHeartbeats 4000000 in
theorem tL_tall (l : Launch) (G : nG) (ad : Nat → Nat) (w w1 w2 w3 : rw84) (X : mM) (sp : xSp) (sh : xSh) (t k : Int32) (wd sz nb : rw84) (hS : ShR sh wd sz nb) (B : Nat) (hI : Inv B w) (hB : B ≤ 100000) : Met l yX0_tall (wsW_ yX0_tall cX0_tall 4 (some .int) [((0), (28), (29), (59))]) { frames := 9, cells := 0, slots := 0, locals := 196 } (va_Pc [.ref (ad 64), .int t, .int k] (nC G (xE G ad (xV w w1 w2 w3) X sp sh))) (va_Qi (fun (r : Int32) (u : xSt) => r = (tallO w wd sz nb t k).1 ∧ xU (tallO w wd sz nb t k).2.1 w1 (xfnd (tallO w wd sz nb t k).2.2 X) sh u) (fun u => nC G (xE G ad (xV u.1 u.2.1 u.2.2.1 u.2.2.2.1) u.2.2.2.2.1 u.2.2.2.2.2.1 u.2.2.2.2.2.2)) (nA G)) 0 0 (nA G) := by
  refine n_headW (by decide) (Nat.le_of_ble_eq_true rfl) ?_
  intro p e s m below meth c ls hx hb hr hlk hml hown hts htab hB0 hl
  have hown : s.vm.findClass "LineCalls" = some m.cls := hown
  have hw := nS.start hB0
  have hl : lv_has ls 4 [(0, .ref (ad 64)), (1, .int t), (2, .int k)] := hl
  obtain ⟨n1, hn1, en1⟩ := hI.num
  refine lv_aload_n hx hb dX0_tall_0 rfl (lv_at hl 0 rfl) ?_
  refine lv_aload_n hx hb dX0_tall_1 rfl (lv_at hl 0 rfl) ?_
  refine lv_aload_n hx hb dX0_tall_2 rfl (lv_at hl 0 rfl) ?_
  refine lv_iload_n hx hb dX0_tall_3 rfl (lv_at hl 1 rfl) ?_
  refine lv_iload_n hx hb dX0_tall_4 rfl (lv_at hl 2 rfl) ?_
  refine x_callA ⟨hx, hb, hml, hown, hts⟩ (tL_rowFor l G ad _ _ _ _ _ _ _ _ _) (cwV 2 hts (lw_V q915 q917 qs28 q90 q918) rfl rfl rfl hdS_X0_rowFor ⟨by decide, by decide⟩) (hw.preV (k := 64) (xp 64) rfl) rfl hl.1 rfl (by simp [Value.category]) dX0_tall_5 ⟨Nat.zero_le _, Nat.zero_le _⟩ hw (fun u_5 H locs e_5 hw => ?_) (fun u_5 H locs e_5 hw => ?_)
  · skip
    obtain ⟨t_5, m_5, k_5, rfl⟩ := e_5
    have hw : nS G (xE G ad (xV _ _ _ _) _ _ _) s H locs := hw
    obtain ⟨q, hq, rfl⟩ := in_nat (N := 3) rfl (by decide) t_5
    have iq : ix (nI q) = q := nI_clamp (by omega)
    rw [iq] at m_5 ⊢
    obtain ⟨⟨a, ty, n, f⟩, hsh⟩ := Option.ne_none_iff_exists'.mp m_5
    rw [hsh]
    obtain ⟨hty, hwdq, hn, hszq, hfq⟩ := hS.som (by omega) hsh
    obtain ⟨j, hjn, hj, rfl⟩ := in_num en1 hn1 k_5
    have ij : ix (nI j) = j := nI_clamp (by omega)
    refine lv_iload_n hx hb dX0_tall_8 rfl (lv_at hl 2 rfl) ?_
    refine n_calli (va_runV ⟨hx, hb, hml, hown, hts⟩ (tL_manyFits l G ad _ _ _ _ _ _ _ a ty n q B f hq hsh hty hn hI hB j hj) (cwV 2 hts (lw_V q919 q921 qs29 q90 q922) rfl rfl rfl hdS_X0_manyFits ⟨by decide, by decide⟩) (hw.preV (k := 64) (xp 64) rfl) rfl rfl hl.1 rfl (lv_room (by simp [Value.category])) dX0_tall_9 ⟨Nat.zero_le _, Nat.zero_le _⟩) hw (fun r_9 u_9 H locs e_9 hw => ?_)
    obtain ⟨rfl, g_9, rfl⟩ := e_9
    have hw : nS G (xE G ad (xV _ _ _ _) _ _ _) s H locs := hw
    refine lv_if_le (tgt := 19) hx hb dX0_tall_12 (by decide) (fun c_12 => ?_) (fun c_12 => ?_)
    · skip
      refine lv_iconst (v := 0) hx hb dX0_tall_19 (by decide) ?_
      refine lv_iconst (v := 3) hx hb dX0_tall_20 (by decide) ?_
      refine x_callN ⟨hx, hb, hml, hown, hts⟩ (tL_need l G ad _ _ _ _ _ _ _ _ (3)) (cwV 2 hts (lw_V q886 q888 qs24 q90 q889) rfl rfl rfl hdS_X0_need ⟨by decide, by decide⟩) (hw.preV (k := 64) (xp 64) rfl) rfl hl.1 rfl (by simp [Value.category]) dX0_tall_21 ⟨Nat.zero_le _, Nat.zero_le _⟩ hw (fun u_21 H locs e_21 hw => ?_) (fun u_21 H locs e_21 hw => ?_)
      · skip
        obtain ⟨t_21, rfl⟩ := e_21
        have hw : nS G (xE G ad (xV _ _ _ _) _ _ _) s H locs := hw
        exact absurd rfl t_21
      · skip
        obtain ⟨t_21, rfl⟩ := e_21
        have hw : nS G (xE G ad (xV _ _ _ _) _ _ _) s H locs := hw
        refine x_catch (k := 65) hown hts htab ⟨by decide, by decide⟩ (by decide) q122 hw (xp 65) rfl q124 ?_
        refine lv_astore_n hx hb dX0_tall_29 rfl hl (by decide) rfl (fun ls hl => ?_)
        refine lv_aload_n hx hb dX0_tall_30 rfl (lv_at hl 1 rfl) ?_
        refine lv_aload_n hx hb dX0_tall_31 rfl (lv_at hl 0 rfl) ?_
        refine n_getN (k := 65) hx hb hts in_X1 hown hw (xp 65) rfl 6 (by decide) q174 rfl dX0_tall_32 ?_
        refine n_topE (y := nI 3) rfl ?_
        refine n_calli (va_runV ⟨hx, hb, hml, hown, hts⟩ (tL_finding l G ad _ _ _ _ _ _ _ 3 (by decide)) (cwV 1 hts (lw_V q466 q468 qs3 q90 q469) rfl rfl rfl hdS_X0_finding ⟨by decide, by decide⟩) (hw.preV (k := 64) (xp 64) rfl) rfl rfl hl.1 rfl (lv_room (by simp [Value.category])) dX0_tall_35 ⟨Nat.zero_le _, Nat.zero_le _⟩) hw (fun r_35 u_35 H locs e_35 hw => ?_)
        obtain ⟨rfl, rfl⟩ := e_35
        have hw : nS G (xE G ad (xV _ _ _ _) _ _ _) s H locs := hw
        exact l_iret hx hb hr hlk rfl hw (by rw [tallO, lack_c hS hq t_5 hsh k_5, if_pos rfl, show fitG w sz nb (nI q) (nI j) = (fun v => soR f n 0 (upd w (44 + 5 * j + 1) (nI v))) from funext (fun v => by unfold fitG; rw [so_sh hS hq hsh, ij]), fit_no (x0 := X 11 0) c_12, noneO, if_neg (by decide)]; exact ⟨f_3, xU.of ⟨rfl, rfl, rfl, rfl⟩⟩) dX0_tall_38
    · skip
      refine lv_iconst (v := 1) hx hb dX0_tall_15 (by decide) ?_
      refine lv_goto (tgt := 20) hx hb dX0_tall_16 (by decide) ?_
      refine lv_iconst (v := 3) hx hb dX0_tall_20 (by decide) ?_
      refine x_callN ⟨hx, hb, hml, hown, hts⟩ (tL_need l G ad _ _ _ _ _ _ _ _ (3)) (cwV 2 hts (lw_V q886 q888 qs24 q90 q889) rfl rfl rfl hdS_X0_need ⟨by decide, by decide⟩) (hw.preV (k := 64) (xp 64) rfl) rfl hl.1 rfl (by simp [Value.category]) dX0_tall_21 ⟨Nat.zero_le _, Nat.zero_le _⟩ hw (fun u_21 H locs e_21 hw => ?_) (fun u_21 H locs e_21 hw => ?_)
      · skip
        obtain ⟨t_21, rfl⟩ := e_21
        have hw : nS G (xE G ad (xV _ _ _ _) _ _ _) s H locs := hw
        refine lv_aload_n hx hb dX0_tall_24 rfl (lv_at hl 0 rfl) ?_
        refine n_get (k := 64) hx hb hts in_X0 hown hw (xp 64) rfl 11 (by decide) q426 rfl dX0_tall_25 ?_
        exact l_iret hx hb hr hlk rfl hw (by rw [tallO, lack_c hS hq t_5 hsh k_5, if_pos rfl, show fitG w sz nb (nI q) (nI j) = (fun v => soR f n 0 (upd w (44 + 5 * j + 1) (nI v))) from funext (fun v => by unfold fitG; rw [so_sh hS hq hsh, ij]), noneO, if_pos (fit_yes (x0 := X 11 0) c_12).1]; exact ⟨(fit_yes (x0 := X 11 0) c_12).2, xU.of ⟨rfl, rfl, rfl, rfl⟩⟩) dX0_tall_28
      · skip
        obtain ⟨t_21, rfl⟩ := e_21
        have hw : nS G (xE G ad (xV _ _ _ _) _ _ _) s H locs := hw
        exact absurd t_21 (by decide)
  · skip
    obtain ⟨k0, hLk, rfl⟩ := e_5
    have hw : nS G (xE G ad (xV _ _ _ _) _ _ _) s H locs := hw
    refine x_catch (k := 65) hown hts htab ⟨by decide, by decide⟩ (by decide) q122 hw (xp 65) rfl q124 ?_
    refine lv_astore_n hx hb dX0_tall_29 rfl hl (by decide) rfl (fun ls hl => ?_)
    have hk0 := hLk.lt
    refine lv_aload_n hx hb dX0_tall_30 rfl (lv_at hl 1 rfl) ?_
    refine lv_aload_n hx hb dX0_tall_31 rfl (lv_at hl 0 rfl) ?_
    refine n_getN (k := 65) hx hb hts in_X1 hown hw (xp 65) rfl 6 (by decide) q174 rfl dX0_tall_32 ?_
    refine n_topE (y := nI k0) rfl ?_
    refine n_calli (va_runV ⟨hx, hb, hml, hown, hts⟩ (tL_finding l G ad _ _ _ _ _ _ _ k0 hk0) (cwV 1 hts (lw_V q466 q468 qs3 q90 q469) rfl rfl rfl hdS_X0_finding ⟨by decide, by decide⟩) (hw.preV (k := 64) (xp 64) rfl) rfl rfl hl.1 rfl (lv_room (by simp [Value.category])) dX0_tall_35 ⟨Nat.zero_le _, Nat.zero_le _⟩) hw (fun r_35 u_35 H locs e_35 hw => ?_)
    obtain ⟨rfl, rfl⟩ := e_35
    have hw : nS G (xE G ad (xV _ _ _ _) _ _ _) s H locs := hw
    exact l_iret hx hb hr hlk rfl hw (by obtain ⟨g1, g2, g3⟩ := lk_of hS hLk; rw [tallO, lkO g1 g2, g3]; exact ⟨rfl, xU.of ⟨rfl, rfl, rfl, rfl⟩⟩) dX0_tall_38
theorem ShR.write {sh : xSh} {wd sz nb : rw84} (h : ShR sh wd sz nb) {t a ty n z : Nat} {f : Nat → Int32} (ht : t < 4) (e : sh t = some (a, ty, n, f)) (hz : z < n) (v : Int32) : ShR (va_up sh t (some (a, ty, n, upd f z (cutT ty v)))) wd sz (upd nb (40 * t + z) (cutT ty v)) := by
  obtain ⟨h1, h2, h3, h4, h5⟩ := h.som ht e
  intro k hk
  by_cases hkt : k = t
  · subst hkt
    rw [va_up_self]
    refine ⟨h1, h2, h3, h4, fun i hi => ?_⟩
    by_cases hiz : i = z
    · subst hiz
      dsimp only
      rw [pk_us, pk_us]
      refine ⟨rfl, ?_⟩
      match ty, h1 with
      | 0, _ => rfl
      | 1, _ => exact b8_b8 v
      | 2, _ => exact b16_b16 v
    · dsimp only
      rw [up_ne hiz, up_ne (by omega)]
      exact h5 i hi
  · rw [va_up_ne _ _ hkt]
    have := h k hk
    cases hs : sh k with
    | none => rw [hs] at this; exact this
    | some q =>
      rw [hs] at this
      obtain ⟨g1, g2, g3, g4, g5⟩ := this
      refine ⟨g1, g2, g3, g4, fun i hi => ?_⟩
      rw [up_ne (by omega)]
      exact g5 i hi
theorem hdS_X0_write : yX0_write.cls = "LineCalls" ∧ yX0_write.cls ≠ "java/lang/invoke/MethodHandle" ∧ yX0_write.cls ≠ "java/lang/invoke/VarHandle" ∧ (parseMethodDescriptor yX0_write.desc).map (fun d => d.parameters.length) = some 3 := by decide +kernel
set_option maxHeartbeats 4000000 in
theorem tL_write (l : Launch) (G : nG) (ad : Nat → Nat) (w w1 w2 w3 : rw84) (X : mM) (sp : xSp) (sh : xSh) (t x v : Int32) (wd sz nb : rw84) (hS : ShR sh wd sz nb) : Met l yX0_write (wsW_ yX0_write cX0_write 5 (some .int) [((0), (47), (48), (59))]) { frames := 3, cells := 0, slots := 0, locals := 64 } (va_Pc [.ref (ad 64), .int t, .int x, .int v] (nC G (xE G ad (xV w w1 w2 w3) X sp sh))) (va_Qi (fun (r : Int32) (u : xSt) => r = (writeO wd sz nb t x v).1 ∧ ∃ sh', ShR sh' (writeO wd sz nb t x v).2.2.1 (writeO wd sz nb t x v).2.2.2.1 (writeO wd sz nb t x v).2.2.2.2 ∧ xU w w1 (xfnd (writeO wd sz nb t x v).2.1 X) sh' u) (fun u => nC G (xE G ad (xV u.1 u.2.1 u.2.2.1 u.2.2.2.1) u.2.2.2.2.1 u.2.2.2.2.2.1 u.2.2.2.2.2.2)) (nA G)) 0 0 (nA G) := by
  refine n_headW (by decide) (Nat.le_of_ble_eq_true rfl) ?_
  intro p e s m below meth c ls hx hb hr hlk hml hown hts htab hB0 hl
  have hown : s.vm.findClass "LineCalls" = some m.cls := hown
  have hw := nS.start hB0
  have hl : lv_has ls 5 [(0, .ref (ad 64)), (1, .int t), (2, .int x), (3, .int v)] := hl
  refine lv_aload_n hx hb dX0_write_0 rfl (lv_at hl 0 rfl) ?_
  refine lv_iload_n hx hb dX0_write_1 rfl (lv_at hl 1 rfl) ?_
  refine x_callA ⟨hx, hb, hml, hown, hts⟩ (tL_rowAt l G ad _ _ _ _ _ _ _ _) (cwV 1 hts (lw_V q879 q881 qs23 q90 q882) rfl rfl rfl hdS_X0_rowAt ⟨by decide, by decide⟩) (hw.preV (k := 64) (xp 64) rfl) rfl hl.1 rfl (by simp [Value.category]) dX0_write_2 ⟨Nat.zero_le _, Nat.zero_le _⟩ hw (fun u_2 H locs e_2 hw => ?_) (fun u_2 H locs e_2 hw => ?_)
  · skip
    obtain ⟨t_2, rfl⟩ := e_2
    have hw : nS G (xE G ad (xV _ _ _ _) _ _ _) s H locs := hw
    obtain ⟨q, hq, rfl⟩ := in_nat (N := 3) rfl (by decide) t_2
    have iq : ix (nI q) = q := nI_clamp (by omega)
    rw [iq]
    rcases hsh : sh q with _ | ⟨a, ty, n, f⟩
    · skip
      refine lv_astoreN hx hb dX0_write_5 hl (by decide) rfl (fun ls hl => ?_)
      refine lv_aload_n hx hb dX0_write_7 rfl (lv_at hl 1 rfl) ?_
      refine lv_aloadN hx hb dX0_write_8 (lv_at hl 0 rfl) ?_
      refine lv_ifnullN (tgt := 17) hx hb dX0_write_10 (by decide) ?_
      refine lv_iconst (v := 0) hx hb dX0_write_17 (by decide) ?_
      refine lv_iconst (v := 5) hx hb dX0_write_18 (by decide) ?_
      refine x_callN ⟨hx, hb, hml, hown, hts⟩ (tL_need l G ad _ _ _ _ _ _ _ _ (5)) (cwV 2 hts (lw_V q886 q888 qs24 q90 q889) rfl rfl rfl hdS_X0_need ⟨by decide, by decide⟩) (hw.preV (k := 64) (xp 64) rfl) rfl hl.1 rfl (by simp [Value.category]) dX0_write_19 ⟨Nat.zero_le _, Nat.zero_le _⟩ hw (fun u_19 H locs e_19 hw => ?_) (fun u_19 H locs e_19 hw => ?_)
      · skip
        obtain ⟨t_19, rfl⟩ := e_19
        have hw : nS G (xE G ad (xV _ _ _ _) _ _ _) s H locs := hw
        exact absurd rfl t_19
      · skip
        obtain ⟨t_19, rfl⟩ := e_19
        have hw : nS G (xE G ad (xV _ _ _ _) _ _ _) s H locs := hw
        refine x_catch (k := 65) hown hts htab ⟨by decide, by decide⟩ (by decide) q122 hw (xp 65) rfl q124 ?_
        refine lv_astore hx hb dX0_write_48 hl (by decide) rfl (fun ls hl => ?_)
        refine lv_aload_n hx hb dX0_write_50 rfl (lv_at hl 1 rfl) ?_
        refine lv_aload hx hb dX0_write_51 (lv_at hl 0 rfl) ?_
        refine n_getN (k := 65) hx hb hts in_X1 hown hw (xp 65) rfl 6 (by decide) q174 rfl dX0_write_53 ?_
        refine n_topE (y := nI 5) rfl ?_
        refine n_calli (va_runV ⟨hx, hb, hml, hown, hts⟩ (tL_finding l G ad _ _ _ _ _ _ _ 5 (by decide)) (cwV 1 hts (lw_V q466 q468 qs3 q90 q469) rfl rfl rfl hdS_X0_finding ⟨by decide, by decide⟩) (hw.preV (k := 64) (xp 64) rfl) rfl rfl hl.1 rfl (lv_room (by simp [Value.category])) dX0_write_56 ⟨Nat.zero_le _, Nat.zero_le _⟩) hw (fun r_56 u_56 H locs e_56 hw => ?_)
        obtain ⟨rfl, rfl⟩ := e_56
        have hw : nS G (xE G ad (xV _ _ _ _) _ _ _) s H locs := hw
        exact l_iret hx hb hr hlk rfl hw (by first | (rw [writeO, if_pos t_2]; exact ⟨by first | exact f_0 | exact f_5 | exact f_2 | exact f_3 | exact f_6, sh, hS, xU.of ⟨rfl, rfl, rfl, rfl⟩⟩) | (rw [writeO, if_neg t_2, iq, if_pos (hS.non (by omega) hsh).1]; exact ⟨by first | exact f_0 | exact f_5 | exact f_2 | exact f_3 | exact f_6, sh, hS, xU.of ⟨rfl, rfl, rfl, rfl⟩⟩) | (rw [writeO, if_neg t_2, iq, hwdq, if_neg (wdT_ne hty), hszq, if_pos t_36]; exact ⟨by first | exact f_0 | exact f_5 | exact f_2 | exact f_3 | exact f_6, sh, hS, xU.of ⟨rfl, rfl, rfl, rfl⟩⟩)) dX0_write_59
    · skip
      obtain ⟨hty, hwdq, hn, hszq, hfq⟩ := hS.som (by omega) hsh
      refine lv_astore hx hb dX0_write_5 hl (by decide) rfl (fun ls hl => ?_)
      refine lv_aload_n hx hb dX0_write_7 rfl (lv_at hl 1 rfl) ?_
      refine lv_aload hx hb dX0_write_8 (lv_at hl 0 rfl) ?_
      refine lv_ifnull hx hb dX0_write_10 ?_
      refine lv_iconst (v := 1) hx hb dX0_write_13 (by decide) ?_
      refine lv_goto (tgt := 18) hx hb dX0_write_14 (by decide) ?_
      refine lv_iconst (v := 5) hx hb dX0_write_18 (by decide) ?_
      refine x_callN ⟨hx, hb, hml, hown, hts⟩ (tL_need l G ad _ _ _ _ _ _ _ _ (5)) (cwV 2 hts (lw_V q886 q888 qs24 q90 q889) rfl rfl rfl hdS_X0_need ⟨by decide, by decide⟩) (hw.preV (k := 64) (xp 64) rfl) rfl hl.1 rfl (by simp [Value.category]) dX0_write_19 ⟨Nat.zero_le _, Nat.zero_le _⟩ hw (fun u_19 H locs e_19 hw => ?_) (fun u_19 H locs e_19 hw => ?_)
      · skip
        obtain ⟨t_19, rfl⟩ := e_19
        have hw : nS G (xE G ad (xV _ _ _ _) _ _ _) s H locs := hw
        refine lv_aload_n hx hb dX0_write_22 rfl (lv_at hl 1 rfl) ?_
        refine lv_iload_n hx hb dX0_write_23 rfl (lv_at hl 3 rfl) ?_
        refine lv_iconst (v := 0) hx hb dX0_write_24 (by decide) ?_
        refine lv_aload hx hb dX0_write_25 (lv_at hl 0 rfl) ?_
        refine n_callp (va_runS ⟨hx, hb, hml, hown, hts⟩ (tX_length l G _ (320 + q) ty n a f (sh_at (by omega) hsh) hty hn) (va_cwS 1 hts (lw_S q902 q903 q90 q904) rfl rfl rfl (hdS_X0_length).2 ⟨by decide, by decide⟩) hw.preS rfl rfl hl.1 rfl (lv_room (by simp [Value.category])) dX0_write_27 ⟨Nat.zero_le _, Nat.zero_le _⟩) (fun r_27 e_27 => ?_)
        subst e_27
        refine lv_iconst (v := 1) hx hb dX0_write_30 (by decide) ?_
        refine lv_isub hx hb dX0_write_31 ?_
        refine n_callp (va_runS ⟨hx, hb, hml, hown, hts⟩ (tX_in l _ _ _) (va_cwS 3 hts (lw_S q459 q460 q90 q461) rfl rfl rfl (hdS_X0_in).2 ⟨by decide, by decide⟩) pu_pre rfl rfl hl.1 rfl (lv_room (by simp [Value.category])) dX0_write_32 ⟨Nat.zero_le _, Nat.zero_le _⟩) (fun r_32 e_32 => ?_)
        subst e_32
        refine lv_iconst (v := 0) hx hb dX0_write_35 (by decide) ?_
        refine x_callN ⟨hx, hb, hml, hown, hts⟩ (tL_need l G ad _ _ _ _ _ _ _ _ (0)) (cwV 2 hts (lw_V q886 q888 qs24 q90 q889) rfl rfl rfl hdS_X0_need ⟨by decide, by decide⟩) (hw.preV (k := 64) (xp 64) rfl) rfl hl.1 rfl (by simp [Value.category]) dX0_write_36 ⟨Nat.zero_le _, Nat.zero_le _⟩ hw (fun u_36 H locs e_36 hw => ?_) (fun u_36 H locs e_36 hw => ?_)
        · skip
          obtain ⟨t_36, rfl⟩ := e_36
          have hw : nS G (xE G ad (xV _ _ _ _) _ _ _) s H locs := hw
          obtain ⟨z, hz, rfl⟩ := in_sz rfl hn t_36
          have iz : ix (nI z) = z := nI_clamp (by omega)
          refine lv_aload hx hb dX0_write_39 (lv_at hl 0 rfl) ?_
          refine lv_iload_n hx hb dX0_write_41 rfl (lv_at hl 3 rfl) ?_
          refine lv_iload_n hx hb dX0_write_42 rfl (lv_at hl 4 rfl) ?_
          refine n_callv (va_runS ⟨hx, hb, hml, hown, hts⟩ (tX_lay l G _ (320 + q) ty n a f (sh_at (by omega) hsh) hty hn (z) _ (by omega)) (va_cwS 3 hts (lw_S q1133 q1134 q90 q1135) rfl rfl rfl (hdS_X0_lay).2 ⟨by decide, by decide⟩) hw.preS rfl rfl hl.1 rfl (lv_room (by simp [Value.category])) dX0_write_43 ⟨Nat.zero_le _, Nat.zero_le _⟩) hw (fun u_43 H locs e_43 hw => ?_)
          have hw := n_E (xE_sha (by omega) hsh) hw
          refine lv_iconst (v := 1) hx hb dX0_write_46 (by decide) ?_
          exact l_iret hx hb hr hlk rfl hw (by rw [writeO, if_neg t_2, iq, hwdq, if_neg (wdT_ne hty), hszq, if_neg t_36, iz, ← cut_T ty hty]; exact ⟨rfl, _, hS.write (by omega) hsh hz v, xU.of (xSc.rf _)⟩) dX0_write_47
        · skip
          obtain ⟨t_36, rfl⟩ := e_36
          have hw : nS G (xE G ad (xV _ _ _ _) _ _ _) s H locs := hw
          refine x_catch (k := 65) hown hts htab ⟨by decide, by decide⟩ (by decide) q122 hw (xp 65) rfl q124 ?_
          refine lv_astore hx hb dX0_write_48 hl (by decide) rfl (fun ls hl => ?_)
          refine lv_aload_n hx hb dX0_write_50 rfl (lv_at hl 1 rfl) ?_
          refine lv_aload hx hb dX0_write_51 (lv_at hl 0 rfl) ?_
          refine n_getN (k := 65) hx hb hts in_X1 hown hw (xp 65) rfl 6 (by decide) q174 rfl dX0_write_53 ?_
          refine n_topE (y := nI 0) rfl ?_
          refine n_calli (va_runV ⟨hx, hb, hml, hown, hts⟩ (tL_finding l G ad _ _ _ _ _ _ _ 0 (by decide)) (cwV 1 hts (lw_V q466 q468 qs3 q90 q469) rfl rfl rfl hdS_X0_finding ⟨by decide, by decide⟩) (hw.preV (k := 64) (xp 64) rfl) rfl rfl hl.1 rfl (lv_room (by simp [Value.category])) dX0_write_56 ⟨Nat.zero_le _, Nat.zero_le _⟩) hw (fun r_56 u_56 H locs e_56 hw => ?_)
          obtain ⟨rfl, rfl⟩ := e_56
          have hw : nS G (xE G ad (xV _ _ _ _) _ _ _) s H locs := hw
          exact l_iret hx hb hr hlk rfl hw (by first | (rw [writeO, if_pos t_2]; exact ⟨by first | exact f_0 | exact f_5 | exact f_2 | exact f_3 | exact f_6, sh, hS, xU.of ⟨rfl, rfl, rfl, rfl⟩⟩) | (rw [writeO, if_neg t_2, iq, if_pos (hS.non (by omega) hsh).1]; exact ⟨by first | exact f_0 | exact f_5 | exact f_2 | exact f_3 | exact f_6, sh, hS, xU.of ⟨rfl, rfl, rfl, rfl⟩⟩) | (rw [writeO, if_neg t_2, iq, hwdq, if_neg (wdT_ne hty), hszq, if_pos t_36]; exact ⟨by first | exact f_0 | exact f_5 | exact f_2 | exact f_3 | exact f_6, sh, hS, xU.of ⟨rfl, rfl, rfl, rfl⟩⟩)) dX0_write_59
      · skip
        obtain ⟨t_19, rfl⟩ := e_19
        have hw : nS G (xE G ad (xV _ _ _ _) _ _ _) s H locs := hw
        exact absurd t_19 (by decide)
  · skip
    obtain ⟨t_2, rfl⟩ := e_2
    have hw : nS G (xE G ad (xV _ _ _ _) _ _ _) s H locs := hw
    refine x_catch (k := 65) hown hts htab ⟨by decide, by decide⟩ (by decide) q122 hw (xp 65) rfl q124 ?_
    refine lv_astore hx hb dX0_write_48 hl (by decide) rfl (fun ls hl => ?_)
    refine lv_aload_n hx hb dX0_write_50 rfl (lv_at hl 1 rfl) ?_
    refine lv_aload hx hb dX0_write_51 (lv_at hl 0 rfl) ?_
    refine n_getN (k := 65) hx hb hts in_X1 hown hw (xp 65) rfl 6 (by decide) q174 rfl dX0_write_53 ?_
    refine n_topE (y := nI 0) rfl ?_
    refine n_calli (va_runV ⟨hx, hb, hml, hown, hts⟩ (tL_finding l G ad _ _ _ _ _ _ _ 0 (by decide)) (cwV 1 hts (lw_V q466 q468 qs3 q90 q469) rfl rfl rfl hdS_X0_finding ⟨by decide, by decide⟩) (hw.preV (k := 64) (xp 64) rfl) rfl rfl hl.1 rfl (lv_room (by simp [Value.category])) dX0_write_56 ⟨Nat.zero_le _, Nat.zero_le _⟩) hw (fun r_56 u_56 H locs e_56 hw => ?_)
    obtain ⟨rfl, rfl⟩ := e_56
    have hw : nS G (xE G ad (xV _ _ _ _) _ _ _) s H locs := hw
    exact l_iret hx hb hr hlk rfl hw (by first | (rw [writeO, if_pos t_2]; exact ⟨by first | exact f_0 | exact f_5 | exact f_2 | exact f_3 | exact f_6, sh, hS, xU.of ⟨rfl, rfl, rfl, rfl⟩⟩) | (rw [writeO, if_neg t_2, iq, if_pos (hS.non (by omega) hsh).1]; exact ⟨by first | exact f_0 | exact f_5 | exact f_2 | exact f_3 | exact f_6, sh, hS, xU.of ⟨rfl, rfl, rfl, rfl⟩⟩) | (rw [writeO, if_neg t_2, iq, hwdq, if_neg (wdT_ne hty), hszq, if_pos t_36]; exact ⟨by first | exact f_0 | exact f_5 | exact f_2 | exact f_3 | exact f_6, sh, hS, xU.of ⟨rfl, rfl, rfl, rfl⟩⟩)) dX0_write_59
