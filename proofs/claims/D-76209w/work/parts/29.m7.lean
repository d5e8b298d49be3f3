/-! the reference: sheets, told ends, images -/
set_option maxRecDepth 100000
theorem hdS_X13_lacks : yX13_lacks.cls = "LineCallsModel" ∧ yX13_lacks.cls ≠ "java/lang/invoke/MethodHandle" ∧ yX13_lacks.cls ≠ "java/lang/invoke/VarHandle" ∧ (parseMethodDescriptor yX13_lacks.desc).map (fun d => d.parameters.length) = some 2 := by decide +kernel
set_option maxHeartbeats 4000000 in
theorem tM_lacks (l : Launch) (G : nG) (ad : Nat → Nat) (w : rw84) (M : mM) (t g : Int32) : Met l yX13_lacks (ws_ yX13_lacks cX13_lacks 3 (some .int)) { frames := 2, cells := 0, slots := 0, locals := 42 } (va_Pc [.ref (ad 0), .int t, .int g] (nC G (mE G ad w M))) (vp_Si (fun r => r = lackF (M 21) t g)) 0 0 (fun _ => False) := by
  refine n_head (by decide) (Nat.le_of_ble_eq_true rfl) ?_
  intro p e s m below meth c ls hx hb hr hlk hml hown hts hB0 hl
  have hown : s.vm.findClass "LineCallsModel" = some m.cls := hown
  have hw := nS.start hB0
  have hl : lv_has ls 3 [(0, .ref (ad 0)), (1, .int t), (2, .int g)] := hl
  refine lv_iload_n hx hb dX13_lacks_0 rfl (lv_at hl 1 rfl) ?_
  refine n_callp (va_runS ⟨hx, hb, hml, hown, hts⟩ (tM_isSheet l _) (va_cwS 1 hts (lw_S q1510 q1511 q106 q1512) rfl rfl rfl (hdS_X13_isSheet).2 ⟨by decide, by decide⟩) pu_pre rfl rfl hl.1 rfl (lv_room (by simp [Value.category])) dX13_lacks_1 ⟨Nat.zero_le _, Nat.zero_le _⟩) (fun r_1 e_1 => ?_)
  subst e_1
  refine lv_if_ne (tgt := 12) hx hb dX13_lacks_4 (by decide) (fun c_4 => ?_) (fun c_4 => ?_)
  · skip
    obtain ⟨q, hq, rfl⟩ := in_nat (N := 3) rfl (by decide) c_4
    have iq : ix (nI q) = q := nI_clamp (by omega)
    refine lv_aload_n hx hb dX13_lacks_12 rfl (lv_at hl 0 rfl) ?_
    refine n_get (k := 0) hx hb hts in_X13 hown hw rfl rfl 21 (by decide) q1219 rfl dX13_lacks_13 ?_
    refine lv_iload_n hx hb dX13_lacks_16 rfl (lv_at hl 1 rfl) ?_
    refine n_iald (k := 22) (j := q) hx hb hw rfl rfl (by omega) (by decide) dX13_lacks_17 ?_
    refine lv_if_ne (tgt := 26) hx hb dX13_lacks_18 (by decide) (fun c_18 => ?_) (fun c_18 => ?_)
    · skip
      refine lv_iload_n hx hb dX13_lacks_26 rfl (lv_at hl 2 rfl) ?_
      refine lv_if_eq (tgt := 34) hx hb dX13_lacks_27 (by decide) (fun c_27 => ?_) (fun c_27 => ?_)
      · skip
        refine lv_ldc (v := (-1000001)) hx hb hown (hts _ q1296) dX13_lacks_34 ?_
        exact n_pret hx hb hr hlk rfl (by first | rw [lackF, if_pos c_4] | rw [lackF, if_neg c_4, iq, if_pos c_18] | rw [lackF, if_neg c_4, iq, if_neg c_18, if_pos c_27] | rw [lackF, if_neg c_4, iq, if_neg c_18, if_neg c_27]) dX13_lacks_36
      · skip
        refine lv_iconst (v := 0) hx hb dX13_lacks_30 (by decide) ?_
        refine lv_goto (tgt := 36) hx hb dX13_lacks_31 (by decide) ?_
        exact n_pret hx hb hr hlk rfl (by first | rw [lackF, if_pos c_4] | rw [lackF, if_neg c_4, iq, if_pos c_18] | rw [lackF, if_neg c_4, iq, if_neg c_18, if_pos c_27] | rw [lackF, if_neg c_4, iq, if_neg c_18, if_neg c_27]) dX13_lacks_36
    · skip
      refine lv_ldc (v := (-1000006)) hx hb hown (hts _ q1513) dX13_lacks_21 ?_
      refine lv_goto (tgt := 36) hx hb dX13_lacks_23 (by decide) ?_
      exact n_pret hx hb hr hlk rfl (by first | rw [lackF, if_pos c_4] | rw [lackF, if_neg c_4, iq, if_pos c_18] | rw [lackF, if_neg c_4, iq, if_neg c_18, if_pos c_27] | rw [lackF, if_neg c_4, iq, if_neg c_18, if_neg c_27]) dX13_lacks_36
  · skip
    refine lv_ldc (v := (-1000001)) hx hb hown (hts _ q1296) dX13_lacks_7 ?_
    refine lv_goto (tgt := 36) hx hb dX13_lacks_9 (by decide) ?_
    exact n_pret hx hb hr hlk rfl (by first | rw [lackF, if_pos c_4] | rw [lackF, if_neg c_4, iq, if_pos c_18] | rw [lackF, if_neg c_4, iq, if_neg c_18, if_pos c_27] | rw [lackF, if_neg c_4, iq, if_neg c_18, if_neg c_27]) dX13_lacks_36
theorem hdS_X13_codes : yX13_codes.cls = "LineCallsModel" ∧ yX13_codes.cls ≠ "java/lang/invoke/MethodHandle" ∧ yX13_codes.cls ≠ "java/lang/invoke/VarHandle" ∧ (parseMethodDescriptor yX13_codes.desc).map (fun d => d.parameters.length) = some 1 := by decide +kernel
set_option maxHeartbeats 4000000 in
theorem tM_codes (l : Launch) (G : nG) (ad : Nat → Nat) (w : rw84) (M : mM) (t : Int32) (B : Nat) (hI : Inv B w) (hB : B ≤ 100000) (hS : ∀ t, t < 4 → ∃ n, n ≤ 40 ∧ M 22 t = nI n) : Met l yX13_codes (ws_ yX13_codes cX13_codes 6 (some .int)) { frames := 7, cells := 0, slots := 0, locals := 160 } (va_Pc [.ref (ad 0), .int t] (nC G (mE G ad w M))) (va_Qi (fun (r : Int32) (u : rw84 × mM) => r = (codesO w (M 21) (M 22) (M 23) t).1 ∧ u.1 = (codesO w (M 21) (M 22) (M 23) t).2.1 ∧ mSc (fnd (codesO w (M 21) (M 22) (M 23) t).2.2 M) u.2) (fun u => nC G (mE G ad u.1 u.2)) (nA G)) 0 0 (nA G) := by
  refine n_head (by decide) (Nat.le_of_ble_eq_true rfl) ?_
  intro p e s m below meth c ls hx hb hr hlk hml hown hts hB0 hl
  have hown : s.vm.findClass "LineCallsModel" = some m.cls := hown
  have hw := nS.start hB0
  have hl : lv_has ls 6 [(0, .ref (ad 0)), (1, .int t)] := hl
  refine lv_aload_n hx hb dX13_codes_0 rfl (lv_at hl 0 rfl) ?_
  refine lv_iload_n hx hb dX13_codes_1 rfl (lv_at hl 1 rfl) ?_
  refine lv_iconst (v := 1) hx hb dX13_codes_2 (by decide) ?_
  refine n_callp (va_runV ⟨hx, hb, hml, hown, hts⟩ (tM_lacks l G ad _ _ _ _) (cwV 2 hts (lw_V q1506 q1508 qs74 q106 q1509) rfl rfl rfl hdS_X13_lacks ⟨by decide, by decide⟩) (hw.preV (k := 0) rfl rfl) rfl rfl hl.1 rfl (lv_room (by simp [Value.category])) dX13_codes_3 ⟨Nat.zero_le _, Nat.zero_le _⟩) (fun r_3 e_3 => ?_)
  subst e_3
  refine lv_istore_n hx hb dX13_codes_6 rfl hl (by decide) rfl (fun ls hl => ?_)
  refine lv_iload_n hx hb dX13_codes_7 rfl (lv_at hl 0 rfl) ?_
  refine lv_if_eq (tgt := 17) hx hb dX13_codes_8 (by decide) (fun c_8 => ?_) (fun c_8 => ?_)
  · skip
    obtain ⟨q, hq, rfl⟩ := lack_in c_8
    have iq : ix (nI q) = q := nI_clamp (by omega)
    obtain ⟨n, hn, en⟩ := hS q hq
    have isz : ix (M 22 q) = n := by rw [en]; exact nI_clamp (by omega)
    refine lv_aload_n hx hb dX13_codes_17 rfl (lv_at hl 1 rfl) ?_
    refine n_get (k := 0) hx hb hts in_X13 hown hw rfl rfl 0 (by decide) q1198 rfl dX13_codes_18 ?_
    refine lv_bipush (v := 6) hx hb dX13_codes_21 (by decide) ?_
    refine n_iald (k := 1) (j := 6) hx hb hw rfl rfl (by decide) (by decide) dX13_codes_23 ?_
    refine lv_istore_n hx hb dX13_codes_24 rfl hl (by decide) rfl (fun ls hl => ?_)
    refine lv_iconst (v := 0) hx hb dX13_codes_25 (by decide) ?_
    refine lv_istore hx hb dX13_codes_26 hl (by decide) rfl (fun ls hl => ?_)
    refine lv_iconst (v := 0) hx hb dX13_codes_28 (by decide) ?_
    refine lv_istore hx hb dX13_codes_29 hl (by decide) rfl (fun ls hl => ?_)
    refine n_loop (α := Nat × rw84) (fun x H locs ls => x.1 ≤ 5 ∧ nS G (mE G ad (tryF w 6 x.1) (ur M 2 x.2)) s H locs ∧ lv_has ls 6 [(0, .ref (ad 0)), (1, .int (nI q)), (3, .int (w 6)), (4, .int (orF (fun v => soR (fun k => M 23 (40 * q + k)) n 0 (upd w 6 (nI v))) x.1)), (5, .int (nI x.1))]) (fun x => 5 - x.1) 31 ?_ (0, M 2) _ _ _ ⟨Nat.zero_le _, by rw [ur_self]; exact hw, (lv_sub hl [4, 5, 2, 1, 0] rfl)⟩
    clear hl hw
    intro x H locs ls hI ih_31
    obtain ⟨hv, hw, hl⟩ := hI
    obtain ⟨v, g⟩ := x
    dsimp only at hv hw hl
    refine lv_iload hx hb dX13_codes_31 (lv_at hl 4 rfl) ?_
    refine lv_iconst (v := 5) hx hb dX13_codes_33 (by decide) ?_
    refine lv_icmp_ge (tgt := 73) hx hb dX13_codes_34 (by decide) (fun c_34 => ?_) (fun c_34 => ?_)
    · skip
      have n_34 : 5 ≤ v := (nI_leI (a := 5) (b := v) (by omega) (by omega)).mp c_34
      obtain rfl : v = 5 := by omega
      refine lv_aload_n hx hb dX13_codes_73 rfl (lv_at hl 0 rfl) ?_
      refine n_get (k := 0) hx hb hts in_X13 hown hw rfl rfl 0 (by decide) q1198 rfl dX13_codes_74 ?_
      refine lv_bipush (v := 6) hx hb dX13_codes_77 (by decide) ?_
      refine lv_iload_n hx hb dX13_codes_79 rfl (lv_at hl 2 rfl) ?_
      refine m_iastw (j := 6) hx hb hw rfl (by decide) dX13_codes_80 (fun H locs hw => ?_)
      rw [try_up, up_self] at hw
      refine lv_iload hx hb dX13_codes_81 (lv_at hl 3 rfl) ?_
      exact m_iret hx hb hr hlk rfl hw (by rw [codesO, if_pos c_8, iq, isz]; rw [shR_at iq]; exact ⟨rfl, rfl, mSc.aside _ _⟩) dX13_codes_83
    · skip
      have n_34 : ¬ 5 ≤ v := fun h => c_34 ((nI_leI (a := 5) (b := v) (by omega) (by omega)).mpr h)
      refine lv_aload_n hx hb dX13_codes_37 rfl (lv_at hl 0 rfl) ?_
      refine n_get (k := 0) hx hb hts in_X13 hown hw rfl rfl 0 (by decide) q1198 rfl dX13_codes_38 ?_
      refine lv_bipush (v := 6) hx hb dX13_codes_41 (by decide) ?_
      refine lv_iload hx hb dX13_codes_43 (lv_at hl 4 rfl) ?_
      refine m_iastw (j := 6) hx hb hw rfl (by decide) dX13_codes_45 (fun H locs hw => ?_)
      rw [try_up] at hw
      refine lv_iload hx hb dX13_codes_46 (lv_at hl 3 rfl) ?_
      refine lv_aload_n hx hb dX13_codes_48 rfl (lv_at hl 0 rfl) ?_
      refine lv_iload_n hx hb dX13_codes_49 rfl (lv_at hl 1 rfl) ?_
      refine n_calli (va_runV ⟨hx, hb, hml, hown, hts⟩ (tM_areMetresSo l G ad _ _ q n B hq hn (show ur M 2 g 22 q = nI n from en) (hI.code (by omega)) (by omega)) (cwV 1 hts (lw_V q1514 q1516 qs75 q106 q1517) rfl rfl rfl hdS_X13_areMetresSo ⟨by decide, by decide⟩) (hw.preV (k := 0) rfl rfl) rfl rfl hl.1 rfl (lv_room (by simp [Value.category])) dX13_codes_50 ⟨Nat.zero_le _, Nat.zero_le _⟩) hw (fun r_50 u_50 H locs e_50 hw => ?_)
      obtain ⟨rfl, rfl⟩ := e_50
      have hw : nS G (mE G ad _ _) s H locs := hw
      rw [ur_ur] at hw
      refine n_topE (y := (fun v => soR (fun k => M 23 (40 * q + k)) n 0 (upd w 6 (nI v))) v) rfl ?_
      dsimp only
      refine lv_if_eq (tgt := 63) hx hb dX13_codes_53 (by decide) (fun c_53 => ?_) (fun c_53 => ?_)
      · skip
        refine lv_iconst (v := 0) hx hb dX13_codes_63 (by decide) ?_
        refine lv_ior hx hb dX13_codes_64 ?_
        refine lv_istore hx hb dX13_codes_65 hl (by decide) rfl (fun ls hl => ?_)
        refine lv_iinc (v := nI (v + 1)) hx hb dX13_codes_67 hl (k := 4) rfl (nI_1 _) (by decide) rfl (fun ls hl => ?_)
        refine lv_goto (tgt := 31) hx hb dX13_codes_70 (by decide) ?_
        exact ih_31 (v + 1, upd w 6 (nI v)) _ _ _ (by first | omega | (dsimp only; omega)) ⟨by dsimp only; omega, hw, by dsimp only; rw [orF, if_pos c_53]; exact (lv_sub hl [2, 3, 4, 1, 0] rfl)⟩
      · skip
        refine lv_iconst (v := 1) hx hb dX13_codes_56 (by decide) ?_
        refine lv_iload hx hb dX13_codes_57 (lv_at hl 4 rfl) ?_
        refine lv_ishl hx hb dX13_codes_59 ?_
        refine lv_goto (tgt := 64) hx hb dX13_codes_60 (by decide) ?_
        refine lv_ior hx hb dX13_codes_64 ?_
        refine lv_istore hx hb dX13_codes_65 hl (by decide) rfl (fun ls hl => ?_)
        refine lv_iinc (v := nI (v + 1)) hx hb dX13_codes_67 hl (k := 4) rfl (nI_1 _) (by decide) rfl (fun ls hl => ?_)
        refine lv_goto (tgt := 31) hx hb dX13_codes_70 (by decide) ?_
        exact ih_31 (v + 1, upd w 6 (nI v)) _ _ _ (by first | omega | (dsimp only; omega)) ⟨by dsimp only; omega, hw, by dsimp only; rw [orF, if_neg c_53]; exact (lv_sub hl [2, 3, 4, 1, 0] rfl)⟩
  · skip
    refine lv_aload_n hx hb dX13_codes_11 rfl (lv_at hl 1 rfl) ?_
    refine lv_iload_n hx hb dX13_codes_12 rfl (lv_at hl 0 rfl) ?_
    refine n_calli (va_runV ⟨hx, hb, hml, hown, hts⟩ (tM_finding l G ad _ _ _ _ (lack_no c_8).1 (lack_no c_8).2) (cwV 1 hts (lw_V q1297 q1299 qs53 q106 q1300) rfl rfl rfl hdS_X13_finding ⟨by decide, by decide⟩) (hw.preV (k := 0) rfl rfl) rfl rfl hl.1 rfl (lv_room (by simp [Value.category])) dX13_codes_13 ⟨Nat.zero_le _, Nat.zero_le _⟩) hw (fun r_13 u_13 H locs e_13 hw => ?_)
    obtain ⟨rfl, rfl⟩ := e_13
    have hw : nS G (mE G ad _ _) s H locs := hw
    exact m_iret hx hb hr hlk rfl hw (by rw [codesO, if_neg c_8]; exact ⟨rfl, rfl, mSc.rf _⟩) dX13_codes_16
theorem hdS_X13_fits : yX13_fits.cls = "LineCallsModel" ∧ yX13_fits.cls ≠ "java/lang/invoke/MethodHandle" ∧ yX13_fits.cls ≠ "java/lang/invoke/VarHandle" ∧ (parseMethodDescriptor yX13_fits.desc).map (fun d => d.parameters.length) = some 2 := by decide +kernel
set_option maxHeartbeats 4000000 in
theorem tM_fits (l : Launch) (G : nG) (ad : Nat → Nat) (w : rw84) (M : mM) (t k : Int32) (B : Nat) (hI : Inv B w) (hB : B ≤ 100000) (hS : ∀ t, t < 4 → ∃ n, n ≤ 40 ∧ M 22 t = nI n) : Met l yX13_fits (ws_ yX13_fits cX13_fits 4 (some .int)) { frames := 8, cells := 0, slots := 0, locals := 186 } (va_Pc [.ref (ad 0), .int t, .int k] (nC G (mE G ad w M))) (va_Qi (fun (r : Int32) (u : rw84 × mM) => r = (fitsO w (M 21) (M 22) (M 23) t k).1 ∧ u.1 = (fitsO w (M 21) (M 22) (M 23) t k).2.1 ∧ mSc (fnd (fitsO w (M 21) (M 22) (M 23) t k).2.2 M) u.2) (fun u => nC G (mE G ad u.1 u.2)) (nA G)) 0 0 (nA G) := by
  refine n_head (by decide) (Nat.le_of_ble_eq_true rfl) ?_
  intro p e s m below meth c ls hx hb hr hlk hml hown hts hB0 hl
  have hown : s.vm.findClass "LineCallsModel" = some m.cls := hown
  have hw := nS.start hB0
  have hl : lv_has ls 4 [(0, .ref (ad 0)), (1, .int t), (2, .int k)] := hl
  refine lv_aload_n hx hb dX13_fits_0 rfl (lv_at hl 0 rfl) ?_
  refine lv_iload_n hx hb dX13_fits_1 rfl (lv_at hl 1 rfl) ?_
  refine lv_aload_n hx hb dX13_fits_2 rfl (lv_at hl 0 rfl) ?_
  refine lv_iload_n hx hb dX13_fits_3 rfl (lv_at hl 2 rfl) ?_
  refine n_callp (va_runV ⟨hx, hb, hml, hown, hts⟩ (tM_isJumper l G ad _ _ _) (cwV 1 hts (lw_V q1284 q1286 qs50 q106 q1287) rfl rfl rfl hdS_X13_isJumper ⟨by decide, by decide⟩) (hw.preV (k := 0) rfl rfl) rfl rfl hl.1 rfl (lv_room (by simp [Value.category])) dX13_fits_4 ⟨Nat.zero_le _, Nat.zero_le _⟩) (fun r_4 e_4 => ?_)
  subst e_4
  refine n_callp (va_runV ⟨hx, hb, hml, hown, hts⟩ (tM_lacks l G ad _ _ _ _) (cwV 2 hts (lw_V q1506 q1508 qs74 q106 q1509) rfl rfl rfl hdS_X13_lacks ⟨by decide, by decide⟩) (hw.preV (k := 0) rfl rfl) rfl rfl hl.1 rfl (lv_room (by simp [Value.category])) dX13_fits_7 ⟨Nat.zero_le _, Nat.zero_le _⟩) (fun r_7 e_7 => ?_)
  subst e_7
  refine lv_istore_n hx hb dX13_fits_10 rfl hl (by decide) rfl (fun ls hl => ?_)
  refine lv_iload_n hx hb dX13_fits_11 rfl (lv_at hl 0 rfl) ?_
  refine lv_if_eq (tgt := 21) hx hb dX13_fits_12 (by decide) (fun c_12 => ?_) (fun c_12 => ?_)
  · skip
    obtain ⟨q, hq, rfl⟩ := lack_in c_12
    have iq : ix (nI q) = q := nI_clamp (by omega)
    obtain ⟨n, hn, en⟩ := hS q hq
    have isz : ix (M 22 q) = n := by rw [en]; exact nI_clamp (by omega)
    have hg := lack_g c_12
    obtain ⟨n1, hn1, en1⟩ := hI.num
    obtain ⟨j, hjn, hj, rfl⟩ := in_num en1 hn1 hg
    have ij : ix (nI j) = j := nI_clamp (by omega)
    refine lv_aload_n hx hb dX13_fits_21 rfl (lv_at hl 1 rfl) ?_
    refine lv_iload_n hx hb dX13_fits_22 rfl (lv_at hl 2 rfl) ?_
    refine lv_iload_n hx hb dX13_fits_23 rfl (lv_at hl 3 rfl) ?_
    refine n_callv (va_runV ⟨hx, hb, hml, hown, hts⟩ (tM_fitTall l G ad _ _ q j n B hq hj hn en (fun v hv => hI.tallU _ hj) (by omega)) (cwV 2 hts (lw_V q1522 q1524 qs76 q106 q1525) rfl rfl rfl hdS_X13_fitTall ⟨by decide, by decide⟩) (hw.preV (k := 0) rfl rfl) rfl rfl hl.1 rfl (lv_room (by simp [Value.category])) dX13_fits_24 ⟨Nat.zero_le _, Nat.zero_le _⟩) hw (fun u_24 H locs e_24 hw => ?_)
    obtain ⟨g_24, rfl⟩ := e_24
    have hw : nS G (mE G ad _ _) s H locs := hw
    refine lv_aload_n hx hb dX13_fits_27 rfl (lv_at hl 1 rfl) ?_
    refine n_get (k := 0) hx hb hts in_X13 hown hw rfl rfl 5 (by decide) q1203 rfl dX13_fits_28 ?_
    have eG : fitG w (M 22) (M 23) (nI q) (nI j) = (fun v => soR (fun k => M 23 (40 * q + k)) n 0 (upd w (44 + 5 * j + 1) (nI v))) := by (funext v; unfold fitG; rw [iq, ij, isz, shR_at iq])
    exact m_iret hx hb hr hlk rfl hw (by rw [fitsO, if_pos c_12, eG]; exact ⟨rfl, rfl, mSc.fit _ _ _ _⟩) dX13_fits_31
  · skip
    refine lv_aload_n hx hb dX13_fits_15 rfl (lv_at hl 1 rfl) ?_
    refine lv_iload_n hx hb dX13_fits_16 rfl (lv_at hl 0 rfl) ?_
    refine n_calli (va_runV ⟨hx, hb, hml, hown, hts⟩ (tM_finding l G ad _ _ _ _ (lack_no c_12).1 (lack_no c_12).2) (cwV 1 hts (lw_V q1297 q1299 qs53 q106 q1300) rfl rfl rfl hdS_X13_finding ⟨by decide, by decide⟩) (hw.preV (k := 0) rfl rfl) rfl rfl hl.1 rfl (lv_room (by simp [Value.category])) dX13_fits_17 ⟨Nat.zero_le _, Nat.zero_le _⟩) hw (fun r_17 u_17 H locs e_17 hw => ?_)
    obtain ⟨rfl, rfl⟩ := e_17
    have hw : nS G (mE G ad _ _) s H locs := hw
    exact m_iret hx hb hr hlk rfl hw (by rw [fitsO, if_neg c_12]; exact ⟨rfl, rfl, mSc.rf _⟩) dX13_fits_20
theorem hdS_X13_tall : yX13_tall.cls = "LineCallsModel" ∧ yX13_tall.cls ≠ "java/lang/invoke/MethodHandle" ∧ yX13_tall.cls ≠ "java/lang/invoke/VarHandle" ∧ (parseMethodDescriptor yX13_tall.desc).map (fun d => d.parameters.length) = some 2 := by decide +kernel
set_option maxHeartbeats 4000000 in
theorem tM_tall (l : Launch) (G : nG) (ad : Nat → Nat) (w : rw84) (M : mM) (t k : Int32) (B : Nat) (hI : Inv B w) (hB : B ≤ 100000) (hS : ∀ t, t < 4 → ∃ n, n ≤ 40 ∧ M 22 t = nI n) : Met l yX13_tall (ws_ yX13_tall cX13_tall 4 (some .int)) { frames := 8, cells := 0, slots := 0, locals := 186 } (va_Pc [.ref (ad 0), .int t, .int k] (nC G (mE G ad w M))) (va_Qi (fun (r : Int32) (u : rw84 × mM) => r = (tallO w (M 21) (M 22) (M 23) t k).1 ∧ u.1 = (tallO w (M 21) (M 22) (M 23) t k).2.1 ∧ mSc (fnd (tallO w (M 21) (M 22) (M 23) t k).2.2 M) u.2) (fun u => nC G (mE G ad u.1 u.2)) (nA G)) 0 0 (nA G) := by
  refine n_head (by decide) (Nat.le_of_ble_eq_true rfl) ?_
  intro p e s m below meth c ls hx hb hr hlk hml hown hts hB0 hl
  have hown : s.vm.findClass "LineCallsModel" = some m.cls := hown
  have hw := nS.start hB0
  have hl : lv_has ls 4 [(0, .ref (ad 0)), (1, .int t), (2, .int k)] := hl
  refine lv_aload_n hx hb dX13_tall_0 rfl (lv_at hl 0 rfl) ?_
  refine lv_iload_n hx hb dX13_tall_1 rfl (lv_at hl 1 rfl) ?_
  refine lv_aload_n hx hb dX13_tall_2 rfl (lv_at hl 0 rfl) ?_
  refine lv_iload_n hx hb dX13_tall_3 rfl (lv_at hl 2 rfl) ?_
  refine n_callp (va_runV ⟨hx, hb, hml, hown, hts⟩ (tM_isJumper l G ad _ _ _) (cwV 1 hts (lw_V q1284 q1286 qs50 q106 q1287) rfl rfl rfl hdS_X13_isJumper ⟨by decide, by decide⟩) (hw.preV (k := 0) rfl rfl) rfl rfl hl.1 rfl (lv_room (by simp [Value.category])) dX13_tall_4 ⟨Nat.zero_le _, Nat.zero_le _⟩) (fun r_4 e_4 => ?_)
  subst e_4
  refine n_callp (va_runV ⟨hx, hb, hml, hown, hts⟩ (tM_lacks l G ad _ _ _ _) (cwV 2 hts (lw_V q1506 q1508 qs74 q106 q1509) rfl rfl rfl hdS_X13_lacks ⟨by decide, by decide⟩) (hw.preV (k := 0) rfl rfl) rfl rfl hl.1 rfl (lv_room (by simp [Value.category])) dX13_tall_7 ⟨Nat.zero_le _, Nat.zero_le _⟩) (fun r_7 e_7 => ?_)
  subst e_7
  refine lv_istore_n hx hb dX13_tall_10 rfl hl (by decide) rfl (fun ls hl => ?_)
  refine lv_iload_n hx hb dX13_tall_11 rfl (lv_at hl 0 rfl) ?_
  refine lv_if_eq (tgt := 21) hx hb dX13_tall_12 (by decide) (fun c_12 => ?_) (fun c_12 => ?_)
  · skip
    obtain ⟨q, hq, rfl⟩ := lack_in c_12
    have iq : ix (nI q) = q := nI_clamp (by omega)
    obtain ⟨n, hn, en⟩ := hS q hq
    have isz : ix (M 22 q) = n := by rw [en]; exact nI_clamp (by omega)
    have hg := lack_g c_12
    obtain ⟨n1, hn1, en1⟩ := hI.num
    obtain ⟨j, hjn, hj, rfl⟩ := in_num en1 hn1 hg
    have ij : ix (nI j) = j := nI_clamp (by omega)
    refine lv_aload_n hx hb dX13_tall_21 rfl (lv_at hl 1 rfl) ?_
    refine lv_iload_n hx hb dX13_tall_22 rfl (lv_at hl 2 rfl) ?_
    refine lv_iload_n hx hb dX13_tall_23 rfl (lv_at hl 3 rfl) ?_
    refine n_callv (va_runV ⟨hx, hb, hml, hown, hts⟩ (tM_fitTall l G ad _ _ q j n B hq hj hn en (fun v hv => hI.tallU _ hj) (by omega)) (cwV 2 hts (lw_V q1522 q1524 qs76 q106 q1525) rfl rfl rfl hdS_X13_fitTall ⟨by decide, by decide⟩) (hw.preV (k := 0) rfl rfl) rfl rfl hl.1 rfl (lv_room (by simp [Value.category])) dX13_tall_24 ⟨Nat.zero_le _, Nat.zero_le _⟩) hw (fun u_24 H locs e_24 hw => ?_)
    obtain ⟨g_24, rfl⟩ := e_24
    have hw : nS G (mE G ad _ _) s H locs := hw
    refine lv_aload_n hx hb dX13_tall_27 rfl (lv_at hl 1 rfl) ?_
    refine lv_aload_n hx hb dX13_tall_28 rfl (lv_at hl 1 rfl) ?_
    refine n_get (k := 0) hx hb hts in_X13 hown hw rfl rfl 6 (by decide) q1204 rfl dX13_tall_29 ?_
    refine n_calli (va_runV ⟨hx, hb, hml, hown, hts⟩ (tM_orNone l G ad _ _ _) (cwV 1 hts (lw_V q1458 q1460 qs71 q106 q1461) rfl rfl rfl hdS_X13_orNone ⟨by decide, by decide⟩) (hw.preV (k := 0) rfl rfl) rfl rfl hl.1 rfl (lv_room (by simp [Value.category])) dX13_tall_32 ⟨Nat.zero_le _, Nat.zero_le _⟩) hw (fun r_32 u_32 H locs e_32 hw => ?_)
    obtain ⟨rfl, rfl⟩ := e_32
    have hw : nS G (mE G ad _ _) s H locs := hw
    have eG : fitG w (M 22) (M 23) (nI q) (nI j) = (fun v => soR (fun k => M 23 (40 * q + k)) n 0 (upd w (44 + 5 * j + 1) (nI v))) := by (funext v; unfold fitG; rw [iq, ij, isz, shR_at iq])
    exact m_iret hx hb hr hlk rfl hw (by rw [tallO, if_pos c_12, eG]; exact tall_ret _ _ _ _ _) dX13_tall_35
  · skip
    refine lv_aload_n hx hb dX13_tall_15 rfl (lv_at hl 1 rfl) ?_
    refine lv_iload_n hx hb dX13_tall_16 rfl (lv_at hl 0 rfl) ?_
    refine n_calli (va_runV ⟨hx, hb, hml, hown, hts⟩ (tM_finding l G ad _ _ _ _ (lack_no c_12).1 (lack_no c_12).2) (cwV 1 hts (lw_V q1297 q1299 qs53 q106 q1300) rfl rfl rfl hdS_X13_finding ⟨by decide, by decide⟩) (hw.preV (k := 0) rfl rfl) rfl rfl hl.1 rfl (lv_room (by simp [Value.category])) dX13_tall_17 ⟨Nat.zero_le _, Nat.zero_le _⟩) hw (fun r_17 u_17 H locs e_17 hw => ?_)
    obtain ⟨rfl, rfl⟩ := e_17
    have hw : nS G (mE G ad _ _) s H locs := hw
    exact m_iret hx hb hr hlk rfl hw (by rw [tallO, if_neg c_12]; exact ⟨rfl, rfl, mSc.rf _⟩) dX13_tall_20
theorem hdS_X13_kinds : yX13_kinds.cls = "LineCallsModel" ∧ yX13_kinds.cls ≠ "java/lang/invoke/MethodHandle" ∧ yX13_kinds.cls ≠ "java/lang/invoke/VarHandle" ∧ (parseMethodDescriptor yX13_kinds.desc).map (fun d => d.parameters.length) = some 2 := by decide +kernel
set_option maxHeartbeats 4000000 in
theorem tM_kinds (l : Launch) (G : nG) (ad : Nat → Nat) (w : rw84) (M : mM) (t k : Int32) (B : Nat) (hI : Inv B w) (hB : B ≤ 100000) (hS : ∀ t, t < 4 → ∃ n, n ≤ 40 ∧ M 22 t = nI n) : Met l yX13_kinds (ws_ yX13_kinds cX13_kinds 8 (some .int)) { frames := 7, cells := 0, slots := 0, locals := 160 } (va_Pc [.ref (ad 0), .int t, .int k] (nC G (mE G ad w M))) (va_Qi (fun (r : Int32) (u : rw84 × mM) => r = (kindsO w (M 21) (M 22) (M 23) t k).1 ∧ u.1 = (kindsO w (M 21) (M 22) (M 23) t k).2.1 ∧ mSc (fnd (kindsO w (M 21) (M 22) (M 23) t k).2.2 M) u.2) (fun u => nC G (mE G ad u.1 u.2)) (nA G)) 0 0 (nA G) := by
  refine n_head (by decide) (Nat.le_of_ble_eq_true rfl) ?_
  intro p e s m below meth c ls hx hb hr hlk hml hown hts hB0 hl
  have hown : s.vm.findClass "LineCallsModel" = some m.cls := hown
  have hw := nS.start hB0
  have hl : lv_has ls 8 [(0, .ref (ad 0)), (1, .int t), (2, .int k)] := hl
  refine lv_aload_n hx hb dX13_kinds_0 rfl (lv_at hl 0 rfl) ?_
  refine lv_iload_n hx hb dX13_kinds_1 rfl (lv_at hl 1 rfl) ?_
  refine lv_aload_n hx hb dX13_kinds_2 rfl (lv_at hl 0 rfl) ?_
  refine lv_iload_n hx hb dX13_kinds_3 rfl (lv_at hl 2 rfl) ?_
  refine n_callp (va_runV ⟨hx, hb, hml, hown, hts⟩ (tM_isJumper l G ad _ _ _) (cwV 1 hts (lw_V q1284 q1286 qs50 q106 q1287) rfl rfl rfl hdS_X13_isJumper ⟨by decide, by decide⟩) (hw.preV (k := 0) rfl rfl) rfl rfl hl.1 rfl (lv_room (by simp [Value.category])) dX13_kinds_4 ⟨Nat.zero_le _, Nat.zero_le _⟩) (fun r_4 e_4 => ?_)
  subst e_4
  refine n_callp (va_runV ⟨hx, hb, hml, hown, hts⟩ (tM_lacks l G ad _ _ _ _) (cwV 2 hts (lw_V q1506 q1508 qs74 q106 q1509) rfl rfl rfl hdS_X13_lacks ⟨by decide, by decide⟩) (hw.preV (k := 0) rfl rfl) rfl rfl hl.1 rfl (lv_room (by simp [Value.category])) dX13_kinds_7 ⟨Nat.zero_le _, Nat.zero_le _⟩) (fun r_7 e_7 => ?_)
  subst e_7
  refine lv_istore_n hx hb dX13_kinds_10 rfl hl (by decide) rfl (fun ls hl => ?_)
  refine lv_iload_n hx hb dX13_kinds_11 rfl (lv_at hl 0 rfl) ?_
  refine lv_if_eq (tgt := 21) hx hb dX13_kinds_12 (by decide) (fun c_12 => ?_) (fun c_12 => ?_)
  · skip
    obtain ⟨q, hq, rfl⟩ := lack_in c_12
    have iq : ix (nI q) = q := nI_clamp (by omega)
    obtain ⟨n, hn, en⟩ := hS q hq
    have isz : ix (M 22 q) = n := by rw [en]; exact nI_clamp (by omega)
    have hg := lack_g c_12
    obtain ⟨n1, hn1, en1⟩ := hI.num
    obtain ⟨j, hjn, hj, rfl⟩ := in_num en1 hn1 hg
    have ij : ix (nI j) = j := nI_clamp (by omega)
    refine lv_iload_n hx hb dX13_kinds_21 rfl (lv_at hl 3 rfl) ?_
    refine lv_iconst (v := 0) hx hb dX13_kinds_22 (by decide) ?_
    refine n_callp (va_runS ⟨hx, hb, hml, hown, hts⟩ (tM_jumperAt l (j) (0)) (va_cwS 2 hts (lw_S q1354 q1355 q106 q1356) rfl rfl rfl (hdS_X13_jumperAt).2 ⟨by decide, by decide⟩) pu_pre rfl rfl hl.1 rfl (lv_room (by simp [Value.category])) dX13_kinds_23 ⟨Nat.zero_le _, Nat.zero_le _⟩) (fun r_23 e_23 => ?_)
    subst e_23
    refine lv_istore hx hb dX13_kinds_26 hl (by decide) rfl (fun ls hl => ?_)
    refine lv_aload_n hx hb dX13_kinds_28 rfl (lv_at hl 2 rfl) ?_
    refine n_get (k := 0) hx hb hts in_X13 hown hw rfl rfl 0 (by decide) q1198 rfl dX13_kinds_29 ?_
    refine lv_iload hx hb dX13_kinds_32 (lv_at hl 0 rfl) ?_
    refine n_iald (k := 1) (j := 44 + 5 * j + 0) hx hb hw rfl rfl (by omega) (by decide) dX13_kinds_34 ?_
    refine lv_istore hx hb dX13_kinds_35 hl (by decide) rfl (fun ls hl => ?_)
    refine lv_iconst (v := 0) hx hb dX13_kinds_37 (by decide) ?_
    refine lv_istore hx hb dX13_kinds_38 hl (by decide) rfl (fun ls hl => ?_)
    refine lv_iconst (v := 0) hx hb dX13_kinds_40 (by decide) ?_
    refine lv_istore hx hb dX13_kinds_41 hl (by decide) rfl (fun ls hl => ?_)
    refine n_loop (α := Nat × rw84) (fun x H locs ls => x.1 ≤ 7 ∧ nS G (mE G ad (tryF w (44 + 5 * j + 0) x.1) (ur M 2 x.2)) s H locs ∧ lv_has ls 8 [(0, .ref (ad 0)), (1, .int (nI q)), (4, .int (nI (44 + 5 * j + 0))), (5, .int (w (44 + 5 * j + 0))), (6, .int (orF (fun v => soR (fun k => M 23 (40 * q + k)) n 0 (upd w (44 + 5 * j + 0) (nI v))) x.1)), (7, .int (nI x.1))]) (fun x => 7 - x.1) 43 ?_ (0, M 2) _ _ _ ⟨Nat.zero_le _, by rw [ur_self]; exact hw, (lv_sub hl [5, 6, 3, 2, 1, 0] rfl)⟩
    clear hl hw
    intro x H locs ls hI ih_43
    obtain ⟨hv, hw, hl⟩ := hI
    obtain ⟨v, g⟩ := x
    dsimp only at hv hw hl
    refine lv_iload hx hb dX13_kinds_43 (lv_at hl 5 rfl) ?_
    refine lv_bipush (v := 6) hx hb dX13_kinds_45 (by decide) ?_
    refine lv_icmp_gt (tgt := 86) hx hb dX13_kinds_47 (by decide) (fun c_47 => ?_) (fun c_47 => ?_)
    · skip
      have n_47 : 6 < v := (nI_ltI (a := 6) (b := v) (by omega) (by omega)).mp c_47
      obtain rfl : v = 7 := by omega
      refine lv_aload_n hx hb dX13_kinds_86 rfl (lv_at hl 0 rfl) ?_
      refine n_get (k := 0) hx hb hts in_X13 hown hw rfl rfl 0 (by decide) q1198 rfl dX13_kinds_87 ?_
      refine lv_iload hx hb dX13_kinds_90 (lv_at hl 2 rfl) ?_
      refine lv_iload hx hb dX13_kinds_92 (lv_at hl 3 rfl) ?_
      refine m_iastw (j := 44 + 5 * j + 0) hx hb hw rfl (by omega) dX13_kinds_94 (fun H locs hw => ?_)
      rw [try_up, up_self] at hw
      refine lv_iload hx hb dX13_kinds_95 (lv_at hl 4 rfl) ?_
      exact m_iret hx hb hr hlk rfl hw (by rw [kindsO, if_pos c_12, iq, ij, isz]; rw [shR_at iq]; exact ⟨rfl, rfl, mSc.aside _ _⟩) dX13_kinds_97
    · skip
      have n_47 : ¬ 6 < v := fun h => c_47 ((nI_ltI (a := 6) (b := v) (by omega) (by omega)).mpr h)
      refine lv_aload_n hx hb dX13_kinds_50 rfl (lv_at hl 0 rfl) ?_
      refine n_get (k := 0) hx hb hts in_X13 hown hw rfl rfl 0 (by decide) q1198 rfl dX13_kinds_51 ?_
      refine lv_iload hx hb dX13_kinds_54 (lv_at hl 2 rfl) ?_
      refine lv_iload hx hb dX13_kinds_56 (lv_at hl 5 rfl) ?_
      refine m_iastw (j := 44 + 5 * j + 0) hx hb hw rfl (by omega) dX13_kinds_58 (fun H locs hw => ?_)
      rw [try_up] at hw
      refine lv_iload hx hb dX13_kinds_59 (lv_at hl 4 rfl) ?_
      refine lv_aload_n hx hb dX13_kinds_61 rfl (lv_at hl 0 rfl) ?_
      refine lv_iload_n hx hb dX13_kinds_62 rfl (lv_at hl 1 rfl) ?_
      refine n_calli (va_runV ⟨hx, hb, hml, hown, hts⟩ (tM_areMetresSo l G ad _ _ q n B hq hn (show ur M 2 g 22 q = nI n from en) (hI.kindU hj (by omega)) (by omega)) (cwV 1 hts (lw_V q1514 q1516 qs75 q106 q1517) rfl rfl rfl hdS_X13_areMetresSo ⟨by decide, by decide⟩) (hw.preV (k := 0) rfl rfl) rfl rfl hl.1 rfl (lv_room (by simp [Value.category])) dX13_kinds_63 ⟨Nat.zero_le _, Nat.zero_le _⟩) hw (fun r_63 u_63 H locs e_63 hw => ?_)
      obtain ⟨rfl, rfl⟩ := e_63
      have hw : nS G (mE G ad _ _) s H locs := hw
      rw [ur_ur] at hw
      refine n_topE (y := (fun v => soR (fun k => M 23 (40 * q + k)) n 0 (upd w (44 + 5 * j + 0) (nI v))) v) rfl ?_
      dsimp only
      refine lv_if_eq (tgt := 76) hx hb dX13_kinds_66 (by decide) (fun c_66 => ?_) (fun c_66 => ?_)
      · skip
        refine lv_iconst (v := 0) hx hb dX13_kinds_76 (by decide) ?_
        refine lv_ior hx hb dX13_kinds_77 ?_
        refine lv_istore hx hb dX13_kinds_78 hl (by decide) rfl (fun ls hl => ?_)
        refine lv_iinc (v := nI (v + 1)) hx hb dX13_kinds_80 hl (k := 5) rfl (nI_1 _) (by decide) rfl (fun ls hl => ?_)
        refine lv_goto (tgt := 43) hx hb dX13_kinds_83 (by decide) ?_
        exact ih_43 (v + 1, upd w (44 + 5 * j + 0) (nI v)) _ _ _ (by first | omega | (dsimp only; omega)) ⟨by dsimp only; omega, hw, by dsimp only; rw [orF, if_pos c_66]; exact (lv_sub hl [2, 3, 4, 5, 1, 0] rfl)⟩
      · skip
        refine lv_iconst (v := 1) hx hb dX13_kinds_69 (by decide) ?_
        refine lv_iload hx hb dX13_kinds_70 (lv_at hl 5 rfl) ?_
        refine lv_ishl hx hb dX13_kinds_72 ?_
        refine lv_goto (tgt := 77) hx hb dX13_kinds_73 (by decide) ?_
        refine lv_ior hx hb dX13_kinds_77 ?_
        refine lv_istore hx hb dX13_kinds_78 hl (by decide) rfl (fun ls hl => ?_)
        refine lv_iinc (v := nI (v + 1)) hx hb dX13_kinds_80 hl (k := 5) rfl (nI_1 _) (by decide) rfl (fun ls hl => ?_)
        refine lv_goto (tgt := 43) hx hb dX13_kinds_83 (by decide) ?_
        exact ih_43 (v + 1, upd w (44 + 5 * j + 0) (nI v)) _ _ _ (by first | omega | (dsimp only; omega)) ⟨by dsimp only; omega, hw, by dsimp only; rw [orF, if_neg c_66]; exact (lv_sub hl [2, 3, 4, 5, 1, 0] rfl)⟩
  · skip
    refine lv_aload_n hx hb dX13_kinds_15 rfl (lv_at hl 1 rfl) ?_
    refine lv_iload_n hx hb dX13_kinds_16 rfl (lv_at hl 0 rfl) ?_
    refine n_calli (va_runV ⟨hx, hb, hml, hown, hts⟩ (tM_finding l G ad _ _ _ _ (lack_no c_12).1 (lack_no c_12).2) (cwV 1 hts (lw_V q1297 q1299 qs53 q106 q1300) rfl rfl rfl hdS_X13_finding ⟨by decide, by decide⟩) (hw.preV (k := 0) rfl rfl) rfl rfl hl.1 rfl (lv_room (by simp [Value.category])) dX13_kinds_17 ⟨Nat.zero_le _, Nat.zero_le _⟩) hw (fun r_17 u_17 H locs e_17 hw => ?_)
    obtain ⟨rfl, rfl⟩ := e_17
    have hw : nS G (mE G ad _ _) s H locs := hw
    exact m_iret hx hb hr hlk rfl hw (by rw [kindsO, if_neg c_12]; exact ⟨rfl, rfl, mSc.rf _⟩) dX13_kinds_20
