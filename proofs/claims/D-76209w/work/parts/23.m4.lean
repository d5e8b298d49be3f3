/-! the reference: what is thought -/
set_option maxRecDepth 100000
theorem hdS_X13_behind : yX13_behind.cls = "LineCallsModel" ∧ yX13_behind.cls ≠ "java/lang/invoke/MethodHandle" ∧ yX13_behind.cls ≠ "java/lang/invoke/VarHandle" ∧ (parseMethodDescriptor yX13_behind.desc).map (fun d => d.parameters.length) = some 2 := by decide +kernel
set_option maxHeartbeats 4000000 in
theorem tM_behind (l : Launch) (G : nG) (ad : Nat → Nat) (w : rw84) (M : mM) (q n B : Nat) (hq : q < 84) (hI : Inv B w) (hB : B + n < 2 ^ 30) : Met l yX13_behind (ws_ yX13_behind cX13_behind 3 (some .int)) { frames := 7, cells := 0, slots := 0, locals := 158 } (va_Pc [.ref (ad 0), .int (nI q), .int (nI n)] (nC G (mE G ad w M))) (va_Qi (fun (r : Int32) (u : rw84 × mM) => r = thrN w n q ∧ u = (w, ur M 2 w)) (fun u => nC G (mE G ad u.1 u.2)) (nA G)) 0 0 (nA G) := by
  refine n_head (by decide) (Nat.le_of_ble_eq_true rfl) ?_
  intro p e s m below meth c ls hx hb hr hlk hml hown hts hB0 hl
  have hown : s.vm.findClass "LineCallsModel" = some m.cls := hown
  have hw := nS.start hB0
  have hl : lv_has ls 3 [(0, .ref (ad 0)), (1, .int (nI q)), (2, .int (nI n))] := hl
  refine lv_aload_n hx hb dX13_behind_0 rfl (lv_at hl 0 rfl) ?_
  refine n_get (k := 0) hx hb hts in_X13 hown hw rfl rfl 0 (by decide) q1198 rfl dX13_behind_1 ?_
  refine lv_aload_n hx hb dX13_behind_4 rfl (lv_at hl 0 rfl) ?_
  refine n_get (k := 0) hx hb hts in_X13 hown hw rfl rfl 2 (by decide) q1200 rfl dX13_behind_5 ?_
  refine n_callv (va_runS ⟨hx, hb, hml, hown, hts⟩ (tM_copyRow_0_2 l G ad _ _ ) (va_cwS 2 hts (lw_S q1439 q1440 q106 q1441) rfl rfl rfl (hdS_X13_copyRow).2 ⟨by decide, by decide⟩) hw.preS rfl rfl hl.1 rfl (lv_room (by simp [Value.category])) dX13_behind_8 ⟨Nat.zero_le _, Nat.zero_le _⟩) hw (fun u_8 H locs e_8 hw => ?_)
  subst e_8
  have hw : nS G (mE G ad _ _) s H locs := hw
  refine lv_aload_n hx hb dX13_behind_11 rfl (lv_at hl 0 rfl) ?_
  refine lv_iload_n hx hb dX13_behind_12 rfl (lv_at hl 2 rfl) ?_
  refine n_callv (va_runV ⟨hx, hb, hml, hown, hts⟩ (tM_throwsGo l G ad _ _ (n) B (by assumption) (by omega)) (cwV 1 hts (lw_V q1395 q1397 qs61 q106 q1398) rfl rfl rfl hdS_X13_throwsGo ⟨by decide, by decide⟩) (hw.preV (k := 0) rfl rfl) rfl rfl hl.1 rfl (lv_room (by simp [Value.category])) dX13_behind_13 ⟨Nat.zero_le _, Nat.zero_le _⟩) hw (fun u_13 H locs e_13 hw => ?_)
  subst e_13
  have hw : nS G (mE G ad _ _) s H locs := hw
  refine lv_aload_n hx hb dX13_behind_16 rfl (lv_at hl 0 rfl) ?_
  refine lv_aload_n hx hb dX13_behind_17 rfl (lv_at hl 0 rfl) ?_
  refine n_get (k := 0) hx hb hts in_X13 hown hw rfl rfl 0 (by decide) q1198 rfl dX13_behind_18 ?_
  refine lv_iload_n hx hb dX13_behind_21 rfl (lv_at hl 1 rfl) ?_
  refine n_iald (k := 1) (j := q) hx hb hw rfl rfl (by omega) (by decide) dX13_behind_22 ?_
  refine n_calli (va_runV ⟨hx, hb, hml, hown, hts⟩ (tM_putBack l G ad _ _ _) (cwV 1 hts (lw_V q1442 q1444 qs69 q106 q1445) rfl rfl rfl hdS_X13_putBack ⟨by decide, by decide⟩) (hw.preV (k := 0) rfl rfl) rfl rfl hl.1 rfl (lv_room (by simp [Value.category])) dX13_behind_23 ⟨Nat.zero_le _, Nat.zero_le _⟩) hw (fun r_23 u_23 H locs e_23 hw => ?_)
  obtain ⟨rfl, rfl⟩ := e_23
  have hw : nS G (mE G ad _ _) s H locs := hw
  exact m_iret hx hb hr hlk rfl hw ⟨rfl, rfl⟩ dX13_behind_26
theorem hdS_X13_bestFor : yX13_bestFor.cls = "LineCallsModel" ∧ yX13_bestFor.cls ≠ "java/lang/invoke/MethodHandle" ∧ yX13_bestFor.cls ≠ "java/lang/invoke/VarHandle" ∧ (parseMethodDescriptor yX13_bestFor.desc).map (fun d => d.parameters.length) = some 4 := by decide +kernel
set_option maxHeartbeats 4000000 in
theorem tM_bestFor (l : Launch) (G : nG) (ad : Nat → Nat) (w : rw84) (M : mM) (q m0 z n B : Nat) (hq : q < 84) (hz : z < 84) (hm : m0 < 2 ^ 30) (hI : ∀ v, v ≤ m0 → Inv B (upd w q (nI v))) (hB : B + n < 2 ^ 30) : Met l yX13_bestFor (ws_ yX13_bestFor cX13_bestFor 10 (some .int)) { frames := 8, cells := 0, slots := 0, locals := 180 } (va_Pc [.ref (ad 0), .int (nI q), .int (nI m0), .int (nI z), .int (nI n)] (nC G (mE G ad w M))) (va_Qi (fun (r : Int32) (u : rw84 × mM) => r = (bestF (fun v => thrN (upd w q (nI v)) n z) (m0 + 1)).1 ∧ ∃ g, u = (w, ur M 2 g)) (fun u => nC G (mE G ad u.1 u.2)) (nA G)) 0 0 (nA G) := by
  refine n_head (by decide) (Nat.le_of_ble_eq_true rfl) ?_
  intro p e s m below meth c ls hx hb hr hlk hml hown hts hB0 hl
  have hown : s.vm.findClass "LineCallsModel" = some m.cls := hown
  have hw := nS.start hB0
  have hl : lv_has ls 10 [(0, .ref (ad 0)), (1, .int (nI q)), (2, .int (nI m0)), (3, .int (nI z)), (4, .int (nI n))] := hl
  refine lv_aload_n hx hb dX13_bestFor_0 rfl (lv_at hl 0 rfl) ?_
  refine n_get (k := 0) hx hb hts in_X13 hown hw rfl rfl 0 (by decide) q1198 rfl dX13_bestFor_1 ?_
  refine lv_iload_n hx hb dX13_bestFor_4 rfl (lv_at hl 1 rfl) ?_
  refine n_iald (k := 1) (j := q) hx hb hw rfl rfl (by omega) (by decide) dX13_bestFor_5 ?_
  refine lv_istore hx hb dX13_bestFor_6 hl (by decide) rfl (fun ls hl => ?_)
  refine lv_iconst (v := 0) hx hb dX13_bestFor_8 (by decide) ?_
  refine lv_istore hx hb dX13_bestFor_9 hl (by decide) rfl (fun ls hl => ?_)
  refine lv_iconst (v := (-1)) hx hb dX13_bestFor_11 (by decide) ?_
  refine lv_istore hx hb dX13_bestFor_12 hl (by decide) rfl (fun ls hl => ?_)
  refine lv_iconst (v := 0) hx hb dX13_bestFor_14 (by decide) ?_
  refine lv_istore hx hb dX13_bestFor_15 hl (by decide) rfl (fun ls hl => ?_)
  refine n_loop (α := Nat × rw84) (fun x H locs ls => x.1 ≤ m0 + 1 ∧ nS G (mE G ad (tryF w q x.1) (ur M 2 x.2)) s H locs ∧ lv_has ls 10 [(0, .ref (ad 0)), (1, .int (nI q)), (2, .int (nI m0)), (3, .int (nI z)), (4, .int (nI n)), (5, .int (w q)), (6, .int (bestF (fun v => thrN (upd w q (nI v)) n z) x.1).1), (7, .int (bestF (fun v => thrN (upd w q (nI v)) n z) x.1).2), (8, .int (nI x.1))]) (fun x => m0 + 1 - x.1) 17 ?_ (0, M 2) _ _ _ ⟨Nat.zero_le _, by rw [ur_self]; exact hw, (lv_sub hl [4, 5, 6, 7, 8, 3, 2, 1, 0] rfl)⟩
  clear hl hw
  intro x H locs ls hI ih_17
  obtain ⟨hv, hw, hl⟩ := hI
  obtain ⟨v, g⟩ := x
  dsimp only at hv hw hl
  refine lv_iload hx hb dX13_bestFor_17 (lv_at hl 8 rfl) ?_
  refine lv_iload_n hx hb dX13_bestFor_19 rfl (lv_at hl 2 rfl) ?_
  refine lv_icmp_gt (tgt := 71) hx hb dX13_bestFor_20 (by decide) (fun c_20 => ?_) (fun c_20 => ?_)
  · skip
    have n_20 : m0 < v := (nI_ltI (a := m0) (b := v) (by omega) (by omega)).mp c_20
    obtain rfl : v = m0 + 1 := by omega
    refine lv_aload_n hx hb dX13_bestFor_71 rfl (lv_at hl 0 rfl) ?_
    refine n_get (k := 0) hx hb hts in_X13 hown hw rfl rfl 0 (by decide) q1198 rfl dX13_bestFor_72 ?_
    refine lv_iload_n hx hb dX13_bestFor_75 rfl (lv_at hl 1 rfl) ?_
    refine lv_iload hx hb dX13_bestFor_76 (lv_at hl 5 rfl) ?_
    refine m_iastw (j := q) hx hb hw rfl (by omega) dX13_bestFor_78 (fun H locs hw => ?_)
    rw [try_up, up_self] at hw
    refine lv_iload hx hb dX13_bestFor_79 (lv_at hl 6 rfl) ?_
    exact m_iret hx hb hr hlk rfl hw ⟨rfl, ⟨_, rfl⟩⟩ dX13_bestFor_81
  · skip
    have n_20 : ¬ m0 < v := fun h => c_20 ((nI_ltI (a := m0) (b := v) (by omega) (by omega)).mpr h)
    refine lv_aload_n hx hb dX13_bestFor_23 rfl (lv_at hl 0 rfl) ?_
    refine n_get (k := 0) hx hb hts in_X13 hown hw rfl rfl 0 (by decide) q1198 rfl dX13_bestFor_24 ?_
    refine lv_iload_n hx hb dX13_bestFor_27 rfl (lv_at hl 1 rfl) ?_
    refine lv_iload hx hb dX13_bestFor_28 (lv_at hl 8 rfl) ?_
    refine m_iastw (j := q) hx hb hw rfl (by omega) dX13_bestFor_30 (fun H locs hw => ?_)
    rw [try_up] at hw
    refine lv_aload_n hx hb dX13_bestFor_31 rfl (lv_at hl 0 rfl) ?_
    refine lv_iload_n hx hb dX13_bestFor_32 rfl (lv_at hl 3 rfl) ?_
    refine lv_iload hx hb dX13_bestFor_33 (lv_at hl 4 rfl) ?_
    refine n_calli (va_runV ⟨hx, hb, hml, hown, hts⟩ (tM_behind l G ad _ _ z n B hz (hI v (by omega)) hB) (cwV 2 hts (lw_V q1450 q1452 qs70 q106 q1453) rfl rfl rfl hdS_X13_behind ⟨by decide, by decide⟩) (hw.preV (k := 0) rfl rfl) rfl rfl hl.1 rfl (lv_room (by simp [Value.category])) dX13_bestFor_35 ⟨Nat.zero_le _, Nat.zero_le _⟩) hw (fun r_35 u_35 H locs e_35 hw => ?_)
    obtain ⟨rfl, rfl⟩ := e_35
    have hw : nS G (mE G ad _ _) s H locs := hw
    rw [ur_ur] at hw
    refine lv_istore hx hb dX13_bestFor_38 hl (by decide) rfl (fun ls hl => ?_)
    refine lv_iload hx hb dX13_bestFor_40 (lv_at hl 0 rfl) ?_
    refine lv_iload hx hb dX13_bestFor_42 (lv_at hl 8 rfl) ?_
    refine lv_icmp_le (tgt := 52) hx hb dX13_bestFor_44 (by decide) (fun c_44 => ?_) (fun c_44 => ?_)
    · skip
      refine lv_iload hx hb dX13_bestFor_52 (lv_at hl 7 rfl) ?_
      refine lv_istore hx hb dX13_bestFor_54 hl (by decide) rfl (fun ls hl => ?_)
      refine lv_iload hx hb dX13_bestFor_56 (lv_at hl 8 rfl) ?_
      refine lv_iload hx hb dX13_bestFor_58 (lv_at hl 1 rfl) ?_
      refine va_mmax hx hb (hml.trans hl.1.symm) hown (hts _ q1369) (hts _ q625) (hts _ q108) (hts _ q626) (by decide) (by simp [Value.category]) (Nat.zero_le _) (Nat.zero_le _) dX13_bestFor_60 ?_
      refine lv_istore hx hb dX13_bestFor_63 hl (by decide) rfl (fun ls hl => ?_)
      refine lv_iinc (v := nI (v + 1)) hx hb dX13_bestFor_65 hl (k := 9) rfl (nI_1 _) (by decide) rfl (fun ls hl => ?_)
      refine lv_goto (tgt := 17) hx hb dX13_bestFor_68 (by decide) ?_
      exact ih_17 (v + 1, upd w q (nI v)) _ _ _ (by first | omega | (dsimp only; omega)) ⟨by dsimp only; omega, hw, by dsimp only; rw [bestF, if_pos c_44]; exact (lv_sub hl [4, 5, 6, 7, 8, 9, 2, 1, 0] rfl)⟩
    · skip
      refine lv_iload hx hb dX13_bestFor_47 (lv_at hl 9 rfl) ?_
      refine lv_goto (tgt := 54) hx hb dX13_bestFor_49 (by decide) ?_
      refine lv_istore hx hb dX13_bestFor_54 hl (by decide) rfl (fun ls hl => ?_)
      refine lv_iload hx hb dX13_bestFor_56 (lv_at hl 8 rfl) ?_
      refine lv_iload hx hb dX13_bestFor_58 (lv_at hl 1 rfl) ?_
      refine va_mmax hx hb (hml.trans hl.1.symm) hown (hts _ q1369) (hts _ q625) (hts _ q108) (hts _ q626) (by decide) (by simp [Value.category]) (Nat.zero_le _) (Nat.zero_le _) dX13_bestFor_60 ?_
      refine lv_istore hx hb dX13_bestFor_63 hl (by decide) rfl (fun ls hl => ?_)
      refine lv_iinc (v := nI (v + 1)) hx hb dX13_bestFor_65 hl (k := 9) rfl (nI_1 _) (by decide) rfl (fun ls hl => ?_)
      refine lv_goto (tgt := 17) hx hb dX13_bestFor_68 (by decide) ?_
      exact ih_17 (v + 1, upd w q (nI v)) _ _ _ (by first | omega | (dsimp only; omega)) ⟨by dsimp only; omega, hw, by dsimp only; rw [bestF, if_neg c_44]; exact (lv_sub hl [4, 5, 6, 7, 8, 9, 2, 1, 0] rfl)⟩
theorem hdS_X13_metresStanding : yX13_metresStanding.cls = "LineCallsModel" ∧ yX13_metresStanding.cls ≠ "java/lang/invoke/MethodHandle" ∧ yX13_metresStanding.cls ≠ "java/lang/invoke/VarHandle" ∧ (parseMethodDescriptor yX13_metresStanding.desc).map (fun d => d.parameters.length) = some 3 := by decide +kernel
set_option maxHeartbeats 4000000 in
theorem tM_metresStanding (l : Launch) (G : nG) (ad : Nat → Nat) (w : rw84) (M : mM) (j q n B : Nat) (hj : j < 8) (hq : q < 7) (hI : Inv B (chF w q (nI j))) (hB : B + n < 2 ^ 30) : Met l yX13_metresStanding (ws_ yX13_metresStanding cX13_metresStanding 6 (some .int)) { frames := 7, cells := 0, slots := 0, locals := 158 } (va_Pc [.ref (ad 0), .int (nI j), .int (nI q), .int (nI n)] (nC G (mE G ad w M))) (va_Qi (fun (r : Int32) (u : rw84 × mM) => r = thrN (chF w q (nI j)) n 3 ∧ u = (w, ur M 2 w)) (fun u => nC G (mE G ad u.1 u.2)) (nA G)) 0 0 (nA G) := by
  refine n_head (by decide) (Nat.le_of_ble_eq_true rfl) ?_
  intro p e s m below meth c ls hx hb hr hlk hml hown hts hB0 hl
  have hown : s.vm.findClass "LineCallsModel" = some m.cls := hown
  have hw := nS.start hB0
  have hl : lv_has ls 6 [(0, .ref (ad 0)), (1, .int (nI j)), (2, .int (nI q)), (3, .int (nI n))] := hl
  have hnn : ¬ nI j < 0 := nI_pos (by omega)
  refine lv_aload_n hx hb dX13_metresStanding_0 rfl (lv_at hl 0 rfl) ?_
  refine n_get (k := 0) hx hb hts in_X13 hown hw rfl rfl 0 (by decide) q1198 rfl dX13_metresStanding_1 ?_
  refine lv_aload_n hx hb dX13_metresStanding_4 rfl (lv_at hl 0 rfl) ?_
  refine n_get (k := 0) hx hb hts in_X13 hown hw rfl rfl 2 (by decide) q1200 rfl dX13_metresStanding_5 ?_
  refine n_callv (va_runS ⟨hx, hb, hml, hown, hts⟩ (tM_copyRow_0_2 l G ad _ _ ) (va_cwS 2 hts (lw_S q1439 q1440 q106 q1441) rfl rfl rfl (hdS_X13_copyRow).2 ⟨by decide, by decide⟩) hw.preS rfl rfl hl.1 rfl (lv_room (by simp [Value.category])) dX13_metresStanding_8 ⟨Nat.zero_le _, Nat.zero_le _⟩) hw (fun u_8 H locs e_8 hw => ?_)
  subst e_8
  have hw : nS G (mE G ad _ _) s H locs := hw
  refine lv_aload_n hx hb dX13_metresStanding_11 rfl (lv_at hl 0 rfl) ?_
  refine lv_iload_n hx hb dX13_metresStanding_12 rfl (lv_at hl 1 rfl) ?_
  refine n_callp (va_runV ⟨hx, hb, hml, hown, hts⟩ (tM_placeOf l G ad _ _ _) (cwV 1 hts (lw_V q1292 q1294 qs52 q106 q1295) rfl rfl rfl hdS_X13_placeOf ⟨by decide, by decide⟩) (hw.preV (k := 0) rfl rfl) rfl rfl hl.1 rfl (lv_room (by simp [Value.category])) dX13_metresStanding_13 ⟨Nat.zero_le _, Nat.zero_le _⟩) (fun r_13 e_13 => ?_)
  subst e_13
  refine lv_istore hx hb dX13_metresStanding_16 hl (by decide) rfl (fun ls hl => ?_)
  refine lv_aload_n hx hb dX13_metresStanding_18 rfl (lv_at hl 1 rfl) ?_
  refine lv_iload_n hx hb dX13_metresStanding_19 rfl (lv_at hl 3 rfl) ?_
  refine lv_iload_n hx hb dX13_metresStanding_20 rfl (lv_at hl 2 rfl) ?_
  refine n_calli (va_runV ⟨hx, hb, hml, hown, hts⟩ (tM_stands l G ad _ _ (q) _ (by first | assumption | omega)) (cwV 2 hts (lw_V q1288 q1290 qs51 q106 q1291) rfl rfl rfl hdS_X13_stands ⟨by decide, by decide⟩) (hw.preV (k := 0) rfl rfl) rfl rfl hl.1 rfl (lv_room (by simp [Value.category])) dX13_metresStanding_21 ⟨Nat.zero_le _, Nat.zero_le _⟩) hw (fun r_21 u_21 H locs e_21 hw => ?_)
  obtain ⟨rfl, rfl⟩ := e_21
  have hw : nS G (mE G ad _ _) s H locs := hw
  refine lv_istore hx hb dX13_metresStanding_24 hl (by decide) rfl (fun ls hl => ?_)
  refine lv_iload hx hb dX13_metresStanding_26 (lv_at hl 1 rfl) ?_
  refine lv_if_lt (tgt := 49) hx hb dX13_metresStanding_28 (by decide) (fun c_28 => ?_) (fun c_28 => ?_)
  · skip
    have ho := oI_neg (fun z hz => by have := stN_lt hz; omega) c_28
    obtain ⟨A, hA, hw⟩ : ∃ A, A = chF w q (nI j) ∧ nS G (mE G ad A (ur M 2 w)) s H locs := ⟨_, by first | exact ch_none hnn ho | (exact ch_other hnn hz n_34) | (subst n_34; exact ch_same hnn hz), hw⟩
    rw [← hA] at hI
    refine lv_aload_n hx hb dX13_metresStanding_49 rfl (lv_at hl 2 rfl) ?_
    refine lv_iload_n hx hb dX13_metresStanding_50 rfl (lv_at hl 5 rfl) ?_
    refine n_callv (va_runV ⟨hx, hb, hml, hown, hts⟩ (tM_throwsGo l G ad _ _ n B hI hB) (cwV 1 hts (lw_V q1395 q1397 qs61 q106 q1398) rfl rfl rfl hdS_X13_throwsGo ⟨by decide, by decide⟩) (hw.preV (k := 0) rfl rfl) rfl rfl hl.1 rfl (lv_room (by simp [Value.category])) dX13_metresStanding_51 ⟨Nat.zero_le _, Nat.zero_le _⟩) hw (fun u_51 H locs e_51 hw => ?_)
    subst e_51
    have hw : nS G (mE G ad _ _) s H locs := hw
    refine lv_aload_n hx hb dX13_metresStanding_54 rfl (lv_at hl 2 rfl) ?_
    refine lv_aload_n hx hb dX13_metresStanding_55 rfl (lv_at hl 2 rfl) ?_
    refine n_get (k := 0) hx hb hts in_X13 hown hw rfl rfl 0 (by decide) q1198 rfl dX13_metresStanding_56 ?_
    refine lv_iconst (v := 3) hx hb dX13_metresStanding_59 (by decide) ?_
    refine n_iald (k := 1) (j := 3) hx hb hw rfl rfl (by decide) (by decide) dX13_metresStanding_60 ?_
    refine n_calli (va_runV ⟨hx, hb, hml, hown, hts⟩ (tM_putBack l G ad _ _ _) (cwV 1 hts (lw_V q1442 q1444 qs69 q106 q1445) rfl rfl rfl hdS_X13_putBack ⟨by decide, by decide⟩) (hw.preV (k := 0) rfl rfl) rfl rfl hl.1 rfl (lv_room (by simp [Value.category])) dX13_metresStanding_61 ⟨Nat.zero_le _, Nat.zero_le _⟩) hw (fun r_61 u_61 H locs e_61 hw => ?_)
    obtain ⟨rfl, rfl⟩ := e_61
    have hw : nS G (mE G ad _ _) s H locs := hw
    exact m_iret hx hb hr hlk rfl hw ⟨by rw [hA], rfl⟩ dX13_metresStanding_64
  · skip
    obtain ⟨z, hz, ez⟩ := oI_pos c_28
    have hz7 : z < 7 := stN_lt hz
    refine lv_iload hx hb dX13_metresStanding_31 (lv_at hl 1 rfl) ?_
    refine n_topE ez ?_
    refine lv_iload_n hx hb dX13_metresStanding_33 rfl (lv_at hl 4 rfl) ?_
    refine lv_icmp_eq (tgt := 49) hx hb dX13_metresStanding_34 (by decide) (fun c_34 => ?_) (fun c_34 => ?_)
    · skip
      have n_34 : z = q := (nI_eq (a := z) (b := q) (by omega) (by omega)).mp c_34
      obtain ⟨A, hA, hw⟩ : ∃ A, A = chF w q (nI j) ∧ nS G (mE G ad A (ur M 2 w)) s H locs := ⟨_, by first | exact ch_none hnn ho | (exact ch_other hnn hz n_34) | (subst n_34; exact ch_same hnn hz), hw⟩
      rw [← hA] at hI
      refine lv_aload_n hx hb dX13_metresStanding_49 rfl (lv_at hl 2 rfl) ?_
      refine lv_iload_n hx hb dX13_metresStanding_50 rfl (lv_at hl 5 rfl) ?_
      refine n_callv (va_runV ⟨hx, hb, hml, hown, hts⟩ (tM_throwsGo l G ad _ _ n B hI hB) (cwV 1 hts (lw_V q1395 q1397 qs61 q106 q1398) rfl rfl rfl hdS_X13_throwsGo ⟨by decide, by decide⟩) (hw.preV (k := 0) rfl rfl) rfl rfl hl.1 rfl (lv_room (by simp [Value.category])) dX13_metresStanding_51 ⟨Nat.zero_le _, Nat.zero_le _⟩) hw (fun u_51 H locs e_51 hw => ?_)
      subst e_51
      have hw : nS G (mE G ad _ _) s H locs := hw
      refine lv_aload_n hx hb dX13_metresStanding_54 rfl (lv_at hl 2 rfl) ?_
      refine lv_aload_n hx hb dX13_metresStanding_55 rfl (lv_at hl 2 rfl) ?_
      refine n_get (k := 0) hx hb hts in_X13 hown hw rfl rfl 0 (by decide) q1198 rfl dX13_metresStanding_56 ?_
      refine lv_iconst (v := 3) hx hb dX13_metresStanding_59 (by decide) ?_
      refine n_iald (k := 1) (j := 3) hx hb hw rfl rfl (by decide) (by decide) dX13_metresStanding_60 ?_
      refine n_calli (va_runV ⟨hx, hb, hml, hown, hts⟩ (tM_putBack l G ad _ _ _) (cwV 1 hts (lw_V q1442 q1444 qs69 q106 q1445) rfl rfl rfl hdS_X13_putBack ⟨by decide, by decide⟩) (hw.preV (k := 0) rfl rfl) rfl rfl hl.1 rfl (lv_room (by simp [Value.category])) dX13_metresStanding_61 ⟨Nat.zero_le _, Nat.zero_le _⟩) hw (fun r_61 u_61 H locs e_61 hw => ?_)
      obtain ⟨rfl, rfl⟩ := e_61
      have hw : nS G (mE G ad _ _) s H locs := hw
      exact m_iret hx hb hr hlk rfl hw ⟨by rw [hA], rfl⟩ dX13_metresStanding_64
    · skip
      have n_34 : ¬ z = q := fun h => c_34 ((nI_eq (a := z) (b := q) (by omega) (by omega)).mpr h)
      refine lv_aload_n hx hb dX13_metresStanding_37 rfl (lv_at hl 2 rfl) ?_
      refine n_get (k := 0) hx hb hts in_X13 hown hw rfl rfl 0 (by decide) q1198 rfl dX13_metresStanding_38 ?_
      refine lv_bipush (v := 17) hx hb dX13_metresStanding_41 (by decide) ?_
      refine lv_iload hx hb dX13_metresStanding_43 (lv_at hl 1 rfl) ?_
      refine n_topE ez ?_
      refine lv_iadd hx hb dX13_metresStanding_45 ?_
      refine n_topE (nI_add 17 z) ?_
      refine lv_iload hx hb dX13_metresStanding_46 (lv_at hl 0 rfl) ?_
      refine m_iastw (j := 17 + z) hx hb hw rfl (by omega) dX13_metresStanding_48 (fun H locs hw => ?_)
      obtain ⟨A, hA, hw⟩ : ∃ A, A = chF w q (nI j) ∧ nS G (mE G ad A (ur M 2 w)) s H locs := ⟨_, by first | exact ch_none hnn ho | (exact ch_other hnn hz n_34) | (subst n_34; exact ch_same hnn hz), hw⟩
      rw [← hA] at hI
      refine lv_aload_n hx hb dX13_metresStanding_49 rfl (lv_at hl 2 rfl) ?_
      refine lv_iload_n hx hb dX13_metresStanding_50 rfl (lv_at hl 5 rfl) ?_
      refine n_callv (va_runV ⟨hx, hb, hml, hown, hts⟩ (tM_throwsGo l G ad _ _ n B hI hB) (cwV 1 hts (lw_V q1395 q1397 qs61 q106 q1398) rfl rfl rfl hdS_X13_throwsGo ⟨by decide, by decide⟩) (hw.preV (k := 0) rfl rfl) rfl rfl hl.1 rfl (lv_room (by simp [Value.category])) dX13_metresStanding_51 ⟨Nat.zero_le _, Nat.zero_le _⟩) hw (fun u_51 H locs e_51 hw => ?_)
      subst e_51
      have hw : nS G (mE G ad _ _) s H locs := hw
      refine lv_aload_n hx hb dX13_metresStanding_54 rfl (lv_at hl 2 rfl) ?_
      refine lv_aload_n hx hb dX13_metresStanding_55 rfl (lv_at hl 2 rfl) ?_
      refine n_get (k := 0) hx hb hts in_X13 hown hw rfl rfl 0 (by decide) q1198 rfl dX13_metresStanding_56 ?_
      refine lv_iconst (v := 3) hx hb dX13_metresStanding_59 (by decide) ?_
      refine n_iald (k := 1) (j := 3) hx hb hw rfl rfl (by decide) (by decide) dX13_metresStanding_60 ?_
      refine n_calli (va_runV ⟨hx, hb, hml, hown, hts⟩ (tM_putBack l G ad _ _ _) (cwV 1 hts (lw_V q1442 q1444 qs69 q106 q1445) rfl rfl rfl hdS_X13_putBack ⟨by decide, by decide⟩) (hw.preV (k := 0) rfl rfl) rfl rfl hl.1 rfl (lv_room (by simp [Value.category])) dX13_metresStanding_61 ⟨Nat.zero_le _, Nat.zero_le _⟩) hw (fun r_61 u_61 H locs e_61 hw => ?_)
      obtain ⟨rfl, rfl⟩ := e_61
      have hw : nS G (mE G ad _ _) s H locs := hw
      exact m_iret hx hb hr hlk rfl hw ⟨by rw [hA], rfl⟩ dX13_metresStanding_64
theorem hdS_X13_areMetresSo : yX13_areMetresSo.cls = "LineCallsModel" ∧ yX13_areMetresSo.cls ≠ "java/lang/invoke/MethodHandle" ∧ yX13_areMetresSo.cls ≠ "java/lang/invoke/VarHandle" ∧ (parseMethodDescriptor yX13_areMetresSo.desc).map (fun d => d.parameters.length) = some 1 := by decide +kernel
set_option maxHeartbeats 4000000 in
theorem tM_areMetresSo (l : Launch) (G : nG) (ad : Nat → Nat) (w : rw84) (M : mM) (t n B : Nat) (ht : t < 4) (hn : n ≤ 40) (en : M 22 t = nI n) (hI : Inv B w) (hB : B + n < 2 ^ 30) : Met l yX13_areMetresSo (ws_ yX13_areMetresSo cX13_areMetresSo 5 (some .boolean)) { frames := 6, cells := 0, slots := 0, locals := 136 } (va_Pc [.ref (ad 0), .int (nI t)] (nC G (mE G ad w M))) (va_Qi (fun (r : Int32) (u : rw84 × mM) => r = soR (fun k => M 23 (40 * t + k)) n 0 w ∧ u = (w, ur M 2 w)) (fun u => nC G (mE G ad u.1 u.2)) (nA G)) 0 0 (nA G) := by
  refine n_head (by decide) (Nat.le_of_ble_eq_true rfl) ?_
  intro p e s m below meth c ls hx hb hr hlk hml hown hts hB0 hl
  have hown : s.vm.findClass "LineCallsModel" = some m.cls := hown
  have hw := nS.start hB0
  have hl : lv_has ls 5 [(0, .ref (ad 0)), (1, .int (nI t))] := hl
  refine lv_aload_n hx hb dX13_areMetresSo_0 rfl (lv_at hl 0 rfl) ?_
  refine n_get (k := 0) hx hb hts in_X13 hown hw rfl rfl 0 (by decide) q1198 rfl dX13_areMetresSo_1 ?_
  refine lv_aload_n hx hb dX13_areMetresSo_4 rfl (lv_at hl 0 rfl) ?_
  refine n_get (k := 0) hx hb hts in_X13 hown hw rfl rfl 2 (by decide) q1200 rfl dX13_areMetresSo_5 ?_
  refine n_callv (va_runS ⟨hx, hb, hml, hown, hts⟩ (tM_copyRow_0_2 l G ad _ _ ) (va_cwS 2 hts (lw_S q1439 q1440 q106 q1441) rfl rfl rfl (hdS_X13_copyRow).2 ⟨by decide, by decide⟩) hw.preS rfl rfl hl.1 rfl (lv_room (by simp [Value.category])) dX13_areMetresSo_8 ⟨Nat.zero_le _, Nat.zero_le _⟩) hw (fun u_8 H locs e_8 hw => ?_)
  subst e_8
  have hw : nS G (mE G ad _ _) s H locs := hw
  refine lv_iconst (v := 1) hx hb dX13_areMetresSo_11 (by decide) ?_
  refine lv_istore_n hx hb dX13_areMetresSo_12 rfl hl (by decide) rfl (fun ls hl => ?_)
  refine lv_iconst (v := 0) hx hb dX13_areMetresSo_13 (by decide) ?_
  refine lv_istore_n hx hb dX13_areMetresSo_14 rfl hl (by decide) rfl (fun ls hl => ?_)
  refine n_loop (α := Nat × Int32) (fun x H locs ls => x.1 ≤ n ∧ ((x.2 = 1 ∧ soR (fun k => M 23 (40 * t + k)) (n - x.1) x.1 (thrN w x.1) = soR (fun k => M 23 (40 * t + k)) n 0 w) ∨ (x.2 = 0 ∧ soR (fun k => M 23 (40 * t + k)) n 0 w = 0)) ∧ nS G (mE G ad (thrN w x.1) (ur M 2 w)) s H locs ∧ lv_has ls 5 [(0, .ref (ad 0)), (1, .int (nI t)), (2, .int x.2), (3, .int (nI x.1))]) (fun x => n - x.1) 15 ?_ (0, 1) _ _ _ ⟨Nat.zero_le _, Or.inl ⟨rfl, rfl⟩, hw, (lv_sub hl [2, 3, 1, 0] rfl)⟩
  clear hl hw
  intro x H locs ls hI ih_15
  obtain ⟨hk, hf, hw, hl⟩ := hI
  obtain ⟨k, b⟩ := x
  dsimp only at hk hf hw hl
  refine lv_iload_n hx hb dX13_areMetresSo_15 rfl (lv_at hl 3 rfl) ?_
  refine lv_aload_n hx hb dX13_areMetresSo_16 rfl (lv_at hl 0 rfl) ?_
  refine n_get (k := 0) hx hb hts in_X13 hown hw rfl rfl 22 (by decide) q1220 rfl dX13_areMetresSo_17 ?_
  refine lv_iload_n hx hb dX13_areMetresSo_20 rfl (lv_at hl 1 rfl) ?_
  refine n_iald (k := 23) (j := t) hx hb hw rfl rfl (by omega) (by decide) dX13_areMetresSo_21 ?_
  refine n_topE en ?_
  refine lv_icmp_ge (tgt := 75) hx hb dX13_areMetresSo_22 (by decide) (fun c_22 => ?_) (fun c_22 => ?_)
  · skip
    have n_22 : n ≤ k := (nI_leI (a := n) (b := k) (by omega) (by omega)).mp c_22
    obtain rfl : k = n := by omega
    have hb1 := so_end hf
    refine lv_aload_n hx hb dX13_areMetresSo_75 rfl (lv_at hl 0 rfl) ?_
    refine n_get (k := 0) hx hb hts in_X13 hown hw rfl rfl 2 (by decide) q1200 rfl dX13_areMetresSo_76 ?_
    refine lv_aload_n hx hb dX13_areMetresSo_79 rfl (lv_at hl 0 rfl) ?_
    refine n_get (k := 0) hx hb hts in_X13 hown hw rfl rfl 0 (by decide) q1198 rfl dX13_areMetresSo_80 ?_
    refine n_callv (va_runS ⟨hx, hb, hml, hown, hts⟩ (tM_copyRow_2_0 l G ad _ _ ) (va_cwS 2 hts (lw_S q1439 q1440 q106 q1441) rfl rfl rfl (hdS_X13_copyRow).2 ⟨by decide, by decide⟩) hw.preS rfl rfl hl.1 rfl (lv_room (by simp [Value.category])) dX13_areMetresSo_83 ⟨Nat.zero_le _, Nat.zero_le _⟩) hw (fun u_83 H locs e_83 hw => ?_)
    subst e_83
    have hw : nS G (mE G ad _ _) s H locs := hw
    refine lv_iload_n hx hb dX13_areMetresSo_86 rfl (lv_at hl 2 rfl) ?_
    exact m_iret hx hb hr hlk (by rw [hb1]; exact soR_b _ _ _ _) hw ⟨hb1, rfl⟩ dX13_areMetresSo_87
  · skip
    have n_22 : ¬ n ≤ k := fun h => c_22 ((nI_leI (a := n) (b := k) (by omega) (by omega)).mpr h)
    refine lv_iload_n hx hb dX13_areMetresSo_25 rfl (lv_at hl 2 rfl) ?_
    refine lv_if_eq (tgt := 75) hx hb dX13_areMetresSo_26 (by decide) (fun c_26 => ?_) (fun c_26 => ?_)
    · skip
      have hb1 := so_stop hf c_26
      refine lv_aload_n hx hb dX13_areMetresSo_75 rfl (lv_at hl 0 rfl) ?_
      refine n_get (k := 0) hx hb hts in_X13 hown hw rfl rfl 2 (by decide) q1200 rfl dX13_areMetresSo_76 ?_
      refine lv_aload_n hx hb dX13_areMetresSo_79 rfl (lv_at hl 0 rfl) ?_
      refine n_get (k := 0) hx hb hts in_X13 hown hw rfl rfl 0 (by decide) q1198 rfl dX13_areMetresSo_80 ?_
      refine n_callv (va_runS ⟨hx, hb, hml, hown, hts⟩ (tM_copyRow_2_0 l G ad _ _ ) (va_cwS 2 hts (lw_S q1439 q1440 q106 q1441) rfl rfl rfl (hdS_X13_copyRow).2 ⟨by decide, by decide⟩) hw.preS rfl rfl hl.1 rfl (lv_room (by simp [Value.category])) dX13_areMetresSo_83 ⟨Nat.zero_le _, Nat.zero_le _⟩) hw (fun u_83 H locs e_83 hw => ?_)
      subst e_83
      have hw : nS G (mE G ad _ _) s H locs := hw
      refine lv_iload_n hx hb dX13_areMetresSo_86 rfl (lv_at hl 2 rfl) ?_
      exact m_iret hx hb hr hlk (by rw [hb1]; exact soR_b _ _ _ _) hw ⟨hb1, rfl⟩ dX13_areMetresSo_87
    · skip
      refine lv_aload_n hx hb dX13_areMetresSo_29 rfl (lv_at hl 0 rfl) ?_
      refine n_get (k := 0) hx hb hts in_X13 hown hw rfl rfl 23 (by decide) q1221 rfl dX13_areMetresSo_30 ?_
      refine lv_bipush (v := 40) hx hb dX13_areMetresSo_33 (by decide) ?_
      refine lv_iload_n hx hb dX13_areMetresSo_35 rfl (lv_at hl 1 rfl) ?_
      refine lv_imul hx hb dX13_areMetresSo_36 ?_
      refine n_topE (pk_mul 40 t) ?_
      refine lv_iload_n hx hb dX13_areMetresSo_37 rfl (lv_at hl 3 rfl) ?_
      refine lv_iadd hx hb dX13_areMetresSo_38 ?_
      refine n_topE (nI_add (40 * t) k) ?_
      refine n_iald (k := 24) (j := 40 * t + k) hx hb hw rfl rfl (by omega) (by decide) dX13_areMetresSo_39 ?_
      refine lv_istore hx hb dX13_areMetresSo_40 hl (by decide) rfl (fun ls hl => ?_)
      refine lv_iload hx hb dX13_areMetresSo_42 (lv_at hl 0 rfl) ?_
      refine lv_iconst (v := (-1)) hx hb dX13_areMetresSo_44 (by decide) ?_
      refine lv_icmp_eq (tgt := 59) hx hb dX13_areMetresSo_45 (by decide) (fun c_45 => ?_) (fun c_45 => ?_)
      · skip
        refine lv_iconst (v := 1) hx hb dX13_areMetresSo_59 (by decide) ?_
        refine lv_goto (tgt := 64) hx hb dX13_areMetresSo_60 (by decide) ?_
        refine lv_istore_n hx hb dX13_areMetresSo_64 rfl hl (by decide) rfl (fun ls hl => ?_)
        refine lv_aload_n hx hb dX13_areMetresSo_65 rfl (lv_at hl 2 rfl) ?_
        refine n_callv (va_runV ⟨hx, hb, hml, hown, hts⟩ (tM_oneThrow l G ad _ _ (B + k) (hI.thrN (by omega)) (by omega)) (cwV 0 hts (lw_V q1399 q1401 qs62 q106 q1402) rfl rfl rfl hdS_X13_oneThrow ⟨by decide, by decide⟩) (hw.preV (k := 0) rfl rfl) rfl rfl hl.1 rfl (lv_room (by simp [Value.category])) dX13_areMetresSo_66 ⟨Nat.zero_le _, Nat.zero_le _⟩) hw (fun u_66 H locs e_66 hw => ?_)
        subst e_66
        have hw : nS G (mE G ad _ _) s H locs := hw
        refine lv_iinc (v := nI (k + 1)) hx hb dX13_areMetresSo_69 hl (k := 4) rfl (nI_1 _) (by decide) rfl (fun ls hl => ?_)
        refine lv_goto (tgt := 15) hx hb dX13_areMetresSo_72 (by decide) ?_
        exact ih_15 (k + 1, 1) _ _ _ (by first | omega | (dsimp only; omega)) ⟨by dsimp only; omega, Or.inl ⟨rfl, so_nx hf c_26 (by omega) (by first | exact Or.inl c_45 | exact Or.inr c_56)⟩, hw, (lv_sub hl [3, 4, 1, 0] rfl)⟩
      · skip
        refine lv_iload hx hb dX13_areMetresSo_48 (lv_at hl 0 rfl) ?_
        refine lv_aload_n hx hb dX13_areMetresSo_50 rfl (lv_at hl 1 rfl) ?_
        refine n_get (k := 0) hx hb hts in_X13 hown hw rfl rfl 0 (by decide) q1198 rfl dX13_areMetresSo_51 ?_
        refine lv_iconst (v := 3) hx hb dX13_areMetresSo_54 (by decide) ?_
        refine n_iald (k := 1) (j := 3) hx hb hw rfl rfl (by decide) (by decide) dX13_areMetresSo_55 ?_
        refine lv_icmp_ne (tgt := 63) hx hb dX13_areMetresSo_56 (by decide) (fun c_56 => ?_) (fun c_56 => ?_)
        · skip
          refine lv_iconst (v := 0) hx hb dX13_areMetresSo_63 (by decide) ?_
          refine lv_istore_n hx hb dX13_areMetresSo_64 rfl hl (by decide) rfl (fun ls hl => ?_)
          refine lv_aload_n hx hb dX13_areMetresSo_65 rfl (lv_at hl 2 rfl) ?_
          refine n_callv (va_runV ⟨hx, hb, hml, hown, hts⟩ (tM_oneThrow l G ad _ _ (B + k) (hI.thrN (by omega)) (by omega)) (cwV 0 hts (lw_V q1399 q1401 qs62 q106 q1402) rfl rfl rfl hdS_X13_oneThrow ⟨by decide, by decide⟩) (hw.preV (k := 0) rfl rfl) rfl rfl hl.1 rfl (lv_room (by simp [Value.category])) dX13_areMetresSo_66 ⟨Nat.zero_le _, Nat.zero_le _⟩) hw (fun u_66 H locs e_66 hw => ?_)
          subst e_66
          have hw : nS G (mE G ad _ _) s H locs := hw
          refine lv_iinc (v := nI (k + 1)) hx hb dX13_areMetresSo_69 hl (k := 4) rfl (nI_1 _) (by decide) rfl (fun ls hl => ?_)
          refine lv_goto (tgt := 15) hx hb dX13_areMetresSo_72 (by decide) ?_
          exact ih_15 (k + 1, 0) _ _ _ (by first | omega | (dsimp only; omega)) ⟨by dsimp only; omega, Or.inr ⟨rfl, so_no hf c_26 (by omega) c_45 c_56⟩, hw, (lv_sub hl [3, 4, 1, 0] rfl)⟩
        · skip
          refine lv_iconst (v := 1) hx hb dX13_areMetresSo_59 (by decide) ?_
          refine lv_goto (tgt := 64) hx hb dX13_areMetresSo_60 (by decide) ?_
          refine lv_istore_n hx hb dX13_areMetresSo_64 rfl hl (by decide) rfl (fun ls hl => ?_)
          refine lv_aload_n hx hb dX13_areMetresSo_65 rfl (lv_at hl 2 rfl) ?_
          refine n_callv (va_runV ⟨hx, hb, hml, hown, hts⟩ (tM_oneThrow l G ad _ _ (B + k) (hI.thrN (by omega)) (by omega)) (cwV 0 hts (lw_V q1399 q1401 qs62 q106 q1402) rfl rfl rfl hdS_X13_oneThrow ⟨by decide, by decide⟩) (hw.preV (k := 0) rfl rfl) rfl rfl hl.1 rfl (lv_room (by simp [Value.category])) dX13_areMetresSo_66 ⟨Nat.zero_le _, Nat.zero_le _⟩) hw (fun u_66 H locs e_66 hw => ?_)
          subst e_66
          have hw : nS G (mE G ad _ _) s H locs := hw
          refine lv_iinc (v := nI (k + 1)) hx hb dX13_areMetresSo_69 hl (k := 4) rfl (nI_1 _) (by decide) rfl (fun ls hl => ?_)
          refine lv_goto (tgt := 15) hx hb dX13_areMetresSo_72 (by decide) ?_
          exact ih_15 (k + 1, 1) _ _ _ (by first | omega | (dsimp only; omega)) ⟨by dsimp only; omega, Or.inl ⟨rfl, so_nx hf c_26 (by omega) (by first | exact Or.inl c_45 | exact Or.inr c_56)⟩, hw, (lv_sub hl [3, 4, 1, 0] rfl)⟩
theorem hdS_X13_fitTall : yX13_fitTall.cls = "LineCallsModel" ∧ yX13_fitTall.cls ≠ "java/lang/invoke/MethodHandle" ∧ yX13_fitTall.cls ≠ "java/lang/invoke/VarHandle" ∧ (parseMethodDescriptor yX13_fitTall.desc).map (fun d => d.parameters.length) = some 2 := by decide +kernel
set_option maxHeartbeats 4000000 in
theorem tM_fitTall (l : Launch) (G : nG) (ad : Nat → Nat) (w : rw84) (M : mM) (t j n B : Nat) (ht : t < 4) (hj : j < 8) (hn : n ≤ 40) (en : M 22 t = nI n) (hI : ∀ v, v ≤ 99 → Inv B (upd w (44 + 5 * j + 1) (nI v))) (hB : B + n < 2 ^ 30) : Met l yX13_fitTall (ws_ yX13_fitTall cX13_fitTall 7 (none)) { frames := 7, cells := 0, slots := 0, locals := 160 } (va_Pc [.ref (ad 0), .int (nI t), .int (nI j)] (nC G (mE G ad w M))) (va_Qv (fun (u : rw84 × mM) => ∃ g, u = (w, fM M g (fitF (fun v => soR (fun k => M 23 (40 * t + k)) n 0 (upd w (44 + 5 * j + 1) (nI v))) 100).1 (fitF (fun v => soR (fun k => M 23 (40 * t + k)) n 0 (upd w (44 + 5 * j + 1) (nI v))) 100).2)) (fun u => nC G (mE G ad u.1 u.2)) (nA G)) 0 0 (nA G) := by
  refine n_head (by decide) (Nat.le_of_ble_eq_true rfl) ?_
  intro p e s m below meth c ls hx hb hr hlk hml hown hts hB0 hl
  have hown : s.vm.findClass "LineCallsModel" = some m.cls := hown
  have hw := nS.start hB0
  have hl : lv_has ls 7 [(0, .ref (ad 0)), (1, .int (nI t)), (2, .int (nI j))] := hl
  generalize hG : (fun v => soR (fun k => M 23 (40 * t + k)) n 0 (upd w (44 + 5 * j + 1) (nI v))) = gg
  refine lv_iload_n hx hb dX13_fitTall_0 rfl (lv_at hl 2 rfl) ?_
  refine lv_iconst (v := 1) hx hb dX13_fitTall_1 (by decide) ?_
  refine n_callp (va_runS ⟨hx, hb, hml, hown, hts⟩ (tM_jumperAt l (j) (1)) (va_cwS 2 hts (lw_S q1354 q1355 q106 q1356) rfl rfl rfl (hdS_X13_jumperAt).2 ⟨by decide, by decide⟩) pu_pre rfl rfl hl.1 rfl (lv_room (by simp [Value.category])) dX13_fitTall_2 ⟨Nat.zero_le _, Nat.zero_le _⟩) (fun r_2 e_2 => ?_)
  subst e_2
  refine lv_istore_n hx hb dX13_fitTall_5 rfl hl (by decide) rfl (fun ls hl => ?_)
  refine lv_aload_n hx hb dX13_fitTall_6 rfl (lv_at hl 1 rfl) ?_
  refine n_get (k := 0) hx hb hts in_X13 hown hw rfl rfl 0 (by decide) q1198 rfl dX13_fitTall_7 ?_
  refine lv_iload_n hx hb dX13_fitTall_10 rfl (lv_at hl 0 rfl) ?_
  refine n_iald (k := 1) (j := 44 + 5 * j + 1) hx hb hw rfl rfl (by omega) (by decide) dX13_fitTall_11 ?_
  refine lv_istore hx hb dX13_fitTall_12 hl (by decide) rfl (fun ls hl => ?_)
  refine lv_aload_n hx hb dX13_fitTall_14 rfl (lv_at hl 2 rfl) ?_
  refine lv_iconst (v := 0) hx hb dX13_fitTall_15 (by decide) ?_
  refine m_put hx hb hts hown hw 5 (by decide) q1203 rfl rfl rfl (mI_5 _ _ _ _ _) dX13_fitTall_16 (fun H locs hw => ?_)
  refine lv_aload_n hx hb dX13_fitTall_19 rfl (lv_at hl 2 rfl) ?_
  refine lv_iconst (v := (-1)) hx hb dX13_fitTall_20 (by decide) ?_
  refine m_put hx hb hts hown hw 6 (by decide) q1204 rfl rfl rfl (mI_6 _ _ _ _ _) dX13_fitTall_21 (fun H locs hw => ?_)
  rw [fM_init] at hw
  refine lv_bipush (v := 99) hx hb dX13_fitTall_24 (by decide) ?_
  refine lv_istore hx hb dX13_fitTall_26 hl (by decide) rfl (fun ls hl => ?_)
  refine n_loop (α := Nat × rw84) (fun x H locs ls => x.1 ≤ 100 ∧ nS G (mE G ad (tdF w (44 + 5 * j + 1) x.1) (fM M x.2 (fitF gg x.1).1 (fitF gg x.1).2)) s H locs ∧ lv_has ls 7 [(0, .ref (ad 0)), (1, .int (nI t)), (2, .int (nI j)), (3, .int (nI (44 + 5 * j + 1))), (4, .int (w (44 + 5 * j + 1))), (5, .int (dn x.1))]) (fun x => 100 - x.1) 28 ?_ (0, M 2) _ _ _ ⟨Nat.zero_le _, hw, (lv_sub hl [3, 4, 5, 2, 1, 0] rfl)⟩
  clear hl hw
  intro x H locs ls hI ih_28
  obtain ⟨hi, hw, hl⟩ := hI
  obtain ⟨y, g⟩ := x
  dsimp only at hi hw hl
  refine lv_iload hx hb dX13_fitTall_28 (lv_at hl 5 rfl) ?_
  refine lv_if_lt (tgt := 91) hx hb dX13_fitTall_30 (by decide) (fun c_30 => ?_) (fun c_30 => ?_)
  · skip
    have hy := dn_neg c_30
    obtain rfl : y = 100 := by omega
    refine lv_aload_n hx hb dX13_fitTall_91 rfl (lv_at hl 0 rfl) ?_
    refine n_get (k := 0) hx hb hts in_X13 hown hw rfl rfl 0 (by decide) q1198 rfl dX13_fitTall_92 ?_
    refine lv_iload_n hx hb dX13_fitTall_95 rfl (lv_at hl 3 rfl) ?_
    refine lv_iload hx hb dX13_fitTall_96 (lv_at hl 4 rfl) ?_
    refine m_iastw (j := 44 + 5 * j + 1) hx hb hw rfl (by omega) dX13_fitTall_98 (fun H locs hw => ?_)
    rw [td_up, up_self] at hw
    exact m_vret hx hb hr hlk hw ⟨_, rfl⟩ dX13_fitTall_99
  · skip
    have hy := dn_pos c_30
    refine lv_aload_n hx hb dX13_fitTall_33 rfl (lv_at hl 0 rfl) ?_
    refine n_get (k := 0) hx hb hts in_X13 hown hw rfl rfl 0 (by decide) q1198 rfl dX13_fitTall_34 ?_
    refine lv_iload_n hx hb dX13_fitTall_37 rfl (lv_at hl 3 rfl) ?_
    refine lv_iload hx hb dX13_fitTall_38 (lv_at hl 5 rfl) ?_
    refine n_topE (dn_at hy) ?_
    refine m_iastw (j := 44 + 5 * j + 1) hx hb hw rfl (by omega) dX13_fitTall_40 (fun H locs hw => ?_)
    rw [td_up] at hw
    refine lv_aload_n hx hb dX13_fitTall_41 rfl (lv_at hl 0 rfl) ?_
    refine lv_iload_n hx hb dX13_fitTall_42 rfl (lv_at hl 1 rfl) ?_
    refine n_calli (va_runV ⟨hx, hb, hml, hown, hts⟩ (tM_areMetresSo l G ad _ _ t n B ht hn (show fM M g (fitF gg y).1 (fitF gg y).2 22 t = nI n from en) (hI (99 - y) (by omega)) hB) (cwV 1 hts (lw_V q1514 q1516 qs75 q106 q1517) rfl rfl rfl hdS_X13_areMetresSo ⟨by decide, by decide⟩) (hw.preV (k := 0) rfl rfl) rfl rfl hl.1 rfl (lv_room (by simp [Value.category])) dX13_fitTall_43 ⟨Nat.zero_le _, Nat.zero_le _⟩) hw (fun r_43 u_43 H locs e_43 hw => ?_)
    obtain ⟨rfl, rfl⟩ := e_43
    have hw : nS G (mE G ad _ _) s H locs := hw
    refine n_topE (y := gg (99 - y)) (by rw [← hG]; rfl) ?_
    refine lv_istore hx hb dX13_fitTall_46 hl (by decide) rfl (fun ls hl => ?_)
    refine lv_aload_n hx hb dX13_fitTall_48 rfl (lv_at hl 1 rfl) ?_
    refine lv_dup hx hb dX13_fitTall_49 rfl ?_
    refine n_get (k := 0) hx hb hts in_X13 hown hw rfl rfl 5 (by decide) q1203 rfl dX13_fitTall_50 ?_
    refine lv_iload hx hb dX13_fitTall_53 (lv_at hl 0 rfl) ?_
    refine n_join1 (fun v => v = (if gg (99 - y) = 0 then 0 else 1)) 63 (fun v_55 hv_55 => ?_) (fun hj_55 => ?_)
    · skip
      refine lv_iadd hx hb dX13_fitTall_63 ?_
      refine m_put hx hb hts hown hw 5 (by decide) q1203 rfl rfl rfl (mI_5 _ _ _ _ _) dX13_fitTall_64 (fun H locs hw => ?_)
      refine lv_aload_n hx hb dX13_fitTall_67 rfl (lv_at hl 1 rfl) ?_
      refine lv_iload hx hb dX13_fitTall_68 (lv_at hl 0 rfl) ?_
      refine lv_if_eq (tgt := 78) hx hb dX13_fitTall_70 (by decide) (fun c_70 => ?_) (fun c_70 => ?_)
      · skip
        refine lv_aload_n hx hb dX13_fitTall_78 rfl (lv_at hl 1 rfl) ?_
        refine n_get (k := 0) hx hb hts in_X13 hown hw rfl rfl 6 (by decide) q1204 rfl dX13_fitTall_79 ?_
        refine m_put hx hb hts hown hw 6 (by decide) q1204 rfl rfl rfl (mI_6 _ _ _ _ _) dX13_fitTall_82 (fun H locs hw => ?_)
        have hw := n_E (congrArg (mE G ad _) (fM_step _ _ _ _ _ _ _)) hw
        refine lv_iinc (v := dn (y + 1)) hx hb dX13_fitTall_85 hl (k := 6) rfl (dn_s hy) (by decide) rfl (fun ls hl => ?_)
        refine lv_goto (tgt := 28) hx hb dX13_fitTall_88 (by decide) ?_
        exact ih_28 (y + 1, upd w (44 + 5 * j + 1) (nI (99 - y))) _ _ _ (by first | omega | (dsimp only; omega)) ⟨by dsimp only; omega, by rw [fitF, ← hv_55, if_pos c_70]; exact hw, (lv_sub hl [2, 3, 4, 5, 6, 0] rfl)⟩
      · skip
        refine lv_iload hx hb dX13_fitTall_73 (lv_at hl 6 rfl) ?_
        refine n_topE (dn_at hy) ?_
        refine lv_goto (tgt := 82) hx hb dX13_fitTall_75 (by decide) ?_
        refine m_put hx hb hts hown hw 6 (by decide) q1204 rfl rfl rfl (mI_6 _ _ _ _ _) dX13_fitTall_82 (fun H locs hw => ?_)
        have hw := n_E (congrArg (mE G ad _) (fM_step _ _ _ _ _ _ _)) hw
        refine lv_iinc (v := dn (y + 1)) hx hb dX13_fitTall_85 hl (k := 6) rfl (dn_s hy) (by decide) rfl (fun ls hl => ?_)
        refine lv_goto (tgt := 28) hx hb dX13_fitTall_88 (by decide) ?_
        exact ih_28 (y + 1, upd w (44 + 5 * j + 1) (nI (99 - y))) _ _ _ (by first | omega | (dsimp only; omega)) ⟨by dsimp only; omega, by rw [fitF, ← hv_55, if_neg c_70]; exact hw, (lv_sub hl [2, 3, 4, 5, 6, 0] rfl)⟩
    · skip
      refine lv_if_eq (tgt := 62) hx hb dX13_fitTall_55 (by decide) (fun c_55 => ?_) (fun c_55 => ?_)
      · skip
        refine lv_iconst (v := 0) hx hb dX13_fitTall_62 (by decide) ?_
        exact hj_55 _ (by rw [if_pos c_55])
      · skip
        refine lv_iconst (v := 1) hx hb dX13_fitTall_58 (by decide) ?_
        refine lv_goto (tgt := 63) hx hb dX13_fitTall_59 (by decide) ?_
        exact hj_55 _ (by rw [if_neg c_55])
