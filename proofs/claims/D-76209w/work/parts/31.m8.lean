/-! the reference: the rest but texts -/
set_option maxRecDepth 100000
theorem hdS_X13_load : yX13_load.cls = "LineCallsModel" ∧ yX13_load.cls ≠ "java/lang/invoke/MethodHandle" ∧ yX13_load.cls ≠ "java/lang/invoke/VarHandle" ∧ (parseMethodDescriptor yX13_load.desc).map (fun d => d.parameters.length) = some 1 := by decide +kernel
set_option maxHeartbeats 4000000 in
theorem tM_load (l : Launch) (G : nG) (ad : Nat → Nat) (w : rw84) (M : mM) (t : Int32) (B : Nat) (hI : Inv B w) (hB : B ≤ 100000) (hS : ∀ t, t < 4 → ∃ n, n ≤ 40 ∧ M 22 t = nI n) : Met l yX13_load (ws_ yX13_load cX13_load 3 (some .int)) { frames := 3, cells := 0, slots := 0, locals := 64 } (va_Pc [.ref (ad 0), .int t] (nC G (mE G ad w M))) (va_Qi (fun (r : Int32) (u : rw84 × mM) => r = (loadO w (M 21) (M 22) (M 23) t).1 ∧ u.1 = (loadO w (M 21) (M 22) (M 23) t).2.1 ∧ mSc (fnd (loadO w (M 21) (M 22) (M 23) t).2.2 M) u.2) (fun u => nC G (mE G ad u.1 u.2)) (nA G)) 0 0 (nA G) := by
  refine n_head (by decide) (Nat.le_of_ble_eq_true rfl) ?_
  intro p e s m below meth c ls hx hb hr hlk hml hown hts hB0 hl
  have hown : s.vm.findClass "LineCallsModel" = some m.cls := hown
  have hw := nS.start hB0
  have hl : lv_has ls 3 [(0, .ref (ad 0)), (1, .int t)] := hl
  refine lv_aload_n hx hb dX13_load_0 rfl (lv_at hl 0 rfl) ?_
  refine lv_iload_n hx hb dX13_load_1 rfl (lv_at hl 1 rfl) ?_
  refine lv_iconst (v := 1) hx hb dX13_load_2 (by decide) ?_
  refine n_callp (va_runV ⟨hx, hb, hml, hown, hts⟩ (tM_lacks l G ad _ _ _ _) (cwV 2 hts (lw_V q1506 q1508 qs74 q106 q1509) rfl rfl rfl hdS_X13_lacks ⟨by decide, by decide⟩) (hw.preV (k := 0) rfl rfl) rfl rfl hl.1 rfl (lv_room (by simp [Value.category])) dX13_load_3 ⟨Nat.zero_le _, Nat.zero_le _⟩) (fun r_3 e_3 => ?_)
  subst e_3
  refine lv_if_eq (tgt := 20) hx hb dX13_load_6 (by decide) (fun c_6 => ?_) (fun c_6 => ?_)
  · skip
    obtain ⟨q, hq, rfl⟩ := lack_in c_6
    have iq : ix (nI q) = q := nI_clamp (by omega)
    obtain ⟨n, hn, en⟩ := hS q hq
    have isz : ix (M 22 q) = n := by rw [en]; exact nI_clamp (by omega)
    refine lv_iconst (v := 0) hx hb dX13_load_20 (by decide) ?_
    refine lv_istore_n hx hb dX13_load_21 rfl hl (by decide) rfl (fun ls hl => ?_)
    refine n_loop (α := Nat × rw84) (fun x H locs ls => x.1 ≤ n ∧ x.1 ≤ 6 ∧ ldR (fun k => M 23 (40 * q + k)) (min n 6 - x.1) x.1 x.2 = ldR (fun k => M 23 (40 * q + k)) (min n 6) 0 w ∧ nS G (mE G ad x.2 M) s H locs ∧ lv_has ls 3 [(0, .ref (ad 0)), (1, .int (nI q)), (2, .int (nI x.1))]) (fun x => n - x.1) 22 ?_ (0, w) _ _ _ ⟨Nat.zero_le _, Nat.zero_le _, rfl, hw, (lv_sub hl [1, 2, 0] rfl)⟩
    clear hl hw
    intro x H locs ls hI ih_22
    obtain ⟨hk, hk6, hf, hw, hl⟩ := hI
    obtain ⟨k, v⟩ := x
    dsimp only at hk hk6 hf hw hl
    refine lv_iload_n hx hb dX13_load_22 rfl (lv_at hl 2 rfl) ?_
    refine lv_aload_n hx hb dX13_load_23 rfl (lv_at hl 0 rfl) ?_
    refine n_get (k := 0) hx hb hts in_X13 hown hw rfl rfl 22 (by decide) q1220 rfl dX13_load_24 ?_
    refine lv_iload_n hx hb dX13_load_27 rfl (lv_at hl 1 rfl) ?_
    refine n_iald (k := 23) (j := q) hx hb hw rfl rfl (by omega) (by decide) dX13_load_28 ?_
    refine n_topE en ?_
    refine lv_icmp_ge (tgt := 81) hx hb dX13_load_29 (by decide) (fun c_29 => ?_) (fun c_29 => ?_)
    · skip
      have n_29 : n ≤ k := (nI_leI (a := n) (b := k) (by omega) (by omega)).mp c_29
      have hN := (ld_end (show min n 6 - k = 0 by omega)).symm.trans hf
      refine lv_iload_n hx hb dX13_load_81 rfl (lv_at hl 2 rfl) ?_
      exact m_iret hx hb hr hlk rfl hw (by rw [loadO, if_pos c_6, iq, isz, shR_at iq, ← hN]; exact ⟨rfl, rfl, mSc.rf _⟩) dX13_load_82
    · skip
      have n_29 : ¬ n ≤ k := fun h => c_29 ((nI_leI (a := n) (b := k) (by omega) (by omega)).mpr h)
      refine lv_iload_n hx hb dX13_load_32 rfl (lv_at hl 2 rfl) ?_
      refine lv_bipush (v := 6) hx hb dX13_load_33 (by decide) ?_
      refine lv_icmp_ge (tgt := 81) hx hb dX13_load_35 (by decide) (fun c_35 => ?_) (fun c_35 => ?_)
      · skip
        have n_35 : 6 ≤ k := (nI_leI (a := 6) (b := k) (by omega) (by omega)).mp c_35
        have hN := (ld_end (show min n 6 - k = 0 by omega)).symm.trans hf
        refine lv_iload_n hx hb dX13_load_81 rfl (lv_at hl 2 rfl) ?_
        exact m_iret hx hb hr hlk rfl hw (by rw [loadO, if_pos c_6, iq, isz, shR_at iq, ← hN]; exact ⟨rfl, rfl, mSc.rf _⟩) dX13_load_82
      · skip
        have n_35 : ¬ 6 ≤ k := fun h => c_35 ((nI_leI (a := 6) (b := k) (by omega) (by omega)).mpr h)
        refine lv_aload_n hx hb dX13_load_38 rfl (lv_at hl 0 rfl) ?_
        refine n_get (k := 0) hx hb hts in_X13 hown hw rfl rfl 23 (by decide) q1221 rfl dX13_load_39 ?_
        refine lv_bipush (v := 40) hx hb dX13_load_42 (by decide) ?_
        refine lv_iload_n hx hb dX13_load_44 rfl (lv_at hl 1 rfl) ?_
        refine lv_imul hx hb dX13_load_45 ?_
        refine n_topE (pk_mul 40 q) ?_
        refine lv_iload_n hx hb dX13_load_46 rfl (lv_at hl 2 rfl) ?_
        refine lv_iadd hx hb dX13_load_47 ?_
        refine n_topE (nI_add (40 * q) k) ?_
        refine n_iald (k := 24) (j := 40 * q + k) hx hb hw rfl rfl (by omega) (by decide) dX13_load_48 ?_
        refine n_callp (va_runS ⟨hx, hb, hml, hown, hts⟩ (tM_isCall l _) (va_cwS 1 hts (lw_S q1325 q1326 q106 q1327) rfl rfl rfl (hdS_X13_isCall).2 ⟨by decide, by decide⟩) pu_pre rfl rfl hl.1 rfl (lv_room (by simp [Value.category])) dX13_load_49 ⟨Nat.zero_le _, Nat.zero_le _⟩) (fun r_49 e_49 => ?_)
        subst e_49
        refine lv_if_eq (tgt := 81) hx hb dX13_load_52 (by decide) (fun c_52 => ?_) (fun c_52 => ?_)
        · skip
          have hN := (ld_stop (f := (fun k => M 23 (40 * q + k))) (k := k) (min n 6 - k) c_52).symm.trans hf
          refine lv_iload_n hx hb dX13_load_81 rfl (lv_at hl 2 rfl) ?_
          exact m_iret hx hb hr hlk rfl hw (by rw [loadO, if_pos c_6, iq, isz, shR_at iq, ← hN]; exact ⟨rfl, rfl, mSc.rf _⟩) dX13_load_82
        · skip
          refine lv_aload_n hx hb dX13_load_55 rfl (lv_at hl 0 rfl) ?_
          refine n_get (k := 0) hx hb hts in_X13 hown hw rfl rfl 0 (by decide) q1198 rfl dX13_load_56 ?_
          refine lv_bipush (v := 38) hx hb dX13_load_59 (by decide) ?_
          refine lv_iload_n hx hb dX13_load_61 rfl (lv_at hl 2 rfl) ?_
          refine lv_iadd hx hb dX13_load_62 ?_
          refine n_topE (nI_add 38 k) ?_
          refine lv_aload_n hx hb dX13_load_63 rfl (lv_at hl 0 rfl) ?_
          refine n_get (k := 0) hx hb hts in_X13 hown hw rfl rfl 23 (by decide) q1221 rfl dX13_load_64 ?_
          refine lv_bipush (v := 40) hx hb dX13_load_67 (by decide) ?_
          refine lv_iload_n hx hb dX13_load_69 rfl (lv_at hl 1 rfl) ?_
          refine lv_imul hx hb dX13_load_70 ?_
          refine n_topE (pk_mul 40 q) ?_
          refine lv_iload_n hx hb dX13_load_71 rfl (lv_at hl 2 rfl) ?_
          refine lv_iadd hx hb dX13_load_72 ?_
          refine n_topE (nI_add (40 * q) k) ?_
          refine n_iald (k := 24) (j := 40 * q + k) hx hb hw rfl rfl (by omega) (by decide) dX13_load_73 ?_
          refine m_iastw (j := 38 + k) hx hb hw rfl (by omega) dX13_load_74 (fun H locs hw => ?_)
          refine lv_iinc (v := nI (k + 1)) hx hb dX13_load_75 hl (k := 2) rfl (nI_1 _) (by decide) rfl (fun ls hl => ?_)
          refine lv_goto (tgt := 22) hx hb dX13_load_78 (by decide) ?_
          exact ih_22 (k + 1, upd v (38 + k) (M 23 (40 * q + k))) _ _ _ (by first | omega | (dsimp only; omega)) ⟨by dsimp only; omega, by dsimp only; omega, (ld_go (f := (fun k => M 23 (40 * q + k))) (k := k) (N := min n 6) (by omega) c_52).symm.trans hf, hw, (lv_sub hl [1, 2, 0] rfl)⟩
  · skip
    refine lv_aload_n hx hb dX13_load_9 rfl (lv_at hl 0 rfl) ?_
    refine lv_aload_n hx hb dX13_load_10 rfl (lv_at hl 0 rfl) ?_
    refine lv_iload_n hx hb dX13_load_11 rfl (lv_at hl 1 rfl) ?_
    refine lv_iconst (v := 1) hx hb dX13_load_12 (by decide) ?_
    refine n_callp (va_runV ⟨hx, hb, hml, hown, hts⟩ (tM_lacks l G ad _ _ _ _) (cwV 2 hts (lw_V q1506 q1508 qs74 q106 q1509) rfl rfl rfl hdS_X13_lacks ⟨by decide, by decide⟩) (hw.preV (k := 0) rfl rfl) rfl rfl hl.1 rfl (lv_room (by simp [Value.category])) dX13_load_13 ⟨Nat.zero_le _, Nat.zero_le _⟩) (fun r_13 e_13 => ?_)
    subst e_13
    refine n_calli (va_runV ⟨hx, hb, hml, hown, hts⟩ (tM_finding l G ad _ _ _ _ (lack_no c_6).1 (lack_no c_6).2) (cwV 1 hts (lw_V q1297 q1299 qs53 q106 q1300) rfl rfl rfl hdS_X13_finding ⟨by decide, by decide⟩) (hw.preV (k := 0) rfl rfl) rfl rfl hl.1 rfl (lv_room (by simp [Value.category])) dX13_load_16 ⟨Nat.zero_le _, Nat.zero_le _⟩) hw (fun r_16 u_16 H locs e_16 hw => ?_)
    obtain ⟨rfl, rfl⟩ := e_16
    have hw : nS G (mE G ad _ _) s H locs := hw
    exact m_iret hx hb hr hlk rfl hw (by rw [loadO, if_neg c_6]; exact ⟨rfl, rfl, mSc.rf _⟩) dX13_load_19
theorem hdS_X13_judge : yX13_judge.cls = "LineCallsModel" ∧ yX13_judge.cls ≠ "java/lang/invoke/MethodHandle" ∧ yX13_judge.cls ≠ "java/lang/invoke/VarHandle" ∧ (parseMethodDescriptor yX13_judge.desc).map (fun d => d.parameters.length) = some 1 := by decide +kernel
set_option maxHeartbeats 4000000 in
theorem tM_judge (l : Launch) (G : nG) (ad : Nat → Nat) (w : rw84) (M : mM) (t : Int32) (B : Nat) (hI : Inv B w) (hB : B ≤ 100000) (hS : ∀ t, t < 4 → ∃ n, n ≤ 40 ∧ M 22 t = nI n) : Met l yX13_judge (ws_ yX13_judge cX13_judge 3 (some .int)) { frames := 3, cells := 0, slots := 0, locals := 64 } (va_Pc [.ref (ad 0), .int t] (nC G (mE G ad w M))) (va_Qi (fun (r : Int32) (u : rw84 × mM) => r = (judgeO w (M 21) (M 22) (M 23) t).1 ∧ u.1 = (judgeO w (M 21) (M 22) (M 23) t).2.1 ∧ mSc (fnd (judgeO w (M 21) (M 22) (M 23) t).2.2 M) u.2) (fun u => nC G (mE G ad u.1 u.2)) (nA G)) 0 0 (nA G) := by
  refine n_head (by decide) (Nat.le_of_ble_eq_true rfl) ?_
  intro p e s m below meth c ls hx hb hr hlk hml hown hts hB0 hl
  have hown : s.vm.findClass "LineCallsModel" = some m.cls := hown
  have hw := nS.start hB0
  have hl : lv_has ls 3 [(0, .ref (ad 0)), (1, .int t)] := hl
  refine lv_aload_n hx hb dX13_judge_0 rfl (lv_at hl 0 rfl) ?_
  refine lv_iload_n hx hb dX13_judge_1 rfl (lv_at hl 1 rfl) ?_
  refine lv_iconst (v := 1) hx hb dX13_judge_2 (by decide) ?_
  refine n_callp (va_runV ⟨hx, hb, hml, hown, hts⟩ (tM_lacks l G ad _ _ _ _) (cwV 2 hts (lw_V q1506 q1508 qs74 q106 q1509) rfl rfl rfl hdS_X13_lacks ⟨by decide, by decide⟩) (hw.preV (k := 0) rfl rfl) rfl rfl hl.1 rfl (lv_room (by simp [Value.category])) dX13_judge_3 ⟨Nat.zero_le _, Nat.zero_le _⟩) (fun r_3 e_3 => ?_)
  subst e_3
  refine lv_if_eq (tgt := 20) hx hb dX13_judge_6 (by decide) (fun c_6 => ?_) (fun c_6 => ?_)
  · skip
    obtain ⟨q, hq, rfl⟩ := lack_in c_6
    have iq : ix (nI q) = q := nI_clamp (by omega)
    obtain ⟨n, hn, en⟩ := hS q hq
    have isz : ix (M 22 q) = n := by rw [en]; exact nI_clamp (by omega)
    obtain ⟨n1, hn1, en1⟩ := hI.num
    refine lv_iconst (v := 0) hx hb dX13_judge_20 (by decide) ?_
    refine lv_istore_n hx hb dX13_judge_21 rfl hl (by decide) rfl (fun ls hl => ?_)
    refine n_loopR (α := Nat) (fun k ls => k ≤ n ∧ jdR (fun k => M 23 (40 * q + k)) w (n - k) k = jdR (fun k => M 23 (40 * q + k)) w n 0 ∧ lv_has ls 3 [(0, .ref (ad 0)), (1, .int (nI q)), (2, .int (nI k))]) (fun k => n - k) 22 ?_ 0 _ ⟨Nat.zero_le _, rfl, (lv_sub hl [1, 2, 0] rfl)⟩
    clear hl
    intro k ls hI ih_22
    obtain ⟨hk, hf, hl⟩ := hI
    refine lv_iload_n hx hb dX13_judge_22 rfl (lv_at hl 2 rfl) ?_
    refine lv_aload_n hx hb dX13_judge_23 rfl (lv_at hl 0 rfl) ?_
    refine n_get (k := 0) hx hb hts in_X13 hown hw rfl rfl 22 (by decide) q1220 rfl dX13_judge_24 ?_
    refine lv_iload_n hx hb dX13_judge_27 rfl (lv_at hl 1 rfl) ?_
    refine n_iald (k := 23) (j := q) hx hb hw rfl rfl (by omega) (by decide) dX13_judge_28 ?_
    refine n_topE en ?_
    refine lv_icmp_ge (tgt := 66) hx hb dX13_judge_29 (by decide) (fun c_29 => ?_) (fun c_29 => ?_)
    · skip
      have n_29 : n ≤ k := (nI_leI (a := n) (b := k) (by omega) (by omega)).mp c_29
      have hN := (jd_end (show n - k = 0 by omega)).symm.trans hf
      refine lv_iload_n hx hb dX13_judge_66 rfl (lv_at hl 2 rfl) ?_
      refine lv_aload_n hx hb dX13_judge_67 rfl (lv_at hl 0 rfl) ?_
      refine n_get (k := 0) hx hb hts in_X13 hown hw rfl rfl 22 (by decide) q1220 rfl dX13_judge_68 ?_
      refine lv_iload_n hx hb dX13_judge_71 rfl (lv_at hl 1 rfl) ?_
      refine n_iald (k := 23) (j := q) hx hb hw rfl rfl (by omega) (by decide) dX13_judge_72 ?_
      refine lv_icmp_ne (tgt := 80) hx hb dX13_judge_73 (by decide) (fun c_73 => ?_) (fun c_73 => ?_)
      · skip
        refine lv_iconst (v := 1) hx hb dX13_judge_80 (by decide) ?_
        refine lv_iload_n hx hb dX13_judge_81 rfl (lv_at hl 2 rfl) ?_
        refine lv_iadd hx hb dX13_judge_82 ?_
        refine n_topE (nI_add 1 k) ?_
        exact m_iret hx hb hr hlk rfl hw (by rw [judgeO, if_pos c_6, iq, isz, shR_at iq, ← hN]; first | (rw [if_pos c_73]; exact ⟨rfl, rfl, mSc.rf _⟩) | (rw [if_neg c_73]; exact ⟨by first | rfl | rw [show (1 : Int32) = nI 1 from rfl, nI_add], rfl, mSc.rf _⟩)) dX13_judge_83
      · skip
        refine lv_iconst (v := 0) hx hb dX13_judge_76 (by decide) ?_
        refine lv_goto (tgt := 83) hx hb dX13_judge_77 (by decide) ?_
        exact m_iret hx hb hr hlk rfl hw (by rw [judgeO, if_pos c_6, iq, isz, shR_at iq, ← hN]; first | (rw [if_pos c_73]; exact ⟨rfl, rfl, mSc.rf _⟩) | (rw [if_neg c_73]; exact ⟨by first | rfl | rw [show (1 : Int32) = nI 1 from rfl, nI_add], rfl, mSc.rf _⟩)) dX13_judge_83
    · skip
      have n_29 : ¬ n ≤ k := fun h => c_29 ((nI_leI (a := n) (b := k) (by omega) (by omega)).mpr h)
      refine lv_aload_n hx hb dX13_judge_32 rfl (lv_at hl 0 rfl) ?_
      refine lv_iload_n hx hb dX13_judge_33 rfl (lv_at hl 2 rfl) ?_
      refine n_callp (va_runV ⟨hx, hb, hml, hown, hts⟩ (tM_isJumper l G ad _ _ _) (cwV 1 hts (lw_V q1284 q1286 qs50 q106 q1287) rfl rfl rfl hdS_X13_isJumper ⟨by decide, by decide⟩) (hw.preV (k := 0) rfl rfl) rfl rfl hl.1 rfl (lv_room (by simp [Value.category])) dX13_judge_34 ⟨Nat.zero_le _, Nat.zero_le _⟩) (fun r_34 e_34 => ?_)
      subst e_34
      refine lv_if_eq (tgt := 66) hx hb dX13_judge_37 (by decide) (fun c_37 => ?_) (fun c_37 => ?_)
      · skip
        have hN := (jd_st1 (n - k) c_37).symm.trans hf
        refine lv_iload_n hx hb dX13_judge_66 rfl (lv_at hl 2 rfl) ?_
        refine lv_aload_n hx hb dX13_judge_67 rfl (lv_at hl 0 rfl) ?_
        refine n_get (k := 0) hx hb hts in_X13 hown hw rfl rfl 22 (by decide) q1220 rfl dX13_judge_68 ?_
        refine lv_iload_n hx hb dX13_judge_71 rfl (lv_at hl 1 rfl) ?_
        refine n_iald (k := 23) (j := q) hx hb hw rfl rfl (by omega) (by decide) dX13_judge_72 ?_
        refine lv_icmp_ne (tgt := 80) hx hb dX13_judge_73 (by decide) (fun c_73 => ?_) (fun c_73 => ?_)
        · skip
          refine lv_iconst (v := 1) hx hb dX13_judge_80 (by decide) ?_
          refine lv_iload_n hx hb dX13_judge_81 rfl (lv_at hl 2 rfl) ?_
          refine lv_iadd hx hb dX13_judge_82 ?_
          refine n_topE (nI_add 1 k) ?_
          exact m_iret hx hb hr hlk rfl hw (by rw [judgeO, if_pos c_6, iq, isz, shR_at iq, ← hN]; first | (rw [if_pos c_73]; exact ⟨rfl, rfl, mSc.rf _⟩) | (rw [if_neg c_73]; exact ⟨by first | rfl | rw [show (1 : Int32) = nI 1 from rfl, nI_add], rfl, mSc.rf _⟩)) dX13_judge_83
        · skip
          refine lv_iconst (v := 0) hx hb dX13_judge_76 (by decide) ?_
          refine lv_goto (tgt := 83) hx hb dX13_judge_77 (by decide) ?_
          exact m_iret hx hb hr hlk rfl hw (by rw [judgeO, if_pos c_6, iq, isz, shR_at iq, ← hN]; first | (rw [if_pos c_73]; exact ⟨rfl, rfl, mSc.rf _⟩) | (rw [if_neg c_73]; exact ⟨by first | rfl | rw [show (1 : Int32) = nI 1 from rfl, nI_add], rfl, mSc.rf _⟩)) dX13_judge_83
      · skip
        obtain ⟨j, hjn, hj8, ej⟩ := in_num en1 hn1 c_37
        have hk8 : k < 8 := by have := (nI_eq (by omega) (by omega)).mp ej; omega
        refine lv_aload_n hx hb dX13_judge_40 rfl (lv_at hl 0 rfl) ?_
        refine n_get (k := 0) hx hb hts in_X13 hown hw rfl rfl 23 (by decide) q1221 rfl dX13_judge_41 ?_
        refine lv_bipush (v := 40) hx hb dX13_judge_44 (by decide) ?_
        refine lv_iload_n hx hb dX13_judge_46 rfl (lv_at hl 1 rfl) ?_
        refine lv_imul hx hb dX13_judge_47 ?_
        refine n_topE (pk_mul 40 q) ?_
        refine lv_iload_n hx hb dX13_judge_48 rfl (lv_at hl 2 rfl) ?_
        refine lv_iadd hx hb dX13_judge_49 ?_
        refine n_topE (nI_add (40 * q) k) ?_
        refine n_iald (k := 24) (j := 40 * q + k) hx hb hw rfl rfl (by omega) (by decide) dX13_judge_50 ?_
        refine lv_aload_n hx hb dX13_judge_51 rfl (lv_at hl 0 rfl) ?_
        refine lv_iload_n hx hb dX13_judge_52 rfl (lv_at hl 2 rfl) ?_
        refine lv_iconst (v := 3) hx hb dX13_judge_53 (by decide) ?_
        refine n_callp (va_runV ⟨hx, hb, hml, hown, hts⟩ (tM_jumperIs l G ad _ _ k 3 hk8 (by decide)) (cwV 2 hts (lw_V q1361 q1363 qs57 q106 q1364) rfl rfl rfl hdS_X13_jumperIs ⟨by decide, by decide⟩) (hw.preV (k := 0) rfl rfl) rfl rfl hl.1 rfl (lv_room (by simp [Value.category])) dX13_judge_54 ⟨Nat.zero_le _, Nat.zero_le _⟩) (fun r_54 e_54 => ?_)
        subst e_54
        refine lv_icmp_ne (tgt := 66) hx hb dX13_judge_57 (by decide) (fun c_57 => ?_) (fun c_57 => ?_)
        · skip
          have hN := (jd_st2 (n - k) c_37 c_57).symm.trans hf
          refine lv_iload_n hx hb dX13_judge_66 rfl (lv_at hl 2 rfl) ?_
          refine lv_aload_n hx hb dX13_judge_67 rfl (lv_at hl 0 rfl) ?_
          refine n_get (k := 0) hx hb hts in_X13 hown hw rfl rfl 22 (by decide) q1220 rfl dX13_judge_68 ?_
          refine lv_iload_n hx hb dX13_judge_71 rfl (lv_at hl 1 rfl) ?_
          refine n_iald (k := 23) (j := q) hx hb hw rfl rfl (by omega) (by decide) dX13_judge_72 ?_
          refine lv_icmp_ne (tgt := 80) hx hb dX13_judge_73 (by decide) (fun c_73 => ?_) (fun c_73 => ?_)
          · skip
            refine lv_iconst (v := 1) hx hb dX13_judge_80 (by decide) ?_
            refine lv_iload_n hx hb dX13_judge_81 rfl (lv_at hl 2 rfl) ?_
            refine lv_iadd hx hb dX13_judge_82 ?_
            refine n_topE (nI_add 1 k) ?_
            exact m_iret hx hb hr hlk rfl hw (by rw [judgeO, if_pos c_6, iq, isz, shR_at iq, ← hN]; first | (rw [if_pos c_73]; exact ⟨rfl, rfl, mSc.rf _⟩) | (rw [if_neg c_73]; exact ⟨by first | rfl | rw [show (1 : Int32) = nI 1 from rfl, nI_add], rfl, mSc.rf _⟩)) dX13_judge_83
          · skip
            refine lv_iconst (v := 0) hx hb dX13_judge_76 (by decide) ?_
            refine lv_goto (tgt := 83) hx hb dX13_judge_77 (by decide) ?_
            exact m_iret hx hb hr hlk rfl hw (by rw [judgeO, if_pos c_6, iq, isz, shR_at iq, ← hN]; first | (rw [if_pos c_73]; exact ⟨rfl, rfl, mSc.rf _⟩) | (rw [if_neg c_73]; exact ⟨by first | rfl | rw [show (1 : Int32) = nI 1 from rfl, nI_add], rfl, mSc.rf _⟩)) dX13_judge_83
        · skip
          refine lv_iinc (v := nI (k + 1)) hx hb dX13_judge_60 hl (k := 2) rfl (nI_1 _) (by decide) rfl (fun ls hl => ?_)
          refine lv_goto (tgt := 22) hx hb dX13_judge_63 (by decide) ?_
          exact ih_22 (k + 1) _ (by first | omega | (dsimp only; omega)) ⟨by omega, (jd_go (by omega) c_37 c_57).symm.trans hf, (lv_sub hl [1, 2, 0] rfl)⟩
  · skip
    refine lv_aload_n hx hb dX13_judge_9 rfl (lv_at hl 0 rfl) ?_
    refine lv_aload_n hx hb dX13_judge_10 rfl (lv_at hl 0 rfl) ?_
    refine lv_iload_n hx hb dX13_judge_11 rfl (lv_at hl 1 rfl) ?_
    refine lv_iconst (v := 1) hx hb dX13_judge_12 (by decide) ?_
    refine n_callp (va_runV ⟨hx, hb, hml, hown, hts⟩ (tM_lacks l G ad _ _ _ _) (cwV 2 hts (lw_V q1506 q1508 qs74 q106 q1509) rfl rfl rfl hdS_X13_lacks ⟨by decide, by decide⟩) (hw.preV (k := 0) rfl rfl) rfl rfl hl.1 rfl (lv_room (by simp [Value.category])) dX13_judge_13 ⟨Nat.zero_le _, Nat.zero_le _⟩) (fun r_13 e_13 => ?_)
    subst e_13
    refine n_calli (va_runV ⟨hx, hb, hml, hown, hts⟩ (tM_finding l G ad _ _ _ _ (lack_no c_6).1 (lack_no c_6).2) (cwV 1 hts (lw_V q1297 q1299 qs53 q106 q1300) rfl rfl rfl hdS_X13_finding ⟨by decide, by decide⟩) (hw.preV (k := 0) rfl rfl) rfl rfl hl.1 rfl (lv_room (by simp [Value.category])) dX13_judge_16 ⟨Nat.zero_le _, Nat.zero_le _⟩) hw (fun r_16 u_16 H locs e_16 hw => ?_)
    obtain ⟨rfl, rfl⟩ := e_16
    have hw : nS G (mE G ad _ _) s H locs := hw
    exact m_iret hx hb hr hlk rfl hw (by rw [judgeO, if_neg c_6]; exact ⟨rfl, rfl, mSc.rf _⟩) dX13_judge_19
theorem hdS_X13_sheet : yX13_sheet.cls = "LineCallsModel" ∧ yX13_sheet.cls ≠ "java/lang/invoke/MethodHandle" ∧ yX13_sheet.cls ≠ "java/lang/invoke/VarHandle" ∧ (parseMethodDescriptor yX13_sheet.desc).map (fun d => d.parameters.length) = some 3 := by decide +kernel
set_option maxHeartbeats 4000000 in
theorem tM_sheet (l : Launch) (G : nG) (ad : Nat → Nat) (w : rw84) (M : mM) (t b n : Int32)  : Met l yX13_sheet (ws_ yX13_sheet cX13_sheet 5 (some .int)) { frames := 2, cells := 0, slots := 0, locals := 42 } (va_Pc [.ref (ad 0), .int t, .int b, .int n] (nC G (mE G ad w M))) (va_Qi (fun (r : Int32) (u : rw84 × mM) => r = (sheetO (M 21) (M 22) (M 23) t b n).1 ∧ u = (w, fnd (sheetO (M 21) (M 22) (M 23) t b n).2.1 (shM M (sheetO (M 21) (M 22) (M 23) t b n).2.2))) (fun u => nC G (mE G ad u.1 u.2)) (nA G)) 0 0 (nA G) := by
  refine n_head (by decide) (Nat.le_of_ble_eq_true rfl) ?_
  intro p e s m below meth c ls hx hb hr hlk hml hown hts hB0 hl
  have hown : s.vm.findClass "LineCallsModel" = some m.cls := hown
  have hw := nS.start hB0
  have hl : lv_has ls 5 [(0, .ref (ad 0)), (1, .int t), (2, .int b), (3, .int n)] := hl
  refine lv_iload_n hx hb dX13_sheet_0 rfl (lv_at hl 1 rfl) ?_
  refine n_callp (va_runS ⟨hx, hb, hml, hown, hts⟩ (tM_isSheet l _) (va_cwS 1 hts (lw_S q1510 q1511 q106 q1512) rfl rfl rfl (hdS_X13_isSheet).2 ⟨by decide, by decide⟩) pu_pre rfl rfl hl.1 rfl (lv_room (by simp [Value.category])) dX13_sheet_1 ⟨Nat.zero_le _, Nat.zero_le _⟩) (fun r_1 e_1 => ?_)
  subst e_1
  refine lv_if_eq (tgt := 29) hx hb dX13_sheet_4 (by decide) (fun c_4 => ?_) (fun c_4 => ?_)
  · skip
    refine lv_aload_n hx hb dX13_sheet_29 rfl (lv_at hl 0 rfl) ?_
    refine lv_ldc (v := (-1000001)) hx hb hown (hts _ q1296) dX13_sheet_30 ?_
    refine n_calli (va_runV ⟨hx, hb, hml, hown, hts⟩ (tM_finding l G ad _ _ (-1000001) 0 (by decide) (by decide)) (cwV 1 hts (lw_V q1297 q1299 qs53 q106 q1300) rfl rfl rfl hdS_X13_finding ⟨by decide, by decide⟩) (hw.preV (k := 0) rfl rfl) rfl rfl hl.1 rfl (lv_room (by simp [Value.category])) dX13_sheet_32 ⟨Nat.zero_le _, Nat.zero_le _⟩) hw (fun r_32 u_32 H locs e_32 hw => ?_)
    obtain ⟨rfl, rfl⟩ := e_32
    have hw : nS G (mE G ad _ _) s H locs := hw
    exact m_iret hx hb hr hlk rfl hw (by first | (rw [sheetO, if_pos c_4, shM_self]; exact ⟨rfl, rfl⟩) | (rw [sheetO, if_neg c_4, if_pos (show okB b = 0 by unfold okB; rw [if_neg c_8, if_neg c_14, if_neg c_20, if_neg c_26]), shM_self]; exact ⟨rfl, rfl⟩)) dX13_sheet_35
  · skip
    obtain ⟨q, hq, rfl⟩ := in_nat (N := 3) rfl (by decide) c_4
    have iq : ix (nI q) = q := nI_clamp (by omega)
    refine lv_iload_n hx hb dX13_sheet_7 rfl (lv_at hl 2 rfl) ?_
    refine lv_if_eq (tgt := 36) hx hb dX13_sheet_8 (by decide) (fun c_8 => ?_) (fun c_8 => ?_)
    · skip
      have hb0 : ¬ okB b = 0 := by unfold okB; first | (rw [if_pos c_8]; decide) | (rw [if_neg c_8, if_pos c_14]; decide) | (rw [if_neg c_8, if_neg c_14, if_pos c_20]; decide) | (rw [if_neg c_8, if_neg c_14, if_neg c_20, if_pos c_26]; decide)
      refine lv_iload_n hx hb dX13_sheet_36 rfl (lv_at hl 3 rfl) ?_
      refine lv_if_ge (tgt := 48) hx hb dX13_sheet_37 (by decide) (fun c_37 => ?_) (fun c_37 => ?_)
      · skip
        refine lv_iload_n hx hb dX13_sheet_48 rfl (lv_at hl 3 rfl) ?_
        refine lv_bipush (v := 40) hx hb dX13_sheet_49 (by decide) ?_
        refine lv_icmp_le (tgt := 61) hx hb dX13_sheet_51 (by decide) (fun c_51 => ?_) (fun c_51 => ?_)
        · skip
          obtain ⟨z, hz, rfl⟩ := nI_of2 (n := 40) (by decide) (Int32.not_lt.mpr c_37) c_51
          refine lv_aload_n hx hb dX13_sheet_61 rfl (lv_at hl 0 rfl) ?_
          refine n_get (k := 0) hx hb hts in_X13 hown hw rfl rfl 21 (by decide) q1219 rfl dX13_sheet_62 ?_
          refine lv_iload_n hx hb dX13_sheet_65 rfl (lv_at hl 1 rfl) ?_
          refine lv_iload_n hx hb dX13_sheet_66 rfl (lv_at hl 2 rfl) ?_
          refine m_iast (j := q) hx hb hw 21 rfl (mU_21 _ _ _ _) rfl (by omega) (by decide) dX13_sheet_67 (fun H locs hw => ?_)
          refine lv_aload_n hx hb dX13_sheet_68 rfl (lv_at hl 0 rfl) ?_
          refine n_get (k := 0) hx hb hts in_X13 hown hw rfl rfl 22 (by decide) q1220 rfl dX13_sheet_69 ?_
          refine lv_iload_n hx hb dX13_sheet_72 rfl (lv_at hl 1 rfl) ?_
          refine lv_iload_n hx hb dX13_sheet_73 rfl (lv_at hl 2 rfl) ?_
          refine n_join1 (fun v => v = (if b = 0 then 0 else nI z)) 82 (fun v_74 hv_74 => ?_) (fun hj_74 => ?_)
          · skip
            subst hv_74
            refine m_iast (j := q) hx hb hw 22 rfl (mU_22 _ _ _ _) rfl (by omega) (by decide) dX13_sheet_82 (fun H locs hw => ?_)
            refine lv_iconst (v := 0) hx hb dX13_sheet_83 (by decide) ?_
            refine lv_istore hx hb dX13_sheet_84 hl (by decide) rfl (fun ls hl => ?_)
            refine n_loop (α := Nat) (fun k H locs ls => k ≤ 40 ∧ nS G (mE G ad w (ur (u2 (u2 M 21 q b) 22 q (if b = 0 then 0 else nI z)) 23 (znF (M 23) q k))) s H locs ∧ lv_has ls 5 [(0, .ref (ad 0)), (1, .int (nI q)), (4, .int (nI k))]) (fun k => 40 - k) 86 ?_ 0 _ _ _ ⟨Nat.zero_le _, by rw [show znF (M 23) q 0 = M 23 from rfl, ur_of (show (u2 (u2 M 21 q b) 22 q (if b = 0 then 0 else nI z)) 23 = M 23 from rfl)]; exact hw, (lv_sub hl [1, 2, 0] rfl)⟩
            clear hl hw
            intro k H locs ls hI ih_86
            obtain ⟨hk, hw, hl⟩ := hI
            refine lv_iload hx hb dX13_sheet_86 (lv_at hl 2 rfl) ?_
            refine lv_bipush (v := 40) hx hb dX13_sheet_88 (by decide) ?_
            refine lv_icmp_ge (tgt := 112) hx hb dX13_sheet_90 (by decide) (fun c_90 => ?_) (fun c_90 => ?_)
            · skip
              have n_90 : 40 ≤ k := (nI_leI (a := 40) (b := k) (by omega) (by omega)).mp c_90
              obtain rfl : k = 40 := by omega
              refine lv_aload_n hx hb dX13_sheet_112 rfl (lv_at hl 0 rfl) ?_
              refine n_get (k := 0) hx hb hts in_X13 hown hw rfl rfl 22 (by decide) q1220 rfl dX13_sheet_113 ?_
              refine lv_iload_n hx hb dX13_sheet_116 rfl (lv_at hl 1 rfl) ?_
              refine n_iald (k := 23) (j := q) hx hb hw rfl rfl (by omega) (by decide) dX13_sheet_117 ?_
              exact m_iret hx hb hr hlk rfl hw (by rw [sheetO, if_neg c_4, if_neg hb0, if_pos c_37, if_pos c_51, iq]; exact ⟨pk_us, rfl⟩) dX13_sheet_118
            · skip
              have n_90 : ¬ 40 ≤ k := fun h => c_90 ((nI_leI (a := 40) (b := k) (by omega) (by omega)).mpr h)
              refine lv_aload_n hx hb dX13_sheet_93 rfl (lv_at hl 0 rfl) ?_
              refine n_get (k := 0) hx hb hts in_X13 hown hw rfl rfl 23 (by decide) q1221 rfl dX13_sheet_94 ?_
              refine lv_bipush (v := 40) hx hb dX13_sheet_97 (by decide) ?_
              refine lv_iload_n hx hb dX13_sheet_99 rfl (lv_at hl 1 rfl) ?_
              refine lv_imul hx hb dX13_sheet_100 ?_
              refine n_topE (pk_mul 40 q) ?_
              refine lv_iload hx hb dX13_sheet_101 (lv_at hl 2 rfl) ?_
              refine lv_iadd hx hb dX13_sheet_103 ?_
              refine n_topE (nI_add (40 * q) k) ?_
              refine lv_iconst (v := 0) hx hb dX13_sheet_104 (by decide) ?_
              refine m_iast (j := 40 * q + k) hx hb hw 23 rfl (mU_23 _ _ _ _) rfl (by omega) (by decide) dX13_sheet_105 (fun H locs hw => ?_)
              refine lv_iinc (v := nI (k + 1)) hx hb dX13_sheet_106 hl (k := 2) rfl (nI_1 _) (by decide) rfl (fun ls hl => ?_)
              refine lv_goto (tgt := 86) hx hb dX13_sheet_109 (by decide) ?_
              exact ih_86 (k + 1) _ _ _ (by first | omega | (dsimp only; omega)) ⟨by omega, by rw [znF]; rw [u2_ur] at hw; exact hw, (lv_sub hl [1, 2, 0] rfl)⟩
          · skip
            refine lv_if_ne (tgt := 81) hx hb dX13_sheet_74 (by decide) (fun c_74 => ?_) (fun c_74 => ?_)
            · skip
              refine lv_iload_n hx hb dX13_sheet_81 rfl (lv_at hl 3 rfl) ?_
              exact hj_74 _ (by rw [if_neg c_74])
            · skip
              refine lv_iconst (v := 0) hx hb dX13_sheet_77 (by decide) ?_
              refine lv_goto (tgt := 82) hx hb dX13_sheet_78 (by decide) ?_
              exact hj_74 _ (by rw [if_pos c_74])
        · skip
          refine lv_aload_n hx hb dX13_sheet_54 rfl (lv_at hl 0 rfl) ?_
          refine lv_ldc (v := (-1000001)) hx hb hown (hts _ q1296) dX13_sheet_55 ?_
          refine n_calli (va_runV ⟨hx, hb, hml, hown, hts⟩ (tM_finding l G ad _ _ (-1000001) 0 (by decide) (by decide)) (cwV 1 hts (lw_V q1297 q1299 qs53 q106 q1300) rfl rfl rfl hdS_X13_finding ⟨by decide, by decide⟩) (hw.preV (k := 0) rfl rfl) rfl rfl hl.1 rfl (lv_room (by simp [Value.category])) dX13_sheet_57 ⟨Nat.zero_le _, Nat.zero_le _⟩) hw (fun r_57 u_57 H locs e_57 hw => ?_)
          obtain ⟨rfl, rfl⟩ := e_57
          have hw : nS G (mE G ad _ _) s H locs := hw
          exact m_iret hx hb hr hlk rfl hw (by rw [sheetO, if_neg c_4, if_neg hb0, if_pos c_37, if_neg c_51, shM_self]; exact ⟨rfl, rfl⟩) dX13_sheet_60
      · skip
        refine lv_aload_n hx hb dX13_sheet_40 rfl (lv_at hl 0 rfl) ?_
        refine lv_ldcw (v := (-1000007)) hx hb hown (hts _ q1645) dX13_sheet_41 ?_
        refine n_calli (va_runV ⟨hx, hb, hml, hown, hts⟩ (tM_finding l G ad _ _ (-1000007) 6 (by decide) (by decide)) (cwV 1 hts (lw_V q1297 q1299 qs53 q106 q1300) rfl rfl rfl hdS_X13_finding ⟨by decide, by decide⟩) (hw.preV (k := 0) rfl rfl) rfl rfl hl.1 rfl (lv_room (by simp [Value.category])) dX13_sheet_44 ⟨Nat.zero_le _, Nat.zero_le _⟩) hw (fun r_44 u_44 H locs e_44 hw => ?_)
        obtain ⟨rfl, rfl⟩ := e_44
        have hw : nS G (mE G ad _ _) s H locs := hw
        exact m_iret hx hb hr hlk rfl hw (by rw [sheetO, if_neg c_4, if_neg hb0, if_neg c_37, shM_self]; exact ⟨rfl, rfl⟩) dX13_sheet_47
    · skip
      refine lv_iload_n hx hb dX13_sheet_11 rfl (lv_at hl 2 rfl) ?_
      refine lv_bipush (v := 8) hx hb dX13_sheet_12 (by decide) ?_
      refine lv_icmp_eq (tgt := 36) hx hb dX13_sheet_14 (by decide) (fun c_14 => ?_) (fun c_14 => ?_)
      · skip
        have hb0 : ¬ okB b = 0 := by unfold okB; first | (rw [if_pos c_8]; decide) | (rw [if_neg c_8, if_pos c_14]; decide) | (rw [if_neg c_8, if_neg c_14, if_pos c_20]; decide) | (rw [if_neg c_8, if_neg c_14, if_neg c_20, if_pos c_26]; decide)
        refine lv_iload_n hx hb dX13_sheet_36 rfl (lv_at hl 3 rfl) ?_
        refine lv_if_ge (tgt := 48) hx hb dX13_sheet_37 (by decide) (fun c_37 => ?_) (fun c_37 => ?_)
        · skip
          refine lv_iload_n hx hb dX13_sheet_48 rfl (lv_at hl 3 rfl) ?_
          refine lv_bipush (v := 40) hx hb dX13_sheet_49 (by decide) ?_
          refine lv_icmp_le (tgt := 61) hx hb dX13_sheet_51 (by decide) (fun c_51 => ?_) (fun c_51 => ?_)
          · skip
            obtain ⟨z, hz, rfl⟩ := nI_of2 (n := 40) (by decide) (Int32.not_lt.mpr c_37) c_51
            refine lv_aload_n hx hb dX13_sheet_61 rfl (lv_at hl 0 rfl) ?_
            refine n_get (k := 0) hx hb hts in_X13 hown hw rfl rfl 21 (by decide) q1219 rfl dX13_sheet_62 ?_
            refine lv_iload_n hx hb dX13_sheet_65 rfl (lv_at hl 1 rfl) ?_
            refine lv_iload_n hx hb dX13_sheet_66 rfl (lv_at hl 2 rfl) ?_
            refine m_iast (j := q) hx hb hw 21 rfl (mU_21 _ _ _ _) rfl (by omega) (by decide) dX13_sheet_67 (fun H locs hw => ?_)
            refine lv_aload_n hx hb dX13_sheet_68 rfl (lv_at hl 0 rfl) ?_
            refine n_get (k := 0) hx hb hts in_X13 hown hw rfl rfl 22 (by decide) q1220 rfl dX13_sheet_69 ?_
            refine lv_iload_n hx hb dX13_sheet_72 rfl (lv_at hl 1 rfl) ?_
            refine lv_iload_n hx hb dX13_sheet_73 rfl (lv_at hl 2 rfl) ?_
            refine n_join1 (fun v => v = (if b = 0 then 0 else nI z)) 82 (fun v_74 hv_74 => ?_) (fun hj_74 => ?_)
            · skip
              subst hv_74
              refine m_iast (j := q) hx hb hw 22 rfl (mU_22 _ _ _ _) rfl (by omega) (by decide) dX13_sheet_82 (fun H locs hw => ?_)
              refine lv_iconst (v := 0) hx hb dX13_sheet_83 (by decide) ?_
              refine lv_istore hx hb dX13_sheet_84 hl (by decide) rfl (fun ls hl => ?_)
              refine n_loop (α := Nat) (fun k H locs ls => k ≤ 40 ∧ nS G (mE G ad w (ur (u2 (u2 M 21 q b) 22 q (if b = 0 then 0 else nI z)) 23 (znF (M 23) q k))) s H locs ∧ lv_has ls 5 [(0, .ref (ad 0)), (1, .int (nI q)), (4, .int (nI k))]) (fun k => 40 - k) 86 ?_ 0 _ _ _ ⟨Nat.zero_le _, by rw [show znF (M 23) q 0 = M 23 from rfl, ur_of (show (u2 (u2 M 21 q b) 22 q (if b = 0 then 0 else nI z)) 23 = M 23 from rfl)]; exact hw, (lv_sub hl [1, 2, 0] rfl)⟩
              clear hl hw
              intro k H locs ls hI ih_86
              obtain ⟨hk, hw, hl⟩ := hI
              refine lv_iload hx hb dX13_sheet_86 (lv_at hl 2 rfl) ?_
              refine lv_bipush (v := 40) hx hb dX13_sheet_88 (by decide) ?_
              refine lv_icmp_ge (tgt := 112) hx hb dX13_sheet_90 (by decide) (fun c_90 => ?_) (fun c_90 => ?_)
              · skip
                have n_90 : 40 ≤ k := (nI_leI (a := 40) (b := k) (by omega) (by omega)).mp c_90
                obtain rfl : k = 40 := by omega
                refine lv_aload_n hx hb dX13_sheet_112 rfl (lv_at hl 0 rfl) ?_
                refine n_get (k := 0) hx hb hts in_X13 hown hw rfl rfl 22 (by decide) q1220 rfl dX13_sheet_113 ?_
                refine lv_iload_n hx hb dX13_sheet_116 rfl (lv_at hl 1 rfl) ?_
                refine n_iald (k := 23) (j := q) hx hb hw rfl rfl (by omega) (by decide) dX13_sheet_117 ?_
                exact m_iret hx hb hr hlk rfl hw (by rw [sheetO, if_neg c_4, if_neg hb0, if_pos c_37, if_pos c_51, iq]; exact ⟨pk_us, rfl⟩) dX13_sheet_118
              · skip
                have n_90 : ¬ 40 ≤ k := fun h => c_90 ((nI_leI (a := 40) (b := k) (by omega) (by omega)).mpr h)
                refine lv_aload_n hx hb dX13_sheet_93 rfl (lv_at hl 0 rfl) ?_
                refine n_get (k := 0) hx hb hts in_X13 hown hw rfl rfl 23 (by decide) q1221 rfl dX13_sheet_94 ?_
                refine lv_bipush (v := 40) hx hb dX13_sheet_97 (by decide) ?_
                refine lv_iload_n hx hb dX13_sheet_99 rfl (lv_at hl 1 rfl) ?_
                refine lv_imul hx hb dX13_sheet_100 ?_
                refine n_topE (pk_mul 40 q) ?_
                refine lv_iload hx hb dX13_sheet_101 (lv_at hl 2 rfl) ?_
                refine lv_iadd hx hb dX13_sheet_103 ?_
                refine n_topE (nI_add (40 * q) k) ?_
                refine lv_iconst (v := 0) hx hb dX13_sheet_104 (by decide) ?_
                refine m_iast (j := 40 * q + k) hx hb hw 23 rfl (mU_23 _ _ _ _) rfl (by omega) (by decide) dX13_sheet_105 (fun H locs hw => ?_)
                refine lv_iinc (v := nI (k + 1)) hx hb dX13_sheet_106 hl (k := 2) rfl (nI_1 _) (by decide) rfl (fun ls hl => ?_)
                refine lv_goto (tgt := 86) hx hb dX13_sheet_109 (by decide) ?_
                exact ih_86 (k + 1) _ _ _ (by first | omega | (dsimp only; omega)) ⟨by omega, by rw [znF]; rw [u2_ur] at hw; exact hw, (lv_sub hl [1, 2, 0] rfl)⟩
            · skip
              refine lv_if_ne (tgt := 81) hx hb dX13_sheet_74 (by decide) (fun c_74 => ?_) (fun c_74 => ?_)
              · skip
                refine lv_iload_n hx hb dX13_sheet_81 rfl (lv_at hl 3 rfl) ?_
                exact hj_74 _ (by rw [if_neg c_74])
              · skip
                refine lv_iconst (v := 0) hx hb dX13_sheet_77 (by decide) ?_
                refine lv_goto (tgt := 82) hx hb dX13_sheet_78 (by decide) ?_
                exact hj_74 _ (by rw [if_pos c_74])
          · skip
            refine lv_aload_n hx hb dX13_sheet_54 rfl (lv_at hl 0 rfl) ?_
            refine lv_ldc (v := (-1000001)) hx hb hown (hts _ q1296) dX13_sheet_55 ?_
            refine n_calli (va_runV ⟨hx, hb, hml, hown, hts⟩ (tM_finding l G ad _ _ (-1000001) 0 (by decide) (by decide)) (cwV 1 hts (lw_V q1297 q1299 qs53 q106 q1300) rfl rfl rfl hdS_X13_finding ⟨by decide, by decide⟩) (hw.preV (k := 0) rfl rfl) rfl rfl hl.1 rfl (lv_room (by simp [Value.category])) dX13_sheet_57 ⟨Nat.zero_le _, Nat.zero_le _⟩) hw (fun r_57 u_57 H locs e_57 hw => ?_)
            obtain ⟨rfl, rfl⟩ := e_57
            have hw : nS G (mE G ad _ _) s H locs := hw
            exact m_iret hx hb hr hlk rfl hw (by rw [sheetO, if_neg c_4, if_neg hb0, if_pos c_37, if_neg c_51, shM_self]; exact ⟨rfl, rfl⟩) dX13_sheet_60
        · skip
          refine lv_aload_n hx hb dX13_sheet_40 rfl (lv_at hl 0 rfl) ?_
          refine lv_ldcw (v := (-1000007)) hx hb hown (hts _ q1645) dX13_sheet_41 ?_
          refine n_calli (va_runV ⟨hx, hb, hml, hown, hts⟩ (tM_finding l G ad _ _ (-1000007) 6 (by decide) (by decide)) (cwV 1 hts (lw_V q1297 q1299 qs53 q106 q1300) rfl rfl rfl hdS_X13_finding ⟨by decide, by decide⟩) (hw.preV (k := 0) rfl rfl) rfl rfl hl.1 rfl (lv_room (by simp [Value.category])) dX13_sheet_44 ⟨Nat.zero_le _, Nat.zero_le _⟩) hw (fun r_44 u_44 H locs e_44 hw => ?_)
          obtain ⟨rfl, rfl⟩ := e_44
          have hw : nS G (mE G ad _ _) s H locs := hw
          exact m_iret hx hb hr hlk rfl hw (by rw [sheetO, if_neg c_4, if_neg hb0, if_neg c_37, shM_self]; exact ⟨rfl, rfl⟩) dX13_sheet_47
      · skip
        refine lv_iload_n hx hb dX13_sheet_17 rfl (lv_at hl 2 rfl) ?_
        refine lv_bipush (v := 16) hx hb dX13_sheet_18 (by decide) ?_
        refine lv_icmp_eq (tgt := 36) hx hb dX13_sheet_20 (by decide) (fun c_20 => ?_) (fun c_20 => ?_)
        · skip
          have hb0 : ¬ okB b = 0 := by unfold okB; first | (rw [if_pos c_8]; decide) | (rw [if_neg c_8, if_pos c_14]; decide) | (rw [if_neg c_8, if_neg c_14, if_pos c_20]; decide) | (rw [if_neg c_8, if_neg c_14, if_neg c_20, if_pos c_26]; decide)
          refine lv_iload_n hx hb dX13_sheet_36 rfl (lv_at hl 3 rfl) ?_
          refine lv_if_ge (tgt := 48) hx hb dX13_sheet_37 (by decide) (fun c_37 => ?_) (fun c_37 => ?_)
          · skip
            refine lv_iload_n hx hb dX13_sheet_48 rfl (lv_at hl 3 rfl) ?_
            refine lv_bipush (v := 40) hx hb dX13_sheet_49 (by decide) ?_
            refine lv_icmp_le (tgt := 61) hx hb dX13_sheet_51 (by decide) (fun c_51 => ?_) (fun c_51 => ?_)
            · skip
              obtain ⟨z, hz, rfl⟩ := nI_of2 (n := 40) (by decide) (Int32.not_lt.mpr c_37) c_51
              refine lv_aload_n hx hb dX13_sheet_61 rfl (lv_at hl 0 rfl) ?_
              refine n_get (k := 0) hx hb hts in_X13 hown hw rfl rfl 21 (by decide) q1219 rfl dX13_sheet_62 ?_
              refine lv_iload_n hx hb dX13_sheet_65 rfl (lv_at hl 1 rfl) ?_
              refine lv_iload_n hx hb dX13_sheet_66 rfl (lv_at hl 2 rfl) ?_
              refine m_iast (j := q) hx hb hw 21 rfl (mU_21 _ _ _ _) rfl (by omega) (by decide) dX13_sheet_67 (fun H locs hw => ?_)
              refine lv_aload_n hx hb dX13_sheet_68 rfl (lv_at hl 0 rfl) ?_
              refine n_get (k := 0) hx hb hts in_X13 hown hw rfl rfl 22 (by decide) q1220 rfl dX13_sheet_69 ?_
              refine lv_iload_n hx hb dX13_sheet_72 rfl (lv_at hl 1 rfl) ?_
              refine lv_iload_n hx hb dX13_sheet_73 rfl (lv_at hl 2 rfl) ?_
              refine n_join1 (fun v => v = (if b = 0 then 0 else nI z)) 82 (fun v_74 hv_74 => ?_) (fun hj_74 => ?_)
              · skip
                subst hv_74
                refine m_iast (j := q) hx hb hw 22 rfl (mU_22 _ _ _ _) rfl (by omega) (by decide) dX13_sheet_82 (fun H locs hw => ?_)
                refine lv_iconst (v := 0) hx hb dX13_sheet_83 (by decide) ?_
                refine lv_istore hx hb dX13_sheet_84 hl (by decide) rfl (fun ls hl => ?_)
                refine n_loop (α := Nat) (fun k H locs ls => k ≤ 40 ∧ nS G (mE G ad w (ur (u2 (u2 M 21 q b) 22 q (if b = 0 then 0 else nI z)) 23 (znF (M 23) q k))) s H locs ∧ lv_has ls 5 [(0, .ref (ad 0)), (1, .int (nI q)), (4, .int (nI k))]) (fun k => 40 - k) 86 ?_ 0 _ _ _ ⟨Nat.zero_le _, by rw [show znF (M 23) q 0 = M 23 from rfl, ur_of (show (u2 (u2 M 21 q b) 22 q (if b = 0 then 0 else nI z)) 23 = M 23 from rfl)]; exact hw, (lv_sub hl [1, 2, 0] rfl)⟩
                clear hl hw
                intro k H locs ls hI ih_86
                obtain ⟨hk, hw, hl⟩ := hI
                refine lv_iload hx hb dX13_sheet_86 (lv_at hl 2 rfl) ?_
                refine lv_bipush (v := 40) hx hb dX13_sheet_88 (by decide) ?_
                refine lv_icmp_ge (tgt := 112) hx hb dX13_sheet_90 (by decide) (fun c_90 => ?_) (fun c_90 => ?_)
                · skip
                  have n_90 : 40 ≤ k := (nI_leI (a := 40) (b := k) (by omega) (by omega)).mp c_90
                  obtain rfl : k = 40 := by omega
                  refine lv_aload_n hx hb dX13_sheet_112 rfl (lv_at hl 0 rfl) ?_
                  refine n_get (k := 0) hx hb hts in_X13 hown hw rfl rfl 22 (by decide) q1220 rfl dX13_sheet_113 ?_
                  refine lv_iload_n hx hb dX13_sheet_116 rfl (lv_at hl 1 rfl) ?_
                  refine n_iald (k := 23) (j := q) hx hb hw rfl rfl (by omega) (by decide) dX13_sheet_117 ?_
                  exact m_iret hx hb hr hlk rfl hw (by rw [sheetO, if_neg c_4, if_neg hb0, if_pos c_37, if_pos c_51, iq]; exact ⟨pk_us, rfl⟩) dX13_sheet_118
                · skip
                  have n_90 : ¬ 40 ≤ k := fun h => c_90 ((nI_leI (a := 40) (b := k) (by omega) (by omega)).mpr h)
                  refine lv_aload_n hx hb dX13_sheet_93 rfl (lv_at hl 0 rfl) ?_
                  refine n_get (k := 0) hx hb hts in_X13 hown hw rfl rfl 23 (by decide) q1221 rfl dX13_sheet_94 ?_
                  refine lv_bipush (v := 40) hx hb dX13_sheet_97 (by decide) ?_
                  refine lv_iload_n hx hb dX13_sheet_99 rfl (lv_at hl 1 rfl) ?_
                  refine lv_imul hx hb dX13_sheet_100 ?_
                  refine n_topE (pk_mul 40 q) ?_
                  refine lv_iload hx hb dX13_sheet_101 (lv_at hl 2 rfl) ?_
                  refine lv_iadd hx hb dX13_sheet_103 ?_
                  refine n_topE (nI_add (40 * q) k) ?_
                  refine lv_iconst (v := 0) hx hb dX13_sheet_104 (by decide) ?_
                  refine m_iast (j := 40 * q + k) hx hb hw 23 rfl (mU_23 _ _ _ _) rfl (by omega) (by decide) dX13_sheet_105 (fun H locs hw => ?_)
                  refine lv_iinc (v := nI (k + 1)) hx hb dX13_sheet_106 hl (k := 2) rfl (nI_1 _) (by decide) rfl (fun ls hl => ?_)
                  refine lv_goto (tgt := 86) hx hb dX13_sheet_109 (by decide) ?_
                  exact ih_86 (k + 1) _ _ _ (by first | omega | (dsimp only; omega)) ⟨by omega, by rw [znF]; rw [u2_ur] at hw; exact hw, (lv_sub hl [1, 2, 0] rfl)⟩
              · skip
                refine lv_if_ne (tgt := 81) hx hb dX13_sheet_74 (by decide) (fun c_74 => ?_) (fun c_74 => ?_)
                · skip
                  refine lv_iload_n hx hb dX13_sheet_81 rfl (lv_at hl 3 rfl) ?_
                  exact hj_74 _ (by rw [if_neg c_74])
                · skip
                  refine lv_iconst (v := 0) hx hb dX13_sheet_77 (by decide) ?_
                  refine lv_goto (tgt := 82) hx hb dX13_sheet_78 (by decide) ?_
                  exact hj_74 _ (by rw [if_pos c_74])
            · skip
              refine lv_aload_n hx hb dX13_sheet_54 rfl (lv_at hl 0 rfl) ?_
              refine lv_ldc (v := (-1000001)) hx hb hown (hts _ q1296) dX13_sheet_55 ?_
              refine n_calli (va_runV ⟨hx, hb, hml, hown, hts⟩ (tM_finding l G ad _ _ (-1000001) 0 (by decide) (by decide)) (cwV 1 hts (lw_V q1297 q1299 qs53 q106 q1300) rfl rfl rfl hdS_X13_finding ⟨by decide, by decide⟩) (hw.preV (k := 0) rfl rfl) rfl rfl hl.1 rfl (lv_room (by simp [Value.category])) dX13_sheet_57 ⟨Nat.zero_le _, Nat.zero_le _⟩) hw (fun r_57 u_57 H locs e_57 hw => ?_)
              obtain ⟨rfl, rfl⟩ := e_57
              have hw : nS G (mE G ad _ _) s H locs := hw
              exact m_iret hx hb hr hlk rfl hw (by rw [sheetO, if_neg c_4, if_neg hb0, if_pos c_37, if_neg c_51, shM_self]; exact ⟨rfl, rfl⟩) dX13_sheet_60
          · skip
            refine lv_aload_n hx hb dX13_sheet_40 rfl (lv_at hl 0 rfl) ?_
            refine lv_ldcw (v := (-1000007)) hx hb hown (hts _ q1645) dX13_sheet_41 ?_
            refine n_calli (va_runV ⟨hx, hb, hml, hown, hts⟩ (tM_finding l G ad _ _ (-1000007) 6 (by decide) (by decide)) (cwV 1 hts (lw_V q1297 q1299 qs53 q106 q1300) rfl rfl rfl hdS_X13_finding ⟨by decide, by decide⟩) (hw.preV (k := 0) rfl rfl) rfl rfl hl.1 rfl (lv_room (by simp [Value.category])) dX13_sheet_44 ⟨Nat.zero_le _, Nat.zero_le _⟩) hw (fun r_44 u_44 H locs e_44 hw => ?_)
            obtain ⟨rfl, rfl⟩ := e_44
            have hw : nS G (mE G ad _ _) s H locs := hw
            exact m_iret hx hb hr hlk rfl hw (by rw [sheetO, if_neg c_4, if_neg hb0, if_neg c_37, shM_self]; exact ⟨rfl, rfl⟩) dX13_sheet_47
        · skip
          refine lv_iload_n hx hb dX13_sheet_23 rfl (lv_at hl 2 rfl) ?_
          refine lv_bipush (v := 32) hx hb dX13_sheet_24 (by decide) ?_
          refine lv_icmp_eq (tgt := 36) hx hb dX13_sheet_26 (by decide) (fun c_26 => ?_) (fun c_26 => ?_)
          · skip
            have hb0 : ¬ okB b = 0 := by unfold okB; first | (rw [if_pos c_8]; decide) | (rw [if_neg c_8, if_pos c_14]; decide) | (rw [if_neg c_8, if_neg c_14, if_pos c_20]; decide) | (rw [if_neg c_8, if_neg c_14, if_neg c_20, if_pos c_26]; decide)
            refine lv_iload_n hx hb dX13_sheet_36 rfl (lv_at hl 3 rfl) ?_
            refine lv_if_ge (tgt := 48) hx hb dX13_sheet_37 (by decide) (fun c_37 => ?_) (fun c_37 => ?_)
            · skip
              refine lv_iload_n hx hb dX13_sheet_48 rfl (lv_at hl 3 rfl) ?_
              refine lv_bipush (v := 40) hx hb dX13_sheet_49 (by decide) ?_
              refine lv_icmp_le (tgt := 61) hx hb dX13_sheet_51 (by decide) (fun c_51 => ?_) (fun c_51 => ?_)
              · skip
                obtain ⟨z, hz, rfl⟩ := nI_of2 (n := 40) (by decide) (Int32.not_lt.mpr c_37) c_51
                refine lv_aload_n hx hb dX13_sheet_61 rfl (lv_at hl 0 rfl) ?_
                refine n_get (k := 0) hx hb hts in_X13 hown hw rfl rfl 21 (by decide) q1219 rfl dX13_sheet_62 ?_
                refine lv_iload_n hx hb dX13_sheet_65 rfl (lv_at hl 1 rfl) ?_
                refine lv_iload_n hx hb dX13_sheet_66 rfl (lv_at hl 2 rfl) ?_
                refine m_iast (j := q) hx hb hw 21 rfl (mU_21 _ _ _ _) rfl (by omega) (by decide) dX13_sheet_67 (fun H locs hw => ?_)
                refine lv_aload_n hx hb dX13_sheet_68 rfl (lv_at hl 0 rfl) ?_
                refine n_get (k := 0) hx hb hts in_X13 hown hw rfl rfl 22 (by decide) q1220 rfl dX13_sheet_69 ?_
                refine lv_iload_n hx hb dX13_sheet_72 rfl (lv_at hl 1 rfl) ?_
                refine lv_iload_n hx hb dX13_sheet_73 rfl (lv_at hl 2 rfl) ?_
                refine n_join1 (fun v => v = (if b = 0 then 0 else nI z)) 82 (fun v_74 hv_74 => ?_) (fun hj_74 => ?_)
                · skip
                  subst hv_74
                  refine m_iast (j := q) hx hb hw 22 rfl (mU_22 _ _ _ _) rfl (by omega) (by decide) dX13_sheet_82 (fun H locs hw => ?_)
                  refine lv_iconst (v := 0) hx hb dX13_sheet_83 (by decide) ?_
                  refine lv_istore hx hb dX13_sheet_84 hl (by decide) rfl (fun ls hl => ?_)
                  refine n_loop (α := Nat) (fun k H locs ls => k ≤ 40 ∧ nS G (mE G ad w (ur (u2 (u2 M 21 q b) 22 q (if b = 0 then 0 else nI z)) 23 (znF (M 23) q k))) s H locs ∧ lv_has ls 5 [(0, .ref (ad 0)), (1, .int (nI q)), (4, .int (nI k))]) (fun k => 40 - k) 86 ?_ 0 _ _ _ ⟨Nat.zero_le _, by rw [show znF (M 23) q 0 = M 23 from rfl, ur_of (show (u2 (u2 M 21 q b) 22 q (if b = 0 then 0 else nI z)) 23 = M 23 from rfl)]; exact hw, (lv_sub hl [1, 2, 0] rfl)⟩
                  clear hl hw
                  intro k H locs ls hI ih_86
                  obtain ⟨hk, hw, hl⟩ := hI
                  refine lv_iload hx hb dX13_sheet_86 (lv_at hl 2 rfl) ?_
                  refine lv_bipush (v := 40) hx hb dX13_sheet_88 (by decide) ?_
                  refine lv_icmp_ge (tgt := 112) hx hb dX13_sheet_90 (by decide) (fun c_90 => ?_) (fun c_90 => ?_)
                  · skip
                    have n_90 : 40 ≤ k := (nI_leI (a := 40) (b := k) (by omega) (by omega)).mp c_90
                    obtain rfl : k = 40 := by omega
                    refine lv_aload_n hx hb dX13_sheet_112 rfl (lv_at hl 0 rfl) ?_
                    refine n_get (k := 0) hx hb hts in_X13 hown hw rfl rfl 22 (by decide) q1220 rfl dX13_sheet_113 ?_
                    refine lv_iload_n hx hb dX13_sheet_116 rfl (lv_at hl 1 rfl) ?_
                    refine n_iald (k := 23) (j := q) hx hb hw rfl rfl (by omega) (by decide) dX13_sheet_117 ?_
                    exact m_iret hx hb hr hlk rfl hw (by rw [sheetO, if_neg c_4, if_neg hb0, if_pos c_37, if_pos c_51, iq]; exact ⟨pk_us, rfl⟩) dX13_sheet_118
                  · skip
                    have n_90 : ¬ 40 ≤ k := fun h => c_90 ((nI_leI (a := 40) (b := k) (by omega) (by omega)).mpr h)
                    refine lv_aload_n hx hb dX13_sheet_93 rfl (lv_at hl 0 rfl) ?_
                    refine n_get (k := 0) hx hb hts in_X13 hown hw rfl rfl 23 (by decide) q1221 rfl dX13_sheet_94 ?_
                    refine lv_bipush (v := 40) hx hb dX13_sheet_97 (by decide) ?_
                    refine lv_iload_n hx hb dX13_sheet_99 rfl (lv_at hl 1 rfl) ?_
                    refine lv_imul hx hb dX13_sheet_100 ?_
                    refine n_topE (pk_mul 40 q) ?_
                    refine lv_iload hx hb dX13_sheet_101 (lv_at hl 2 rfl) ?_
                    refine lv_iadd hx hb dX13_sheet_103 ?_
                    refine n_topE (nI_add (40 * q) k) ?_
                    refine lv_iconst (v := 0) hx hb dX13_sheet_104 (by decide) ?_
                    refine m_iast (j := 40 * q + k) hx hb hw 23 rfl (mU_23 _ _ _ _) rfl (by omega) (by decide) dX13_sheet_105 (fun H locs hw => ?_)
                    refine lv_iinc (v := nI (k + 1)) hx hb dX13_sheet_106 hl (k := 2) rfl (nI_1 _) (by decide) rfl (fun ls hl => ?_)
                    refine lv_goto (tgt := 86) hx hb dX13_sheet_109 (by decide) ?_
                    exact ih_86 (k + 1) _ _ _ (by first | omega | (dsimp only; omega)) ⟨by omega, by rw [znF]; rw [u2_ur] at hw; exact hw, (lv_sub hl [1, 2, 0] rfl)⟩
                · skip
                  refine lv_if_ne (tgt := 81) hx hb dX13_sheet_74 (by decide) (fun c_74 => ?_) (fun c_74 => ?_)
                  · skip
                    refine lv_iload_n hx hb dX13_sheet_81 rfl (lv_at hl 3 rfl) ?_
                    exact hj_74 _ (by rw [if_neg c_74])
                  · skip
                    refine lv_iconst (v := 0) hx hb dX13_sheet_77 (by decide) ?_
                    refine lv_goto (tgt := 82) hx hb dX13_sheet_78 (by decide) ?_
                    exact hj_74 _ (by rw [if_pos c_74])
              · skip
                refine lv_aload_n hx hb dX13_sheet_54 rfl (lv_at hl 0 rfl) ?_
                refine lv_ldc (v := (-1000001)) hx hb hown (hts _ q1296) dX13_sheet_55 ?_
                refine n_calli (va_runV ⟨hx, hb, hml, hown, hts⟩ (tM_finding l G ad _ _ (-1000001) 0 (by decide) (by decide)) (cwV 1 hts (lw_V q1297 q1299 qs53 q106 q1300) rfl rfl rfl hdS_X13_finding ⟨by decide, by decide⟩) (hw.preV (k := 0) rfl rfl) rfl rfl hl.1 rfl (lv_room (by simp [Value.category])) dX13_sheet_57 ⟨Nat.zero_le _, Nat.zero_le _⟩) hw (fun r_57 u_57 H locs e_57 hw => ?_)
                obtain ⟨rfl, rfl⟩ := e_57
                have hw : nS G (mE G ad _ _) s H locs := hw
                exact m_iret hx hb hr hlk rfl hw (by rw [sheetO, if_neg c_4, if_neg hb0, if_pos c_37, if_neg c_51, shM_self]; exact ⟨rfl, rfl⟩) dX13_sheet_60
            · skip
              refine lv_aload_n hx hb dX13_sheet_40 rfl (lv_at hl 0 rfl) ?_
              refine lv_ldcw (v := (-1000007)) hx hb hown (hts _ q1645) dX13_sheet_41 ?_
              refine n_calli (va_runV ⟨hx, hb, hml, hown, hts⟩ (tM_finding l G ad _ _ (-1000007) 6 (by decide) (by decide)) (cwV 1 hts (lw_V q1297 q1299 qs53 q106 q1300) rfl rfl rfl hdS_X13_finding ⟨by decide, by decide⟩) (hw.preV (k := 0) rfl rfl) rfl rfl hl.1 rfl (lv_room (by simp [Value.category])) dX13_sheet_44 ⟨Nat.zero_le _, Nat.zero_le _⟩) hw (fun r_44 u_44 H locs e_44 hw => ?_)
              obtain ⟨rfl, rfl⟩ := e_44
              have hw : nS G (mE G ad _ _) s H locs := hw
              exact m_iret hx hb hr hlk rfl hw (by rw [sheetO, if_neg c_4, if_neg hb0, if_neg c_37, shM_self]; exact ⟨rfl, rfl⟩) dX13_sheet_47
          · skip
            refine lv_aload_n hx hb dX13_sheet_29 rfl (lv_at hl 0 rfl) ?_
            refine lv_ldc (v := (-1000001)) hx hb hown (hts _ q1296) dX13_sheet_30 ?_
            refine n_calli (va_runV ⟨hx, hb, hml, hown, hts⟩ (tM_finding l G ad _ _ (-1000001) 0 (by decide) (by decide)) (cwV 1 hts (lw_V q1297 q1299 qs53 q106 q1300) rfl rfl rfl hdS_X13_finding ⟨by decide, by decide⟩) (hw.preV (k := 0) rfl rfl) rfl rfl hl.1 rfl (lv_room (by simp [Value.category])) dX13_sheet_32 ⟨Nat.zero_le _, Nat.zero_le _⟩) hw (fun r_32 u_32 H locs e_32 hw => ?_)
            obtain ⟨rfl, rfl⟩ := e_32
            have hw : nS G (mE G ad _ _) s H locs := hw
            exact m_iret hx hb hr hlk rfl hw (by first | (rw [sheetO, if_pos c_4, shM_self]; exact ⟨rfl, rfl⟩) | (rw [sheetO, if_neg c_4, if_pos (show okB b = 0 by unfold okB; rw [if_neg c_8, if_neg c_14, if_neg c_20, if_neg c_26]), shM_self]; exact ⟨rfl, rfl⟩)) dX13_sheet_35
theorem hdS_X13_write : yX13_write.cls = "LineCallsModel" ∧ yX13_write.cls ≠ "java/lang/invoke/MethodHandle" ∧ yX13_write.cls ≠ "java/lang/invoke/VarHandle" ∧ (parseMethodDescriptor yX13_write.desc).map (fun d => d.parameters.length) = some 3 := by decide +kernel
set_option maxHeartbeats 4000000 in
theorem tM_write (l : Launch) (G : nG) (ad : Nat → Nat) (w : rw84) (M : mM) (t x v : Int32) (hS : ∀ t, t < 4 → ∃ n, n ≤ 40 ∧ M 22 t = nI n) : Met l yX13_write (ws_ yX13_write cX13_write 4 (some .int)) { frames := 2, cells := 0, slots := 0, locals := 42 } (va_Pc [.ref (ad 0), .int t, .int x, .int v] (nC G (mE G ad w M))) (va_Qi (fun (r : Int32) (u : rw84 × mM) => r = (writeO (M 21) (M 22) (M 23) t x v).1 ∧ u = (w, fnd (writeO (M 21) (M 22) (M 23) t x v).2.1 (shM M (writeO (M 21) (M 22) (M 23) t x v).2.2))) (fun u => nC G (mE G ad u.1 u.2)) (nA G)) 0 0 (nA G) := by
  refine n_head (by decide) (Nat.le_of_ble_eq_true rfl) ?_
  intro p e s m below meth c ls hx hb hr hlk hml hown hts hB0 hl
  have hown : s.vm.findClass "LineCallsModel" = some m.cls := hown
  have hw := nS.start hB0
  have hl : lv_has ls 4 [(0, .ref (ad 0)), (1, .int t), (2, .int x), (3, .int v)] := hl
  refine lv_iload_n hx hb dX13_write_0 rfl (lv_at hl 1 rfl) ?_
  refine n_callp (va_runS ⟨hx, hb, hml, hown, hts⟩ (tM_isSheet l _) (va_cwS 1 hts (lw_S q1510 q1511 q106 q1512) rfl rfl rfl (hdS_X13_isSheet).2 ⟨by decide, by decide⟩) pu_pre rfl rfl hl.1 rfl (lv_room (by simp [Value.category])) dX13_write_1 ⟨Nat.zero_le _, Nat.zero_le _⟩) (fun r_1 e_1 => ?_)
  subst e_1
  refine lv_if_ne (tgt := 14) hx hb dX13_write_4 (by decide) (fun c_4 => ?_) (fun c_4 => ?_)
  · skip
    obtain ⟨q, hq, rfl⟩ := in_nat (N := 3) rfl (by decide) c_4
    have iq : ix (nI q) = q := nI_clamp (by omega)
    obtain ⟨n, hn, en⟩ := hS q (by omega)
    refine lv_aload_n hx hb dX13_write_14 rfl (lv_at hl 0 rfl) ?_
    refine n_get (k := 0) hx hb hts in_X13 hown hw rfl rfl 21 (by decide) q1219 rfl dX13_write_15 ?_
    refine lv_iload_n hx hb dX13_write_18 rfl (lv_at hl 1 rfl) ?_
    refine n_iald (k := 22) (j := q) hx hb hw rfl rfl (by omega) (by decide) dX13_write_19 ?_
    refine lv_if_ne (tgt := 30) hx hb dX13_write_20 (by decide) (fun c_20 => ?_) (fun c_20 => ?_)
    · skip
      refine lv_iload_n hx hb dX13_write_30 rfl (lv_at hl 2 rfl) ?_
      refine lv_iconst (v := 0) hx hb dX13_write_31 (by decide) ?_
      refine lv_aload_n hx hb dX13_write_32 rfl (lv_at hl 0 rfl) ?_
      refine n_get (k := 0) hx hb hts in_X13 hown hw rfl rfl 22 (by decide) q1220 rfl dX13_write_33 ?_
      refine lv_iload_n hx hb dX13_write_36 rfl (lv_at hl 1 rfl) ?_
      refine n_iald (k := 23) (j := q) hx hb hw rfl rfl (by omega) (by decide) dX13_write_37 ?_
      refine lv_iconst (v := 1) hx hb dX13_write_38 (by decide) ?_
      refine lv_isub hx hb dX13_write_39 ?_
      refine n_callp (va_runS ⟨hx, hb, hml, hown, hts⟩ (tM_within l _ _ _) (va_cwS 3 hts (lw_S q1281 q1282 q106 q1283) rfl rfl rfl (hdS_X13_within).2 ⟨by decide, by decide⟩) pu_pre rfl rfl hl.1 rfl (lv_room (by simp [Value.category])) dX13_write_40 ⟨Nat.zero_le _, Nat.zero_le _⟩) (fun r_40 e_40 => ?_)
      subst e_40
      refine lv_if_ne (tgt := 53) hx hb dX13_write_43 (by decide) (fun c_43 => ?_) (fun c_43 => ?_)
      · skip
        obtain ⟨z, hz, rfl⟩ := in_sz en hn c_43
        have iz : ix (nI z) = z := nI_clamp (by omega)
        refine lv_aload_n hx hb dX13_write_53 rfl (lv_at hl 0 rfl) ?_
        refine n_get (k := 0) hx hb hts in_X13 hown hw rfl rfl 23 (by decide) q1221 rfl dX13_write_54 ?_
        refine lv_bipush (v := 40) hx hb dX13_write_57 (by decide) ?_
        refine lv_iload_n hx hb dX13_write_59 rfl (lv_at hl 1 rfl) ?_
        refine lv_imul hx hb dX13_write_60 ?_
        refine n_topE (pk_mul 40 q) ?_
        refine lv_iload_n hx hb dX13_write_61 rfl (lv_at hl 2 rfl) ?_
        refine lv_iadd hx hb dX13_write_62 ?_
        refine n_topE (nI_add (40 * q) z) ?_
        refine lv_iload_n hx hb dX13_write_63 rfl (lv_at hl 3 rfl) ?_
        refine lv_aload_n hx hb dX13_write_64 rfl (lv_at hl 0 rfl) ?_
        refine n_get (k := 0) hx hb hts in_X13 hown hw rfl rfl 21 (by decide) q1219 rfl dX13_write_65 ?_
        refine lv_iload_n hx hb dX13_write_68 rfl (lv_at hl 1 rfl) ?_
        refine n_iald (k := 22) (j := q) hx hb hw rfl rfl (by omega) (by decide) dX13_write_69 ?_
        refine n_callp (va_runS ⟨hx, hb, hml, hown, hts⟩ (tM_cutTo l _ _) (va_cwS 2 hts (lw_S q1650 q1651 q106 q1652) rfl rfl rfl (hdS_X13_cutTo).2 ⟨by decide, by decide⟩) pu_pre rfl rfl hl.1 rfl (lv_room (by simp [Value.category])) dX13_write_70 ⟨Nat.zero_le _, Nat.zero_le _⟩) (fun r_70 e_70 => ?_)
        subst e_70
        refine m_iast (j := 40 * q + z) hx hb hw 23 rfl (mU_23 _ _ _ _) rfl (by omega) (by decide) dX13_write_73 (fun H locs hw => ?_)
        refine lv_iconst (v := 1) hx hb dX13_write_74 (by decide) ?_
        exact m_iret hx hb hr hlk rfl hw (by rw [writeO, if_neg c_4, iq, if_neg c_20, if_neg c_43, iz]; exact ⟨rfl, by rw [wr_M]; rfl⟩) dX13_write_75
      · skip
        refine lv_aload_n hx hb dX13_write_46 rfl (lv_at hl 0 rfl) ?_
        refine lv_ldc (v := (-1000001)) hx hb hown (hts _ q1296) dX13_write_47 ?_
        refine n_calli (va_runV ⟨hx, hb, hml, hown, hts⟩ (tM_finding l G ad _ _ (-1000001) 0 (by decide) (by decide)) (cwV 1 hts (lw_V q1297 q1299 qs53 q106 q1300) rfl rfl rfl hdS_X13_finding ⟨by decide, by decide⟩) (hw.preV (k := 0) rfl rfl) rfl rfl hl.1 rfl (lv_room (by simp [Value.category])) dX13_write_49 ⟨Nat.zero_le _, Nat.zero_le _⟩) hw (fun r_49 u_49 H locs e_49 hw => ?_)
        obtain ⟨rfl, rfl⟩ := e_49
        have hw : nS G (mE G ad _ _) s H locs := hw
        exact m_iret hx hb hr hlk rfl hw (by rw [writeO, if_neg c_4, iq, if_neg c_20, if_pos c_43, shM_self]; exact ⟨rfl, rfl⟩) dX13_write_52
    · skip
      refine lv_aload_n hx hb dX13_write_23 rfl (lv_at hl 0 rfl) ?_
      refine lv_ldc (v := (-1000006)) hx hb hown (hts _ q1513) dX13_write_24 ?_
      refine n_calli (va_runV ⟨hx, hb, hml, hown, hts⟩ (tM_finding l G ad _ _ (-1000006) 5 (by decide) (by decide)) (cwV 1 hts (lw_V q1297 q1299 qs53 q106 q1300) rfl rfl rfl hdS_X13_finding ⟨by decide, by decide⟩) (hw.preV (k := 0) rfl rfl) rfl rfl hl.1 rfl (lv_room (by simp [Value.category])) dX13_write_26 ⟨Nat.zero_le _, Nat.zero_le _⟩) hw (fun r_26 u_26 H locs e_26 hw => ?_)
      obtain ⟨rfl, rfl⟩ := e_26
      have hw : nS G (mE G ad _ _) s H locs := hw
      exact m_iret hx hb hr hlk rfl hw (by rw [writeO, if_neg c_4, iq, if_pos c_20, shM_self]; exact ⟨rfl, rfl⟩) dX13_write_29
  · skip
    refine lv_aload_n hx hb dX13_write_7 rfl (lv_at hl 0 rfl) ?_
    refine lv_ldc (v := (-1000001)) hx hb hown (hts _ q1296) dX13_write_8 ?_
    refine n_calli (va_runV ⟨hx, hb, hml, hown, hts⟩ (tM_finding l G ad _ _ (-1000001) 0 (by decide) (by decide)) (cwV 1 hts (lw_V q1297 q1299 qs53 q106 q1300) rfl rfl rfl hdS_X13_finding ⟨by decide, by decide⟩) (hw.preV (k := 0) rfl rfl) rfl rfl hl.1 rfl (lv_room (by simp [Value.category])) dX13_write_10 ⟨Nat.zero_le _, Nat.zero_le _⟩) hw (fun r_10 u_10 H locs e_10 hw => ?_)
    obtain ⟨rfl, rfl⟩ := e_10
    have hw : nS G (mE G ad _ _) s H locs := hw
    exact m_iret hx hb hr hlk rfl hw (by rw [writeO, if_pos c_4, shM_self]; exact ⟨rfl, rfl⟩) dX13_write_13
theorem hdS_X13_image : yX13_image.cls = "LineCallsModel" ∧ yX13_image.cls ≠ "java/lang/invoke/MethodHandle" ∧ yX13_image.cls ≠ "java/lang/invoke/VarHandle" ∧ (parseMethodDescriptor yX13_image.desc).map (fun d => d.parameters.length) = some 0 := by decide +kernel
set_option maxHeartbeats 4000000 in
theorem tM_image (l : Launch) (G : nG) (ad : Nat → Nat) (w : rw84) (M : mM)  : Met l yX13_image (ws_ yX13_image cX13_image 1 (some .int)) { frames := 1, cells := 0, slots := 0, locals := 22 } (va_Pc [.ref (ad 0)] (nC G (mE G ad w M))) (va_Qi (fun (r : Int32) (u : rw84 × mM) => r = 1 ∧ u = (w, u2 (ur M 1 w) 3 0 1)) (fun u => nC G (mE G ad u.1 u.2)) (nA G)) 0 0 (nA G) := by
  refine n_head (by decide) (Nat.le_of_ble_eq_true rfl) ?_
  intro p e s m below meth c ls hx hb hr hlk hml hown hts hB0 hl
  have hown : s.vm.findClass "LineCallsModel" = some m.cls := hown
  have hw := nS.start hB0
  have hl : lv_has ls 1 [(0, .ref (ad 0))] := hl
  refine lv_aload_n hx hb dX13_image_0 rfl (lv_at hl 0 rfl) ?_
  refine n_get (k := 0) hx hb hts in_X13 hown hw rfl rfl 0 (by decide) q1198 rfl dX13_image_1 ?_
  refine lv_aload_n hx hb dX13_image_4 rfl (lv_at hl 0 rfl) ?_
  refine n_get (k := 0) hx hb hts in_X13 hown hw rfl rfl 1 (by decide) q1199 rfl dX13_image_5 ?_
  refine n_callv (va_runS ⟨hx, hb, hml, hown, hts⟩ (tM_copyRow_0_1 l G ad _ _ ) (va_cwS 2 hts (lw_S q1439 q1440 q106 q1441) rfl rfl rfl (hdS_X13_copyRow).2 ⟨by decide, by decide⟩) hw.preS rfl rfl hl.1 rfl (lv_room (by simp [Value.category])) dX13_image_8 ⟨Nat.zero_le _, Nat.zero_le _⟩) hw (fun u_8 H locs e_8 hw => ?_)
  subst e_8
  have hw : nS G (mE G ad _ _) s H locs := hw
  refine lv_aload_n hx hb dX13_image_11 rfl (lv_at hl 0 rfl) ?_
  refine lv_iconst (v := 1) hx hb dX13_image_12 (by decide) ?_
  refine m_put hx hb hts hown hw 3 (by decide) q1201 rfl rfl rfl (mI_3 _ _ _ _ _) dX13_image_13 (fun H locs hw => ?_)
  refine lv_iconst (v := 1) hx hb dX13_image_16 (by decide) ?_
  exact m_iret hx hb hr hlk rfl hw ⟨rfl, rfl⟩ dX13_image_17
theorem hdS_X13_undo : yX13_undo.cls = "LineCallsModel" ∧ yX13_undo.cls ≠ "java/lang/invoke/MethodHandle" ∧ yX13_undo.cls ≠ "java/lang/invoke/VarHandle" ∧ (parseMethodDescriptor yX13_undo.desc).map (fun d => d.parameters.length) = some 0 := by decide +kernel
set_option maxHeartbeats 4000000 in
theorem tM_undo (l : Launch) (G : nG) (ad : Nat → Nat) (w : rw84) (M : mM)  : Met l yX13_undo (ws_ yX13_undo cX13_undo 1 (some .int)) { frames := 1, cells := 0, slots := 0, locals := 22 } (va_Pc [.ref (ad 0)] (nC G (mE G ad w M))) (va_Qi (fun (r : Int32) (u : rw84 × mM) => r = (if M 3 0 = 0 then -1000004 else M 1 0) ∧ u = (if M 3 0 = 0 then (w, mFind M 3) else (M 1, M))) (fun u => nC G (mE G ad u.1 u.2)) (nA G)) 0 0 (nA G) := by
  refine n_head (by decide) (Nat.le_of_ble_eq_true rfl) ?_
  intro p e s m below meth c ls hx hb hr hlk hml hown hts hB0 hl
  have hown : s.vm.findClass "LineCallsModel" = some m.cls := hown
  have hw := nS.start hB0
  have hl : lv_has ls 1 [(0, .ref (ad 0))] := hl
  refine lv_aload_n hx hb dX13_undo_0 rfl (lv_at hl 0 rfl) ?_
  refine n_get (k := 0) hx hb hts in_X13 hown hw rfl rfl 3 (by decide) q1201 rfl dX13_undo_1 ?_
  refine lv_if_ne (tgt := 14) hx hb dX13_undo_4 (by decide) (fun c_4 => ?_) (fun c_4 => ?_)
  · skip
    refine lv_aload_n hx hb dX13_undo_14 rfl (lv_at hl 0 rfl) ?_
    refine n_get (k := 0) hx hb hts in_X13 hown hw rfl rfl 1 (by decide) q1199 rfl dX13_undo_15 ?_
    refine lv_aload_n hx hb dX13_undo_18 rfl (lv_at hl 0 rfl) ?_
    refine n_get (k := 0) hx hb hts in_X13 hown hw rfl rfl 0 (by decide) q1198 rfl dX13_undo_19 ?_
    refine n_callv (va_runS ⟨hx, hb, hml, hown, hts⟩ (tM_copyRow_1_0 l G ad _ _ ) (va_cwS 2 hts (lw_S q1439 q1440 q106 q1441) rfl rfl rfl (hdS_X13_copyRow).2 ⟨by decide, by decide⟩) hw.preS rfl rfl hl.1 rfl (lv_room (by simp [Value.category])) dX13_undo_22 ⟨Nat.zero_le _, Nat.zero_le _⟩) hw (fun u_22 H locs e_22 hw => ?_)
    subst e_22
    have hw : nS G (mE G ad _ _) s H locs := hw
    refine lv_aload_n hx hb dX13_undo_25 rfl (lv_at hl 0 rfl) ?_
    refine n_get (k := 0) hx hb hts in_X13 hown hw rfl rfl 0 (by decide) q1198 rfl dX13_undo_26 ?_
    refine lv_iconst (v := 0) hx hb dX13_undo_29 (by decide) ?_
    refine n_iald (k := 1) (j := 0) hx hb hw rfl rfl (by decide) (by decide) dX13_undo_30 ?_
    exact m_iret hx hb hr hlk rfl hw ⟨by rw [if_neg c_4], by rw [if_neg c_4]⟩ dX13_undo_31
  · skip
    refine lv_aload_n hx hb dX13_undo_7 rfl (lv_at hl 0 rfl) ?_
    refine lv_ldc (v := (-1000004)) hx hb hown (hts _ q1462) dX13_undo_8 ?_
    refine n_calli (va_runV ⟨hx, hb, hml, hown, hts⟩ (tM_finding l G ad _ _ (-1000004) 3 (by decide) (by decide)) (cwV 1 hts (lw_V q1297 q1299 qs53 q106 q1300) rfl rfl rfl hdS_X13_finding ⟨by decide, by decide⟩) (hw.preV (k := 0) rfl rfl) rfl rfl hl.1 rfl (lv_room (by simp [Value.category])) dX13_undo_10 ⟨Nat.zero_le _, Nat.zero_le _⟩) hw (fun r_10 u_10 H locs e_10 hw => ?_)
    obtain ⟨rfl, rfl⟩ := e_10
    have hw : nS G (mE G ad _ _) s H locs := hw
    exact m_iret hx hb hr hlk rfl hw ⟨by rw [if_pos c_4], by rw [if_pos c_4]⟩ dX13_undo_13
theorem hdS_X13_tear : yX13_tear.cls = "LineCallsModel" ∧ yX13_tear.cls ≠ "java/lang/invoke/MethodHandle" ∧ yX13_tear.cls ≠ "java/lang/invoke/VarHandle" ∧ (parseMethodDescriptor yX13_tear.desc).map (fun d => d.parameters.length) = some 0 := by decide +kernel
set_option maxHeartbeats 4000000 in
theorem tM_tear (l : Launch) (G : nG) (ad : Nat → Nat) (w : rw84) (M : mM)  : Met l yX13_tear (ws_ yX13_tear cX13_tear 2 (some .int)) { frames := 0, cells := 0, slots := 0, locals := 0 } (va_Pc [.ref (ad 0)] (nC G (mE G ad w M))) (va_Qi (fun (r : Int32) (u : rw84 × mM) => r = (if M 3 0 = 0 then 0 else 1) ∧ u = (w, u2 M 3 0 0)) (fun u => nC G (mE G ad u.1 u.2)) (nA G)) 0 0 (nA G) := by
  refine n_head (by decide) (Nat.le_of_ble_eq_true rfl) ?_
  intro p e s m below meth c ls hx hb hr hlk hml hown hts hB0 hl
  have hown : s.vm.findClass "LineCallsModel" = some m.cls := hown
  have hw := nS.start hB0
  have hl : lv_has ls 2 [(0, .ref (ad 0))] := hl
  refine lv_aload_n hx hb dX13_tear_0 rfl (lv_at hl 0 rfl) ?_
  refine n_get (k := 0) hx hb hts in_X13 hown hw rfl rfl 3 (by decide) q1201 rfl dX13_tear_1 ?_
  refine lv_if_eq (tgt := 11) hx hb dX13_tear_4 (by decide) (fun c_4 => ?_) (fun c_4 => ?_)
  · skip
    refine lv_iconst (v := 0) hx hb dX13_tear_11 (by decide) ?_
    refine lv_istore_n hx hb dX13_tear_12 rfl hl (by decide) rfl (fun ls hl => ?_)
    refine lv_aload_n hx hb dX13_tear_13 rfl (lv_at hl 1 rfl) ?_
    refine lv_iconst (v := 0) hx hb dX13_tear_14 (by decide) ?_
    refine m_put hx hb hts hown hw 3 (by decide) q1201 rfl rfl rfl (mI_3 _ _ _ _ _) dX13_tear_15 (fun H locs hw => ?_)
    refine lv_iload_n hx hb dX13_tear_18 rfl (lv_at hl 0 rfl) ?_
    exact m_iret hx hb hr hlk rfl hw ⟨by rw [if_pos c_4], rfl⟩ dX13_tear_19
  · skip
    refine lv_iconst (v := 1) hx hb dX13_tear_7 (by decide) ?_
    refine lv_goto (tgt := 12) hx hb dX13_tear_8 (by decide) ?_
    refine lv_istore_n hx hb dX13_tear_12 rfl hl (by decide) rfl (fun ls hl => ?_)
    refine lv_aload_n hx hb dX13_tear_13 rfl (lv_at hl 1 rfl) ?_
    refine lv_iconst (v := 0) hx hb dX13_tear_14 (by decide) ?_
    refine m_put hx hb hts hown hw 3 (by decide) q1201 rfl rfl rfl (mI_3 _ _ _ _ _) dX13_tear_15 (fun H locs hw => ?_)
    refine lv_iload_n hx hb dX13_tear_18 rfl (lv_at hl 0 rfl) ?_
    exact m_iret hx hb hr hlk rfl hw ⟨by rw [if_neg c_4], rfl⟩ dX13_tear_19
theorem hdS_X13_wipe : yX13_wipe.cls = "LineCallsModel" ∧ yX13_wipe.cls ≠ "java/lang/invoke/MethodHandle" ∧ yX13_wipe.cls ≠ "java/lang/invoke/VarHandle" ∧ (parseMethodDescriptor yX13_wipe.desc).map (fun d => d.parameters.length) = some 0 := by decide +kernel
set_option maxHeartbeats 4000000 in
theorem tM_wipe (l : Launch) (G : nG) (ad : Nat → Nat) (w : rw84) (M : mM)  : Met l yX13_wipe (ws_ yX13_wipe cX13_wipe 2 (some .int)) { frames := 0, cells := 0, slots := 0, locals := 0 } (va_Pc [.ref (ad 0)] (nC G (mE G ad w M))) (va_Qi (fun (r : Int32) (u : rw84 × mM) => r = M 8 0 ∧ u = (w, u2 M 8 0 0)) (fun u => nC G (mE G ad u.1 u.2)) (nA G)) 0 0 (nA G) := by
  refine n_head (by decide) (Nat.le_of_ble_eq_true rfl) ?_
  intro p e s m below meth c ls hx hb hr hlk hml hown hts hB0 hl
  have hown : s.vm.findClass "LineCallsModel" = some m.cls := hown
  have hw := nS.start hB0
  have hl : lv_has ls 2 [(0, .ref (ad 0))] := hl
  refine lv_aload_n hx hb dX13_wipe_0 rfl (lv_at hl 0 rfl) ?_
  refine n_get (k := 0) hx hb hts in_X13 hown hw rfl rfl 8 (by decide) q1206 rfl dX13_wipe_1 ?_
  refine lv_istore_n hx hb dX13_wipe_4 rfl hl (by decide) rfl (fun ls hl => ?_)
  refine lv_aload_n hx hb dX13_wipe_5 rfl (lv_at hl 1 rfl) ?_
  refine lv_iconst (v := 0) hx hb dX13_wipe_6 (by decide) ?_
  refine m_put hx hb hts hown hw 8 (by decide) q1206 rfl rfl rfl (mI_8 _ _ _ _ _) dX13_wipe_7 (fun H locs hw => ?_)
  refine lv_iload_n hx hb dX13_wipe_10 rfl (lv_at hl 0 rfl) ?_
  exact m_iret hx hb hr hlk rfl hw ⟨rfl, rfl⟩ dX13_wipe_11
theorem hdS_X13_count : yX13_count.cls = "LineCallsModel" ∧ yX13_count.cls ≠ "java/lang/invoke/MethodHandle" ∧ yX13_count.cls ≠ "java/lang/invoke/VarHandle" ∧ (parseMethodDescriptor yX13_count.desc).map (fun d => d.parameters.length) = some 1 := by decide +kernel
set_option maxHeartbeats 4000000 in
theorem tM_count (l : Launch) (G : nG) (ad : Nat → Nat) (w : rw84) (M : mM) (x : Int32) (B : Nat) (hI : Inv B w) (hB : B ≤ 100000) : Met l yX13_count (ws_ yX13_count cX13_count 4 (some .int)) { frames := 3, cells := 0, slots := 0, locals := 66 } (va_Pc [.ref (ad 0), .int x] (nC G (mE G ad w M))) (va_Qi (fun (r : Int32) (u : rw84 × mM) => r = (countO w (M 8 0) x).1 ∧ u = ((countO w (M 8 0) x).2.1, fnd (countO w (M 8 0) x).2.2 M)) (fun u => nC G (mE G ad u.1 u.2)) (nA G)) 0 0 (nA G) := by
  refine n_head (by decide) (Nat.le_of_ble_eq_true rfl) ?_
  intro p e s m below meth c ls hx hb hr hlk hml hown hts hB0 hl
  have hown : s.vm.findClass "LineCallsModel" = some m.cls := hown
  have hw := nS.start hB0
  have hl : lv_has ls 4 [(0, .ref (ad 0)), (1, .int x)] := hl
  obtain ⟨n, hn, en⟩ := hI.num
  have iw : ix (w 1) = n := by rw [en]; exact nI_clamp (by omega)
  refine lv_iconst (v := 0) hx hb dX13_count_0 (by decide) ?_
  refine lv_istore_n hx hb dX13_count_1 rfl hl (by decide) rfl (fun ls hl => ?_)
  refine lv_iload_n hx hb dX13_count_2 rfl (lv_at hl 2 rfl) ?_
  by_cases s_3_0 : x = 0
  · skip
    refine lv_tableIn (tgt := 48) hx hb dX13_count_3 (by rw [s_3_0]; decide) (by rw [s_3_0]; decide) (off := 45) (by rw [s_3_0]; rfl) (by decide) ?_
    refine lv_aload_n hx hb dX13_count_48 rfl (lv_at hl 1 rfl) ?_
    refine n_get (k := 0) hx hb hts in_X13 hown hw rfl rfl 0 (by decide) q1198 rfl dX13_count_49 ?_
    refine lv_iconst (v := 0) hx hb dX13_count_52 (by decide) ?_
    refine n_iald (k := 1) (j := 0) hx hb hw rfl rfl (by decide) (by decide) dX13_count_53 ?_
    exact m_iret hx hb hr hlk rfl hw (by rw [countO, if_pos s_3_0]; first | exact ⟨rfl, rfl⟩ | (rw [iw]; exact ⟨rfl, rfl⟩)) dX13_count_54
  by_cases s_3_1 : x = 1
  · skip
    refine lv_tableIn (tgt := 55) hx hb dX13_count_3 (by rw [s_3_1]; decide) (by rw [s_3_1]; decide) (off := 52) (by rw [s_3_1]; rfl) (by decide) ?_
    refine lv_aload_n hx hb dX13_count_55 rfl (lv_at hl 1 rfl) ?_
    refine n_get (k := 0) hx hb hts in_X13 hown hw rfl rfl 0 (by decide) q1198 rfl dX13_count_56 ?_
    refine lv_iconst (v := 1) hx hb dX13_count_59 (by decide) ?_
    refine n_iald (k := 1) (j := 1) hx hb hw rfl rfl (by decide) (by decide) dX13_count_60 ?_
    exact m_iret hx hb hr hlk rfl hw (by rw [countO, if_neg s_3_0, if_pos s_3_1]; first | exact ⟨rfl, rfl⟩ | (rw [iw]; exact ⟨rfl, rfl⟩)) dX13_count_61
  by_cases s_3_2 : x = 2
  · skip
    refine lv_tableIn (tgt := 62) hx hb dX13_count_3 (by rw [s_3_2]; decide) (by rw [s_3_2]; decide) (off := 59) (by rw [s_3_2]; rfl) (by decide) ?_
    refine lv_aload_n hx hb dX13_count_62 rfl (lv_at hl 1 rfl) ?_
    refine n_get (k := 0) hx hb hts in_X13 hown hw rfl rfl 0 (by decide) q1198 rfl dX13_count_63 ?_
    refine lv_iconst (v := 3) hx hb dX13_count_66 (by decide) ?_
    refine n_iald (k := 1) (j := 3) hx hb hw rfl rfl (by decide) (by decide) dX13_count_67 ?_
    exact m_iret hx hb hr hlk rfl hw (by rw [countO, if_neg s_3_0, if_neg s_3_1, if_pos s_3_2]; first | exact ⟨rfl, rfl⟩ | (rw [iw]; exact ⟨rfl, rfl⟩)) dX13_count_68
  by_cases s_3_3 : x = 3
  · skip
    refine lv_tableIn (tgt := 69) hx hb dX13_count_3 (by rw [s_3_3]; decide) (by rw [s_3_3]; decide) (off := 66) (by rw [s_3_3]; rfl) (by decide) ?_
    refine lv_aload_n hx hb dX13_count_69 rfl (lv_at hl 1 rfl) ?_
    refine lv_iconst (v := 3) hx hb dX13_count_70 (by decide) ?_
    refine n_callp (va_runV ⟨hx, hb, hml, hown, hts⟩ (tM_sumOf l G ad _ _ 3 n (by decide) hn en) (cwV 1 hts (lw_V q1420 q1422 qs66 q106 q1423) rfl rfl rfl hdS_X13_sumOf ⟨by decide, by decide⟩) (hw.preV (k := 0) rfl rfl) rfl rfl hl.1 rfl (lv_room (by simp [Value.category])) dX13_count_71 ⟨Nat.zero_le _, Nat.zero_le _⟩) (fun r_71 e_71 => ?_)
    subst e_71
    exact m_iret hx hb hr hlk rfl hw (by rw [countO, if_neg s_3_0, if_neg s_3_1, if_neg s_3_2, if_pos s_3_3]; first | exact ⟨rfl, rfl⟩ | (rw [iw]; exact ⟨rfl, rfl⟩)) dX13_count_74
  by_cases s_3_4 : x = 4
  · skip
    refine lv_tableIn (tgt := 75) hx hb dX13_count_3 (by rw [s_3_4]; decide) (by rw [s_3_4]; decide) (off := 72) (by rw [s_3_4]; rfl) (by decide) ?_
    refine lv_aload_n hx hb dX13_count_75 rfl (lv_at hl 1 rfl) ?_
    refine lv_iconst (v := 4) hx hb dX13_count_76 (by decide) ?_
    refine n_callp (va_runV ⟨hx, hb, hml, hown, hts⟩ (tM_sumOf l G ad _ _ 4 n (by decide) hn en) (cwV 1 hts (lw_V q1420 q1422 qs66 q106 q1423) rfl rfl rfl hdS_X13_sumOf ⟨by decide, by decide⟩) (hw.preV (k := 0) rfl rfl) rfl rfl hl.1 rfl (lv_room (by simp [Value.category])) dX13_count_77 ⟨Nat.zero_le _, Nat.zero_le _⟩) (fun r_77 e_77 => ?_)
    subst e_77
    exact m_iret hx hb hr hlk rfl hw (by rw [countO, if_neg s_3_0, if_neg s_3_1, if_neg s_3_2, if_neg s_3_3, if_pos s_3_4]; first | exact ⟨rfl, rfl⟩ | (rw [iw]; exact ⟨rfl, rfl⟩)) dX13_count_80
  by_cases s_3_5 : x = 5
  · skip
    refine lv_tableIn (tgt := 81) hx hb dX13_count_3 (by rw [s_3_5]; decide) (by rw [s_3_5]; decide) (off := 78) (by rw [s_3_5]; rfl) (by decide) ?_
    refine lv_aload_n hx hb dX13_count_81 rfl (lv_at hl 1 rfl) ?_
    refine n_get (k := 0) hx hb hts in_X13 hown hw rfl rfl 8 (by decide) q1206 rfl dX13_count_82 ?_
    exact m_iret hx hb hr hlk rfl hw (by rw [countO, if_neg s_3_0, if_neg s_3_1, if_neg s_3_2, if_neg s_3_3, if_neg s_3_4, if_pos s_3_5]; first | exact ⟨rfl, rfl⟩ | (rw [iw]; exact ⟨rfl, rfl⟩)) dX13_count_85
  by_cases s_3_6 : x = 6
  · skip
    refine lv_tableIn (tgt := 86) hx hb dX13_count_3 (by rw [s_3_6]; decide) (by rw [s_3_6]; decide) (off := 83) (by rw [s_3_6]; rfl) (by decide) ?_
    refine lv_aload_n hx hb dX13_count_86 rfl (lv_at hl 1 rfl) ?_
    refine n_get (k := 0) hx hb hts in_X13 hown hw rfl rfl 0 (by decide) q1198 rfl dX13_count_87 ?_
    refine lv_iconst (v := 2) hx hb dX13_count_90 (by decide) ?_
    refine n_iald (k := 1) (j := 2) hx hb hw rfl rfl (by decide) (by decide) dX13_count_91 ?_
    exact m_iret hx hb hr hlk rfl hw (by rw [countO, if_neg s_3_0, if_neg s_3_1, if_neg s_3_2, if_neg s_3_3, if_neg s_3_4, if_neg s_3_5, if_pos s_3_6]; first | exact ⟨rfl, rfl⟩ | (rw [iw]; exact ⟨rfl, rfl⟩)) dX13_count_92
  by_cases s_3_7 : x = 7
  · skip
    refine lv_tableIn (tgt := 93) hx hb dX13_count_3 (by rw [s_3_7]; decide) (by rw [s_3_7]; decide) (off := 90) (by rw [s_3_7]; rfl) (by decide) ?_
    refine lv_iconst (v := 0) hx hb dX13_count_93 (by decide) ?_
    refine lv_istore_n hx hb dX13_count_94 rfl hl (by decide) rfl (fun ls hl => ?_)
    refine n_loopR (α := Nat) (fun k ls => k ≤ 10 ∧ lv_has ls 4 [(0, .ref (ad 0)), (2, .int (heldF w k)), (3, .int (nI k))]) (fun k => 10 - k) 95 ?_ 0 _ ⟨Nat.zero_le _, (lv_sub hl [2, 1, 0] rfl)⟩
    clear hl
    intro k ls hI ih_95
    obtain ⟨hk, hl⟩ := hI
    refine lv_iload_n hx hb dX13_count_95 rfl (lv_at hl 2 rfl) ?_
    refine lv_bipush (v := 10) hx hb dX13_count_96 (by decide) ?_
    refine lv_icmp_ge (tgt := 127) hx hb dX13_count_98 (by decide) (fun c_98 => ?_) (fun c_98 => ?_)
    · skip
      have n_98 : 10 ≤ k := (nI_leI (a := 10) (b := k) (by omega) (by omega)).mp c_98
      obtain rfl : k = 10 := by omega
      refine lv_iload_n hx hb dX13_count_127 rfl (lv_at hl 1 rfl) ?_
      exact m_iret hx hb hr hlk rfl hw (by rw [countO, if_neg s_3_0, if_neg s_3_1, if_neg s_3_2, if_neg s_3_3, if_neg s_3_4, if_neg s_3_5, if_neg s_3_6, if_pos s_3_7]; exact ⟨rfl, rfl⟩) dX13_count_128
    · skip
      have n_98 : ¬ 10 ≤ k := fun h => c_98 ((nI_leI (a := 10) (b := k) (by omega) (by omega)).mpr h)
      refine lv_iload_n hx hb dX13_count_101 rfl (lv_at hl 1 rfl) ?_
      refine lv_aload_n hx hb dX13_count_102 rfl (lv_at hl 0 rfl) ?_
      refine n_get (k := 0) hx hb hts in_X13 hown hw rfl rfl 0 (by decide) q1198 rfl dX13_count_103 ?_
      refine lv_bipush (v := 7) hx hb dX13_count_106 (by decide) ?_
      refine lv_iload_n hx hb dX13_count_108 rfl (lv_at hl 2 rfl) ?_
      refine lv_iadd hx hb dX13_count_109 ?_
      refine n_topE (nI_add 7 k) ?_
      refine n_iald (k := 1) (j := 7 + k) hx hb hw rfl rfl (by omega) (by decide) dX13_count_110 ?_
      refine lv_if_ge (tgt := 118) hx hb dX13_count_111 (by decide) (fun c_111 => ?_) (fun c_111 => ?_)
      · skip
        refine lv_iconst (v := 1) hx hb dX13_count_118 (by decide) ?_
        refine lv_iadd hx hb dX13_count_119 ?_
        refine lv_istore_n hx hb dX13_count_120 rfl hl (by decide) rfl (fun ls hl => ?_)
        refine lv_iinc (v := nI (k + 1)) hx hb dX13_count_121 hl (k := 2) rfl (nI_1 _) (by decide) rfl (fun ls hl => ?_)
        refine lv_goto (tgt := 95) hx hb dX13_count_124 (by decide) ?_
        exact ih_95 (k + 1) _ (by first | omega | (dsimp only; omega)) ⟨by omega, by rw [heldF, if_pos c_111]; exact (lv_sub hl [2, 1, 0] rfl)⟩
      · skip
        refine lv_iconst (v := 0) hx hb dX13_count_114 (by decide) ?_
        refine lv_goto (tgt := 119) hx hb dX13_count_115 (by decide) ?_
        refine lv_iadd hx hb dX13_count_119 ?_
        refine lv_istore_n hx hb dX13_count_120 rfl hl (by decide) rfl (fun ls hl => ?_)
        refine lv_iinc (v := nI (k + 1)) hx hb dX13_count_121 hl (k := 2) rfl (nI_1 _) (by decide) rfl (fun ls hl => ?_)
        refine lv_goto (tgt := 95) hx hb dX13_count_124 (by decide) ?_
        exact ih_95 (k + 1) _ (by first | omega | (dsimp only; omega)) ⟨by omega, by rw [heldF, if_neg c_111]; exact (lv_sub hl [2, 1, 0] rfl)⟩
  refine lv_tableOut (tgt := 129) hx hb dX13_count_3 (by have a_0 := ne_ti (k := 0) s_3_0 (by decide); have a_1 := ne_ti (k := 1) s_3_1 (by decide); have a_2 := ne_ti (k := 2) s_3_2 (by decide); have a_3 := ne_ti (k := 3) s_3_3 (by decide); have a_4 := ne_ti (k := 4) s_3_4 (by decide); have a_5 := ne_ti (k := 5) s_3_5 (by decide); have a_6 := ne_ti (k := 6) s_3_6 (by decide); have a_7 := ne_ti (k := 7) s_3_7 (by decide); omega) (by decide) ?_
  refine lv_aload_n hx hb dX13_count_129 rfl (lv_at hl 1 rfl) ?_
  refine lv_ldc (v := (-1000001)) hx hb hown (hts _ q1296) dX13_count_130 ?_
  refine n_calli (va_runV ⟨hx, hb, hml, hown, hts⟩ (tM_finding l G ad _ _ (-1000001) 0 (by decide) (by decide)) (cwV 1 hts (lw_V q1297 q1299 qs53 q106 q1300) rfl rfl rfl hdS_X13_finding ⟨by decide, by decide⟩) (hw.preV (k := 0) rfl rfl) rfl rfl hl.1 rfl (lv_room (by simp [Value.category])) dX13_count_132 ⟨Nat.zero_le _, Nat.zero_le _⟩) hw (fun r_132 u_132 H locs e_132 hw => ?_)
  obtain ⟨rfl, rfl⟩ := e_132
  have hw : nS G (mE G ad _ _) s H locs := hw
  exact m_iret hx hb hr hlk rfl hw (by rw [countO, if_neg s_3_0, if_neg s_3_1, if_neg s_3_2, if_neg s_3_3, if_neg s_3_4, if_neg s_3_5, if_neg s_3_6, if_neg s_3_7]; first | exact ⟨rfl, rfl⟩ | (rw [iw]; exact ⟨rfl, rfl⟩)) dX13_count_135
theorem hdS_X13_status : yX13_status.cls = "LineCallsModel" ∧ yX13_status.cls ≠ "java/lang/invoke/MethodHandle" ∧ yX13_status.cls ≠ "java/lang/invoke/VarHandle" ∧ (parseMethodDescriptor yX13_status.desc).map (fun d => d.parameters.length) = some 1 := by decide +kernel
set_option maxHeartbeats 4000000 in
theorem tM_status (l : Launch) (G : nG) (ad : Nat → Nat) (w : rw84) (M : mM) (x : Int32) : Met l yX13_status (ws_ yX13_status cX13_status 2 (some .int)) { frames := 1, cells := 0, slots := 0, locals := 22 } (va_Pc [.ref (ad 0), .int x] (nC G (mE G ad w M))) (va_Qi (fun (r : Int32) (u : rw84 × mM) => r = (statusO (M 4) w x).1 ∧ u = ((statusO (M 4) w x).2.1, fnd (statusO (M 4) w x).2.2 M)) (fun u => nC G (mE G ad u.1 u.2)) (nA G)) 0 0 (nA G) := by
  refine n_head (by decide) (Nat.le_of_ble_eq_true rfl) ?_
  intro p e s m below meth c ls hx hb hr hlk hml hown hts hB0 hl
  have hown : s.vm.findClass "LineCallsModel" = some m.cls := hown
  have hw := nS.start hB0
  have hl : lv_has ls 2 [(0, .ref (ad 0)), (1, .int x)] := hl
  refine lv_iload_n hx hb dX13_status_0 rfl (lv_at hl 1 rfl) ?_
  refine lv_iconst (v := (-1)) hx hb dX13_status_1 (by decide) ?_
  refine lv_bipush (v := 6) hx hb dX13_status_2 (by decide) ?_
  refine n_callp (va_runS ⟨hx, hb, hml, hown, hts⟩ (tM_within l _ _ _) (va_cwS 3 hts (lw_S q1281 q1282 q106 q1283) rfl rfl rfl (hdS_X13_within).2 ⟨by decide, by decide⟩) pu_pre rfl rfl hl.1 rfl (lv_room (by simp [Value.category])) dX13_status_4 ⟨Nat.zero_le _, Nat.zero_le _⟩) (fun r_4 e_4 => ?_)
  subst e_4
  refine lv_if_eq (tgt := 21) hx hb dX13_status_7 (by decide) (fun c_7 => ?_) (fun c_7 => ?_)
  · skip
    refine lv_aload_n hx hb dX13_status_21 rfl (lv_at hl 0 rfl) ?_
    refine lv_ldc (v := (-1000001)) hx hb hown (hts _ q1296) dX13_status_22 ?_
    refine n_calli (va_runV ⟨hx, hb, hml, hown, hts⟩ (tM_finding l G ad _ _ (-1000001) 0 (by decide) (by decide)) (cwV 1 hts (lw_V q1297 q1299 qs53 q106 q1300) rfl rfl rfl hdS_X13_finding ⟨by decide, by decide⟩) (hw.preV (k := 0) rfl rfl) rfl rfl hl.1 rfl (lv_room (by simp [Value.category])) dX13_status_24 ⟨Nat.zero_le _, Nat.zero_le _⟩) hw (fun r_24 u_24 H locs e_24 hw => ?_)
    obtain ⟨rfl, rfl⟩ := e_24
    have hw : nS G (mE G ad _ _) s H locs := hw
    exact m_iret hx hb hr hlk rfl hw (by rw [statusO, if_pos c_7]; first | (rw [iq]; exact ⟨rfl, rfl⟩) | exact ⟨rfl, rfl⟩) dX13_status_27
  · skip
    obtain ⟨q, hq, eq⟩ := in_natm c_7
    have iq : ix (x + 1) = q := by rw [eq]; exact nI_clamp (by omega)
    refine lv_aload_n hx hb dX13_status_10 rfl (lv_at hl 0 rfl) ?_
    refine n_get (k := 0) hx hb hts in_X13 hown hw rfl rfl 4 (by decide) q1202 rfl dX13_status_11 ?_
    refine lv_iload_n hx hb dX13_status_14 rfl (lv_at hl 1 rfl) ?_
    refine lv_iconst (v := 1) hx hb dX13_status_15 (by decide) ?_
    refine lv_iadd hx hb dX13_status_16 ?_
    refine n_topE eq ?_
    refine n_iald (k := 5) (j := q) hx hb hw rfl rfl (by omega) (by decide) dX13_status_17 ?_
    refine lv_goto (tgt := 27) hx hb dX13_status_18 (by decide) ?_
    exact m_iret hx hb hr hlk rfl hw (by rw [statusO, if_neg c_7]; first | (rw [iq]; exact ⟨rfl, rfl⟩) | exact ⟨rfl, rfl⟩) dX13_status_27
theorem hdS_X13_feed : yX13_feed.cls = "LineCallsModel" ∧ yX13_feed.cls ≠ "java/lang/invoke/MethodHandle" ∧ yX13_feed.cls ≠ "java/lang/invoke/VarHandle" ∧ (parseMethodDescriptor yX13_feed.desc).map (fun d => d.parameters.length) = some 2 := by decide +kernel
set_option maxHeartbeats 4000000 in
theorem tM_feed (l : Launch) (G : nG) (ad : Nat → Nat) (w : rw84) (M : mM) (b x : Int32) (a : Nat) (ha : a ≤ 120) (ea : M 8 0 = nI a) : Met l yX13_feed (ws_ yX13_feed cX13_feed 4 (some .int)) { frames := 1, cells := 0, slots := 0, locals := 22 } (va_Pc [.ref (ad 0), .int b, .int x] (nC G (mE G ad w M))) (va_Qi (fun (r : Int32) (u : rw84 × mM) => r = (feedO (M 7) (M 8 0) b x).1 ∧ u = (w, fnd (feedO (M 7) (M 8 0) b x).2.1 (fdM M (feedO (M 7) (M 8 0) b x).2.2.1 (feedO (M 7) (M 8 0) b x).2.2.2))) (fun u => nC G (mE G ad u.1 u.2)) (nA G)) 0 0 (nA G) := by
  refine n_head (by decide) (Nat.le_of_ble_eq_true rfl) ?_
  intro p e s m below meth c ls hx hb hr hlk hml hown hts hB0 hl
  have hown : s.vm.findClass "LineCallsModel" = some m.cls := hown
  have hw := nS.start hB0
  have hl : lv_has ls 4 [(0, .ref (ad 0)), (1, .int b), (2, .int x)] := hl
  have ia : ix (M 8 0) = a := by rw [ea]; exact nI_clamp (by omega)
  refine lv_iload_n hx hb dX13_feed_0 rfl (lv_at hl 2 rfl) ?_
  refine lv_iconst (v := 1) hx hb dX13_feed_1 (by decide) ?_
  refine lv_iconst (v := 4) hx hb dX13_feed_2 (by decide) ?_
  refine n_callp (va_runS ⟨hx, hb, hml, hown, hts⟩ (tM_within l _ _ _) (va_cwS 3 hts (lw_S q1281 q1282 q106 q1283) rfl rfl rfl (hdS_X13_within).2 ⟨by decide, by decide⟩) pu_pre rfl rfl hl.1 rfl (lv_room (by simp [Value.category])) dX13_feed_3 ⟨Nat.zero_le _, Nat.zero_le _⟩) (fun r_3 e_3 => ?_)
  subst e_3
  refine lv_if_ne (tgt := 16) hx hb dX13_feed_6 (by decide) (fun c_6 => ?_) (fun c_6 => ?_)
  · skip
    obtain ⟨q, h1q, hq, rfl⟩ := in_nat1 (N := 4) rfl (by decide) c_6
    have iq : ix (nI q) = q := nI_clamp (by omega)
    refine lv_aload_n hx hb dX13_feed_16 rfl (lv_at hl 0 rfl) ?_
    refine n_get (k := 0) hx hb hts in_X13 hown hw rfl rfl 8 (by decide) q1206 rfl dX13_feed_17 ?_
    refine lv_iload_n hx hb dX13_feed_20 rfl (lv_at hl 2 rfl) ?_
    refine lv_iadd hx hb dX13_feed_21 ?_
    refine lv_bipush (v := 120) hx hb dX13_feed_22 (by decide) ?_
    refine lv_icmp_le (tgt := 34) hx hb dX13_feed_24 (by decide) (fun c_24 => ?_) (fun c_24 => ?_)
    · skip
      have haq : a + q ≤ 120 := by (have z := c_24; rw [ea, nI_add] at z; exact (nI_leI (a := a + q) (b := 120) (by omega) (by omega)).mp z)
      refine lv_iload_n hx hb dX13_feed_34 rfl (lv_at hl 2 rfl) ?_
      refine lv_iconst (v := 1) hx hb dX13_feed_35 (by decide) ?_
      refine lv_isub hx hb dX13_feed_36 ?_
      refine n_topE (y := dw (q - 1) 0) (by rw [dw_at (Nat.zero_le _)]; exact (show nI q - 1 = nI (q - 1 - 0) by rw [show q = q - 1 + 1 by omega, nI_pred]; rfl)) ?_
      refine lv_istore_n hx hb dX13_feed_37 rfl hl (by decide) rfl (fun ls hl => ?_)
      refine n_loop (α := Nat) (fun k H locs ls => k ≤ q ∧ nS G (mE G ad w (fdM M (fdF (M 7) a b q k) (nI (a + k)))) s H locs ∧ lv_has ls 4 [(0, .ref (ad 0)), (1, .int b), (2, .int (nI q)), (3, .int (dw (q - 1) k))]) (fun k => q - k) 38 ?_ 0 _ _ _ ⟨Nat.zero_le _, by rw [show fdF (M 7) a b q 0 = M 7 from rfl, Nat.add_zero, fd_init ea]; exact hw, (lv_sub hl [1, 2, 3, 0] rfl)⟩
      clear hl hw
      intro k H locs ls hI ih_38
      obtain ⟨hk, hw, hl⟩ := hI
      refine lv_iload_n hx hb dX13_feed_38 rfl (lv_at hl 3 rfl) ?_
      refine lv_if_lt (tgt := 77) hx hb dX13_feed_39 (by decide) (fun c_39 => ?_) (fun c_39 => ?_)
      · skip
        have hy := dw_neg (by omega) c_39
        obtain rfl : k = q := by omega
        refine lv_aload_n hx hb dX13_feed_77 rfl (lv_at hl 0 rfl) ?_
        refine n_get (k := 0) hx hb hts in_X13 hown hw rfl rfl 8 (by decide) q1206 rfl dX13_feed_78 ?_
        exact m_iret hx hb hr hlk rfl hw (by rw [feedO, if_neg c_6, if_pos c_24, ia, iq]; exact ⟨rfl, rfl⟩) dX13_feed_81
      · skip
        have hy := dw_pos c_39
        refine lv_aload_n hx hb dX13_feed_42 rfl (lv_at hl 0 rfl) ?_
        refine n_get (k := 0) hx hb hts in_X13 hown hw rfl rfl 7 (by decide) q1205 rfl dX13_feed_43 ?_
        refine lv_aload_n hx hb dX13_feed_46 rfl (lv_at hl 0 rfl) ?_
        refine n_get (k := 0) hx hb hts in_X13 hown hw rfl rfl 8 (by decide) q1206 rfl dX13_feed_47 ?_
        refine n_topE (y := nI (a + k)) rfl ?_
        refine lv_iload_n hx hb dX13_feed_50 rfl (lv_at hl 1 rfl) ?_
        refine lv_bipush (v := 8) hx hb dX13_feed_51 (by decide) ?_
        refine lv_iload_n hx hb dX13_feed_53 rfl (lv_at hl 3 rfl) ?_
        refine n_topE (dw_at hy) ?_
        refine lv_imul hx hb dX13_feed_54 ?_
        refine n_topE (pk_mul 8 (q - 1 - k)) ?_
        refine lv_ishr hx hb dX13_feed_55 ?_
        refine lv_sipush (v := 255) hx hb dX13_feed_56 (by decide) ?_
        refine lv_iand hx hb dX13_feed_59 ?_
        refine m_iast (j := a + k) hx hb hw 7 rfl (mU_7 _ _ _ _) rfl (by omega) (by decide) dX13_feed_60 (fun H locs hw => ?_)
        refine lv_aload_n hx hb dX13_feed_61 rfl (lv_at hl 0 rfl) ?_
        refine lv_dup hx hb dX13_feed_62 rfl ?_
        refine n_get (k := 0) hx hb hts in_X13 hown hw rfl rfl 8 (by decide) q1206 rfl dX13_feed_63 ?_
        refine n_topE (y := nI (a + k)) rfl ?_
        refine lv_iconst (v := 1) hx hb dX13_feed_66 (by decide) ?_
        refine lv_iadd hx hb dX13_feed_67 ?_
        refine m_put hx hb hts hown hw 8 (by decide) q1206 rfl rfl rfl (mI_8 _ _ _ _ _) dX13_feed_68 (fun H locs hw => ?_)
        refine lv_iinc (v := dw (q - 1) (k + 1)) hx hb dX13_feed_71 hl (k := 3) rfl (dw_s hy) (by decide) rfl (fun ls hl => ?_)
        refine lv_goto (tgt := 38) hx hb dX13_feed_74 (by decide) ?_
        exact ih_38 (k + 1) _ _ _ (by first | omega | (dsimp only; omega)) ⟨by omega, by rw [fdF]; rw [fd_step, nI_1] at hw; exact hw, (lv_sub hl [1, 2, 3, 0] rfl)⟩
    · skip
      refine lv_aload_n hx hb dX13_feed_27 rfl (lv_at hl 0 rfl) ?_
      refine lv_ldc (v := (-1000002)) hx hb hown (hts _ q1349) dX13_feed_28 ?_
      refine n_calli (va_runV ⟨hx, hb, hml, hown, hts⟩ (tM_finding l G ad _ _ (-1000002) 1 (by decide) (by decide)) (cwV 1 hts (lw_V q1297 q1299 qs53 q106 q1300) rfl rfl rfl hdS_X13_finding ⟨by decide, by decide⟩) (hw.preV (k := 0) rfl rfl) rfl rfl hl.1 rfl (lv_room (by simp [Value.category])) dX13_feed_30 ⟨Nat.zero_le _, Nat.zero_le _⟩) hw (fun r_30 u_30 H locs e_30 hw => ?_)
      obtain ⟨rfl, rfl⟩ := e_30
      have hw : nS G (mE G ad _ _) s H locs := hw
      exact m_iret hx hb hr hlk rfl hw (by rw [feedO, if_neg c_6, if_neg c_24, fd_init rfl]; exact ⟨rfl, rfl⟩) dX13_feed_33
  · skip
    refine lv_aload_n hx hb dX13_feed_9 rfl (lv_at hl 0 rfl) ?_
    refine lv_ldc (v := (-1000001)) hx hb hown (hts _ q1296) dX13_feed_10 ?_
    refine n_calli (va_runV ⟨hx, hb, hml, hown, hts⟩ (tM_finding l G ad _ _ (-1000001) 0 (by decide) (by decide)) (cwV 1 hts (lw_V q1297 q1299 qs53 q106 q1300) rfl rfl rfl hdS_X13_finding ⟨by decide, by decide⟩) (hw.preV (k := 0) rfl rfl) rfl rfl hl.1 rfl (lv_room (by simp [Value.category])) dX13_feed_12 ⟨Nat.zero_le _, Nat.zero_le _⟩) hw (fun r_12 u_12 H locs e_12 hw => ?_)
    obtain ⟨rfl, rfl⟩ := e_12
    have hw : nS G (mE G ad _ _) s H locs := hw
    exact m_iret hx hb hr hlk rfl hw (by rw [feedO, if_pos c_6, fd_init rfl]; exact ⟨rfl, rfl⟩) dX13_feed_15
