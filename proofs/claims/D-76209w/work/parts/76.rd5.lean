/-! the class: its reader, the whole text; texts told -/
set_option maxRecDepth 100000
section ITK
variable {bt : Nat → Int32} {t : Tok} {tk : Nat → Bool} {n : Nat}
theorem item_j (h : keyF bt t < 7) : itemP bt n tk t = (if n < 8 then jumpP bt tk (keyF bt t) (nx bt t) else .inl t.2.1) := by rw [itemP, if_pos h]
theorem item_7 (h : keyF bt t = 7) : itemP bt n tk t = twoP bt 10 6 99 t := by rw [itemP, h, if_neg (by decide), if_pos rfl]
theorem item_8 (h : keyF bt t = 8) : itemP bt n tk t = twoP bt 11 5 999 t := by rw [itemP, h, if_neg (by decide), if_neg (by decide), if_pos rfl]
theorem item_9 (h : keyF bt t = 9) : itemP bt n tk t = oneP bt 12 4 t := by rw [itemP, h, if_neg (by decide), if_neg (by decide), if_neg (by decide), if_pos rfl]
theorem item_10 (h : keyF bt t = 10) : itemP bt n tk t = oneP bt 13 9 t := by rw [itemP, h, if_neg (by decide), if_neg (by decide), if_neg (by decide), if_neg (by decide), if_pos rfl]
theorem item_11 (h : keyF bt t = 11) : itemP bt n tk t = oneP bt 14 9 t := by rw [itemP, h, if_neg (by decide), if_neg (by decide), if_neg (by decide), if_neg (by decide), if_neg (by decide), if_pos rfl]
theorem item_x (h : 11 < keyF bt t) : itemP bt n tk t = .inl t.2.1 := by
  rw [itemP, if_neg (by omega), if_neg (by omega), if_neg (by omega), if_neg (by omega), if_neg (by omega), if_neg (by omega)]
end ITK
theorem hdS_X2_item : yX2_item.cls = "LineCalls$Reader" ∧ yX2_item.cls ≠ "java/lang/invoke/MethodHandle" ∧ yX2_item.cls ≠ "java/lang/invoke/VarHandle" ∧ (parseMethodDescriptor yX2_item.desc).map (fun d => d.parameters.length) = some 0 := by decide +kernel
set_option maxHeartbeats 4000000 in
theorem tR_item (l : Launch) (G : nG) (ad : Nat → Nat) (w w1 w2 w3 : rw84) (X : mM) (sp : xSp) (sh : xSh) (bt : Nat → Int32) (len : Nat) (hby : Byt bt len) (hX : RdX bt len X) (n : Nat) (t : Tok) (hn : n ≤ 8) (en : w3 1 = nI n) (hR : RdT bt t X) (ht : TokIn t) : MetX l yX2_item (ws_ yX2_item cX2_item 1 (none)) { frames := 10, cells := 0, slots := 0, locals := 218 } (va_Pc [.ref (ad 66)] (nC G (xE G ad (xV w w1 w2 w3) X sp sh))) (xQ G (fun (_ : xSt) => none) (fun (u : xSt) => ∃ it t', chk bt (itemP bt n (tkW w3) t) = .inr (it, t') ∧ okT bt t' = true ∧ ∃ X', u = (w, w1, w2, apF w3 it, X', sp, sh) ∧ RdT bt t' X' ∧ xFr X X') (fun (u : xSt) => ∃ z, chk bt (itemP bt n (tkW w3) t) = .inl z ∧ ∃ X' w3', u = (w, w1, w2, w3', X', sp, sh) ∧ X' 35 0 = nI z ∧ xFr X X') (ad 67) (fun u => xE G ad (xV u.1 u.2.1 u.2.2.1 u.2.2.2.1) u.2.2.2.2.1 u.2.2.2.2.2.1 u.2.2.2.2.2.2)) 0 0 (nA G) := by
  refine x_head (by decide) (Nat.le_of_ble_eq_true rfl) ?_
  intro p e s m below meth c ls hx hb hr hlk hml hown hts hnh hB0 hl
  have hown : s.vm.findClass "LineCalls$Reader" = some m.cls := hown
  have hw := nS.start hB0
  have hl : lv_has ls 1 [(0, .ref (ad 66))] := hl
  have hkl := keyF_le (b := bt) (t := t)
  refine lv_aload_n hx hb dX2_item_0 rfl (lv_at hl 0 rfl) ?_
  refine lv_aload_n hx hb dX2_item_1 rfl (lv_at hl 0 rfl) ?_
  refine n_get (k := 66) hx hb hts in_X2 hown hw (xp 66) rfl 6 (by decide) q284 rfl dX2_item_2 ?_
  refine n_topE hR.2.2.1 ?_
  refine lv_iconst (v := 2) hx hb dX2_item_5 (by decide) ?_
  refine lv_icmp_ne (tgt := 22) hx hb dX2_item_6 (by decide) (fun c_6 => ?_) (fun c_6 => ?_)
  · skip
    have hN : 11 < keyF bt t := by rw [keyF_no (fun h => c_6 ((tkX_word ht.1).mpr h))]; decide
    refine lv_iconst (v := 0) hx hb dX2_item_22 (by decide) ?_
    refine x_callN ⟨hx, hb, hml, hown, hts⟩ (tR_need l G ad _ _ _ _ _ _ _ _) (cwV 1 hts (lw_V q1041 q1043 qs37 q95 q1044) rfl rfl rfl hdS_X2_need ⟨by decide, by decide⟩) (hw.preV (k := 66) (xp 66) rfl) rfl hl.1 rfl (by simp [Value.category]) dX2_item_23 ⟨Nat.zero_le _, Nat.zero_le _⟩ hw (fun u_23 H locs e_23 hw => ?_) (fun u_23 H locs e_23 hw => ?_)
    · skip
      obtain ⟨t_23, rfl⟩ := e_23
      have hw : nS G (xE G ad (xV _ _ _ _) _ _ _) s H locs := hw
      exact absurd rfl t_23
    · skip
      obtain ⟨t_23, rfl⟩ := e_23
      have hw : nS G (xE G ad (xV _ _ _ _) _ _ _) s H locs := hw
      exact lx_out hlk hnh hw ⟨_, (by rw [item_x hN]; rfl), _, _, rfl, hR.2.1, xFr.rf _⟩
  · skip
    have h1 := (tkX_word ht.1).mp c_6
    refine lv_aload_n hx hb dX2_item_9 rfl (lv_at hl 0 rfl) ?_
    refine n_get (k := 66) hx hb hts in_X2 hown hw (xp 66) rfl 7 (by decide) q285 rfl dX2_item_10 ?_
    refine n_topE (hR.2.2.2.1 h1) ?_
    refine lv_bipush (v := 11) hx hb dX2_item_13 (by decide) ?_
    refine lv_icmp_gt (tgt := 22) hx hb dX2_item_15 (by decide) (fun c_15 => ?_) (fun c_15 => ?_)
    · skip
      have n_15 : 11 < keyF bt t := (nI_ltI (a := 11) (b := keyF bt t) (by omega) (by omega)).mp c_15
      have hN : 11 < keyF bt t := n_15
      refine lv_iconst (v := 0) hx hb dX2_item_22 (by decide) ?_
      refine x_callN ⟨hx, hb, hml, hown, hts⟩ (tR_need l G ad _ _ _ _ _ _ _ _) (cwV 1 hts (lw_V q1041 q1043 qs37 q95 q1044) rfl rfl rfl hdS_X2_need ⟨by decide, by decide⟩) (hw.preV (k := 66) (xp 66) rfl) rfl hl.1 rfl (by simp [Value.category]) dX2_item_23 ⟨Nat.zero_le _, Nat.zero_le _⟩ hw (fun u_23 H locs e_23 hw => ?_) (fun u_23 H locs e_23 hw => ?_)
      · skip
        obtain ⟨t_23, rfl⟩ := e_23
        have hw : nS G (xE G ad (xV _ _ _ _) _ _ _) s H locs := hw
        exact absurd rfl t_23
      · skip
        obtain ⟨t_23, rfl⟩ := e_23
        have hw : nS G (xE G ad (xV _ _ _ _) _ _ _) s H locs := hw
        exact lx_out hlk hnh hw ⟨_, (by rw [item_x hN]; rfl), _, _, rfl, hR.2.1, xFr.rf _⟩
    · skip
      have n_15 : ¬ 11 < keyF bt t := fun h => c_15 ((nI_ltI (a := 11) (b := keyF bt t) (by omega) (by omega)).mpr h)
      refine lv_iconst (v := 1) hx hb dX2_item_18 (by decide) ?_
      refine lv_goto (tgt := 23) hx hb dX2_item_19 (by decide) ?_
      refine x_callN ⟨hx, hb, hml, hown, hts⟩ (tR_need l G ad _ _ _ _ _ _ _ _) (cwV 1 hts (lw_V q1041 q1043 qs37 q95 q1044) rfl rfl rfl hdS_X2_need ⟨by decide, by decide⟩) (hw.preV (k := 66) (xp 66) rfl) rfl hl.1 rfl (by simp [Value.category]) dX2_item_23 ⟨Nat.zero_le _, Nat.zero_le _⟩ hw (fun u_23 H locs e_23 hw => ?_) (fun u_23 H locs e_23 hw => ?_)
      · skip
        obtain ⟨t_23, rfl⟩ := e_23
        have hw : nS G (xE G ad (xV _ _ _ _) _ _ _) s H locs := hw
        refine lv_aload_n hx hb dX2_item_26 rfl (lv_at hl 0 rfl) ?_
        refine n_get (k := 66) hx hb hts in_X2 hown hw (xp 66) rfl 7 (by decide) q285 rfl dX2_item_27 ?_
        refine n_topE (hR.2.2.2.1 h1) ?_
        by_cases s_30_7 : nI (keyF bt t) = 7
        · skip
          refine lv_tableIn (tgt := 64) hx hb dX2_item_30 (by rw [s_30_7]; decide) (by rw [s_30_7]; decide) (off := 34) (by rw [s_30_7]; rfl) (by decide) ?_
          have hk : keyF bt t = 7 := (nI_eq (a := keyF bt t) (b := 7) (by omega) (by omega)).mp s_30_7
          refine lv_aload_n hx hb dX2_item_64 rfl (lv_at hl 0 rfl) ?_
          refine x_callN ⟨hx, hb, hml, hown, hts⟩ (tR_theirs l G ad _ _ _ _ _ _ _ bt len hby hX t hR.1 ht) (cwV 0 hts (lw_V q1056 q1058 qs40 q95 q1059) rfl rfl rfl hdS_X2_theirs ⟨by decide, by decide⟩) (hw.preV (k := 66) (xp 66) rfl) rfl hl.1 rfl (by simp [Value.category]) dX2_item_65 ⟨Nat.zero_le _, Nat.zero_le _⟩ hw (fun u_65 H locs e_65 hw => ?_) (fun u_65 H locs e_65 hw => ?_)
          · skip
            obtain ⟨it, t1, hc, ho, X1, rfl, hR1, hf1⟩ := e_65
            have hw : nS G (xE G ad (xV _ _ _ _) _ _ _) s H locs := hw
            refine lv_goto (tgt := 142) hx hb dX2_item_68 (by decide) ?_
            exact lx_vret hx hb hr hlk hw ⟨it, t1, (by rw [item_7 hk]; exact hc), ho, X1, rfl, hR1, hf1⟩ dX2_item_142
          · skip
            obtain ⟨z, hc, X1, w3x, rfl, hR1, hf1⟩ := e_65
            have hw : nS G (xE G ad (xV _ _ _ _) _ _ _) s H locs := hw
            exact lx_out hlk hnh hw ⟨z, (by rw [item_7 hk]; exact hc), X1, w3x, rfl, hR1, hf1⟩
        by_cases s_30_8 : nI (keyF bt t) = 8
        · skip
          refine lv_tableIn (tgt := 71) hx hb dX2_item_30 (by rw [s_30_8]; decide) (by rw [s_30_8]; decide) (off := 41) (by rw [s_30_8]; rfl) (by decide) ?_
          have hk : keyF bt t = 8 := (nI_eq (a := keyF bt t) (b := 8) (by omega) (by omega)).mp s_30_8
          refine lv_aload_n hx hb dX2_item_71 rfl (lv_at hl 0 rfl) ?_
          refine x_callN ⟨hx, hb, hml, hown, hts⟩ (tR_call l G ad _ _ _ _ _ _ _ bt len hby hX t hR.1 ht) (cwV 0 hts (lw_V q1068 q1070 qs43 q95 q1071) rfl rfl rfl hdS_X2_call ⟨by decide, by decide⟩) (hw.preV (k := 66) (xp 66) rfl) rfl hl.1 rfl (by simp [Value.category]) dX2_item_72 ⟨Nat.zero_le _, Nat.zero_le _⟩ hw (fun u_72 H locs e_72 hw => ?_) (fun u_72 H locs e_72 hw => ?_)
          · skip
            obtain ⟨it, t1, hc, ho, X1, rfl, hR1, hf1⟩ := e_72
            have hw : nS G (xE G ad (xV _ _ _ _) _ _ _) s H locs := hw
            refine lv_goto (tgt := 142) hx hb dX2_item_75 (by decide) ?_
            exact lx_vret hx hb hr hlk hw ⟨it, t1, (by rw [item_8 hk]; exact hc), ho, X1, rfl, hR1, hf1⟩ dX2_item_142
          · skip
            obtain ⟨z, hc, X1, w3x, rfl, hR1, hf1⟩ := e_72
            have hw : nS G (xE G ad (xV _ _ _ _) _ _ _) s H locs := hw
            exact lx_out hlk hnh hw ⟨z, (by rw [item_8 hk]; exact hc), X1, w3x, rfl, hR1, hf1⟩
        by_cases s_30_9 : nI (keyF bt t) = 9
        · skip
          refine lv_tableIn (tgt := 78) hx hb dX2_item_30 (by rw [s_30_9]; decide) (by rw [s_30_9]; decide) (off := 48) (by rw [s_30_9]; rfl) (by decide) ?_
          have hk : keyF bt t = 9 := (nI_eq (a := keyF bt t) (b := 9) (by omega) (by omega)).mp s_30_9
          refine lv_aload_n hx hb dX2_item_78 rfl (lv_at hl 0 rfl) ?_
          refine n_get (k := 66) hx hb hts in_X2 hown hw (xp 66) rfl 2 (by decide) q277 rfl dX2_item_79 ?_
          refine n_getN (k := 16 * 3 + 0) hx hb hts in_X4 hown hw (xv3 0) rfl 2 (by decide) q230 rfl dX2_item_82 ?_
          refine lv_iconst (v := 2) hx hb dX2_item_85 (by decide) ?_
          refine lv_aload_n hx hb dX2_item_86 rfl (lv_at hl 0 rfl) ?_
          refine lv_iconst (v := 0) hx hb dX2_item_87 (by decide) ?_
          refine lv_iconst (v := 4) hx hb dX2_item_88 (by decide) ?_
          refine x_callA ⟨hx, hb, hml, hown, hts⟩ (tR_behind l G ad _ _ _ _ _ _ _ bt len hby hX t 4 (by decide) hR.1 ht) (cwV 2 hts (lw_V q1060 q1062 qs41 q95 q1063) rfl rfl rfl hdS_X2_behind ⟨by decide, by decide⟩) (hw.preV (k := 66) (xp 66) rfl) rfl hl.1 rfl (by simp [Value.category]) dX2_item_89 ⟨Nat.zero_le _, Nat.zero_le _⟩ hw (fun u_89 H locs e_89 hw => ?_) (fun u_89 H locs e_89 hw => ?_)
          · skip
            obtain ⟨m1, o1, X1, rfl, hR1, hf1⟩ := e_89
            have hw : nS G (xE G ad (xV _ _ _ _) _ _ _) s H locs := hw
            refine l3_iast hx hb hw 5 (by decide) (q := 2) rfl (by decide) (pos := 4 + 2) rfl dX2_item_92 (fun H locs hw => ?_)
            refine lv_goto (tgt := 142) hx hb dX2_item_93 (by decide) ?_
            exact lx_vret hx hb hr hlk hw ⟨_, _, (by rw [item_9 hk]; exact one_ok m1 o1), o1, X1, rfl, hR1, hf1⟩ dX2_item_142
          · skip
            obtain ⟨z, hz, X1, rfl, hR1, hf1⟩ := e_89
            have hw : nS G (xE G ad (xV _ _ _ _) _ _ _) s H locs := hw
            exact lx_out hlk hnh hw ⟨z, (by rw [item_9 hk]; exact one_e hz), X1, _, rfl, hR1, hf1⟩
        by_cases s_30_10 : nI (keyF bt t) = 10
        · skip
          refine lv_tableIn (tgt := 96) hx hb dX2_item_30 (by rw [s_30_10]; decide) (by rw [s_30_10]; decide) (off := 66) (by rw [s_30_10]; rfl) (by decide) ?_
          have hk : keyF bt t = 10 := (nI_eq (a := keyF bt t) (b := 10) (by omega) (by omega)).mp s_30_10
          refine lv_aload_n hx hb dX2_item_96 rfl (lv_at hl 0 rfl) ?_
          refine n_get (k := 66) hx hb hts in_X2 hown hw (xp 66) rfl 2 (by decide) q277 rfl dX2_item_97 ?_
          refine n_getN (k := 16 * 3 + 0) hx hb hts in_X4 hown hw (xv3 0) rfl 2 (by decide) q230 rfl dX2_item_100 ?_
          refine lv_iconst (v := 0) hx hb dX2_item_103 (by decide) ?_
          refine lv_aload_n hx hb dX2_item_104 rfl (lv_at hl 0 rfl) ?_
          refine lv_iconst (v := 0) hx hb dX2_item_105 (by decide) ?_
          refine lv_bipush (v := 9) hx hb dX2_item_106 (by decide) ?_
          refine x_callA ⟨hx, hb, hml, hown, hts⟩ (tR_behind l G ad _ _ _ _ _ _ _ bt len hby hX t 9 (by decide) hR.1 ht) (cwV 2 hts (lw_V q1060 q1062 qs41 q95 q1063) rfl rfl rfl hdS_X2_behind ⟨by decide, by decide⟩) (hw.preV (k := 66) (xp 66) rfl) rfl hl.1 rfl (by simp [Value.category]) dX2_item_108 ⟨Nat.zero_le _, Nat.zero_le _⟩ hw (fun u_108 H locs e_108 hw => ?_) (fun u_108 H locs e_108 hw => ?_)
          · skip
            obtain ⟨m1, o1, X1, rfl, hR1, hf1⟩ := e_108
            have hw : nS G (xE G ad (xV _ _ _ _) _ _ _) s H locs := hw
            refine l3_iast hx hb hw 5 (by decide) (q := 0) rfl (by decide) (pos := 4 + 0) rfl dX2_item_111 (fun H locs hw => ?_)
            refine lv_goto (tgt := 142) hx hb dX2_item_112 (by decide) ?_
            exact lx_vret hx hb hr hlk hw ⟨_, _, (by rw [item_10 hk]; exact one_ok m1 o1), o1, X1, rfl, hR1, hf1⟩ dX2_item_142
          · skip
            obtain ⟨z, hz, X1, rfl, hR1, hf1⟩ := e_108
            have hw : nS G (xE G ad (xV _ _ _ _) _ _ _) s H locs := hw
            exact lx_out hlk hnh hw ⟨z, (by rw [item_10 hk]; exact one_e hz), X1, _, rfl, hR1, hf1⟩
        by_cases s_30_11 : nI (keyF bt t) = 11
        · skip
          refine lv_tableIn (tgt := 115) hx hb dX2_item_30 (by rw [s_30_11]; decide) (by rw [s_30_11]; decide) (off := 85) (by rw [s_30_11]; rfl) (by decide) ?_
          have hk : keyF bt t = 11 := (nI_eq (a := keyF bt t) (b := 11) (by omega) (by omega)).mp s_30_11
          refine lv_aload_n hx hb dX2_item_115 rfl (lv_at hl 0 rfl) ?_
          refine n_get (k := 66) hx hb hts in_X2 hown hw (xp 66) rfl 2 (by decide) q277 rfl dX2_item_116 ?_
          refine n_getN (k := 16 * 3 + 0) hx hb hts in_X4 hown hw (xv3 0) rfl 2 (by decide) q230 rfl dX2_item_119 ?_
          refine lv_iconst (v := 1) hx hb dX2_item_122 (by decide) ?_
          refine lv_aload_n hx hb dX2_item_123 rfl (lv_at hl 0 rfl) ?_
          refine lv_iconst (v := 0) hx hb dX2_item_124 (by decide) ?_
          refine lv_bipush (v := 9) hx hb dX2_item_125 (by decide) ?_
          refine x_callA ⟨hx, hb, hml, hown, hts⟩ (tR_behind l G ad _ _ _ _ _ _ _ bt len hby hX t 9 (by decide) hR.1 ht) (cwV 2 hts (lw_V q1060 q1062 qs41 q95 q1063) rfl rfl rfl hdS_X2_behind ⟨by decide, by decide⟩) (hw.preV (k := 66) (xp 66) rfl) rfl hl.1 rfl (by simp [Value.category]) dX2_item_127 ⟨Nat.zero_le _, Nat.zero_le _⟩ hw (fun u_127 H locs e_127 hw => ?_) (fun u_127 H locs e_127 hw => ?_)
          · skip
            obtain ⟨m1, o1, X1, rfl, hR1, hf1⟩ := e_127
            have hw : nS G (xE G ad (xV _ _ _ _) _ _ _) s H locs := hw
            refine l3_iast hx hb hw 5 (by decide) (q := 1) rfl (by decide) (pos := 4 + 1) rfl dX2_item_130 (fun H locs hw => ?_)
            refine lv_goto (tgt := 142) hx hb dX2_item_131 (by decide) ?_
            exact lx_vret hx hb hr hlk hw ⟨_, _, (by rw [item_11 hk]; exact one_ok m1 o1), o1, X1, rfl, hR1, hf1⟩ dX2_item_142
          · skip
            obtain ⟨z, hz, X1, rfl, hR1, hf1⟩ := e_127
            have hw : nS G (xE G ad (xV _ _ _ _) _ _ _) s H locs := hw
            exact lx_out hlk hnh hw ⟨z, (by rw [item_11 hk]; exact one_e hz), X1, _, rfl, hR1, hf1⟩
        refine lv_tableOut (tgt := 134) hx hb dX2_item_30 (by have a_0 := ne_ti (k := 7) s_30_7 (by decide); have a_1 := ne_ti (k := 8) s_30_8 (by decide); have a_2 := ne_ti (k := 9) s_30_9 (by decide); have a_3 := ne_ti (k := 10) s_30_10 (by decide); have a_4 := ne_ti (k := 11) s_30_11 (by decide); omega) (by decide) ?_
        have hk7 : keyF bt t < 7 := by (rcases Nat.lt_or_ge (keyF bt t) 7 with o | o; exact o; exfalso; have q7 : ¬ keyF bt t = 7 := fun h => s_30_7 (by rw [h]; rfl); have q8 : ¬ keyF bt t = 8 := fun h => s_30_8 (by rw [h]; rfl); have q9 : ¬ keyF bt t = 9 := fun h => s_30_9 (by rw [h]; rfl); have q10 : ¬ keyF bt t = 10 := fun h => s_30_10 (by rw [h]; rfl); have q11 : ¬ keyF bt t = 11 := fun h => s_30_11 (by rw [h]; rfl); omega)
        refine lv_aload_n hx hb dX2_item_134 rfl (lv_at hl 0 rfl) ?_
        refine lv_aload_n hx hb dX2_item_135 rfl (lv_at hl 0 rfl) ?_
        refine n_get (k := 66) hx hb hts in_X2 hown hw (xp 66) rfl 7 (by decide) q285 rfl dX2_item_136 ?_
        refine n_topE (hR.2.2.2.1 h1) ?_
        refine x_callN ⟨hx, hb, hml, hown, hts⟩ (tR_jumper l G ad _ _ _ _ _ _ _ bt len hby hX (keyF bt t) n t hk7 hn en hR ht) (cwV 1 hts (lw_V q1072 q1074 qs44 q95 q1075) rfl rfl rfl hdS_X2_jumper ⟨by decide, by decide⟩) (hw.preV (k := 66) (xp 66) rfl) rfl hl.1 rfl (by simp [Value.category]) dX2_item_139 ⟨Nat.zero_le _, Nat.zero_le _⟩ hw (fun u_139 H locs e_139 hw => ?_) (fun u_139 H locs e_139 hw => ?_)
        · skip
          obtain ⟨it, t1, hc, ho, X1, rfl, hR1, hf1⟩ := e_139
          have hw : nS G (xE G ad (xV _ _ _ _) _ _ _) s H locs := hw
          exact lx_vret hx hb hr hlk hw ⟨it, t1, (by rw [item_j hk7]; exact hc), ho, X1, rfl, hR1, hf1⟩ dX2_item_142
        · skip
          obtain ⟨z, hc, X1, w3x, rfl, hR1, hf1⟩ := e_139
          have hw : nS G (xE G ad (xV _ _ _ _) _ _ _) s H locs := hw
          exact lx_out hlk hnh hw ⟨z, (by rw [item_j hk7]; exact hc), X1, w3x, rfl, hR1, hf1⟩
      · skip
        obtain ⟨t_23, rfl⟩ := e_23
        have hw : nS G (xE G ad (xV _ _ _ _) _ _ _) s H locs := hw
        exact absurd t_23 (by decide)
