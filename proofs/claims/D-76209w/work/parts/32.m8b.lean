/-! the reference: odds, copies -/
set_option maxRecDepth 100000
theorem hdS_X13_odds : yX13_odds.cls = "LineCallsModel" ∧ yX13_odds.cls ≠ "java/lang/invoke/MethodHandle" ∧ yX13_odds.cls ≠ "java/lang/invoke/VarHandle" ∧ (parseMethodDescriptor yX13_odds.desc).map (fun d => d.parameters.length) = some 3 := by decide +kernel
set_option maxHeartbeats 4000000 in
theorem tM_odds (l : Launch) (G : nG) (ad : Nat → Nat) (w : rw84) (M : mM) (v x y : Int32) : Met l yX13_odds (ws_ yX13_odds cX13_odds 10 (some .long)) { frames := 2, cells := 0, slots := 0, locals := 45 } (va_Pc [.ref (ad 0), .int v, .int x, .int y] (nC G (mE G ad w M))) (va_Ql (fun (r : Int64) (u : rw84 × mM) => r = (oddsO w v x y).1 ∧ u = (w, fnd (oddsO w v x y).2 M)) (fun u => nC G (mE G ad u.1 u.2)) (nA G)) 0 0 (nA G) := by
  refine n_head (by decide) (Nat.le_of_ble_eq_true rfl) ?_
  intro p e s m below meth c ls hx hb hr hlk hml hown hts hB0 hl
  have hown : s.vm.findClass "LineCallsModel" = some m.cls := hown
  have hw := nS.start hB0
  have hl : lv_has ls 10 [(0, .ref (ad 0)), (1, .int v), (2, .int x), (3, .int y)] := hl
  obtain ⟨a, ha⟩ : ∃ a, gN w v 1000 = a := ⟨_, rfl⟩
  have ha2 : a ≤ 1000 := by rw [← ha]; exact gN_le _ _ _
  refine lv_iload_n hx hb dX13_odds_0 rfl (lv_at hl 1 rfl) ?_
  refine n_callp (va_runS ⟨hx, hb, hml, hown, hts⟩ (tM_isPlace l _) (va_cwS 1 hts (lw_S q1278 q1279 q106 q1280) rfl rfl rfl (hdS_X13_isPlace).2 ⟨by decide, by decide⟩) pu_pre rfl rfl hl.1 rfl (lv_room (by simp [Value.category])) dX13_odds_1 ⟨Nat.zero_le _, Nat.zero_le _⟩) (fun r_1 e_1 => ?_)
  subst e_1
  refine lv_if_eq (tgt := 26) hx hb dX13_odds_4 (by decide) (fun c_4 => ?_) (fun c_4 => ?_)
  · skip
    refine lv_aload_n hx hb dX13_odds_26 rfl (lv_at hl 0 rfl) ?_
    refine lv_ldc (v := (-1000001)) hx hb hown (hts _ q1296) dX13_odds_27 ?_
    refine n_calli (va_runV ⟨hx, hb, hml, hown, hts⟩ (tM_finding l G ad _ _ (-1000001) 0 (by decide) (by decide)) (cwV 1 hts (lw_V q1297 q1299 qs53 q106 q1300) rfl rfl rfl hdS_X13_finding ⟨by decide, by decide⟩) (hw.preV (k := 0) rfl rfl) rfl rfl hl.1 rfl (lv_room (by simp [Value.category])) dX13_odds_29 ⟨Nat.zero_le _, Nat.zero_le _⟩) hw (fun r_29 u_29 H locs e_29 hw => ?_)
    obtain ⟨rfl, rfl⟩ := e_29
    have hw : nS G (mE G ad _ _) s H locs := hw
    refine lv_i2l hx hb dX13_odds_32 rfl ?_
    exact m_lret hx hb hr hlk hw (by rw [oddsO, if_pos c_4]; exact ⟨rfl, rfl⟩) dX13_odds_33
  · skip
    refine lv_iload_n hx hb dX13_odds_7 rfl (lv_at hl 2 rfl) ?_
    refine lv_iconst (v := 0) hx hb dX13_odds_8 (by decide) ?_
    refine lv_bipush (v := 6) hx hb dX13_odds_9 (by decide) ?_
    refine n_callp (va_runS ⟨hx, hb, hml, hown, hts⟩ (tM_within l _ _ _) (va_cwS 3 hts (lw_S q1281 q1282 q106 q1283) rfl rfl rfl (hdS_X13_within).2 ⟨by decide, by decide⟩) pu_pre rfl rfl hl.1 rfl (lv_room (by simp [Value.category])) dX13_odds_11 ⟨Nat.zero_le _, Nat.zero_le _⟩) (fun r_11 e_11 => ?_)
    subst e_11
    refine lv_if_eq (tgt := 26) hx hb dX13_odds_14 (by decide) (fun c_14 => ?_) (fun c_14 => ?_)
    · skip
      refine lv_aload_n hx hb dX13_odds_26 rfl (lv_at hl 0 rfl) ?_
      refine lv_ldc (v := (-1000001)) hx hb hown (hts _ q1296) dX13_odds_27 ?_
      refine n_calli (va_runV ⟨hx, hb, hml, hown, hts⟩ (tM_finding l G ad _ _ (-1000001) 0 (by decide) (by decide)) (cwV 1 hts (lw_V q1297 q1299 qs53 q106 q1300) rfl rfl rfl hdS_X13_finding ⟨by decide, by decide⟩) (hw.preV (k := 0) rfl rfl) rfl rfl hl.1 rfl (lv_room (by simp [Value.category])) dX13_odds_29 ⟨Nat.zero_le _, Nat.zero_le _⟩) hw (fun r_29 u_29 H locs e_29 hw => ?_)
      obtain ⟨rfl, rfl⟩ := e_29
      have hw : nS G (mE G ad _ _) s H locs := hw
      refine lv_i2l hx hb dX13_odds_32 rfl ?_
      exact m_lret hx hb hr hlk hw (by rw [oddsO, if_neg c_4, if_pos c_14]; exact ⟨rfl, rfl⟩) dX13_odds_33
    · skip
      obtain ⟨q, hq, rfl⟩ := in_nat (N := 6) rfl (by decide) c_14
      have iq : ix (nI q) = q := nI_clamp (by omega)
      refine lv_iload_n hx hb dX13_odds_17 rfl (lv_at hl 3 rfl) ?_
      refine lv_iconst (v := 0) hx hb dX13_odds_18 (by decide) ?_
      refine lv_iconst (v := 1) hx hb dX13_odds_19 (by decide) ?_
      refine n_callp (va_runS ⟨hx, hb, hml, hown, hts⟩ (tM_within l _ _ _) (va_cwS 3 hts (lw_S q1281 q1282 q106 q1283) rfl rfl rfl (hdS_X13_within).2 ⟨by decide, by decide⟩) pu_pre rfl rfl hl.1 rfl (lv_room (by simp [Value.category])) dX13_odds_20 ⟨Nat.zero_le _, Nat.zero_le _⟩) (fun r_20 e_20 => ?_)
      subst e_20
      refine lv_if_ne (tgt := 34) hx hb dX13_odds_23 (by decide) (fun c_23 => ?_) (fun c_23 => ?_)
      · skip
        refine lv_iconst (v := 0) hx hb dX13_odds_34 (by decide) ?_
        refine lv_istore hx hb dX13_odds_35 hl (by decide) rfl (fun ls hl => ?_)
        refine lv_iconst (v := 0) hx hb dX13_odds_37 (by decide) ?_
        refine lv_istore hx hb dX13_odds_38 hl (by decide) rfl (fun ls hl => ?_)
        refine n_loopR (α := Nat) (fun k ls => k ≤ 1000 ∧ lv_has ls 10 [(0, .ref (ad 0)), (1, .int v), (2, .int (nI q)), (3, .int y), (4, .int (nI (gN w v k))), (5, .int (nI k))]) (fun k => 1000 - k) 40 ?_ 0 _ ⟨Nat.zero_le _, (lv_sub hl [2, 3, 4, 5, 1, 0] rfl)⟩
        clear hl
        intro k ls hI ih_40
        obtain ⟨hk, hl⟩ := hI
        have hgk := gN_le w v k
        refine lv_iload hx hb dX13_odds_40 (lv_at hl 5 rfl) ?_
        refine lv_sipush (v := 999) hx hb dX13_odds_42 (by decide) ?_
        refine lv_icmp_gt (tgt := 80) hx hb dX13_odds_45 (by decide) (fun c_45 => ?_) (fun c_45 => ?_)
        · skip
          have n_45 : 999 < k := (nI_ltI (a := 999) (b := k) (by omega) (by omega)).mp c_45
          obtain rfl : k = 1000 := by omega
          rw [ha] at hl
          refine lv_sipush (v := 1000) hx hb dX13_odds_80 (by decide) ?_
          refine lv_istore hx hb dX13_odds_83 hl (by decide) rfl (fun ls hl => ?_)
          refine lv_iload hx hb dX13_odds_85 (lv_at hl 5 rfl) ?_
          refine lv_istore hx hb dX13_odds_87 hl (by decide) rfl (fun ls hl => ?_)
          refine n_loopR (α := Nat × Nat) (fun z ls => z.1 ≤ 1000 ∧ z.2 ≤ 1000 ∧ Nat.gcd z.1 z.2 = Nat.gcd 1000 a ∧ lv_has ls 10 [(0, .ref (ad 0)), (2, .int (nI q)), (3, .int y), (4, .int (nI a)), (5, .int (nI z.1)), (6, .int (nI z.2))]) (fun z => z.2) 89 ?_ (1000, a) _ ⟨Nat.le_refl _, ha2, rfl, (lv_sub hl [2, 4, 5, 6, 1, 0] rfl)⟩
          clear hl
          intro z ls hI ih_89
          obtain ⟨hz1, hz2, hg, hl⟩ := hI
          obtain ⟨zx, zy⟩ := z
          dsimp only at hz1 hz2 hg hl
          refine lv_iload hx hb dX13_odds_89 (lv_at hl 5 rfl) ?_
          refine lv_if_eq (tgt := 112) hx hb dX13_odds_91 (by decide) (fun c_91 => ?_) (fun c_91 => ?_)
          · skip
            obtain rfl : zy = 0 := (nI_eq (a := zy) (b := 0) (by omega) (by omega)).mp c_91
            rw [Nat.gcd_zero_right] at hg
            have hzx : 0 < zx := by (rw [hg]; exact Nat.gcd_pos_of_pos_left _ (by decide))
            refine lv_lconst (v := 1) hx hb dX13_odds_112 (by decide) ?_
            refine lv_lstore hx hb dX13_odds_113 hl (by decide) rfl (fun ls hl => ?_)
            refine lv_iconst (v := 0) hx hb dX13_odds_115 (by decide) ?_
            refine lv_istore hx hb dX13_odds_116 hl (by decide) rfl (fun ls hl => ?_)
            refine n_loopR (α := Nat) (fun k ls => k ≤ q ∧ lv_has ls 10 [(0, .ref (ad 0)), (2, .int (nI q)), (3, .int y), (4, .int (nI a)), (5, .int (nI zx)), (7, .long (powF (oddsX a y) k)), (9, .int (nI k))]) (fun k => q - k) 118 ?_ 0 _ ⟨Nat.zero_le _, (lv_sub hl [2, 3, 4, 5, 6, 1, 0] rfl)⟩
            clear hl
            intro k ls hI ih_118
            obtain ⟨hk, hl⟩ := hI
            refine lv_iload hx hb dX13_odds_118 (lv_at hl 6 rfl) ?_
            refine lv_iload_n hx hb dX13_odds_120 rfl (lv_at hl 1 rfl) ?_
            refine lv_icmp_ge (tgt := 151) hx hb dX13_odds_121 (by decide) (fun c_121 => ?_) (fun c_121 => ?_)
            · skip
              have n_121 : q ≤ k := (nI_leI (a := q) (b := k) (by omega) (by omega)).mp c_121
              obtain rfl : k = q := by omega
              refine lv_lload hx hb dX13_odds_151 (lv_at hl 5 rfl) ?_
              exact m_lret hx hb hr hlk hw (by rw [oddsO, if_neg c_4, if_neg c_14, if_neg c_23, ha, iq]; exact ⟨rfl, rfl⟩) dX13_odds_153
            · skip
              have n_121 : ¬ q ≤ k := fun h => c_121 ((nI_leI (a := q) (b := k) (by omega) (by omega)).mpr h)
              refine lv_lload hx hb dX13_odds_124 (lv_at hl 5 rfl) ?_
              refine lv_iload_n hx hb dX13_odds_126 rfl (lv_at hl 2 rfl) ?_
              refine lv_if_ne (tgt := 135) hx hb dX13_odds_127 (by decide) (fun c_127 => ?_) (fun c_127 => ?_)
              · skip
                refine lv_sipush (v := 1000) hx hb dX13_odds_135 (by decide) ?_
                refine lv_iload hx hb dX13_odds_138 (lv_at hl 4 rfl) ?_
                refine lv_idiv hx hb dX13_odds_140 (nI_ne0 hzx (by omega)) ?_
                refine lv_i2l hx hb dX13_odds_141 rfl ?_
                refine lv_lmul hx hb dX13_odds_142 ?_
                refine lv_lstore hx hb dX13_odds_143 hl (by decide) rfl (fun ls hl => ?_)
                refine lv_iinc (v := nI (k + 1)) hx hb dX13_odds_145 hl (k := 6) rfl (nI_1 _) (by decide) rfl (fun ls hl => ?_)
                refine lv_goto (tgt := 118) hx hb dX13_odds_148 (by decide) ?_
                exact ih_118 (k + 1) _ (by first | omega | (dsimp only; omega)) ⟨by omega, by rw [powF, oddsX, if_neg c_127, ← hg]; rw [oddsX, if_neg c_127, ← hg] at hl; exact (lv_sub hl [2, 3, 4, 5, 6, 1, 0] rfl)⟩
              · skip
                refine lv_iload hx hb dX13_odds_130 (lv_at hl 3 rfl) ?_
                refine lv_goto (tgt := 138) hx hb dX13_odds_132 (by decide) ?_
                refine lv_iload hx hb dX13_odds_138 (lv_at hl 4 rfl) ?_
                refine lv_idiv hx hb dX13_odds_140 (nI_ne0 hzx (by omega)) ?_
                refine lv_i2l hx hb dX13_odds_141 rfl ?_
                refine lv_lmul hx hb dX13_odds_142 ?_
                refine lv_lstore hx hb dX13_odds_143 hl (by decide) rfl (fun ls hl => ?_)
                refine lv_iinc (v := nI (k + 1)) hx hb dX13_odds_145 hl (k := 6) rfl (nI_1 _) (by decide) rfl (fun ls hl => ?_)
                refine lv_goto (tgt := 118) hx hb dX13_odds_148 (by decide) ?_
                exact ih_118 (k + 1) _ (by first | omega | (dsimp only; omega)) ⟨by omega, by rw [powF, oddsX, if_pos c_127, ← hg]; rw [oddsX, if_pos c_127, ← hg] at hl; exact (lv_sub hl [2, 3, 4, 5, 6, 1, 0] rfl)⟩
          · skip
            have hzy : 0 < zy := by rcases Nat.eq_zero_or_pos zy with o | o; exact absurd (by rw [o]; rfl) c_91; exact o
            have hzm := Nat.mod_lt zx hzy
            refine lv_iload hx hb dX13_odds_94 (lv_at hl 4 rfl) ?_
            refine lv_iload hx hb dX13_odds_96 (lv_at hl 5 rfl) ?_
            refine lv_irem hx hb dX13_odds_98 c_91 ?_
            refine n_topE (pk_rem (by omega) hzy (by omega)) ?_
            refine lv_istore hx hb dX13_odds_99 hl (by decide) rfl (fun ls hl => ?_)
            refine lv_iload hx hb dX13_odds_101 (lv_at hl 6 rfl) ?_
            refine lv_istore hx hb dX13_odds_103 hl (by decide) rfl (fun ls hl => ?_)
            refine lv_iload hx hb dX13_odds_105 (lv_at hl 1 rfl) ?_
            refine lv_istore hx hb dX13_odds_107 hl (by decide) rfl (fun ls hl => ?_)
            refine lv_goto (tgt := 89) hx hb dX13_odds_109 (by decide) ?_
            exact ih_89 (zy, zx % zy) _ (Nat.mod_lt _ hzy) ⟨hz2, by dsimp only; omega, gcd_nx hg, (lv_sub hl [3, 4, 5, 6, 1, 0] rfl)⟩
        · skip
          have n_45 : ¬ 999 < k := fun h => c_45 ((nI_ltI (a := 999) (b := k) (by omega) (by omega)).mpr h)
          refine lv_iload hx hb dX13_odds_48 (lv_at hl 4 rfl) ?_
          refine lv_iload hx hb dX13_odds_50 (lv_at hl 5 rfl) ?_
          refine lv_aload_n hx hb dX13_odds_52 rfl (lv_at hl 0 rfl) ?_
          refine n_get (k := 0) hx hb hts in_X13 hown hw rfl rfl 0 (by decide) q1198 rfl dX13_odds_53 ?_
          refine lv_bipush (v := 6) hx hb dX13_odds_56 (by decide) ?_
          refine n_iald (k := 1) (j := 6) hx hb hw rfl rfl (by decide) (by decide) dX13_odds_58 ?_
          refine n_callp (va_runS ⟨hx, hb, hml, hown, hts⟩ (tM_saysBy l _ _) (va_cwS 2 hts (lw_S q1336 q1337 q106 q1338) rfl rfl rfl (hdS_X13_saysBy).2 ⟨by decide, by decide⟩) pu_pre rfl rfl hl.1 rfl (lv_room (by simp [Value.category])) dX13_odds_59 ⟨Nat.zero_le _, Nat.zero_le _⟩) (fun r_59 e_59 => ?_)
          subst e_59
          refine lv_iload_n hx hb dX13_odds_62 rfl (lv_at hl 1 rfl) ?_
          refine lv_icmp_ne (tgt := 70) hx hb dX13_odds_63 (by decide) (fun c_63 => ?_) (fun c_63 => ?_)
          · skip
            refine lv_iconst (v := 0) hx hb dX13_odds_70 (by decide) ?_
            refine lv_iadd hx hb dX13_odds_71 ?_
            refine n_topE (nI_add (gN w v k) 0) ?_
            refine lv_istore hx hb dX13_odds_72 hl (by decide) rfl (fun ls hl => ?_)
            refine lv_iinc (v := nI (k + 1)) hx hb dX13_odds_74 hl (k := 5) rfl (nI_1 _) (by decide) rfl (fun ls hl => ?_)
            refine lv_goto (tgt := 40) hx hb dX13_odds_77 (by decide) ?_
            exact ih_40 (k + 1) _ (by first | omega | (dsimp only; omega)) ⟨by omega, by rw [gN, if_neg c_63]; exact (lv_sub hl [2, 3, 4, 5, 1, 0] rfl)⟩
          · skip
            refine lv_iconst (v := 1) hx hb dX13_odds_66 (by decide) ?_
            refine lv_goto (tgt := 71) hx hb dX13_odds_67 (by decide) ?_
            refine lv_iadd hx hb dX13_odds_71 ?_
            refine n_topE (nI_add (gN w v k) 1) ?_
            refine lv_istore hx hb dX13_odds_72 hl (by decide) rfl (fun ls hl => ?_)
            refine lv_iinc (v := nI (k + 1)) hx hb dX13_odds_74 hl (k := 5) rfl (nI_1 _) (by decide) rfl (fun ls hl => ?_)
            refine lv_goto (tgt := 40) hx hb dX13_odds_77 (by decide) ?_
            exact ih_40 (k + 1) _ (by first | omega | (dsimp only; omega)) ⟨by omega, by rw [gN, if_pos c_63]; exact (lv_sub hl [2, 3, 4, 5, 1, 0] rfl)⟩
      · skip
        refine lv_aload_n hx hb dX13_odds_26 rfl (lv_at hl 0 rfl) ?_
        refine lv_ldc (v := (-1000001)) hx hb hown (hts _ q1296) dX13_odds_27 ?_
        refine n_calli (va_runV ⟨hx, hb, hml, hown, hts⟩ (tM_finding l G ad _ _ (-1000001) 0 (by decide) (by decide)) (cwV 1 hts (lw_V q1297 q1299 qs53 q106 q1300) rfl rfl rfl hdS_X13_finding ⟨by decide, by decide⟩) (hw.preV (k := 0) rfl rfl) rfl rfl hl.1 rfl (lv_room (by simp [Value.category])) dX13_odds_29 ⟨Nat.zero_le _, Nat.zero_le _⟩) hw (fun r_29 u_29 H locs e_29 hw => ?_)
        obtain ⟨rfl, rfl⟩ := e_29
        have hw : nS G (mE G ad _ _) s H locs := hw
        refine lv_i2l hx hb dX13_odds_32 rfl ?_
        exact m_lret hx hb hr hlk hw (by rw [oddsO, if_neg c_4, if_neg c_14, if_pos c_23]; exact ⟨rfl, rfl⟩) dX13_odds_33
