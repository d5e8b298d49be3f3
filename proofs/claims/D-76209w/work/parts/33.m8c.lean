/-! the reference: copies -/
set_option maxRecDepth 100000
theorem hdS_X13_copy : yX13_copy.cls = "LineCallsModel" ∧ yX13_copy.cls ≠ "java/lang/invoke/MethodHandle" ∧ yX13_copy.cls ≠ "java/lang/invoke/VarHandle" ∧ (parseMethodDescriptor yX13_copy.desc).map (fun d => d.parameters.length) = some 5 := by decide +kernel
set_option maxHeartbeats 4000000 in
theorem tM_copy (l : Launch) (G : nG) (ad : Nat → Nat) (w : rw84) (M : mM) (x1 x2 x3 x4 x5 : Int32) (hS : ∀ t, t < 4 → ∃ n, n ≤ 40 ∧ M 22 t = nI n) : Met l yX13_copy (ws_ yX13_copy cX13_copy 7 (some .int)) { frames := 2, cells := 0, slots := 0, locals := 42 } (va_Pc [.ref (ad 0), .int x1, .int x2, .int x3, .int x4, .int x5] (nC G (mE G ad w M))) (va_Qi (fun (r : Int32) (u : rw84 × mM) => r = (copyO (M 21) (M 22) (M 23) x1 x2 x3 x4 x5).1 ∧ ∃ g, u = (w, fnd (copyO (M 21) (M 22) (M 23) x1 x2 x3 x4 x5).2.1 (ur (ur M 24 g) 23 (copyO (M 21) (M 22) (M 23) x1 x2 x3 x4 x5).2.2))) (fun u => nC G (mE G ad u.1 u.2)) (nA G)) 0 0 (nA G) := by
  refine n_head (by decide) (Nat.le_of_ble_eq_true rfl) ?_
  intro p e s m below meth c ls hx hb hr hlk hml hown hts hB0 hl
  have hown : s.vm.findClass "LineCallsModel" = some m.cls := hown
  have hw := nS.start hB0
  have hl : lv_has ls 7 [(0, .ref (ad 0)), (1, .int x1), (2, .int x2), (3, .int x3), (4, .int x4), (5, .int x5)] := hl
  refine lv_iload_n hx hb dX13_copy_0 rfl (lv_at hl 1 rfl) ?_
  refine n_callp (va_runS ⟨hx, hb, hml, hown, hts⟩ (tM_isSheet l _) (va_cwS 1 hts (lw_S q1510 q1511 q106 q1512) rfl rfl rfl (hdS_X13_isSheet).2 ⟨by decide, by decide⟩) pu_pre rfl rfl hl.1 rfl (lv_room (by simp [Value.category])) dX13_copy_1 ⟨Nat.zero_le _, Nat.zero_le _⟩) (fun r_1 e_1 => ?_)
  subst e_1
  refine lv_if_eq (tgt := 14) hx hb dX13_copy_4 (by decide) (fun c_4 => ?_) (fun c_4 => ?_)
  · skip
    refine lv_aload_n hx hb dX13_copy_14 rfl (lv_at hl 0 rfl) ?_
    refine lv_ldc (v := (-1000001)) hx hb hown (hts _ q1296) dX13_copy_15 ?_
    refine n_calli (va_runV ⟨hx, hb, hml, hown, hts⟩ (tM_finding l G ad _ _ (-1000001) 0 (by decide) (by decide)) (cwV 1 hts (lw_V q1297 q1299 qs53 q106 q1300) rfl rfl rfl hdS_X13_finding ⟨by decide, by decide⟩) (hw.preV (k := 0) rfl rfl) rfl rfl hl.1 rfl (lv_room (by simp [Value.category])) dX13_copy_17 ⟨Nat.zero_le _, Nat.zero_le _⟩) hw (fun r_17 u_17 H locs e_17 hw => ?_)
    obtain ⟨rfl, rfl⟩ := e_17
    have hw : nS G (mE G ad _ _) s H locs := hw
    exact m_iret hx hb hr hlk rfl hw (by first | (rw [copyO, if_pos c_4]; exact ⟨rfl, M 24, by rw [ur_self, ur_self]; rfl⟩) | (rw [copyO, if_neg c_4, if_pos c_11]; exact ⟨rfl, M 24, by rw [ur_self, ur_self]; rfl⟩)) dX13_copy_20
  · skip
    obtain ⟨q, hq, rfl⟩ := in_nat (N := 3) rfl (by decide) c_4
    have iq : ix (nI q) = q := nI_clamp (by omega)
    refine lv_iload_n hx hb dX13_copy_7 rfl (lv_at hl 3 rfl) ?_
    refine n_callp (va_runS ⟨hx, hb, hml, hown, hts⟩ (tM_isSheet l _) (va_cwS 1 hts (lw_S q1510 q1511 q106 q1512) rfl rfl rfl (hdS_X13_isSheet).2 ⟨by decide, by decide⟩) pu_pre rfl rfl hl.1 rfl (lv_room (by simp [Value.category])) dX13_copy_8 ⟨Nat.zero_le _, Nat.zero_le _⟩) (fun r_8 e_8 => ?_)
    subst e_8
    refine lv_if_ne (tgt := 21) hx hb dX13_copy_11 (by decide) (fun c_11 => ?_) (fun c_11 => ?_)
    · skip
      obtain ⟨z, hz, rfl⟩ := in_nat (N := 3) rfl (by decide) c_11
      have iz : ix (nI z) = z := nI_clamp (by omega)
      refine lv_aload_n hx hb dX13_copy_21 rfl (lv_at hl 0 rfl) ?_
      refine n_get (k := 0) hx hb hts in_X13 hown hw rfl rfl 21 (by decide) q1219 rfl dX13_copy_22 ?_
      refine lv_iload_n hx hb dX13_copy_25 rfl (lv_at hl 1 rfl) ?_
      refine n_iald (k := 22) (j := q) hx hb hw rfl rfl (by omega) (by decide) dX13_copy_26 ?_
      refine lv_if_eq (tgt := 39) hx hb dX13_copy_27 (by decide) (fun c_27 => ?_) (fun c_27 => ?_)
      · skip
        refine lv_aload_n hx hb dX13_copy_39 rfl (lv_at hl 0 rfl) ?_
        refine lv_ldc (v := (-1000006)) hx hb hown (hts _ q1513) dX13_copy_40 ?_
        refine n_calli (va_runV ⟨hx, hb, hml, hown, hts⟩ (tM_finding l G ad _ _ (-1000006) 5 (by decide) (by decide)) (cwV 1 hts (lw_V q1297 q1299 qs53 q106 q1300) rfl rfl rfl hdS_X13_finding ⟨by decide, by decide⟩) (hw.preV (k := 0) rfl rfl) rfl rfl hl.1 rfl (lv_room (by simp [Value.category])) dX13_copy_42 ⟨Nat.zero_le _, Nat.zero_le _⟩) hw (fun r_42 u_42 H locs e_42 hw => ?_)
        obtain ⟨rfl, rfl⟩ := e_42
        have hw : nS G (mE G ad _ _) s H locs := hw
        exact m_iret hx hb hr hlk rfl hw (by first | (rw [copyO, if_neg c_4, if_neg c_11, iq, iz, if_pos c_27]; exact ⟨rfl, M 24, by rw [ur_self, ur_self]; rfl⟩) | (rw [copyO, if_neg c_4, if_neg c_11, iq, iz, if_neg c_27, if_pos c_36]; exact ⟨rfl, M 24, by rw [ur_self, ur_self]; rfl⟩)) dX13_copy_45
      · skip
        refine lv_aload_n hx hb dX13_copy_30 rfl (lv_at hl 0 rfl) ?_
        refine n_get (k := 0) hx hb hts in_X13 hown hw rfl rfl 21 (by decide) q1219 rfl dX13_copy_31 ?_
        refine lv_iload_n hx hb dX13_copy_34 rfl (lv_at hl 3 rfl) ?_
        refine n_iald (k := 22) (j := z) hx hb hw rfl rfl (by omega) (by decide) dX13_copy_35 ?_
        refine lv_if_ne (tgt := 46) hx hb dX13_copy_36 (by decide) (fun c_36 => ?_) (fun c_36 => ?_)
        · skip
          refine lv_aload_n hx hb dX13_copy_46 rfl (lv_at hl 0 rfl) ?_
          refine n_get (k := 0) hx hb hts in_X13 hown hw rfl rfl 21 (by decide) q1219 rfl dX13_copy_47 ?_
          refine lv_iload_n hx hb dX13_copy_50 rfl (lv_at hl 1 rfl) ?_
          refine n_iald (k := 22) (j := q) hx hb hw rfl rfl (by omega) (by decide) dX13_copy_51 ?_
          refine lv_aload_n hx hb dX13_copy_52 rfl (lv_at hl 0 rfl) ?_
          refine n_get (k := 0) hx hb hts in_X13 hown hw rfl rfl 21 (by decide) q1219 rfl dX13_copy_53 ?_
          refine lv_iload_n hx hb dX13_copy_56 rfl (lv_at hl 3 rfl) ?_
          refine n_iald (k := 22) (j := z) hx hb hw rfl rfl (by omega) (by decide) dX13_copy_57 ?_
          refine lv_icmp_eq (tgt := 69) hx hb dX13_copy_58 (by decide) (fun c_58 => ?_) (fun c_58 => ?_)
          · skip
            obtain ⟨s1, hs1, es1⟩ := hS q (by omega)
            obtain ⟨s2, hs2, es2⟩ := hS z (by omega)
            have is1 : ix (M 22 q) = s1 := by rw [es1]; exact nI_clamp (by omega)
            have is2 : ix (M 22 z) = s2 := by rw [es2]; exact nI_clamp (by omega)
            refine lv_iload_n hx hb dX13_copy_69 rfl (lv_at hl 2 rfl) ?_
            refine lv_if_lt (tgt := 118) hx hb dX13_copy_70 (by decide) (fun c_70 => ?_) (fun c_70 => ?_)
            · skip
              refine lv_aload_n hx hb dX13_copy_118 rfl (lv_at hl 0 rfl) ?_
              refine lv_ldc (v := (-1000001)) hx hb hown (hts _ q1296) dX13_copy_119 ?_
              refine n_calli (va_runV ⟨hx, hb, hml, hown, hts⟩ (tM_finding l G ad _ _ (-1000001) 0 (by decide) (by decide)) (cwV 1 hts (lw_V q1297 q1299 qs53 q106 q1300) rfl rfl rfl hdS_X13_finding ⟨by decide, by decide⟩) (hw.preV (k := 0) rfl rfl) rfl rfl hl.1 rfl (lv_room (by simp [Value.category])) dX13_copy_121 ⟨Nat.zero_le _, Nat.zero_le _⟩) hw (fun r_121 u_121 H locs e_121 hw => ?_)
              obtain ⟨rfl, rfl⟩ := e_121
              have hw : nS G (mE G ad _ _) s H locs := hw
              exact m_iret hx hb hr hlk rfl hw (by first | (rw [copyO, if_neg c_4, if_neg c_11, iq, iz, if_neg c_27, if_neg c_36, if_pos c_58, if_pos c_70]; exact ⟨rfl, M 24, by rw [ur_self, ur_self]; rfl⟩) | (rw [copyO, if_neg c_4, if_neg c_11, iq, iz, if_neg c_27, if_neg c_36, if_pos c_58, if_neg c_70, if_pos c_75]; exact ⟨rfl, M 24, by rw [ur_self, ur_self]; rfl⟩) | (rw [copyO, if_neg c_4, if_neg c_11, iq, iz, if_neg c_27, if_neg c_36, if_pos c_58, if_neg c_70, if_neg c_75, if_pos c_80]; exact ⟨rfl, M 24, by rw [ur_self, ur_self]; rfl⟩) | (rw [copyO, if_neg c_4, if_neg c_11, iq, iz, if_neg c_27, if_neg c_36, if_pos c_58, if_neg c_70, if_neg c_75, if_neg c_80, ia, io, is1, if_pos n_97]; exact ⟨rfl, M 24, by rw [ur_self, ur_self]; rfl⟩) | (rw [copyO, if_neg c_4, if_neg c_11, iq, iz, if_neg c_27, if_neg c_36, if_pos c_58, if_neg c_70, if_neg c_75, if_neg c_80, ia, io, ibb, is1, is2, if_neg n_97, if_pos n_115]; exact ⟨rfl, M 24, by rw [ur_self, ur_self]; rfl⟩)) dX13_copy_124
            · skip
              obtain ⟨a, ha, rfl⟩ := nI_of c_70
              have ia : ix (nI a) = a := nI_clamp (by omega)
              refine lv_iload hx hb dX13_copy_73 (lv_at hl 4 rfl) ?_
              refine lv_if_lt (tgt := 118) hx hb dX13_copy_75 (by decide) (fun c_75 => ?_) (fun c_75 => ?_)
              · skip
                refine lv_aload_n hx hb dX13_copy_118 rfl (lv_at hl 0 rfl) ?_
                refine lv_ldc (v := (-1000001)) hx hb hown (hts _ q1296) dX13_copy_119 ?_
                refine n_calli (va_runV ⟨hx, hb, hml, hown, hts⟩ (tM_finding l G ad _ _ (-1000001) 0 (by decide) (by decide)) (cwV 1 hts (lw_V q1297 q1299 qs53 q106 q1300) rfl rfl rfl hdS_X13_finding ⟨by decide, by decide⟩) (hw.preV (k := 0) rfl rfl) rfl rfl hl.1 rfl (lv_room (by simp [Value.category])) dX13_copy_121 ⟨Nat.zero_le _, Nat.zero_le _⟩) hw (fun r_121 u_121 H locs e_121 hw => ?_)
                obtain ⟨rfl, rfl⟩ := e_121
                have hw : nS G (mE G ad _ _) s H locs := hw
                exact m_iret hx hb hr hlk rfl hw (by first | (rw [copyO, if_neg c_4, if_neg c_11, iq, iz, if_neg c_27, if_neg c_36, if_pos c_58, if_pos c_70]; exact ⟨rfl, M 24, by rw [ur_self, ur_self]; rfl⟩) | (rw [copyO, if_neg c_4, if_neg c_11, iq, iz, if_neg c_27, if_neg c_36, if_pos c_58, if_neg c_70, if_pos c_75]; exact ⟨rfl, M 24, by rw [ur_self, ur_self]; rfl⟩) | (rw [copyO, if_neg c_4, if_neg c_11, iq, iz, if_neg c_27, if_neg c_36, if_pos c_58, if_neg c_70, if_neg c_75, if_pos c_80]; exact ⟨rfl, M 24, by rw [ur_self, ur_self]; rfl⟩) | (rw [copyO, if_neg c_4, if_neg c_11, iq, iz, if_neg c_27, if_neg c_36, if_pos c_58, if_neg c_70, if_neg c_75, if_neg c_80, ia, io, is1, if_pos n_97]; exact ⟨rfl, M 24, by rw [ur_self, ur_self]; rfl⟩) | (rw [copyO, if_neg c_4, if_neg c_11, iq, iz, if_neg c_27, if_neg c_36, if_pos c_58, if_neg c_70, if_neg c_75, if_neg c_80, ia, io, ibb, is1, is2, if_neg n_97, if_pos n_115]; exact ⟨rfl, M 24, by rw [ur_self, ur_self]; rfl⟩)) dX13_copy_124
              · skip
                obtain ⟨bb, hbb, rfl⟩ := nI_of c_75
                have ibb : ix (nI bb) = bb := nI_clamp (by omega)
                refine lv_iload hx hb dX13_copy_78 (lv_at hl 5 rfl) ?_
                refine lv_if_lt (tgt := 118) hx hb dX13_copy_80 (by decide) (fun c_80 => ?_) (fun c_80 => ?_)
                · skip
                  refine lv_aload_n hx hb dX13_copy_118 rfl (lv_at hl 0 rfl) ?_
                  refine lv_ldc (v := (-1000001)) hx hb hown (hts _ q1296) dX13_copy_119 ?_
                  refine n_calli (va_runV ⟨hx, hb, hml, hown, hts⟩ (tM_finding l G ad _ _ (-1000001) 0 (by decide) (by decide)) (cwV 1 hts (lw_V q1297 q1299 qs53 q106 q1300) rfl rfl rfl hdS_X13_finding ⟨by decide, by decide⟩) (hw.preV (k := 0) rfl rfl) rfl rfl hl.1 rfl (lv_room (by simp [Value.category])) dX13_copy_121 ⟨Nat.zero_le _, Nat.zero_le _⟩) hw (fun r_121 u_121 H locs e_121 hw => ?_)
                  obtain ⟨rfl, rfl⟩ := e_121
                  have hw : nS G (mE G ad _ _) s H locs := hw
                  exact m_iret hx hb hr hlk rfl hw (by first | (rw [copyO, if_neg c_4, if_neg c_11, iq, iz, if_neg c_27, if_neg c_36, if_pos c_58, if_pos c_70]; exact ⟨rfl, M 24, by rw [ur_self, ur_self]; rfl⟩) | (rw [copyO, if_neg c_4, if_neg c_11, iq, iz, if_neg c_27, if_neg c_36, if_pos c_58, if_neg c_70, if_pos c_75]; exact ⟨rfl, M 24, by rw [ur_self, ur_self]; rfl⟩) | (rw [copyO, if_neg c_4, if_neg c_11, iq, iz, if_neg c_27, if_neg c_36, if_pos c_58, if_neg c_70, if_neg c_75, if_pos c_80]; exact ⟨rfl, M 24, by rw [ur_self, ur_self]; rfl⟩) | (rw [copyO, if_neg c_4, if_neg c_11, iq, iz, if_neg c_27, if_neg c_36, if_pos c_58, if_neg c_70, if_neg c_75, if_neg c_80, ia, io, is1, if_pos n_97]; exact ⟨rfl, M 24, by rw [ur_self, ur_self]; rfl⟩) | (rw [copyO, if_neg c_4, if_neg c_11, iq, iz, if_neg c_27, if_neg c_36, if_pos c_58, if_neg c_70, if_neg c_75, if_neg c_80, ia, io, ibb, is1, is2, if_neg n_97, if_pos n_115]; exact ⟨rfl, M 24, by rw [ur_self, ur_self]; rfl⟩)) dX13_copy_124
                · skip
                  obtain ⟨o, ho, rfl⟩ := nI_of c_80
                  have io : ix (nI o) = o := nI_clamp (by omega)
                  refine lv_iload_n hx hb dX13_copy_83 rfl (lv_at hl 2 rfl) ?_
                  refine lv_i2l hx hb dX13_copy_84 rfl ?_
                  refine lv_iload hx hb dX13_copy_85 (lv_at hl 5 rfl) ?_
                  refine lv_i2l hx hb dX13_copy_87 rfl ?_
                  refine lv_ladd hx hb dX13_copy_88 ?_
                  refine lv_aload_n hx hb dX13_copy_89 rfl (lv_at hl 0 rfl) ?_
                  refine n_get (k := 0) hx hb hts in_X13 hown hw rfl rfl 22 (by decide) q1220 rfl dX13_copy_90 ?_
                  refine lv_iload_n hx hb dX13_copy_93 rfl (lv_at hl 1 rfl) ?_
                  refine n_iald (k := 23) (j := q) hx hb hw rfl rfl (by omega) (by decide) dX13_copy_94 ?_
                  refine n_topE es1 ?_
                  refine lv_i2l hx hb dX13_copy_95 rfl ?_
                  refine W.lcmp hx hb dX13_copy_96 ?_
                  refine lv_if_gt (tgt := 118) hx hb dX13_copy_97 (by decide) (fun c_97 => ?_) (fun c_97 => ?_)
                  · skip
                    have n_97 := (cmp_far ha ho (by omega)).mp c_97
                    refine lv_aload_n hx hb dX13_copy_118 rfl (lv_at hl 0 rfl) ?_
                    refine lv_ldc (v := (-1000001)) hx hb hown (hts _ q1296) dX13_copy_119 ?_
                    refine n_calli (va_runV ⟨hx, hb, hml, hown, hts⟩ (tM_finding l G ad _ _ (-1000001) 0 (by decide) (by decide)) (cwV 1 hts (lw_V q1297 q1299 qs53 q106 q1300) rfl rfl rfl hdS_X13_finding ⟨by decide, by decide⟩) (hw.preV (k := 0) rfl rfl) rfl rfl hl.1 rfl (lv_room (by simp [Value.category])) dX13_copy_121 ⟨Nat.zero_le _, Nat.zero_le _⟩) hw (fun r_121 u_121 H locs e_121 hw => ?_)
                    obtain ⟨rfl, rfl⟩ := e_121
                    have hw : nS G (mE G ad _ _) s H locs := hw
                    exact m_iret hx hb hr hlk rfl hw (by first | (rw [copyO, if_neg c_4, if_neg c_11, iq, iz, if_neg c_27, if_neg c_36, if_pos c_58, if_pos c_70]; exact ⟨rfl, M 24, by rw [ur_self, ur_self]; rfl⟩) | (rw [copyO, if_neg c_4, if_neg c_11, iq, iz, if_neg c_27, if_neg c_36, if_pos c_58, if_neg c_70, if_pos c_75]; exact ⟨rfl, M 24, by rw [ur_self, ur_self]; rfl⟩) | (rw [copyO, if_neg c_4, if_neg c_11, iq, iz, if_neg c_27, if_neg c_36, if_pos c_58, if_neg c_70, if_neg c_75, if_pos c_80]; exact ⟨rfl, M 24, by rw [ur_self, ur_self]; rfl⟩) | (rw [copyO, if_neg c_4, if_neg c_11, iq, iz, if_neg c_27, if_neg c_36, if_pos c_58, if_neg c_70, if_neg c_75, if_neg c_80, ia, io, is1, if_pos n_97]; exact ⟨rfl, M 24, by rw [ur_self, ur_self]; rfl⟩) | (rw [copyO, if_neg c_4, if_neg c_11, iq, iz, if_neg c_27, if_neg c_36, if_pos c_58, if_neg c_70, if_neg c_75, if_neg c_80, ia, io, ibb, is1, is2, if_neg n_97, if_pos n_115]; exact ⟨rfl, M 24, by rw [ur_self, ur_self]; rfl⟩)) dX13_copy_124
                  · skip
                    have n_97 : ¬ s1 < a + o := fun h => c_97 ((cmp_far ha ho (by omega)).mpr h)
                    refine lv_iload hx hb dX13_copy_100 (lv_at hl 4 rfl) ?_
                    refine lv_i2l hx hb dX13_copy_102 rfl ?_
                    refine lv_iload hx hb dX13_copy_103 (lv_at hl 5 rfl) ?_
                    refine lv_i2l hx hb dX13_copy_105 rfl ?_
                    refine lv_ladd hx hb dX13_copy_106 ?_
                    refine lv_aload_n hx hb dX13_copy_107 rfl (lv_at hl 0 rfl) ?_
                    refine n_get (k := 0) hx hb hts in_X13 hown hw rfl rfl 22 (by decide) q1220 rfl dX13_copy_108 ?_
                    refine lv_iload_n hx hb dX13_copy_111 rfl (lv_at hl 3 rfl) ?_
                    refine n_iald (k := 23) (j := z) hx hb hw rfl rfl (by omega) (by decide) dX13_copy_112 ?_
                    refine n_topE es2 ?_
                    refine lv_i2l hx hb dX13_copy_113 rfl ?_
                    refine W.lcmp hx hb dX13_copy_114 ?_
                    refine lv_if_le (tgt := 125) hx hb dX13_copy_115 (by decide) (fun c_115 => ?_) (fun c_115 => ?_)
                    · skip
                      have n_115 : ¬ s2 < bb + o := fun h => absurd ((cmp_far hbb ho (by omega)).mpr h) (Int32.not_lt.mpr c_115)
                      refine lv_iconst (v := 0) hx hb dX13_copy_125 (by decide) ?_
                      refine lv_istore hx hb dX13_copy_126 hl (by decide) rfl (fun ls hl => ?_)
                      refine n_loop (α := Nat) (fun k H locs ls => k ≤ o ∧ nS G (mE G ad w (ur M 24 (mvF (M 24) (M 23) (40 * q + a) k))) s H locs ∧ lv_has ls 7 [(0, .ref (ad 0)), (1, .int (nI q)), (2, .int (nI a)), (3, .int (nI z)), (4, .int (nI bb)), (5, .int (nI o)), (6, .int (nI k))]) (fun k => o - k) 128 ?_ 0 _ _ _ ⟨Nat.zero_le _, by rw [show mvF (M 24) (M 23) (40 * q + a) 0 = M 24 from rfl, ur_self]; exact hw, (lv_sub hl [1, 2, 3, 4, 5, 6, 0] rfl)⟩
                      clear hl hw
                      intro k H locs ls hI ih_128
                      obtain ⟨hk, hw, hl⟩ := hI
                      refine lv_iload hx hb dX13_copy_128 (lv_at hl 6 rfl) ?_
                      refine lv_iload hx hb dX13_copy_130 (lv_at hl 5 rfl) ?_
                      refine lv_icmp_ge (tgt := 162) hx hb dX13_copy_132 (by decide) (fun c_132 => ?_) (fun c_132 => ?_)
                      · skip
                        have n_132 : o ≤ k := (nI_leI (a := o) (b := k) (by omega) (by omega)).mp c_132
                        obtain rfl : k = o := by omega
                        refine lv_iconst (v := 0) hx hb dX13_copy_162 (by decide) ?_
                        refine lv_istore hx hb dX13_copy_163 hl (by decide) rfl (fun ls hl => ?_)
                        refine n_loop (α := Nat) (fun y H locs ls => y ≤ k ∧ nS G (mE G ad w (ur (ur M 24 (mvF (M 24) (M 23) (40 * q + a) k)) 23 (cpS (M 23) (40 * q + a) (40 * z + bb) y))) s H locs ∧ lv_has ls 7 [(0, .ref (ad 0)), (3, .int (nI z)), (4, .int (nI bb)), (5, .int (nI k)), (6, .int (nI y))]) (fun y => k - y) 165 ?_ 0 _ _ _ ⟨Nat.zero_le _, by rw [show cpS (M 23) (40 * q + a) (40 * z + bb) 0 = M 23 from rfl, ur_of (show ur M 24 (mvF (M 24) (M 23) (40 * q + a) k) 23 = M 23 from rfl)]; exact hw, (lv_sub hl [1, 4, 5, 6, 0] rfl)⟩
                        clear hl hw
                        intro y H locs ls hI ih_165
                        obtain ⟨hy, hw, hl⟩ := hI
                        refine lv_iload hx hb dX13_copy_165 (lv_at hl 4 rfl) ?_
                        refine lv_iload hx hb dX13_copy_167 (lv_at hl 3 rfl) ?_
                        refine lv_icmp_ge (tgt := 200) hx hb dX13_copy_169 (by decide) (fun c_169 => ?_) (fun c_169 => ?_)
                        · skip
                          have n_169 : k ≤ y := (nI_leI (a := k) (b := y) (by omega) (by omega)).mp c_169
                          obtain rfl : y = k := by omega
                          refine lv_iload hx hb dX13_copy_200 (lv_at hl 3 rfl) ?_
                          exact m_iret hx hb hr hlk rfl hw (by rw [copyO, if_neg c_4, if_neg c_11, iq, iz, if_neg c_27, if_neg c_36, if_pos c_58, if_neg c_70, if_neg c_75, if_neg c_80, ia, ibb, io, is1, is2, if_neg n_97, if_neg n_115]; exact ⟨rfl, _, rfl⟩) dX13_copy_202
                        · skip
                          have n_169 : ¬ k ≤ y := fun h => c_169 ((nI_leI (a := k) (b := y) (by omega) (by omega)).mpr h)
                          refine lv_aload_n hx hb dX13_copy_172 rfl (lv_at hl 0 rfl) ?_
                          refine n_get (k := 0) hx hb hts in_X13 hown hw rfl rfl 23 (by decide) q1221 rfl dX13_copy_173 ?_
                          refine lv_bipush (v := 40) hx hb dX13_copy_176 (by decide) ?_
                          refine lv_iload_n hx hb dX13_copy_178 rfl (lv_at hl 1 rfl) ?_
                          refine lv_imul hx hb dX13_copy_179 ?_
                          refine n_topE (pk_mul 40 z) ?_
                          refine lv_iload hx hb dX13_copy_180 (lv_at hl 2 rfl) ?_
                          refine lv_iadd hx hb dX13_copy_182 ?_
                          refine n_topE (nI_add (40 * z) bb) ?_
                          refine lv_iload hx hb dX13_copy_183 (lv_at hl 4 rfl) ?_
                          refine lv_iadd hx hb dX13_copy_185 ?_
                          refine n_topE (nI_add (40 * z + bb) y) ?_
                          refine lv_aload_n hx hb dX13_copy_186 rfl (lv_at hl 0 rfl) ?_
                          refine n_get (k := 0) hx hb hts in_X13 hown hw rfl rfl 24 (by decide) q1222 rfl dX13_copy_187 ?_
                          refine lv_iload hx hb dX13_copy_190 (lv_at hl 4 rfl) ?_
                          refine n_iald (k := 25) (j := y) hx hb hw rfl rfl (by omega) (by decide) dX13_copy_192 ?_
                          refine n_topE (y := M 23 (40 * q + a + y)) (mvF_at (by omega)) ?_
                          refine m_iast (j := 40 * z + bb + y) hx hb hw 23 rfl (mU_23 _ _ _ _) rfl (by omega) (by decide) dX13_copy_193 (fun H locs hw => ?_)
                          refine lv_iinc (v := nI (y + 1)) hx hb dX13_copy_194 hl (k := 4) rfl (nI_1 _) (by decide) rfl (fun ls hl => ?_)
                          refine lv_goto (tgt := 165) hx hb dX13_copy_197 (by decide) ?_
                          exact ih_165 (y + 1) _ _ _ (by first | omega | (dsimp only; omega)) ⟨by omega, by rw [cpS]; rw [u2_ur] at hw; exact hw, (lv_sub hl [1, 2, 3, 4, 0] rfl)⟩
                      · skip
                        have n_132 : ¬ o ≤ k := fun h => c_132 ((nI_leI (a := o) (b := k) (by omega) (by omega)).mpr h)
                        refine lv_aload_n hx hb dX13_copy_135 rfl (lv_at hl 0 rfl) ?_
                        refine n_get (k := 0) hx hb hts in_X13 hown hw rfl rfl 24 (by decide) q1222 rfl dX13_copy_136 ?_
                        refine lv_iload hx hb dX13_copy_139 (lv_at hl 6 rfl) ?_
                        refine lv_aload_n hx hb dX13_copy_141 rfl (lv_at hl 0 rfl) ?_
                        refine n_get (k := 0) hx hb hts in_X13 hown hw rfl rfl 23 (by decide) q1221 rfl dX13_copy_142 ?_
                        refine lv_bipush (v := 40) hx hb dX13_copy_145 (by decide) ?_
                        refine lv_iload_n hx hb dX13_copy_147 rfl (lv_at hl 1 rfl) ?_
                        refine lv_imul hx hb dX13_copy_148 ?_
                        refine n_topE (pk_mul 40 q) ?_
                        refine lv_iload_n hx hb dX13_copy_149 rfl (lv_at hl 2 rfl) ?_
                        refine lv_iadd hx hb dX13_copy_150 ?_
                        refine n_topE (nI_add (40 * q) a) ?_
                        refine lv_iload hx hb dX13_copy_151 (lv_at hl 6 rfl) ?_
                        refine lv_iadd hx hb dX13_copy_153 ?_
                        refine n_topE (nI_add (40 * q + a) k) ?_
                        refine n_iald (k := 24) (j := 40 * q + a + k) hx hb hw rfl rfl (by omega) (by decide) dX13_copy_154 ?_
                        refine m_iast (j := k) hx hb hw 24 rfl (mU_24 _ _ _ _) rfl (by omega) (by decide) dX13_copy_155 (fun H locs hw => ?_)
                        refine lv_iinc (v := nI (k + 1)) hx hb dX13_copy_156 hl (k := 6) rfl (nI_1 _) (by decide) rfl (fun ls hl => ?_)
                        refine lv_goto (tgt := 128) hx hb dX13_copy_159 (by decide) ?_
                        exact ih_128 (k + 1) _ _ _ (by first | omega | (dsimp only; omega)) ⟨by omega, by rw [mvF]; rw [u2_ur] at hw; exact hw, (lv_sub hl [1, 2, 3, 4, 5, 6, 0] rfl)⟩
                    · skip
                      have n_115 := (cmp_far hbb ho (by omega)).mp (Int32.not_le.mp c_115)
                      refine lv_aload_n hx hb dX13_copy_118 rfl (lv_at hl 0 rfl) ?_
                      refine lv_ldc (v := (-1000001)) hx hb hown (hts _ q1296) dX13_copy_119 ?_
                      refine n_calli (va_runV ⟨hx, hb, hml, hown, hts⟩ (tM_finding l G ad _ _ (-1000001) 0 (by decide) (by decide)) (cwV 1 hts (lw_V q1297 q1299 qs53 q106 q1300) rfl rfl rfl hdS_X13_finding ⟨by decide, by decide⟩) (hw.preV (k := 0) rfl rfl) rfl rfl hl.1 rfl (lv_room (by simp [Value.category])) dX13_copy_121 ⟨Nat.zero_le _, Nat.zero_le _⟩) hw (fun r_121 u_121 H locs e_121 hw => ?_)
                      obtain ⟨rfl, rfl⟩ := e_121
                      have hw : nS G (mE G ad _ _) s H locs := hw
                      exact m_iret hx hb hr hlk rfl hw (by first | (rw [copyO, if_neg c_4, if_neg c_11, iq, iz, if_neg c_27, if_neg c_36, if_pos c_58, if_pos c_70]; exact ⟨rfl, M 24, by rw [ur_self, ur_self]; rfl⟩) | (rw [copyO, if_neg c_4, if_neg c_11, iq, iz, if_neg c_27, if_neg c_36, if_pos c_58, if_neg c_70, if_pos c_75]; exact ⟨rfl, M 24, by rw [ur_self, ur_self]; rfl⟩) | (rw [copyO, if_neg c_4, if_neg c_11, iq, iz, if_neg c_27, if_neg c_36, if_pos c_58, if_neg c_70, if_neg c_75, if_pos c_80]; exact ⟨rfl, M 24, by rw [ur_self, ur_self]; rfl⟩) | (rw [copyO, if_neg c_4, if_neg c_11, iq, iz, if_neg c_27, if_neg c_36, if_pos c_58, if_neg c_70, if_neg c_75, if_neg c_80, ia, io, is1, if_pos n_97]; exact ⟨rfl, M 24, by rw [ur_self, ur_self]; rfl⟩) | (rw [copyO, if_neg c_4, if_neg c_11, iq, iz, if_neg c_27, if_neg c_36, if_pos c_58, if_neg c_70, if_neg c_75, if_neg c_80, ia, io, ibb, is1, is2, if_neg n_97, if_pos n_115]; exact ⟨rfl, M 24, by rw [ur_self, ur_self]; rfl⟩)) dX13_copy_124
          · skip
            refine lv_aload_n hx hb dX13_copy_61 rfl (lv_at hl 0 rfl) ?_
            refine lv_ldcw (v := (-1000003)) hx hb hown (hts _ q1640) dX13_copy_62 ?_
            refine n_calli (va_runV ⟨hx, hb, hml, hown, hts⟩ (tM_finding l G ad _ _ (-1000003) 2 (by decide) (by decide)) (cwV 1 hts (lw_V q1297 q1299 qs53 q106 q1300) rfl rfl rfl hdS_X13_finding ⟨by decide, by decide⟩) (hw.preV (k := 0) rfl rfl) rfl rfl hl.1 rfl (lv_room (by simp [Value.category])) dX13_copy_65 ⟨Nat.zero_le _, Nat.zero_le _⟩) hw (fun r_65 u_65 H locs e_65 hw => ?_)
            obtain ⟨rfl, rfl⟩ := e_65
            have hw : nS G (mE G ad _ _) s H locs := hw
            exact m_iret hx hb hr hlk rfl hw (by rw [copyO, if_neg c_4, if_neg c_11, iq, iz, if_neg c_27, if_neg c_36, if_neg c_58]; exact ⟨rfl, M 24, by rw [ur_self, ur_self]; rfl⟩) dX13_copy_68
        · skip
          refine lv_aload_n hx hb dX13_copy_39 rfl (lv_at hl 0 rfl) ?_
          refine lv_ldc (v := (-1000006)) hx hb hown (hts _ q1513) dX13_copy_40 ?_
          refine n_calli (va_runV ⟨hx, hb, hml, hown, hts⟩ (tM_finding l G ad _ _ (-1000006) 5 (by decide) (by decide)) (cwV 1 hts (lw_V q1297 q1299 qs53 q106 q1300) rfl rfl rfl hdS_X13_finding ⟨by decide, by decide⟩) (hw.preV (k := 0) rfl rfl) rfl rfl hl.1 rfl (lv_room (by simp [Value.category])) dX13_copy_42 ⟨Nat.zero_le _, Nat.zero_le _⟩) hw (fun r_42 u_42 H locs e_42 hw => ?_)
          obtain ⟨rfl, rfl⟩ := e_42
          have hw : nS G (mE G ad _ _) s H locs := hw
          exact m_iret hx hb hr hlk rfl hw (by first | (rw [copyO, if_neg c_4, if_neg c_11, iq, iz, if_pos c_27]; exact ⟨rfl, M 24, by rw [ur_self, ur_self]; rfl⟩) | (rw [copyO, if_neg c_4, if_neg c_11, iq, iz, if_neg c_27, if_pos c_36]; exact ⟨rfl, M 24, by rw [ur_self, ur_self]; rfl⟩)) dX13_copy_45
    · skip
      refine lv_aload_n hx hb dX13_copy_14 rfl (lv_at hl 0 rfl) ?_
      refine lv_ldc (v := (-1000001)) hx hb hown (hts _ q1296) dX13_copy_15 ?_
      refine n_calli (va_runV ⟨hx, hb, hml, hown, hts⟩ (tM_finding l G ad _ _ (-1000001) 0 (by decide) (by decide)) (cwV 1 hts (lw_V q1297 q1299 qs53 q106 q1300) rfl rfl rfl hdS_X13_finding ⟨by decide, by decide⟩) (hw.preV (k := 0) rfl rfl) rfl rfl hl.1 rfl (lv_room (by simp [Value.category])) dX13_copy_17 ⟨Nat.zero_le _, Nat.zero_le _⟩) hw (fun r_17 u_17 H locs e_17 hw => ?_)
      obtain ⟨rfl, rfl⟩ := e_17
      have hw : nS G (mE G ad _ _) s H locs := hw
      exact m_iret hx hb hr hlk rfl hw (by first | (rw [copyO, if_pos c_4]; exact ⟨rfl, M 24, by rw [ur_self, ur_self]; rfl⟩) | (rw [copyO, if_neg c_4, if_pos c_11]; exact ⟨rfl, M 24, by rw [ur_self, ur_self]; rfl⟩)) dX13_copy_20
