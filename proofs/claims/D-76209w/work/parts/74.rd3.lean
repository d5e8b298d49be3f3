/-! the class: its reader, numbers and words asked for -/
set_option maxRecDepth 100000
def TokIn (t : Tok) : Prop := t.1 ≤ 3 ∧ t.2.1 ≤ 120 ∧ t.2.2.1 ≤ 120 ∧ t.2.2.2 ≤ 1000
theorem tokIn {bt : Nat → Int32} {len p : Nat} (h : Byt bt len) (hp : p ≤ 120) : TokIn (tokF bt p) := by
  obtain ⟨h1, h2, h3, h4, h5, h6, h7⟩ := tok_in h hp
  exact ⟨h5, h2, h4, h6⟩
section TKX
variable {bt : Nat → Int32} {t : Tok} {hi z : Nat}
theorem tkX_word (h : t.1 ≤ 3) : tkX t = 2 ↔ t.1 = 1 := (by decide : ∀ k, k ≤ 3 → ((if k = 0 then (0 : Int32) else if k = 1 then 2 else if k = 2 then 1 else 3) = 2 ↔ k = 1)) t.1 h
theorem tkX_num (h : t.1 ≤ 3) : tkX t = 1 ↔ t.1 = 2 := (by decide : ∀ k, k ≤ 3 → ((if k = 0 then (0 : Int32) else if k = 1 then 2 else if k = 2 then 1 else 3) = 1 ↔ k = 2)) t.1 h
theorem tkX_sign (h : t.1 ≤ 3) : tkX t = 3 ↔ t.1 = 3 := (by decide : ∀ k, k ≤ 3 → ((if k = 0 then (0 : Int32) else if k = 1 then 2 else if k = 2 then 1 else 3) = 3 ↔ k = 3)) t.1 h
theorem tkX_end (h : t.1 ≤ 3) : tkX t = 0 ↔ t.1 = 0 := (by decide : ∀ k, k ≤ 3 → ((if k = 0 then (0 : Int32) else if k = 1 then 2 else if k = 2 then 1 else 3) = 0 ↔ k = 0)) t.1 h
theorem nm_iff : nmB t hi = true ↔ t.1 = 2 ∧ t.2.2.2 ≤ hi := by
  unfold nmB
  rw [Bool.and_eq_true, decide_eq_true_iff, decide_eq_true_iff]
theorem nm_no (h : ¬ (t.1 = 2 ∧ t.2.2.2 ≤ hi)) : nmB t hi = false := by
  rw [← Bool.not_eq_true]
  exact fun g => h (nm_iff.mp g)
theorem nm_bad (hh : hi ≤ 999) (h : ¬ okT bt t = true) : nmB t hi = false := by
  refine nm_no (fun g => h ?_)
  unfold okT
  rw [decide_eq_true g.1, decide_eq_true (show t.2.2.2 ≤ 999 by omega)]
  simp
theorem key_bad (h : ¬ okT bt t = true) : keyF bt t = 14 := by
  by_cases h1 : t.1 = 1
  · have h2 := keyF_le (b := bt) (t := t)
    rcases Nat.lt_or_ge (keyF bt t) 14 with o | o
    · refine absurd ?_ h
      unfold okT
      rw [decide_eq_true h1, decide_eq_true o]
      simp
    · omega
  · exact keyF_no h1
theorem inF_le {v : Nat} (hv : v ≤ 1000) (hh : hi ≤ 999) : inF (nI v) 0 (nI hi) = 0 ↔ ¬ v ≤ hi := by
  unfold inF
  rw [if_neg (nI_pos (by omega))]
  by_cases h : hi < v
  · rw [if_pos ((nI_ltI (by omega) (by omega)).mpr h)]
    exact ⟨fun _ => by omega, fun _ => rfl⟩
  · rw [if_neg (fun g => h ((nI_ltI (by omega) (by omega)).mp g))]
    exact ⟨fun g => absurd g (by decide), fun g => absurd (by omega) g⟩
end TKX
/-- where a number asked for, and the token behind it, are wrong -/
def NumE (bt : Nat → Int32) (t : Tok) (hi z : Nat) : Prop := (nmB t hi = false ∧ z = t.2.1) ∨ (nmB t hi = true ∧ okT bt (nx bt t) = false ∧ z = (nx bt t).2.1)
theorem bf {x : Bool} (h : ¬ x = true) : x = false := by simpa using h
theorem hdS_X2_isWord : yX2_isWord.cls = "LineCalls$Reader" ∧ yX2_isWord.cls ≠ "java/lang/invoke/MethodHandle" ∧ yX2_isWord.cls ≠ "java/lang/invoke/VarHandle" ∧ (parseMethodDescriptor yX2_isWord.desc).map (fun d => d.parameters.length) = some 1 := by decide +kernel
set_option maxHeartbeats 4000000 in
theorem tR_isWord (l : Launch) (G : nG) (ad : Nat → Nat) (w w1 w2 w3 : rw84) (X : mM) (sp : xSp) (sh : xSh) (bt : Nat → Int32) (len : Nat) (hby : Byt bt len) (hX : RdX bt len X) (t : Tok) (k : Nat) (hk : k < 14) (hR : RdT bt t X) (ht : t.1 ≤ 3) : Met l yX2_isWord (ws_ yX2_isWord cX2_isWord 2 (some .boolean)) { frames := 0, cells := 0, slots := 0, locals := 0 } (va_Pc [.ref (ad 66), .int (nI k)] (nC G (xE G ad (xV w w1 w2 w3) X sp sh))) (vp_Si (fun r => r = (if keyF bt t = k then 1 else 0))) 0 0 (fun _ => False) := by
  refine n_head (by decide) (Nat.le_of_ble_eq_true rfl) ?_
  intro p e s m below meth c ls hx hb hr hlk hml hown hts hB0 hl
  have hown : s.vm.findClass "LineCalls$Reader" = some m.cls := hown
  have hw := nS.start hB0
  have hl : lv_has ls 2 [(0, .ref (ad 66)), (1, .int (nI k))] := hl
  have hkl := keyF_le (b := bt) (t := t)
  refine lv_aload_n hx hb dX2_isWord_0 rfl (lv_at hl 0 rfl) ?_
  refine n_get (k := 66) hx hb hts in_X2 hown hw (xp 66) rfl 6 (by decide) q284 rfl dX2_isWord_1 ?_
  refine n_topE hR.2.2.1 ?_
  refine lv_iconst (v := 2) hx hb dX2_isWord_4 (by decide) ?_
  refine lv_icmp_ne (tgt := 20) hx hb dX2_isWord_5 (by decide) (fun c_5 => ?_) (fun c_5 => ?_)
  · skip
    have hN : keyF bt t = 14 := keyF_no (fun h => c_5 ((tkX_word ht).mpr h))
    refine lv_iconst (v := 0) hx hb dX2_isWord_20 (by decide) ?_
    exact n_pret hx hb hr hlk rfl (by first | (rw [if_neg (by omega)]) | (rw [if_pos n_13])) dX2_isWord_21
  · skip
    have h1 := (tkX_word ht).mp c_5
    refine lv_aload_n hx hb dX2_isWord_8 rfl (lv_at hl 0 rfl) ?_
    refine n_get (k := 66) hx hb hts in_X2 hown hw (xp 66) rfl 7 (by decide) q285 rfl dX2_isWord_9 ?_
    refine n_topE (hR.2.2.2.1 h1) ?_
    refine lv_iload_n hx hb dX2_isWord_12 rfl (lv_at hl 1 rfl) ?_
    refine lv_icmp_ne (tgt := 20) hx hb dX2_isWord_13 (by decide) (fun c_13 => ?_) (fun c_13 => ?_)
    · skip
      have n_13 : ¬ keyF bt t = k := fun h => c_13 ((nI_eq (a := keyF bt t) (b := k) (by omega) (by omega)).mpr h)
      refine lv_iconst (v := 0) hx hb dX2_isWord_20 (by decide) ?_
      exact n_pret hx hb hr hlk rfl (by first | (rw [if_neg (by omega)]) | (rw [if_pos n_13])) dX2_isWord_21
    · skip
      have n_13 : keyF bt t = k := (nI_eq (a := keyF bt t) (b := k) (by omega) (by omega)).mp c_13
      refine lv_iconst (v := 1) hx hb dX2_isWord_16 (by decide) ?_
      refine lv_goto (tgt := 21) hx hb dX2_isWord_17 (by decide) ?_
      exact n_pret hx hb hr hlk rfl (by first | (rw [if_neg (by omega)]) | (rw [if_pos n_13])) dX2_isWord_21
theorem hdS_X2_number : yX2_number.cls = "LineCalls$Reader" ∧ yX2_number.cls ≠ "java/lang/invoke/MethodHandle" ∧ yX2_number.cls ≠ "java/lang/invoke/VarHandle" ∧ (parseMethodDescriptor yX2_number.desc).map (fun d => d.parameters.length) = some 2 := by decide +kernel
set_option maxHeartbeats 4000000 in
theorem tR_number (l : Launch) (G : nG) (ad : Nat → Nat) (w w1 w2 w3 : rw84) (X : mM) (sp : xSp) (sh : xSh) (bt : Nat → Int32) (len : Nat) (hby : Byt bt len) (hX : RdX bt len X) (t : Tok) (hi : Nat) (hhi : hi ≤ 999) (hR : RdT bt t X) (ht : TokIn t) : MetX l yX2_number (ws_ yX2_number cX2_number 4 (some .int)) { frames := 7, cells := 0, slots := 0, locals := 151 } (va_Pc [.ref (ad 66), .int 0, .int (nI hi)] (nC G (xE G ad (xV w w1 w2 w3) X sp sh))) (xQ G (fun (_ : xSt) => some (.int (nI t.2.2.2))) (fun (u : xSt) => nmB t hi = true ∧ okT bt (nx bt t) = true ∧ ∃ X', u = (w, w1, w2, w3, X', sp, sh) ∧ RdT bt (nx bt t) X' ∧ xFr X X') (fun (u : xSt) => ∃ z, NumE bt t hi z ∧ ∃ X', u = (w, w1, w2, w3, X', sp, sh) ∧ X' 35 0 = nI z ∧ xFr X X') (ad 67) (fun u => xE G ad (xV u.1 u.2.1 u.2.2.1 u.2.2.2.1) u.2.2.2.2.1 u.2.2.2.2.2.1 u.2.2.2.2.2.2)) 0 0 (nA G) := by
  refine x_head (by decide) (Nat.le_of_ble_eq_true rfl) ?_
  intro p e s m below meth c ls hx hb hr hlk hml hown hts hnh hB0 hl
  have hown : s.vm.findClass "LineCalls$Reader" = some m.cls := hown
  have hw := nS.start hB0
  have hl : lv_has ls 4 [(0, .ref (ad 66)), (1, .int 0), (2, .int (nI hi))] := hl
  have htv := ht.2.2.2
  refine lv_aload_n hx hb dX2_number_0 rfl (lv_at hl 0 rfl) ?_
  refine lv_aload_n hx hb dX2_number_1 rfl (lv_at hl 0 rfl) ?_
  refine n_get (k := 66) hx hb hts in_X2 hown hw (xp 66) rfl 6 (by decide) q284 rfl dX2_number_2 ?_
  refine n_topE hR.2.2.1 ?_
  refine lv_iconst (v := 1) hx hb dX2_number_5 (by decide) ?_
  refine lv_icmp_ne (tgt := 25) hx hb dX2_number_6 (by decide) (fun c_6 => ?_) (fun c_6 => ?_)
  · skip
    have hnm : nmB t hi = false := nm_no (fun g => c_6 ((tkX_num ht.1).mpr g.1))
    refine lv_iconst (v := 0) hx hb dX2_number_25 (by decide) ?_
    refine x_callN ⟨hx, hb, hml, hown, hts⟩ (tR_need l G ad _ _ _ _ _ _ _ _) (cwV 1 hts (lw_V q1041 q1043 qs37 q95 q1044) rfl rfl rfl hdS_X2_need ⟨by decide, by decide⟩) (hw.preV (k := 66) (xp 66) rfl) rfl hl.1 rfl (by simp [Value.category]) dX2_number_26 ⟨Nat.zero_le _, Nat.zero_le _⟩ hw (fun u_26 H locs e_26 hw => ?_) (fun u_26 H locs e_26 hw => ?_)
    · skip
      obtain ⟨t_26, rfl⟩ := e_26
      have hw : nS G (xE G ad (xV _ _ _ _) _ _ _) s H locs := hw
      exact absurd rfl t_26
    · skip
      obtain ⟨t_26, rfl⟩ := e_26
      have hw : nS G (xE G ad (xV _ _ _ _) _ _ _) s H locs := hw
      exact lx_out hlk hnh hw ⟨t.2.1, Or.inl ⟨hnm, rfl⟩, _, rfl, hR.2.1, xFr.rf _⟩
  · skip
    have h2 := (tkX_num ht.1).mp c_6
    refine lv_aload_n hx hb dX2_number_9 rfl (lv_at hl 0 rfl) ?_
    refine n_get (k := 66) hx hb hts in_X2 hown hw (xp 66) rfl 7 (by decide) q285 rfl dX2_number_10 ?_
    refine n_topE (hR.2.2.2.2 h2) ?_
    refine lv_iload_n hx hb dX2_number_13 rfl (lv_at hl 1 rfl) ?_
    refine lv_iload_n hx hb dX2_number_14 rfl (lv_at hl 2 rfl) ?_
    refine n_callp (va_runSN ⟨hx, hb, hml, hown, hts⟩ (tX_in l _ _ _) (⟨va_cnB 3 hts (lw_meth q461) rfl rfl rfl (hw.N _ q991 rfl) (hts _ q90) (hdS_X0_in).2 ⟨by decide, by decide⟩, hts _ q460, trivial⟩) pu_pre rfl rfl hl.1 rfl (lv_room (by simp [Value.category])) dX2_number_15 ⟨Nat.zero_le _, Nat.zero_le _⟩) (fun r_15 e_15 => ?_)
    subst e_15
    refine lv_if_eq (tgt := 25) hx hb dX2_number_18 (by decide) (fun c_18 => ?_) (fun c_18 => ?_)
    · skip
      have hnm : nmB t hi = false := nm_no (fun g => (inF_le htv hhi).mp c_18 g.2)
      refine lv_iconst (v := 0) hx hb dX2_number_25 (by decide) ?_
      refine x_callN ⟨hx, hb, hml, hown, hts⟩ (tR_need l G ad _ _ _ _ _ _ _ _) (cwV 1 hts (lw_V q1041 q1043 qs37 q95 q1044) rfl rfl rfl hdS_X2_need ⟨by decide, by decide⟩) (hw.preV (k := 66) (xp 66) rfl) rfl hl.1 rfl (by simp [Value.category]) dX2_number_26 ⟨Nat.zero_le _, Nat.zero_le _⟩ hw (fun u_26 H locs e_26 hw => ?_) (fun u_26 H locs e_26 hw => ?_)
      · skip
        obtain ⟨t_26, rfl⟩ := e_26
        have hw : nS G (xE G ad (xV _ _ _ _) _ _ _) s H locs := hw
        exact absurd rfl t_26
      · skip
        obtain ⟨t_26, rfl⟩ := e_26
        have hw : nS G (xE G ad (xV _ _ _ _) _ _ _) s H locs := hw
        exact lx_out hlk hnh hw ⟨t.2.1, Or.inl ⟨hnm, rfl⟩, _, rfl, hR.2.1, xFr.rf _⟩
    · skip
      have hnm : nmB t hi = true := nm_iff.mpr ⟨h2, by (by_cases g : t.2.2.2 ≤ hi; exact g; exact absurd ((inF_le htv hhi).mpr g) c_18)⟩
      refine lv_iconst (v := 1) hx hb dX2_number_21 (by decide) ?_
      refine lv_goto (tgt := 26) hx hb dX2_number_22 (by decide) ?_
      refine x_callN ⟨hx, hb, hml, hown, hts⟩ (tR_need l G ad _ _ _ _ _ _ _ _) (cwV 1 hts (lw_V q1041 q1043 qs37 q95 q1044) rfl rfl rfl hdS_X2_need ⟨by decide, by decide⟩) (hw.preV (k := 66) (xp 66) rfl) rfl hl.1 rfl (by simp [Value.category]) dX2_number_26 ⟨Nat.zero_le _, Nat.zero_le _⟩ hw (fun u_26 H locs e_26 hw => ?_) (fun u_26 H locs e_26 hw => ?_)
      · skip
        obtain ⟨t_26, rfl⟩ := e_26
        have hw : nS G (xE G ad (xV _ _ _ _) _ _ _) s H locs := hw
        refine lv_aload_n hx hb dX2_number_29 rfl (lv_at hl 0 rfl) ?_
        refine n_get (k := 66) hx hb hts in_X2 hown hw (xp 66) rfl 7 (by decide) q285 rfl dX2_number_30 ?_
        refine n_topE (hR.2.2.2.2 h2) ?_
        refine lv_istore_n hx hb dX2_number_33 rfl hl (by decide) rfl (fun ls hl => ?_)
        refine lv_aload_n hx hb dX2_number_34 rfl (lv_at hl 1 rfl) ?_
        refine x_callN ⟨hx, hb, hml, hown, hts⟩ (tR_next l G ad _ _ _ _ _ _ _ bt len hby hX t.2.2.1 ht.2.2.1 hR.1) (cwV 0 hts (lw_V q980 q982 qs33 q95 q983) rfl rfl rfl hdS_X2_next ⟨by decide, by decide⟩) (hw.preV (k := 66) (xp 66) rfl) rfl hl.1 rfl (by simp [Value.category]) dX2_number_35 ⟨Nat.zero_le _, Nat.zero_le _⟩ hw (fun u_35 H locs e_35 hw => ?_) (fun u_35 H locs e_35 hw => ?_)
        · skip
          obtain ⟨t_35, X1, rfl, hR1, hf1⟩ := e_35
          have hw : nS G (xE G ad (xV _ _ _ _) _ _ _) s H locs := hw
          refine lv_iload_n hx hb dX2_number_38 rfl (lv_at hl 0 rfl) ?_
          exact lx_iret hx hb hr hlk hw ⟨hnm, t_35, X1, rfl, hR1, hf1⟩ dX2_number_39
        · skip
          obtain ⟨t_35, X1, rfl, hR1, hf1⟩ := e_35
          have hw : nS G (xE G ad (xV _ _ _ _) _ _ _) s H locs := hw
          exact lx_out hlk hnh hw ⟨_, Or.inr ⟨hnm, bf t_35, rfl⟩, X1, rfl, hR1, hf1⟩
      · skip
        obtain ⟨t_26, rfl⟩ := e_26
        have hw : nS G (xE G ad (xV _ _ _ _) _ _ _) s H locs := hw
        exact absurd t_26 (by decide)
theorem hdS_X2_behind : yX2_behind.cls = "LineCalls$Reader" ∧ yX2_behind.cls ≠ "java/lang/invoke/MethodHandle" ∧ yX2_behind.cls ≠ "java/lang/invoke/VarHandle" ∧ (parseMethodDescriptor yX2_behind.desc).map (fun d => d.parameters.length) = some 2 := by decide +kernel
set_option maxHeartbeats 4000000 in
theorem tR_behind (l : Launch) (G : nG) (ad : Nat → Nat) (w w1 w2 w3 : rw84) (X : mM) (sp : xSp) (sh : xSh) (bt : Nat → Int32) (len : Nat) (hby : Byt bt len) (hX : RdX bt len X) (t : Tok) (hi : Nat) (hhi : hi ≤ 999) (e34 : X 34 0 = nI t.2.2.1) (ht : TokIn t) : MetX l yX2_behind (ws_ yX2_behind cX2_behind 3 (some .int)) { frames := 8, cells := 0, slots := 0, locals := 174 } (va_Pc [.ref (ad 66), .int 0, .int (nI hi)] (nC G (xE G ad (xV w w1 w2 w3) X sp sh))) (xQ G (fun (_ : xSt) => some (.int (nI (nx bt t).2.2.2))) (fun (u : xSt) => nmB (nx bt t) hi = true ∧ okT bt (nx bt (nx bt t)) = true ∧ ∃ X', u = (w, w1, w2, w3, X', sp, sh) ∧ RdT bt (nx bt (nx bt t)) X' ∧ xFr X X') (fun (u : xSt) => ∃ z, NumE bt (nx bt t) hi z ∧ ∃ X', u = (w, w1, w2, w3, X', sp, sh) ∧ X' 35 0 = nI z ∧ xFr X X') (ad 67) (fun u => xE G ad (xV u.1 u.2.1 u.2.2.1 u.2.2.2.1) u.2.2.2.2.1 u.2.2.2.2.2.1 u.2.2.2.2.2.2)) 0 0 (nA G) := by
  refine x_head (by decide) (Nat.le_of_ble_eq_true rfl) ?_
  intro p e s m below meth c ls hx hb hr hlk hml hown hts hnh hB0 hl
  have hown : s.vm.findClass "LineCalls$Reader" = some m.cls := hown
  have hw := nS.start hB0
  have hl : lv_has ls 3 [(0, .ref (ad 66)), (1, .int 0), (2, .int (nI hi))] := hl
  refine lv_aload_n hx hb dX2_behind_0 rfl (lv_at hl 0 rfl) ?_
  refine x_callN ⟨hx, hb, hml, hown, hts⟩ (tR_next l G ad _ _ _ _ _ _ _ bt len hby hX t.2.2.1 ht.2.2.1 e34) (cwV 0 hts (lw_V q980 q982 qs33 q95 q983) rfl rfl rfl hdS_X2_next ⟨by decide, by decide⟩) (hw.preV (k := 66) (xp 66) rfl) rfl hl.1 rfl (by simp [Value.category]) dX2_behind_1 ⟨Nat.zero_le _, Nat.zero_le _⟩ hw (fun u_1 H locs e_1 hw => ?_) (fun u_1 H locs e_1 hw => ?_)
  · skip
    obtain ⟨t_1, X1, rfl, hR1, hf1⟩ := e_1
    have hw : nS G (xE G ad (xV _ _ _ _) _ _ _) s H locs := hw
    refine lv_aload_n hx hb dX2_behind_4 rfl (lv_at hl 0 rfl) ?_
    refine lv_iload_n hx hb dX2_behind_5 rfl (lv_at hl 1 rfl) ?_
    refine lv_iload_n hx hb dX2_behind_6 rfl (lv_at hl 2 rfl) ?_
    refine x_callA ⟨hx, hb, hml, hown, hts⟩ (tR_number l G ad _ _ _ _ _ _ _ bt len hby (hX.fr hf1) (nx bt t) hi hhi hR1 (tokIn hby ht.2.2.1)) (cwV 2 hts (lw_V q1064 q1066 qs42 q95 q1067) rfl rfl rfl hdS_X2_number ⟨by decide, by decide⟩) (hw.preV (k := 66) (xp 66) rfl) rfl hl.1 rfl (by simp [Value.category]) dX2_behind_7 ⟨Nat.zero_le _, Nat.zero_le _⟩ hw (fun u_7 H locs e_7 hw => ?_) (fun u_7 H locs e_7 hw => ?_)
    · skip
      obtain ⟨n_7, t_7, X2, rfl, hR2, hf2⟩ := e_7
      have hw : nS G (xE G ad (xV _ _ _ _) _ _ _) s H locs := hw
      exact lx_iret hx hb hr hlk hw ⟨n_7, t_7, X2, rfl, hR2, hf1.tr hf2⟩ dX2_behind_10
    · skip
      obtain ⟨z, hz, X2, rfl, hR2, hf2⟩ := e_7
      have hw : nS G (xE G ad (xV _ _ _ _) _ _ _) s H locs := hw
      exact lx_out hlk hnh hw ⟨z, hz, X2, rfl, hR2, hf1.tr hf2⟩
  · skip
    obtain ⟨t_1, X1, rfl, hR1, hf1⟩ := e_1
    have hw : nS G (xE G ad (xV _ _ _ _) _ _ _) s H locs := hw
    exact lx_out hlk hnh hw ⟨_, Or.inl ⟨nm_bad hhi t_1, rfl⟩, X1, rfl, hR1, hf1⟩
def FreE (bt : Nat → Int32) (w3 : rw84) (t : Tok) (z : Nat) : Prop := ((nmB t 6 && !tkW w3 t.2.2.2) = false ∧ z = t.2.1) ∨ ((nmB t 6 && !tkW w3 t.2.2.2) = true ∧ okT bt (nx bt t) = false ∧ z = (nx bt t).2.1)
theorem fre_no1 {w3 : rw84} {t : Tok} (h : nmB t 6 = false) : (nmB t 6 && !tkW w3 t.2.2.2) = false := by rw [h, Bool.false_and]
theorem fre_no2 {w3 : rw84} {t : Tok} (h : ¬ w3 (17 + t.2.2.2) = -1) : (nmB t 6 && !tkW w3 t.2.2.2) = false := by
  unfold tkW
  rw [decide_eq_true h, Bool.not_true, Bool.and_false]
theorem fre_yes {w3 : rw84} {t : Tok} (h : nmB t 6 = true) (h2 : w3 (17 + t.2.2.2) = -1) : (nmB t 6 && !tkW w3 t.2.2.2) = true := by
  unfold tkW
  rw [h, decide_eq_false (fun g => g h2), Bool.not_false, Bool.and_true]
theorem hdS_X2_free : yX2_free.cls = "LineCalls$Reader" ∧ yX2_free.cls ≠ "java/lang/invoke/MethodHandle" ∧ yX2_free.cls ≠ "java/lang/invoke/VarHandle" ∧ (parseMethodDescriptor yX2_free.desc).map (fun d => d.parameters.length) = some 0 := by decide +kernel
set_option maxHeartbeats 4000000 in
theorem tR_free (l : Launch) (G : nG) (ad : Nat → Nat) (w w1 w2 w3 : rw84) (X : mM) (sp : xSp) (sh : xSh) (bt : Nat → Int32) (len : Nat) (hby : Byt bt len) (hX : RdX bt len X) (t : Tok) (e34 : X 34 0 = nI t.2.2.1) (ht : TokIn t) : MetX l yX2_free (ws_ yX2_free cX2_free 1 (some .int)) { frames := 8, cells := 0, slots := 0, locals := 174 } (va_Pc [.ref (ad 66)] (nC G (xE G ad (xV w w1 w2 w3) X sp sh))) (xQ G (fun (_ : xSt) => some (.int (nI (nx bt t).2.2.2))) (fun (u : xSt) => (nmB (nx bt t) 6 && !tkW w3 (nx bt t).2.2.2) = true ∧ okT bt (nx bt (nx bt t)) = true ∧ ∃ X', u = (w, w1, w2, w3, X', sp, sh) ∧ RdT bt (nx bt (nx bt t)) X' ∧ xFr X X') (fun (u : xSt) => ∃ z, FreE bt w3 (nx bt t) z ∧ ∃ X', u = (w, w1, w2, w3, X', sp, sh) ∧ X' 35 0 = nI z ∧ xFr X X') (ad 67) (fun u => xE G ad (xV u.1 u.2.1 u.2.2.1 u.2.2.2.1) u.2.2.2.2.1 u.2.2.2.2.2.1 u.2.2.2.2.2.2)) 0 0 (nA G) := by
  refine x_head (by decide) (Nat.le_of_ble_eq_true rfl) ?_
  intro p e s m below meth c ls hx hb hr hlk hml hown hts hnh hB0 hl
  have hown : s.vm.findClass "LineCalls$Reader" = some m.cls := hown
  have hw := nS.start hB0
  have hl : lv_has ls 1 [(0, .ref (ad 66))] := hl
  have ht1 := tokIn hby ht.2.2.1
  have htv : (nx bt t).2.2.2 ≤ 1000 := ht1.2.2.2
  refine lv_aload_n hx hb dX2_free_0 rfl (lv_at hl 0 rfl) ?_
  refine x_callN ⟨hx, hb, hml, hown, hts⟩ (tR_next l G ad _ _ _ _ _ _ _ bt len hby hX t.2.2.1 ht.2.2.1 e34) (cwV 0 hts (lw_V q980 q982 qs33 q95 q983) rfl rfl rfl hdS_X2_next ⟨by decide, by decide⟩) (hw.preV (k := 66) (xp 66) rfl) rfl hl.1 rfl (by simp [Value.category]) dX2_free_1 ⟨Nat.zero_le _, Nat.zero_le _⟩ hw (fun u_1 H locs e_1 hw => ?_) (fun u_1 H locs e_1 hw => ?_)
  · skip
    obtain ⟨t_1, X1, rfl, hR1, hf1⟩ := e_1
    have hw : nS G (xE G ad (xV _ _ _ _) _ _ _) s H locs := hw
    refine lv_aload_n hx hb dX2_free_4 rfl (lv_at hl 0 rfl) ?_
    refine lv_aload_n hx hb dX2_free_5 rfl (lv_at hl 0 rfl) ?_
    refine n_get (k := 66) hx hb hts in_X2 hown hw (xp 66) rfl 6 (by decide) q284 rfl dX2_free_6 ?_
    refine n_topE hR1.2.2.1 ?_
    refine lv_iconst (v := 1) hx hb dX2_free_9 (by decide) ?_
    refine lv_icmp_ne (tgt := 42) hx hb dX2_free_10 (by decide) (fun c_10 => ?_) (fun c_10 => ?_)
    · skip
      have hno := fre_no1 (w3 := w3) (nm_no (t := nx bt t) (hi := 6) (fun g => c_10 ((tkX_num ht1.1).mpr g.1)))
      refine lv_iconst (v := 0) hx hb dX2_free_42 (by decide) ?_
      refine x_callN ⟨hx, hb, hml, hown, hts⟩ (tR_need l G ad _ _ _ _ _ _ _ _) (cwV 1 hts (lw_V q1041 q1043 qs37 q95 q1044) rfl rfl rfl hdS_X2_need ⟨by decide, by decide⟩) (hw.preV (k := 66) (xp 66) rfl) rfl hl.1 rfl (by simp [Value.category]) dX2_free_43 ⟨Nat.zero_le _, Nat.zero_le _⟩ hw (fun u_43 H locs e_43 hw => ?_) (fun u_43 H locs e_43 hw => ?_)
      · skip
        obtain ⟨t_43, rfl⟩ := e_43
        have hw : nS G (xE G ad (xV _ _ _ _) _ _ _) s H locs := hw
        exact absurd rfl t_43
      · skip
        obtain ⟨t_43, rfl⟩ := e_43
        have hw : nS G (xE G ad (xV _ _ _ _) _ _ _) s H locs := hw
        exact lx_out hlk hnh hw ⟨_, Or.inl ⟨hno, rfl⟩, X1, rfl, hR1.2.1, hf1⟩
    · skip
      have h2 := (tkX_num ht1.1).mp c_10
      refine lv_aload_n hx hb dX2_free_13 rfl (lv_at hl 0 rfl) ?_
      refine n_get (k := 66) hx hb hts in_X2 hown hw (xp 66) rfl 7 (by decide) q285 rfl dX2_free_14 ?_
      refine n_topE (hR1.2.2.2.2 h2) ?_
      refine lv_bipush (v := 6) hx hb dX2_free_17 (by decide) ?_
      refine lv_icmp_gt (tgt := 42) hx hb dX2_free_19 (by decide) (fun c_19 => ?_) (fun c_19 => ?_)
      · skip
        have n_19 : 6 < (nx bt t).2.2.2 := (nI_ltI (a := 6) (b := (nx bt t).2.2.2) (by omega) (by omega)).mp c_19
        have hno := fre_no1 (w3 := w3) (nm_no (t := nx bt t) (hi := 6) (fun g => by have := g.2; omega))
        refine lv_iconst (v := 0) hx hb dX2_free_42 (by decide) ?_
        refine x_callN ⟨hx, hb, hml, hown, hts⟩ (tR_need l G ad _ _ _ _ _ _ _ _) (cwV 1 hts (lw_V q1041 q1043 qs37 q95 q1044) rfl rfl rfl hdS_X2_need ⟨by decide, by decide⟩) (hw.preV (k := 66) (xp 66) rfl) rfl hl.1 rfl (by simp [Value.category]) dX2_free_43 ⟨Nat.zero_le _, Nat.zero_le _⟩ hw (fun u_43 H locs e_43 hw => ?_) (fun u_43 H locs e_43 hw => ?_)
        · skip
          obtain ⟨t_43, rfl⟩ := e_43
          have hw : nS G (xE G ad (xV _ _ _ _) _ _ _) s H locs := hw
          exact absurd rfl t_43
        · skip
          obtain ⟨t_43, rfl⟩ := e_43
          have hw : nS G (xE G ad (xV _ _ _ _) _ _ _) s H locs := hw
          exact lx_out hlk hnh hw ⟨_, Or.inl ⟨hno, rfl⟩, X1, rfl, hR1.2.1, hf1⟩
      · skip
        have n_19 : ¬ 6 < (nx bt t).2.2.2 := fun h => c_19 ((nI_ltI (a := 6) (b := (nx bt t).2.2.2) (by omega) (by omega)).mpr h)
        refine lv_aload_n hx hb dX2_free_22 rfl (lv_at hl 0 rfl) ?_
        refine n_get (k := 66) hx hb hts in_X2 hown hw (xp 66) rfl 2 (by decide) q277 rfl dX2_free_23 ?_
        refine n_getN (k := 16 * 3 + 0) hx hb hts in_X4 hown hw (xv3 0) rfl 0 (by decide) q220 rfl dX2_free_26 ?_
        refine lv_aload_n hx hb dX2_free_29 rfl (lv_at hl 0 rfl) ?_
        refine n_get (k := 66) hx hb hts in_X2 hown hw (xp 66) rfl 7 (by decide) q285 rfl dX2_free_30 ?_
        refine n_topE (hR1.2.2.2.2 h2) ?_
        refine n_iald (k := 16 * 3 + 1) (j := (nx bt t).2.2.2) hx hb hw (xv3 1) rfl (by omega) (by decide) dX2_free_33 ?_
        refine lv_iconst (v := (-1)) hx hb dX2_free_34 (by decide) ?_
        refine lv_icmp_ne (tgt := 42) hx hb dX2_free_35 (by decide) (fun c_35 => ?_) (fun c_35 => ?_)
        · skip
          have hno := fre_no2 (t := nx bt t) c_35
          refine lv_iconst (v := 0) hx hb dX2_free_42 (by decide) ?_
          refine x_callN ⟨hx, hb, hml, hown, hts⟩ (tR_need l G ad _ _ _ _ _ _ _ _) (cwV 1 hts (lw_V q1041 q1043 qs37 q95 q1044) rfl rfl rfl hdS_X2_need ⟨by decide, by decide⟩) (hw.preV (k := 66) (xp 66) rfl) rfl hl.1 rfl (by simp [Value.category]) dX2_free_43 ⟨Nat.zero_le _, Nat.zero_le _⟩ hw (fun u_43 H locs e_43 hw => ?_) (fun u_43 H locs e_43 hw => ?_)
          · skip
            obtain ⟨t_43, rfl⟩ := e_43
            have hw : nS G (xE G ad (xV _ _ _ _) _ _ _) s H locs := hw
            exact absurd rfl t_43
          · skip
            obtain ⟨t_43, rfl⟩ := e_43
            have hw : nS G (xE G ad (xV _ _ _ _) _ _ _) s H locs := hw
            exact lx_out hlk hnh hw ⟨_, Or.inl ⟨hno, rfl⟩, X1, rfl, hR1.2.1, hf1⟩
        · skip
          have hnm : nmB (nx bt t) 6 = true := nm_iff.mpr ⟨h2, by omega⟩
          have hyes := fre_yes hnm c_35
          refine lv_iconst (v := 1) hx hb dX2_free_38 (by decide) ?_
          refine lv_goto (tgt := 43) hx hb dX2_free_39 (by decide) ?_
          refine x_callN ⟨hx, hb, hml, hown, hts⟩ (tR_need l G ad _ _ _ _ _ _ _ _) (cwV 1 hts (lw_V q1041 q1043 qs37 q95 q1044) rfl rfl rfl hdS_X2_need ⟨by decide, by decide⟩) (hw.preV (k := 66) (xp 66) rfl) rfl hl.1 rfl (by simp [Value.category]) dX2_free_43 ⟨Nat.zero_le _, Nat.zero_le _⟩ hw (fun u_43 H locs e_43 hw => ?_) (fun u_43 H locs e_43 hw => ?_)
          · skip
            obtain ⟨t_43, rfl⟩ := e_43
            have hw : nS G (xE G ad (xV _ _ _ _) _ _ _) s H locs := hw
            refine lv_aload_n hx hb dX2_free_46 rfl (lv_at hl 0 rfl) ?_
            refine lv_iconst (v := 0) hx hb dX2_free_47 (by decide) ?_
            refine lv_bipush (v := 6) hx hb dX2_free_48 (by decide) ?_
            refine x_callA ⟨hx, hb, hml, hown, hts⟩ (tR_number l G ad _ _ _ _ _ _ _ bt len hby (hX.fr hf1) (nx bt t) 6 (by decide) hR1 ht1) (cwV 2 hts (lw_V q1064 q1066 qs42 q95 q1067) rfl rfl rfl hdS_X2_number ⟨by decide, by decide⟩) (hw.preV (k := 66) (xp 66) rfl) rfl hl.1 rfl (by simp [Value.category]) dX2_free_50 ⟨Nat.zero_le _, Nat.zero_le _⟩ hw (fun u_50 H locs e_50 hw => ?_) (fun u_50 H locs e_50 hw => ?_)
            · skip
              obtain ⟨n_50, t_50, X2, rfl, hR2, hf2⟩ := e_50
              have hw : nS G (xE G ad (xV _ _ _ _) _ _ _) s H locs := hw
              exact lx_iret hx hb hr hlk hw ⟨hyes, t_50, X2, rfl, hR2, hf1.tr hf2⟩ dX2_free_53
            · skip
              obtain ⟨z, hz, X2, rfl, hR2, hf2⟩ := e_50
              have hw : nS G (xE G ad (xV _ _ _ _) _ _ _) s H locs := hw
              exact lx_out hlk hnh hw ⟨z, by (rcases hz with ⟨h, -⟩ | ⟨-, h3, h4⟩; (rw [hnm] at h; cases h); exact Or.inr ⟨hyes, h3, h4⟩), X2, rfl, hR2, hf1.tr hf2⟩
          · skip
            obtain ⟨t_43, rfl⟩ := e_43
            have hw : nS G (xE G ad (xV _ _ _ _) _ _ _) s H locs := hw
            exact absurd t_43 (by decide)
  · skip
    obtain ⟨t_1, X1, rfl, hR1, hf1⟩ := e_1
    have hw : nS G (xE G ad (xV _ _ _ _) _ _ _) s H locs := hw
    exact lx_out hlk hnh hw ⟨_, Or.inl ⟨fre_no1 (nm_bad (by decide) t_1), rfl⟩, X1, rfl, hR1, hf1⟩
