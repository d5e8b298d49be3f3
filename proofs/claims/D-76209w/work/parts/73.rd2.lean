/-! the class: its reader, words, numbers, the next token -/
set_option maxRecDepth 100000
section NXT
variable {bt : Nat → Int32} {q p x : Nat}
theorem isLe_no {z : Int32} (h : inF z 97 122 = 0) : ¬ isLe z = true := fun g => of_decide_eq_true g h
theorem isLe_ok {z : Int32} (h : ¬ inF z 97 122 = 0) : isLe z = true := decide_eq_true h
theorem isDg_no {z : Int32} (h : inF z 48 57 = 0) : ¬ isDg z = true := fun g => of_decide_eq_true g h
theorem isDg_ok {z : Int32} (h : ¬ inF z 48 57 = 0) : isDg z = true := decide_eq_true h
theorem isSp_no {z : Int32} (h : ¬ z = 32) : ¬ isSp z = true := fun g => h (of_decide_eq_true g)
theorem isSp_ok {z : Int32} (h : z = 32) : isSp z = true := decide_eq_true h
theorem tW_word {e s : Nat} : tW bt (1, q, e, 0) s = isW bt q (e - q) s := by
  unfold tW
  rw [decide_eq_true rfl, Bool.true_and]
theorem ok_word {e : Nat} : okT bt (1, q, e, 0) = true ↔ keyF bt (1, q, e, 0) < 14 := by
  unfold okT
  dsimp only
  rw [decide_eq_false (by decide : ¬ (1 : Nat) = 0), decide_eq_true (rfl : (1 : Nat) = 1), decide_eq_false (by decide : ¬ (1 : Nat) = 2), decide_eq_false (by decide : ¬ (1 : Nat) = 3)]
  simp
theorem ok_num {e v : Nat} : okT bt (2, q, e, v) = true ↔ v ≤ 999 := by
  unfold okT
  dsimp only
  rw [decide_eq_false (by decide : ¬ (2 : Nat) = 0), decide_eq_false (by decide : ¬ (2 : Nat) = 1), decide_eq_true (rfl : (2 : Nat) = 2), decide_eq_false (by decide : ¬ (2 : Nat) = 3)]
  simp
theorem ok_end {e v : Nat} : okT bt (0, q, e, v) = true := by
  unfold okT
  dsimp only
  rw [decide_eq_true (rfl : (0 : Nat) = 0)]
  simp
theorem ok_sign {e v : Nat} : okT bt (3, q, e, v) = true ↔ bt q = 59 := by
  unfold okT
  dsimp only
  rw [decide_eq_false (by decide : ¬ (3 : Nat) = 0), decide_eq_false (by decide : ¬ (3 : Nat) = 1), decide_eq_false (by decide : ¬ (3 : Nat) = 2), decide_eq_true (rfl : (3 : Nat) = 3)]
  simp
/-- the class's value of some digits, against the counted one -/
def VX (v x : Nat) : Prop := x ≤ 9999 ∧ (v ≤ 999 → x = v) ∧ (999 < v → 999 < x)
theorem VX.big {c : Nat} (h : VX (vN bt p q) x) (hx : 999 < x) (e : dgN (bt (p + q)) = c) : VX (vN bt p (q + 1)) x := by
  obtain ⟨h1, h2, h3⟩ := h
  have hv : 999 < vN bt p q := by
    rcases Nat.lt_or_ge 999 (vN bt p q) with o | o
    · exact o
    · have := h2 o; omega
  unfold VX
  rw [vN, e]
  refine ⟨h1, fun h => ?_, fun _ => hx⟩
  omega
theorem VX.go {c : Nat} (h : VX (vN bt p q) x) (hx : ¬ 999 < x) (e : dgN (bt (p + q)) = c) (hc : c ≤ 9) : VX (vN bt p (q + 1)) (10 * x + c) := by
  obtain ⟨h1, h2, h3⟩ := h
  have hv : vN bt p q ≤ 999 := by
    rcases Nat.lt_or_ge 999 (vN bt p q) with o | o
    · have := h3 o; omega
    · exact o
  have := h2 hv
  unfold VX
  rw [vN, e]
  omega
theorem VX.le {v x : Nat} (h : VX v x) (hx : x ≤ 999) : v ≤ 999 := by
  rcases Nat.lt_or_ge 999 v with o | o
  · have := h.2.2 o; omega
  · exact o
end NXT
theorem hdS_X2_word : yX2_word.cls = "LineCalls$Reader" ∧ yX2_word.cls ≠ "java/lang/invoke/MethodHandle" ∧ yX2_word.cls ≠ "java/lang/invoke/VarHandle" ∧ (parseMethodDescriptor yX2_word.desc).map (fun d => d.parameters.length) = some 0 := by decide +kernel
set_option maxHeartbeats 4000000 in
theorem tR_word (l : Launch) (G : nG) (ad : Nat → Nat) (w w1 w2 w3 : rw84) (X : mM) (sp : xSp) (sh : xSh) (bt : Nat → Int32) (len : Nat) (hby : Byt bt len) (hX : RdX bt len X) (q : Nat) (hq : q < len) (hle : isLe (bt q) = true) (e34 : X 34 0 = nI q) (e35 : X 35 0 = nI q) : MetX l yX2_word (ws_ yX2_word cX2_word 2 (none)) { frames := 5, cells := 0, slots := 0, locals := 109 } (va_Pc [.ref (ad 66)] (nC G (xE G ad (xV w w1 w2 w3) X sp sh))) (xQ G (fun (_ : xSt) => none) (fun (u : xSt) => okT bt (1, q, runE isLe bt q, 0) = true ∧ ∃ X', u = (w, w1, w2, w3, X', sp, sh) ∧ RdT bt (1, q, runE isLe bt q, 0) X' ∧ xFr X X') (fun (u : xSt) => ¬ okT bt (1, q, runE isLe bt q, 0) = true ∧ ∃ X', u = (w, w1, w2, w3, X', sp, sh) ∧ X' 35 0 = nI (1, q, runE isLe bt q, 0).2.1 ∧ xFr X X') (ad 67) (fun u => xE G ad (xV u.1 u.2.1 u.2.2.1 u.2.2.2.1) u.2.2.2.2.1 u.2.2.2.2.2.1 u.2.2.2.2.2.2)) 0 0 (nA G) := by
  refine x_head (by decide) (Nat.le_of_ble_eq_true rfl) ?_
  intro p e s m below meth c ls hx hb hr hlk hml hown hts hnh hB0 hl
  have hown : s.vm.findClass "LineCalls$Reader" = some m.cls := hown
  have hw := nS.start hB0
  have hl : lv_has ls 2 [(0, .ref (ad 66))] := hl
  have hl120 := hby.1
  have hend : ¬ isLe (bt 120) = true := hby.le120
  obtain ⟨ee, hee⟩ : ∃ ee, runE isLe bt q = ee := ⟨_, rfl⟩
  have hee1 : q ≤ ee := by rw [← hee]; exact runE_ge
  have hee2 : ee ≤ 120 := by rw [← hee]; exact runE_le (by omega)
  refine n_loop (α := Nat) (fun z H locs ls => q ≤ z ∧ z ≤ 120 ∧ runE isLe bt z = runE isLe bt q ∧ nS G (xE G ad (xV w w1 w2 w3) (u2 X 34 0 (nI z)) sp sh) s H locs ∧ lv_has ls 2 [(0, .ref (ad 66))]) (fun z => 120 - z) 0 ?_ q _ _ _ ⟨Nat.le_refl _, by omega, rfl, by rw [u2_at e34]; exact hw, (lv_sub hl [0] rfl)⟩
  clear hl hw
  intro z H locs ls hI ih_0
  obtain ⟨hz1, hz2, hrun, hw, hl⟩ := hI
  refine lv_aload_n hx hb dX2_word_0 rfl (lv_at hl 0 rfl) ?_
  refine lv_aload_n hx hb dX2_word_1 rfl (lv_at hl 0 rfl) ?_
  refine n_get (k := 66) hx hb hts in_X2 hown hw (xp 66) rfl 4 (by decide) q281 rfl dX2_word_2 ?_
  refine n_topE (y := nI z) rfl ?_
  refine n_callp (va_runV ⟨hx, hb, hml, hown, hts⟩ (tR_byteAt l G ad _ _ _ _ _ _ _ bt len hby (hX.fr (xFr.u 34 (by decide) _)) z (by omega)) (cwV 1 hts (lw_V q984 q986 qs34 q95 q987) rfl rfl rfl hdS_X2_byteAt ⟨by decide, by decide⟩) (hw.preV (k := 66) (xp 66) rfl) rfl rfl hl.1 rfl (lv_room (by simp [Value.category])) dX2_word_5 ⟨Nat.zero_le _, Nat.zero_le _⟩) (fun r_5 e_5 => ?_)
  subst e_5
  refine n_callp (va_runS ⟨hx, hb, hml, hown, hts⟩ (tX_isLetter l G _ _) (va_cwS 1 hts (lw_S q988 q989 q95 q990) rfl rfl rfl (hdS_X2_isLetter).2 ⟨by decide, by decide⟩) hw.preS rfl rfl hl.1 rfl (lv_room (by simp [Value.category])) dX2_word_8 ⟨Nat.zero_le _, Nat.zero_le _⟩) (fun r_8 e_8 => ?_)
  subst e_8
  refine lv_if_eq (tgt := 27) hx hb dX2_word_11 (by decide) (fun c_11 => ?_) (fun c_11 => ?_)
  · skip
    obtain rfl : z = ee := by rw [← hee, ← hrun]; exact (runE_stop (isLe_no c_11)).symm
    refine lv_iconst (v := 0) hx hb dX2_word_27 (by decide) ?_
    refine lv_istore_n hx hb dX2_word_28 rfl hl (by decide) rfl (fun ls hl => ?_)
    refine n_loopR (α := Nat) (fun k ls => k ≤ 14 ∧ kyF bt (1, q, runE isLe bt q, 0) (14 - k) k = keyF bt (1, q, runE isLe bt q, 0) ∧ lv_has ls 2 [(0, .ref (ad 66)), (1, .int (nI k))]) (fun k => 14 - k) 29 ?_ 0 _ ⟨Nat.zero_le _, rfl, (lv_sub hl [1, 0] rfl)⟩
    clear hl
    intro k ls hI ih_29
    obtain ⟨hk, hky, hl⟩ := hI
    refine lv_iload_n hx hb dX2_word_29 rfl (lv_at hl 1 rfl) ?_
    refine lv_bipush (v := 14) hx hb dX2_word_30 (by decide) ?_
    refine lv_icmp_ge (tgt := 58) hx hb dX2_word_32 (by decide) (fun c_32 => ?_) (fun c_32 => ?_)
    · skip
      have n_32 : 14 ≤ k := (nI_leI (a := 14) (b := k) (by omega) (by omega)).mp c_32
      obtain rfl : k = 14 := by omega
      have hN : keyF bt (1, q, runE isLe bt q, 0) = 14 := hky.symm
      refine lv_aload_n hx hb dX2_word_58 rfl (lv_at hl 0 rfl) ?_
      refine lv_iload_n hx hb dX2_word_59 rfl (lv_at hl 1 rfl) ?_
      refine lv_bipush (v := 14) hx hb dX2_word_60 (by decide) ?_
      refine lv_icmp_ge (tgt := 69) hx hb dX2_word_62 (by decide) (fun c_62 => ?_) (fun c_62 => ?_)
      · skip
        refine lv_iconst (v := 0) hx hb dX2_word_69 (by decide) ?_
        refine x_callN ⟨hx, hb, hml, hown, hts⟩ (tR_need l G ad _ _ _ _ _ _ _ _) (cwV 1 hts (lw_V q1041 q1043 qs37 q95 q1044) rfl rfl rfl hdS_X2_need ⟨by decide, by decide⟩) (hw.preV (k := 66) (xp 66) rfl) rfl hl.1 rfl (by simp [Value.category]) dX2_word_70 ⟨Nat.zero_le _, Nat.zero_le _⟩ hw (fun u_70 H locs e_70 hw => ?_) (fun u_70 H locs e_70 hw => ?_)
        · skip
          obtain ⟨t_70, rfl⟩ := e_70
          have hw : nS G (xE G ad (xV _ _ _ _) _ _ _) s H locs := hw
          exact absurd rfl t_70
        · skip
          obtain ⟨t_70, rfl⟩ := e_70
          have hw : nS G (xE G ad (xV _ _ _ _) _ _ _) s H locs := hw
          exact lx_out hlk hnh hw ⟨fun h => absurd (ok_word.mp h) (by rw [hN]; decide), _, rfl, e35, xFr.u 34 (by decide) _⟩
      · skip
        exact absurd (by decide) c_62
    · skip
      have n_32 : ¬ 14 ≤ k := fun h => c_32 ((nI_leI (a := 14) (b := k) (by omega) (by omega)).mpr h)
      refine lv_aload_n hx hb dX2_word_35 rfl (lv_at hl 0 rfl) ?_
      refine lv_iload_n hx hb dX2_word_36 rfl (lv_at hl 1 rfl) ?_
      refine lv_aload_n hx hb dX2_word_37 rfl (lv_at hl 0 rfl) ?_
      refine n_get (k := 66) hx hb hts in_X2 hown hw (xp 66) rfl 4 (by decide) q281 rfl dX2_word_38 ?_
      refine n_topE (y := nI z) rfl ?_
      refine lv_aload_n hx hb dX2_word_41 rfl (lv_at hl 0 rfl) ?_
      refine n_get (k := 66) hx hb hts in_X2 hown hw (xp 66) rfl 5 (by decide) q282 rfl dX2_word_42 ?_
      refine n_topE (y := nI q) e35 ?_
      refine lv_isub hx hb dX2_word_45 ?_
      refine n_topE (pk_sub hz1) ?_
      refine n_callp (va_runV ⟨hx, hb, hml, hown, hts⟩ (tR_isKey l G ad _ _ _ _ _ _ _ bt len hby (hX.fr (xFr.u 34 (by decide) _)) k (z - q) q (by omega) (by omega) (fun i hi => runE_all (p := q) (by omega) (by omega)) e35) (cwV 2 hts (lw_V q996 q998 qs36 q95 q999) rfl rfl rfl hdS_X2_isKey ⟨by decide, by decide⟩) (hw.preV (k := 66) (xp 66) rfl) rfl rfl hl.1 rfl (lv_room (by simp [Value.category])) dX2_word_46 ⟨Nat.zero_le _, Nat.zero_le _⟩) (fun r_46 e_46 => ?_)
      subst e_46
      refine lv_if_ne (tgt := 58) hx hb dX2_word_49 (by decide) (fun c_49 => ?_) (fun c_49 => ?_)
      · skip
        have c_49n : tW bt (1, q, runE isLe bt q, 0) (kS k) = true := by (rw [tW_word, hee]; by_cases h : isW bt q (z - q) (kS k) = true; exact h; rw [if_neg h] at c_49; exact absurd rfl c_49)
        have hN : keyF bt (1, q, runE isLe bt q, 0) = k := hky.symm.trans (kyF_hit (by omega) c_49n)
        refine lv_aload_n hx hb dX2_word_58 rfl (lv_at hl 0 rfl) ?_
        refine lv_iload_n hx hb dX2_word_59 rfl (lv_at hl 1 rfl) ?_
        refine lv_bipush (v := 14) hx hb dX2_word_60 (by decide) ?_
        refine lv_icmp_ge (tgt := 69) hx hb dX2_word_62 (by decide) (fun c_62 => ?_) (fun c_62 => ?_)
        · skip
          exact absurd ((nI_leI (a := 14) (b := k) (by omega) (by omega)).mp c_62) n_32
        · skip
          refine lv_iconst (v := 1) hx hb dX2_word_65 (by decide) ?_
          refine lv_goto (tgt := 70) hx hb dX2_word_66 (by decide) ?_
          refine x_callN ⟨hx, hb, hml, hown, hts⟩ (tR_need l G ad _ _ _ _ _ _ _ _) (cwV 1 hts (lw_V q1041 q1043 qs37 q95 q1044) rfl rfl rfl hdS_X2_need ⟨by decide, by decide⟩) (hw.preV (k := 66) (xp 66) rfl) rfl hl.1 rfl (by simp [Value.category]) dX2_word_70 ⟨Nat.zero_le _, Nat.zero_le _⟩ hw (fun u_70 H locs e_70 hw => ?_) (fun u_70 H locs e_70 hw => ?_)
          · skip
            obtain ⟨t_70, rfl⟩ := e_70
            have hw : nS G (xE G ad (xV _ _ _ _) _ _ _) s H locs := hw
            refine lv_aload_n hx hb dX2_word_73 rfl (lv_at hl 0 rfl) ?_
            refine lv_iconst (v := 2) hx hb dX2_word_74 (by decide) ?_
            refine r_put hx hb hts hown hw 6 (by decide) q284 dX2_word_75 (fun H locs hw => ?_)
            refine lv_aload_n hx hb dX2_word_78 rfl (lv_at hl 0 rfl) ?_
            refine lv_iload_n hx hb dX2_word_79 rfl (lv_at hl 1 rfl) ?_
            refine r_put hx hb hts hown hw 7 (by decide) q285 dX2_word_80 (fun H locs hw => ?_)
            exact lx_vret hx hb hr hlk hw ⟨ok_word.mpr (by rw [hN]; omega), _, rfl, ⟨(by show nI z = nI (runE isLe bt q); rw [hee]), e35, rfl, fun _ => (by show nI k = nI (keyF bt _); rw [hN]), fun h => absurd h (show ¬ (1 : Nat) = 2 by decide)⟩, ((xFr.u 34 (by decide) _).tr (xFr.u 36 (by decide) _)).tr (xFr.u 37 (by decide) _)⟩ dX2_word_83
          · skip
            obtain ⟨t_70, rfl⟩ := e_70
            have hw : nS G (xE G ad (xV _ _ _ _) _ _ _) s H locs := hw
            exact absurd t_70 (by decide)
      · skip
        have c_49n : ¬ tW bt (1, q, runE isLe bt q, 0) (kS k) = true := by (rw [tW_word, hee]; intro h; rw [if_pos h] at c_49; exact absurd c_49 (by decide))
        refine lv_iinc (v := nI (k + 1)) hx hb dX2_word_52 hl (k := 1) rfl (nI_1 _) (by decide) rfl (fun ls hl => ?_)
        refine lv_goto (tgt := 29) hx hb dX2_word_55 (by decide) ?_
        exact ih_29 (k + 1) _ (by first | omega | (dsimp only; omega)) ⟨by omega, (kyF_go (by omega) c_49n).trans hky, (lv_sub hl [1, 0] rfl)⟩
  · skip
    have hz3 : z < 120 := by (rcases Nat.lt_or_ge z 120 with o | o; exact o; exact absurd (isLe_ok c_11) (by rw [show z = 120 by omega]; exact hend))
    refine lv_aload_n hx hb dX2_word_14 rfl (lv_at hl 0 rfl) ?_
    refine lv_dup hx hb dX2_word_15 rfl ?_
    refine n_get (k := 66) hx hb hts in_X2 hown hw (xp 66) rfl 4 (by decide) q281 rfl dX2_word_16 ?_
    refine n_topE (y := nI z) rfl ?_
    refine lv_iconst (v := 1) hx hb dX2_word_19 (by decide) ?_
    refine lv_iadd hx hb dX2_word_20 ?_
    refine n_topE (nI_add z 1) ?_
    refine r_put hx hb hts hown hw 4 (by decide) q281 dX2_word_21 (fun H locs hw => ?_)
    refine lv_goto (tgt := 0) hx hb dX2_word_24 (by decide) ?_
    exact ih_0 (z + 1) _ _ _ (by first | omega | (dsimp only; omega)) ⟨by omega, by omega, (runE_go hz3 (isLe_ok c_11)).trans hrun, by rw [x11_up] at hw; exact hw, (lv_sub hl [0] rfl)⟩
theorem hdS_X2_digits : yX2_digits.cls = "LineCalls$Reader" ∧ yX2_digits.cls ≠ "java/lang/invoke/MethodHandle" ∧ yX2_digits.cls ≠ "java/lang/invoke/VarHandle" ∧ (parseMethodDescriptor yX2_digits.desc).map (fun d => d.parameters.length) = some 0 := by decide +kernel
set_option maxHeartbeats 4000000 in
theorem tR_digits (l : Launch) (G : nG) (ad : Nat → Nat) (w w1 w2 w3 : rw84) (X : mM) (sp : xSp) (sh : xSh) (bt : Nat → Int32) (len : Nat) (hby : Byt bt len) (hX : RdX bt len X) (q : Nat) (hq : q < len) (hdg0 : isDg (bt q) = true) (e34 : X 34 0 = nI q) (e35 : X 35 0 = nI q) : MetX l yX2_digits (ws_ yX2_digits cX2_digits 2 (none)) { frames := 2, cells := 0, slots := 0, locals := 42 } (va_Pc [.ref (ad 66)] (nC G (xE G ad (xV w w1 w2 w3) X sp sh))) (xQ G (fun (_ : xSt) => none) (fun (u : xSt) => okT bt (2, q, runE isDg bt q, vN bt q (runE isDg bt q - q)) = true ∧ ∃ X', u = (w, w1, w2, w3, X', sp, sh) ∧ RdT bt (2, q, runE isDg bt q, vN bt q (runE isDg bt q - q)) X' ∧ xFr X X') (fun (u : xSt) => ¬ okT bt (2, q, runE isDg bt q, vN bt q (runE isDg bt q - q)) = true ∧ ∃ X', u = (w, w1, w2, w3, X', sp, sh) ∧ X' 35 0 = nI (2, q, runE isDg bt q, vN bt q (runE isDg bt q - q)).2.1 ∧ xFr X X') (ad 67) (fun u => xE G ad (xV u.1 u.2.1 u.2.2.1 u.2.2.2.1) u.2.2.2.2.1 u.2.2.2.2.2.1 u.2.2.2.2.2.2)) 0 0 (nA G) := by
  refine x_head (by decide) (Nat.le_of_ble_eq_true rfl) ?_
  intro p e s m below meth c ls hx hb hr hlk hml hown hts hnh hB0 hl
  have hown : s.vm.findClass "LineCalls$Reader" = some m.cls := hown
  have hw := nS.start hB0
  have hl : lv_has ls 2 [(0, .ref (ad 66))] := hl
  have hl120 := hby.1
  have hend : ¬ isDg (bt 120) = true := hby.dg120
  obtain ⟨ee, hee⟩ : ∃ ee, runE isDg bt q = ee := ⟨_, rfl⟩
  have hee1 : q ≤ ee := by rw [← hee]; exact runE_ge
  have hee2 : ee ≤ 120 := by rw [← hee]; exact runE_le (by omega)
  refine lv_iconst (v := 0) hx hb dX2_digits_0 (by decide) ?_
  refine lv_istore_n hx hb dX2_digits_1 rfl hl (by decide) rfl (fun ls hl => ?_)
  refine n_loop (α := Nat × Nat) (fun y H locs ls => q ≤ y.1 ∧ y.1 ≤ 120 ∧ runE isDg bt y.1 = runE isDg bt q ∧ VX (vN bt q (y.1 - q)) y.2 ∧ nS G (xE G ad (xV w w1 w2 w3) (u2 X 34 0 (nI y.1)) sp sh) s H locs ∧ lv_has ls 2 [(0, .ref (ad 66)), (1, .int (nI y.2))]) (fun y => 120 - y.1) 2 ?_ (q, 0) _ _ _ ⟨Nat.le_refl _, by dsimp only; omega, rfl, by dsimp only; rw [Nat.sub_self]; exact ⟨by omega, fun _ => rfl, fun h => absurd h (show ¬ 999 < 0 by decide)⟩, by dsimp only; rw [u2_at e34]; exact hw, (lv_sub hl [1, 0] rfl)⟩
  clear hl hw
  intro y H locs ls hI ih_2
  obtain ⟨hz1, hz2, hrun, hV, hw, hl⟩ := hI
  obtain ⟨z, x⟩ := y
  dsimp only at hz1 hz2 hrun hV hw hl
  have hx4 := hV.1
  refine lv_aload_n hx hb dX2_digits_2 rfl (lv_at hl 0 rfl) ?_
  refine lv_aload_n hx hb dX2_digits_3 rfl (lv_at hl 0 rfl) ?_
  refine n_get (k := 66) hx hb hts in_X2 hown hw (xp 66) rfl 4 (by decide) q281 rfl dX2_digits_4 ?_
  refine n_topE (y := nI z) rfl ?_
  refine n_callp (va_runV ⟨hx, hb, hml, hown, hts⟩ (tR_byteAt l G ad _ _ _ _ _ _ _ bt len hby (hX.fr (xFr.u 34 (by decide) _)) z (by omega)) (cwV 1 hts (lw_V q984 q986 qs34 q95 q987) rfl rfl rfl hdS_X2_byteAt ⟨by decide, by decide⟩) (hw.preV (k := 66) (xp 66) rfl) rfl rfl hl.1 rfl (lv_room (by simp [Value.category])) dX2_digits_7 ⟨Nat.zero_le _, Nat.zero_le _⟩) (fun r_7 e_7 => ?_)
  subst e_7
  refine n_callp (va_runS ⟨hx, hb, hml, hown, hts⟩ (tX_isDigit l G _ _) (va_cwS 1 hts (lw_S q1045 q1046 q95 q1047) rfl rfl rfl (hdS_X2_isDigit).2 ⟨by decide, by decide⟩) hw.preS rfl rfl hl.1 rfl (lv_room (by simp [Value.category])) dX2_digits_10 ⟨Nat.zero_le _, Nat.zero_le _⟩) (fun r_10 e_10 => ?_)
  subst e_10
  refine lv_if_eq (tgt := 57) hx hb dX2_digits_13 (by decide) (fun c_13 => ?_) (fun c_13 => ?_)
  · skip
    obtain rfl : z = ee := by rw [← hee, ← hrun]; exact (runE_stop (isDg_no c_13)).symm
    refine lv_aload_n hx hb dX2_digits_57 rfl (lv_at hl 0 rfl) ?_
    refine lv_iconst (v := 1) hx hb dX2_digits_58 (by decide) ?_
    refine r_put hx hb hts hown hw 6 (by decide) q284 dX2_digits_59 (fun H locs hw => ?_)
    refine lv_aload_n hx hb dX2_digits_62 rfl (lv_at hl 0 rfl) ?_
    refine lv_iload_n hx hb dX2_digits_63 rfl (lv_at hl 1 rfl) ?_
    refine r_put hx hb hts hown hw 7 (by decide) q285 dX2_digits_64 (fun H locs hw => ?_)
    refine lv_aload_n hx hb dX2_digits_67 rfl (lv_at hl 0 rfl) ?_
    refine lv_iload_n hx hb dX2_digits_68 rfl (lv_at hl 1 rfl) ?_
    refine lv_sipush (v := 999) hx hb dX2_digits_69 (by decide) ?_
    refine lv_icmp_gt (tgt := 79) hx hb dX2_digits_72 (by decide) (fun c_72 => ?_) (fun c_72 => ?_)
    · skip
      have n_72 : 999 < x := (nI_ltI (a := 999) (b := x) (by omega) (by omega)).mp c_72
      refine lv_iconst (v := 0) hx hb dX2_digits_79 (by decide) ?_
      refine x_callN ⟨hx, hb, hml, hown, hts⟩ (tR_need l G ad _ _ _ _ _ _ _ _) (cwV 1 hts (lw_V q1041 q1043 qs37 q95 q1044) rfl rfl rfl hdS_X2_need ⟨by decide, by decide⟩) (hw.preV (k := 66) (xp 66) rfl) rfl hl.1 rfl (by simp [Value.category]) dX2_digits_80 ⟨Nat.zero_le _, Nat.zero_le _⟩ hw (fun u_80 H locs e_80 hw => ?_) (fun u_80 H locs e_80 hw => ?_)
      · skip
        obtain ⟨t_80, rfl⟩ := e_80
        have hw : nS G (xE G ad (xV _ _ _ _) _ _ _) s H locs := hw
        exact absurd rfl t_80
      · skip
        obtain ⟨t_80, rfl⟩ := e_80
        have hw : nS G (xE G ad (xV _ _ _ _) _ _ _) s H locs := hw
        exact lx_out hlk hnh hw ⟨fun h => by (have h9 := ok_num.mp h; rw [hee] at h9; have := hV.2.1 h9; omega), _, rfl, e35, ((xFr.u 34 (by decide) _).tr (xFr.u 36 (by decide) _)).tr (xFr.u 37 (by decide) _)⟩
    · skip
      have n_72 : ¬ 999 < x := fun h => c_72 ((nI_ltI (a := 999) (b := x) (by omega) (by omega)).mpr h)
      refine lv_iconst (v := 1) hx hb dX2_digits_75 (by decide) ?_
      refine lv_goto (tgt := 80) hx hb dX2_digits_76 (by decide) ?_
      refine x_callN ⟨hx, hb, hml, hown, hts⟩ (tR_need l G ad _ _ _ _ _ _ _ _) (cwV 1 hts (lw_V q1041 q1043 qs37 q95 q1044) rfl rfl rfl hdS_X2_need ⟨by decide, by decide⟩) (hw.preV (k := 66) (xp 66) rfl) rfl hl.1 rfl (by simp [Value.category]) dX2_digits_80 ⟨Nat.zero_le _, Nat.zero_le _⟩ hw (fun u_80 H locs e_80 hw => ?_) (fun u_80 H locs e_80 hw => ?_)
      · skip
        obtain ⟨t_80, rfl⟩ := e_80
        have hw : nS G (xE G ad (xV _ _ _ _) _ _ _) s H locs := hw
        exact lx_vret hx hb hr hlk hw (by have hv9 : vN bt q (z - q) ≤ 999 := hV.le (by omega); exact ⟨(by rw [hee]; exact ok_num.mpr hv9), _, rfl, ⟨(by show nI z = nI (runE isDg bt q); rw [hee]), e35, rfl, fun h => absurd h (show ¬ (2 : Nat) = 1 by decide), fun _ => (by show nI x = nI (vN bt q (runE isDg bt q - q)); rw [hee, hV.2.1 hv9])⟩, ((xFr.u 34 (by decide) _).tr (xFr.u 36 (by decide) _)).tr (xFr.u 37 (by decide) _)⟩) dX2_digits_83
      · skip
        obtain ⟨t_80, rfl⟩ := e_80
        have hw : nS G (xE G ad (xV _ _ _ _) _ _ _) s H locs := hw
        exact absurd t_80 (by decide)
  · skip
    have hz3 : z < 120 := by (rcases Nat.lt_or_ge z 120 with o | o; exact o; exact absurd (isDg_ok c_13) (by rw [show z = 120 by omega]; exact hend))
    obtain ⟨cc1, hcc, ecc, edg⟩ := dg_nn (isDg_ok c_13)
    rw [show bt z = bt (q + (z - q)) by rw [show q + (z - q) = z by omega]] at edg
    refine lv_iload_n hx hb dX2_digits_16 rfl (lv_at hl 1 rfl) ?_
    refine lv_sipush (v := 999) hx hb dX2_digits_17 (by decide) ?_
    refine lv_icmp_le (tgt := 27) hx hb dX2_digits_20 (by decide) (fun c_20 => ?_) (fun c_20 => ?_)
    · skip
      have n_20 : x ≤ 999 := (nI_leI (a := x) (b := 999) (by omega) (by omega)).mp c_20
      refine lv_bipush (v := 10) hx hb dX2_digits_27 (by decide) ?_
      refine lv_iload_n hx hb dX2_digits_29 rfl (lv_at hl 1 rfl) ?_
      refine lv_imul hx hb dX2_digits_30 ?_
      refine n_topE (pk_mul 10 x) ?_
      refine lv_aload_n hx hb dX2_digits_31 rfl (lv_at hl 0 rfl) ?_
      refine lv_aload_n hx hb dX2_digits_32 rfl (lv_at hl 0 rfl) ?_
      refine n_get (k := 66) hx hb hts in_X2 hown hw (xp 66) rfl 4 (by decide) q281 rfl dX2_digits_33 ?_
      refine n_topE (y := nI z) rfl ?_
      refine n_callp (va_runV ⟨hx, hb, hml, hown, hts⟩ (tR_byteAt l G ad _ _ _ _ _ _ _ bt len hby (hX.fr (xFr.u 34 (by decide) _)) z (by omega)) (cwV 1 hts (lw_V q984 q986 qs34 q95 q987) rfl rfl rfl hdS_X2_byteAt ⟨by decide, by decide⟩) (hw.preV (k := 66) (xp 66) rfl) rfl rfl hl.1 rfl (lv_room (by simp [Value.category])) dX2_digits_36 ⟨Nat.zero_le _, Nat.zero_le _⟩) (fun r_36 e_36 => ?_)
      subst e_36
      refine n_topE ecc ?_
      refine lv_iadd hx hb dX2_digits_39 ?_
      refine n_topE (nI_add (10 * x) (48 + cc1)) ?_
      refine lv_bipush (v := 48) hx hb dX2_digits_40 (by decide) ?_
      refine lv_isub hx hb dX2_digits_42 ?_
      refine n_topE (y := nI (10 * x + cc1)) (by rw [show (48 : Int32) = nI 48 from rfl, pk_sub (by omega)]; congr 1; omega) ?_
      refine lv_istore_n hx hb dX2_digits_43 rfl hl (by decide) rfl (fun ls hl => ?_)
      refine lv_aload_n hx hb dX2_digits_44 rfl (lv_at hl 1 rfl) ?_
      refine lv_dup hx hb dX2_digits_45 rfl ?_
      refine n_get (k := 66) hx hb hts in_X2 hown hw (xp 66) rfl 4 (by decide) q281 rfl dX2_digits_46 ?_
      refine n_topE (y := nI z) rfl ?_
      refine lv_iconst (v := 1) hx hb dX2_digits_49 (by decide) ?_
      refine lv_iadd hx hb dX2_digits_50 ?_
      refine n_topE (nI_add z 1) ?_
      refine r_put hx hb hts hown hw 4 (by decide) q281 dX2_digits_51 (fun H locs hw => ?_)
      refine lv_goto (tgt := 2) hx hb dX2_digits_54 (by decide) ?_
      exact ih_2 (z + 1, 10 * x + cc1) _ _ _ (by first | omega | (dsimp only; omega)) ⟨by dsimp only; omega, by dsimp only; omega, (runE_go hz3 (isDg_ok c_13)).trans hrun, (by dsimp only; rw [show z + 1 - q = z - q + 1 by omega]; exact hV.go (by omega) edg hcc), by rw [x11_up] at hw; exact hw, (lv_sub hl [1, 0] rfl)⟩
    · skip
      have n_20 : ¬ x ≤ 999 := fun h => c_20 ((nI_leI (a := x) (b := 999) (by omega) (by omega)).mpr h)
      refine lv_iload_n hx hb dX2_digits_23 rfl (lv_at hl 1 rfl) ?_
      refine lv_goto (tgt := 43) hx hb dX2_digits_24 (by decide) ?_
      refine lv_istore_n hx hb dX2_digits_43 rfl hl (by decide) rfl (fun ls hl => ?_)
      refine lv_aload_n hx hb dX2_digits_44 rfl (lv_at hl 1 rfl) ?_
      refine lv_dup hx hb dX2_digits_45 rfl ?_
      refine n_get (k := 66) hx hb hts in_X2 hown hw (xp 66) rfl 4 (by decide) q281 rfl dX2_digits_46 ?_
      refine n_topE (y := nI z) rfl ?_
      refine lv_iconst (v := 1) hx hb dX2_digits_49 (by decide) ?_
      refine lv_iadd hx hb dX2_digits_50 ?_
      refine n_topE (nI_add z 1) ?_
      refine r_put hx hb hts hown hw 4 (by decide) q281 dX2_digits_51 (fun H locs hw => ?_)
      refine lv_goto (tgt := 2) hx hb dX2_digits_54 (by decide) ?_
      exact ih_2 (z + 1, x) _ _ _ (by first | omega | (dsimp only; omega)) ⟨by dsimp only; omega, by dsimp only; omega, (runE_go hz3 (isDg_ok c_13)).trans hrun, (by dsimp only; rw [show z + 1 - q = z - q + 1 by omega]; exact hV.big (by omega) edg), by rw [x11_up] at hw; exact hw, (lv_sub hl [1, 0] rfl)⟩
section NXT2
variable {bt : Nat → Int32} {q z : Nat}
theorem tok_0 (h : runE isSp bt q = z) (h0 : bt z < 0) : tokF bt q = (0, z, z, 0) := by rw [tokF, h, if_pos h0]
theorem tok_1 (h : runE isSp bt q = z) (h0 : ¬ bt z < 0) (h1 : isLe (bt z) = true) : tokF bt q = (1, z, runE isLe bt z, 0) := by rw [tokF, h, if_neg h0, if_pos h1]
theorem tok_2 (h : runE isSp bt q = z) (h0 : ¬ bt z < 0) (h1 : ¬ isLe (bt z) = true) (h2 : isDg (bt z) = true) : tokF bt q = (2, z, runE isDg bt z, vN bt z (runE isDg bt z - z)) := by rw [tokF, h, if_neg h0, if_neg h1, if_pos h2]
theorem tok_3 (h : runE isSp bt q = z) (h0 : ¬ bt z < 0) (h1 : ¬ isLe (bt z) = true) (h2 : ¬ isDg (bt z) = true) : tokF bt q = (3, z, z + 1, 0) := by rw [tokF, h, if_neg h0, if_neg h1, if_neg h2]
end NXT2
theorem hdS_X2_next : yX2_next.cls = "LineCalls$Reader" ∧ yX2_next.cls ≠ "java/lang/invoke/MethodHandle" ∧ yX2_next.cls ≠ "java/lang/invoke/VarHandle" ∧ (parseMethodDescriptor yX2_next.desc).map (fun d => d.parameters.length) = some 0 := by decide +kernel
set_option maxHeartbeats 4000000 in
theorem tR_next (l : Launch) (G : nG) (ad : Nat → Nat) (w w1 w2 w3 : rw84) (X : mM) (sp : xSp) (sh : xSh) (bt : Nat → Int32) (len : Nat) (hby : Byt bt len) (hX : RdX bt len X) (q : Nat) (hq : q ≤ 120) (e34 : X 34 0 = nI q) : MetX l yX2_next (ws_ yX2_next cX2_next 2 (none)) { frames := 6, cells := 0, slots := 0, locals := 130 } (va_Pc [.ref (ad 66)] (nC G (xE G ad (xV w w1 w2 w3) X sp sh))) (xQ G (fun (_ : xSt) => none) (fun (u : xSt) => okT bt (tokF bt q) = true ∧ ∃ X', u = (w, w1, w2, w3, X', sp, sh) ∧ RdT bt (tokF bt q) X' ∧ xFr X X') (fun (u : xSt) => ¬ okT bt (tokF bt q) = true ∧ ∃ X', u = (w, w1, w2, w3, X', sp, sh) ∧ X' 35 0 = nI (tokF bt q).2.1 ∧ xFr X X') (ad 67) (fun u => xE G ad (xV u.1 u.2.1 u.2.2.1 u.2.2.2.1) u.2.2.2.2.1 u.2.2.2.2.2.1 u.2.2.2.2.2.2)) 0 0 (nA G) := by
  refine x_head (by decide) (Nat.le_of_ble_eq_true rfl) ?_
  intro p e s m below meth c ls hx hb hr hlk hml hown hts hnh hB0 hl
  have hown : s.vm.findClass "LineCalls$Reader" = some m.cls := hown
  have hw := nS.start hB0
  have hl : lv_has ls 2 [(0, .ref (ad 66))] := hl
  have hl120 := hby.1
  have hend := hby.end
  refine n_loop (α := Nat) (fun z H locs ls => q ≤ z ∧ z ≤ 120 ∧ runE isSp bt z = runE isSp bt q ∧ nS G (xE G ad (xV w w1 w2 w3) (u2 X 34 0 (nI z)) sp sh) s H locs ∧ lv_has ls 2 [(0, .ref (ad 66))]) (fun z => 120 - z) 0 ?_ q _ _ _ ⟨Nat.le_refl _, hq, rfl, by rw [u2_at e34]; exact hw, (lv_sub hl [0] rfl)⟩
  clear hl hw
  intro z H locs ls hI ih_0
  obtain ⟨hz1, hz2, hrun, hw, hl⟩ := hI
  refine lv_aload_n hx hb dX2_next_0 rfl (lv_at hl 0 rfl) ?_
  refine lv_aload_n hx hb dX2_next_1 rfl (lv_at hl 0 rfl) ?_
  refine n_get (k := 66) hx hb hts in_X2 hown hw (xp 66) rfl 4 (by decide) q281 rfl dX2_next_2 ?_
  refine n_topE (y := nI z) rfl ?_
  refine n_callp (va_runV ⟨hx, hb, hml, hown, hts⟩ (tR_byteAt l G ad _ _ _ _ _ _ _ bt len hby (hX.fr (xFr.u 34 (by decide) _)) z (by omega)) (cwV 1 hts (lw_V q984 q986 qs34 q95 q987) rfl rfl rfl hdS_X2_byteAt ⟨by decide, by decide⟩) (hw.preV (k := 66) (xp 66) rfl) rfl rfl hl.1 rfl (lv_room (by simp [Value.category])) dX2_next_5 ⟨Nat.zero_le _, Nat.zero_le _⟩) (fun r_5 e_5 => ?_)
  subst e_5
  refine lv_bipush (v := 32) hx hb dX2_next_8 (by decide) ?_
  refine lv_icmp_ne (tgt := 26) hx hb dX2_next_10 (by decide) (fun c_10 => ?_) (fun c_10 => ?_)
  · skip
    have hsp : runE isSp bt q = z := hrun.symm.trans (runE_stop (isSp_no c_10))
    refine lv_aload_n hx hb dX2_next_26 rfl (lv_at hl 0 rfl) ?_
    refine lv_aload_n hx hb dX2_next_27 rfl (lv_at hl 0 rfl) ?_
    refine n_get (k := 66) hx hb hts in_X2 hown hw (xp 66) rfl 4 (by decide) q281 rfl dX2_next_28 ?_
    refine n_topE (y := nI z) rfl ?_
    refine r_put hx hb hts hown hw 5 (by decide) q282 dX2_next_31 (fun H locs hw => ?_)
    refine lv_aload_n hx hb dX2_next_34 rfl (lv_at hl 0 rfl) ?_
    refine lv_aload_n hx hb dX2_next_35 rfl (lv_at hl 0 rfl) ?_
    refine n_get (k := 66) hx hb hts in_X2 hown hw (xp 66) rfl 4 (by decide) q281 rfl dX2_next_36 ?_
    refine n_topE (y := nI z) rfl ?_
    refine n_callp (va_runV ⟨hx, hb, hml, hown, hts⟩ (tR_byteAt l G ad _ _ _ _ _ _ _ bt len hby (hX.fr ((xFr.u 34 (by decide) _).tr (xFr.u 35 (by decide) _))) z (by omega)) (cwV 1 hts (lw_V q984 q986 qs34 q95 q987) rfl rfl rfl hdS_X2_byteAt ⟨by decide, by decide⟩) (hw.preV (k := 66) (xp 66) rfl) rfl rfl hl.1 rfl (lv_room (by simp [Value.category])) dX2_next_39 ⟨Nat.zero_le _, Nat.zero_le _⟩) (fun r_39 e_39 => ?_)
    subst e_39
    refine lv_istore_n hx hb dX2_next_42 rfl hl (by decide) rfl (fun ls hl => ?_)
    refine lv_iload_n hx hb dX2_next_43 rfl (lv_at hl 0 rfl) ?_
    refine lv_if_ge (tgt := 55) hx hb dX2_next_44 (by decide) (fun c_44 => ?_) (fun c_44 => ?_)
    · skip
      have c_44n : ¬ bt z < 0 := Int32.not_lt.mpr c_44
      refine lv_iload_n hx hb dX2_next_55 rfl (lv_at hl 0 rfl) ?_
      refine n_callp (va_runS ⟨hx, hb, hml, hown, hts⟩ (tX_isLetter l G _ _) (va_cwS 1 hts (lw_S q988 q989 q95 q990) rfl rfl rfl (hdS_X2_isLetter).2 ⟨by decide, by decide⟩) hw.preS rfl rfl hl.1 rfl (lv_room (by simp [Value.category])) dX2_next_56 ⟨Nat.zero_le _, Nat.zero_le _⟩) (fun r_56 e_56 => ?_)
      subst e_56
      refine lv_if_eq (tgt := 69) hx hb dX2_next_59 (by decide) (fun c_59 => ?_) (fun c_59 => ?_)
      · skip
        refine lv_iload_n hx hb dX2_next_69 rfl (lv_at hl 0 rfl) ?_
        refine n_callp (va_runS ⟨hx, hb, hml, hown, hts⟩ (tX_isDigit l G _ _) (va_cwS 1 hts (lw_S q1045 q1046 q95 q1047) rfl rfl rfl (hdS_X2_isDigit).2 ⟨by decide, by decide⟩) hw.preS rfl rfl hl.1 rfl (lv_room (by simp [Value.category])) dX2_next_70 ⟨Nat.zero_le _, Nat.zero_le _⟩) (fun r_70 e_70 => ?_)
        subst e_70
        refine lv_if_eq (tgt := 83) hx hb dX2_next_73 (by decide) (fun c_73 => ?_) (fun c_73 => ?_)
        · skip
          refine lv_aload_n hx hb dX2_next_83 rfl (lv_at hl 1 rfl) ?_
          refine lv_iload_n hx hb dX2_next_84 rfl (lv_at hl 0 rfl) ?_
          refine lv_bipush (v := 59) hx hb dX2_next_85 (by decide) ?_
          refine lv_icmp_ne (tgt := 94) hx hb dX2_next_87 (by decide) (fun c_87 => ?_) (fun c_87 => ?_)
          · skip
            refine lv_iconst (v := 0) hx hb dX2_next_94 (by decide) ?_
            refine x_callN ⟨hx, hb, hml, hown, hts⟩ (tR_need l G ad _ _ _ _ _ _ _ _) (cwV 1 hts (lw_V q1041 q1043 qs37 q95 q1044) rfl rfl rfl hdS_X2_need ⟨by decide, by decide⟩) (hw.preV (k := 66) (xp 66) rfl) rfl hl.1 rfl (by simp [Value.category]) dX2_next_95 ⟨Nat.zero_le _, Nat.zero_le _⟩ hw (fun u_95 H locs e_95 hw => ?_) (fun u_95 H locs e_95 hw => ?_)
            · skip
              obtain ⟨t_95, rfl⟩ := e_95
              have hw : nS G (xE G ad (xV _ _ _ _) _ _ _) s H locs := hw
              exact absurd rfl t_95
            · skip
              obtain ⟨t_95, rfl⟩ := e_95
              have hw : nS G (xE G ad (xV _ _ _ _) _ _ _) s H locs := hw
              exact lx_out hlk hnh hw (by rw [tok_3 hsp c_44n (isLe_no c_59) (isDg_no c_73)]; exact ⟨fun h => c_87 (ok_sign.mp h), _, rfl, rfl, ((xFr.u 34 (by decide) _).tr (xFr.u 35 (by decide) _))⟩)
          · skip
            refine lv_iconst (v := 1) hx hb dX2_next_90 (by decide) ?_
            refine lv_goto (tgt := 95) hx hb dX2_next_91 (by decide) ?_
            refine x_callN ⟨hx, hb, hml, hown, hts⟩ (tR_need l G ad _ _ _ _ _ _ _ _) (cwV 1 hts (lw_V q1041 q1043 qs37 q95 q1044) rfl rfl rfl hdS_X2_need ⟨by decide, by decide⟩) (hw.preV (k := 66) (xp 66) rfl) rfl hl.1 rfl (by simp [Value.category]) dX2_next_95 ⟨Nat.zero_le _, Nat.zero_le _⟩ hw (fun u_95 H locs e_95 hw => ?_) (fun u_95 H locs e_95 hw => ?_)
            · skip
              obtain ⟨t_95, rfl⟩ := e_95
              have hw : nS G (xE G ad (xV _ _ _ _) _ _ _) s H locs := hw
              refine lv_aload_n hx hb dX2_next_98 rfl (lv_at hl 1 rfl) ?_
              refine lv_iconst (v := 3) hx hb dX2_next_99 (by decide) ?_
              refine r_put hx hb hts hown hw 6 (by decide) q284 dX2_next_100 (fun H locs hw => ?_)
              refine lv_aload_n hx hb dX2_next_103 rfl (lv_at hl 1 rfl) ?_
              refine lv_dup hx hb dX2_next_104 rfl ?_
              refine n_get (k := 66) hx hb hts in_X2 hown hw (xp 66) rfl 4 (by decide) q281 rfl dX2_next_105 ?_
              refine n_topE (y := nI z) rfl ?_
              refine lv_iconst (v := 1) hx hb dX2_next_108 (by decide) ?_
              refine lv_iadd hx hb dX2_next_109 ?_
              refine n_topE (nI_add z 1) ?_
              refine r_put hx hb hts hown hw 4 (by decide) q281 dX2_next_110 (fun H locs hw => ?_)
              exact lx_vret hx hb hr hlk hw (by rw [tok_3 hsp c_44n (isLe_no c_59) (isDg_no c_73)]; exact ⟨ok_sign.mpr c_87, _, rfl, ⟨rfl, rfl, rfl, fun h => absurd h (show ¬ (3 : Nat) = 1 by decide), fun h => absurd h (show ¬ (3 : Nat) = 2 by decide)⟩, (((xFr.u 34 (by decide) _).tr (xFr.u 35 (by decide) _)).tr (xFr.u 36 (by decide) _)).tr (xFr.u 34 (by decide) _)⟩) dX2_next_113
            · skip
              obtain ⟨t_95, rfl⟩ := e_95
              have hw : nS G (xE G ad (xV _ _ _ _) _ _ _) s H locs := hw
              exact absurd t_95 (by decide)
        · skip
          refine lv_aload_n hx hb dX2_next_76 rfl (lv_at hl 1 rfl) ?_
          refine x_callN ⟨hx, hb, hml, hown, hts⟩ (tR_digits l G ad _ _ _ _ _ _ _ bt len hby (hX.fr ((xFr.u 34 (by decide) _).tr (xFr.u 35 (by decide) _))) z (hby.lt c_44n) (isDg_ok c_73) rfl rfl) (cwV 0 hts (lw_V q1048 q1050 qs38 q95 q1051) rfl rfl rfl hdS_X2_digits ⟨by decide, by decide⟩) (hw.preV (k := 66) (xp 66) rfl) rfl hl.1 rfl (by simp [Value.category]) dX2_next_77 ⟨Nat.zero_le _, Nat.zero_le _⟩ hw (fun u_77 H locs e_77 hw => ?_) (fun u_77 H locs e_77 hw => ?_)
          · skip
            obtain ⟨t_77, X1, rfl, hR1, hf1⟩ := e_77
            have hw : nS G (xE G ad (xV _ _ _ _) _ _ _) s H locs := hw
            refine lv_goto (tgt := 113) hx hb dX2_next_80 (by decide) ?_
            exact lx_vret hx hb hr hlk hw (by rw [tok_2 hsp c_44n (isLe_no c_59) (isDg_ok c_73)]; exact ⟨t_77, X1, rfl, hR1, ((xFr.u 34 (by decide) _).tr (xFr.u 35 (by decide) _)).tr hf1⟩) dX2_next_113
          · skip
            obtain ⟨t_77, X1, rfl, hR1, hf1⟩ := e_77
            have hw : nS G (xE G ad (xV _ _ _ _) _ _ _) s H locs := hw
            exact lx_out hlk hnh hw (by rw [tok_2 hsp c_44n (isLe_no c_59) (isDg_ok c_73)]; exact ⟨t_77, X1, rfl, hR1, ((xFr.u 34 (by decide) _).tr (xFr.u 35 (by decide) _)).tr hf1⟩)
      · skip
        refine lv_aload_n hx hb dX2_next_62 rfl (lv_at hl 1 rfl) ?_
        refine x_callN ⟨hx, hb, hml, hown, hts⟩ (tR_word l G ad _ _ _ _ _ _ _ bt len hby (hX.fr ((xFr.u 34 (by decide) _).tr (xFr.u 35 (by decide) _))) z (hby.lt c_44n) (isLe_ok c_59) rfl rfl) (cwV 0 hts (lw_V q992 q994 qs35 q95 q995) rfl rfl rfl hdS_X2_word ⟨by decide, by decide⟩) (hw.preV (k := 66) (xp 66) rfl) rfl hl.1 rfl (by simp [Value.category]) dX2_next_63 ⟨Nat.zero_le _, Nat.zero_le _⟩ hw (fun u_63 H locs e_63 hw => ?_) (fun u_63 H locs e_63 hw => ?_)
        · skip
          obtain ⟨t_63, X1, rfl, hR1, hf1⟩ := e_63
          have hw : nS G (xE G ad (xV _ _ _ _) _ _ _) s H locs := hw
          refine lv_goto (tgt := 113) hx hb dX2_next_66 (by decide) ?_
          exact lx_vret hx hb hr hlk hw (by rw [tok_1 hsp c_44n (isLe_ok c_59)]; exact ⟨t_63, X1, rfl, hR1, ((xFr.u 34 (by decide) _).tr (xFr.u 35 (by decide) _)).tr hf1⟩) dX2_next_113
        · skip
          obtain ⟨t_63, X1, rfl, hR1, hf1⟩ := e_63
          have hw : nS G (xE G ad (xV _ _ _ _) _ _ _) s H locs := hw
          exact lx_out hlk hnh hw (by rw [tok_1 hsp c_44n (isLe_ok c_59)]; exact ⟨t_63, X1, rfl, hR1, ((xFr.u 34 (by decide) _).tr (xFr.u 35 (by decide) _)).tr hf1⟩)
    · skip
      have c_44n : bt z < 0 := Int32.not_le.mp c_44
      refine lv_aload_n hx hb dX2_next_47 rfl (lv_at hl 1 rfl) ?_
      refine lv_iconst (v := 0) hx hb dX2_next_48 (by decide) ?_
      refine r_put hx hb hts hown hw 6 (by decide) q284 dX2_next_49 (fun H locs hw => ?_)
      refine lv_goto (tgt := 113) hx hb dX2_next_52 (by decide) ?_
      exact lx_vret hx hb hr hlk hw (by rw [tok_0 hsp c_44n]; exact ⟨ok_end, _, rfl, ⟨rfl, rfl, rfl, fun h => absurd h (show ¬ (0 : Nat) = 1 by decide), fun h => absurd h (show ¬ (0 : Nat) = 2 by decide)⟩, ((xFr.u 34 (by decide) _).tr (xFr.u 35 (by decide) _)).tr (xFr.u 36 (by decide) _)⟩) dX2_next_113
  · skip
    have hz3 : z < 120 := by (rcases Nat.lt_or_ge z 120 with o | o; exact o; rw [show z = 120 by omega, hend] at c_10; exact absurd c_10 (by decide))
    refine lv_aload_n hx hb dX2_next_13 rfl (lv_at hl 0 rfl) ?_
    refine lv_dup hx hb dX2_next_14 rfl ?_
    refine n_get (k := 66) hx hb hts in_X2 hown hw (xp 66) rfl 4 (by decide) q281 rfl dX2_next_15 ?_
    refine n_topE (y := nI z) rfl ?_
    refine lv_iconst (v := 1) hx hb dX2_next_18 (by decide) ?_
    refine lv_iadd hx hb dX2_next_19 ?_
    refine n_topE (nI_add z 1) ?_
    refine r_put hx hb hts hown hw 4 (by decide) q281 dX2_next_20 (fun H locs hw => ?_)
    refine lv_goto (tgt := 0) hx hb dX2_next_23 (by decide) ?_
    exact ih_0 (z + 1) _ _ _ (by first | omega | (dsimp only; omega)) ⟨by omega, by omega, (runE_go hz3 (isSp_ok c_10)).trans hrun, by rw [x11_up] at hw; exact hw, (lv_sub hl [0] rfl)⟩
