/-! the class: what to call, who where -/
set_option maxRecDepth 100000
theorem try_back (w : rw84) (q v : Nat) : upd (tryF w q v) q (w q) = w := by
  rw [try_up]
  funext k
  by_cases h : k = q
  · subst h; rw [pk_us]
  · rw [up_ne h]
theorem hdS_X0_bestCode : yX0_bestCode.cls = "LineCalls" ∧ yX0_bestCode.cls ≠ "java/lang/invoke/MethodHandle" ∧ yX0_bestCode.cls ≠ "java/lang/invoke/VarHandle" ∧ (parseMethodDescriptor yX0_bestCode.desc).map (fun d => d.parameters.length) = some 1 := by decide +kernel
set_option maxHeartbeats 4000000 in
theorem tL_bestCode (l : Launch) (G : nG) (ad : Nat → Nat) (w w1 w2 w3 : rw84) (X : mM) (sp : xSp) (sh : xSh) (q B : Nat) (hI : Inv B w) (hB : B + q < 2 ^ 30) : Met l yX0_bestCode (ws_ yX0_bestCode cX0_bestCode 7 (some .int)) { frames := 10, cells := 0, slots := 0, locals := 212 } (va_Pc [.ref (ad 64), .int (nI q)] (nC G (xE G ad (xV w w1 w2 w3) X sp sh))) (va_Qi (fun (r : Int32) (u : xSt) => r = (bestF (fun v => thrN (upd w 6 (nI v)) q 3) 5).1 ∧ ∃ g, u = (w, w1, g, w3, X, sp, sh)) (fun u => nC G (xE G ad (xV u.1 u.2.1 u.2.2.1 u.2.2.2.1) u.2.2.2.2.1 u.2.2.2.2.2.1 u.2.2.2.2.2.2)) (nA G)) 0 0 (nA G) := by
  refine n_head (by decide) (Nat.le_of_ble_eq_true rfl) ?_
  intro p e s m below meth c ls hx hb hr hlk hml hown hts hB0 hl
  have hown : s.vm.findClass "LineCalls" = some m.cls := hown
  have hw := nS.start hB0
  have hl : lv_has ls 7 [(0, .ref (ad 64)), (1, .int (nI q))] := hl
  refine lv_aload_n hx hb dX0_bestCode_0 rfl (lv_at hl 0 rfl) ?_
  refine n_get (k := 64) hx hb hts in_X0 hown hw (xp 64) rfl 3 (by decide) q418 rfl dX0_bestCode_1 ?_
  refine n_getN (k := 16 * 0 + 0) hx hb hts in_X4 hown hw (xv0 0) rfl 2 (by decide) q231 rfl dX0_bestCode_4 ?_
  refine lv_iconst (v := 2) hx hb dX0_bestCode_7 (by decide) ?_
  refine n_iald (k := 16 * 0 + 5) (j := 2) hx hb hw (xv0 5) rfl (by decide) (by decide) dX0_bestCode_8 ?_
  refine lv_istore_n hx hb dX0_bestCode_9 rfl hl (by decide) rfl (fun ls hl => ?_)
  refine lv_iconst (v := 0) hx hb dX0_bestCode_10 (by decide) ?_
  refine lv_istore_n hx hb dX0_bestCode_11 rfl hl (by decide) rfl (fun ls hl => ?_)
  refine lv_iconst (v := (-1)) hx hb dX0_bestCode_12 (by decide) ?_
  refine lv_istore hx hb dX0_bestCode_13 hl (by decide) rfl (fun ls hl => ?_)
  refine lv_iconst (v := 0) hx hb dX0_bestCode_15 (by decide) ?_
  refine lv_istore hx hb dX0_bestCode_16 hl (by decide) rfl (fun ls hl => ?_)
  refine n_loop (α := Nat × rw84) (fun x H locs ls => x.1 ≤ 5 ∧ nS G (xE G ad (xV (tryF w (6) x.1) w1 x.2 w3) X sp sh) s H locs ∧ lv_has ls 7 [(0, .ref (ad 64)), (1, .int (nI q)), (2, .int (w 6)), (3, .int (bestF (fun v => thrN (upd w 6 (nI v)) q 3) x.1).1), (4, .int (bestF (fun v => thrN (upd w 6 (nI v)) q 3) x.1).2), (5, .int (nI x.1))]) (fun x => 5 - x.1) 18 ?_ (0, w2) _ _ _ ⟨Nat.zero_le _, hw, (lv_sub hl [4, 5, 3, 2, 1, 0] rfl)⟩
  clear hl hw
  intro x H locs ls hI ih_18
  obtain ⟨hv, hw, hl⟩ := hI
  obtain ⟨v, g⟩ := x
  dsimp only at hv hw hl
  refine lv_iload hx hb dX0_bestCode_18 (lv_at hl 5 rfl) ?_
  refine lv_iconst (v := 5) hx hb dX0_bestCode_20 (by decide) ?_
  refine lv_icmp_ge (tgt := 71) hx hb dX0_bestCode_21 (by decide) (fun c_21 => ?_) (fun c_21 => ?_)
  · skip
    have n_21 : 5 ≤ v := (nI_leI (a := 5) (b := v) (by omega) (by omega)).mp c_21
    obtain rfl : v = 5 := by omega
    refine lv_aload_n hx hb dX0_bestCode_71 rfl (lv_at hl 0 rfl) ?_
    refine n_get (k := 64) hx hb hts in_X0 hown hw (xp 64) rfl 3 (by decide) q418 rfl dX0_bestCode_72 ?_
    refine n_getN (k := 16 * 0 + 0) hx hb hts in_X4 hown hw (xv0 0) rfl 2 (by decide) q231 rfl dX0_bestCode_75 ?_
    refine lv_iconst (v := 2) hx hb dX0_bestCode_78 (by decide) ?_
    refine lv_iload_n hx hb dX0_bestCode_79 rfl (lv_at hl 2 rfl) ?_
    refine l0_iast hx hb hw 5 (by decide) (q := 2) rfl (by decide) (pos := 4 + 2) rfl dX0_bestCode_80 (fun H locs hw => ?_)
    have hw := n_E (show _ = xE G ad (xV w w1 g w3) X sp sh by rw [show (4 + 2 : Nat) = 6 from rfl, try_back]) hw
    refine lv_iload_n hx hb dX0_bestCode_81 rfl (lv_at hl 3 rfl) ?_
    exact l_iret hx hb hr hlk rfl hw ⟨rfl, _, rfl⟩ dX0_bestCode_82
  · skip
    have n_21 : ¬ 5 ≤ v := fun h => c_21 ((nI_leI (a := 5) (b := v) (by omega) (by omega)).mpr h)
    refine lv_aload_n hx hb dX0_bestCode_24 rfl (lv_at hl 0 rfl) ?_
    refine n_get (k := 64) hx hb hts in_X0 hown hw (xp 64) rfl 3 (by decide) q418 rfl dX0_bestCode_25 ?_
    refine n_getN (k := 16 * 0 + 0) hx hb hts in_X4 hown hw (xv0 0) rfl 2 (by decide) q231 rfl dX0_bestCode_28 ?_
    refine lv_iconst (v := 2) hx hb dX0_bestCode_31 (by decide) ?_
    refine lv_iload hx hb dX0_bestCode_32 (lv_at hl 5 rfl) ?_
    refine l0_iast hx hb hw 5 (by decide) (q := 2) rfl (by decide) (pos := 4 + 2) rfl dX0_bestCode_34 (fun H locs hw => ?_)
    have hw := n_E (show _ = xE G ad (xV (upd w 6 (nI v)) w1 g w3) X sp sh by rw [show (4 + 2 : Nat) = 6 from rfl, try_up]) hw
    refine lv_aload_n hx hb dX0_bestCode_35 rfl (lv_at hl 0 rfl) ?_
    refine lv_iload_n hx hb dX0_bestCode_36 rfl (lv_at hl 1 rfl) ?_
    refine n_calli (x_runVW ⟨hx, hb, hml, hown, hts⟩ (tL_metresBehind l G ad _ _ _ _ _ _ _ q B (hI.code (by omega)) (by omega)) (x_cwVW 1 hts (lw_VW q794 q796 qs12 q90 q797) rfl rfl hdS_X0_metresBehind ⟨by decide, by decide⟩) (hw.preV (k := 64) (xp 64) rfl) rfl rfl hl.1 rfl (lv_room (by simp [Value.category])) dX0_bestCode_37 ⟨Nat.zero_le _, Nat.zero_le _⟩) hw (fun r_37 u_37 H locs e_37 hw => ?_)
    obtain ⟨rfl, rfl⟩ := e_37
    have hw : nS G (xE G ad (xV _ _ _ _) _ _ _) s H locs := hw
    refine lv_istore hx hb dX0_bestCode_40 hl (by decide) rfl (fun ls hl => ?_)
    refine lv_iload hx hb dX0_bestCode_42 (lv_at hl 0 rfl) ?_
    refine lv_iload hx hb dX0_bestCode_44 (lv_at hl 5 rfl) ?_
    refine lv_icmp_le (tgt := 54) hx hb dX0_bestCode_46 (by decide) (fun c_46 => ?_) (fun c_46 => ?_)
    · skip
      refine lv_iload_n hx hb dX0_bestCode_54 rfl (lv_at hl 4 rfl) ?_
      refine lv_istore_n hx hb dX0_bestCode_55 rfl hl (by decide) rfl (fun ls hl => ?_)
      refine lv_iload hx hb dX0_bestCode_56 (lv_at hl 5 rfl) ?_
      refine lv_iload hx hb dX0_bestCode_58 (lv_at hl 1 rfl) ?_
      refine va_mmax hx hb (hml.trans hl.1.symm) hown (hts _ q826) (hts _ q625) (hts _ q108) (hts _ q626) (by decide) (by simp [Value.category]) (Nat.zero_le _) (Nat.zero_le _) dX0_bestCode_60 ?_
      refine lv_istore hx hb dX0_bestCode_63 hl (by decide) rfl (fun ls hl => ?_)
      refine lv_iinc (v := nI (v + 1)) hx hb dX0_bestCode_65 hl (k := 6) rfl (nI_1 _) (by decide) rfl (fun ls hl => ?_)
      refine lv_goto (tgt := 18) hx hb dX0_bestCode_68 (by decide) ?_
      exact ih_18 (v + 1, _) _ _ _ (by first | omega | (dsimp only; omega)) ⟨by dsimp only; omega, hw, by rw [bestF]; first | rw [if_pos c_46]; exact (lv_sub hl [4, 5, 6, 2, 1, 0] rfl)⟩
    · skip
      refine lv_iload hx hb dX0_bestCode_49 (lv_at hl 6 rfl) ?_
      refine lv_goto (tgt := 55) hx hb dX0_bestCode_51 (by decide) ?_
      refine lv_istore_n hx hb dX0_bestCode_55 rfl hl (by decide) rfl (fun ls hl => ?_)
      refine lv_iload hx hb dX0_bestCode_56 (lv_at hl 5 rfl) ?_
      refine lv_iload hx hb dX0_bestCode_58 (lv_at hl 1 rfl) ?_
      refine va_mmax hx hb (hml.trans hl.1.symm) hown (hts _ q826) (hts _ q625) (hts _ q108) (hts _ q626) (by decide) (by simp [Value.category]) (Nat.zero_le _) (Nat.zero_le _) dX0_bestCode_60 ?_
      refine lv_istore hx hb dX0_bestCode_63 hl (by decide) rfl (fun ls hl => ?_)
      refine lv_iinc (v := nI (v + 1)) hx hb dX0_bestCode_65 hl (k := 6) rfl (nI_1 _) (by decide) rfl (fun ls hl => ?_)
      refine lv_goto (tgt := 18) hx hb dX0_bestCode_68 (by decide) ?_
      exact ih_18 (v + 1, _) _ _ _ (by first | omega | (dsimp only; omega)) ⟨by dsimp only; omega, hw, by rw [bestF]; first | rw [if_neg c_46]; exact (lv_sub hl [4, 5, 6, 2, 1, 0] rfl)⟩
