/-! the class: what to call, who where, second part -/
set_option maxRecDepth 100000
def oneF (w : rw84) (k x : Int32) : Int32 := if inF k 0 (w 1 - 1) = 0 then 0 else if inF x 0 40 = 0 then 0 else 1
theorem oneF_b (w : rw84) (k x : Int32) : narrow .boolean (.int (oneF w k x)) = .int (oneF w k x) := by
  unfold oneF
  split
  · rfl
  · split <;> rfl
theorem one_if {α : Type} {w : rw84} {k x : Int32} (a b : α) : (if inF k 0 (w 1 - 1) = 0 then a else if inF x 0 40 = 0 then a else b) = if oneF w k x = 0 then a else b := by
  unfold oneF
  by_cases h1 : inF k 0 (w 1 - 1) = 0
  · rw [if_pos h1, if_pos h1, if_pos rfl]
  · rw [if_neg h1, if_neg h1]
    by_cases h2 : inF x 0 40 = 0
    · rw [if_pos h2, if_pos h2, if_pos rfl]
    · rw [if_neg h2, if_neg h2, if_neg (by decide)]
theorem one_yes {w : rw84} {k x : Int32} (h : ¬ oneF w k x = 0) : ¬ inF k 0 (w 1 - 1) = 0 ∧ ¬ inF x 0 40 = 0 := by
  unfold oneF at h
  by_cases h1 : inF k 0 (w 1 - 1) = 0
  · rw [if_pos h1] at h; exact absurd rfl h
  · rw [if_neg h1] at h
    by_cases h2 : inF x 0 40 = 0
    · rw [if_pos h2] at h; exact absurd rfl h
    · exact ⟨h1, h2⟩
theorem standFor_one (w : rw84) (k x : Int32) : standForO w k x = if oneF w k x = 0 then bad w else ((bestF (fun v => thrN (chF w v k) (ix x) 3) 7).1, w, none) := one_if _ _
theorem kindFor_one (w : rw84) (k x : Int32) : kindForO w k x = if oneF w k x = 0 then bad w else ((bestF (fun v => thrN (upd w (44 + 5 * ix k + 0) (nI v)) (ix x) (44 + 5 * ix k + 3)) 7).1, w, none) := one_if _ _
theorem tallFor_one (w : rw84) (k y x : Int32) : tallForO w k y x = if oneF w k x = 0 then bad w else if inF y 0 9999 = 0 then bad w else noneO w (tlF (fun t => thrN (upd w (44 + 5 * ix k + 1) (nI t)) (ix x) (44 + 5 * ix k + 3)) y 100) := by
  rw [← one_if]
  unfold tallForO
  by_cases h : inF y 0 9999 = 0
  · rw [if_pos h, if_pos h]
    split
    · rfl
    · split <;> rfl
  · rw [if_neg h, if_neg h]
theorem tl_go {g : Nat → Int32} {v : Int32} {t : Nat} (ht : t < 100) (c : g t < v) : tlF g v (100 - t) = tlF g v (100 - (t + 1)) := by
  rw [show 100 - t = 100 - (t + 1) + 1 by omega, tlF, show 99 - (100 - (t + 1)) = t by omega, if_pos c]
theorem tl_hit {g : Nat → Int32} {v : Int32} {t : Nat} (ht : t < 100) (c : ¬ g t < v) : tlF g v (100 - t) = nI t := by
  rw [show 100 - t = 100 - (t + 1) + 1 by omega, tlF, show 99 - (100 - (t + 1)) = t by omega, if_neg c]
theorem tl_or (g : Nat → Int32) (v : Int32) : ∀ n, n ≤ 100 → tlF g v n = -1 ∨ (¬ tlF g v n = -1 ∧ 0 ≤ tlF g v n)
  | 0, _ => Or.inl rfl
  | n + 1, h => by
    rw [tlF]
    split
    · exact tl_or g v n (by omega)
    · refine Or.inr ⟨fun h => ?_, nI_pos' (by omega)⟩
      have := congrArg Int32.toInt h
      rw [nI_toInt (by omega)] at this
      have h2 : (-1 : Int32).toInt = -1 := by decide
      omega
theorem none_y {r : Int32} (hr : r = -1 ∨ (¬ r = -1 ∧ 0 ≤ r)) (w w1 g w3 : rw84) (X : mM) (sp : xSp) (sh : xSh) : (if r = -1 then -1000004 else r) = (noneO w r).1 ∧ ∃ g', (w, w1, g, w3, (if r = -1 then xfnd (some 3) X else X), sp, sh) = ((noneO w r).2.1, w1, g', w3, xfnd (noneO w r).2.2 X, sp, sh) := by
  rcases hr with h | ⟨h, h0⟩
  · rw [if_pos h, if_pos h, noneO, if_neg (by rw [h]; decide)]
    exact ⟨rfl, g, rfl⟩
  · rw [if_neg h, if_neg h, noneO, if_pos h0]
    exact ⟨rfl, g, rfl⟩
theorem cv_nat (w : rw84) : ∀ i, i ≤ 64 → ∃ k, k ≤ 63 ∧ cvF w i = nI k
  | 0, _ => ⟨63, by omega, rfl⟩
  | i + 1, h => by
    rw [cvF]
    split
    · split
      · exact cv_nat w i (by omega)
      · exact ⟨63 - i, by omega, rfl⟩
    · exact cv_nat w i (by omega)
theorem cv_bc (w : rw84) {i : Nat} (h : i ≤ 64) : bcF (cvF w i) = bitsF (cvF w i) := by
  obtain ⟨k, hk, e⟩ := cv_nat w i h
  rw [e]
  exact bc_nat k (by omega)
theorem hdS_X0_codeFor : yX0_codeFor.cls = "LineCalls" ∧ yX0_codeFor.cls ≠ "java/lang/invoke/MethodHandle" ∧ yX0_codeFor.cls ≠ "java/lang/invoke/VarHandle" ∧ (parseMethodDescriptor yX0_codeFor.desc).map (fun d => d.parameters.length) = some 1 := by decide +kernel
set_option maxHeartbeats 4000000 in
theorem tL_codeFor (l : Launch) (G : nG) (ad : Nat → Nat) (w w1 w2 w3 : rw84) (X : mM) (sp : xSp) (sh : xSh) (x : Int32) (B : Nat) (hI : Inv B w) (hB : B ≤ 100000) : Met l yX0_codeFor (ws_ yX0_codeFor cX0_codeFor 2 (some .int)) { frames := 11, cells := 0, slots := 0, locals := 238 } (va_Pc [.ref (ad 64), .int x] (nC G (xE G ad (xV w w1 w2 w3) X sp sh))) (va_Qi (fun (r : Int32) (u : xSt) => r = (codeForO w x).1 ∧ ∃ g, u = ((codeForO w x).2.1, w1, g, w3, xfnd (codeForO w x).2.2 X, sp, sh)) (fun u => nC G (xE G ad (xV u.1 u.2.1 u.2.2.1 u.2.2.2.1) u.2.2.2.2.1 u.2.2.2.2.2.1 u.2.2.2.2.2.2)) (nA G)) 0 0 (nA G) := by
  refine n_head (by decide) (Nat.le_of_ble_eq_true rfl) ?_
  intro p e s m below meth c ls hx hb hr hlk hml hown hts hB0 hl
  have hown : s.vm.findClass "LineCalls" = some m.cls := hown
  have hw := nS.start hB0
  have hl : lv_has ls 2 [(0, .ref (ad 64)), (1, .int x)] := hl
  obtain ⟨n, hn, en⟩ := hI.num
  refine lv_iload_n hx hb dX0_codeFor_0 rfl (lv_at hl 1 rfl) ?_
  refine lv_iconst (v := 0) hx hb dX0_codeFor_1 (by decide) ?_
  refine lv_bipush (v := 40) hx hb dX0_codeFor_2 (by decide) ?_
  refine n_callp (va_runS ⟨hx, hb, hml, hown, hts⟩ (tX_in l _ _ _) (va_cwS 3 hts (lw_S q459 q460 q90 q461) rfl rfl rfl (hdS_X0_in).2 ⟨by decide, by decide⟩) pu_pre rfl rfl hl.1 rfl (lv_room (by simp [Value.category])) dX0_codeFor_4 ⟨Nat.zero_le _, Nat.zero_le _⟩) (fun r_4 e_4 => ?_)
  subst e_4
  refine lv_if_eq (tgt := 18) hx hb dX0_codeFor_7 (by decide) (fun c_7 => ?_) (fun c_7 => ?_)
  · skip
    refine lv_aload_n hx hb dX0_codeFor_18 rfl (lv_at hl 0 rfl) ?_
    refine lv_iconst (v := 0) hx hb dX0_codeFor_19 (by decide) ?_
    refine n_calli (va_runV ⟨hx, hb, hml, hown, hts⟩ (tL_finding l G ad _ _ _ _ _ _ _ (0) (by decide)) (cwV 1 hts (lw_V q466 q468 qs3 q90 q469) rfl rfl rfl hdS_X0_finding ⟨by decide, by decide⟩) (hw.preV (k := 64) (xp 64) rfl) rfl rfl hl.1 rfl (lv_room (by simp [Value.category])) dX0_codeFor_20 ⟨Nat.zero_le _, Nat.zero_le _⟩) hw (fun r_20 u_20 H locs e_20 hw => ?_)
    obtain ⟨rfl, rfl⟩ := e_20
    have hw : nS G (xE G ad (xV _ _ _ _) _ _ _) s H locs := hw
    exact l_iret hx hb hr hlk rfl hw (by rw [codeForO, if_pos c_7]; first | (rw [iq]; exact ⟨rfl, _, rfl⟩) | exact ⟨rfl, _, rfl⟩) dX0_codeFor_23
  · skip
    obtain ⟨q, hq, rfl⟩ := in_nat (N := 40) rfl (by decide) c_7
    have iq : ix (nI q) = q := nI_clamp (by omega)
    refine lv_aload_n hx hb dX0_codeFor_10 rfl (lv_at hl 0 rfl) ?_
    refine lv_iload_n hx hb dX0_codeFor_11 rfl (lv_at hl 1 rfl) ?_
    refine n_calli (va_runV ⟨hx, hb, hml, hown, hts⟩ (tL_bestCode l G ad _ _ _ _ _ _ _ q B hI (by omega)) (cwV 1 hts (lw_V q822 q824 qs16 q90 q825) rfl rfl rfl hdS_X0_bestCode ⟨by decide, by decide⟩) (hw.preV (k := 64) (xp 64) rfl) rfl rfl hl.1 rfl (lv_room (by simp [Value.category])) dX0_codeFor_12 ⟨Nat.zero_le _, Nat.zero_le _⟩) hw (fun r_12 u_12 H locs e_12 hw => ?_)
    obtain ⟨rfl, g_12, rfl⟩ := e_12
    have hw : nS G (xE G ad (xV _ _ _ _) _ _ _) s H locs := hw
    refine lv_goto (tgt := 23) hx hb dX0_codeFor_15 (by decide) ?_
    exact l_iret hx hb hr hlk rfl hw (by rw [codeForO, if_neg c_7]; first | (rw [iq]; exact ⟨rfl, _, rfl⟩) | exact ⟨rfl, _, rfl⟩) dX0_codeFor_23
theorem hdS_X0_bestCall : yX0_bestCall.cls = "LineCalls" ∧ yX0_bestCall.cls ≠ "java/lang/invoke/MethodHandle" ∧ yX0_bestCall.cls ≠ "java/lang/invoke/VarHandle" ∧ (parseMethodDescriptor yX0_bestCall.desc).map (fun d => d.parameters.length) = some 1 := by decide +kernel
set_option maxHeartbeats 4000000 in
theorem tL_bestCall (l : Launch) (G : nG) (ad : Nat → Nat) (w w1 w2 w3 : rw84) (X : mM) (sp : xSp) (sh : xSh) (q B mm : Nat) (hI : Inv B w) (hB : B + q < 2 ^ 30) (hm : mm ≤ B) (em : w 0 = nI mm) : Met l yX0_bestCall (ws_ yX0_bestCall cX0_bestCall 8 (some .int)) { frames := 10, cells := 0, slots := 0, locals := 212 } (va_Pc [.ref (ad 64), .int (nI q)] (nC G (xE G ad (xV w w1 w2 w3) X sp sh))) (va_Qi (fun (r : Int32) (u : xSt) => r = (bestF (fun v => thrN (upd w (38 + mm % 6) (nI v)) q 3) 1000).1 ∧ ∃ g, u = (w, w1, g, w3, X, sp, sh)) (fun u => nC G (xE G ad (xV u.1 u.2.1 u.2.2.1 u.2.2.2.1) u.2.2.2.2.1 u.2.2.2.2.2.1 u.2.2.2.2.2.2)) (nA G)) 0 0 (nA G) := by
  refine n_head (by decide) (Nat.le_of_ble_eq_true rfl) ?_
  intro p e s m below meth c ls hx hb hr hlk hml hown hts hB0 hl
  have hown : s.vm.findClass "LineCalls" = some m.cls := hown
  have hw := nS.start hB0
  have hl : lv_has ls 8 [(0, .ref (ad 64)), (1, .int (nI q))] := hl
  refine lv_aload_n hx hb dX0_bestCall_0 rfl (lv_at hl 0 rfl) ?_
  refine n_get (k := 64) hx hb hts in_X0 hown hw (xp 64) rfl 3 (by decide) q418 rfl dX0_bestCall_1 ?_
  refine n_getN (k := 16 * 0 + 0) hx hb hts in_X4 hown hw (xv0 0) rfl 7 (by decide) q246 rfl dX0_bestCall_4 ?_
  refine lv_bipush (v := 6) hx hb dX0_bestCall_7 (by decide) ?_
  refine lv_irem hx hb dX0_bestCall_9 (by decide) ?_
  refine n_topE (next_eq (by omega) em) ?_
  refine lv_istore_n hx hb dX0_bestCall_10 rfl hl (by decide) rfl (fun ls hl => ?_)
  refine lv_aload_n hx hb dX0_bestCall_11 rfl (lv_at hl 1 rfl) ?_
  refine n_get (k := 64) hx hb hts in_X0 hown hw (xp 64) rfl 3 (by decide) q418 rfl dX0_bestCall_12 ?_
  refine n_getN (k := 16 * 0 + 0) hx hb hts in_X4 hown hw (xv0 0) rfl 3 (by decide) q234 rfl dX0_bestCall_15 ?_
  refine lv_iload_n hx hb dX0_bestCall_18 rfl (lv_at hl 0 rfl) ?_
  refine n_iald (k := 16 * 0 + 6) (j := mm % 6) hx hb hw (xv0 6) rfl (by omega) (by decide) dX0_bestCall_19 ?_
  refine lv_istore_n hx hb dX0_bestCall_20 rfl hl (by decide) rfl (fun ls hl => ?_)
  refine lv_iconst (v := 0) hx hb dX0_bestCall_21 (by decide) ?_
  refine lv_istore hx hb dX0_bestCall_22 hl (by decide) rfl (fun ls hl => ?_)
  refine lv_iconst (v := (-1)) hx hb dX0_bestCall_24 (by decide) ?_
  refine lv_istore hx hb dX0_bestCall_25 hl (by decide) rfl (fun ls hl => ?_)
  refine lv_iconst (v := 0) hx hb dX0_bestCall_27 (by decide) ?_
  refine lv_istore hx hb dX0_bestCall_28 hl (by decide) rfl (fun ls hl => ?_)
  refine n_loop (α := Nat × rw84) (fun x H locs ls => x.1 ≤ 1000 ∧ nS G (xE G ad (xV (tryF w (38 + mm % 6) x.1) w1 x.2 w3) X sp sh) s H locs ∧ lv_has ls 8 [(0, .ref (ad 64)), (1, .int (nI q)), (2, .int (nI (mm % 6))), (3, .int (w (38 + mm % 6))), (4, .int (bestF (fun v => thrN (upd w (38 + mm % 6) (nI v)) q 3) x.1).1), (5, .int (bestF (fun v => thrN (upd w (38 + mm % 6) (nI v)) q 3) x.1).2), (6, .int (nI x.1))]) (fun x => 1000 - x.1) 30 ?_ (0, w2) _ _ _ ⟨Nat.zero_le _, hw, (lv_sub hl [5, 6, 4, 3, 2, 1, 0] rfl)⟩
  clear hl hw
  intro x H locs ls hI ih_30
  obtain ⟨hv, hw, hl⟩ := hI
  obtain ⟨v, g⟩ := x
  dsimp only at hv hw hl
  refine lv_iload hx hb dX0_bestCall_30 (lv_at hl 6 rfl) ?_
  refine lv_sipush (v := 999) hx hb dX0_bestCall_32 (by decide) ?_
  refine lv_icmp_gt (tgt := 87) hx hb dX0_bestCall_35 (by decide) (fun c_35 => ?_) (fun c_35 => ?_)
  · skip
    have n_35 : 999 < v := (nI_ltI (a := 999) (b := v) (by omega) (by omega)).mp c_35
    obtain rfl : v = 1000 := by omega
    refine lv_aload_n hx hb dX0_bestCall_87 rfl (lv_at hl 0 rfl) ?_
    refine n_get (k := 64) hx hb hts in_X0 hown hw (xp 64) rfl 3 (by decide) q418 rfl dX0_bestCall_88 ?_
    refine n_getN (k := 16 * 0 + 0) hx hb hts in_X4 hown hw (xv0 0) rfl 3 (by decide) q234 rfl dX0_bestCall_91 ?_
    refine lv_iload_n hx hb dX0_bestCall_94 rfl (lv_at hl 2 rfl) ?_
    refine lv_iload_n hx hb dX0_bestCall_95 rfl (lv_at hl 3 rfl) ?_
    refine l0_iast hx hb hw 6 (by decide) (q := mm % 6) rfl (show _ < 6 by omega) (pos := 38 + (mm % 6)) rfl dX0_bestCall_96 (fun H locs hw => ?_)
    have hw := n_E (show _ = xE G ad (xV w w1 g w3) X sp sh by rw [try_back]) hw
    refine lv_iload hx hb dX0_bestCall_97 (lv_at hl 4 rfl) ?_
    exact l_iret hx hb hr hlk rfl hw ⟨rfl, _, rfl⟩ dX0_bestCall_99
  · skip
    have n_35 : ¬ 999 < v := fun h => c_35 ((nI_ltI (a := 999) (b := v) (by omega) (by omega)).mpr h)
    refine lv_aload_n hx hb dX0_bestCall_38 rfl (lv_at hl 0 rfl) ?_
    refine n_get (k := 64) hx hb hts in_X0 hown hw (xp 64) rfl 3 (by decide) q418 rfl dX0_bestCall_39 ?_
    refine n_getN (k := 16 * 0 + 0) hx hb hts in_X4 hown hw (xv0 0) rfl 3 (by decide) q234 rfl dX0_bestCall_42 ?_
    refine lv_iload_n hx hb dX0_bestCall_45 rfl (lv_at hl 2 rfl) ?_
    refine lv_iload hx hb dX0_bestCall_46 (lv_at hl 6 rfl) ?_
    refine l0_iast hx hb hw 6 (by decide) (q := mm % 6) rfl (show _ < 6 by omega) (pos := 38 + (mm % 6)) rfl dX0_bestCall_48 (fun H locs hw => ?_)
    have hw := n_E (show _ = xE G ad (xV (upd w (38 + mm % 6) (nI v)) w1 g w3) X sp sh by rw [try_up]) hw
    refine lv_aload_n hx hb dX0_bestCall_49 rfl (lv_at hl 0 rfl) ?_
    refine lv_iload_n hx hb dX0_bestCall_50 rfl (lv_at hl 1 rfl) ?_
    refine n_calli (x_runVW ⟨hx, hb, hml, hown, hts⟩ (tL_metresBehind l G ad _ _ _ _ _ _ _ q B (hI.called (i := mm % 6) (Nat.mod_lt _ (by decide)) (by omega)) (by omega)) (x_cwVW 1 hts (lw_VW q794 q796 qs12 q90 q797) rfl rfl hdS_X0_metresBehind ⟨by decide, by decide⟩) (hw.preV (k := 64) (xp 64) rfl) rfl rfl hl.1 rfl (lv_room (by simp [Value.category])) dX0_bestCall_51 ⟨Nat.zero_le _, Nat.zero_le _⟩) hw (fun r_51 u_51 H locs e_51 hw => ?_)
    obtain ⟨rfl, rfl⟩ := e_51
    have hw : nS G (xE G ad (xV _ _ _ _) _ _ _) s H locs := hw
    refine lv_istore hx hb dX0_bestCall_54 hl (by decide) rfl (fun ls hl => ?_)
    refine lv_iload hx hb dX0_bestCall_56 (lv_at hl 0 rfl) ?_
    refine lv_iload hx hb dX0_bestCall_58 (lv_at hl 6 rfl) ?_
    refine lv_icmp_le (tgt := 68) hx hb dX0_bestCall_60 (by decide) (fun c_60 => ?_) (fun c_60 => ?_)
    · skip
      refine lv_iload hx hb dX0_bestCall_68 (lv_at hl 5 rfl) ?_
      refine lv_istore hx hb dX0_bestCall_70 hl (by decide) rfl (fun ls hl => ?_)
      refine lv_iload hx hb dX0_bestCall_72 (lv_at hl 6 rfl) ?_
      refine lv_iload hx hb dX0_bestCall_74 (lv_at hl 1 rfl) ?_
      refine va_mmax hx hb (hml.trans hl.1.symm) hown (hts _ q826) (hts _ q625) (hts _ q108) (hts _ q626) (by decide) (by simp [Value.category]) (Nat.zero_le _) (Nat.zero_le _) dX0_bestCall_76 ?_
      refine lv_istore hx hb dX0_bestCall_79 hl (by decide) rfl (fun ls hl => ?_)
      refine lv_iinc (v := nI (v + 1)) hx hb dX0_bestCall_81 hl (k := 7) rfl (nI_1 _) (by decide) rfl (fun ls hl => ?_)
      refine lv_goto (tgt := 30) hx hb dX0_bestCall_84 (by decide) ?_
      exact ih_30 (v + 1, _) _ _ _ (by first | omega | (dsimp only; omega)) ⟨by dsimp only; omega, hw, by rw [bestF]; first | rw [if_pos c_60]; exact (lv_sub hl [4, 5, 6, 7, 2, 1, 0] rfl)⟩
    · skip
      refine lv_iload hx hb dX0_bestCall_63 (lv_at hl 7 rfl) ?_
      refine lv_goto (tgt := 70) hx hb dX0_bestCall_65 (by decide) ?_
      refine lv_istore hx hb dX0_bestCall_70 hl (by decide) rfl (fun ls hl => ?_)
      refine lv_iload hx hb dX0_bestCall_72 (lv_at hl 6 rfl) ?_
      refine lv_iload hx hb dX0_bestCall_74 (lv_at hl 1 rfl) ?_
      refine va_mmax hx hb (hml.trans hl.1.symm) hown (hts _ q826) (hts _ q625) (hts _ q108) (hts _ q626) (by decide) (by simp [Value.category]) (Nat.zero_le _) (Nat.zero_le _) dX0_bestCall_76 ?_
      refine lv_istore hx hb dX0_bestCall_79 hl (by decide) rfl (fun ls hl => ?_)
      refine lv_iinc (v := nI (v + 1)) hx hb dX0_bestCall_81 hl (k := 7) rfl (nI_1 _) (by decide) rfl (fun ls hl => ?_)
      refine lv_goto (tgt := 30) hx hb dX0_bestCall_84 (by decide) ?_
      exact ih_30 (v + 1, _) _ _ _ (by first | omega | (dsimp only; omega)) ⟨by dsimp only; omega, hw, by rw [bestF]; first | rw [if_neg c_60]; exact (lv_sub hl [4, 5, 6, 7, 2, 1, 0] rfl)⟩
theorem hdS_X0_callFor : yX0_callFor.cls = "LineCalls" ∧ yX0_callFor.cls ≠ "java/lang/invoke/MethodHandle" ∧ yX0_callFor.cls ≠ "java/lang/invoke/VarHandle" ∧ (parseMethodDescriptor yX0_callFor.desc).map (fun d => d.parameters.length) = some 1 := by decide +kernel
set_option maxHeartbeats 4000000 in
theorem tL_callFor (l : Launch) (G : nG) (ad : Nat → Nat) (w w1 w2 w3 : rw84) (X : mM) (sp : xSp) (sh : xSh) (x : Int32) (B : Nat) (hI : Inv B w) (hB : B ≤ 100000) : Met l yX0_callFor (ws_ yX0_callFor cX0_callFor 2 (some .int)) { frames := 11, cells := 0, slots := 0, locals := 239 } (va_Pc [.ref (ad 64), .int x] (nC G (xE G ad (xV w w1 w2 w3) X sp sh))) (va_Qi (fun (r : Int32) (u : xSt) => r = (callForO w x).1 ∧ ∃ g, u = ((callForO w x).2.1, w1, g, w3, xfnd (callForO w x).2.2 X, sp, sh)) (fun u => nC G (xE G ad (xV u.1 u.2.1 u.2.2.1 u.2.2.2.1) u.2.2.2.2.1 u.2.2.2.2.2.1 u.2.2.2.2.2.2)) (nA G)) 0 0 (nA G) := by
  refine n_head (by decide) (Nat.le_of_ble_eq_true rfl) ?_
  intro p e s m below meth c ls hx hb hr hlk hml hown hts hB0 hl
  have hown : s.vm.findClass "LineCalls" = some m.cls := hown
  have hw := nS.start hB0
  have hl : lv_has ls 2 [(0, .ref (ad 64)), (1, .int x)] := hl
  obtain ⟨n, hn, en⟩ := hI.num
  obtain ⟨m, hm, em⟩ := hI.thr
  have im : ix (rm (w 0) 6) = m % 6 := by rw [next_eq (by omega) em]; exact nI_clamp (by omega)
  refine lv_iload_n hx hb dX0_callFor_0 rfl (lv_at hl 1 rfl) ?_
  refine lv_iconst (v := 0) hx hb dX0_callFor_1 (by decide) ?_
  refine lv_bipush (v := 10) hx hb dX0_callFor_2 (by decide) ?_
  refine n_callp (va_runS ⟨hx, hb, hml, hown, hts⟩ (tX_in l _ _ _) (va_cwS 3 hts (lw_S q459 q460 q90 q461) rfl rfl rfl (hdS_X0_in).2 ⟨by decide, by decide⟩) pu_pre rfl rfl hl.1 rfl (lv_room (by simp [Value.category])) dX0_callFor_4 ⟨Nat.zero_le _, Nat.zero_le _⟩) (fun r_4 e_4 => ?_)
  subst e_4
  refine lv_if_eq (tgt := 18) hx hb dX0_callFor_7 (by decide) (fun c_7 => ?_) (fun c_7 => ?_)
  · skip
    refine lv_aload_n hx hb dX0_callFor_18 rfl (lv_at hl 0 rfl) ?_
    refine lv_iconst (v := 0) hx hb dX0_callFor_19 (by decide) ?_
    refine n_calli (va_runV ⟨hx, hb, hml, hown, hts⟩ (tL_finding l G ad _ _ _ _ _ _ _ (0) (by decide)) (cwV 1 hts (lw_V q466 q468 qs3 q90 q469) rfl rfl rfl hdS_X0_finding ⟨by decide, by decide⟩) (hw.preV (k := 64) (xp 64) rfl) rfl rfl hl.1 rfl (lv_room (by simp [Value.category])) dX0_callFor_20 ⟨Nat.zero_le _, Nat.zero_le _⟩) hw (fun r_20 u_20 H locs e_20 hw => ?_)
    obtain ⟨rfl, rfl⟩ := e_20
    have hw : nS G (xE G ad (xV _ _ _ _) _ _ _) s H locs := hw
    exact l_iret hx hb hr hlk rfl hw (by rw [callForO, if_pos c_7]; first | (rw [iq, im]; exact ⟨rfl, _, rfl⟩) | exact ⟨rfl, _, rfl⟩) dX0_callFor_23
  · skip
    obtain ⟨q, hq, rfl⟩ := in_nat (N := 10) rfl (by decide) c_7
    have iq : ix (nI q) = q := nI_clamp (by omega)
    refine lv_aload_n hx hb dX0_callFor_10 rfl (lv_at hl 0 rfl) ?_
    refine lv_iload_n hx hb dX0_callFor_11 rfl (lv_at hl 1 rfl) ?_
    refine n_calli (va_runV ⟨hx, hb, hml, hown, hts⟩ (tL_bestCall l G ad _ _ _ _ _ _ _ q B m hI (by omega) hm em) (cwV 1 hts (lw_V q831 q833 qs17 q90 q834) rfl rfl rfl hdS_X0_bestCall ⟨by decide, by decide⟩) (hw.preV (k := 64) (xp 64) rfl) rfl rfl hl.1 rfl (lv_room (by simp [Value.category])) dX0_callFor_12 ⟨Nat.zero_le _, Nat.zero_le _⟩) hw (fun r_12 u_12 H locs e_12 hw => ?_)
    obtain ⟨rfl, g_12, rfl⟩ := e_12
    have hw : nS G (xE G ad (xV _ _ _ _) _ _ _) s H locs := hw
    refine lv_goto (tgt := 23) hx hb dX0_callFor_15 (by decide) ?_
    exact l_iret hx hb hr hlk rfl hw (by rw [callForO, if_neg c_7]; first | (rw [iq, im]; exact ⟨rfl, _, rfl⟩) | exact ⟨rfl, _, rfl⟩) dX0_callFor_23
theorem hdS_X0_bestPlace : yX0_bestPlace.cls = "LineCalls" ∧ yX0_bestPlace.cls ≠ "java/lang/invoke/MethodHandle" ∧ yX0_bestPlace.cls ≠ "java/lang/invoke/VarHandle" ∧ (parseMethodDescriptor yX0_bestPlace.desc).map (fun d => d.parameters.length) = some 2 := by decide +kernel
set_option maxHeartbeats 4000000 in
theorem tL_bestPlace (l : Launch) (G : nG) (ad : Nat → Nat) (w w1 w2 w3 : rw84) (X : mM) (sp : xSp) (sh : xSh) (j q B n : Nat) (hI : Inv B w) (hB : B + q < 2 ^ 30) (en : w 1 = nI n) (hn : n ≤ 8) (hjn : j < n) : Met l yX0_bestPlace (ws_ yX0_bestPlace cX0_bestPlace 7 (some .int)) { frames := 10, cells := 0, slots := 0, locals := 214 } (va_Pc [.ref (ad 64), .int (nI j), .int (nI q)] (nC G (xE G ad (xV w w1 w2 w3) X sp sh))) (va_Qi (fun (r : Int32) (u : xSt) => r = (bestF (fun v => thrN (chF w v (nI j)) q 3) 7).1 ∧ ∃ g, u = (w, w1, g, w3, X, sp, sh)) (fun u => nC G (xE G ad (xV u.1 u.2.1 u.2.2.1 u.2.2.2.1) u.2.2.2.2.1 u.2.2.2.2.2.1 u.2.2.2.2.2.2)) (nA G)) 0 0 (nA G) := by
  refine n_head (by decide) (Nat.le_of_ble_eq_true rfl) ?_
  intro p e s m below meth c ls hx hb hr hlk hml hown hts hB0 hl
  have hown : s.vm.findClass "LineCalls" = some m.cls := hown
  have hw := nS.start hB0
  have hl : lv_has ls 7 [(0, .ref (ad 64)), (1, .int (nI j)), (2, .int (nI q))] := hl
  refine lv_iconst (v := 0) hx hb dX0_bestPlace_0 (by decide) ?_
  refine lv_istore_n hx hb dX0_bestPlace_1 rfl hl (by decide) rfl (fun ls hl => ?_)
  refine lv_iconst (v := (-1)) hx hb dX0_bestPlace_2 (by decide) ?_
  refine lv_istore hx hb dX0_bestPlace_3 hl (by decide) rfl (fun ls hl => ?_)
  refine lv_iconst (v := 0) hx hb dX0_bestPlace_5 (by decide) ?_
  refine lv_istore hx hb dX0_bestPlace_6 hl (by decide) rfl (fun ls hl => ?_)
  refine n_loop (α := Nat × rw84) (fun x H locs ls => x.1 ≤ 7 ∧ nS G (xE G ad (xV w w1 x.2 w3) X sp sh) s H locs ∧ lv_has ls 7 [(0, .ref (ad 64)), (1, .int (nI j)), (2, .int (nI q)), (3, .int (bestF (fun v => thrN (chF w v (nI j)) q 3) x.1).1), (4, .int (bestF (fun v => thrN (chF w v (nI j)) q 3) x.1).2), (5, .int (nI x.1))]) (fun x => 7 - x.1) 8 ?_ (0, w2) _ _ _ ⟨Nat.zero_le _, hw, (lv_sub hl [3, 4, 5, 2, 1, 0] rfl)⟩
  clear hl hw
  intro x H locs ls hI ih_8
  obtain ⟨hv, hw, hl⟩ := hI
  obtain ⟨v, g⟩ := x
  dsimp only at hv hw hl
  refine lv_iload hx hb dX0_bestPlace_8 (lv_at hl 5 rfl) ?_
  refine lv_bipush (v := 7) hx hb dX0_bestPlace_10 (by decide) ?_
  refine lv_icmp_ge (tgt := 54) hx hb dX0_bestPlace_12 (by decide) (fun c_12 => ?_) (fun c_12 => ?_)
  · skip
    have n_12 : 7 ≤ v := (nI_leI (a := 7) (b := v) (by omega) (by omega)).mp c_12
    obtain rfl : v = 7 := by omega
    refine lv_iload_n hx hb dX0_bestPlace_54 rfl (lv_at hl 3 rfl) ?_
    exact l_iret hx hb hr hlk rfl hw ⟨rfl, _, rfl⟩ dX0_bestPlace_55
  · skip
    have n_12 : ¬ 7 ≤ v := fun h => c_12 ((nI_leI (a := 7) (b := v) (by omega) (by omega)).mpr h)
    refine lv_aload_n hx hb dX0_bestPlace_15 rfl (lv_at hl 0 rfl) ?_
    refine lv_iload_n hx hb dX0_bestPlace_16 rfl (lv_at hl 1 rfl) ?_
    refine lv_iload hx hb dX0_bestPlace_17 (lv_at hl 5 rfl) ?_
    refine lv_iload_n hx hb dX0_bestPlace_19 rfl (lv_at hl 2 rfl) ?_
    refine n_calli (x_runVW ⟨hx, hb, hml, hown, hts⟩ (tL_metresFrom l G ad _ _ _ _ _ _ _ j v q B (by omega) (hI.ch (by omega) (Or.inr ⟨j, n, en, hn, hjn, rfl⟩)) (by omega)) (x_cwVW 3 hts (lw_VW q847 q849 qs20 q90 q850) rfl rfl hdS_X0_metresFrom ⟨by decide, by decide⟩) (hw.preV (k := 64) (xp 64) rfl) rfl rfl hl.1 rfl (lv_room (by simp [Value.category])) dX0_bestPlace_20 ⟨Nat.zero_le _, Nat.zero_le _⟩) hw (fun r_20 u_20 H locs e_20 hw => ?_)
    obtain ⟨rfl, rfl⟩ := e_20
    have hw : nS G (xE G ad (xV _ _ _ _) _ _ _) s H locs := hw
    refine lv_istore hx hb dX0_bestPlace_23 hl (by decide) rfl (fun ls hl => ?_)
    refine lv_iload hx hb dX0_bestPlace_25 (lv_at hl 0 rfl) ?_
    refine lv_iload hx hb dX0_bestPlace_27 (lv_at hl 5 rfl) ?_
    refine lv_icmp_le (tgt := 37) hx hb dX0_bestPlace_29 (by decide) (fun c_29 => ?_) (fun c_29 => ?_)
    · skip
      refine lv_iload_n hx hb dX0_bestPlace_37 rfl (lv_at hl 4 rfl) ?_
      refine lv_istore_n hx hb dX0_bestPlace_38 rfl hl (by decide) rfl (fun ls hl => ?_)
      refine lv_iload hx hb dX0_bestPlace_39 (lv_at hl 5 rfl) ?_
      refine lv_iload hx hb dX0_bestPlace_41 (lv_at hl 1 rfl) ?_
      refine va_mmax hx hb (hml.trans hl.1.symm) hown (hts _ q826) (hts _ q625) (hts _ q108) (hts _ q626) (by decide) (by simp [Value.category]) (Nat.zero_le _) (Nat.zero_le _) dX0_bestPlace_43 ?_
      refine lv_istore hx hb dX0_bestPlace_46 hl (by decide) rfl (fun ls hl => ?_)
      refine lv_iinc (v := nI (v + 1)) hx hb dX0_bestPlace_48 hl (k := 6) rfl (nI_1 _) (by decide) rfl (fun ls hl => ?_)
      refine lv_goto (tgt := 8) hx hb dX0_bestPlace_51 (by decide) ?_
      exact ih_8 (v + 1, _) _ _ _ (by first | omega | (dsimp only; omega)) ⟨by dsimp only; omega, hw, by rw [bestF]; first | rw [if_pos c_29]; exact (lv_sub hl [4, 5, 6, 2, 1, 0] rfl)⟩
    · skip
      refine lv_iload hx hb dX0_bestPlace_32 (lv_at hl 6 rfl) ?_
      refine lv_goto (tgt := 38) hx hb dX0_bestPlace_34 (by decide) ?_
      refine lv_istore_n hx hb dX0_bestPlace_38 rfl hl (by decide) rfl (fun ls hl => ?_)
      refine lv_iload hx hb dX0_bestPlace_39 (lv_at hl 5 rfl) ?_
      refine lv_iload hx hb dX0_bestPlace_41 (lv_at hl 1 rfl) ?_
      refine va_mmax hx hb (hml.trans hl.1.symm) hown (hts _ q826) (hts _ q625) (hts _ q108) (hts _ q626) (by decide) (by simp [Value.category]) (Nat.zero_le _) (Nat.zero_le _) dX0_bestPlace_43 ?_
      refine lv_istore hx hb dX0_bestPlace_46 hl (by decide) rfl (fun ls hl => ?_)
      refine lv_iinc (v := nI (v + 1)) hx hb dX0_bestPlace_48 hl (k := 6) rfl (nI_1 _) (by decide) rfl (fun ls hl => ?_)
      refine lv_goto (tgt := 8) hx hb dX0_bestPlace_51 (by decide) ?_
      exact ih_8 (v + 1, _) _ _ _ (by first | omega | (dsimp only; omega)) ⟨by dsimp only; omega, hw, by rw [bestF]; first | rw [if_neg c_29]; exact (lv_sub hl [4, 5, 6, 2, 1, 0] rfl)⟩
theorem hdS_X0_areOne : yX0_areOne.cls = "LineCalls" ∧ yX0_areOne.cls ≠ "java/lang/invoke/MethodHandle" ∧ yX0_areOne.cls ≠ "java/lang/invoke/VarHandle" ∧ (parseMethodDescriptor yX0_areOne.desc).map (fun d => d.parameters.length) = some 2 := by decide +kernel
set_option maxHeartbeats 4000000 in
theorem tL_areOne (l : Launch) (G : nG) (ad : Nat → Nat) (w w1 w2 w3 : rw84) (X : mM) (sp : xSp) (sh : xSh) (k x : Int32) : Met l yX0_areOne (ws_ yX0_areOne cX0_areOne 3 (some .boolean)) { frames := 2, cells := 0, slots := 0, locals := 43 } (va_Pc [.ref (ad 64), .int k, .int x] (nC G (xE G ad (xV w w1 w2 w3) X sp sh))) (vp_Si (fun r => r = oneF w k x)) 0 0 (fun _ => False) := by
  refine n_head (by decide) (Nat.le_of_ble_eq_true rfl) ?_
  intro p e s m below meth c ls hx hb hr hlk hml hown hts hB0 hl
  have hown : s.vm.findClass "LineCalls" = some m.cls := hown
  have hw := nS.start hB0
  have hl : lv_has ls 3 [(0, .ref (ad 64)), (1, .int k), (2, .int x)] := hl
  refine lv_aload_n hx hb dX0_areOne_0 rfl (lv_at hl 0 rfl) ?_
  refine lv_iload_n hx hb dX0_areOne_1 rfl (lv_at hl 1 rfl) ?_
  refine n_callp (va_runV ⟨hx, hb, hml, hown, hts⟩ (tL_isJumper l G ad _ _ _ _ _ _ _ _) (cwV 1 hts (lw_V q462 q464 qs2 q90 q465) rfl rfl rfl hdS_X0_isJumper ⟨by decide, by decide⟩) (hw.preV (k := 64) (xp 64) rfl) rfl rfl hl.1 rfl (lv_room (by simp [Value.category])) dX0_areOne_2 ⟨Nat.zero_le _, Nat.zero_le _⟩) (fun r_2 e_2 => ?_)
  subst e_2
  refine lv_if_eq (tgt := 22) hx hb dX0_areOne_5 (by decide) (fun c_5 => ?_) (fun c_5 => ?_)
  · skip
    refine lv_iconst (v := 0) hx hb dX0_areOne_22 (by decide) ?_
    exact n_pret hx hb hr hlk rfl (by rw [oneF, if_pos c_5]) dX0_areOne_23
  · skip
    refine lv_iload_n hx hb dX0_areOne_8 rfl (lv_at hl 2 rfl) ?_
    refine lv_iconst (v := 0) hx hb dX0_areOne_9 (by decide) ?_
    refine lv_bipush (v := 40) hx hb dX0_areOne_10 (by decide) ?_
    refine n_callp (va_runS ⟨hx, hb, hml, hown, hts⟩ (tX_in l _ _ _) (va_cwS 3 hts (lw_S q459 q460 q90 q461) rfl rfl rfl (hdS_X0_in).2 ⟨by decide, by decide⟩) pu_pre rfl rfl hl.1 rfl (lv_room (by simp [Value.category])) dX0_areOne_12 ⟨Nat.zero_le _, Nat.zero_le _⟩) (fun r_12 e_12 => ?_)
    subst e_12
    refine lv_if_eq (tgt := 22) hx hb dX0_areOne_15 (by decide) (fun c_15 => ?_) (fun c_15 => ?_)
    · skip
      refine lv_iconst (v := 0) hx hb dX0_areOne_22 (by decide) ?_
      exact n_pret hx hb hr hlk rfl (by rw [oneF, if_neg c_5, if_pos c_15]) dX0_areOne_23
    · skip
      refine lv_iconst (v := 1) hx hb dX0_areOne_18 (by decide) ?_
      refine lv_goto (tgt := 23) hx hb dX0_areOne_19 (by decide) ?_
      exact n_pret hx hb hr hlk rfl (by rw [oneF, if_neg c_5, if_neg c_15]) dX0_areOne_23
theorem hdS_X0_standFor : yX0_standFor.cls = "LineCalls" ∧ yX0_standFor.cls ≠ "java/lang/invoke/MethodHandle" ∧ yX0_standFor.cls ≠ "java/lang/invoke/VarHandle" ∧ (parseMethodDescriptor yX0_standFor.desc).map (fun d => d.parameters.length) = some 2 := by decide +kernel
set_option maxHeartbeats 4000000 in
theorem tL_standFor (l : Launch) (G : nG) (ad : Nat → Nat) (w w1 w2 w3 : rw84) (X : mM) (sp : xSp) (sh : xSh) (k x : Int32) (B : Nat) (hI : Inv B w) (hB : B ≤ 100000) : Met l yX0_standFor (ws_ yX0_standFor cX0_standFor 3 (some .int)) { frames := 11, cells := 0, slots := 0, locals := 240 } (va_Pc [.ref (ad 64), .int k, .int x] (nC G (xE G ad (xV w w1 w2 w3) X sp sh))) (va_Qi (fun (r : Int32) (u : xSt) => r = (standForO w k x).1 ∧ ∃ g, u = ((standForO w k x).2.1, w1, g, w3, xfnd (standForO w k x).2.2 X, sp, sh)) (fun u => nC G (xE G ad (xV u.1 u.2.1 u.2.2.1 u.2.2.2.1) u.2.2.2.2.1 u.2.2.2.2.2.1 u.2.2.2.2.2.2)) (nA G)) 0 0 (nA G) := by
  refine n_head (by decide) (Nat.le_of_ble_eq_true rfl) ?_
  intro p e s m below meth c ls hx hb hr hlk hml hown hts hB0 hl
  have hown : s.vm.findClass "LineCalls" = some m.cls := hown
  have hw := nS.start hB0
  have hl : lv_has ls 3 [(0, .ref (ad 64)), (1, .int k), (2, .int x)] := hl
  obtain ⟨n, hn, en⟩ := hI.num
  refine lv_aload_n hx hb dX0_standFor_0 rfl (lv_at hl 0 rfl) ?_
  refine lv_iload_n hx hb dX0_standFor_1 rfl (lv_at hl 1 rfl) ?_
  refine lv_iload_n hx hb dX0_standFor_2 rfl (lv_at hl 2 rfl) ?_
  refine n_callp (va_runV ⟨hx, hb, hml, hown, hts⟩ (tL_areOne l G ad _ _ _ _ _ _ _ _ _) (cwV 2 hts (lw_V q839 q841 qs18 q90 q842) rfl rfl rfl hdS_X0_areOne ⟨by decide, by decide⟩) (hw.preV (k := 64) (xp 64) rfl) rfl rfl hl.1 rfl (lv_room (by simp [Value.category])) dX0_standFor_3 ⟨Nat.zero_le _, Nat.zero_le _⟩) (fun r_3 e_3 => ?_)
  subst e_3
  refine lv_if_eq (tgt := 18) hx hb dX0_standFor_6 (by decide) (fun c_6 => ?_) (fun c_6 => ?_)
  · skip
    refine lv_aload_n hx hb dX0_standFor_18 rfl (lv_at hl 0 rfl) ?_
    refine lv_iconst (v := 0) hx hb dX0_standFor_19 (by decide) ?_
    refine n_calli (va_runV ⟨hx, hb, hml, hown, hts⟩ (tL_finding l G ad _ _ _ _ _ _ _ (0) (by decide)) (cwV 1 hts (lw_V q466 q468 qs3 q90 q469) rfl rfl rfl hdS_X0_finding ⟨by decide, by decide⟩) (hw.preV (k := 64) (xp 64) rfl) rfl rfl hl.1 rfl (lv_room (by simp [Value.category])) dX0_standFor_20 ⟨Nat.zero_le _, Nat.zero_le _⟩) hw (fun r_20 u_20 H locs e_20 hw => ?_)
    obtain ⟨rfl, rfl⟩ := e_20
    have hw : nS G (xE G ad (xV _ _ _ _) _ _ _) s H locs := hw
    exact l_iret hx hb hr hlk rfl hw (by rw [standFor_one, if_pos c_6]; first | (rw [iq]; exact ⟨rfl, _, rfl⟩) | exact ⟨rfl, _, rfl⟩) dX0_standFor_23
  · skip
    obtain ⟨c_61, c_62⟩ := one_yes c_6
    obtain ⟨j, hjn, hj, rfl⟩ := in_num en hn c_61
    have ij : ix (nI j) = j := nI_clamp (by omega)
    obtain ⟨q, hq, rfl⟩ := in_nat (N := 40) rfl (by decide) c_62
    have iq : ix (nI q) = q := nI_clamp (by omega)
    refine lv_aload_n hx hb dX0_standFor_9 rfl (lv_at hl 0 rfl) ?_
    refine lv_iload_n hx hb dX0_standFor_10 rfl (lv_at hl 1 rfl) ?_
    refine lv_iload_n hx hb dX0_standFor_11 rfl (lv_at hl 2 rfl) ?_
    refine n_calli (va_runV ⟨hx, hb, hml, hown, hts⟩ (tL_bestPlace l G ad _ _ _ _ _ _ _ (j) (q) B n hI (by omega) en hn (by omega)) (cwV 2 hts (lw_V q843 q845 qs19 q90 q846) rfl rfl rfl hdS_X0_bestPlace ⟨by decide, by decide⟩) (hw.preV (k := 64) (xp 64) rfl) rfl rfl hl.1 rfl (lv_room (by simp [Value.category])) dX0_standFor_12 ⟨Nat.zero_le _, Nat.zero_le _⟩) hw (fun r_12 u_12 H locs e_12 hw => ?_)
    obtain ⟨rfl, g_12, rfl⟩ := e_12
    have hw : nS G (xE G ad (xV _ _ _ _) _ _ _) s H locs := hw
    refine lv_goto (tgt := 23) hx hb dX0_standFor_15 (by decide) ?_
    exact l_iret hx hb hr hlk rfl hw (by rw [standFor_one, if_neg c_6]; first | (rw [iq]; exact ⟨rfl, _, rfl⟩) | exact ⟨rfl, _, rfl⟩) dX0_standFor_23
theorem hdS_X0_bestKind : yX0_bestKind.cls = "LineCalls" ∧ yX0_bestKind.cls ≠ "java/lang/invoke/MethodHandle" ∧ yX0_bestKind.cls ≠ "java/lang/invoke/VarHandle" ∧ (parseMethodDescriptor yX0_bestKind.desc).map (fun d => d.parameters.length) = some 2 := by decide +kernel
set_option maxHeartbeats 4000000 in
theorem tL_bestKind (l : Launch) (G : nG) (ad : Nat → Nat) (w w1 w2 w3 : rw84) (X : mM) (sp : xSp) (sh : xSh) (j q B : Nat) (hI : Inv B w) (hB : B + q < 2 ^ 30) (hj : j < 8) : Met l yX0_bestKind (ws_ yX0_bestKind cX0_bestKind 8 (some .int)) { frames := 9, cells := 0, slots := 0, locals := 193 } (va_Pc [.ref (ad 64), .int (nI j), .int (nI q)] (nC G (xE G ad (xV w w1 w2 w3) X sp sh))) (va_Qi (fun (r : Int32) (u : xSt) => r = (bestF (fun v => thrN (upd w (44 + 5 * j + 0) (nI v)) q (44 + 5 * j + 3)) 7).1 ∧ ∃ g, u = (w, w1, g, w3, X, sp, sh)) (fun u => nC G (xE G ad (xV u.1 u.2.1 u.2.2.1 u.2.2.2.1) u.2.2.2.2.1 u.2.2.2.2.2.1 u.2.2.2.2.2.2)) (nA G)) 0 0 (nA G) := by
  refine n_head (by decide) (Nat.le_of_ble_eq_true rfl) ?_
  intro p e s m below meth c ls hx hb hr hlk hml hown hts hB0 hl
  have hown : s.vm.findClass "LineCalls" = some m.cls := hown
  have hw := nS.start hB0
  have hl : lv_has ls 8 [(0, .ref (ad 64)), (1, .int (nI j)), (2, .int (nI q))] := hl
  refine lv_aload_n hx hb dX0_bestKind_0 rfl (lv_at hl 0 rfl) ?_
  refine n_get (k := 64) hx hb hts in_X0 hown hw (xp 64) rfl 3 (by decide) q418 rfl dX0_bestKind_1 ?_
  refine n_getN (k := 16 * 0 + 0) hx hb hts in_X4 hown hw (xv0 0) rfl 6 (by decide) q243 rfl dX0_bestKind_4 ?_
  refine lv_iconst (v := 0) hx hb dX0_bestKind_7 (by decide) ?_
  refine n_aaldS (k := 16 * 0 + 7) (t := 4) (j := 0) (b := ad (16 * 0 + 8)) hx hb hw (xv0 7) (Or.inr rfl) rfl (by decide) (by decide) rfl dX0_bestKind_8 ?_
  refine lv_iload_n hx hb dX0_bestKind_9 rfl (lv_at hl 1 rfl) ?_
  refine n_iald (k := 16 * 0 + 8) (j := j) hx hb hw (xv0 8) rfl (by omega) (by decide) dX0_bestKind_10 ?_
  refine lv_istore_n hx hb dX0_bestKind_11 rfl hl (by decide) rfl (fun ls hl => ?_)
  refine lv_iconst (v := 0) hx hb dX0_bestKind_12 (by decide) ?_
  refine lv_istore hx hb dX0_bestKind_13 hl (by decide) rfl (fun ls hl => ?_)
  refine lv_iconst (v := (-1)) hx hb dX0_bestKind_15 (by decide) ?_
  refine lv_istore hx hb dX0_bestKind_16 hl (by decide) rfl (fun ls hl => ?_)
  refine lv_iconst (v := 0) hx hb dX0_bestKind_18 (by decide) ?_
  refine lv_istore hx hb dX0_bestKind_19 hl (by decide) rfl (fun ls hl => ?_)
  refine n_loop (α := Nat × rw84) (fun x H locs ls => x.1 ≤ 7 ∧ nS G (xE G ad (xV (tryF w (44 + 5 * j + 0) x.1) w1 x.2 w3) X sp sh) s H locs ∧ lv_has ls 8 [(0, .ref (ad 64)), (1, .int (nI j)), (2, .int (nI q)), (3, .int (w (44 + 5 * j + 0))), (4, .int (bestF (fun v => thrN (upd w (44 + 5 * j + 0) (nI v)) q (44 + 5 * j + 3)) x.1).1), (5, .int (bestF (fun v => thrN (upd w (44 + 5 * j + 0) (nI v)) q (44 + 5 * j + 3)) x.1).2), (6, .int (nI x.1))]) (fun x => 7 - x.1) 21 ?_ (0, w2) _ _ _ ⟨Nat.zero_le _, hw, (lv_sub hl [4, 5, 6, 3, 2, 1, 0] rfl)⟩
  clear hl hw
  intro x H locs ls hI ih_21
  obtain ⟨hv, hw, hl⟩ := hI
  obtain ⟨v, g⟩ := x
  dsimp only at hv hw hl
  refine lv_iload hx hb dX0_bestKind_21 (lv_at hl 6 rfl) ?_
  refine lv_bipush (v := 7) hx hb dX0_bestKind_23 (by decide) ?_
  refine lv_icmp_ge (tgt := 81) hx hb dX0_bestKind_25 (by decide) (fun c_25 => ?_) (fun c_25 => ?_)
  · skip
    have n_25 : 7 ≤ v := (nI_leI (a := 7) (b := v) (by omega) (by omega)).mp c_25
    obtain rfl : v = 7 := by omega
    refine lv_aload_n hx hb dX0_bestKind_81 rfl (lv_at hl 0 rfl) ?_
    refine n_get (k := 64) hx hb hts in_X0 hown hw (xp 64) rfl 3 (by decide) q418 rfl dX0_bestKind_82 ?_
    refine n_getN (k := 16 * 0 + 0) hx hb hts in_X4 hown hw (xv0 0) rfl 6 (by decide) q243 rfl dX0_bestKind_85 ?_
    refine lv_iconst (v := 0) hx hb dX0_bestKind_88 (by decide) ?_
    refine n_aaldS (k := 16 * 0 + 7) (t := 4) (j := 0) (b := ad (16 * 0 + 8)) hx hb hw (xv0 7) (Or.inr rfl) rfl (by decide) (by decide) rfl dX0_bestKind_89 ?_
    refine lv_iload_n hx hb dX0_bestKind_90 rfl (lv_at hl 1 rfl) ?_
    refine lv_iload_n hx hb dX0_bestKind_91 rfl (lv_at hl 3 rfl) ?_
    refine l0_iast hx hb hw 8 (by decide) (q := j) rfl (show _ < 8 by omega) (pos := 44 + 5 * j + 0) rfl dX0_bestKind_92 (fun H locs hw => ?_)
    have hw := n_E (show _ = xE G ad (xV w w1 g w3) X sp sh by rw [try_back]) hw
    refine lv_iload hx hb dX0_bestKind_93 (lv_at hl 4 rfl) ?_
    exact l_iret hx hb hr hlk rfl hw ⟨rfl, _, rfl⟩ dX0_bestKind_95
  · skip
    have n_25 : ¬ 7 ≤ v := fun h => c_25 ((nI_leI (a := 7) (b := v) (by omega) (by omega)).mpr h)
    refine lv_aload_n hx hb dX0_bestKind_28 rfl (lv_at hl 0 rfl) ?_
    refine n_get (k := 64) hx hb hts in_X0 hown hw (xp 64) rfl 3 (by decide) q418 rfl dX0_bestKind_29 ?_
    refine n_getN (k := 16 * 0 + 0) hx hb hts in_X4 hown hw (xv0 0) rfl 6 (by decide) q243 rfl dX0_bestKind_32 ?_
    refine lv_iconst (v := 0) hx hb dX0_bestKind_35 (by decide) ?_
    refine n_aaldS (k := 16 * 0 + 7) (t := 4) (j := 0) (b := ad (16 * 0 + 8)) hx hb hw (xv0 7) (Or.inr rfl) rfl (by decide) (by decide) rfl dX0_bestKind_36 ?_
    refine lv_iload_n hx hb dX0_bestKind_37 rfl (lv_at hl 1 rfl) ?_
    refine lv_iload hx hb dX0_bestKind_38 (lv_at hl 6 rfl) ?_
    refine l0_iast hx hb hw 8 (by decide) (q := j) rfl (show _ < 8 by omega) (pos := 44 + 5 * j + 0) rfl dX0_bestKind_40 (fun H locs hw => ?_)
    have hw := n_E (show _ = xE G ad (xV (upd w (44 + 5 * j + 0) (nI v)) w1 g w3) X sp sh by rw [try_up]) hw
    refine lv_aload_n hx hb dX0_bestKind_41 rfl (lv_at hl 0 rfl) ?_
    refine lv_iload_n hx hb dX0_bestKind_42 rfl (lv_at hl 1 rfl) ?_
    refine lv_iconst (v := 3) hx hb dX0_bestKind_43 (by decide) ?_
    refine lv_iload_n hx hb dX0_bestKind_44 rfl (lv_at hl 2 rfl) ?_
    refine n_calli (x_runVW ⟨hx, hb, hml, hown, hts⟩ (tL_toldBehind l G ad _ _ _ _ _ _ _ j 3 q B hj (by decide) (hI.kindU hj (by omega)) (by omega)) (x_cwVW 3 hts (lw_VW q769 q771 qs10 q90 q772) rfl rfl hdS_X0_toldBehind ⟨by decide, by decide⟩) (hw.preV (k := 64) (xp 64) rfl) rfl rfl hl.1 rfl (lv_room (by simp [Value.category])) dX0_bestKind_45 ⟨Nat.zero_le _, Nat.zero_le _⟩) hw (fun r_45 u_45 H locs e_45 hw => ?_)
    obtain ⟨rfl, rfl⟩ := e_45
    have hw : nS G (xE G ad (xV _ _ _ _) _ _ _) s H locs := hw
    refine n_topE (show _ = thrN (upd w (44 + 5 * j + 0) (nI v)) q (44 + 5 * j + 3) from if_neg (by decide)) ?_
    refine lv_istore hx hb dX0_bestKind_48 hl (by decide) rfl (fun ls hl => ?_)
    refine lv_iload hx hb dX0_bestKind_50 (lv_at hl 0 rfl) ?_
    refine lv_iload hx hb dX0_bestKind_52 (lv_at hl 6 rfl) ?_
    refine lv_icmp_le (tgt := 62) hx hb dX0_bestKind_54 (by decide) (fun c_54 => ?_) (fun c_54 => ?_)
    · skip
      refine lv_iload hx hb dX0_bestKind_62 (lv_at hl 5 rfl) ?_
      refine lv_istore hx hb dX0_bestKind_64 hl (by decide) rfl (fun ls hl => ?_)
      refine lv_iload hx hb dX0_bestKind_66 (lv_at hl 6 rfl) ?_
      refine lv_iload hx hb dX0_bestKind_68 (lv_at hl 1 rfl) ?_
      refine va_mmax hx hb (hml.trans hl.1.symm) hown (hts _ q826) (hts _ q625) (hts _ q108) (hts _ q626) (by decide) (by simp [Value.category]) (Nat.zero_le _) (Nat.zero_le _) dX0_bestKind_70 ?_
      refine lv_istore hx hb dX0_bestKind_73 hl (by decide) rfl (fun ls hl => ?_)
      refine lv_iinc (v := nI (v + 1)) hx hb dX0_bestKind_75 hl (k := 7) rfl (nI_1 _) (by decide) rfl (fun ls hl => ?_)
      refine lv_goto (tgt := 21) hx hb dX0_bestKind_78 (by decide) ?_
      exact ih_21 (v + 1, _) _ _ _ (by first | omega | (dsimp only; omega)) ⟨by dsimp only; omega, hw, by rw [bestF]; first | rw [if_pos c_54]; exact (lv_sub hl [4, 5, 6, 7, 2, 1, 0] rfl)⟩
    · skip
      refine lv_iload hx hb dX0_bestKind_57 (lv_at hl 7 rfl) ?_
      refine lv_goto (tgt := 64) hx hb dX0_bestKind_59 (by decide) ?_
      refine lv_istore hx hb dX0_bestKind_64 hl (by decide) rfl (fun ls hl => ?_)
      refine lv_iload hx hb dX0_bestKind_66 (lv_at hl 6 rfl) ?_
      refine lv_iload hx hb dX0_bestKind_68 (lv_at hl 1 rfl) ?_
      refine va_mmax hx hb (hml.trans hl.1.symm) hown (hts _ q826) (hts _ q625) (hts _ q108) (hts _ q626) (by decide) (by simp [Value.category]) (Nat.zero_le _) (Nat.zero_le _) dX0_bestKind_70 ?_
      refine lv_istore hx hb dX0_bestKind_73 hl (by decide) rfl (fun ls hl => ?_)
      refine lv_iinc (v := nI (v + 1)) hx hb dX0_bestKind_75 hl (k := 7) rfl (nI_1 _) (by decide) rfl (fun ls hl => ?_)
      refine lv_goto (tgt := 21) hx hb dX0_bestKind_78 (by decide) ?_
      exact ih_21 (v + 1, _) _ _ _ (by first | omega | (dsimp only; omega)) ⟨by dsimp only; omega, hw, by rw [bestF]; first | rw [if_neg c_54]; exact (lv_sub hl [4, 5, 6, 7, 2, 1, 0] rfl)⟩
theorem hdS_X0_kindFor : yX0_kindFor.cls = "LineCalls" ∧ yX0_kindFor.cls ≠ "java/lang/invoke/MethodHandle" ∧ yX0_kindFor.cls ≠ "java/lang/invoke/VarHandle" ∧ (parseMethodDescriptor yX0_kindFor.desc).map (fun d => d.parameters.length) = some 2 := by decide +kernel
set_option maxHeartbeats 4000000 in
theorem tL_kindFor (l : Launch) (G : nG) (ad : Nat → Nat) (w w1 w2 w3 : rw84) (X : mM) (sp : xSp) (sh : xSh) (k x : Int32) (B : Nat) (hI : Inv B w) (hB : B ≤ 100000) : Met l yX0_kindFor (ws_ yX0_kindFor cX0_kindFor 3 (some .int)) { frames := 10, cells := 0, slots := 0, locals := 220 } (va_Pc [.ref (ad 64), .int k, .int x] (nC G (xE G ad (xV w w1 w2 w3) X sp sh))) (va_Qi (fun (r : Int32) (u : xSt) => r = (kindForO w k x).1 ∧ ∃ g, u = ((kindForO w k x).2.1, w1, g, w3, xfnd (kindForO w k x).2.2 X, sp, sh)) (fun u => nC G (xE G ad (xV u.1 u.2.1 u.2.2.1 u.2.2.2.1) u.2.2.2.2.1 u.2.2.2.2.2.1 u.2.2.2.2.2.2)) (nA G)) 0 0 (nA G) := by
  refine n_head (by decide) (Nat.le_of_ble_eq_true rfl) ?_
  intro p e s m below meth c ls hx hb hr hlk hml hown hts hB0 hl
  have hown : s.vm.findClass "LineCalls" = some m.cls := hown
  have hw := nS.start hB0
  have hl : lv_has ls 3 [(0, .ref (ad 64)), (1, .int k), (2, .int x)] := hl
  obtain ⟨n, hn, en⟩ := hI.num
  refine lv_aload_n hx hb dX0_kindFor_0 rfl (lv_at hl 0 rfl) ?_
  refine lv_iload_n hx hb dX0_kindFor_1 rfl (lv_at hl 1 rfl) ?_
  refine lv_iload_n hx hb dX0_kindFor_2 rfl (lv_at hl 2 rfl) ?_
  refine n_callp (va_runV ⟨hx, hb, hml, hown, hts⟩ (tL_areOne l G ad _ _ _ _ _ _ _ _ _) (cwV 2 hts (lw_V q839 q841 qs18 q90 q842) rfl rfl rfl hdS_X0_areOne ⟨by decide, by decide⟩) (hw.preV (k := 64) (xp 64) rfl) rfl rfl hl.1 rfl (lv_room (by simp [Value.category])) dX0_kindFor_3 ⟨Nat.zero_le _, Nat.zero_le _⟩) (fun r_3 e_3 => ?_)
  subst e_3
  refine lv_if_eq (tgt := 18) hx hb dX0_kindFor_6 (by decide) (fun c_6 => ?_) (fun c_6 => ?_)
  · skip
    refine lv_aload_n hx hb dX0_kindFor_18 rfl (lv_at hl 0 rfl) ?_
    refine lv_iconst (v := 0) hx hb dX0_kindFor_19 (by decide) ?_
    refine n_calli (va_runV ⟨hx, hb, hml, hown, hts⟩ (tL_finding l G ad _ _ _ _ _ _ _ (0) (by decide)) (cwV 1 hts (lw_V q466 q468 qs3 q90 q469) rfl rfl rfl hdS_X0_finding ⟨by decide, by decide⟩) (hw.preV (k := 64) (xp 64) rfl) rfl rfl hl.1 rfl (lv_room (by simp [Value.category])) dX0_kindFor_20 ⟨Nat.zero_le _, Nat.zero_le _⟩) hw (fun r_20 u_20 H locs e_20 hw => ?_)
    obtain ⟨rfl, rfl⟩ := e_20
    have hw : nS G (xE G ad (xV _ _ _ _) _ _ _) s H locs := hw
    exact l_iret hx hb hr hlk rfl hw (by rw [kindFor_one, if_pos c_6]; first | (rw [iq, ij]; exact ⟨rfl, _, rfl⟩) | exact ⟨rfl, _, rfl⟩) dX0_kindFor_23
  · skip
    obtain ⟨c_61, c_62⟩ := one_yes c_6
    obtain ⟨j, hjn, hj, rfl⟩ := in_num en hn c_61
    have ij : ix (nI j) = j := nI_clamp (by omega)
    obtain ⟨q, hq, rfl⟩ := in_nat (N := 40) rfl (by decide) c_62
    have iq : ix (nI q) = q := nI_clamp (by omega)
    refine lv_aload_n hx hb dX0_kindFor_9 rfl (lv_at hl 0 rfl) ?_
    refine lv_iload_n hx hb dX0_kindFor_10 rfl (lv_at hl 1 rfl) ?_
    refine lv_iload_n hx hb dX0_kindFor_11 rfl (lv_at hl 2 rfl) ?_
    refine n_calli (va_runV ⟨hx, hb, hml, hown, hts⟩ (tL_bestKind l G ad _ _ _ _ _ _ _ (j) (q) B hI (by omega) (by omega)) (cwV 2 hts (lw_V q859 q861 qs21 q90 q862) rfl rfl rfl hdS_X0_bestKind ⟨by decide, by decide⟩) (hw.preV (k := 64) (xp 64) rfl) rfl rfl hl.1 rfl (lv_room (by simp [Value.category])) dX0_kindFor_12 ⟨Nat.zero_le _, Nat.zero_le _⟩) hw (fun r_12 u_12 H locs e_12 hw => ?_)
    obtain ⟨rfl, g_12, rfl⟩ := e_12
    have hw : nS G (xE G ad (xV _ _ _ _) _ _ _) s H locs := hw
    refine lv_goto (tgt := 23) hx hb dX0_kindFor_15 (by decide) ?_
    exact l_iret hx hb hr hlk rfl hw (by rw [kindFor_one, if_neg c_6]; first | (rw [iq, ij]; exact ⟨rfl, _, rfl⟩) | exact ⟨rfl, _, rfl⟩) dX0_kindFor_23
theorem hdS_X0_leastTall : yX0_leastTall.cls = "LineCalls" ∧ yX0_leastTall.cls ≠ "java/lang/invoke/MethodHandle" ∧ yX0_leastTall.cls ≠ "java/lang/invoke/VarHandle" ∧ (parseMethodDescriptor yX0_leastTall.desc).map (fun d => d.parameters.length) = some 3 := by decide +kernel
set_option maxHeartbeats 4000000 in
theorem tL_leastTall (l : Launch) (G : nG) (ad : Nat → Nat) (w w1 w2 w3 : rw84) (X : mM) (sp : xSp) (sh : xSh) (j q B : Nat) (y : Int32) (hI : Inv B w) (hB : B + q < 2 ^ 30) (hj : j < 8) : Met l yX0_leastTall (ws_ yX0_leastTall cX0_leastTall 6 (some .int)) { frames := 9, cells := 0, slots := 0, locals := 193 } (va_Pc [.ref (ad 64), .int (nI j), .int y, .int (nI q)] (nC G (xE G ad (xV w w1 w2 w3) X sp sh))) (va_Qi (fun (r : Int32) (u : xSt) => r = tlF (fun t => thrN (upd w (44 + 5 * j + 1) (nI t)) q (44 + 5 * j + 3)) y 100 ∧ ∃ g, u = (w, w1, g, w3, X, sp, sh)) (fun u => nC G (xE G ad (xV u.1 u.2.1 u.2.2.1 u.2.2.2.1) u.2.2.2.2.1 u.2.2.2.2.2.1 u.2.2.2.2.2.2)) (nA G)) 0 0 (nA G) := by
  refine n_head (by decide) (Nat.le_of_ble_eq_true rfl) ?_
  intro p e s m below meth c ls hx hb hr hlk hml hown hts hB0 hl
  have hown : s.vm.findClass "LineCalls" = some m.cls := hown
  have hw := nS.start hB0
  have hl : lv_has ls 6 [(0, .ref (ad 64)), (1, .int (nI j)), (2, .int y), (3, .int (nI q))] := hl
  refine lv_aload_n hx hb dX0_leastTall_0 rfl (lv_at hl 0 rfl) ?_
  refine n_get (k := 64) hx hb hts in_X0 hown hw (xp 64) rfl 3 (by decide) q418 rfl dX0_leastTall_1 ?_
  refine n_getN (k := 16 * 0 + 0) hx hb hts in_X4 hown hw (xv0 0) rfl 6 (by decide) q243 rfl dX0_leastTall_4 ?_
  refine lv_iconst (v := 1) hx hb dX0_leastTall_7 (by decide) ?_
  refine n_aaldS (k := 16 * 0 + 7) (t := 4) (j := 1) (b := ad (16 * 0 + 9)) hx hb hw (xv0 7) (Or.inr rfl) rfl (by decide) (by decide) rfl dX0_leastTall_8 ?_
  refine lv_iload_n hx hb dX0_leastTall_9 rfl (lv_at hl 1 rfl) ?_
  refine n_iald (k := 16 * 0 + 9) (j := j) hx hb hw (xv0 9) rfl (by omega) (by decide) dX0_leastTall_10 ?_
  refine lv_istore hx hb dX0_leastTall_11 hl (by decide) rfl (fun ls hl => ?_)
  refine lv_iconst (v := 0) hx hb dX0_leastTall_13 (by decide) ?_
  refine lv_istore hx hb dX0_leastTall_14 hl (by decide) rfl (fun ls hl => ?_)
  refine lv_aload_n hx hb dX0_leastTall_16 rfl (lv_at hl 2 rfl) ?_
  refine n_get (k := 64) hx hb hts in_X0 hown hw (xp 64) rfl 3 (by decide) q418 rfl dX0_leastTall_17 ?_
  refine n_getN (k := 16 * 0 + 0) hx hb hts in_X4 hown hw (xv0 0) rfl 6 (by decide) q243 rfl dX0_leastTall_20 ?_
  refine lv_iconst (v := 1) hx hb dX0_leastTall_23 (by decide) ?_
  refine n_aaldS (k := 16 * 0 + 7) (t := 4) (j := 1) (b := ad (16 * 0 + 9)) hx hb hw (xv0 7) (Or.inr rfl) rfl (by decide) (by decide) rfl dX0_leastTall_24 ?_
  refine lv_iload_n hx hb dX0_leastTall_25 rfl (lv_at hl 3 rfl) ?_
  refine lv_iload hx hb dX0_leastTall_26 (lv_at hl 0 rfl) ?_
  refine l0_iast hx hb hw 9 (by decide) (q := j) rfl (show _ < 8 by omega) (pos := 44 + 5 * j + 1) rfl dX0_leastTall_28 (fun H locs hw => ?_)
  refine n_loop (α := Nat × rw84) (fun x H locs ls => x.1 ≤ 100 ∧ tlF (fun t => thrN (upd w (44 + 5 * j + 1) (nI t)) q (44 + 5 * j + 3)) y (100 - x.1) = tlF (fun t => thrN (upd w (44 + 5 * j + 1) (nI t)) q (44 + 5 * j + 3)) y 100 ∧ nS G (xE G ad (xV (upd w (44 + 5 * j + 1) (nI x.1)) w1 x.2 w3) X sp sh) s H locs ∧ lv_has ls 6 [(0, .ref (ad 64)), (1, .int (nI j)), (2, .int y), (3, .int (nI q)), (4, .int (w (44 + 5 * j + 1))), (5, .int (nI x.1))]) (fun x => 100 - x.1) 29 ?_ (0, w2) _ _ _ ⟨Nat.zero_le _, rfl, hw, (lv_sub hl [2, 3, 4, 5, 1, 0] rfl)⟩
  clear hl hw
  intro x H locs ls hI ih_29
  obtain ⟨ht, htl, hw, hl⟩ := hI
  obtain ⟨t, g⟩ := x
  dsimp only at ht htl hw hl
  refine lv_iload hx hb dX0_leastTall_29 (lv_at hl 5 rfl) ?_
  refine lv_bipush (v := 99) hx hb dX0_leastTall_31 (by decide) ?_
  refine lv_icmp_gt (tgt := 66) hx hb dX0_leastTall_33 (by decide) (fun c_33 => ?_) (fun c_33 => ?_)
  · skip
    have n_33 : 99 < t := (nI_ltI (a := 99) (b := t) (by omega) (by omega)).mp c_33
    obtain rfl : t = 100 := by omega
    refine lv_aload_n hx hb dX0_leastTall_66 rfl (lv_at hl 0 rfl) ?_
    refine n_get (k := 64) hx hb hts in_X0 hown hw (xp 64) rfl 3 (by decide) q418 rfl dX0_leastTall_67 ?_
    refine n_getN (k := 16 * 0 + 0) hx hb hts in_X4 hown hw (xv0 0) rfl 6 (by decide) q243 rfl dX0_leastTall_70 ?_
    refine lv_iconst (v := 1) hx hb dX0_leastTall_73 (by decide) ?_
    refine n_aaldS (k := 16 * 0 + 7) (t := 4) (j := 1) (b := ad (16 * 0 + 9)) hx hb hw (xv0 7) (Or.inr rfl) rfl (by decide) (by decide) rfl dX0_leastTall_74 ?_
    refine lv_iload_n hx hb dX0_leastTall_75 rfl (lv_at hl 1 rfl) ?_
    refine lv_iload hx hb dX0_leastTall_76 (lv_at hl 4 rfl) ?_
    refine l0_iast hx hb hw 9 (by decide) (q := j) rfl (show _ < 8 by omega) (pos := 44 + 5 * j + 1) rfl dX0_leastTall_78 (fun H locs hw => ?_)
    rw [up_up, up_self] at hw
    refine lv_iload hx hb dX0_leastTall_79 (lv_at hl 5 rfl) ?_
    refine lv_bipush (v := 99) hx hb dX0_leastTall_81 (by decide) ?_
    refine lv_icmp_gt (tgt := 91) hx hb dX0_leastTall_83 (by decide) (fun c_83 => ?_) (fun c_83 => ?_)
    · skip
      have n_83 : 99 < 100 := (nI_ltI (a := 99) (b := 100) (by omega) (by omega)).mp c_83
      refine lv_iconst (v := (-1)) hx hb dX0_leastTall_91 (by decide) ?_
      exact l_iret hx hb hr hlk rfl hw ⟨by first | exact hr1.symm | exact htl | (exfalso; omega), _, rfl⟩ dX0_leastTall_92
    · skip
      have n_83 : ¬ 99 < 100 := fun h => c_83 ((nI_ltI (a := 99) (b := 100) (by omega) (by omega)).mpr h)
      refine lv_iload hx hb dX0_leastTall_86 (lv_at hl 5 rfl) ?_
      refine lv_goto (tgt := 92) hx hb dX0_leastTall_88 (by decide) ?_
      exact l_iret hx hb hr hlk rfl hw ⟨by first | exact hr1.symm | exact htl | (exfalso; omega), _, rfl⟩ dX0_leastTall_92
  · skip
    have n_33 : ¬ 99 < t := fun h => c_33 ((nI_ltI (a := 99) (b := t) (by omega) (by omega)).mpr h)
    refine lv_aload_n hx hb dX0_leastTall_36 rfl (lv_at hl 0 rfl) ?_
    refine lv_iload_n hx hb dX0_leastTall_37 rfl (lv_at hl 1 rfl) ?_
    refine lv_iconst (v := 3) hx hb dX0_leastTall_38 (by decide) ?_
    refine lv_iload_n hx hb dX0_leastTall_39 rfl (lv_at hl 3 rfl) ?_
    refine n_calli (x_runVW ⟨hx, hb, hml, hown, hts⟩ (tL_toldBehind l G ad _ _ _ _ _ _ _ j 3 q B hj (by decide) (hI.tallU _ hj) (by omega)) (x_cwVW 3 hts (lw_VW q769 q771 qs10 q90 q772) rfl rfl hdS_X0_toldBehind ⟨by decide, by decide⟩) (hw.preV (k := 64) (xp 64) rfl) rfl rfl hl.1 rfl (lv_room (by simp [Value.category])) dX0_leastTall_40 ⟨Nat.zero_le _, Nat.zero_le _⟩) hw (fun r_40 u_40 H locs e_40 hw => ?_)
    obtain ⟨rfl, rfl⟩ := e_40
    have hw : nS G (xE G ad (xV _ _ _ _) _ _ _) s H locs := hw
    refine n_topE (show _ = (fun t => thrN (upd w (44 + 5 * j + 1) (nI t)) q (44 + 5 * j + 3)) t from if_neg (by decide)) ?_
    refine lv_iload_n hx hb dX0_leastTall_43 rfl (lv_at hl 2 rfl) ?_
    refine lv_icmp_ge (tgt := 66) hx hb dX0_leastTall_44 (by decide) (fun c_44 => ?_) (fun c_44 => ?_)
    · skip
      have hr1 := htl.symm.trans (tl_hit (g := (fun t => thrN (upd w (44 + 5 * j + 1) (nI t)) q (44 + 5 * j + 3))) (by omega) (Int32.not_lt.mpr c_44))
      refine lv_aload_n hx hb dX0_leastTall_66 rfl (lv_at hl 0 rfl) ?_
      refine n_get (k := 64) hx hb hts in_X0 hown hw (xp 64) rfl 3 (by decide) q418 rfl dX0_leastTall_67 ?_
      refine n_getN (k := 16 * 0 + 0) hx hb hts in_X4 hown hw (xv0 0) rfl 6 (by decide) q243 rfl dX0_leastTall_70 ?_
      refine lv_iconst (v := 1) hx hb dX0_leastTall_73 (by decide) ?_
      refine n_aaldS (k := 16 * 0 + 7) (t := 4) (j := 1) (b := ad (16 * 0 + 9)) hx hb hw (xv0 7) (Or.inr rfl) rfl (by decide) (by decide) rfl dX0_leastTall_74 ?_
      refine lv_iload_n hx hb dX0_leastTall_75 rfl (lv_at hl 1 rfl) ?_
      refine lv_iload hx hb dX0_leastTall_76 (lv_at hl 4 rfl) ?_
      refine l0_iast hx hb hw 9 (by decide) (q := j) rfl (show _ < 8 by omega) (pos := 44 + 5 * j + 1) rfl dX0_leastTall_78 (fun H locs hw => ?_)
      rw [up_up, up_self] at hw
      refine lv_iload hx hb dX0_leastTall_79 (lv_at hl 5 rfl) ?_
      refine lv_bipush (v := 99) hx hb dX0_leastTall_81 (by decide) ?_
      refine lv_icmp_gt (tgt := 91) hx hb dX0_leastTall_83 (by decide) (fun c_83 => ?_) (fun c_83 => ?_)
      · skip
        have n_83 : 99 < t := (nI_ltI (a := 99) (b := t) (by omega) (by omega)).mp c_83
        refine lv_iconst (v := (-1)) hx hb dX0_leastTall_91 (by decide) ?_
        exact l_iret hx hb hr hlk rfl hw ⟨by first | exact hr1.symm | exact htl | (exfalso; omega), _, rfl⟩ dX0_leastTall_92
      · skip
        have n_83 : ¬ 99 < t := fun h => c_83 ((nI_ltI (a := 99) (b := t) (by omega) (by omega)).mpr h)
        refine lv_iload hx hb dX0_leastTall_86 (lv_at hl 5 rfl) ?_
        refine lv_goto (tgt := 92) hx hb dX0_leastTall_88 (by decide) ?_
        exact l_iret hx hb hr hlk rfl hw ⟨by first | exact hr1.symm | exact htl | (exfalso; omega), _, rfl⟩ dX0_leastTall_92
    · skip
      refine lv_iinc (v := nI (t + 1)) hx hb dX0_leastTall_47 hl (k := 5) rfl (nI_1 _) (by decide) rfl (fun ls hl => ?_)
      refine lv_aload_n hx hb dX0_leastTall_50 rfl (lv_at hl 1 rfl) ?_
      refine n_get (k := 64) hx hb hts in_X0 hown hw (xp 64) rfl 3 (by decide) q418 rfl dX0_leastTall_51 ?_
      refine n_getN (k := 16 * 0 + 0) hx hb hts in_X4 hown hw (xv0 0) rfl 6 (by decide) q243 rfl dX0_leastTall_54 ?_
      refine lv_iconst (v := 1) hx hb dX0_leastTall_57 (by decide) ?_
      refine n_aaldS (k := 16 * 0 + 7) (t := 4) (j := 1) (b := ad (16 * 0 + 9)) hx hb hw (xv0 7) (Or.inr rfl) rfl (by decide) (by decide) rfl dX0_leastTall_58 ?_
      refine lv_iload_n hx hb dX0_leastTall_59 rfl (lv_at hl 2 rfl) ?_
      refine lv_iload hx hb dX0_leastTall_60 (lv_at hl 0 rfl) ?_
      refine l0_iast hx hb hw 9 (by decide) (q := j) rfl (show _ < 8 by omega) (pos := 44 + 5 * j + 1) rfl dX0_leastTall_62 (fun H locs hw => ?_)
      refine lv_goto (tgt := 29) hx hb dX0_leastTall_63 (by decide) ?_
      exact ih_29 (t + 1, _) _ _ _ (by first | omega | (dsimp only; omega)) ⟨by dsimp only; omega, (tl_go (g := (fun t => thrN (upd w (44 + 5 * j + 1) (nI t)) q (44 + 5 * j + 3))) (by omega) (Int32.not_le.mp c_44)).symm.trans htl, by rw [up_up] at hw; exact hw, (lv_sub hl [1, 2, 3, 4, 5, 0] rfl)⟩
theorem hdS_X0_tallFor : yX0_tallFor.cls = "LineCalls" ∧ yX0_tallFor.cls ≠ "java/lang/invoke/MethodHandle" ∧ yX0_tallFor.cls ≠ "java/lang/invoke/VarHandle" ∧ (parseMethodDescriptor yX0_tallFor.desc).map (fun d => d.parameters.length) = some 3 := by decide +kernel
set_option maxHeartbeats 4000000 in
theorem tL_tallFor (l : Launch) (G : nG) (ad : Nat → Nat) (w w1 w2 w3 : rw84) (X : mM) (sp : xSp) (sh : xSh) (k y x : Int32) (B : Nat) (hI : Inv B w) (hB : B ≤ 100000) : Met l yX0_tallFor (ws_ yX0_tallFor cX0_tallFor 4 (some .int)) { frames := 10, cells := 0, slots := 0, locals := 218 } (va_Pc [.ref (ad 64), .int k, .int y, .int x] (nC G (xE G ad (xV w w1 w2 w3) X sp sh))) (va_Qi (fun (r : Int32) (u : xSt) => r = (tallForO w k y x).1 ∧ ∃ g, u = ((tallForO w k y x).2.1, w1, g, w3, xfnd (tallForO w k y x).2.2 X, sp, sh)) (fun u => nC G (xE G ad (xV u.1 u.2.1 u.2.2.1 u.2.2.2.1) u.2.2.2.2.1 u.2.2.2.2.2.1 u.2.2.2.2.2.2)) (nA G)) 0 0 (nA G) := by
  refine n_head (by decide) (Nat.le_of_ble_eq_true rfl) ?_
  intro p e s m below meth c ls hx hb hr hlk hml hown hts hB0 hl
  have hown : s.vm.findClass "LineCalls" = some m.cls := hown
  have hw := nS.start hB0
  have hl : lv_has ls 4 [(0, .ref (ad 64)), (1, .int k), (2, .int y), (3, .int x)] := hl
  obtain ⟨n, hn, en⟩ := hI.num
  refine lv_aload_n hx hb dX0_tallFor_0 rfl (lv_at hl 0 rfl) ?_
  refine lv_iload_n hx hb dX0_tallFor_1 rfl (lv_at hl 1 rfl) ?_
  refine lv_iload_n hx hb dX0_tallFor_2 rfl (lv_at hl 3 rfl) ?_
  refine n_callp (va_runV ⟨hx, hb, hml, hown, hts⟩ (tL_areOne l G ad _ _ _ _ _ _ _ _ _) (cwV 2 hts (lw_V q839 q841 qs18 q90 q842) rfl rfl rfl hdS_X0_areOne ⟨by decide, by decide⟩) (hw.preV (k := 64) (xp 64) rfl) rfl rfl hl.1 rfl (lv_room (by simp [Value.category])) dX0_tallFor_3 ⟨Nat.zero_le _, Nat.zero_le _⟩) (fun r_3 e_3 => ?_)
  subst e_3
  refine lv_if_eq (tgt := 30) hx hb dX0_tallFor_6 (by decide) (fun c_6 => ?_) (fun c_6 => ?_)
  · skip
    refine lv_aload_n hx hb dX0_tallFor_30 rfl (lv_at hl 0 rfl) ?_
    refine lv_iconst (v := 0) hx hb dX0_tallFor_31 (by decide) ?_
    refine n_calli (va_runV ⟨hx, hb, hml, hown, hts⟩ (tL_finding l G ad _ _ _ _ _ _ _ (0) (by decide)) (cwV 1 hts (lw_V q466 q468 qs3 q90 q469) rfl rfl rfl hdS_X0_finding ⟨by decide, by decide⟩) (hw.preV (k := 64) (xp 64) rfl) rfl rfl hl.1 rfl (lv_room (by simp [Value.category])) dX0_tallFor_32 ⟨Nat.zero_le _, Nat.zero_le _⟩) hw (fun r_32 u_32 H locs e_32 hw => ?_)
    obtain ⟨rfl, rfl⟩ := e_32
    have hw : nS G (xE G ad (xV _ _ _ _) _ _ _) s H locs := hw
    exact l_iret hx hb hr hlk rfl hw (by rw [tallFor_one, if_pos c_6]; first | (rw [iq, ij]; exact none_y (tl_or _ _ _ (by decide)) _ _ _ _ _ _ _) | exact ⟨rfl, _, rfl⟩) dX0_tallFor_35
  · skip
    obtain ⟨c_61, c_62⟩ := one_yes c_6
    obtain ⟨j, hjn, hj, rfl⟩ := in_num en hn c_61
    have ij : ix (nI j) = j := nI_clamp (by omega)
    obtain ⟨q, hq, rfl⟩ := in_nat (N := 40) rfl (by decide) c_62
    have iq : ix (nI q) = q := nI_clamp (by omega)
    refine lv_iload_n hx hb dX0_tallFor_9 rfl (lv_at hl 2 rfl) ?_
    refine n_callp (va_runS ⟨hx, hb, hml, hown, hts⟩ (tX_isMany l _) (va_cwS 1 hts (lw_S q663 q664 q90 q665) rfl rfl rfl (hdS_X0_isMany).2 ⟨by decide, by decide⟩) pu_pre rfl rfl hl.1 rfl (lv_room (by simp [Value.category])) dX0_tallFor_10 ⟨Nat.zero_le _, Nat.zero_le _⟩) (fun r_10 e_10 => ?_)
    subst e_10
    refine lv_if_eq (tgt := 30) hx hb dX0_tallFor_13 (by decide) (fun c_13 => ?_) (fun c_13 => ?_)
    · skip
      refine lv_aload_n hx hb dX0_tallFor_30 rfl (lv_at hl 0 rfl) ?_
      refine lv_iconst (v := 0) hx hb dX0_tallFor_31 (by decide) ?_
      refine n_calli (va_runV ⟨hx, hb, hml, hown, hts⟩ (tL_finding l G ad _ _ _ _ _ _ _ (0) (by decide)) (cwV 1 hts (lw_V q466 q468 qs3 q90 q469) rfl rfl rfl hdS_X0_finding ⟨by decide, by decide⟩) (hw.preV (k := 64) (xp 64) rfl) rfl rfl hl.1 rfl (lv_room (by simp [Value.category])) dX0_tallFor_32 ⟨Nat.zero_le _, Nat.zero_le _⟩) hw (fun r_32 u_32 H locs e_32 hw => ?_)
      obtain ⟨rfl, rfl⟩ := e_32
      have hw : nS G (xE G ad (xV _ _ _ _) _ _ _) s H locs := hw
      exact l_iret hx hb hr hlk rfl hw (by rw [tallFor_one, if_neg c_6, if_pos c_13]; first | (rw [iq, ij]; exact none_y (tl_or _ _ _ (by decide)) _ _ _ _ _ _ _) | exact ⟨rfl, _, rfl⟩) dX0_tallFor_35
    · skip
      refine lv_aload_n hx hb dX0_tallFor_16 rfl (lv_at hl 0 rfl) ?_
      refine lv_aload_n hx hb dX0_tallFor_17 rfl (lv_at hl 0 rfl) ?_
      refine lv_iload_n hx hb dX0_tallFor_18 rfl (lv_at hl 1 rfl) ?_
      refine lv_iload_n hx hb dX0_tallFor_19 rfl (lv_at hl 2 rfl) ?_
      refine lv_iload_n hx hb dX0_tallFor_20 rfl (lv_at hl 3 rfl) ?_
      refine n_calli (va_runV ⟨hx, hb, hml, hown, hts⟩ (tL_leastTall l G ad _ _ _ _ _ _ _ (j) (q) B _ hI (by omega) (by omega)) (cwV 3 hts (lw_V q867 q869 qs22 q90 q870) rfl rfl rfl hdS_X0_leastTall ⟨by decide, by decide⟩) (hw.preV (k := 64) (xp 64) rfl) rfl rfl hl.1 rfl (lv_room (by simp [Value.category])) dX0_tallFor_21 ⟨Nat.zero_le _, Nat.zero_le _⟩) hw (fun r_21 u_21 H locs e_21 hw => ?_)
      obtain ⟨rfl, g_21, rfl⟩ := e_21
      have hw : nS G (xE G ad (xV _ _ _ _) _ _ _) s H locs := hw
      refine n_calli (va_runV ⟨hx, hb, hml, hown, hts⟩ (tL_orNone l G ad _ _ _ _ _ _ _ _) (cwV 1 hts (lw_V q806 q808 qs14 q90 q809) rfl rfl rfl hdS_X0_orNone ⟨by decide, by decide⟩) (hw.preV (k := 64) (xp 64) rfl) rfl rfl hl.1 rfl (lv_room (by simp [Value.category])) dX0_tallFor_24 ⟨Nat.zero_le _, Nat.zero_le _⟩) hw (fun r_24 u_24 H locs e_24 hw => ?_)
      obtain ⟨rfl, rfl⟩ := e_24
      have hw : nS G (xE G ad (xV _ _ _ _) _ _ _) s H locs := hw
      refine lv_goto (tgt := 35) hx hb dX0_tallFor_27 (by decide) ?_
      exact l_iret hx hb hr hlk rfl hw (by rw [tallFor_one, if_neg c_6, if_neg c_13]; first | (rw [iq, ij]; exact none_y (tl_or _ _ _ (by decide)) _ _ _ _ _ _ _) | exact ⟨rfl, _, rfl⟩) dX0_tallFor_35
theorem cv_a {w : rw84} {i : Nat} (h : bitsF (cvF w i) < bitsF (nI (63 - i))) : cvF w (i + 1) = cvF w i := by
  rw [cvF]
  by_cases h2 : saidF w (nI (63 - i)) 6 = saidF w 63 6
  · rw [if_pos h2, if_pos h]
  · rw [if_neg h2]
theorem cv_b {w : rw84} {i : Nat} (h : ¬ saidF w (nI (63 - i)) 6 = saidF w 63 6) : cvF w (i + 1) = cvF w i := by
  rw [cvF, if_neg h]
theorem cv_c {w : rw84} {i : Nat} (h : ¬ bitsF (cvF w i) < bitsF (nI (63 - i))) (h2 : saidF w (nI (63 - i)) 6 = saidF w 63 6) : cvF w (i + 1) = nI (63 - i) := by
  rw [cvF, if_pos h2, if_neg h]
theorem hdS_X0_cover : yX0_cover.cls = "LineCalls" ∧ yX0_cover.cls ≠ "java/lang/invoke/MethodHandle" ∧ yX0_cover.cls ≠ "java/lang/invoke/VarHandle" ∧ (parseMethodDescriptor yX0_cover.desc).map (fun d => d.parameters.length) = some 0 := by decide +kernel
set_option maxHeartbeats 4000000 in
theorem tL_cover (l : Launch) (G : nG) (ad : Nat → Nat) (w w1 w2 w3 : rw84) (X : mM) (sp : xSp) (sh : xSh)  (B : Nat) (hI : Inv B w) (hB : B ≤ 100000) : Met l yX0_cover (ws_ yX0_cover cX0_cover 5 (some .int)) { frames := 5, cells := 0, slots := 0, locals := 108 } (va_Pc [.ref (ad 64)] (nC G (xE G ad (xV w w1 w2 w3) X sp sh))) (va_Qi (fun (r : Int32) (u : xSt) => r = (coverO w).1 ∧ u = ((coverO w).2.1, w1, w2, w3, xfnd (coverO w).2.2 X, sp, sh)) (fun u => nC G (xE G ad (xV u.1 u.2.1 u.2.2.1 u.2.2.2.1) u.2.2.2.2.1 u.2.2.2.2.2.1 u.2.2.2.2.2.2)) (nA G)) 0 0 (nA G) := by
  refine n_head (by decide) (Nat.le_of_ble_eq_true rfl) ?_
  intro p e s m below meth c ls hx hb hr hlk hml hown hts hB0 hl
  have hown : s.vm.findClass "LineCalls" = some m.cls := hown
  have hw := nS.start hB0
  have hl : lv_has ls 5 [(0, .ref (ad 64))] := hl
  obtain ⟨n, hn, en⟩ := hI.num
  refine lv_bipush (v := 63) hx hb dX0_cover_0 (by decide) ?_
  refine lv_istore_n hx hb dX0_cover_2 rfl hl (by decide) rfl (fun ls hl => ?_)
  refine lv_aload_n hx hb dX0_cover_3 rfl (lv_at hl 1 rfl) ?_
  refine n_get (k := 64) hx hb hts in_X0 hown hw (xp 64) rfl 3 (by decide) q418 rfl dX0_cover_4 ?_
  refine lv_iload_n hx hb dX0_cover_7 rfl (lv_at hl 0 rfl) ?_
  refine n_callp (va_runV ⟨hx, hb, hml, hown, hts⟩ (tX4_said l G ad _ _ _ _ 0 (by decide) _ (xV_at0 _ _ _ _) _ B hI) (cwV 1 hts (lw_V q758 q759 q760 q97 q761) rfl rfl rfl hdS_X4_said ⟨by decide, by decide⟩) (hw.preV (k := 16 * 0 + 0) (xv0 0) rfl) rfl rfl hl.1 rfl (lv_room (by simp [Value.category])) dX0_cover_8 ⟨Nat.zero_le _, Nat.zero_le _⟩) (fun r_8 e_8 => ?_)
  subst e_8
  refine lv_istore_n hx hb dX0_cover_11 rfl hl (by decide) rfl (fun ls hl => ?_)
  refine lv_iload_n hx hb dX0_cover_12 rfl (lv_at hl 1 rfl) ?_
  refine lv_istore_n hx hb dX0_cover_13 rfl hl (by decide) rfl (fun ls hl => ?_)
  refine lv_iload_n hx hb dX0_cover_14 rfl (lv_at hl 2 rfl) ?_
  refine lv_istore hx hb dX0_cover_15 hl (by decide) rfl (fun ls hl => ?_)
  refine n_loopR (α := Nat) (fun z ls => z ≤ 64 ∧ lv_has ls 5 [(0, .ref (ad 64)), (2, .int (saidF w 63 6)), (3, .int (cvF w z)), (4, .int (dw 63 z))]) (fun z => 64 - z) 17 ?_ 0 _ ⟨Nat.zero_le _, (lv_sub hl [4, 2, 1, 0] rfl)⟩
  clear hl
  intro z ls hI ih_17
  obtain ⟨hz, hl⟩ := hI
  refine lv_iload hx hb dX0_cover_17 (lv_at hl 3 rfl) ?_
  refine lv_if_lt (tgt := 60) hx hb dX0_cover_19 (by decide) (fun c_19 => ?_) (fun c_19 => ?_)
  · skip
    have hy := dw_neg (by decide) c_19
    obtain rfl : z = 64 := by omega
    refine lv_iload_n hx hb dX0_cover_60 rfl (lv_at hl 2 rfl) ?_
    exact l_iret hx hb hr hlk rfl hw ⟨rfl, rfl⟩ dX0_cover_61
  · skip
    have hy := dw_pos c_19
    refine lv_iload hx hb dX0_cover_22 (lv_at hl 3 rfl) ?_
    refine n_topE (dw_at hy) ?_
    refine n_callp (va_runS ⟨hx, hb, hml, hown, hts⟩ (tX_ones l _) (va_cwS 1 hts (lw_S q525 q526 q90 q527) rfl rfl rfl (hdS_X0_ones).2 ⟨by decide, by decide⟩) pu_pre rfl rfl hl.1 rfl (lv_room (by simp [Value.category])) dX0_cover_24 ⟨Nat.zero_le _, Nat.zero_le _⟩) (fun r_24 e_24 => ?_)
    subst e_24
    refine n_topE (bc_nat (63 - z) (by omega)) ?_
    refine lv_iload_n hx hb dX0_cover_27 rfl (lv_at hl 2 rfl) ?_
    refine n_callp (va_runS ⟨hx, hb, hml, hown, hts⟩ (tX_ones l _) (va_cwS 1 hts (lw_S q525 q526 q90 q527) rfl rfl rfl (hdS_X0_ones).2 ⟨by decide, by decide⟩) pu_pre rfl rfl hl.1 rfl (lv_room (by simp [Value.category])) dX0_cover_28 ⟨Nat.zero_le _, Nat.zero_le _⟩) (fun r_28 e_28 => ?_)
    subst e_28
    refine n_topE (cv_bc w (by omega)) ?_
    refine lv_icmp_gt (tgt := 52) hx hb dX0_cover_31 (by decide) (fun c_31 => ?_) (fun c_31 => ?_)
    · skip
      refine lv_iload_n hx hb dX0_cover_52 rfl (lv_at hl 2 rfl) ?_
      refine lv_istore_n hx hb dX0_cover_53 rfl hl (by decide) rfl (fun ls hl => ?_)
      refine lv_iinc (v := dw 63 (z + 1)) hx hb dX0_cover_54 hl (k := 3) rfl (dw_s hy) (by decide) rfl (fun ls hl => ?_)
      refine lv_goto (tgt := 17) hx hb dX0_cover_57 (by decide) ?_
      exact ih_17 (z + 1) _ (by first | omega | (dsimp only; omega)) ⟨by omega, by first | (rw [cv_a c_31]; exact (lv_sub hl [2, 3, 1, 0] rfl)) | (rw [cv_b c_44]; exact (lv_sub hl [2, 3, 1, 0] rfl)) | (rw [cv_c c_31 c_44]; exact (lv_sub hl [2, 3, 1, 0] rfl))⟩
    · skip
      refine lv_aload_n hx hb dX0_cover_34 rfl (lv_at hl 0 rfl) ?_
      refine n_get (k := 64) hx hb hts in_X0 hown hw (xp 64) rfl 3 (by decide) q418 rfl dX0_cover_35 ?_
      refine lv_iload hx hb dX0_cover_38 (lv_at hl 3 rfl) ?_
      refine n_topE (dw_at hy) ?_
      refine n_callp (va_runV ⟨hx, hb, hml, hown, hts⟩ (tX4_said l G ad _ _ _ _ 0 (by decide) _ (xV_at0 _ _ _ _) _ B hI) (cwV 1 hts (lw_V q758 q759 q760 q97 q761) rfl rfl rfl hdS_X4_said ⟨by decide, by decide⟩) (hw.preV (k := 16 * 0 + 0) (xv0 0) rfl) rfl rfl hl.1 rfl (lv_room (by simp [Value.category])) dX0_cover_40 ⟨Nat.zero_le _, Nat.zero_le _⟩) (fun r_40 e_40 => ?_)
      subst e_40
      refine lv_iload_n hx hb dX0_cover_43 rfl (lv_at hl 1 rfl) ?_
      refine lv_icmp_ne (tgt := 52) hx hb dX0_cover_44 (by decide) (fun c_44 => ?_) (fun c_44 => ?_)
      · skip
        refine lv_iload_n hx hb dX0_cover_52 rfl (lv_at hl 2 rfl) ?_
        refine lv_istore_n hx hb dX0_cover_53 rfl hl (by decide) rfl (fun ls hl => ?_)
        refine lv_iinc (v := dw 63 (z + 1)) hx hb dX0_cover_54 hl (k := 3) rfl (dw_s hy) (by decide) rfl (fun ls hl => ?_)
        refine lv_goto (tgt := 17) hx hb dX0_cover_57 (by decide) ?_
        exact ih_17 (z + 1) _ (by first | omega | (dsimp only; omega)) ⟨by omega, by first | (rw [cv_a c_31]; exact (lv_sub hl [2, 3, 1, 0] rfl)) | (rw [cv_b c_44]; exact (lv_sub hl [2, 3, 1, 0] rfl)) | (rw [cv_c c_31 c_44]; exact (lv_sub hl [2, 3, 1, 0] rfl))⟩
      · skip
        refine lv_iload hx hb dX0_cover_47 (lv_at hl 3 rfl) ?_
        refine n_topE (dw_at hy) ?_
        refine lv_goto (tgt := 53) hx hb dX0_cover_49 (by decide) ?_
        refine lv_istore_n hx hb dX0_cover_53 rfl hl (by decide) rfl (fun ls hl => ?_)
        refine lv_iinc (v := dw 63 (z + 1)) hx hb dX0_cover_54 hl (k := 3) rfl (dw_s hy) (by decide) rfl (fun ls hl => ?_)
        refine lv_goto (tgt := 17) hx hb dX0_cover_57 (by decide) ?_
        exact ih_17 (z + 1) _ (by first | omega | (dsimp only; omega)) ⟨by omega, by first | (rw [cv_a c_31]; exact (lv_sub hl [2, 3, 1, 0] rfl)) | (rw [cv_b c_44]; exact (lv_sub hl [2, 3, 1, 0] rfl)) | (rw [cv_c c_31 c_44]; exact (lv_sub hl [2, 3, 1, 0] rfl))⟩
