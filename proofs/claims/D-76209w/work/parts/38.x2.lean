/-! the class: a world's methods -/
set_option maxRecDepth 100000
theorem xV_at0 (a b c d : rw84) : xV a b c d 0 = a := rfl
theorem xV_at1 (a b c d : rw84) : xV a b c d 1 = b := rfl
theorem xV_at2 (a b c d : rw84) : xV a b c d 2 = c := rfl
theorem xV_at3 (a b c d : rw84) : xV a b c d 3 = d := rfl
theorem hdS_X4_standsIn : yX4_standsIn.cls = "LineCalls$World" ∧ yX4_standsIn.cls ≠ "java/lang/invoke/MethodHandle" ∧ yX4_standsIn.cls ≠ "java/lang/invoke/VarHandle" ∧ (parseMethodDescriptor yX4_standsIn.desc).map (fun d => d.parameters.length) = some 1 := by decide +kernel
set_option maxHeartbeats 4000000 in
theorem tX4_standsIn (l : Launch) (G : nG) (ad : Nat → Nat) (V : xWs) (X : mM) (sp : xSp) (sh : xSh) (j : Nat) (hj : j < 4) (w : rw84) (hV : V j = w) (k : Int32) : Met l yX4_standsIn (ws_ yX4_standsIn cX4_standsIn 4 (some .int)) { frames := 0, cells := 0, slots := 0, locals := 0 } (va_Pc [.ref (ad (16 * j + 0)), .int k] (nC G (xE G ad V X sp sh))) (vp_Si (fun r => r = oI (stN w k 7))) 0 0 (fun _ => False) := by
  refine n_head (by decide) (Nat.le_of_ble_eq_true rfl) ?_
  intro p e s m below meth c ls hx hb hr hlk hml hown hts hB0 hl
  have hown : s.vm.findClass "LineCalls$World" = some m.cls := hown
  have hw := nS.start hB0
  have hl : lv_has ls 4 [(0, .ref (ad (16 * j + 0))), (1, .int k)] := hl
  have hw : nS G (xE G ad (va_up V j w) X sp sh) s _ _ := n_E (by rw [← va_up_eq hV]) hw
  refine lv_iconst (v := (-1)) hx hb dX4_standsIn_0 (by decide) ?_
  refine lv_istore_n hx hb dX4_standsIn_1 rfl hl (by decide) rfl (fun ls hl => ?_)
  refine lv_iconst (v := 0) hx hb dX4_standsIn_2 (by decide) ?_
  refine lv_istore_n hx hb dX4_standsIn_3 rfl hl (by decide) rfl (fun ls hl => ?_)
  refine n_loopR (α := Nat) (fun q ls => q ≤ 7 ∧ lv_has ls 4 [(0, .ref (ad (16 * j + 0))), (1, .int k), (2, .int (oI (stN w k q))), (3, .int (nI q))]) (fun q => 7 - q) 4 ?_ 0 _ ⟨Nat.zero_le _, (lv_sub hl [2, 3, 1, 0] rfl)⟩
  clear hl
  intro q ls hI ih_4
  obtain ⟨hq, hl⟩ := hI
  refine lv_iload_n hx hb dX4_standsIn_4 rfl (lv_at hl 3 rfl) ?_
  refine lv_bipush (v := 7) hx hb dX4_standsIn_5 (by decide) ?_
  refine lv_icmp_ge (tgt := 32) hx hb dX4_standsIn_7 (by decide) (fun c_7 => ?_) (fun c_7 => ?_)
  · skip
    have n_7 : 7 ≤ q := (nI_leI (a := 7) (b := q) (by omega) (by omega)).mp c_7
    obtain rfl : q = 7 := by omega
    refine lv_iload_n hx hb dX4_standsIn_32 rfl (lv_at hl 2 rfl) ?_
    exact n_pret hx hb hr hlk rfl rfl dX4_standsIn_33
  · skip
    have n_7 : ¬ 7 ≤ q := fun h => c_7 ((nI_leI (a := 7) (b := q) (by omega) (by omega)).mpr h)
    refine lv_aload_n hx hb dX4_standsIn_10 rfl (lv_at hl 0 rfl) ?_
    refine n_get (k := 16 * j + 0) hx hb hts in_X4 hown hw (xwv hj 0) rfl 0 (by decide) q219 rfl dX4_standsIn_11 ?_
    refine lv_iload_n hx hb dX4_standsIn_14 rfl (lv_at hl 3 rfl) ?_
    refine n_iald (k := 16 * j + 1) (j := q) hx hb hw (xwv hj 1) rfl (by omega) (by decide) dX4_standsIn_15 ?_
    refine lv_iload_n hx hb dX4_standsIn_16 rfl (lv_at hl 1 rfl) ?_
    refine lv_icmp_ne (tgt := 24) hx hb dX4_standsIn_17 (by decide) (fun c_17 => ?_) (fun c_17 => ?_)
    · skip
      refine lv_iload_n hx hb dX4_standsIn_24 rfl (lv_at hl 2 rfl) ?_
      refine lv_istore_n hx hb dX4_standsIn_25 rfl hl (by decide) rfl (fun ls hl => ?_)
      refine lv_iinc (v := nI (q + 1)) hx hb dX4_standsIn_26 hl (k := 3) rfl (nI_1 _) (by decide) rfl (fun ls hl => ?_)
      refine lv_goto (tgt := 4) hx hb dX4_standsIn_29 (by decide) ?_
      exact ih_4 (q + 1) _ (by first | omega | (dsimp only; omega)) ⟨by omega, by rw [stN, if_neg c_17]; exact (lv_sub hl [2, 3, 1, 0] rfl)⟩
    · skip
      refine lv_iload_n hx hb dX4_standsIn_20 rfl (lv_at hl 3 rfl) ?_
      refine lv_goto (tgt := 25) hx hb dX4_standsIn_21 (by decide) ?_
      refine lv_istore_n hx hb dX4_standsIn_25 rfl hl (by decide) rfl (fun ls hl => ?_)
      refine lv_iinc (v := nI (q + 1)) hx hb dX4_standsIn_26 hl (k := 3) rfl (nI_1 _) (by decide) rfl (fun ls hl => ?_)
      refine lv_goto (tgt := 4) hx hb dX4_standsIn_29 (by decide) ?_
      exact ih_4 (q + 1) _ (by first | omega | (dsimp only; omega)) ⟨by omega, by rw [stN, if_pos c_17]; exact (lv_sub hl [2, 3, 1, 0] rfl)⟩
theorem hdS_X4_force : yX4_force.cls = "LineCalls$World" ∧ yX4_force.cls ≠ "java/lang/invoke/MethodHandle" ∧ yX4_force.cls ≠ "java/lang/invoke/VarHandle" ∧ (parseMethodDescriptor yX4_force.desc).map (fun d => d.parameters.length) = some 1 := by decide +kernel
set_option maxHeartbeats 4000000 in
theorem tX4_force (l : Launch) (G : nG) (ad : Nat → Nat) (V : xWs) (X : mM) (sp : xSp) (sh : xSh) (j : Nat) (hj : j < 4) (w : rw84) (hV : V j = w) (q : Nat) (hq : q < 7) : Met l yX4_force (ws_ yX4_force cX4_force 2 (some .int)) { frames := 0, cells := 0, slots := 0, locals := 0 } (va_Pc [.ref (ad (16 * j + 0)), .int (nI q)] (nC G (xE G ad V X sp sh))) (vp_Si (fun r => r = forceF w q)) 0 0 (fun _ => False) := by
  refine n_head (by decide) (Nat.le_of_ble_eq_true rfl) ?_
  intro p e s m below meth c ls hx hb hr hlk hml hown hts hB0 hl
  have hown : s.vm.findClass "LineCalls$World" = some m.cls := hown
  have hw := nS.start hB0
  have hl : lv_has ls 2 [(0, .ref (ad (16 * j + 0))), (1, .int (nI q))] := hl
  have hw : nS G (xE G ad (va_up V j w) X sp sh) s _ _ := n_E (by rw [← va_up_eq hV]) hw
  refine lv_aload_n hx hb dX4_force_0 rfl (lv_at hl 0 rfl) ?_
  refine n_get (k := 16 * j + 0) hx hb hts in_X4 hown hw (xwv hj 0) rfl 1 (by decide) q222 rfl dX4_force_1 ?_
  refine lv_iconst (v := 0) hx hb dX4_force_4 (by decide) ?_
  refine n_aaldS (k := 16 * j + 2) (t := 4) (j := 0) (b := ad (16 * j + 3)) hx hb hw (xwv hj 2) (Or.inr rfl) rfl (by decide) (by decide) rfl dX4_force_5 ?_
  refine lv_iload_n hx hb dX4_force_6 rfl (lv_at hl 1 rfl) ?_
  refine n_iald (k := 16 * j + 3) (j := q) hx hb hw (xwv hj 3) rfl (by omega) (by decide) dX4_force_7 ?_
  refine lv_aload_n hx hb dX4_force_8 rfl (lv_at hl 0 rfl) ?_
  refine n_get (k := 16 * j + 0) hx hb hts in_X4 hown hw (xwv hj 0) rfl 1 (by decide) q222 rfl dX4_force_9 ?_
  refine lv_iconst (v := 1) hx hb dX4_force_12 (by decide) ?_
  refine n_aaldS (k := 16 * j + 2) (t := 4) (j := 1) (b := ad (16 * j + 4)) hx hb hw (xwv hj 2) (Or.inr rfl) rfl (by decide) (by decide) rfl dX4_force_13 ?_
  refine lv_iload_n hx hb dX4_force_14 rfl (lv_at hl 1 rfl) ?_
  refine n_iald (k := 16 * j + 4) (j := q) hx hb hw (xwv hj 4) rfl (by omega) (by decide) dX4_force_15 ?_
  refine lv_iconst (v := 2) hx hb dX4_force_16 (by decide) ?_
  refine lv_idiv hx hb dX4_force_17 (by decide) ?_
  refine lv_iadd hx hb dX4_force_18 ?_
  exact n_pret hx hb hr hlk rfl rfl dX4_force_19
theorem hdS_X4_isLate : yX4_isLate.cls = "LineCalls$World" ∧ yX4_isLate.cls ≠ "java/lang/invoke/MethodHandle" ∧ yX4_isLate.cls ≠ "java/lang/invoke/VarHandle" ∧ (parseMethodDescriptor yX4_isLate.desc).map (fun d => d.parameters.length) = some 1 := by decide +kernel
set_option maxHeartbeats 4000000 in
theorem tX4_isLate (l : Launch) (G : nG) (ad : Nat → Nat) (V : xWs) (X : mM) (sp : xSp) (sh : xSh) (j : Nat) (hj : j < 4) (w : rw84) (hV : V j = w) (v : Int32) : Met l yX4_isLate (ws_ yX4_isLate cX4_isLate 2 (some .boolean)) { frames := 0, cells := 0, slots := 0, locals := 0 } (va_Pc [.ref (ad (16 * j + 0)), .int v] (nC G (xE G ad V X sp sh))) (vp_Si (fun r => r = (if w 0 + v ≤ 99999 then 0 else 1))) 0 0 (fun _ => False) := by
  refine n_head (by decide) (Nat.le_of_ble_eq_true rfl) ?_
  intro p e s m below meth c ls hx hb hr hlk hml hown hts hB0 hl
  have hown : s.vm.findClass "LineCalls$World" = some m.cls := hown
  have hw := nS.start hB0
  have hl : lv_has ls 2 [(0, .ref (ad (16 * j + 0))), (1, .int v)] := hl
  have hw : nS G (xE G ad (va_up V j w) X sp sh) s _ _ := n_E (by rw [← va_up_eq hV]) hw
  refine lv_aload_n hx hb dX4_isLate_0 rfl (lv_at hl 0 rfl) ?_
  refine n_get (k := 16 * j + 0) hx hb hts in_X4 hown hw (xwv hj 0) rfl 7 (by decide) q245 rfl dX4_isLate_1 ?_
  refine lv_iload_n hx hb dX4_isLate_4 rfl (lv_at hl 1 rfl) ?_
  refine lv_iadd hx hb dX4_isLate_5 ?_
  refine lv_ldc (v := 99999) hx hb hown (hts _ q703) dX4_isLate_6 ?_
  refine lv_icmp_le (tgt := 15) hx hb dX4_isLate_8 (by decide) (fun c_8 => ?_) (fun c_8 => ?_)
  · skip
    refine lv_iconst (v := 0) hx hb dX4_isLate_15 (by decide) ?_
    exact n_pret hx hb hr hlk rfl (by rw [if_pos c_8]) dX4_isLate_16
  · skip
    refine lv_iconst (v := 1) hx hb dX4_isLate_11 (by decide) ?_
    refine lv_goto (tgt := 16) hx hb dX4_isLate_12 (by decide) ?_
    exact n_pret hx hb hr hlk rfl (by rw [if_neg c_8]) dX4_isLate_16
theorem hdS_X4_goesBack : yX4_goesBack.cls = "LineCalls$World" ∧ yX4_goesBack.cls ≠ "java/lang/invoke/MethodHandle" ∧ yX4_goesBack.cls ≠ "java/lang/invoke/VarHandle" ∧ (parseMethodDescriptor yX4_goesBack.desc).map (fun d => d.parameters.length) = some 1 := by decide +kernel
set_option maxHeartbeats 4000000 in
theorem tX4_goesBack (l : Launch) (G : nG) (ad : Nat → Nat) (V : xWs) (X : mM) (sp : xSp) (sh : xSh) (j : Nat) (hj : j < 4) (w : rw84) (hV : V j = w) (v : Int32) : Met l yX4_goesBack (ws_ yX4_goesBack cX4_goesBack 2 (none)) { frames := 1, cells := 0, slots := 0, locals := 21 } (va_Pc [.ref (ad (16 * j + 0)), .int v] (nC G (xE G ad V X sp sh))) (va_Qv (fun (u : rw84) => u = upd w 3 (mx 0 (w 3 - v))) (fun u => nC G (xE G ad (va_up V j u) X sp sh)) (nA G)) 0 0 (nA G) := by
  refine n_head (by decide) (Nat.le_of_ble_eq_true rfl) ?_
  intro p e s m below meth c ls hx hb hr hlk hml hown hts hB0 hl
  have hown : s.vm.findClass "LineCalls$World" = some m.cls := hown
  have hw := nS.start hB0
  have hl : lv_has ls 2 [(0, .ref (ad (16 * j + 0))), (1, .int v)] := hl
  have hw : nS G (xE G ad (va_up V j w) X sp sh) s _ _ := n_E (by rw [← va_up_eq hV]) hw
  refine lv_aload_n hx hb dX4_goesBack_0 rfl (lv_at hl 0 rfl) ?_
  refine lv_iconst (v := 0) hx hb dX4_goesBack_1 (by decide) ?_
  refine lv_aload_n hx hb dX4_goesBack_2 rfl (lv_at hl 0 rfl) ?_
  refine n_get (k := 16 * j + 0) hx hb hts in_X4 hown hw (xwv hj 0) rfl 4 (by decide) q235 rfl dX4_goesBack_3 ?_
  refine lv_iload_n hx hb dX4_goesBack_6 rfl (lv_at hl 1 rfl) ?_
  refine lv_isub hx hb dX4_goesBack_7 ?_
  refine va_mmax hx hb (hml.trans hl.1.symm) hown (hts _ q725) (hts _ q625) (hts _ q108) (hts _ q626) (by decide) (by simp [Value.category]) (Nat.zero_le _) (Nat.zero_le _) dX4_goesBack_8 ?_
  refine w_put hx hb hts hown hw hj 4 (by decide) q235 (pos := 3) rfl dX4_goesBack_11 (fun H locs hw => ?_)
  exact n_vret hx hb hr hlk _ hw rfl dX4_goesBack_14
theorem hdS_X4_draw : yX4_draw.cls = "LineCalls$World" ∧ yX4_draw.cls ≠ "java/lang/invoke/MethodHandle" ∧ yX4_draw.cls ≠ "java/lang/invoke/VarHandle" ∧ (parseMethodDescriptor yX4_draw.desc).map (fun d => d.parameters.length) = some 0 := by decide +kernel
set_option maxHeartbeats 4000000 in
theorem tX4_draw (l : Launch) (G : nG) (ad : Nat → Nat) (V : xWs) (X : mM) (sp : xSp) (sh : xSh) (j : Nat) (hj : j < 4) (w : rw84) (hV : V j = w)  : Met l yX4_draw (ws_ yX4_draw cX4_draw 1 (some .int)) { frames := 0, cells := 0, slots := 0, locals := 0 } (va_Pc [.ref (ad (16 * j + 0))] (nC G (xE G ad V X sp sh))) (va_Qi (fun (r : Int32) (u : rw84) => r = drawR w ∧ u = drawF w) (fun u => nC G (xE G ad (va_up V j u) X sp sh)) (nA G)) 0 0 (nA G) := by
  refine n_head (by decide) (Nat.le_of_ble_eq_true rfl) ?_
  intro p e s m below meth c ls hx hb hr hlk hml hown hts hB0 hl
  have hown : s.vm.findClass "LineCalls$World" = some m.cls := hown
  have hw := nS.start hB0
  have hl : lv_has ls 1 [(0, .ref (ad (16 * j + 0)))] := hl
  have hw : nS G (xE G ad (va_up V j w) X sp sh) s _ _ := n_E (by rw [← va_up_eq hV]) hw
  refine lv_aload_n hx hb dX4_draw_0 rfl (lv_at hl 0 rfl) ?_
  refine lv_aload_n hx hb dX4_draw_1 rfl (lv_at hl 0 rfl) ?_
  refine n_get (k := 16 * j + 0) hx hb hts in_X4 hown hw (xwv hj 0) rfl 8 (by decide) q247 rfl dX4_draw_2 ?_
  refine lv_ldc (v := 1103515245) hx hb hown (hts _ q947) dX4_draw_5 ?_
  refine lv_imul hx hb dX4_draw_7 ?_
  refine lv_sipush (v := 12345) hx hb dX4_draw_8 (by decide) ?_
  refine lv_iadd hx hb dX4_draw_11 ?_
  refine w_put hx hb hts hown hw hj 8 (by decide) q247 (pos := 2) rfl dX4_draw_12 (fun H locs hw => ?_)
  refine lv_aload_n hx hb dX4_draw_15 rfl (lv_at hl 0 rfl) ?_
  refine n_get (k := 16 * j + 0) hx hb hts in_X4 hown hw (xwv hj 0) rfl 8 (by decide) q247 rfl dX4_draw_16 ?_
  refine lv_bipush (v := 8) hx hb dX4_draw_19 (by decide) ?_
  refine lv_iushr hx hb dX4_draw_21 rfl ?_
  exact n_iret hx hb hr hlk rfl _ hw ⟨rfl, rfl⟩ dX4_draw_22
theorem oI_m1 {o : Option Nat} (hlt : ∀ q, o = some q → q < 2 ^ 31) (h : oI o = -1) : o = none := by
  cases o with
  | none => rfl
  | some q =>
    have h1 : (nI q).toInt = (-1 : Int32).toInt := congrArg Int32.toInt h
    rw [nI_toInt (hlt q rfl)] at h1
    have h2 : (-1 : Int32).toInt = -1 := by decide
    omega
theorem oI_at {o : Option Nat} (h : ¬ oI o = -1) : ∃ q, o = some q ∧ oI o = nI q := by
  cases o with
  | none => exact absurd rfl h
  | some q => exact ⟨q, rfl, rfl⟩
def winsF (w : rw84) (k : Nat) (g : Int32) : rw84 := upd (upd w 3 (mn 99999 (w 3 + g))) (44 + 5 * k + 3) (mn 9999 (upd w 3 (mn 99999 (w 3 + g)) (44 + 5 * k + 3) + 1))
def losesF (w : rw84) (k : Nat) : rw84 := upd (upd w (44 + 5 * k + 4) (mn 9999 (w (44 + 5 * k + 4) + 1))) 3 (mx 0 (upd w (44 + 5 * k + 4) (mn 9999 (w (44 + 5 * k + 4) + 1)) 3 - 3))
def tiresF (w : rw84) (who t : Int32) : Nat → rw84
  | 0 => w
  | o + 1 => upd (tiresF w who t o) (44 + 5 * o + 2) (mx 0 (mn 99 (tiresF w who t o (44 + 5 * o + 2) + (if nI o = who then t else -2))))
theorem tiresF_out {w : rw84} {k t : Int32} {i : Nat} : ∀ {n : Nat}, (∀ o, o < n → i ≠ 44 + 5 * o + 2) → tiresF w k t n i = w i
  | 0, _ => rfl
  | n + 1, h => by
    rw [tiresF, up_ne (h n (Nat.lt_succ_self _))]
    exact tiresF_out (fun o ho => h o (Nat.lt_succ_of_lt ho))
def endsF (w : rw84) (q : Nat) (who t : Int32) (n : Nat) : rw84 :=
  upd (readF (tiresF w who t n) (nI q) 7) 0 (readF (tiresF w who t n) (nI q) 7 0 + 1)
theorem zeroF_1 (w : rw84) (n : Nat) : ∀ f, zeroF w n f 1 = w 1
  | 0 => rfl
  | f + 1 => by rw [zeroF, up_ne (by omega), zeroF_1 w n f]
theorem Inv.bc {B : Nat} {w : rw84} (h : Inv B w) {i : Nat} (hi : i < 6) : bcF (w (38 + i)) = bitsF (w (38 + i)) := by
  obtain ⟨c, hc, e⟩ := h.list hi
  rw [e]
  exact bc_nat c (by omega)
theorem hdS_X4_stands : yX4_stands.cls = "LineCalls$World" ∧ yX4_stands.cls ≠ "java/lang/invoke/MethodHandle" ∧ yX4_stands.cls ≠ "java/lang/invoke/VarHandle" ∧ (parseMethodDescriptor yX4_stands.desc).map (fun d => d.parameters.length) = some 2 := by decide +kernel
set_option maxHeartbeats 4000000 in
theorem tX4_stands (l : Launch) (G : nG) (ad : Nat → Nat) (V : xWs) (X : mM) (sp : xSp) (sh : xSh) (j : Nat) (hj : j < 4) (w : rw84) (hV : V j = w) (q : Nat) (k : Int32) (hq : q < 7) (hk : k = -1 ∨ ¬ k < 0) : Met l yX4_stands (ws_ yX4_stands cX4_stands 5 (some .int)) { frames := 1, cells := 0, slots := 0, locals := 23 } (va_Pc [.ref (ad (16 * j + 0)), .int (nI q), .int k] (nC G (xE G ad V X sp sh))) (va_Qi (fun (r : Int32) (u : rw84) => r = w (17 + q) ∧ u = standF w q k) (fun u => nC G (xE G ad (va_up V j u) X sp sh)) (nA G)) 0 0 (nA G) := by
  refine n_head (by decide) (Nat.le_of_ble_eq_true rfl) ?_
  intro p e s m below meth c ls hx hb hr hlk hml hown hts hB0 hl
  have hown : s.vm.findClass "LineCalls$World" = some m.cls := hown
  have hw := nS.start hB0
  have hl : lv_has ls 5 [(0, .ref (ad (16 * j + 0))), (1, .int (nI q)), (2, .int k)] := hl
  have hw : nS G (xE G ad (va_up V j w) X sp sh) s _ _ := n_E (by rw [← va_up_eq hV]) hw
  refine lv_aload_n hx hb dX4_stands_0 rfl (lv_at hl 0 rfl) ?_
  refine n_get (k := 16 * j + 0) hx hb hts in_X4 hown hw (xwv hj 0) rfl 0 (by decide) q219 rfl dX4_stands_1 ?_
  refine lv_iload_n hx hb dX4_stands_4 rfl (lv_at hl 1 rfl) ?_
  refine n_iald (k := 16 * j + 1) (j := q) hx hb hw (xwv hj 1) rfl (by omega) (by decide) dX4_stands_5 ?_
  refine lv_istore_n hx hb dX4_stands_6 rfl hl (by decide) rfl (fun ls hl => ?_)
  refine lv_iload_n hx hb dX4_stands_7 rfl (lv_at hl 3 rfl) ?_
  refine lv_iconst (v := (-1)) hx hb dX4_stands_8 (by decide) ?_
  refine n_join2 (fun v => v = oI (if k < 0 then none else stN w k 7)) 21 (fun v_9 hv_9 => ?_) (fun hj_9 => ?_)
  · skip
    subst hv_9
    refine lv_istore hx hb dX4_stands_21 hl (by decide) rfl (fun ls hl => ?_)
    refine lv_iload hx hb dX4_stands_23 (lv_at hl 0 rfl) ?_
    refine lv_iconst (v := (-1)) hx hb dX4_stands_25 (by decide) ?_
    refine lv_icmp_eq (tgt := 37) hx hb dX4_stands_26 (by decide) (fun c_26 => ?_) (fun c_26 => ?_)
    · skip
      have ho := oI_m1 (fun z hz => by split at hz; cases hz; have := stN_lt hz; omega) c_26
      refine lv_aload_n hx hb dX4_stands_37 rfl (lv_at hl 2 rfl) ?_
      refine n_get (k := 16 * j + 0) hx hb hts in_X4 hown hw (xwv hj 0) rfl 0 (by decide) q219 rfl dX4_stands_38 ?_
      refine lv_iload_n hx hb dX4_stands_41 rfl (lv_at hl 3 rfl) ?_
      refine lv_iload_n hx hb dX4_stands_42 rfl (lv_at hl 4 rfl) ?_
      refine w_iast hx hb hw 1 hj (by decide) (q := q) rfl (show _ < 7 by omega) (pos := 17 + q) rfl dX4_stands_43 (fun H locs hw => ?_)
      refine lv_iload_n hx hb dX4_stands_44 rfl (lv_at hl 1 rfl) ?_
      exact n_iret hx hb hr hlk rfl _ hw ⟨rfl, by rw [standF]; first | rw [ho] | rw [hz]⟩ dX4_stands_45
    · skip
      obtain ⟨z, hz, ez⟩ := oI_at c_26
      have hz7 : z < 7 := by (have hz2 := hz; split at hz2; cases hz2; exact stN_lt hz2)
      refine lv_aload_n hx hb dX4_stands_29 rfl (lv_at hl 2 rfl) ?_
      refine n_get (k := 16 * j + 0) hx hb hts in_X4 hown hw (xwv hj 0) rfl 0 (by decide) q219 rfl dX4_stands_30 ?_
      refine lv_iload hx hb dX4_stands_33 (lv_at hl 0 rfl) ?_
      refine n_topE ez ?_
      refine lv_iconst (v := (-1)) hx hb dX4_stands_35 (by decide) ?_
      refine w_iast hx hb hw 1 hj (by decide) (q := z) rfl (show _ < 7 by omega) (pos := 17 + z) rfl dX4_stands_36 (fun H locs hw => ?_)
      refine lv_aload_n hx hb dX4_stands_37 rfl (lv_at hl 2 rfl) ?_
      refine n_get (k := 16 * j + 0) hx hb hts in_X4 hown hw (xwv hj 0) rfl 0 (by decide) q219 rfl dX4_stands_38 ?_
      refine lv_iload_n hx hb dX4_stands_41 rfl (lv_at hl 3 rfl) ?_
      refine lv_iload_n hx hb dX4_stands_42 rfl (lv_at hl 4 rfl) ?_
      refine w_iast hx hb hw 1 hj (by decide) (q := q) rfl (show _ < 7 by omega) (pos := 17 + q) rfl dX4_stands_43 (fun H locs hw => ?_)
      refine lv_iload_n hx hb dX4_stands_44 rfl (lv_at hl 1 rfl) ?_
      exact n_iret hx hb hr hlk rfl _ hw ⟨rfl, by rw [standF]; first | rw [ho] | rw [hz]⟩ dX4_stands_45
  · skip
    refine lv_icmp_ne (tgt := 16) hx hb dX4_stands_9 (by decide) (fun c_9 => ?_) (fun c_9 => ?_)
    · skip
      refine lv_aload_n hx hb dX4_stands_16 rfl (lv_at hl 1 rfl) ?_
      refine lv_iload_n hx hb dX4_stands_17 rfl (lv_at hl 3 rfl) ?_
      refine n_callp (va_runV ⟨hx, hb, hml, hown, hts⟩ (tX4_standsIn l G ad _ _ _ _ _ hj _ (va_up_self _ _ _) _) (cwV 1 hts (lw_V q475 q476 q477 q97 q478) rfl rfl rfl hdS_X4_standsIn ⟨by decide, by decide⟩) (hw.preV (k := 16 * j + 0) (xwv hj 0) rfl) rfl rfl hl.1 rfl (lv_room (by simp [Value.category])) dX4_stands_18 ⟨Nat.zero_le _, Nat.zero_le _⟩) (fun r_18 e_18 => ?_)
      subst e_18
      exact hj_9 _ (by first | rw [if_neg (hk.resolve_left c_9)] | (rw [if_pos (show k < 0 by rw [c_9]; decide)]; rfl))
    · skip
      refine lv_iconst (v := (-1)) hx hb dX4_stands_12 (by decide) ?_
      refine lv_goto (tgt := 21) hx hb dX4_stands_13 (by decide) ?_
      exact hj_9 _ (by first | rw [if_neg (hk.resolve_left c_9)] | (rw [if_pos (show k < 0 by rw [c_9]; decide)]; rfl))
theorem hdS_X4_changes : yX4_changes.cls = "LineCalls$World" ∧ yX4_changes.cls ≠ "java/lang/invoke/MethodHandle" ∧ yX4_changes.cls ≠ "java/lang/invoke/VarHandle" ∧ (parseMethodDescriptor yX4_changes.desc).map (fun d => d.parameters.length) = some 2 := by decide +kernel
set_option maxHeartbeats 4000000 in
theorem tX4_changes (l : Launch) (G : nG) (ad : Nat → Nat) (V : xWs) (X : mM) (sp : xSp) (sh : xSh) (j : Nat) (hj : j < 4) (w : rw84) (hV : V j = w) (q : Nat) (k : Int32) (hq : q < 7) : Met l yX4_changes (ws_ yX4_changes cX4_changes 5 (none)) { frames := 1, cells := 0, slots := 0, locals := 23 } (va_Pc [.ref (ad (16 * j + 0)), .int (nI q), .int k] (nC G (xE G ad V X sp sh))) (va_Qv (fun (u : rw84) => u = chF w q k) (fun u => nC G (xE G ad (va_up V j u) X sp sh)) (nA G)) 0 0 (nA G) := by
  refine n_head (by decide) (Nat.le_of_ble_eq_true rfl) ?_
  intro p e s m below meth c ls hx hb hr hlk hml hown hts hB0 hl
  have hown : s.vm.findClass "LineCalls$World" = some m.cls := hown
  have hw := nS.start hB0
  have hl : lv_has ls 5 [(0, .ref (ad (16 * j + 0))), (1, .int (nI q)), (2, .int k)] := hl
  have hw : nS G (xE G ad (va_up V j w) X sp sh) s _ _ := n_E (by rw [← va_up_eq hV]) hw
  refine lv_aload_n hx hb dX4_changes_0 rfl (lv_at hl 0 rfl) ?_
  refine lv_iload_n hx hb dX4_changes_1 rfl (lv_at hl 2 rfl) ?_
  refine n_callp (va_runV ⟨hx, hb, hml, hown, hts⟩ (tX4_standsIn l G ad _ _ _ _ _ hj _ (va_up_self _ _ _) _) (cwV 1 hts (lw_V q475 q476 q477 q97 q478) rfl rfl rfl hdS_X4_standsIn ⟨by decide, by decide⟩) (hw.preV (k := 16 * j + 0) (xwv hj 0) rfl) rfl rfl hl.1 rfl (lv_room (by simp [Value.category])) dX4_changes_2 ⟨Nat.zero_le _, Nat.zero_le _⟩) (fun r_2 e_2 => ?_)
  subst e_2
  refine lv_istore_n hx hb dX4_changes_5 rfl hl (by decide) rfl (fun ls hl => ?_)
  refine lv_aload_n hx hb dX4_changes_6 rfl (lv_at hl 1 rfl) ?_
  refine n_get (k := 16 * j + 0) hx hb hts in_X4 hown hw (xwv hj 0) rfl 0 (by decide) q219 rfl dX4_changes_7 ?_
  refine lv_iload_n hx hb dX4_changes_10 rfl (lv_at hl 2 rfl) ?_
  refine n_iald (k := 16 * j + 1) (j := q) hx hb hw (xwv hj 1) rfl (by omega) (by decide) dX4_changes_11 ?_
  refine lv_istore hx hb dX4_changes_12 hl (by decide) rfl (fun ls hl => ?_)
  refine lv_aload_n hx hb dX4_changes_14 rfl (lv_at hl 2 rfl) ?_
  refine n_get (k := 16 * j + 0) hx hb hts in_X4 hown hw (xwv hj 0) rfl 0 (by decide) q219 rfl dX4_changes_15 ?_
  refine lv_iload_n hx hb dX4_changes_18 rfl (lv_at hl 3 rfl) ?_
  refine lv_iload_n hx hb dX4_changes_19 rfl (lv_at hl 4 rfl) ?_
  refine w_iast hx hb hw 1 hj (by decide) (q := q) rfl (show _ < 7 by omega) (pos := 17 + q) rfl dX4_changes_20 (fun H locs hw => ?_)
  refine lv_iload_n hx hb dX4_changes_21 rfl (lv_at hl 1 rfl) ?_
  refine lv_iconst (v := (-1)) hx hb dX4_changes_22 (by decide) ?_
  refine lv_icmp_eq (tgt := 39) hx hb dX4_changes_23 (by decide) (fun c_23 => ?_) (fun c_23 => ?_)
  · skip
    have ho := oI_m1 (fun z hz => by have := stN_lt hz; omega) c_23
    exact n_vret hx hb hr hlk _ hw (by rw [chF]; first | rw [ho] | (rw [hz]; dsimp only; first | rw [if_pos n_28] | rw [if_neg n_28])) dX4_changes_39
  · skip
    obtain ⟨z, hz, ez⟩ := oI_at c_23
    have hz7 : z < 7 := stN_lt hz
    refine lv_iload_n hx hb dX4_changes_26 rfl (lv_at hl 1 rfl) ?_
    refine n_topE ez ?_
    refine lv_iload_n hx hb dX4_changes_27 rfl (lv_at hl 3 rfl) ?_
    refine lv_icmp_eq (tgt := 39) hx hb dX4_changes_28 (by decide) (fun c_28 => ?_) (fun c_28 => ?_)
    · skip
      have n_28 : z = q := (nI_eq (a := z) (b := q) (by omega) (by omega)).mp c_28
      exact n_vret hx hb hr hlk _ hw (by rw [chF]; first | rw [ho] | (rw [hz]; dsimp only; first | rw [if_pos n_28] | rw [if_neg n_28])) dX4_changes_39
    · skip
      have n_28 : ¬ z = q := fun h => c_28 ((nI_eq (a := z) (b := q) (by omega) (by omega)).mpr h)
      refine lv_aload_n hx hb dX4_changes_31 rfl (lv_at hl 2 rfl) ?_
      refine n_get (k := 16 * j + 0) hx hb hts in_X4 hown hw (xwv hj 0) rfl 0 (by decide) q219 rfl dX4_changes_32 ?_
      refine lv_iload_n hx hb dX4_changes_35 rfl (lv_at hl 1 rfl) ?_
      refine n_topE ez ?_
      refine lv_iload hx hb dX4_changes_36 (lv_at hl 0 rfl) ?_
      refine w_iast hx hb hw 1 hj (by decide) (q := z) rfl (show _ < 7 by omega) (pos := 17 + z) rfl dX4_changes_38 (fun H locs hw => ?_)
      exact n_vret hx hb hr hlk _ hw (by rw [chF]; first | rw [ho] | (rw [hz]; dsimp only; first | rw [if_pos n_28] | rw [if_neg n_28])) dX4_changes_39
theorem hdS_X4_next : yX4_next.cls = "LineCalls$World" ∧ yX4_next.cls ≠ "java/lang/invoke/MethodHandle" ∧ yX4_next.cls ≠ "java/lang/invoke/VarHandle" ∧ (parseMethodDescriptor yX4_next.desc).map (fun d => d.parameters.length) = some 0 := by decide +kernel
set_option maxHeartbeats 4000000 in
theorem tX4_next (l : Launch) (G : nG) (ad : Nat → Nat) (V : xWs) (X : mM) (sp : xSp) (sh : xSh) (j : Nat) (hj : j < 4) (w : rw84) (hV : V j = w) (B : Nat) (hI : Inv B w) (hB : B < 2 ^ 31) : Met l yX4_next (ws_ yX4_next cX4_next 1 (some .int)) { frames := 4, cells := 0, slots := 0, locals := 85 } (va_Pc [.ref (ad (16 * j + 0))] (nC G (xE G ad V X sp sh))) (vp_Si (fun r => r = nextF w)) 0 0 (fun _ => False) := by
  refine n_head (by decide) (Nat.le_of_ble_eq_true rfl) ?_
  intro p e s m below meth c ls hx hb hr hlk hml hown hts hB0 hl
  have hown : s.vm.findClass "LineCalls$World" = some m.cls := hown
  have hw := nS.start hB0
  have hl : lv_has ls 1 [(0, .ref (ad (16 * j + 0)))] := hl
  have hw : nS G (xE G ad (va_up V j w) X sp sh) s _ _ := n_E (by rw [← va_up_eq hV]) hw
  obtain ⟨n, hn, en⟩ := hI.thr
  have hn6 : n % 6 < 6 := Nat.mod_lt _ (by decide)
  refine lv_aload_n hx hb dX4_next_0 rfl (lv_at hl 0 rfl) ?_
  refine n_get (k := 16 * j + 0) hx hb hts in_X4 hown hw (xwv hj 0) rfl 3 (by decide) q232 rfl dX4_next_1 ?_
  refine lv_aload_n hx hb dX4_next_4 rfl (lv_at hl 0 rfl) ?_
  refine n_get (k := 16 * j + 0) hx hb hts in_X4 hown hw (xwv hj 0) rfl 7 (by decide) q245 rfl dX4_next_5 ?_
  refine lv_bipush (v := 6) hx hb dX4_next_8 (by decide) ?_
  refine lv_irem hx hb dX4_next_10 (by decide) ?_
  refine n_topE (next_eq (by omega) en) ?_
  refine n_iald (k := 16 * j + 6) (j := n % 6) hx hb hw (xwv hj 6) rfl (by omega) (by decide) dX4_next_11 ?_
  refine lv_aload_n hx hb dX4_next_12 rfl (lv_at hl 0 rfl) ?_
  refine n_get (k := 16 * j + 0) hx hb hts in_X4 hown hw (xwv hj 0) rfl 2 (by decide) q225 rfl dX4_next_13 ?_
  refine lv_iconst (v := 2) hx hb dX4_next_16 (by decide) ?_
  refine n_iald (k := 16 * j + 5) (j := 2) hx hb hw (xwv hj 5) rfl (by decide) (by decide) dX4_next_17 ?_
  refine n_callp (va_runSN ⟨hx, hb, hml, hown, hts⟩ (tX_placeOf l _ _ (hI.bc hn6)) (⟨va_cnB 2 hts (lw_meth q521) rfl rfl rfl (hw.N _ q720 rfl) (hts _ q90) (hdS_X0_placeOf).2 ⟨by decide, by decide⟩, hts _ q520, trivial⟩) pu_pre rfl rfl hl.1 rfl (lv_room (by simp [Value.category])) dX4_next_18 ⟨Nat.zero_le _, Nat.zero_le _⟩) (fun r_18 e_18 => ?_)
  subst e_18
  exact n_pret hx hb hr hlk rfl (next_at (by omega) en).symm dX4_next_21
theorem hdS_X4_said : yX4_said.cls = "LineCalls$World" ∧ yX4_said.cls ≠ "java/lang/invoke/MethodHandle" ∧ yX4_said.cls ≠ "java/lang/invoke/VarHandle" ∧ (parseMethodDescriptor yX4_said.desc).map (fun d => d.parameters.length) = some 1 := by decide +kernel
set_option maxHeartbeats 4000000 in
theorem tX4_said (l : Launch) (G : nG) (ad : Nat → Nat) (V : xWs) (X : mM) (sp : xSp) (sh : xSh) (j : Nat) (hj : j < 4) (w : rw84) (hV : V j = w) (x : Int32) (B : Nat) (hI : Inv B w) : Met l yX4_said (ws_ yX4_said cX4_said 4 (some .int)) { frames := 4, cells := 0, slots := 0, locals := 85 } (va_Pc [.ref (ad (16 * j + 0)), .int x] (nC G (xE G ad V X sp sh))) (vp_Si (fun r => r = saidF w x 6)) 0 0 (fun _ => False) := by
  refine n_head (by decide) (Nat.le_of_ble_eq_true rfl) ?_
  intro p e s m below meth c ls hx hb hr hlk hml hown hts hB0 hl
  have hown : s.vm.findClass "LineCalls$World" = some m.cls := hown
  have hw := nS.start hB0
  have hl : lv_has ls 4 [(0, .ref (ad (16 * j + 0))), (1, .int x)] := hl
  have hw : nS G (xE G ad (va_up V j w) X sp sh) s _ _ := n_E (by rw [← va_up_eq hV]) hw
  refine lv_iconst (v := 0) hx hb dX4_said_0 (by decide) ?_
  refine lv_istore_n hx hb dX4_said_1 rfl hl (by decide) rfl (fun ls hl => ?_)
  refine lv_iconst (v := 0) hx hb dX4_said_2 (by decide) ?_
  refine lv_istore_n hx hb dX4_said_3 rfl hl (by decide) rfl (fun ls hl => ?_)
  refine n_loopR (α := Nat) (fun q ls => q ≤ 6 ∧ lv_has ls 4 [(0, .ref (ad (16 * j + 0))), (1, .int x), (2, .int (saidF w x q)), (3, .int (nI q))]) (fun q => 6 - q) 4 ?_ 0 _ ⟨Nat.zero_le _, (lv_sub hl [2, 3, 1, 0] rfl)⟩
  clear hl
  intro q ls hI ih_4
  obtain ⟨hq, hl⟩ := hI
  refine lv_iload_n hx hb dX4_said_4 rfl (lv_at hl 3 rfl) ?_
  refine lv_bipush (v := 6) hx hb dX4_said_5 (by decide) ?_
  refine lv_icmp_ge (tgt := 48) hx hb dX4_said_7 (by decide) (fun c_7 => ?_) (fun c_7 => ?_)
  · skip
    have n_7 : 6 ≤ q := (nI_leI (a := 6) (b := q) (by omega) (by omega)).mp c_7
    obtain rfl : q = 6 := by omega
    refine lv_iload_n hx hb dX4_said_48 rfl (lv_at hl 2 rfl) ?_
    exact n_pret hx hb hr hlk rfl rfl dX4_said_49
  · skip
    have n_7 : ¬ 6 ≤ q := fun h => c_7 ((nI_leI (a := 6) (b := q) (by omega) (by omega)).mpr h)
    refine lv_iload_n hx hb dX4_said_10 rfl (lv_at hl 2 rfl) ?_
    refine lv_iload_n hx hb dX4_said_11 rfl (lv_at hl 1 rfl) ?_
    refine lv_iload_n hx hb dX4_said_12 rfl (lv_at hl 3 rfl) ?_
    refine n_callp (va_runSN ⟨hx, hb, hml, hown, hts⟩ (tX_has l _ _) (⟨va_cnB 2 hts (lw_meth q764) rfl rfl rfl (hw.N _ q762 rfl) (hts _ q90) (hdS_X0_has).2 ⟨by decide, by decide⟩, hts _ q763, trivial⟩) pu_pre rfl rfl hl.1 rfl (lv_room (by simp [Value.category])) dX4_said_13 ⟨Nat.zero_le _, Nat.zero_le _⟩) (fun r_13 e_13 => ?_)
    subst e_13
    refine lv_if_eq (tgt := 39) hx hb dX4_said_16 (by decide) (fun c_16 => ?_) (fun c_16 => ?_)
    · skip
      refine lv_iconst (v := 0) hx hb dX4_said_39 (by decide) ?_
      refine lv_ior hx hb dX4_said_40 ?_
      refine lv_istore_n hx hb dX4_said_41 rfl hl (by decide) rfl (fun ls hl => ?_)
      refine lv_iinc (v := nI (q + 1)) hx hb dX4_said_42 hl (k := 3) rfl (nI_1 _) (by decide) rfl (fun ls hl => ?_)
      refine lv_goto (tgt := 4) hx hb dX4_said_45 (by decide) ?_
      exact ih_4 (q + 1) _ (by first | omega | (dsimp only; omega)) ⟨by omega, by rw [saidF, if_pos c_16]; exact (lv_sub hl [2, 3, 1, 0] rfl)⟩
    · skip
      refine lv_iconst (v := 1) hx hb dX4_said_19 (by decide) ?_
      refine lv_aload_n hx hb dX4_said_20 rfl (lv_at hl 0 rfl) ?_
      refine n_get (k := 16 * j + 0) hx hb hts in_X4 hown hw (xwv hj 0) rfl 3 (by decide) q232 rfl dX4_said_21 ?_
      refine lv_iload_n hx hb dX4_said_24 rfl (lv_at hl 3 rfl) ?_
      refine n_iald (k := 16 * j + 6) (j := q) hx hb hw (xwv hj 6) rfl (by omega) (by decide) dX4_said_25 ?_
      refine lv_aload_n hx hb dX4_said_26 rfl (lv_at hl 0 rfl) ?_
      refine n_get (k := 16 * j + 0) hx hb hts in_X4 hown hw (xwv hj 0) rfl 2 (by decide) q225 rfl dX4_said_27 ?_
      refine lv_iconst (v := 2) hx hb dX4_said_30 (by decide) ?_
      refine n_iald (k := 16 * j + 5) (j := 2) hx hb hw (xwv hj 5) rfl (by decide) (by decide) dX4_said_31 ?_
      refine n_callp (va_runSN ⟨hx, hb, hml, hown, hts⟩ (tX_placeOf l _ _ (hI.bc (by omega))) (⟨va_cnB 2 hts (lw_meth q521) rfl rfl rfl (hw.N _ q720 rfl) (hts _ q90) (hdS_X0_placeOf).2 ⟨by decide, by decide⟩, hts _ q520, trivial⟩) pu_pre rfl rfl hl.1 rfl (lv_room (by simp [Value.category])) dX4_said_32 ⟨Nat.zero_le _, Nat.zero_le _⟩) (fun r_32 e_32 => ?_)
      subst e_32
      refine lv_ishl hx hb dX4_said_35 ?_
      refine lv_goto (tgt := 40) hx hb dX4_said_36 (by decide) ?_
      refine lv_ior hx hb dX4_said_40 ?_
      refine lv_istore_n hx hb dX4_said_41 rfl hl (by decide) rfl (fun ls hl => ?_)
      refine lv_iinc (v := nI (q + 1)) hx hb dX4_said_42 hl (k := 3) rfl (nI_1 _) (by decide) rfl (fun ls hl => ?_)
      refine lv_goto (tgt := 4) hx hb dX4_said_45 (by decide) ?_
      exact ih_4 (q + 1) _ (by first | omega | (dsimp only; omega)) ⟨by omega, by rw [saidF, if_neg c_16]; exact (lv_sub hl [2, 3, 1, 0] rfl)⟩
theorem hdS_X4_sumOf : yX4_sumOf.cls = "LineCalls$World" ∧ yX4_sumOf.cls ≠ "java/lang/invoke/MethodHandle" ∧ yX4_sumOf.cls ≠ "java/lang/invoke/VarHandle" ∧ (parseMethodDescriptor yX4_sumOf.desc).map (fun d => d.parameters.length) = some 1 := by decide +kernel
set_option maxHeartbeats 4000000 in
theorem tX4_sumOf (l : Launch) (G : nG) (ad : Nat → Nat) (V : xWs) (X : mM) (sp : xSp) (sh : xSh) (j : Nat) (hj : j < 4) (w : rw84) (hV : V j = w) (f n : Nat) (hf : f < 5) (hn : n ≤ 8) (en : w 1 = nI n) : Met l yX4_sumOf (ws_ yX4_sumOf cX4_sumOf 4 (some .int)) { frames := 0, cells := 0, slots := 0, locals := 0 } (va_Pc [.ref (ad (16 * j + 0)), .int (nI f)] (nC G (xE G ad V X sp sh))) (vp_Si (fun r => r = sumF w f n)) 0 0 (fun _ => False) := by
  refine n_head (by decide) (Nat.le_of_ble_eq_true rfl) ?_
  intro p e s m below meth c ls hx hb hr hlk hml hown hts hB0 hl
  have hown : s.vm.findClass "LineCalls$World" = some m.cls := hown
  have hw := nS.start hB0
  have hl : lv_has ls 4 [(0, .ref (ad (16 * j + 0))), (1, .int (nI f))] := hl
  have hw : nS G (xE G ad (va_up V j w) X sp sh) s _ _ := n_E (by rw [← va_up_eq hV]) hw
  refine lv_iconst (v := 0) hx hb dX4_sumOf_0 (by decide) ?_
  refine lv_istore_n hx hb dX4_sumOf_1 rfl hl (by decide) rfl (fun ls hl => ?_)
  refine lv_iconst (v := 0) hx hb dX4_sumOf_2 (by decide) ?_
  refine lv_istore_n hx hb dX4_sumOf_3 rfl hl (by decide) rfl (fun ls hl => ?_)
  refine n_loopR (α := Nat) (fun q ls => q ≤ n ∧ lv_has ls 4 [(0, .ref (ad (16 * j + 0))), (1, .int (nI f)), (2, .int (sumF w f q)), (3, .int (nI q))]) (fun q => n - q) 4 ?_ 0 _ ⟨Nat.zero_le _, (lv_sub hl [2, 3, 1, 0] rfl)⟩
  clear hl
  intro q ls hI ih_4
  obtain ⟨hq, hl⟩ := hI
  refine lv_iload_n hx hb dX4_sumOf_4 rfl (lv_at hl 3 rfl) ?_
  refine lv_aload_n hx hb dX4_sumOf_5 rfl (lv_at hl 0 rfl) ?_
  refine n_get (k := 16 * j + 0) hx hb hts in_X4 hown hw (xwv hj 0) rfl 5 (by decide) q237 rfl dX4_sumOf_6 ?_
  refine n_topE en ?_
  refine lv_icmp_ge (tgt := 29) hx hb dX4_sumOf_9 (by decide) (fun c_9 => ?_) (fun c_9 => ?_)
  · skip
    have n_9 : n ≤ q := (nI_leI (a := n) (b := q) (by omega) (by omega)).mp c_9
    obtain rfl : q = n := by omega
    refine lv_iload_n hx hb dX4_sumOf_29 rfl (lv_at hl 2 rfl) ?_
    exact n_pret hx hb hr hlk rfl rfl dX4_sumOf_30
  · skip
    have n_9 : ¬ n ≤ q := fun h => c_9 ((nI_leI (a := n) (b := q) (by omega) (by omega)).mpr h)
    refine lv_iload_n hx hb dX4_sumOf_12 rfl (lv_at hl 2 rfl) ?_
    refine lv_aload_n hx hb dX4_sumOf_13 rfl (lv_at hl 0 rfl) ?_
    refine n_get (k := 16 * j + 0) hx hb hts in_X4 hown hw (xwv hj 0) rfl 6 (by decide) q240 rfl dX4_sumOf_14 ?_
    refine lv_iload_n hx hb dX4_sumOf_17 rfl (lv_at hl 1 rfl) ?_
    refine n_aaldS (k := 16 * j + 7) (t := 4) (j := f) (b := ad (16 * j + (8 + f))) hx hb hw (xwv hj 7) (Or.inr rfl) rfl (by omega) (by decide) rfl dX4_sumOf_18 ?_
    refine lv_iload_n hx hb dX4_sumOf_19 rfl (lv_at hl 3 rfl) ?_
    refine n_iald (k := 16 * j + (8 + f)) (j := q) hx hb hw (xwv_row hj hf) rfl (by omega) (by decide) dX4_sumOf_20 ?_
    refine lv_iadd hx hb dX4_sumOf_21 ?_
    refine lv_istore_n hx hb dX4_sumOf_22 rfl hl (by decide) rfl (fun ls hl => ?_)
    refine lv_iinc (v := nI (q + 1)) hx hb dX4_sumOf_23 hl (k := 3) rfl (nI_1 _) (by decide) rfl (fun ls hl => ?_)
    refine lv_goto (tgt := 4) hx hb dX4_sumOf_26 (by decide) ?_
    exact ih_4 (q + 1) _ (by first | omega | (dsimp only; omega)) ⟨by omega, (lv_sub hl [2, 3, 1, 0] rfl)⟩
theorem hdS_X4_wins : yX4_wins.cls = "LineCalls$World" ∧ yX4_wins.cls ≠ "java/lang/invoke/MethodHandle" ∧ yX4_wins.cls ≠ "java/lang/invoke/VarHandle" ∧ (parseMethodDescriptor yX4_wins.desc).map (fun d => d.parameters.length) = some 2 := by decide +kernel
set_option maxHeartbeats 4000000 in
theorem tX4_wins (l : Launch) (G : nG) (ad : Nat → Nat) (V : xWs) (X : mM) (sp : xSp) (sh : xSh) (j : Nat) (hj : j < 4) (w : rw84) (hV : V j = w) (k : Nat) (g : Int32) (hk : k < 8) : Met l yX4_wins (ws_ yX4_wins cX4_wins 3 (none)) { frames := 1, cells := 0, slots := 0, locals := 21 } (va_Pc [.ref (ad (16 * j + 0)), .int (nI k), .int g] (nC G (xE G ad V X sp sh))) (va_Qv (fun (u : rw84) => u = winsF w k g) (fun u => nC G (xE G ad (va_up V j u) X sp sh)) (nA G)) 0 0 (nA G) := by
  refine n_head (by decide) (Nat.le_of_ble_eq_true rfl) ?_
  intro p e s m below meth c ls hx hb hr hlk hml hown hts hB0 hl
  have hown : s.vm.findClass "LineCalls$World" = some m.cls := hown
  have hw := nS.start hB0
  have hl : lv_has ls 3 [(0, .ref (ad (16 * j + 0))), (1, .int (nI k)), (2, .int g)] := hl
  have hw : nS G (xE G ad (va_up V j w) X sp sh) s _ _ := n_E (by rw [← va_up_eq hV]) hw
  refine lv_aload_n hx hb dX4_wins_0 rfl (lv_at hl 0 rfl) ?_
  refine lv_ldc (v := 99999) hx hb hown (hts _ q703) dX4_wins_1 ?_
  refine lv_aload_n hx hb dX4_wins_3 rfl (lv_at hl 0 rfl) ?_
  refine n_get (k := 16 * j + 0) hx hb hts in_X4 hown hw (xwv hj 0) rfl 4 (by decide) q235 rfl dX4_wins_4 ?_
  refine lv_iload_n hx hb dX4_wins_7 rfl (lv_at hl 2 rfl) ?_
  refine lv_iadd hx hb dX4_wins_8 ?_
  refine va_mmin hx hb (hml.trans hl.1.symm) hown (hts _ q734) (hts _ q735) (hts _ q108) (hts _ q736) (by decide) (by simp [Value.category]) (Nat.zero_le _) (Nat.zero_le _) dX4_wins_9 ?_
  refine w_put hx hb hts hown hw hj 4 (by decide) q235 (pos := 3) rfl dX4_wins_12 (fun H locs hw => ?_)
  refine lv_aload_n hx hb dX4_wins_15 rfl (lv_at hl 0 rfl) ?_
  refine n_get (k := 16 * j + 0) hx hb hts in_X4 hown hw (xwv hj 0) rfl 6 (by decide) q240 rfl dX4_wins_16 ?_
  refine lv_iconst (v := 3) hx hb dX4_wins_19 (by decide) ?_
  refine n_aaldS (k := 16 * j + 7) (t := 4) (j := 3) (b := ad (16 * j + 11)) hx hb hw (xwv hj 7) (Or.inr rfl) rfl (by decide) (by decide) rfl dX4_wins_20 ?_
  refine lv_iload_n hx hb dX4_wins_21 rfl (lv_at hl 1 rfl) ?_
  refine lv_sipush (v := 9999) hx hb dX4_wins_22 (by decide) ?_
  refine lv_aload_n hx hb dX4_wins_25 rfl (lv_at hl 0 rfl) ?_
  refine n_get (k := 16 * j + 0) hx hb hts in_X4 hown hw (xwv hj 0) rfl 6 (by decide) q240 rfl dX4_wins_26 ?_
  refine lv_iconst (v := 3) hx hb dX4_wins_29 (by decide) ?_
  refine n_aaldS (k := 16 * j + 7) (t := 4) (j := 3) (b := ad (16 * j + 11)) hx hb hw (xwv hj 7) (Or.inr rfl) rfl (by decide) (by decide) rfl dX4_wins_30 ?_
  refine lv_iload_n hx hb dX4_wins_31 rfl (lv_at hl 1 rfl) ?_
  refine n_iald (k := 16 * j + 11) (j := k) hx hb hw (xwv hj 11) rfl (by omega) (by decide) dX4_wins_32 ?_
  refine lv_iconst (v := 1) hx hb dX4_wins_33 (by decide) ?_
  refine lv_iadd hx hb dX4_wins_34 ?_
  refine va_mmin hx hb (hml.trans hl.1.symm) hown (hts _ q734) (hts _ q735) (hts _ q108) (hts _ q736) (by decide) (by simp [Value.category]) (Nat.zero_le _) (Nat.zero_le _) dX4_wins_35 ?_
  refine w_iast hx hb hw 11 hj (by decide) (q := k) rfl (show _ < 8 by omega) (pos := 44 + 5 * k + 3) rfl dX4_wins_38 (fun H locs hw => ?_)
  exact n_vret hx hb hr hlk _ hw rfl dX4_wins_39
theorem hdS_X4_loses : yX4_loses.cls = "LineCalls$World" ∧ yX4_loses.cls ≠ "java/lang/invoke/MethodHandle" ∧ yX4_loses.cls ≠ "java/lang/invoke/VarHandle" ∧ (parseMethodDescriptor yX4_loses.desc).map (fun d => d.parameters.length) = some 1 := by decide +kernel
set_option maxHeartbeats 4000000 in
theorem tX4_loses (l : Launch) (G : nG) (ad : Nat → Nat) (V : xWs) (X : mM) (sp : xSp) (sh : xSh) (j : Nat) (hj : j < 4) (w : rw84) (hV : V j = w) (k : Nat) (hk : k < 8) : Met l yX4_loses (ws_ yX4_loses cX4_loses 2 (none)) { frames := 2, cells := 0, slots := 0, locals := 42 } (va_Pc [.ref (ad (16 * j + 0)), .int (nI k)] (nC G (xE G ad V X sp sh))) (va_Qv (fun (u : rw84) => u = losesF w k) (fun u => nC G (xE G ad (va_up V j u) X sp sh)) (nA G)) 0 0 (nA G) := by
  refine n_head (by decide) (Nat.le_of_ble_eq_true rfl) ?_
  intro p e s m below meth c ls hx hb hr hlk hml hown hts hB0 hl
  have hown : s.vm.findClass "LineCalls$World" = some m.cls := hown
  have hw := nS.start hB0
  have hl : lv_has ls 2 [(0, .ref (ad (16 * j + 0))), (1, .int (nI k))] := hl
  have hw : nS G (xE G ad (va_up V j w) X sp sh) s _ _ := n_E (by rw [← va_up_eq hV]) hw
  refine lv_aload_n hx hb dX4_loses_0 rfl (lv_at hl 0 rfl) ?_
  refine n_get (k := 16 * j + 0) hx hb hts in_X4 hown hw (xwv hj 0) rfl 6 (by decide) q240 rfl dX4_loses_1 ?_
  refine lv_iconst (v := 4) hx hb dX4_loses_4 (by decide) ?_
  refine n_aaldS (k := 16 * j + 7) (t := 4) (j := 4) (b := ad (16 * j + 12)) hx hb hw (xwv hj 7) (Or.inr rfl) rfl (by decide) (by decide) rfl dX4_loses_5 ?_
  refine lv_iload_n hx hb dX4_loses_6 rfl (lv_at hl 1 rfl) ?_
  refine lv_sipush (v := 9999) hx hb dX4_loses_7 (by decide) ?_
  refine lv_aload_n hx hb dX4_loses_10 rfl (lv_at hl 0 rfl) ?_
  refine n_get (k := 16 * j + 0) hx hb hts in_X4 hown hw (xwv hj 0) rfl 6 (by decide) q240 rfl dX4_loses_11 ?_
  refine lv_iconst (v := 4) hx hb dX4_loses_14 (by decide) ?_
  refine n_aaldS (k := 16 * j + 7) (t := 4) (j := 4) (b := ad (16 * j + 12)) hx hb hw (xwv hj 7) (Or.inr rfl) rfl (by decide) (by decide) rfl dX4_loses_15 ?_
  refine lv_iload_n hx hb dX4_loses_16 rfl (lv_at hl 1 rfl) ?_
  refine n_iald (k := 16 * j + 12) (j := k) hx hb hw (xwv hj 12) rfl (by omega) (by decide) dX4_loses_17 ?_
  refine lv_iconst (v := 1) hx hb dX4_loses_18 (by decide) ?_
  refine lv_iadd hx hb dX4_loses_19 ?_
  refine va_mmin hx hb (hml.trans hl.1.symm) hown (hts _ q734) (hts _ q735) (hts _ q108) (hts _ q736) (by decide) (by simp [Value.category]) (Nat.zero_le _) (Nat.zero_le _) dX4_loses_20 ?_
  refine w_iast hx hb hw 12 hj (by decide) (q := k) rfl (show _ < 8 by omega) (pos := 44 + 5 * k + 4) rfl dX4_loses_23 (fun H locs hw => ?_)
  refine lv_aload_n hx hb dX4_loses_24 rfl (lv_at hl 0 rfl) ?_
  refine lv_iconst (v := 3) hx hb dX4_loses_25 (by decide) ?_
  refine n_callv (va_runV ⟨hx, hb, hml, hown, hts⟩ (tX4_goesBack l G ad _ _ _ _ _ hj _ (va_up_self _ _ _) _) (cwV 1 hts (lw_V q741 q722 q723 q97 q724) rfl rfl rfl hdS_X4_goesBack ⟨by decide, by decide⟩) (hw.preV (k := 16 * j + 0) (xwv hj 0) rfl) rfl rfl hl.1 rfl (lv_room (by simp [Value.category])) dX4_loses_26 ⟨Nat.zero_le _, Nat.zero_le _⟩) hw (fun u_26 H locs e_26 hw => ?_)
  subst e_26
  have hw : nS G (xE G ad (va_up (va_up V j _) j _) X sp sh) s H locs := hw
  rw [va_up_up] at hw
  exact n_vret hx hb hr hlk _ hw rfl dX4_loses_29
theorem hdS_X4_ends : yX4_ends.cls = "LineCalls$World" ∧ yX4_ends.cls ≠ "java/lang/invoke/MethodHandle" ∧ yX4_ends.cls ≠ "java/lang/invoke/VarHandle" ∧ (parseMethodDescriptor yX4_ends.desc).map (fun d => d.parameters.length) = some 3 := by decide +kernel
set_option maxHeartbeats 4000000 in
theorem tX4_ends (l : Launch) (G : nG) (ad : Nat → Nat) (V : xWs) (X : mM) (sp : xSp) (sh : xSh) (j : Nat) (hj : j < 4) (w : rw84) (hV : V j = w) (q : Nat) (k t : Int32) (n : Nat) (hq : q < 7) (hn : n ≤ 8) (en : w 1 = nI n) : Met l yX4_ends (ws_ yX4_ends cX4_ends 6 (none)) { frames := 1, cells := 0, slots := 0, locals := 21 } (va_Pc [.ref (ad (16 * j + 0)), .int (nI q), .int k, .int t] (nC G (xE G ad V X sp sh))) (va_Qv (fun (u : rw84) => u = endsF w q k t n) (fun u => nC G (xE G ad (va_up V j u) X sp sh)) (nA G)) 0 0 (nA G) := by
  refine n_head (by decide) (Nat.le_of_ble_eq_true rfl) ?_
  intro p e s m below meth c ls hx hb hr hlk hml hown hts hB0 hl
  have hown : s.vm.findClass "LineCalls$World" = some m.cls := hown
  have hw := nS.start hB0
  have hl : lv_has ls 6 [(0, .ref (ad (16 * j + 0))), (1, .int (nI q)), (2, .int k), (3, .int t)] := hl
  have hw : nS G (xE G ad (va_up V j w) X sp sh) s _ _ := n_E (by rw [← va_up_eq hV]) hw
  refine lv_iconst (v := 0) hx hb dX4_ends_0 (by decide) ?_
  refine lv_istore hx hb dX4_ends_1 hl (by decide) rfl (fun ls hl => ?_)
  refine n_loop (α := Nat) (fun o H locs ls => o ≤ n ∧ nS G (xE G ad (va_up V j (tiresF w k t o)) X sp sh) s H locs ∧ lv_has ls 6 [(0, .ref (ad (16 * j + 0))), (1, .int (nI q)), (2, .int k), (3, .int t), (4, .int (nI o))]) (fun o => n - o) 3 ?_ 0 _ _ _ ⟨Nat.zero_le _, hw, (lv_sub hl [1, 2, 3, 4, 0] rfl)⟩
  clear hl hw
  intro o H locs ls hI ih_3
  obtain ⟨ho, hw, hl⟩ := hI
  refine lv_iload hx hb dX4_ends_3 (lv_at hl 4 rfl) ?_
  refine lv_aload_n hx hb dX4_ends_5 rfl (lv_at hl 0 rfl) ?_
  refine n_get (k := 16 * j + 0) hx hb hts in_X4 hown hw (xwv hj 0) rfl 5 (by decide) q237 rfl dX4_ends_6 ?_
  refine n_topE ((tiresF_out (fun _ _ => by omega)).trans en) ?_
  refine lv_icmp_ge (tgt := 62) hx hb dX4_ends_9 (by decide) (fun c_9 => ?_) (fun c_9 => ?_)
  · skip
    have n_9 : n ≤ o := (nI_leI (a := n) (b := o) (by omega) (by omega)).mp c_9
    obtain rfl : o = n := by omega
    refine lv_iconst (v := 0) hx hb dX4_ends_62 (by decide) ?_
    refine lv_istore hx hb dX4_ends_63 hl (by decide) rfl (fun ls hl => ?_)
    refine n_loop (α := Nat) (fun y H locs ls => y ≤ 7 ∧ nS G (xE G ad (va_up V j (readF (tiresF w k t o) (nI q) y)) X sp sh) s H locs ∧ lv_has ls 6 [(0, .ref (ad (16 * j + 0))), (1, .int (nI q)), (4, .int (nI y))]) (fun y => 7 - y) 65 ?_ 0 _ _ _ ⟨Nat.zero_le _, hw, (lv_sub hl [1, 2, 0] rfl)⟩
    clear hl hw
    intro y H locs ls hI ih_65
    obtain ⟨hy, hw, hl⟩ := hI
    refine lv_iload hx hb dX4_ends_65 (lv_at hl 2 rfl) ?_
    refine lv_bipush (v := 7) hx hb dX4_ends_67 (by decide) ?_
    refine lv_icmp_ge (tgt := 122) hx hb dX4_ends_69 (by decide) (fun c_69 => ?_) (fun c_69 => ?_)
    · skip
      have n_69 : 7 ≤ y := (nI_leI (a := 7) (b := y) (by omega) (by omega)).mp c_69
      obtain rfl : y = 7 := by omega
      refine lv_aload_n hx hb dX4_ends_122 rfl (lv_at hl 0 rfl) ?_
      refine lv_dup hx hb dX4_ends_123 rfl ?_
      refine n_get (k := 16 * j + 0) hx hb hts in_X4 hown hw (xwv hj 0) rfl 7 (by decide) q245 rfl dX4_ends_124 ?_
      refine lv_iconst (v := 1) hx hb dX4_ends_127 (by decide) ?_
      refine lv_iadd hx hb dX4_ends_128 ?_
      refine w_put hx hb hts hown hw hj 7 (by decide) q245 (pos := 0) rfl dX4_ends_129 (fun H locs hw => ?_)
      exact n_vret hx hb hr hlk _ hw rfl dX4_ends_132
    · skip
      have n_69 : ¬ 7 ≤ y := fun h => c_69 ((nI_leI (a := 7) (b := y) (by omega) (by omega)).mpr h)
      refine lv_iload hx hb dX4_ends_72 (lv_at hl 2 rfl) ?_
      refine lv_iload_n hx hb dX4_ends_74 rfl (lv_at hl 1 rfl) ?_
      refine lv_icmp_ne (tgt := 83) hx hb dX4_ends_75 (by decide) (fun c_75 => ?_) (fun c_75 => ?_)
      · skip
        refine lv_iconst (v := (-1)) hx hb dX4_ends_83 (by decide) ?_
        refine lv_istore hx hb dX4_ends_84 hl (by decide) rfl (fun ls hl => ?_)
        refine lv_aload_n hx hb dX4_ends_86 rfl (lv_at hl 1 rfl) ?_
        refine n_get (k := 16 * j + 0) hx hb hts in_X4 hown hw (xwv hj 0) rfl 1 (by decide) q222 rfl dX4_ends_87 ?_
        refine lv_iconst (v := 1) hx hb dX4_ends_90 (by decide) ?_
        refine n_aaldS (k := 16 * j + 2) (t := 4) (j := 1) (b := ad (16 * j + 4)) hx hb hw (xwv hj 2) (Or.inr rfl) rfl (by decide) (by decide) rfl dX4_ends_91 ?_
        refine lv_iload hx hb dX4_ends_92 (lv_at hl 3 rfl) ?_
        refine lv_iconst (v := 0) hx hb dX4_ends_94 (by decide) ?_
        refine lv_bipush (v := 99) hx hb dX4_ends_95 (by decide) ?_
        refine lv_aload_n hx hb dX4_ends_97 rfl (lv_at hl 1 rfl) ?_
        refine n_get (k := 16 * j + 0) hx hb hts in_X4 hown hw (xwv hj 0) rfl 1 (by decide) q222 rfl dX4_ends_98 ?_
        refine lv_iconst (v := 1) hx hb dX4_ends_101 (by decide) ?_
        refine n_aaldS (k := 16 * j + 2) (t := 4) (j := 1) (b := ad (16 * j + 4)) hx hb hw (xwv hj 2) (Or.inr rfl) rfl (by decide) (by decide) rfl dX4_ends_102 ?_
        refine lv_iload hx hb dX4_ends_103 (lv_at hl 3 rfl) ?_
        refine n_iald (k := 16 * j + 4) (j := y) hx hb hw (xwv hj 4) rfl (by omega) (by decide) dX4_ends_105 ?_
        refine lv_iload hx hb dX4_ends_106 (lv_at hl 0 rfl) ?_
        refine lv_iadd hx hb dX4_ends_108 ?_
        refine va_mmin hx hb (hml.trans hl.1.symm) hown (hts _ q734) (hts _ q735) (hts _ q108) (hts _ q736) (by decide) (by simp [Value.category]) (Nat.zero_le _) (Nat.zero_le _) dX4_ends_109 ?_
        refine va_mmax hx hb (hml.trans hl.1.symm) hown (hts _ q725) (hts _ q625) (hts _ q108) (hts _ q626) (by decide) (by simp [Value.category]) (Nat.zero_le _) (Nat.zero_le _) dX4_ends_112 ?_
        refine w_iast hx hb hw 4 hj (by decide) (q := y) rfl (show _ < 7 by omega) (pos := 31 + y) rfl dX4_ends_115 (fun H locs hw => ?_)
        refine lv_iinc (v := nI (y + 1)) hx hb dX4_ends_116 hl (k := 3) rfl (nI_1 _) (by decide) rfl (fun ls hl => ?_)
        refine lv_goto (tgt := 65) hx hb dX4_ends_119 (by decide) ?_
        exact ih_65 (y + 1) _ _ _ (by first | omega | (dsimp only; omega)) ⟨by omega, by rw [readF, if_neg c_75]; exact hw, (lv_sub hl [2, 3, 0] rfl)⟩
      · skip
        refine lv_bipush (v := 6) hx hb dX4_ends_78 (by decide) ?_
        refine lv_goto (tgt := 84) hx hb dX4_ends_80 (by decide) ?_
        refine lv_istore hx hb dX4_ends_84 hl (by decide) rfl (fun ls hl => ?_)
        refine lv_aload_n hx hb dX4_ends_86 rfl (lv_at hl 1 rfl) ?_
        refine n_get (k := 16 * j + 0) hx hb hts in_X4 hown hw (xwv hj 0) rfl 1 (by decide) q222 rfl dX4_ends_87 ?_
        refine lv_iconst (v := 1) hx hb dX4_ends_90 (by decide) ?_
        refine n_aaldS (k := 16 * j + 2) (t := 4) (j := 1) (b := ad (16 * j + 4)) hx hb hw (xwv hj 2) (Or.inr rfl) rfl (by decide) (by decide) rfl dX4_ends_91 ?_
        refine lv_iload hx hb dX4_ends_92 (lv_at hl 3 rfl) ?_
        refine lv_iconst (v := 0) hx hb dX4_ends_94 (by decide) ?_
        refine lv_bipush (v := 99) hx hb dX4_ends_95 (by decide) ?_
        refine lv_aload_n hx hb dX4_ends_97 rfl (lv_at hl 1 rfl) ?_
        refine n_get (k := 16 * j + 0) hx hb hts in_X4 hown hw (xwv hj 0) rfl 1 (by decide) q222 rfl dX4_ends_98 ?_
        refine lv_iconst (v := 1) hx hb dX4_ends_101 (by decide) ?_
        refine n_aaldS (k := 16 * j + 2) (t := 4) (j := 1) (b := ad (16 * j + 4)) hx hb hw (xwv hj 2) (Or.inr rfl) rfl (by decide) (by decide) rfl dX4_ends_102 ?_
        refine lv_iload hx hb dX4_ends_103 (lv_at hl 3 rfl) ?_
        refine n_iald (k := 16 * j + 4) (j := y) hx hb hw (xwv hj 4) rfl (by omega) (by decide) dX4_ends_105 ?_
        refine lv_iload hx hb dX4_ends_106 (lv_at hl 0 rfl) ?_
        refine lv_iadd hx hb dX4_ends_108 ?_
        refine va_mmin hx hb (hml.trans hl.1.symm) hown (hts _ q734) (hts _ q735) (hts _ q108) (hts _ q736) (by decide) (by simp [Value.category]) (Nat.zero_le _) (Nat.zero_le _) dX4_ends_109 ?_
        refine va_mmax hx hb (hml.trans hl.1.symm) hown (hts _ q725) (hts _ q625) (hts _ q108) (hts _ q626) (by decide) (by simp [Value.category]) (Nat.zero_le _) (Nat.zero_le _) dX4_ends_112 ?_
        refine w_iast hx hb hw 4 hj (by decide) (q := y) rfl (show _ < 7 by omega) (pos := 31 + y) rfl dX4_ends_115 (fun H locs hw => ?_)
        refine lv_iinc (v := nI (y + 1)) hx hb dX4_ends_116 hl (k := 3) rfl (nI_1 _) (by decide) rfl (fun ls hl => ?_)
        refine lv_goto (tgt := 65) hx hb dX4_ends_119 (by decide) ?_
        exact ih_65 (y + 1) _ _ _ (by first | omega | (dsimp only; omega)) ⟨by omega, by rw [readF, if_pos c_75]; exact hw, (lv_sub hl [2, 3, 0] rfl)⟩
  · skip
    have n_9 : ¬ n ≤ o := fun h => c_9 ((nI_leI (a := n) (b := o) (by omega) (by omega)).mpr h)
    refine lv_iload hx hb dX4_ends_12 (lv_at hl 4 rfl) ?_
    refine lv_iload_n hx hb dX4_ends_14 rfl (lv_at hl 2 rfl) ?_
    refine lv_icmp_ne (tgt := 22) hx hb dX4_ends_15 (by decide) (fun c_15 => ?_) (fun c_15 => ?_)
    · skip
      refine lv_bipush (v := (-2)) hx hb dX4_ends_22 (by decide) ?_
      refine lv_istore hx hb dX4_ends_24 hl (by decide) rfl (fun ls hl => ?_)
      refine lv_aload_n hx hb dX4_ends_26 rfl (lv_at hl 1 rfl) ?_
      refine n_get (k := 16 * j + 0) hx hb hts in_X4 hown hw (xwv hj 0) rfl 6 (by decide) q240 rfl dX4_ends_27 ?_
      refine lv_iconst (v := 2) hx hb dX4_ends_30 (by decide) ?_
      refine n_aaldS (k := 16 * j + 7) (t := 4) (j := 2) (b := ad (16 * j + 10)) hx hb hw (xwv hj 7) (Or.inr rfl) rfl (by decide) (by decide) rfl dX4_ends_31 ?_
      refine lv_iload hx hb dX4_ends_32 (lv_at hl 5 rfl) ?_
      refine lv_iconst (v := 0) hx hb dX4_ends_34 (by decide) ?_
      refine lv_bipush (v := 99) hx hb dX4_ends_35 (by decide) ?_
      refine lv_aload_n hx hb dX4_ends_37 rfl (lv_at hl 1 rfl) ?_
      refine n_get (k := 16 * j + 0) hx hb hts in_X4 hown hw (xwv hj 0) rfl 6 (by decide) q240 rfl dX4_ends_38 ?_
      refine lv_iconst (v := 2) hx hb dX4_ends_41 (by decide) ?_
      refine n_aaldS (k := 16 * j + 7) (t := 4) (j := 2) (b := ad (16 * j + 10)) hx hb hw (xwv hj 7) (Or.inr rfl) rfl (by decide) (by decide) rfl dX4_ends_42 ?_
      refine lv_iload hx hb dX4_ends_43 (lv_at hl 5 rfl) ?_
      refine n_iald (k := 16 * j + 10) (j := o) hx hb hw (xwv hj 10) rfl (by omega) (by decide) dX4_ends_45 ?_
      refine lv_iload hx hb dX4_ends_46 (lv_at hl 0 rfl) ?_
      refine lv_iadd hx hb dX4_ends_48 ?_
      refine va_mmin hx hb (hml.trans hl.1.symm) hown (hts _ q734) (hts _ q735) (hts _ q108) (hts _ q736) (by decide) (by simp [Value.category]) (Nat.zero_le _) (Nat.zero_le _) dX4_ends_49 ?_
      refine va_mmax hx hb (hml.trans hl.1.symm) hown (hts _ q725) (hts _ q625) (hts _ q108) (hts _ q626) (by decide) (by simp [Value.category]) (Nat.zero_le _) (Nat.zero_le _) dX4_ends_52 ?_
      refine w_iast hx hb hw 10 hj (by decide) (q := o) rfl (show _ < 8 by omega) (pos := 44 + 5 * o + 2) rfl dX4_ends_55 (fun H locs hw => ?_)
      refine lv_iinc (v := nI (o + 1)) hx hb dX4_ends_56 hl (k := 5) rfl (nI_1 _) (by decide) rfl (fun ls hl => ?_)
      refine lv_goto (tgt := 3) hx hb dX4_ends_59 (by decide) ?_
      exact ih_3 (o + 1) _ _ _ (by first | omega | (dsimp only; omega)) ⟨by omega, by rw [tiresF, if_neg c_15]; exact hw, (lv_sub hl [2, 3, 4, 5, 0] rfl)⟩
    · skip
      refine lv_iload_n hx hb dX4_ends_18 rfl (lv_at hl 3 rfl) ?_
      refine lv_goto (tgt := 24) hx hb dX4_ends_19 (by decide) ?_
      refine lv_istore hx hb dX4_ends_24 hl (by decide) rfl (fun ls hl => ?_)
      refine lv_aload_n hx hb dX4_ends_26 rfl (lv_at hl 1 rfl) ?_
      refine n_get (k := 16 * j + 0) hx hb hts in_X4 hown hw (xwv hj 0) rfl 6 (by decide) q240 rfl dX4_ends_27 ?_
      refine lv_iconst (v := 2) hx hb dX4_ends_30 (by decide) ?_
      refine n_aaldS (k := 16 * j + 7) (t := 4) (j := 2) (b := ad (16 * j + 10)) hx hb hw (xwv hj 7) (Or.inr rfl) rfl (by decide) (by decide) rfl dX4_ends_31 ?_
      refine lv_iload hx hb dX4_ends_32 (lv_at hl 5 rfl) ?_
      refine lv_iconst (v := 0) hx hb dX4_ends_34 (by decide) ?_
      refine lv_bipush (v := 99) hx hb dX4_ends_35 (by decide) ?_
      refine lv_aload_n hx hb dX4_ends_37 rfl (lv_at hl 1 rfl) ?_
      refine n_get (k := 16 * j + 0) hx hb hts in_X4 hown hw (xwv hj 0) rfl 6 (by decide) q240 rfl dX4_ends_38 ?_
      refine lv_iconst (v := 2) hx hb dX4_ends_41 (by decide) ?_
      refine n_aaldS (k := 16 * j + 7) (t := 4) (j := 2) (b := ad (16 * j + 10)) hx hb hw (xwv hj 7) (Or.inr rfl) rfl (by decide) (by decide) rfl dX4_ends_42 ?_
      refine lv_iload hx hb dX4_ends_43 (lv_at hl 5 rfl) ?_
      refine n_iald (k := 16 * j + 10) (j := o) hx hb hw (xwv hj 10) rfl (by omega) (by decide) dX4_ends_45 ?_
      refine lv_iload hx hb dX4_ends_46 (lv_at hl 0 rfl) ?_
      refine lv_iadd hx hb dX4_ends_48 ?_
      refine va_mmin hx hb (hml.trans hl.1.symm) hown (hts _ q734) (hts _ q735) (hts _ q108) (hts _ q736) (by decide) (by simp [Value.category]) (Nat.zero_le _) (Nat.zero_le _) dX4_ends_49 ?_
      refine va_mmax hx hb (hml.trans hl.1.symm) hown (hts _ q725) (hts _ q625) (hts _ q108) (hts _ q626) (by decide) (by simp [Value.category]) (Nat.zero_le _) (Nat.zero_le _) dX4_ends_52 ?_
      refine w_iast hx hb hw 10 hj (by decide) (q := o) rfl (show _ < 8 by omega) (pos := 44 + 5 * o + 2) rfl dX4_ends_55 (fun H locs hw => ?_)
      refine lv_iinc (v := nI (o + 1)) hx hb dX4_ends_56 hl (k := 5) rfl (nI_1 _) (by decide) rfl (fun ls hl => ?_)
      refine lv_goto (tgt := 3) hx hb dX4_ends_59 (by decide) ?_
      exact ih_3 (o + 1) _ _ _ (by first | omega | (dsimp only; omega)) ⟨by omega, by rw [tiresF, if_pos c_15]; exact hw, (lv_sub hl [2, 3, 4, 5, 0] rfl)⟩
theorem hdS_X4_add : yX4_add.cls = "LineCalls$World" ∧ yX4_add.cls ≠ "java/lang/invoke/MethodHandle" ∧ yX4_add.cls ≠ "java/lang/invoke/VarHandle" ∧ (parseMethodDescriptor yX4_add.desc).map (fun d => d.parameters.length) = some 2 := by decide +kernel
set_option maxHeartbeats 4000000 in
theorem tX4_add (l : Launch) (G : nG) (ad : Nat → Nat) (V : xWs) (X : mM) (sp : xSp) (sh : xSh) (j : Nat) (hj : j < 4) (w : rw84) (hV : V j = w) (k t : Int32) (n : Nat) (hn : n < 8) (en : w 1 = nI n) : Met l yX4_add (ws_ yX4_add cX4_add 4 (none)) { frames := 0, cells := 0, slots := 0, locals := 0 } (va_Pc [.ref (ad (16 * j + 0)), .int k, .int t] (nC G (xE G ad V X sp sh))) (va_Qv (fun (u : rw84) => u = comeF w n k t) (fun u => nC G (xE G ad (va_up V j u) X sp sh)) (nA G)) 0 0 (nA G) := by
  refine n_head (by decide) (Nat.le_of_ble_eq_true rfl) ?_
  intro p e s m below meth c ls hx hb hr hlk hml hown hts hB0 hl
  have hown : s.vm.findClass "LineCalls$World" = some m.cls := hown
  have hw := nS.start hB0
  have hl : lv_has ls 4 [(0, .ref (ad (16 * j + 0))), (1, .int k), (2, .int t)] := hl
  have hw : nS G (xE G ad (va_up V j w) X sp sh) s _ _ := n_E (by rw [← va_up_eq hV]) hw
  refine lv_iconst (v := 0) hx hb dX4_add_0 (by decide) ?_
  refine lv_istore_n hx hb dX4_add_1 rfl hl (by decide) rfl (fun ls hl => ?_)
  refine n_loop (α := Nat) (fun f H locs ls => f ≤ 5 ∧ nS G (xE G ad (va_up V j (zeroF w n f)) X sp sh) s H locs ∧ lv_has ls 4 [(0, .ref (ad (16 * j + 0))), (1, .int k), (2, .int t), (3, .int (nI f))]) (fun f => 5 - f) 2 ?_ 0 _ _ _ ⟨Nat.zero_le _, hw, (lv_sub hl [1, 2, 3, 0] rfl)⟩
  clear hl hw
  intro f H locs ls hI ih_2
  obtain ⟨hf, hw, hl⟩ := hI
  refine lv_iload_n hx hb dX4_add_2 rfl (lv_at hl 3 rfl) ?_
  refine lv_iconst (v := 5) hx hb dX4_add_3 (by decide) ?_
  refine lv_icmp_ge (tgt := 25) hx hb dX4_add_4 (by decide) (fun c_4 => ?_) (fun c_4 => ?_)
  · skip
    have n_4 : 5 ≤ f := (nI_leI (a := 5) (b := f) (by omega) (by omega)).mp c_4
    obtain rfl : f = 5 := by omega
    refine lv_aload_n hx hb dX4_add_25 rfl (lv_at hl 0 rfl) ?_
    refine n_get (k := 16 * j + 0) hx hb hts in_X4 hown hw (xwv hj 0) rfl 6 (by decide) q240 rfl dX4_add_26 ?_
    refine lv_iconst (v := 0) hx hb dX4_add_29 (by decide) ?_
    refine n_aaldS (k := 16 * j + 7) (t := 4) (j := 0) (b := ad (16 * j + 8)) hx hb hw (xwv hj 7) (Or.inr rfl) rfl (by decide) (by decide) rfl dX4_add_30 ?_
    refine lv_aload_n hx hb dX4_add_31 rfl (lv_at hl 0 rfl) ?_
    refine n_get (k := 16 * j + 0) hx hb hts in_X4 hown hw (xwv hj 0) rfl 5 (by decide) q237 rfl dX4_add_32 ?_
    refine n_topE ((zeroF_1 _ _ _).trans en) ?_
    refine lv_iload_n hx hb dX4_add_35 rfl (lv_at hl 1 rfl) ?_
    refine w_iast hx hb hw 8 hj (by decide) (q := n) rfl (show _ < 8 by omega) (pos := 44 + 5 * n + 0) rfl dX4_add_36 (fun H locs hw => ?_)
    refine lv_aload_n hx hb dX4_add_37 rfl (lv_at hl 0 rfl) ?_
    refine n_get (k := 16 * j + 0) hx hb hts in_X4 hown hw (xwv hj 0) rfl 6 (by decide) q240 rfl dX4_add_38 ?_
    refine lv_iconst (v := 1) hx hb dX4_add_41 (by decide) ?_
    refine n_aaldS (k := 16 * j + 7) (t := 4) (j := 1) (b := ad (16 * j + 9)) hx hb hw (xwv hj 7) (Or.inr rfl) rfl (by decide) (by decide) rfl dX4_add_42 ?_
    refine lv_aload_n hx hb dX4_add_43 rfl (lv_at hl 0 rfl) ?_
    refine n_get (k := 16 * j + 0) hx hb hts in_X4 hown hw (xwv hj 0) rfl 5 (by decide) q237 rfl dX4_add_44 ?_
    refine n_topE ((up_ne (by omega)).trans ((zeroF_1 _ _ _).trans en)) ?_
    refine lv_iload_n hx hb dX4_add_47 rfl (lv_at hl 2 rfl) ?_
    refine w_iast hx hb hw 9 hj (by decide) (q := n) rfl (show _ < 8 by omega) (pos := 44 + 5 * n + 1) rfl dX4_add_48 (fun H locs hw => ?_)
    refine lv_aload_n hx hb dX4_add_49 rfl (lv_at hl 0 rfl) ?_
    refine lv_dup hx hb dX4_add_50 rfl ?_
    refine n_get (k := 16 * j + 0) hx hb hts in_X4 hown hw (xwv hj 0) rfl 5 (by decide) q237 rfl dX4_add_51 ?_
    refine lv_iconst (v := 1) hx hb dX4_add_54 (by decide) ?_
    refine lv_iadd hx hb dX4_add_55 ?_
    refine w_put hx hb hts hown hw hj 5 (by decide) q237 (pos := 1) rfl dX4_add_56 (fun H locs hw => ?_)
    exact n_vret hx hb hr hlk _ hw rfl dX4_add_59
  · skip
    have n_4 : ¬ 5 ≤ f := fun h => c_4 ((nI_leI (a := 5) (b := f) (by omega) (by omega)).mpr h)
    have hf5 : f < 5 := by omega
    refine lv_aload_n hx hb dX4_add_7 rfl (lv_at hl 0 rfl) ?_
    refine n_get (k := 16 * j + 0) hx hb hts in_X4 hown hw (xwv hj 0) rfl 6 (by decide) q240 rfl dX4_add_8 ?_
    refine lv_iload_n hx hb dX4_add_11 rfl (lv_at hl 3 rfl) ?_
    refine n_aaldS (k := 16 * j + 7) (t := 4) (j := f) (b := ad (16 * j + (8 + f))) hx hb hw (xwv hj 7) (Or.inr rfl) rfl (by omega) (by decide) rfl dX4_add_12 ?_
    refine lv_aload_n hx hb dX4_add_13 rfl (lv_at hl 0 rfl) ?_
    refine n_get (k := 16 * j + 0) hx hb hts in_X4 hown hw (xwv hj 0) rfl 5 (by decide) q237 rfl dX4_add_14 ?_
    refine n_topE ((zeroF_1 _ _ _).trans en) ?_
    refine lv_iconst (v := 0) hx hb dX4_add_17 (by decide) ?_
    refine w_iast hx hb hw (8 + f) hj (by omega) (q := n) rfl (by rw [wlen_row hf5]; omega) (pos := 44 + 5 * n + f) (wpos_row hf5 _) dX4_add_18 (fun H locs hw => ?_)
    refine lv_iinc (v := nI (f + 1)) hx hb dX4_add_19 hl (k := 3) rfl (nI_1 _) (by decide) rfl (fun ls hl => ?_)
    refine lv_goto (tgt := 2) hx hb dX4_add_22 (by decide) ?_
    exact ih_2 (f + 1) _ _ _ (by first | omega | (dsimp only; omega)) ⟨by omega, hw, (lv_sub hl [1, 2, 3, 0] rfl)⟩
