/-! the class: its reader, items -/
set_option maxRecDepth 100000
section ITM
variable {bt : Nat → Int32} {t : Tok} {tk : Nat → Bool} {k z : Nat} {a : Option Nat}
theorem chk_r {α : Type} {x : α} (h : okT bt t = true) : chk bt (.inr (x, t)) = .inr (x, t) := if_pos h
theorem chk_b {α : Type} {x : α} (h : okT bt t = false) : chk bt (.inr (x, t)) = (.inl t.2.1 : Nat ⊕ (α × Tok)) := if_neg (by rw [h]; decide)
theorem two_ok {x h1 h2 : Nat} (n1 : nmB (nx bt t) h1 = true) (n2 : nmB (nx bt (nx bt t)) h2 = true) (h : okT bt (nx bt (nx bt (nx bt t))) = true) : chk bt (twoP bt x h1 h2 t) = .inr ((x, some (nx bt t).2.2.2, (nx bt (nx bt t)).2.2.2), nx bt (nx bt (nx bt t))) := by
  rw [twoP, if_pos n1, if_pos n2]
  exact chk_r h
theorem two_e1 {x h1 h2 : Nat} (hh : h2 ≤ 999) (h : NumE bt (nx bt t) h1 z) : chk bt (twoP bt x h1 h2 t) = .inl z := by
  rcases h with ⟨h, rfl⟩ | ⟨h, g, rfl⟩
  · rw [twoP, if_neg (by rw [h]; decide)]
    rfl
  · rw [twoP, if_pos h, if_neg (by rw [nm_bad hh (by rw [g]; decide)]; decide)]
    rfl
theorem two_e2 {x h1 h2 : Nat} (n1 : nmB (nx bt t) h1 = true) (h : NumE bt (nx bt (nx bt t)) h2 z) : chk bt (twoP bt x h1 h2 t) = .inl z := by
  rcases h with ⟨h, rfl⟩ | ⟨h, g, rfl⟩
  · rw [twoP, if_pos n1, if_neg (by rw [h]; decide)]
    rfl
  · rw [twoP, if_pos n1, if_pos h]
    exact chk_b g
theorem one_ok {x hi : Nat} (n1 : nmB (nx bt t) hi = true) (h : okT bt (nx bt (nx bt t)) = true) : chk bt (oneP bt x hi t) = .inr ((x, some (nx bt t).2.2.2, 0), nx bt (nx bt t)) := by
  rw [oneP, if_pos n1]
  exact chk_r h
theorem one_e {x hi : Nat} (h : NumE bt (nx bt t) hi z) : chk bt (oneP bt x hi t) = .inl z := by
  rcases h with ⟨h, rfl⟩ | ⟨h, g, rfl⟩
  · rw [oneP, if_neg (by rw [h]; decide)]
    rfl
  · rw [oneP, if_pos h]
    exact chk_b g
theorem tall_n (h : ¬ keyF bt t = 13) : tallP bt k a t = .inr ((k, a, 50), t) := if_neg h
theorem tall_y (h : keyF bt t = 13) (n : nmB (nx bt t) 99 = true) : tallP bt k a t = .inr ((k, a, (nx bt t).2.2.2), nx bt (nx bt t)) := by
  rw [tallP, if_pos h, if_pos n]
theorem tall_e (h : keyF bt t = 13) (g : NumE bt (nx bt t) 99 z) : chk bt (tallP bt k a t) = .inl z := by
  rcases g with ⟨g, rfl⟩ | ⟨g, g2, rfl⟩
  · rw [tallP, if_pos h, if_neg (by rw [g]; decide)]
    rfl
  · rw [tall_y h g]
    exact chk_b g2
theorem tall_b (h : okT bt t = false) : chk bt (tallP bt k a t) = .inl t.2.1 := by
  rw [tall_n (by rw [key_bad (by rw [h]; decide)]; decide)]
  exact chk_b h
theorem jump_n (h : ¬ keyF bt t = 12) : jumpP bt tk k t = tallP bt k none t := if_neg h
theorem jump_y (h : keyF bt t = 12) (g : (nmB (nx bt t) 6 && !tk (nx bt t).2.2.2) = true) : jumpP bt tk k t = tallP bt k (some (nx bt t).2.2.2) (nx bt (nx bt t)) := by
  rw [jumpP, if_pos h, if_pos g]
theorem jump_b (h : okT bt t = false) : chk bt (jumpP bt tk k t) = .inl t.2.1 := by
  rw [jump_n (by rw [key_bad (by rw [h]; decide)]; decide)]
  exact tall_b h
theorem jump_e {w3 : rw84} (h : keyF bt t = 12) (g : FreE bt w3 (nx bt t) z) : chk bt (jumpP bt (tkW w3) k t) = .inl z := by
  rcases g with ⟨g, rfl⟩ | ⟨g, g2, rfl⟩
  · rw [jumpP, if_pos h, if_neg (by rw [g]; decide)]
    rfl
  · rw [jump_y h g]
    exact tall_b g2
/-- an item's result for the class -/
def iP (bt : Nat → Int32) (n : Nat) (w3 : rw84) (t : Tok) : Nat ⊕ (Itm × Tok) := chk bt (itemP bt n (tkW w3) t)
end ITM
section COM
variable {w : rw84} {n : Nat} {k t v : Int32}
theorem zeroF_out {i : Nat} : ∀ f, f ≤ 5 → i < 44 → zeroF w n f i = w i
  | 0, _, _ => rfl
  | f + 1, hf, hi => by rw [zeroF, up_ne (by omega), zeroF_out f (by omega) hi]
theorem come_out {i : Nat} (hi : i < 44) (h1 : i ≠ 1) : comeF w n k t i = w i := by
  unfold comeF
  rw [up_ne h1, up_ne (by omega), up_ne (by omega), zeroF_out 5 (by omega) hi]
theorem come_tk : tkW (comeF w n k t) = tkW w ∨ True := Or.inr trivial
theorem come_tall : upd (comeF w n k t) (44 + 5 * n + 1) v = comeF w n k v := by
  have e : ∀ x : Int32, upd (upd (zeroF w n 5) (44 + 5 * n + 0) k) (44 + 5 * n + 1) x 1 = w 1 := fun x => by
    rw [up_ne (by omega), up_ne (by omega), zeroF_1]
  unfold comeF
  dsimp only
  rw [e t, e v, up_comm _ (show (1 : Nat) ≠ 44 + 5 * n + 1 by omega), up_up]
end COM
theorem tk_come {w : rw84} {n p : Nat} {k t : Int32} (hp : p < 7) : tkW (comeF w n k t) p = tkW w p := by
  unfold tkW
  rw [come_out (by omega) (by omega)]
theorem ap_j0 {w : rw84} {n k b : Nat} (hk : k < 7) (hn : n ≤ 8) (en : w 1 = nI n) : apF w (k, none, b) = comeF w n (nI k) (nI b) := by
  unfold apF
  dsimp only
  rw [if_neg (by omega), if_neg (by omega), if_neg (by omega), if_neg (by omega), if_neg (by omega), en, ix, nI_clamp (by omega)]
theorem ap_j1 {w : rw84} {n k b a : Nat} (hk : k < 7) (hn : n ≤ 8) (en : w 1 = nI n) : apF w (k, some a, b) = upd (comeF w n (nI k) (nI b)) (17 + a) (nI n) := by
  unfold apF
  dsimp only
  rw [if_neg (by omega), if_neg (by omega), if_neg (by omega), if_neg (by omega), if_neg (by omega), en, ix, nI_clamp (by omega)]
theorem ap_j0t {w : rw84} {n k b : Nat} (hk : k < 7) (hn : n ≤ 8) (en : w 1 = nI n) : apF w (k, none, b) = upd (comeF w n (nI k) 50) (44 + 5 * n + 1) (nI b) := by
  rw [ap_j0 hk hn en, come_tall]
theorem ap_j1t {w : rw84} {n k b a : Nat} (hk : k < 7) (hn : n ≤ 8) (en : w 1 = nI n) (ha : a ≤ 6) : apF w (k, some a, b) = upd (upd (comeF w n (nI k) 50) (17 + a) (nI n)) (44 + 5 * n + 1) (nI b) := by
  rw [ap_j1 hk hn en, up_comm _ (show 17 + a ≠ 44 + 5 * n + 1 by omega), come_tall]
theorem hdS_X2_theirs : yX2_theirs.cls = "LineCalls$Reader" ∧ yX2_theirs.cls ≠ "java/lang/invoke/MethodHandle" ∧ yX2_theirs.cls ≠ "java/lang/invoke/VarHandle" ∧ (parseMethodDescriptor yX2_theirs.desc).map (fun d => d.parameters.length) = some 0 := by decide +kernel
set_option maxHeartbeats 4000000 in
theorem tR_theirs (l : Launch) (G : nG) (ad : Nat → Nat) (w w1 w2 w3 : rw84) (X : mM) (sp : xSp) (sh : xSh) (bt : Nat → Int32) (len : Nat) (hby : Byt bt len) (hX : RdX bt len X) (t : Tok) (e34 : X 34 0 = nI t.2.2.1) (ht : TokIn t) : MetX l yX2_theirs (ws_ yX2_theirs cX2_theirs 2 (none)) { frames := 9, cells := 0, slots := 0, locals := 196 } (va_Pc [.ref (ad 66)] (nC G (xE G ad (xV w w1 w2 w3) X sp sh))) (xQ G (fun (_ : xSt) => none) (fun (u : xSt) => ∃ it t', chk bt (twoP bt 10 6 99 t) = .inr (it, t') ∧ okT bt t' = true ∧ ∃ X', u = (w, w1, w2, apF w3 it, X', sp, sh) ∧ RdT bt t' X' ∧ xFr X X') (fun (u : xSt) => ∃ z, chk bt (twoP bt 10 6 99 t) = .inl z ∧ ∃ X' w3', u = (w, w1, w2, w3', X', sp, sh) ∧ X' 35 0 = nI z ∧ xFr X X') (ad 67) (fun u => xE G ad (xV u.1 u.2.1 u.2.2.1 u.2.2.2.1) u.2.2.2.2.1 u.2.2.2.2.2.1 u.2.2.2.2.2.2)) 0 0 (nA G) := by
  refine x_head (by decide) (Nat.le_of_ble_eq_true rfl) ?_
  intro p e s m below meth c ls hx hb hr hlk hml hown hts hnh hB0 hl
  have hown : s.vm.findClass "LineCalls$Reader" = some m.cls := hown
  have hw := nS.start hB0
  have hl : lv_has ls 2 [(0, .ref (ad 66))] := hl
  have ht1 := tokIn hby ht.2.2.1
  have ht2 := tokIn hby ht1.2.2.1
  refine lv_aload_n hx hb dX2_theirs_0 rfl (lv_at hl 0 rfl) ?_
  refine lv_iconst (v := 0) hx hb dX2_theirs_1 (by decide) ?_
  refine lv_bipush (v := 6) hx hb dX2_theirs_2 (by decide) ?_
  refine x_callA ⟨hx, hb, hml, hown, hts⟩ (tR_behind l G ad _ _ _ _ _ _ _ bt len hby hX t 6 (by decide) e34 ht) (cwV 2 hts (lw_V q1060 q1062 qs41 q95 q1063) rfl rfl rfl hdS_X2_behind ⟨by decide, by decide⟩) (hw.preV (k := 66) (xp 66) rfl) rfl hl.1 rfl (by simp [Value.category]) dX2_theirs_4 ⟨Nat.zero_le _, Nat.zero_le _⟩ hw (fun u_4 H locs e_4 hw => ?_) (fun u_4 H locs e_4 hw => ?_)
  · skip
    obtain ⟨m1, o1, X1, rfl, hR1, hf1⟩ := e_4
    have hw : nS G (xE G ad (xV _ _ _ _) _ _ _) s H locs := hw
    have hv1 : (nx bt t).2.2.2 ≤ 6 := (nm_iff.mp m1).2
    refine lv_istore_n hx hb dX2_theirs_7 rfl hl (by decide) rfl (fun ls hl => ?_)
    refine lv_aload_n hx hb dX2_theirs_8 rfl (lv_at hl 1 rfl) ?_
    refine n_get (k := 66) hx hb hts in_X2 hown hw (xp 66) rfl 2 (by decide) q277 rfl dX2_theirs_9 ?_
    refine n_getN (k := 16 * 3 + 0) hx hb hts in_X4 hown hw (xv3 0) rfl 1 (by decide) q223 rfl dX2_theirs_12 ?_
    refine lv_iconst (v := 0) hx hb dX2_theirs_15 (by decide) ?_
    refine n_aaldS (k := 16 * 3 + 2) (t := 4) (j := 0) (b := ad (16 * 3 + 3)) hx hb hw (xv3 2) (Or.inr rfl) rfl (by decide) (by decide) rfl dX2_theirs_16 ?_
    refine lv_iload_n hx hb dX2_theirs_17 rfl (lv_at hl 0 rfl) ?_
    refine lv_aload_n hx hb dX2_theirs_18 rfl (lv_at hl 1 rfl) ?_
    refine lv_iconst (v := 0) hx hb dX2_theirs_19 (by decide) ?_
    refine lv_bipush (v := 99) hx hb dX2_theirs_20 (by decide) ?_
    refine x_callA ⟨hx, hb, hml, hown, hts⟩ (tR_number l G ad _ _ _ _ _ _ _ bt len hby (hX.fr hf1) (nx bt (nx bt t)) 99 (by decide) hR1 ht2) (cwV 2 hts (lw_V q1064 q1066 qs42 q95 q1067) rfl rfl rfl hdS_X2_number ⟨by decide, by decide⟩) (hw.preV (k := 66) (xp 66) rfl) rfl hl.1 rfl (by simp [Value.category]) dX2_theirs_22 ⟨Nat.zero_le _, Nat.zero_le _⟩ hw (fun u_22 H locs e_22 hw => ?_) (fun u_22 H locs e_22 hw => ?_)
    · skip
      obtain ⟨m2, o2, X2, rfl, hR2, hf2⟩ := e_22
      have hw : nS G (xE G ad (xV _ _ _ _) _ _ _) s H locs := hw
      refine l3_iast hx hb hw 3 (by decide) (q := (nx bt t).2.2.2) rfl (show _ < 7 by omega) (pos := 24 + ((nx bt t).2.2.2)) rfl dX2_theirs_25 (fun H locs hw => ?_)
      exact lx_vret hx hb hr hlk hw ⟨_, _, two_ok m1 m2 o2, o2, X2, rfl, hR2, hf1.tr hf2⟩ dX2_theirs_26
    · skip
      obtain ⟨z, hz, X2, rfl, hR2, hf2⟩ := e_22
      have hw : nS G (xE G ad (xV _ _ _ _) _ _ _) s H locs := hw
      exact lx_out hlk hnh hw ⟨z, two_e2 m1 hz, X2, _, rfl, hR2, hf1.tr hf2⟩
  · skip
    obtain ⟨z, hz, X1, rfl, hR1, hf1⟩ := e_4
    have hw : nS G (xE G ad (xV _ _ _ _) _ _ _) s H locs := hw
    exact lx_out hlk hnh hw ⟨z, two_e1 (by decide) hz, X1, _, rfl, hR1, hf1⟩
theorem hdS_X2_call : yX2_call.cls = "LineCalls$Reader" ∧ yX2_call.cls ≠ "java/lang/invoke/MethodHandle" ∧ yX2_call.cls ≠ "java/lang/invoke/VarHandle" ∧ (parseMethodDescriptor yX2_call.desc).map (fun d => d.parameters.length) = some 0 := by decide +kernel
set_option maxHeartbeats 4000000 in
theorem tR_call (l : Launch) (G : nG) (ad : Nat → Nat) (w w1 w2 w3 : rw84) (X : mM) (sp : xSp) (sh : xSh) (bt : Nat → Int32) (len : Nat) (hby : Byt bt len) (hX : RdX bt len X) (t : Tok) (e34 : X 34 0 = nI t.2.2.1) (ht : TokIn t) : MetX l yX2_call (ws_ yX2_call cX2_call 2 (none)) { frames := 9, cells := 0, slots := 0, locals := 196 } (va_Pc [.ref (ad 66)] (nC G (xE G ad (xV w w1 w2 w3) X sp sh))) (xQ G (fun (_ : xSt) => none) (fun (u : xSt) => ∃ it t', chk bt (twoP bt 11 5 999 t) = .inr (it, t') ∧ okT bt t' = true ∧ ∃ X', u = (w, w1, w2, apF w3 it, X', sp, sh) ∧ RdT bt t' X' ∧ xFr X X') (fun (u : xSt) => ∃ z, chk bt (twoP bt 11 5 999 t) = .inl z ∧ ∃ X' w3', u = (w, w1, w2, w3', X', sp, sh) ∧ X' 35 0 = nI z ∧ xFr X X') (ad 67) (fun u => xE G ad (xV u.1 u.2.1 u.2.2.1 u.2.2.2.1) u.2.2.2.2.1 u.2.2.2.2.2.1 u.2.2.2.2.2.2)) 0 0 (nA G) := by
  refine x_head (by decide) (Nat.le_of_ble_eq_true rfl) ?_
  intro p e s m below meth c ls hx hb hr hlk hml hown hts hnh hB0 hl
  have hown : s.vm.findClass "LineCalls$Reader" = some m.cls := hown
  have hw := nS.start hB0
  have hl : lv_has ls 2 [(0, .ref (ad 66))] := hl
  have ht1 := tokIn hby ht.2.2.1
  have ht2 := tokIn hby ht1.2.2.1
  refine lv_aload_n hx hb dX2_call_0 rfl (lv_at hl 0 rfl) ?_
  refine lv_iconst (v := 0) hx hb dX2_call_1 (by decide) ?_
  refine lv_iconst (v := 5) hx hb dX2_call_2 (by decide) ?_
  refine x_callA ⟨hx, hb, hml, hown, hts⟩ (tR_behind l G ad _ _ _ _ _ _ _ bt len hby hX t 5 (by decide) e34 ht) (cwV 2 hts (lw_V q1060 q1062 qs41 q95 q1063) rfl rfl rfl hdS_X2_behind ⟨by decide, by decide⟩) (hw.preV (k := 66) (xp 66) rfl) rfl hl.1 rfl (by simp [Value.category]) dX2_call_3 ⟨Nat.zero_le _, Nat.zero_le _⟩ hw (fun u_3 H locs e_3 hw => ?_) (fun u_3 H locs e_3 hw => ?_)
  · skip
    obtain ⟨m1, o1, X1, rfl, hR1, hf1⟩ := e_3
    have hw : nS G (xE G ad (xV _ _ _ _) _ _ _) s H locs := hw
    have hv1 : (nx bt t).2.2.2 ≤ 5 := (nm_iff.mp m1).2
    refine lv_istore_n hx hb dX2_call_6 rfl hl (by decide) rfl (fun ls hl => ?_)
    refine lv_aload_n hx hb dX2_call_7 rfl (lv_at hl 1 rfl) ?_
    refine n_get (k := 66) hx hb hts in_X2 hown hw (xp 66) rfl 2 (by decide) q277 rfl dX2_call_8 ?_
    refine n_getN (k := 16 * 3 + 0) hx hb hts in_X4 hown hw (xv3 0) rfl 3 (by decide) q233 rfl dX2_call_11 ?_
    refine lv_iload_n hx hb dX2_call_14 rfl (lv_at hl 0 rfl) ?_
    refine lv_aload_n hx hb dX2_call_15 rfl (lv_at hl 1 rfl) ?_
    refine lv_iconst (v := 0) hx hb dX2_call_16 (by decide) ?_
    refine lv_sipush (v := 999) hx hb dX2_call_17 (by decide) ?_
    refine x_callA ⟨hx, hb, hml, hown, hts⟩ (tR_number l G ad _ _ _ _ _ _ _ bt len hby (hX.fr hf1) (nx bt (nx bt t)) 999 (by decide) hR1 ht2) (cwV 2 hts (lw_V q1064 q1066 qs42 q95 q1067) rfl rfl rfl hdS_X2_number ⟨by decide, by decide⟩) (hw.preV (k := 66) (xp 66) rfl) rfl hl.1 rfl (by simp [Value.category]) dX2_call_20 ⟨Nat.zero_le _, Nat.zero_le _⟩ hw (fun u_20 H locs e_20 hw => ?_) (fun u_20 H locs e_20 hw => ?_)
    · skip
      obtain ⟨m2, o2, X2, rfl, hR2, hf2⟩ := e_20
      have hw : nS G (xE G ad (xV _ _ _ _) _ _ _) s H locs := hw
      refine l3_iast hx hb hw 6 (by decide) (q := (nx bt t).2.2.2) rfl (show _ < 6 by omega) (pos := 38 + ((nx bt t).2.2.2)) rfl dX2_call_23 (fun H locs hw => ?_)
      exact lx_vret hx hb hr hlk hw ⟨_, _, two_ok m1 m2 o2, o2, X2, rfl, hR2, hf1.tr hf2⟩ dX2_call_24
    · skip
      obtain ⟨z, hz, X2, rfl, hR2, hf2⟩ := e_20
      have hw : nS G (xE G ad (xV _ _ _ _) _ _ _) s H locs := hw
      exact lx_out hlk hnh hw ⟨z, two_e2 m1 hz, X2, _, rfl, hR2, hf1.tr hf2⟩
  · skip
    obtain ⟨z, hz, X1, rfl, hR1, hf1⟩ := e_3
    have hw : nS G (xE G ad (xV _ _ _ _) _ _ _) s H locs := hw
    exact lx_out hlk hnh hw ⟨z, two_e1 (by decide) hz, X1, _, rfl, hR1, hf1⟩
theorem fre_come {bt : Nat → Int32} {w3 : rw84} {n z : Nat} {a b : Int32} {t : Tok} (h : FreE bt (comeF w3 n a b) t z) : FreE bt w3 t z := by
  have e : (nmB t 6 && !tkW (comeF w3 n a b) t.2.2.2) = (nmB t 6 && !tkW w3 t.2.2.2) := by
    cases hn : nmB t 6 with
    | false => rfl
    | true => rw [tk_come (by have := (nm_iff.mp hn).2; omega)]
  unfold FreE at h ⊢
  rw [e] at h
  exact h
theorem hdS_X2_jumper : yX2_jumper.cls = "LineCalls$Reader" ∧ yX2_jumper.cls ≠ "java/lang/invoke/MethodHandle" ∧ yX2_jumper.cls ≠ "java/lang/invoke/VarHandle" ∧ (parseMethodDescriptor yX2_jumper.desc).map (fun d => d.parameters.length) = some 1 := by decide +kernel
set_option maxHeartbeats 4000000 in
theorem tR_jumper (l : Launch) (G : nG) (ad : Nat → Nat) (w w1 w2 w3 : rw84) (X : mM) (sp : xSp) (sh : xSh) (bt : Nat → Int32) (len : Nat) (hby : Byt bt len) (hX : RdX bt len X) (k n : Nat) (t : Tok) (hk : k < 7) (hn : n ≤ 8) (en : w3 1 = nI n) (hR : RdT bt t X) (ht : TokIn t) : MetX l yX2_jumper (ws_ yX2_jumper cX2_jumper 3 (none)) { frames := 9, cells := 0, slots := 0, locals := 196 } (va_Pc [.ref (ad 66), .int (nI k)] (nC G (xE G ad (xV w w1 w2 w3) X sp sh))) (xQ G (fun (_ : xSt) => none) (fun (u : xSt) => ∃ it t', chk bt (if n < 8 then jumpP bt (tkW w3) k (nx bt t) else .inl t.2.1) = .inr (it, t') ∧ okT bt t' = true ∧ ∃ X', u = (w, w1, w2, apF w3 it, X', sp, sh) ∧ RdT bt t' X' ∧ xFr X X') (fun (u : xSt) => ∃ z, chk bt (if n < 8 then jumpP bt (tkW w3) k (nx bt t) else .inl t.2.1) = .inl z ∧ ∃ X' w3', u = (w, w1, w2, w3', X', sp, sh) ∧ X' 35 0 = nI z ∧ xFr X X') (ad 67) (fun u => xE G ad (xV u.1 u.2.1 u.2.2.1 u.2.2.2.1) u.2.2.2.2.1 u.2.2.2.2.2.1 u.2.2.2.2.2.2)) 0 0 (nA G) := by
  refine x_head (by decide) (Nat.le_of_ble_eq_true rfl) ?_
  intro p e s m below meth c ls hx hb hr hlk hml hown hts hnh hB0 hl
  have hown : s.vm.findClass "LineCalls$Reader" = some m.cls := hown
  have hw := nS.start hB0
  have hl : lv_has ls 3 [(0, .ref (ad 66)), (1, .int (nI k))] := hl
  have ht1 := tokIn hby ht.2.2.1
  have ht2 := tokIn hby ht1.2.2.1
  have ht3 := tokIn hby ht2.2.2.1
  refine lv_aload_n hx hb dX2_jumper_0 rfl (lv_at hl 0 rfl) ?_
  refine lv_aload_n hx hb dX2_jumper_1 rfl (lv_at hl 0 rfl) ?_
  refine n_get (k := 66) hx hb hts in_X2 hown hw (xp 66) rfl 2 (by decide) q277 rfl dX2_jumper_2 ?_
  refine n_getN (k := 16 * 3 + 0) hx hb hts in_X4 hown hw (xv3 0) rfl 5 (by decide) q238 rfl dX2_jumper_5 ?_
  refine n_topE en ?_
  refine lv_bipush (v := 8) hx hb dX2_jumper_8 (by decide) ?_
  refine lv_icmp_ge (tgt := 17) hx hb dX2_jumper_10 (by decide) (fun c_10 => ?_) (fun c_10 => ?_)
  · skip
    have n_10 : 8 ≤ n := (nI_leI (a := 8) (b := n) (by omega) (by omega)).mp c_10
    refine lv_iconst (v := 0) hx hb dX2_jumper_17 (by decide) ?_
    refine x_callN ⟨hx, hb, hml, hown, hts⟩ (tR_need l G ad _ _ _ _ _ _ _ _) (cwV 1 hts (lw_V q1041 q1043 qs37 q95 q1044) rfl rfl rfl hdS_X2_need ⟨by decide, by decide⟩) (hw.preV (k := 66) (xp 66) rfl) rfl hl.1 rfl (by simp [Value.category]) dX2_jumper_18 ⟨Nat.zero_le _, Nat.zero_le _⟩ hw (fun u_18 H locs e_18 hw => ?_) (fun u_18 H locs e_18 hw => ?_)
    · skip
      obtain ⟨t_18, rfl⟩ := e_18
      have hw : nS G (xE G ad (xV _ _ _ _) _ _ _) s H locs := hw
      exact absurd rfl t_18
    · skip
      obtain ⟨t_18, rfl⟩ := e_18
      have hw : nS G (xE G ad (xV _ _ _ _) _ _ _) s H locs := hw
      exact lx_out hlk hnh hw ⟨t.2.1, (by rw [if_neg (by omega)]; rfl), _, _, rfl, hR.2.1, xFr.rf _⟩
  · skip
    have n_10 : ¬ 8 ≤ n := fun h => c_10 ((nI_leI (a := 8) (b := n) (by omega) (by omega)).mpr h)
    have hn8 : n < 8 := by omega
    refine lv_iconst (v := 1) hx hb dX2_jumper_13 (by decide) ?_
    refine lv_goto (tgt := 18) hx hb dX2_jumper_14 (by decide) ?_
    refine x_callN ⟨hx, hb, hml, hown, hts⟩ (tR_need l G ad _ _ _ _ _ _ _ _) (cwV 1 hts (lw_V q1041 q1043 qs37 q95 q1044) rfl rfl rfl hdS_X2_need ⟨by decide, by decide⟩) (hw.preV (k := 66) (xp 66) rfl) rfl hl.1 rfl (by simp [Value.category]) dX2_jumper_18 ⟨Nat.zero_le _, Nat.zero_le _⟩ hw (fun u_18 H locs e_18 hw => ?_) (fun u_18 H locs e_18 hw => ?_)
    · skip
      obtain ⟨t_18, rfl⟩ := e_18
      have hw : nS G (xE G ad (xV _ _ _ _) _ _ _) s H locs := hw
      refine lv_aload_n hx hb dX2_jumper_21 rfl (lv_at hl 0 rfl) ?_
      refine x_callN ⟨hx, hb, hml, hown, hts⟩ (tR_next l G ad _ _ _ _ _ _ _ bt len hby hX t.2.2.1 ht.2.2.1 hR.1) (cwV 0 hts (lw_V q980 q982 qs33 q95 q983) rfl rfl rfl hdS_X2_next ⟨by decide, by decide⟩) (hw.preV (k := 66) (xp 66) rfl) rfl hl.1 rfl (by simp [Value.category]) dX2_jumper_22 ⟨Nat.zero_le _, Nat.zero_le _⟩ hw (fun u_22 H locs e_22 hw => ?_) (fun u_22 H locs e_22 hw => ?_)
      · skip
        obtain ⟨t_22, X1, rfl, hR1, hf1⟩ := e_22
        have hw : nS G (xE G ad (xV _ _ _ _) _ _ _) s H locs := hw
        refine lv_aload_n hx hb dX2_jumper_25 rfl (lv_at hl 0 rfl) ?_
        refine n_get (k := 66) hx hb hts in_X2 hown hw (xp 66) rfl 2 (by decide) q277 rfl dX2_jumper_26 ?_
        refine lv_iload_n hx hb dX2_jumper_29 rfl (lv_at hl 1 rfl) ?_
        refine lv_bipush (v := 50) hx hb dX2_jumper_30 (by decide) ?_
        refine n_callv (va_runV ⟨hx, hb, hml, hown, hts⟩ (tX4_add l G ad _ _ _ _ 3 (by decide) _ (xV_at3 _ _ _ _) _ _ n hn8 en) (cwV 2 hts (lw_V q1076 q542 q543 q97 q544) rfl rfl rfl hdS_X4_add ⟨by decide, by decide⟩) (hw.preV (k := 16 * 3 + 0) (xv3 0) rfl) rfl rfl hl.1 rfl (lv_room (by simp [Value.category])) dX2_jumper_32 ⟨Nat.zero_le _, Nat.zero_le _⟩) hw (fun u_32 H locs e_32 hw => ?_)
        subst e_32
        have hw : nS G (xE G ad (va_up (xV _ _ _ _) 3 _) _ _ _) s H locs := hw
        rw [xV_3] at hw
        refine lv_aload_n hx hb dX2_jumper_35 rfl (lv_at hl 0 rfl) ?_
        refine n_get (k := 66) hx hb hts in_X2 hown hw (xp 66) rfl 2 (by decide) q277 rfl dX2_jumper_36 ?_
        refine n_getN (k := 16 * 3 + 0) hx hb hts in_X4 hown hw (xv3 0) rfl 5 (by decide) q238 rfl dX2_jumper_39 ?_
        refine lv_iconst (v := 1) hx hb dX2_jumper_42 (by decide) ?_
        refine lv_isub hx hb dX2_jumper_43 ?_
        refine n_topE ((come_1 _ _ _ _).trans en) ?_
        refine lv_istore_n hx hb dX2_jumper_44 rfl hl (by decide) rfl (fun ls hl => ?_)
        refine lv_aload_n hx hb dX2_jumper_45 rfl (lv_at hl 1 rfl) ?_
        refine lv_bipush (v := 12) hx hb dX2_jumper_46 (by decide) ?_
        refine n_callp (va_runV ⟨hx, hb, hml, hown, hts⟩ (tR_isWord l G ad _ _ _ _ _ _ _ bt len hby (hX.fr hf1) (nx bt t) 12 (by decide) hR1 ht1.1) (cwV 1 hts (lw_V q1077 q1079 qs45 q95 q1080) rfl rfl rfl hdS_X2_isWord ⟨by decide, by decide⟩) (hw.preV (k := 66) (xp 66) rfl) rfl rfl hl.1 rfl (lv_room (by simp [Value.category])) dX2_jumper_48 ⟨Nat.zero_le _, Nat.zero_le _⟩) (fun r_48 e_48 => ?_)
        subst e_48
        refine lv_if_eq (tgt := 67) hx hb dX2_jumper_51 (by decide) (fun c_51 => ?_) (fun c_51 => ?_)
        · skip
          have k12 : ¬ keyF bt (nx bt t) = 12 := by (intro h; rw [if_pos h] at c_51; exact absurd c_51 (by decide))
          refine lv_aload_n hx hb dX2_jumper_67 rfl (lv_at hl 1 rfl) ?_
          refine lv_bipush (v := 13) hx hb dX2_jumper_68 (by decide) ?_
          refine n_callp (va_runV ⟨hx, hb, hml, hown, hts⟩ (tR_isWord l G ad _ _ _ _ _ _ _ bt len hby (hX.fr hf1) (nx bt t) 13 (by decide) hR1 ht1.1) (cwV 1 hts (lw_V q1077 q1079 qs45 q95 q1080) rfl rfl rfl hdS_X2_isWord ⟨by decide, by decide⟩) (hw.preV (k := 66) (xp 66) rfl) rfl rfl hl.1 rfl (lv_room (by simp [Value.category])) dX2_jumper_70 ⟨Nat.zero_le _, Nat.zero_le _⟩) (fun r_70 e_70 => ?_)
          subst e_70
          refine lv_if_eq (tgt := 94) hx hb dX2_jumper_73 (by decide) (fun c_73 => ?_) (fun c_73 => ?_)
          · skip
            have k13 : ¬ keyF bt (nx bt t) = 13 := by (intro h; rw [if_pos h] at c_73; exact absurd c_73 (by decide))
            exact lx_vret hx hb hr hlk hw ⟨_, _, (by rw [if_pos hn8, jump_n k12, tall_n k13]; exact chk_r t_22), t_22, X1, (by rw [ap_j0 hk hn en]; rfl), hR1, hf1⟩ dX2_jumper_94
          · skip
            have k13 : keyF bt (nx bt t) = 13 := by (by_cases h : keyF bt (nx bt t) = 13; exact h; rw [if_neg h] at c_73; exact absurd rfl c_73)
            refine lv_aload_n hx hb dX2_jumper_76 rfl (lv_at hl 1 rfl) ?_
            refine n_get (k := 66) hx hb hts in_X2 hown hw (xp 66) rfl 2 (by decide) q277 rfl dX2_jumper_77 ?_
            refine n_getN (k := 16 * 3 + 0) hx hb hts in_X4 hown hw (xv3 0) rfl 6 (by decide) q242 rfl dX2_jumper_80 ?_
            refine lv_iconst (v := 1) hx hb dX2_jumper_83 (by decide) ?_
            refine n_aaldS (k := 16 * 3 + 7) (t := 4) (j := 1) (b := ad (16 * 3 + 9)) hx hb hw (xv3 7) (Or.inr rfl) rfl (by decide) (by decide) rfl dX2_jumper_84 ?_
            refine lv_iload_n hx hb dX2_jumper_85 rfl (lv_at hl 0 rfl) ?_
            refine lv_aload_n hx hb dX2_jumper_86 rfl (lv_at hl 1 rfl) ?_
            refine lv_iconst (v := 0) hx hb dX2_jumper_87 (by decide) ?_
            refine lv_bipush (v := 99) hx hb dX2_jumper_88 (by decide) ?_
            refine x_callA ⟨hx, hb, hml, hown, hts⟩ (tR_behind l G ad _ _ _ _ _ _ _ bt len hby (hX.fr hf1) (nx bt t) 99 (by decide) hR1.1 ht1) (cwV 2 hts (lw_V q1060 q1062 qs41 q95 q1063) rfl rfl rfl hdS_X2_behind ⟨by decide, by decide⟩) (hw.preV (k := 66) (xp 66) rfl) rfl hl.1 rfl (by simp [Value.category]) dX2_jumper_90 ⟨Nat.zero_le _, Nat.zero_le _⟩ hw (fun u_90 H locs e_90 hw => ?_) (fun u_90 H locs e_90 hw => ?_)
            · skip
              obtain ⟨m90, o90, X3, rfl, hR3, hf3⟩ := e_90
              have hw : nS G (xE G ad (xV _ _ _ _) _ _ _) s H locs := hw
              refine l3_iast hx hb hw 9 (by decide) (q := n) rfl (show _ < 8 by omega) (pos := 44 + 5 * n + 1) rfl dX2_jumper_93 (fun H locs hw => ?_)
              exact lx_vret hx hb hr hlk hw ⟨_, _, (by rw [if_pos hn8, jump_n k12, tall_y k13 m90]; exact chk_r o90), o90, X3, (by rw [ap_j0t hk hn en]), hR3, hf1.tr hf3⟩ dX2_jumper_94
            · skip
              obtain ⟨z, hz, X3, rfl, hR3, hf3⟩ := e_90
              have hw : nS G (xE G ad (xV _ _ _ _) _ _ _) s H locs := hw
              exact lx_out hlk hnh hw ⟨z, (by rw [if_pos hn8, jump_n k12]; exact tall_e k13 hz), X3, _, rfl, hR3, hf1.tr hf3⟩
        · skip
          have k12 : keyF bt (nx bt t) = 12 := by (by_cases h : keyF bt (nx bt t) = 12; exact h; rw [if_neg h] at c_51; exact absurd rfl c_51)
          refine lv_aload_n hx hb dX2_jumper_54 rfl (lv_at hl 1 rfl) ?_
          refine n_get (k := 66) hx hb hts in_X2 hown hw (xp 66) rfl 2 (by decide) q277 rfl dX2_jumper_55 ?_
          refine n_getN (k := 16 * 3 + 0) hx hb hts in_X4 hown hw (xv3 0) rfl 0 (by decide) q220 rfl dX2_jumper_58 ?_
          refine lv_aload_n hx hb dX2_jumper_61 rfl (lv_at hl 1 rfl) ?_
          refine x_callA ⟨hx, hb, hml, hown, hts⟩ (tR_free l G ad _ _ _ _ _ _ _ bt len hby (hX.fr hf1) (nx bt t) hR1.1 ht1) (cwV 0 hts (lw_V q1081 q1083 qs46 q95 q1084) rfl rfl rfl hdS_X2_free ⟨by decide, by decide⟩) (hw.preV (k := 66) (xp 66) rfl) rfl hl.1 rfl (by simp [Value.category]) dX2_jumper_62 ⟨Nat.zero_le _, Nat.zero_le _⟩ hw (fun u_62 H locs e_62 hw => ?_) (fun u_62 H locs e_62 hw => ?_)
          · skip
            obtain ⟨f62, o62, X2, rfl, hR2, hf2⟩ := e_62
            have hw : nS G (xE G ad (xV _ _ _ _) _ _ _) s H locs := hw
            have hv2 : (nx bt (nx bt t)).2.2.2 ≤ 6 := (nm_iff.mp (Bool.and_eq_true _ _ ▸ f62 : _ ∧ _).1).2
            rw [tk_come (by omega)] at f62
            refine lv_iload_n hx hb dX2_jumper_65 rfl (lv_at hl 0 rfl) ?_
            refine l3_iast hx hb hw 1 (by decide) (q := (nx bt (nx bt t)).2.2.2) rfl (show _ < 7 by omega) (pos := 17 + ((nx bt (nx bt t)).2.2.2)) rfl dX2_jumper_66 (fun H locs hw => ?_)
            refine lv_aload_n hx hb dX2_jumper_67 rfl (lv_at hl 1 rfl) ?_
            refine lv_bipush (v := 13) hx hb dX2_jumper_68 (by decide) ?_
            refine n_callp (va_runV ⟨hx, hb, hml, hown, hts⟩ (tR_isWord l G ad _ _ _ _ _ _ _ bt len hby (hX.fr (hf1.tr hf2)) (nx bt (nx bt (nx bt t))) 13 (by decide) hR2 ht3.1) (cwV 1 hts (lw_V q1077 q1079 qs45 q95 q1080) rfl rfl rfl hdS_X2_isWord ⟨by decide, by decide⟩) (hw.preV (k := 66) (xp 66) rfl) rfl rfl hl.1 rfl (lv_room (by simp [Value.category])) dX2_jumper_70 ⟨Nat.zero_le _, Nat.zero_le _⟩) (fun r_70 e_70 => ?_)
            subst e_70
            refine lv_if_eq (tgt := 94) hx hb dX2_jumper_73 (by decide) (fun c_73 => ?_) (fun c_73 => ?_)
            · skip
              have k13 : ¬ keyF bt (nx bt (nx bt (nx bt t))) = 13 := by (intro h; rw [if_pos h] at c_73; exact absurd c_73 (by decide))
              exact lx_vret hx hb hr hlk hw ⟨_, _, (by rw [if_pos hn8, jump_y k12 f62, tall_n k13]; exact chk_r o62), o62, X2, (by rw [ap_j1 hk hn en]; rfl), hR2, (hf1.tr hf2)⟩ dX2_jumper_94
            · skip
              have k13 : keyF bt (nx bt (nx bt (nx bt t))) = 13 := by (by_cases h : keyF bt (nx bt (nx bt (nx bt t))) = 13; exact h; rw [if_neg h] at c_73; exact absurd rfl c_73)
              refine lv_aload_n hx hb dX2_jumper_76 rfl (lv_at hl 1 rfl) ?_
              refine n_get (k := 66) hx hb hts in_X2 hown hw (xp 66) rfl 2 (by decide) q277 rfl dX2_jumper_77 ?_
              refine n_getN (k := 16 * 3 + 0) hx hb hts in_X4 hown hw (xv3 0) rfl 6 (by decide) q242 rfl dX2_jumper_80 ?_
              refine lv_iconst (v := 1) hx hb dX2_jumper_83 (by decide) ?_
              refine n_aaldS (k := 16 * 3 + 7) (t := 4) (j := 1) (b := ad (16 * 3 + 9)) hx hb hw (xv3 7) (Or.inr rfl) rfl (by decide) (by decide) rfl dX2_jumper_84 ?_
              refine lv_iload_n hx hb dX2_jumper_85 rfl (lv_at hl 0 rfl) ?_
              refine lv_aload_n hx hb dX2_jumper_86 rfl (lv_at hl 1 rfl) ?_
              refine lv_iconst (v := 0) hx hb dX2_jumper_87 (by decide) ?_
              refine lv_bipush (v := 99) hx hb dX2_jumper_88 (by decide) ?_
              refine x_callA ⟨hx, hb, hml, hown, hts⟩ (tR_behind l G ad _ _ _ _ _ _ _ bt len hby (hX.fr (hf1.tr hf2)) (nx bt (nx bt (nx bt t))) 99 (by decide) hR2.1 ht3) (cwV 2 hts (lw_V q1060 q1062 qs41 q95 q1063) rfl rfl rfl hdS_X2_behind ⟨by decide, by decide⟩) (hw.preV (k := 66) (xp 66) rfl) rfl hl.1 rfl (by simp [Value.category]) dX2_jumper_90 ⟨Nat.zero_le _, Nat.zero_le _⟩ hw (fun u_90 H locs e_90 hw => ?_) (fun u_90 H locs e_90 hw => ?_)
              · skip
                obtain ⟨m90, o90, X3, rfl, hR3, hf3⟩ := e_90
                have hw : nS G (xE G ad (xV _ _ _ _) _ _ _) s H locs := hw
                refine l3_iast hx hb hw 9 (by decide) (q := n) rfl (show _ < 8 by omega) (pos := 44 + 5 * n + 1) rfl dX2_jumper_93 (fun H locs hw => ?_)
                exact lx_vret hx hb hr hlk hw ⟨_, _, (by rw [if_pos hn8, jump_y k12 f62, tall_y k13 m90]; exact chk_r o90), o90, X3, (by rw [ap_j1t hk hn en hv2]), hR3, (hf1.tr hf2).tr hf3⟩ dX2_jumper_94
              · skip
                obtain ⟨z, hz, X3, rfl, hR3, hf3⟩ := e_90
                have hw : nS G (xE G ad (xV _ _ _ _) _ _ _) s H locs := hw
                exact lx_out hlk hnh hw ⟨z, (by rw [if_pos hn8, jump_y k12 f62]; exact tall_e k13 hz), X3, _, rfl, hR3, (hf1.tr hf2).tr hf3⟩
          · skip
            obtain ⟨z, hz, X2, rfl, hR2, hf2⟩ := e_62
            have hw : nS G (xE G ad (xV _ _ _ _) _ _ _) s H locs := hw
            exact lx_out hlk hnh hw ⟨z, (by rw [if_pos hn8]; exact jump_e k12 (fre_come hz)), X2, _, rfl, hR2, hf1.tr hf2⟩
      · skip
        obtain ⟨t_22, X1, rfl, hR1, hf1⟩ := e_22
        have hw : nS G (xE G ad (xV _ _ _ _) _ _ _) s H locs := hw
        exact lx_out hlk hnh hw ⟨_, (by rw [if_pos hn8]; exact jump_b (bf t_22)), X1, _, rfl, hR1, hf1⟩
    · skip
      obtain ⟨t_18, rfl⟩ := e_18
      have hw : nS G (xE G ad (xV _ _ _ _) _ _ _) s H locs := hw
      exact absurd t_18 (by decide)
