/-! the class: whole texts -/
set_option maxRecDepth 100000
/-- what an item may be -/
def ItOk (n : Nat) (tk : Nat → Bool) (it : Itm) : Prop := (it.1 < 7 ∧ n < 8 ∧ (∀ a, it.2.1 = some a → a ≤ 6 ∧ tk a = false) ∧ it.2.2 ≤ 99) ∨ ∃ a, it.2.1 = some a ∧ ((it.1 = 10 ∧ a ≤ 6 ∧ it.2.2 ≤ 99) ∨ (it.1 = 11 ∧ a ≤ 5 ∧ it.2.2 ≤ 999) ∨ (it.1 = 12 ∧ a ≤ 4) ∨ (it.1 = 13 ∧ a ≤ 9) ∨ (it.1 = 14 ∧ a ≤ 9))
section WHL
variable {bt : Nat → Int32} {len : Nat} {t t' : Tok} {tk : Nat → Bool} {n k z f c : Nat} {a : Option Nat} {it : Itm} {w : rw84}
/-- a token that stands behind place p -/
def Beh (bt : Nat → Int32) (p : Nat) (t : Tok) : Prop := ∃ q, q ≤ 120 ∧ p ≤ q ∧ t = tokF bt q
theorem Beh.nxt (hby : Byt bt len) {p : Nat} (h : Beh bt p t) : Beh bt p (nx bt t) := by
  obtain ⟨q, h1, h2, rfl⟩ := h
  obtain ⟨g1, g2, g3, g4, -⟩ := tok_in hby h1
  exact ⟨_, g4, by omega, rfl⟩
theorem Beh.of (ht : TokIn t) : Beh bt t.2.2.1 (nx bt t) := ⟨_, ht.2.2.1, Nat.le_refl _, rfl⟩
theorem Beh.ge (hby : Byt bt len) {p : Nat} (h : Beh bt p t) : p ≤ t.2.2.1 ∧ TokIn t := by
  obtain ⟨q, h1, h2, rfl⟩ := h
  obtain ⟨g1, g2, g3, g4, -⟩ := tok_in hby h1
  exact ⟨by omega, tokIn hby h1⟩
theorem tall_in (hby : Byt bt len) {p : Nat} (hb1 : Beh bt p t) (h : tallP bt k a t = .inr (it, t')) : it.1 = k ∧ it.2.1 = a ∧ it.2.2 ≤ 99 ∧ Beh bt p t' := by
  unfold tallP at h
  split at h
  · split at h
    · rename_i g
      cases h
      exact ⟨rfl, rfl, (nm_iff.mp g).2, (hb1.nxt hby).nxt hby⟩
    · cases h
  · cases h
    exact ⟨rfl, rfl, (by decide : 50 ≤ 99), hb1⟩
theorem jump_in (hby : Byt bt len) {p : Nat} (hb1 : Beh bt p t) (h : jumpP bt tk k t = .inr (it, t')) : it.1 = k ∧ (∀ a, it.2.1 = some a → a ≤ 6 ∧ tk a = false) ∧ it.2.2 ≤ 99 ∧ Beh bt p t' := by
  unfold jumpP at h
  split at h
  · split at h
    · rename_i g
      obtain ⟨h1, h2, h3, h4⟩ := tall_in hby ((hb1.nxt hby).nxt hby) h
      rw [Bool.and_eq_true] at g
      refine ⟨h1, fun x hx => ?_, h3, h4⟩
      rw [h2] at hx
      cases hx
      exact ⟨(nm_iff.mp g.1).2, by simpa using g.2⟩
    · cases h
  · obtain ⟨h1, h2, h3, h4⟩ := tall_in hby hb1 h
    exact ⟨h1, fun x hx => (by rw [h2] at hx; cases hx), h3, h4⟩
theorem two_in (hby : Byt bt len) {x h1 h2 : Nat} (ht : TokIn t) (h : twoP bt x h1 h2 t = .inr (it, t')) : it.1 = x ∧ (∃ a, it.2.1 = some a ∧ a ≤ h1) ∧ it.2.2 ≤ h2 ∧ Beh bt t.2.2.1 t' := by
  unfold twoP at h
  split at h
  · rename_i g1
    split at h
    · rename_i g2
      cases h
      exact ⟨rfl, ⟨_, rfl, (nm_iff.mp g1).2⟩, (nm_iff.mp g2).2, ((Beh.of ht).nxt hby).nxt hby⟩
    · cases h
  · cases h
theorem one_in (hby : Byt bt len) {x h1 : Nat} (ht : TokIn t) (h : oneP bt x h1 t = .inr (it, t')) : it.1 = x ∧ (∃ a, it.2.1 = some a ∧ a ≤ h1) ∧ Beh bt t.2.2.1 t' := by
  unfold oneP at h
  split at h
  · rename_i g1
    cases h
    exact ⟨rfl, ⟨_, rfl, (nm_iff.mp g1).2⟩, (Beh.of ht).nxt hby⟩
  · cases h
theorem item_in (hby : Byt bt len) (ht : TokIn t) (h : itemP bt n tk t = .inr (it, t')) : ItOk n tk it ∧ Beh bt t.2.2.1 t' ∧ t.1 = 1 := by
  have hw1 : t.1 = 1 := by
    by_cases g : t.1 = 1
    · exact g
    · rw [item_x (by rw [keyF_no g]; decide)] at h
      cases h
  unfold itemP at h
  split at h
  · split at h
    · rename_i g1 g2
      obtain ⟨h1, h2, h3, h4⟩ := jump_in hby (Beh.of ht) h
      exact ⟨Or.inl ⟨by omega, g2, h2, h3⟩, h4, hw1⟩
    · cases h
  split at h
  · obtain ⟨h1, ⟨a, h2, h3⟩, h4, h5⟩ := two_in hby ht h
    exact ⟨Or.inr ⟨a, h2, Or.inl ⟨h1, h3, h4⟩⟩, h5, hw1⟩
  split at h
  · obtain ⟨h1, ⟨a, h2, h3⟩, h4, h5⟩ := two_in hby ht h
    exact ⟨Or.inr ⟨a, h2, Or.inr (Or.inl ⟨h1, h3, h4⟩)⟩, h5, hw1⟩
  split at h
  · obtain ⟨h1, ⟨a, h2, h3⟩, h5⟩ := one_in hby ht h
    exact ⟨Or.inr ⟨a, h2, Or.inr (Or.inr (Or.inl ⟨h1, h3⟩))⟩, h5, hw1⟩
  split at h
  · obtain ⟨h1, ⟨a, h2, h3⟩, h5⟩ := one_in hby ht h
    exact ⟨Or.inr ⟨a, h2, Or.inr (Or.inr (Or.inr (Or.inl ⟨h1, h3⟩)))⟩, h5, hw1⟩
  split at h
  · obtain ⟨h1, ⟨a, h2, h3⟩, h5⟩ := one_in hby ht h
    exact ⟨Or.inr ⟨a, h2, Or.inr (Or.inr (Or.inr (Or.inr ⟨h1, h3⟩)))⟩, h5, hw1⟩
  · cases h
theorem ap_num (h : ItOk n tk it) (hn : n ≤ 8) (en : w 1 = nI n) : ∃ m, m ≤ 8 ∧ apF w it 1 = nI m := by
  obtain ⟨x, o, y⟩ := it
  rcases h with ⟨h1, h2, h3, h4⟩ | ⟨a, h1, h2⟩
  · have e : ∀ (k t : Int32), comeF w n k t 1 = nI (n + 1) := fun k t => by
      have := come_1 w n k t
      rw [en] at this
      have e2 : comeF w n k t 1 = comeF w n k t 1 - 1 + 1 := by rw [Int32.sub_add_cancel]
      rw [e2, this, nI_1]
    dsimp only at h1 h3 h4
    cases o with
    | none => exact ⟨n + 1, by omega, by rw [ap_j0 h1 hn en]; exact e _ _⟩
    | some a => exact ⟨n + 1, by omega, by rw [ap_j1 h1 hn en, up_ne (by omega)]; exact e _ _⟩
  · refine ⟨n, hn, ?_⟩
    dsimp only at h1 h2
    subst h1
    rw [← en]
    rcases h2 with ⟨rfl, -⟩ | ⟨rfl, -⟩ | ⟨rfl, -⟩ | ⟨rfl, -⟩ | ⟨rfl, -⟩
    · exact (show upd w (24 + a) (nI y) 1 = w 1 from up_ne (by omega))
    · exact (show upd w (38 + a) (nI y) 1 = w 1 from up_ne (by omega))
    · exact (show upd w 6 (nI a) 1 = w 1 from up_ne (by omega))
    · exact (show upd w 4 (nI a) 1 = w 1 from up_ne (by omega))
    · exact (show upd w 5 (nI a) 1 = w 1 from up_ne (by omega))
/-- behind an item -/
def tailP (b : Nat → Int32) (f : Nat) (w : rw84) (n : Nat) (t : Tok) : Nat ⊕ (Nat × rw84) := if (decide (t.1 = 3) && decide (b t.2.1 = 59)) = true then wholeP b f w n (nx b t) else if t.1 = 0 then .inr (n, w) else .inl t.2.1
theorem chk_inr {α : Type} {r : Nat ⊕ (α × Tok)} {x : α} (h : chk bt r = .inr (x, t)) : r = .inr (x, t) ∧ okT bt t = true := by
  unfold chk at h
  cases r with
  | inl p => cases h
  | inr q =>
    dsimp only at h
    by_cases g : okT bt q.2 = true
    · rw [if_pos g] at h
      cases h
      exact ⟨rfl, g⟩
    · rw [if_neg g] at h
      cases h
theorem chk_inl {α : Type} {r : Nat ⊕ (α × Tok)} (h : chk bt r = .inl z) : r = .inl z ∨ ∃ x t, r = .inr (x, t) ∧ okT bt t = false ∧ z = t.2.1 := by
  unfold chk at h
  cases r with
  | inl p => exact Or.inl h
  | inr q =>
    dsimp only at h
    by_cases g : okT bt q.2 = true
    · rw [if_pos g] at h
      cases h
    · rw [if_neg g] at h
      cases h
      exact Or.inr ⟨q.1, q.2, rfl, bf g, rfl⟩
theorem tail_sem (h : okT bt t = true) (h3 : t.1 = 3) : tailP bt f w c t = wholeP bt f w c (nx bt t) := by
  have e : bt t.2.1 = 59 := by
    obtain ⟨k, q, e, v⟩ := t
    dsimp only at h3
    subst h3
    exact ok_sign.mp h
  rw [tailP, decide_eq_true h3, decide_eq_true e]
  rfl
theorem tail_end (h : t.1 = 0) : tailP bt f w c t = .inr (c, w) := by
  rw [tailP, if_neg (by rw [h]; simp), if_pos h]
theorem tail_no (h0 : ¬ t.1 = 0) (h3 : ¬ t.1 = 3) : tailP bt f w c t = .inl t.2.1 := by
  rw [tailP, if_neg (by rw [decide_eq_false h3]; simp), if_neg h0]
theorem tail_bad (h : okT bt t = false) : tailP bt f w c t = .inl t.2.1 := by
  rw [tailP]
  by_cases h3 : t.1 = 3
  · by_cases e : bt t.2.1 = 59
    · exfalso
      obtain ⟨k, q, e2, v⟩ := t
      dsimp only at h3 e
      subst h3
      rw [ok_sign.mpr e] at h
      cases h
    · rw [decide_eq_false e, Bool.and_false, if_neg (by decide), if_neg (by omega)]
  · rw [decide_eq_false h3, Bool.false_and, if_neg (by decide)]
    by_cases h0 : t.1 = 0
    · exfalso
      obtain ⟨k, q, e2, v⟩ := t
      dsimp only at h0
      subst h0
      rw [ok_end] at h
      cases h
    · rw [if_neg h0]
theorem whole_ok (hn : n ≤ 8) (en : w 1 = nI n) (h : chk bt (itemP bt n (tkW w) t) = .inr (it, t')) : wholeP bt (f + 1) w c t = tailP bt f (apF w it) (c + 1) t' := by
  obtain ⟨h1, -⟩ := chk_inr h
  rw [wholeP, show ix (w 1) = n by rw [en]; exact nI_clamp (by omega), h1]
  rfl
theorem whole_err (hn : n ≤ 8) (en : w 1 = nI n) (h : chk bt (itemP bt n (tkW w) t) = .inl z) : wholeP bt (f + 1) w c t = .inl z := by
  rw [wholeP, show ix (w 1) = n by rw [en]; exact nI_clamp (by omega)]
  rcases chk_inl h with h1 | ⟨x, t1, h1, h2, rfl⟩
  · rw [h1]
  · rw [h1]
    exact tail_bad h2
theorem whole_bad (h : okT bt t = false) : wholeP bt (f + 1) w c t = .inl t.2.1 := by
  rw [wholeP, item_x (by rw [key_bad (by rw [h]; decide)]; decide)]
end WHL
theorem hdS_X2_whole : yX2_whole.cls = "LineCalls$Reader" ∧ yX2_whole.cls ≠ "java/lang/invoke/MethodHandle" ∧ yX2_whole.cls ≠ "java/lang/invoke/VarHandle" ∧ (parseMethodDescriptor yX2_whole.desc).map (fun d => d.parameters.length) = some 0 := by decide +kernel
set_option maxHeartbeats 4000000 in
theorem tR_whole (l : Launch) (G : nG) (ad : Nat → Nat) (w w1 w2 w3 : rw84) (X : mM) (sp : xSp) (sh : xSh) (bt : Nat → Int32) (len : Nat) (hby : Byt bt len) (hX : RdX bt len X) (n : Nat) (hn : n ≤ 8) (en : w3 1 = nI n) (R : Nat ⊕ (Nat × rw84)) (hRs : wholeP bt 121 w3 0 (tokF bt 0) = R) : MetX l yX2_whole (ws_ yX2_whole cX2_whole 2 (some .int)) { frames := 11, cells := 0, slots := 0, locals := 238 } (va_Pc [.ref (ad 66)] (nC G (xE G ad (xV w w1 w2 w3) X sp sh))) (xQ G (fun (_ : xSt) => some (.int (match R with | .inl _ => 0 | .inr q => nI q.1))) (fun (u : xSt) => ∃ q, R = .inr q ∧ ∃ X', u = (w, w1, w2, q.2, X', sp, sh) ∧ xFr X X') (fun (u : xSt) => ∃ z, R = .inl z ∧ ∃ X' w3', u = (w, w1, w2, w3', X', sp, sh) ∧ X' 35 0 = nI z ∧ xFr X X') (ad 67) (fun u => xE G ad (xV u.1 u.2.1 u.2.2.1 u.2.2.2.1) u.2.2.2.2.1 u.2.2.2.2.2.1 u.2.2.2.2.2.2)) 0 0 (nA G) := by
  refine x_head (by decide) (Nat.le_of_ble_eq_true rfl) ?_
  intro p e s m below meth c ls hx hb hr hlk hml hown hts hnh hB0 hl
  have hown : s.vm.findClass "LineCalls$Reader" = some m.cls := hown
  have hw := nS.start hB0
  have hl : lv_has ls 2 [(0, .ref (ad 66))] := hl
  have ht0 := tokIn hby (p := 0) (by decide)
  refine lv_aload_n hx hb dX2_whole_0 rfl (lv_at hl 0 rfl) ?_
  refine lv_iconst (v := 0) hx hb dX2_whole_1 (by decide) ?_
  refine r_put hx hb hts hown hw 4 (by decide) q281 dX2_whole_2 (fun H locs hw => ?_)
  refine lv_aload_n hx hb dX2_whole_5 rfl (lv_at hl 0 rfl) ?_
  refine x_callN ⟨hx, hb, hml, hown, hts⟩ (tR_next l G ad _ _ _ _ _ _ _ bt len hby (hX.fr (xFr.u 34 (by decide) _)) 0 (by decide) rfl) (cwV 0 hts (lw_V q980 q982 qs33 q95 q983) rfl rfl rfl hdS_X2_next ⟨by decide, by decide⟩) (hw.preV (k := 66) (xp 66) rfl) rfl hl.1 rfl (by simp [Value.category]) dX2_whole_6 ⟨Nat.zero_le _, Nat.zero_le _⟩ hw (fun u_6 H locs e_6 hw => ?_) (fun u_6 H locs e_6 hw => ?_)
  · skip
    obtain ⟨t_6, X1, rfl, hR1, hf1⟩ := e_6
    have hw : nS G (xE G ad (xV _ _ _ _) _ _ _) s H locs := hw
    refine lv_aload_n hx hb dX2_whole_9 rfl (lv_at hl 0 rfl) ?_
    refine x_callN ⟨hx, hb, hml, hown, hts⟩ (tR_item l G ad _ _ _ _ _ _ _ bt len hby (hX.fr ((xFr.u 34 (by decide) _).tr hf1)) n (tokF bt 0) hn en hR1 ht0) (cwV 0 hts (lw_V q1052 q1054 qs39 q95 q1055) rfl rfl rfl hdS_X2_item ⟨by decide, by decide⟩) (hw.preV (k := 66) (xp 66) rfl) rfl hl.1 rfl (by simp [Value.category]) dX2_whole_10 ⟨Nat.zero_le _, Nat.zero_le _⟩ hw (fun u_10 H locs e_10 hw => ?_) (fun u_10 H locs e_10 hw => ?_)
    · skip
      obtain ⟨it, t1, hc, ho, X2, rfl, hR2, hf2⟩ := e_10
      have hw : nS G (xE G ad (xV _ _ _ _) _ _ _) s H locs := hw
      obtain ⟨hio, hbe, -⟩ := item_in hby ht0 (chk_inr hc).1
      obtain ⟨hge, hti⟩ := hbe.ge hby
      have htl := (whole_ok (f := 120) (c := 0) hn en hc).symm.trans hRs
      have he1 : 1 ≤ t1.2.2.1 := by (obtain ⟨-, -, -, g4, -, -, g7⟩ := tok_in hby (p := 0) (by decide); have g8 := g7 (by rw [(item_in hby ht0 (chk_inr hc).1).2.2]; decide); omega)
      refine lv_iconst (v := 1) hx hb dX2_whole_13 (by decide) ?_
      refine lv_istore_n hx hb dX2_whole_14 rfl hl (by decide) rfl (fun ls hl => ?_)
      refine n_loop (α := Nat × rw84 × Nat × Tok × mM) (fun y H locs ls => tailP bt y.1 y.2.1 y.2.2.1 y.2.2.2.1 = R ∧ 121 ≤ y.1 + y.2.2.2.1.2.2.1 ∧ okT bt y.2.2.2.1 = true ∧ TokIn y.2.2.2.1 ∧ RdT bt y.2.2.2.1 y.2.2.2.2 ∧ xFr X y.2.2.2.2 ∧ (∃ n, n ≤ 8 ∧ y.2.1 1 = nI n) ∧ nS G (xE G ad (xV w w1 w2 y.2.1) y.2.2.2.2 sp sh) s H locs ∧ lv_has ls 2 [(0, .ref (ad 66)), (1, .int (nI y.2.2.1))]) (fun y => y.1) 15 ?_ (120, apF w3 it, 1, t1, X2) _ _ _ ⟨htl, by dsimp only; omega, ho, hti, hR2, ((xFr.u 34 (by decide) _).tr hf1).tr hf2, ap_num hio hn en, hw, (lv_sub hl [1, 0] rfl)⟩
      clear hl hw htl ho hti
      intro y H locs ls hI ih_15
      obtain ⟨htl, hfu, ho, hti, hRc, hfc, hnn, hw, hl⟩ := hI
      obtain ⟨f, wv, cn, t, Xc⟩ := y
      dsimp only at htl hfu ho hti hRc hfc hnn hw hl
      obtain ⟨n1, hn1, en1⟩ := hnn
      refine lv_aload_n hx hb dX2_whole_15 rfl (lv_at hl 0 rfl) ?_
      refine n_get (k := 66) hx hb hts in_X2 hown hw (xp 66) rfl 6 (by decide) q284 rfl dX2_whole_16 ?_
      refine n_topE hRc.2.2.1 ?_
      refine lv_iconst (v := 3) hx hb dX2_whole_19 (by decide) ?_
      refine lv_icmp_ne (tgt := 37) hx hb dX2_whole_20 (by decide) (fun c_20 => ?_) (fun c_20 => ?_)
      · skip
        have h3 : ¬ t.1 = 3 := fun h => c_20 ((tkX_sign hti.1).mpr h)
        refine lv_aload_n hx hb dX2_whole_37 rfl (lv_at hl 0 rfl) ?_
        refine lv_aload_n hx hb dX2_whole_38 rfl (lv_at hl 0 rfl) ?_
        refine n_get (k := 66) hx hb hts in_X2 hown hw (xp 66) rfl 6 (by decide) q284 rfl dX2_whole_39 ?_
        refine n_topE hRc.2.2.1 ?_
        refine lv_if_ne (tgt := 49) hx hb dX2_whole_42 (by decide) (fun c_42 => ?_) (fun c_42 => ?_)
        · skip
          have h0 : ¬ t.1 = 0 := fun h => c_42 ((tkX_end hti.1).mpr h)
          refine lv_iconst (v := 0) hx hb dX2_whole_49 (by decide) ?_
          refine x_callN ⟨hx, hb, hml, hown, hts⟩ (tR_need l G ad _ _ _ _ _ _ _ _) (cwV 1 hts (lw_V q1041 q1043 qs37 q95 q1044) rfl rfl rfl hdS_X2_need ⟨by decide, by decide⟩) (hw.preV (k := 66) (xp 66) rfl) rfl hl.1 rfl (by simp [Value.category]) dX2_whole_50 ⟨Nat.zero_le _, Nat.zero_le _⟩ hw (fun u_50 H locs e_50 hw => ?_) (fun u_50 H locs e_50 hw => ?_)
          · skip
            obtain ⟨t_50, rfl⟩ := e_50
            have hw : nS G (xE G ad (xV _ _ _ _) _ _ _) s H locs := hw
            exact absurd rfl t_50
          · skip
            obtain ⟨t_50, rfl⟩ := e_50
            have hw : nS G (xE G ad (xV _ _ _ _) _ _ _) s H locs := hw
            exact lx_out hlk hnh hw ⟨_, (by rw [← htl]; exact tail_no h0 h3), Xc, _, rfl, hRc.2.1, hfc⟩
        · skip
          have h0 : t.1 = 0 := (tkX_end hti.1).mp c_42
          refine lv_iconst (v := 1) hx hb dX2_whole_45 (by decide) ?_
          refine lv_goto (tgt := 50) hx hb dX2_whole_46 (by decide) ?_
          refine x_callN ⟨hx, hb, hml, hown, hts⟩ (tR_need l G ad _ _ _ _ _ _ _ _) (cwV 1 hts (lw_V q1041 q1043 qs37 q95 q1044) rfl rfl rfl hdS_X2_need ⟨by decide, by decide⟩) (hw.preV (k := 66) (xp 66) rfl) rfl hl.1 rfl (by simp [Value.category]) dX2_whole_50 ⟨Nat.zero_le _, Nat.zero_le _⟩ hw (fun u_50 H locs e_50 hw => ?_) (fun u_50 H locs e_50 hw => ?_)
          · skip
            obtain ⟨t_50, rfl⟩ := e_50
            have hw : nS G (xE G ad (xV _ _ _ _) _ _ _) s H locs := hw
            obtain rfl : R = .inr (cn, wv) := htl.symm.trans (tail_end h0)
            refine lv_iload_n hx hb dX2_whole_53 rfl (lv_at hl 1 rfl) ?_
            exact lx_iret hx hb hr hlk hw ⟨(cn, wv), rfl, Xc, rfl, hfc⟩ dX2_whole_54
          · skip
            obtain ⟨t_50, rfl⟩ := e_50
            have hw : nS G (xE G ad (xV _ _ _ _) _ _ _) s H locs := hw
            exact absurd t_50 (by decide)
      · skip
        have h3 : t.1 = 3 := (tkX_sign hti.1).mp c_20
        have hte := hti.2.2.1
        obtain ⟨f1, rfl⟩ : ∃ f1, f = f1 + 1 := ⟨f - 1, by omega⟩
        have htn := tokIn hby hti.2.2.1
        refine lv_aload_n hx hb dX2_whole_23 rfl (lv_at hl 0 rfl) ?_
        refine x_callN ⟨hx, hb, hml, hown, hts⟩ (tR_next l G ad _ _ _ _ _ _ _ bt len hby (hX.fr hfc) t.2.2.1 hti.2.2.1 hRc.1) (cwV 0 hts (lw_V q980 q982 qs33 q95 q983) rfl rfl rfl hdS_X2_next ⟨by decide, by decide⟩) (hw.preV (k := 66) (xp 66) rfl) rfl hl.1 rfl (by simp [Value.category]) dX2_whole_24 ⟨Nat.zero_le _, Nat.zero_le _⟩ hw (fun u_24 H locs e_24 hw => ?_) (fun u_24 H locs e_24 hw => ?_)
        · skip
          obtain ⟨t_24, X3, rfl, hR3, hf3⟩ := e_24
          have hw : nS G (xE G ad (xV _ _ _ _) _ _ _) s H locs := hw
          refine lv_aload_n hx hb dX2_whole_27 rfl (lv_at hl 0 rfl) ?_
          refine x_callN ⟨hx, hb, hml, hown, hts⟩ (tR_item l G ad _ _ _ _ _ _ _ bt len hby (hX.fr (hfc.tr hf3)) n1 (nx bt t) hn1 en1 hR3 htn) (cwV 0 hts (lw_V q1052 q1054 qs39 q95 q1055) rfl rfl rfl hdS_X2_item ⟨by decide, by decide⟩) (hw.preV (k := 66) (xp 66) rfl) rfl hl.1 rfl (by simp [Value.category]) dX2_whole_28 ⟨Nat.zero_le _, Nat.zero_le _⟩ hw (fun u_28 H locs e_28 hw => ?_) (fun u_28 H locs e_28 hw => ?_)
          · skip
            obtain ⟨it, t4, hc, ho4, X4, rfl, hR4, hf4⟩ := e_28
            have hw : nS G (xE G ad (xV _ _ _ _) _ _ _) s H locs := hw
            obtain ⟨hio4, hbe4, hw4⟩ := item_in hby htn (chk_inr hc).1
            obtain ⟨hge4, hti4⟩ := hbe4.ge hby
            have he4 : t.2.2.1 + 1 ≤ t4.2.2.1 := by (obtain ⟨g1, -, -, g4, -, -, g7⟩ := tok_in hby hti.2.2.1; have g8 := g7 (by rw [hw4]; decide); omega)
            refine lv_iinc (v := nI (cn + 1)) hx hb dX2_whole_31 hl (k := 1) rfl (nI_1 _) (by decide) rfl (fun ls hl => ?_)
            refine lv_goto (tgt := 15) hx hb dX2_whole_34 (by decide) ?_
            exact ih_15 (f1, apF wv it, cn + 1, t4, X4) _ _ _ (by dsimp only; omega) ⟨(whole_ok hn1 en1 hc).symm.trans ((tail_sem ho h3).symm.trans htl), by dsimp only; omega, ho4, hti4, hR4, (hfc.tr hf3).tr hf4, ap_num hio4 hn1 en1, hw, (lv_sub hl [1, 0] rfl)⟩
          · skip
            obtain ⟨z, hc, X4, w3x, rfl, hR4, hf4⟩ := e_28
            have hw : nS G (xE G ad (xV _ _ _ _) _ _ _) s H locs := hw
            exact lx_out hlk hnh hw ⟨z, (by rw [← htl, tail_sem ho h3]; exact whole_err hn1 en1 hc), X4, w3x, rfl, hR4, (hfc.tr hf3).tr hf4⟩
        · skip
          obtain ⟨t_24, X3, rfl, hR3, hf3⟩ := e_24
          have hw : nS G (xE G ad (xV _ _ _ _) _ _ _) s H locs := hw
          exact lx_out hlk hnh hw ⟨_, (by rw [← htl, tail_sem ho h3]; exact whole_bad (bf t_24)), X3, _, rfl, hR3, hfc.tr hf3⟩
    · skip
      obtain ⟨z, hc, X2, w3x, rfl, hR2, hf2⟩ := e_10
      have hw : nS G (xE G ad (xV _ _ _ _) _ _ _) s H locs := hw
      exact lx_out hlk hnh hw ⟨z, (by rw [← hRs]; exact whole_err hn en hc), X2, w3x, rfl, hR2, ((xFr.u 34 (by decide) _).tr hf1).tr hf2⟩
  · skip
    obtain ⟨t_6, X1, rfl, hR1, hf1⟩ := e_6
    have hw : nS G (xE G ad (xV _ _ _ _) _ _ _) s H locs := hw
    exact lx_out hlk hnh hw ⟨_, (by rw [← hRs]; exact whole_bad (bf t_6)), X1, _, rfl, hR1, (xFr.u 34 (by decide) _).tr hf1⟩
