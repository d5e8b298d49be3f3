/-! the class: copies between sheets, new sheets -/
set_option maxRecDepth 100000
theorem wdT_inj {a b : Nat} (ha : a < 3) (hb : b < 3) (h : wdT a = wdT b) : a = b := by
  match a, b, ha, hb, h with
  | 0, 0, _, _, _ => rfl
  | 1, 1, _, _, _ => rfl
  | 2, 2, _, _, _ => rfl
  | 0, 1, _, _, h => exact absurd h (by decide)
  | 0, 2, _, _, h => exact absurd h (by decide)
  | 1, 0, _, _, h => exact absurd h (by decide)
  | 1, 2, _, _, h => exact absurd h (by decide)
  | 2, 0, _, _, h => exact absurd h (by decide)
  | 2, 1, _, _, h => exact absurd h (by decide)
theorem sub_gt {n o c : Nat} (hn : n ≤ 40) (ho : o < 2 ^ 31) (hc : c < 2 ^ 31) : nI n - nI o < nI c ↔ n < c + o := by
  rw [Int32.lt_iff_toInt_lt, Int32.toInt_sub, nI_toInt (by omega), nI_toInt ho, nI_toInt hc, Int.bmod_eq_of_le (by omega) (by omega)]
  omega
theorem copy_out {α : Type} {A B : α} {p1 p2 p3 p4 p5 : Prop} [Decidable p1] [Decidable p2] [Decidable p3] [Decidable p4] [Decidable p5] (h : p1 ∨ p2 ∨ p3 ∨ p4 ∨ p5) : (if p1 then A else if p2 then A else if p3 then A else if p4 then A else if p5 then A else B) = A := by
  by_cases h1 : p1
  · rw [if_pos h1]
  rw [if_neg h1]
  by_cases h2 : p2
  · rw [if_pos h2]
  rw [if_neg h2]
  by_cases h3 : p3
  · rw [if_pos h3]
  rw [if_neg h3]
  by_cases h4 : p4
  · rw [if_pos h4]
  rw [if_neg h4]
  by_cases h5 : p5
  · rw [if_pos h5]
  · rcases h with h | h | h | h | h
    · exact absurd h h1
    · exact absurd h h2
    · exact absurd h h3
    · exact absurd h h4
    · exact absurd h h5
theorem cpS_at (nb : rw84) (a b i : Nat) : ∀ k, cpS nb a b k i = if b ≤ i ∧ i < b + k then nb (a + (i - b)) else nb i
  | 0 => by rw [cpS, if_neg (by omega)]
  | k + 1 => by
    rw [cpS]
    by_cases e : i = b + k
    · subst e
      rw [pk_us, if_pos (by omega), Nat.add_sub_cancel_left]
    · rw [up_ne e, cpS_at nb a b i k]
      by_cases h : b ≤ i ∧ i < b + k
      · rw [if_pos h, if_pos (by omega)]
      · rw [if_neg h, if_neg (by omega)]
theorem ShR.copy {sh : xSh} {wd sz nb : rw84} (h : ShR sh wd sz nb) {q z a a2 ty n n2 c0 c1 o : Nat} {f f2 : Nat → Int32} (hq : q < 4) (hz : z < 4) (e : sh q = some (a, ty, n, f)) (e2 : sh z = some (a2, ty, n2, f2)) (h0 : c0 + o ≤ n) (h1 : c1 + o ≤ n2) : ShR (va_up sh z (some (a2, ty, n2, va_cpy f f2 c0 c1 o))) wd sz (cpS nb (40 * q + c0) (40 * z + c1) o) := by
  obtain ⟨a1, b1, b2, b3, b4⟩ := h.som hq e
  obtain ⟨-, d1, d2, d3, d4⟩ := h.som hz e2
  intro k hk
  by_cases hkz : k = z
  · subst hkz
    rw [va_up_self]
    refine ⟨a1, d1, d2, d3, fun i hi => ?_⟩
    dsimp only at hi ⊢
    rw [cpS_at]
    by_cases hin : c1 ≤ i ∧ i < c1 + o
    · rw [pk_cpy_in hin.1 hin.2, if_pos (by omega)]
      obtain ⟨g1, g2⟩ := b4 (c0 + (i - c1)) (by omega)
      refine ⟨?_, g2⟩
      rw [g1]
      congr 1
      omega
    · rw [pk_cpy_out (by omega), if_neg (by omega)]
      exact d4 i hi
  · rw [va_up_ne _ _ hkz]
    have := h k hk
    cases hs : sh k with
    | none => rw [hs] at this; exact this
    | some x =>
      rw [hs] at this
      obtain ⟨g1, g2, g3, g4, g5⟩ := this
      refine ⟨g1, g2, g3, g4, fun i hi => ?_⟩
      rw [cpS_at, if_neg (by omega)]
      exact g5 i hi
theorem znF_at (nb : rw84) (t i : Nat) : ∀ k, znF nb t k i = if 40 * t ≤ i ∧ i < 40 * t + k then 0 else nb i
  | 0 => by rw [znF, if_neg (by omega)]
  | k + 1 => by
    rw [znF]
    by_cases e : i = 40 * t + k
    · subst e
      rw [pk_us, if_pos (by omega)]
    · rw [up_ne e, znF_at nb t i k]
      by_cases h : 40 * t ≤ i ∧ i < 40 * t + k
      · rw [if_pos h, if_pos (by omega)]
      · rw [if_neg h, if_neg (by omega)]
theorem ShR.put {sh : xSh} {wd sz nb : rw84} (h : ShR sh wd sz nb) {t z : Nat} (ht : t < 4) (hz : z ≤ 40) (o : Option (Nat × Nat)) (ho : ∀ p, o = some p → p.2 < 3) : ShR (va_up sh t (o.map (fun p => (p.1, p.2, z, fun _ => 0)))) (upd wd t (match o with | none => 0 | some p => wdT p.2)) (upd sz t (match o with | none => 0 | some _ => nI z)) (znF nb t 40) := by
  intro k hk
  by_cases hkt : k = t
  · subst hkt
    rw [va_up_self]
    cases o with
    | none => exact ⟨pk_us, pk_us⟩
    | some p =>
      refine ⟨ho p rfl, pk_us, hz, pk_us, fun i hi => ?_⟩
      dsimp only at hi ⊢
      rw [znF_at, if_pos (by omega)]
      refine ⟨rfl, ?_⟩
      have := ho p rfl
      match p.2, this with
      | 0, _ => rfl
      | 1, _ => rfl
      | 2, _ => rfl
  · rw [va_up_ne _ _ hkt]
    have := h k hk
    cases hs : sh k with
    | none =>
      rw [hs] at this
      exact ⟨(up_ne hkt).trans this.1, (up_ne hkt).trans this.2⟩
    | some x =>
      rw [hs] at this
      obtain ⟨g1, g2, g3, g4, g5⟩ := this
      refine ⟨g1, (up_ne hkt).trans g2, g3, (up_ne hkt).trans g4, fun i hi => ?_⟩
      rw [znF_at, if_neg (by omega)]
      exact g5 i hi
theorem hdS_X0_copy : yX0_copy.cls = "LineCalls" ∧ yX0_copy.cls ≠ "java/lang/invoke/MethodHandle" ∧ yX0_copy.cls ≠ "java/lang/invoke/VarHandle" ∧ (parseMethodDescriptor yX0_copy.desc).map (fun d => d.parameters.length) = some 5 := by decide +kernel
set_option maxHeartbeats 4000000 in
theorem tL_copy (l : Launch) (G : nG) (ad : Nat → Nat) (w w1 w2 w3 : rw84) (X : mM) (sp : xSp) (sh : xSh) (x1 x2 x3 x4 x5 : Int32) (wd sz nb : rw84) (hS : ShR sh wd sz nb) : Met l yX0_copy (wsW_ yX0_copy cX0_copy 8 (some .int) [((0), (120), (121), (59))]) { frames := 3, cells := 0, slots := 0, locals := 64 } (va_Pc [.ref (ad 64), .int x1, .int x2, .int x3, .int x4, .int x5] (nC G (xE G ad (xV w w1 w2 w3) X sp sh))) (va_Qi (fun (r : Int32) (u : xSt) => r = (copyO wd sz nb x1 x2 x3 x4 x5).1 ∧ ∃ sh', ShR sh' wd sz (copyO wd sz nb x1 x2 x3 x4 x5).2.2 ∧ xU w w1 (xfnd (copyO wd sz nb x1 x2 x3 x4 x5).2.1 X) sh' u) (fun u => nC G (xE G ad (xV u.1 u.2.1 u.2.2.1 u.2.2.2.1) u.2.2.2.2.1 u.2.2.2.2.2.1 u.2.2.2.2.2.2)) (nA G)) 0 0 (nA G) := by
  refine n_headW (by decide) (Nat.le_of_ble_eq_true rfl) ?_
  intro p e s m below meth c ls hx hb hr hlk hml hown hts htab hB0 hl
  have hown : s.vm.findClass "LineCalls" = some m.cls := hown
  have hw := nS.start hB0
  have hl : lv_has ls 8 [(0, .ref (ad 64)), (1, .int x1), (2, .int x2), (3, .int x3), (4, .int x4), (5, .int x5)] := hl
  refine lv_aload_n hx hb dX0_copy_0 rfl (lv_at hl 0 rfl) ?_
  refine lv_iload_n hx hb dX0_copy_1 rfl (lv_at hl 1 rfl) ?_
  refine x_callA ⟨hx, hb, hml, hown, hts⟩ (tL_rowAt l G ad _ _ _ _ _ _ _ _) (cwV 1 hts (lw_V q879 q881 qs23 q90 q882) rfl rfl rfl hdS_X0_rowAt ⟨by decide, by decide⟩) (hw.preV (k := 64) (xp 64) rfl) rfl hl.1 rfl (by simp [Value.category]) dX0_copy_2 ⟨Nat.zero_le _, Nat.zero_le _⟩ hw (fun u_2 H locs e_2 hw => ?_) (fun u_2 H locs e_2 hw => ?_)
  · skip
    obtain ⟨t_2, rfl⟩ := e_2
    have hw : nS G (xE G ad (xV _ _ _ _) _ _ _) s H locs := hw
    obtain ⟨q, hq, rfl⟩ := in_nat (N := 3) rfl (by decide) t_2
    have iq : ix (nI q) = q := nI_clamp (by omega)
    rw [iq]
    rcases hsh : sh q with _ | ⟨a, ty, n, f⟩
    · skip
      refine lv_astoreN hx hb dX0_copy_5 hl (by decide) rfl (fun ls hl => ?_)
      refine lv_aload_n hx hb dX0_copy_7 rfl (lv_at hl 1 rfl) ?_
      refine lv_iload_n hx hb dX0_copy_8 rfl (lv_at hl 4 rfl) ?_
      refine x_callA ⟨hx, hb, hml, hown, hts⟩ (tL_rowAt l G ad w w1 w2 w3 X sp sh _) (cwV 1 hts (lw_V q879 q881 qs23 q90 q882) rfl rfl rfl hdS_X0_rowAt ⟨by decide, by decide⟩) (hw.preV (k := 64) (xp 64) rfl) rfl hl.1 rfl (by simp [Value.category]) dX0_copy_9 ⟨Nat.zero_le _, Nat.zero_le _⟩ hw (fun u_9 H locs e_9 hw => ?_) (fun u_9 H locs e_9 hw => ?_)
      · skip
        obtain ⟨t_9, rfl⟩ := e_9
        have hw : nS G (xE G ad (xV _ _ _ _) _ _ _) s H locs := hw
        obtain ⟨z, hz, rfl⟩ := in_nat (N := 3) rfl (by decide) t_9
        have iz : ix (nI z) = z := nI_clamp (by omega)
        rw [iz]
        rcases hsh2 : sh z with _ | ⟨a2, ty2, n2, f2⟩
        · skip
          refine lv_astoreN hx hb dX0_copy_12 hl (by decide) rfl (fun ls hl => ?_)
          refine lv_aload_n hx hb dX0_copy_14 rfl (lv_at hl 2 rfl) ?_
          refine lv_aloadN hx hb dX0_copy_15 (lv_at hl 1 rfl) ?_
          refine lv_ifnullN (tgt := 29) hx hb dX0_copy_17 (by decide) ?_
          refine lv_iconst (v := 0) hx hb dX0_copy_29 (by decide) ?_
          refine lv_iconst (v := 5) hx hb dX0_copy_30 (by decide) ?_
          refine x_callN ⟨hx, hb, hml, hown, hts⟩ (tL_need l G ad _ _ _ _ _ _ _ _ (5)) (cwV 2 hts (lw_V q886 q888 qs24 q90 q889) rfl rfl rfl hdS_X0_need ⟨by decide, by decide⟩) (hw.preV (k := 64) (xp 64) rfl) rfl hl.1 rfl (by simp [Value.category]) dX0_copy_31 ⟨Nat.zero_le _, Nat.zero_le _⟩ hw (fun u_31 H locs e_31 hw => ?_) (fun u_31 H locs e_31 hw => ?_)
          · skip
            obtain ⟨t_31, rfl⟩ := e_31
            have hw : nS G (xE G ad (xV _ _ _ _) _ _ _) s H locs := hw
            exact absurd rfl t_31
          · skip
            obtain ⟨t_31, rfl⟩ := e_31
            have hw : nS G (xE G ad (xV _ _ _ _) _ _ _) s H locs := hw
            refine x_catch (k := 65) hown hts htab ⟨by decide, by decide⟩ (by decide) q122 hw (xp 65) rfl q124 ?_
            refine lv_astore hx hb dX0_copy_121 hl (by decide) rfl (fun ls hl => ?_)
            refine lv_aload_n hx hb dX0_copy_123 rfl (lv_at hl 2 rfl) ?_
            refine lv_aload hx hb dX0_copy_124 (lv_at hl 0 rfl) ?_
            refine n_getN (k := 65) hx hb hts in_X1 hown hw (xp 65) rfl 6 (by decide) q174 rfl dX0_copy_126 ?_
            refine n_topE (y := nI 5) rfl ?_
            refine n_calli (va_runV ⟨hx, hb, hml, hown, hts⟩ (tL_finding l G ad _ _ _ _ _ _ _ 5 (by decide)) (cwV 1 hts (lw_V q466 q468 qs3 q90 q469) rfl rfl rfl hdS_X0_finding ⟨by decide, by decide⟩) (hw.preV (k := 64) (xp 64) rfl) rfl rfl hl.1 rfl (lv_room (by simp [Value.category])) dX0_copy_129 ⟨Nat.zero_le _, Nat.zero_le _⟩) hw (fun r_129 u_129 H locs e_129 hw => ?_)
            obtain ⟨rfl, rfl⟩ := e_129
            have hw : nS G (xE G ad (xV _ _ _ _) _ _ _) s H locs := hw
            exact l_iret hx hb hr hlk rfl hw (by rw [copyO, if_neg t_2, if_neg t_9, iq, iz, if_pos (hS.non (by omega) hsh).1]; exact ⟨by first | exact f_0 | exact f_5 | exact f_2 | exact f_3 | exact f_6, sh, hS, xU.of ⟨rfl, rfl, rfl, rfl⟩⟩) dX0_copy_132
        · skip
          obtain ⟨hty2, hwdz, hn2, hszz, hfz⟩ := hS.som (by omega) hsh2
          refine lv_astore hx hb dX0_copy_12 hl (by decide) rfl (fun ls hl => ?_)
          refine lv_aload_n hx hb dX0_copy_14 rfl (lv_at hl 2 rfl) ?_
          refine lv_aloadN hx hb dX0_copy_15 (lv_at hl 1 rfl) ?_
          refine lv_ifnullN (tgt := 29) hx hb dX0_copy_17 (by decide) ?_
          refine lv_iconst (v := 0) hx hb dX0_copy_29 (by decide) ?_
          refine lv_iconst (v := 5) hx hb dX0_copy_30 (by decide) ?_
          refine x_callN ⟨hx, hb, hml, hown, hts⟩ (tL_need l G ad _ _ _ _ _ _ _ _ (5)) (cwV 2 hts (lw_V q886 q888 qs24 q90 q889) rfl rfl rfl hdS_X0_need ⟨by decide, by decide⟩) (hw.preV (k := 64) (xp 64) rfl) rfl hl.1 rfl (by simp [Value.category]) dX0_copy_31 ⟨Nat.zero_le _, Nat.zero_le _⟩ hw (fun u_31 H locs e_31 hw => ?_) (fun u_31 H locs e_31 hw => ?_)
          · skip
            obtain ⟨t_31, rfl⟩ := e_31
            have hw : nS G (xE G ad (xV _ _ _ _) _ _ _) s H locs := hw
            exact absurd rfl t_31
          · skip
            obtain ⟨t_31, rfl⟩ := e_31
            have hw : nS G (xE G ad (xV _ _ _ _) _ _ _) s H locs := hw
            refine x_catch (k := 65) hown hts htab ⟨by decide, by decide⟩ (by decide) q122 hw (xp 65) rfl q124 ?_
            refine lv_astore hx hb dX0_copy_121 hl (by decide) rfl (fun ls hl => ?_)
            refine lv_aload_n hx hb dX0_copy_123 rfl (lv_at hl 2 rfl) ?_
            refine lv_aload hx hb dX0_copy_124 (lv_at hl 0 rfl) ?_
            refine n_getN (k := 65) hx hb hts in_X1 hown hw (xp 65) rfl 6 (by decide) q174 rfl dX0_copy_126 ?_
            refine n_topE (y := nI 5) rfl ?_
            refine n_calli (va_runV ⟨hx, hb, hml, hown, hts⟩ (tL_finding l G ad _ _ _ _ _ _ _ 5 (by decide)) (cwV 1 hts (lw_V q466 q468 qs3 q90 q469) rfl rfl rfl hdS_X0_finding ⟨by decide, by decide⟩) (hw.preV (k := 64) (xp 64) rfl) rfl rfl hl.1 rfl (lv_room (by simp [Value.category])) dX0_copy_129 ⟨Nat.zero_le _, Nat.zero_le _⟩) hw (fun r_129 u_129 H locs e_129 hw => ?_)
            obtain ⟨rfl, rfl⟩ := e_129
            have hw : nS G (xE G ad (xV _ _ _ _) _ _ _) s H locs := hw
            exact l_iret hx hb hr hlk rfl hw (by rw [copyO, if_neg t_2, if_neg t_9, iq, iz, if_pos (hS.non (by omega) hsh).1]; exact ⟨by first | exact f_0 | exact f_5 | exact f_2 | exact f_3 | exact f_6, sh, hS, xU.of ⟨rfl, rfl, rfl, rfl⟩⟩) dX0_copy_132
      · skip
        obtain ⟨t_9, rfl⟩ := e_9
        have hw : nS G (xE G ad (xV _ _ _ _) _ _ _) s H locs := hw
        refine x_catch (k := 65) hown hts htab ⟨by decide, by decide⟩ (by decide) q122 hw (xp 65) rfl q124 ?_
        refine lv_astore hx hb dX0_copy_121 hl (by decide) rfl (fun ls hl => ?_)
        refine lv_aload_n hx hb dX0_copy_123 rfl (lv_at hl 1 rfl) ?_
        refine lv_aload hx hb dX0_copy_124 (lv_at hl 0 rfl) ?_
        refine n_getN (k := 65) hx hb hts in_X1 hown hw (xp 65) rfl 6 (by decide) q174 rfl dX0_copy_126 ?_
        refine n_topE (y := nI 0) rfl ?_
        refine n_calli (va_runV ⟨hx, hb, hml, hown, hts⟩ (tL_finding l G ad _ _ _ _ _ _ _ 0 (by decide)) (cwV 1 hts (lw_V q466 q468 qs3 q90 q469) rfl rfl rfl hdS_X0_finding ⟨by decide, by decide⟩) (hw.preV (k := 64) (xp 64) rfl) rfl rfl hl.1 rfl (lv_room (by simp [Value.category])) dX0_copy_129 ⟨Nat.zero_le _, Nat.zero_le _⟩) hw (fun r_129 u_129 H locs e_129 hw => ?_)
        obtain ⟨rfl, rfl⟩ := e_129
        have hw : nS G (xE G ad (xV _ _ _ _) _ _ _) s H locs := hw
        exact l_iret hx hb hr hlk rfl hw (by rw [copyO, if_neg t_2, if_pos t_9]; exact ⟨by first | exact f_0 | exact f_5 | exact f_2 | exact f_3 | exact f_6, sh, hS, xU.of ⟨rfl, rfl, rfl, rfl⟩⟩) dX0_copy_132
    · skip
      obtain ⟨hty, hwdq, hn, hszq, hfq⟩ := hS.som (by omega) hsh
      refine lv_astore hx hb dX0_copy_5 hl (by decide) rfl (fun ls hl => ?_)
      refine lv_aload_n hx hb dX0_copy_7 rfl (lv_at hl 1 rfl) ?_
      refine lv_iload_n hx hb dX0_copy_8 rfl (lv_at hl 4 rfl) ?_
      refine x_callA ⟨hx, hb, hml, hown, hts⟩ (tL_rowAt l G ad w w1 w2 w3 X sp sh _) (cwV 1 hts (lw_V q879 q881 qs23 q90 q882) rfl rfl rfl hdS_X0_rowAt ⟨by decide, by decide⟩) (hw.preV (k := 64) (xp 64) rfl) rfl hl.1 rfl (by simp [Value.category]) dX0_copy_9 ⟨Nat.zero_le _, Nat.zero_le _⟩ hw (fun u_9 H locs e_9 hw => ?_) (fun u_9 H locs e_9 hw => ?_)
      · skip
        obtain ⟨t_9, rfl⟩ := e_9
        have hw : nS G (xE G ad (xV _ _ _ _) _ _ _) s H locs := hw
        obtain ⟨z, hz, rfl⟩ := in_nat (N := 3) rfl (by decide) t_9
        have iz : ix (nI z) = z := nI_clamp (by omega)
        rw [iz]
        rcases hsh2 : sh z with _ | ⟨a2, ty2, n2, f2⟩
        · skip
          refine lv_astoreN hx hb dX0_copy_12 hl (by decide) rfl (fun ls hl => ?_)
          refine lv_aload_n hx hb dX0_copy_14 rfl (lv_at hl 2 rfl) ?_
          refine lv_aload hx hb dX0_copy_15 (lv_at hl 1 rfl) ?_
          refine lv_ifnull hx hb dX0_copy_17 ?_
          refine lv_aloadN hx hb dX0_copy_20 (lv_at hl 0 rfl) ?_
          refine lv_ifnullN (tgt := 29) hx hb dX0_copy_22 (by decide) ?_
          refine lv_iconst (v := 0) hx hb dX0_copy_29 (by decide) ?_
          refine lv_iconst (v := 5) hx hb dX0_copy_30 (by decide) ?_
          refine x_callN ⟨hx, hb, hml, hown, hts⟩ (tL_need l G ad _ _ _ _ _ _ _ _ (5)) (cwV 2 hts (lw_V q886 q888 qs24 q90 q889) rfl rfl rfl hdS_X0_need ⟨by decide, by decide⟩) (hw.preV (k := 64) (xp 64) rfl) rfl hl.1 rfl (by simp [Value.category]) dX0_copy_31 ⟨Nat.zero_le _, Nat.zero_le _⟩ hw (fun u_31 H locs e_31 hw => ?_) (fun u_31 H locs e_31 hw => ?_)
          · skip
            obtain ⟨t_31, rfl⟩ := e_31
            have hw : nS G (xE G ad (xV _ _ _ _) _ _ _) s H locs := hw
            exact absurd rfl t_31
          · skip
            obtain ⟨t_31, rfl⟩ := e_31
            have hw : nS G (xE G ad (xV _ _ _ _) _ _ _) s H locs := hw
            refine x_catch (k := 65) hown hts htab ⟨by decide, by decide⟩ (by decide) q122 hw (xp 65) rfl q124 ?_
            refine lv_astore hx hb dX0_copy_121 hl (by decide) rfl (fun ls hl => ?_)
            refine lv_aload_n hx hb dX0_copy_123 rfl (lv_at hl 2 rfl) ?_
            refine lv_aload hx hb dX0_copy_124 (lv_at hl 0 rfl) ?_
            refine n_getN (k := 65) hx hb hts in_X1 hown hw (xp 65) rfl 6 (by decide) q174 rfl dX0_copy_126 ?_
            refine n_topE (y := nI 5) rfl ?_
            refine n_calli (va_runV ⟨hx, hb, hml, hown, hts⟩ (tL_finding l G ad _ _ _ _ _ _ _ 5 (by decide)) (cwV 1 hts (lw_V q466 q468 qs3 q90 q469) rfl rfl rfl hdS_X0_finding ⟨by decide, by decide⟩) (hw.preV (k := 64) (xp 64) rfl) rfl rfl hl.1 rfl (lv_room (by simp [Value.category])) dX0_copy_129 ⟨Nat.zero_le _, Nat.zero_le _⟩) hw (fun r_129 u_129 H locs e_129 hw => ?_)
            obtain ⟨rfl, rfl⟩ := e_129
            have hw : nS G (xE G ad (xV _ _ _ _) _ _ _) s H locs := hw
            exact l_iret hx hb hr hlk rfl hw (by rw [copyO, if_neg t_2, if_neg t_9, iq, iz, hwdq, if_neg (wdT_ne hty), if_pos (hS.non (by omega) hsh2).1]; exact ⟨by first | exact f_0 | exact f_5 | exact f_2 | exact f_3 | exact f_6, sh, hS, xU.of ⟨rfl, rfl, rfl, rfl⟩⟩) dX0_copy_132
        · skip
          obtain ⟨hty2, hwdz, hn2, hszz, hfz⟩ := hS.som (by omega) hsh2
          refine lv_astore hx hb dX0_copy_12 hl (by decide) rfl (fun ls hl => ?_)
          refine lv_aload_n hx hb dX0_copy_14 rfl (lv_at hl 2 rfl) ?_
          refine lv_aload hx hb dX0_copy_15 (lv_at hl 1 rfl) ?_
          refine lv_ifnull hx hb dX0_copy_17 ?_
          refine lv_aload hx hb dX0_copy_20 (lv_at hl 0 rfl) ?_
          refine lv_ifnull hx hb dX0_copy_22 ?_
          refine lv_iconst (v := 1) hx hb dX0_copy_25 (by decide) ?_
          refine lv_goto (tgt := 30) hx hb dX0_copy_26 (by decide) ?_
          refine lv_iconst (v := 5) hx hb dX0_copy_30 (by decide) ?_
          refine x_callN ⟨hx, hb, hml, hown, hts⟩ (tL_need l G ad _ _ _ _ _ _ _ _ (5)) (cwV 2 hts (lw_V q886 q888 qs24 q90 q889) rfl rfl rfl hdS_X0_need ⟨by decide, by decide⟩) (hw.preV (k := 64) (xp 64) rfl) rfl hl.1 rfl (by simp [Value.category]) dX0_copy_31 ⟨Nat.zero_le _, Nat.zero_le _⟩ hw (fun u_31 H locs e_31 hw => ?_) (fun u_31 H locs e_31 hw => ?_)
          · skip
            obtain ⟨t_31, rfl⟩ := e_31
            have hw : nS G (xE G ad (xV _ _ _ _) _ _ _) s H locs := hw
            refine lv_aload_n hx hb dX0_copy_34 rfl (lv_at hl 2 rfl) ?_
            refine lv_aload hx hb dX0_copy_35 (lv_at hl 1 rfl) ?_
            refine n_callp (va_runS ⟨hx, hb, hml, hown, hts⟩ (tX_widthOf l G _ (320 + q) ty n a f (sh_at (by omega) hsh) hty hn) (va_cwS 1 hts (lw_S q1140 q1141 q90 q1142) rfl rfl rfl (hdS_X0_widthOf).2 ⟨by decide, by decide⟩) hw.preS rfl rfl hl.1 rfl (lv_room (by simp [Value.category])) dX0_copy_37 ⟨Nat.zero_le _, Nat.zero_le _⟩) (fun r_37 e_37 => ?_)
            subst e_37
            refine lv_aload hx hb dX0_copy_40 (lv_at hl 0 rfl) ?_
            refine n_callp (va_runS ⟨hx, hb, hml, hown, hts⟩ (tX_widthOf l G _ (320 + z) ty2 n2 a2 f2 (sh_at (by omega) hsh2) hty2 hn2) (va_cwS 1 hts (lw_S q1140 q1141 q90 q1142) rfl rfl rfl (hdS_X0_widthOf).2 ⟨by decide, by decide⟩) hw.preS rfl rfl hl.1 rfl (lv_room (by simp [Value.category])) dX0_copy_42 ⟨Nat.zero_le _, Nat.zero_le _⟩) (fun r_42 e_42 => ?_)
            subst e_42
            refine lv_icmp_ne (tgt := 52) hx hb dX0_copy_45 (by decide) (fun c_45 => ?_) (fun c_45 => ?_)
            · skip
              refine lv_iconst (v := 0) hx hb dX0_copy_52 (by decide) ?_
              refine lv_iconst (v := 2) hx hb dX0_copy_53 (by decide) ?_
              refine x_callN ⟨hx, hb, hml, hown, hts⟩ (tL_need l G ad _ _ _ _ _ _ _ _ (2)) (cwV 2 hts (lw_V q886 q888 qs24 q90 q889) rfl rfl rfl hdS_X0_need ⟨by decide, by decide⟩) (hw.preV (k := 64) (xp 64) rfl) rfl hl.1 rfl (by simp [Value.category]) dX0_copy_54 ⟨Nat.zero_le _, Nat.zero_le _⟩ hw (fun u_54 H locs e_54 hw => ?_) (fun u_54 H locs e_54 hw => ?_)
              · skip
                obtain ⟨t_54, rfl⟩ := e_54
                have hw : nS G (xE G ad (xV _ _ _ _) _ _ _) s H locs := hw
                exact absurd rfl t_54
              · skip
                obtain ⟨t_54, rfl⟩ := e_54
                have hw : nS G (xE G ad (xV _ _ _ _) _ _ _) s H locs := hw
                refine x_catch (k := 65) hown hts htab ⟨by decide, by decide⟩ (by decide) q122 hw (xp 65) rfl q124 ?_
                refine lv_astore hx hb dX0_copy_121 hl (by decide) rfl (fun ls hl => ?_)
                refine lv_aload_n hx hb dX0_copy_123 rfl (lv_at hl 2 rfl) ?_
                refine lv_aload hx hb dX0_copy_124 (lv_at hl 0 rfl) ?_
                refine n_getN (k := 65) hx hb hts in_X1 hown hw (xp 65) rfl 6 (by decide) q174 rfl dX0_copy_126 ?_
                refine n_topE (y := nI 2) rfl ?_
                refine n_calli (va_runV ⟨hx, hb, hml, hown, hts⟩ (tL_finding l G ad _ _ _ _ _ _ _ 2 (by decide)) (cwV 1 hts (lw_V q466 q468 qs3 q90 q469) rfl rfl rfl hdS_X0_finding ⟨by decide, by decide⟩) (hw.preV (k := 64) (xp 64) rfl) rfl rfl hl.1 rfl (lv_room (by simp [Value.category])) dX0_copy_129 ⟨Nat.zero_le _, Nat.zero_le _⟩) hw (fun r_129 u_129 H locs e_129 hw => ?_)
                obtain ⟨rfl, rfl⟩ := e_129
                have hw : nS G (xE G ad (xV _ _ _ _) _ _ _) s H locs := hw
                exact l_iret hx hb hr hlk rfl hw (by rw [copyO, if_neg t_2, if_neg t_9, iq, iz, hwdq, if_neg (wdT_ne hty), hwdz, if_neg (wdT_ne hty2), if_neg c_45]; exact ⟨by first | exact f_0 | exact f_5 | exact f_2 | exact f_3 | exact f_6, sh, hS, xU.of ⟨rfl, rfl, rfl, rfl⟩⟩) dX0_copy_132
            · skip
              refine lv_iconst (v := 1) hx hb dX0_copy_48 (by decide) ?_
              refine lv_goto (tgt := 53) hx hb dX0_copy_49 (by decide) ?_
              refine lv_iconst (v := 2) hx hb dX0_copy_53 (by decide) ?_
              refine x_callN ⟨hx, hb, hml, hown, hts⟩ (tL_need l G ad _ _ _ _ _ _ _ _ (2)) (cwV 2 hts (lw_V q886 q888 qs24 q90 q889) rfl rfl rfl hdS_X0_need ⟨by decide, by decide⟩) (hw.preV (k := 64) (xp 64) rfl) rfl hl.1 rfl (by simp [Value.category]) dX0_copy_54 ⟨Nat.zero_le _, Nat.zero_le _⟩ hw (fun u_54 H locs e_54 hw => ?_) (fun u_54 H locs e_54 hw => ?_)
              · skip
                obtain ⟨t_54, rfl⟩ := e_54
                have hw : nS G (xE G ad (xV _ _ _ _) _ _ _) s H locs := hw
                obtain rfl : ty = ty2 := wdT_inj hty hty2 c_45
                refine lv_aload_n hx hb dX0_copy_57 rfl (lv_at hl 2 rfl) ?_
                refine lv_iload hx hb dX0_copy_58 (lv_at hl 7 rfl) ?_
                refine lv_if_lt (tgt := 101) hx hb dX0_copy_60 (by decide) (fun c_60 => ?_) (fun c_60 => ?_)
                · skip
                  have hbad : x2 < 0 ∨ x4 < 0 ∨ x5 < 0 ∨ ix (nI n) < ix x2 + ix x5 ∨ ix (nI n2) < ix x4 + ix x5 := Or.inr (Or.inr (Or.inl c_60))
                  refine lv_iconst (v := 0) hx hb dX0_copy_101 (by decide) ?_
                  refine lv_iconst (v := 0) hx hb dX0_copy_102 (by decide) ?_
                  refine x_callN ⟨hx, hb, hml, hown, hts⟩ (tL_need l G ad _ _ _ _ _ _ _ _ (0)) (cwV 2 hts (lw_V q886 q888 qs24 q90 q889) rfl rfl rfl hdS_X0_need ⟨by decide, by decide⟩) (hw.preV (k := 64) (xp 64) rfl) rfl hl.1 rfl (by simp [Value.category]) dX0_copy_103 ⟨Nat.zero_le _, Nat.zero_le _⟩ hw (fun u_103 H locs e_103 hw => ?_) (fun u_103 H locs e_103 hw => ?_)
                  · skip
                    obtain ⟨t_103, rfl⟩ := e_103
                    have hw : nS G (xE G ad (xV _ _ _ _) _ _ _) s H locs := hw
                    exact absurd rfl t_103
                  · skip
                    obtain ⟨t_103, rfl⟩ := e_103
                    have hw : nS G (xE G ad (xV _ _ _ _) _ _ _) s H locs := hw
                    refine x_catch (k := 65) hown hts htab ⟨by decide, by decide⟩ (by decide) q122 hw (xp 65) rfl q124 ?_
                    refine lv_astore hx hb dX0_copy_121 hl (by decide) rfl (fun ls hl => ?_)
                    refine lv_aload_n hx hb dX0_copy_123 rfl (lv_at hl 2 rfl) ?_
                    refine lv_aload hx hb dX0_copy_124 (lv_at hl 0 rfl) ?_
                    refine n_getN (k := 65) hx hb hts in_X1 hown hw (xp 65) rfl 6 (by decide) q174 rfl dX0_copy_126 ?_
                    refine n_topE (y := nI 0) rfl ?_
                    refine n_calli (va_runV ⟨hx, hb, hml, hown, hts⟩ (tL_finding l G ad _ _ _ _ _ _ _ 0 (by decide)) (cwV 1 hts (lw_V q466 q468 qs3 q90 q469) rfl rfl rfl hdS_X0_finding ⟨by decide, by decide⟩) (hw.preV (k := 64) (xp 64) rfl) rfl rfl hl.1 rfl (lv_room (by simp [Value.category])) dX0_copy_129 ⟨Nat.zero_le _, Nat.zero_le _⟩) hw (fun r_129 u_129 H locs e_129 hw => ?_)
                    obtain ⟨rfl, rfl⟩ := e_129
                    have hw : nS G (xE G ad (xV _ _ _ _) _ _ _) s H locs := hw
                    exact l_iret hx hb hr hlk rfl hw (by rw [copyO, if_neg t_2, if_neg t_9, iq, iz, hwdq, if_neg (wdT_ne hty), hwdz, if_neg (wdT_ne hty), if_pos rfl, hszq, hszz, copy_out hbad]; exact ⟨by first | exact f_0 | exact f_5 | exact f_2 | exact f_3 | exact f_6, sh, hS, xU.of ⟨rfl, rfl, rfl, rfl⟩⟩) dX0_copy_132
                · skip
                  obtain ⟨o, ho, rfl⟩ := nI_of c_60
                  have io : ix (nI o) = o := nI_clamp (by omega)
                  refine lv_iload_n hx hb dX0_copy_63 rfl (lv_at hl 4 rfl) ?_
                  refine lv_if_lt (tgt := 101) hx hb dX0_copy_64 (by decide) (fun c_64 => ?_) (fun c_64 => ?_)
                  · skip
                    have hbad : x2 < 0 ∨ x4 < 0 ∨ nI o < 0 ∨ ix (nI n) < ix x2 + ix (nI o) ∨ ix (nI n2) < ix x4 + ix (nI o) := Or.inl c_64
                    refine lv_iconst (v := 0) hx hb dX0_copy_101 (by decide) ?_
                    refine lv_iconst (v := 0) hx hb dX0_copy_102 (by decide) ?_
                    refine x_callN ⟨hx, hb, hml, hown, hts⟩ (tL_need l G ad _ _ _ _ _ _ _ _ (0)) (cwV 2 hts (lw_V q886 q888 qs24 q90 q889) rfl rfl rfl hdS_X0_need ⟨by decide, by decide⟩) (hw.preV (k := 64) (xp 64) rfl) rfl hl.1 rfl (by simp [Value.category]) dX0_copy_103 ⟨Nat.zero_le _, Nat.zero_le _⟩ hw (fun u_103 H locs e_103 hw => ?_) (fun u_103 H locs e_103 hw => ?_)
                    · skip
                      obtain ⟨t_103, rfl⟩ := e_103
                      have hw : nS G (xE G ad (xV _ _ _ _) _ _ _) s H locs := hw
                      exact absurd rfl t_103
                    · skip
                      obtain ⟨t_103, rfl⟩ := e_103
                      have hw : nS G (xE G ad (xV _ _ _ _) _ _ _) s H locs := hw
                      refine x_catch (k := 65) hown hts htab ⟨by decide, by decide⟩ (by decide) q122 hw (xp 65) rfl q124 ?_
                      refine lv_astore hx hb dX0_copy_121 hl (by decide) rfl (fun ls hl => ?_)
                      refine lv_aload_n hx hb dX0_copy_123 rfl (lv_at hl 2 rfl) ?_
                      refine lv_aload hx hb dX0_copy_124 (lv_at hl 0 rfl) ?_
                      refine n_getN (k := 65) hx hb hts in_X1 hown hw (xp 65) rfl 6 (by decide) q174 rfl dX0_copy_126 ?_
                      refine n_topE (y := nI 0) rfl ?_
                      refine n_calli (va_runV ⟨hx, hb, hml, hown, hts⟩ (tL_finding l G ad _ _ _ _ _ _ _ 0 (by decide)) (cwV 1 hts (lw_V q466 q468 qs3 q90 q469) rfl rfl rfl hdS_X0_finding ⟨by decide, by decide⟩) (hw.preV (k := 64) (xp 64) rfl) rfl rfl hl.1 rfl (lv_room (by simp [Value.category])) dX0_copy_129 ⟨Nat.zero_le _, Nat.zero_le _⟩) hw (fun r_129 u_129 H locs e_129 hw => ?_)
                      obtain ⟨rfl, rfl⟩ := e_129
                      have hw : nS G (xE G ad (xV _ _ _ _) _ _ _) s H locs := hw
                      exact l_iret hx hb hr hlk rfl hw (by rw [copyO, if_neg t_2, if_neg t_9, iq, iz, hwdq, if_neg (wdT_ne hty), hwdz, if_neg (wdT_ne hty), if_pos rfl, hszq, hszz, copy_out hbad]; exact ⟨by first | exact f_0 | exact f_5 | exact f_2 | exact f_3 | exact f_6, sh, hS, xU.of ⟨rfl, rfl, rfl, rfl⟩⟩) dX0_copy_132
                  · skip
                    obtain ⟨c0, hc0, rfl⟩ := nI_of c_64
                    have ic0 : ix (nI c0) = c0 := nI_clamp (by omega)
                    refine lv_iload hx hb dX0_copy_67 (lv_at hl 6 rfl) ?_
                    refine lv_if_lt (tgt := 101) hx hb dX0_copy_69 (by decide) (fun c_69 => ?_) (fun c_69 => ?_)
                    · skip
                      have hbad : nI c0 < 0 ∨ x4 < 0 ∨ nI o < 0 ∨ ix (nI n) < ix (nI c0) + ix (nI o) ∨ ix (nI n2) < ix x4 + ix (nI o) := Or.inr (Or.inl c_69)
                      refine lv_iconst (v := 0) hx hb dX0_copy_101 (by decide) ?_
                      refine lv_iconst (v := 0) hx hb dX0_copy_102 (by decide) ?_
                      refine x_callN ⟨hx, hb, hml, hown, hts⟩ (tL_need l G ad _ _ _ _ _ _ _ _ (0)) (cwV 2 hts (lw_V q886 q888 qs24 q90 q889) rfl rfl rfl hdS_X0_need ⟨by decide, by decide⟩) (hw.preV (k := 64) (xp 64) rfl) rfl hl.1 rfl (by simp [Value.category]) dX0_copy_103 ⟨Nat.zero_le _, Nat.zero_le _⟩ hw (fun u_103 H locs e_103 hw => ?_) (fun u_103 H locs e_103 hw => ?_)
                      · skip
                        obtain ⟨t_103, rfl⟩ := e_103
                        have hw : nS G (xE G ad (xV _ _ _ _) _ _ _) s H locs := hw
                        exact absurd rfl t_103
                      · skip
                        obtain ⟨t_103, rfl⟩ := e_103
                        have hw : nS G (xE G ad (xV _ _ _ _) _ _ _) s H locs := hw
                        refine x_catch (k := 65) hown hts htab ⟨by decide, by decide⟩ (by decide) q122 hw (xp 65) rfl q124 ?_
                        refine lv_astore hx hb dX0_copy_121 hl (by decide) rfl (fun ls hl => ?_)
                        refine lv_aload_n hx hb dX0_copy_123 rfl (lv_at hl 2 rfl) ?_
                        refine lv_aload hx hb dX0_copy_124 (lv_at hl 0 rfl) ?_
                        refine n_getN (k := 65) hx hb hts in_X1 hown hw (xp 65) rfl 6 (by decide) q174 rfl dX0_copy_126 ?_
                        refine n_topE (y := nI 0) rfl ?_
                        refine n_calli (va_runV ⟨hx, hb, hml, hown, hts⟩ (tL_finding l G ad _ _ _ _ _ _ _ 0 (by decide)) (cwV 1 hts (lw_V q466 q468 qs3 q90 q469) rfl rfl rfl hdS_X0_finding ⟨by decide, by decide⟩) (hw.preV (k := 64) (xp 64) rfl) rfl rfl hl.1 rfl (lv_room (by simp [Value.category])) dX0_copy_129 ⟨Nat.zero_le _, Nat.zero_le _⟩) hw (fun r_129 u_129 H locs e_129 hw => ?_)
                        obtain ⟨rfl, rfl⟩ := e_129
                        have hw : nS G (xE G ad (xV _ _ _ _) _ _ _) s H locs := hw
                        exact l_iret hx hb hr hlk rfl hw (by rw [copyO, if_neg t_2, if_neg t_9, iq, iz, hwdq, if_neg (wdT_ne hty), hwdz, if_neg (wdT_ne hty), if_pos rfl, hszq, hszz, copy_out hbad]; exact ⟨by first | exact f_0 | exact f_5 | exact f_2 | exact f_3 | exact f_6, sh, hS, xU.of ⟨rfl, rfl, rfl, rfl⟩⟩) dX0_copy_132
                    · skip
                      obtain ⟨c1, hc1, rfl⟩ := nI_of c_69
                      have ic1 : ix (nI c1) = c1 := nI_clamp (by omega)
                      have inn : ix (nI n) = n := nI_clamp (by omega)
                      have in2 : ix (nI n2) = n2 := nI_clamp (by omega)
                      refine lv_iload_n hx hb dX0_copy_72 rfl (lv_at hl 4 rfl) ?_
                      refine lv_aload hx hb dX0_copy_73 (lv_at hl 1 rfl) ?_
                      refine n_callp (va_runS ⟨hx, hb, hml, hown, hts⟩ (tX_length l G _ (320 + q) ty n a f (sh_at (by omega) hsh) hty hn) (va_cwS 1 hts (lw_S q902 q903 q90 q904) rfl rfl rfl (hdS_X0_length).2 ⟨by decide, by decide⟩) hw.preS rfl rfl hl.1 rfl (lv_room (by simp [Value.category])) dX0_copy_75 ⟨Nat.zero_le _, Nat.zero_le _⟩) (fun r_75 e_75 => ?_)
                      subst e_75
                      refine lv_iload hx hb dX0_copy_78 (lv_at hl 7 rfl) ?_
                      refine lv_isub hx hb dX0_copy_80 ?_
                      refine lv_icmp_gt (tgt := 101) hx hb dX0_copy_81 (by decide) (fun c_81 => ?_) (fun c_81 => ?_)
                      · skip
                        have hbad : nI c0 < 0 ∨ nI c1 < 0 ∨ nI o < 0 ∨ ix (nI n) < ix (nI c0) + ix (nI o) ∨ ix (nI n2) < ix (nI c1) + ix (nI o) := Or.inr (Or.inr (Or.inr (Or.inl (by rw [inn, ic0, io]; exact (sub_gt hn ho hc0).mp c_81))))
                        refine lv_iconst (v := 0) hx hb dX0_copy_101 (by decide) ?_
                        refine lv_iconst (v := 0) hx hb dX0_copy_102 (by decide) ?_
                        refine x_callN ⟨hx, hb, hml, hown, hts⟩ (tL_need l G ad _ _ _ _ _ _ _ _ (0)) (cwV 2 hts (lw_V q886 q888 qs24 q90 q889) rfl rfl rfl hdS_X0_need ⟨by decide, by decide⟩) (hw.preV (k := 64) (xp 64) rfl) rfl hl.1 rfl (by simp [Value.category]) dX0_copy_103 ⟨Nat.zero_le _, Nat.zero_le _⟩ hw (fun u_103 H locs e_103 hw => ?_) (fun u_103 H locs e_103 hw => ?_)
                        · skip
                          obtain ⟨t_103, rfl⟩ := e_103
                          have hw : nS G (xE G ad (xV _ _ _ _) _ _ _) s H locs := hw
                          exact absurd rfl t_103
                        · skip
                          obtain ⟨t_103, rfl⟩ := e_103
                          have hw : nS G (xE G ad (xV _ _ _ _) _ _ _) s H locs := hw
                          refine x_catch (k := 65) hown hts htab ⟨by decide, by decide⟩ (by decide) q122 hw (xp 65) rfl q124 ?_
                          refine lv_astore hx hb dX0_copy_121 hl (by decide) rfl (fun ls hl => ?_)
                          refine lv_aload_n hx hb dX0_copy_123 rfl (lv_at hl 2 rfl) ?_
                          refine lv_aload hx hb dX0_copy_124 (lv_at hl 0 rfl) ?_
                          refine n_getN (k := 65) hx hb hts in_X1 hown hw (xp 65) rfl 6 (by decide) q174 rfl dX0_copy_126 ?_
                          refine n_topE (y := nI 0) rfl ?_
                          refine n_calli (va_runV ⟨hx, hb, hml, hown, hts⟩ (tL_finding l G ad _ _ _ _ _ _ _ 0 (by decide)) (cwV 1 hts (lw_V q466 q468 qs3 q90 q469) rfl rfl rfl hdS_X0_finding ⟨by decide, by decide⟩) (hw.preV (k := 64) (xp 64) rfl) rfl rfl hl.1 rfl (lv_room (by simp [Value.category])) dX0_copy_129 ⟨Nat.zero_le _, Nat.zero_le _⟩) hw (fun r_129 u_129 H locs e_129 hw => ?_)
                          obtain ⟨rfl, rfl⟩ := e_129
                          have hw : nS G (xE G ad (xV _ _ _ _) _ _ _) s H locs := hw
                          exact l_iret hx hb hr hlk rfl hw (by rw [copyO, if_neg t_2, if_neg t_9, iq, iz, hwdq, if_neg (wdT_ne hty), hwdz, if_neg (wdT_ne hty), if_pos rfl, hszq, hszz, copy_out hbad]; exact ⟨by first | exact f_0 | exact f_5 | exact f_2 | exact f_3 | exact f_6, sh, hS, xU.of ⟨rfl, rfl, rfl, rfl⟩⟩) dX0_copy_132
                      · skip
                        have n_81 : ¬ n < c0 + o := fun h => c_81 ((sub_gt hn ho hc0).mpr h)
                        refine lv_iload hx hb dX0_copy_84 (lv_at hl 6 rfl) ?_
                        refine lv_aload hx hb dX0_copy_86 (lv_at hl 0 rfl) ?_
                        refine n_callp (va_runS ⟨hx, hb, hml, hown, hts⟩ (tX_length l G _ (320 + z) ty n2 a2 f2 (sh_at (by omega) hsh2) hty hn2) (va_cwS 1 hts (lw_S q902 q903 q90 q904) rfl rfl rfl (hdS_X0_length).2 ⟨by decide, by decide⟩) hw.preS rfl rfl hl.1 rfl (lv_room (by simp [Value.category])) dX0_copy_88 ⟨Nat.zero_le _, Nat.zero_le _⟩) (fun r_88 e_88 => ?_)
                        subst e_88
                        refine lv_iload hx hb dX0_copy_91 (lv_at hl 7 rfl) ?_
                        refine lv_isub hx hb dX0_copy_93 ?_
                        refine lv_icmp_gt (tgt := 101) hx hb dX0_copy_94 (by decide) (fun c_94 => ?_) (fun c_94 => ?_)
                        · skip
                          have hbad : nI c0 < 0 ∨ nI c1 < 0 ∨ nI o < 0 ∨ ix (nI n) < ix (nI c0) + ix (nI o) ∨ ix (nI n2) < ix (nI c1) + ix (nI o) := Or.inr (Or.inr (Or.inr (Or.inr (by rw [in2, ic1, io]; exact (sub_gt hn2 ho hc1).mp c_94))))
                          refine lv_iconst (v := 0) hx hb dX0_copy_101 (by decide) ?_
                          refine lv_iconst (v := 0) hx hb dX0_copy_102 (by decide) ?_
                          refine x_callN ⟨hx, hb, hml, hown, hts⟩ (tL_need l G ad _ _ _ _ _ _ _ _ (0)) (cwV 2 hts (lw_V q886 q888 qs24 q90 q889) rfl rfl rfl hdS_X0_need ⟨by decide, by decide⟩) (hw.preV (k := 64) (xp 64) rfl) rfl hl.1 rfl (by simp [Value.category]) dX0_copy_103 ⟨Nat.zero_le _, Nat.zero_le _⟩ hw (fun u_103 H locs e_103 hw => ?_) (fun u_103 H locs e_103 hw => ?_)
                          · skip
                            obtain ⟨t_103, rfl⟩ := e_103
                            have hw : nS G (xE G ad (xV _ _ _ _) _ _ _) s H locs := hw
                            exact absurd rfl t_103
                          · skip
                            obtain ⟨t_103, rfl⟩ := e_103
                            have hw : nS G (xE G ad (xV _ _ _ _) _ _ _) s H locs := hw
                            refine x_catch (k := 65) hown hts htab ⟨by decide, by decide⟩ (by decide) q122 hw (xp 65) rfl q124 ?_
                            refine lv_astore hx hb dX0_copy_121 hl (by decide) rfl (fun ls hl => ?_)
                            refine lv_aload_n hx hb dX0_copy_123 rfl (lv_at hl 2 rfl) ?_
                            refine lv_aload hx hb dX0_copy_124 (lv_at hl 0 rfl) ?_
                            refine n_getN (k := 65) hx hb hts in_X1 hown hw (xp 65) rfl 6 (by decide) q174 rfl dX0_copy_126 ?_
                            refine n_topE (y := nI 0) rfl ?_
                            refine n_calli (va_runV ⟨hx, hb, hml, hown, hts⟩ (tL_finding l G ad _ _ _ _ _ _ _ 0 (by decide)) (cwV 1 hts (lw_V q466 q468 qs3 q90 q469) rfl rfl rfl hdS_X0_finding ⟨by decide, by decide⟩) (hw.preV (k := 64) (xp 64) rfl) rfl rfl hl.1 rfl (lv_room (by simp [Value.category])) dX0_copy_129 ⟨Nat.zero_le _, Nat.zero_le _⟩) hw (fun r_129 u_129 H locs e_129 hw => ?_)
                            obtain ⟨rfl, rfl⟩ := e_129
                            have hw : nS G (xE G ad (xV _ _ _ _) _ _ _) s H locs := hw
                            exact l_iret hx hb hr hlk rfl hw (by rw [copyO, if_neg t_2, if_neg t_9, iq, iz, hwdq, if_neg (wdT_ne hty), hwdz, if_neg (wdT_ne hty), if_pos rfl, hszq, hszz, copy_out hbad]; exact ⟨by first | exact f_0 | exact f_5 | exact f_2 | exact f_3 | exact f_6, sh, hS, xU.of ⟨rfl, rfl, rfl, rfl⟩⟩) dX0_copy_132
                        · skip
                          have n_94 : ¬ n2 < c1 + o := fun h => c_94 ((sub_gt hn2 ho hc1).mpr h)
                          refine lv_iconst (v := 1) hx hb dX0_copy_97 (by decide) ?_
                          refine lv_goto (tgt := 102) hx hb dX0_copy_98 (by decide) ?_
                          refine lv_iconst (v := 0) hx hb dX0_copy_102 (by decide) ?_
                          refine x_callN ⟨hx, hb, hml, hown, hts⟩ (tL_need l G ad _ _ _ _ _ _ _ _ (0)) (cwV 2 hts (lw_V q886 q888 qs24 q90 q889) rfl rfl rfl hdS_X0_need ⟨by decide, by decide⟩) (hw.preV (k := 64) (xp 64) rfl) rfl hl.1 rfl (by simp [Value.category]) dX0_copy_103 ⟨Nat.zero_le _, Nat.zero_le _⟩ hw (fun u_103 H locs e_103 hw => ?_) (fun u_103 H locs e_103 hw => ?_)
                          · skip
                            obtain ⟨t_103, rfl⟩ := e_103
                            have hw : nS G (xE G ad (xV _ _ _ _) _ _ _) s H locs := hw
                            refine lv_aload hx hb dX0_copy_106 (lv_at hl 1 rfl) ?_
                            refine lv_iload_n hx hb dX0_copy_108 rfl (lv_at hl 4 rfl) ?_
                            refine lv_aload hx hb dX0_copy_109 (lv_at hl 0 rfl) ?_
                            refine lv_iload hx hb dX0_copy_111 (lv_at hl 6 rfl) ?_
                            refine lv_iload hx hb dX0_copy_113 (lv_at hl 7 rfl) ?_
                            refine n_callv (va_runS ⟨hx, hb, hml, hown, hts⟩ (tX_slide l G _ (320 + q) (320 + z) ty n n2 a a2 f f2 (sh_at (by omega) hsh) (sh_at (by omega) hsh2) hty hn hn2 c0 c1 o (by omega) (by omega) (fun i hi => (hfq i hi).2)) (va_cwS 5 hts (lw_S q1143 q1144 q90 q1145) rfl rfl rfl (hdS_X0_slide).2 ⟨by decide, by decide⟩) hw.preS rfl rfl hl.1 rfl (lv_room (by simp [Value.category])) dX0_copy_115 ⟨Nat.zero_le _, Nat.zero_le _⟩) hw (fun u_115 H locs e_115 hw => ?_)
                            have hw := n_E (xE_sha (by omega) hsh2) hw
                            refine lv_iload hx hb dX0_copy_118 (lv_at hl 7 rfl) ?_
                            exact l_iret hx hb hr hlk rfl hw (by rw [copyO, if_neg t_2, if_neg t_9, iq, iz, hwdq, if_neg (wdT_ne hty), hwdz, if_neg (wdT_ne hty), if_pos rfl, if_neg c_64, if_neg c_69, if_neg c_60, hszq, hszz, inn, in2, ic0, ic1, io, if_neg n_81, if_neg n_94]; exact ⟨rfl, _, hS.copy (by omega) (by omega) hsh hsh2 (by omega) (by omega), xU.of (xSc.rf _)⟩) dX0_copy_120
                          · skip
                            obtain ⟨t_103, rfl⟩ := e_103
                            have hw : nS G (xE G ad (xV _ _ _ _) _ _ _) s H locs := hw
                            exact absurd t_103 (by decide)
              · skip
                obtain ⟨t_54, rfl⟩ := e_54
                have hw : nS G (xE G ad (xV _ _ _ _) _ _ _) s H locs := hw
                exact absurd t_54 (by decide)
          · skip
            obtain ⟨t_31, rfl⟩ := e_31
            have hw : nS G (xE G ad (xV _ _ _ _) _ _ _) s H locs := hw
            exact absurd t_31 (by decide)
      · skip
        obtain ⟨t_9, rfl⟩ := e_9
        have hw : nS G (xE G ad (xV _ _ _ _) _ _ _) s H locs := hw
        refine x_catch (k := 65) hown hts htab ⟨by decide, by decide⟩ (by decide) q122 hw (xp 65) rfl q124 ?_
        refine lv_astore hx hb dX0_copy_121 hl (by decide) rfl (fun ls hl => ?_)
        refine lv_aload_n hx hb dX0_copy_123 rfl (lv_at hl 1 rfl) ?_
        refine lv_aload hx hb dX0_copy_124 (lv_at hl 0 rfl) ?_
        refine n_getN (k := 65) hx hb hts in_X1 hown hw (xp 65) rfl 6 (by decide) q174 rfl dX0_copy_126 ?_
        refine n_topE (y := nI 0) rfl ?_
        refine n_calli (va_runV ⟨hx, hb, hml, hown, hts⟩ (tL_finding l G ad _ _ _ _ _ _ _ 0 (by decide)) (cwV 1 hts (lw_V q466 q468 qs3 q90 q469) rfl rfl rfl hdS_X0_finding ⟨by decide, by decide⟩) (hw.preV (k := 64) (xp 64) rfl) rfl rfl hl.1 rfl (lv_room (by simp [Value.category])) dX0_copy_129 ⟨Nat.zero_le _, Nat.zero_le _⟩) hw (fun r_129 u_129 H locs e_129 hw => ?_)
        obtain ⟨rfl, rfl⟩ := e_129
        have hw : nS G (xE G ad (xV _ _ _ _) _ _ _) s H locs := hw
        exact l_iret hx hb hr hlk rfl hw (by rw [copyO, if_neg t_2, if_pos t_9]; exact ⟨by first | exact f_0 | exact f_5 | exact f_2 | exact f_3 | exact f_6, sh, hS, xU.of ⟨rfl, rfl, rfl, rfl⟩⟩) dX0_copy_132
  · skip
    obtain ⟨t_2, rfl⟩ := e_2
    have hw : nS G (xE G ad (xV _ _ _ _) _ _ _) s H locs := hw
    refine x_catch (k := 65) hown hts htab ⟨by decide, by decide⟩ (by decide) q122 hw (xp 65) rfl q124 ?_
    refine lv_astore hx hb dX0_copy_121 hl (by decide) rfl (fun ls hl => ?_)
    refine lv_aload_n hx hb dX0_copy_123 rfl (lv_at hl 1 rfl) ?_
    refine lv_aload hx hb dX0_copy_124 (lv_at hl 0 rfl) ?_
    refine n_getN (k := 65) hx hb hts in_X1 hown hw (xp 65) rfl 6 (by decide) q174 rfl dX0_copy_126 ?_
    refine n_topE (y := nI 0) rfl ?_
    refine n_calli (va_runV ⟨hx, hb, hml, hown, hts⟩ (tL_finding l G ad _ _ _ _ _ _ _ 0 (by decide)) (cwV 1 hts (lw_V q466 q468 qs3 q90 q469) rfl rfl rfl hdS_X0_finding ⟨by decide, by decide⟩) (hw.preV (k := 64) (xp 64) rfl) rfl rfl hl.1 rfl (lv_room (by simp [Value.category])) dX0_copy_129 ⟨Nat.zero_le _, Nat.zero_le _⟩) hw (fun r_129 u_129 H locs e_129 hw => ?_)
    obtain ⟨rfl, rfl⟩ := e_129
    have hw : nS G (xE G ad (xV _ _ _ _) _ _ _) s H locs := hw
    exact l_iret hx hb hr hlk rfl hw (by rw [copyO, if_pos t_2]; exact ⟨by first | exact f_0 | exact f_5 | exact f_2 | exact f_3 | exact f_6, sh, hS, xU.of ⟨rfl, rfl, rfl, rfl⟩⟩) dX0_copy_132
