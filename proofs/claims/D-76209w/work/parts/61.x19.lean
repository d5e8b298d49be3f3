/-! the class: single things told and asked -/
set_option maxRecDepth 100000
section XTP
variable {G : nG} {ad : Nat → Nat} {V : xWs} {X : mM} {sp : xSp} {sh : xSh}
variable {p : Program} {l : Launch} {e : Env} {R : Room} {s : State} {m : MethodId} {args : Array Value} {below : List Frame} {meth : Method} {c : Code} {H : Heap} {locs : List Loc} {cells slots : Nat} {Q : State → Prop} {cc : ByteArray} {pc : Nat} {ls : Array Slot} {rest : List Value}
theorem b8_b8 (z : Int32) : z.toInt8.toInt32.toInt8.toInt32 = z.toInt8.toInt32 := by
  rw [← vp_nar_byte z.toInt8.toInt32, pk_vb]
theorem l_tape (hexec : p.tables.exec = Jvm.exec) (hb : c.code = cc) (hw : nS G (xE G ad V X sp sh) s H locs) {i x : Int32} {q : Nat} (hij : i = nI q) (hq : q < 120) (hdg : decode cc pc = .ok (.bastore, 1))
    (kk : ∀ (H1 : Heap) (locs1 : List Loc), nS G (xE G ad V (u2 X 31 q x.toInt8.toInt32) sp sh) s H1 locs1 → W p l e R s m args below meth c H1 locs1 cells slots Q (F0 m (pc + 1) ls rest)) : W p l e R s m args below meth c H locs cells slots Q (F0 m pc ls (.int x :: .int i :: .ref (ad 68) :: rest)) :=
  n_bast (k := 68) hexec hb hw (xp 68) hij hq (by decide) hdg (fun H1 locs1 h => kk H1 locs1 (n_E (xE_tape _) h))
end XTP
theorem of_row {w : rw84} {j : Int32} {q : Nat} (hj : ¬ inF j 0 (w 1 - 1) = 0) (h1 : 1 ≤ q) (h4 : q ≤ 4) : ofO w j (nI q) = (w (44 + 5 * ix j + q), w, none) := by
  have iq : ix (nI q) = q := nI_clamp (by omega)
  have h7 : ¬ inF (nI q) 0 7 = 0 := by
    match q, h1, h4 with
    | 1, _, _ => decide
    | 2, _, _ => decide
    | 3, _, _ => decide
    | 4, _, _ => decide
  have h5 : ¬ 5 ≤ nI q := by
    match q, h1, h4 with
    | 1, _, _ => decide
    | 2, _, _ => decide
    | 3, _, _ => decide
    | 4, _, _ => decide
  rw [ofO, if_neg hj, if_neg h7, if_neg h5, iq]
theorem of_0 {w : rw84} {j : Int32} (hj : ¬ inF j 0 (w 1 - 1) = 0) : ofO w j 0 = (w (44 + 5 * ix j + 0), w, none) := by
  rw [ofO, if_neg hj, if_neg (by decide), if_neg (by decide)]
  rfl
theorem of_5 {w : rw84} {j : Int32} (hj : ¬ inF j 0 (w 1 - 1) = 0) : ofO w j 5 = (highF w (ix j), w, none) := by
  rw [ofO, if_neg hj, if_neg (by decide), if_pos (by decide), if_pos rfl]
theorem of_6 {w : rw84} {j : Int32} (hj : ¬ inF j 0 (w 1 - 1) = 0) : ofO w j 6 = (tireF w (ix j), w, none) := by
  rw [ofO, if_neg hj, if_neg (by decide), if_pos (by decide), if_neg (by decide), if_pos rfl]
theorem of_7 {w : rw84} {j : Int32} (hj : ¬ inF j 0 (w 1 - 1) = 0) : ofO w j 7 = (oI (stN w j 7), w, none) := by
  rw [ofO, if_neg hj, if_neg (by decide), if_pos (by decide), if_neg (by decide), if_neg (by decide)]
theorem of_out {w : rw84} {j x : Int32} (hj : ¬ inF j 0 (w 1 - 1) = 0) (hx : ∀ q, q ≤ 7 → ¬ x = nI q) : ofO w j x = bad w := by
  have h : inF x 0 7 = 0 := by
    by_cases h : inF x 0 7 = 0
    · exact h
    · obtain ⟨q, h1, h2⟩ := in_nat (N := 7) rfl (by decide) h
      exact absurd h2 (hx q h1)
  rw [ofO, if_neg hj, if_pos h]
theorem in_12 {x : Int32} (h : ¬ inF x 1 2 = 0) : x = nI 1 ∨ x = nI 2 := by
  obtain ⟨q, h1, h2, e⟩ := in_nat1 (N := 2) rfl (by decide) h
  rcases Nat.lt_or_ge q 2 with o | o
  · obtain rfl : q = 1 := by omega
    exact Or.inl e
  · obtain rfl : q = 2 := by omega
    exact Or.inr e
def goodF (x v : Int32) : Int32 := if x = 2 then inF v 0 4 else if inF x 0 1 = 0 then 0 else if inF v 0 9 = 0 then 0 else 1
theorem set_ok {x v : Int32} (w : rw84) (h : ¬ goodF x v = 0) : ∃ q, q ≤ 2 ∧ x = nI q ∧ setO w x v = (w (4 + q), upd w (4 + q) v, none) := by
  unfold goodF at h
  by_cases h2 : x = 2
  · rw [if_pos h2] at h
    subst h2
    refine ⟨2, by omega, rfl, ?_⟩
    rw [setO, if_neg (by decide), if_pos rfl, if_neg h]
    rfl
  · rw [if_neg h2] at h
    by_cases h1 : inF x 0 1 = 0
    · rw [if_pos h1] at h; exact absurd rfl h
    · rw [if_neg h1] at h
      by_cases h9 : inF v 0 9 = 0
      · rw [if_pos h9] at h; exact absurd rfl h
      · obtain ⟨q, hq, e⟩ := in_nat (N := 1) rfl (by decide) h1
        have iq : ix x = q := by rw [e]; exact nI_clamp (by omega)
        have h02 : ¬ inF x 0 2 = 0 := by
          rw [e]
          match q, hq with
          | 0, _ => decide
          | 1, _ => decide
        exact ⟨q, by omega, e, by rw [setO, if_neg h02, if_neg h2, if_neg h9, iq]⟩
theorem set_no {x v : Int32} (w : rw84) (h : goodF x v = 0) : setO w x v = bad w := by
  unfold goodF at h
  unfold setO
  by_cases h0 : inF x 0 2 = 0
  · rw [if_pos h0]
  · rw [if_neg h0]
    by_cases h2 : x = 2
    · rw [if_pos h2] at h
      rw [if_pos h2, if_pos h]
    · rw [if_neg h2] at h
      rw [if_neg h2]
      by_cases h1 : inF x 0 1 = 0
      · exfalso
        obtain ⟨q, hq, e⟩ := in_nat (N := 2) rfl (by decide) h0
        match q, hq, e with
        | 0, _, e => rw [e] at h1; exact absurd h1 (by decide)
        | 1, _, e => rw [e] at h1; exact absurd h1 (by decide)
        | 2, _, e => exact h2 e
      · rw [if_neg h1] at h
        by_cases h9 : inF v 0 9 = 0
        · rw [if_pos h9]
        · rw [if_neg h9] at h
          exact absurd h (by decide)
theorem held_s {B : Nat} {w : rw84} (h : Inv B w) {q : Nat} (hq : q < 10) : (w (7 + q) = -1 → heldF w (q + 1) = heldF w q + 0) ∧ (¬ w (7 + q) = -1 → heldF w (q + 1) = heldF w q + 1) := by
  obtain ⟨n, h1, h2, -, h3⟩ := h.2.1
  rcases h3 q hq with e | ⟨k, hk, e⟩
  · exact ⟨fun _ => by rw [heldF, if_neg (by rw [e]; decide)], fun h => absurd e h⟩
  · refine ⟨fun h => ?_, fun _ => by rw [heldF, if_pos (by rw [e]; exact nI_pos' (by omega))]⟩
    rw [e] at h
    have := congrArg Int32.toInt h
    rw [nI_toInt (by omega)] at this
    have h2 : (-1 : Int32).toInt = -1 := by decide
    omega
/-- the sum of the findings that are asked for -/
def stS (f : rw84) (x : Int32) : Nat → Int32
  | 0 => 0
  | k + 1 => stS f x k + (if x = -1 then f k else if x = nI k then f k else 0)
/-- bytes fed to the class's tape -/
def fdX (tp : rw84) (a : Nat) (b : Int32) (n : Nat) : Nat → rw84
  | 0 => tp
  | i + 1 => upd (fdX tp a b n i) (a + i) ((b >>> (nI (8 * (n - 1 - i)) &&& 31)).toInt8.toInt32)
def fdY (X : mM) (tp : rw84) (k : Int32) : mM := u2 (ur X 31 tp) 2 0 k
theorem fdY_init {X : mM} {a : Int32} (h : X 2 0 = a) : fdY X (X 31) a = X := by
  unfold fdY
  rw [ur_self]
  subst h
  show va_up X 2 (upd (X 2) 0 (X 2 0)) = X
  rw [up_self]
  exact ur_self X 2
theorem fdY_step (X : mM) (tp : rw84) (k x : Int32) (i : Nat) (y : Int32) : u2 (u2 (fdY X tp k) 31 i x) 2 0 y = fdY X (upd tp i x) y := by
  funext z
  by_cases h2 : z = 2
  · subst h2
    exact up_up _ _ _ _
  · by_cases h31 : z = 31
    · subst h31; rfl
    · unfold fdY
      show va_up _ 2 _ z = va_up _ 2 _ z
      rw [va_up_ne _ _ h2, va_up_ne _ _ h2]
      show va_up _ 31 _ z = va_up _ 31 _ z
      rw [va_up_ne _ _ h31, va_up_ne _ _ h31]
      show va_up _ 2 _ z = _
      rw [va_up_ne _ _ h2]
      show va_up _ 31 _ z = _
      rw [va_up_ne _ _ h31]
def feedX (tp : rw84) (k : Int32) (b n : Int32) : Int32 × Option Nat × rw84 × Int32 := if inF n 1 4 = 0 then (-1000001, some 0, tp, k) else if k + n ≤ 120 then (nI (ix k + ix n), none, fdX tp (ix k) b (ix n) (ix n), nI (ix k + ix n)) else (-1000002, some 1, tp, k)
theorem hdS_X0_of : yX0_of.cls = "LineCalls" ∧ yX0_of.cls ≠ "java/lang/invoke/MethodHandle" ∧ yX0_of.cls ≠ "java/lang/invoke/VarHandle" ∧ (parseMethodDescriptor yX0_of.desc).map (fun d => d.parameters.length) = some 2 := by decide +kernel
set_option maxHeartbeats 4000000 in
theorem tL_of (l : Launch) (G : nG) (ad : Nat → Nat) (w w1 w2 w3 : rw84) (X : mM) (sp : xSp) (sh : xSh) (k x : Int32) (B : Nat) (hI : Inv B w) (hB : B ≤ 100000) : Met l yX0_of (ws_ yX0_of cX0_of 3 (some .int)) { frames := 5, cells := 0, slots := 0, locals := 101 } (va_Pc [.ref (ad 64), .int k, .int x] (nC G (xE G ad (xV w w1 w2 w3) X sp sh))) (va_Qi (fun (r : Int32) (u : xSt) => r = (ofO w k x).1 ∧ u = ((ofO w k x).2.1, w1, w2, w3, xfnd (ofO w k x).2.2 X, sp, sh)) (fun u => nC G (xE G ad (xV u.1 u.2.1 u.2.2.1 u.2.2.2.1) u.2.2.2.2.1 u.2.2.2.2.2.1 u.2.2.2.2.2.2)) (nA G)) 0 0 (nA G) := by
  refine n_head (by decide) (Nat.le_of_ble_eq_true rfl) ?_
  intro p e s m below meth c ls hx hb hr hlk hml hown hts hB0 hl
  have hown : s.vm.findClass "LineCalls" = some m.cls := hown
  have hw := nS.start hB0
  have hl : lv_has ls 3 [(0, .ref (ad 64)), (1, .int k), (2, .int x)] := hl
  obtain ⟨n, hn, en⟩ := hI.num
  refine lv_aload_n hx hb dX0_of_0 rfl (lv_at hl 0 rfl) ?_
  refine lv_iload_n hx hb dX0_of_1 rfl (lv_at hl 1 rfl) ?_
  refine n_callp (va_runV ⟨hx, hb, hml, hown, hts⟩ (tL_isJumper l G ad _ _ _ _ _ _ _ _) (cwV 1 hts (lw_V q462 q464 qs2 q90 q465) rfl rfl rfl hdS_X0_isJumper ⟨by decide, by decide⟩) (hw.preV (k := 64) (xp 64) rfl) rfl rfl hl.1 rfl (lv_room (by simp [Value.category])) dX0_of_2 ⟨Nat.zero_le _, Nat.zero_le _⟩) (fun r_2 e_2 => ?_)
  subst e_2
  refine lv_if_ne (tgt := 14) hx hb dX0_of_5 (by decide) (fun c_5 => ?_) (fun c_5 => ?_)
  · skip
    obtain ⟨j, hjn, hj, rfl⟩ := in_num en hn c_5
    have ij : ix (nI j) = j := nI_clamp (by omega)
    refine lv_iload_n hx hb dX0_of_14 rfl (lv_at hl 2 rfl) ?_
    refine lv_iconst (v := 1) hx hb dX0_of_15 (by decide) ?_
    refine lv_iconst (v := 4) hx hb dX0_of_16 (by decide) ?_
    refine n_callp (va_runS ⟨hx, hb, hml, hown, hts⟩ (tX_in l _ _ _) (va_cwS 3 hts (lw_S q459 q460 q90 q461) rfl rfl rfl (hdS_X0_in).2 ⟨by decide, by decide⟩) pu_pre rfl rfl hl.1 rfl (lv_room (by simp [Value.category])) dX0_of_17 ⟨Nat.zero_le _, Nat.zero_le _⟩) (fun r_17 e_17 => ?_)
    subst e_17
    refine lv_if_eq (tgt := 35) hx hb dX0_of_20 (by decide) (fun c_20 => ?_) (fun c_20 => ?_)
    · skip
      refine lv_iload_n hx hb dX0_of_35 rfl (lv_at hl 2 rfl) ?_
      by_cases s_36_0 : x = 0
      · skip
        refine lv_tableIn (tgt := 84) hx hb dX0_of_36 (by rw [s_36_0]; decide) (by rw [s_36_0]; decide) (off := 48) (by rw [s_36_0]; rfl) (by decide) ?_
        refine lv_aload_n hx hb dX0_of_84 rfl (lv_at hl 0 rfl) ?_
        refine lv_iload_n hx hb dX0_of_85 rfl (lv_at hl 1 rfl) ?_
        obtain ⟨kd, hkd, ek⟩ := hI.kind hj
        have hd : kd < 7 := by omega
        refine n_callpq (va_runV ⟨hx, hb, hml, hown, hts⟩ (tL_jumperOf l G ad _ _ _ _ _ _ _ j kd hj hd ek) (cwV 1 hts (lw_V q549 q551 qs4 q90 q552) rfl rfl rfl hdS_X0_jumperOf ⟨by decide, by decide⟩) (hw.preV (k := 64) (xp 64) rfl) rfl rfl hl.1 rfl (lv_room (by simp [Value.category])) dX0_of_86 ⟨Nat.zero_le _, Nat.zero_le _⟩) (fun r_86 e_86 => ?_)
        subst e_86
        refine dJ_kind hx hb (hml.trans hl.1.symm) hown hts hw hd hj ek ⟨by decide, by decide⟩ ⟨Nat.zero_le _, Nat.zero_le _⟩ (by simp [Value.category]) dX0_of_89 ?_
        exact l_iret hx hb hr hlk rfl hw (by subst s_36_0; rw [of_0 c_5, ij]; exact ⟨rfl, rfl⟩) dX0_of_92
      by_cases s_36_1 : x = 1
      · skip
        refine lv_tableIn (tgt := 120) hx hb dX0_of_36 (by rw [s_36_1]; decide) (by rw [s_36_1]; decide) (off := 84) (by rw [s_36_1]; rfl) (by decide) ?_
        refine lv_aload_n hx hb dX0_of_120 rfl (lv_at hl 0 rfl) ?_
        refine lv_iconst (v := 0) hx hb dX0_of_121 (by decide) ?_
        refine n_calli (va_runV ⟨hx, hb, hml, hown, hts⟩ (tL_finding l G ad _ _ _ _ _ _ _ (0) (by decide)) (cwV 1 hts (lw_V q466 q468 qs3 q90 q469) rfl rfl rfl hdS_X0_finding ⟨by decide, by decide⟩) (hw.preV (k := 64) (xp 64) rfl) rfl rfl hl.1 rfl (lv_room (by simp [Value.category])) dX0_of_122 ⟨Nat.zero_le _, Nat.zero_le _⟩) hw (fun r_122 u_122 H locs e_122 hw => ?_)
        obtain ⟨rfl, rfl⟩ := e_122
        have hw : nS G (xE G ad (xV _ _ _ _) _ _ _) s H locs := hw
        exact l_iret hx hb hr hlk rfl hw (by subst s_36_1; exact absurd c_20 (by decide)) dX0_of_125
      by_cases s_36_2 : x = 2
      · skip
        refine lv_tableIn (tgt := 120) hx hb dX0_of_36 (by rw [s_36_2]; decide) (by rw [s_36_2]; decide) (off := 84) (by rw [s_36_2]; rfl) (by decide) ?_
        refine lv_aload_n hx hb dX0_of_120 rfl (lv_at hl 0 rfl) ?_
        refine lv_iconst (v := 0) hx hb dX0_of_121 (by decide) ?_
        refine n_calli (va_runV ⟨hx, hb, hml, hown, hts⟩ (tL_finding l G ad _ _ _ _ _ _ _ (0) (by decide)) (cwV 1 hts (lw_V q466 q468 qs3 q90 q469) rfl rfl rfl hdS_X0_finding ⟨by decide, by decide⟩) (hw.preV (k := 64) (xp 64) rfl) rfl rfl hl.1 rfl (lv_room (by simp [Value.category])) dX0_of_122 ⟨Nat.zero_le _, Nat.zero_le _⟩) hw (fun r_122 u_122 H locs e_122 hw => ?_)
        obtain ⟨rfl, rfl⟩ := e_122
        have hw : nS G (xE G ad (xV _ _ _ _) _ _ _) s H locs := hw
        exact l_iret hx hb hr hlk rfl hw (by subst s_36_2; exact absurd c_20 (by decide)) dX0_of_125
      by_cases s_36_3 : x = 3
      · skip
        refine lv_tableIn (tgt := 120) hx hb dX0_of_36 (by rw [s_36_3]; decide) (by rw [s_36_3]; decide) (off := 84) (by rw [s_36_3]; rfl) (by decide) ?_
        refine lv_aload_n hx hb dX0_of_120 rfl (lv_at hl 0 rfl) ?_
        refine lv_iconst (v := 0) hx hb dX0_of_121 (by decide) ?_
        refine n_calli (va_runV ⟨hx, hb, hml, hown, hts⟩ (tL_finding l G ad _ _ _ _ _ _ _ (0) (by decide)) (cwV 1 hts (lw_V q466 q468 qs3 q90 q469) rfl rfl rfl hdS_X0_finding ⟨by decide, by decide⟩) (hw.preV (k := 64) (xp 64) rfl) rfl rfl hl.1 rfl (lv_room (by simp [Value.category])) dX0_of_122 ⟨Nat.zero_le _, Nat.zero_le _⟩) hw (fun r_122 u_122 H locs e_122 hw => ?_)
        obtain ⟨rfl, rfl⟩ := e_122
        have hw : nS G (xE G ad (xV _ _ _ _) _ _ _) s H locs := hw
        exact l_iret hx hb hr hlk rfl hw (by subst s_36_3; exact absurd c_20 (by decide)) dX0_of_125
      by_cases s_36_4 : x = 4
      · skip
        refine lv_tableIn (tgt := 120) hx hb dX0_of_36 (by rw [s_36_4]; decide) (by rw [s_36_4]; decide) (off := 84) (by rw [s_36_4]; rfl) (by decide) ?_
        refine lv_aload_n hx hb dX0_of_120 rfl (lv_at hl 0 rfl) ?_
        refine lv_iconst (v := 0) hx hb dX0_of_121 (by decide) ?_
        refine n_calli (va_runV ⟨hx, hb, hml, hown, hts⟩ (tL_finding l G ad _ _ _ _ _ _ _ (0) (by decide)) (cwV 1 hts (lw_V q466 q468 qs3 q90 q469) rfl rfl rfl hdS_X0_finding ⟨by decide, by decide⟩) (hw.preV (k := 64) (xp 64) rfl) rfl rfl hl.1 rfl (lv_room (by simp [Value.category])) dX0_of_122 ⟨Nat.zero_le _, Nat.zero_le _⟩) hw (fun r_122 u_122 H locs e_122 hw => ?_)
        obtain ⟨rfl, rfl⟩ := e_122
        have hw : nS G (xE G ad (xV _ _ _ _) _ _ _) s H locs := hw
        exact l_iret hx hb hr hlk rfl hw (by subst s_36_4; exact absurd c_20 (by decide)) dX0_of_125
      by_cases s_36_5 : x = 5
      · skip
        refine lv_tableIn (tgt := 93) hx hb dX0_of_36 (by rw [s_36_5]; decide) (by rw [s_36_5]; decide) (off := 57) (by rw [s_36_5]; rfl) (by decide) ?_
        refine lv_aload_n hx hb dX0_of_93 rfl (lv_at hl 0 rfl) ?_
        refine lv_iload_n hx hb dX0_of_94 rfl (lv_at hl 1 rfl) ?_
        obtain ⟨kd, hkd, ek⟩ := hI.kind hj
        have hd : kd < 7 := by omega
        refine n_callpq (va_runV ⟨hx, hb, hml, hown, hts⟩ (tL_jumperOf l G ad _ _ _ _ _ _ _ j kd hj hd ek) (cwV 1 hts (lw_V q549 q551 qs4 q90 q552) rfl rfl rfl hdS_X0_jumperOf ⟨by decide, by decide⟩) (hw.preV (k := 64) (xp 64) rfl) rfl rfl hl.1 rfl (lv_room (by simp [Value.category])) dX0_of_95 ⟨Nat.zero_le _, Nat.zero_le _⟩) (fun r_95 e_95 => ?_)
        subst e_95
        refine dJ_high hx hb (hml.trans hl.1.symm) hown hts hw hd hj ek ⟨by decide, by decide⟩ ⟨Nat.zero_le _, Nat.zero_le _⟩ (by simp [Value.category]) dX0_of_98 ?_
        exact l_iret hx hb hr hlk rfl hw (by subst s_36_5; rw [of_5 c_5, ij]; exact ⟨rfl, rfl⟩) dX0_of_101
      by_cases s_36_6 : x = 6
      · skip
        refine lv_tableIn (tgt := 102) hx hb dX0_of_36 (by rw [s_36_6]; decide) (by rw [s_36_6]; decide) (off := 66) (by rw [s_36_6]; rfl) (by decide) ?_
        refine lv_aload_n hx hb dX0_of_102 rfl (lv_at hl 0 rfl) ?_
        refine lv_iload_n hx hb dX0_of_103 rfl (lv_at hl 1 rfl) ?_
        obtain ⟨kd, hkd, ek⟩ := hI.kind hj
        have hd : kd < 7 := by omega
        refine n_callpq (va_runV ⟨hx, hb, hml, hown, hts⟩ (tL_jumperOf l G ad _ _ _ _ _ _ _ j kd hj hd ek) (cwV 1 hts (lw_V q549 q551 qs4 q90 q552) rfl rfl rfl hdS_X0_jumperOf ⟨by decide, by decide⟩) (hw.preV (k := 64) (xp 64) rfl) rfl rfl hl.1 rfl (lv_room (by simp [Value.category])) dX0_of_104 ⟨Nat.zero_le _, Nat.zero_le _⟩) (fun r_104 e_104 => ?_)
        subst e_104
        refine dJ_tires hx hb (hml.trans hl.1.symm) hown hts hw hd hj ek ⟨by decide, by decide⟩ ⟨Nat.zero_le _, Nat.zero_le _⟩ (by simp [Value.category]) dX0_of_107 ?_
        exact l_iret hx hb hr hlk rfl hw (by subst s_36_6; rw [of_6 c_5, ij]; exact ⟨rfl, rfl⟩) dX0_of_110
      by_cases s_36_7 : x = 7
      · skip
        refine lv_tableIn (tgt := 111) hx hb dX0_of_36 (by rw [s_36_7]; decide) (by rw [s_36_7]; decide) (off := 75) (by rw [s_36_7]; rfl) (by decide) ?_
        refine lv_aload_n hx hb dX0_of_111 rfl (lv_at hl 0 rfl) ?_
        refine n_get (k := 64) hx hb hts in_X0 hown hw (xp 64) rfl 3 (by decide) q418 rfl dX0_of_112 ?_
        refine lv_iload_n hx hb dX0_of_115 rfl (lv_at hl 1 rfl) ?_
        refine n_callp (va_runV ⟨hx, hb, hml, hown, hts⟩ (tX4_standsIn l G ad _ _ _ _ 0 (by decide) _ (xV_at0 _ _ _ _) _) (cwV 1 hts (lw_V q655 q476 q477 q97 q478) rfl rfl rfl hdS_X4_standsIn ⟨by decide, by decide⟩) (hw.preV (k := 16 * 0 + 0) (xv0 0) rfl) rfl rfl hl.1 rfl (lv_room (by simp [Value.category])) dX0_of_116 ⟨Nat.zero_le _, Nat.zero_le _⟩) (fun r_116 e_116 => ?_)
        subst e_116
        exact l_iret hx hb hr hlk rfl hw (by subst s_36_7; rw [of_7 c_5]; exact ⟨rfl, rfl⟩) dX0_of_119
      refine lv_tableOut (tgt := 120) hx hb dX0_of_36 (by have a_0 := ne_ti (k := 0) s_36_0 (by decide); have a_1 := ne_ti (k := 1) s_36_1 (by decide); have a_2 := ne_ti (k := 2) s_36_2 (by decide); have a_3 := ne_ti (k := 3) s_36_3 (by decide); have a_4 := ne_ti (k := 4) s_36_4 (by decide); have a_5 := ne_ti (k := 5) s_36_5 (by decide); have a_6 := ne_ti (k := 6) s_36_6 (by decide); have a_7 := ne_ti (k := 7) s_36_7 (by decide); omega) (by decide) ?_
      refine lv_aload_n hx hb dX0_of_120 rfl (lv_at hl 0 rfl) ?_
      refine lv_iconst (v := 0) hx hb dX0_of_121 (by decide) ?_
      refine n_calli (va_runV ⟨hx, hb, hml, hown, hts⟩ (tL_finding l G ad _ _ _ _ _ _ _ (0) (by decide)) (cwV 1 hts (lw_V q466 q468 qs3 q90 q469) rfl rfl rfl hdS_X0_finding ⟨by decide, by decide⟩) (hw.preV (k := 64) (xp 64) rfl) rfl rfl hl.1 rfl (lv_room (by simp [Value.category])) dX0_of_122 ⟨Nat.zero_le _, Nat.zero_le _⟩) hw (fun r_122 u_122 H locs e_122 hw => ?_)
      obtain ⟨rfl, rfl⟩ := e_122
      have hw : nS G (xE G ad (xV _ _ _ _) _ _ _) s H locs := hw
      exact l_iret hx hb hr hlk rfl hw (by rw [of_out c_5 (fun q hq e => by match q, hq, e with | 0, _, e => exact s_36_0 e | 1, _, e => exact s_36_1 e | 2, _, e => exact s_36_2 e | 3, _, e => exact s_36_3 e | 4, _, e => exact s_36_4 e | 5, _, e => exact s_36_5 e | 6, _, e => exact s_36_6 e | 7, _, e => exact s_36_7 e)]; exact ⟨rfl, rfl⟩) dX0_of_125
    · skip
      obtain ⟨q, h1q, hq, rfl⟩ := in_nat1 (N := 4) rfl (by decide) c_20
      refine lv_aload_n hx hb dX0_of_23 rfl (lv_at hl 0 rfl) ?_
      refine n_get (k := 64) hx hb hts in_X0 hown hw (xp 64) rfl 3 (by decide) q418 rfl dX0_of_24 ?_
      refine n_getN (k := 16 * 0 + 0) hx hb hts in_X4 hown hw (xv0 0) rfl 6 (by decide) q243 rfl dX0_of_27 ?_
      refine lv_iload_n hx hb dX0_of_30 rfl (lv_at hl 2 rfl) ?_
      refine n_aaldS (k := 16 * 0 + 7) (t := 4) (j := q) (b := ad (16 * 0 + (8 + q))) hx hb hw (xv0 7) (Or.inr rfl) rfl (by omega) (by decide) rfl dX0_of_31 ?_
      refine lv_iload_n hx hb dX0_of_32 rfl (lv_at hl 1 rfl) ?_
      refine n_iald (k := 16 * 0 + (8 + q)) (j := j) hx hb hw (xv0_row (show q < 5 by omega)) rfl (by omega) (by decide) dX0_of_33 ?_
      exact l_iret hx hb hr hlk rfl hw (by rw [of_row c_5 h1q hq, ij]; exact ⟨rfl, rfl⟩) dX0_of_34
  · skip
    refine lv_aload_n hx hb dX0_of_8 rfl (lv_at hl 0 rfl) ?_
    refine lv_iconst (v := 0) hx hb dX0_of_9 (by decide) ?_
    refine n_calli (va_runV ⟨hx, hb, hml, hown, hts⟩ (tL_finding l G ad _ _ _ _ _ _ _ (0) (by decide)) (cwV 1 hts (lw_V q466 q468 qs3 q90 q469) rfl rfl rfl hdS_X0_finding ⟨by decide, by decide⟩) (hw.preV (k := 64) (xp 64) rfl) rfl rfl hl.1 rfl (lv_room (by simp [Value.category])) dX0_of_10 ⟨Nat.zero_le _, Nat.zero_le _⟩) hw (fun r_10 u_10 H locs e_10 hw => ?_)
    obtain ⟨rfl, rfl⟩ := e_10
    have hw : nS G (xE G ad (xV _ _ _ _) _ _ _) s H locs := hw
    exact l_iret hx hb hr hlk rfl hw (by rw [ofO, if_pos c_5]; exact ⟨rfl, rfl⟩) dX0_of_13
theorem hdS_X0_theirs : yX0_theirs.cls = "LineCalls" ∧ yX0_theirs.cls ≠ "java/lang/invoke/MethodHandle" ∧ yX0_theirs.cls ≠ "java/lang/invoke/VarHandle" ∧ (parseMethodDescriptor yX0_theirs.desc).map (fun d => d.parameters.length) = some 3 := by decide +kernel
set_option maxHeartbeats 4000000 in
theorem tL_theirs (l : Launch) (G : nG) (ad : Nat → Nat) (w w1 w2 w3 : rw84) (X : mM) (sp : xSp) (sh : xSh) (v x y : Int32) : Met l yX0_theirs (ws_ yX0_theirs cX0_theirs 5 (some .int)) { frames := 2, cells := 0, slots := 0, locals := 42 } (va_Pc [.ref (ad 64), .int v, .int x, .int y] (nC G (xE G ad (xV w w1 w2 w3) X sp sh))) (va_Qi (fun (r : Int32) (u : xSt) => r = (theirsO w v x y).1 ∧ u = ((theirsO w v x y).2.1, w1, w2, w3, xfnd (theirsO w v x y).2.2 X, sp, sh)) (fun u => nC G (xE G ad (xV u.1 u.2.1 u.2.2.1 u.2.2.2.1) u.2.2.2.2.1 u.2.2.2.2.2.1 u.2.2.2.2.2.2)) (nA G)) 0 0 (nA G) := by
  refine n_head (by decide) (Nat.le_of_ble_eq_true rfl) ?_
  intro p e s m below meth c ls hx hb hr hlk hml hown hts hB0 hl
  have hown : s.vm.findClass "LineCalls" = some m.cls := hown
  have hw := nS.start hB0
  have hl : lv_has ls 5 [(0, .ref (ad 64)), (1, .int v), (2, .int x), (3, .int y)] := hl
  refine lv_iload_n hx hb dX0_theirs_0 rfl (lv_at hl 1 rfl) ?_
  refine n_callp (va_runS ⟨hx, hb, hml, hown, hts⟩ (tX_isPlace l _) (va_cwS 1 hts (lw_S q456 q457 q90 q458) rfl rfl rfl (hdS_X0_isPlace).2 ⟨by decide, by decide⟩) pu_pre rfl rfl hl.1 rfl (lv_room (by simp [Value.category])) dX0_theirs_1 ⟨Nat.zero_le _, Nat.zero_le _⟩) (fun r_1 e_1 => ?_)
  subst e_1
  refine lv_if_eq (tgt := 23) hx hb dX0_theirs_4 (by decide) (fun c_4 => ?_) (fun c_4 => ?_)
  · skip
    refine lv_aload_n hx hb dX0_theirs_23 rfl (lv_at hl 0 rfl) ?_
    refine lv_iconst (v := 0) hx hb dX0_theirs_24 (by decide) ?_
    refine n_calli (va_runV ⟨hx, hb, hml, hown, hts⟩ (tL_finding l G ad _ _ _ _ _ _ _ (0) (by decide)) (cwV 1 hts (lw_V q466 q468 qs3 q90 q469) rfl rfl rfl hdS_X0_finding ⟨by decide, by decide⟩) (hw.preV (k := 64) (xp 64) rfl) rfl rfl hl.1 rfl (lv_room (by simp [Value.category])) dX0_theirs_25 ⟨Nat.zero_le _, Nat.zero_le _⟩) hw (fun r_25 u_25 H locs e_25 hw => ?_)
    obtain ⟨rfl, rfl⟩ := e_25
    have hw : nS G (xE G ad (xV _ _ _ _) _ _ _) s H locs := hw
    exact l_iret hx hb hr hlk rfl hw (by rw [theirsO, if_pos c_4]; exact ⟨rfl, rfl⟩) dX0_theirs_28
  · skip
    obtain ⟨q, hq, rfl⟩ := in_nat (N := 6) rfl (by decide) c_4
    have iq : ix (nI q) = q := nI_clamp (by omega)
    refine lv_iload_n hx hb dX0_theirs_7 rfl (lv_at hl 2 rfl) ?_
    refine lv_iconst (v := 1) hx hb dX0_theirs_8 (by decide) ?_
    refine lv_iconst (v := 2) hx hb dX0_theirs_9 (by decide) ?_
    refine n_callp (va_runS ⟨hx, hb, hml, hown, hts⟩ (tX_in l _ _ _) (va_cwS 3 hts (lw_S q459 q460 q90 q461) rfl rfl rfl (hdS_X0_in).2 ⟨by decide, by decide⟩) pu_pre rfl rfl hl.1 rfl (lv_room (by simp [Value.category])) dX0_theirs_10 ⟨Nat.zero_le _, Nat.zero_le _⟩) (fun r_10 e_10 => ?_)
    subst e_10
    refine lv_if_eq (tgt := 23) hx hb dX0_theirs_13 (by decide) (fun c_13 => ?_) (fun c_13 => ?_)
    · skip
      refine lv_aload_n hx hb dX0_theirs_23 rfl (lv_at hl 0 rfl) ?_
      refine lv_iconst (v := 0) hx hb dX0_theirs_24 (by decide) ?_
      refine n_calli (va_runV ⟨hx, hb, hml, hown, hts⟩ (tL_finding l G ad _ _ _ _ _ _ _ (0) (by decide)) (cwV 1 hts (lw_V q466 q468 qs3 q90 q469) rfl rfl rfl hdS_X0_finding ⟨by decide, by decide⟩) (hw.preV (k := 64) (xp 64) rfl) rfl rfl hl.1 rfl (lv_room (by simp [Value.category])) dX0_theirs_25 ⟨Nat.zero_le _, Nat.zero_le _⟩) hw (fun r_25 u_25 H locs e_25 hw => ?_)
      obtain ⟨rfl, rfl⟩ := e_25
      have hw : nS G (xE G ad (xV _ _ _ _) _ _ _) s H locs := hw
      exact l_iret hx hb hr hlk rfl hw (by rw [theirsO, if_neg c_4, if_pos c_13]; exact ⟨rfl, rfl⟩) dX0_theirs_28
    · skip
      refine lv_iload_n hx hb dX0_theirs_16 rfl (lv_at hl 3 rfl) ?_
      refine n_callp (va_runS ⟨hx, hb, hml, hown, hts⟩ (tX_isHigh l _) (va_cwS 1 hts (lw_S q491 q492 q90 q493) rfl rfl rfl (hdS_X0_isHigh).2 ⟨by decide, by decide⟩) pu_pre rfl rfl hl.1 rfl (lv_room (by simp [Value.category])) dX0_theirs_17 ⟨Nat.zero_le _, Nat.zero_le _⟩) (fun r_17 e_17 => ?_)
      subst e_17
      refine lv_if_ne (tgt := 29) hx hb dX0_theirs_20 (by decide) (fun c_20 => ?_) (fun c_20 => ?_)
      · skip
        rcases in_12 c_13 with rfl | rfl
        · skip
          refine lv_aload_n hx hb dX0_theirs_29 rfl (lv_at hl 0 rfl) ?_
          refine n_get (k := 64) hx hb hts in_X0 hown hw (xp 64) rfl 3 (by decide) q418 rfl dX0_theirs_30 ?_
          refine n_getN (k := 16 * 0 + 0) hx hb hts in_X4 hown hw (xv0 0) rfl 1 (by decide) q224 rfl dX0_theirs_33 ?_
          refine lv_iload_n hx hb dX0_theirs_36 rfl (lv_at hl 2 rfl) ?_
          refine lv_iconst (v := 1) hx hb dX0_theirs_37 (by decide) ?_
          refine lv_isub hx hb dX0_theirs_38 ?_
          refine n_topE (y := nI 0) (by decide) ?_
          refine n_aaldS (k := 16 * 0 + 2) (t := 4) (j := 0) (b := ad (16 * 0 + 3)) hx hb hw (xv0 2) (Or.inr rfl) rfl (by decide) (by decide) rfl dX0_theirs_39 ?_
          refine lv_iload_n hx hb dX0_theirs_40 rfl (lv_at hl 1 rfl) ?_
          refine n_iald (k := 16 * 0 + 3) (j := q) hx hb hw (xv0 3) rfl (by omega) (by decide) dX0_theirs_41 ?_
          refine lv_istore hx hb dX0_theirs_42 hl (by decide) rfl (fun ls hl => ?_)
          refine lv_aload_n hx hb dX0_theirs_44 rfl (lv_at hl 1 rfl) ?_
          refine n_get (k := 64) hx hb hts in_X0 hown hw (xp 64) rfl 3 (by decide) q418 rfl dX0_theirs_45 ?_
          refine n_getN (k := 16 * 0 + 0) hx hb hts in_X4 hown hw (xv0 0) rfl 1 (by decide) q224 rfl dX0_theirs_48 ?_
          refine lv_iload_n hx hb dX0_theirs_51 rfl (lv_at hl 3 rfl) ?_
          refine lv_iconst (v := 1) hx hb dX0_theirs_52 (by decide) ?_
          refine lv_isub hx hb dX0_theirs_53 ?_
          refine n_topE (y := nI 0) (by decide) ?_
          refine n_aaldS (k := 16 * 0 + 2) (t := 4) (j := 0) (b := ad (16 * 0 + 3)) hx hb hw (xv0 2) (Or.inr rfl) rfl (by decide) (by decide) rfl dX0_theirs_54 ?_
          refine lv_iload_n hx hb dX0_theirs_55 rfl (lv_at hl 2 rfl) ?_
          refine lv_iload_n hx hb dX0_theirs_56 rfl (lv_at hl 4 rfl) ?_
          refine l0_iast hx hb hw 3 (by decide) (q := q) rfl (show _ < 7 by omega) (pos := 24 + q) rfl dX0_theirs_57 (fun H locs hw => ?_)
          refine lv_iload hx hb dX0_theirs_58 (lv_at hl 0 rfl) ?_
          exact l_iret hx hb hr hlk rfl hw (by rw [theirsO, if_neg c_4, if_neg c_13, if_neg c_20]; first | (rw [if_pos (show nI 1 = (1 : Int32) from rfl), iq]; exact ⟨rfl, rfl⟩) | (rw [if_neg (show ¬ nI 2 = (1 : Int32) by decide), iq]; exact ⟨rfl, rfl⟩)) dX0_theirs_60
        · skip
          refine lv_aload_n hx hb dX0_theirs_29 rfl (lv_at hl 0 rfl) ?_
          refine n_get (k := 64) hx hb hts in_X0 hown hw (xp 64) rfl 3 (by decide) q418 rfl dX0_theirs_30 ?_
          refine n_getN (k := 16 * 0 + 0) hx hb hts in_X4 hown hw (xv0 0) rfl 1 (by decide) q224 rfl dX0_theirs_33 ?_
          refine lv_iload_n hx hb dX0_theirs_36 rfl (lv_at hl 2 rfl) ?_
          refine lv_iconst (v := 1) hx hb dX0_theirs_37 (by decide) ?_
          refine lv_isub hx hb dX0_theirs_38 ?_
          refine n_topE (y := nI 1) (by decide) ?_
          refine n_aaldS (k := 16 * 0 + 2) (t := 4) (j := 1) (b := ad (16 * 0 + 4)) hx hb hw (xv0 2) (Or.inr rfl) rfl (by decide) (by decide) rfl dX0_theirs_39 ?_
          refine lv_iload_n hx hb dX0_theirs_40 rfl (lv_at hl 1 rfl) ?_
          refine n_iald (k := 16 * 0 + 4) (j := q) hx hb hw (xv0 4) rfl (by omega) (by decide) dX0_theirs_41 ?_
          refine lv_istore hx hb dX0_theirs_42 hl (by decide) rfl (fun ls hl => ?_)
          refine lv_aload_n hx hb dX0_theirs_44 rfl (lv_at hl 1 rfl) ?_
          refine n_get (k := 64) hx hb hts in_X0 hown hw (xp 64) rfl 3 (by decide) q418 rfl dX0_theirs_45 ?_
          refine n_getN (k := 16 * 0 + 0) hx hb hts in_X4 hown hw (xv0 0) rfl 1 (by decide) q224 rfl dX0_theirs_48 ?_
          refine lv_iload_n hx hb dX0_theirs_51 rfl (lv_at hl 3 rfl) ?_
          refine lv_iconst (v := 1) hx hb dX0_theirs_52 (by decide) ?_
          refine lv_isub hx hb dX0_theirs_53 ?_
          refine n_topE (y := nI 1) (by decide) ?_
          refine n_aaldS (k := 16 * 0 + 2) (t := 4) (j := 1) (b := ad (16 * 0 + 4)) hx hb hw (xv0 2) (Or.inr rfl) rfl (by decide) (by decide) rfl dX0_theirs_54 ?_
          refine lv_iload_n hx hb dX0_theirs_55 rfl (lv_at hl 2 rfl) ?_
          refine lv_iload_n hx hb dX0_theirs_56 rfl (lv_at hl 4 rfl) ?_
          refine l0_iast hx hb hw 4 (by decide) (q := q) rfl (show _ < 7 by omega) (pos := 31 + q) rfl dX0_theirs_57 (fun H locs hw => ?_)
          refine lv_iload hx hb dX0_theirs_58 (lv_at hl 0 rfl) ?_
          exact l_iret hx hb hr hlk rfl hw (by rw [theirsO, if_neg c_4, if_neg c_13, if_neg c_20]; first | (rw [if_pos (show nI 1 = (1 : Int32) from rfl), iq]; exact ⟨rfl, rfl⟩) | (rw [if_neg (show ¬ nI 2 = (1 : Int32) by decide), iq]; exact ⟨rfl, rfl⟩)) dX0_theirs_60
      · skip
        refine lv_aload_n hx hb dX0_theirs_23 rfl (lv_at hl 0 rfl) ?_
        refine lv_iconst (v := 0) hx hb dX0_theirs_24 (by decide) ?_
        refine n_calli (va_runV ⟨hx, hb, hml, hown, hts⟩ (tL_finding l G ad _ _ _ _ _ _ _ (0) (by decide)) (cwV 1 hts (lw_V q466 q468 qs3 q90 q469) rfl rfl rfl hdS_X0_finding ⟨by decide, by decide⟩) (hw.preV (k := 64) (xp 64) rfl) rfl rfl hl.1 rfl (lv_room (by simp [Value.category])) dX0_theirs_25 ⟨Nat.zero_le _, Nat.zero_le _⟩) hw (fun r_25 u_25 H locs e_25 hw => ?_)
        obtain ⟨rfl, rfl⟩ := e_25
        have hw : nS G (xE G ad (xV _ _ _ _) _ _ _) s H locs := hw
        exact l_iret hx hb hr hlk rfl hw (by rw [theirsO, if_neg c_4, if_neg c_13, if_pos c_20]; exact ⟨rfl, rfl⟩) dX0_theirs_28
theorem hdS_X0_set : yX0_set.cls = "LineCalls" ∧ yX0_set.cls ≠ "java/lang/invoke/MethodHandle" ∧ yX0_set.cls ≠ "java/lang/invoke/VarHandle" ∧ (parseMethodDescriptor yX0_set.desc).map (fun d => d.parameters.length) = some 2 := by decide +kernel
set_option maxHeartbeats 4000000 in
theorem tL_set (l : Launch) (G : nG) (ad : Nat → Nat) (w w1 w2 w3 : rw84) (X : mM) (sp : xSp) (sh : xSh) (x y : Int32) : Met l yX0_set (ws_ yX0_set cX0_set 5 (some .int)) { frames := 2, cells := 0, slots := 0, locals := 42 } (va_Pc [.ref (ad 64), .int x, .int y] (nC G (xE G ad (xV w w1 w2 w3) X sp sh))) (va_Qi (fun (r : Int32) (u : xSt) => r = (setO w x y).1 ∧ u = ((setO w x y).2.1, w1, w2, w3, xfnd (setO w x y).2.2 X, sp, sh)) (fun u => nC G (xE G ad (xV u.1 u.2.1 u.2.2.1 u.2.2.2.1) u.2.2.2.2.1 u.2.2.2.2.2.1 u.2.2.2.2.2.2)) (nA G)) 0 0 (nA G) := by
  refine n_head (by decide) (Nat.le_of_ble_eq_true rfl) ?_
  intro p e s m below meth c ls hx hb hr hlk hml hown hts hB0 hl
  have hown : s.vm.findClass "LineCalls" = some m.cls := hown
  have hw := nS.start hB0
  have hl : lv_has ls 5 [(0, .ref (ad 64)), (1, .int x), (2, .int y)] := hl
  refine lv_iload_n hx hb dX0_set_0 rfl (lv_at hl 1 rfl) ?_
  refine lv_iconst (v := 2) hx hb dX0_set_1 (by decide) ?_
  refine n_join2 (fun v => v = goodF x y) 36 (fun v_2 hv_2 => ?_) (fun hj_2 => ?_)
  · skip
    subst hv_2
    refine lv_istore_n hx hb dX0_set_36 rfl hl (by decide) rfl (fun ls hl => ?_)
    refine lv_iload_n hx hb dX0_set_37 rfl (lv_at hl 0 rfl) ?_
    refine lv_if_ne (tgt := 47) hx hb dX0_set_38 (by decide) (fun c_38 => ?_) (fun c_38 => ?_)
    · skip
      obtain ⟨q, hq, rfl, eo⟩ := set_ok w c_38
      refine lv_aload_n hx hb dX0_set_47 rfl (lv_at hl 1 rfl) ?_
      refine n_get (k := 64) hx hb hts in_X0 hown hw (xp 64) rfl 3 (by decide) q418 rfl dX0_set_48 ?_
      refine n_getN (k := 16 * 0 + 0) hx hb hts in_X4 hown hw (xv0 0) rfl 2 (by decide) q231 rfl dX0_set_51 ?_
      refine lv_iload_n hx hb dX0_set_54 rfl (lv_at hl 2 rfl) ?_
      refine n_iald (k := 16 * 0 + 5) (j := q) hx hb hw (xv0 5) rfl (by omega) (by decide) dX0_set_55 ?_
      refine lv_istore hx hb dX0_set_56 hl (by decide) rfl (fun ls hl => ?_)
      refine lv_aload_n hx hb dX0_set_58 rfl (lv_at hl 2 rfl) ?_
      refine n_get (k := 64) hx hb hts in_X0 hown hw (xp 64) rfl 3 (by decide) q418 rfl dX0_set_59 ?_
      refine n_getN (k := 16 * 0 + 0) hx hb hts in_X4 hown hw (xv0 0) rfl 2 (by decide) q231 rfl dX0_set_62 ?_
      refine lv_iload_n hx hb dX0_set_65 rfl (lv_at hl 3 rfl) ?_
      refine lv_iload_n hx hb dX0_set_66 rfl (lv_at hl 4 rfl) ?_
      refine l0_iast hx hb hw 5 (by decide) (q := q) rfl (show _ < 3 by omega) (pos := 4 + q) rfl dX0_set_67 (fun H locs hw => ?_)
      refine lv_iload hx hb dX0_set_68 (lv_at hl 0 rfl) ?_
      exact l_iret hx hb hr hlk rfl hw (by rw [eo]; exact ⟨rfl, rfl⟩) dX0_set_70
    · skip
      refine lv_aload_n hx hb dX0_set_41 rfl (lv_at hl 1 rfl) ?_
      refine lv_iconst (v := 0) hx hb dX0_set_42 (by decide) ?_
      refine n_calli (va_runV ⟨hx, hb, hml, hown, hts⟩ (tL_finding l G ad _ _ _ _ _ _ _ (0) (by decide)) (cwV 1 hts (lw_V q466 q468 qs3 q90 q469) rfl rfl rfl hdS_X0_finding ⟨by decide, by decide⟩) (hw.preV (k := 64) (xp 64) rfl) rfl rfl hl.1 rfl (lv_room (by simp [Value.category])) dX0_set_43 ⟨Nat.zero_le _, Nat.zero_le _⟩) hw (fun r_43 u_43 H locs e_43 hw => ?_)
      obtain ⟨rfl, rfl⟩ := e_43
      have hw : nS G (xE G ad (xV _ _ _ _) _ _ _) s H locs := hw
      exact l_iret hx hb hr hlk rfl hw (by rw [set_no w c_38]; exact ⟨rfl, rfl⟩) dX0_set_46
  · skip
    refine lv_icmp_ne (tgt := 12) hx hb dX0_set_2 (by decide) (fun c_2 => ?_) (fun c_2 => ?_)
    · skip
      refine lv_iload_n hx hb dX0_set_12 rfl (lv_at hl 1 rfl) ?_
      refine lv_iconst (v := 0) hx hb dX0_set_13 (by decide) ?_
      refine lv_iconst (v := 1) hx hb dX0_set_14 (by decide) ?_
      refine n_callp (va_runS ⟨hx, hb, hml, hown, hts⟩ (tX_in l _ _ _) (va_cwS 3 hts (lw_S q459 q460 q90 q461) rfl rfl rfl (hdS_X0_in).2 ⟨by decide, by decide⟩) pu_pre rfl rfl hl.1 rfl (lv_room (by simp [Value.category])) dX0_set_15 ⟨Nat.zero_le _, Nat.zero_le _⟩) (fun r_15 e_15 => ?_)
      subst e_15
      refine lv_if_eq (tgt := 35) hx hb dX0_set_18 (by decide) (fun c_18 => ?_) (fun c_18 => ?_)
      · skip
        refine lv_iconst (v := 0) hx hb dX0_set_35 (by decide) ?_
        exact hj_2 _ (by rw [goodF, if_neg c_2, if_pos c_18])
      · skip
        refine lv_iload_n hx hb dX0_set_21 rfl (lv_at hl 2 rfl) ?_
        refine lv_iconst (v := 0) hx hb dX0_set_22 (by decide) ?_
        refine lv_bipush (v := 9) hx hb dX0_set_23 (by decide) ?_
        refine n_callp (va_runS ⟨hx, hb, hml, hown, hts⟩ (tX_in l _ _ _) (va_cwS 3 hts (lw_S q459 q460 q90 q461) rfl rfl rfl (hdS_X0_in).2 ⟨by decide, by decide⟩) pu_pre rfl rfl hl.1 rfl (lv_room (by simp [Value.category])) dX0_set_25 ⟨Nat.zero_le _, Nat.zero_le _⟩) (fun r_25 e_25 => ?_)
        subst e_25
        refine lv_if_eq (tgt := 35) hx hb dX0_set_28 (by decide) (fun c_28 => ?_) (fun c_28 => ?_)
        · skip
          refine lv_iconst (v := 0) hx hb dX0_set_35 (by decide) ?_
          exact hj_2 _ (by rw [goodF, if_neg c_2, if_neg c_18, if_pos c_28])
        · skip
          refine lv_iconst (v := 1) hx hb dX0_set_31 (by decide) ?_
          refine lv_goto (tgt := 36) hx hb dX0_set_32 (by decide) ?_
          exact hj_2 _ (by rw [goodF, if_neg c_2, if_neg c_18, if_neg c_28])
    · skip
      refine lv_iload_n hx hb dX0_set_5 rfl (lv_at hl 2 rfl) ?_
      refine n_callp (va_runS ⟨hx, hb, hml, hown, hts⟩ (tX_isCode l _) (va_cwS 1 hts (lw_S q498 q499 q90 q500) rfl rfl rfl (hdS_X0_isCode).2 ⟨by decide, by decide⟩) pu_pre rfl rfl hl.1 rfl (lv_room (by simp [Value.category])) dX0_set_6 ⟨Nat.zero_le _, Nat.zero_le _⟩) (fun r_6 e_6 => ?_)
      subst e_6
      refine lv_goto (tgt := 36) hx hb dX0_set_9 (by decide) ?_
      exact hj_2 _ (by rw [goodF, if_pos c_2])
theorem hdS_X0_callsFor : yX0_callsFor.cls = "LineCalls" ∧ yX0_callsFor.cls ≠ "java/lang/invoke/MethodHandle" ∧ yX0_callsFor.cls ≠ "java/lang/invoke/VarHandle" ∧ (parseMethodDescriptor yX0_callsFor.desc).map (fun d => d.parameters.length) = some 1 := by decide +kernel
set_option maxHeartbeats 4000000 in
theorem tL_callsFor (l : Launch) (G : nG) (ad : Nat → Nat) (w w1 w2 w3 : rw84) (X : mM) (sp : xSp) (sh : xSh) (v : Int32) : Met l yX0_callsFor (ws_ yX0_callsFor cX0_callsFor 4 (some .int)) { frames := 4, cells := 0, slots := 0, locals := 85 } (va_Pc [.ref (ad 64), .int v] (nC G (xE G ad (xV w w1 w2 w3) X sp sh))) (vp_Si (fun r => r = nI (gN w v 1000))) 0 0 (fun _ => False) := by
  refine n_head (by decide) (Nat.le_of_ble_eq_true rfl) ?_
  intro p e s m below meth c ls hx hb hr hlk hml hown hts hB0 hl
  have hown : s.vm.findClass "LineCalls" = some m.cls := hown
  have hw := nS.start hB0
  have hl : lv_has ls 4 [(0, .ref (ad 64)), (1, .int v)] := hl
  refine lv_iconst (v := 0) hx hb dX0_callsFor_0 (by decide) ?_
  refine lv_istore_n hx hb dX0_callsFor_1 rfl hl (by decide) rfl (fun ls hl => ?_)
  refine lv_iconst (v := 0) hx hb dX0_callsFor_2 (by decide) ?_
  refine lv_istore_n hx hb dX0_callsFor_3 rfl hl (by decide) rfl (fun ls hl => ?_)
  refine n_loopR (α := Nat) (fun q ls => q ≤ 1000 ∧ lv_has ls 4 [(0, .ref (ad 64)), (1, .int v), (2, .int (nI (gN w v q))), (3, .int (nI q))]) (fun q => 1000 - q) 4 ?_ 0 _ ⟨Nat.zero_le _, (lv_sub hl [2, 3, 1, 0] rfl)⟩
  clear hl
  intro q ls hI ih_4
  obtain ⟨hq, hl⟩ := hI
  refine lv_iload_n hx hb dX0_callsFor_4 rfl (lv_at hl 3 rfl) ?_
  refine lv_sipush (v := 999) hx hb dX0_callsFor_5 (by decide) ?_
  refine lv_icmp_gt (tgt := 42) hx hb dX0_callsFor_8 (by decide) (fun c_8 => ?_) (fun c_8 => ?_)
  · skip
    have n_8 : 999 < q := (nI_ltI (a := 999) (b := q) (by omega) (by omega)).mp c_8
    obtain rfl : q = 1000 := by omega
    refine lv_iload_n hx hb dX0_callsFor_42 rfl (lv_at hl 2 rfl) ?_
    exact n_pret hx hb hr hlk rfl rfl dX0_callsFor_43
  · skip
    have n_8 : ¬ 999 < q := fun h => c_8 ((nI_ltI (a := 999) (b := q) (by omega) (by omega)).mpr h)
    refine lv_iload_n hx hb dX0_callsFor_11 rfl (lv_at hl 2 rfl) ?_
    refine lv_iload_n hx hb dX0_callsFor_12 rfl (lv_at hl 3 rfl) ?_
    refine lv_aload_n hx hb dX0_callsFor_13 rfl (lv_at hl 0 rfl) ?_
    refine n_get (k := 64) hx hb hts in_X0 hown hw (xp 64) rfl 3 (by decide) q418 rfl dX0_callsFor_14 ?_
    refine n_getN (k := 16 * 0 + 0) hx hb hts in_X4 hown hw (xv0 0) rfl 2 (by decide) q231 rfl dX0_callsFor_17 ?_
    refine lv_iconst (v := 2) hx hb dX0_callsFor_20 (by decide) ?_
    refine n_iald (k := 16 * 0 + 5) (j := 2) hx hb hw (xv0 5) rfl (by decide) (by decide) dX0_callsFor_21 ?_
    refine n_callp (va_runS ⟨hx, hb, hml, hown, hts⟩ (tX_placeOf l _ _ (bc_nat q (by omega))) (va_cwS 2 hts (lw_S q519 q520 q90 q521) rfl rfl rfl (hdS_X0_placeOf).2 ⟨by decide, by decide⟩) pu_pre rfl rfl hl.1 rfl (lv_room (by simp [Value.category])) dX0_callsFor_22 ⟨Nat.zero_le _, Nat.zero_le _⟩) (fun r_22 e_22 => ?_)
    subst e_22
    refine lv_iload_n hx hb dX0_callsFor_25 rfl (lv_at hl 1 rfl) ?_
    refine lv_icmp_ne (tgt := 33) hx hb dX0_callsFor_26 (by decide) (fun c_26 => ?_) (fun c_26 => ?_)
    · skip
      refine lv_iconst (v := 0) hx hb dX0_callsFor_33 (by decide) ?_
      refine lv_iadd hx hb dX0_callsFor_34 ?_
      refine n_topE (nI_add (gN w v q) 0) ?_
      refine lv_istore_n hx hb dX0_callsFor_35 rfl hl (by decide) rfl (fun ls hl => ?_)
      refine lv_iinc (v := nI (q + 1)) hx hb dX0_callsFor_36 hl (k := 3) rfl (nI_1 _) (by decide) rfl (fun ls hl => ?_)
      refine lv_goto (tgt := 4) hx hb dX0_callsFor_39 (by decide) ?_
      exact ih_4 (q + 1) _ (by first | omega | (dsimp only; omega)) ⟨by omega, by rw [gN, if_neg c_26]; exact (lv_sub hl [2, 3, 1, 0] rfl)⟩
    · skip
      refine lv_iconst (v := 1) hx hb dX0_callsFor_29 (by decide) ?_
      refine lv_goto (tgt := 34) hx hb dX0_callsFor_30 (by decide) ?_
      refine lv_iadd hx hb dX0_callsFor_34 ?_
      refine n_topE (nI_add (gN w v q) 1) ?_
      refine lv_istore_n hx hb dX0_callsFor_35 rfl hl (by decide) rfl (fun ls hl => ?_)
      refine lv_iinc (v := nI (q + 1)) hx hb dX0_callsFor_36 hl (k := 3) rfl (nI_1 _) (by decide) rfl (fun ls hl => ?_)
      refine lv_goto (tgt := 4) hx hb dX0_callsFor_39 (by decide) ?_
      exact ih_4 (q + 1) _ (by first | omega | (dsimp only; omega)) ⟨by omega, by rw [gN, if_pos c_26]; exact (lv_sub hl [2, 3, 1, 0] rfl)⟩
theorem hdS_X0_divisor : yX0_divisor.cls = "LineCalls" ∧ yX0_divisor.cls ≠ "java/lang/invoke/MethodHandle" ∧ yX0_divisor.cls ≠ "java/lang/invoke/VarHandle" ∧ (parseMethodDescriptor yX0_divisor.desc).map (fun d => d.parameters.length) = some 2 := by decide +kernel
set_option maxHeartbeats 4000000 in
theorem tX_divisor (l : Launch) (x y : Nat) (hx1 : x ≤ 1000) (hy1 : y ≤ 1000) : Met l yX0_divisor (ws_ yX0_divisor cX0_divisor 5 (some .int)) { frames := 0, cells := 0, slots := 0, locals := 0 } (va_Pc [.int (nI x), .int (nI y)] (fun _ => True)) (vp_Si (fun r => r = nI (Nat.gcd x y))) 0 0 (fun _ => False) := by
  refine n_head (by decide) (Nat.le_of_ble_eq_true rfl) ?_
  intro p e s m below meth c ls hx hb hr hlk hml hown hts hB0 hl
  have hown : s.vm.findClass "LineCalls" = some m.cls := hown
  have hl : lv_has ls 5 [(0, .int (nI x)), (1, .int (nI y))] := hl
  refine lv_iload_n hx hb dX0_divisor_0 rfl (lv_at hl 0 rfl) ?_
  refine lv_istore_n hx hb dX0_divisor_1 rfl hl (by decide) rfl (fun ls hl => ?_)
  refine lv_iload_n hx hb dX0_divisor_2 rfl (lv_at hl 2 rfl) ?_
  refine lv_istore_n hx hb dX0_divisor_3 rfl hl (by decide) rfl (fun ls hl => ?_)
  refine n_loopR (α := Nat × Nat) (fun z ls => z.1 ≤ 1000 ∧ z.2 ≤ 1000 ∧ Nat.gcd z.1 z.2 = Nat.gcd x y ∧ lv_has ls 5 [(2, .int (nI z.1)), (3, .int (nI z.2))]) (fun z => z.2) 4 ?_ (x, y) _ ⟨hx1, hy1, rfl, (lv_sub hl [1, 0] rfl)⟩
  clear hl
  intro z ls hI ih_4
  obtain ⟨hz1, hz2, hg, hl⟩ := hI
  obtain ⟨zx, zy⟩ := z
  dsimp only at hz1 hz2 hg hl
  refine lv_iload_n hx hb dX0_divisor_4 rfl (lv_at hl 1 rfl) ?_
  refine lv_if_eq (tgt := 21) hx hb dX0_divisor_5 (by decide) (fun c_5 => ?_) (fun c_5 => ?_)
  · skip
    obtain rfl : zy = 0 := (nI_eq (a := zy) (b := 0) (by omega) (by omega)).mp c_5
    rw [Nat.gcd_zero_right] at hg
    refine lv_iload_n hx hb dX0_divisor_21 rfl (lv_at hl 0 rfl) ?_
    exact n_pret hx hb hr hlk rfl (by rw [hg]) dX0_divisor_22
  · skip
    have hzy : 0 < zy := by rcases Nat.eq_zero_or_pos zy with o | o; exact absurd (by rw [o]; rfl) c_5; exact o
    have hzm := Nat.mod_lt zx hzy
    refine lv_iload_n hx hb dX0_divisor_8 rfl (lv_at hl 0 rfl) ?_
    refine lv_iload_n hx hb dX0_divisor_9 rfl (lv_at hl 1 rfl) ?_
    refine lv_irem hx hb dX0_divisor_10 c_5 ?_
    refine n_topE (pk_rem (by omega) hzy (by omega)) ?_
    refine lv_istore hx hb dX0_divisor_11 hl (by decide) rfl (fun ls hl => ?_)
    refine lv_iload_n hx hb dX0_divisor_13 rfl (lv_at hl 2 rfl) ?_
    refine lv_istore_n hx hb dX0_divisor_14 rfl hl (by decide) rfl (fun ls hl => ?_)
    refine lv_iload hx hb dX0_divisor_15 (lv_at hl 1 rfl) ?_
    refine lv_istore_n hx hb dX0_divisor_17 rfl hl (by decide) rfl (fun ls hl => ?_)
    refine lv_goto (tgt := 4) hx hb dX0_divisor_18 (by decide) ?_
    exact ih_4 (zy, zx % zy) _ (Nat.mod_lt _ hzy) ⟨hz2, by dsimp only; omega, gcd_nx hg, (lv_sub hl [1, 0] rfl)⟩
theorem hdS_X0_odds : yX0_odds.cls = "LineCalls" ∧ yX0_odds.cls ≠ "java/lang/invoke/MethodHandle" ∧ yX0_odds.cls ≠ "java/lang/invoke/VarHandle" ∧ (parseMethodDescriptor yX0_odds.desc).map (fun d => d.parameters.length) = some 3 := by decide +kernel
set_option maxHeartbeats 4000000 in
theorem tL_odds (l : Launch) (G : nG) (ad : Nat → Nat) (w w1 w2 w3 : rw84) (X : mM) (sp : xSp) (sh : xSh) (v x y : Int32) : Met l yX0_odds (ws_ yX0_odds cX0_odds 10 (some .long)) { frames := 5, cells := 0, slots := 0, locals := 108 } (va_Pc [.ref (ad 64), .int v, .int x, .int y] (nC G (xE G ad (xV w w1 w2 w3) X sp sh))) (va_Ql (fun (r : Int64) (u : xSt) => r = (oddsO w v x y).1 ∧ u = (w, w1, w2, w3, xfnd (oddsO w v x y).2 X, sp, sh)) (fun u => nC G (xE G ad (xV u.1 u.2.1 u.2.2.1 u.2.2.2.1) u.2.2.2.2.1 u.2.2.2.2.2.1 u.2.2.2.2.2.2)) (nA G)) 0 0 (nA G) := by
  refine n_head (by decide) (Nat.le_of_ble_eq_true rfl) ?_
  intro p e s m below meth c ls hx hb hr hlk hml hown hts hB0 hl
  have hown : s.vm.findClass "LineCalls" = some m.cls := hown
  have hw := nS.start hB0
  have hl : lv_has ls 10 [(0, .ref (ad 64)), (1, .int v), (2, .int x), (3, .int y)] := hl
  obtain ⟨a, ha⟩ : ∃ a, gN w v 1000 = a := ⟨_, rfl⟩
  have ha2 : a ≤ 1000 := by rw [← ha]; exact gN_le _ _ _
  have hg0 : 0 < Nat.gcd a 1000 := Nat.gcd_pos_of_pos_right _ (by decide)
  have hg1 : Nat.gcd a 1000 ≤ 1000 := Nat.gcd_le_right _ (by decide)
  refine lv_iload_n hx hb dX0_odds_0 rfl (lv_at hl 1 rfl) ?_
  refine n_callp (va_runS ⟨hx, hb, hml, hown, hts⟩ (tX_isPlace l _) (va_cwS 1 hts (lw_S q456 q457 q90 q458) rfl rfl rfl (hdS_X0_isPlace).2 ⟨by decide, by decide⟩) pu_pre rfl rfl hl.1 rfl (lv_room (by simp [Value.category])) dX0_odds_1 ⟨Nat.zero_le _, Nat.zero_le _⟩) (fun r_1 e_1 => ?_)
  subst e_1
  refine lv_if_eq (tgt := 26) hx hb dX0_odds_4 (by decide) (fun c_4 => ?_) (fun c_4 => ?_)
  · skip
    refine lv_aload_n hx hb dX0_odds_26 rfl (lv_at hl 0 rfl) ?_
    refine lv_iconst (v := 0) hx hb dX0_odds_27 (by decide) ?_
    refine n_calli (va_runV ⟨hx, hb, hml, hown, hts⟩ (tL_finding l G ad _ _ _ _ _ _ _ (0) (by decide)) (cwV 1 hts (lw_V q466 q468 qs3 q90 q469) rfl rfl rfl hdS_X0_finding ⟨by decide, by decide⟩) (hw.preV (k := 64) (xp 64) rfl) rfl rfl hl.1 rfl (lv_room (by simp [Value.category])) dX0_odds_28 ⟨Nat.zero_le _, Nat.zero_le _⟩) hw (fun r_28 u_28 H locs e_28 hw => ?_)
    obtain ⟨rfl, rfl⟩ := e_28
    have hw : nS G (xE G ad (xV _ _ _ _) _ _ _) s H locs := hw
    refine lv_i2l hx hb dX0_odds_31 rfl ?_
    exact l_lret hx hb hr hlk hw (by rw [oddsO, if_pos c_4]; exact ⟨rfl, rfl⟩) dX0_odds_32
  · skip
    refine lv_iload_n hx hb dX0_odds_7 rfl (lv_at hl 2 rfl) ?_
    refine lv_iconst (v := 0) hx hb dX0_odds_8 (by decide) ?_
    refine lv_bipush (v := 6) hx hb dX0_odds_9 (by decide) ?_
    refine n_callp (va_runS ⟨hx, hb, hml, hown, hts⟩ (tX_in l _ _ _) (va_cwS 3 hts (lw_S q459 q460 q90 q461) rfl rfl rfl (hdS_X0_in).2 ⟨by decide, by decide⟩) pu_pre rfl rfl hl.1 rfl (lv_room (by simp [Value.category])) dX0_odds_11 ⟨Nat.zero_le _, Nat.zero_le _⟩) (fun r_11 e_11 => ?_)
    subst e_11
    refine lv_if_eq (tgt := 26) hx hb dX0_odds_14 (by decide) (fun c_14 => ?_) (fun c_14 => ?_)
    · skip
      refine lv_aload_n hx hb dX0_odds_26 rfl (lv_at hl 0 rfl) ?_
      refine lv_iconst (v := 0) hx hb dX0_odds_27 (by decide) ?_
      refine n_calli (va_runV ⟨hx, hb, hml, hown, hts⟩ (tL_finding l G ad _ _ _ _ _ _ _ (0) (by decide)) (cwV 1 hts (lw_V q466 q468 qs3 q90 q469) rfl rfl rfl hdS_X0_finding ⟨by decide, by decide⟩) (hw.preV (k := 64) (xp 64) rfl) rfl rfl hl.1 rfl (lv_room (by simp [Value.category])) dX0_odds_28 ⟨Nat.zero_le _, Nat.zero_le _⟩) hw (fun r_28 u_28 H locs e_28 hw => ?_)
      obtain ⟨rfl, rfl⟩ := e_28
      have hw : nS G (xE G ad (xV _ _ _ _) _ _ _) s H locs := hw
      refine lv_i2l hx hb dX0_odds_31 rfl ?_
      exact l_lret hx hb hr hlk hw (by rw [oddsO, if_neg c_4, if_pos c_14]; exact ⟨rfl, rfl⟩) dX0_odds_32
    · skip
      obtain ⟨q, hq, rfl⟩ := in_nat (N := 6) rfl (by decide) c_14
      have iq : ix (nI q) = q := nI_clamp (by omega)
      refine lv_iload_n hx hb dX0_odds_17 rfl (lv_at hl 3 rfl) ?_
      refine lv_iconst (v := 0) hx hb dX0_odds_18 (by decide) ?_
      refine lv_iconst (v := 1) hx hb dX0_odds_19 (by decide) ?_
      refine n_callp (va_runS ⟨hx, hb, hml, hown, hts⟩ (tX_in l _ _ _) (va_cwS 3 hts (lw_S q459 q460 q90 q461) rfl rfl rfl (hdS_X0_in).2 ⟨by decide, by decide⟩) pu_pre rfl rfl hl.1 rfl (lv_room (by simp [Value.category])) dX0_odds_20 ⟨Nat.zero_le _, Nat.zero_le _⟩) (fun r_20 e_20 => ?_)
      subst e_20
      refine lv_if_ne (tgt := 33) hx hb dX0_odds_23 (by decide) (fun c_23 => ?_) (fun c_23 => ?_)
      · skip
        refine lv_aload_n hx hb dX0_odds_33 rfl (lv_at hl 0 rfl) ?_
        refine lv_iload_n hx hb dX0_odds_34 rfl (lv_at hl 1 rfl) ?_
        refine n_callp (va_runV ⟨hx, hb, hml, hown, hts⟩ (tL_callsFor l G ad _ _ _ _ _ _ _ _) (cwV 1 hts (lw_V q952 q954 qs32 q90 q955) rfl rfl rfl hdS_X0_callsFor ⟨by decide, by decide⟩) (hw.preV (k := 64) (xp 64) rfl) rfl rfl hl.1 rfl (lv_room (by simp [Value.category])) dX0_odds_35 ⟨Nat.zero_le _, Nat.zero_le _⟩) (fun r_35 e_35 => ?_)
        subst e_35
        refine n_topE (y := nI a) (by rw [ha]) ?_
        refine lv_istore hx hb dX0_odds_38 hl (by decide) rfl (fun ls hl => ?_)
        refine lv_iload hx hb dX0_odds_40 (lv_at hl 0 rfl) ?_
        refine lv_sipush (v := 1000) hx hb dX0_odds_42 (by decide) ?_
        refine n_callp (va_runS ⟨hx, hb, hml, hown, hts⟩ (tX_divisor l (a) (1000) (by omega) (by omega)) (va_cwS 2 hts (lw_S q956 q957 q90 q958) rfl rfl rfl (hdS_X0_divisor).2 ⟨by decide, by decide⟩) pu_pre rfl rfl hl.1 rfl (lv_room (by simp [Value.category])) dX0_odds_45 ⟨Nat.zero_le _, Nat.zero_le _⟩) (fun r_45 e_45 => ?_)
        subst e_45
        refine lv_istore hx hb dX0_odds_48 hl (by decide) rfl (fun ls hl => ?_)
        refine lv_iload_n hx hb dX0_odds_50 rfl (lv_at hl 5 rfl) ?_
        refine n_join1 (fun r => r = (if y = 0 then nI a else 1000)) 62 (fun v_51 hv_51 => ?_) (fun hj_51 => ?_)
        · skip
          subst hv_51
          refine lv_iload hx hb dX0_odds_62 (lv_at hl 0 rfl) ?_
          refine lv_idiv hx hb dX0_odds_64 (nI_ne0 hg0 (by omega)) ?_
          refine lv_istore hx hb dX0_odds_65 hl (by decide) rfl (fun ls hl => ?_)
          refine lv_lconst (v := 1) hx hb dX0_odds_67 (by decide) ?_
          refine lv_lstore hx hb dX0_odds_68 hl (by decide) rfl (fun ls hl => ?_)
          refine lv_iconst (v := 0) hx hb dX0_odds_70 (by decide) ?_
          refine lv_istore hx hb dX0_odds_71 hl (by decide) rfl (fun ls hl => ?_)
          refine n_loopR (α := Nat) (fun k ls => k ≤ q ∧ lv_has ls 10 [(2, .int (nI q)), (6, .int ((if y = 0 then nI a else 1000) / nI (Nat.gcd a 1000))), (7, .long (powF (oddsX a y) k)), (9, .int (nI k))]) (fun k => q - k) 73 ?_ 0 _ ⟨Nat.zero_le _, (lv_sub hl [7, 2, 1, 0] rfl)⟩
          clear hl
          intro k ls hI ih_73
          obtain ⟨hk, hl⟩ := hI
          refine lv_iload hx hb dX0_odds_73 (lv_at hl 3 rfl) ?_
          refine lv_iload_n hx hb dX0_odds_75 rfl (lv_at hl 0 rfl) ?_
          refine lv_icmp_ge (tgt := 93) hx hb dX0_odds_76 (by decide) (fun c_76 => ?_) (fun c_76 => ?_)
          · skip
            have n_76 : q ≤ k := (nI_leI (a := q) (b := k) (by omega) (by omega)).mp c_76
            obtain rfl : k = q := by omega
            refine lv_lload hx hb dX0_odds_93 (lv_at hl 2 rfl) ?_
            exact l_lret hx hb hr hlk hw (by rw [oddsO, if_neg c_4, if_neg c_14, if_neg c_23, ha, iq]; exact ⟨rfl, rfl⟩) dX0_odds_95
          · skip
            have n_76 : ¬ q ≤ k := fun h => c_76 ((nI_leI (a := q) (b := k) (by omega) (by omega)).mpr h)
            refine lv_lload hx hb dX0_odds_79 (lv_at hl 2 rfl) ?_
            refine lv_iload hx hb dX0_odds_81 (lv_at hl 1 rfl) ?_
            refine lv_i2l hx hb dX0_odds_83 rfl ?_
            refine lv_lmul hx hb dX0_odds_84 ?_
            refine lv_lstore hx hb dX0_odds_85 hl (by decide) rfl (fun ls hl => ?_)
            refine lv_iinc (v := nI (k + 1)) hx hb dX0_odds_87 hl (k := 3) rfl (nI_1 _) (by decide) rfl (fun ls hl => ?_)
            refine lv_goto (tgt := 73) hx hb dX0_odds_90 (by decide) ?_
            exact ih_73 (k + 1) _ (by first | omega | (dsimp only; omega)) ⟨by omega, by rw [powF]; rw [show oddsX a y = ((if y = 0 then nI a else 1000) / nI (Nat.gcd a 1000)).toInt64 by rw [oddsX, Nat.gcd_comm]] at hl ⊢; exact (lv_sub hl [2, 3, 1, 0] rfl)⟩
        · skip
          refine lv_if_ne (tgt := 59) hx hb dX0_odds_51 (by decide) (fun c_51 => ?_) (fun c_51 => ?_)
          · skip
            refine lv_sipush (v := 1000) hx hb dX0_odds_59 (by decide) ?_
            exact hj_51 _ (by rw [if_neg c_51])
          · skip
            refine lv_iload hx hb dX0_odds_54 (lv_at hl 1 rfl) ?_
            refine lv_goto (tgt := 62) hx hb dX0_odds_56 (by decide) ?_
            exact hj_51 _ (by rw [if_pos c_51])
      · skip
        refine lv_aload_n hx hb dX0_odds_26 rfl (lv_at hl 0 rfl) ?_
        refine lv_iconst (v := 0) hx hb dX0_odds_27 (by decide) ?_
        refine n_calli (va_runV ⟨hx, hb, hml, hown, hts⟩ (tL_finding l G ad _ _ _ _ _ _ _ (0) (by decide)) (cwV 1 hts (lw_V q466 q468 qs3 q90 q469) rfl rfl rfl hdS_X0_finding ⟨by decide, by decide⟩) (hw.preV (k := 64) (xp 64) rfl) rfl rfl hl.1 rfl (lv_room (by simp [Value.category])) dX0_odds_28 ⟨Nat.zero_le _, Nat.zero_le _⟩) hw (fun r_28 u_28 H locs e_28 hw => ?_)
        obtain ⟨rfl, rfl⟩ := e_28
        have hw : nS G (xE G ad (xV _ _ _ _) _ _ _) s H locs := hw
        refine lv_i2l hx hb dX0_odds_31 rfl ?_
        exact l_lret hx hb hr hlk hw (by rw [oddsO, if_neg c_4, if_neg c_14, if_pos c_23]; exact ⟨rfl, rfl⟩) dX0_odds_32
theorem hdS_X0_holding : yX0_holding.cls = "LineCalls" ∧ yX0_holding.cls ≠ "java/lang/invoke/MethodHandle" ∧ yX0_holding.cls ≠ "java/lang/invoke/VarHandle" ∧ (parseMethodDescriptor yX0_holding.desc).map (fun d => d.parameters.length) = some 0 := by decide +kernel
set_option maxHeartbeats 4000000 in
theorem tL_holding (l : Launch) (G : nG) (ad : Nat → Nat) (w w1 w2 w3 : rw84) (X : mM) (sp : xSp) (sh : xSh) (B : Nat) (hI : Inv B w) : Met l yX0_holding (ws_ yX0_holding cX0_holding 6 (some .int)) { frames := 0, cells := 0, slots := 0, locals := 0 } (va_Pc [.ref (ad 64)] (nC G (xE G ad (xV w w1 w2 w3) X sp sh))) (vp_Si (fun r => r = heldF w 10)) 0 0 (fun _ => False) := by
  refine n_head (by decide) (Nat.le_of_ble_eq_true rfl) ?_
  intro p e s m below meth c ls hx hb hr hlk hml hown hts hB0 hl
  have hown : s.vm.findClass "LineCalls" = some m.cls := hown
  have hw := nS.start hB0
  have hl : lv_has ls 6 [(0, .ref (ad 64))] := hl
  refine lv_iconst (v := 0) hx hb dX0_holding_0 (by decide) ?_
  refine lv_istore_n hx hb dX0_holding_1 rfl hl (by decide) rfl (fun ls hl => ?_)
  refine lv_aload_n hx hb dX0_holding_2 rfl (lv_at hl 1 rfl) ?_
  refine n_get (k := 64) hx hb hts in_X0 hown hw (xp 64) rfl 3 (by decide) q418 rfl dX0_holding_3 ?_
  refine n_getN (k := 16 * 0 + 0) hx hb hts in_X4 hown hw (xv0 0) rfl 9 (by decide) q250 rfl dX0_holding_6 ?_
  refine lv_astore_n hx hb dX0_holding_9 rfl hl (by decide) rfl (fun ls hl => ?_)
  refine lv_aload_n hx hb dX0_holding_10 rfl (lv_at hl 0 rfl) ?_
  refine n_alen (k := 16 * 0 + 13) (t := 0) hx hb hw (xv0 13) (by decide) dX0_holding_11 ?_
  refine lv_istore_n hx hb dX0_holding_12 rfl hl (by decide) rfl (fun ls hl => ?_)
  refine lv_iconst (v := 0) hx hb dX0_holding_13 (by decide) ?_
  refine lv_istore hx hb dX0_holding_14 hl (by decide) rfl (fun ls hl => ?_)
  refine n_loopR (α := Nat) (fun q ls => q ≤ 10 ∧ lv_has ls 6 [(1, .int (heldF w q)), (2, .ref (ad (16 * 0 + 13))), (3, .int (nI 10)), (4, .int (nI q))]) (fun q => 10 - q) 16 ?_ 0 _ ⟨Nat.zero_le _, (lv_sub hl [3, 2, 1, 0] rfl)⟩
  clear hl
  intro q ls hI ih_16
  obtain ⟨hq, hl⟩ := hI
  refine lv_iload hx hb dX0_holding_16 (lv_at hl 3 rfl) ?_
  refine lv_iload_n hx hb dX0_holding_18 rfl (lv_at hl 2 rfl) ?_
  refine lv_icmp_ge (tgt := 48) hx hb dX0_holding_19 (by decide) (fun c_19 => ?_) (fun c_19 => ?_)
  · skip
    have n_19 : 10 ≤ q := (nI_leI (a := 10) (b := q) (by omega) (by omega)).mp c_19
    obtain rfl : q = 10 := by omega
    refine lv_iload_n hx hb dX0_holding_48 rfl (lv_at hl 0 rfl) ?_
    exact n_pret hx hb hr hlk rfl rfl dX0_holding_49
  · skip
    have n_19 : ¬ 10 ≤ q := fun h => c_19 ((nI_leI (a := 10) (b := q) (by omega) (by omega)).mpr h)
    refine lv_aload_n hx hb dX0_holding_22 rfl (lv_at hl 1 rfl) ?_
    refine lv_iload hx hb dX0_holding_23 (lv_at hl 3 rfl) ?_
    refine n_iald (k := 16 * 0 + 13) (j := q) hx hb hw (xv0 13) rfl (by omega) (by decide) dX0_holding_25 ?_
    refine lv_istore hx hb dX0_holding_26 hl (by decide) rfl (fun ls hl => ?_)
    refine lv_iload_n hx hb dX0_holding_28 rfl (lv_at hl 1 rfl) ?_
    refine lv_iload hx hb dX0_holding_29 (lv_at hl 0 rfl) ?_
    refine lv_iconst (v := (-1)) hx hb dX0_holding_31 (by decide) ?_
    refine lv_icmp_ne (tgt := 39) hx hb dX0_holding_32 (by decide) (fun c_32 => ?_) (fun c_32 => ?_)
    · skip
      refine lv_iconst (v := 1) hx hb dX0_holding_39 (by decide) ?_
      refine lv_iadd hx hb dX0_holding_40 ?_
      refine lv_istore_n hx hb dX0_holding_41 rfl hl (by decide) rfl (fun ls hl => ?_)
      refine lv_iinc (v := nI (q + 1)) hx hb dX0_holding_42 hl (k := 4) rfl (nI_1 _) (by decide) rfl (fun ls hl => ?_)
      refine lv_goto (tgt := 16) hx hb dX0_holding_45 (by decide) ?_
      exact ih_16 (q + 1) _ (by first | omega | (dsimp only; omega)) ⟨by omega, by rw [(held_s hI (by omega)).2 c_32]; exact (lv_sub hl [1, 3, 4, 0] rfl)⟩
    · skip
      refine lv_iconst (v := 0) hx hb dX0_holding_35 (by decide) ?_
      refine lv_goto (tgt := 40) hx hb dX0_holding_36 (by decide) ?_
      refine lv_iadd hx hb dX0_holding_40 ?_
      refine lv_istore_n hx hb dX0_holding_41 rfl hl (by decide) rfl (fun ls hl => ?_)
      refine lv_iinc (v := nI (q + 1)) hx hb dX0_holding_42 hl (k := 4) rfl (nI_1 _) (by decide) rfl (fun ls hl => ?_)
      refine lv_goto (tgt := 16) hx hb dX0_holding_45 (by decide) ?_
      exact ih_16 (q + 1) _ (by first | omega | (dsimp only; omega)) ⟨by omega, by rw [(held_s hI (by omega)).1 c_32]; exact (lv_sub hl [1, 3, 4, 0] rfl)⟩
theorem hdS_X0_count : yX0_count.cls = "LineCalls" ∧ yX0_count.cls ≠ "java/lang/invoke/MethodHandle" ∧ yX0_count.cls ≠ "java/lang/invoke/VarHandle" ∧ (parseMethodDescriptor yX0_count.desc).map (fun d => d.parameters.length) = some 1 := by decide +kernel
set_option maxHeartbeats 4000000 in
theorem tL_count (l : Launch) (G : nG) (ad : Nat → Nat) (w w1 w2 w3 : rw84) (X : mM) (sp : xSp) (sh : xSh) (x : Int32) (B : Nat) (hI : Inv B w) (hB : B ≤ 100000) : Met l yX0_count (ws_ yX0_count cX0_count 2 (some .int)) { frames := 1, cells := 0, slots := 0, locals := 25 } (va_Pc [.ref (ad 64), .int x] (nC G (xE G ad (xV w w1 w2 w3) X sp sh))) (va_Qi (fun (r : Int32) (u : xSt) => r = (countO w (X 2 0) x).1 ∧ u = ((countO w (X 2 0) x).2.1, w1, w2, w3, xfnd (countO w (X 2 0) x).2.2 X, sp, sh)) (fun u => nC G (xE G ad (xV u.1 u.2.1 u.2.2.1 u.2.2.2.1) u.2.2.2.2.1 u.2.2.2.2.2.1 u.2.2.2.2.2.2)) (nA G)) 0 0 (nA G) := by
  refine n_head (by decide) (Nat.le_of_ble_eq_true rfl) ?_
  intro p e s m below meth c ls hx hb hr hlk hml hown hts hB0 hl
  have hown : s.vm.findClass "LineCalls" = some m.cls := hown
  have hw := nS.start hB0
  have hl : lv_has ls 2 [(0, .ref (ad 64)), (1, .int x)] := hl
  obtain ⟨n, hn, en⟩ := hI.num
  have iw : ix (w 1) = n := by rw [en]; exact nI_clamp (by omega)
  refine lv_iload_n hx hb dX0_count_0 rfl (lv_at hl 1 rfl) ?_
  by_cases s_1_0 : x = 0
  · skip
    refine lv_tableIn (tgt := 48) hx hb dX0_count_1 (by rw [s_1_0]; decide) (by rw [s_1_0]; decide) (off := 47) (by rw [s_1_0]; rfl) (by decide) ?_
    refine lv_aload_n hx hb dX0_count_48 rfl (lv_at hl 0 rfl) ?_
    refine n_get (k := 64) hx hb hts in_X0 hown hw (xp 64) rfl 3 (by decide) q418 rfl dX0_count_49 ?_
    refine n_getN (k := 16 * 0 + 0) hx hb hts in_X4 hown hw (xv0 0) rfl 7 (by decide) q246 rfl dX0_count_52 ?_
    exact l_iret hx hb hr hlk rfl hw (by rw [countO, if_pos s_1_0]; first | exact ⟨rfl, rfl⟩ | (rw [iw]; exact ⟨rfl, rfl⟩)) dX0_count_55
  by_cases s_1_1 : x = 1
  · skip
    refine lv_tableIn (tgt := 56) hx hb dX0_count_1 (by rw [s_1_1]; decide) (by rw [s_1_1]; decide) (off := 55) (by rw [s_1_1]; rfl) (by decide) ?_
    refine lv_aload_n hx hb dX0_count_56 rfl (lv_at hl 0 rfl) ?_
    refine n_get (k := 64) hx hb hts in_X0 hown hw (xp 64) rfl 3 (by decide) q418 rfl dX0_count_57 ?_
    refine n_getN (k := 16 * 0 + 0) hx hb hts in_X4 hown hw (xv0 0) rfl 5 (by decide) q239 rfl dX0_count_60 ?_
    exact l_iret hx hb hr hlk rfl hw (by rw [countO, if_neg s_1_0, if_pos s_1_1]; first | exact ⟨rfl, rfl⟩ | (rw [iw]; exact ⟨rfl, rfl⟩)) dX0_count_63
  by_cases s_1_2 : x = 2
  · skip
    refine lv_tableIn (tgt := 64) hx hb dX0_count_1 (by rw [s_1_2]; decide) (by rw [s_1_2]; decide) (off := 63) (by rw [s_1_2]; rfl) (by decide) ?_
    refine lv_aload_n hx hb dX0_count_64 rfl (lv_at hl 0 rfl) ?_
    refine n_get (k := 64) hx hb hts in_X0 hown hw (xp 64) rfl 3 (by decide) q418 rfl dX0_count_65 ?_
    refine n_getN (k := 16 * 0 + 0) hx hb hts in_X4 hown hw (xv0 0) rfl 4 (by decide) q236 rfl dX0_count_68 ?_
    exact l_iret hx hb hr hlk rfl hw (by rw [countO, if_neg s_1_0, if_neg s_1_1, if_pos s_1_2]; first | exact ⟨rfl, rfl⟩ | (rw [iw]; exact ⟨rfl, rfl⟩)) dX0_count_71
  by_cases s_1_3 : x = 3
  · skip
    refine lv_tableIn (tgt := 72) hx hb dX0_count_1 (by rw [s_1_3]; decide) (by rw [s_1_3]; decide) (off := 71) (by rw [s_1_3]; rfl) (by decide) ?_
    refine lv_aload_n hx hb dX0_count_72 rfl (lv_at hl 0 rfl) ?_
    refine n_get (k := 64) hx hb hts in_X0 hown hw (xp 64) rfl 3 (by decide) q418 rfl dX0_count_73 ?_
    refine lv_iconst (v := 3) hx hb dX0_count_76 (by decide) ?_
    refine n_callp (va_runV ⟨hx, hb, hml, hown, hts⟩ (tX4_sumOf l G ad _ _ _ _ 0 (by decide) _ (xV_at0 _ _ _ _) 3 n (by decide) hn en) (cwV 1 hts (lw_V q750 q751 q752 q97 q753) rfl rfl rfl hdS_X4_sumOf ⟨by decide, by decide⟩) (hw.preV (k := 16 * 0 + 0) (xv0 0) rfl) rfl rfl hl.1 rfl (lv_room (by simp [Value.category])) dX0_count_77 ⟨Nat.zero_le _, Nat.zero_le _⟩) (fun r_77 e_77 => ?_)
    subst e_77
    exact l_iret hx hb hr hlk rfl hw (by rw [countO, if_neg s_1_0, if_neg s_1_1, if_neg s_1_2, if_pos s_1_3]; first | exact ⟨rfl, rfl⟩ | (rw [iw]; exact ⟨rfl, rfl⟩)) dX0_count_80
  by_cases s_1_4 : x = 4
  · skip
    refine lv_tableIn (tgt := 81) hx hb dX0_count_1 (by rw [s_1_4]; decide) (by rw [s_1_4]; decide) (off := 80) (by rw [s_1_4]; rfl) (by decide) ?_
    refine lv_aload_n hx hb dX0_count_81 rfl (lv_at hl 0 rfl) ?_
    refine n_get (k := 64) hx hb hts in_X0 hown hw (xp 64) rfl 3 (by decide) q418 rfl dX0_count_82 ?_
    refine lv_iconst (v := 4) hx hb dX0_count_85 (by decide) ?_
    refine n_callp (va_runV ⟨hx, hb, hml, hown, hts⟩ (tX4_sumOf l G ad _ _ _ _ 0 (by decide) _ (xV_at0 _ _ _ _) 4 n (by decide) hn en) (cwV 1 hts (lw_V q750 q751 q752 q97 q753) rfl rfl rfl hdS_X4_sumOf ⟨by decide, by decide⟩) (hw.preV (k := 16 * 0 + 0) (xv0 0) rfl) rfl rfl hl.1 rfl (lv_room (by simp [Value.category])) dX0_count_86 ⟨Nat.zero_le _, Nat.zero_le _⟩) (fun r_86 e_86 => ?_)
    subst e_86
    exact l_iret hx hb hr hlk rfl hw (by rw [countO, if_neg s_1_0, if_neg s_1_1, if_neg s_1_2, if_neg s_1_3, if_pos s_1_4]; first | exact ⟨rfl, rfl⟩ | (rw [iw]; exact ⟨rfl, rfl⟩)) dX0_count_89
  by_cases s_1_5 : x = 5
  · skip
    refine lv_tableIn (tgt := 90) hx hb dX0_count_1 (by rw [s_1_5]; decide) (by rw [s_1_5]; decide) (off := 89) (by rw [s_1_5]; rfl) (by decide) ?_
    refine lv_aload_n hx hb dX0_count_90 rfl (lv_at hl 0 rfl) ?_
    refine n_get (k := 64) hx hb hts in_X0 hown hw (xp 64) rfl 2 (by decide) q412 rfl dX0_count_91 ?_
    exact l_iret hx hb hr hlk rfl hw (by rw [countO, if_neg s_1_0, if_neg s_1_1, if_neg s_1_2, if_neg s_1_3, if_neg s_1_4, if_pos s_1_5]; first | exact ⟨rfl, rfl⟩ | (rw [iw]; exact ⟨rfl, rfl⟩)) dX0_count_94
  by_cases s_1_6 : x = 6
  · skip
    refine lv_tableIn (tgt := 95) hx hb dX0_count_1 (by rw [s_1_6]; decide) (by rw [s_1_6]; decide) (off := 94) (by rw [s_1_6]; rfl) (by decide) ?_
    refine lv_aload_n hx hb dX0_count_95 rfl (lv_at hl 0 rfl) ?_
    refine n_get (k := 64) hx hb hts in_X0 hown hw (xp 64) rfl 3 (by decide) q418 rfl dX0_count_96 ?_
    refine n_getN (k := 16 * 0 + 0) hx hb hts in_X4 hown hw (xv0 0) rfl 8 (by decide) q248 rfl dX0_count_99 ?_
    exact l_iret hx hb hr hlk rfl hw (by rw [countO, if_neg s_1_0, if_neg s_1_1, if_neg s_1_2, if_neg s_1_3, if_neg s_1_4, if_neg s_1_5, if_pos s_1_6]; first | exact ⟨rfl, rfl⟩ | (rw [iw]; exact ⟨rfl, rfl⟩)) dX0_count_102
  by_cases s_1_7 : x = 7
  · skip
    refine lv_tableIn (tgt := 103) hx hb dX0_count_1 (by rw [s_1_7]; decide) (by rw [s_1_7]; decide) (off := 102) (by rw [s_1_7]; rfl) (by decide) ?_
    refine lv_aload_n hx hb dX0_count_103 rfl (lv_at hl 0 rfl) ?_
    refine n_callp (va_runV ⟨hx, hb, hml, hown, hts⟩ (tL_holding l G ad _ _ _ _ _ _ _ B hI) (cwV 0 hts (lw_V q1175 q1177 qs49 q90 q1178) rfl rfl rfl hdS_X0_holding ⟨by decide, by decide⟩) (hw.preV (k := 64) (xp 64) rfl) rfl rfl hl.1 rfl (lv_room (by simp [Value.category])) dX0_count_104 ⟨Nat.zero_le _, Nat.zero_le _⟩) (fun r_104 e_104 => ?_)
    subst e_104
    exact l_iret hx hb hr hlk rfl hw (by rw [countO, if_neg s_1_0, if_neg s_1_1, if_neg s_1_2, if_neg s_1_3, if_neg s_1_4, if_neg s_1_5, if_neg s_1_6, if_pos s_1_7]; first | exact ⟨rfl, rfl⟩ | (rw [iw]; exact ⟨rfl, rfl⟩)) dX0_count_107
  refine lv_tableOut (tgt := 108) hx hb dX0_count_1 (by have a_0 := ne_ti (k := 0) s_1_0 (by decide); have a_1 := ne_ti (k := 1) s_1_1 (by decide); have a_2 := ne_ti (k := 2) s_1_2 (by decide); have a_3 := ne_ti (k := 3) s_1_3 (by decide); have a_4 := ne_ti (k := 4) s_1_4 (by decide); have a_5 := ne_ti (k := 5) s_1_5 (by decide); have a_6 := ne_ti (k := 6) s_1_6 (by decide); have a_7 := ne_ti (k := 7) s_1_7 (by decide); omega) (by decide) ?_
  refine lv_aload_n hx hb dX0_count_108 rfl (lv_at hl 0 rfl) ?_
  refine lv_iconst (v := 0) hx hb dX0_count_109 (by decide) ?_
  refine n_calli (va_runV ⟨hx, hb, hml, hown, hts⟩ (tL_finding l G ad _ _ _ _ _ _ _ (0) (by decide)) (cwV 1 hts (lw_V q466 q468 qs3 q90 q469) rfl rfl rfl hdS_X0_finding ⟨by decide, by decide⟩) (hw.preV (k := 64) (xp 64) rfl) rfl rfl hl.1 rfl (lv_room (by simp [Value.category])) dX0_count_110 ⟨Nat.zero_le _, Nat.zero_le _⟩) hw (fun r_110 u_110 H locs e_110 hw => ?_)
  obtain ⟨rfl, rfl⟩ := e_110
  have hw : nS G (xE G ad (xV _ _ _ _) _ _ _) s H locs := hw
  exact l_iret hx hb hr hlk rfl hw (by rw [countO, if_neg s_1_0, if_neg s_1_1, if_neg s_1_2, if_neg s_1_3, if_neg s_1_4, if_neg s_1_5, if_neg s_1_6, if_neg s_1_7]; first | exact ⟨rfl, rfl⟩ | (rw [iw]; exact ⟨rfl, rfl⟩)) dX0_count_113
theorem hdS_X0_status : yX0_status.cls = "LineCalls" ∧ yX0_status.cls ≠ "java/lang/invoke/MethodHandle" ∧ yX0_status.cls ≠ "java/lang/invoke/VarHandle" ∧ (parseMethodDescriptor yX0_status.desc).map (fun d => d.parameters.length) = some 1 := by decide +kernel
set_option maxHeartbeats 4000000 in
theorem tL_status (l : Launch) (G : nG) (ad : Nat → Nat) (w w1 w2 w3 : rw84) (X : mM) (sp : xSp) (sh : xSh) (x : Int32) : Met l yX0_status (ws_ yX0_status cX0_status 4 (some .int)) { frames := 1, cells := 0, slots := 0, locals := 22 } (va_Pc [.ref (ad 64), .int x] (nC G (xE G ad (xV w w1 w2 w3) X sp sh))) (va_Qi (fun (r : Int32) (u : xSt) => r = (if inF x (-1) 6 = 0 then -1000001 else stS (X 10) x 7) ∧ u = (w, w1, w2, w3, (if inF x (-1) 6 = 0 then xfnd (some 0) X else X), sp, sh)) (fun u => nC G (xE G ad (xV u.1 u.2.1 u.2.2.1 u.2.2.2.1) u.2.2.2.2.1 u.2.2.2.2.2.1 u.2.2.2.2.2.2)) (nA G)) 0 0 (nA G) := by
  refine n_head (by decide) (Nat.le_of_ble_eq_true rfl) ?_
  intro p e s m below meth c ls hx hb hr hlk hml hown hts hB0 hl
  have hown : s.vm.findClass "LineCalls" = some m.cls := hown
  have hw := nS.start hB0
  have hl : lv_has ls 4 [(0, .ref (ad 64)), (1, .int x)] := hl
  refine lv_iload_n hx hb dX0_status_0 rfl (lv_at hl 1 rfl) ?_
  refine lv_iconst (v := (-1)) hx hb dX0_status_1 (by decide) ?_
  refine lv_bipush (v := 6) hx hb dX0_status_2 (by decide) ?_
  refine n_callp (va_runS ⟨hx, hb, hml, hown, hts⟩ (tX_in l _ _ _) (va_cwS 3 hts (lw_S q459 q460 q90 q461) rfl rfl rfl (hdS_X0_in).2 ⟨by decide, by decide⟩) pu_pre rfl rfl hl.1 rfl (lv_room (by simp [Value.category])) dX0_status_4 ⟨Nat.zero_le _, Nat.zero_le _⟩) (fun r_4 e_4 => ?_)
  subst e_4
  refine lv_if_ne (tgt := 16) hx hb dX0_status_7 (by decide) (fun c_7 => ?_) (fun c_7 => ?_)
  · skip
    refine lv_iconst (v := 0) hx hb dX0_status_16 (by decide) ?_
    refine lv_istore_n hx hb dX0_status_17 rfl hl (by decide) rfl (fun ls hl => ?_)
    refine lv_iconst (v := 0) hx hb dX0_status_18 (by decide) ?_
    refine lv_istore_n hx hb dX0_status_19 rfl hl (by decide) rfl (fun ls hl => ?_)
    refine n_loopR (α := Nat) (fun q ls => q ≤ 7 ∧ lv_has ls 4 [(0, .ref (ad 64)), (1, .int x), (2, .int (stS (X 10) x q)), (3, .int (nI q))]) (fun q => 7 - q) 20 ?_ 0 _ ⟨Nat.zero_le _, (lv_sub hl [2, 3, 1, 0] rfl)⟩
    clear hl
    intro q ls hI ih_20
    obtain ⟨hq, hl⟩ := hI
    refine lv_iload_n hx hb dX0_status_20 rfl (lv_at hl 3 rfl) ?_
    refine lv_aload_n hx hb dX0_status_21 rfl (lv_at hl 0 rfl) ?_
    refine n_get (k := 64) hx hb hts in_X0 hown hw (xp 64) rfl 10 (by decide) q425 rfl dX0_status_22 ?_
    refine n_alen (k := 72) (t := 0) hx hb hw (xp 72) (by decide) dX0_status_25 ?_
    refine lv_icmp_ge (tgt := 58) hx hb dX0_status_26 (by decide) (fun c_26 => ?_) (fun c_26 => ?_)
    · skip
      have n_26 : 7 ≤ q := (nI_leI (a := 7) (b := q) (by omega) (by omega)).mp c_26
      obtain rfl : q = 7 := by omega
      refine lv_iload_n hx hb dX0_status_58 rfl (lv_at hl 2 rfl) ?_
      exact l_iret hx hb hr hlk rfl hw (by rw [if_neg c_7, if_neg c_7]; exact ⟨rfl, rfl⟩) dX0_status_59
    · skip
      have n_26 : ¬ 7 ≤ q := fun h => c_26 ((nI_leI (a := 7) (b := q) (by omega) (by omega)).mpr h)
      refine lv_iload_n hx hb dX0_status_29 rfl (lv_at hl 2 rfl) ?_
      refine lv_iload_n hx hb dX0_status_30 rfl (lv_at hl 1 rfl) ?_
      refine lv_iconst (v := (-1)) hx hb dX0_status_31 (by decide) ?_
      refine lv_icmp_eq (tgt := 40) hx hb dX0_status_32 (by decide) (fun c_32 => ?_) (fun c_32 => ?_)
      · skip
        refine lv_aload_n hx hb dX0_status_40 rfl (lv_at hl 0 rfl) ?_
        refine n_get (k := 64) hx hb hts in_X0 hown hw (xp 64) rfl 10 (by decide) q425 rfl dX0_status_41 ?_
        refine lv_iload_n hx hb dX0_status_44 rfl (lv_at hl 3 rfl) ?_
        refine n_iald (k := 72) (j := q) hx hb hw (xp 72) rfl (by omega) (by decide) dX0_status_45 ?_
        refine lv_goto (tgt := 50) hx hb dX0_status_46 (by decide) ?_
        refine lv_iadd hx hb dX0_status_50 ?_
        refine lv_istore_n hx hb dX0_status_51 rfl hl (by decide) rfl (fun ls hl => ?_)
        refine lv_iinc (v := nI (q + 1)) hx hb dX0_status_52 hl (k := 3) rfl (nI_1 _) (by decide) rfl (fun ls hl => ?_)
        refine lv_goto (tgt := 20) hx hb dX0_status_55 (by decide) ?_
        exact ih_20 (q + 1) _ (by first | omega | (dsimp only; omega)) ⟨by omega, by rw [stS, if_pos c_32]; exact (lv_sub hl [2, 3, 1, 0] rfl)⟩
      · skip
        refine lv_iload_n hx hb dX0_status_35 rfl (lv_at hl 1 rfl) ?_
        refine lv_iload_n hx hb dX0_status_36 rfl (lv_at hl 3 rfl) ?_
        refine lv_icmp_ne (tgt := 49) hx hb dX0_status_37 (by decide) (fun c_37 => ?_) (fun c_37 => ?_)
        · skip
          refine lv_iconst (v := 0) hx hb dX0_status_49 (by decide) ?_
          refine lv_iadd hx hb dX0_status_50 ?_
          refine lv_istore_n hx hb dX0_status_51 rfl hl (by decide) rfl (fun ls hl => ?_)
          refine lv_iinc (v := nI (q + 1)) hx hb dX0_status_52 hl (k := 3) rfl (nI_1 _) (by decide) rfl (fun ls hl => ?_)
          refine lv_goto (tgt := 20) hx hb dX0_status_55 (by decide) ?_
          exact ih_20 (q + 1) _ (by first | omega | (dsimp only; omega)) ⟨by omega, by rw [stS, if_neg c_32, if_neg c_37]; exact (lv_sub hl [2, 3, 1, 0] rfl)⟩
        · skip
          refine lv_aload_n hx hb dX0_status_40 rfl (lv_at hl 0 rfl) ?_
          refine n_get (k := 64) hx hb hts in_X0 hown hw (xp 64) rfl 10 (by decide) q425 rfl dX0_status_41 ?_
          refine lv_iload_n hx hb dX0_status_44 rfl (lv_at hl 3 rfl) ?_
          refine n_iald (k := 72) (j := q) hx hb hw (xp 72) rfl (by omega) (by decide) dX0_status_45 ?_
          refine lv_goto (tgt := 50) hx hb dX0_status_46 (by decide) ?_
          refine lv_iadd hx hb dX0_status_50 ?_
          refine lv_istore_n hx hb dX0_status_51 rfl hl (by decide) rfl (fun ls hl => ?_)
          refine lv_iinc (v := nI (q + 1)) hx hb dX0_status_52 hl (k := 3) rfl (nI_1 _) (by decide) rfl (fun ls hl => ?_)
          refine lv_goto (tgt := 20) hx hb dX0_status_55 (by decide) ?_
          exact ih_20 (q + 1) _ (by first | omega | (dsimp only; omega)) ⟨by omega, by rw [stS, if_neg c_32, if_pos c_37]; exact (lv_sub hl [2, 3, 1, 0] rfl)⟩
  · skip
    refine lv_aload_n hx hb dX0_status_10 rfl (lv_at hl 0 rfl) ?_
    refine lv_iconst (v := 0) hx hb dX0_status_11 (by decide) ?_
    refine n_calli (va_runV ⟨hx, hb, hml, hown, hts⟩ (tL_finding l G ad _ _ _ _ _ _ _ (0) (by decide)) (cwV 1 hts (lw_V q466 q468 qs3 q90 q469) rfl rfl rfl hdS_X0_finding ⟨by decide, by decide⟩) (hw.preV (k := 64) (xp 64) rfl) rfl rfl hl.1 rfl (lv_room (by simp [Value.category])) dX0_status_12 ⟨Nat.zero_le _, Nat.zero_le _⟩) hw (fun r_12 u_12 H locs e_12 hw => ?_)
    obtain ⟨rfl, rfl⟩ := e_12
    have hw : nS G (xE G ad (xV _ _ _ _) _ _ _) s H locs := hw
    exact l_iret hx hb hr hlk rfl hw (by rw [if_pos c_7, if_pos c_7]; exact ⟨rfl, rfl⟩) dX0_status_15
theorem hdS_X0_feed : yX0_feed.cls = "LineCalls" ∧ yX0_feed.cls ≠ "java/lang/invoke/MethodHandle" ∧ yX0_feed.cls ≠ "java/lang/invoke/VarHandle" ∧ (parseMethodDescriptor yX0_feed.desc).map (fun d => d.parameters.length) = some 2 := by decide +kernel
set_option maxHeartbeats 4000000 in
theorem tL_feed (l : Launch) (G : nG) (ad : Nat → Nat) (w w1 w2 w3 : rw84) (X : mM) (sp : xSp) (sh : xSh) (b x : Int32) (a : Nat) (ha : a ≤ 120) (ea : X 2 0 = nI a) : Met l yX0_feed (ws_ yX0_feed cX0_feed 4 (some .int)) { frames := 1, cells := 0, slots := 0, locals := 22 } (va_Pc [.ref (ad 64), .int b, .int x] (nC G (xE G ad (xV w w1 w2 w3) X sp sh))) (va_Qi (fun (r : Int32) (u : xSt) => r = (feedX (X 31) (X 2 0) b x).1 ∧ u = (w, w1, w2, w3, xfnd (feedX (X 31) (X 2 0) b x).2.1 (fdY X (feedX (X 31) (X 2 0) b x).2.2.1 (feedX (X 31) (X 2 0) b x).2.2.2), sp, sh)) (fun u => nC G (xE G ad (xV u.1 u.2.1 u.2.2.1 u.2.2.2.1) u.2.2.2.2.1 u.2.2.2.2.2.1 u.2.2.2.2.2.2)) (nA G)) 0 0 (nA G) := by
  refine n_head (by decide) (Nat.le_of_ble_eq_true rfl) ?_
  intro p e s m below meth c ls hx hb hr hlk hml hown hts hB0 hl
  have hown : s.vm.findClass "LineCalls" = some m.cls := hown
  have hw := nS.start hB0
  have hl : lv_has ls 4 [(0, .ref (ad 64)), (1, .int b), (2, .int x)] := hl
  have ia : ix (X 2 0) = a := by rw [ea]; exact nI_clamp (by omega)
  refine lv_iload_n hx hb dX0_feed_0 rfl (lv_at hl 2 rfl) ?_
  refine lv_iconst (v := 1) hx hb dX0_feed_1 (by decide) ?_
  refine lv_iconst (v := 4) hx hb dX0_feed_2 (by decide) ?_
  refine n_callp (va_runS ⟨hx, hb, hml, hown, hts⟩ (tX_in l _ _ _) (va_cwS 3 hts (lw_S q459 q460 q90 q461) rfl rfl rfl (hdS_X0_in).2 ⟨by decide, by decide⟩) pu_pre rfl rfl hl.1 rfl (lv_room (by simp [Value.category])) dX0_feed_3 ⟨Nat.zero_le _, Nat.zero_le _⟩) (fun r_3 e_3 => ?_)
  subst e_3
  refine lv_if_ne (tgt := 15) hx hb dX0_feed_6 (by decide) (fun c_6 => ?_) (fun c_6 => ?_)
  · skip
    obtain ⟨q, h1q, hq, rfl⟩ := in_nat1 (N := 4) rfl (by decide) c_6
    have iq : ix (nI q) = q := nI_clamp (by omega)
    refine lv_aload_n hx hb dX0_feed_15 rfl (lv_at hl 0 rfl) ?_
    refine n_get (k := 64) hx hb hts in_X0 hown hw (xp 64) rfl 2 (by decide) q412 rfl dX0_feed_16 ?_
    refine lv_iload_n hx hb dX0_feed_19 rfl (lv_at hl 2 rfl) ?_
    refine lv_iadd hx hb dX0_feed_20 ?_
    refine lv_bipush (v := 120) hx hb dX0_feed_21 (by decide) ?_
    refine lv_icmp_le (tgt := 32) hx hb dX0_feed_23 (by decide) (fun c_23 => ?_) (fun c_23 => ?_)
    · skip
      have haq : a + q ≤ 120 := by (have z := c_23; rw [ea, nI_add] at z; exact (nI_leI (a := a + q) (b := 120) (by omega) (by omega)).mp z)
      refine lv_iload_n hx hb dX0_feed_32 rfl (lv_at hl 2 rfl) ?_
      refine lv_iconst (v := 1) hx hb dX0_feed_33 (by decide) ?_
      refine lv_isub hx hb dX0_feed_34 ?_
      refine n_topE (y := dw (q - 1) 0) (by rw [dw_at (Nat.zero_le _)]; exact (show nI q - 1 = nI (q - 1 - 0) by rw [show q = q - 1 + 1 by omega, nI_pred]; rfl)) ?_
      refine lv_istore_n hx hb dX0_feed_35 rfl hl (by decide) rfl (fun ls hl => ?_)
      refine n_loop (α := Nat) (fun k H locs ls => k ≤ q ∧ nS G (xE G ad (xV w w1 w2 w3) (fdY X (fdX (X 31) a b q k) (nI (a + k))) sp sh) s H locs ∧ lv_has ls 4 [(0, .ref (ad 64)), (1, .int b), (2, .int (nI q)), (3, .int (dw (q - 1) k))]) (fun k => q - k) 36 ?_ 0 _ _ _ ⟨Nat.zero_le _, by rw [show fdX (X 31) a b q 0 = X 31 from rfl, Nat.add_zero, fdY_init ea]; exact hw, (lv_sub hl [1, 2, 3, 0] rfl)⟩
      clear hl hw
      intro k H locs ls hI ih_36
      obtain ⟨hk, hw, hl⟩ := hI
      refine lv_iload_n hx hb dX0_feed_36 rfl (lv_at hl 3 rfl) ?_
      refine lv_if_lt (tgt := 75) hx hb dX0_feed_37 (by decide) (fun c_37 => ?_) (fun c_37 => ?_)
      · skip
        have hy := dw_neg (by omega) c_37
        obtain rfl : k = q := by omega
        refine lv_aload_n hx hb dX0_feed_75 rfl (lv_at hl 0 rfl) ?_
        refine n_get (k := 64) hx hb hts in_X0 hown hw (xp 64) rfl 2 (by decide) q412 rfl dX0_feed_76 ?_
        exact l_iret hx hb hr hlk rfl hw (by rw [feedX, if_neg c_6, if_pos c_23, ia, iq]; exact ⟨rfl, rfl⟩) dX0_feed_79
      · skip
        have hy := dw_pos c_37
        refine lv_aload_n hx hb dX0_feed_40 rfl (lv_at hl 0 rfl) ?_
        refine n_get (k := 64) hx hb hts in_X0 hown hw (xp 64) rfl 1 (by decide) q411 rfl dX0_feed_41 ?_
        refine n_getN (k := 66) hx hb hts in_X2 hown hw (xp 66) rfl 1 (by decide) q276 rfl dX0_feed_44 ?_
        refine lv_aload_n hx hb dX0_feed_47 rfl (lv_at hl 0 rfl) ?_
        refine n_get (k := 64) hx hb hts in_X0 hown hw (xp 64) rfl 2 (by decide) q412 rfl dX0_feed_48 ?_
        refine n_topE (y := nI (a + k)) rfl ?_
        refine lv_iload_n hx hb dX0_feed_51 rfl (lv_at hl 1 rfl) ?_
        refine lv_bipush (v := 8) hx hb dX0_feed_52 (by decide) ?_
        refine lv_iload_n hx hb dX0_feed_54 rfl (lv_at hl 3 rfl) ?_
        refine n_topE (dw_at hy) ?_
        refine lv_imul hx hb dX0_feed_55 ?_
        refine n_topE (pk_mul 8 (q - 1 - k)) ?_
        refine lv_ishr hx hb dX0_feed_56 ?_
        refine lv_i2b hx hb dX0_feed_57 rfl ?_
        refine l_tape hx hb hw (q := a + k) rfl (by omega) dX0_feed_58 (fun H locs hw => ?_)
        refine lv_aload_n hx hb dX0_feed_59 rfl (lv_at hl 0 rfl) ?_
        refine lv_dup hx hb dX0_feed_60 rfl ?_
        refine n_get (k := 64) hx hb hts in_X0 hown hw (xp 64) rfl 2 (by decide) q412 rfl dX0_feed_61 ?_
        refine n_topE (y := nI (a + k)) rfl ?_
        refine lv_iconst (v := 1) hx hb dX0_feed_64 (by decide) ?_
        refine lv_iadd hx hb dX0_feed_65 ?_
        refine l_put hx hb hts hown hw 2 (by decide) q412 rfl rfl dX0_feed_66 (fun H locs hw => ?_)
        refine lv_iinc (v := dw (q - 1) (k + 1)) hx hb dX0_feed_69 hl (k := 3) rfl (dw_s hy) (by decide) rfl (fun ls hl => ?_)
        refine lv_goto (tgt := 36) hx hb dX0_feed_72 (by decide) ?_
        exact ih_36 (k + 1) _ _ _ (by first | omega | (dsimp only; omega)) ⟨by omega, by rw [fdX]; rw [fdY_step, b8_b8, nI_1] at hw; exact hw, (lv_sub hl [1, 2, 3, 0] rfl)⟩
    · skip
      refine lv_aload_n hx hb dX0_feed_26 rfl (lv_at hl 0 rfl) ?_
      refine lv_iconst (v := 1) hx hb dX0_feed_27 (by decide) ?_
      refine n_calli (va_runV ⟨hx, hb, hml, hown, hts⟩ (tL_finding l G ad _ _ _ _ _ _ _ (1) (by decide)) (cwV 1 hts (lw_V q466 q468 qs3 q90 q469) rfl rfl rfl hdS_X0_finding ⟨by decide, by decide⟩) (hw.preV (k := 64) (xp 64) rfl) rfl rfl hl.1 rfl (lv_room (by simp [Value.category])) dX0_feed_28 ⟨Nat.zero_le _, Nat.zero_le _⟩) hw (fun r_28 u_28 H locs e_28 hw => ?_)
      obtain ⟨rfl, rfl⟩ := e_28
      have hw : nS G (xE G ad (xV _ _ _ _) _ _ _) s H locs := hw
      exact l_iret hx hb hr hlk rfl hw (by rw [feedX, if_neg c_6, if_neg c_23, fdY_init rfl]; exact ⟨rfl, rfl⟩) dX0_feed_31
  · skip
    refine lv_aload_n hx hb dX0_feed_9 rfl (lv_at hl 0 rfl) ?_
    refine lv_iconst (v := 0) hx hb dX0_feed_10 (by decide) ?_
    refine n_calli (va_runV ⟨hx, hb, hml, hown, hts⟩ (tL_finding l G ad _ _ _ _ _ _ _ (0) (by decide)) (cwV 1 hts (lw_V q466 q468 qs3 q90 q469) rfl rfl rfl hdS_X0_finding ⟨by decide, by decide⟩) (hw.preV (k := 64) (xp 64) rfl) rfl rfl hl.1 rfl (lv_room (by simp [Value.category])) dX0_feed_11 ⟨Nat.zero_le _, Nat.zero_le _⟩) hw (fun r_11 u_11 H locs e_11 hw => ?_)
    obtain ⟨rfl, rfl⟩ := e_11
    have hw : nS G (xE G ad (xV _ _ _ _) _ _ _) s H locs := hw
    exact l_iret hx hb hr hlk rfl hw (by rw [feedX, if_pos c_6, fdY_init rfl]; exact ⟨rfl, rfl⟩) dX0_feed_14
