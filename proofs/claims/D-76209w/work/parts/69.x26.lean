/-! the class: spots -/
set_option maxRecDepth 100000
theorem ju_0 : ∀ z, z < 7 → un6 0 (nI z) = undF (nI 0) (nI z) := by decide
theorem ju_1 : ∀ z, z < 7 → unS 1 (un6 1 (nI z)) (nI z) = undF (nI 1) (nI z) := by decide
theorem ju_2 : ∀ z, z < 7 → unS 2 (un6 2 (nI z)) (nI z) = undF (nI 2) (nI z) := by decide
theorem ju_3 : ∀ z, z < 7 → unS 3 (unS 2 (un6 3 (nI z)) (nI z)) (nI z) = undF (nI 3) (nI z) := by decide
theorem ju_4 : ∀ z, z < 7 → unS 3 (unS 2 (un6 4 (nI z)) (nI z)) (nI z) = undF (nI 4) (nI z) := by decide
theorem ju_5 : ∀ z, z < 7 → un6 5 (nI z) = undF (nI 5) (nI z) := by decide
theorem ju_6 : ∀ z, z < 7 → unS 1 (un6 6 (nI z)) (nI z) = undF (nI 6) (nI z) := by decide
theorem dJ_isUnder {p : Program} {l : Launch} {e : Env} {R : Room} {s : State} {m : MethodId} {args : Array Value} {below : List Frame} {meth : Method} {c : Code} {H : Heap} {locs : List Loc} {cells slots : Nat} {Q : State → Prop} {cc : ByteArray} {pc : Nat} {ls : Array Slot} {rest : List Value} {G : nG} {ad : Nat → Nat} {w w1 w2 w3 : rw84} {X : mM} {sp : xSp} {sh : xSh} (hx : p.tables.exec = Jvm.exec) (hb : c.code = cc) (hml : c.maxLocals = ls.size) (hown : s.vm.findClass "LineCalls" = some m.cls) (hts : ∀ w ∈ lw_all, w.before args s = true) (hw : nS G (xE G ad (xV w w1 w2 w3) X sp sh) s H locs) {kd k : Nat} (hd : kd < 7) (hk : k < 8) (ek : w (44 + 5 * k + 0) = nI kd) {v : Int32} {z : Nat} (hz : z < 7) (ez : v = nI z) (hR : 7 ≤ R.frames ∧ 143 ≤ R.locals) (hcs : cells ≤ R.cells ∧ slots ≤ R.slots) (hrest : (rest.map fun v => v.category).sum ≤ 8) (hdg : decode cc pc = .ok (.invokevirtual 370, 3))
    (kk : W p l e R s m args below meth c H locs cells slots Q (F0 m (pc + 3) ls (.int (undF (w (44 + 5 * k + 0)) v) :: rest))) : W p l e R s m args below meth c H locs cells slots Q (F0 m pc ls (.int v :: .ref (ad (200 + (8 * kd + k))) :: rest)) := by
  match kd, hd, ek with
  | 0, _, ek => exact n_callp (va_runU ⟨hx, hb, hml, hown, hts⟩ (tJX6_isUnder_0 l G ad _ _ _ _ _ _ _ _ hk v) (va_cwU 1 hts (lw_U q1100 q1103 q1102 q1101 q99 q1119) rfl rfl rfl rfl (hdS_X6_isUnder).2 ⟨Nat.le_trans (by decide) hR.1, Nat.le_trans (by decide) hR.2⟩) (hw.preV (k := 200 + (8 * 0 + k)) (xjump 0 k (by decide) hk) rfl) rfl rfl rfl rfl (lv_room hrest) hdg hcs) (fun r e_ => by rw [show r = _ from e_]; exact n_topE (show _ = undF (w (44 + 5 * k + 0)) v by rw [ek, ez]; exact ju_0 z hz) kk)
  | 1, _, ek => exact n_callp (va_runU ⟨hx, hb, hml, hown, hts⟩ (tJX7_isUnder_1 l G ad _ _ _ _ _ _ _ _ hk v) (va_cwO 1 hts (lw_O q1100 q1103 q1101 q1116 q1105 q100 q1106) rfl rfl rfl q1119 (hdS_X6_isUnder).2 ⟨Nat.le_trans (by decide) hR.1, Nat.le_trans (by decide) hR.2⟩) (hw.preV (k := 200 + (8 * 1 + k)) (xjump 1 k (by decide) hk) rfl) rfl rfl rfl rfl (lv_room hrest) hdg hcs) (fun r e_ => by rw [show r = _ from e_]; exact n_topE (show _ = undF (w (44 + 5 * k + 0)) v by rw [ek, ez]; exact ju_1 z hz) kk)
  | 2, _, ek => exact n_callp (va_runU ⟨hx, hb, hml, hown, hts⟩ (tJX8_isUnder_2 l G ad _ _ _ _ _ _ _ _ hk v) (va_cwO 1 hts (lw_O q1100 q1103 q1101 q1115 q1112 q101 q1113) rfl rfl rfl q1119 (hdS_X6_isUnder).2 ⟨Nat.le_trans (by decide) hR.1, Nat.le_trans (by decide) hR.2⟩) (hw.preV (k := 200 + (8 * 2 + k)) (xjump 2 k (by decide) hk) rfl) rfl rfl rfl rfl (lv_room hrest) hdg hcs) (fun r e_ => by rw [show r = _ from e_]; exact n_topE (show _ = undF (w (44 + 5 * k + 0)) v by rw [ek, ez]; exact ju_2 z hz) kk)
  | 3, _, ek => exact n_callp (va_runU ⟨hx, hb, hml, hown, hts⟩ (tJX9_isUnder_3 l G ad _ _ _ _ _ _ _ _ hk v) (va_cwO 1 hts (lw_O q1100 q1103 q1101 q1118 q1109 q102 q1110) rfl rfl rfl q1119 (hdS_X6_isUnder).2 ⟨Nat.le_trans (by decide) hR.1, Nat.le_trans (by decide) hR.2⟩) (hw.preV (k := 200 + (8 * 3 + k)) (xjump 3 k (by decide) hk) rfl) rfl rfl rfl rfl (lv_room hrest) hdg hcs) (fun r e_ => by rw [show r = _ from e_]; exact n_topE (show _ = undF (w (44 + 5 * k + 0)) v by rw [ek, ez]; exact ju_3 z hz) kk)
  | 4, _, ek => exact n_callp (va_runU ⟨hx, hb, hml, hown, hts⟩ (tJX9_isUnder_4 l G ad _ _ _ _ _ _ _ _ hk v) (va_cwO 1 hts (lw_O q1100 q1103 q1101 q1108 q1109 q102 q1110) rfl rfl rfl q1119 (hdS_X6_isUnder).2 ⟨Nat.le_trans (by decide) hR.1, Nat.le_trans (by decide) hR.2⟩) (hw.preV (k := 200 + (8 * 4 + k)) (xjump 4 k (by decide) hk) rfl) rfl rfl rfl rfl (lv_room hrest) hdg hcs) (fun r e_ => by rw [show r = _ from e_]; exact n_topE (show _ = undF (w (44 + 5 * k + 0)) v by rw [ek, ez]; exact ju_4 z hz) kk)
  | 5, _, ek => exact n_callp (va_runU ⟨hx, hb, hml, hown, hts⟩ (tJX6_isUnder_5 l G ad _ _ _ _ _ _ _ _ hk v) (va_cwU 1 hts (lw_U q1100 q1103 q1117 q1101 q99 q1119) rfl rfl rfl rfl (hdS_X6_isUnder).2 ⟨Nat.le_trans (by decide) hR.1, Nat.le_trans (by decide) hR.2⟩) (hw.preV (k := 200 + (8 * 5 + k)) (xjump 5 k (by decide) hk) rfl) rfl rfl rfl rfl (lv_room hrest) hdg hcs) (fun r e_ => by rw [show r = _ from e_]; exact n_topE (show _ = undF (w (44 + 5 * k + 0)) v by rw [ek, ez]; exact ju_5 z hz) kk)
  | 6, _, ek => exact n_callp (va_runU ⟨hx, hb, hml, hown, hts⟩ (tJX7_isUnder_6 l G ad _ _ _ _ _ _ _ _ hk v) (va_cwO 1 hts (lw_O q1100 q1103 q1101 q1104 q1105 q100 q1106) rfl rfl rfl q1119 (hdS_X6_isUnder).2 ⟨Nat.le_trans (by decide) hR.1, Nat.le_trans (by decide) hR.2⟩) (hw.preV (k := 200 + (8 * 6 + k)) (xjump 6 k (by decide) hk) rfl) rfl rfl rfl rfl (lv_room hrest) hdg hcs) (fun r e_ => by rw [show r = _ from e_]; exact n_topE (show _ = undF (w (44 + 5 * k + 0)) v by rw [ek, ez]; exact ju_6 z hz) kk)
theorem x_instJ {p : Program} {l : Launch} {e : Env} {R : Room} {s : State} {m : MethodId} {args : Array Value} {below : List Frame} {meth : Method} {c : Code} {H : Heap} {locs : List Loc} {cells slots : Nat} {Q : State → Prop} {cc : ByteArray} {pc : Nat} {ls : Array Slot} {rest : List Value} {G : nG} {ad : Nat → Nat} {w w1 w2 w3 : rw84} {X : mM} {sp : xSp} {sh : xSh} (hexec : p.tables.exec = Jvm.exec) (hb : c.code = cc) (hown : s.vm.findClass "LineCalls" = some m.cls) (hts : ∀ w ∈ lw_all, w.before args s = true) (hw : nS G (xE G ad (xV w w1 w2 w3) X sp sh) s H locs) {kd k : Nat} (hd : kd < 7) (hk : k < 8) (hdg : decode cc pc = .ok (.instanceof 51, 3))
    (kk : W p l e R s m args below meth c H locs cells slots Q (F0 m (pc + 3) ls (.int 1 :: rest))) : W p l e R s m args below meth c H locs cells slots Q (F0 m pc ls (.ref (ad (200 + (8 * kd + k))) :: rest)) := by
  match kd, hd with
  | 0, _ => exact va_instS hexec hb hown (hts _ q404) (hw.cls (ci := 6) (q := (RX6, TX6, 2)) rfl) (hw.recv (xjump 0 k (by decide) hk) rfl) hdg kk
  | 1, _ => exact va_instY hexec hb hown (hts _ q404) (hw.N _ q1706 rfl) (hw.recv (xjump 1 k (by decide) hk) rfl) hdg kk
  | 2, _ => exact va_instY hexec hb hown (hts _ q404) (hw.N _ q1705 rfl) (hw.recv (xjump 2 k (by decide) hk) rfl) hdg kk
  | 3, _ => exact va_instY hexec hb hown (hts _ q404) (hw.N _ q1708 rfl) (hw.recv (xjump 3 k (by decide) hk) rfl) hdg kk
  | 4, _ => exact va_instY hexec hb hown (hts _ q404) (hw.N _ q1704 rfl) (hw.recv (xjump 4 k (by decide) hk) rfl) hdg kk
  | 5, _ => exact va_instY hexec hb hown (hts _ q404) (hw.N _ q1707 rfl) (hw.recv (xjump 5 k (by decide) hk) rfl) hdg kk
  | 6, _ => exact va_instY hexec hb hown (hts _ q404) (hw.N _ q1703 rfl) (hw.recv (xjump 6 k (by decide) hk) rfl) hdg kk
theorem x_getNum {p : Program} {l : Launch} {e : Env} {R : Room} {s : State} {m : MethodId} {args : Array Value} {below : List Frame} {meth : Method} {c : Code} {H : Heap} {locs : List Loc} {cells slots : Nat} {Q : State → Prop} {cc : ByteArray} {pc : Nat} {ls : Array Slot} {rest : List Value} {G : nG} {ad : Nat → Nat} {w w1 w2 w3 : rw84} {X : mM} {sp : xSp} {sh : xSh} (hexec : p.tables.exec = Jvm.exec) (hb : c.code = cc) (hown : s.vm.findClass "LineCalls" = some m.cls) (hts : ∀ w ∈ lw_all, w.before args s = true) (hw : nS G (xE G ad (xV w w1 w2 w3) X sp sh) s H locs) {kd k : Nat} (hd : kd < 7) (hk : k < 8) (hdg : decode cc pc = .ok (.getfield 377, 3))
    (kk : W p l e R s m args below meth c H locs cells slots Q (F0 m (pc + 3) ls (.int (nI k) :: rest))) : W p l e R s m args below meth c H locs cells slots Q (F0 m pc ls (.ref (ad (200 + (8 * kd + k))) :: rest)) := by
  match kd, hd with
  | 0, _ => exact n_get (k := 200 + (8 * 0 + k)) hexec hb hts in_X6 hown hw (xjump 0 k (by decide) hk) rfl 0 (by decide) q331 rfl hdg kk
  | 1, _ => exact n_get (k := 200 + (8 * 1 + k)) hexec hb hts in_X7 hown hw (xjump 1 k (by decide) hk) rfl 0 (by decide) q331 rfl hdg kk
  | 2, _ => exact n_get (k := 200 + (8 * 2 + k)) hexec hb hts in_X8 hown hw (xjump 2 k (by decide) hk) rfl 0 (by decide) q331 rfl hdg kk
  | 3, _ => exact n_get (k := 200 + (8 * 3 + k)) hexec hb hts in_X9 hown hw (xjump 3 k (by decide) hk) rfl 0 (by decide) q331 rfl hdg kk
  | 4, _ => exact n_get (k := 200 + (8 * 4 + k)) hexec hb hts in_X10 hown hw (xjump 4 k (by decide) hk) rfl 0 (by decide) q331 rfl hdg kk
  | 5, _ => exact n_get (k := 200 + (8 * 5 + k)) hexec hb hts in_X11 hown hw (xjump 5 k (by decide) hk) rfl 0 (by decide) q331 rfl hdg kk
  | 6, _ => exact n_get (k := 200 + (8 * 6 + k)) hexec hb hts in_X12 hown hw (xjump 6 k (by decide) hk) rfl 0 (by decide) q331 rfl hdg kk
theorem hdS_X0_thingAt : yX0_thingAt.cls = "LineCalls" ∧ yX0_thingAt.cls ≠ "java/lang/invoke/MethodHandle" ∧ yX0_thingAt.cls ≠ "java/lang/invoke/VarHandle" ∧ (parseMethodDescriptor yX0_thingAt.desc).map (fun d => d.parameters.length) = some 1 := by decide +kernel
set_option maxHeartbeats 4000000 in
theorem tL_thingAt (l : Launch) (G : nG) (ad : Nat → Nat) (w w1 w2 w3 : rw84) (X : mM) (sp : xSp) (sh : xSh) (q B : Nat) (hq : q < 10) (hI : Inv B w) : Met l yX0_thingAt (ws_ yX0_thingAt cX0_thingAt 3 (some (.object "java/lang/Object"))) { frames := 1, cells := 0, slots := 0, locals := 21 } (va_Pc [.ref (ad 64), .int (nI q)] (nC G (xE G ad (xV w w1 w2 w3) X sp sh))) (va_Qq (fun (r : Option Nat) (u : xSt) => (w (7 + q) = -1 ∧ r = none ∧ u = (w, w1, w2, w3, X, va_up sp q r, sh)) ∨ ∃ k kd, k < 8 ∧ kd < 7 ∧ w (7 + q) = nI k ∧ w (44 + 5 * k + 0) = nI kd ∧ r = some (ad (200 + (8 * kd + k))) ∧ u = (w, w1, w2, w3, X, va_up sp q r, sh)) (fun u => nC G (xE G ad (xV u.1 u.2.1 u.2.2.1 u.2.2.2.1) u.2.2.2.2.1 u.2.2.2.2.2.1 u.2.2.2.2.2.2)) (nA G)) 0 0 (nA G) := by
  refine n_head (by decide) (Nat.le_of_ble_eq_true rfl) ?_
  intro p e s m below meth c ls hx hb hr hlk hml hown hts hB0 hl
  have hown : s.vm.findClass "LineCalls" = some m.cls := hown
  have hw := nS.start hB0
  have hl : lv_has ls 3 [(0, .ref (ad 64)), (1, .int (nI q))] := hl
  refine lv_aload_n hx hb dX0_thingAt_0 rfl (lv_at hl 0 rfl) ?_
  refine n_get (k := 64) hx hb hts in_X0 hown hw (xp 64) rfl 3 (by decide) q418 rfl dX0_thingAt_1 ?_
  refine n_getN (k := 16 * 0 + 0) hx hb hts in_X4 hown hw (xv0 0) rfl 9 (by decide) q250 rfl dX0_thingAt_4 ?_
  refine lv_iload_n hx hb dX0_thingAt_7 rfl (lv_at hl 1 rfl) ?_
  refine n_iald (k := 16 * 0 + 13) (j := q) hx hb hw (xv0 13) rfl (by omega) (by decide) dX0_thingAt_8 ?_
  refine lv_istore_n hx hb dX0_thingAt_9 rfl hl (by decide) rfl (fun ls hl => ?_)
  refine lv_aload_n hx hb dX0_thingAt_10 rfl (lv_at hl 1 rfl) ?_
  refine n_get (k := 64) hx hb hts in_X0 hown hw (xp 64) rfl 8 (by decide) q423 rfl dX0_thingAt_11 ?_
  refine lv_iload_n hx hb dX0_thingAt_14 rfl (lv_at hl 2 rfl) ?_
  refine n_aaldS (k := 70) (t := 3) (j := q) (b := ad (300 + q)) hx hb hw (xp 70) (Or.inl rfl) rfl (by omega) (by decide) rfl dX0_thingAt_15 ?_
  refine lv_iload_n hx hb dX0_thingAt_16 rfl (lv_at hl 0 rfl) ?_
  refine lv_iconst (v := (-1)) hx hb dX0_thingAt_17 (by decide) ?_
  refine lv_icmp_ne (tgt := 25) hx hb dX0_thingAt_18 (by decide) (fun c_18 => ?_) (fun c_18 => ?_)
  · skip
    obtain ⟨k, hk, e0⟩ : ∃ k, k < 8 ∧ w (7 + q) = nI k := by (obtain ⟨n, h1, h2, -, h3⟩ := hI.2.1; rcases h3 q hq with h | ⟨k, hk, h⟩; exact absurd h c_18; exact ⟨k, by omega, h⟩)
    obtain ⟨kd, hkd, ek⟩ := hI.kind hk
    have hd : kd < 7 := by omega
    refine lv_aload_n hx hb dX0_thingAt_25 rfl (lv_at hl 1 rfl) ?_
    refine lv_iload_n hx hb dX0_thingAt_26 rfl (lv_at hl 0 rfl) ?_
    refine n_topE e0 ?_
    refine n_callpq (va_runV ⟨hx, hb, hml, hown, hts⟩ (tL_jumperOf l G ad _ _ _ _ _ _ _ k kd hk hd ek) (cwV 1 hts (lw_V q549 q551 qs4 q90 q552) rfl rfl rfl hdS_X0_jumperOf ⟨by decide, by decide⟩) (hw.preV (k := 64) (xp 64) rfl) rfl rfl hl.1 rfl (lv_room (by simp [Value.category])) dX0_thingAt_27 ⟨Nat.zero_le _, Nat.zero_le _⟩) (fun r_27 e_27 => ?_)
    subst e_27
    refine l_putS hx hb hts hown hw (q := q) (by omega) q312 (o := some (ad (200 + (8 * kd + k)))) dX0_thingAt_30 (fun H locs hw => ?_)
    refine lv_aload_n hx hb dX0_thingAt_33 rfl (lv_at hl 1 rfl) ?_
    refine n_get (k := 64) hx hb hts in_X0 hown hw (xp 64) rfl 8 (by decide) q423 rfl dX0_thingAt_34 ?_
    refine lv_iload_n hx hb dX0_thingAt_37 rfl (lv_at hl 2 rfl) ?_
    refine n_aaldS (k := 70) (t := 3) (j := q) (b := ad (300 + q)) hx hb hw (xp 70) (Or.inl rfl) rfl (by omega) (by decide) rfl dX0_thingAt_38 ?_
    refine n_getN (k := 300 + q) hx hb hts in_X5 hown hw (xspot q (by omega)) rfl 0 (by decide) q312 rfl dX0_thingAt_39 ?_
    rw [va_up_self]
    exact l_qret (some (ad (200 + (8 * kd + k)))) hx hb hr (Or.inl ⟨_, rfl⟩) hlk hw (Or.inr ⟨k, kd, hk, hd, e0, ek, rfl, rfl⟩) dX0_thingAt_42
  · skip
    refine lv_null hx hb dX0_thingAt_21 ?_
    refine lv_goto (tgt := 30) hx hb dX0_thingAt_22 (by decide) ?_
    refine l_putS hx hb hts hown hw (q := q) (by omega) q312 (o := none) dX0_thingAt_30 (fun H locs hw => ?_)
    refine lv_aload_n hx hb dX0_thingAt_33 rfl (lv_at hl 1 rfl) ?_
    refine n_get (k := 64) hx hb hts in_X0 hown hw (xp 64) rfl 8 (by decide) q423 rfl dX0_thingAt_34 ?_
    refine lv_iload_n hx hb dX0_thingAt_37 rfl (lv_at hl 2 rfl) ?_
    refine n_aaldS (k := 70) (t := 3) (j := q) (b := ad (300 + q)) hx hb hw (xp 70) (Or.inl rfl) rfl (by omega) (by decide) rfl dX0_thingAt_38 ?_
    refine n_getN (k := 300 + q) hx hb hts in_X5 hown hw (xspot q (by omega)) rfl 0 (by decide) q312 rfl dX0_thingAt_39 ?_
    rw [va_up_self]
    exact l_qret none hx hb hr (Or.inl ⟨_, rfl⟩) hlk hw (Or.inl ⟨c_18, rfl, rfl⟩) dX0_thingAt_42
theorem hdS_X0_cast : yX0_cast.cls = "LineCalls" ∧ yX0_cast.cls ≠ "java/lang/invoke/MethodHandle" ∧ yX0_cast.cls ≠ "java/lang/invoke/VarHandle" ∧ (parseMethodDescriptor yX0_cast.desc).map (fun d => d.parameters.length) = some 2 := by decide +kernel
set_option maxHeartbeats 4000000 in
theorem tL_cast (l : Launch) (G : nG) (ad : Nat → Nat) (w w1 w2 w3 : rw84) (X : mM) (sp : xSp) (sh : xSh) (kd k v : Nat) (hd : kd < 7) (hk : k < 8) (hv : v < 7) (hu : ¬ undF (nI kd) (nI v) = 0) : Met l yX0_cast (ws_ yX0_cast cX0_cast 2 (some (.object "LineCalls$Jumper"))) { frames := 0, cells := 0, slots := 0, locals := 0 } (va_Pc [.ref (ad (200 + (8 * kd + k))), .int (nI v)] (nC G (xE G ad (xV w w1 w2 w3) X sp sh))) (va_Sq (fun r => r = some (ad (200 + (8 * kd + k))))) 0 0 (fun _ => False) := by
  refine n_head (by decide) (Nat.le_of_ble_eq_true rfl) ?_
  intro p e s m below meth c ls hx hb hr hlk hml hown hts hB0 hl
  have hown : s.vm.findClass "LineCalls" = some m.cls := hown
  have hw := nS.start hB0
  have hl : lv_has ls 2 [(0, .ref (ad (200 + (8 * kd + k)))), (1, .int (nI v))] := hl
  refine lv_iload_n hx hb dX0_cast_0 rfl (lv_at hl 1 rfl) ?_
  by_cases s_1_1 : nI v = 1
  · skip
    refine lv_tableIn (tgt := 40) hx hb dX0_cast_1 (by rw [s_1_1]; decide) (by rw [s_1_1]; decide) (off := 39) (by rw [s_1_1]; rfl) (by decide) ?_
    refine lv_aload_n hx hb dX0_cast_40 rfl (lv_at hl 0 rfl) ?_
    match kd, hd, hu with
    | 0, _, hu => exact absurd (by rw [s_1_1]; decide) hu
    | 1, _, hu => exact va_castS hx hb hown (hts _ q320) (hw.cls (ci := 7) (q := (RX7, TX7, 3)) rfl) (hw.recv (xjump 1 k (by decide) hk) rfl) dX0_cast_41 (n_qret hx hb hr (Or.inl ⟨_, rfl⟩) hlk rfl dX0_cast_44)
    | 2, _, hu => exact absurd (by rw [s_1_1]; decide) hu
    | 3, _, hu => exact absurd (by rw [s_1_1]; decide) hu
    | 4, _, hu => exact absurd (by rw [s_1_1]; decide) hu
    | 5, _, hu => exact absurd (by rw [s_1_1]; decide) hu
    | 6, _, hu => exact va_castY hx hb hown (hts _ q320) (hw.N _ q1709 rfl) (hw.recv (xjump 6 k (by decide) hk) rfl) dX0_cast_41 (n_qret hx hb hr (Or.inl ⟨_, rfl⟩) hlk rfl dX0_cast_44)
  by_cases s_1_2 : nI v = 2
  · skip
    refine lv_tableIn (tgt := 45) hx hb dX0_cast_1 (by rw [s_1_2]; decide) (by rw [s_1_2]; decide) (off := 44) (by rw [s_1_2]; rfl) (by decide) ?_
    refine lv_aload_n hx hb dX0_cast_45 rfl (lv_at hl 0 rfl) ?_
    match kd, hd, hu with
    | 0, _, hu => exact absurd (by rw [s_1_2]; decide) hu
    | 1, _, hu => exact absurd (by rw [s_1_2]; decide) hu
    | 2, _, hu => exact va_castS hx hb hown (hts _ q340) (hw.cls (ci := 8) (q := (RX8, TX8, 3)) rfl) (hw.recv (xjump 2 k (by decide) hk) rfl) dX0_cast_46 (n_qret hx hb hr (Or.inl ⟨_, rfl⟩) hlk rfl dX0_cast_49)
    | 3, _, hu => exact va_castY hx hb hown (hts _ q340) (hw.N _ q1711 rfl) (hw.recv (xjump 3 k (by decide) hk) rfl) dX0_cast_46 (n_qret hx hb hr (Or.inl ⟨_, rfl⟩) hlk rfl dX0_cast_49)
    | 4, _, hu => exact va_castY hx hb hown (hts _ q340) (hw.N _ q1710 rfl) (hw.recv (xjump 4 k (by decide) hk) rfl) dX0_cast_46 (n_qret hx hb hr (Or.inl ⟨_, rfl⟩) hlk rfl dX0_cast_49)
    | 5, _, hu => exact absurd (by rw [s_1_2]; decide) hu
    | 6, _, hu => exact absurd (by rw [s_1_2]; decide) hu
  by_cases s_1_3 : nI v = 3
  · skip
    refine lv_tableIn (tgt := 50) hx hb dX0_cast_1 (by rw [s_1_3]; decide) (by rw [s_1_3]; decide) (off := 49) (by rw [s_1_3]; rfl) (by decide) ?_
    refine lv_aload_n hx hb dX0_cast_50 rfl (lv_at hl 0 rfl) ?_
    match kd, hd, hu with
    | 0, _, hu => exact absurd (by rw [s_1_3]; decide) hu
    | 1, _, hu => exact absurd (by rw [s_1_3]; decide) hu
    | 2, _, hu => exact absurd (by rw [s_1_3]; decide) hu
    | 3, _, hu => exact va_castS hx hb hown (hts _ q352) (hw.cls (ci := 9) (q := (RX9, TX9, 4)) rfl) (hw.recv (xjump 3 k (by decide) hk) rfl) dX0_cast_51 (n_qret hx hb hr (Or.inl ⟨_, rfl⟩) hlk rfl dX0_cast_54)
    | 4, _, hu => exact va_castY hx hb hown (hts _ q352) (hw.N _ q1712 rfl) (hw.recv (xjump 4 k (by decide) hk) rfl) dX0_cast_51 (n_qret hx hb hr (Or.inl ⟨_, rfl⟩) hlk rfl dX0_cast_54)
    | 5, _, hu => exact absurd (by rw [s_1_3]; decide) hu
    | 6, _, hu => exact absurd (by rw [s_1_3]; decide) hu
  by_cases s_1_4 : nI v = 4
  · skip
    refine lv_tableIn (tgt := 55) hx hb dX0_cast_1 (by rw [s_1_4]; decide) (by rw [s_1_4]; decide) (off := 54) (by rw [s_1_4]; rfl) (by decide) ?_
    refine lv_aload_n hx hb dX0_cast_55 rfl (lv_at hl 0 rfl) ?_
    match kd, hd, hu with
    | 0, _, hu => exact absurd (by rw [s_1_4]; decide) hu
    | 1, _, hu => exact absurd (by rw [s_1_4]; decide) hu
    | 2, _, hu => exact absurd (by rw [s_1_4]; decide) hu
    | 3, _, hu => exact absurd (by rw [s_1_4]; decide) hu
    | 4, _, hu => exact va_castS hx hb hown (hts _ q365) (hw.cls (ci := 10) (q := (RX10, TX10, 5)) rfl) (hw.recv (xjump 4 k (by decide) hk) rfl) dX0_cast_56 (n_qret hx hb hr (Or.inl ⟨_, rfl⟩) hlk rfl dX0_cast_59)
    | 5, _, hu => exact absurd (by rw [s_1_4]; decide) hu
    | 6, _, hu => exact absurd (by rw [s_1_4]; decide) hu
  by_cases s_1_5 : nI v = 5
  · skip
    refine lv_tableIn (tgt := 60) hx hb dX0_cast_1 (by rw [s_1_5]; decide) (by rw [s_1_5]; decide) (off := 59) (by rw [s_1_5]; rfl) (by decide) ?_
    refine lv_aload_n hx hb dX0_cast_60 rfl (lv_at hl 0 rfl) ?_
    match kd, hd, hu with
    | 0, _, hu => exact absurd (by rw [s_1_5]; decide) hu
    | 1, _, hu => exact absurd (by rw [s_1_5]; decide) hu
    | 2, _, hu => exact absurd (by rw [s_1_5]; decide) hu
    | 3, _, hu => exact absurd (by rw [s_1_5]; decide) hu
    | 4, _, hu => exact absurd (by rw [s_1_5]; decide) hu
    | 5, _, hu => exact va_castS hx hb hown (hts _ q379) (hw.cls (ci := 11) (q := (RX11, TX11, 3)) rfl) (hw.recv (xjump 5 k (by decide) hk) rfl) dX0_cast_61 (n_qret hx hb hr (Or.inl ⟨_, rfl⟩) hlk rfl dX0_cast_64)
    | 6, _, hu => exact absurd (by rw [s_1_5]; decide) hu
  by_cases s_1_6 : nI v = 6
  · skip
    refine lv_tableIn (tgt := 65) hx hb dX0_cast_1 (by rw [s_1_6]; decide) (by rw [s_1_6]; decide) (off := 64) (by rw [s_1_6]; rfl) (by decide) ?_
    refine lv_aload_n hx hb dX0_cast_65 rfl (lv_at hl 0 rfl) ?_
    match kd, hd, hu with
    | 0, _, hu => exact absurd (by rw [s_1_6]; decide) hu
    | 1, _, hu => exact absurd (by rw [s_1_6]; decide) hu
    | 2, _, hu => exact absurd (by rw [s_1_6]; decide) hu
    | 3, _, hu => exact absurd (by rw [s_1_6]; decide) hu
    | 4, _, hu => exact absurd (by rw [s_1_6]; decide) hu
    | 5, _, hu => exact absurd (by rw [s_1_6]; decide) hu
    | 6, _, hu => exact va_castS hx hb hown (hts _ q391) (hw.cls (ci := 12) (q := (RX12, TX12, 4)) rfl) (hw.recv (xjump 6 k (by decide) hk) rfl) dX0_cast_66 (n_qret hx hb hr (Or.inl ⟨_, rfl⟩) hlk rfl dX0_cast_69)
  refine lv_tableOut (tgt := 70) hx hb dX0_cast_1 (by have a_0 := ne_ti (k := 1) s_1_1 (by decide); have a_1 := ne_ti (k := 2) s_1_2 (by decide); have a_2 := ne_ti (k := 3) s_1_3 (by decide); have a_3 := ne_ti (k := 4) s_1_4 (by decide); have a_4 := ne_ti (k := 5) s_1_5 (by decide); have a_5 := ne_ti (k := 6) s_1_6 (by decide); omega) (by decide) ?_
  refine lv_aload_n hx hb dX0_cast_70 rfl (lv_at hl 0 rfl) ?_
  have hv0 : nI v = 0 := by (match v, hv, s_1_1, s_1_2, s_1_3, s_1_4, s_1_5, s_1_6 with | 0, _, _, _, _, _, _, _ => rfl | 1, _, h, _, _, _, _, _ => exact absurd rfl h | 2, _, _, h, _, _, _, _ => exact absurd rfl h | 3, _, _, _, h, _, _, _ => exact absurd rfl h | 4, _, _, _, _, h, _, _ => exact absurd rfl h | 5, _, _, _, _, _, h, _ => exact absurd rfl h | 6, _, _, _, _, _, _, h => exact absurd rfl h)
  match kd, hd, hu with
  | 0, _, hu => exact va_castS hx hb hown (hts _ q404) (hw.cls (ci := 6) (q := (RX6, TX6, 2)) rfl) (hw.recv (xjump 0 k (by decide) hk) rfl) dX0_cast_71 (n_qret hx hb hr (Or.inl ⟨_, rfl⟩) hlk rfl dX0_cast_74)
  | 1, _, hu => exact va_castY hx hb hown (hts _ q404) (hw.N _ q1706 rfl) (hw.recv (xjump 1 k (by decide) hk) rfl) dX0_cast_71 (n_qret hx hb hr (Or.inl ⟨_, rfl⟩) hlk rfl dX0_cast_74)
  | 2, _, hu => exact va_castY hx hb hown (hts _ q404) (hw.N _ q1705 rfl) (hw.recv (xjump 2 k (by decide) hk) rfl) dX0_cast_71 (n_qret hx hb hr (Or.inl ⟨_, rfl⟩) hlk rfl dX0_cast_74)
  | 3, _, hu => exact va_castY hx hb hown (hts _ q404) (hw.N _ q1708 rfl) (hw.recv (xjump 3 k (by decide) hk) rfl) dX0_cast_71 (n_qret hx hb hr (Or.inl ⟨_, rfl⟩) hlk rfl dX0_cast_74)
  | 4, _, hu => exact va_castY hx hb hown (hts _ q404) (hw.N _ q1704 rfl) (hw.recv (xjump 4 k (by decide) hk) rfl) dX0_cast_71 (n_qret hx hb hr (Or.inl ⟨_, rfl⟩) hlk rfl dX0_cast_74)
  | 5, _, hu => exact va_castY hx hb hown (hts _ q404) (hw.N _ q1707 rfl) (hw.recv (xjump 5 k (by decide) hk) rfl) dX0_cast_71 (n_qret hx hb hr (Or.inl ⟨_, rfl⟩) hlk rfl dX0_cast_74)
  | 6, _, hu => exact va_castY hx hb hown (hts _ q404) (hw.N _ q1703 rfl) (hw.recv (xjump 6 k (by decide) hk) rfl) dX0_cast_71 (n_qret hx hb hr (Or.inl ⟨_, rfl⟩) hlk rfl dX0_cast_74)
theorem hdS_X0_as : yX0_as.cls = "LineCalls" ∧ yX0_as.cls ≠ "java/lang/invoke/MethodHandle" ∧ yX0_as.cls ≠ "java/lang/invoke/VarHandle" ∧ (parseMethodDescriptor yX0_as.desc).map (fun d => d.parameters.length) = some 2 := by decide +kernel
set_option maxHeartbeats 4000000 in
theorem tL_as (l : Launch) (G : nG) (ad : Nat → Nat) (w w1 w2 w3 : rw84) (X : mM) (sp : xSp) (sh : xSh) (x k : Int32) (B : Nat) (hI : Inv B w) (hB : B ≤ 100000) : Met l yX0_as (ws_ yX0_as cX0_as 5 (some .int)) { frames := 7, cells := 0, slots := 0, locals := 143 } (va_Pc [.ref (ad 64), .int x, .int k] (nC G (xE G ad (xV w w1 w2 w3) X sp sh))) (va_Qi (fun (r : Int32) (u : xSt) => r = (asO w x k).1 ∧ xU (asO w x k).2.1 w1 (xfnd (asO w x k).2.2 X) sh u) (fun u => nC G (xE G ad (xV u.1 u.2.1 u.2.2.1 u.2.2.2.1) u.2.2.2.2.1 u.2.2.2.2.2.1 u.2.2.2.2.2.2)) (nA G)) 0 0 (nA G) := by
  refine n_head (by decide) (Nat.le_of_ble_eq_true rfl) ?_
  intro p e s m below meth c ls hx hb hr hlk hml hown hts hB0 hl
  have hown : s.vm.findClass "LineCalls" = some m.cls := hown
  have hw := nS.start hB0
  have hl : lv_has ls 5 [(0, .ref (ad 64)), (1, .int x), (2, .int k)] := hl
  refine lv_iload_n hx hb dX0_as_0 rfl (lv_at hl 1 rfl) ?_
  refine n_callp (va_runS ⟨hx, hb, hml, hown, hts⟩ (tX_isSpot l _) (va_cwS 1 hts (lw_S q1089 q1090 q90 q1091) rfl rfl rfl (hdS_X0_isSpot).2 ⟨by decide, by decide⟩) pu_pre rfl rfl hl.1 rfl (lv_room (by simp [Value.category])) dX0_as_1 ⟨Nat.zero_le _, Nat.zero_le _⟩) (fun r_1 e_1 => ?_)
  subst e_1
  refine lv_if_eq (tgt := 14) hx hb dX0_as_4 (by decide) (fun c_4 => ?_) (fun c_4 => ?_)
  · skip
    refine lv_aload_n hx hb dX0_as_14 rfl (lv_at hl 0 rfl) ?_
    refine lv_iconst (v := 0) hx hb dX0_as_15 (by decide) ?_
    refine n_calli (va_runV ⟨hx, hb, hml, hown, hts⟩ (tL_finding l G ad _ _ _ _ _ _ _ (0) (by decide)) (cwV 1 hts (lw_V q466 q468 qs3 q90 q469) rfl rfl rfl hdS_X0_finding ⟨by decide, by decide⟩) (hw.preV (k := 64) (xp 64) rfl) rfl rfl hl.1 rfl (lv_room (by simp [Value.category])) dX0_as_16 ⟨Nat.zero_le _, Nat.zero_le _⟩) hw (fun r_16 u_16 H locs e_16 hw => ?_)
    obtain ⟨rfl, rfl⟩ := e_16
    have hw : nS G (xE G ad (xV _ _ _ _) _ _ _) s H locs := hw
    exact l_iret hx hb hr hlk rfl hw (by rw [asO, if_pos c_4]; exact ⟨by first | exact f_0 | exact f_5 | exact f_2 | exact f_3 | exact f_6, xU.of ⟨rfl, rfl, rfl, rfl⟩⟩) dX0_as_19
  · skip
    obtain ⟨q, hq, rfl⟩ := in_nat (N := 9) rfl (by decide) c_4
    have iq : ix (nI q) = q := nI_clamp (by omega)
    refine lv_iload_n hx hb dX0_as_7 rfl (lv_at hl 2 rfl) ?_
    refine n_callp (va_runS ⟨hx, hb, hml, hown, hts⟩ (tX_isKind l _) (va_cwS 1 hts (lw_S q538 q539 q90 q540) rfl rfl rfl (hdS_X0_isKind).2 ⟨by decide, by decide⟩) pu_pre rfl rfl hl.1 rfl (lv_room (by simp [Value.category])) dX0_as_8 ⟨Nat.zero_le _, Nat.zero_le _⟩) (fun r_8 e_8 => ?_)
    subst e_8
    refine lv_if_ne (tgt := 20) hx hb dX0_as_11 (by decide) (fun c_11 => ?_) (fun c_11 => ?_)
    · skip
      obtain ⟨z, hz, rfl⟩ := in_nat (N := 6) rfl (by decide) c_11
      have iz : ix (nI z) = z := nI_clamp (by omega)
      refine lv_aload_n hx hb dX0_as_20 rfl (lv_at hl 0 rfl) ?_
      refine lv_iload_n hx hb dX0_as_21 rfl (lv_at hl 1 rfl) ?_
      refine n_callq (va_runV ⟨hx, hb, hml, hown, hts⟩ (tL_thingAt l G ad _ _ _ _ _ _ _ (q) B (by omega) hI) (cwV 1 hts (lw_V q1096 q1098 qs47 q90 q1099) rfl rfl rfl hdS_X0_thingAt ⟨by decide, by decide⟩) (hw.preV (k := 64) (xp 64) rfl) rfl rfl hl.1 rfl (lv_room (by simp [Value.category])) dX0_as_22 ⟨Nat.zero_le _, Nat.zero_le _⟩) hw (fun r_22 u_22 H locs e_22 hw => ?_)
      skip
      have hw : nS G (xE G ad (xV _ _ _ _) _ _ _) s H locs := hw
      rcases e_22 with ⟨e0, rfl, rfl⟩ | ⟨k, kd, hk, hd, e0, ek, rfl, rfl⟩
      · skip
        have hw : nS G (xE G ad (xV w w1 w2 w3) X (va_up sp q _) sh) s H locs := hw
        refine lv_astore_nN hx hb dX0_as_25 rfl hl (by decide) rfl (fun ls hl => ?_)
        refine lv_aload_nN hx hb dX0_as_26 rfl (lv_at hl 0 rfl) ?_
        refine lv_ifnonnullN hx hb dX0_as_27 ?_
        refine lv_aload_n hx hb dX0_as_30 rfl (lv_at hl 1 rfl) ?_
        refine lv_iconst (v := 5) hx hb dX0_as_31 (by decide) ?_
        refine n_calli (va_runV ⟨hx, hb, hml, hown, hts⟩ (tL_finding l G ad _ _ _ _ _ _ _ (5) (by decide)) (cwV 1 hts (lw_V q466 q468 qs3 q90 q469) rfl rfl rfl hdS_X0_finding ⟨by decide, by decide⟩) (hw.preV (k := 64) (xp 64) rfl) rfl rfl hl.1 rfl (lv_room (by simp [Value.category])) dX0_as_32 ⟨Nat.zero_le _, Nat.zero_le _⟩) hw (fun r_32 u_32 H locs e_32 hw => ?_)
        obtain ⟨rfl, rfl⟩ := e_32
        have hw : nS G (xE G ad (xV _ _ _ _) _ _ _) s H locs := hw
        exact l_iret hx hb hr hlk rfl hw (by rw [asO, if_neg c_4, if_neg c_11, iq, if_neg (show ¬ 0 ≤ w (7 + q) by rw [e0]; decide)]; exact ⟨by first | exact f_0 | exact f_5 | exact f_2 | exact f_3 | exact f_6, xU.of ⟨rfl, rfl, rfl, rfl⟩⟩) dX0_as_35
      · skip
        have hw : nS G (xE G ad (xV w w1 w2 w3) X (va_up sp q _) sh) s H locs := hw
        have h0 : 0 ≤ w (7 + q) := by rw [e0]; exact nI_pos' (by omega)
        have iw : ix (w (7 + q)) = k := by rw [e0]; exact nI_clamp (by omega)
        refine lv_astore_n hx hb dX0_as_25 rfl hl (by decide) rfl (fun ls hl => ?_)
        refine lv_aload_n hx hb dX0_as_26 rfl (lv_at hl 0 rfl) ?_
        refine lv_ifnonnull (tgt := 36) hx hb dX0_as_27 (by decide) ?_
        refine lv_aload_n hx hb dX0_as_36 rfl (lv_at hl 0 rfl) ?_
        refine x_instJ hx hb hown hts hw hd hk dX0_as_37 ?_
        refine lv_if_eq (tgt := 58) hx hb dX0_as_40 (by decide) (fun c_40 => ?_) (fun c_40 => ?_)
        · skip
          exact absurd c_40 (by decide)
        · skip
          refine lv_aload_n hx hb dX0_as_43 rfl (lv_at hl 0 rfl) ?_
          refine x_castJ hx hb hown hts hw hd hk dX0_as_44 ?_
          refine lv_iload_n hx hb dX0_as_47 rfl (lv_at hl 3 rfl) ?_
          refine dJ_isUnder hx hb (hml.trans hl.1.symm) hown hts hw hd hk ek (z := z) (by omega) rfl ⟨by decide, by decide⟩ ⟨Nat.zero_le _, Nat.zero_le _⟩ (by simp [Value.category]) dX0_as_48 ?_
          refine lv_if_eq (tgt := 58) hx hb dX0_as_51 (by decide) (fun c_51 => ?_) (fun c_51 => ?_)
          · skip
            refine lv_iconst (v := 0) hx hb dX0_as_58 (by decide) ?_
            refine lv_istore hx hb dX0_as_59 hl (by decide) rfl (fun ls hl => ?_)
            refine lv_iload hx hb dX0_as_61 (lv_at hl 0 rfl) ?_
            refine lv_if_eq (tgt := 77) hx hb dX0_as_63 (by decide) (fun c_63 => ?_) (fun c_63 => ?_)
            · skip
              refine lv_aload_n hx hb dX0_as_77 rfl (lv_at hl 2 rfl) ?_
              refine lv_iconst (v := 2) hx hb dX0_as_78 (by decide) ?_
              refine n_calli (va_runV ⟨hx, hb, hml, hown, hts⟩ (tL_finding l G ad _ _ _ _ _ _ _ (2) (by decide)) (cwV 1 hts (lw_V q466 q468 qs3 q90 q469) rfl rfl rfl hdS_X0_finding ⟨by decide, by decide⟩) (hw.preV (k := 64) (xp 64) rfl) rfl rfl hl.1 rfl (lv_room (by simp [Value.category])) dX0_as_79 ⟨Nat.zero_le _, Nat.zero_le _⟩) hw (fun r_79 u_79 H locs e_79 hw => ?_)
              obtain ⟨rfl, rfl⟩ := e_79
              have hw : nS G (xE G ad (xV _ _ _ _) _ _ _) s H locs := hw
              exact l_iret hx hb hr hlk rfl hw (by rw [asO, if_neg c_4, if_neg c_11, iq, if_pos h0, iw, if_pos c_51]; exact ⟨by first | exact e0.symm | exact f_2, xU.of ⟨rfl, rfl, rfl, rfl⟩⟩) dX0_as_82
            · skip
              exact absurd rfl c_63
          · skip
            refine lv_iconst (v := 1) hx hb dX0_as_54 (by decide) ?_
            refine lv_goto (tgt := 59) hx hb dX0_as_55 (by decide) ?_
            refine lv_istore hx hb dX0_as_59 hl (by decide) rfl (fun ls hl => ?_)
            refine lv_iload hx hb dX0_as_61 (lv_at hl 0 rfl) ?_
            refine lv_if_eq (tgt := 77) hx hb dX0_as_63 (by decide) (fun c_63 => ?_) (fun c_63 => ?_)
            · skip
              exact absurd c_63 (by decide)
            · skip
              have hu : ¬ undF (nI kd) (nI z) = 0 := by rw [← ek]; exact c_51
              refine lv_aload_n hx hb dX0_as_66 rfl (lv_at hl 1 rfl) ?_
              refine lv_iload_n hx hb dX0_as_67 rfl (lv_at hl 4 rfl) ?_
              refine n_callpq (va_runS ⟨hx, hb, hml, hown, hts⟩ (tL_cast l G ad _ _ _ _ _ _ _ kd k z hd hk (by omega) hu) (va_cwS 2 hts (lw_S q1121 q1122 q90 q1123) rfl rfl rfl (hdS_X0_cast).2 ⟨by decide, by decide⟩) hw.preS rfl rfl hl.1 rfl (lv_room (by simp [Value.category])) dX0_as_68 ⟨Nat.zero_le _, Nat.zero_le _⟩) (fun r_68 e_68 => ?_)
              subst e_68
              refine x_getNum hx hb hown hts hw hd hk dX0_as_71 ?_
              refine lv_goto (tgt := 82) hx hb dX0_as_74 (by decide) ?_
              exact l_iret hx hb hr hlk rfl hw (by rw [asO, if_neg c_4, if_neg c_11, iq, if_pos h0, iw, if_neg c_51]; exact ⟨by first | exact e0.symm | exact f_2, xU.of ⟨rfl, rfl, rfl, rfl⟩⟩) dX0_as_82
    · skip
      refine lv_aload_n hx hb dX0_as_14 rfl (lv_at hl 0 rfl) ?_
      refine lv_iconst (v := 0) hx hb dX0_as_15 (by decide) ?_
      refine n_calli (va_runV ⟨hx, hb, hml, hown, hts⟩ (tL_finding l G ad _ _ _ _ _ _ _ (0) (by decide)) (cwV 1 hts (lw_V q466 q468 qs3 q90 q469) rfl rfl rfl hdS_X0_finding ⟨by decide, by decide⟩) (hw.preV (k := 64) (xp 64) rfl) rfl rfl hl.1 rfl (lv_room (by simp [Value.category])) dX0_as_16 ⟨Nat.zero_le _, Nat.zero_le _⟩) hw (fun r_16 u_16 H locs e_16 hw => ?_)
      obtain ⟨rfl, rfl⟩ := e_16
      have hw : nS G (xE G ad (xV _ _ _ _) _ _ _) s H locs := hw
      exact l_iret hx hb hr hlk rfl hw (by rw [asO, if_neg c_4, if_pos c_11]; exact ⟨by first | exact f_0 | exact f_5 | exact f_2 | exact f_3 | exact f_6, xU.of ⟨rfl, rfl, rfl, rfl⟩⟩) dX0_as_19
