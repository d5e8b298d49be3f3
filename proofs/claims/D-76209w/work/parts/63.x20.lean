/-! the class: rows of sheets, refusals -/
set_option maxRecDepth 100000
theorem l_qret {p : Program} {l : Launch} {e : Env} {R : Room} {s : State} {m : MethodId} {args : Array Value} {below : List Frame} {meth : Method} {c : Code} {H : Heap} {locs : List Loc} {cells slots : Nat} {cc : ByteArray} {pc : Nat} {ls : Array Slot} {G : nG} {ad : Nat → Nat} {w w1 w2 w3 : rw84} {X : mM} {sp : xSp} {sh : xSh} {post : Option Nat → xSt → Prop} (o : Option Nat) (hexec : p.tables.exec = Jvm.exec) (hb : c.code = cc) {rt : FieldType} (hr : meth.sig.returnType = some rt) (hrt : (∃ n, rt = .object n) ∨ ∃ t, rt = .array t) (hlk : meth.locks = false) (hw : nS G (xE G ad (xV w w1 w2 w3) X sp sh) s H locs) (hp : post o (w, w1, w2, w3, X, sp, sh)) (hdg : decode cc pc = .ok (.areturn, 1)) : W p l e R s m args below meth c H locs cells slots (MQ below (va_Qq post (fun u => nC G (xE G ad (xV u.1 u.2.1 u.2.2.1 u.2.2.2.1) u.2.2.2.2.1 u.2.2.2.2.2.1 u.2.2.2.2.2.2)) (nA G)) args s cells slots (nA G)) (F0 m pc ls [va_rf o]) :=
  W.aret hexec hb hr hrt (rf_or o) (fun t ht hW => ⟨⟨o, (w, w1, w2, w3, X, sp, sh), rfl, hp, hw.at ht hW⟩, hw.S.F ht⟩) hw.S.2.2 hdg hlk
theorem lx_vret {p : Program} {l : Launch} {e : Env} {R : Room} {s : State} {m : MethodId} {args : Array Value} {below : List Frame} {meth : Method} {c : Code} {H : Heap} {locs : List Loc} {cells slots : Nat} {cc : ByteArray} {pc : Nat} {ls : Array Slot} {G : nG} {ad : Nat → Nat} {w w1 w2 w3 : rw84} {X : mM} {sp : xSp} {sh : xSh} {post postT : xSt → Prop} {xa : Nat} (hexec : p.tables.exec = Jvm.exec) (hb : c.code = cc) (hr : meth.sig.returnType = none) (hlk : meth.locks = false) (hw : nS G (xE G ad (xV w w1 w2 w3) X sp sh) s H locs) (hu : post (w, w1, w2, w3, X, sp, sh)) (hdg : decode cc pc = .ok (.return_, 1)) : W p l e R s m args below meth c H locs cells slots (MQX below (xQ G (fun _ => none) post postT xa (fun u => xE G ad (xV u.1 u.2.1 u.2.2.1 u.2.2.2.1) u.2.2.2.2.1 u.2.2.2.2.2.1 u.2.2.2.2.2.2)) args s cells slots (nA G)) (F0 m pc ls []) :=
  x_vret hexec hb hr hlk (w, w1, w2, w3, X, sp, sh) hw rfl hu hdg
theorem lx_aret {p : Program} {l : Launch} {e : Env} {R : Room} {s : State} {m : MethodId} {args : Array Value} {below : List Frame} {meth : Method} {c : Code} {H : Heap} {locs : List Loc} {cells slots : Nat} {cc : ByteArray} {pc : Nat} {ls : Array Slot} {G : nG} {ad : Nat → Nat} {w w1 w2 w3 : rw84} {X : mM} {sp : xSp} {sh : xSh} {post postT : xSt → Prop} {xa : Nat} {v : Value} {rt : FieldType} (hexec : p.tables.exec = Jvm.exec) (hb : c.code = cc) (hr : meth.sig.returnType = some rt) (hrt : (∃ n, rt = .object n) ∨ ∃ t, rt = .array t) (hlk : meth.locks = false) (hv0 : v = .null ∨ ∃ a, v = .ref a) (hw : nS G (xE G ad (xV w w1 w2 w3) X sp sh) s H locs) (hu : post (w, w1, w2, w3, X, sp, sh)) (hdg : decode cc pc = .ok (.areturn, 1)) : W p l e R s m args below meth c H locs cells slots (MQX below (xQ G (fun _ => some v) post postT xa (fun u => xE G ad (xV u.1 u.2.1 u.2.2.1 u.2.2.2.1) u.2.2.2.2.1 u.2.2.2.2.2.1 u.2.2.2.2.2.2)) args s cells slots (nA G)) (F0 m pc ls [v]) :=
  x_aret hexec hb hr hrt hlk hv0 (w, w1, w2, w3, X, sp, sh) hw rfl hu hdg
theorem lx_out {p : Program} {l : Launch} {e : Env} {R : Room} {s : State} {m : MethodId} {args : Array Value} {below : List Frame} {meth : Method} {c : Code} {H : Heap} {locs : List Loc} {cells slots : Nat} {pc : Nat} {ls : Array Slot} {G : nG} {ad : Nat → Nat} {w w1 w2 w3 : rw84} {X : mM} {sp : xSp} {sh : xSh} {val : xSt → Option Value} {post postT : xSt → Prop} {xa : Nat} {st : List Value} (hlk : meth.locks = false) (hnh : c.exceptionTable.isEmpty = true) (hw : nS G (xE G ad (xV w w1 w2 w3) X sp sh) s H locs) (hu : postT (w, w1, w2, w3, X, sp, sh)) : exW p l e R s m args below meth c H locs cells slots (MQX below (xQ G val post postT xa (fun u => xE G ad (xV u.1 u.2.1 u.2.2.1 u.2.2.2.1) u.2.2.2.2.1 u.2.2.2.2.2.1 u.2.2.2.2.2.2)) args s cells slots (nA G)) (F0 m pc ls st) xa :=
  x_out hlk hnh (w, w1, w2, w3, X, sp, sh) hw hu
theorem hdS_X0_length : yX0_length.cls = "LineCalls" ∧ yX0_length.cls ≠ "java/lang/invoke/MethodHandle" ∧ yX0_length.cls ≠ "java/lang/invoke/VarHandle" ∧ (parseMethodDescriptor yX0_length.desc).map (fun d => d.parameters.length) = some 1 := by decide +kernel
set_option maxHeartbeats 4000000 in
theorem tX_length (l : Launch) (G : nG) (E : nE) (k t n a : Nat) (f : Nat → Int32) (he : E k = some (a, .inl (G.2.1 t, n, .inl f))) (ht : t < 3) (hn : n ≤ 40) : Met l yX0_length (ws_ yX0_length cX0_length 1 (some .int)) { frames := 0, cells := 0, slots := 0, locals := 0 } (va_Pc [.ref a] (nC G (E))) (vp_Si (fun r => r = nI n)) 0 0 (fun _ => False) := by
  refine n_head (by decide) (Nat.le_of_ble_eq_true rfl) ?_
  intro p e s m below meth c ls hx hb hr hlk hml hown hts hB0 hl
  have hown : s.vm.findClass "LineCalls" = some m.cls := hown
  have hw := nS.start hB0
  have hl : lv_has ls 1 [(0, .ref a)] := hl
  rcases (show t = 0 ∨ t = 1 ∨ t = 2 by omega) with rfl | rfl | rfl
  · skip
    refine lv_aload_n hx hb dX0_length_0 rfl (lv_at hl 0 rfl) ?_
    refine va_instNo hx hb hown (hts _ q905) hw.X.2.2.2.2.2.2.1 (n_recA (t := 0) hw he (by decide)) dX0_length_1 ?_
    refine lv_if_eq (tgt := 15) hx hb dX0_length_4 (by decide) (fun c_4 => ?_) (fun c_4 => ?_)
    · skip
      refine lv_aload_n hx hb dX0_length_15 rfl (lv_at hl 0 rfl) ?_
      refine va_instNo hx hb hown (hts _ q906) hw.X.2.2.2.2.2.2.2.2.1 (n_recA (t := 0) hw he (by decide)) dX0_length_16 ?_
      refine lv_if_eq (tgt := 30) hx hb dX0_length_19 (by decide) (fun c_19 => ?_) (fun c_19 => ?_)
      · skip
        refine lv_aload_n hx hb dX0_length_30 rfl (lv_at hl 0 rfl) ?_
        refine va_castE hx hb hown (hts _ q907) (n_recA (t := 0) hw he (by decide)) dX0_length_31 ?_
        refine n_alen (k := k) (t := 0) hx hb hw he (by decide) dX0_length_34 ?_
        exact n_pret hx hb hr hlk rfl rfl dX0_length_35
      · skip
        exact absurd rfl c_19
    · skip
      exact absurd rfl c_4
  · skip
    refine lv_aload_n hx hb dX0_length_0 rfl (lv_at hl 0 rfl) ?_
    refine va_instE hx hb hown (hts _ q905) (n_recA (t := 1) hw he (by decide)) dX0_length_1 ?_
    refine lv_if_eq (tgt := 15) hx hb dX0_length_4 (by decide) (fun c_4 => ?_) (fun c_4 => ?_)
    · skip
      exact absurd c_4 (by decide)
    · skip
      refine lv_aload_n hx hb dX0_length_7 rfl (lv_at hl 0 rfl) ?_
      refine va_castE hx hb hown (hts _ q905) (n_recA (t := 1) hw he (by decide)) dX0_length_8 ?_
      refine n_alen (k := k) (t := 1) hx hb hw he (by decide) dX0_length_11 ?_
      refine lv_goto (tgt := 35) hx hb dX0_length_12 (by decide) ?_
      exact n_pret hx hb hr hlk rfl rfl dX0_length_35
  · skip
    refine lv_aload_n hx hb dX0_length_0 rfl (lv_at hl 0 rfl) ?_
    refine va_instNo hx hb hown (hts _ q905) hw.X.2.2.2.2.2.2.2.1 (n_recA (t := 2) hw he (by decide)) dX0_length_1 ?_
    refine lv_if_eq (tgt := 15) hx hb dX0_length_4 (by decide) (fun c_4 => ?_) (fun c_4 => ?_)
    · skip
      refine lv_aload_n hx hb dX0_length_15 rfl (lv_at hl 0 rfl) ?_
      refine va_instE hx hb hown (hts _ q906) (n_recA (t := 2) hw he (by decide)) dX0_length_16 ?_
      refine lv_if_eq (tgt := 30) hx hb dX0_length_19 (by decide) (fun c_19 => ?_) (fun c_19 => ?_)
      · skip
        exact absurd c_19 (by decide)
      · skip
        refine lv_aload_n hx hb dX0_length_22 rfl (lv_at hl 0 rfl) ?_
        refine va_castE hx hb hown (hts _ q906) (n_recA (t := 2) hw he (by decide)) dX0_length_23 ?_
        refine n_alen (k := k) (t := 2) hx hb hw he (by decide) dX0_length_26 ?_
        refine lv_goto (tgt := 35) hx hb dX0_length_27 (by decide) ?_
        exact n_pret hx hb hr hlk rfl rfl dX0_length_35
    · skip
      exact absurd rfl c_4
theorem hdS_X0_number : yX0_number.cls = "LineCalls" ∧ yX0_number.cls ≠ "java/lang/invoke/MethodHandle" ∧ yX0_number.cls ≠ "java/lang/invoke/VarHandle" ∧ (parseMethodDescriptor yX0_number.desc).map (fun d => d.parameters.length) = some 2 := by decide +kernel
set_option maxHeartbeats 4000000 in
theorem tX_number (l : Launch) (G : nG) (E : nE) (k t n a : Nat) (f : Nat → Int32) (he : E k = some (a, .inl (G.2.1 t, n, .inl f))) (ht : t < 3) (hn : n ≤ 40) (i : Nat) (hi : i < n) : Met l yX0_number (ws_ yX0_number cX0_number 2 (some .int)) { frames := 0, cells := 0, slots := 0, locals := 0 } (va_Pc [.ref a, .int (nI i)] (nC G (E))) (vp_Si (fun r => r = f i)) 0 0 (fun _ => False) := by
  refine n_head (by decide) (Nat.le_of_ble_eq_true rfl) ?_
  intro p e s m below meth c ls hx hb hr hlk hml hown hts hB0 hl
  have hown : s.vm.findClass "LineCalls" = some m.cls := hown
  have hw := nS.start hB0
  have hl : lv_has ls 2 [(0, .ref a), (1, .int (nI i))] := hl
  rcases (show t = 0 ∨ t = 1 ∨ t = 2 by omega) with rfl | rfl | rfl
  · skip
    refine lv_aload_n hx hb dX0_number_0 rfl (lv_at hl 0 rfl) ?_
    refine va_instNo hx hb hown (hts _ q905) hw.X.2.2.2.2.2.2.1 (n_recA (t := 0) hw he (by decide)) dX0_number_1 ?_
    refine lv_if_eq (tgt := 16) hx hb dX0_number_4 (by decide) (fun c_4 => ?_) (fun c_4 => ?_)
    · skip
      refine lv_aload_n hx hb dX0_number_16 rfl (lv_at hl 0 rfl) ?_
      refine va_instNo hx hb hown (hts _ q906) hw.X.2.2.2.2.2.2.2.2.1 (n_recA (t := 0) hw he (by decide)) dX0_number_17 ?_
      refine lv_if_eq (tgt := 32) hx hb dX0_number_20 (by decide) (fun c_20 => ?_) (fun c_20 => ?_)
      · skip
        refine lv_aload_n hx hb dX0_number_32 rfl (lv_at hl 0 rfl) ?_
        refine va_castE hx hb hown (hts _ q907) (n_recA (t := 0) hw he (by decide)) dX0_number_33 ?_
        refine lv_iload_n hx hb dX0_number_36 rfl (lv_at hl 1 rfl) ?_
        refine n_iald (k := k) (j := i) hx hb hw he rfl (by omega) (by omega) dX0_number_37 ?_
        exact n_pret hx hb hr hlk rfl rfl dX0_number_38
      · skip
        exact absurd rfl c_20
    · skip
      exact absurd rfl c_4
  · skip
    refine lv_aload_n hx hb dX0_number_0 rfl (lv_at hl 0 rfl) ?_
    refine va_instE hx hb hown (hts _ q905) (n_recA (t := 1) hw he (by decide)) dX0_number_1 ?_
    refine lv_if_eq (tgt := 16) hx hb dX0_number_4 (by decide) (fun c_4 => ?_) (fun c_4 => ?_)
    · skip
      exact absurd c_4 (by decide)
    · skip
      refine lv_aload_n hx hb dX0_number_7 rfl (lv_at hl 0 rfl) ?_
      refine va_castE hx hb hown (hts _ q905) (n_recA (t := 1) hw he (by decide)) dX0_number_8 ?_
      refine lv_iload_n hx hb dX0_number_11 rfl (lv_at hl 1 rfl) ?_
      refine n_bald (k := k) (j := i) hx hb hw he rfl (by omega) (by omega) dX0_number_12 ?_
      refine lv_goto (tgt := 38) hx hb dX0_number_13 (by decide) ?_
      exact n_pret hx hb hr hlk rfl rfl dX0_number_38
  · skip
    refine lv_aload_n hx hb dX0_number_0 rfl (lv_at hl 0 rfl) ?_
    refine va_instNo hx hb hown (hts _ q905) hw.X.2.2.2.2.2.2.2.1 (n_recA (t := 2) hw he (by decide)) dX0_number_1 ?_
    refine lv_if_eq (tgt := 16) hx hb dX0_number_4 (by decide) (fun c_4 => ?_) (fun c_4 => ?_)
    · skip
      refine lv_aload_n hx hb dX0_number_16 rfl (lv_at hl 0 rfl) ?_
      refine va_instE hx hb hown (hts _ q906) (n_recA (t := 2) hw he (by decide)) dX0_number_17 ?_
      refine lv_if_eq (tgt := 32) hx hb dX0_number_20 (by decide) (fun c_20 => ?_) (fun c_20 => ?_)
      · skip
        exact absurd c_20 (by decide)
      · skip
        refine lv_aload_n hx hb dX0_number_23 rfl (lv_at hl 0 rfl) ?_
        refine va_castE hx hb hown (hts _ q906) (n_recA (t := 2) hw he (by decide)) dX0_number_24 ?_
        refine lv_iload_n hx hb dX0_number_27 rfl (lv_at hl 1 rfl) ?_
        refine n_sald (k := k) (j := i) hx hb hw he rfl (by omega) (by omega) dX0_number_28 ?_
        refine lv_goto (tgt := 38) hx hb dX0_number_29 (by decide) ?_
        exact n_pret hx hb hr hlk rfl rfl dX0_number_38
    · skip
      exact absurd rfl c_4
theorem hdS_X0_widthOf : yX0_widthOf.cls = "LineCalls" ∧ yX0_widthOf.cls ≠ "java/lang/invoke/MethodHandle" ∧ yX0_widthOf.cls ≠ "java/lang/invoke/VarHandle" ∧ (parseMethodDescriptor yX0_widthOf.desc).map (fun d => d.parameters.length) = some 1 := by decide +kernel
set_option maxHeartbeats 4000000 in
theorem tX_widthOf (l : Launch) (G : nG) (E : nE) (k t n a : Nat) (f : Nat → Int32) (he : E k = some (a, .inl (G.2.1 t, n, .inl f))) (ht : t < 3) (hn : n ≤ 40) : Met l yX0_widthOf (ws_ yX0_widthOf cX0_widthOf 1 (some .int)) { frames := 0, cells := 0, slots := 0, locals := 0 } (va_Pc [.ref a] (nC G (E))) (vp_Si (fun r => r = wdT t)) 0 0 (fun _ => False) := by
  refine n_head (by decide) (Nat.le_of_ble_eq_true rfl) ?_
  intro p e s m below meth c ls hx hb hr hlk hml hown hts hB0 hl
  have hown : s.vm.findClass "LineCalls" = some m.cls := hown
  have hw := nS.start hB0
  have hl : lv_has ls 1 [(0, .ref a)] := hl
  rcases (show t = 0 ∨ t = 1 ∨ t = 2 by omega) with rfl | rfl | rfl
  · skip
    refine lv_aload_n hx hb dX0_widthOf_0 rfl (lv_at hl 0 rfl) ?_
    refine va_instNo hx hb hown (hts _ q905) hw.X.2.2.2.2.2.2.1 (n_recA (t := 0) hw he (by decide)) dX0_widthOf_1 ?_
    refine lv_if_eq (tgt := 12) hx hb dX0_widthOf_4 (by decide) (fun c_4 => ?_) (fun c_4 => ?_)
    · skip
      refine lv_aload_n hx hb dX0_widthOf_12 rfl (lv_at hl 0 rfl) ?_
      refine va_instNo hx hb hown (hts _ q906) hw.X.2.2.2.2.2.2.2.2.1 (n_recA (t := 0) hw he (by decide)) dX0_widthOf_13 ?_
      refine lv_if_eq (tgt := 24) hx hb dX0_widthOf_16 (by decide) (fun c_16 => ?_) (fun c_16 => ?_)
      · skip
        refine lv_bipush (v := 32) hx hb dX0_widthOf_24 (by decide) ?_
        exact n_pret hx hb hr hlk rfl rfl dX0_widthOf_26
      · skip
        exact absurd rfl c_16
    · skip
      exact absurd rfl c_4
  · skip
    refine lv_aload_n hx hb dX0_widthOf_0 rfl (lv_at hl 0 rfl) ?_
    refine va_instE hx hb hown (hts _ q905) (n_recA (t := 1) hw he (by decide)) dX0_widthOf_1 ?_
    refine lv_if_eq (tgt := 12) hx hb dX0_widthOf_4 (by decide) (fun c_4 => ?_) (fun c_4 => ?_)
    · skip
      exact absurd c_4 (by decide)
    · skip
      refine lv_bipush (v := 8) hx hb dX0_widthOf_7 (by decide) ?_
      refine lv_goto (tgt := 26) hx hb dX0_widthOf_9 (by decide) ?_
      exact n_pret hx hb hr hlk rfl rfl dX0_widthOf_26
  · skip
    refine lv_aload_n hx hb dX0_widthOf_0 rfl (lv_at hl 0 rfl) ?_
    refine va_instNo hx hb hown (hts _ q905) hw.X.2.2.2.2.2.2.2.1 (n_recA (t := 2) hw he (by decide)) dX0_widthOf_1 ?_
    refine lv_if_eq (tgt := 12) hx hb dX0_widthOf_4 (by decide) (fun c_4 => ?_) (fun c_4 => ?_)
    · skip
      refine lv_aload_n hx hb dX0_widthOf_12 rfl (lv_at hl 0 rfl) ?_
      refine va_instE hx hb hown (hts _ q906) (n_recA (t := 2) hw he (by decide)) dX0_widthOf_13 ?_
      refine lv_if_eq (tgt := 24) hx hb dX0_widthOf_16 (by decide) (fun c_16 => ?_) (fun c_16 => ?_)
      · skip
        exact absurd c_16 (by decide)
      · skip
        refine lv_bipush (v := 16) hx hb dX0_widthOf_19 (by decide) ?_
        refine lv_goto (tgt := 26) hx hb dX0_widthOf_21 (by decide) ?_
        exact n_pret hx hb hr hlk rfl rfl dX0_widthOf_26
    · skip
      exact absurd rfl c_4
theorem hdS_X0_lay : yX0_lay.cls = "LineCalls" ∧ yX0_lay.cls ≠ "java/lang/invoke/MethodHandle" ∧ yX0_lay.cls ≠ "java/lang/invoke/VarHandle" ∧ (parseMethodDescriptor yX0_lay.desc).map (fun d => d.parameters.length) = some 3 := by decide +kernel
set_option maxHeartbeats 4000000 in
theorem tX_lay (l : Launch) (G : nG) (E : nE) (k t n a : Nat) (f : Nat → Int32) (he : E k = some (a, .inl (G.2.1 t, n, .inl f))) (ht : t < 3) (hn : n ≤ 40) (i : Nat) (v : Int32) (hi : i < n) : Met l yX0_lay (ws_ yX0_lay cX0_lay 3 (none)) { frames := 0, cells := 0, slots := 0, locals := 0 } (va_Pc [.ref a, .int (nI i), .int v] (nC G (E))) (va_Qv (fun (u : Unit) => True) (fun u => nC G (va_up E k (some (a, .inl (G.2.1 t, n, .inl (upd f i (cutT t v))))))) (nA G)) 0 0 (nA G) := by
  refine n_head (by decide) (Nat.le_of_ble_eq_true rfl) ?_
  intro p e s m below meth c ls hx hb hr hlk hml hown hts hB0 hl
  have hown : s.vm.findClass "LineCalls" = some m.cls := hown
  have hw := nS.start hB0
  have hl : lv_has ls 3 [(0, .ref a), (1, .int (nI i)), (2, .int v)] := hl
  rcases (show t = 0 ∨ t = 1 ∨ t = 2 by omega) with rfl | rfl | rfl
  · skip
    refine lv_aload_n hx hb dX0_lay_0 rfl (lv_at hl 0 rfl) ?_
    refine va_instNo hx hb hown (hts _ q905) hw.X.2.2.2.2.2.2.1 (n_recA (t := 0) hw he (by decide)) dX0_lay_1 ?_
    refine lv_if_eq (tgt := 18) hx hb dX0_lay_4 (by decide) (fun c_4 => ?_) (fun c_4 => ?_)
    · skip
      refine lv_aload_n hx hb dX0_lay_18 rfl (lv_at hl 0 rfl) ?_
      refine va_instNo hx hb hown (hts _ q906) hw.X.2.2.2.2.2.2.2.2.1 (n_recA (t := 0) hw he (by decide)) dX0_lay_19 ?_
      refine lv_if_eq (tgt := 36) hx hb dX0_lay_22 (by decide) (fun c_22 => ?_) (fun c_22 => ?_)
      · skip
        refine lv_aload_n hx hb dX0_lay_36 rfl (lv_at hl 0 rfl) ?_
        refine va_castE hx hb hown (hts _ q907) (n_recA (t := 0) hw he (by decide)) dX0_lay_37 ?_
        refine lv_iload_n hx hb dX0_lay_40 rfl (lv_at hl 1 rfl) ?_
        refine lv_iload_n hx hb dX0_lay_41 rfl (lv_at hl 2 rfl) ?_
        refine n_iast (k := k) (j := i) hx hb hw he rfl (by omega) (by omega) dX0_lay_42 (fun H locs hw => ?_)
        exact n_vret hx hb hr hlk () hw trivial dX0_lay_43
      · skip
        exact absurd rfl c_22
    · skip
      exact absurd rfl c_4
  · skip
    refine lv_aload_n hx hb dX0_lay_0 rfl (lv_at hl 0 rfl) ?_
    refine va_instE hx hb hown (hts _ q905) (n_recA (t := 1) hw he (by decide)) dX0_lay_1 ?_
    refine lv_if_eq (tgt := 18) hx hb dX0_lay_4 (by decide) (fun c_4 => ?_) (fun c_4 => ?_)
    · skip
      exact absurd c_4 (by decide)
    · skip
      refine lv_aload_n hx hb dX0_lay_7 rfl (lv_at hl 0 rfl) ?_
      refine va_castE hx hb hown (hts _ q905) (n_recA (t := 1) hw he (by decide)) dX0_lay_8 ?_
      refine lv_iload_n hx hb dX0_lay_11 rfl (lv_at hl 1 rfl) ?_
      refine lv_iload_n hx hb dX0_lay_12 rfl (lv_at hl 2 rfl) ?_
      refine lv_i2b hx hb dX0_lay_13 rfl ?_
      refine n_bast (k := k) (j := i) hx hb hw he rfl (by omega) (by omega) dX0_lay_14 (fun H locs hw => ?_)
      refine lv_goto (tgt := 43) hx hb dX0_lay_15 (by decide) ?_
      rw [b8_b8] at hw
      exact n_vret hx hb hr hlk () hw trivial dX0_lay_43
  · skip
    refine lv_aload_n hx hb dX0_lay_0 rfl (lv_at hl 0 rfl) ?_
    refine va_instNo hx hb hown (hts _ q905) hw.X.2.2.2.2.2.2.2.1 (n_recA (t := 2) hw he (by decide)) dX0_lay_1 ?_
    refine lv_if_eq (tgt := 18) hx hb dX0_lay_4 (by decide) (fun c_4 => ?_) (fun c_4 => ?_)
    · skip
      refine lv_aload_n hx hb dX0_lay_18 rfl (lv_at hl 0 rfl) ?_
      refine va_instE hx hb hown (hts _ q906) (n_recA (t := 2) hw he (by decide)) dX0_lay_19 ?_
      refine lv_if_eq (tgt := 36) hx hb dX0_lay_22 (by decide) (fun c_22 => ?_) (fun c_22 => ?_)
      · skip
        exact absurd c_22 (by decide)
      · skip
        refine lv_aload_n hx hb dX0_lay_25 rfl (lv_at hl 0 rfl) ?_
        refine va_castE hx hb hown (hts _ q906) (n_recA (t := 2) hw he (by decide)) dX0_lay_26 ?_
        refine lv_iload_n hx hb dX0_lay_29 rfl (lv_at hl 1 rfl) ?_
        refine lv_iload_n hx hb dX0_lay_30 rfl (lv_at hl 2 rfl) ?_
        refine lv_i2s hx hb dX0_lay_31 rfl ?_
        refine n_sast (k := k) (j := i) hx hb hw he rfl (by omega) (by omega) dX0_lay_32 (fun H locs hw => ?_)
        refine lv_goto (tgt := 43) hx hb dX0_lay_33 (by decide) ?_
        rw [b16_b16] at hw
        exact n_vret hx hb hr hlk () hw trivial dX0_lay_43
    · skip
      exact absurd rfl c_4
theorem hdS_X0_slide : yX0_slide.cls = "LineCalls" ∧ yX0_slide.cls ≠ "java/lang/invoke/MethodHandle" ∧ yX0_slide.cls ≠ "java/lang/invoke/VarHandle" ∧ (parseMethodDescriptor yX0_slide.desc).map (fun d => d.parameters.length) = some 5 := by decide +kernel
set_option maxHeartbeats 4000000 in
theorem tX_slide (l : Launch) (G : nG) (E : nE) (k0 k1 t n0 n1 a0 a1 : Nat) (f g : Nat → Int32) (he0 : E k0 = some (a0, .inl (G.2.1 t, n0, .inl f))) (he1 : E k1 = some (a1, .inl (G.2.1 t, n1, .inl g))) (ht : t < 3) (hn0 : n0 ≤ 40) (hn1 : n1 ≤ 40) (c0 c1 n : Nat) (h0 : c0 + n ≤ n0) (h1 : c1 + n ≤ n1) (hfit : ∀ i, i < n0 → cutT t (f i) = f i) : Met l yX0_slide (ws_ yX0_slide cX0_slide 5 (none)) { frames := 1, cells := 0, slots := 0, locals := 40 } (va_Pc [.ref a0, .int (nI c0), .ref a1, .int (nI c1), .int (nI n)] (nC G (E))) (va_Qv (fun (u : Unit) => True) (fun u => nC G (va_up E k1 (some (a1, .inl (G.2.1 t, n1, .inl (va_cpy f g c0 c1 n)))))) (nA G)) 0 0 (nA G) := by
  refine n_head (by decide) (Nat.le_of_ble_eq_true rfl) ?_
  intro p e s m below meth c ls hx hb hr hlk hml hown hts hB0 hl
  have hown : s.vm.findClass "LineCalls" = some m.cls := hown
  have hw := nS.start hB0
  have hl : lv_has ls 5 [(0, .ref a0), (1, .int (nI c0)), (2, .ref a1), (3, .int (nI c1)), (4, .int (nI n))] := hl
  rcases (show t = 0 ∨ t = 1 ∨ t = 2 by omega) with rfl | rfl | rfl
  · skip
    refine lv_aload_n hx hb dX0_slide_0 rfl (lv_at hl 0 rfl) ?_
    refine va_instNo hx hb hown (hts _ q905) hw.X.2.2.2.2.2.2.1 (n_recA (t := 0) hw he0 (by decide)) dX0_slide_1 ?_
    refine lv_if_eq (tgt := 25) hx hb dX0_slide_4 (by decide) (fun c_4 => ?_) (fun c_4 => ?_)
    · skip
      refine lv_aload_n hx hb dX0_slide_25 rfl (lv_at hl 0 rfl) ?_
      refine va_instNo hx hb hown (hts _ q906) hw.X.2.2.2.2.2.2.2.2.1 (n_recA (t := 0) hw he0 (by decide)) dX0_slide_26 ?_
      refine lv_if_eq (tgt := 50) hx hb dX0_slide_29 (by decide) (fun c_29 => ?_) (fun c_29 => ?_)
      · skip
        refine lv_aload_n hx hb dX0_slide_50 rfl (lv_at hl 0 rfl) ?_
        refine va_castE hx hb hown (hts _ q907) (n_recA (t := 0) hw he0 (by decide)) dX0_slide_51 ?_
        refine lv_iload_n hx hb dX0_slide_54 rfl (lv_at hl 1 rfl) ?_
        refine lv_aload_n hx hb dX0_slide_55 rfl (lv_at hl 2 rfl) ?_
        refine va_castE hx hb hown (hts _ q907) (n_recA (t := 0) hw he1 (by decide)) dX0_slide_56 ?_
        refine lv_iload_n hx hb dX0_slide_59 rfl (lv_at hl 3 rfl) ?_
        refine lv_iload hx hb dX0_slide_60 (lv_at hl 4 rfl) ?_
        refine n_copyi hx hb (hml.trans hl.1.symm) hown (hts _ q1146) (hts _ q782) (hts _ q781) (hts _ q109) hw he0 he1 (t := 0) rfl rfl (sp := c0) (dp := c1) (n := n) (by omega) (by omega) (by omega) (by omega) (fun _ _ => rfl) (by decide) (by decide) dX0_slide_62 (fun H locs hw => ?_)
        exact n_vret hx hb hr hlk () hw trivial dX0_slide_65
      · skip
        exact absurd rfl c_29
    · skip
      exact absurd rfl c_4
  · skip
    refine lv_aload_n hx hb dX0_slide_0 rfl (lv_at hl 0 rfl) ?_
    refine va_instE hx hb hown (hts _ q905) (n_recA (t := 1) hw he0 (by decide)) dX0_slide_1 ?_
    refine lv_if_eq (tgt := 25) hx hb dX0_slide_4 (by decide) (fun c_4 => ?_) (fun c_4 => ?_)
    · skip
      exact absurd c_4 (by decide)
    · skip
      refine lv_aload_n hx hb dX0_slide_7 rfl (lv_at hl 0 rfl) ?_
      refine va_castE hx hb hown (hts _ q905) (n_recA (t := 1) hw he0 (by decide)) dX0_slide_8 ?_
      refine lv_iload_n hx hb dX0_slide_11 rfl (lv_at hl 1 rfl) ?_
      refine lv_aload_n hx hb dX0_slide_12 rfl (lv_at hl 2 rfl) ?_
      refine va_castE hx hb hown (hts _ q905) (n_recA (t := 1) hw he1 (by decide)) dX0_slide_13 ?_
      refine lv_iload_n hx hb dX0_slide_16 rfl (lv_at hl 3 rfl) ?_
      refine lv_iload hx hb dX0_slide_17 (lv_at hl 4 rfl) ?_
      refine n_copyi hx hb (hml.trans hl.1.symm) hown (hts _ q1146) (hts _ q782) (hts _ q781) (hts _ q109) hw he0 he1 (t := 1) rfl rfl (sp := c0) (dp := c1) (n := n) (by omega) (by omega) (by omega) (by omega) (fun i hi => by rw [← hfit (c0 + i) (by omega)]; exact pk_fb _) (by decide) (by decide) dX0_slide_19 (fun H locs hw => ?_)
      refine lv_goto (tgt := 65) hx hb dX0_slide_22 (by decide) ?_
      exact n_vret hx hb hr hlk () hw trivial dX0_slide_65
  · skip
    refine lv_aload_n hx hb dX0_slide_0 rfl (lv_at hl 0 rfl) ?_
    refine va_instNo hx hb hown (hts _ q905) hw.X.2.2.2.2.2.2.2.1 (n_recA (t := 2) hw he0 (by decide)) dX0_slide_1 ?_
    refine lv_if_eq (tgt := 25) hx hb dX0_slide_4 (by decide) (fun c_4 => ?_) (fun c_4 => ?_)
    · skip
      refine lv_aload_n hx hb dX0_slide_25 rfl (lv_at hl 0 rfl) ?_
      refine va_instE hx hb hown (hts _ q906) (n_recA (t := 2) hw he0 (by decide)) dX0_slide_26 ?_
      refine lv_if_eq (tgt := 50) hx hb dX0_slide_29 (by decide) (fun c_29 => ?_) (fun c_29 => ?_)
      · skip
        exact absurd c_29 (by decide)
      · skip
        refine lv_aload_n hx hb dX0_slide_32 rfl (lv_at hl 0 rfl) ?_
        refine va_castE hx hb hown (hts _ q906) (n_recA (t := 2) hw he0 (by decide)) dX0_slide_33 ?_
        refine lv_iload_n hx hb dX0_slide_36 rfl (lv_at hl 1 rfl) ?_
        refine lv_aload_n hx hb dX0_slide_37 rfl (lv_at hl 2 rfl) ?_
        refine va_castE hx hb hown (hts _ q906) (n_recA (t := 2) hw he1 (by decide)) dX0_slide_38 ?_
        refine lv_iload_n hx hb dX0_slide_41 rfl (lv_at hl 3 rfl) ?_
        refine lv_iload hx hb dX0_slide_42 (lv_at hl 4 rfl) ?_
        refine n_copyi hx hb (hml.trans hl.1.symm) hown (hts _ q1146) (hts _ q782) (hts _ q781) (hts _ q109) hw he0 he1 (t := 2) rfl rfl (sp := c0) (dp := c1) (n := n) (by omega) (by omega) (by omega) (by omega) (fun i hi => by rw [← hfit (c0 + i) (by omega)]; exact pk_fs _) (by decide) (by decide) dX0_slide_44 (fun H locs hw => ?_)
        refine lv_goto (tgt := 65) hx hb dX0_slide_47 (by decide) ?_
        exact n_vret hx hb hr hlk () hw trivial dX0_slide_65
    · skip
      exact absurd rfl c_4
theorem hdS_X0_refused : yX0_refused.cls = "LineCalls" ∧ yX0_refused.cls ≠ "java/lang/invoke/MethodHandle" ∧ yX0_refused.cls ≠ "java/lang/invoke/VarHandle" ∧ (parseMethodDescriptor yX0_refused.desc).map (fun d => d.parameters.length) = some 1 := by decide +kernel
set_option maxHeartbeats 4000000 in
theorem tL_refused (l : Launch) (G : nG) (ad : Nat → Nat) (w w1 w2 w3 : rw84) (X : mM) (sp : xSp) (sh : xSh) (k : Nat) : Met l yX0_refused (ws_ yX0_refused cX0_refused 2 (some (.object "LineCalls$Refusal"))) { frames := 0, cells := 0, slots := 0, locals := 0 } (va_Pc [.ref (ad 64), .int (nI k)] (nC G (xE G ad (xV w w1 w2 w3) X sp sh))) (va_Qq (fun (r : Option Nat) (u : xSt) => r = some (ad 65) ∧ u = (w, w1, w2, w3, u2 X 20 0 (nI k), sp, sh)) (fun u => nC G (xE G ad (xV u.1 u.2.1 u.2.2.1 u.2.2.2.1) u.2.2.2.2.1 u.2.2.2.2.2.1 u.2.2.2.2.2.2)) (nA G)) 0 0 (nA G) := by
  refine n_head (by decide) (Nat.le_of_ble_eq_true rfl) ?_
  intro p e s m below meth c ls hx hb hr hlk hml hown hts hB0 hl
  have hown : s.vm.findClass "LineCalls" = some m.cls := hown
  have hw := nS.start hB0
  have hl : lv_has ls 2 [(0, .ref (ad 64)), (1, .int (nI k))] := hl
  refine lv_aload_n hx hb dX0_refused_0 rfl (lv_at hl 0 rfl) ?_
  refine n_get (k := 64) hx hb hts in_X0 hown hw (xp 64) rfl 0 (by decide) q410 rfl dX0_refused_1 ?_
  refine lv_iload_n hx hb dX0_refused_4 rfl (lv_at hl 1 rfl) ?_
  refine l_putF hx hb hts hown hw q174 dX0_refused_5 (fun H locs hw => ?_)
  refine lv_aload_n hx hb dX0_refused_8 rfl (lv_at hl 0 rfl) ?_
  refine n_get (k := 64) hx hb hts in_X0 hown hw (xp 64) rfl 0 (by decide) q410 rfl dX0_refused_9 ?_
  exact l_qret (some (ad 65)) hx hb hr (Or.inl ⟨_, rfl⟩) hlk hw ⟨rfl, rfl⟩ dX0_refused_12
theorem hdS_X0_need : yX0_need.cls = "LineCalls" ∧ yX0_need.cls ≠ "java/lang/invoke/MethodHandle" ∧ yX0_need.cls ≠ "java/lang/invoke/VarHandle" ∧ (parseMethodDescriptor yX0_need.desc).map (fun d => d.parameters.length) = some 2 := by decide +kernel
set_option maxHeartbeats 4000000 in
theorem tL_need (l : Launch) (G : nG) (ad : Nat → Nat) (w w1 w2 w3 : rw84) (X : mM) (sp : xSp) (sh : xSh) (v : Int32) (k : Nat) : MetX l yX0_need (ws_ yX0_need cX0_need 3 (none)) { frames := 1, cells := 0, slots := 0, locals := 21 } (va_Pc [.ref (ad 64), .int v, .int (nI k)] (nC G (xE G ad (xV w w1 w2 w3) X sp sh))) (xQ G (fun (_ : xSt) => none) (fun (u : xSt) => ¬ v = 0 ∧ u = (w, w1, w2, w3, X, sp, sh)) (fun (u : xSt) => v = 0 ∧ u = (w, w1, w2, w3, u2 X 20 0 (nI k), sp, sh)) (ad 65) (fun u => xE G ad (xV u.1 u.2.1 u.2.2.1 u.2.2.2.1) u.2.2.2.2.1 u.2.2.2.2.2.1 u.2.2.2.2.2.2)) 0 0 (nA G) := by
  refine x_head (by decide) (Nat.le_of_ble_eq_true rfl) ?_
  intro p e s m below meth c ls hx hb hr hlk hml hown hts hnh hB0 hl
  have hown : s.vm.findClass "LineCalls" = some m.cls := hown
  have hw := nS.start hB0
  have hl : lv_has ls 3 [(0, .ref (ad 64)), (1, .int v), (2, .int (nI k))] := hl
  refine lv_iload_n hx hb dX0_need_0 rfl (lv_at hl 1 rfl) ?_
  refine lv_if_ne (tgt := 10) hx hb dX0_need_1 (by decide) (fun c_1 => ?_) (fun c_1 => ?_)
  · skip
    exact lx_vret hx hb hr hlk hw ⟨c_1, rfl⟩ dX0_need_10
  · skip
    refine lv_aload_n hx hb dX0_need_4 rfl (lv_at hl 0 rfl) ?_
    refine lv_iload_n hx hb dX0_need_5 rfl (lv_at hl 2 rfl) ?_
    refine n_callq (va_runV ⟨hx, hb, hml, hown, hts⟩ (tL_refused l G ad _ _ _ _ _ _ _ (k)) (cwV 1 hts (lw_V q890 q892 qs25 q90 q893) rfl rfl rfl hdS_X0_refused ⟨by decide, by decide⟩) (hw.preV (k := 64) (xp 64) rfl) rfl rfl hl.1 rfl (lv_room (by simp [Value.category])) dX0_need_6 ⟨Nat.zero_le _, Nat.zero_le _⟩) hw (fun r_6 u_6 H locs e_6 hw => ?_)
    obtain ⟨rfl, rfl⟩ := e_6
    have hw : nS G (xE G ad (xV _ _ _ _) _ _ _) s H locs := hw
    refine x_athrow hx hb dX0_need_9 ?_
    exact lx_out hlk hnh hw ⟨c_1, rfl⟩
theorem hdS_X0_rowAt : yX0_rowAt.cls = "LineCalls" ∧ yX0_rowAt.cls ≠ "java/lang/invoke/MethodHandle" ∧ yX0_rowAt.cls ≠ "java/lang/invoke/VarHandle" ∧ (parseMethodDescriptor yX0_rowAt.desc).map (fun d => d.parameters.length) = some 1 := by decide +kernel
set_option maxHeartbeats 4000000 in
theorem tL_rowAt (l : Launch) (G : nG) (ad : Nat → Nat) (w w1 w2 w3 : rw84) (X : mM) (sp : xSp) (sh : xSh) (t : Int32) : MetX l yX0_rowAt (ws_ yX0_rowAt cX0_rowAt 2 (some (.object "java/lang/Object"))) { frames := 2, cells := 0, slots := 0, locals := 43 } (va_Pc [.ref (ad 64), .int t] (nC G (xE G ad (xV w w1 w2 w3) X sp sh))) (xQ G (fun (_ : xSt) => some (va_rf ((sh (ix t)).map (fun q => q.1)))) (fun (u : xSt) => ¬ inF t 0 3 = 0 ∧ u = (w, w1, w2, w3, X, sp, sh)) (fun (u : xSt) => inF t 0 3 = 0 ∧ u = (w, w1, w2, w3, u2 X 20 0 (nI 0), sp, sh)) (ad 65) (fun u => xE G ad (xV u.1 u.2.1 u.2.2.1 u.2.2.2.1) u.2.2.2.2.1 u.2.2.2.2.2.1 u.2.2.2.2.2.2)) 0 0 (nA G) := by
  refine x_head (by decide) (Nat.le_of_ble_eq_true rfl) ?_
  intro p e s m below meth c ls hx hb hr hlk hml hown hts hnh hB0 hl
  have hown : s.vm.findClass "LineCalls" = some m.cls := hown
  have hw := nS.start hB0
  have hl : lv_has ls 2 [(0, .ref (ad 64)), (1, .int t)] := hl
  refine lv_aload_n hx hb dX0_rowAt_0 rfl (lv_at hl 0 rfl) ?_
  refine lv_iload_n hx hb dX0_rowAt_1 rfl (lv_at hl 1 rfl) ?_
  refine n_callp (va_runS ⟨hx, hb, hml, hown, hts⟩ (tX_isSheet l _) (va_cwS 1 hts (lw_S q883 q884 q90 q885) rfl rfl rfl (hdS_X0_isSheet).2 ⟨by decide, by decide⟩) pu_pre rfl rfl hl.1 rfl (lv_room (by simp [Value.category])) dX0_rowAt_2 ⟨Nat.zero_le _, Nat.zero_le _⟩) (fun r_2 e_2 => ?_)
  subst e_2
  refine lv_iconst (v := 0) hx hb dX0_rowAt_5 (by decide) ?_
  refine x_callN ⟨hx, hb, hml, hown, hts⟩ (tL_need l G ad _ _ _ _ _ _ _ _ (0)) (cwV 2 hts (lw_V q886 q888 qs24 q90 q889) rfl rfl rfl hdS_X0_need ⟨by decide, by decide⟩) (hw.preV (k := 64) (xp 64) rfl) rfl hl.1 rfl (by simp [Value.category]) dX0_rowAt_6 ⟨Nat.zero_le _, Nat.zero_le _⟩ hw (fun u_6 H locs e_6 hw => ?_) (fun u_6 H locs e_6 hw => ?_)
  · skip
    obtain ⟨t_6, rfl⟩ := e_6
    have hw : nS G (xE G ad (xV _ _ _ _) _ _ _) s H locs := hw
    obtain ⟨q, hq, rfl⟩ := in_nat (N := 3) rfl (by decide) t_6
    have iq : ix (nI q) = q := nI_clamp (by omega)
    rw [iq]
    refine lv_aload_n hx hb dX0_rowAt_9 rfl (lv_at hl 0 rfl) ?_
    refine n_get (k := 64) hx hb hts in_X0 hown hw (xp 64) rfl 9 (by decide) q424 rfl dX0_rowAt_10 ?_
    refine lv_iload_n hx hb dX0_rowAt_13 rfl (lv_at hl 1 rfl) ?_
    refine n_aaldS (k := 71) (t := 3) (j := q) (b := ad (310 + q)) hx hb hw (xp 71) (Or.inl rfl) rfl (by omega) (by decide) rfl dX0_rowAt_14 ?_
    refine n_getN (k := 310 + q) hx hb hts in_X5 hown hw (xshs q (by omega)) rfl 0 (by decide) q312 rfl dX0_rowAt_15 ?_
    exact lx_aret hx hb hr (Or.inl ⟨_, rfl⟩) hlk (rf_or _) hw ⟨t_6, rfl⟩ dX0_rowAt_18
  · skip
    obtain ⟨t_6, rfl⟩ := e_6
    have hw : nS G (xE G ad (xV _ _ _ _) _ _ _) s H locs := hw
    exact lx_out hlk hnh hw ⟨t_6, rfl⟩
