/-! rows of the outer class -/
set_option maxRecDepth 100000
abbrev xSt : Type := rw84 × rw84 × rw84 × rw84 × mM × xSp × xSh
section XL
variable {p : Program} {l : Launch} {e : Env} {R : Room} {s : State} {m : MethodId} {args : Array Value} {below : List Frame} {meth : Method} {c : Code} {H : Heap} {locs : List Loc} {cells slots : Nat} {Q : State → Prop}
variable {cc : ByteArray} {pc : Nat} {ls : Array Slot} {rest st0 : List Value} {G : nG} {E : nE} {ad : Nat → Nat} {w w1 w2 w3 : rw84} {X : mM} {sp : xSp} {sh : xSh}
theorem n_qret {post : Option Nat → Prop} {b : Nat} (hexec : p.tables.exec = Jvm.exec) (hb : c.code = cc) {rt : FieldType} (hr : meth.sig.returnType = some rt) (hrt : (∃ n, rt = .object n) ∨ ∃ t, rt = .array t) (hlk : meth.locks = false) (hp : post (some b)) (hdg : decode cc pc = .ok (.areturn, 1)) : W p l e R s m args below meth c s.heap [] cells slots (MQ below (va_Sq post) args s cells slots (fun _ => False)) (F0 m pc ls [.ref b]) :=
  W.aret hexec hb hr hrt (Or.inr ⟨b, rfl⟩) (fun t ht hW => ⟨some b, rfl, hp, ht⟩) (fun _ h => by cases h) hdg hlk
theorem n_callpq {a : Array Value} {post : Option Nat → Prop} (hr : va_Run p l e R s m args below meth c H locs cells slots 0 0 (F0 m pc ls st0) rest (va_Sq post a) (fun _ => False))
    (kk : ∀ r : Option Nat, post r → W p l e R s m args below meth c H locs cells slots Q (F0 m (pc + 3) ls (va_rf r :: rest))) : W p l e R s m args below meth c H locs cells slots Q (F0 m pc ls st0) := va_csq hr.run kk
theorem x_castJ (hexec : p.tables.exec = Jvm.exec) (hb : c.code = cc) (hown : s.vm.findClass "LineCalls" = some m.cls) (hts : ∀ w ∈ lw_all, w.before args s = true) (hw : nS G (xE G ad (xV w w1 w2 w3) X sp sh) s H locs) {kd k : Nat} (hd : kd < 7) (hk : k < 8) (hdg : decode cc pc = .ok (.checkcast 51, 3))
    (kk : W p l e R s m args below meth c H locs cells slots Q (F0 m (pc + 3) ls (.ref (ad (200 + (8 * kd + k))) :: rest))) : W p l e R s m args below meth c H locs cells slots Q (F0 m pc ls (.ref (ad (200 + (8 * kd + k))) :: rest)) := by
  match kd, hd with
  | 0, _ => exact va_castS hexec hb hown (hts _ q404) (hw.cls (ci := 6) (q := (RX6, TX6, 2)) rfl) (hw.recv (xjump 0 k (by decide) hk) rfl) hdg kk
  | 1, _ => exact va_castY hexec hb hown (hts _ q404) (hw.N _ q1706 rfl) (hw.recv (xjump 1 k (by decide) hk) rfl) hdg kk
  | 2, _ => exact va_castY hexec hb hown (hts _ q404) (hw.N _ q1705 rfl) (hw.recv (xjump 2 k (by decide) hk) rfl) hdg kk
  | 3, _ => exact va_castY hexec hb hown (hts _ q404) (hw.N _ q1708 rfl) (hw.recv (xjump 3 k (by decide) hk) rfl) hdg kk
  | 4, _ => exact va_castY hexec hb hown (hts _ q404) (hw.N _ q1704 rfl) (hw.recv (xjump 4 k (by decide) hk) rfl) hdg kk
  | 5, _ => exact va_castY hexec hb hown (hts _ q404) (hw.N _ q1707 rfl) (hw.recv (xjump 5 k (by decide) hk) rfl) hdg kk
  | 6, _ => exact va_castY hexec hb hown (hts _ q404) (hw.N _ q1703 rfl) (hw.recv (xjump 6 k (by decide) hk) rfl) hdg kk
theorem l_iret {post : Int32 → xSt → Prop} {v : Int32} (hexec : p.tables.exec = Jvm.exec) (hb : c.code = cc) {ty : FieldType} (hr : meth.sig.returnType = some ty) (hlk : meth.locks = false) (hn : narrow ty (.int v) = .int v) (hw : nS G (xE G ad (xV w w1 w2 w3) X sp sh) s H locs) (hp : post v (w, w1, w2, w3, X, sp, sh)) (hdg : decode cc pc = .ok (.ireturn, 1)) : W p l e R s m args below meth c H locs cells slots (MQ below (va_Qi post (fun u => nC G (xE G ad (xV u.1 u.2.1 u.2.2.1 u.2.2.2.1) u.2.2.2.2.1 u.2.2.2.2.2.1 u.2.2.2.2.2.2)) (nA G)) args s cells slots (nA G)) (F0 m pc ls [.int v]) :=
  n_iret hexec hb hr hlk hn (w, w1, w2, w3, X, sp, sh) hw hp hdg
theorem l_vret {post : xSt → Prop} (hexec : p.tables.exec = Jvm.exec) (hb : c.code = cc) (hr : meth.sig.returnType = none) (hlk : meth.locks = false) (hw : nS G (xE G ad (xV w w1 w2 w3) X sp sh) s H locs) (hp : post (w, w1, w2, w3, X, sp, sh)) (hdg : decode cc pc = .ok (.return_, 1)) : W p l e R s m args below meth c H locs cells slots (MQ below (va_Qv post (fun u => nC G (xE G ad (xV u.1 u.2.1 u.2.2.1 u.2.2.2.1) u.2.2.2.2.1 u.2.2.2.2.2.1 u.2.2.2.2.2.2)) (nA G)) args s cells slots (nA G)) (F0 m pc ls []) :=
  n_vret hexec hb hr hlk (w, w1, w2, w3, X, sp, sh) hw hp hdg
theorem l_lret {post : Int64 → xSt → Prop} {v : Int64} (hexec : p.tables.exec = Jvm.exec) (hb : c.code = cc) (hr : meth.sig.returnType = some .long) (hlk : meth.locks = false) (hw : nS G (xE G ad (xV w w1 w2 w3) X sp sh) s H locs) (hp : post v (w, w1, w2, w3, X, sp, sh)) (hdg : decode cc pc = .ok (.lreturn, 1)) : W p l e R s m args below meth c H locs cells slots (MQ below (va_Ql post (fun u => nC G (xE G ad (xV u.1 u.2.1 u.2.2.1 u.2.2.2.1) u.2.2.2.2.1 u.2.2.2.2.2.1 u.2.2.2.2.2.2)) (nA G)) args s cells slots (nA G)) (F0 m pc ls [.long v]) :=
  n_lret hexec hb hr hlk (w, w1, w2, w3, X, sp, sh) hw hp hdg
end XL
