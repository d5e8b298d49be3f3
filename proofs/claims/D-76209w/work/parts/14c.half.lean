/-! a call that lands in the default method half -/
set_option maxRecDepth 100000
section HFS
variable {Q : Unit → Pre} {E : CtlPost} {e : Env} {d : Bool} {acts : List Action} {s : State} {f : JFrame}
theorem hf_select {Q : Selection → Pre} {c : ClassId} {m : MethodId} {rm : Method} {mk : Class} (hp : e.platform.privateHidesDefault = true) (hsel : selectMethod e.platform s.vm c m = .method m) (hm : s.vm.method? m = some rm) (hmk : s.vm.classes[m.cls]? = some mk) (hitf : mk.isInterface = true) (h7 : ∀ k d, nearestHeld s.vm c rm.name rm.desc = some (k, .default d) → d = m) (h8 : ∀ k b, nearestHeld s.vm c rm.name rm.desc ≠ some (k, .thrower b)) : wp (invokeinterface.selectVirtual c m) Q E e d acts s ↔ Q (.method m) d acts s := by
  rcases hn : nearestHeld s.vm c rm.name rm.desc with _ | ⟨k, _ | d' | b⟩
  · simp [invokeinterface.selectVirtual, hm, selectFor_method hsel hm, hmk, hitf, hp, hn]
  · simp [invokeinterface.selectVirtual, hm, selectFor_method hsel hm, hmk, hitf, hp, hn]
  · cases h7 k d' hn
    simp [invokeinterface.selectVirtual, hm, selectFor_method hsel hm, hmk, hitf, hp, hn]
  · exact absurd hn (h8 k b)
theorem hf_wp {index a : Nat} {m : MethodId} {c' : ClassId} {k k' : Class} {rm : Method} {xs rest : List Value} {cell : Cell} (hs : s.topJava?.isSome) (hnamed : namesResolved s.vm f.method.cls index c') (hk' : s.vm.classes[c']? = some k') (hclass : k'.isInterface = false) (hr : s.vm.methodReady f.method.cls index m) (hk : s.vm.classes[m.cls]? = some k) (hm : s.vm.method? m = some rm) (hpoly : signaturePolymorphic k rm = false) (hstatic : rm.isStatic = false) (habs : rm.isAbstract = false) (hitf : k.isInterface = true)
    (hlen : xs.length = rm.sig.parameters.length) (hstack : f.stack = xs.reverse ++ .ref a :: rest) (hcell : s.heap[a]? = some cell) (hobj : ∀ c, cell.vm ≠ .statics c) (hp : e.platform.privateHidesDefault = true) (hsel : selectMethod e.platform s.vm cell.cls m = .method m) (h7 : ∀ k d, nearestHeld s.vm cell.cls rm.name rm.desc = some (k, .default d) → d = m) (h8 : ∀ k b, nearestHeld s.vm cell.cls rm.name rm.desc ≠ some (k, .thrower b)) :
    wp (invokevirtual.sem index) Q E e d acts (s.setTop f) ↔ E (.invoke m (.ref a :: xs).toArray) acts (s.setTop { f with stack := rest }) := by
  obtain ⟨kc, cf, ci, n, h1, h2, h3, h4⟩ := hnamed
  have hpre : ∀ {Q' : ClassId → Pre}, wp (Jvm.refClassAt index) Q' E e d acts (s.setTop f) ↔ Q' c' d acts (s.setTop f) := by
    intro Q'
    rcases h3 with h3 | h3 <;> simp [Jvm.refClassAt, Jvm.constantAt, State.method?_setTop f hs, h1, h2, h3, W.resolveClassAt_ready (State.method?_setTop f hs) h4]
  simp only [invokevirtual.sem, wp_bind', hpre, W.theClass, State.vm_setTop, hk', Option.some.injEq, exists_eq_left', W.ite, hclass, Bool.false_eq_true, if_false, wp_pure', W.resolveMethodAt_ready (State.method?_setTop f hs) hr]
  simp only [W.theMethod, State.vm_setTop, hm, Option.some.injEq, exists_eq_left', Seam.isPolymorphic, wp_bind', W.theClass, hk, wp_pure', hpoly, W.ite, Bool.false_eq_true, if_false, hstatic, Jvm.popArgs, ← hlen, popN_top hs hstack]
  simp [hs, hcell, hobj, hf_select (s := s.setTop { f with stack := rest }) hp hsel hm hk hitf h7 h8, hm, habs]
end HFS
section HFC
variable {p : Program} {l : Launch} {e : Env} {R : Room} {s : State} {m : MethodId} {args : Array Value} {below : List Frame} {meth : Method} {c : Code} {T : State} {locs : List Loc} {cells slots : Nat}
theorem hf_step (X : Stand p l e R s m args below meth c T locs cells slots) (hexec : p.tables.exec = Jvm.exec) (hown : s.vm.findClass "LineCalls$Prop" = some m.cls) (hH : nHf s) {C : String} (hC : nHalf C s) {m' : MethodId} {meth' : Method} (hn : s.methodNamed? yX14_half = some m') (hm' : s.vm.method? m' = some meth') (hst : meth'.isStatic = false) (habs : meth'.isAbstract = false)
    {b : Addr} {cell : Cell} (hcell : T.heap[b]? = some cell) (hobj : ∀ c, cell.vm ≠ .statics c) (hcls : s.vm.findClass C = some cell.cls) {g : JFrame} (hg : g.method = m) {xs rest : List Value} (hlen : xs.length = meth'.sig.parameters.length) (hstack : g.stack = xs.reverse ++ .ref b :: rest) (hdg : decode c.code g.pc = .ok (.invokevirtual 26, 3)) :
    ∃ vm', Stand p l e R s m args below meth c (T.setVm vm') locs cells slots ∧ ∀ target, (∀ acts, Steps p.tables e below (doInvoke e ((T.setVm vm').setTop { g with stack := rest }) acts m' (.ref b :: xs).toArray).1 target) → Steps p.tables e below (T.setTop g) target := by
  obtain ⟨c1, m1, rm, mk, q1, q2, q3, q4, q5, q6, q7, q8⟩ := hC
  cases hn.symm.trans q2
  cases hm'.symm.trans q3
  cases hcls.symm.trans q1
  have hlink : (Cond.methodLink "LineCalls$Prop" 26 ⟨"LineCalls$Prop", "half", "(I)I"⟩).before args s = true := word_at (State.WarmedH.refl s) (Or.inl rfl) hH.1
  have hsame : (Cond.sameMethod "LineCalls$Prop" "LineCalls$Jumps" "half" "(I)I").before args s = true := word_at (State.WarmedH.refl s) (Or.inl rfl) hH.2.1
  obtain ⟨cn, ck, r1, hcn, hck, hni, hf, hn1⟩ := Cond.sameMethod_found hsame
  cases hn.symm.trans hn1
  obtain ⟨ci, hl, hright⟩ := Cond.methodLink_specUp hown hcn hck hni hf hlink e.platform (by rw [X.admits.platform]) (by rw [X.admits.platform])
  have hE : s.MethodEntryUp e T.vm m.cls 26 cn m' ci := State.methodEntryUp X.warmed hl hright
  obtain ⟨kr, hkr, hnr⟩ := className_of_methodNamed hn
  cases hkr.symm.trans q5
  obtain ⟨dk, cfile, nt, _, _, _, _, _, hd, hcf, hcp, -⟩ := hl.here
  have al := hE.warmed.alike
  obtain ⟨dk2, hdk2, hres⟩ := hE.classReady
  obtain ⟨dk3, hdk3, hed⟩ := al.2.2 _ _ hd
  cases hdk2.symm.trans hdk3
  obtain ⟨kr2, hkr2, her⟩ := al.2.2 _ _ hkr
  obtain ⟨ck2, hck2, hec⟩ := al.2.2 _ _ hck
  refine ⟨T.vm.calledUp m.cls ci 26 cn m', X.noted hE.warmed, fun target hrest => ?_⟩
  subst hg
  jvm_step X.here [hexec, hdg, invokevirtual.wp_coldUp (e := e) (s := T) (s₀ := s) (f := g) X.here.top X.warmed hE hd hcf (Or.inl hcp) hck hni,
    hf_wp (e := e) (s := T.setVm (T.vm.calledUp g.method.cls ci 26 cn m')) (f := g) (m := m') (c' := cn) (k := kr2) (k' := ck2) (rm := meth') (a := b) (xs := xs) (rest := rest) (cell := cell) X.here.top ⟨dk2, cfile, ci, nt, hdk2, by rw [hed]; exact hcf, Or.inl hcp, dk2, hdk2, hres⟩ hck2 (by rw [hec]; exact hni) hE.ready hkr2 (by show (T.vm.calledUp g.method.cls ci 26 cn m').method? m' = some meth'; rw [al.method?]; exact hm') (by rw [her]; show signaturePolymorphic mk meth' = false; simp [signaturePolymorphic, hnr, yX14_half, RX14]) hst habs (by rw [her]; exact q6) hlen hstack hcell hobj (by rw [X.admits.platform]) (by show selectMethod e.platform (T.vm.calledUp g.method.cls ci 26 cn m') cell.cls m' = .method m'; rw [al.selectMethod, Launch.admits_selectMethod X.admits]; exact q4) (by show ∀ k d, nearestHeld (T.vm.calledUp g.method.cls ci 26 cn m') _ _ _ = _ → _; rw [hf_near al]; exact q7) (by show ∀ k b, nearestHeld (T.vm.calledUp g.method.cls ci 26 cn m') _ _ _ ≠ _; rw [hf_near al]; exact q8)]
  exact hrest
theorem hf_body {U target : State} {g : JFrame} {cg : Code} (h : At U g.method cg below) (hexec : p.tables.exec = Jvm.exec) {m' : MethodId} {meth' : Method} {code : Code} {b : Addr} {v : Int32} {ig : Instr} (acts : List Action) (hm : U.vm.method? m' = some meth') (hc : meth'.code = some code) (hplain : U.plainMethod m') (hl : meth'.locks = false) (hret : meth'.sig.returnType = some .int) (hlocals : code.maxLocals = 2) (hbytes : code.code = cX14_half)
    (hroom : e.platform.stackFull (((U.setTop g).threads[(U.setTop g).cur]?).getD { frames := [] }) (U.setTop g).frames code.maxLocals = false) (hdg : decode cg.code g.pc = .ok (ig, 3)) (hrest : Steps p.tables e below (U.setTop { g with pc := g.pc + 3, stack := .int (v / 2) :: g.stack }) target) : Steps p.tables e below (doInvoke e (U.setTop g) acts m' #[.ref b, .int v]).1 target := by
  rw [doInvoke_enter h.top acts hm hc hl hroom]
  have hT := At.enter (g := g) h #[.ref b, .int v] hm hc hplain
  have hf := frames_entered (g := g) h.top (.java (entryFrame m' #[.ref b, .int v] code.maxLocals))
  rw [hlocals] at hT hf ⊢
  show Steps p.tables e below (((U.setTop g).pushFrame (.java (entryFrame m' #[.ref b, .int v] 2))).setTop { method := m', pc := 0, locals := #[.val (.ref b), .val (.int v)], stack := [], locked := none }) target
  jvm_step hT [hexec, hbytes, dX14_half_0]
  jvm_step hT [hexec, hbytes, dX14_half_1]
  jvm_step hT [hexec, hbytes, dX14_half_2]
  jvm_step hT [hexec, hbytes, dX14_half_3, hret]
  refine ⟨meth', hm, .int, hret, fun acts' => ?_⟩
  rw [doReturn_leave (u := (U.setTop g).pushFrame (.java (entryFrame m' #[.ref b, .int v] 2))) (g := g) (meth := meth') (cg := cg) (ig := ig) (len := 3) (f := { method := m', pc := 3, locals := #[.val (.ref b), .val (.int v)], stack := [], locked := none }) acts' hf hm hl rfl rfl (by have := h.code; rw [State.code?_eq] at this ⊢; simpa [State.pushFrame, State.setFrames] using this) hdg, setFrames_entered h.top, State.setTop_setTop]
  exact hrest
variable {H : Heap} {Q : State → Prop} {cc : ByteArray} {pc : Nat} {ls : Array Slot} {rest : List Value} {G : nG} {E : nE}
/-- the call of half from high of a prop: an object of class C (Prop or Flanker) halves a number -/
theorem x_half (hexec : p.tables.exec = Jvm.exec) (hb : c.code = cc) (hml : c.maxLocals = ls.size) (hts : ∀ w ∈ lw_all, w.before args s = true) (hown : s.vm.findClass "LineCalls$Prop" = some m.cls) (hw : nS G E s H locs) {C : String} (hC : nHalf C s) {b : Nat} (hrecv : ∃ cell : Cell, H[b]? = some cell ∧ cell.vm.isStatics = false ∧ s.vm.findClass C = some cell.cls) {v : Int32} (hframes : 1 ≤ R.frames) (hlocals : (rest.map fun v => v.category).sum + 13 ≤ R.locals) (hdg : decode cc pc = .ok (.invokevirtual 26, 3))
    (kk : W p l e R s m args below meth c H locs cells slots Q (F0 m (pc + 3) ls (.int (v / 2) :: rest))) : W p l e R s m args below meth c H locs cells slots Q (F0 m pc ls (.int v :: .ref b :: rest)) := by
  obtain ⟨cellB, hcB, hoB, hclB⟩ := hrecv
  obtain ⟨mk, mt, hnamed, hmt, hst, hab⟩ := Cond.instanceMethod_spec (hts _ q596)
  obtain ⟨mt', c0, hmt', hc0, hby, hmx, hrt, hlk, -, hsig⟩ := Cond.code_spec hnamed (hts _ q598)
  cases hmt.symm.trans hmt'
  intro T hT X
  obtain ⟨vm1, X1, st1⟩ := hf_step X hexec hown hw.X.2.2.2.2.2.2.2.2.2 hC hnamed hmt hst hab (b := b) (cell := cellB) (by rw [hT]; exact hcB) (fun z h => by rw [h] at hoB; cases hoB) hclB (g := F0 m pc ls (.int v :: .ref b :: rest)) rfl (xs := [.int v]) (rest := rest) (by
    have h2 : parseMethodDescriptor "(I)I" = some mt.sig := hsig
    have h3 : (parseMethodDescriptor "(I)I").map (fun d => d.parameters.length) = some 1 := by decide +kernel
    rw [h2] at h3
    exact (Option.some.inj h3).symm) rfl (by rw [hb]; exact hdg)
  obtain ⟨t, a1, b1⟩ := kk (T.setVm vm1) hT X1
  have al := X1.warmed.alike
  refine ⟨t, st1 t fun acts => ?_, b1⟩
  refine hf_body (U := T.setVm vm1) (g := F0 m pc ls rest) (cg := c) (m' := mk) (meth' := mt) (code := c0) (ig := .invokevirtual 26) X1.here hexec acts (by show (T.setVm vm1).vm.method? mk = some mt; rw [al.method?]; exact hmt) hc0 ?_ hlk hrt hmx hby (X1.notFull (g := F0 m pc ls rest) (by show ls.size = _; rw [hml]) hframes (by show 2 * 0 + (rest.map fun v => v.category).sum + (c0.maxLocals + 11) ≤ _; rw [hmx]; omega)) (by rw [hb]; exact hdg) a1
  intro k hk
  obtain ⟨k0, hk0, hnm⟩ := className_of_methodNamed hnamed
  obtain ⟨k1, hk1, he⟩ := al.2.2 _ _ hk0
  have : k = k1 := Option.some.inj (hk.symm.trans hk1)
  subst this
  have hn2 : k.name = "LineCalls$Jumps" := by rw [he]; exact hnm
  exact plain_of_name (by rw [hn2]; decide)
end HFC
