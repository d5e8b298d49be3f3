/-! exceptions: rows. xa: the cell that is thrown -/
set_option maxRecDepth 100000
def xQ (G : nG) {S : Type} (val : S → Option Value) (post postT : S → Prop) (xa : Nat) (F : S → nE) : Array Value → State → Outcome → State → Prop := fun _ st o t =>
  ((∃ u, o = .returned (val u) ∧ post u ∧ nC G (F u) t) ∨ (∃ u, o = .threw xa ∧ postT u ∧ nC G (F u) t)) ∧ va_F (nA G) st t
/-- the search through a table of one row, whose class is named by a pool entry that may be cold -/
theorem ex_search {Qh : Handler → Pre} {Eh : CtlPost} {e : Env} {d : Bool} {acts : List Action} {S : State} {f : JFrame} {a : Addr} {meth : Method} {code : Code} {x : ExceptionTableEntry} {cT : ClassId} {cell : Cell}
    (hm : S.vm.method? f.method = some meth) (hc : meth.code = some code) (ht : code.exceptionTable.toList = [x]) (hx : covers x f.pc = true) (h0 : x.catchType ≠ 0) (hl : S.vm.ClassLinks e.platform f.method.cls x.catchType cT)
    (hcell : S.heap[a]? = some cell) (hobj : cell.vm.isStatics = false) (hk : ∃ k, S.vm.classes[cell.cls]? = some k) (hcl : ∃ k, S.vm.classes[cT]? = some k) (hfit : S.vm.assignable cell.cls cT = true) :
    wp (findHandler f a) Qh Eh e d acts S ↔ Qh (.found x.handlerPc) d acts (S.setVm (S.vm.noted f.method.cls x.catchType (.cls cT))) := by
  have hst : ∀ k, cell.vm ≠ .statics k := VmData.ne_statics_of hobj
  obtain ⟨hr1, hr2⟩ := (resolveClass_links e.toSetting hl).op (op := VmOp.resolveClass f.method.cls x.catchType) rfl
  have hal : S.vm.Alike (S.vm.noted f.method.cls x.catchType (.cls cT)) := (Vm.Alike.refl S.vm).noted _ _ _
  obtain ⟨k1, hk1⟩ := hk
  obtain ⟨k2, hk2⟩ := hcl
  obtain ⟨k1', hk1', -⟩ := hal.2.2 _ _ hk1
  obtain ⟨k2', hk2', -⟩ := hal.2.2 _ _ hk2
  have hfit' : (S.vm.noted f.method.cls x.catchType (.cls cT)).assignable cell.cls cT = true := by rw [hal.assignable]; exact hfit
  simp only [covers] at hx
  simp [findHandler, hm, hc, ht, findHandler.go, hx, h0, hr1, hr2, hcell, hst, hk1', hk2', hfit', VmOp.dirties, VmOp.acts]
section EX2
variable {p : Program} {l : Launch} {e : Env} {R : Room} {s : State} {m : MethodId} {args : Array Value} {below : List Frame} {meth : Method} {c : Code} {H : Heap} {locs : List Loc} {cells slots : Nat} {Q : State → Prop}
variable {cc : ByteArray} {pc : Nat} {ls : Array Slot} {rest st0 : List Value} {G : nG} {E : nE}
/-- a virtual call of a method that may throw -/
theorem x_callV {nL mc ms n index maxL b xa : Nat} {own C : String} {y : MethodName} {bytes : ByteArray} {ret : Option FieldType} {ws : List Cond} {rm : Room} {As : List Value} {P : State → Prop} {S : Type} {val : S → Option Value} {post postT : S → Prop} {F : S → nE}
    (S0 : CallFix p m c cc nL s args lw_all own) (hM : MetX l y ws rm (va_Pc (.ref b :: As) P) (xQ G val post postT xa F) mc ms (nA G)) (cw : CallW R s args own C index y bytes maxL ret ws rm mc ms n) (hp : PreV s H C b (va_Pc (.ref b :: As) P) As)
    (hn : As.length = n) (hsize : ls.size = nL) (hstack : st0 = As.reverse ++ .ref b :: rest) (hW : (rest.map fun v => v.category).sum ≤ 8) (hdg : decode cc pc = .ok (.invokevirtual index, 3)) (hf : cells + mc ≤ R.cells ∧ slots + ms ≤ R.slots) (hw : nS G E s H locs)
    (kr : ∀ (u : S) (H1 : Heap) (locs1 : List Loc), post u → nS G (F u) s H1 locs1 → W p l e R s m args below meth c H1 locs1 (cells + mc) (slots + ms) Q (F0 m (pc + 3) ls ((val u).toList ++ rest)))
    (kt : ∀ (u : S) (H1 : Heap) (locs1 : List Loc), postT u → nS G (F u) s H1 locs1 → exW p l e R s m args below meth c H1 locs1 (cells + mc) (slots + ms) Q (F0 m pc ls rest) xa) : W p l e R s m args below meth c H locs cells slots Q (F0 m pc ls st0) := by
  obtain ⟨⟨hrc, hrs, hfr, hlo, hws, hcw, hcode, hini, hy, hlen, hl⟩, hinst, hsel⟩ := cw
  have hK : exBk l R p e below s args y (va_Pc (.ref b :: As) P) (xQ G val post postT xa F) mc ms (nA G) := exBack (bytes := bytes) (maxL := maxL) (ret := ret) hM hp.1 hrc hrs hfr hlo hws hcw (fun a' U hW => word_at hW (Or.inl (by first | rfl | simp [Cond.onTables, Cond.keeps, Cond.steady])) hini)
  obtain ⟨hx, hb, hml, hown, -⟩ := S0
  obtain ⟨-, ⟨cellB, hcell, hobj, hcls⟩, hPc⟩ := hp
  intro T hT X
  subst hb
  obtain ⟨mk, methM, hnamed, hmethM, hstM, habM⟩ := Cond.instanceMethod_spec hinst
  obtain ⟨methM', cM, hmethM', -, -, -, -, -, -, hsigM⟩ := Cond.code_spec hnamed hcode
  cases hmethM.symm.trans hmethM'
  obtain ⟨c2, r2, m2, q1, q2, q3, q4, kP, hkP, hkPi⟩ := Cond.selects_spec hsel
  cases hcls.symm.trans q1
  cases (State.methodFound?_of_named hnamed hy).symm.trans q2
  cases hnamed.symm.trans q3
  have hselP : selectMethod e.platform s.vm cellB.cls mk = .method mk := by rw [Launch.admits_selectMethod X.admits]; exact q4
  obtain ⟨vm₁, X₁, hstep₁⟩ := X.invokevirtual hx hown hl hnamed hmethM hstM hkP hkPi hy (a := b) (cell := cellB) (by rw [hT]; exact hcell)
    (fun z h => by rw [h] at hobj; cases hobj) hselP hmethM habM hkP hkPi (g := F0 m pc ls st0) rfl (argsL := As) (rest := rest) (hn.trans (hlen _ hsigM)) hstack hdg
  obtain ⟨o, t, T', L, hq, e1, e2, hL, X', hsteps⟩ := hK m meth c (T.setVm vm₁) locs cells slots (F0 m pc ls rest) (.invokevirtual index) mk (Value.ref b :: As).toArray X₁ rfl (hsize.trans hml.symm) hdg (lv_room (m := m) (pc := pc) (ls := ls) (rest := rest) hW) (X₁.named hnamed) hf.1 hf.2 (hPc (T.setVm vm₁) hT X₁.warmed)
  have hstep2 : Steps p.tables e below (T.setTop (F0 m pc ls st0)) (exTo T' (F0 m pc ls rest) 3 o) := hstep₁ _ fun acts => by rw [doInvoke_state]; exact hsteps
  obtain ⟨hq, hF⟩ := hq
  have hF1 : H.size ≤ t.heap.size := by rw [← hT]; exact hF.1
  have hF2 : ∀ q : Nat, q < H.size → ¬ nA G q → t.heap[q]? = H[q]? := fun q h1 h2 => by rw [← hT] at h1 ⊢; exact hF.2 q h1 h2
  have hS1 : va_S (nA G) s.heap T'.heap (locs ++ L) := ⟨Nat.le_trans hw.S.1 (by rw [e1]; exact hF1), fun q h1 h2 => by rw [e1, hF2 q (Nat.lt_of_lt_of_le h1 hw.S.1) h2]; exact hw.S.2.1 q h1 h2, fun q hq => by
    rcases List.mem_append.mp hq with h | h
    · exact hw.S.2.2 q h
    · exact hL q h⟩
  rcases hq with ⟨u, rfl, hu, hC⟩ | ⟨u, rfl, hu, hC⟩
  · obtain ⟨t2, a1, b1⟩ := kr u T'.heap (locs ++ L) hu ⟨hw.K, hw.N, by rw [e1]; exact hC.2.2.1, hC.2.2.2.1, hS1, hw.X⟩ T' rfl X'
    exact ⟨t2, hstep2.trans a1, b1⟩
  · obtain ⟨t2, a1, b1⟩ := kt u T'.heap (locs ++ L) hu ⟨hw.K, hw.N, by rw [e1]; exact hC.2.2.1, hC.2.2.2.1, hS1, hw.X⟩ T' rfl X'
    exact ⟨t2, hstep2.trans a1, b1⟩
theorem x_athrow {a : Nat} (hx : p.tables.exec = Jvm.exec) (hb : c.code = cc) (hdg : decode cc pc = .ok (.athrow, 1)) (k : exW p l e R s m args below meth c H locs cells slots Q (F0 m pc ls rest) a) : W p l e R s m args below meth c H locs cells slots Q (F0 m pc ls (.ref a :: rest)) := by
  intro T hT X
  obtain ⟨t, h1, h2⟩ := k T hT X
  refine ⟨t, ?_, h2⟩
  jvm_step X.here [hx, hb, hdg, athrow.wp_sem]
  exact h1
/-- the throw leaves a method without handlers -/
theorem x_out {S : Type} {val : S → Option Value} {post postT : S → Prop} {xa : Nat} {F : S → nE} {st : List Value} (hlk : meth.locks = false) (hnh : c.exceptionTable.isEmpty = true) (u : S) (hw : nS G (F u) s H locs) (hu : postT u) : exW p l e R s m args below meth c H locs cells slots (MQX below (xQ G val post postT xa F) args s cells slots (nA G)) (F0 m pc ls st) xa := by
  intro T hT X
  have he : c.exceptionTable.toList = [] := by
    have h1 : c.exceptionTable = #[] := Array.isEmpty_iff.mp hnh
    rw [h1]
  obtain ⟨h1, h2, h3, h4, h5⟩ := X.leaveThrown xa (g := F0 m pc ls st) rfl rfl rfl (fun x hx => by rw [he] at hx; cases hx) hlk
  exact ⟨_, h1, .threw xa, h2, h3, ⟨Or.inr ⟨u, rfl, hu, hw.at hT h4⟩, hw.S.F hT⟩, locs, ⟨h4, h5⟩, hw.S.2.2⟩
/-- returns of a method that may throw -/
theorem x_iret {S : Type} {val : S → Option Value} {post postT : S → Prop} {xa : Nat} {F : S → nE} {v : Int32} (hexec : p.tables.exec = Jvm.exec) (hb : c.code = cc) {ty : FieldType} (hr : meth.sig.returnType = some ty) (hlk : meth.locks = false) (hn : narrow ty (.int v) = .int v) (u : S) (hw : nS G (F u) s H locs) (hv : val u = some (.int v)) (hu : post u) (hdg : decode cc pc = .ok (.ireturn, 1)) : W p l e R s m args below meth c H locs cells slots (MQX below (xQ G val post postT xa F) args s cells slots (nA G)) (F0 m pc ls [.int v]) := by
  refine W.mono (Q := MQ below (va_Qi (fun r u => val u = some (.int r) ∧ post u) (fun u => nC G (F u)) (nA G)) args s cells slots (nA G)) ?_ (n_iret hexec hb hr hlk hn u hw ⟨hv, hu⟩ hdg)
  rintro t ⟨o, h1, h2, ⟨⟨r, u, rfl, ⟨h3, h4⟩, h5⟩, h6⟩, L, h7, h8⟩
  exact ⟨_, h1, h2, ⟨Or.inl ⟨u, by rw [h3], h4, h5⟩, h6⟩, L, h7.2, h8⟩
theorem x_vret {S : Type} {val : S → Option Value} {post postT : S → Prop} {xa : Nat} {F : S → nE} (hexec : p.tables.exec = Jvm.exec) (hb : c.code = cc) (hr : meth.sig.returnType = none) (hlk : meth.locks = false) (u : S) (hw : nS G (F u) s H locs) (hv : val u = none) (hu : post u) (hdg : decode cc pc = .ok (.return_, 1)) : W p l e R s m args below meth c H locs cells slots (MQX below (xQ G val post postT xa F) args s cells slots (nA G)) (F0 m pc ls []) := by
  refine W.mono (Q := MQ below (va_Qv (fun u => val u = none ∧ post u) (fun u => nC G (F u)) (nA G)) args s cells slots (nA G)) ?_ (n_vret hexec hb hr hlk u hw ⟨hv, hu⟩ hdg)
  rintro t ⟨o, h1, h2, ⟨⟨u, rfl, ⟨h3, h4⟩, h5⟩, h6⟩, L, h7, h8⟩
  exact ⟨_, h1, h2, ⟨Or.inl ⟨u, by rw [h3], h4, h5⟩, h6⟩, L, h7.2, h8⟩
theorem x_aret {S : Type} {val : S → Option Value} {post postT : S → Prop} {xa : Nat} {F : S → nE} {v : Value} {rt : FieldType} (hexec : p.tables.exec = Jvm.exec) (hb : c.code = cc) (hr : meth.sig.returnType = some rt) (hrt : (∃ n, rt = .object n) ∨ ∃ t, rt = .array t) (hlk : meth.locks = false) (hv0 : v = .null ∨ ∃ a, v = .ref a) (u : S) (hw : nS G (F u) s H locs) (hv : val u = some v) (hu : post u) (hdg : decode cc pc = .ok (.areturn, 1)) : W p l e R s m args below meth c H locs cells slots (MQX below (xQ G val post postT xa F) args s cells slots (nA G)) (F0 m pc ls [v]) := by
  refine W.mono (Q := MQ below (fun _ st oc t => (∃ u, oc = .returned (val u) ∧ post u ∧ nC G (F u) t) ∧ va_F (nA G) st t) args s cells slots (nA G)) ?_ (W.aret hexec hb hr hrt hv0 (fun t ht hW => ⟨⟨u, by rw [hv], hu, hw.at ht hW⟩, hw.S.F ht⟩) hw.S.2.2 hdg hlk)
  rintro t ⟨o, h1, h2, ⟨⟨u, rfl, h4, h5⟩, h6⟩, L, h7, h8⟩
  exact ⟨_, h1, h2, ⟨Or.inl ⟨u, rfl, h4, h5⟩, h6⟩, L, h7.2, h8⟩
/-- the throw is caught by the method's own handler, whose class is the thrown cell's -/
theorem x_catch {a cp h0 i0 i1 ci : Nat} {own C : String} {T0 : u_T} {N0 k : Nat} {fs : List Value} {st : List Value} (hown : s.vm.findClass own = some m.cls) (hts : ∀ w ∈ lw_all, w.before args s = true)
    (htab : c.exceptionTable.toList.map (fun h => (h.startPc, h.endPc, h.handlerPc, h.catchType)) = [(i0, i1, h0, cp)]) (hcov : i0 ≤ pc ∧ pc < i1) (hcp : cp ≠ 0) (hlink : Cond.classLink own cp C ∈ lw_all) (hw : nS G E s H locs) (he : E k = some (a, .inr (ci, fs))) (hc : lcCl[ci]? = some (C, T0, N0)) (hca : Cond.castable C C ∈ lw_tbl)
    (kk : W p l e R s m args below meth c H locs cells slots Q (F0 m h0 ls [.ref a])) : exW p l e R s m args below meth c H locs cells slots Q (F0 m pc ls st) a := by
  intro T hT X
  obtain ⟨x, hx⟩ : ∃ x, c.exceptionTable.toList = [x] := by
    have hlen := congrArg List.length htab
    rw [List.length_map] at hlen
    exact List.length_eq_one_iff.mp hlen
  rw [hx] at htab
  simp only [List.map_cons, List.map_nil, List.cons.injEq, Prod.mk.injEq, and_true] at htab
  obtain ⟨f1, f2, f3, f4⟩ := htab
  obtain ⟨cellB, hcell, hobj, hcls⟩ := hw.recv he hc
  have hpl : e.platform.magicAccessors = ({} : Platform).magicAccessors := by rw [X.admits.platform]
  obtain ⟨cT, hc', hcl⟩ := Cond.classLink_spec hown (hts _ hlink) e.platform hpl
  cases hcls.symm.trans hc'
  obtain ⟨dk, _, _, kt, hd, _, _, _, _, hkt, _, hopen⟩ := hcl.here
  have hcl₀ := X.warmed.classLinks hcl
  have hW' : s.WarmedH (T.vm.noted m.cls cp (.cls cellB.cls)) := X.warmed.noted hd hopen (State.rightAt_cls hcl)
  have hal := X.warmed.alike
  obtain ⟨kt', hkt', -⟩ := hal.2.2 _ _ hkt
  have hfit : s.vm.assignable cellB.cls cellB.cls = true := by
    obtain ⟨c1, c2, g1, g2, g3⟩ := Cond.castable_spec ((hw.N _ hca rfl).use rfl (A := #[]))
    cases hcls.symm.trans g1
    cases hcls.symm.trans g2
    exact g3
  have hfit' : T.vm.assignable cellB.cls cellB.cls = true := by rw [hal.assignable]; exact hfit
  obtain ⟨t, a1, b1⟩ := kk (T.setVm (T.vm.noted m.cls cp (.cls cellB.cls))) hT (X.noted hW')
  refine ⟨t, ?_, b1⟩
  have hcovx : covers x pc = true := by
    simp [covers, f1, f2, hcov.1, hcov.2]
  obtain ⟨hgo, hin⟩ := At.throwing (g := F0 m pc ls st) X.here a
  refine Steps.head hgo hin ?_
  rw [stepThread_throwing (frames_entered X.here.top _)]
  have hstep : (stepThrowing e ((T.setTop (F0 m pc ls st)).pushFrame (.throwing a)) a (.java (F0 m pc ls st) :: T.frames.tail)).1 = (((T.setTop (F0 m pc ls st)).pushFrame (.throwing a)).setVm (T.vm.noted m.cls cp (.cls cellB.cls))).setFrames (.java (F0 m h0 ls [.ref a]) :: T.frames.tail) := by
    simp only [stepThrowing, searchFrame, vmDo]
    generalize hr : Sem.go _ e false [] ((T.setTop (F0 m pc ls st)).pushFrame (.throwing a)) = res
    obtain ⟨as, rfl, ha⟩ := Sem.eq_ok_of hr (a := Handler.found x.handlerPc) (s' := ((T.setTop (F0 m pc ls st)).pushFrame (.throwing a)).setVm (T.vm.noted m.cls cp (.cls cellB.cls))) (acts' := []) (by
      have h9 : ∀ (Qh : Handler → Pre) (Eh : CtlPost) (d : Bool) (acts : List Action), wp (findHandler (F0 m pc ls st) a) Qh Eh e d acts ((T.setTop (F0 m pc ls st)).pushFrame (.throwing a)) ↔ Qh (.found x.handlerPc) d acts (((T.setTop (F0 m pc ls st)).pushFrame (.throwing a)).setVm (T.vm.noted m.cls cp (.cls cellB.cls))) := by
        intro Qh Eh d acts
        have h8 := ex_search (Qh := Qh) (Eh := Eh) (e := e) (d := d) (acts := acts) (S := (T.setTop (F0 m pc ls st)).pushFrame (.throwing a)) (f := F0 m pc ls st) (a := a) (meth := meth) (code := c) (x := x) (cT := cellB.cls) (cell := cellB) X.method' X.code hx hcovx (by rw [f4]; exact hcp) (by rw [f4]; exact hcl₀) (by rw [← hT] at hcell; exact hcell) hobj (Vm.classAt_of_assignable hfit' ⟨kt', hkt'⟩) ⟨kt', hkt'⟩ hfit'
        rw [f4] at h8
        exact h8
      simp [h9 _ _ _ _])
    rw [f3]
  rw [hstep]
  obtain ⟨g₀, hfr⟩ := X.frames_eq
  have e1 : ((T.setTop (F0 m pc ls st)).pushFrame (.throwing a)).setVm (T.vm.noted m.cls cp (.cls cellB.cls)) = (T.setVm (T.vm.noted m.cls cp (.cls cellB.cls))).setFrames (.throwing a :: .java (F0 m pc ls st) :: below) := by
    rw [State.pushFrame, State.frames_setTop _ hfr, State.setTop_of_frames _ hfr, State.setFrames_setFrames]
    rfl
  have hfr' : (T.setVm (T.vm.noted m.cls cp (.cls cellB.cls))).frames = .java g₀ :: below := hfr
  rw [e1, State.setFrames_setFrames, X.tail]
  rw [State.setTop_of_frames _ hfr'] at a1
  exact a1
end EX2
