/-! BASE: a world whose cells have names: E gives a name's address and picture. Rows of the kit turned to it. -/
set_option maxRecDepth 100000
abbrev nE : Type := Nat → Option (Nat × va_E)
def nP (D : va_G) (cl : List vw_C) (E : nE) (H : Heap) : Prop := ∀ (k : Nat) (q : Nat × va_E), E k = some q → va_at D cl q H
def nD (A : Nat → Prop) (E : nE) : Prop := (∀ (i j : Nat) (p q : Nat × va_E), E i = some p → E j = some q → p.1 = q.1 → i = j) ∧ ∀ (k : Nat) (q : Nat × va_E), E k = some q → A q.1
theorem nP.one {D : va_G} {cl : List vw_C} {E : nE} {H : Heap} {k : Nat} {q : Nat × va_E} (h : nP D cl E H) (hk : E k = some q) : va_P D cl [q] H := by
  intro i r hi
  cases i with
  | zero => cases hi; exact h k _ hk
  | succ i => simp at hi
theorem nP.kept {D : va_G} {cl : List vw_C} {E : nE} {H H1 : Heap} (h : nP D cl E H) (hq : ∀ (k : Nat) (q : Nat × va_E), E k = some q → H1[q.1]? = H[q.1]?) : nP D cl E H1 := fun k q hk => (h k q hk).kept (hq k q hk)
theorem nP.set {D : va_G} {cl : List vw_C} {A : Nat → Prop} {E : nE} {k a : Nat} {e0 e : va_E} {H H1 : Heap} (h : nP D cl E H) (hD : nD A E) (hp : E k = some (a, e0)) (he : va_at D cl (a, e) H1) (oq : ∀ q : Nat, q ≠ a → H1[q]? = H[q]?) : nP D cl (va_up E k (some (a, e))) H1 := by
  intro j q hj
  by_cases hjk : j = k
  · subst hjk
    rw [va_up_self] at hj
    cases hj
    exact he
  · rw [va_up_ne _ _ hjk] at hj
    exact (h j q hj).kept (oq q.1 (fun z => hjk (hD.1 j k q (a, e0) hj hp z)))
theorem nD.set {A : Nat → Prop} {E : nE} {k a : Nat} {e0 e : va_E} (hD : nD A E) (hp : E k = some (a, e0)) : nD A (va_up E k (some (a, e))) := by
  have key : ∀ (j : Nat) (q : Nat × va_E), va_up E k (some (a, e)) j = some q → ∃ q0, E j = some q0 ∧ q0.1 = q.1 := by
    intro j q hj
    by_cases hjk : j = k
    · subst hjk
      rw [va_up_self] at hj
      cases hj
      exact ⟨_, hp, rfl⟩
    · rw [va_up_ne _ _ hjk] at hj
      exact ⟨q, hj, rfl⟩
  refine ⟨fun i j x y hi hj hxy => ?_, fun j q hj => ?_⟩
  · obtain ⟨x0, h1, h2⟩ := key i x hi
    obtain ⟨y0, h3, h4⟩ := key j y hj
    exact hD.1 i j x0 y0 h1 h3 (h2.trans (hxy.trans h4.symm))
  · obtain ⟨q0, h1, h2⟩ := key j q hj
    rw [← h2]
    exact hD.2 j q0 h1
/-- words of the tables that don't ride in lw_all -/
def nw_ok : Cond → Bool
  | .fieldLinkNest .. => true
  | .methodLinkNest .. => true
  | .castable .. => true
  | .declares .. => true
  | _ => false
def nw_all (U : State) : Prop := ∀ w ∈ lw_tbl, nw_ok w = true → va_Nw w U
theorem nw_all.warm {s U : State} (hW : s.WarmedH U.vm) (h : nw_all s) : nw_all U := by
  intro w hw ho
  cases w
  case fieldLinkNest => exact va_Nw.warmF hW (h _ hw rfl)
  case methodLinkNest => exact va_Nw.warmM hW (h _ hw rfl)
  case castable => exact va_Nw.warmC hW (h _ hw rfl)
  case declares => exact va_Nw.warmD hW (h _ hw rfl)
  all_goals exact absurd ho (by simp [nw_ok])
theorem nw_all.calling {U : State} {g : JFrame} {mk : MethodId} {a : Array Value} (h : nw_all U) : nw_all (U.calling g mk a) := by
  intro w hw ho
  have h1 := h w hw ho
  cases w
  case fieldLinkNest => exact h1
  case methodLinkNest => exact h1
  case castable => exact h1
  case declares => exact h1
  all_goals exact absurd ho (by simp [nw_ok])
/-- the classes, by the number of their file of names -/
abbrev lcCl : List vw_C := [(RX0, TX0, 12), (RX1, TX1, 7), (RX2, TX2, 8), (RX3, TX3, 6), (RX4, TX4, 10), (RX5, TX5, 1), (RX6, TX6, 2), (RX7, TX7, 3), (RX8, TX8, 3), (RX9, TX9, 4), (RX10, TX10, 5), (RX11, TX11, 3), (RX12, TX12, 4), (RX13, TX13, 25)]
/-- what a run knows: classes and their slots, array classes, which cells may change, where the texts lie -/
abbrev nG : Type := va_G × (Nat → ClassId) × (Nat → Prop) × (Nat → Nat) × (Nat → Nat)
abbrev nA (G : nG) : Nat → Prop := G.2.2.1
abbrev nT (G : nG) : List (ClassId × FieldType) := [(G.2.1 0, .int), (G.2.1 1, .byte), (G.2.1 2, .short), (G.2.1 3, .object "LineCalls$Slot"), (G.2.1 4, .array .int), (G.2.1 5, .object "java/lang/String")]
/-- the fifteen texts -/
def skT : List (String × Nat × String) := [("LineCalls$Reader", 74, "jumper prop   lock   tower  giant  rookie flankertheirs call   code   wind   wet    in     tall   "), ("LineCallsModel", 27, "jumper"), ("LineCallsModel", 29, "prop"), ("LineCallsModel", 31, "lock"), ("LineCallsModel", 33, "tower"), ("LineCallsModel", 35, "giant"), ("LineCallsModel", 37, "rookie"), ("LineCallsModel", 39, "flanker"), ("LineCallsModel", 269, "in"), ("LineCallsModel", 277, "tall"), ("LineCallsModel", 289, "theirs"), ("LineCallsModel", 291, "call"), ("LineCallsModel", 293, "code"), ("LineCallsModel", 295, "wind"), ("LineCallsModel", 297, "wet")]
def skL : List Nat := [98, 6, 4, 4, 5, 5, 6, 7, 2, 4, 6, 4, 4, 4, 3]
def skB : List (List Int32) := [[106, 117, 109, 112, 101, 114, 32, 112, 114, 111, 112, 32, 32, 32, 108, 111, 99, 107, 32, 32, 32, 116, 111, 119, 101, 114, 32, 32, 103, 105, 97, 110, 116, 32, 32, 114, 111, 111, 107, 105, 101, 32, 102, 108, 97, 110, 107, 101, 114, 116, 104, 101, 105, 114, 115, 32, 99, 97, 108, 108, 32, 32, 32, 99, 111, 100, 101, 32, 32, 32, 119, 105, 110, 100, 32, 32, 32, 119, 101, 116, 32, 32, 32, 32, 105, 110, 32, 32, 32, 32, 32, 116, 97, 108, 108, 32, 32, 32], [106, 117, 109, 112, 101, 114], [112, 114, 111, 112], [108, 111, 99, 107], [116, 111, 119, 101, 114], [103, 105, 97, 110, 116], [114, 111, 111, 107, 105, 101], [102, 108, 97, 110, 107, 101, 114], [105, 110], [116, 97, 108, 108], [116, 104, 101, 105, 114, 115], [99, 97, 108, 108], [99, 111, 100, 101], [119, 105, 110, 100], [119, 101, 116]]
/-- what a run knows of the old heap and of the tables -/
def nX (G : nG) (U : State) (H : Heap) : Prop := vk_S 15 skL skB G.2.2.2.1 G.2.2.2.2 (nA G) U H ∧ (∀ (i : Nat) (q : String × Nat × String), skT[i]? = some q → vk_R q.1 q.2.1 q.2.2 (G.2.2.2.1 i) U) ∧ va_Z "java/lang/String" "COMPACT_STRINGS" "Z" (.int 1) (nA G) U H ∧ va_Zq "jdk/internal/util/Preconditions" "SIOOBE_FORMATTER" "Ljava/util/function/BiFunction;" (nA G) U H ∧ va_Zq "java/lang/Throwable" "UNASSIGNED_STACK" "[Ljava/lang/StackTraceElement;" (nA G) U H ∧ va_Zq "java/lang/Throwable" "SUPPRESSED_SENTINEL" "Ljava/util/List;" (nA G) U H ∧ va_Nc "[I" "[B" U ∧ va_Nc "[S" "[B" U ∧ va_Nc "[I" "[S" U ∧ nHf U
theorem nX.kept {G : nG} {U : State} {H H1 : Heap} (h : nX G U H) (hq : ∀ a : Nat, a < H.size → ¬ nA G a → H1[a]? = H[a]?) : nX G U H1 := ⟨h.1.kept hq, h.2.1, h.2.2.1.kept hq, h.2.2.2.1.kept hq, h.2.2.2.2.1.kept hq, h.2.2.2.2.2.1.kept hq, h.2.2.2.2.2.2⟩
theorem nX.warm {G : nG} {s U : State} {H : Heap} (h : nX G s H) (hW : s.WarmedH U.vm) : nX G U H := ⟨h.1.moved hW.alike, fun i q hi => (h.2.1 i q hi).warm hW, h.2.2.1.moved hW.alike, h.2.2.2.1.moved hW.alike, h.2.2.2.2.1.moved hW.alike, h.2.2.2.2.2.1.moved hW.alike, h.2.2.2.2.2.2.1.moved hW.alike, h.2.2.2.2.2.2.2.1.moved hW.alike, h.2.2.2.2.2.2.2.2.1.moved hW.alike, h.2.2.2.2.2.2.2.2.2.warm hW⟩
theorem nX.calling {G : nG} {U : State} {H : Heap} {g : JFrame} {mk : MethodId} {a : Array Value} (h : nX G U H) : nX G (U.calling g mk a) H := by
  have hal : U.vm.Alike (U.calling g mk a).vm := Vm.Alike.refl U.vm
  exact ⟨h.1.moved hal, fun i q hi => (h.2.1 i q hi).same rfl, h.2.2.1.moved hal, h.2.2.2.1.moved hal, h.2.2.2.2.1.moved hal, h.2.2.2.2.2.1.moved hal, h.2.2.2.2.2.2.1.moved hal, h.2.2.2.2.2.2.2.1.moved hal, h.2.2.2.2.2.2.2.2.1.moved hal, h.2.2.2.2.2.2.2.2.2.calling⟩
/-- at a contract's start and end -/
def nC (G : nG) (E : nE) (U : State) : Prop := va_K G.1 lcCl (nT G) U ∧ nw_all U ∧ nP G.1 lcCl E U.heap ∧ nD (nA G) E ∧ nX G U U.heap
/-- in a walk -/
def nS (G : nG) (E : nE) (s : State) (H : Heap) (locs : List Loc) : Prop := va_K G.1 lcCl (nT G) s ∧ nw_all s ∧ nP G.1 lcCl E H ∧ nD (nA G) E ∧ va_S (nA G) s.heap H locs ∧ nX G s s.heap
section NS
variable {G : nG} {E : nE} {s : State} {H : Heap} {locs : List Loc}
theorem nS.K (h : nS G E s H locs) : va_K G.1 lcCl (nT G) s := h.1
theorem nS.N (h : nS G E s H locs) : nw_all s := h.2.1
theorem nS.P (h : nS G E s H locs) : nP G.1 lcCl E H := h.2.2.1
theorem nS.D (h : nS G E s H locs) : nD (nA G) E := h.2.2.2.1
theorem nS.S (h : nS G E s H locs) : va_S (nA G) s.heap H locs := h.2.2.2.2.1
theorem nS.X (h : nS G E s H locs) : nX G s s.heap := h.2.2.2.2.2
theorem nS.at {U : State} (h : nS G E s H locs) (hU : U.heap = H) (hW : s.WarmedH U.vm) : nC G E U := ⟨va_K.moved hW.alike h.K, h.N.warm hW, by rw [hU]; exact h.P, h.D, by rw [hU]; exact (h.X.kept h.S.2.1).warm hW⟩
theorem nC.blind {av : List Value} : FrameBlind (va_Pc av (nC G E)) := fun a U g mk q => ⟨q.1, va_K.moved (u := U) (U := U.calling g mk a) (Vm.Alike.refl U.vm) q.2.1, q.2.2.1.calling, q.2.2.2.1, q.2.2.2.2.1, q.2.2.2.2.2.calling⟩
theorem nS.start (h : nC G E s) : nS G E s s.heap [] := ⟨h.1, h.2.1, h.2.2.1, h.2.2.2.1, va_S.rf, h.2.2.2.2⟩
theorem nS.write {H1 : Heap} {k a i : Nat} {e0 e : va_E} (h : nS G E s H locs) (hp : E k = some (a, e0)) (he : va_at G.1 lcCl (a, e) H1) (z : H1.size = H.size) (oq : ∀ q : Nat, q ≠ a → H1[q]? = H[q]?) : nS G (va_up E k (some (a, e))) s H1 (locs ++ [⟨a, i⟩]) :=
  ⟨h.K, h.N, h.P.set h.D hp he oq, h.D.set hp, h.S.put z oq (h.D.2 k _ hp), h.X⟩
theorem nS.recv {k a ci : Nat} {fs : List Value} {q : vw_C} (h : nS G E s H locs) (he : E k = some (a, .inr (ci, fs))) (hc : lcCl[ci]? = some q) : ∃ cell : Cell, H[a]? = some cell ∧ cell.vm.isStatics = false ∧ s.vm.findClass q.1 = some cell.cls := va_recv h.K (h.P.one he) (q0 := 0) hc rfl
/-- what a call asks of the world: it is the caller's -/
theorem nS.preV {k b ci : Nat} {fs : List Value} {C : String} {T : u_T} {N : Nat} {As : List Value} (h : nS G E s H locs) (he : E k = some (b, .inr (ci, fs))) (hc : lcCl[ci]? = some (C, T, N)) : PreV s H C b (va_Pc (.ref b :: As) (nC G E)) As := ⟨nC.blind, h.recv he hc, fun _ hU hW => ⟨rfl, h.at hU hW⟩⟩
theorem nS.preS {As : List Value} (h : nS G E s H locs) : PreS s H (va_Pc As (nC G E)) As := ⟨nC.blind, fun _ hU hW => ⟨rfl, h.at hU hW⟩⟩
end NS
/-- a pure method asks nothing -/
theorem pu_blind {av : List Value} : FrameBlind (va_Pc av (fun _ => True)) := fun _ _ _ _ q => q
theorem pu_pre {s : State} {H : Heap} {As : List Value} : PreS s H (va_Pc As (fun _ => True)) As := ⟨pu_blind, fun _ _ _ => ⟨rfl, trivial⟩⟩
section NR
variable {p : Program} {l : Launch} {e : Env} {R : Room} {s : State} {m : MethodId} {args : Array Value} {below : List Frame} {meth : Method} {c : Code} {H : Heap} {locs : List Loc} {cells slots : Nat} {Q : State → Prop}
variable {cc : ByteArray} {pc : Nat} {ls : Array Slot} {rest st0 : List Value} {G : nG} {E : nE} {a : Nat}
theorem n_get (hexec : p.tables.exec = Jvm.exec) (hb : c.code = cc) {own C : String} {T : u_T} {N ci index k : Nat} (hts : ∀ w ∈ lw_all, w.before args s = true) (hin : ∀ w ∈ u_ws C T N, w ∈ lw_all) (hown : s.vm.findClass own = some m.cls) (hw : nS G E s H locs) {fs : List Value} (he : E k = some (a, .inr (ci, fs))) (hc : lcCl[ci]? = some (C, T, N)) (f : Nat) (hf : f < N) (hlink : Cond.fieldLink own index (T f).1 (T f).2.1 (T f).2.2.1 ∈ lw_all) {v : Value} (hv : fs[f]? = some v) (hdg : decode cc pc = .ok (.getfield index, 3))
    (kk : W p l e R s m args below meth c H locs cells slots Q (F0 m (pc + 3) ls (v :: rest))) : W p l e R s m args below meth c H locs cells slots Q (F0 m pc ls (.ref a :: rest)) :=
  va_get hexec hb hts hin hown hw.K (hw.P.one he) 0 rfl hc f hf (hts _ hlink) (fun _ h => h) hv hdg kk
theorem n_getN (hexec : p.tables.exec = Jvm.exec) (hb : c.code = cc) {own C host : String} {T : u_T} {N ci index k : Nat} (hts : ∀ w ∈ lw_all, w.before args s = true) (hin : ∀ w ∈ u_ws C T N, w ∈ lw_all) (hown : s.vm.findClass own = some m.cls) (hw : nS G E s H locs) {fs : List Value} (he : E k = some (a, .inr (ci, fs))) (hc : lcCl[ci]? = some (C, T, N)) (f : Nat) (hf : f < N) (hlink : Cond.fieldLinkNest own index (T f).1 (T f).2.1 (T f).2.2.1 host ∈ lw_tbl) {v : Value} (hv : fs[f]? = some v) (hdg : decode cc pc = .ok (.getfield index, 3))
    (kk : W p l e R s m args below meth c H locs cells slots Q (F0 m (pc + 3) ls (v :: rest))) : W p l e R s m args below meth c H locs cells slots Q (F0 m pc ls (.ref a :: rest)) :=
  va_getN hexec hb hts hin hown hw.K (hw.P.one he) 0 rfl hc f hf ((hw.N _ hlink rfl).use rfl) (fun _ h => h) hv hdg kk
theorem n_put (hexec : p.tables.exec = Jvm.exec) (hb : c.code = cc) {own C : String} {T : u_T} {N ci index k : Nat} (hts : ∀ w ∈ lw_all, w.before args s = true) (hin : ∀ w ∈ u_ws C T N, w ∈ lw_all) (ty0 : Nat → FieldType) (hty : ∀ k, k < N → parseFieldDescriptor (T k).2.2.1 = some (ty0 k)) (hnm : ∀ a, a < N → ∀ b, b < N → a ≠ b → (T a).2.1 ≠ (T b).2.1) (hown : s.vm.findClass own = some m.cls) (hw : nS G E s H locs) {fs : List Value} (he : E k = some (a, .inr (ci, fs))) (hc : lcCl[ci]? = some (C, T, N)) (f : Nat) (hf : f < N) (hlink : Cond.fieldLink own index (T f).1 (T f).2.1 (T f).2.2.1 ∈ lw_all) (hfin : (T f).2.2.2 = false) {v : Value} (hn : narrow (ty0 f) v = v) (hfit : fits (ty0 f) v = true) (hl : f < fs.length)
    (hdg : decode cc pc = .ok (.putfield index, 3)) (kk : ∀ (H1 : Heap) (locs1 : List Loc), nS G (va_up E k (some (a, .inr (ci, fs.set f v)))) s H1 locs1 → W p l e R s m args below meth c H1 locs1 cells slots Q (F0 m (pc + 3) ls rest)) : W p l e R s m args below meth c H locs cells slots Q (F0 m pc ls (v :: .ref a :: rest)) := by
  have hap := va_apart (own := own) hts hin ty0 hty hnm hw.K hc
  obtain ⟨r, h1, cell, q1, q2, q3, q4⟩ := hw.P k _ he
  have hr : r = (C, T, N) := Option.some.inj (h1.symm.trans hc)
  subst hr
  obtain ⟨hS, hfc, kC, hkC, hkind⟩ := hw.K.1 ci _ hc
  obtain ⟨cf, kf, fi, fd, hi, hsl⟩ := hS f hf
  have hlay := hts _ (hin _ (u_in_lay hf))
  unfold u_lay at hlay
  rw [if_neg (by rw [hfin]; decide)] at hlay
  have hst := (u_facts hfc hkC (u_lays hts hin hf) hi).1
  have h6 := u_store hfc hkC hkind hlay hi (hty f hf) hn hfit
  refine W.putK hexec hb (f := fd) ⟨hown, hts _ hlink, ⟨_, _, _, hi⟩, hst⟩ (by rw [q2]; exact h6) q1 q3 (by rw [hsl]; exact k2_hasslot (q4 f hf)) rfl rfl hdg fun H' e1 e2 e3 => ?_
  rw [hsl] at e1 ⊢
  exact kk H' _ (hw.write he ⟨_, hc, t_OB.to (V := updV (vp_V fs) f v) ⟨_, e1, q2, q3, t_set q4 hap hf v⟩ (fun j _ => vp_updV_set hl v j)⟩ e2 e3)
theorem n_putN (hexec : p.tables.exec = Jvm.exec) (hb : c.code = cc) {own C host : String} {T : u_T} {N ci index k : Nat} (hts : ∀ w ∈ lw_all, w.before args s = true) (hin : ∀ w ∈ u_ws C T N, w ∈ lw_all) (ty0 : Nat → FieldType) (hty : ∀ k, k < N → parseFieldDescriptor (T k).2.2.1 = some (ty0 k)) (hnm : ∀ a, a < N → ∀ b, b < N → a ≠ b → (T a).2.1 ≠ (T b).2.1) (hown : s.vm.findClass own = some m.cls) (hw : nS G E s H locs) {fs : List Value} (he : E k = some (a, .inr (ci, fs))) (hc : lcCl[ci]? = some (C, T, N)) (f : Nat) (hf : f < N) (hlink : Cond.fieldLinkNest own index (T f).1 (T f).2.1 (T f).2.2.1 host ∈ lw_tbl) (hfin : (T f).2.2.2 = false) {v : Value} (hn : narrow (ty0 f) v = v) (hfit : fits (ty0 f) v = true) (hl : f < fs.length)
    (hdg : decode cc pc = .ok (.putfield index, 3)) (kk : ∀ (H1 : Heap) (locs1 : List Loc), nS G (va_up E k (some (a, .inr (ci, fs.set f v)))) s H1 locs1 → W p l e R s m args below meth c H1 locs1 cells slots Q (F0 m (pc + 3) ls rest)) : W p l e R s m args below meth c H locs cells slots Q (F0 m pc ls (v :: .ref a :: rest)) := by
  have hap := va_apart (own := own) hts hin ty0 hty hnm hw.K hc
  obtain ⟨r, h1, cell, q1, q2, q3, q4⟩ := hw.P k _ he
  have hr : r = (C, T, N) := Option.some.inj (h1.symm.trans hc)
  subst hr
  obtain ⟨hS, hfc, kC, hkC, hkind⟩ := hw.K.1 ci _ hc
  obtain ⟨cf, kf, fi, fd, hi, hsl⟩ := hS f hf
  have hlay := hts _ (hin _ (u_in_lay hf))
  unfold u_lay at hlay
  rw [if_neg (by rw [hfin]; decide)] at hlay
  have hst := (u_facts hfc hkC (u_lays hts hin hf) hi).1
  have h6 := u_store hfc hkC hkind hlay hi (hty f hf) hn hfit
  refine va_WputK hexec hb (f := fd) hown ((hw.N _ hlink rfl).use rfl) hi hst (by rw [q2]; exact h6) q1 q3 (by rw [hsl]; exact k2_hasslot (q4 f hf)) rfl rfl hdg fun H' e1 e2 e3 => ?_
  rw [hsl] at e1 ⊢
  exact kk H' _ (hw.write he ⟨_, hc, t_OB.to (V := updV (vp_V fs) f v) ⟨_, e1, q2, q3, t_set q4 hap hf v⟩ (fun j _ => vp_updV_set hl v j)⟩ e2 e3)
/-- arrays of ints: read, write, length. The index as a number -/
theorem n_iald (hexec : p.tables.exec = Jvm.exec) (hb : c.code = cc) (hw : nS G E s H locs) {k n : Nat} {f : Nat → Int32} (he : E k = some (a, .inl (G.2.1 0, n, .inl f))) {i : Int32} {j : Nat} (hij : i = nI j) (hj : j < n) (hn : n < 2 ^ 31) (hdg : decode cc pc = .ok (.iaload, 1))
    (kk : W p l e R s m args below meth c H locs cells slots Q (F0 m (pc + 1) ls (.int (f j) :: rest))) : W p l e R s m args below meth c H locs cells slots Q (F0 m pc ls (.int i :: .ref a :: rest)) := by
  subst hij
  refine va_iald hexec hb hw.K (hw.P.one he) 0 0 rfl rfl (vp_in_nI hj hn) hdg ?_
  rw [nI_clamp (Nat.lt_trans hj hn)]
  exact kk
theorem n_bald (hexec : p.tables.exec = Jvm.exec) (hb : c.code = cc) (hw : nS G E s H locs) {k n : Nat} {f : Nat → Int32} (he : E k = some (a, .inl (G.2.1 1, n, .inl f))) {i : Int32} {j : Nat} (hij : i = nI j) (hj : j < n) (hn : n < 2 ^ 31) (hdg : decode cc pc = .ok (.baload, 1))
    (kk : W p l e R s m args below meth c H locs cells slots Q (F0 m (pc + 1) ls (.int (f j) :: rest))) : W p l e R s m args below meth c H locs cells slots Q (F0 m pc ls (.int i :: .ref a :: rest)) := by
  subst hij
  refine va_bald hexec hb hw.K (hw.P.one he) 0 1 rfl rfl (vp_in_nI hj hn) hdg ?_
  rw [nI_clamp (Nat.lt_trans hj hn)]
  exact kk
theorem n_sald (hexec : p.tables.exec = Jvm.exec) (hb : c.code = cc) (hw : nS G E s H locs) {k n : Nat} {f : Nat → Int32} (he : E k = some (a, .inl (G.2.1 2, n, .inl f))) {i : Int32} {j : Nat} (hij : i = nI j) (hj : j < n) (hn : n < 2 ^ 31) (hdg : decode cc pc = .ok (.saload, 1))
    (kk : W p l e R s m args below meth c H locs cells slots Q (F0 m (pc + 1) ls (.int (f j) :: rest))) : W p l e R s m args below meth c H locs cells slots Q (F0 m pc ls (.int i :: .ref a :: rest)) := by
  subst hij
  refine va_sald hexec hb hw.K (hw.P.one he) 0 2 rfl rfl (vp_in_nI hj hn) hdg ?_
  rw [nI_clamp (Nat.lt_trans hj hn)]
  exact kk
theorem n_alen (hexec : p.tables.exec = Jvm.exec) (hb : c.code = cc) (hw : nS G E s H locs) {k t n : Nat} {f : Nat → Int32} (he : E k = some (a, .inl (G.2.1 t, n, .inl f))) (ht : t < 3) (hdg : decode cc pc = .ok (.arraylength, 1))
    (kk : W p l e R s m args below meth c H locs cells slots Q (F0 m (pc + 1) ls (.int (nI n) :: rest))) : W p l e R s m args below meth c H locs cells slots Q (F0 m pc ls (.ref a :: rest)) := by
  match t, ht with
  | 0, _ => exact va_alen hexec hb hw.K (hw.P.one he) 0 0 rfl rfl rfl hdg kk
  | 1, _ => exact va_alen hexec hb hw.K (hw.P.one he) 0 1 rfl rfl rfl hdg kk
  | 2, _ => exact va_alen hexec hb hw.K (hw.P.one he) 0 2 rfl rfl rfl hdg kk
theorem n_st {cA : ClassId} {n j : Nat} {f : Nat → Int32} {x : Int32} {D : va_G} {cl : List vw_C} {H1 : Heap} (e : H1[a]? = some ((vp_cell cA (n, .inl f)).setSlot j (.int x))) : va_at D cl (a, .inl (cA, n, .inl (upd f j x))) H1 := by
  show H1[a]? = some (vp_cell _ _)
  rw [e, vp_cell_i, vp_cell_i, arrV_store]
  congr 2
  funext q
  by_cases hq : q = j
  · subst hq
    simp [updV, upd]
  · simp [updV, upd, hq]
theorem n_iast (hexec : p.tables.exec = Jvm.exec) (hb : c.code = cc) (hw : nS G E s H locs) {k n : Nat} {f : Nat → Int32} (he : E k = some (a, .inl (G.2.1 0, n, .inl f))) {i x : Int32} {j : Nat} (hij : i = nI j) (hj : j < n) (hn : n < 2 ^ 31) (hdg : decode cc pc = .ok (.iastore, 1))
    (kk : ∀ (H1 : Heap) (locs1 : List Loc), nS G (va_up E k (some (a, .inl (G.2.1 0, n, .inl (upd f j x))))) s H1 locs1 → W p l e R s m args below meth c H1 locs1 cells slots Q (F0 m (pc + 1) ls rest)) : W p l e R s m args below meth c H locs cells slots Q (F0 m pc ls (.int x :: .int i :: .ref a :: rest)) := by
  subst hij
  refine W.iast hexec hb (hw.P k _ he) ((hw.K.2 0 _ rfl).1 n (fun j => .int (f j))) (fun q => by cases q) (by show ¬ (nI j < 0 ∨ (arrV _ _ _).slots.size ≤ _); rw [arrV_size]; exact vp_in_nI hj hn) rfl rfl hdg fun H1 e z oq => ?_
  rw [nI_clamp (Nat.lt_trans hj hn)] at e ⊢
  exact kk H1 _ (hw.write he (n_st e) z oq)
theorem n_bast (hexec : p.tables.exec = Jvm.exec) (hb : c.code = cc) (hw : nS G E s H locs) {k n : Nat} {f : Nat → Int32} (he : E k = some (a, .inl (G.2.1 1, n, .inl f))) {i x : Int32} {j : Nat} (hij : i = nI j) (hj : j < n) (hn : n < 2 ^ 31) (hdg : decode cc pc = .ok (.bastore, 1))
    (kk : ∀ (H1 : Heap) (locs1 : List Loc), nS G (va_up E k (some (a, .inl (G.2.1 1, n, .inl (upd f j x.toInt8.toInt32))))) s H1 locs1 → W p l e R s m args below meth c H1 locs1 cells slots Q (F0 m (pc + 1) ls rest)) : W p l e R s m args below meth c H locs cells slots Q (F0 m pc ls (.int x :: .int i :: .ref a :: rest)) := by
  subst hij
  refine W.bast hexec hb (hw.P k _ he) ((hw.K.2 1 _ rfl).1 n (fun j => .int (f j))) (fun q => by cases q) (by show ¬ (nI j < 0 ∨ (arrV _ _ _).slots.size ≤ _); rw [arrV_size]; exact vp_in_nI hj hn) rfl rfl hdg fun H1 e z oq => ?_
  rw [nI_clamp (Nat.lt_trans hj hn)] at e ⊢
  exact kk H1 _ (hw.write he (n_st e) z oq)
theorem n_sast (hexec : p.tables.exec = Jvm.exec) (hb : c.code = cc) (hw : nS G E s H locs) {k n : Nat} {f : Nat → Int32} (he : E k = some (a, .inl (G.2.1 2, n, .inl f))) {i x : Int32} {j : Nat} (hij : i = nI j) (hj : j < n) (hn : n < 2 ^ 31) (hdg : decode cc pc = .ok (.sastore, 1))
    (kk : ∀ (H1 : Heap) (locs1 : List Loc), nS G (va_up E k (some (a, .inl (G.2.1 2, n, .inl (upd f j x.toInt16.toInt32))))) s H1 locs1 → W p l e R s m args below meth c H1 locs1 cells slots Q (F0 m (pc + 1) ls rest)) : W p l e R s m args below meth c H locs cells slots Q (F0 m pc ls (.int x :: .int i :: .ref a :: rest)) := by
  subst hij
  refine W.sast hexec hb (hw.P k _ he) ((hw.K.2 2 _ rfl).1 n (fun j => .int (f j))) (fun q => by cases q) (by show ¬ (nI j < 0 ∨ (arrV _ _ _).slots.size ≤ _); rw [arrV_size]; exact vp_in_nI hj hn) rfl rfl hdg fun H1 e z oq => ?_
  rw [nI_clamp (Nat.lt_trans hj hn)] at e ⊢
  exact kk H1 _ (hw.write he (n_st e) z oq)
/-- a call that goes on in the world that the callee left -/
theorem n_calli {mc ms : Nat} {a : Array Value} {S : Type} {post : Int32 → S → Prop} {F : S → nE} (hr : va_Run p l e R s m args below meth c H locs cells slots mc ms (F0 m pc ls st0) rest (va_Qi post (fun u => nC G (F u)) (nA G) a) (nA G)) (hw : nS G E s H locs)
    (kk : ∀ (r : Int32) (u : S) (H1 : Heap) (locs1 : List Loc), post r u → nS G (F u) s H1 locs1 → W p l e R s m args below meth c H1 locs1 (cells + mc) (slots + ms) Q (F0 m (pc + 3) ls (.int r :: rest))) : W p l e R s m args below meth c H locs cells slots Q (F0 m pc ls st0) :=
  va_calli hr hw.S (fun _ _ h => h) (fun _ h => h) (fun r u t H1 locs1 ht hvm hp hB _ _ hS => kk r u H1 locs1 hp ⟨hw.K, hw.N, by rw [← ht]; exact hB.2.2.1, hB.2.2.2.1, hS, hw.X⟩)
theorem n_calll {mc ms : Nat} {a : Array Value} {S : Type} {post : Int64 → S → Prop} {F : S → nE} (hr : va_Run p l e R s m args below meth c H locs cells slots mc ms (F0 m pc ls st0) rest (va_Ql post (fun u => nC G (F u)) (nA G) a) (nA G)) (hw : nS G E s H locs)
    (kk : ∀ (r : Int64) (u : S) (H1 : Heap) (locs1 : List Loc), post r u → nS G (F u) s H1 locs1 → W p l e R s m args below meth c H1 locs1 (cells + mc) (slots + ms) Q (F0 m (pc + 3) ls (.long r :: rest))) : W p l e R s m args below meth c H locs cells slots Q (F0 m pc ls st0) :=
  va_calll hr hw.S (fun _ _ h => h) (fun _ h => h) (fun r u t H1 locs1 ht hvm hp hB _ _ hS => kk r u H1 locs1 hp ⟨hw.K, hw.N, by rw [← ht]; exact hB.2.2.1, hB.2.2.2.1, hS, hw.X⟩)
theorem n_callv {mc ms : Nat} {a : Array Value} {S : Type} {post : S → Prop} {F : S → nE} (hr : va_Run p l e R s m args below meth c H locs cells slots mc ms (F0 m pc ls st0) rest (va_Qv post (fun u => nC G (F u)) (nA G) a) (nA G)) (hw : nS G E s H locs)
    (kk : ∀ (u : S) (H1 : Heap) (locs1 : List Loc), post u → nS G (F u) s H1 locs1 → W p l e R s m args below meth c H1 locs1 (cells + mc) (slots + ms) Q (F0 m (pc + 3) ls rest)) : W p l e R s m args below meth c H locs cells slots Q (F0 m pc ls st0) :=
  va_callv hr hw.S (fun _ _ h => h) (fun _ h => h) (fun u t H1 locs1 ht hvm hp hB _ _ hS => kk u H1 locs1 hp ⟨hw.K, hw.N, by rw [← ht]; exact hB.2.2.1, hB.2.2.2.1, hS, hw.X⟩)
theorem n_callq {mc ms : Nat} {a : Array Value} {S : Type} {post : Option Nat → S → Prop} {F : S → nE} (hr : va_Run p l e R s m args below meth c H locs cells slots mc ms (F0 m pc ls st0) rest (va_Qq post (fun u => nC G (F u)) (nA G) a) (nA G)) (hw : nS G E s H locs)
    (kk : ∀ (r : Option Nat) (u : S) (H1 : Heap) (locs1 : List Loc), post r u → nS G (F u) s H1 locs1 → W p l e R s m args below meth c H1 locs1 (cells + mc) (slots + ms) Q (F0 m (pc + 3) ls (va_rf r :: rest))) : W p l e R s m args below meth c H locs cells slots Q (F0 m pc ls st0) :=
  va_callq hr hw.S (fun _ _ h => h) (fun _ h => h) (fun r u t H1 locs1 ht hvm hp hB _ _ hS => kk r u H1 locs1 hp ⟨hw.K, hw.N, by rw [← ht]; exact hB.2.2.1, hB.2.2.2.1, hS, hw.X⟩)
/-- a pure call -/
theorem n_callp {a : Array Value} {post : Int32 → Prop} (hr : va_Run p l e R s m args below meth c H locs cells slots 0 0 (F0 m pc ls st0) rest (vp_Si post a) (fun _ => False))
    (kk : ∀ r : Int32, post r → W p l e R s m args below meth c H locs cells slots Q (F0 m (pc + 3) ls (.int r :: rest))) : W p l e R s m args below meth c H locs cells slots Q (F0 m pc ls st0) := vp_callSi hr.run kk
theorem n_topE {x y : Int32} (h : x = y) (k : W p l e R s m args below meth c H locs cells slots Q (F0 m pc ls (.int y :: rest))) : W p l e R s m args below meth c H locs cells slots Q (F0 m pc ls (.int x :: rest)) := h ▸ k
theorem n_E {E2 : nE} (h : E = E2) (hw : nS G E s H locs) : nS G E2 s H locs := h ▸ hw
/-- returns -/
theorem n_iret {S : Type} {post : Int32 → S → Prop} {F : S → nE} {v : Int32} (hexec : p.tables.exec = Jvm.exec) (hb : c.code = cc) {ty : FieldType} (hr : meth.sig.returnType = some ty) (hlk : meth.locks = false) (hn : narrow ty (.int v) = .int v) (u : S) (hw : nS G (F u) s H locs) (hp : post v u) (hdg : decode cc pc = .ok (.ireturn, 1)) : W p l e R s m args below meth c H locs cells slots (MQ below (va_Qi post (fun u => nC G (F u)) (nA G)) args s cells slots (nA G)) (F0 m pc ls [.int v]) :=
  W.zret hexec hb hr hn (fun t ht hW => ⟨⟨v, u, rfl, hp, hw.at ht hW⟩, hw.S.F ht⟩) hw.S.2.2 hdg hlk
theorem n_lret {S : Type} {post : Int64 → S → Prop} {F : S → nE} {v : Int64} (hexec : p.tables.exec = Jvm.exec) (hb : c.code = cc) (hr : meth.sig.returnType = some .long) (hlk : meth.locks = false) (u : S) (hw : nS G (F u) s H locs) (hp : post v u) (hdg : decode cc pc = .ok (.lreturn, 1)) : W p l e R s m args below meth c H locs cells slots (MQ below (va_Ql post (fun u => nC G (F u)) (nA G)) args s cells slots (nA G)) (F0 m pc ls [.long v]) :=
  W.lret hexec hb hr (fun t ht hW => ⟨⟨v, u, rfl, hp, hw.at ht hW⟩, hw.S.F ht⟩) hw.S.2.2 hdg hlk
theorem n_vret {S : Type} {post : S → Prop} {F : S → nE} (hexec : p.tables.exec = Jvm.exec) (hb : c.code = cc) (hr : meth.sig.returnType = none) (hlk : meth.locks = false) (u : S) (hw : nS G (F u) s H locs) (hp : post u) (hdg : decode cc pc = .ok (.return_, 1)) : W p l e R s m args below meth c H locs cells slots (MQ below (va_Qv post (fun u => nC G (F u)) (nA G)) args s cells slots (nA G)) (F0 m pc ls []) :=
  W.vret hexec hb hr (fun t ht hW => ⟨⟨u, rfl, hp, hw.at ht hW⟩, hw.S.F ht⟩) hw.S.2.2 hdg hlk
theorem n_pret {post : Int32 → Prop} {v : Int32} (hexec : p.tables.exec = Jvm.exec) (hb : c.code = cc) {ty : FieldType} (hr : meth.sig.returnType = some ty) (hlk : meth.locks = false) (hn : narrow ty (.int v) = .int v) (hp : post v) (hdg : decode cc pc = .ok (.ireturn, 1)) : W p l e R s m args below meth c s.heap [] cells slots (MQ below (vp_Si post) args s cells slots (fun _ => False)) (F0 m pc ls [.int v]) :=
  W.zret hexec hb hr hn (fun t ht hW => ⟨v, rfl, hp, ht⟩) (fun _ h => by cases h) hdg hlk
/-- a loop: what holds at its head, by a measure -/
theorem n_loop {α : Type} (I : α → Heap → List Loc → Array Slot → Prop) (μ : α → Nat) (L : Nat)
    (step : ∀ (x : α) (H : Heap) (locs : List Loc) (ls : Array Slot), I x H locs ls → (∀ (y : α) (H : Heap) (locs : List Loc) (ls : Array Slot), μ y < μ x → I y H locs ls → W p l e R s m args below meth c H locs cells slots Q (F0 m L ls [])) → W p l e R s m args below meth c H locs cells slots Q (F0 m L ls [])) (x : α) (H : Heap) (locs : List Loc) (ls : Array Slot) (h : I x H locs ls) : W p l e R s m args below meth c H locs cells slots Q (F0 m L ls []) := by
  have key : ∀ (n : Nat) (x : α) (H : Heap) (locs : List Loc) (ls : Array Slot), μ x < n → I x H locs ls → W p l e R s m args below meth c H locs cells slots Q (F0 m L ls []) := by
    intro n
    induction n with
    | zero => intro x H locs ls h; omega
    | succ n ih => intro x H locs ls h1 h2; exact step x H locs ls h2 (fun y H locs ls h3 h4 => ih y H locs ls (by omega) h4)
  exact key (μ x + 1) x H locs ls (Nat.lt_succ_self _) h
/-- where two roads meet, with one number on the stack -/
theorem n_join (Pj : Int32 → Prop) (M : Nat) (after : ∀ v : Int32, Pj v → W p l e R s m args below meth c H locs cells slots Q (F0 m M ls (.int v :: rest)))
    (br : (∀ v : Int32, Pj v → W p l e R s m args below meth c H locs cells slots Q (F0 m M ls (.int v :: rest))) → W p l e R s m args below meth c H locs cells slots Q (F0 m pc ls st0)) : W p l e R s m args below meth c H locs cells slots Q (F0 m pc ls st0) := br after
end NR
/-- the head of a method -/
theorem n_head {l : Launch} {y : MethodName} {rm : Room} {av : List Value} {B : State → Prop} {Qc : Array Value → State → Outcome → State → Prop} {mc ms : Nat} {free : Addr → Prop} {cc : ByteArray} {maxL : Nat} {ret : Option FieldType} (hy : plainName y.cls = true) (hn : (lg_sl av).length ≤ maxL)
    (body : ∀ (p : Program) (e : Env) (s : State) (m : MethodId) (below : List Frame) (meth : Method) (c : Code) (ls : Array Slot), p.tables.exec = Jvm.exec → c.code = cc → meth.sig.returnType = ret → meth.locks = false → c.maxLocals = maxL → s.vm.findClass y.cls = some m.cls → (∀ w ∈ lw_all, w.before av.toArray s = true) → B s → lv_has ls maxL (lv_args 0 av) →
      W p l e rm s m av.toArray below meth c s.heap [] 0 0 (MQ below Qc av.toArray s mc ms free) (F0 m 0 ls [])) : Met l y (ws_ y cc maxL ret) rm (va_Pc av B) Qc mc ms free := by
  refine Met.ofW (cc := cc) (maxL := maxL) (ret := ret) hy rfl ?_
  intro p e s m args below meth c s₁ B' hml hv
  obtain ⟨rfl, hB⟩ := hv
  have hts := atoms_spec (ws := ws_ y cc maxL ret) B'.pre
  have hts : ∀ w ∈ lw_all, w.before _ s = true := fun w h => hts w (List.mem_cons_of_mem _ h)
  rw [lg_entry_eq]
  exact body p e s m below meth c _ B'.exec B'.bytes B'.returns B'.notSynchronized hml (findClass_of_methodNamed B'.named) hts hB (lv_entry av hn)
