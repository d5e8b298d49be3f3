/-! rows over the class's picture: arrays of references, copies of stretches, stores into worlds -/
set_option maxRecDepth 100000
section XR
variable {p : Program} {l : Launch} {e : Env} {R : Room} {s : State} {m : MethodId} {args : Array Value} {below : List Frame} {meth : Method} {c : Code} {H : Heap} {locs : List Loc} {cells slots : Nat} {Q : State → Prop}
variable {cc : ByteArray} {pc : Nat} {ls : Array Slot} {rest st0 : List Value} {G : nG} {E : nE} {a : Nat}
theorem n_aald (hexec : p.tables.exec = Jvm.exec) (hb : c.code = cc) (hw : nS G E s H locs) {k t n : Nat} {f : Nat → Option Nat} (he : E k = some (a, .inl (G.2.1 t, n, .inr (.inr (.inr (.inr f)))))) (ht : t = 3 ∨ t = 4) {i : Int32} {j : Nat} (hij : i = nI j) (hj : j < n) (hn : n < 2 ^ 31) (hdg : decode cc pc = .ok (.aaload, 1))
    (kk : W p l e R s m args below meth c H locs cells slots Q (F0 m (pc + 1) ls (va_rf (f j) :: rest))) : W p l e R s m args below meth c H locs cells slots Q (F0 m pc ls (.int i :: .ref a :: rest)) := by
  subst hij
  have hin := vp_in_nI hj hn
  have hc : (nI j).toNatClampNeg = j := nI_clamp (Nat.lt_trans hj hn)
  rcases ht with rfl | rfl
  · exact W.aald (v := va_rf (f j)) (ty := .object "LineCalls$Slot") hexec hb (hw.P k _ he) ((hw.K.2 3 _ rfl).1 n (fun j => va_rf (f j))) rfl (fun q => by cases q) (by show ¬ (_ ∨ (arrV _ _ _).slots.size ≤ _); rw [arrV_size]; exact hin) (by show (arrV _ _ _).slots[_]? = _; rw [hc, arrV_read _ _ hj]) rfl rfl hdg kk
  · exact W.aald (v := va_rf (f j)) (ty := .array .int) hexec hb (hw.P k _ he) ((hw.K.2 4 _ rfl).1 n (fun j => va_rf (f j))) rfl (fun q => by cases q) (by show ¬ (_ ∨ (arrV _ _ _).slots.size ≤ _); rw [arrV_size]; exact hin) (by show (arrV _ _ _).slots[_]? = _; rw [hc, arrV_read _ _ hj]) rfl rfl hdg kk
theorem n_qlen (hexec : p.tables.exec = Jvm.exec) (hb : c.code = cc) (hw : nS G E s H locs) {k n : Nat} {x : Nat → Option Nat} (he : E k = some (a, .inl (G.2.1 4, n, .inr (.inr (.inr (.inr x)))))) (hdg : decode cc pc = .ok (.arraylength, 1))
    (kk : W p l e R s m args below meth c H locs cells slots Q (F0 m (pc + 1) ls (.int (nI n) :: rest))) : W p l e R s m args below meth c H locs cells slots Q (F0 m pc ls (.ref a :: rest)) :=
  va_alen hexec hb hw.K (hw.P.one he) 0 4 rfl rfl rfl hdg kk
/-- a stretch copied into an array of the same kind, that may be the same array -/
theorem n_copyi (hexec : p.tables.exec = Jvm.exec) (hb : c.code = cc) (hml : c.maxLocals = ls.size) {own : String} {index : Nat} (hown : s.vm.findClass own = some m.cls) (hlink : (Cond.methodLink own index arraycopyName).before args s = true) (hnat : (Cond.native arraycopyName).before args s = true) (hstat : (Cond.static arraycopyName).before args s = true) (hini : (Cond.initialized "java/lang/System").before args s = true)
    (hw : nS G E s H locs) {k0 k1 t : Nat} {a0 n0 n1 : Nat} {f g : Nat → Int32} {ty : FieldType} (he0 : E k0 = some (a0, .inl (G.2.1 t, n0, .inl f))) (he1 : E k1 = some (a, .inl (G.2.1 t, n1, .inl g))) (ht : (nT G)[t]? = some (G.2.1 t, ty)) (hprim : refKind ty = false) {sp dp n : Nat} (h1 : sp + n ≤ n0) (h2 : dp + n ≤ n1) (h3 : n0 < 2 ^ 31) (h4 : n1 < 2 ^ 31) (hfit : ∀ i, i < n → fits ty (.int (f (sp + i))) = true)
    (hframes : 1 ≤ R.frames) (hlocals : (rest.map fun v => v.category).sum + (nativeFrameWords "java/lang/System" "arraycopy" 5 + 11) ≤ R.locals) (hdg : decode cc pc = .ok (.invokestatic index, 3))
    (kk : ∀ (H1 : Heap) (locs1 : List Loc), nS G (va_up E k1 (some (a, .inl (G.2.1 t, n1, .inl (va_cpy f g sp dp n))))) s H1 locs1 → W p l e R s m args below meth c H1 locs1 cells slots Q (F0 m (pc + 3) ls rest)) : W p l e R s m args below meth c H locs cells slots Q (F0 m pc ls (.int (nI n) :: .int (nI dp) :: .ref a :: .int (nI sp) :: .ref a0 :: rest)) := by
  intro T hT X
  have hc0 : H[a0]? = some (vp_cell (G.2.1 t) (n0, .inl f)) := hw.P k0 _ he0
  have hc1 : H[a]? = some (vp_cell (G.2.1 t) (n1, .inl g)) := hw.P k1 _ he1
  obtain ⟨-, z0, hz0, cm0, hkk0⟩ := (hw.K.2 t _ ht).1 n0 (fun j => .int (f j))
  obtain ⟨-, z1, hz1, cm1, hkk1⟩ := (hw.K.2 t _ ht).1 n1 (fun j => .int (g j))
  have csp : (nI sp).toNatClampNeg = sp := nI_clamp (by omega)
  have cdp : (nI dp).toNatClampNeg = dp := nI_clamp (by omega)
  have cn : (nI n).toNatClampNeg = n := nI_clamp (by omega)
  have isp : (nI sp).toInt = (sp : Int) := nI_toInt (by omega)
  have idp : (nI dp).toInt = (dp : Int) := nI_toInt (by omega)
  have inn : (nI n).toInt = (n : Int) := nI_toInt (by omega)
  obtain ⟨vm', X', step⟩ := X.arraycopy hexec hown hlink hnat hstat hini (src := a0) (dst := a) (cs := vp_cell (G.2.1 t) (n0, .inl f)) (cd := vp_cell (G.2.1 t) (n1, .inl g)) (srcPos := nI sp) (destPos := nI dp) (n := nI n) (by rw [hT]; exact hc0) (by rw [hT]; exact hc1)
    (fun _ h => by cases h) (fun _ h => by cases h) (fun h => by cases h) (fun h => by cases h) hz0 hz1 hkk0 hkk1 (by simp [hprim]) (nI_pos (by omega)) (nI_pos (by omega)) (nI_pos (by omega))
    (by rw [isp, inn]; show ¬ _ > ((arrV _ n0 (fun j => .int (f j))).slots.size : Int); rw [arrV_size]; omega)
    (by rw [idp, inn]; show ¬ _ > ((arrV _ n1 (fun j => .int (g j))).slots.size : Int); rw [arrV_size]; omega)
    (fun vm₁ _ i hi => by
      have e : (vp_cell (G.2.1 t) (n0, .inl f)).slots.getD ((nI sp).toNatClampNeg + i) .null = .int (f (sp + i)) := by
        show (arrV _ n0 (fun j => .int (f j))).slots.getD _ _ = _
        rw [csp, Array.getD_eq_getD_getElem?, arrV_read _ _ (by rw [cn] at hi; omega)]
        rfl
      rw [e]
      exact ⟨hfit i (by rw [cn] at hi; exact hi), trivial⟩)
    (g := F0 m pc ls (.int (nI n) :: .int (nI dp) :: .ref a :: .int (nI sp) :: .ref a0 :: rest)) rfl (by rw [hml]) (rest := rest) rfl (by rw [hb]; exact hdg) hframes (by show 2 * 0 + _ + _ ≤ _; omega)
  have e1 : copied (vp_cell (G.2.1 t) (n0, .inl f)) (vp_cell (G.2.1 t) (n1, .inl g)) (nI sp) (nI dp) (nI n) = vp_cell (G.2.1 t) (n1, .inl (va_cpy f g sp dp n)) := by
    have := va_copied (fun z => Value.int z) (G.2.1 t) (G.2.1 t) (n0 := n0) (n1 := n1) (sp := sp) (dp := dp) (n := n) f g h1
    unfold copied
    rw [csp, cdp, cn]
    exact this
  rw [e1] at X' step
  have hl : a < H.size := (Array.getElem?_eq_some_iff.mp hc1).1
  have hheap : ((T.setVm vm').setCell a (vp_cell (G.2.1 t) (n1, .inl (va_cpy f g sp dp n)))).heap = H.setIfInBounds a (vp_cell (G.2.1 t) (n1, .inl (va_cpy f g sp dp n))) := by rw [← hT]; rfl
  have oq : ∀ q : Nat, q ≠ a → (H.setIfInBounds a (vp_cell (G.2.1 t) (n1, .inl (va_cpy f g sp dp n))))[q]? = H[q]? := fun q hq => by simp [Array.getElem?_setIfInBounds, Ne.symm hq]
  have hA : nA G a := hw.D.2 k1 _ he1
  obtain ⟨t', a1, b1⟩ := kk _ _ ⟨hw.K, hw.N, hw.P.set hw.D he1 (show (H.setIfInBounds a _)[a]? = some _ by simp [Array.getElem?_setIfInBounds, hl]) oq, hw.D.set he1, ⟨by simp; exact hw.S.1, fun q g1 g2 => by
      rw [oq q (fun e => g2 (by rw [e]; exact hA))]
      exact hw.S.2.1 q g1 g2, fun q hq => by
      rcases List.mem_append.mp hq with h | h
      · exact hw.S.2.2 q h
      · obtain ⟨z, -, hz⟩ := List.mem_map.mp h
        rw [← hz]
        exact hA⟩, hw.X⟩ _ hheap X'
  exact ⟨t', step t' a1, b1⟩
variable {ad : Nat → Nat} {V : xWs} {X : mM} {sp : xSp} {sh : xSh}
/-- a store into an array of a world -/
theorem x_iast (hexec : p.tables.exec = Jvm.exec) (hb : c.code = cc) (hw : nS G (xE G ad V X sp sh) s H locs) (j k : Nat) (hj : j < 4) (hk : k < 16) {i x : Int32} {q : Nat} (hij : i = nI q) (hq : q < wlen k) {pos : Nat} (hp : wpos k q = pos) (hdg : decode cc pc = .ok (.iastore, 1))
    (kk : ∀ (H1 : Heap) (locs1 : List Loc), nS G (xE G ad (va_up V j (upd (V j) pos x)) X sp sh) s H1 locs1 → W p l e R s m args below meth c H1 locs1 cells slots Q (F0 m (pc + 1) ls rest)) : W p l e R s m args below meth c H locs cells slots Q (F0 m pc ls (.int x :: .int i :: .ref (ad (16 * j + k)) :: rest)) := by
  subst hp
  have hn : wlen k < 2 ^ 31 := by
    have : ∀ k, k < 16 → wlen k < 2 ^ 31 := by decide
    exact this k hk
  exact n_iast hexec hb hw ((xw j k hj hk).trans (wP_arr G _ _ k hk (by omega))) hij hq hn hdg (fun H1 locs1 h => kk H1 locs1 (xE_arr hj hk hq h))
end XR
