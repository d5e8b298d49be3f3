/-! rows of a world of the class: one world among the four (va_up V j w), or all four told (xV) -/
set_option maxRecDepth 100000
def xV (a b c d : rw84) : xWs := fun n => match n with
  | 0 => a
  | 1 => b
  | 2 => c
  | 3 => d
  | _ => fun _ => 0
theorem xV_0 (a b c d x : rw84) : va_up (xV a b c d) 0 x = xV x b c d := by funext n; match n with | 0 => rfl | 1 => rfl | 2 => rfl | 3 => rfl | n + 4 => rfl
theorem xV_1 (a b c d x : rw84) : va_up (xV a b c d) 1 x = xV a x c d := by funext n; match n with | 0 => rfl | 1 => rfl | 2 => rfl | 3 => rfl | n + 4 => rfl
theorem xV_2 (a b c d x : rw84) : va_up (xV a b c d) 2 x = xV a b x d := by funext n; match n with | 0 => rfl | 1 => rfl | 2 => rfl | 3 => rfl | n + 4 => rfl
theorem xV_3 (a b c d x : rw84) : va_up (xV a b c d) 3 x = xV a b c x := by funext n; match n with | 0 => rfl | 1 => rfl | 2 => rfl | 3 => rfl | n + 4 => rfl
theorem va_up_up {α : Type} (f : Nat → α) (j : Nat) (x y : α) : va_up (va_up f j x) j y = va_up f j y := by
  funext n
  by_cases h : n = j
  · subst h; rw [va_up_self, va_up_self]
  · rw [va_up_ne _ _ h, va_up_ne _ _ h, va_up_ne _ _ h]
theorem va_up_eq {α : Type} {f : Nat → α} {j : Nat} {x : α} (h : f j = x) : f = va_up f j x := by
  funext n
  by_cases hn : n = j
  · subst hn; rw [va_up_self, h]
  · rw [va_up_ne _ _ hn]
section XW
variable {G : nG} {ad : Nat → Nat} {V : xWs} {X : mM} {sp : xSp} {sh : xSh} {j : Nat} {w w1 w2 w3 : rw84}
theorem xwv (hj : j < 4) (k : Nat) (hk : k < 16 := by decide) : xE G ad (va_up V j w) X sp sh (16 * j + k) = wP G (fun k => ad (16 * j + k)) w k := by
  rw [xw j k hj hk, va_up_self]
theorem xwv_row (hj : j < 4) {r : Nat} (hr : r < 5) : xE G ad (va_up V j w) X sp sh (16 * j + (8 + r)) = some (ad (16 * j + (8 + r)), .inl (G.2.1 0, 8, .inl (fun p => w (44 + 5 * p + r)))) := by
  rw [xw_row j r hj hr, va_up_self]
theorem xv0 (k : Nat) (hk : k < 16 := by decide) : xE G ad (xV w w1 w2 w3) X sp sh (16 * 0 + k) = wP G (fun k => ad (16 * 0 + k)) w k := xw 0 k (by decide) hk
theorem xv1 (k : Nat) (hk : k < 16 := by decide) : xE G ad (xV w w1 w2 w3) X sp sh (16 * 1 + k) = wP G (fun k => ad (16 * 1 + k)) w1 k := xw 1 k (by decide) hk
theorem xv2 (k : Nat) (hk : k < 16 := by decide) : xE G ad (xV w w1 w2 w3) X sp sh (16 * 2 + k) = wP G (fun k => ad (16 * 2 + k)) w2 k := xw 2 k (by decide) hk
theorem xv3 (k : Nat) (hk : k < 16 := by decide) : xE G ad (xV w w1 w2 w3) X sp sh (16 * 3 + k) = wP G (fun k => ad (16 * 3 + k)) w3 k := xw 3 k (by decide) hk
theorem xv0_row {r : Nat} (hr : r < 5) : xE G ad (xV w w1 w2 w3) X sp sh (16 * 0 + (8 + r)) = some (ad (16 * 0 + (8 + r)), .inl (G.2.1 0, 8, .inl (fun p => w (44 + 5 * p + r)))) := xw_row 0 r (by decide) hr
theorem wpos_row {r : Nat} (hr : r < 5) (q : Nat) : wpos (8 + r) q = 44 + 5 * q + r := by
  match r, hr with
  | 0, _ => rfl
  | 1, _ => rfl
  | 2, _ => rfl
  | 3, _ => rfl
  | 4, _ => rfl
theorem wlen_row {r : Nat} (hr : r < 5) : wlen (8 + r) = 8 := by
  match r, hr with
  | 0, _ => rfl
  | 1, _ => rfl
  | 2, _ => rfl
  | 3, _ => rfl
  | 4, _ => rfl
variable {p : Program} {l : Launch} {e : Env} {R : Room} {s : State} {m : MethodId} {args : Array Value} {below : List Frame} {meth : Method} {c : Code} {H : Heap} {locs : List Loc} {cells slots : Nat} {Q : State → Prop}
variable {cc : ByteArray} {pc : Nat} {ls : Array Slot} {rest st0 : List Value} {E : nE} {a : Nat}
theorem n_aaldS (hexec : p.tables.exec = Jvm.exec) (hb : c.code = cc) (hw : nS G E s H locs) {k t n b : Nat} {f : Nat → Option Nat} (he : E k = some (a, .inl (G.2.1 t, n, .inr (.inr (.inr (.inr f)))))) (ht : t = 3 ∨ t = 4) {i : Int32} {j : Nat} (hij : i = nI j) (hj : j < n) (hn : n < 2 ^ 31) (hf : f j = some b) (hdg : decode cc pc = .ok (.aaload, 1))
    (kk : W p l e R s m args below meth c H locs cells slots Q (F0 m (pc + 1) ls (.ref b :: rest))) : W p l e R s m args below meth c H locs cells slots Q (F0 m pc ls (.int i :: .ref a :: rest)) :=
  n_aald hexec hb hw he ht hij hj hn hdg (by rw [hf]; exact kk)
theorem w_iast (hexec : p.tables.exec = Jvm.exec) (hb : c.code = cc) (hw : nS G (xE G ad (va_up V j w) X sp sh) s H locs) (k : Nat) (hj : j < 4) (hk : k < 16) {i x : Int32} {q : Nat} (hij : i = nI q) (hq : q < wlen k) {pos : Nat} (hp : wpos k q = pos) (hdg : decode cc pc = .ok (.iastore, 1))
    (kk : ∀ (H1 : Heap) (locs1 : List Loc), nS G (xE G ad (va_up V j (upd w pos x)) X sp sh) s H1 locs1 → W p l e R s m args below meth c H1 locs1 cells slots Q (F0 m (pc + 1) ls rest)) : W p l e R s m args below meth c H locs cells slots Q (F0 m pc ls (.int x :: .int i :: .ref (ad (16 * j + k)) :: rest)) :=
  x_iast hexec hb hw j k hj hk hij hq hp hdg (fun H1 locs1 h => kk H1 locs1 (by rw [va_up_self, va_up_up] at h; exact h))
theorem l0_iast (hexec : p.tables.exec = Jvm.exec) (hb : c.code = cc) (hw : nS G (xE G ad (xV w w1 w2 w3) X sp sh) s H locs) (k : Nat) (hk : k < 16) {i x : Int32} {q : Nat} (hij : i = nI q) (hq : q < wlen k) {pos : Nat} (hp : wpos k q = pos) (hdg : decode cc pc = .ok (.iastore, 1))
    (kk : ∀ (H1 : Heap) (locs1 : List Loc), nS G (xE G ad (xV (upd w pos x) w1 w2 w3) X sp sh) s H1 locs1 → W p l e R s m args below meth c H1 locs1 cells slots Q (F0 m (pc + 1) ls rest)) : W p l e R s m args below meth c H locs cells slots Q (F0 m pc ls (.int x :: .int i :: .ref (ad (16 * 0 + k)) :: rest)) :=
  x_iast hexec hb hw 0 k (by decide) hk hij hq hp hdg (fun H1 locs1 h => kk H1 locs1 (by rw [xV_0] at h; exact h))
theorem w_put (hexec : p.tables.exec = Jvm.exec) (hb : c.code = cc) (hts : ∀ w ∈ lw_all, w.before args s = true) (hown : s.vm.findClass "LineCalls$World" = some m.cls) (hw : nS G (xE G ad (va_up V j w) X sp sh) s H locs) (hj : j < 4) (f : Nat) (hf : f = 4 ∨ f = 5 ∨ f = 7 ∨ f = 8) {index : Nat} (hlink : Cond.fieldLink "LineCalls$World" index (TX4 f).1 (TX4 f).2.1 (TX4 f).2.2.1 ∈ lw_all) {v : Int32} {pos : Nat} (hp : wfld f = pos) (hdg : decode cc pc = .ok (.putfield index, 3))
    (kk : ∀ (H1 : Heap) (locs1 : List Loc), nS G (xE G ad (va_up V j (upd w pos v)) X sp sh) s H1 locs1 → W p l e R s m args below meth c H1 locs1 cells slots Q (F0 m (pc + 3) ls rest)) : W p l e R s m args below meth c H locs cells slots Q (F0 m pc ls (.int v :: .ref (ad (16 * j + 0)) :: rest)) := by
  subst hp
  have h10 : f < 10 := by omega
  have he := xw (G := G) (ad := ad) (W := va_up V j w) (X := X) (sp := sp) (sh := sh) j 0 hj
  refine n_put (k := 16 * j + 0) hexec hb hts in_X4 tyX4 tyX4_ok nmX4 hown hw (ci := 4) he rfl f h10 hlink ?_ ?_ ?_ h10 hdg (fun H1 locs1 h => kk H1 locs1 ?_)
  · rcases hf with rfl | rfl | rfl | rfl <;> rfl
  · rcases hf with rfl | rfl | rfl | rfl <;> rfl
  · rcases hf with rfl | rfl | rfl | rfl <;> rfl
  · have h2 := xE_fld hj hf h
    rw [va_up_self, va_up_up] at h2
    exact h2
end XW
