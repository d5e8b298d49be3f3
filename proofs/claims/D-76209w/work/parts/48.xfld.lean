/-! the outer class's own fields written -/
set_option maxRecDepth 100000
section XFL
variable {G : nG} {ad : Nat → Nat} {V : xWs} {X : mM} {sp : xSp} {sh : xSh}
theorem xE_own {Y : mM} {a : Nat} {q : Option (Nat × va_E)} (ha : ¬ a < 64 ∧ a < 100) (h1 : xP G ad Y a = q) (h2 : ∀ n, n ≠ a → xP G ad Y n = xP G ad X n) : va_up (xE G ad V X sp sh) a q = xE G ad V Y sp sh := by
  funext n
  by_cases hn : n = a
  · subst hn
    rw [va_up_self, xp n ha.1 ha.2, h1]
  · rw [va_up_ne _ _ hn]
    unfold xE
    rw [h2 n hn]
theorem xE_fnd (f : Nat → Int32) : va_up (xE G ad V X sp sh) 72 (some (ad 72, .inl (G.2.1 0, 7, .inl f))) = xE G ad V (ur X 10 f) sp sh := by
  refine xE_own ⟨by decide, by decide⟩ rfl (fun n hn => ?_)
  unfold xP
  split
  all_goals first | rfl | (exact absurd rfl hn)
theorem xE_tape (f : Nat → Int32) : va_up (xE G ad V X sp sh) 68 (some (ad 68, .inl (G.2.1 1, 120, .inl f))) = xE G ad V (ur X 31 f) sp sh := by
  refine xE_own ⟨by decide, by decide⟩ rfl (fun n hn => ?_)
  unfold xP
  split
  all_goals first | rfl | (exact absurd rfl hn)
theorem xE_i0 (f : Nat) (hf : f = 2 ∨ f = 6 ∨ f = 11) (v : Int32) : va_up (xE G ad V X sp sh) 64 (some (ad 64, .inr (0, (xF0 ad X).set f (.int v)))) = xE G ad V (u2 X f 0 v) sp sh := by
  rcases hf with rfl | rfl | rfl <;>
  · refine xE_own ⟨by decide, by decide⟩ rfl (fun n hn => ?_)
    unfold xP
    split
    all_goals first | rfl | (exact absurd rfl hn)
theorem xE_i1 (v : Int32) : va_up (xE G ad V X sp sh) 65 (some (ad 65, .inr (1, (xF1 X).set 6 (.int v)))) = xE G ad V (u2 X 20 0 v) sp sh := by
  refine xE_own ⟨by decide, by decide⟩ rfl (fun n hn => ?_)
  unfold xP
  split
  all_goals first | rfl | (exact absurd rfl hn)
theorem xE_i2 (f : Nat) (hf : f = 3 ∨ f = 4 ∨ f = 5 ∨ f = 6 ∨ f = 7) (v : Int32) : va_up (xE G ad V X sp sh) 66 (some (ad 66, .inr (2, (xF2 ad X).set f (.int v)))) = xE G ad V (u2 X (30 + f) 0 v) sp sh := by
  rcases hf with rfl | rfl | rfl | rfl | rfl <;>
  · refine xE_own ⟨by decide, by decide⟩ rfl (fun n hn => ?_)
    unfold xP
    split
    all_goals first | rfl | (exact absurd rfl hn)
variable {p : Program} {l : Launch} {e : Env} {R : Room} {s : State} {m : MethodId} {args : Array Value} {below : List Frame} {meth : Method} {c : Code} {H : Heap} {locs : List Loc} {cells slots : Nat} {Q : State → Prop} {cc : ByteArray} {pc : Nat} {ls : Array Slot} {rest : List Value}
theorem l_fnd (hexec : p.tables.exec = Jvm.exec) (hb : c.code = cc) (hw : nS G (xE G ad V X sp sh) s H locs) {i x : Int32} {q : Nat} (hij : i = nI q) (hq : q < 7) (hdg : decode cc pc = .ok (.iastore, 1))
    (kk : ∀ (H1 : Heap) (locs1 : List Loc), nS G (xE G ad V (u2 X 10 q x) sp sh) s H1 locs1 → W p l e R s m args below meth c H1 locs1 cells slots Q (F0 m (pc + 1) ls rest)) : W p l e R s m args below meth c H locs cells slots Q (F0 m pc ls (.int x :: .int i :: .ref (ad 72) :: rest)) :=
  n_iast (k := 72) hexec hb hw (xp 72) hij hq (by decide) hdg (fun H1 locs1 h => kk H1 locs1 (n_E (xE_fnd _) h))
theorem l_put (hexec : p.tables.exec = Jvm.exec) (hb : c.code = cc) (hts : ∀ w ∈ lw_all, w.before args s = true) (hown : s.vm.findClass "LineCalls" = some m.cls) (hw : nS G (xE G ad V X sp sh) s H locs) (f : Nat) (hf : f = 2 ∨ f = 6 ∨ f = 11) {index : Nat} (hlink : Cond.fieldLink "LineCalls" index (TX0 f).1 (TX0 f).2.1 (TX0 f).2.2.1 ∈ lw_all) {v : Int32} (hn : narrow (tyX0 f) (.int v) = .int v) (hfit : fits (tyX0 f) (.int v) = true) (hdg : decode cc pc = .ok (.putfield index, 3))
    (kk : ∀ (H1 : Heap) (locs1 : List Loc), nS G (xE G ad V (u2 X f 0 v) sp sh) s H1 locs1 → W p l e R s m args below meth c H1 locs1 cells slots Q (F0 m (pc + 3) ls rest)) : W p l e R s m args below meth c H locs cells slots Q (F0 m pc ls (.int v :: .ref (ad 64) :: rest)) := by
  have h12 : f < 12 := by omega
  refine n_put (k := 64) hexec hb hts in_X0 tyX0 tyX0_ok nmX0 hown hw (ci := 0) (fs := xF0 ad X) (xp 64) rfl f h12 hlink ?_ hn hfit h12 hdg (fun H1 locs1 h => kk H1 locs1 (n_E (xE_i0 f hf v) h))
  rcases hf with rfl | rfl | rfl <;> rfl
end XFL
