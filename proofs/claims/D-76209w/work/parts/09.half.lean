/-! a default method, called by a class that inherits it: what the tables say of it, kept along a run -/
set_option maxRecDepth 100000
theorem hf_any {vm vm' : Vm} (h : vm.Alike vm') {f : Class → Bool} (hf : ∀ k : Class, f k.bare = f k) (c : ClassId) : (vm'.classes[c]?).any f = (vm.classes[c]?).any f := by
  have key : ∀ v : Vm, (v.classes[c]?).any f = (v.bare.classes[c]?).any f := by
    intro v
    simp only [Vm.bare, Array.getElem?_map]
    cases v.classes[c]? with
    | none => rfl
    | some k => exact (hf k).symm
  rw [key vm', key vm, h.bare_eq]
theorem hf_near {vm vm' : Vm} (h : vm.Alike vm') (c : ClassId) (name desc : String) : nearestHeld vm' c name desc = nearestHeld vm c name desc := by
  have s1 : superinterfaceMethods vm' = superinterfaceMethods vm := by rw [← superinterfaceMethods_bare vm', ← superinterfaceMethods_bare vm, h.bare_eq]
  have s2 : maximallySpecific vm' = maximallySpecific vm := by rw [← maximallySpecific_bare vm', ← maximallySpecific_bare vm, h.bare_eq]
  have s3 := hf_any h (f := fun k => k.isInterface) (fun _ => rfl)
  have s4 := hf_any h (f := fun x => x.methods.any fun m => !m.isAbstract && !m.isStatic) (fun _ => rfl)
  have s5 : ∀ (g : ClassId → Bool) (k : ClassId), (vm'.classes[k]?).any (·.interfaces.any g) = (vm.classes[k]?).any (·.interfaces.any g) := fun g => hf_any h (fun _ => rfl)
  unfold nearestHeld held
  simp only [s1, s2, s3, s4, s5, h.superclasses, h.declaredIn, h.superinterfaces, h.method?]
/-- for an object of class C a call of the default method half lands in it -/
def nHalf (C : String) (U : State) : Prop := ∃ (c : ClassId) (m : MethodId) (rm : Method) (mk : Class), U.vm.findClass C = some c ∧ U.methodNamed? yX14_half = some m ∧ U.vm.method? m = some rm ∧ selectMethod {} U.vm c m = .method m ∧ U.vm.classes[m.cls]? = some mk ∧ mk.isInterface = true ∧ (∀ k d, nearestHeld U.vm c rm.name rm.desc = some (k, .default d) → d = m) ∧ ∀ k b, nearestHeld U.vm c rm.name rm.desc ≠ some (k, .thrower b)
theorem nHalf.moved {C : String} {u U : State} (hvm : u.vm.Alike U.vm) (h : nHalf C u) : nHalf C U := by
  obtain ⟨c, m, rm, mk, h1, h2, h3, h4, h5, h6, h7, h8⟩ := h
  obtain ⟨mk', hk', he⟩ := hvm.2.2 _ _ h5
  have e2 : U.methodNamed? yX14_half = some m := by
    have q := State.methodNamed?_setVm (s := u) hvm yX14_half
    rw [h2] at q
    exact q
  refine ⟨c, m, rm, mk', by rw [hvm.findClass]; exact h1, e2, by rw [hvm.method?]; exact h3, by rw [hvm.selectMethod]; exact h4, hk', by rw [he]; exact h6, ?_, ?_⟩
  · rw [hf_near hvm]; exact h7
  · rw [hf_near hvm]; exact h8
/-- of the premise's word -/
theorem nHalf.of {A : Array Value} {s : State} {C : String} (hl : (Cond.landsInDefault C ⟨"LineCalls$Prop", "half", "(I)I"⟩ yX14_half).before A s = true) (hs : (Cond.sameMethod "LineCalls$Prop" "LineCalls$Jumps" "half" "(I)I").before A s = true) : nHalf C s := by
  obtain ⟨cn, ck, r1, hcn, hck, hni, hf, hn1⟩ := Cond.sameMethod_found hs
  simp only [Cond.before, Cond.holds, Cond.value] at hl
  rw [hf] at hl
  have hn : s.methodNamed? yX14_half = some r1 := hn1
  rw [hn] at hl
  cases hc : s.vm.findClass C with
  | none => rw [hc] at hl; simp at hl
  | some c =>
    rw [hc] at hl
    dsimp only at hl
    cases hm : s.vm.method? r1 with
    | none => rw [hm] at hl; simp at hl
    | some rm =>
      rw [hm] at hl
      simp only [Option.map_some, beq_iff_eq, Option.some.injEq] at hl
      split at hl
      · rename_i m' hsel
        simp only [Bool.and_eq_true, decide_eq_true_eq, Bool.not_eq_true', Option.any_eq_true] at hl
        obtain ⟨⟨⟨⟨rfl, mk, hmk, hi⟩, -⟩, -⟩, hnear⟩ := hl
        refine ⟨c, m', rm, mk, hc, hn, hm, hsel, hmk, hi, fun k d hk => ?_, fun k z hk => ?_⟩
        · rw [hk] at hnear; simpa using hnear
        · rw [hk] at hnear; simp at hnear
      · simp at hl
/-- the four words of that call, kept along a run -/
def nHf (U : State) : Prop := (Cond.methodLink "LineCalls$Prop" 26 ⟨"LineCalls$Prop", "half", "(I)I"⟩).before #[] U = true ∧ (Cond.sameMethod "LineCalls$Prop" "LineCalls$Jumps" "half" "(I)I").before #[] U = true ∧ nHalf "LineCalls$Prop" U ∧ nHalf "LineCalls$Flanker" U
theorem nHf.warm {s U : State} (hW : s.WarmedH U.vm) (h : nHf s) : nHf U := ⟨word_at hW (Or.inl rfl) h.1, word_at hW (Or.inl rfl) h.2.1, h.2.2.1.moved hW.alike, h.2.2.2.moved hW.alike⟩
theorem nHf.calling {U : State} {g : JFrame} {mk : MethodId} {a : Array Value} (h : nHf U) : nHf (U.calling g mk a) := ⟨h.1, h.2.1, h.2.2.1.moved (U := U.calling g mk a) (Vm.Alike.refl U.vm), h.2.2.2.moved (U := U.calling g mk a) (Vm.Alike.refl U.vm)⟩
