/-! more rows: loops that only read; numbers -/
set_option maxRecDepth 100000
section NR2
variable {p : Program} {l : Launch} {e : Env} {R : Room} {s : State} {m : MethodId} {args : Array Value} {below : List Frame} {meth : Method} {c : Code} {H : Heap} {locs : List Loc} {cells slots : Nat} {Q : State → Prop}
theorem n_loopR {α : Type} (I : α → Array Slot → Prop) (μ : α → Nat) (L : Nat)
    (step : ∀ (x : α) (ls : Array Slot), I x ls → (∀ (y : α) (ls : Array Slot), μ y < μ x → I y ls → W p l e R s m args below meth c H locs cells slots Q (F0 m L ls [])) → W p l e R s m args below meth c H locs cells slots Q (F0 m L ls [])) (x : α) (ls : Array Slot) (h : I x ls) : W p l e R s m args below meth c H locs cells slots Q (F0 m L ls []) := by
  have key : ∀ (n : Nat) (x : α) (ls : Array Slot), μ x < n → I x ls → W p l e R s m args below meth c H locs cells slots Q (F0 m L ls []) := by
    intro n
    induction n with
    | zero => intro x ls h; omega
    | succ n ih => intro x ls h1 h2; exact step x ls h2 (fun y ls h3 h4 => ih y ls (by omega) h4)
  exact key (μ x + 1) x ls (Nat.lt_succ_self _) h
theorem n_join1 {pc : Nat} {ls : Array Slot} {rest : List Value} {x : Int32} (Pj : Int32 → Prop) (M : Nat) (after : ∀ v : Int32, Pj v → W p l e R s m args below meth c H locs cells slots Q (F0 m M ls (.int v :: rest)))
    (br : (∀ v : Int32, Pj v → W p l e R s m args below meth c H locs cells slots Q (F0 m M ls (.int v :: rest))) → W p l e R s m args below meth c H locs cells slots Q (F0 m pc ls (.int x :: rest))) : W p l e R s m args below meth c H locs cells slots Q (F0 m pc ls (.int x :: rest)) := br after
theorem n_join2 {pc : Nat} {ls : Array Slot} {rest : List Value} {x y : Int32} (Pj : Int32 → Prop) (M : Nat) (after : ∀ v : Int32, Pj v → W p l e R s m args below meth c H locs cells slots Q (F0 m M ls (.int v :: rest)))
    (br : (∀ v : Int32, Pj v → W p l e R s m args below meth c H locs cells slots Q (F0 m M ls (.int v :: rest))) → W p l e R s m args below meth c H locs cells slots Q (F0 m pc ls (.int y :: .int x :: rest))) : W p l e R s m args below meth c H locs cells slots Q (F0 m pc ls (.int y :: .int x :: rest)) := br after
end NR2
theorem ne_ti {x c : Int32} {k : Int} (h : ¬ x = c) (hk : c.toInt = k) : x.toInt ≠ k := fun e => h (Int32.toInt_inj.mp (e.trans hk.symm))
theorem lv_val {ls : Array Slot} {n i : Nat} {l : List (Nat × Value)} {x y : Int32} (e : x = y) (h : lv_has ls n ((i, .int x) :: l)) : lv_has ls n ((i, .int y) :: l) := e ▸ h
