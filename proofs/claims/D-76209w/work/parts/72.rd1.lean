/-! the class: its reader, tokens -/
set_option maxRecDepth 100000
/-- what the reader reads: length, tape -/
def RdX (bt : Nat → Int32) (len : Nat) (X : mM) : Prop := X 33 0 = nI len ∧ ∀ k, k < len → X 31 k &&& 255 = bt k
/-- nothing changed but where the reader is -/
def xFr (X Y : mM) : Prop := ∀ k, k ≠ 34 → k ≠ 35 → k ≠ 36 → k ≠ 37 → Y k = X k
def tkX (t : Tok) : Int32 := if t.1 = 0 then 0 else if t.1 = 1 then 2 else if t.1 = 2 then 1 else 3
/-- the reader is at a token -/
def RdT (bt : Nat → Int32) (t : Tok) (X : mM) : Prop := X 34 0 = nI t.2.2.1 ∧ X 35 0 = nI t.2.1 ∧ X 36 0 = tkX t ∧ (t.1 = 1 → X 37 0 = nI (keyF bt t)) ∧ (t.1 = 2 → X 37 0 = nI t.2.2.2)
theorem xFr.rf (X : mM) : xFr X X := fun _ _ _ _ _ => rfl
theorem xFr.tr {X Y Z : mM} (h : xFr X Y) (g : xFr Y Z) : xFr X Z := fun k a b c d => (g k a b c d).trans (h k a b c d)
theorem xFr.u {X : mM} (f : Nat) (hf : f = 34 ∨ f = 35 ∨ f = 36 ∨ f = 37) (v : Int32) : xFr X (u2 X f 0 v) := fun k a b c d => va_up_ne _ _ (by omega)
theorem RdX.fr {bt : Nat → Int32} {len : Nat} {X Y : mM} (h : RdX bt len X) (g : xFr X Y) : RdX bt len Y := ⟨by rw [g 33 (by decide) (by decide) (by decide) (by decide)]; exact h.1, fun k hk => by rw [g 31 (by decide) (by decide) (by decide) (by decide)]; exact h.2 k hk⟩
theorem u2_at {X : mM} {f : Nat} {v : Int32} (h : X f 0 = v) : u2 X f 0 v = X := by
  rw [← h]
  exact x11_self X f
/-- a result, if the token behind it is one that the class takes -/
def chk {α : Type} (bt : Nat → Int32) (r : Nat ⊕ (α × Tok)) : Nat ⊕ (α × Tok) := match r with
  | .inl p => .inl p
  | .inr q => if okT bt q.2 = true then .inr q else .inl q.2.2.1
section RDR
variable {p : Program} {l : Launch} {e : Env} {R : Room} {s : State} {m : MethodId} {args : Array Value} {below : List Frame} {meth : Method} {c : Code} {H : Heap} {locs : List Loc} {cells slots : Nat} {Q : State → Prop}
variable {cc : ByteArray} {pc : Nat} {ls : Array Slot} {rest st0 : List Value} {G : nG} {ad : Nat → Nat} {V : xWs} {w w1 w2 w3 : rw84} {X : mM} {sp : xSp} {sh : xSh}
theorem r_put (hexec : p.tables.exec = Jvm.exec) (hb : c.code = cc) (hts : ∀ w ∈ lw_all, w.before args s = true) (hown : s.vm.findClass "LineCalls$Reader" = some m.cls) (hw : nS G (xE G ad V X sp sh) s H locs) (f : Nat) (hf : f = 3 ∨ f = 4 ∨ f = 5 ∨ f = 6 ∨ f = 7) {index : Nat} (hlink : Cond.fieldLink "LineCalls$Reader" index (TX2 f).1 (TX2 f).2.1 (TX2 f).2.2.1 ∈ lw_all) {v : Int32} (hdg : decode cc pc = .ok (.putfield index, 3))
    (kk : ∀ (H1 : Heap) (locs1 : List Loc), nS G (xE G ad V (u2 X (30 + f) 0 v) sp sh) s H1 locs1 → W p l e R s m args below meth c H1 locs1 cells slots Q (F0 m (pc + 3) ls rest)) : W p l e R s m args below meth c H locs cells slots Q (F0 m pc ls (.int v :: .ref (ad 66) :: rest)) := by
  have h8 : f < 8 := by omega
  refine n_put (k := 66) hexec hb hts in_X2 tyX2 tyX2_ok nmX2 hown hw (ci := 2) (fs := xF2 ad X) (xp 66) rfl f h8 hlink ?_ ?_ ?_ h8 hdg (fun H1 locs1 h => kk H1 locs1 (n_E (xE_i2 f hf v) h))
  · rcases hf with rfl | rfl | rfl | rfl | rfl <;> rfl
  · rcases hf with rfl | rfl | rfl | rfl | rfl <;> rfl
  · rcases hf with rfl | rfl | rfl | rfl | rfl <;> rfl
theorem l3_iast (hexec : p.tables.exec = Jvm.exec) (hb : c.code = cc) (hw : nS G (xE G ad (xV w w1 w2 w3) X sp sh) s H locs) (k : Nat) (hk : k < 16) {i x : Int32} {q : Nat} (hij : i = nI q) (hq : q < wlen k) {pos : Nat} (hp : wpos k q = pos) (hdg : decode cc pc = .ok (.iastore, 1))
    (kk : ∀ (H1 : Heap) (locs1 : List Loc), nS G (xE G ad (xV w w1 w2 (upd w3 pos x)) X sp sh) s H1 locs1 → W p l e R s m args below meth c H1 locs1 cells slots Q (F0 m (pc + 1) ls rest)) : W p l e R s m args below meth c H locs cells slots Q (F0 m pc ls (.int x :: .int i :: .ref (ad (16 * 3 + k)) :: rest)) :=
  x_iast hexec hb hw 3 k (by decide) hk hij hq hp hdg (fun H1 locs1 h => kk H1 locs1 (by rw [xV_3] at h; exact h))
theorem lx_iret {post postT : xSt → Prop} {xa : Nat} {v : Int32} (hexec : p.tables.exec = Jvm.exec) (hb : c.code = cc) (hr : meth.sig.returnType = some .int) (hlk : meth.locks = false) (hw : nS G (xE G ad (xV w w1 w2 w3) X sp sh) s H locs) (hu : post (w, w1, w2, w3, X, sp, sh)) (hdg : decode cc pc = .ok (.ireturn, 1)) : W p l e R s m args below meth c H locs cells slots (MQX below (xQ G (fun _ => some (.int v)) post postT xa (fun u => xE G ad (xV u.1 u.2.1 u.2.2.1 u.2.2.2.1) u.2.2.2.2.1 u.2.2.2.2.2.1 u.2.2.2.2.2.2)) args s cells slots (nA G)) (F0 m pc ls [.int v]) :=
  x_iret hexec hb hr hlk rfl (w, w1, w2, w3, X, sp, sh) hw rfl hu hdg
end RDR
/-! keys -/
theorem kb_in : ∀ k, k < 14 → ∀ i, i < 7 → i < sL (kS k) → sB 0 (7 * k + i) &&& 255 = sB (kS k) i := by decide +kernel
theorem kb_out : ∀ k, k < 14 → ∀ i, i < 7 → sL (kS k) ≤ i → sB 0 (7 * k + i) &&& 255 = 32 := by decide +kernel
theorem kb_le : ∀ k, k < 14 → ∀ i, i < 7 → i < sL (kS k) → ¬ sB (kS k) i = 32 := by decide +kernel
theorem kb_7 : ∀ k, k < 14 → sL (kS k) ≤ 7 := by decide
section IK
variable {bt : Nat → Int32} {q n k : Nat}
theorem ik_no1 (hk : k < 14) (h : 7 < n) : ¬ isW bt q n (kS k) = true := fun z => by
  have := (isW_iff.mp z).1
  have := kb_7 k hk
  omega
theorem ik_no2 (hk : k < 14) (h7 : n < 7) (h : ¬ sB 0 (7 * k + n) &&& 255 = 32) : ¬ isW bt q n (kS k) = true := fun z => by
  have := (isW_iff.mp z).1
  exact h (kb_out k hk n h7 (by omega))
theorem ik_no3 (hk : k < 14) {i : Nat} (hi : i < n) (h7 : n ≤ 7) (h : ¬ sB 0 (7 * k + i) &&& 255 = bt (q + i)) : ¬ isW bt q n (kS k) = true := fun z => by
  obtain ⟨h1, h2⟩ := isW_iff.mp z
  exact h ((kb_in k hk i (by omega) (by omega)).trans (h2 i hi).symm)
theorem ik_yes (hk : k < 14) (h7 : n ≤ 7) (h0 : n = 7 ∨ sB 0 (7 * k + n) &&& 255 = 32) (h : ∀ i, i < n → sB 0 (7 * k + i) &&& 255 = bt (q + i)) (hle : ∀ i, i < n → isLe (bt (q + i)) = true) : isW bt q n (kS k) = true := by
  have g7 := kb_7 k hk
  have e : n = sL (kS k) := by
    rcases Nat.lt_trichotomy n (sL (kS k)) with o | o | o
    · rcases h0 with z | z
      · omega
      · have a := kb_in k hk n (by omega) o
        exact absurd (a.symm.trans z) (kb_le k hk n (by omega) o)
    · exact o
    · exfalso
      have a := kb_out k hk (sL (kS k)) (by omega) (Nat.le_refl _)
      have a2 := h (sL (kS k)) o
      obtain ⟨c, c1, c2, c3⟩ := le_nn (hle (sL (kS k)) o)
      rw [a, c3] at a2
      have := (nI_eq (a := 32) (b := c) (by omega) (by omega)).mp a2
      omega
  exact isW_iff.mpr ⟨e, fun i hi => (h i hi).symm.trans (kb_in k hk i (by omega) (by omega))⟩
end IK
theorem hdS_X2_need : yX2_need.cls = "LineCalls$Reader" ∧ yX2_need.cls ≠ "java/lang/invoke/MethodHandle" ∧ yX2_need.cls ≠ "java/lang/invoke/VarHandle" ∧ (parseMethodDescriptor yX2_need.desc).map (fun d => d.parameters.length) = some 1 := by decide +kernel
set_option maxHeartbeats 4000000 in
theorem tR_need (l : Launch) (G : nG) (ad : Nat → Nat) (w w1 w2 w3 : rw84) (X : mM) (sp : xSp) (sh : xSh) (v : Int32) : MetX l yX2_need (ws_ yX2_need cX2_need 2 (none)) { frames := 0, cells := 0, slots := 0, locals := 0 } (va_Pc [.ref (ad 66), .int v] (nC G (xE G ad (xV w w1 w2 w3) X sp sh))) (xQ G (fun (_ : xSt) => none) (fun (u : xSt) => ¬ v = 0 ∧ u = (w, w1, w2, w3, X, sp, sh)) (fun (u : xSt) => v = 0 ∧ u = (w, w1, w2, w3, X, sp, sh)) (ad 67) (fun u => xE G ad (xV u.1 u.2.1 u.2.2.1 u.2.2.2.1) u.2.2.2.2.1 u.2.2.2.2.2.1 u.2.2.2.2.2.2)) 0 0 (nA G) := by
  refine x_head (by decide) (Nat.le_of_ble_eq_true rfl) ?_
  intro p e s m below meth c ls hx hb hr hlk hml hown hts hnh hB0 hl
  have hown : s.vm.findClass "LineCalls$Reader" = some m.cls := hown
  have hw := nS.start hB0
  have hl : lv_has ls 2 [(0, .ref (ad 66)), (1, .int v)] := hl
  refine lv_iload_n hx hb dX2_need_0 rfl (lv_at hl 1 rfl) ?_
  refine lv_if_ne (tgt := 9) hx hb dX2_need_1 (by decide) (fun c_1 => ?_) (fun c_1 => ?_)
  · skip
    exact lx_vret hx hb hr hlk hw ⟨c_1, rfl⟩ dX2_need_9
  · skip
    refine lv_aload_n hx hb dX2_need_4 rfl (lv_at hl 0 rfl) ?_
    refine n_get (k := 66) hx hb hts in_X2 hown hw (xp 66) rfl 0 (by decide) q274 rfl dX2_need_5 ?_
    refine x_athrow hx hb dX2_need_8 ?_
    exact lx_out hlk hnh hw ⟨c_1, rfl⟩
theorem hdS_X2_byteAt : yX2_byteAt.cls = "LineCalls$Reader" ∧ yX2_byteAt.cls ≠ "java/lang/invoke/MethodHandle" ∧ yX2_byteAt.cls ≠ "java/lang/invoke/VarHandle" ∧ (parseMethodDescriptor yX2_byteAt.desc).map (fun d => d.parameters.length) = some 1 := by decide +kernel
set_option maxHeartbeats 4000000 in
theorem tR_byteAt (l : Launch) (G : nG) (ad : Nat → Nat) (w w1 w2 w3 : rw84) (X : mM) (sp : xSp) (sh : xSh) (bt : Nat → Int32) (len : Nat) (hby : Byt bt len) (hX : RdX bt len X) (k : Nat) (hk : k < 2 ^ 31) : Met l yX2_byteAt (ws_ yX2_byteAt cX2_byteAt 2 (some .int)) { frames := 0, cells := 0, slots := 0, locals := 0 } (va_Pc [.ref (ad 66), .int (nI k)] (nC G (xE G ad (xV w w1 w2 w3) X sp sh))) (vp_Si (fun r => r = bt k)) 0 0 (fun _ => False) := by
  refine n_head (by decide) (Nat.le_of_ble_eq_true rfl) ?_
  intro p e s m below meth c ls hx hb hr hlk hml hown hts hB0 hl
  have hown : s.vm.findClass "LineCalls$Reader" = some m.cls := hown
  have hw := nS.start hB0
  have hl : lv_has ls 2 [(0, .ref (ad 66)), (1, .int (nI k))] := hl
  have hl120 := hby.1
  refine lv_iload_n hx hb dX2_byteAt_0 rfl (lv_at hl 1 rfl) ?_
  refine lv_aload_n hx hb dX2_byteAt_1 rfl (lv_at hl 0 rfl) ?_
  refine n_get (k := 66) hx hb hts in_X2 hown hw (xp 66) rfl 3 (by decide) q279 rfl dX2_byteAt_2 ?_
  refine n_topE hX.1 ?_
  refine lv_icmp_ge (tgt := 21) hx hb dX2_byteAt_5 (by decide) (fun c_5 => ?_) (fun c_5 => ?_)
  · skip
    have n_5 : len ≤ k := (nI_leI (a := len) (b := k) (by omega) (by omega)).mp c_5
    refine lv_iconst (v := (-1)) hx hb dX2_byteAt_21 (by decide) ?_
    exact n_pret hx hb hr hlk rfl (by first | exact (hby.2.2 k n_5).symm | exact hX.2 k (by omega)) dX2_byteAt_22
  · skip
    have n_5 : ¬ len ≤ k := fun h => c_5 ((nI_leI (a := len) (b := k) (by omega) (by omega)).mpr h)
    refine lv_aload_n hx hb dX2_byteAt_8 rfl (lv_at hl 0 rfl) ?_
    refine n_get (k := 66) hx hb hts in_X2 hown hw (xp 66) rfl 1 (by decide) q275 rfl dX2_byteAt_9 ?_
    refine lv_iload_n hx hb dX2_byteAt_12 rfl (lv_at hl 1 rfl) ?_
    refine n_bald (k := 68) (j := k) hx hb hw (xp 68) rfl (by omega) (by decide) dX2_byteAt_13 ?_
    refine lv_sipush (v := 255) hx hb dX2_byteAt_14 (by decide) ?_
    refine lv_iand hx hb dX2_byteAt_17 ?_
    refine lv_goto (tgt := 22) hx hb dX2_byteAt_18 (by decide) ?_
    exact n_pret hx hb hr hlk rfl (by first | exact (hby.2.2 k n_5).symm | exact hX.2 k (by omega)) dX2_byteAt_22
theorem hdS_X2_isKey : yX2_isKey.cls = "LineCalls$Reader" ∧ yX2_isKey.cls ≠ "java/lang/invoke/MethodHandle" ∧ yX2_isKey.cls ≠ "java/lang/invoke/VarHandle" ∧ (parseMethodDescriptor yX2_isKey.desc).map (fun d => d.parameters.length) = some 2 := by decide +kernel
set_option maxHeartbeats 4000000 in
theorem tR_isKey (l : Launch) (G : nG) (ad : Nat → Nat) (w w1 w2 w3 : rw84) (X : mM) (sp : xSp) (sh : xSh) (bt : Nat → Int32) (len : Nat) (hby : Byt bt len) (hX : RdX bt len X) (k n q : Nat) (hk : k < 14) (hn : q + n ≤ 120) (hle : ∀ i, i < n → isLe (bt (q + i)) = true) (e35 : X 35 0 = nI q) : Met l yX2_isKey (ws_ yX2_isKey cX2_isKey 5 (some .boolean)) { frames := 4, cells := 0, slots := 0, locals := 85 } (va_Pc [.ref (ad 66), .int (nI k), .int (nI n)] (nC G (xE G ad (xV w w1 w2 w3) X sp sh))) (vp_Si (fun r => r = (if isW bt q n (kS k) = true then 1 else 0))) 0 0 (fun _ => False) := by
  refine n_head (by decide) (Nat.le_of_ble_eq_true rfl) ?_
  intro p e s m below meth c ls hx hb hr hlk hml hown hts hB0 hl
  have hown : s.vm.findClass "LineCalls$Reader" = some m.cls := hown
  have hw := nS.start hB0
  have hl : lv_has ls 5 [(0, .ref (ad 66)), (1, .int (nI k)), (2, .int (nI n))] := hl
  refine lv_iload_n hx hb dX2_isKey_0 rfl (lv_at hl 2 rfl) ?_
  refine lv_bipush (v := 7) hx hb dX2_isKey_1 (by decide) ?_
  refine n_join2 (fun v => (v = 1 ∧ n ≤ 7 ∧ (n = 7 ∨ sB 0 (7 * k + n) &&& 255 = 32)) ∨ (v = 0 ∧ ¬ isW bt q n (kS k) = true)) 33 (fun v_3 hv_3 => ?_) (fun hj_3 => ?_)
  · skip
    refine lv_istore_n hx hb dX2_isKey_33 rfl hl (by decide) rfl (fun ls hl => ?_)
    refine lv_iconst (v := 0) hx hb dX2_isKey_34 (by decide) ?_
    refine lv_istore hx hb dX2_isKey_35 hl (by decide) rfl (fun ls hl => ?_)
    refine n_loopR (α := Nat × Int32) (fun x ls => x.1 ≤ n ∧ ((x.2 = 1 ∧ n ≤ 7 ∧ (n = 7 ∨ sB 0 (7 * k + n) &&& 255 = 32) ∧ ∀ i, i < x.1 → sB 0 (7 * k + i) &&& 255 = bt (q + i)) ∨ (x.2 = 0 ∧ ¬ isW bt q n (kS k) = true)) ∧ lv_has ls 5 [(0, .ref (ad 66)), (1, .int (nI k)), (2, .int (nI n)), (3, .int x.2), (4, .int (nI x.1))]) (fun x => n - x.1) 37 ?_ (0, v_3) _ ⟨Nat.zero_le _, by rcases hv_3 with ⟨h1, h2, h3⟩ | h; exact Or.inl ⟨h1, h2, h3, fun i hi => absurd hi (Nat.not_lt_zero _)⟩; exact Or.inr h, (lv_sub hl [2, 3, 4, 1, 0] rfl)⟩
    clear hl
    intro x ls hI ih_37
    obtain ⟨hz, hf, hl⟩ := hI
    obtain ⟨z, v⟩ := x
    dsimp only at hz hf hl
    refine lv_iload hx hb dX2_isKey_37 (lv_at hl 4 rfl) ?_
    refine lv_iload_n hx hb dX2_isKey_39 rfl (lv_at hl 2 rfl) ?_
    refine lv_icmp_ge (tgt := 85) hx hb dX2_isKey_40 (by decide) (fun c_40 => ?_) (fun c_40 => ?_)
    · skip
      have n_40 : n ≤ z := (nI_leI (a := n) (b := z) (by omega) (by omega)).mp c_40
      obtain rfl : z = n := by omega
      refine lv_iload_n hx hb dX2_isKey_85 rfl (lv_at hl 3 rfl) ?_
      exact n_pret hx hb hr hlk (by rcases hf with ⟨h, -⟩ | ⟨h, -⟩ <;> rw [h] <;> rfl) (by rcases hf with ⟨h1, h2, h3, h4⟩ | ⟨h1, h2⟩; (rw [h1]; first | exact absurd (h1.symm.trans c_44) (by decide) | rw [if_pos (ik_yes hk h2 h3 h4 hle)]); rw [h1, if_neg h2]) dX2_isKey_86
    · skip
      have n_40 : ¬ n ≤ z := fun h => c_40 ((nI_leI (a := n) (b := z) (by omega) (by omega)).mpr h)
      refine lv_iload_n hx hb dX2_isKey_43 rfl (lv_at hl 3 rfl) ?_
      refine lv_if_eq (tgt := 85) hx hb dX2_isKey_44 (by decide) (fun c_44 => ?_) (fun c_44 => ?_)
      · skip
        refine lv_iload_n hx hb dX2_isKey_85 rfl (lv_at hl 3 rfl) ?_
        exact n_pret hx hb hr hlk (by rcases hf with ⟨h, -⟩ | ⟨h, -⟩ <;> rw [h] <;> rfl) (by rcases hf with ⟨h1, h2, h3, h4⟩ | ⟨h1, h2⟩; (rw [h1]; first | exact absurd (h1.symm.trans c_44) (by decide) | rw [if_pos (ik_yes hk h2 h3 h4 hle)]); rw [h1, if_neg h2]) dX2_isKey_86
      · skip
        obtain ⟨g2, g3, g4⟩ : n ≤ 7 ∧ (n = 7 ∨ sB 0 (7 * k + n) &&& 255 = 32) ∧ ∀ i, i < z → sB 0 (7 * k + i) &&& 255 = bt (q + i) := by (rcases hf with ⟨-, h⟩ | ⟨h, -⟩; exact h; exact absurd h c_44)
        refine va_ldcS hx hb hown (hw.X.2.1 0 _ rfl) dX2_isKey_47 ?_
        refine lv_bipush (v := 7) hx hb dX2_isKey_49 (by decide) ?_
        refine lv_iload_n hx hb dX2_isKey_51 rfl (lv_at hl 1 rfl) ?_
        refine lv_imul hx hb dX2_isKey_52 ?_
        refine n_topE (pk_mul 7 k) ?_
        refine lv_iload hx hb dX2_isKey_53 (lv_at hl 4 rfl) ?_
        refine lv_iadd hx hb dX2_isKey_55 ?_
        refine n_topE (nI_add (7 * k) z) ?_
        refine n_callp (va_runV ⟨hx, hb, hml, hown, hts⟩ (tS_J5_charAt l G _ 0 (by decide) (7 * k + z) (show _ < 98 by omega)) (cwV 1 hts (lw_V q1001 q1002 q1003 q110 q1004) rfl rfl rfl hdS_J5_charAt ⟨by decide, by decide⟩) (hw.preT (by decide)) rfl rfl hl.1 rfl (lv_room (by simp [Value.category])) dX2_isKey_56 ⟨Nat.zero_le _, Nat.zero_le _⟩) (fun r_56 e_56 => ?_)
        subst e_56
        refine lv_aload_n hx hb dX2_isKey_59 rfl (lv_at hl 0 rfl) ?_
        refine lv_aload_n hx hb dX2_isKey_60 rfl (lv_at hl 0 rfl) ?_
        refine n_get (k := 66) hx hb hts in_X2 hown hw (xp 66) rfl 5 (by decide) q282 rfl dX2_isKey_61 ?_
        refine n_topE e35 ?_
        refine lv_iload hx hb dX2_isKey_64 (lv_at hl 4 rfl) ?_
        refine lv_iadd hx hb dX2_isKey_66 ?_
        refine n_topE (nI_add q z) ?_
        refine n_callp (va_runV ⟨hx, hb, hml, hown, hts⟩ (tR_byteAt l G ad _ _ _ _ _ _ _ bt len hby hX (q + z) (by omega)) (cwV 1 hts (lw_V q984 q986 qs34 q95 q987) rfl rfl rfl hdS_X2_byteAt ⟨by decide, by decide⟩) (hw.preV (k := 66) (xp 66) rfl) rfl rfl hl.1 rfl (lv_room (by simp [Value.category])) dX2_isKey_67 ⟨Nat.zero_le _, Nat.zero_le _⟩) (fun r_67 e_67 => ?_)
        subst e_67
        refine lv_icmp_ne (tgt := 77) hx hb dX2_isKey_70 (by decide) (fun c_70 => ?_) (fun c_70 => ?_)
        · skip
          refine lv_iconst (v := 0) hx hb dX2_isKey_77 (by decide) ?_
          refine lv_istore_n hx hb dX2_isKey_78 rfl hl (by decide) rfl (fun ls hl => ?_)
          refine lv_iinc (v := nI (z + 1)) hx hb dX2_isKey_79 hl (k := 4) rfl (nI_1 _) (by decide) rfl (fun ls hl => ?_)
          refine lv_goto (tgt := 37) hx hb dX2_isKey_82 (by decide) ?_
          exact ih_37 (z + 1, 0) _ (by first | omega | (dsimp only; omega)) ⟨by dsimp only; omega, Or.inr ⟨rfl, ik_no3 hk (by omega) g2 c_70⟩, (lv_sub hl [2, 3, 4, 1, 0] rfl)⟩
        · skip
          refine lv_iconst (v := 1) hx hb dX2_isKey_73 (by decide) ?_
          refine lv_goto (tgt := 78) hx hb dX2_isKey_74 (by decide) ?_
          refine lv_istore_n hx hb dX2_isKey_78 rfl hl (by decide) rfl (fun ls hl => ?_)
          refine lv_iinc (v := nI (z + 1)) hx hb dX2_isKey_79 hl (k := 4) rfl (nI_1 _) (by decide) rfl (fun ls hl => ?_)
          refine lv_goto (tgt := 37) hx hb dX2_isKey_82 (by decide) ?_
          exact ih_37 (z + 1, 1) _ (by first | omega | (dsimp only; omega)) ⟨by dsimp only; omega, Or.inl ⟨rfl, g2, g3, lt_s g4 c_70⟩, (lv_sub hl [2, 3, 4, 1, 0] rfl)⟩
  · skip
    refine lv_icmp_gt (tgt := 32) hx hb dX2_isKey_3 (by decide) (fun c_3 => ?_) (fun c_3 => ?_)
    · skip
      have n_3 : 7 < n := (nI_ltI (a := 7) (b := n) (by omega) (by omega)).mp c_3
      refine lv_iconst (v := 0) hx hb dX2_isKey_32 (by decide) ?_
      exact hj_3 _ (by first | exact Or.inr ⟨rfl, ik_no1 hk n_3⟩ | exact Or.inl ⟨rfl, by omega, Or.inl n_9⟩ | exact Or.inr ⟨rfl, ik_no2 hk (by omega) c_25⟩ | exact Or.inl ⟨rfl, by omega, Or.inr c_25⟩)
    · skip
      have n_3 : ¬ 7 < n := fun h => c_3 ((nI_ltI (a := 7) (b := n) (by omega) (by omega)).mpr h)
      refine lv_iload_n hx hb dX2_isKey_6 rfl (lv_at hl 2 rfl) ?_
      refine lv_bipush (v := 7) hx hb dX2_isKey_7 (by decide) ?_
      refine lv_icmp_eq (tgt := 28) hx hb dX2_isKey_9 (by decide) (fun c_9 => ?_) (fun c_9 => ?_)
      · skip
        have n_9 : n = 7 := (nI_eq (a := n) (b := 7) (by omega) (by omega)).mp c_9
        refine lv_iconst (v := 1) hx hb dX2_isKey_28 (by decide) ?_
        refine lv_goto (tgt := 33) hx hb dX2_isKey_29 (by decide) ?_
        exact hj_3 _ (by first | exact Or.inr ⟨rfl, ik_no1 hk n_3⟩ | exact Or.inl ⟨rfl, by omega, Or.inl n_9⟩ | exact Or.inr ⟨rfl, ik_no2 hk (by omega) c_25⟩ | exact Or.inl ⟨rfl, by omega, Or.inr c_25⟩)
      · skip
        have n_9 : ¬ n = 7 := fun h => c_9 ((nI_eq (a := n) (b := 7) (by omega) (by omega)).mpr h)
        refine va_ldcS hx hb hown (hw.X.2.1 0 _ rfl) dX2_isKey_12 ?_
        refine lv_bipush (v := 7) hx hb dX2_isKey_14 (by decide) ?_
        refine lv_iload_n hx hb dX2_isKey_16 rfl (lv_at hl 1 rfl) ?_
        refine lv_imul hx hb dX2_isKey_17 ?_
        refine n_topE (pk_mul 7 k) ?_
        refine lv_iload_n hx hb dX2_isKey_18 rfl (lv_at hl 2 rfl) ?_
        refine lv_iadd hx hb dX2_isKey_19 ?_
        refine n_topE (nI_add (7 * k) n) ?_
        refine n_callp (va_runV ⟨hx, hb, hml, hown, hts⟩ (tS_J5_charAt l G _ 0 (by decide) (7 * k + n) (show _ < 98 by omega)) (cwV 1 hts (lw_V q1001 q1002 q1003 q110 q1004) rfl rfl rfl hdS_J5_charAt ⟨by decide, by decide⟩) (hw.preT (by decide)) rfl rfl hl.1 rfl (lv_room (by simp [Value.category])) dX2_isKey_20 ⟨Nat.zero_le _, Nat.zero_le _⟩) (fun r_20 e_20 => ?_)
        subst e_20
        refine lv_bipush (v := 32) hx hb dX2_isKey_23 (by decide) ?_
        refine lv_icmp_ne (tgt := 32) hx hb dX2_isKey_25 (by decide) (fun c_25 => ?_) (fun c_25 => ?_)
        · skip
          refine lv_iconst (v := 0) hx hb dX2_isKey_32 (by decide) ?_
          exact hj_3 _ (by first | exact Or.inr ⟨rfl, ik_no1 hk n_3⟩ | exact Or.inl ⟨rfl, by omega, Or.inl n_9⟩ | exact Or.inr ⟨rfl, ik_no2 hk (by omega) c_25⟩ | exact Or.inl ⟨rfl, by omega, Or.inr c_25⟩)
        · skip
          refine lv_iconst (v := 1) hx hb dX2_isKey_28 (by decide) ?_
          refine lv_goto (tgt := 33) hx hb dX2_isKey_29 (by decide) ?_
          exact hj_3 _ (by first | exact Or.inr ⟨rfl, ik_no1 hk n_3⟩ | exact Or.inl ⟨rfl, by omega, Or.inl n_9⟩ | exact Or.inr ⟨rfl, ik_no2 hk (by omega) c_25⟩ | exact Or.inl ⟨rfl, by omega, Or.inr c_25⟩)
