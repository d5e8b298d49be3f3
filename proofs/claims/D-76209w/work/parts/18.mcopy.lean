/-! rows that are copied -/
set_option maxRecDepth 100000
theorem nS.cong {G : nG} {E E' : nE} {s : State} {H : Heap} {locs : List Loc} (h : nS G E s H locs) (hE : ∀ k, E' k = E k ∨ ∃ (a : Nat) (c : ClassId) (n : Nat) (f g : Nat → Int32), E k = some (a, .inl (c, n, .inl f)) ∧ E' k = some (a, .inl (c, n, .inl g)) ∧ ∀ i, i < n → f i = g i) : nS G E' s H locs := by
  have key : ∀ k q, E' k = some q → ∃ q0, E k = some q0 ∧ q0.1 = q.1 := by
    intro k q hq
    rcases hE k with e | ⟨a, c, n, f, g, e1, e2, -⟩
    · exact ⟨q, by rw [← e]; exact hq, rfl⟩
    · rw [e2] at hq
      cases hq
      exact ⟨_, e1, rfl⟩
  refine ⟨h.K, h.N, fun k q hq => ?_, ⟨fun i j x y hx hy hxy => ?_, fun k q hq => ?_⟩, h.S, h.X⟩
  · rcases hE k with e | ⟨a, c, n, f, g, e1, e2, e3⟩
    · exact h.P k q (by rw [← e]; exact hq)
    · rw [e2] at hq
      cases hq
      have h1 := h.P k _ e1
      show H[a]? = some (vp_cell c (n, .inl g))
      have h2 : H[a]? = some (vp_cell c (n, .inl f)) := h1
      rw [h2, vp_cell_i, vp_cell_i]
      unfold arrV
      congr 2
      apply congrArg
      funext j
      exact congrArg Value.int (e3 j.val j.isLt)
  · obtain ⟨x0, a1, a2⟩ := key i x hx
    obtain ⟨y0, b1, b2⟩ := key j y hy
    exact h.D.1 i j x0 y0 a1 b1 (by rw [a2, b2]; exact hxy)
  · obtain ⟨q0, a1, a2⟩ := key k q hq
    rw [← a2]
    exact h.D.2 k q0 a1
theorem mE_now {G : nG} {ad : Nat → Nat} {w v : rw84} {M : mM} {s : State} {H : Heap} {locs : List Loc} (h : nS G (mE G ad w M) s H locs) (e : ∀ i, i < 84 → w i = v i) : nS G (mE G ad v M) s H locs := by
  refine h.cong (fun k => ?_)
  by_cases hk : k = 1
  · subst hk
    exact Or.inr ⟨_, _, _, _, _, rfl, rfl, e⟩
  · refine Or.inl ?_
    have h1 := congrFun (mU_0 G ad w M v) k
    rw [← h1]
    exact va_up_ne _ _ hk
theorem mE_row {G : nG} {ad : Nat → Nat} {w f g : rw84} {M : mM} {s : State} {H : Heap} {locs : List Loc} (b : Nat) (hb : b = 1 ∨ b = 2) (h : nS G (mE G ad w (ur M b f)) s H locs) (e : ∀ i, i < 84 → f i = g i) : nS G (mE G ad w (ur M b g)) s H locs := by
  refine h.cong (fun k => ?_)
  by_cases hk : k = b + 1
  · subst hk
    rcases hb with rfl | rfl
    · exact Or.inr ⟨ad 2, G.2.1 0, 84, f, g, rfl, rfl, e⟩
    · exact Or.inr ⟨ad 3, G.2.1 0, 84, f, g, rfl, rfl, e⟩
  · refine Or.inl ?_
    rcases hb with rfl | rfl
    · have h1 := congrFun (mU_1 G ad w M f) k
      have h2 := congrFun (mU_1 G ad w M g) k
      rw [← h1, ← h2, va_up_ne _ _ hk, va_up_ne _ _ hk]
    · have h1 := congrFun (mU_2 G ad w M f) k
      have h2 := congrFun (mU_2 G ad w M g) k
      rw [← h1, ← h2, va_up_ne _ _ hk, va_up_ne _ _ hk]
theorem ur_self (M : mM) (b : Nat) : ur M b (M b) = M := by
  funext k
  by_cases e : k = b
  · subst e; exact va_up_self _ _ _
  · exact va_up_ne _ _ e
theorem cp_row {G : nG} {ad : Nat → Nat} {w a : rw84} {M : mM} {s : State} {H : Heap} {locs : List Loc} {b q : Nat} (h : nS G (mE G ad w (u2 (ur M b (cpF a (M b) q)) b q (a q))) s H locs) : nS G (mE G ad w (ur M b (cpF a (M b) (q + 1)))) s H locs := by
  have e : u2 (ur M b (cpF a (M b) q)) b q (a q) = ur M b (cpF a (M b) (q + 1)) := by
    show va_up (va_up M b _) b (upd (va_up M b _ b) q (a q)) = va_up M b _
    rw [va_up_self, cp_s, bx_uu]
  rw [← e]
  exact h
theorem cp_now {G : nG} {ad : Nat → Nat} {w a : rw84} {M : mM} {s : State} {H : Heap} {locs : List Loc} {q : Nat} (h : nS G (mE G ad (upd (cpF a w q) q (a q)) M) s H locs) : nS G (mE G ad (cpF a w (q + 1)) M) s H locs := by
  rw [cp_s] at h
  exact h
theorem cp_84 {a b : rw84} : ∀ i, i < 84 → cpF a b 84 i = a i := fun _ h => if_pos h
/-- a draw -/
def drawF (w : rw84) : rw84 := upd w 2 (w 2 * 1103515245 + 12345)
def drawR (w : rw84) : Int32 := ((drawF w 2).toUInt32 >>> ((8 : Int32).toUInt32 &&& Int32.toUInt32 31)).toInt32
/-- a finding is counted -/
def mFind (M : mM) (k : Nat) : mM := u2 (u2 M 4 (k + 1) (M 4 (k + 1) + 1)) 4 0 (u2 M 4 (k + 1) (M 4 (k + 1) + 1) 4 0 + 1)
section MRET
variable {p : Program} {l : Launch} {e : Env} {R : Room} {s : State} {m : MethodId} {args : Array Value} {below : List Frame} {meth : Method} {c : Code} {H : Heap} {locs : List Loc} {cells slots : Nat}
variable {cc : ByteArray} {pc : Nat} {ls : Array Slot} {G : nG} {ad : Nat → Nat} {w : rw84} {M : mM}
theorem m_iret {post : Int32 → rw84 × mM → Prop} {v : Int32} (hexec : p.tables.exec = Jvm.exec) (hb : c.code = cc) {ty : FieldType} (hr : meth.sig.returnType = some ty) (hlk : meth.locks = false) (hn : narrow ty (.int v) = .int v) (hw : nS G (mE G ad w M) s H locs) (hp : post v (w, M)) (hdg : decode cc pc = .ok (.ireturn, 1)) : W p l e R s m args below meth c H locs cells slots (MQ below (va_Qi post (fun u => nC G (mE G ad u.1 u.2)) (nA G)) args s cells slots (nA G)) (F0 m pc ls [.int v]) :=
  n_iret hexec hb hr hlk hn (w, M) hw hp hdg
theorem m_lret {post : Int64 → rw84 × mM → Prop} {v : Int64} (hexec : p.tables.exec = Jvm.exec) (hb : c.code = cc) (hr : meth.sig.returnType = some .long) (hlk : meth.locks = false) (hw : nS G (mE G ad w M) s H locs) (hp : post v (w, M)) (hdg : decode cc pc = .ok (.lreturn, 1)) : W p l e R s m args below meth c H locs cells slots (MQ below (va_Ql post (fun u => nC G (mE G ad u.1 u.2)) (nA G)) args s cells slots (nA G)) (F0 m pc ls [.long v]) :=
  n_lret hexec hb hr hlk (w, M) hw hp hdg
theorem m_vret {post : rw84 × mM → Prop} (hexec : p.tables.exec = Jvm.exec) (hb : c.code = cc) (hr : meth.sig.returnType = none) (hlk : meth.locks = false) (hw : nS G (mE G ad w M) s H locs) (hp : post (w, M)) (hdg : decode cc pc = .ok (.return_, 1)) : W p l e R s m args below meth c H locs cells slots (MQ below (va_Qv post (fun u => nC G (mE G ad u.1 u.2)) (nA G)) args s cells slots (nA G)) (F0 m pc ls []) :=
  n_vret hexec hb hr hlk (w, M) hw hp hdg
end MRET
