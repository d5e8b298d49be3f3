/-! one throw, and throws -/
set_option maxRecDepth 100000
def thr1F (w : rw84) (j q : Nat) : rw84 :=
  let w1 := upd w 3 (mx 0 (mn 99999 (if winF w q = 0 then w 3 - 3 else w 3 + gainF w j (nI q))))
  let at_ := 44 + 5 * j + (if winF w q = 0 then 4 else 3)
  let w2 := upd w1 at_ (mn 9999 (w1 at_ + 1))
  upd w2 (44 + 5 * j + 2) (mn 99 (w2 (44 + 5 * j + 2) + tireF w2 j))
def throwA (w : rw84) (q : Nat) : rw84 := if w (17 + q) < 0 then upd w 3 (mx 0 (w 3 - 5)) else thr1F w (w (17 + q)).toNatClampNeg q
def restF (w : rw84) (k : Int32) : Nat → rw84
  | 0 => w
  | o + 1 => upd (restF w k o) (44 + 5 * o + 2) (mx 0 (restF w k o (44 + 5 * o + 2) - (if nI o = k then 0 else 2)))
def readF (w : rw84) (p : Int32) : Nat → rw84
  | 0 => w
  | o + 1 => upd (readF w p o) (31 + o) (mx 0 (mn 99 (readF w p o (31 + o) + (if nI o = p then 6 else -1))))
def thrF (w : rw84) : rw84 :=
  let q := (nextF w).toNatClampNeg
  let c := readF (restF (throwA w q) (w (17 + q)) (w 1).toNatClampNeg) (nI q) 7
  upd c 0 (c 0 + 1)
theorem thr_at {w : rw84} {q n : Nat} (hq : q < 7) (eq : nextF w = nI q) (hn : n ≤ 8) (en : w 1 = nI n) : thrF w = upd (readF (restF (throwA w q) (w (17 + q)) n) (nI q) 7) 0 (readF (restF (throwA w q) (w (17 + q)) n) (nI q) 7 0 + 1) := by
  rw [thrF, eq, en, nI_clamp (by omega), nI_clamp (by omega)]
def thrN (w : rw84) : Nat → rw84
  | 0 => w
  | k + 1 => thrF (thrN w k)
theorem up_ne {f : rw84} {k j : Nat} {x : Int32} (h : j ≠ k) : upd f k x j = f j := pk_un h
theorem restF_out {w : rw84} {k : Int32} {i : Nat} : ∀ {n : Nat}, (∀ o, o < n → i ≠ 44 + 5 * o + 2) → restF w k n i = w i
  | 0, _ => rfl
  | n + 1, h => by
    rw [restF, up_ne (h n (Nat.lt_succ_self _))]
    exact restF_out (fun o ho => h o (Nat.lt_succ_of_lt ho))
theorem restF_in {w : rw84} {k : Int32} {o : Nat} : ∀ {n : Nat}, o < n → restF w k n (44 + 5 * o + 2) = mx 0 (w (44 + 5 * o + 2) - (if nI o = k then 0 else 2))
  | 0, h => absurd h (Nat.not_lt_zero _)
  | n + 1, h => by
    by_cases e : o = n
    · subst e
      rw [restF, pk_us, restF_out (fun i hi => by omega)]
    · rw [restF, up_ne (by omega)]
      exact restF_in (by omega)
theorem readF_out {w : rw84} {k : Int32} {i : Nat} : ∀ {n : Nat}, n ≤ 7 → (i < 31 ∨ 38 ≤ i) → readF w k n i = w i
  | 0, _, _ => rfl
  | n + 1, hn, h => by
    rw [readF, up_ne (by omega)]
    exact readF_out (by omega) h
/-- which numbers a throw may change -/
theorem thr1_out {w : rw84} {j q i : Nat} (h : i ≠ 3) (h2 : ∀ f, 2 ≤ f → f ≤ 4 → i ≠ 44 + 5 * j + f) : thr1F w j q i = w i := by
  unfold thr1F
  rw [up_ne (h2 2 (by omega) (by omega)), up_ne, up_ne h]
  split
  · exact h2 4 (by omega) (by omega)
  · exact h2 3 (by omega) (by omega)
theorem throwA_out {w : rw84} {q i : Nat} (h : i ≠ 3) (h2 : ∀ j f, 2 ≤ f → f ≤ 4 → i ≠ 44 + 5 * j + f) : throwA w q i = w i := by
  unfold throwA
  split
  · exact up_ne h
  · exact thr1_out h (h2 _)
theorem throwA_1 {w : rw84} {q : Nat} : throwA w q 1 = w 1 := throwA_out (by decide) (fun j f _ _ => by omega)
/-- all but the count, the metres, what is read, and three rows of the jumpers stay -/
theorem thr_out {B : Nat} {w : rw84} (h : Inv B w) (hB : B < 2 ^ 31) {i : Nat} (h0 : i ≠ 0) (h3 : i ≠ 3) (hr : i < 31 ∨ 38 ≤ i) (h2 : ∀ j f, 2 ≤ f → f ≤ 4 → i ≠ 44 + 5 * j + f) : thrF w i = w i := by
  obtain ⟨q, hq, eq⟩ := h.next hB
  obtain ⟨n, hn, en⟩ := h.num
  rw [thr_at hq eq hn en, up_ne h0, readF_out (by omega) hr, restF_out (fun o _ => h2 o 2 (by omega) (by omega)), throwA_out h3 h2]
theorem Inv.of {B B' : Nat} {w v : rw84} (h : Inv B w) (h0 : ∃ n, n ≤ B' ∧ v 0 = nI n) (ho : ∀ i, (i = 1 ∨ i = 4 ∨ i = 6 ∨ (7 ≤ i ∧ i < 24) ∨ (38 ≤ i ∧ i < 44) ∨ ∃ j, j < 8 ∧ i = 44 + 5 * j + 0) → v i = w i) (h3 : ∃ m, m ≤ 99999 ∧ v 3 = nI m) (ht : ∀ j, j < 8 → ∃ t, t ≤ 99 ∧ v (44 + 5 * j + 2) = nI t) : Inv B' v := by
  obtain ⟨-, ⟨n, hn, en, hl, hh⟩, h5, h6, h7, -, -, h9⟩ := h
  refine ⟨h0, ⟨n, hn, by rw [ho 1 (by omega)]; exact en, fun p hp => ?_, fun q hq => ?_⟩, fun i hi => ?_, ?_, fun j hj => ?_, ht, h3, ?_⟩
  · rw [ho _ (by omega)]; exact hl p hp
  · rw [ho _ (by omega)]; exact hh q hq
  · rw [ho _ (by omega)]; exact h5 i hi
  · rw [ho 6 (by omega)]; exact h6
  · rw [ho _ (Or.inr (Or.inr (Or.inr (Or.inr (Or.inr ⟨j, hj, rfl⟩)))))]; exact h7 j hj
  · rw [ho 4 (by omega)]; exact h9
theorem mn_in {x : Int32} {c : Nat} (hc : c < 2 ^ 31) : (∃ t, t ≤ c ∧ mx 0 (mn (nI c) x) = nI t) := by
  have e0 : (0 : Int32).toInt = 0 := by decide
  have ec := nI_toInt hc
  by_cases h1 : x < nI c
  · have m1 : mn (nI c) x = x := if_pos h1
    rw [m1]
    by_cases h2 : (0 : Int32) < x
    · have m2 : mx 0 x = x := if_pos h2
      rw [m2]
      rw [Int32.lt_iff_toInt_lt] at h1 h2
      exact ⟨x.toInt.toNat, by omega, Int32.toInt_inj.mp (by rw [nI_toInt (by omega)]; omega)⟩
    · have m2 : mx 0 x = 0 := if_neg h2
      exact ⟨0, by omega, m2⟩
  · have m1 : mn (nI c) x = nI c := if_neg h1
    rw [m1]
    by_cases h2 : (0 : Int32) < nI c
    · have m2 : mx 0 (nI c) = nI c := if_pos h2
      exact ⟨c, by omega, m2⟩
    · have m2 : mx 0 (nI c) = 0 := if_neg h2
      exact ⟨0, by omega, m2⟩
theorem mx_in {x : Int32} {c : Nat} (hc : c < 2 ^ 31) (hx : x ≤ nI c) : (∃ t, t ≤ c ∧ mx 0 x = nI t) := by
  have ec := nI_toInt hc
  have e0 : (0 : Int32).toInt = 0 := by decide
  by_cases h2 : (0 : Int32) < x
  · have m2 : mx 0 x = x := if_pos h2
    rw [m2]
    rw [Int32.le_iff_toInt_le] at hx
    rw [Int32.lt_iff_toInt_lt] at h2
    exact ⟨x.toInt.toNat, by omega, Int32.toInt_inj.mp (by rw [nI_toInt (by omega)]; omega)⟩
  · have m2 : mx 0 x = 0 := if_neg h2
    exact ⟨0, by omega, m2⟩
theorem nI_sub_le {t d c : Nat} (ht : t ≤ c) (hc : c < 2 ^ 30) (hd : d < 2 ^ 30) : nI t - nI d ≤ nI c := by
  rw [Int32.le_iff_toInt_le, pk_sub_toInt (by omega) hd, nI_toInt (by omega)]
  omega
theorem mn_le (x : Int32) {c : Nat} : mn (nI c) x ≤ nI c := by
  by_cases h : x < nI c
  · have m1 : mn (nI c) x = x := if_pos h
    rw [m1, Int32.le_iff_toInt_le]
    rw [Int32.lt_iff_toInt_lt] at h
    omega
  · have m1 : mn (nI c) x = nI c := if_neg h
    rw [m1, Int32.le_iff_toInt_le]
    omega
/-- behind a throw -/
theorem Inv.thrown {B : Nat} {w : rw84} (h : Inv B w) (hB : B < 2 ^ 30) : Inv (B + 1) (thrF w) := by
  obtain ⟨q, hq, eq⟩ := h.next (by omega)
  obtain ⟨n, hn, en⟩ := h.num
  have hA : ∀ j, j < 8 → throwA w q (44 + 5 * j + 2) ≤ nI 99 := by
    intro j hj
    obtain ⟨t, ht, et⟩ := h.tired hj
    have h0 : w (44 + 5 * j + 2) ≤ nI 99 := by rw [et]; exact nI_le ht (by decide)
    unfold throwA
    split
    · rw [up_ne (by omega)]; exact h0
    · rename_i hk
      obtain ⟨k, hk8, ek⟩ := h.who hq hk
      rw [ek, nI_clamp (by omega)]
      unfold thr1F
      by_cases e : j = k
      · subst e
        rw [pk_us]
        exact mn_le _
      · rw [up_ne (by omega), up_ne, up_ne (by omega)]
        · exact h0
        · split <;> omega
  refine h.of ?_ (fun i hi => thr_out h (by omega) (by omega) (by omega) (by omega) (fun j f _ _ => by omega)) ?_ ?_
  · obtain ⟨m, hm, em⟩ := h.thr
    refine ⟨m + 1, by omega, ?_⟩
    rw [thr_at hq eq hn en, pk_us, readF_out (by omega) (by omega), restF_out (fun o _ => by omega), throwA_out (by decide) (fun j f _ _ => by omega), em, nI_1]
  · rw [thr_at hq eq hn en, up_ne (by decide), readF_out (by omega) (by omega), restF_out (fun o _ => by omega)]
    unfold throwA
    split
    · rw [pk_us]
      obtain ⟨m, hm, em⟩ := h.metres
      rw [em]
      exact mx_in (c := 99999) (by decide) (nI_sub_le hm (by decide) (d := 5) (by decide))
    · unfold thr1F
      rw [up_ne (by omega), up_ne (by split <;> omega), pk_us]
      exact mn_in (c := 99999) (by decide)
  · intro j hj
    rw [thr_at hq eq hn en, up_ne (by omega), readF_out (by omega) (by omega)]
    by_cases e : j < n
    · rw [restF_in e]
      refine mx_in (c := 99) (by decide) ?_
      have h1 := hA j hj
      by_cases e2 : nI j = w (17 + q)
      · rw [if_pos e2, show throwA w q (44 + 5 * j + 2) - 0 = throwA w q (44 + 5 * j + 2) from Int32.sub_zero _]
        exact h1
      · rw [if_neg e2]
        obtain ⟨t, ht, et⟩ := h.tired hj
        by_cases hneg : throwA w q (44 + 5 * j + 2) = w (44 + 5 * j + 2)
        · rw [hneg, et]
          exact nI_sub_le ht (by decide) (d := 2) (by decide)
        · exfalso
          apply hneg
          unfold throwA
          split
          · rw [up_ne (by omega)]
          · rename_i hk
            obtain ⟨k, hk8, ek⟩ := h.who hq hk
            have hjk : j ≠ k := fun z => e2 (by rw [z]; exact ek.symm)
            rw [ek, nI_clamp (by omega)]
            unfold thr1F
            rw [up_ne (by omega), up_ne (by split <;> omega), up_ne (by omega)]
    · rw [restF_out (fun o ho => by omega)]
      obtain ⟨t, ht, et⟩ := h.tired hj
      refine ⟨t, ht, ?_⟩
      rw [← et]
      unfold throwA
      split
      · rw [up_ne (by omega)]
      · rename_i hk
        obtain ⟨n', hn', en', hl, -⟩ := h.2.1
        have hnn : n' = n := (nI_eq (by omega) (by omega)).mp (en'.symm.trans en)
        subst hnn
        rcases hl q hq with e3 | ⟨k, hkn, ek⟩
        · exact absurd (by rw [e3]; decide) hk
        rw [ek, nI_clamp (by omega)]
        unfold thr1F
        rw [up_ne (by omega), up_ne (by split <;> omega), up_ne (by omega)]
theorem Inv.thrN {B : Nat} {w : rw84} (h : Inv B w) : ∀ {k : Nat}, B + k < 2 ^ 30 → Inv (B + k) (thrN w k)
  | 0, _ => h
  | k + 1, hk => (Inv.thrN h (by omega)).thrown (by omega)
/-- a copy under way -/
def cpF (a b : rw84) (q : Nat) : rw84 := fun k => if k < q then a k else b k
theorem cp_0 (a b : rw84) : cpF a b 0 = b := by
  funext k
  exact if_neg (by omega)
theorem cp_s (a b : rw84) (q : Nat) : upd (cpF a b q) q (a q) = cpF a b (q + 1) := by
  funext k
  unfold upd cpF
  by_cases e : k = q
  · subst e
    rw [if_pos rfl, if_pos (by omega)]
  · rw [if_neg e]
    by_cases e2 : k < q
    · rw [if_pos e2, if_pos (by omega)]
    · rw [if_neg e2, if_neg (by omega)]
/-- one more jumper -/
def zeroF (w : rw84) (n : Nat) : Nat → rw84
  | 0 => w
  | f + 1 => upd (zeroF w n f) (44 + 5 * n + f) 0
def comeF (w : rw84) (n : Nat) (k t : Int32) : rw84 :=
  let c := upd (upd (zeroF w n 5) (44 + 5 * n + 0) k) (44 + 5 * n + 1) t
  upd c 1 (c 1 + 1)
