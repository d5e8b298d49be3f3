/-! what always holds of the row; B: how many throws at most -/
set_option maxRecDepth 100000
def Inv (B : Nat) (w : rw84) : Prop :=
  (∃ n, n ≤ B ∧ w 0 = nI n) ∧ (∃ n, n ≤ 8 ∧ w 1 = nI n ∧ (∀ p, p < 7 → w (17 + p) = -1 ∨ ∃ k, k < n ∧ w (17 + p) = nI k) ∧ ∀ q, q < 10 → w (7 + q) = -1 ∨ ∃ k, k < n ∧ w (7 + q) = nI k) ∧ (∀ i, i < 6 → ∃ c, c ≤ 999 ∧ w (38 + i) = nI c) ∧ (∃ c, c ≤ 4 ∧ w 6 = nI c) ∧ (∀ j, j < 8 → ∃ k, k ≤ 6 ∧ w (44 + 5 * j + 0) = nI k) ∧ (∀ j, j < 8 → ∃ t, t ≤ 99 ∧ w (44 + 5 * j + 2) = nI t) ∧ (∃ m, m ≤ 99999 ∧ w 3 = nI m) ∧ (∃ v, v ≤ 9 ∧ w 4 = nI v)
section INV
variable {B : Nat} {w : rw84}
theorem Inv.thr (h : Inv B w) : ∃ n, n ≤ B ∧ w 0 = nI n := h.1
theorem Inv.num (h : Inv B w) : ∃ n, n ≤ 8 ∧ w 1 = nI n := by
  obtain ⟨n, h1, h2, -⟩ := h.2.1
  exact ⟨n, h1, h2⟩
theorem Inv.list (h : Inv B w) {i : Nat} (hi : i < 6) : ∃ c, c ≤ 999 ∧ w (38 + i) = nI c := h.2.2.1 i hi
theorem Inv.kind (h : Inv B w) {j : Nat} (hj : j < 8) : ∃ k, k ≤ 6 ∧ w (44 + 5 * j + 0) = nI k := h.2.2.2.2.1 j hj
theorem Inv.tired (h : Inv B w) {j : Nat} (hj : j < 8) : ∃ k, k ≤ 99 ∧ w (44 + 5 * j + 2) = nI k := h.2.2.2.2.2.1 j hj
theorem Inv.metres (h : Inv B w) : ∃ m, m ≤ 99999 ∧ w 3 = nI m := h.2.2.2.2.2.2.1
theorem Inv.wind (h : Inv B w) : ∃ m, m ≤ 9 ∧ w 4 = nI m := h.2.2.2.2.2.2.2
theorem Inv.line (h : Inv B w) {p : Nat} (hp : p < 7) : w (17 + p) = -1 ∨ ∃ k, k < 8 ∧ w (17 + p) = nI k := by
  obtain ⟨n, h1, h2, h3, -⟩ := h.2.1
  rcases h3 p hp with q | ⟨k, hk, e⟩
  · exact Or.inl q
  · exact Or.inr ⟨k, by omega, e⟩
theorem Inv.who (h : Inv B w) {p : Nat} (hp : p < 7) (hn : ¬ w (17 + p) < 0) : ∃ k, k < 8 ∧ w (17 + p) = nI k := by
  rcases h.line hp with q | q
  · exact absurd (by rw [q]; decide) hn
  · exact q
theorem Inv.nobody (h : Inv B w) {p : Nat} (hp : p < 7) (hn : w (17 + p) < 0) : w (17 + p) = -1 := by
  rcases h.line hp with q | ⟨k, hk, e⟩
  · exact q
  · exact absurd hn (by rw [e]; exact nI_pos (by omega))
end INV
theorem oI_pos {o : Option Nat} (h : ¬ oI o < 0) : ∃ q, o = some q ∧ oI o = nI q := by
  cases o with
  | none => exact absurd (by decide) h
  | some q => exact ⟨q, rfl, rfl⟩
theorem oI_neg {o : Option Nat} (hb : ∀ q, o = some q → q < 2 ^ 31) (h : oI o < 0) : o = none := by
  cases o with
  | none => rfl
  | some q => exact absurd h (nI_pos (hb q rfl))
theorem nI_rm {a d : Nat} (ha : a < 2 ^ 31) (h0 : 0 < d) (hd : d < 2 ^ 31) {x : Int32} (hx : x = nI a) {y : Int32} (hy : y = nI d) : x - x / y * y = nI (a % d) := by
  subst hx; subst hy
  exact pk_rem ha h0 hd
theorem bits_le : ∀ a : Fin 1000, ∃ b : Fin 11, bitsF (nI a.val) = nI b.val := by decide +kernel
/-- a call says a place -/
theorem says_in {a : Nat} (ha : a ≤ 999) (cd : Int32) : ∃ p, p < 7 ∧ saysF (nI a) cd = nI p := by
  have r7 : ∀ b : Nat, b < 2 ^ 31 → ∀ x : Int32, x = nI b → ∃ p, p < 7 ∧ rm x 7 = nI p := fun b hb x hx => ⟨b % 7, Nat.mod_lt _ (by decide), nI_rm hb (by decide) (by decide) hx rfl⟩
  have e10 : rm (nI a) 10 = nI (a % 10) := nI_rm (by omega) (by decide) (by decide) rfl rfl
  have d10 : nI a / 10 = nI (a / 10) := pk_div (a := a) (d := 10) (by omega) (by decide) (by decide)
  have d100 : nI a / 100 = nI (a / 100) := pk_div (a := a) (d := 100) (by omega) (by decide) (by decide)
  have em : rm (nI a / 10) 10 = nI (a / 10 % 10) := nI_rm (by omega) (by decide) (by decide) d10 rfl
  unfold saysF
  split
  · exact r7 _ (by omega) _ e10
  split
  · refine r7 (a % 10 + a / 10 % 10 + a / 100) (by omega) _ ?_
    rw [e10, em, d100, nI_add, nI_add]
  split
  · exact r7 _ (by omega) _ d100
  split
  · split
    · exact ⟨0, by decide, rfl⟩
    · split
      · exact ⟨3, by decide, rfl⟩
      · exact ⟨6, by decide, rfl⟩
  · obtain ⟨b, hb⟩ := bits_le ⟨a, by omega⟩
    exact r7 b.val (by omega) _ hb
/-- the next place -/
def nextF (w : rw84) : Int32 := saysF (w (38 + (rm (w 0) 6).toNatClampNeg)) (w 6)
theorem next_eq {w : rw84} {n : Nat} (hn : n < 2 ^ 31) (e : w 0 = nI n) : rm (w 0) 6 = nI (n % 6) := nI_rm hn (by decide) (by decide) e rfl
theorem next_at {w : rw84} {n : Nat} (hn : n < 2 ^ 31) (e : w 0 = nI n) : nextF w = saysF (w (38 + n % 6)) (w 6) := by
  rw [nextF, next_eq hn e, nI_clamp (by omega)]
theorem Inv.next {B : Nat} {w : rw84} (h : Inv B w) (hB : B < 2 ^ 31) : ∃ p, p < 7 ∧ nextF w = nI p := by
  obtain ⟨n, hn, e⟩ := h.thr
  rw [next_at (by omega) e]
  obtain ⟨c, hc, ec⟩ := h.list (i := n % 6) (Nat.mod_lt _ (by decide))
  rw [ec]
  exact says_in hc _
