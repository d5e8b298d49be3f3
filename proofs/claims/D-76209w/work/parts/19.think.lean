/-! what is thought: best of some, told ends -/
set_option maxRecDepth 100000
theorem ur_ur (M : mM) (k : Nat) (f g : rw84) : ur (ur M k f) k g = ur M k g := bx_uu M k f g
theorem ur_at (M : mM) (k : Nat) (f : rw84) : ur M k f k = f := va_up_self M k f
theorem up_up (w : rw84) (k : Nat) (x y : Int32) : upd (upd w k x) k y = upd w k y := by
  funext j
  unfold upd
  by_cases e : j = k
  · rw [if_pos e, if_pos e]
  · rw [if_neg e, if_neg e, if_neg e]
theorem up_self (w : rw84) (k : Nat) : upd w k (w k) = w := by
  funext j
  unfold upd
  by_cases e : j = k
  · rw [if_pos e, e]
  · rw [if_neg e]
theorem up_comm (w : rw84) {j k : Nat} (h : j ≠ k) (x y : Int32) : upd (upd w j x) k y = upd (upd w k y) j x := by
  funext i
  unfold upd
  by_cases e : i = k
  · subst e
    rw [if_pos rfl, if_neg (Ne.symm h), if_pos rfl]
  · rw [if_neg e]
    by_cases e2 : i = j
    · rw [if_pos e2, if_pos e2]
    · rw [if_neg e2, if_neg e2, if_neg e]
def bestF (f : Nat → Int32) : Nat → Int32 × Int32
  | 0 => (0, -1)
  | v + 1 => (if f v ≤ (bestF f v).2 then (bestF f v).1 else nI v, mx (bestF f v).2 (f v))
/-- the row at the head of such a loop -/
def tryF (w : rw84) (q : Nat) : Nat → rw84
  | 0 => w
  | v + 1 => upd w q (nI v)
theorem try_up (w : rw84) (q v : Nat) (x : Int32) : upd (tryF w q v) q x = upd w q x := by
  cases v with
  | zero => rfl
  | succ v => exact up_up w q _ x
/-- one stands in a place, who was there where that one stood -/
def chF (w : rw84) (p : Nat) (k : Int32) : rw84 := match stN w k 7 with
  | none => upd w (17 + p) k
  | some a => if a = p then upd w (17 + p) k else upd (upd w (17 + p) k) (17 + a) (w (17 + p))
theorem ch_none {w : rw84} {p : Nat} {k : Int32} (hk : ¬ k < 0) (h : stN w k 7 = none) : standF w p k = chF w p k := by
  rw [standF, chF, if_neg hk, h]
theorem ch_same {w : rw84} {p : Nat} {k : Int32} (hk : ¬ k < 0) (h : stN w k 7 = some p) : standF w p k = chF w p k := by
  rw [standF, chF, if_neg hk, h]
  show upd (upd w (17 + p) (-1)) (17 + p) k = (if p = p then upd w (17 + p) k else _)
  rw [if_pos rfl, up_up]
theorem ch_other {w : rw84} {p a : Nat} {k : Int32} (hk : ¬ k < 0) (h : stN w k 7 = some a) (e : ¬ a = p) : upd (standF w p k) (17 + a) (w (17 + p)) = chF w p k := by
  rw [standF, chF, if_neg hk, h]
  show upd (upd (upd w (17 + a) (-1)) (17 + p) k) (17 + a) (w (17 + p)) = (if a = p then upd w (17 + p) k else upd (upd w (17 + p) k) (17 + a) (w (17 + p)))
  rw [if_neg e, up_comm w (by omega), up_up]
/-- were the metres as told: r numbers f are left, from place k on -/
def soR (f : Nat → Int32) : Nat → Nat → rw84 → Int32
  | 0, _, _ => 1
  | r + 1, k, w => if f k = -1 then soR f r (k + 1) (thrF w) else if f k = w 3 then soR f r (k + 1) (thrF w) else 0
def fitF (g : Nat → Int32) : Nat → Int32 × Int32
  | 0 => (0, -1)
  | i + 1 => ((fitF g i).1 + (if g (99 - i) = 0 then 0 else 1), if g (99 - i) = 0 then (fitF g i).2 else nI (99 - i))
def dn (i : Nat) : Int32 := if i < 100 then nI (99 - i) else -1
theorem dn_at {i : Nat} (h : i < 100) : dn i = nI (99 - i) := if_pos h
theorem dn_pos {i : Nat} (h : ¬ dn i < 0) : i < 100 := by
  by_cases e : i < 100
  · exact e
  · exact absurd (by rw [dn, if_neg e]; decide) h
theorem dn_neg {i : Nat} (h : dn i < 0) : 100 ≤ i := by
  by_cases e : i < 100
  · rw [dn_at e] at h
    exact absurd h (nI_pos (by omega))
  · omega
theorem dn_s {i : Nat} (h : i < 100) : dn i + Int32.ofInt (-1) = dn (i + 1) := by
  rw [dn_at h]
  by_cases e : i + 1 < 100
  · rw [dn_at e]
    have : 99 - i = 99 - (i + 1) + 1 := by omega
    rw [this]
    exact pk_m1 _
  · have : i = 99 := by omega
    subst this
    decide
section SO
variable {f : Nat → Int32} {n k : Nat} {w : rw84} {b : Int32}
theorem soR_b (f : Nat → Int32) : ∀ (r k : Nat) (w : rw84), narrow .boolean (.int (soR f r k w)) = .int (soR f r k w)
  | 0, _, _ => by rw [soR]; rfl
  | r + 1, k, w => by
    rw [soR]
    split
    · exact soR_b f r (k + 1) (thrF w)
    · split
      · exact soR_b f r (k + 1) (thrF w)
      · rfl
abbrev so_I (f : Nat → Int32) (n k : Nat) (w : rw84) (b : Int32) : Prop := (b = 1 ∧ soR f (n - k) k (thrN w k) = soR f n 0 w) ∨ (b = 0 ∧ soR f n 0 w = 0)
theorem so_nx (h : so_I f n k w b) (hb : ¬ b = 0) (hk : k < n) (hc : f k = -1 ∨ f k = thrN w k 3) : soR f (n - (k + 1)) (k + 1) (thrN w (k + 1)) = soR f n 0 w := by
  rcases h with ⟨-, h⟩ | ⟨h, -⟩
  · rw [show n - k = n - (k + 1) + 1 by omega, soR] at h
    rcases hc with c | c
    · rw [if_pos c] at h; exact h
    · rw [if_pos c] at h
      by_cases e : f k = -1
      · rw [if_pos e] at h; exact h
      · rw [if_neg e] at h; exact h
  · exact absurd h hb
theorem so_no (h : so_I f n k w b) (hb : ¬ b = 0) (hk : k < n) (c1 : ¬ f k = -1) (c2 : ¬ f k = thrN w k 3) : soR f n 0 w = 0 := by
  rcases h with ⟨-, h⟩ | ⟨h, -⟩
  · rw [show n - k = n - (k + 1) + 1 by omega, soR, if_neg c1, if_neg c2] at h
    exact h.symm
  · exact absurd h hb
theorem so_end (h : so_I f n n w b) : b = soR f n 0 w := by
  rcases h with ⟨h, h2⟩ | ⟨h, h2⟩
  · rw [Nat.sub_self, soR] at h2
    rw [h, h2]
  · rw [h, h2]
theorem so_stop (h : so_I f n k w b) (hb : b = 0) : b = soR f n 0 w := by
  rcases h with ⟨h, -⟩ | ⟨h, h2⟩
  · rw [h] at hb
    exact absurd hb (by decide)
  · rw [h, h2]
end SO
def tdF (w : rw84) (q : Nat) : Nat → rw84
  | 0 => w
  | y + 1 => upd w q (nI (99 - y))
theorem td_up (w : rw84) (q v : Nat) (x : Int32) : upd (tdF w q v) q x = upd w q x := by
  cases v with
  | zero => rfl
  | succ v => exact up_up w q _ x
/-- the reference's fields in such a loop: aside, tallMany, tallLeast -/
def fM (M : mM) (g : rw84) (a b : Int32) : mM := u2 (u2 (ur M 2 g) 5 0 a) 6 0 b
theorem fM_init (M : mM) (a b : Int32) : u2 (u2 M 5 0 a) 6 0 b = fM M (M 2) a b := by
  unfold fM
  rw [ur_self]
theorem fM_step (M : mM) (g g' : rw84) (a b c d : Int32) : u2 (u2 (ur (fM M g a b) 2 g') 5 0 ((ur (fM M g a b) 2 g') 5 0 + c)) 6 0 d = fM M g' (a + c) d := by
  funext k
  match k with
  | 0 => rfl
  | 1 => rfl
  | 2 => rfl
  | 3 => rfl
  | 4 => rfl
  | 5 => exact up_up _ _ _ _
  | 6 => exact up_up _ _ _ _
  | k + 7 => rfl
