/-! odds, tape, copies -/
set_option maxRecDepth 100000
def gN (w : rw84) (p : Int32) : Nat → Nat
  | 0 => 0
  | c + 1 => gN w p c + (if saysF (nI c) (w 6) = p then 1 else 0)
theorem gN_le (w : rw84) (p : Int32) : ∀ c, gN w p c ≤ c
  | 0 => Nat.le_refl _
  | c + 1 => by
    have := gN_le w p c
    rw [gN]
    split <;> omega
def powF (x : Int64) : Nat → Int64
  | 0 => 1
  | k + 1 => powF x k * x
def oddsX (a : Nat) (x : Int32) : Int64 := ((if x = 0 then nI a else 1000) / nI (Nat.gcd 1000 a)).toInt64
def oddsO (w : rw84) (p n x : Int32) : Int64 × Option Nat := if inF p 0 6 = 0 then ((-1000001 : Int32).toInt64, some 0) else if inF n 0 6 = 0 then ((-1000001 : Int32).toInt64, some 0) else if inF x 0 1 = 0 then ((-1000001 : Int32).toInt64, some 0) else (powF (oddsX (gN w p 1000) x) (ix n), none)
/-- bytes fed to the tape from place a on -/
def fdF (tp : rw84) (a : Nat) (b : Int32) (n : Nat) : Nat → rw84
  | 0 => tp
  | i + 1 => upd (fdF tp a b n i) (a + i) ((b >>> (nI (8 * (n - 1 - i)) &&& 31)) &&& 255)
def fdM (M : mM) (tp : rw84) (k : Int32) : mM := u2 (ur M 7 tp) 8 0 k
theorem fd_init {M : mM} {a : Int32} (h : M 8 0 = a) : fdM M (M 7) a = M := by
  unfold fdM
  rw [ur_self]
  subst h
  show va_up M 8 (upd (M 8) 0 (M 8 0)) = M
  rw [up_self]
  exact ur_self M 8
theorem fd_step (M : mM) (tp : rw84) (k x : Int32) (i : Nat) (y : Int32) : u2 (u2 (fdM M tp k) 7 i x) 8 0 y = fdM M (upd tp i x) y := by
  funext z
  match z with
  | 0 => rfl
  | 1 => rfl
  | 2 => rfl
  | 3 => rfl
  | 4 => rfl
  | 5 => rfl
  | 6 => rfl
  | 7 => rfl
  | 8 => exact up_up _ _ _ _
  | z + 9 => rfl
/-- feed: the answer, the finding, the tape, how much is on it -/
def feedO (tp : rw84) (k : Int32) (b n : Int32) : Int32 × Option Nat × rw84 × Int32 := if inF n 1 4 = 0 then (-1000001, some 0, tp, k) else if k + n ≤ 120 then (nI (ix k + ix n), none, fdF tp (ix k) b (ix n) (ix n), nI (ix k + ix n)) else (-1000002, some 1, tp, k)
theorem in_natm {v : Int32} (h : ¬ inF v (-1) 6 = 0) : ∃ q, q ≤ 7 ∧ v + 1 = nI q := by
  unfold inF at h
  by_cases h1 : v < -1
  · rw [if_pos h1] at h; exact absurd rfl h
  · rw [if_neg h1] at h
    by_cases h2 : 6 < v
    · rw [if_pos h2] at h; exact absurd rfl h
    · have z : (-1 : Int32).toInt = -1 := by decide
      have z6 : (6 : Int32).toInt = 6 := by decide
      rw [Int32.lt_iff_toInt_lt] at h1 h2
      refine ⟨(v.toInt + 1).toNat, by omega, Int32.toInt_inj.mp ?_⟩
      rw [nI_toInt (by omega), Int32.toInt_add]
      have z1 : (1 : Int32).toInt = 1 := by decide
      rw [z1]
      have : (v.toInt + 1).bmod (2 ^ 32) = v.toInt + 1 := by
        apply Int.bmod_eq_of_le <;> omega
      rw [this]
      omega
def statusO (fd : rw84) (w : rw84) (x : Int32) : oT := if inF x (-1) 6 = 0 then bad w else (fd (ix (x + 1)), w, none)
/-- a copy between sheets: from place a of sheet s to place b of sheet t -/
def cpS (nb : rw84) (a b : Nat) : Nat → rw84
  | 0 => nb
  | k + 1 => upd (cpS nb a b k) (b + k) (nb (a + k))
def copyO (wd sz nb : rw84) (s a t b n : Int32) : Int32 × Option Nat × rw84 := if inF s 0 3 = 0 then (-1000001, some 0, nb) else if inF t 0 3 = 0 then (-1000001, some 0, nb) else if wd (ix s) = 0 then (-1000006, some 5, nb) else if wd (ix t) = 0 then (-1000006, some 5, nb) else if wd (ix s) = wd (ix t) then (if a < 0 then (-1000001, some 0, nb) else if b < 0 then (-1000001, some 0, nb) else if n < 0 then (-1000001, some 0, nb) else if ix (sz (ix s)) < ix a + ix n then (-1000001, some 0, nb) else if ix (sz (ix t)) < ix b + ix n then (-1000001, some 0, nb) else (n, none, cpS nb (40 * ix s + ix a) (40 * ix t + ix b) (ix n))) else (-1000003, some 2, nb)
theorem gcd_nx {x y g : Nat} (h : Nat.gcd x y = g) : Nat.gcd y (x % y) = g := by
  rw [← h, Nat.gcd_comm y, ← Nat.gcd_rec, Nat.gcd_comm]
theorem ld_go {f : Nat → Int32} {N k : Nat} {w : rw84} (hk : k < N) (h : ¬ inF (f k) 0 999 = 0) : ldR f (N - k) k w = ldR f (N - (k + 1)) (k + 1) (upd w (38 + k) (f k)) := by
  rw [show N - k = N - (k + 1) + 1 by omega, ldR, if_neg h]
theorem ld_end {f : Nat → Int32} {r k : Nat} {w : rw84} (h : r = 0) : ldR f r k w = (k, w) := by
  subst h
  rfl
theorem ld_stop {f : Nat → Int32} {k : Nat} {w : rw84} (r : Nat) (h : inF (f k) 0 999 = 0) : ldR f r k w = (k, w) := by
  cases r with
  | zero => rfl
  | succ r => rw [ldR, if_pos h]
theorem jd_go {f : Nat → Int32} {N k : Nat} {w : rw84} (hk : k < N) (h : ¬ inF (nI k) 0 (w 1 - 1) = 0) (h2 : f k = w (44 + 5 * k + 3)) : jdR f w (N - k) k = jdR f w (N - (k + 1)) (k + 1) := by
  rw [show N - k = N - (k + 1) + 1 by omega, jdR, if_neg h, if_pos h2]
theorem jd_end {f : Nat → Int32} {r k : Nat} {w : rw84} (h : r = 0) : jdR f w r k = k := by
  subst h
  rfl
theorem jd_st1 {f : Nat → Int32} {k : Nat} {w : rw84} (r : Nat) (h : inF (nI k) 0 (w 1 - 1) = 0) : jdR f w r k = k := by
  cases r with
  | zero => rfl
  | succ r => rw [jdR, if_pos h]
theorem jd_st2 {f : Nat → Int32} {k : Nat} {w : rw84} (r : Nat) (h : ¬ inF (nI k) 0 (w 1 - 1) = 0) (h2 : ¬ f k = w (44 + 5 * k + 3)) : jdR f w r k = k := by
  cases r with
  | zero => rfl
  | succ r => rw [jdR, if_neg h, if_neg h2]
theorem wr_M (M : mM) (z : rw84) : shM M (M 21, M 22, z) = ur M 23 z := by
  unfold shM
  rw [ur_self, ur_self]
theorem cmp_gt (x y : Int64) : (0 < lg_cmp x y) ↔ y < x := by
  unfold lg_cmp
  by_cases h : x > y
  · rw [if_pos h]
    exact ⟨fun _ => h, fun _ => by decide⟩
  · rw [if_neg h]
    constructor
    · intro h2
      by_cases e : x = y
      · rw [if_pos e] at h2
        exact absurd h2 (by decide)
      · rw [if_neg e] at h2
        exact absurd h2 (by decide)
    · intro h2
      exact absurd h2 h
theorem cmp_far {a n z : Nat} (ha : a < 2 ^ 31) (hn : n < 2 ^ 31) (hz : z < 2 ^ 31) : (0 < lg_cmp ((nI a).toInt64 + (nI n).toInt64) (nI z).toInt64) ↔ z < a + n := by
  rw [cmp_gt, nI_l ha, nI_l hn, nI_l hz, lN_add]
  exact pk_lLT (by omega) (by omega)
def mvF (mv nb : rw84) (a : Nat) : Nat → rw84
  | 0 => mv
  | k + 1 => upd (mvF mv nb a k) k (nb (a + k))
theorem mvF_at {mv nb : rw84} {a : Nat} {k : Nat} : ∀ {n : Nat}, k < n → mvF mv nb a n k = nb (a + k)
  | 0, h => absurd h (Nat.not_lt_zero _)
  | n + 1, h => by
    by_cases e : k = n
    · subst e
      rw [mvF, pk_us]
    · rw [mvF, up_ne e]
      exact mvF_at (by omega)
