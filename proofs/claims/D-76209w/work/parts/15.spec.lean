/-! what is computed: shared by the class and its reference. w: the row of 84 numbers -/
set_option maxRecDepth 100000
abbrev rw84 : Type := Nat → Int32
abbrev rm (x y : Int32) : Int32 := x - x / y * y
abbrev mx (x y : Int32) : Int32 := if x < y then y else x
abbrev mn (x y : Int32) : Int32 := if y < x then y else x
def inF (v lo hi : Int32) : Int32 := if v < lo then 0 else if hi < v then 0 else 1
theorem inF_b (v lo hi : Int32) : narrow .boolean (.int (inF v lo hi)) = .int (inF v lo hi) := by
  unfold inF
  split
  · rfl
  · split <;> rfl
def btF : Nat → Int32 → Int32 → Int32
  | 0, _, n => n
  | f + 1, x, n => if x = 0 then n else btF f (x &&& (x - 1)) (n + 1)
def bitsF (c : Int32) : Int32 := btF c.toBitVec.toNat c 0
theorem btF_0 (f : Nat) (n : Int32) : btF f 0 n = n := by
  cases f with
  | zero => rfl
  | succ f => rw [btF, if_pos rfl]
theorem bt_dec {x : Int32} (h : ¬ x = 0) : (x &&& (x - 1)).toBitVec.toNat < x.toBitVec.toNat := by
  have h0 : x.toBitVec ≠ 0#32 := fun q => h (Int32.toBitVec_inj.mp q)
  have h1 : 0 < x.toBitVec.toNat := by
    rcases Nat.eq_zero_or_pos x.toBitVec.toNat with q | q
    · exact absurd (BitVec.eq_of_toNat_eq q) h0
    · exact q
  have h2 : (x &&& (x - 1)).toBitVec.toNat ≤ (x - 1).toBitVec.toNat := by
    rw [Int32.toBitVec_and, BitVec.toNat_and]
    exact Nat.and_le_right
  have h3 : (x - 1).toBitVec.toNat = x.toBitVec.toNat - 1 := by
    rw [Int32.toBitVec_sub, BitVec.toNat_sub]
    have := x.toBitVec.isLt
    simp
    omega
  omega
theorem bt_nx {f : Nat} {y n r : Int32} (hz : y.toBitVec.toNat ≤ f) (hf : btF f y n = r) (h : ¬ y = 0) : btF (f - 1) (y &&& (y - 1)) (n + 1) = r := by
  have h1 := bt_dec h
  have h2 : f = f - 1 + 1 := by omega
  rw [h2, btF, if_neg h] at hf
  exact hf
def saysF (c code : Int32) : Int32 := if code = 0 then rm (rm c 10) 7 else if code = 1 then rm (rm c 10 + rm (c / 10) 10 + c / 100) 7 else if code = 2 then rm (c / 100) 7 else if code = 3 then (if rm (rm c 10) 2 = 1 then 0 else if rm (rm (c / 10) 10) 2 = 1 then 3 else 6) else rm (bitsF c) 7
def hbF (x k : Int32) : Int32 := if (x >>> (k &&& 31)) &&& 1 = 1 then 1 else 0
theorem hbF_b (x k : Int32) : narrow .boolean (.int (hbF x k)) = .int (hbF x k) := by
  unfold hbF
  split <;> rfl
def abF (k : Int32) : Int32 := if k = 0 then -1 else if k = 3 then 2 else if k = 4 then 3 else if k = 6 then 1 else 0
def unF : Nat → Int32 → Int32 → Int32
  | 0, k, _ => k
  | f + 1, k, o => if k < 0 then k else if k = o then k else unF f (abF k) o
/-- how far a kind stands under the first -/
def unM (k : Int32) : Nat := if k < 0 then 0 else if k = 0 then 1 else if k = 3 then 3 else if k = 4 then 4 else if k = 6 then 3 else 2
theorem unM_dec {k : Int32} (h : ¬ k < 0) : unM (abF k) < unM k := by
  unfold unM abF
  rw [if_neg h]
  by_cases h0 : k = 0
  · subst h0; decide
  by_cases h3 : k = 3
  · subst h3; decide
  by_cases h4 : k = 4
  · subst h4; decide
  by_cases h6 : k = 6
  · subst h6; decide
  rw [if_neg h0, if_neg h0, if_neg h3, if_neg h3, if_neg h4, if_neg h4, if_neg h6, if_neg h6]
  decide
theorem unM_pos {k : Int32} (h : ¬ k < 0) : 0 < unM k := Nat.lt_of_le_of_lt (Nat.zero_le _) (unM_dec h)
theorem unF_at {f : Nat} {k o : Int32} (h : k < 0 ∨ k = o) : unF f k o = k := by
  cases f with
  | zero => rfl
  | succ f =>
    rw [unF]
    split
    · rfl
    · rename_i hn
      rcases h with h | h
      · exact absurd h hn
      · rw [if_pos h]
theorem un_nx {f : Nat} {k o r : Int32} (hz : unM k ≤ f) (hf : unF f k o = r) (h : ¬ k < 0) (h' : ¬ k = o) : unF (f - 1) (abF k) o = r := by
  have h1 := unM_pos h
  have h2 : f = f - 1 + 1 := by omega
  rw [h2, unF, if_neg h, if_neg h'] at hf
  exact hf
def cutF (v b : Int32) : Int32 := if b = 8 then v.toInt8.toInt32 else if b = 16 then v.toInt16.toInt32 else v
def fldF (what v : Int32) : Int32 := if what = 0 then inF v 0 6 else if what = 1 then inF v 0 99 else if what = 2 then inF v 0 99 else if what = 3 then inF v 0 9999 else if what = 4 then inF v 0 9999 else 0
/-- where one stands: the last place, of the first n -/
def stN (w : rw84) (k : Int32) : Nat → Option Nat
  | 0 => none
  | p + 1 => if w (17 + p) = k then some p else stN w k p
def oI (o : Option Nat) : Int32 := match o with
  | none => -1
  | some p => nI p
theorem stN_lt {w : rw84} {k : Int32} : ∀ {n p : Nat}, stN w k n = some p → p < n
  | 0, p, h => by cases h
  | n + 1, p, h => by
    rw [stN] at h
    split at h
    · cases h; omega
    · have := stN_lt h; omega
def standF (w : rw84) (p : Nat) (k : Int32) : rw84 := upd (match (if k < 0 then none else stN w k 7) with | none => w | some q => upd w (17 + q) (-1)) (17 + p) k
def forceF (w : rw84) (p : Nat) : Int32 := w (24 + p) + w (31 + p) / 2
def plainF (w : rw84) (j : Nat) : Int32 := mx 0 (w (44 + 5 * j + 1) - w (44 + 5 * j + 2) / 4)
def highF (w : rw84) (j : Nat) : Int32 := if w (44 + 5 * j + 0) = 1 then plainF w j / 2 else if w (44 + 5 * j + 0) = 2 then plainF w j + 10 else if w (44 + 5 * j + 0) = 3 then plainF w j + 15 - w 4 else if w (44 + 5 * j + 0) = 4 then (if 20 ≤ w (44 + 5 * j + 2) then plainF w j + 15 - w 4 else plainF w j + 15 - w 4 + 10) else if w (44 + 5 * j + 0) = 5 then (if rm (w 0) 2 = 1 then 0 else plainF w j) else if w (44 + 5 * j + 0) = 6 then plainF w j / 2 + 30 - w 5 else plainF w j
def gainF (w : rw84) (j : Nat) (p : Int32) : Int32 := if w (44 + 5 * j + 0) = 1 then 1 else if w (44 + 5 * j + 0) = 2 then p + 2 else if w (44 + 5 * j + 0) = 3 then p + 2 else if w (44 + 5 * j + 0) = 4 then mx 0 (p + 2 - w 4) else if w (44 + 5 * j + 0) = 5 then p else if w (44 + 5 * j + 0) = 6 then 1 + 2 * p else p
def tireF (w : rw84) (j : Nat) : Int32 := if w (44 + 5 * j + 0) = 1 then 8 else if w (44 + 5 * j + 0) = 2 then 4 else if w (44 + 5 * j + 0) = 3 then 4 else if w (44 + 5 * j + 0) = 4 then 8 else if w (44 + 5 * j + 0) = 5 then 5 + w 5 else if w (44 + 5 * j + 0) = 6 then 2 else 5
/-- sums over the jumpers -/
def sumF (w : rw84) (f : Nat) : Nat → Int32
  | 0 => 0
  | j + 1 => sumF w f j + w (44 + 5 * j + f)
/-- does our jumper in place p get the ball; the set of such places -/
def winF (w : rw84) (p : Nat) : Int32 := if w (17 + p) < 0 then 0 else if highF w (w (17 + p)).toNatClampNeg ≤ forceF w p then 0 else 1
theorem winF_b (w : rw84) (p : Nat) : narrow .boolean (.int (winF w p)) = .int (winF w p) := by
  unfold winF
  split
  · rfl
  · split <;> rfl
def wonF (w : rw84) : Nat → Int32
  | 0 => 0
  | p + 1 => wonF w p ||| (if winF w p = 0 then (0 : Int32) else (1 : Int32) <<< (nI p &&& 31))
/-- places that some calls say -/
def saidF (w : rw84) (x : Int32) : Nat → Int32
  | 0 => 0
  | i + 1 => saidF w x i ||| (if hbF x (nI i) = 0 then (0 : Int32) else (1 : Int32) <<< (saysF (w (38 + i)) (w 6) &&& 31))
