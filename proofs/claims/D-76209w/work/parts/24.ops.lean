/-! what each public method answers and does to the row; the last: a finding that is counted -/
set_option maxRecDepth 100000
abbrev oT : Type := Int32 × rw84 × Option Nat
abbrev bad (w : rw84) : oT := (-1000001, w, some 0)
abbrev ix (v : Int32) : Nat := v.toNatClampNeg
def fnd (o : Option Nat) (M : mM) : mM := match o with
  | none => M
  | some k => mFind M k
theorem in_nat {v : Int32} {N : Nat} {h0 : Int32} (eN : h0 = nI N) (hN : N < 2 ^ 31) (h : ¬ inF v 0 h0 = 0) : ∃ q, q ≤ N ∧ v = nI q := by
  subst eN
  unfold inF at h
  by_cases h1 : v < 0
  · rw [if_pos h1] at h; exact absurd rfl h
  · rw [if_neg h1] at h
    by_cases h2 : nI N < v
    · rw [if_pos h2] at h; exact absurd rfl h
    · have e := nI_toInt hN
      have z : (0 : Int32).toInt = 0 := by decide
      rw [Int32.lt_iff_toInt_lt] at h1 h2
      exact ⟨v.toInt.toNat, by omega, Int32.toInt_inj.mp (by rw [nI_toInt (by omega)]; omega)⟩
theorem in_nat1 {v : Int32} {N : Nat} {h0 : Int32} (eN : h0 = nI N) (hN : N < 2 ^ 31) (h : ¬ inF v 1 h0 = 0) : ∃ q, 1 ≤ q ∧ q ≤ N ∧ v = nI q := by
  subst eN
  unfold inF at h
  by_cases h1 : v < 1
  · rw [if_pos h1] at h; exact absurd rfl h
  · rw [if_neg h1] at h
    by_cases h2 : nI N < v
    · rw [if_pos h2] at h; exact absurd rfl h
    · have e := nI_toInt hN
      have z : (1 : Int32).toInt = 1 := by decide
      rw [Int32.lt_iff_toInt_lt] at h1 h2
      exact ⟨v.toInt.toNat, by omega, by omega, Int32.toInt_inj.mp (by rw [nI_toInt (by omega)]; omega)⟩
theorem in_nat2 {v : Int32} {N : Nat} {h0 : Int32} (eN : h0 = nI N) (hN : N < 2 ^ 31) (h : ¬ inF v 2 h0 = 0) : ∃ q, 2 ≤ q ∧ q ≤ N ∧ v = nI q := by
  subst eN
  unfold inF at h
  by_cases h1 : v < 2
  · rw [if_pos h1] at h; exact absurd rfl h
  · rw [if_neg h1] at h
    by_cases h2 : nI N < v
    · rw [if_pos h2] at h; exact absurd rfl h
    · have e := nI_toInt hN
      have z : (2 : Int32).toInt = 2 := by decide
      rw [Int32.lt_iff_toInt_lt] at h1 h2
      exact ⟨v.toInt.toNat, by omega, by omega, Int32.toInt_inj.mp (by rw [nI_toInt (by omega)]; omega)⟩
theorem in_num {v x : Int32} {n : Nat} (en : x = nI n) (hn : n ≤ 8) (h : ¬ inF v 0 (x - 1) = 0) : ∃ j, j < n ∧ j < 8 ∧ v = nI j := by
  subst en
  cases n with
  | zero =>
    exfalso
    apply h
    unfold inF
    by_cases h1 : v < 0
    · exact if_pos h1
    · rw [if_neg h1, if_pos]
      rw [Int32.lt_iff_toInt_lt] at h1 ⊢
      have : (nI 0 - 1).toInt = -1 := by decide
      have z : (0 : Int32).toInt = 0 := by decide
      omega
  | succ n =>
    rw [nI_pred] at h
    obtain ⟨q, h1, h2⟩ := in_nat rfl (by omega) h
    exact ⟨q, by omega, by omega, h2⟩
theorem fld_nat {x v : Int32} (h : ¬ fldF x v = 0) : ∃ f, f < 5 ∧ x = nI f := by
  unfold fldF at h
  by_cases h0 : x = 0
  · exact ⟨0, by decide, h0⟩
  by_cases h1 : x = 1
  · exact ⟨1, by decide, h1⟩
  by_cases h2 : x = 2
  · exact ⟨2, by decide, h2⟩
  by_cases h3 : x = 3
  · exact ⟨3, by decide, h3⟩
  by_cases h4 : x = 4
  · exact ⟨4, by decide, h4⟩
  rw [if_neg h0, if_neg h1, if_neg h2, if_neg h3, if_neg h4] at h
  exact absurd rfl h
def standO (w : rw84) (p k : Int32) : oT := if inF p 0 6 = 0 then bad w else if k = -1 then (w (17 + ix p), standF w (ix p) k, none) else if inF k 0 (w 1 - 1) = 0 then bad w else (w (17 + ix p), standF w (ix p) k, none)
def placeO (w : rw84) (p x : Int32) : oT := if inF p 0 6 = 0 then bad w else if x = 0 then (w (17 + ix p), w, none) else if x = 1 then (w (24 + ix p), w, none) else if x = 2 then (w (31 + ix p), w, none) else if x = 3 then (forceF w (ix p), w, none) else bad w
def theirsO (w : rw84) (p x v : Int32) : oT := if inF p 0 6 = 0 then bad w else if inF x 1 2 = 0 then bad w else if inF v 0 99 = 0 then bad w else if x = 1 then (w (24 + ix p), upd w (24 + ix p) v, none) else (w (31 + ix p), upd w (31 + ix p) v, none)
def setO (w : rw84) (x v : Int32) : oT := if inF x 0 2 = 0 then bad w else if inF v 0 (if x = 2 then 4 else 9) = 0 then bad w else (w (4 + ix x), upd w (4 + ix x) v, none)
def callO (w : rw84) (a v : Int32) : oT := if inF a 0 5 = 0 then bad w else if inF v 0 999 = 0 then bad w else (w (38 + ix a), upd w (38 + ix a) v, none)
def listedO (w : rw84) (a : Int32) : oT := if inF a 0 5 = 0 then bad w else (w (38 + ix a), w, none)
def saysO (w : rw84) (a cd : Int32) : oT := if inF a 0 999 = 0 then bad w else if inF cd 0 4 = 0 then bad w else (saysF a cd, w, none)
def jumperO (w : rw84) (k t : Int32) : oT := if inF k 0 6 = 0 then bad w else if inF t 0 99 = 0 then bad w else if w 1 = 8 then (-1000002, w, some 1) else (w 1, comeF w (ix (w 1)) k t, none)
def ofO (w : rw84) (j x : Int32) : oT := if inF j 0 (w 1 - 1) = 0 then bad w else if inF x 0 7 = 0 then bad w else if 5 ≤ x then (if x = 5 then (highF w (ix j), w, none) else if x = 6 then (tireF w (ix j), w, none) else (oI (stN w j 7), w, none)) else (w (44 + 5 * ix j + ix x), w, none)
def changeO (w : rw84) (j x v : Int32) : oT := if inF j 0 (w 1 - 1) = 0 then bad w else if fldF x v = 0 then bad w else (w (44 + 5 * ix j + ix x), upd w (44 + 5 * ix j + ix x) v, none)
def gainsO (w : rw84) (j p : Int32) : oT := if inF j 0 (w 1 - 1) = 0 then bad w else if inF p 0 6 = 0 then bad w else (gainF w (ix j) p, w, none)
def goO (w : rw84) (n : Int32) : oT := if inF n 1 60 = 0 then bad w else if w 0 + n ≤ 99999 then (thrN w (ix n) 3, thrN w (ix n), none) else (-1000005, w, some 4)
def nowO (w : rw84) (x : Int32) : oT := if x = 0 then (w 0, w, none) else if x = 1 then (w 3, w, none) else if x = 2 then (sumF w 3 (ix (w 1)), w, none) else if x = 3 then (sumF w 4 (ix (w 1)), w, none) else if x = 4 then (nextF w, w, none) else if x = 5 then (wonF w 7, w, none) else if x = 6 then (saidF w 63 6, w, none) else bad w
def aheadO (w : rw84) (j x n : Int32) : oT := if inF j 0 (w 1 - 1) = 0 then bad w else if inF x 2 5 = 0 then bad w else if inF n 0 100 = 0 then bad w else if x = 5 then (highF (thrN w (ix n)) (ix j), w, none) else (thrN w (ix n) (44 + 5 * ix j + ix x), w, none)
def metresO (w : rw84) (n : Int32) : oT := if inF n 0 100 = 0 then bad w else (thrN w (ix n) 3, w, none)
/-- the first place, from n on, of r at most, where b holds -/
def untilF (b : Nat → Bool) : Nat → Nat → Nat
  | 0, n => n
  | r + 1, n => if b n = true then n else untilF b r (n + 1)
def whenR (b : Nat → Bool) : Int32 := if b (untilF b 100 0) = true then nI (untilF b 100 0) else -1
def noneO (w : rw84) (r : Int32) : oT := if 0 ≤ r then (r, w, none) else (-1000004, w, some 3)
def whenO (w : rw84) (j v : Int32) : oT := if inF j 0 (w 1 - 1) = 0 then bad w else if inF v 0 9999 = 0 then bad w else noneO w (whenR (fun n => decide (v ≤ thrN w n (44 + 5 * ix j + 3))))
def knownO (w : rw84) : oT := noneO w (whenR (fun n => decide (wonF (thrN w n) 7 = 0)))
theorem un_le (b : Nat → Bool) : ∀ r n, untilF b r n ≤ n + r
  | 0, n => Nat.le_refl _
  | r + 1, n => by
    rw [untilF]
    split
    · omega
    · have := un_le b r (n + 1)
      omega
theorem un_hit {b : Nat → Bool} {k N : Nat} (hk : k ≤ N) (h : b k = true) : untilF b (N - k) k = k := by
  cases e : N - k with
  | zero => rfl
  | succ r => rw [untilF, if_pos h]
theorem un_go {b : Nat → Bool} {k N : Nat} (hk : k < N) (h : ¬ b k = true) : untilF b (N - k) k = untilF b (N - (k + 1)) (k + 1) := by
  rw [show N - k = N - (k + 1) + 1 by omega, untilF, if_neg h]
theorem sc_self (w : rw84) (M : mM) : (w, M) = (w, ur M 2 (M 2)) := by rw [ur_self]
theorem mFind_ur (M : mM) (k : Nat) (g : rw84) : mFind (ur M 2 g) k = ur (mFind M k) 2 g := by
  funext z
  match z with
  | 0 => rfl
  | 1 => rfl
  | 2 => rfl
  | 3 => rfl
  | 4 => rfl
  | z + 5 => rfl
theorem wh_yes {b : Nat → Bool} {k : Nat} (hN : untilF b 100 0 = k) (h : b k = true) : nI k = whenR b := by rw [whenR, hN, if_pos h]
theorem wh_no {b : Nat → Bool} {k : Nat} (hN : untilF b 100 0 = k) (h : ¬ b k = true) : -1 = whenR b := by rw [whenR, hN, if_neg h]
theorem none_ret (w w' : rw84) (M : mM) (r : Int32) : (if 0 ≤ r then r else -1000004) = (noneO w r).1 ∧ ∃ g, (w, if 0 ≤ r then ur M 2 w' else mFind (ur M 2 w') 3) = ((noneO w r).2.1, ur (fnd (noneO w r).2.2 M) 2 g) := by
  unfold noneO
  by_cases h : 0 ≤ r
  · rw [if_pos h, if_pos h, if_pos h]
    exact ⟨rfl, w', rfl⟩
  · rw [if_neg h, if_neg h, if_neg h]
    exact ⟨rfl, w', by rw [mFind_ur]; rfl⟩
