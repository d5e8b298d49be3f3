/-! sheets, told ends, images: what is answered. wd, sz, nb: widths, sizes, numbers (40 a sheet) -/
set_option maxRecDepth 100000
/-- nothing changed but what is put down on the way -/
def mSc (M M' : mM) : Prop := M' 1 = M 1 ∧ M' 3 = M 3 ∧ M' 4 = M 4 ∧ M' 7 = M 7 ∧ M' 8 = M 8 ∧ M' 21 = M 21 ∧ M' 22 = M 22 ∧ M' 23 = M 23
theorem mSc.rf (M : mM) : mSc M M := ⟨rfl, rfl, rfl, rfl, rfl, rfl, rfl, rfl⟩
theorem mSc.aside (M : mM) (g : rw84) : mSc M (ur M 2 g) := ⟨rfl, rfl, rfl, rfl, rfl, rfl, rfl, rfl⟩
theorem mSc.fit (M : mM) (g : rw84) (a b : Int32) : mSc M (fM M g a b) := ⟨rfl, rfl, rfl, rfl, rfl, rfl, rfl, rfl⟩
theorem mSc.find {M M' : mM} (h : mSc M M') (k : Nat) : mSc (mFind M k) (mFind M' k) := by
  obtain ⟨h1, h2, h3, h4, h5, h6, h7, h8⟩ := h
  refine ⟨h1, h2, ?_, h4, h5, h6, h7, h8⟩
  show upd (upd (M' 4) (k + 1) (M' 4 (k + 1) + 1)) 0 (upd (M' 4) (k + 1) (M' 4 (k + 1) + 1) 0 + 1) = upd (upd (M 4) (k + 1) (M 4 (k + 1) + 1)) 0 (upd (M 4) (k + 1) (M 4 (k + 1) + 1) 0 + 1)
  rw [h3]
theorem ur_of {M : mM} {k : Nat} {f : rw84} (h : M k = f) : ur M k f = M := by
  subst h
  exact ur_self M k
theorem u2_ur (M : mM) (k i : Nat) (f : rw84) (v : Int32) : u2 (ur M k f) k i v = ur M k (upd f i v) := by
  show va_up (va_up M k f) k (upd (va_up M k f k) i v) = va_up M k (upd f i v)
  rw [va_up_self, bx_uu]
def lackF (wd : rw84) (t g : Int32) : Int32 := if inF t 0 3 = 0 then -1000001 else if wd (ix t) = 0 then -1000006 else if g = 0 then -1000001 else 0
/-- which finding a lack is -/
def lk (l : Int32) : Nat := ix (-1000001 - l)
theorem lack_in {wd : rw84} {t g : Int32} (h : lackF wd t g = 0) : ∃ q, q < 4 ∧ t = nI q := by
  unfold lackF at h
  by_cases e : inF t 0 3 = 0
  · rw [if_pos e] at h
    exact absurd h (by decide)
  · obtain ⟨q, h1, h2⟩ := in_nat (N := 3) rfl (by decide) e
    exact ⟨q, by omega, h2⟩
theorem lack_no {wd : rw84} {t g : Int32} (h : ¬ lackF wd t g = 0) : lk (lackF wd t g) < 7 ∧ -1000001 - lackF wd t g + 1 = nI (lk (lackF wd t g) + 1) := by
  have two : lackF wd t g = -1000001 ∨ lackF wd t g = -1000006 := by
    unfold lackF at h ⊢
    split
    · exact Or.inl rfl
    · rename_i h1
      rw [if_neg h1] at h
      split
      · exact Or.inr rfl
      · rename_i h2
        rw [if_neg h2] at h
        split
        · exact Or.inl rfl
        · rename_i h3
          rw [if_neg h3] at h
          exact absurd rfl h
  rcases two with e | e
  · rw [e]; decide
  · rw [e]; decide
theorem lack_g {wd : rw84} {t g : Int32} (h : lackF wd t g = 0) : ¬ g = 0 := by
  intro e
  unfold lackF at h
  split at h
  · exact absurd h (by decide)
  · split at h
    · exact absurd h (by decide)
    · first | (rw [if_pos e] at h; exact absurd h (by decide)) | exact absurd h (by decide)
def shR (nb : rw84) (t : Int32) : Nat → Int32 := fun k => nb (40 * ix t + k)
theorem shR_at {nb : rw84} {t : Int32} {q : Nat} (h : ix t = q) : shR nb t = fun k => nb (40 * q + k) := by
  unfold shR
  rw [h]
def codesO (w wd sz nb : rw84) (t : Int32) : oT := if lackF wd t 1 = 0 then (orF (fun v => soR (shR nb t) (ix (sz (ix t))) 0 (upd w 6 (nI v))) 5, w, none) else (lackF wd t 1, w, some (lk (lackF wd t 1)))
def fitG (w sz nb : rw84) (t k : Int32) : Nat → Int32 := fun v => soR (shR nb t) (ix (sz (ix t))) 0 (upd w (44 + 5 * ix k + 1) (nI v))
def fitsO (w wd sz nb : rw84) (t k : Int32) : oT := if lackF wd t (inF k 0 (w 1 - 1)) = 0 then ((fitF (fitG w sz nb t k) 100).1, w, none) else (lackF wd t (inF k 0 (w 1 - 1)), w, some (lk (lackF wd t (inF k 0 (w 1 - 1)))))
def tallO (w wd sz nb : rw84) (t k : Int32) : oT := if lackF wd t (inF k 0 (w 1 - 1)) = 0 then noneO w (fitF (fitG w sz nb t k) 100).2 else (lackF wd t (inF k 0 (w 1 - 1)), w, some (lk (lackF wd t (inF k 0 (w 1 - 1)))))
def kindsO (w wd sz nb : rw84) (t k : Int32) : oT := if lackF wd t (inF k 0 (w 1 - 1)) = 0 then (orF (fun v => soR (shR nb t) (ix (sz (ix t))) 0 (upd w (44 + 5 * ix k + 0) (nI v))) 7, w, none) else (lackF wd t (inF k 0 (w 1 - 1)), w, some (lk (lackF wd t (inF k 0 (w 1 - 1)))))
def ldR (f : Nat → Int32) : Nat → Nat → rw84 → Nat × rw84
  | 0, k, w => (k, w)
  | r + 1, k, w => if inF (f k) 0 999 = 0 then (k, w) else ldR f r (k + 1) (upd w (38 + k) (f k))
def loadO (w wd sz nb : rw84) (t : Int32) : oT := if lackF wd t 1 = 0 then (nI (ldR (shR nb t) (min (ix (sz (ix t))) 6) 0 w).1, (ldR (shR nb t) (min (ix (sz (ix t))) 6) 0 w).2, none) else (lackF wd t 1, w, some (lk (lackF wd t 1)))
def jdR (f : Nat → Int32) (w : rw84) : Nat → Nat → Nat
  | 0, k => k
  | r + 1, k => if inF (nI k) 0 (w 1 - 1) = 0 then k else if f k = w (44 + 5 * k + 3) then jdR f w r (k + 1) else k
def judgeO (w wd sz nb : rw84) (t : Int32) : oT := if lackF wd t 1 = 0 then (if nI (jdR (shR nb t) w (ix (sz (ix t))) 0) = sz (ix t) then 0 else 1 + nI (jdR (shR nb t) w (ix (sz (ix t))) 0), w, none) else (lackF wd t 1, w, some (lk (lackF wd t 1)))
abbrev sT : Type := Int32 × Option Nat × rw84 × rw84 × rw84
def okB (b : Int32) : Int32 := if b = 0 then 1 else if b = 8 then 1 else if b = 16 then 1 else if b = 32 then 1 else 0
def znF (nb : rw84) (t : Nat) : Nat → rw84
  | 0 => nb
  | k + 1 => upd (znF nb t k) (40 * t + k) 0
def sheetO (wd sz nb : rw84) (t b n : Int32) : sT := if inF t 0 3 = 0 then (-1000001, some 0, wd, sz, nb) else if okB b = 0 then (-1000001, some 0, wd, sz, nb) else if 0 ≤ n then (if n ≤ 40 then ((if b = 0 then 0 else n), none, upd wd (ix t) b, upd sz (ix t) (if b = 0 then 0 else n), znF nb (ix t) 40) else (-1000001, some 0, wd, sz, nb)) else (-1000007, some 6, wd, sz, nb)
def writeO (wd sz nb : rw84) (t a v : Int32) : sT := if inF t 0 3 = 0 then (-1000001, some 0, wd, sz, nb) else if wd (ix t) = 0 then (-1000006, some 5, wd, sz, nb) else if inF a 0 (sz (ix t) - 1) = 0 then (-1000001, some 0, wd, sz, nb) else (1, none, wd, sz, upd nb (40 * ix t + ix a) (cutF v (wd (ix t))))
def shM (M : mM) (x : rw84 × rw84 × rw84) : mM := ur (ur (ur M 21 x.1) 22 x.2.1) 23 x.2.2
theorem shM_self (M : mM) : shM M (M 21, M 22, M 23) = M := by
  unfold shM
  rw [ur_self, ur_self, ur_self]
theorem in_sz {v x : Int32} {n : Nat} (en : x = nI n) (hn : n ≤ 40) (h : ¬ inF v 0 (x - 1) = 0) : ∃ j, j < n ∧ v = nI j := by
  subst en
  cases n with
  | zero =>
    exfalso
    apply h
    unfold inF
    by_cases h1 : v < 0
    · exact if_pos h1
    · rw [if_neg h1, if_pos]
      rw [Int32.lt_iff_toInt_lt] at h1 ⊢
      have : (nI 0 - 1).toInt = -1 := by decide
      have z : (0 : Int32).toInt = 0 := by decide
      omega
  | succ n =>
    rw [nI_pred] at h
    obtain ⟨q, h1, h2⟩ := in_nat rfl (by omega) h
    exact ⟨q, by omega, h2⟩
/-- counts, findings -/
def heldF (w : rw84) : Nat → Int32
  | 0 => 0
  | q + 1 => heldF w q + (if 0 ≤ w (7 + q) then 1 else 0)
def countO (w : rw84) (tp : Int32) (x : Int32) : oT := if x = 0 then (w 0, w, none) else if x = 1 then (w 1, w, none) else if x = 2 then (w 3, w, none) else if x = 3 then (sumF w 3 (ix (w 1)), w, none) else if x = 4 then (sumF w 4 (ix (w 1)), w, none) else if x = 5 then (tp, w, none) else if x = 6 then (w 2, w, none) else if x = 7 then (heldF w 10, w, none) else bad w
theorem tall_ret (w g : rw84) (M : mM) (a r : Int32) : (if 0 ≤ r then r else -1000004) = (noneO w r).1 ∧ w = (noneO w r).2.1 ∧ mSc (fnd (noneO w r).2.2 M) (if 0 ≤ r then fM M g a r else mFind (fM M g a r) 3) := by
  unfold noneO
  by_cases h : 0 ≤ r
  · rw [if_pos h, if_pos h, if_pos h]
    exact ⟨rfl, rfl, mSc.fit _ _ _ _⟩
  · rw [if_neg h, if_neg h, if_neg h]
    exact ⟨rfl, rfl, (mSc.fit M g a r).find 3⟩
