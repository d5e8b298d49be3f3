/-! texts: tokens and items, shared. b: the bytes, -1 beyond the end -/
set_option maxRecDepth 100000
/-- kind (0 end, 1 word, 2 number, 3 sign), begin, end, value -/
abbrev Tok : Type := Nat × Nat × Nat × Nat
def runF (P : Int32 → Bool) (b : Nat → Int32) : Nat → Nat → Nat
  | 0, p => p
  | f + 1, p => if P (b p) = true then runF P b f (p + 1) else p
def runE (P : Int32 → Bool) (b : Nat → Int32) (p : Nat) : Nat := runF P b (120 - p) p
section RUN
variable {P : Int32 → Bool} {b : Nat → Int32} {p : Nat}
theorem runE_go (hp : p < 120) (h : P (b p) = true) : runE P b (p + 1) = runE P b p := by
  unfold runE
  rw [show 120 - p = 120 - (p + 1) + 1 by omega, runF, if_pos h]
theorem runE_stop (h : ¬ P (b p) = true) : runE P b p = p := by
  unfold runE
  cases 120 - p with
  | zero => rfl
  | succ f => rw [runF, if_neg h]
theorem runF_in : ∀ (f p : Nat), p ≤ runF P b f p ∧ runF P b f p ≤ p + f ∧ ∀ i, p ≤ i → i < runF P b f p → P (b i) = true
  | 0, p => ⟨Nat.le_refl _, Nat.le_refl _, fun i h1 h2 => by rw [runF] at h2; omega⟩
  | f + 1, p => by
    rw [runF]
    by_cases h : P (b p) = true
    · rw [if_pos h]
      obtain ⟨h1, h2, h3⟩ := runF_in f (p + 1)
      refine ⟨by omega, by omega, fun i h4 h5 => ?_⟩
      by_cases e : i = p
      · rw [e]; exact h
      · exact h3 i (by omega) h5
    · rw [if_neg h]
      exact ⟨Nat.le_refl _, by omega, fun i h4 h5 => by omega⟩
theorem runE_ge : p ≤ runE P b p := (runF_in _ _).1
theorem runE_le (hp : p ≤ 120) : runE P b p ≤ 120 := by
  have := (runF_in (P := P) (b := b) (120 - p) p).2.1
  unfold runE
  omega
theorem runE_all {i : Nat} (h1 : p ≤ i) (h2 : i < runE P b p) : P (b i) = true := (runF_in _ _).2.2 i h1 h2
theorem runF_end (h : ¬ P (b 120) = true) : ∀ (f p : Nat), p + f = 120 → ¬ P (b (runF P b f p)) = true
  | 0, p, e => by rw [runF, show p = 120 by omega]; exact h
  | f + 1, p, e => by
    rw [runF]
    by_cases hp : P (b p) = true
    · rw [if_pos hp]; exact runF_end h f (p + 1) (by omega)
    · rw [if_neg hp]; exact hp
theorem runE_end (h : ¬ P (b 120) = true) (hp : p ≤ 120) : ¬ P (b (runE P b p)) = true := runF_end h _ _ (by omega)
end RUN
def isSp (x : Int32) : Bool := decide (x = 32)
def isLe (x : Int32) : Bool := decide (¬ inF x 97 122 = 0)
def isDg (x : Int32) : Bool := decide (¬ inF x 48 57 = 0)
def dgN (x : Int32) : Nat := ix (x - 48)
/-- what the digits from p on count, up to 1000 -/
def vN (b : Nat → Int32) (p : Nat) : Nat → Nat
  | 0 => 0
  | n + 1 => min 1000 (10 * vN b p n + dgN (b (p + n)))
def tokF (b : Nat → Int32) (p : Nat) : Tok :=
  if b (runE isSp b p) < 0 then (0, runE isSp b p, runE isSp b p, 0)
  else if isLe (b (runE isSp b p)) = true then (1, runE isSp b p, runE isLe b (runE isSp b p), 0)
  else if isDg (b (runE isSp b p)) = true then (2, runE isSp b p, runE isDg b (runE isSp b p), vN b (runE isSp b p) (runE isDg b (runE isSp b p) - runE isSp b p))
  else (3, runE isSp b p, runE isSp b p + 1, 0)
/-- bytes: as such, and nothing from len on -/
def Byt (b : Nat → Int32) (len : Nat) : Prop := len ≤ 120 ∧ (∀ k, k < len → ∃ c, c < 256 ∧ b k = nI c) ∧ ∀ k, len ≤ k → b k = -1
section BYT
variable {b : Nat → Int32} {len p : Nat}
theorem Byt.end (h : Byt b len) : b 120 = -1 := h.2.2 120 h.1
theorem Byt.neg (h : Byt b len) {k : Nat} : b k < 0 ↔ len ≤ k := by
  constructor
  · intro hk
    rcases Nat.lt_or_ge k len with o | o
    · obtain ⟨c, hc, e⟩ := h.2.1 k o
      rw [e] at hk
      exact absurd hk (nI_pos (by omega))
    · exact o
  · intro hk
    rw [h.2.2 k hk]
    decide
theorem Byt.sp (h : Byt b len) (hp : p ≤ 120) : runE isSp b p ≤ 120 ∧ p ≤ runE isSp b p ∧ ¬ b (runE isSp b p) = 32 := by
  refine ⟨runE_le hp, runE_ge, fun e => ?_⟩
  exact runE_end (P := isSp) (b := b) (by rw [h.end]; decide) hp (decide_eq_true e)
theorem Byt.lt (h : Byt b len) {k : Nat} (hk : ¬ b k < 0) : k < len := by
  rcases Nat.lt_or_ge k len with o | o
  · exact o
  · exact absurd (h.neg.mpr o) hk
theorem le_nn {x : Int32} (h : isLe x = true) : ∃ c, 97 ≤ c ∧ c ≤ 122 ∧ x = nI c := by
  have h := of_decide_eq_true h
  unfold inF at h
  by_cases h1 : x < 97
  · rw [if_pos h1] at h; exact absurd rfl h
  · rw [if_neg h1] at h
    by_cases h2 : 122 < x
    · rw [if_pos h2] at h; exact absurd rfl h
    · have z : (97 : Int32).toInt = 97 := by decide
      have z2 : (122 : Int32).toInt = 122 := by decide
      rw [Int32.lt_iff_toInt_lt] at h1 h2
      exact ⟨x.toInt.toNat, by omega, by omega, Int32.toInt_inj.mp (by rw [nI_toInt (by omega)]; omega)⟩
theorem dg_nn {x : Int32} (h : isDg x = true) : ∃ c, c ≤ 9 ∧ x = nI (48 + c) ∧ dgN x = c := by
  have h := of_decide_eq_true h
  unfold inF at h
  by_cases h1 : x < 48
  · rw [if_pos h1] at h; exact absurd rfl h
  · rw [if_neg h1] at h
    by_cases h2 : 57 < x
    · rw [if_pos h2] at h; exact absurd rfl h
    · have z : (48 : Int32).toInt = 48 := by decide
      have z2 : (57 : Int32).toInt = 57 := by decide
      rw [Int32.lt_iff_toInt_lt] at h1 h2
      obtain ⟨c, hc, e⟩ : ∃ c, c ≤ 9 ∧ x = nI (48 + c) := ⟨x.toInt.toNat - 48, by omega, Int32.toInt_inj.mp (by rw [nI_toInt (by omega)]; omega)⟩
      refine ⟨c, hc, e, ?_⟩
      unfold dgN ix
      rw [e, show (48 : Int32) = nI 48 from rfl, pk_sub (by omega), nI_clamp (by omega)]
      omega
theorem Byt.le120 (h : Byt b len) : ¬ isLe (b 120) = true := by rw [h.end]; decide
theorem Byt.dg120 (h : Byt b len) : ¬ isDg (b 120) = true := by rw [h.end]; decide
/-- where a token lies -/
theorem tok_in (h : Byt b len) (hp : p ≤ 120) : p ≤ (tokF b p).2.1 ∧ (tokF b p).2.1 ≤ 120 ∧ (tokF b p).2.1 ≤ (tokF b p).2.2.1 ∧ (tokF b p).2.2.1 ≤ 120 ∧ (tokF b p).1 ≤ 3 ∧ (tokF b p).2.2.2 ≤ 1000 ∧ (¬ (tokF b p).1 = 0 → (tokF b p).2.1 < (tokF b p).2.2.1) := by
  obtain ⟨h1, h2, h3⟩ := h.sp hp
  unfold tokF
  by_cases h0 : b (runE isSp b p) < 0
  · rw [if_pos h0]
    exact ⟨h2, h1, Nat.le_refl _, h1, (by decide : (0 : Nat) ≤ 3), (by decide : (0 : Nat) ≤ 1000), fun q => absurd rfl q⟩
  · have hl := h.lt h0
    have hlen := h.1
    rw [if_neg h0]
    by_cases h4 : isLe (b (runE isSp b p)) = true
    · rw [if_pos h4]
      have g := runE_go (P := isLe) (b := b) (p := runE isSp b p) (by omega) h4
      have g2 := runE_ge (P := isLe) (b := b) (p := runE isSp b p + 1)
      exact ⟨h2, h1, runE_ge, runE_le h1, (by decide : (1 : Nat) ≤ 3), (by decide : (0 : Nat) ≤ 1000), fun _ => by dsimp only; omega⟩
    · rw [if_neg h4]
      by_cases h5 : isDg (b (runE isSp b p)) = true
      · rw [if_pos h5]
        have g := runE_go (P := isDg) (b := b) (p := runE isSp b p) (by omega) h5
        have g2 := runE_ge (P := isDg) (b := b) (p := runE isSp b p + 1)
        have hv : ∀ n, vN b (runE isSp b p) n ≤ 1000 := by
          intro n
          cases n with
          | zero => exact Nat.zero_le _
          | succ n => exact Nat.min_le_left _ _
        exact ⟨h2, h1, runE_ge, runE_le h1, (by decide : (2 : Nat) ≤ 3), hv _, fun _ => by dsimp only; omega⟩
      · rw [if_neg h5]
        exact ⟨h2, h1, by dsimp only; omega, by dsimp only; omega, (by decide : (3 : Nat) ≤ 3), by dsimp only; omega, fun _ => by dsimp only; omega⟩
end BYT
/-- which of the texts a key is -/
def kS (k : Nat) : Nat := if k < 7 then k + 1 else if k < 12 then k + 3 else k - 4
def sL (s : Nat) : Nat := skL.getD s 0
def sB (s i : Nat) : Int32 := (skB.getD s []).getD i 0
def allB (f : Nat → Bool) : Nat → Bool
  | 0 => true
  | n + 1 => allB f n && f n
theorem allB_iff (f : Nat → Bool) : ∀ n, allB f n = true ↔ ∀ i, i < n → f i = true
  | 0 => ⟨fun _ i hi => absurd hi (Nat.not_lt_zero _), fun _ => rfl⟩
  | n + 1 => by
    rw [allB, Bool.and_eq_true, allB_iff f n]
    constructor
    · rintro ⟨h1, h2⟩ i hi
      by_cases e : i = n
      · rw [e]; exact h2
      · exact h1 i (by omega)
    · intro h
      exact ⟨fun i hi => h i (by omega), h n (Nat.lt_succ_self _)⟩
/-- the n bytes from p on are text s -/
def isW (b : Nat → Int32) (p n s : Nat) : Bool := decide (n = sL s) && allB (fun i => decide (b (p + i) = sB s i)) n
theorem isW_iff {b : Nat → Int32} {p n s : Nat} : isW b p n s = true ↔ n = sL s ∧ ∀ i, i < n → b (p + i) = sB s i := by
  unfold isW
  rw [Bool.and_eq_true, allB_iff, decide_eq_true_iff]
  constructor
  · rintro ⟨h1, h2⟩
    exact ⟨h1, fun i hi => of_decide_eq_true (h2 i hi)⟩
  · rintro ⟨h1, h2⟩
    exact ⟨h1, fun i hi => decide_eq_true (h2 i hi)⟩
def tW (b : Nat → Int32) (t : Tok) (s : Nat) : Bool := decide (t.1 = 1) && isW b t.2.1 (t.2.2.1 - t.2.1) s
def txC (s r : Nat) : Bool := decide (s = 0) || decide (r = 0) || decide (s = r) || !decide (sL s = sL r) || !allB (fun i => decide (sB s i = sB r i)) (sL s)
theorem txC_all : ∀ s, s < 15 → ∀ r, r < 15 → txC s r = true := by decide +kernel
theorem txt_ne {s r : Nat} (hs : s < 15) (hr : r < 15) (h : s ≠ r) (hl : sL s = sL r) (h0 : 0 < s) (h1 : 0 < r) : ¬ ∀ i, i < sL s → sB s i = sB r i := by
  intro g
  have k := txC_all s hs r hr
  unfold txC at k
  rw [decide_eq_false (by omega : ¬ s = 0), decide_eq_false (by omega : ¬ r = 0), decide_eq_false h, decide_eq_true hl, (allB_iff _ _).mpr (fun i hi => decide_eq_true (g i hi))] at k
  cases k
theorem tW_one {b : Nat → Int32} {t : Tok} {s r : Nat} (hs : s < 15) (hr : r < 15) (h0 : 0 < s) (h1 : 0 < r) (a : tW b t s = true) (c : tW b t r = true) : s = r := by
  unfold tW at a c
  rw [Bool.and_eq_true, isW_iff] at a c
  by_cases e : s = r
  · exact e
  · exact absurd (fun i hi => (a.2.2 i (by omega)).symm.trans (c.2.2 i (by omega))) (txt_ne hs hr e (a.2.1.symm.trans c.2.1) h0 h1)
def kyF (b : Nat → Int32) (t : Tok) : Nat → Nat → Nat
  | 0, k => k
  | f + 1, k => if tW b t (kS k) = true then k else kyF b t f (k + 1)
/-- which key a token is; 14: none -/
def keyF (b : Nat → Int32) (t : Tok) : Nat := kyF b t 14 0
theorem kS_inj : ∀ k, k < 14 → ∀ j, j < 14 → kS k = kS j → k = j := by decide
theorem kS_in : ∀ k, k < 14 → kS k < 15 ∧ 0 < kS k := by decide
section KEY
variable {b : Nat → Int32} {t : Tok}
theorem kyF_go {k : Nat} (hk : k < 14) (h : ¬ tW b t (kS k) = true) : kyF b t (14 - (k + 1)) (k + 1) = kyF b t (14 - k) k := by
  rw [show 14 - k = 14 - (k + 1) + 1 by omega, kyF, if_neg h]
theorem kyF_hit {k : Nat} (hk : k < 14) (h : tW b t (kS k) = true) : kyF b t (14 - k) k = k := by
  rw [show 14 - k = 14 - (k + 1) + 1 by omega, kyF, if_pos h]
theorem kyF_in : ∀ (f k : Nat), k + f = 14 → (kyF b t f k ≤ 14 ∧ k ≤ kyF b t f k ∧ (kyF b t f k < 14 → tW b t (kS (kyF b t f k)) = true) ∧ ∀ j, k ≤ j → j < kyF b t f k → ¬ tW b t (kS j) = true)
  | 0, k, e => ⟨by rw [kyF]; omega, Nat.le_refl _, fun h => by rw [kyF] at h; omega, fun j h1 h2 => by rw [kyF] at h2; omega⟩
  | f + 1, k, e => by
    rw [kyF]
    by_cases h : tW b t (kS k) = true
    · rw [if_pos h]
      exact ⟨by omega, Nat.le_refl _, fun _ => h, fun j h1 h2 => by omega⟩
    · rw [if_neg h]
      obtain ⟨h1, h2, h3, h4⟩ := kyF_in f (k + 1) (by omega)
      refine ⟨h1, by omega, h3, fun j h5 h6 => ?_⟩
      by_cases ej : j = k
      · rw [ej]; exact h
      · exact h4 j (by omega) h6
theorem keyF_le : keyF b t ≤ 14 := (kyF_in 14 0 rfl).1
theorem keyF_yes (h : keyF b t < 14) : tW b t (kS (keyF b t)) = true := (kyF_in 14 0 rfl).2.2.1 h
theorem keyF_at {k : Nat} (hk : k < 14) (h : tW b t (kS k) = true) : keyF b t = k := by
  obtain ⟨h1, -, h3, h4⟩ := kyF_in (b := b) (t := t) 14 0 rfl
  rcases Nat.lt_trichotomy (keyF b t) k with o | o | o
  · have hk' : keyF b t < 14 := by omega
    have e := tW_one (kS_in (keyF b t) hk').1 (kS_in k hk).1 (kS_in (keyF b t) hk').2 (kS_in k hk).2 (keyF_yes hk') h
    exact kS_inj _ hk' k hk e
  · exact o
  · exact absurd h (h4 k (Nat.zero_le _) o)
theorem keyF_iff {k : Nat} (hk : k < 14) : keyF b t = k ↔ tW b t (kS k) = true := ⟨fun h => by rw [← h]; exact keyF_yes (by omega), keyF_at hk⟩
theorem keyF_no (h : ¬ t.1 = 1) : keyF b t = 14 := by
  have h1 := keyF_le (b := b) (t := t)
  rcases Nat.lt_or_ge (keyF b t) 14 with o | o
  · have := keyF_yes o
    unfold tW at this
    rw [Bool.and_eq_true] at this
    exact absurd (of_decide_eq_true this.1) h
  · omega
end KEY
/-- does the class take the token -/
def okT (b : Nat → Int32) (t : Tok) : Bool := decide (t.1 = 0) || (decide (t.1 = 1) && decide (keyF b t < 14)) || (decide (t.1 = 2) && decide (t.2.2.2 ≤ 999)) || (decide (t.1 = 3) && decide (b t.2.1 = 59))
/-- a number up to hi -/
def nmB (t : Tok) (hi : Nat) : Bool := decide (t.1 = 2) && decide (t.2.2.2 ≤ hi)
abbrev nx (b : Nat → Int32) (t : Tok) : Tok := tokF b t.2.2.1
abbrev Itm : Type := Nat × Option Nat × Nat
def tallP (b : Nat → Int32) (k : Nat) (a : Option Nat) (t : Tok) : Nat ⊕ (Itm × Tok) := if keyF b t = 13 then (if nmB (nx b t) 99 = true then .inr ((k, a, (nx b t).2.2.2), nx b (nx b t)) else .inl (nx b t).2.1) else .inr ((k, a, 50), t)
def jumpP (b : Nat → Int32) (tk : Nat → Bool) (k : Nat) (t : Tok) : Nat ⊕ (Itm × Tok) := if keyF b t = 12 then (if (nmB (nx b t) 6 && !tk (nx b t).2.2.2) = true then tallP b k (some (nx b t).2.2.2) (nx b (nx b t)) else .inl (nx b t).2.1) else tallP b k none t
def oneP (b : Nat → Int32) (x hi : Nat) (t : Tok) : Nat ⊕ (Itm × Tok) := if nmB (nx b t) hi = true then .inr ((x, some (nx b t).2.2.2, 0), nx b (nx b t)) else .inl (nx b t).2.1
def twoP (b : Nat → Int32) (x h1 h2 : Nat) (t : Tok) : Nat ⊕ (Itm × Tok) := if nmB (nx b t) h1 = true then (if nmB (nx b (nx b t)) h2 = true then .inr ((x, some (nx b t).2.2.2, (nx b (nx b t)).2.2.2), nx b (nx b (nx b t))) else .inl (nx b (nx b t)).2.1) else .inl (nx b t).2.1
/-- an item at token t: where it is wrong, or the item and the token behind it -/
def itemP (b : Nat → Int32) (nj : Nat) (tk : Nat → Bool) (t : Tok) : Nat ⊕ (Itm × Tok) :=
  if keyF b t < 7 then (if nj < 8 then jumpP b tk (keyF b t) (nx b t) else .inl t.2.1)
  else if keyF b t = 7 then twoP b 10 6 99 t else if keyF b t = 8 then twoP b 11 5 999 t else if keyF b t = 9 then oneP b 12 4 t else if keyF b t = 10 then oneP b 13 9 t else if keyF b t = 11 then oneP b 14 9 t else .inl t.2.1
/-- an item told to the row -/
def apF (w : rw84) (q : Itm) : rw84 :=
  if q.1 = 10 then upd w (24 + q.2.1.getD 0) (nI q.2.2) else if q.1 = 11 then upd w (38 + q.2.1.getD 0) (nI q.2.2) else if q.1 = 12 then upd w 6 (nI (q.2.1.getD 0)) else if q.1 = 13 then upd w 4 (nI (q.2.1.getD 0)) else if q.1 = 14 then upd w 5 (nI (q.2.1.getD 0))
  else match q.2.1 with
    | none => comeF w (ix (w 1)) (nI q.1) (nI q.2.2)
    | some a => upd (comeF w (ix (w 1)) (nI q.1) (nI q.2.2)) (17 + a) (w 1)
def tkW (w : rw84) (p : Nat) : Bool := decide (¬ w (17 + p) = -1)
/-- the whole text: where it is wrong, or how many items and the row -/
def wholeP (b : Nat → Int32) : Nat → rw84 → Nat → Tok → Nat ⊕ (Nat × rw84)
  | 0, _, _, t => .inl t.2.1
  | f + 1, w, n, t => match itemP b (ix (w 1)) (tkW w) t with
    | .inl p => .inl p
    | .inr q => if (decide (q.2.1 = 3) && decide (b q.2.2.1 = 59)) = true then wholeP b f (apF w q.1) (n + 1) (nx b q.2) else if q.2.1 = 0 then .inr (n + 1, apF w q.1) else .inl q.2.2.1
/-- what the text is answered with, and the row -/
def textO (b : Nat → Int32) (w : rw84) : Int32 × rw84 := match wholeP b 121 w 0 (tokF b 0) with
  | .inl p => (-1 - nI p, w)
  | .inr q => (nI q.1, q.2)
