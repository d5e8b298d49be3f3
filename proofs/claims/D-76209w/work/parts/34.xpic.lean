/-! the class's objects as a picture: four worlds (0 d, 1 kept, 2 aside, 3 told) of 84 numbers each, X k the contents of the other fields, sp what the spots hold, sh the sheets -/
set_option maxRecDepth 100000
abbrev wF (aw : Nat → Nat) (w : rw84) : List Value := [.ref (aw 1), .ref (aw 2), .ref (aw 5), .ref (aw 6), .int (w 3), .int (w 1), .ref (aw 7), .int (w 0), .int (w 2), .ref (aw 13)]
/-- the parts of a world that are arrays of ints: where in the row their numbers lie, how many -/
def wpos (k i : Nat) : Nat := if k = 1 then 17 + i else if k = 3 then 24 + i else if k = 4 then 31 + i else if k = 5 then 4 + i else if k = 6 then 38 + i else if k = 13 then 7 + i else 44 + 5 * i + (k - 8)
def wlen (k : Nat) : Nat := if k = 1 then 7 else if k = 3 then 7 else if k = 4 then 7 else if k = 5 then 3 else if k = 6 then 6 else if k = 13 then 10 else if 8 ≤ k ∧ k ≤ 12 then 8 else 0
def wpart (q : Nat) : Nat := if q < 4 then 0 else if q < 7 then 5 else if q < 17 then 13 else if q < 24 then 1 else if q < 31 then 3 else if q < 38 then 4 else if q < 44 then 6 else 8 + (q - 44) % 5
def windx (q : Nat) : Nat := if q < 4 then q else if q < 7 then q - 4 else if q < 17 then q - 7 else if q < 24 then q - 17 else if q < 31 then q - 24 else if q < 38 then q - 31 else if q < 44 then q - 38 else (q - 44) / 5
theorem wpos_inv : ∀ k, k < 16 → ∀ i, i < wlen k → wpart (wpos k i) = k ∧ windx (wpos k i) = i ∧ 4 ≤ wpos k i ∧ wpos k i < 84 := by decide +kernel
def wP (G : nG) (aw : Nat → Nat) (w : rw84) : Nat → Option (Nat × va_E)
  | 0 => some (aw 0, .inr (4, wF aw w))
  | 1 => some (aw 1, .inl (G.2.1 0, 7, .inl (fun p => w (17 + p))))
  | 2 => some (aw 2, .inl (G.2.1 4, 2, .inr (.inr (.inr (.inr (fun i => some (aw (3 + i))))))))
  | 3 => some (aw 3, .inl (G.2.1 0, 7, .inl (fun p => w (24 + p))))
  | 4 => some (aw 4, .inl (G.2.1 0, 7, .inl (fun p => w (31 + p))))
  | 5 => some (aw 5, .inl (G.2.1 0, 3, .inl (fun p => w (4 + p))))
  | 6 => some (aw 6, .inl (G.2.1 0, 6, .inl (fun p => w (38 + p))))
  | 7 => some (aw 7, .inl (G.2.1 4, 5, .inr (.inr (.inr (.inr (fun i => some (aw (8 + i))))))))
  | 8 => some (aw 8, .inl (G.2.1 0, 8, .inl (fun p => w (44 + 5 * p + 0))))
  | 9 => some (aw 9, .inl (G.2.1 0, 8, .inl (fun p => w (44 + 5 * p + 1))))
  | 10 => some (aw 10, .inl (G.2.1 0, 8, .inl (fun p => w (44 + 5 * p + 2))))
  | 11 => some (aw 11, .inl (G.2.1 0, 8, .inl (fun p => w (44 + 5 * p + 3))))
  | 12 => some (aw 12, .inl (G.2.1 0, 8, .inl (fun p => w (44 + 5 * p + 4))))
  | 13 => some (aw 13, .inl (G.2.1 0, 10, .inl (fun p => w (7 + p))))
  | _ => none
theorem wP_arr (G : nG) (aw : Nat → Nat) (w : rw84) : ∀ k, k < 16 → 0 < wlen k → wP G aw w k = some (aw k, .inl (G.2.1 0, wlen k, .inl (fun p => w (wpos k p))))
  | 1, _, _ => rfl
  | 3, _, _ => rfl
  | 4, _, _ => rfl
  | 5, _, _ => rfl
  | 6, _, _ => rfl
  | 8, _, _ => rfl
  | 9, _, _ => rfl
  | 10, _, _ => rfl
  | 11, _, _ => rfl
  | 12, _, _ => rfl
  | 13, _, _ => rfl
/-- the rows of a jumper by number -/
theorem wP_row (G : nG) (aw : Nat → Nat) (w : rw84) {r : Nat} (hr : r < 5) : wP G aw w (8 + r) = some (aw (8 + r), .inl (G.2.1 0, 8, .inl (fun p => w (44 + 5 * p + r)))) := by
  match r, hr with
  | 0, _ => rfl
  | 1, _ => rfl
  | 2, _ => rfl
  | 3, _ => rfl
  | 4, _ => rfl
theorem wP_oth (G : nG) (aw : Nat → Nat) (w v : rw84) (h : ∀ q, q < 4 → w q = v q) : ∀ k, k < 16 → wlen k = 0 → wP G aw w k = wP G aw v k
  | 0, _, _ => by show some _ = some _; unfold wF; rw [h 0 (by decide), h 1 (by decide), h 2 (by decide), h 3 (by decide)]
  | 2, _, _ => rfl
  | 7, _, _ => rfl
  | 14, _, _ => rfl
  | 15, _, _ => rfl
  | n + 16, hk, _ => absurd hk (by omega)
/-- how many fields of a kind of jumper hold the outer object -/
def jN : Nat → Nat
  | 0 => 1
  | 1 => 2
  | 2 => 2
  | 3 => 3
  | 4 => 4
  | 5 => 2
  | _ => 3
abbrev xSh : Type := Nat → Option (Nat × Nat × Nat × (Nat → Int32))
abbrev xSp : Type := Nat → Option Nat
abbrev xWs : Type := Nat → rw84
abbrev xF0 (ad : Nat → Nat) (X : mM) : List Value := [.ref (ad 65), .ref (ad 66), .int (X 2 0), .ref (ad 0), .ref (ad 16), .ref (ad 32), .int (X 6 0), .ref (ad 69), .ref (ad 70), .ref (ad 71), .ref (ad 72), .int (X 11 0)]
abbrev xF1 (X : mM) : List Value := [.null, .null, .null, .null, .null, .int 0, .int (X 20 0)]
abbrev xF2 (ad : Nat → Nat) (X : mM) : List Value := [.ref (ad 67), .ref (ad 68), .ref (ad 48), .int (X 33 0), .int (X 34 0), .int (X 35 0), .int (X 36 0), .int (X 37 0)]
def xP (G : nG) (ad : Nat → Nat) (X : mM) : Nat → Option (Nat × va_E)
  | 64 => some (ad 64, .inr (0, xF0 ad X))
  | 65 => some (ad 65, .inr (1, xF1 X))
  | 66 => some (ad 66, .inr (2, xF2 ad X))
  | 67 => some (ad 67, .inr (3, [.null, .null, .null, .null, .null, .int 0]))
  | 68 => some (ad 68, .inl (G.2.1 1, 120, .inl (X 31)))
  | 69 => some (ad 69, .inl (G.2.1 3, 56, .inr (.inr (.inr (.inr (fun i => some (ad (100 + i))))))))
  | 70 => some (ad 70, .inl (G.2.1 3, 10, .inr (.inr (.inr (.inr (fun i => some (ad (300 + i))))))))
  | 71 => some (ad 71, .inl (G.2.1 3, 4, .inr (.inr (.inr (.inr (fun i => some (ad (310 + i))))))))
  | 72 => some (ad 72, .inl (G.2.1 0, 7, .inl (X 10)))
  | _ => none
def xE (G : nG) (ad : Nat → Nat) (W : xWs) (X : mM) (sp : xSp) (sh : xSh) : nE := fun n =>
  if n < 64 then wP G (fun k => ad (16 * (n / 16) + k)) (W (n / 16)) (n % 16)
  else if n < 100 then xP G ad X n
  else if n < 156 then some (ad n, .inr (5, [.ref (ad (n + 100))]))
  else if n < 200 then none
  else if n < 256 then some (ad n, .inr (6 + (n - 200) / 8, .int (nI ((n - 200) % 8)) :: List.replicate (jN ((n - 200) / 8)) (.ref (ad 64))))
  else if n < 300 then none
  else if n < 310 then some (ad n, .inr (5, [va_rf (sp (n - 300))]))
  else if n < 314 then some (ad n, .inr (5, [va_rf ((sh (n - 310)).map (fun q => q.1))]))
  else if n < 320 then none
  else if n < 324 then (sh (n - 320)).map (fun q => (q.1, .inl (G.2.1 q.2.1, q.2.2.1, .inl q.2.2.2)))
  else none
section XP
variable {G : nG} {ad : Nat → Nat} {W : xWs} {X : mM} {sp : xSp} {sh : xSh}
theorem xw (j : Nat) (k : Nat) (hj : j < 4 := by first | decide | assumption) (hk : k < 16 := by decide) : xE G ad W X sp sh (16 * j + k) = wP G (fun k => ad (16 * j + k)) (W j) k := by
  have h1 : (16 * j + k) / 16 = j := by omega
  have h2 : (16 * j + k) % 16 = k := by omega
  unfold xE
  rw [if_pos (by omega), h1, h2]
theorem xw_row (j : Nat) (r : Nat) (hj : j < 4) (hr : r < 5) : xE G ad W X sp sh (16 * j + (8 + r)) = some (ad (16 * j + (8 + r)), .inl (G.2.1 0, 8, .inl (fun p => W j (44 + 5 * p + r)))) := by
  rw [xw j (8 + r) hj (by omega), wP_row G _ _ hr]
theorem xp (n : Nat) (h0 : ¬ n < 64 := by decide) (h1 : n < 100 := by decide) : xE G ad W X sp sh n = xP G ad X n := by
  unfold xE
  rw [if_neg h0, if_pos h1]
theorem xslot (i : Nat) (hi : i < 56) : xE G ad W X sp sh (100 + i) = some (ad (100 + i), .inr (5, [.ref (ad (200 + i))])) := by
  unfold xE
  rw [if_neg (by omega), if_neg (by omega), if_pos (by omega)]
  rw [show 100 + i + 100 = 200 + i by omega]
theorem xjump (kd k : Nat) (hd : kd < 7) (hk : k < 8) : xE G ad W X sp sh (200 + (8 * kd + k)) = some (ad (200 + (8 * kd + k)), .inr (6 + kd, .int (nI k) :: List.replicate (jN kd) (.ref (ad 64)))) := by
  unfold xE
  rw [if_neg (by omega), if_neg (by omega), if_neg (by omega), if_neg (by omega), if_pos (by omega)]
  have h1 : (200 + (8 * kd + k) - 200) / 8 = kd := by omega
  have h2 : (200 + (8 * kd + k) - 200) % 8 = k := by omega
  rw [h1, h2]
theorem xspot (i : Nat) (hi : i < 10) : xE G ad W X sp sh (300 + i) = some (ad (300 + i), .inr (5, [va_rf (sp i)])) := by
  unfold xE
  rw [if_neg (by omega), if_neg (by omega), if_neg (by omega), if_neg (by omega), if_neg (by omega), if_neg (by omega), if_pos (by omega), Nat.add_sub_cancel_left]
theorem xshs (i : Nat) (hi : i < 4) : xE G ad W X sp sh (310 + i) = some (ad (310 + i), .inr (5, [va_rf ((sh i).map (fun q => q.1))])) := by
  unfold xE
  rw [if_neg (by omega), if_neg (by omega), if_neg (by omega), if_neg (by omega), if_neg (by omega), if_neg (by omega), if_neg (by omega), if_pos (by omega), Nat.add_sub_cancel_left]
theorem xsha (i : Nat) (hi : i < 4) : xE G ad W X sp sh (320 + i) = (sh i).map (fun q => (q.1, .inl (G.2.1 q.2.1, q.2.2.1, .inl q.2.2.2))) := by
  unfold xE
  rw [if_neg (by omega), if_neg (by omega), if_neg (by omega), if_neg (by omega), if_neg (by omega), if_neg (by omega), if_neg (by omega), if_neg (by omega), if_neg (by omega), if_pos (by omega), Nat.add_sub_cancel_left]
theorem xE_hi (W' : xWs) (n : Nat) (h : ¬ n < 64) : xE G ad W X sp sh n = xE G ad W' X sp sh n := by
  unfold xE
  rw [if_neg h, if_neg h]
/-- a world's row changed: the picture of the world that is left -/
theorem xE_world {E : nE} {s : State} {H : Heap} {locs : List Loc} {j : Nat} {w' : rw84} (hj : j < 4) (h : nS G E s H locs) (ho : ∀ n, ¬ n / 16 = j → E n = xE G ad W X sp sh n) (hk : ∀ k, k < 16 → wP G (fun k => ad (16 * j + k)) w' k = E (16 * j + k) ∨ ∃ (a : Nat) (c : ClassId) (n : Nat) (f g : Nat → Int32), E (16 * j + k) = some (a, .inl (c, n, .inl f)) ∧ wP G (fun k => ad (16 * j + k)) w' k = some (a, .inl (c, n, .inl g)) ∧ ∀ i, i < n → f i = g i) : nS G (xE G ad (va_up W j w') X sp sh) s H locs := by
  refine h.cong (fun n => ?_)
  by_cases hn : n / 16 = j
  · have e : n = 16 * j + n % 16 := by omega
    have hw := xw (G := G) (ad := ad) (W := va_up W j w') (X := X) (sp := sp) (sh := sh) j (n % 16) hj (by omega)
    rw [va_up_self] at hw
    rw [e, hw]
    exact hk (n % 16) (by omega)
  · refine Or.inl ?_
    rw [ho n hn]
    by_cases h64 : n < 64
    · unfold xE
      rw [if_pos h64, if_pos h64, va_up_ne _ _ hn]
    · exact xE_hi _ _ h64
theorem xE_W {s : State} {H : Heap} {locs : List Loc} {j : Nat} {w' : rw84} (hj : j < 4) (h : nS G (xE G ad W X sp sh) s H locs) (e : ∀ q, q < 84 → W j q = w' q) : nS G (xE G ad (va_up W j w') X sp sh) s H locs := by
  refine xE_world hj h (fun _ _ => rfl) (fun k hk => ?_)
  rw [xw j k hj hk]
  by_cases h0 : wlen k = 0
  · exact Or.inl (wP_oth G _ _ _ (fun q hq => (e q (by omega)).symm) k hk h0)
  · refine Or.inr ⟨_, _, _, _, _, wP_arr G _ _ k hk (by omega), wP_arr G _ _ k hk (by omega), fun i hi => e _ (wpos_inv k hk i hi).2.2.2⟩
/-- one number of an array of a world -/
theorem xE_arr {s : State} {H : Heap} {locs : List Loc} {j k i : Nat} {x : Int32} (hj : j < 4) (hk : k < 16) (hi : i < wlen k) (h : nS G (va_up (xE G ad W X sp sh) (16 * j + k) (some (ad (16 * j + k), .inl (G.2.1 0, wlen k, .inl (upd (fun p => W j (wpos k p)) i x))))) s H locs) : nS G (xE G ad (va_up W j (upd (W j) (wpos k i) x)) X sp sh) s H locs := by
  have hv := wpos_inv k hk i hi
  refine xE_world hj h (fun n hn => va_up_ne _ _ (by omega)) (fun k' hk' => ?_)
  by_cases hkk : k' = k
  · subst hkk
    rw [va_up_self]
    refine Or.inr ⟨_, _, _, _, _, rfl, wP_arr G _ _ k' hk (by omega), fun q hq => ?_⟩
    by_cases hqi : q = i
    · subst hqi; simp [upd]
    · have h1 := wpos_inv k' hk q hq
      have : wpos k' q ≠ wpos k' i := fun z => hqi (by rw [← h1.2.1, z]; exact hv.2.1)
      simp [upd, hqi, this]
  · rw [va_up_ne _ _ (by omega), xw j k' hj hk']
    by_cases h0 : wlen k' = 0
    · refine Or.inl (wP_oth G _ _ _ (fun q hq => ?_) k' hk' h0)
      have : q ≠ wpos k i := by omega
      simp [upd, this]
    · refine Or.inr ⟨_, _, _, _, _, wP_arr G _ _ k' hk' (by omega), wP_arr G _ _ k' hk' (by omega), fun q hq => ?_⟩
      have h1 := wpos_inv k' hk' q hq
      have : wpos k' q ≠ wpos k i := fun z => hkk (by rw [← h1.1, z]; exact hv.1)
      simp [upd, this]
def wfld (f : Nat) : Nat := if f = 4 then 3 else if f = 5 then 1 else if f = 7 then 0 else 2
/-- one number of a world's object -/
theorem xE_fld {s : State} {H : Heap} {locs : List Loc} {j f : Nat} {x : Int32} (hj : j < 4) (hf : f = 4 ∨ f = 5 ∨ f = 7 ∨ f = 8) (h : nS G (va_up (xE G ad W X sp sh) (16 * j + 0) (some (ad (16 * j + 0), .inr (4, (wF (fun k => ad (16 * j + k)) (W j)).set f (.int x))))) s H locs) : nS G (xE G ad (va_up W j (upd (W j) (wfld f) x)) X sp sh) s H locs := by
  refine xE_world hj h (fun n hn => va_up_ne _ _ (by omega)) (fun k' hk' => ?_)
  have hq : wfld f < 4 := by rcases hf with rfl | rfl | rfl | rfl <;> decide
  by_cases hkk : k' = 0
  · subst hkk
    rw [va_up_self]
    refine Or.inl ?_
    rcases hf with rfl | rfl | rfl | rfl <;> rfl
  · rw [va_up_ne _ _ (by omega), xw j k' hj hk']
    by_cases h0 : wlen k' = 0
    · refine Or.inl ?_
      match k', hk', h0 with
      | 0, _, _ => exact absurd rfl hkk
      | 2, _, _ => rfl
      | 7, _, _ => rfl
      | 14, _, _ => rfl
      | 15, _, _ => rfl
      | n + 16, q, _ => exact absurd q (by omega)
    · refine Or.inr ⟨_, _, _, _, _, wP_arr G _ _ k' hk' (by omega), wP_arr G _ _ k' hk' (by omega), fun q hq' => ?_⟩
      have h1 := wpos_inv k' hk' q hq'
      have : wpos k' q ≠ wfld f := by omega
      simp [upd, this]
end XP
