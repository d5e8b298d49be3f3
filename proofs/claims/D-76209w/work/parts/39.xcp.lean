/-! parts of a world copied from another -/
set_option maxRecDepth 100000
def pcp (k : Nat) (v w : rw84) : rw84 := fun q => if wpart q = k then v q else w q
def rcp (b r : Nat) (v w : rw84) : rw84 := fun q => if b ≤ wpart q ∧ wpart q < b + r then v q else w q
theorem rcp_0 (b : Nat) (v w : rw84) : rcp b 0 v w = w := by
  funext q
  unfold rcp
  rw [if_neg (by omega)]
theorem rcp_s (b r : Nat) (v w : rw84) : pcp (b + r) v (rcp b r v w) = rcp b (r + 1) v w := by
  funext q
  unfold pcp rcp
  by_cases h : wpart q = b + r
  · rw [if_pos h, if_pos (by omega)]
  · rw [if_neg h]
    by_cases h2 : b ≤ wpart q ∧ wpart q < b + r
    · rw [if_pos h2, if_pos (by omega)]
    · rw [if_neg h2, if_neg (by omega)]
theorem wpart_lo : ∀ q, q < 4 → wpart q = 0 := by decide
section XC
variable {G : nG} {ad : Nat → Nat} {V : xWs} {X : mM} {sp : xSp} {sh : xSh} {i j : Nat} {w v : rw84}
theorem xE_cpy {s : State} {H : Heap} {locs : List Loc} {k : Nat} {g : Nat → Int32} (hj : j < 4) (hk : k < 16) (h0 : 0 < wlen k) (h : nS G (va_up (xE G ad (va_up V j w) X sp sh) (16 * j + k) (some (ad (16 * j + k), .inl (G.2.1 0, wlen k, .inl (va_cpy (fun p => v (wpos k p)) g 0 0 (wlen k)))))) s H locs) : nS G (xE G ad (va_up V j (pcp k v w)) X sp sh) s H locs := by
  have hk0 : k ≠ 0 := by rintro rfl; exact absurd h0 (by decide)
  rw [show va_up V j (pcp k v w) = va_up (va_up V j w) j (pcp k v w) from (va_up_up _ _ _ _).symm]
  refine xE_world hj h (fun n hn => va_up_ne _ _ (by omega)) (fun k' hk' => ?_)
  by_cases hkk : k' = k
  · subst hkk
    rw [va_up_self]
    refine Or.inr ⟨_, _, _, _, _, rfl, wP_arr G _ _ k' hk h0, fun q hq => ?_⟩
    have h1 := wpos_inv k' hk q hq
    unfold va_cpy pcp
    rw [if_pos ⟨Nat.zero_le _, by omega⟩, if_pos h1.1]
    simp
  · rw [va_up_ne _ _ (by omega), xwv hj k' hk']
    by_cases h00 : wlen k' = 0
    · refine Or.inl (wP_oth G _ _ _ (fun q hq => ?_) k' hk' h00)
      unfold pcp
      rw [if_neg (by rw [wpart_lo q hq]; omega)]
    · refine Or.inr ⟨_, _, _, _, _, wP_arr G _ _ k' hk' (by omega), wP_arr G _ _ k' hk' (by omega), fun q hq => ?_⟩
      have h1 := wpos_inv k' hk' q hq
      unfold pcp
      rw [if_neg (by rw [h1.1]; exact hkk)]
theorem xo {n : Nat} (hi : i < 4) {b o : Nat} (hbo : (b = 3 ∧ o = 2 ∧ n = 2) ∨ (b = 8 ∧ o = 7 ∧ n = 5)) : xE G ad V X sp sh (16 * i + o) = some (ad (16 * i + o), .inl (G.2.1 4, n, .inr (.inr (.inr (.inr (fun r => some (ad (16 * i + (b + r))))))))) := by
  rcases hbo with ⟨rfl, rfl, rfl⟩ | ⟨rfl, rfl, rfl⟩
  · exact xw i 2 hi
  · exact xw i 7 hi
theorem bo_len {n b o r : Nat} (hbo : (b = 3 ∧ o = 2 ∧ n = 2) ∨ (b = 8 ∧ o = 7 ∧ n = 5)) (hr : r < n) : b + r < 16 ∧ 0 < wlen (b + r) ∧ wlen (b + r) < 2 ^ 31 := by
  rcases hbo with ⟨rfl, rfl, rfl⟩ | ⟨rfl, rfl, rfl⟩
  · match r, hr with
    | 0, _ => decide
    | 1, _ => decide
  · match r, hr with
    | 0, _ => decide
    | 1, _ => decide
    | 2, _ => decide
    | 3, _ => decide
    | 4, _ => decide
theorem xr_j (hj : j < 4) {k : Nat} (hk : k < 16) (h0 : 0 < wlen k) : xE G ad (va_up V j w) X sp sh (16 * j + k) = some (ad (16 * j + k), .inl (G.2.1 0, wlen k, .inl (fun p => w (wpos k p)))) := (xwv hj k hk).trans (wP_arr G _ _ k hk h0)
theorem xr_i (hi : i < 4) (hij : i ≠ j) (hV : V i = v) {k : Nat} (hk : k < 16) (h0 : 0 < wlen k) : xE G ad (va_up V j w) X sp sh (16 * i + k) = some (ad (16 * i + k), .inl (G.2.1 0, wlen k, .inl (fun p => v (wpos k p)))) := by
  rw [xw i k hi hk, va_up_ne _ _ hij, hV]
  exact wP_arr G _ _ k hk h0
theorem xwi (hi : i < 4) (hij : i ≠ j) (hV : V i = v) (k : Nat) (hk : k < 16 := by decide) : xE G ad (va_up V j w) X sp sh (16 * i + k) = wP G (fun k => ad (16 * i + k)) v k := by
  rw [xw i k hi hk, va_up_ne _ _ hij, hV]
end XC
/-- all parts taken over -/
def allcp (v w : rw84) : rw84 := pcp 13 v (upd (upd (rcp 8 5 v (upd (upd (pcp 6 v (pcp 5 v (rcp 3 2 v (pcp 1 v w)))) 3 (v 3)) 1 (v 1))) 0 (v 0)) 2 (v 2))
theorem wpart_all : ∀ q, q < 84 → q < 4 ∨ wpart q = 13 ∨ wpart q = 1 ∨ wpart q = 3 ∨ wpart q = 4 ∨ wpart q = 5 ∨ wpart q = 6 ∨ (8 ≤ wpart q ∧ wpart q < 13 ∧ 4 ≤ q) := by decide
theorem allcp_eq (v w : rw84) : ∀ q, q < 84 → allcp v w q = v q := by
  intro q hq
  have key := wpart_all q hq
  unfold allcp
  have up : ∀ (f : rw84) (k : Nat) (x : Int32), upd f k x q = if q = k then x else f q := fun _ _ _ => rfl
  simp only [pcp, rcp, up]
  repeat' split
  all_goals first | rfl | (exfalso; omega) | (subst_vars; rfl)
