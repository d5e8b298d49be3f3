/-! what always holds, under single changes; further public methods -/
set_option maxRecDepth 100000
/-- a number that may stand in a place of the line or in a spot -/
def Who (w : rw84) (v : Int32) : Prop := v = -1 ∨ ∃ k n, w 1 = nI n ∧ n ≤ 8 ∧ k < n ∧ v = nI k
theorem Inv.setv {B : Nat} {w : rw84} (h : Inv B w) (i : Nat) (v : Int32) (c0 : i = 0 → ∃ n, n ≤ B ∧ v = nI n) (c1 : i ≠ 1) (cl : (17 ≤ i ∧ i < 24) ∨ (7 ≤ i ∧ i < 17) → Who w v) (ca : 38 ≤ i → i < 44 → ∃ c, c ≤ 999 ∧ v = nI c) (c6 : i = 6 → ∃ c, c ≤ 4 ∧ v = nI c) (ck : ∀ j, j < 8 → i = 44 + 5 * j + 0 → ∃ k, k ≤ 6 ∧ v = nI k) (ct : ∀ j, j < 8 → i = 44 + 5 * j + 2 → ∃ k, k ≤ 99 ∧ v = nI k) (c3 : i = 3 → ∃ k, k ≤ 99999 ∧ v = nI k) (c4 : i = 4 → ∃ k, k ≤ 9 ∧ v = nI k) : Inv B (upd w i v) := by
  obtain ⟨h0, ⟨n, hn, en, hl, hh⟩, h5, h6, h7, h8, h3, h9⟩ := h
  have who : Who w v → v = -1 ∨ ∃ k, k < n ∧ v = nI k := by
    rintro (q | ⟨k, n', e1, e2, e3, e4⟩)
    · exact Or.inl q
    · have : n' = n := (nI_eq (by omega) (by omega)).mp (e1.symm.trans en)
      subst this
      exact Or.inr ⟨k, e3, e4⟩
  have pick : ∀ (j : Nat) (P : Int32 → Prop), (j = i → P v) → P (w j) → P (upd w i v j) := by
    intro j P a b
    by_cases e : j = i
    · rw [e, pk_us]; exact a e
    · rw [up_ne e]; exact b
  refine ⟨pick 0 (fun x => ∃ n, n ≤ B ∧ x = nI n) (fun e => c0 e.symm) h0, ⟨n, hn, ?_, fun p hp => ?_, fun q hq => ?_⟩, fun a ha => ?_, ?_, fun j hj => ?_, fun j hj => ?_, ?_, ?_⟩
  · rw [up_ne (Ne.symm c1)]; exact en
  · exact pick _ (fun x => x = -1 ∨ ∃ k, k < n ∧ x = nI k) (fun e => who (cl (by omega))) (hl p hp)
  · exact pick _ (fun x => x = -1 ∨ ∃ k, k < n ∧ x = nI k) (fun e => who (cl (by omega))) (hh q hq)
  · exact pick _ (fun x => ∃ c, c ≤ 999 ∧ x = nI c) (fun e => ca (by omega) (by omega)) (h5 a ha)
  · exact pick 6 (fun x => ∃ c, c ≤ 4 ∧ x = nI c) (fun e => c6 e.symm) h6
  · exact pick _ (fun x => ∃ k, k ≤ 6 ∧ x = nI k) (fun e => ck j hj e.symm) (h7 j hj)
  · exact pick _ (fun x => ∃ k, k ≤ 99 ∧ x = nI k) (fun e => ct j hj e.symm) (h8 j hj)
  · exact pick 3 (fun x => ∃ k, k ≤ 99999 ∧ x = nI k) (fun e => c3 e.symm) h3
  · exact pick 4 (fun x => ∃ k, k ≤ 9 ∧ x = nI k) (fun e => c4 e.symm) h9
section IU
variable {B : Nat} {w : rw84}
theorem Inv.code (h : Inv B w) {v : Nat} (hv : v ≤ 4) : Inv B (upd w 6 (nI v)) := h.setv 6 _ (fun e => by omega) (by omega) (fun e => by omega) (fun _ _ => by omega) (fun _ => ⟨v, hv, rfl⟩) (fun j _ e => by omega) (fun j _ e => by omega) (fun e => by omega) (fun e => by omega)
theorem Inv.called (h : Inv B w) {i v : Nat} (hi : i < 6) (hv : v ≤ 999) : Inv B (upd w (38 + i) (nI v)) := h.setv _ _ (fun e => by omega) (by omega) (fun e => by omega) (fun _ _ => ⟨v, hv, rfl⟩) (fun _ => by omega) (fun j _ e => by omega) (fun j _ e => by omega) (fun e => by omega) (fun e => by omega)
theorem Inv.kindU (h : Inv B w) {j v : Nat} (hj : j < 8) (hv : v ≤ 6) : Inv B (upd w (44 + 5 * j + 0) (nI v)) := h.setv _ _ (fun e => by omega) (by omega) (fun e => by omega) (fun _ _ => by omega) (fun _ => by omega) (fun j _ e => ⟨v, hv, rfl⟩) (fun j _ e => by omega) (fun e => by omega) (fun e => by omega)
theorem Inv.tallU (h : Inv B w) {j : Nat} (x : Int32) (hj : j < 8) : Inv B (upd w (44 + 5 * j + 1) x) := h.setv _ _ (fun e => by omega) (by omega) (fun e => by omega) (fun _ _ => by omega) (fun _ => by omega) (fun j _ e => by omega) (fun j _ e => by omega) (fun e => by omega) (fun e => by omega)
theorem Inv.windU (h : Inv B w) {v : Nat} (hv : v ≤ 9) : Inv B (upd w 4 (nI v)) := h.setv _ _ (fun e => by omega) (by omega) (fun e => by omega) (fun _ _ => by omega) (fun _ => by omega) (fun j _ e => by omega) (fun j _ e => by omega) (fun e => by omega) (fun _ => ⟨v, hv, rfl⟩)
theorem Inv.lineU (h : Inv B w) {q : Nat} {v : Int32} (hq : q < 7) (hv : Who w v) : Inv B (upd w (17 + q) v) := h.setv _ _ (fun e => by omega) (by omega) (fun e => hv) (fun _ _ => by omega) (fun _ => by omega) (fun j _ e => by omega) (fun j _ e => by omega) (fun e => by omega) (fun e => by omega)
theorem Inv.drawU (h : Inv B w) : Inv B (drawF w) := h.setv _ _ (fun e => by omega) (by omega) (fun e => by omega) (fun _ _ => by omega) (fun _ => by omega) (fun j _ e => by omega) (fun j _ e => by omega) (fun e => by omega) (fun e => by omega)
theorem Inv.whoAt (h : Inv B w) {q : Nat} (hq : q < 7) : Who w (w (17 + q)) := by
  obtain ⟨n, hn, en, hl, -⟩ := h.2.1
  rcases hl q hq with e | ⟨k, hk, e⟩
  · exact Or.inl e
  · exact Or.inr ⟨k, n, en, hn, hk, e⟩
theorem Who.setv {v x : Int32} {i : Nat} (h : Who w v) (hi : 1 ≠ i) : Who (upd w i x) v := by
  rcases h with e | ⟨k, n, e1, e2, e3, e4⟩
  · exact Or.inl e
  · exact Or.inr ⟨k, n, by rw [up_ne hi]; exact e1, e2, e3, e4⟩
theorem Inv.ch (h : Inv B w) {q : Nat} {v : Int32} (hq : q < 7) (hv : Who w v) : Inv B (chF w q v) := by
  unfold chF
  split
  · exact h.lineU hq hv
  · rename_i a ha
    have ha7 : a < 7 := stN_lt ha
    split
    · exact h.lineU hq hv
    · exact (h.lineU hq hv).lineU ha7 ((h.whoAt hq).setv (by omega))
end IU
def codeForO (w : rw84) (n : Int32) : oT := if inF n 0 40 = 0 then bad w else ((bestF (fun v => thrN (upd w 6 (nI v)) (ix n) 3) 5).1, w, none)
def callForO (w : rw84) (n : Int32) : oT := if inF n 0 10 = 0 then bad w else ((bestF (fun v => thrN (upd w (38 + ix (rm (w 0) 6)) (nI v)) (ix n) 3) 1000).1, w, none)
def standForO (w : rw84) (j n : Int32) : oT := if inF j 0 (w 1 - 1) = 0 then bad w else if inF n 0 40 = 0 then bad w else ((bestF (fun v => thrN (chF w v j) (ix n) 3) 7).1, w, none)
def kindForO (w : rw84) (j n : Int32) : oT := if inF j 0 (w 1 - 1) = 0 then bad w else if inF n 0 40 = 0 then bad w else ((bestF (fun v => thrN (upd w (44 + 5 * ix j + 0) (nI v)) (ix n) (44 + 5 * ix j + 3)) 7).1, w, none)
/-- the least of 0 .. 99 with which g is not under v; none: -1 -/
def tlF (g : Nat → Int32) (v : Int32) : Nat → Int32
  | 0 => -1
  | i + 1 => if g (99 - i) < v then tlF g v i else nI (99 - i)
def tallForO (w : rw84) (j v n : Int32) : oT := if inF j 0 (w 1 - 1) = 0 then bad w else if inF v 0 9999 = 0 then bad w else if inF n 0 40 = 0 then bad w else noneO w (tlF (fun t => thrN (upd w (44 + 5 * ix j + 1) (nI t)) (ix n) (44 + 5 * ix j + 3)) v 100)
def cvF (w : rw84) : Nat → Int32
  | 0 => 63
  | i + 1 => if saidF w (nI (63 - i)) 6 = saidF w 63 6 then (if bitsF (cvF w i) < bitsF (nI (63 - i)) then cvF w i else nI (63 - i)) else cvF w i
def coverO (w : rw84) : oT := (cvF w 64, w, none)
def dw (N i : Nat) : Int32 := if i ≤ N then nI (N - i) else -1
section DK
variable {N i : Nat}
theorem dw_at (h : i ≤ N) : dw N i = nI (N - i) := if_pos h
theorem dw_pos (h : ¬ dw N i < 0) : i ≤ N := by
  by_cases e : i ≤ N
  · exact e
  · exact absurd (by rw [dw, if_neg e]; decide) h
theorem dw_neg (hN : N < 2 ^ 31) (h : dw N i < 0) : N < i := by
  by_cases e : i ≤ N
  · rw [dw_at e] at h
    exact absurd h (nI_pos (by omega))
  · omega
theorem dw_s (h : i ≤ N) : dw N i + Int32.ofInt (-1) = dw N (i + 1) := by
  rw [dw_at h]
  by_cases e : i + 1 ≤ N
  · rw [dw_at e, show N - i = N - (i + 1) + 1 by omega]
    exact pk_m1 _
  · have : i = N := by omega
    subst this
    rw [Nat.sub_self, dw, if_neg e]
    decide
end DK
def orF (g : Nat → Int32) : Nat → Int32
  | 0 => 0
  | v + 1 => orF g v ||| (if g v = 0 then (0 : Int32) else (1 : Int32) <<< (nI v &&& 31))
def mixF (w : rw84) : rw84 :=
  let b := upd (drawF w) (38 + ix (rm (w 0) 6)) (rm (drawR w) 1000)
  thrF (upd (drawF b) 4 (rm (drawR b) 10))
def mixN (w : rw84) : Nat → rw84
  | 0 => w
  | k + 1 => mixF (mixN w k)
theorem drawR_nat (w : rw84) : ∃ a, a < 2 ^ 31 ∧ drawR w = nI a := by
  have h := pk_ushr (drawF w 2) 8 8 (by decide)
  refine ⟨(drawF w 2).toBitVec.toNat / 2 ^ 8, ?_, ?_⟩
  · have := (drawF w 2).toBitVec.isLt
    omega
  · apply Int32.toBitVec_inj.mp
    apply BitVec.eq_of_toNat_eq
    have h2 := (drawF w 2).toBitVec.isLt
    rw [pk_tn (by omega)]
    exact h
theorem Inv.mid {B : Nat} {w : rw84} (h : Inv B w) (hB : B < 2 ^ 30) : Inv B (upd (drawF (upd (drawF w) (38 + ix (rm (w 0) 6)) (rm (drawR w) 1000))) 4 (rm (drawR (upd (drawF w) (38 + ix (rm (w 0) 6)) (rm (drawR w) 1000))) 10)) := by
  obtain ⟨n, hn, en⟩ := h.thr
  obtain ⟨a, ha, ea⟩ := drawR_nat w
  have e1 : rm (drawR w) 1000 = nI (a % 1000) := nI_rm ha (by decide) (by decide) ea rfl
  rw [next_eq (by omega) en, ix, nI_clamp (by omega), e1]
  obtain ⟨c, hc, ec⟩ := drawR_nat (upd (drawF w) (38 + n % 6) (nI (a % 1000)))
  have e2 : rm (drawR (upd (drawF w) (38 + n % 6) (nI (a % 1000)))) 10 = nI (c % 10) := nI_rm hc (by decide) (by decide) ec rfl
  rw [e2]
  have := Nat.mod_lt a (show 0 < 1000 by decide)
  have := Nat.mod_lt c (show 0 < 10 by decide)
  exact ((h.drawU.called (Nat.mod_lt _ (by decide)) (by omega)).drawU).windU (by omega)
theorem Inv.mixed {B : Nat} {w : rw84} (h : Inv B w) (hB : B < 2 ^ 30) : Inv (B + 1) (mixF w) := (h.mid hB).thrown hB
theorem Inv.mixN {B : Nat} {w : rw84} (h : Inv B w) : ∀ {k : Nat}, B + k < 2 ^ 30 → Inv (B + k) (mixN w k)
  | 0, _ => h
  | k + 1, hk => (Inv.mixN h (by omega)).mixed (by omega)
def mixO (w : rw84) (n : Int32) : oT := if inF n 1 20 = 0 then bad w else if w 0 + n ≤ 99999 then (mixN w (ix n) 3, mixN w (ix n), none) else (-1000005, w, some 4)
def seedO (w : rw84) (v : Int32) : oT := (w 2, upd w 2 v, none)
def holdO (w : rw84) (x k : Int32) : oT := if inF x 0 9 = 0 then bad w else if k = -1 then (1, upd w (7 + ix x) k, none) else if inF k 0 (w 1 - 1) = 0 then bad w else (1, upd w (7 + ix x) k, none)
def undF (k o : Int32) : Int32 := if unF (unM k) k o < 0 then 0 else 1
def asO (w : rw84) (x k : Int32) : oT := if inF x 0 9 = 0 then bad w else if inF k 0 6 = 0 then bad w else if 0 ≤ w (7 + ix x) then (if undF (w (44 + 5 * ix (w (7 + ix x)) + 0)) k = 0 then (-1000003, w, some 2) else (w (7 + ix x), w, none)) else (-1000006, w, some 5)
theorem Inv.spot {B : Nat} {w : rw84} (h : Inv B w) {q : Nat} (hq : q < 10) (hn : 0 ≤ w (7 + q)) : ∃ k, k < 8 ∧ w (7 + q) = nI k := by
  obtain ⟨n, h1, h2, -, h3⟩ := h.2.1
  rcases h3 q hq with e | ⟨k, hk, e⟩
  · exact absurd hn (by rw [e]; decide)
  · exact ⟨k, by omega, e⟩
