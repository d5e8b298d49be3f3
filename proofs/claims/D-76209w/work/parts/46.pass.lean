/-! the class's throw is the reference's -/
set_option maxRecDepth 100000
theorem tiresF_in {w : rw84} {k t : Int32} {o : Nat} : ∀ {n : Nat}, o < n → tiresF w k t n (44 + 5 * o + 2) = mx 0 (mn 99 (w (44 + 5 * o + 2) + (if nI o = k then t else -2)))
  | 0, h => absurd h (Nat.not_lt_zero _)
  | n + 1, h => by
    by_cases e : o = n
    · subst e
      rw [tiresF, pk_us, tiresF_out (fun i hi => by omega)]
    · rw [tiresF, up_ne (by omega)]
      exact tiresF_in (by omega)
theorem ps_rest : ∀ t, t < 100 → mx 0 (mn 99 (nI t + -2)) = mx 0 (nI t - 2) := by decide
theorem ps_ext {A' A : rw84} {who t : Int32} {n : Nat} (h1 : ∀ i, (∀ o, o < n → i ≠ 44 + 5 * o + 2) → A' i = A i) (h2 : ∀ o, o < n → mx 0 (mn 99 (A' (44 + 5 * o + 2) + (if nI o = who then t else -2))) = mx 0 (A (44 + 5 * o + 2) - (if nI o = who then 0 else 2))) : tiresF A' who t n = restF A who n := by
  funext i
  by_cases h : ∃ o, o < n ∧ i = 44 + 5 * o + 2
  · obtain ⟨o, ho, rfl⟩ := h
    rw [tiresF_in ho, restF_in ho]
    exact h2 o ho
  · have h' : ∀ o, o < n → i ≠ 44 + 5 * o + 2 := fun o ho e => h ⟨o, ho, e⟩
    rw [tiresF_out h', restF_out h']
    exact h1 i h'
theorem ps_none {B : Nat} {w : rw84} (hI : Inv B w) {q n : Nat} (hq : q < 7) (eq : nextF w = nI q) (hn : n ≤ 8) (en : w 1 = nI n) (e : w (17 + q) = -1) (t : Int32) : endsF (upd w 3 (mx 0 (w 3 - 5))) q (w (17 + q)) t n = thrF w := by
  have hA : throwA w q = upd w 3 (mx 0 (w 3 - 5)) := by rw [throwA, if_pos (by rw [e]; decide)]
  rw [thr_at hq eq hn en, endsF, hA, ps_ext (A := upd w 3 (mx 0 (w 3 - 5))) (fun _ _ => rfl)]
  intro o ho
  have hne : ¬ nI o = w (17 + q) := by
    rw [e]
    intro h
    have := congrArg Int32.toInt h
    rw [nI_toInt (by omega)] at this
    have h2 : (-1 : Int32).toInt = -1 := by decide
    omega
  rw [if_neg hne, if_neg hne, up_ne (by omega)]
  obtain ⟨x, hx, ex⟩ := hI.tired (show o < 8 by omega)
  rw [ex]
  exact ps_rest x (by omega)
theorem mx_nI {n : Nat} (h : n < 2 ^ 31) : mx 0 (nI n) = nI n := by
  by_cases h0 : (0 : Int32) < nI n
  · exact if_pos h0
  · have : mx 0 (nI n) = 0 := if_neg h0
    rw [this]
    have h1 := Int32.not_lt.mp h0
    have h2 := nI_pos' h
    have h3 := Int32.le_iff_toInt_le.mp h1
    have h4 := Int32.le_iff_toInt_le.mp h2
    exact (Int32.toInt_inj.mp (Int.le_antisymm h4 h3))
theorem gn4 : ∀ q, q < 7 → ∀ d, d < 10 → ∃ g, g ≤ 20 ∧ mx 0 (nI q + 2 - nI d) = nI g := by
  intro q hq d hd
  by_cases h : d ≤ q + 2
  · refine ⟨q + 2 - d, by omega, ?_⟩
    revert hd h; revert d; revert hq; revert q; decide
  · refine ⟨0, by omega, ?_⟩
    revert hd h; revert d; revert hq; revert q; decide
theorem gain_in {B : Nat} {w : rw84} (hI : Inv B w) {k q : Nat} (hk : k < 8) (hq : q < 7) : ∃ g, g ≤ 20 ∧ gainF w k (nI q) = nI g := by
  obtain ⟨kd, hkd, ek⟩ := hI.kind hk
  obtain ⟨d, hd, ed⟩ := hI.wind
  have key : ∀ kd, kd ≤ 6 → w (44 + 5 * k + 0) = nI kd → ∃ g, g ≤ 20 ∧ gainF w k (nI q) = nI g := by
    intro kd hkd ek
    match kd, hkd with
    | 0, _ => exact ⟨q, by omega, by rw [gainF, ek]; rfl⟩
    | 1, _ => exact ⟨1, by omega, by rw [gainF, ek]; rfl⟩
    | 2, _ => exact ⟨q + 2, by omega, by rw [gainF, ek]; exact nI_add q 2⟩
    | 3, _ => exact ⟨q + 2, by omega, by rw [gainF, ek]; exact nI_add q 2⟩
    | 4, _ =>
      obtain ⟨g, hg, e⟩ := gn4 q hq d (by omega)
      exact ⟨g, hg, by rw [gainF, ek, ed]; exact e⟩
    | 5, _ => exact ⟨q, by omega, by rw [gainF, ek]; rfl⟩
    | 6, _ => exact ⟨1 + 2 * q, by omega, by rw [gainF, ek]; exact (congrArg (1 + ·) (pk_mul 2 q)).trans (nI_add 1 (2 * q))⟩
  exact key kd hkd ek
theorem ps_who {A' : rw84} {k n : Nat} {t : Int32} (hk : k < n) (hn : n ≤ 8) (hA' : ∀ o, o < 8 → ∃ x, x ≤ 99 ∧ A' (44 + 5 * o + 2) = nI x) : tiresF A' (nI k) t n = restF (upd A' (44 + 5 * k + 2) (mn 99 (A' (44 + 5 * k + 2) + t))) (nI k) n := by
  refine ps_ext (fun i hi => (up_ne (hi k hk)).symm) (fun o ho => ?_)
  by_cases e : o = k
  · subst e
    rw [if_pos rfl, if_pos rfl, pk_us, Int32.sub_zero]
  · have hne : ¬ nI o = nI k := fun h => e ((nI_eq (by omega) (by omega)).mp h)
    rw [if_neg hne, if_neg hne, up_ne (by omega)]
    obtain ⟨x, hx, ex⟩ := hA' o (by omega)
    rw [ex]
    exact ps_rest x (by omega)
theorem tire_at {w v : rw84} {k : Nat} (h0 : v (44 + 5 * k + 0) = w (44 + 5 * k + 0)) (h5 : v 5 = w 5) : tireF v k = tireF w k := by
  unfold tireF
  rw [h0, h5]
theorem ps_win {B : Nat} {w : rw84} (hI : Inv B w) {q n k : Nat} (hq : q < 7) (eq : nextF w = nI q) (hn : n ≤ 8) (en : w 1 = nI n) (hk : k < n) (e : w (17 + q) = nI k) (hwin : ¬ winF w q = 0) : endsF (winsF w k (gainF w k (nI q))) q (w (17 + q)) (tireF w k) n = thrF w := by
  have hneg : ¬ w (17 + q) < 0 := by rw [e]; exact nI_pos (by omega)
  obtain ⟨g, hg, eg⟩ := gain_in hI (show k < 8 by omega) hq
  obtain ⟨m, hm, em⟩ := hI.metres
  have hmm : mx 0 (mn 99999 (w 3 + gainF w k (nI q))) = mn 99999 (w 3 + gainF w k (nI q)) := by
    rw [eg, em, nI_add]
    by_cases h : nI (m + g) < 99999
    · have : mn 99999 (nI (m + g)) = nI (m + g) := if_pos h
      rw [this]
      exact mx_nI (by omega)
    · have : mn 99999 (nI (m + g)) = 99999 := if_neg h
      rw [this]
      decide
  have ht : tireF (winsF w k (gainF w k (nI q))) k = tireF w k := tire_at (by unfold winsF; rw [up_ne (by omega), up_ne (by omega)]) (by unfold winsF; rw [up_ne (by omega), up_ne (by omega)])
  have hA : throwA w q = upd (winsF w k (gainF w k (nI q))) (44 + 5 * k + 2) (mn 99 (winsF w k (gainF w k (nI q)) (44 + 5 * k + 2) + tireF w k)) := by
    rw [← ht, throwA, if_neg hneg, e, nI_clamp (by omega)]
    unfold thr1F
    rw [if_neg hwin, if_neg hwin, hmm]
    rfl
  rw [thr_at hq eq hn en, endsF, hA, e, ps_who hk hn]
  intro o ho
  obtain ⟨x, hx, ex⟩ := hI.tired ho
  exact ⟨x, hx, by unfold winsF; rw [up_ne (by omega), up_ne (by omega)]; exact ex⟩
theorem ps_lose {B : Nat} {w : rw84} (hI : Inv B w) {q n k : Nat} (hq : q < 7) (eq : nextF w = nI q) (hn : n ≤ 8) (en : w 1 = nI n) (hk : k < n) (e : w (17 + q) = nI k) (hwin : winF w q = 0) : endsF (losesF w k) q (w (17 + q)) (tireF w k) n = thrF w := by
  have hneg : ¬ w (17 + q) < 0 := by rw [e]; exact nI_pos (by omega)
  obtain ⟨m, hm, em⟩ := hI.metres
  have hmm : mn 99999 (w 3 - 3) = w 3 - 3 := by
    rw [em]
    refine if_pos (Int32.lt_iff_toInt_lt.mpr ?_)
    have e3 : (3 : Int32).toInt = 3 := by decide
    have e9 : (99999 : Int32).toInt = 99999 := by decide
    rw [Int32.toInt_sub, nI_toInt (by omega), e3, e9, Int.bmod_eq_of_le (by omega) (by omega)]
    omega
  have hL : losesF w k = upd (upd w 3 (mx 0 (w 3 - 3))) (44 + 5 * k + 4) (mn 9999 (upd w 3 (mx 0 (w 3 - 3)) (44 + 5 * k + 4) + 1)) := by
    unfold losesF
    rw [up_ne (show (3 : Nat) ≠ 44 + 5 * k + 4 by omega), up_ne (show 44 + 5 * k + 4 ≠ 3 by omega), up_comm w (by omega)]
  have ht : tireF (losesF w k) k = tireF w k := tire_at (by rw [hL, up_ne (by omega), up_ne (by omega)]) (by rw [hL, up_ne (by omega), up_ne (by omega)])
  have hA : throwA w q = upd (losesF w k) (44 + 5 * k + 2) (mn 99 (losesF w k (44 + 5 * k + 2) + tireF w k)) := by
    rw [← ht, throwA, if_neg hneg, e, nI_clamp (by omega)]
    unfold thr1F
    rw [if_pos hwin, if_pos hwin, hmm, hL]
  rw [thr_at hq eq hn en, endsF, hA, e, ps_who hk hn]
  intro o ho
  obtain ⟨x, hx, ex⟩ := hI.tired ho
  exact ⟨x, hx, by rw [hL, up_ne (by omega), up_ne (by omega)]; exact ex⟩
