/-! the class: told ends -/
set_option maxRecDepth 100000
/-- what counts of the class's own fields: taped, isKept, findings, tape -/
def xSc (X Y : mM) : Prop := Y 2 = X 2 ∧ Y 6 = X 6 ∧ Y 10 = X 10 ∧ Y 31 = X 31
theorem xSc.rf (X : mM) : xSc X X := ⟨rfl, rfl, rfl, rfl⟩
def xU (w w1 : rw84) (X : mM) (sh : xSh) (u : xSt) : Prop := u.1 = w ∧ u.2.1 = w1 ∧ xSc X u.2.2.2.2.1 ∧ u.2.2.2.2.2.2 = sh
theorem xU.of {w w1 w2 w3 : rw84} {X Y : mM} {sp : xSp} {sh : xSh} (h : xSc X Y) : xU w w1 X sh (w, w1, w2, w3, Y, sp, sh) := ⟨rfl, rfl, h, rfl⟩
/-- what is lacking of a sheet and a jumper -/
def LkX (sh : xSh) (t g : Int32) (k : Nat) : Prop := (inF t 0 3 = 0 ∧ k = 0) ∨ (¬ inF t 0 3 = 0 ∧ sh (ix t) = none ∧ k = 5) ∨ (¬ inF t 0 3 = 0 ∧ ¬ sh (ix t) = none ∧ g = 0 ∧ k = 0)
theorem LkX.lt {sh : xSh} {t g : Int32} {k : Nat} (h : LkX sh t g k) : k < 7 := by
  rcases h with ⟨-, h⟩ | ⟨-, -, h⟩ | ⟨-, -, -, h⟩ <;> omega
section LKX
variable {sh : xSh} {wd sz nb : rw84} (hS : ShR sh wd sz nb)
theorem lack_a {t g : Int32} (h : inF t 0 3 = 0) : lackF wd t g = -1000001 := if_pos h
theorem lack_b (hS : ShR sh wd sz nb) {q : Nat} {g : Int32} (hq : q ≤ 3) (h : ¬ inF (nI q) 0 3 = 0) (e : sh q = none) : lackF wd (nI q) g = -1000006 := by
  have iq : ix (nI q) = q := nI_clamp (by omega)
  rw [lackF, if_neg h, iq, if_pos (hS.non (by omega) e).1]
theorem lack_c (hS : ShR sh wd sz nb) {q a ty n : Nat} {f : Nat → Int32} {g : Int32} (hq : q ≤ 3) (h : ¬ inF (nI q) 0 3 = 0) (e : sh q = some (a, ty, n, f)) (hg : ¬ g = 0) : lackF wd (nI q) g = 0 := by
  have iq : ix (nI q) = q := nI_clamp (by omega)
  obtain ⟨h1, h2, -⟩ := hS.som (by omega) e
  rw [lackF, if_neg h, iq, h2, if_neg (wdT_ne h1), if_neg hg]
theorem lack_d (hS : ShR sh wd sz nb) {q a ty n : Nat} {f : Nat → Int32} {g : Int32} (hq : q ≤ 3) (h : ¬ inF (nI q) 0 3 = 0) (e : sh q = some (a, ty, n, f)) (hg : g = 0) : lackF wd (nI q) g = -1000001 := by
  have iq : ix (nI q) = q := nI_clamp (by omega)
  obtain ⟨h1, h2, -⟩ := hS.som (by omega) e
  rw [lackF, if_neg h, iq, h2, if_neg (wdT_ne h1), if_pos hg]
theorem lk_of (hS : ShR sh wd sz nb) {t g : Int32} {k : Nat} (h : LkX sh t g k) : ¬ lackF wd t g = 0 ∧ lk (lackF wd t g) = k ∧ lackF wd t g = -1000001 - nI k := by
  rcases h with ⟨h, rfl⟩ | ⟨h, e, rfl⟩ | ⟨h, e, hg, rfl⟩
  · rw [lack_a h]; decide
  · obtain ⟨q, hq, rfl⟩ := in_nat (N := 3) rfl (by decide) h
    rw [show ix (nI q) = q from nI_clamp (by omega)] at e
    rw [lack_b hS hq h e]; decide
  · obtain ⟨q, hq, rfl⟩ := in_nat (N := 3) rfl (by decide) h
    rw [show ix (nI q) = q from nI_clamp (by omega)] at e
    obtain ⟨⟨a, ty, n, f⟩, e⟩ := Option.ne_none_iff_exists'.mp e
    rw [lack_d hS hq h e hg]; decide
theorem so_sh (hS : ShR sh wd sz nb) {q a ty n : Nat} {f : Nat → Int32} (hq : q ≤ 3) (e : sh q = some (a, ty, n, f)) (w : rw84) : soR (shR nb (nI q)) (ix (sz (ix (nI q)))) 0 w = soR f n 0 w := by
  have iq : ix (nI q) = q := nI_clamp (by omega)
  obtain ⟨h1, h2, h3, h4, h5⟩ := hS.som (by omega) e
  have isz : ix (nI n) = n := nI_clamp (by omega)
  rw [shR_at iq, iq, h4, isz]
  exact soR_cong n 0 w (fun i _ hi => ((h5 i (by omega)).1).symm)
end LKX
theorem lkO {A : oT} {w : rw84} {l : Int32} {k : Nat} (h : ¬ l = 0) (hk : lk l = k) : (if l = 0 then A else (l, w, some (lk l))) = (l, w, some k) := by rw [if_neg h, hk]
theorem x11_up (X : mM) (k : Nat) (a b : Int32) : u2 (u2 X k 0 a) k 0 b = u2 X k 0 b := by
  show va_up (va_up X k (upd (X k) 0 a)) k (upd (va_up X k (upd (X k) 0 a) k) 0 b) = va_up X k (upd (X k) 0 b)
  rw [va_up_self, va_up_up, up_up]
theorem x11_self (X : mM) (k : Nat) : u2 X k 0 (X k 0) = X := by
  show va_up X k (upd (X k) 0 (X k 0)) = X
  rw [up_self]
  exact ur_self X k
def ffF (x0 : Int32) (g : Nat → Int32) : Nat → Int32
  | 0 => x0
  | i + 1 => if g (99 - i) = 0 then ffF x0 g i else nI (99 - i)
theorem fit_or (x0 : Int32) (g : Nat → Int32) : ∀ n, n ≤ 100 → ((fitF g n).1 = 0 ∧ (fitF g n).2 = -1) ∨ (∃ k, 1 ≤ k ∧ k ≤ n ∧ (fitF g n).1 = nI k ∧ 0 ≤ (fitF g n).2 ∧ ffF x0 g n = (fitF g n).2)
  | 0, _ => Or.inl ⟨rfl, rfl⟩
  | n + 1, h => by
    rw [fitF, ffF]
    by_cases h0 : g (99 - n) = 0
    · rw [if_pos h0, if_pos h0, if_pos h0]
      rcases fit_or x0 g n (by omega) with ⟨h1, h2⟩ | ⟨k, h1, h2, h3, h4, h5⟩
      · exact Or.inl ⟨by rw [h1]; rfl, h2⟩
      · exact Or.inr ⟨k, h1, by omega, by dsimp only; rw [h3, Int32.add_zero], h4, h5⟩
    · rw [if_neg h0, if_neg h0, if_neg h0]
      refine Or.inr ?_
      rcases fit_or x0 g n (by omega) with ⟨h1, h2⟩ | ⟨k, h1, h2, h3, h4, h5⟩
      · exact ⟨1, by omega, by omega, by dsimp only; rw [h1]; rfl, nI_pos' (by omega), rfl⟩
      · exact ⟨k + 1, by omega, by omega, by dsimp only; rw [h3]; exact nI_1 k, nI_pos' (by omega), rfl⟩
theorem fit_no {x0 : Int32} {g : Nat → Int32} (h : (fitF g 100).1 ≤ 0) : (fitF g 100).2 = -1 := by
  rcases fit_or x0 g 100 (by decide) with ⟨h1, h2⟩ | ⟨k, h1, h2, h3, h4, h5⟩
  · exact h2
  · rw [h3] at h
    exact absurd h (nI_nle (by omega) (by omega))
theorem fit_yes {x0 : Int32} {g : Nat → Int32} (h : ¬ (fitF g 100).1 ≤ 0) : 0 ≤ (fitF g 100).2 ∧ ffF x0 g 100 = (fitF g 100).2 := by
  rcases fit_or x0 g 100 (by decide) with ⟨h1, h2⟩ | ⟨k, h1, h2, h3, h4, h5⟩
  · rw [h1] at h
    exact absurd (by decide) h
  · exact ⟨h4, h5⟩
theorem ls_no {k : Nat} (hk : k ≤ 40) (h : inF (nI k) 0 5 = 0) : 6 ≤ k := by
  rcases Nat.lt_or_ge k 6 with o | o
  · exfalso
    match k, o with
    | 0, _ => exact absurd h (by decide)
    | 1, _ => exact absurd h (by decide)
    | 2, _ => exact absurd h (by decide)
    | 3, _ => exact absurd h (by decide)
    | 4, _ => exact absurd h (by decide)
    | 5, _ => exact absurd h (by decide)
  · exact o
theorem ls_yes {k : Nat} (hk : k ≤ 40) (h : ¬ inF (nI k) 0 5 = 0) : k < 6 := by
  obtain ⟨q, hq, e⟩ := in_nat (N := 5) rfl (by decide) h
  have := (nI_eq (by omega) (by omega)).mp e
  omega
theorem ldR_cong {f g : Nat → Int32} : ∀ (r k : Nat) (w : rw84), (∀ i, k ≤ i → i < k + r → f i = g i) → ldR f r k w = ldR g r k w
  | 0, _, _, _ => rfl
  | r + 1, k, w, h => by
    rw [ldR, ldR, h k (Nat.le_refl _) (by omega), ldR_cong r (k + 1) _ (fun i h1 h2 => h i (by omega) (by omega))]
theorem jdR_cong {f g : Nat → Int32} {w : rw84} : ∀ (r k : Nat), (∀ i, k ≤ i → i < k + r → f i = g i) → jdR f w r k = jdR g w r k
  | 0, _, _ => rfl
  | r + 1, k, h => by
    rw [jdR, jdR, h k (Nat.le_refl _) (by omega), jdR_cong r (k + 1) (fun i h1 h2 => h i (by omega) (by omega))]
theorem hdS_X0_wasSo : yX0_wasSo.cls = "LineCalls" ∧ yX0_wasSo.cls ≠ "java/lang/invoke/MethodHandle" ∧ yX0_wasSo.cls ≠ "java/lang/invoke/VarHandle" ∧ (parseMethodDescriptor yX0_wasSo.desc).map (fun d => d.parameters.length) = some 1 := by decide +kernel
set_option maxHeartbeats 4000000 in
theorem tL_wasSo (l : Launch) (G : nG) (ad : Nat → Nat) (w w1 w2 w3 : rw84) (X : mM) (sp : xSp) (sh : xSh) (a ty n q B : Nat) (f : Nat → Int32) (hq : q ≤ 3) (hsh : sh q = some (a, ty, n, f)) (hty : ty < 3) (hn : n ≤ 40) (hI : Inv B w) (hB : B + n < 2 ^ 30) : Met l yX0_wasSo (wsW_ yX0_wasSo cX0_wasSo 5 (some .boolean) [((11), (69), (82), (0)), ((82), (84), (82), (0))]) { frames := 7, cells := 0, slots := 0, locals := 146 } (va_Pc [.ref (ad 64), .ref a] (nC G (xE G ad (xV w w1 w2 w3) X sp sh))) (va_Qi (fun (r : Int32) (u : xSt) => r = soR f n 0 w ∧ u = (w, w1, w, w3, X, sp, sh)) (fun u => nC G (xE G ad (xV u.1 u.2.1 u.2.2.1 u.2.2.2.1) u.2.2.2.2.1 u.2.2.2.2.2.1 u.2.2.2.2.2.2)) (nA G)) 0 0 (nA G) := by
  refine n_headW (by decide) (Nat.le_of_ble_eq_true rfl) ?_
  intro p e s m below meth c ls hx hb hr hlk hml hown hts htab hB0 hl
  have hown : s.vm.findClass "LineCalls" = some m.cls := hown
  have hw := nS.start hB0
  have hl : lv_has ls 5 [(0, .ref (ad 64)), (1, .ref a)] := hl
  refine lv_aload_n hx hb dX0_wasSo_0 rfl (lv_at hl 0 rfl) ?_
  refine n_get (k := 64) hx hb hts in_X0 hown hw (xp 64) rfl 5 (by decide) q420 rfl dX0_wasSo_1 ?_
  refine lv_aload_n hx hb dX0_wasSo_4 rfl (lv_at hl 0 rfl) ?_
  refine n_get (k := 64) hx hb hts in_X0 hown hw (xp 64) rfl 3 (by decide) q418 rfl dX0_wasSo_5 ?_
  refine n_callv (va_runV ⟨hx, hb, hml, hown, hts⟩ (tX4_become l G ad _ _ _ _ 2 (by decide) _ (xV_at2 _ _ _ _) 0 _ (by decide) (by decide) (xV_at0 _ _ _ _)) (cwV 1 hts (lw_V q773 q774 q775 q97 q776) rfl rfl rfl hdS_X4_become ⟨by decide, by decide⟩) (hw.preV (k := 16 * 2 + 0) (xv2 0) rfl) rfl rfl hl.1 rfl (lv_room (by simp [Value.category])) dX0_wasSo_8 ⟨Nat.zero_le _, Nat.zero_le _⟩) hw (fun u_8 H locs e_8 hw => ?_)
  (replace e_8 : u_8 = _ := e_8; rw [e_8] at hw)
  have hw : nS G (xE G ad (va_up (xV _ _ _ _) 2 _) _ _ _) s H locs := hw
  rw [xV_2] at hw
  refine lv_iconst (v := 1) hx hb dX0_wasSo_11 (by decide) ?_
  refine lv_istore_n hx hb dX0_wasSo_12 rfl hl (by decide) rfl (fun ls hl => ?_)
  refine lv_iconst (v := 0) hx hb dX0_wasSo_13 (by decide) ?_
  refine lv_istore_n hx hb dX0_wasSo_14 rfl hl (by decide) rfl (fun ls hl => ?_)
  refine n_loop (α := Nat × Int32) (fun x H locs ls => x.1 ≤ n ∧ so_I f n x.1 w x.2 ∧ nS G (xE G ad (xV (thrN w x.1) w1 w w3) X sp sh) s H locs ∧ lv_has ls 5 [(0, .ref (ad 64)), (1, .ref a), (2, .int x.2), (3, .int (nI x.1))]) (fun x => n - x.1) 15 ?_ (0, 1) _ _ _ ⟨Nat.zero_le _, Or.inl ⟨rfl, rfl⟩, hw, (lv_sub hl [2, 3, 1, 0] rfl)⟩
  clear hl hw
  intro x H locs ls hI ih_15
  obtain ⟨hk, hf, hw, hl⟩ := hI
  obtain ⟨k, b⟩ := x
  dsimp only at hk hf hw hl
  refine lv_iload_n hx hb dX0_wasSo_15 rfl (lv_at hl 2 rfl) ?_
  refine lv_if_eq (tgt := 67) hx hb dX0_wasSo_16 (by decide) (fun c_16 => ?_) (fun c_16 => ?_)
  · skip
    have hb1 := so_stop hf c_16
    refine lv_iload_n hx hb dX0_wasSo_67 rfl (lv_at hl 2 rfl) ?_
    refine lv_istore_n hx hb dX0_wasSo_68 rfl hl (by decide) rfl (fun ls hl => ?_)
    refine lv_aload_n hx hb dX0_wasSo_69 rfl (lv_at hl 1 rfl) ?_
    refine n_get (k := 64) hx hb hts in_X0 hown hw (xp 64) rfl 3 (by decide) q418 rfl dX0_wasSo_70 ?_
    refine lv_aload_n hx hb dX0_wasSo_73 rfl (lv_at hl 1 rfl) ?_
    refine n_get (k := 64) hx hb hts in_X0 hown hw (xp 64) rfl 5 (by decide) q420 rfl dX0_wasSo_74 ?_
    refine n_callv (va_runV ⟨hx, hb, hml, hown, hts⟩ (tX4_become l G ad _ _ _ _ 0 (by decide) _ (xV_at0 _ _ _ _) 2 _ (by decide) (by decide) (xV_at2 _ _ _ _)) (cwV 1 hts (lw_V q773 q774 q775 q97 q776) rfl rfl rfl hdS_X4_become ⟨by decide, by decide⟩) (hw.preV (k := 16 * 0 + 0) (xv0 0) rfl) rfl rfl hl.1 rfl (lv_room (by simp [Value.category])) dX0_wasSo_77 ⟨Nat.zero_le _, Nat.zero_le _⟩) hw (fun u_77 H locs e_77 hw => ?_)
    subst e_77
    have hw : nS G (xE G ad (va_up (xV _ _ _ _) 0 _) _ _ _) s H locs := hw
    rw [xV_0] at hw
    refine lv_iload_n hx hb dX0_wasSo_80 rfl (lv_at hl 0 rfl) ?_
    exact l_iret hx hb hr hlk (by rw [hb1]; exact soR_b _ _ _ _) hw ⟨hb1, rfl⟩ dX0_wasSo_81
  · skip
    refine lv_iload_n hx hb dX0_wasSo_19 rfl (lv_at hl 3 rfl) ?_
    refine lv_aload_n hx hb dX0_wasSo_20 rfl (lv_at hl 1 rfl) ?_
    refine n_callp (va_runS ⟨hx, hb, hml, hown, hts⟩ (tX_length l G _ (320 + q) ty n a f (sh_at (by omega) hsh) hty hn) (va_cwS 1 hts (lw_S q902 q903 q90 q904) rfl rfl rfl (hdS_X0_length).2 ⟨by decide, by decide⟩) hw.preS rfl rfl hl.1 rfl (lv_room (by simp [Value.category])) dX0_wasSo_21 ⟨Nat.zero_le _, Nat.zero_le _⟩) (fun r_21 e_21 => ?_)
    subst e_21
    refine lv_icmp_ge (tgt := 67) hx hb dX0_wasSo_24 (by decide) (fun c_24 => ?_) (fun c_24 => ?_)
    · skip
      have n_24 : n ≤ k := (nI_leI (a := n) (b := k) (by omega) (by omega)).mp c_24
      obtain rfl : k = n := by omega
      have hb1 := so_end hf
      refine lv_iload_n hx hb dX0_wasSo_67 rfl (lv_at hl 2 rfl) ?_
      refine lv_istore_n hx hb dX0_wasSo_68 rfl hl (by decide) rfl (fun ls hl => ?_)
      refine lv_aload_n hx hb dX0_wasSo_69 rfl (lv_at hl 1 rfl) ?_
      refine n_get (k := 64) hx hb hts in_X0 hown hw (xp 64) rfl 3 (by decide) q418 rfl dX0_wasSo_70 ?_
      refine lv_aload_n hx hb dX0_wasSo_73 rfl (lv_at hl 1 rfl) ?_
      refine n_get (k := 64) hx hb hts in_X0 hown hw (xp 64) rfl 5 (by decide) q420 rfl dX0_wasSo_74 ?_
      refine n_callv (va_runV ⟨hx, hb, hml, hown, hts⟩ (tX4_become l G ad _ _ _ _ 0 (by decide) _ (xV_at0 _ _ _ _) 2 _ (by decide) (by decide) (xV_at2 _ _ _ _)) (cwV 1 hts (lw_V q773 q774 q775 q97 q776) rfl rfl rfl hdS_X4_become ⟨by decide, by decide⟩) (hw.preV (k := 16 * 0 + 0) (xv0 0) rfl) rfl rfl hl.1 rfl (lv_room (by simp [Value.category])) dX0_wasSo_77 ⟨Nat.zero_le _, Nat.zero_le _⟩) hw (fun u_77 H locs e_77 hw => ?_)
      subst e_77
      have hw : nS G (xE G ad (va_up (xV _ _ _ _) 0 _) _ _ _) s H locs := hw
      rw [xV_0] at hw
      refine lv_iload_n hx hb dX0_wasSo_80 rfl (lv_at hl 0 rfl) ?_
      exact l_iret hx hb hr hlk (by rw [hb1]; exact soR_b _ _ _ _) hw ⟨hb1, rfl⟩ dX0_wasSo_81
    · skip
      have n_24 : ¬ n ≤ k := fun h => c_24 ((nI_leI (a := n) (b := k) (by omega) (by omega)).mpr h)
      refine lv_aload_n hx hb dX0_wasSo_27 rfl (lv_at hl 1 rfl) ?_
      refine lv_iload_n hx hb dX0_wasSo_28 rfl (lv_at hl 3 rfl) ?_
      refine n_callp (va_runS ⟨hx, hb, hml, hown, hts⟩ (tX_number l G _ (320 + q) ty n a f (sh_at (by omega) hsh) hty hn (k) (by omega)) (va_cwS 2 hts (lw_S q908 q909 q90 q910) rfl rfl rfl (hdS_X0_number).2 ⟨by decide, by decide⟩) hw.preS rfl rfl hl.1 rfl (lv_room (by simp [Value.category])) dX0_wasSo_29 ⟨Nat.zero_le _, Nat.zero_le _⟩) (fun r_29 e_29 => ?_)
      subst e_29
      refine lv_iconst (v := (-1)) hx hb dX0_wasSo_32 (by decide) ?_
      refine lv_icmp_eq (tgt := 51) hx hb dX0_wasSo_33 (by decide) (fun c_33 => ?_) (fun c_33 => ?_)
      · skip
        refine lv_iconst (v := 1) hx hb dX0_wasSo_51 (by decide) ?_
        refine lv_goto (tgt := 56) hx hb dX0_wasSo_52 (by decide) ?_
        refine lv_istore_n hx hb dX0_wasSo_56 rfl hl (by decide) rfl (fun ls hl => ?_)
        refine lv_aload_n hx hb dX0_wasSo_57 rfl (lv_at hl 1 rfl) ?_
        refine n_callv (va_runV ⟨hx, hb, hml, hown, hts⟩ (tL_passes_2 l G ad _ _ _ _ _ _ _ (B + k) (hI.thrN (by omega)) (by omega)) (cwV 0 hts (lw_V q712 q714 qs7 q90 q715) rfl rfl rfl hdS_X0_passes_2 ⟨by decide, by decide⟩) (hw.preV (k := 64) (xp 64) rfl) rfl rfl hl.1 rfl (lv_room (by simp [Value.category])) dX0_wasSo_58 ⟨Nat.zero_le _, Nat.zero_le _⟩) hw (fun u_58 H locs e_58 hw => ?_)
        subst e_58
        have hw : nS G (xE G ad (xV _ _ _ _) _ _ _) s H locs := hw
        refine lv_iinc (v := nI (k + 1)) hx hb dX0_wasSo_61 hl (k := 3) rfl (nI_1 _) (by decide) rfl (fun ls hl => ?_)
        refine lv_goto (tgt := 15) hx hb dX0_wasSo_64 (by decide) ?_
        exact ih_15 (k + 1, 1) _ _ _ (by first | omega | (dsimp only; omega)) ⟨by dsimp only; omega, Or.inl ⟨rfl, so_nx hf c_16 (by omega) (by first | exact Or.inl c_33 | exact Or.inr c_48)⟩, hw, (lv_sub hl [2, 3, 1, 0] rfl)⟩
      · skip
        refine lv_aload_n hx hb dX0_wasSo_36 rfl (lv_at hl 1 rfl) ?_
        refine lv_iload_n hx hb dX0_wasSo_37 rfl (lv_at hl 3 rfl) ?_
        refine n_callp (va_runS ⟨hx, hb, hml, hown, hts⟩ (tX_number l G _ (320 + q) ty n a f (sh_at (by omega) hsh) hty hn (k) (by omega)) (va_cwS 2 hts (lw_S q908 q909 q90 q910) rfl rfl rfl (hdS_X0_number).2 ⟨by decide, by decide⟩) hw.preS rfl rfl hl.1 rfl (lv_room (by simp [Value.category])) dX0_wasSo_38 ⟨Nat.zero_le _, Nat.zero_le _⟩) (fun r_38 e_38 => ?_)
        subst e_38
        refine lv_aload_n hx hb dX0_wasSo_41 rfl (lv_at hl 0 rfl) ?_
        refine n_get (k := 64) hx hb hts in_X0 hown hw (xp 64) rfl 3 (by decide) q418 rfl dX0_wasSo_42 ?_
        refine n_getN (k := 16 * 0 + 0) hx hb hts in_X4 hown hw (xv0 0) rfl 4 (by decide) q236 rfl dX0_wasSo_45 ?_
        refine lv_icmp_ne (tgt := 55) hx hb dX0_wasSo_48 (by decide) (fun c_48 => ?_) (fun c_48 => ?_)
        · skip
          refine lv_iconst (v := 0) hx hb dX0_wasSo_55 (by decide) ?_
          refine lv_istore_n hx hb dX0_wasSo_56 rfl hl (by decide) rfl (fun ls hl => ?_)
          refine lv_aload_n hx hb dX0_wasSo_57 rfl (lv_at hl 1 rfl) ?_
          refine n_callv (va_runV ⟨hx, hb, hml, hown, hts⟩ (tL_passes_2 l G ad _ _ _ _ _ _ _ (B + k) (hI.thrN (by omega)) (by omega)) (cwV 0 hts (lw_V q712 q714 qs7 q90 q715) rfl rfl rfl hdS_X0_passes_2 ⟨by decide, by decide⟩) (hw.preV (k := 64) (xp 64) rfl) rfl rfl hl.1 rfl (lv_room (by simp [Value.category])) dX0_wasSo_58 ⟨Nat.zero_le _, Nat.zero_le _⟩) hw (fun u_58 H locs e_58 hw => ?_)
          subst e_58
          have hw : nS G (xE G ad (xV _ _ _ _) _ _ _) s H locs := hw
          refine lv_iinc (v := nI (k + 1)) hx hb dX0_wasSo_61 hl (k := 3) rfl (nI_1 _) (by decide) rfl (fun ls hl => ?_)
          refine lv_goto (tgt := 15) hx hb dX0_wasSo_64 (by decide) ?_
          exact ih_15 (k + 1, 0) _ _ _ (by first | omega | (dsimp only; omega)) ⟨by dsimp only; omega, Or.inr ⟨rfl, so_no hf c_16 (by omega) c_33 c_48⟩, hw, (lv_sub hl [2, 3, 1, 0] rfl)⟩
        · skip
          refine lv_iconst (v := 1) hx hb dX0_wasSo_51 (by decide) ?_
          refine lv_goto (tgt := 56) hx hb dX0_wasSo_52 (by decide) ?_
          refine lv_istore_n hx hb dX0_wasSo_56 rfl hl (by decide) rfl (fun ls hl => ?_)
          refine lv_aload_n hx hb dX0_wasSo_57 rfl (lv_at hl 1 rfl) ?_
          refine n_callv (va_runV ⟨hx, hb, hml, hown, hts⟩ (tL_passes_2 l G ad _ _ _ _ _ _ _ (B + k) (hI.thrN (by omega)) (by omega)) (cwV 0 hts (lw_V q712 q714 qs7 q90 q715) rfl rfl rfl hdS_X0_passes_2 ⟨by decide, by decide⟩) (hw.preV (k := 64) (xp 64) rfl) rfl rfl hl.1 rfl (lv_room (by simp [Value.category])) dX0_wasSo_58 ⟨Nat.zero_le _, Nat.zero_le _⟩) hw (fun u_58 H locs e_58 hw => ?_)
          subst e_58
          have hw : nS G (xE G ad (xV _ _ _ _) _ _ _) s H locs := hw
          refine lv_iinc (v := nI (k + 1)) hx hb dX0_wasSo_61 hl (k := 3) rfl (nI_1 _) (by decide) rfl (fun ls hl => ?_)
          refine lv_goto (tgt := 15) hx hb dX0_wasSo_64 (by decide) ?_
          exact ih_15 (k + 1, 1) _ _ _ (by first | omega | (dsimp only; omega)) ⟨by dsimp only; omega, Or.inl ⟨rfl, so_nx hf c_16 (by omega) (by first | exact Or.inl c_33 | exact Or.inr c_48)⟩, hw, (lv_sub hl [2, 3, 1, 0] rfl)⟩
theorem hdS_X0_codesThatFit : yX0_codesThatFit.cls = "LineCalls" ∧ yX0_codesThatFit.cls ≠ "java/lang/invoke/MethodHandle" ∧ yX0_codesThatFit.cls ≠ "java/lang/invoke/VarHandle" ∧ (parseMethodDescriptor yX0_codesThatFit.desc).map (fun d => d.parameters.length) = some 1 := by decide +kernel
set_option maxHeartbeats 4000000 in
theorem tL_codesThatFit (l : Launch) (G : nG) (ad : Nat → Nat) (w w1 w2 w3 : rw84) (X : mM) (sp : xSp) (sh : xSh) (a ty n q B : Nat) (f : Nat → Int32) (hq : q ≤ 3) (hsh : sh q = some (a, ty, n, f)) (hty : ty < 3) (hn : n ≤ 40) (hI : Inv B w) (hB : B ≤ 100000) : Met l yX0_codesThatFit (ws_ yX0_codesThatFit cX0_codesThatFit 5 (some .int)) { frames := 8, cells := 0, slots := 0, locals := 170 } (va_Pc [.ref (ad 64), .ref a] (nC G (xE G ad (xV w w1 w2 w3) X sp sh))) (va_Qi (fun (r : Int32) (u : xSt) => r = orF (fun v => soR f n 0 (upd w 6 (nI v))) 5 ∧ ∃ g, u = (w, w1, g, w3, X, sp, sh)) (fun u => nC G (xE G ad (xV u.1 u.2.1 u.2.2.1 u.2.2.2.1) u.2.2.2.2.1 u.2.2.2.2.2.1 u.2.2.2.2.2.2)) (nA G)) 0 0 (nA G) := by
  refine n_head (by decide) (Nat.le_of_ble_eq_true rfl) ?_
  intro p e s m below meth c ls hx hb hr hlk hml hown hts hB0 hl
  have hown : s.vm.findClass "LineCalls" = some m.cls := hown
  have hw := nS.start hB0
  have hl : lv_has ls 5 [(0, .ref (ad 64)), (1, .ref a)] := hl
  refine lv_aload_n hx hb dX0_codesThatFit_0 rfl (lv_at hl 0 rfl) ?_
  refine n_get (k := 64) hx hb hts in_X0 hown hw (xp 64) rfl 3 (by decide) q418 rfl dX0_codesThatFit_1 ?_
  refine n_getN (k := 16 * 0 + 0) hx hb hts in_X4 hown hw (xv0 0) rfl 2 (by decide) q231 rfl dX0_codesThatFit_4 ?_
  refine lv_iconst (v := 2) hx hb dX0_codesThatFit_7 (by decide) ?_
  refine n_iald (k := 16 * 0 + 5) (j := 2) hx hb hw (xv0 5) rfl (by decide) (by decide) dX0_codesThatFit_8 ?_
  refine lv_istore_n hx hb dX0_codesThatFit_9 rfl hl (by decide) rfl (fun ls hl => ?_)
  refine lv_iconst (v := 0) hx hb dX0_codesThatFit_10 (by decide) ?_
  refine lv_istore_n hx hb dX0_codesThatFit_11 rfl hl (by decide) rfl (fun ls hl => ?_)
  refine lv_iconst (v := 0) hx hb dX0_codesThatFit_12 (by decide) ?_
  refine lv_istore hx hb dX0_codesThatFit_13 hl (by decide) rfl (fun ls hl => ?_)
  refine n_loop (α := Nat × rw84) (fun x H locs ls => x.1 ≤ 5 ∧ nS G (xE G ad (xV (tryF w 6 x.1) w1 x.2 w3) X sp sh) s H locs ∧ lv_has ls 5 [(0, .ref (ad 64)), (1, .ref a), (2, .int (w 6)), (3, .int (orF (fun v => soR f n 0 (upd w 6 (nI v))) x.1)), (4, .int (nI x.1))]) (fun x => 5 - x.1) 15 ?_ (0, w2) _ _ _ ⟨Nat.zero_le _, hw, (lv_sub hl [3, 4, 2, 1, 0] rfl)⟩
  clear hl hw
  intro x H locs ls hI ih_15
  obtain ⟨hv, hw, hl⟩ := hI
  obtain ⟨v, g⟩ := x
  dsimp only at hv hw hl
  refine lv_iload hx hb dX0_codesThatFit_15 (lv_at hl 4 rfl) ?_
  refine lv_iconst (v := 5) hx hb dX0_codesThatFit_17 (by decide) ?_
  refine lv_icmp_ge (tgt := 57) hx hb dX0_codesThatFit_18 (by decide) (fun c_18 => ?_) (fun c_18 => ?_)
  · skip
    have n_18 : 5 ≤ v := (nI_leI (a := 5) (b := v) (by omega) (by omega)).mp c_18
    obtain rfl : v = 5 := by omega
    refine lv_aload_n hx hb dX0_codesThatFit_57 rfl (lv_at hl 0 rfl) ?_
    refine n_get (k := 64) hx hb hts in_X0 hown hw (xp 64) rfl 3 (by decide) q418 rfl dX0_codesThatFit_58 ?_
    refine n_getN (k := 16 * 0 + 0) hx hb hts in_X4 hown hw (xv0 0) rfl 2 (by decide) q231 rfl dX0_codesThatFit_61 ?_
    refine lv_iconst (v := 2) hx hb dX0_codesThatFit_64 (by decide) ?_
    refine lv_iload_n hx hb dX0_codesThatFit_65 rfl (lv_at hl 2 rfl) ?_
    refine l0_iast hx hb hw 5 (by decide) (q := 2) rfl (by decide) (pos := 4 + 2) rfl dX0_codesThatFit_66 (fun H locs hw => ?_)
    have hw := n_E (show _ = xE G ad (xV w w1 g w3) X sp sh by rw [show (4 + 2 : Nat) = 6 from rfl, try_back]) hw
    refine lv_iload_n hx hb dX0_codesThatFit_67 rfl (lv_at hl 3 rfl) ?_
    exact l_iret hx hb hr hlk rfl hw ⟨rfl, _, rfl⟩ dX0_codesThatFit_68
  · skip
    have n_18 : ¬ 5 ≤ v := fun h => c_18 ((nI_leI (a := 5) (b := v) (by omega) (by omega)).mpr h)
    refine lv_aload_n hx hb dX0_codesThatFit_21 rfl (lv_at hl 0 rfl) ?_
    refine n_get (k := 64) hx hb hts in_X0 hown hw (xp 64) rfl 3 (by decide) q418 rfl dX0_codesThatFit_22 ?_
    refine n_getN (k := 16 * 0 + 0) hx hb hts in_X4 hown hw (xv0 0) rfl 2 (by decide) q231 rfl dX0_codesThatFit_25 ?_
    refine lv_iconst (v := 2) hx hb dX0_codesThatFit_28 (by decide) ?_
    refine lv_iload hx hb dX0_codesThatFit_29 (lv_at hl 4 rfl) ?_
    refine l0_iast hx hb hw 5 (by decide) (q := 2) rfl (by decide) (pos := 4 + 2) rfl dX0_codesThatFit_31 (fun H locs hw => ?_)
    have hw := n_E (show _ = xE G ad (xV (upd w 6 (nI v)) w1 g w3) X sp sh by rw [show (4 + 2 : Nat) = 6 from rfl, try_up]) hw
    refine lv_iload_n hx hb dX0_codesThatFit_32 rfl (lv_at hl 3 rfl) ?_
    refine lv_aload_n hx hb dX0_codesThatFit_33 rfl (lv_at hl 0 rfl) ?_
    refine lv_aload_n hx hb dX0_codesThatFit_34 rfl (lv_at hl 1 rfl) ?_
    refine n_calli (x_runVW ⟨hx, hb, hml, hown, hts⟩ (tL_wasSo l G ad _ _ _ _ _ _ _ a ty n q B f hq hsh hty hn (hI.code (by omega)) (by omega)) (x_cwVW 1 hts (lw_VW q898 q900 qs27 q90 q901) rfl rfl hdS_X0_wasSo ⟨by decide, by decide⟩) (hw.preV (k := 64) (xp 64) rfl) rfl rfl hl.1 rfl (lv_room (by simp [Value.category])) dX0_codesThatFit_35 ⟨Nat.zero_le _, Nat.zero_le _⟩) hw (fun r_35 u_35 H locs e_35 hw => ?_)
    obtain ⟨rfl, rfl⟩ := e_35
    have hw : nS G (xE G ad (xV _ _ _ _) _ _ _) s H locs := hw
    refine n_topE (y := (fun v => soR f n 0 (upd w 6 (nI v))) v) rfl ?_
    dsimp only
    refine lv_if_eq (tgt := 48) hx hb dX0_codesThatFit_38 (by decide) (fun c_38 => ?_) (fun c_38 => ?_)
    · skip
      refine lv_iconst (v := 0) hx hb dX0_codesThatFit_48 (by decide) ?_
      refine lv_ior hx hb dX0_codesThatFit_49 ?_
      refine lv_istore_n hx hb dX0_codesThatFit_50 rfl hl (by decide) rfl (fun ls hl => ?_)
      refine lv_iinc (v := nI (v + 1)) hx hb dX0_codesThatFit_51 hl (k := 4) rfl (nI_1 _) (by decide) rfl (fun ls hl => ?_)
      refine lv_goto (tgt := 15) hx hb dX0_codesThatFit_54 (by decide) ?_
      exact ih_15 (v + 1, _) _ _ _ (by first | omega | (dsimp only; omega)) ⟨by dsimp only; omega, hw, by dsimp only; rw [orF, if_pos c_38]; exact (lv_sub hl [2, 3, 4, 1, 0] rfl)⟩
    · skip
      refine lv_iconst (v := 1) hx hb dX0_codesThatFit_41 (by decide) ?_
      refine lv_iload hx hb dX0_codesThatFit_42 (lv_at hl 4 rfl) ?_
      refine lv_ishl hx hb dX0_codesThatFit_44 ?_
      refine lv_goto (tgt := 49) hx hb dX0_codesThatFit_45 (by decide) ?_
      refine lv_ior hx hb dX0_codesThatFit_49 ?_
      refine lv_istore_n hx hb dX0_codesThatFit_50 rfl hl (by decide) rfl (fun ls hl => ?_)
      refine lv_iinc (v := nI (v + 1)) hx hb dX0_codesThatFit_51 hl (k := 4) rfl (nI_1 _) (by decide) rfl (fun ls hl => ?_)
      refine lv_goto (tgt := 15) hx hb dX0_codesThatFit_54 (by decide) ?_
      exact ih_15 (v + 1, _) _ _ _ (by first | omega | (dsimp only; omega)) ⟨by dsimp only; omega, hw, by dsimp only; rw [orF, if_neg c_38]; exact (lv_sub hl [2, 3, 4, 1, 0] rfl)⟩
theorem hdS_X0_manyFits : yX0_manyFits.cls = "LineCalls" ∧ yX0_manyFits.cls ≠ "java/lang/invoke/MethodHandle" ∧ yX0_manyFits.cls ≠ "java/lang/invoke/VarHandle" ∧ (parseMethodDescriptor yX0_manyFits.desc).map (fun d => d.parameters.length) = some 2 := by decide +kernel
set_option maxHeartbeats 4000000 in
theorem tL_manyFits (l : Launch) (G : nG) (ad : Nat → Nat) (w w1 w2 w3 : rw84) (X : mM) (sp : xSp) (sh : xSh) (a ty n q B : Nat) (f : Nat → Int32) (hq : q ≤ 3) (hsh : sh q = some (a, ty, n, f)) (hty : ty < 3) (hn : n ≤ 40) (hI : Inv B w) (hB : B ≤ 100000) (j : Nat) (hj : j < 8) : Met l yX0_manyFits (ws_ yX0_manyFits cX0_manyFits 7 (some .int)) { frames := 8, cells := 0, slots := 0, locals := 170 } (va_Pc [.ref (ad 64), .ref a, .int (nI j)] (nC G (xE G ad (xV w w1 w2 w3) X sp sh))) (va_Qi (fun (r : Int32) (u : xSt) => r = (fitF (fun v => soR f n 0 (upd w (44 + 5 * j + 1) (nI v))) 100).1 ∧ ∃ g, u = (w, w1, g, w3, u2 X 11 0 (ffF (X 11 0) (fun v => soR f n 0 (upd w (44 + 5 * j + 1) (nI v))) 100), sp, sh)) (fun u => nC G (xE G ad (xV u.1 u.2.1 u.2.2.1 u.2.2.2.1) u.2.2.2.2.1 u.2.2.2.2.2.1 u.2.2.2.2.2.2)) (nA G)) 0 0 (nA G) := by
  refine n_head (by decide) (Nat.le_of_ble_eq_true rfl) ?_
  intro p e s m below meth c ls hx hb hr hlk hml hown hts hB0 hl
  have hown : s.vm.findClass "LineCalls" = some m.cls := hown
  have hw := nS.start hB0
  have hl : lv_has ls 7 [(0, .ref (ad 64)), (1, .ref a), (2, .int (nI j))] := hl
  generalize hG : (fun v => soR f n 0 (upd w (44 + 5 * j + 1) (nI v))) = gg
  refine lv_aload_n hx hb dX0_manyFits_0 rfl (lv_at hl 0 rfl) ?_
  refine n_get (k := 64) hx hb hts in_X0 hown hw (xp 64) rfl 3 (by decide) q418 rfl dX0_manyFits_1 ?_
  refine n_getN (k := 16 * 0 + 0) hx hb hts in_X4 hown hw (xv0 0) rfl 6 (by decide) q243 rfl dX0_manyFits_4 ?_
  refine lv_iconst (v := 1) hx hb dX0_manyFits_7 (by decide) ?_
  refine n_aaldS (k := 16 * 0 + 7) (t := 4) (j := 1) (b := ad (16 * 0 + 9)) hx hb hw (xv0 7) (Or.inr rfl) rfl (by decide) (by decide) rfl dX0_manyFits_8 ?_
  refine lv_iload_n hx hb dX0_manyFits_9 rfl (lv_at hl 2 rfl) ?_
  refine n_iald (k := 16 * 0 + 9) (j := j) hx hb hw (xv0 9) rfl (by omega) (by decide) dX0_manyFits_10 ?_
  refine lv_istore_n hx hb dX0_manyFits_11 rfl hl (by decide) rfl (fun ls hl => ?_)
  refine lv_iconst (v := 0) hx hb dX0_manyFits_12 (by decide) ?_
  refine lv_istore hx hb dX0_manyFits_13 hl (by decide) rfl (fun ls hl => ?_)
  refine lv_bipush (v := 99) hx hb dX0_manyFits_15 (by decide) ?_
  refine lv_istore hx hb dX0_manyFits_17 hl (by decide) rfl (fun ls hl => ?_)
  refine n_loop (α := Nat × rw84) (fun x H locs ls => x.1 ≤ 100 ∧ nS G (xE G ad (xV (tdF w (44 + 5 * j + 1) x.1) w1 x.2 w3) (u2 X 11 0 (ffF (X 11 0) gg x.1)) sp sh) s H locs ∧ lv_has ls 7 [(0, .ref (ad 64)), (1, .ref a), (2, .int (nI j)), (3, .int (w (44 + 5 * j + 1))), (4, .int (fitF gg x.1).1), (5, .int (dn x.1))]) (fun x => 100 - x.1) 19 ?_ (0, w2) _ _ _ ⟨Nat.zero_le _, by rw [show ffF (X 11 0) gg 0 = X 11 0 from rfl, x11_self]; exact hw, (lv_sub hl [3, 4, 5, 2, 1, 0] rfl)⟩
  clear hl hw
  intro x H locs ls hI ih_19
  obtain ⟨hi, hw, hl⟩ := hI
  obtain ⟨y, g⟩ := x
  dsimp only at hi hw hl
  refine lv_iload hx hb dX0_manyFits_19 (lv_at hl 5 rfl) ?_
  refine lv_if_lt (tgt := 83) hx hb dX0_manyFits_21 (by decide) (fun c_21 => ?_) (fun c_21 => ?_)
  · skip
    have hy := dn_neg c_21
    obtain rfl : y = 100 := by omega
    refine lv_aload_n hx hb dX0_manyFits_83 rfl (lv_at hl 0 rfl) ?_
    refine n_get (k := 64) hx hb hts in_X0 hown hw (xp 64) rfl 3 (by decide) q418 rfl dX0_manyFits_84 ?_
    refine n_getN (k := 16 * 0 + 0) hx hb hts in_X4 hown hw (xv0 0) rfl 6 (by decide) q243 rfl dX0_manyFits_87 ?_
    refine lv_iconst (v := 1) hx hb dX0_manyFits_90 (by decide) ?_
    refine n_aaldS (k := 16 * 0 + 7) (t := 4) (j := 1) (b := ad (16 * 0 + 9)) hx hb hw (xv0 7) (Or.inr rfl) rfl (by decide) (by decide) rfl dX0_manyFits_91 ?_
    refine lv_iload_n hx hb dX0_manyFits_92 rfl (lv_at hl 2 rfl) ?_
    refine lv_iload_n hx hb dX0_manyFits_93 rfl (lv_at hl 3 rfl) ?_
    refine l0_iast hx hb hw 9 (by decide) (q := j) rfl (show _ < 8 by omega) (pos := 44 + 5 * j + 1) rfl dX0_manyFits_94 (fun H locs hw => ?_)
    have hw := n_E (show _ = xE G ad (xV w w1 g w3) _ sp sh by rw [td_up, up_self]) hw
    refine lv_iload hx hb dX0_manyFits_95 (lv_at hl 4 rfl) ?_
    exact l_iret hx hb hr hlk rfl hw ⟨rfl, _, rfl⟩ dX0_manyFits_97
  · skip
    have hy := dn_pos c_21
    refine lv_aload_n hx hb dX0_manyFits_24 rfl (lv_at hl 0 rfl) ?_
    refine n_get (k := 64) hx hb hts in_X0 hown hw (xp 64) rfl 3 (by decide) q418 rfl dX0_manyFits_25 ?_
    refine n_getN (k := 16 * 0 + 0) hx hb hts in_X4 hown hw (xv0 0) rfl 6 (by decide) q243 rfl dX0_manyFits_28 ?_
    refine lv_iconst (v := 1) hx hb dX0_manyFits_31 (by decide) ?_
    refine n_aaldS (k := 16 * 0 + 7) (t := 4) (j := 1) (b := ad (16 * 0 + 9)) hx hb hw (xv0 7) (Or.inr rfl) rfl (by decide) (by decide) rfl dX0_manyFits_32 ?_
    refine lv_iload_n hx hb dX0_manyFits_33 rfl (lv_at hl 2 rfl) ?_
    refine lv_iload hx hb dX0_manyFits_34 (lv_at hl 5 rfl) ?_
    refine n_topE (dn_at hy) ?_
    refine l0_iast hx hb hw 9 (by decide) (q := j) rfl (show _ < 8 by omega) (pos := 44 + 5 * j + 1) rfl dX0_manyFits_36 (fun H locs hw => ?_)
    have hw := n_E (show _ = xE G ad (xV (upd w (44 + 5 * j + 1) (nI (99 - y))) w1 g w3) _ sp sh by rw [td_up]) hw
    refine lv_aload_n hx hb dX0_manyFits_37 rfl (lv_at hl 0 rfl) ?_
    refine lv_aload_n hx hb dX0_manyFits_38 rfl (lv_at hl 1 rfl) ?_
    refine n_calli (x_runVW ⟨hx, hb, hml, hown, hts⟩ (tL_wasSo l G ad _ _ _ _ _ _ _ a ty n q B f hq hsh hty hn (hI.tallU _ hj) (by omega)) (x_cwVW 1 hts (lw_VW q898 q900 qs27 q90 q901) rfl rfl hdS_X0_wasSo ⟨by decide, by decide⟩) (hw.preV (k := 64) (xp 64) rfl) rfl rfl hl.1 rfl (lv_room (by simp [Value.category])) dX0_manyFits_39 ⟨Nat.zero_le _, Nat.zero_le _⟩) hw (fun r_39 u_39 H locs e_39 hw => ?_)
    obtain ⟨rfl, rfl⟩ := e_39
    have hw : nS G (xE G ad (xV _ _ _ _) _ _ _) s H locs := hw
    refine n_topE (y := gg (99 - y)) (by rw [← hG]) ?_
    refine lv_istore hx hb dX0_manyFits_42 hl (by decide) rfl (fun ls hl => ?_)
    refine lv_aload_n hx hb dX0_manyFits_44 rfl (lv_at hl 1 rfl) ?_
    refine lv_iload hx hb dX0_manyFits_45 (lv_at hl 0 rfl) ?_
    refine lv_if_eq (tgt := 55) hx hb dX0_manyFits_47 (by decide) (fun c_47 => ?_) (fun c_47 => ?_)
    · skip
      refine lv_aload_n hx hb dX0_manyFits_55 rfl (lv_at hl 1 rfl) ?_
      refine n_get (k := 64) hx hb hts in_X0 hown hw (xp 64) rfl 11 (by decide) q426 rfl dX0_manyFits_56 ?_
      refine l_put hx hb hts hown hw 11 (by decide) q426 rfl rfl dX0_manyFits_59 (fun H locs hw => ?_)
      refine lv_iload hx hb dX0_manyFits_62 (lv_at hl 5 rfl) ?_
      refine lv_iload hx hb dX0_manyFits_64 (lv_at hl 0 rfl) ?_
      refine lv_if_eq (tgt := 73) hx hb dX0_manyFits_66 (by decide) (fun c_66 => ?_) (fun c_66 => ?_)
      · skip
        refine lv_iconst (v := 0) hx hb dX0_manyFits_73 (by decide) ?_
        refine lv_iadd hx hb dX0_manyFits_74 ?_
        refine lv_istore hx hb dX0_manyFits_75 hl (by decide) rfl (fun ls hl => ?_)
        refine lv_iinc (v := dn (y + 1)) hx hb dX0_manyFits_77 hl (k := 6) rfl (dn_s hy) (by decide) rfl (fun ls hl => ?_)
        refine lv_goto (tgt := 19) hx hb dX0_manyFits_80 (by decide) ?_
        exact ih_19 (y + 1, _) _ _ _ (by first | omega | (dsimp only; omega)) ⟨by dsimp only; omega, by rw [x11_up] at hw; rw [ffF, if_pos c_47]; exact hw, by rw [fitF, if_pos c_47]; exact (lv_sub hl [3, 4, 5, 6, 1, 0] rfl)⟩
      · skip
        exact absurd c_47 c_66
    · skip
      refine lv_iload hx hb dX0_manyFits_50 (lv_at hl 6 rfl) ?_
      refine lv_goto (tgt := 59) hx hb dX0_manyFits_52 (by decide) ?_
      refine n_topE (dn_at hy) ?_
      refine l_put hx hb hts hown hw 11 (by decide) q426 rfl rfl dX0_manyFits_59 (fun H locs hw => ?_)
      refine lv_iload hx hb dX0_manyFits_62 (lv_at hl 5 rfl) ?_
      refine lv_iload hx hb dX0_manyFits_64 (lv_at hl 0 rfl) ?_
      refine lv_if_eq (tgt := 73) hx hb dX0_manyFits_66 (by decide) (fun c_66 => ?_) (fun c_66 => ?_)
      · skip
        exact absurd c_66 c_47
      · skip
        refine lv_iconst (v := 1) hx hb dX0_manyFits_69 (by decide) ?_
        refine lv_goto (tgt := 74) hx hb dX0_manyFits_70 (by decide) ?_
        refine lv_iadd hx hb dX0_manyFits_74 ?_
        refine lv_istore hx hb dX0_manyFits_75 hl (by decide) rfl (fun ls hl => ?_)
        refine lv_iinc (v := dn (y + 1)) hx hb dX0_manyFits_77 hl (k := 6) rfl (dn_s hy) (by decide) rfl (fun ls hl => ?_)
        refine lv_goto (tgt := 19) hx hb dX0_manyFits_80 (by decide) ?_
        exact ih_19 (y + 1, _) _ _ _ (by first | omega | (dsimp only; omega)) ⟨by dsimp only; omega, by rw [x11_up] at hw; rw [ffF, if_neg c_47]; exact hw, by rw [fitF, if_neg c_47]; exact (lv_sub hl [3, 4, 5, 6, 1, 0] rfl)⟩
theorem hdS_X0_kindsThatFit : yX0_kindsThatFit.cls = "LineCalls" ∧ yX0_kindsThatFit.cls ≠ "java/lang/invoke/MethodHandle" ∧ yX0_kindsThatFit.cls ≠ "java/lang/invoke/VarHandle" ∧ (parseMethodDescriptor yX0_kindsThatFit.desc).map (fun d => d.parameters.length) = some 2 := by decide +kernel
set_option maxHeartbeats 4000000 in
theorem tL_kindsThatFit (l : Launch) (G : nG) (ad : Nat → Nat) (w w1 w2 w3 : rw84) (X : mM) (sp : xSp) (sh : xSh) (a ty n q B : Nat) (f : Nat → Int32) (hq : q ≤ 3) (hsh : sh q = some (a, ty, n, f)) (hty : ty < 3) (hn : n ≤ 40) (hI : Inv B w) (hB : B ≤ 100000) (j : Nat) (hj : j < 8) : Met l yX0_kindsThatFit (ws_ yX0_kindsThatFit cX0_kindsThatFit 6 (some .int)) { frames := 8, cells := 0, slots := 0, locals := 170 } (va_Pc [.ref (ad 64), .ref a, .int (nI j)] (nC G (xE G ad (xV w w1 w2 w3) X sp sh))) (va_Qi (fun (r : Int32) (u : xSt) => r = orF (fun v => soR f n 0 (upd w (44 + 5 * j + 0) (nI v))) 7 ∧ ∃ g, u = (w, w1, g, w3, X, sp, sh)) (fun u => nC G (xE G ad (xV u.1 u.2.1 u.2.2.1 u.2.2.2.1) u.2.2.2.2.1 u.2.2.2.2.2.1 u.2.2.2.2.2.2)) (nA G)) 0 0 (nA G) := by
  refine n_head (by decide) (Nat.le_of_ble_eq_true rfl) ?_
  intro p e s m below meth c ls hx hb hr hlk hml hown hts hB0 hl
  have hown : s.vm.findClass "LineCalls" = some m.cls := hown
  have hw := nS.start hB0
  have hl : lv_has ls 6 [(0, .ref (ad 64)), (1, .ref a), (2, .int (nI j))] := hl
  refine lv_aload_n hx hb dX0_kindsThatFit_0 rfl (lv_at hl 0 rfl) ?_
  refine n_get (k := 64) hx hb hts in_X0 hown hw (xp 64) rfl 3 (by decide) q418 rfl dX0_kindsThatFit_1 ?_
  refine n_getN (k := 16 * 0 + 0) hx hb hts in_X4 hown hw (xv0 0) rfl 6 (by decide) q243 rfl dX0_kindsThatFit_4 ?_
  refine lv_iconst (v := 0) hx hb dX0_kindsThatFit_7 (by decide) ?_
  refine n_aaldS (k := 16 * 0 + 7) (t := 4) (j := 0) (b := ad (16 * 0 + 8)) hx hb hw (xv0 7) (Or.inr rfl) rfl (by decide) (by decide) rfl dX0_kindsThatFit_8 ?_
  refine lv_iload_n hx hb dX0_kindsThatFit_9 rfl (lv_at hl 2 rfl) ?_
  refine n_iald (k := 16 * 0 + 8) (j := j) hx hb hw (xv0 8) rfl (by omega) (by decide) dX0_kindsThatFit_10 ?_
  refine lv_istore_n hx hb dX0_kindsThatFit_11 rfl hl (by decide) rfl (fun ls hl => ?_)
  refine lv_iconst (v := 0) hx hb dX0_kindsThatFit_12 (by decide) ?_
  refine lv_istore hx hb dX0_kindsThatFit_13 hl (by decide) rfl (fun ls hl => ?_)
  refine lv_iconst (v := 0) hx hb dX0_kindsThatFit_15 (by decide) ?_
  refine lv_istore hx hb dX0_kindsThatFit_16 hl (by decide) rfl (fun ls hl => ?_)
  refine n_loop (α := Nat × rw84) (fun x H locs ls => x.1 ≤ 7 ∧ nS G (xE G ad (xV (tryF w (44 + 5 * j + 0) x.1) w1 x.2 w3) X sp sh) s H locs ∧ lv_has ls 6 [(0, .ref (ad 64)), (1, .ref a), (2, .int (nI j)), (3, .int (w (44 + 5 * j + 0))), (4, .int (orF (fun v => soR f n 0 (upd w (44 + 5 * j + 0) (nI v))) x.1)), (5, .int (nI x.1))]) (fun x => 7 - x.1) 18 ?_ (0, w2) _ _ _ ⟨Nat.zero_le _, hw, (lv_sub hl [3, 4, 5, 2, 1, 0] rfl)⟩
  clear hl hw
  intro x H locs ls hI ih_18
  obtain ⟨hv, hw, hl⟩ := hI
  obtain ⟨v, g⟩ := x
  dsimp only at hv hw hl
  refine lv_iload hx hb dX0_kindsThatFit_18 (lv_at hl 5 rfl) ?_
  refine lv_bipush (v := 7) hx hb dX0_kindsThatFit_20 (by decide) ?_
  refine lv_icmp_ge (tgt := 65) hx hb dX0_kindsThatFit_22 (by decide) (fun c_22 => ?_) (fun c_22 => ?_)
  · skip
    have n_22 : 7 ≤ v := (nI_leI (a := 7) (b := v) (by omega) (by omega)).mp c_22
    obtain rfl : v = 7 := by omega
    refine lv_aload_n hx hb dX0_kindsThatFit_65 rfl (lv_at hl 0 rfl) ?_
    refine n_get (k := 64) hx hb hts in_X0 hown hw (xp 64) rfl 3 (by decide) q418 rfl dX0_kindsThatFit_66 ?_
    refine n_getN (k := 16 * 0 + 0) hx hb hts in_X4 hown hw (xv0 0) rfl 6 (by decide) q243 rfl dX0_kindsThatFit_69 ?_
    refine lv_iconst (v := 0) hx hb dX0_kindsThatFit_72 (by decide) ?_
    refine n_aaldS (k := 16 * 0 + 7) (t := 4) (j := 0) (b := ad (16 * 0 + 8)) hx hb hw (xv0 7) (Or.inr rfl) rfl (by decide) (by decide) rfl dX0_kindsThatFit_73 ?_
    refine lv_iload_n hx hb dX0_kindsThatFit_74 rfl (lv_at hl 2 rfl) ?_
    refine lv_iload_n hx hb dX0_kindsThatFit_75 rfl (lv_at hl 3 rfl) ?_
    refine l0_iast hx hb hw 8 (by decide) (q := j) rfl (show _ < 8 by omega) (pos := 44 + 5 * j + 0) rfl dX0_kindsThatFit_76 (fun H locs hw => ?_)
    have hw := n_E (show _ = xE G ad (xV w w1 g w3) X sp sh by rw [try_back]) hw
    refine lv_iload hx hb dX0_kindsThatFit_77 (lv_at hl 4 rfl) ?_
    exact l_iret hx hb hr hlk rfl hw ⟨rfl, _, rfl⟩ dX0_kindsThatFit_79
  · skip
    have n_22 : ¬ 7 ≤ v := fun h => c_22 ((nI_leI (a := 7) (b := v) (by omega) (by omega)).mpr h)
    refine lv_aload_n hx hb dX0_kindsThatFit_25 rfl (lv_at hl 0 rfl) ?_
    refine n_get (k := 64) hx hb hts in_X0 hown hw (xp 64) rfl 3 (by decide) q418 rfl dX0_kindsThatFit_26 ?_
    refine n_getN (k := 16 * 0 + 0) hx hb hts in_X4 hown hw (xv0 0) rfl 6 (by decide) q243 rfl dX0_kindsThatFit_29 ?_
    refine lv_iconst (v := 0) hx hb dX0_kindsThatFit_32 (by decide) ?_
    refine n_aaldS (k := 16 * 0 + 7) (t := 4) (j := 0) (b := ad (16 * 0 + 8)) hx hb hw (xv0 7) (Or.inr rfl) rfl (by decide) (by decide) rfl dX0_kindsThatFit_33 ?_
    refine lv_iload_n hx hb dX0_kindsThatFit_34 rfl (lv_at hl 2 rfl) ?_
    refine lv_iload hx hb dX0_kindsThatFit_35 (lv_at hl 5 rfl) ?_
    refine l0_iast hx hb hw 8 (by decide) (q := j) rfl (show _ < 8 by omega) (pos := 44 + 5 * j + 0) rfl dX0_kindsThatFit_37 (fun H locs hw => ?_)
    have hw := n_E (show _ = xE G ad (xV (upd w (44 + 5 * j + 0) (nI v)) w1 g w3) X sp sh by rw [try_up]) hw
    refine lv_iload hx hb dX0_kindsThatFit_38 (lv_at hl 4 rfl) ?_
    refine lv_aload_n hx hb dX0_kindsThatFit_40 rfl (lv_at hl 0 rfl) ?_
    refine lv_aload_n hx hb dX0_kindsThatFit_41 rfl (lv_at hl 1 rfl) ?_
    refine n_calli (x_runVW ⟨hx, hb, hml, hown, hts⟩ (tL_wasSo l G ad _ _ _ _ _ _ _ a ty n q B f hq hsh hty hn (hI.kindU hj (by omega)) (by omega)) (x_cwVW 1 hts (lw_VW q898 q900 qs27 q90 q901) rfl rfl hdS_X0_wasSo ⟨by decide, by decide⟩) (hw.preV (k := 64) (xp 64) rfl) rfl rfl hl.1 rfl (lv_room (by simp [Value.category])) dX0_kindsThatFit_42 ⟨Nat.zero_le _, Nat.zero_le _⟩) hw (fun r_42 u_42 H locs e_42 hw => ?_)
    obtain ⟨rfl, rfl⟩ := e_42
    have hw : nS G (xE G ad (xV _ _ _ _) _ _ _) s H locs := hw
    refine n_topE (y := (fun v => soR f n 0 (upd w (44 + 5 * j + 0) (nI v))) v) rfl ?_
    dsimp only
    refine lv_if_eq (tgt := 55) hx hb dX0_kindsThatFit_45 (by decide) (fun c_45 => ?_) (fun c_45 => ?_)
    · skip
      refine lv_iconst (v := 0) hx hb dX0_kindsThatFit_55 (by decide) ?_
      refine lv_ior hx hb dX0_kindsThatFit_56 ?_
      refine lv_istore hx hb dX0_kindsThatFit_57 hl (by decide) rfl (fun ls hl => ?_)
      refine lv_iinc (v := nI (v + 1)) hx hb dX0_kindsThatFit_59 hl (k := 5) rfl (nI_1 _) (by decide) rfl (fun ls hl => ?_)
      refine lv_goto (tgt := 18) hx hb dX0_kindsThatFit_62 (by decide) ?_
      exact ih_18 (v + 1, _) _ _ _ (by first | omega | (dsimp only; omega)) ⟨by dsimp only; omega, hw, by dsimp only; rw [orF, if_pos c_45]; exact (lv_sub hl [2, 3, 4, 5, 1, 0] rfl)⟩
    · skip
      refine lv_iconst (v := 1) hx hb dX0_kindsThatFit_48 (by decide) ?_
      refine lv_iload hx hb dX0_kindsThatFit_49 (lv_at hl 5 rfl) ?_
      refine lv_ishl hx hb dX0_kindsThatFit_51 ?_
      refine lv_goto (tgt := 56) hx hb dX0_kindsThatFit_52 (by decide) ?_
      refine lv_ior hx hb dX0_kindsThatFit_56 ?_
      refine lv_istore hx hb dX0_kindsThatFit_57 hl (by decide) rfl (fun ls hl => ?_)
      refine lv_iinc (v := nI (v + 1)) hx hb dX0_kindsThatFit_59 hl (k := 5) rfl (nI_1 _) (by decide) rfl (fun ls hl => ?_)
      refine lv_goto (tgt := 18) hx hb dX0_kindsThatFit_62 (by decide) ?_
      exact ih_18 (v + 1, _) _ _ _ (by first | omega | (dsimp only; omega)) ⟨by dsimp only; omega, hw, by dsimp only; rw [orF, if_neg c_45]; exact (lv_sub hl [2, 3, 4, 5, 1, 0] rfl)⟩
theorem hdS_X0_loads : yX0_loads.cls = "LineCalls" ∧ yX0_loads.cls ≠ "java/lang/invoke/MethodHandle" ∧ yX0_loads.cls ≠ "java/lang/invoke/VarHandle" ∧ (parseMethodDescriptor yX0_loads.desc).map (fun d => d.parameters.length) = some 1 := by decide +kernel
set_option maxHeartbeats 4000000 in
theorem tL_loads (l : Launch) (G : nG) (ad : Nat → Nat) (w w1 w2 w3 : rw84) (X : mM) (sp : xSp) (sh : xSh) (a ty n q B : Nat) (f : Nat → Int32) (hq : q ≤ 3) (hsh : sh q = some (a, ty, n, f)) (hty : ty < 3) (hn : n ≤ 40) (hI : Inv B w) (hB : B ≤ 100000) : Met l yX0_loads (ws_ yX0_loads cX0_loads 3 (some .int)) { frames := 2, cells := 0, slots := 0, locals := 42 } (va_Pc [.ref (ad 64), .ref a] (nC G (xE G ad (xV w w1 w2 w3) X sp sh))) (va_Qi (fun (r : Int32) (u : xSt) => r = nI (ldR f (min n 6) 0 w).1 ∧ u = ((ldR f (min n 6) 0 w).2, w1, w2, w3, X, sp, sh)) (fun u => nC G (xE G ad (xV u.1 u.2.1 u.2.2.1 u.2.2.2.1) u.2.2.2.2.1 u.2.2.2.2.2.1 u.2.2.2.2.2.2)) (nA G)) 0 0 (nA G) := by
  refine n_head (by decide) (Nat.le_of_ble_eq_true rfl) ?_
  intro p e s m below meth c ls hx hb hr hlk hml hown hts hB0 hl
  have hown : s.vm.findClass "LineCalls" = some m.cls := hown
  have hw := nS.start hB0
  have hl : lv_has ls 3 [(0, .ref (ad 64)), (1, .ref a)] := hl
  refine lv_iconst (v := 0) hx hb dX0_loads_0 (by decide) ?_
  refine lv_istore_n hx hb dX0_loads_1 rfl hl (by decide) rfl (fun ls hl => ?_)
  refine n_loop (α := Nat × rw84) (fun x H locs ls => x.1 ≤ n ∧ x.1 ≤ 6 ∧ ldR f (min n 6 - x.1) x.1 x.2 = ldR f (min n 6) 0 w ∧ nS G (xE G ad (xV x.2 w1 w2 w3) X sp sh) s H locs ∧ lv_has ls 3 [(0, .ref (ad 64)), (1, .ref a), (2, .int (nI x.1))]) (fun x => n - x.1) 2 ?_ (0, w) _ _ _ ⟨Nat.zero_le _, Nat.zero_le _, rfl, hw, (lv_sub hl [1, 2, 0] rfl)⟩
  clear hl hw
  intro x H locs ls hI ih_2
  obtain ⟨hk, hk6, hf, hw, hl⟩ := hI
  obtain ⟨k, v⟩ := x
  dsimp only at hk hk6 hf hw hl
  refine lv_iload_n hx hb dX0_loads_2 rfl (lv_at hl 2 rfl) ?_
  refine lv_aload_n hx hb dX0_loads_3 rfl (lv_at hl 1 rfl) ?_
  refine n_callp (va_runS ⟨hx, hb, hml, hown, hts⟩ (tX_length l G _ (320 + q) ty n a f (sh_at (by omega) hsh) hty hn) (va_cwS 1 hts (lw_S q902 q903 q90 q904) rfl rfl rfl (hdS_X0_length).2 ⟨by decide, by decide⟩) hw.preS rfl rfl hl.1 rfl (lv_room (by simp [Value.category])) dX0_loads_4 ⟨Nat.zero_le _, Nat.zero_le _⟩) (fun r_4 e_4 => ?_)
  subst e_4
  refine lv_icmp_ge (tgt := 48) hx hb dX0_loads_7 (by decide) (fun c_7 => ?_) (fun c_7 => ?_)
  · skip
    have n_7 : n ≤ k := (nI_leI (a := n) (b := k) (by omega) (by omega)).mp c_7
    have hN := (ld_end (show min n 6 - k = 0 by omega)).symm.trans hf
    refine lv_iload_n hx hb dX0_loads_48 rfl (lv_at hl 2 rfl) ?_
    exact l_iret hx hb hr hlk rfl hw (by rw [← hN]; exact ⟨rfl, rfl⟩) dX0_loads_49
  · skip
    have n_7 : ¬ n ≤ k := fun h => c_7 ((nI_leI (a := n) (b := k) (by omega) (by omega)).mpr h)
    refine lv_iload_n hx hb dX0_loads_10 rfl (lv_at hl 2 rfl) ?_
    refine n_callp (va_runS ⟨hx, hb, hml, hown, hts⟩ (tX_isListed l _) (va_cwS 1 hts (lw_S q505 q506 q90 q507) rfl rfl rfl (hdS_X0_isListed).2 ⟨by decide, by decide⟩) pu_pre rfl rfl hl.1 rfl (lv_room (by simp [Value.category])) dX0_loads_11 ⟨Nat.zero_le _, Nat.zero_le _⟩) (fun r_11 e_11 => ?_)
    subst e_11
    refine lv_if_eq (tgt := 48) hx hb dX0_loads_14 (by decide) (fun c_14 => ?_) (fun c_14 => ?_)
    · skip
      have hk7 := ls_no (by omega) c_14
      have hN := (ld_end (show min n 6 - k = 0 by omega)).symm.trans hf
      refine lv_iload_n hx hb dX0_loads_48 rfl (lv_at hl 2 rfl) ?_
      exact l_iret hx hb hr hlk rfl hw (by rw [← hN]; exact ⟨rfl, rfl⟩) dX0_loads_49
    · skip
      have hk7 := ls_yes (by omega) c_14
      refine lv_aload_n hx hb dX0_loads_17 rfl (lv_at hl 1 rfl) ?_
      refine lv_iload_n hx hb dX0_loads_18 rfl (lv_at hl 2 rfl) ?_
      refine n_callp (va_runS ⟨hx, hb, hml, hown, hts⟩ (tX_number l G _ (320 + q) ty n a f (sh_at (by omega) hsh) hty hn (k) (by omega)) (va_cwS 2 hts (lw_S q908 q909 q90 q910) rfl rfl rfl (hdS_X0_number).2 ⟨by decide, by decide⟩) hw.preS rfl rfl hl.1 rfl (lv_room (by simp [Value.category])) dX0_loads_19 ⟨Nat.zero_le _, Nat.zero_le _⟩) (fun r_19 e_19 => ?_)
      subst e_19
      refine n_callp (va_runS ⟨hx, hb, hml, hown, hts⟩ (tX_isCall l _) (va_cwS 1 hts (lw_S q508 q509 q90 q510) rfl rfl rfl (hdS_X0_isCall).2 ⟨by decide, by decide⟩) pu_pre rfl rfl hl.1 rfl (lv_room (by simp [Value.category])) dX0_loads_22 ⟨Nat.zero_le _, Nat.zero_le _⟩) (fun r_22 e_22 => ?_)
      subst e_22
      refine lv_if_eq (tgt := 48) hx hb dX0_loads_25 (by decide) (fun c_25 => ?_) (fun c_25 => ?_)
      · skip
        have hN := (ld_stop (f := f) (k := k) (min n 6 - k) c_25).symm.trans hf
        refine lv_iload_n hx hb dX0_loads_48 rfl (lv_at hl 2 rfl) ?_
        exact l_iret hx hb hr hlk rfl hw (by rw [← hN]; exact ⟨rfl, rfl⟩) dX0_loads_49
      · skip
        refine lv_aload_n hx hb dX0_loads_28 rfl (lv_at hl 0 rfl) ?_
        refine n_get (k := 64) hx hb hts in_X0 hown hw (xp 64) rfl 3 (by decide) q418 rfl dX0_loads_29 ?_
        refine n_getN (k := 16 * 0 + 0) hx hb hts in_X4 hown hw (xv0 0) rfl 3 (by decide) q234 rfl dX0_loads_32 ?_
        refine lv_iload_n hx hb dX0_loads_35 rfl (lv_at hl 2 rfl) ?_
        refine lv_aload_n hx hb dX0_loads_36 rfl (lv_at hl 1 rfl) ?_
        refine lv_iload_n hx hb dX0_loads_37 rfl (lv_at hl 2 rfl) ?_
        refine n_callp (va_runS ⟨hx, hb, hml, hown, hts⟩ (tX_number l G _ (320 + q) ty n a f (sh_at (by omega) hsh) hty hn (k) (by omega)) (va_cwS 2 hts (lw_S q908 q909 q90 q910) rfl rfl rfl (hdS_X0_number).2 ⟨by decide, by decide⟩) hw.preS rfl rfl hl.1 rfl (lv_room (by simp [Value.category])) dX0_loads_38 ⟨Nat.zero_le _, Nat.zero_le _⟩) (fun r_38 e_38 => ?_)
        subst e_38
        refine l0_iast hx hb hw 6 (by decide) (q := k) rfl (show _ < 6 by omega) (pos := 38 + k) rfl dX0_loads_41 (fun H locs hw => ?_)
        refine lv_iinc (v := nI (k + 1)) hx hb dX0_loads_42 hl (k := 2) rfl (nI_1 _) (by decide) rfl (fun ls hl => ?_)
        refine lv_goto (tgt := 2) hx hb dX0_loads_45 (by decide) ?_
        exact ih_2 (k + 1, upd v (38 + k) (f k)) _ _ _ (by first | omega | (dsimp only; omega)) ⟨by dsimp only; omega, by dsimp only; omega, (ld_go (f := f) (k := k) (N := min n 6) (by omega) c_25).symm.trans hf, hw, (lv_sub hl [1, 2, 0] rfl)⟩
