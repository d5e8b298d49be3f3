/-! fields of nest mates written by the outer class -/
set_option maxRecDepth 100000
section XNS
variable {G : nG} {ad : Nat → Nat} {V : xWs} {X : mM} {sp : xSp} {sh : xSh} {w w1 w2 w3 : rw84}
variable {p : Program} {l : Launch} {e : Env} {R : Room} {s : State} {m : MethodId} {args : Array Value} {below : List Frame} {meth : Method} {c : Code} {H : Heap} {locs : List Loc} {cells slots : Nat} {Q : State → Prop} {cc : ByteArray} {pc : Nat} {ls : Array Slot} {rest : List Value}
theorem l0_putz (hexec : p.tables.exec = Jvm.exec) (hb : c.code = cc) (hts : ∀ w ∈ lw_all, w.before args s = true) (hown : s.vm.findClass "LineCalls" = some m.cls) (hw : nS G (xE G ad (xV w w1 w2 w3) X sp sh) s H locs) {index : Nat} {host : String} (hlink : Cond.fieldLinkNest "LineCalls" index (TX4 8).1 (TX4 8).2.1 (TX4 8).2.2.1 host ∈ lw_tbl) {v : Int32} (hdg : decode cc pc = .ok (.putfield index, 3))
    (kk : ∀ (H1 : Heap) (locs1 : List Loc), nS G (xE G ad (xV (upd w 2 v) w1 w2 w3) X sp sh) s H1 locs1 → W p l e R s m args below meth c H1 locs1 cells slots Q (F0 m (pc + 3) ls rest)) : W p l e R s m args below meth c H locs cells slots Q (F0 m pc ls (.int v :: .ref (ad (16 * 0 + 0)) :: rest)) := by
  refine n_putN (k := 16 * 0 + 0) hexec hb hts in_X4 tyX4 tyX4_ok nmX4 hown hw (ci := 4) (xv0 0) rfl 8 (by decide) hlink rfl rfl rfl (Nat.le_of_ble_eq_true rfl) hdg (fun H1 locs1 h => kk H1 locs1 ?_)
  have h2 := xE_fld (f := 8) (j := 0) (by decide) (by decide) h
  rw [xV_0] at h2
  exact h2
theorem l_putF (hexec : p.tables.exec = Jvm.exec) (hb : c.code = cc) (hts : ∀ w ∈ lw_all, w.before args s = true) (hown : s.vm.findClass "LineCalls" = some m.cls) (hw : nS G (xE G ad V X sp sh) s H locs) {index : Nat} {host : String} (hlink : Cond.fieldLinkNest "LineCalls" index (TX1 6).1 (TX1 6).2.1 (TX1 6).2.2.1 host ∈ lw_tbl) {v : Int32} (hdg : decode cc pc = .ok (.putfield index, 3))
    (kk : ∀ (H1 : Heap) (locs1 : List Loc), nS G (xE G ad V (u2 X 20 0 v) sp sh) s H1 locs1 → W p l e R s m args below meth c H1 locs1 cells slots Q (F0 m (pc + 3) ls rest)) : W p l e R s m args below meth c H locs cells slots Q (F0 m pc ls (.int v :: .ref (ad 65) :: rest)) :=
  n_putN (k := 65) hexec hb hts in_X1 tyX1 tyX1_ok nmX1 hown hw (ci := 1) (fs := xF1 X) (xp 65) rfl 6 (by decide) hlink rfl rfl rfl (Nat.le_of_ble_eq_true rfl) hdg (fun H1 locs1 h => kk H1 locs1 (n_E (xE_i1 v) h))
theorem l_putL (hexec : p.tables.exec = Jvm.exec) (hb : c.code = cc) (hts : ∀ w ∈ lw_all, w.before args s = true) (hown : s.vm.findClass "LineCalls" = some m.cls) (hw : nS G (xE G ad V X sp sh) s H locs) {index : Nat} {host : String} (hlink : Cond.fieldLinkNest "LineCalls" index (TX2 3).1 (TX2 3).2.1 (TX2 3).2.2.1 host ∈ lw_tbl) {v : Int32} (hdg : decode cc pc = .ok (.putfield index, 3))
    (kk : ∀ (H1 : Heap) (locs1 : List Loc), nS G (xE G ad V (u2 X 33 0 v) sp sh) s H1 locs1 → W p l e R s m args below meth c H1 locs1 cells slots Q (F0 m (pc + 3) ls rest)) : W p l e R s m args below meth c H locs cells slots Q (F0 m pc ls (.int v :: .ref (ad 66) :: rest)) :=
  n_putN (k := 66) hexec hb hts in_X2 tyX2 tyX2_ok nmX2 hown hw (ci := 2) (fs := xF2 ad X) (xp 66) rfl 3 (by decide) hlink rfl rfl rfl (Nat.le_of_ble_eq_true rfl) hdg (fun H1 locs1 h => kk H1 locs1 (n_E (xE_i2 3 (by decide) v) h))
end XNS
