/-! the reference's object: M k is the contents of its field k (an int field: M k 0); names: 0 the object, k+1 the array of field k; ad: addresses -/
set_option maxRecDepth 100000
abbrev mM : Type := Nat → Nat → Int32
/-- one number changed; one row changed -/
abbrev ur (M : mM) (k : Nat) (f : Nat → Int32) : mM := va_up M k f
abbrev u2 (M : mM) (k i : Nat) (v : Int32) : mM := va_up M k (upd (M k) i v)
abbrev mF (ad : Nat → Nat) (M : mM) : List Value := [.ref (ad 1), .ref (ad 2), .ref (ad 3), .int (M 3 0), .ref (ad 5), .int (M 5 0), .int (M 6 0), .ref (ad 8), .int (M 8 0), .int (M 9 0), .int (M 10 0), .int (M 11 0), .int (M 12 0), .int (M 13 0), .ref (ad 15), .ref (ad 16), .ref (ad 17), .ref (ad 18), .int (M 18 0), .int (M 19 0), .int (M 20 0), .ref (ad 22), .ref (ad 23), .ref (ad 24), .ref (ad 25)]
def mE (G : nG) (ad : Nat → Nat) (w : Nat → Int32) (M : mM) : nE := fun n => match n with
  | 0 => some (ad 0, .inr (13, mF ad M))
  | 1 => some (ad 1, .inl (G.2.1 0, 84, .inl w))
  | 2 => some (ad 2, .inl (G.2.1 0, 84, .inl (M 1)))
  | 3 => some (ad 3, .inl (G.2.1 0, 84, .inl (M 2)))
  | 5 => some (ad 5, .inl (G.2.1 0, 8, .inl (M 4)))
  | 8 => some (ad 8, .inl (G.2.1 0, 120, .inl (M 7)))
  | 15 => some (ad 15, .inl (G.2.1 5, 7, .inr (.inr (.inr (.inr (fun i => some (G.2.2.2.1 (i + 1))))))))
  | 16 => some (ad 16, .inl (G.2.1 0, 120, .inl (M 15)))
  | 17 => some (ad 17, .inl (G.2.1 0, 120, .inl (M 16)))
  | 18 => some (ad 18, .inl (G.2.1 0, 120, .inl (M 17)))
  | 22 => some (ad 22, .inl (G.2.1 0, 4, .inl (M 21)))
  | 23 => some (ad 23, .inl (G.2.1 0, 4, .inl (M 22)))
  | 24 => some (ad 24, .inl (G.2.1 0, 160, .inl (M 23)))
  | 25 => some (ad 25, .inl (G.2.1 0, 40, .inl (M 24)))
  | _ => none
theorem mU_0 (G : nG) (ad : Nat → Nat) (w : Nat → Int32) (M : mM) (f : Nat → Int32) : va_up (mE G ad w M) 1 (some (ad 1, .inl (G.2.1 0, 84, .inl f))) = mE G ad f M := by
  funext n
  match n with
  | 0 => rfl
  | 1 => rfl
  | 2 => rfl
  | 3 => rfl
  | 4 => rfl
  | 5 => rfl
  | 6 => rfl
  | 7 => rfl
  | 8 => rfl
  | 9 => rfl
  | 10 => rfl
  | 11 => rfl
  | 12 => rfl
  | 13 => rfl
  | 14 => rfl
  | 15 => rfl
  | 16 => rfl
  | 17 => rfl
  | 18 => rfl
  | 19 => rfl
  | 20 => rfl
  | 21 => rfl
  | 22 => rfl
  | 23 => rfl
  | 24 => rfl
  | 25 => rfl
  | n + 26 => rfl
theorem mU_1 (G : nG) (ad : Nat → Nat) (w : Nat → Int32) (M : mM) (f : Nat → Int32) : va_up (mE G ad w M) 2 (some (ad 2, .inl (G.2.1 0, 84, .inl f))) = mE G ad w (ur M 1 f) := by
  funext n
  match n with
  | 0 => rfl
  | 1 => rfl
  | 2 => rfl
  | 3 => rfl
  | 4 => rfl
  | 5 => rfl
  | 6 => rfl
  | 7 => rfl
  | 8 => rfl
  | 9 => rfl
  | 10 => rfl
  | 11 => rfl
  | 12 => rfl
  | 13 => rfl
  | 14 => rfl
  | 15 => rfl
  | 16 => rfl
  | 17 => rfl
  | 18 => rfl
  | 19 => rfl
  | 20 => rfl
  | 21 => rfl
  | 22 => rfl
  | 23 => rfl
  | 24 => rfl
  | 25 => rfl
  | n + 26 => rfl
theorem mU_2 (G : nG) (ad : Nat → Nat) (w : Nat → Int32) (M : mM) (f : Nat → Int32) : va_up (mE G ad w M) 3 (some (ad 3, .inl (G.2.1 0, 84, .inl f))) = mE G ad w (ur M 2 f) := by
  funext n
  match n with
  | 0 => rfl
  | 1 => rfl
  | 2 => rfl
  | 3 => rfl
  | 4 => rfl
  | 5 => rfl
  | 6 => rfl
  | 7 => rfl
  | 8 => rfl
  | 9 => rfl
  | 10 => rfl
  | 11 => rfl
  | 12 => rfl
  | 13 => rfl
  | 14 => rfl
  | 15 => rfl
  | 16 => rfl
  | 17 => rfl
  | 18 => rfl
  | 19 => rfl
  | 20 => rfl
  | 21 => rfl
  | 22 => rfl
  | 23 => rfl
  | 24 => rfl
  | 25 => rfl
  | n + 26 => rfl
theorem mU_4 (G : nG) (ad : Nat → Nat) (w : Nat → Int32) (M : mM) (f : Nat → Int32) : va_up (mE G ad w M) 5 (some (ad 5, .inl (G.2.1 0, 8, .inl f))) = mE G ad w (ur M 4 f) := by
  funext n
  match n with
  | 0 => rfl
  | 1 => rfl
  | 2 => rfl
  | 3 => rfl
  | 4 => rfl
  | 5 => rfl
  | 6 => rfl
  | 7 => rfl
  | 8 => rfl
  | 9 => rfl
  | 10 => rfl
  | 11 => rfl
  | 12 => rfl
  | 13 => rfl
  | 14 => rfl
  | 15 => rfl
  | 16 => rfl
  | 17 => rfl
  | 18 => rfl
  | 19 => rfl
  | 20 => rfl
  | 21 => rfl
  | 22 => rfl
  | 23 => rfl
  | 24 => rfl
  | 25 => rfl
  | n + 26 => rfl
theorem mU_7 (G : nG) (ad : Nat → Nat) (w : Nat → Int32) (M : mM) (f : Nat → Int32) : va_up (mE G ad w M) 8 (some (ad 8, .inl (G.2.1 0, 120, .inl f))) = mE G ad w (ur M 7 f) := by
  funext n
  match n with
  | 0 => rfl
  | 1 => rfl
  | 2 => rfl
  | 3 => rfl
  | 4 => rfl
  | 5 => rfl
  | 6 => rfl
  | 7 => rfl
  | 8 => rfl
  | 9 => rfl
  | 10 => rfl
  | 11 => rfl
  | 12 => rfl
  | 13 => rfl
  | 14 => rfl
  | 15 => rfl
  | 16 => rfl
  | 17 => rfl
  | 18 => rfl
  | 19 => rfl
  | 20 => rfl
  | 21 => rfl
  | 22 => rfl
  | 23 => rfl
  | 24 => rfl
  | 25 => rfl
  | n + 26 => rfl
theorem mU_15 (G : nG) (ad : Nat → Nat) (w : Nat → Int32) (M : mM) (f : Nat → Int32) : va_up (mE G ad w M) 16 (some (ad 16, .inl (G.2.1 0, 120, .inl f))) = mE G ad w (ur M 15 f) := by
  funext n
  match n with
  | 0 => rfl
  | 1 => rfl
  | 2 => rfl
  | 3 => rfl
  | 4 => rfl
  | 5 => rfl
  | 6 => rfl
  | 7 => rfl
  | 8 => rfl
  | 9 => rfl
  | 10 => rfl
  | 11 => rfl
  | 12 => rfl
  | 13 => rfl
  | 14 => rfl
  | 15 => rfl
  | 16 => rfl
  | 17 => rfl
  | 18 => rfl
  | 19 => rfl
  | 20 => rfl
  | 21 => rfl
  | 22 => rfl
  | 23 => rfl
  | 24 => rfl
  | 25 => rfl
  | n + 26 => rfl
theorem mU_16 (G : nG) (ad : Nat → Nat) (w : Nat → Int32) (M : mM) (f : Nat → Int32) : va_up (mE G ad w M) 17 (some (ad 17, .inl (G.2.1 0, 120, .inl f))) = mE G ad w (ur M 16 f) := by
  funext n
  match n with
  | 0 => rfl
  | 1 => rfl
  | 2 => rfl
  | 3 => rfl
  | 4 => rfl
  | 5 => rfl
  | 6 => rfl
  | 7 => rfl
  | 8 => rfl
  | 9 => rfl
  | 10 => rfl
  | 11 => rfl
  | 12 => rfl
  | 13 => rfl
  | 14 => rfl
  | 15 => rfl
  | 16 => rfl
  | 17 => rfl
  | 18 => rfl
  | 19 => rfl
  | 20 => rfl
  | 21 => rfl
  | 22 => rfl
  | 23 => rfl
  | 24 => rfl
  | 25 => rfl
  | n + 26 => rfl
theorem mU_17 (G : nG) (ad : Nat → Nat) (w : Nat → Int32) (M : mM) (f : Nat → Int32) : va_up (mE G ad w M) 18 (some (ad 18, .inl (G.2.1 0, 120, .inl f))) = mE G ad w (ur M 17 f) := by
  funext n
  match n with
  | 0 => rfl
  | 1 => rfl
  | 2 => rfl
  | 3 => rfl
  | 4 => rfl
  | 5 => rfl
  | 6 => rfl
  | 7 => rfl
  | 8 => rfl
  | 9 => rfl
  | 10 => rfl
  | 11 => rfl
  | 12 => rfl
  | 13 => rfl
  | 14 => rfl
  | 15 => rfl
  | 16 => rfl
  | 17 => rfl
  | 18 => rfl
  | 19 => rfl
  | 20 => rfl
  | 21 => rfl
  | 22 => rfl
  | 23 => rfl
  | 24 => rfl
  | 25 => rfl
  | n + 26 => rfl
theorem mU_21 (G : nG) (ad : Nat → Nat) (w : Nat → Int32) (M : mM) (f : Nat → Int32) : va_up (mE G ad w M) 22 (some (ad 22, .inl (G.2.1 0, 4, .inl f))) = mE G ad w (ur M 21 f) := by
  funext n
  match n with
  | 0 => rfl
  | 1 => rfl
  | 2 => rfl
  | 3 => rfl
  | 4 => rfl
  | 5 => rfl
  | 6 => rfl
  | 7 => rfl
  | 8 => rfl
  | 9 => rfl
  | 10 => rfl
  | 11 => rfl
  | 12 => rfl
  | 13 => rfl
  | 14 => rfl
  | 15 => rfl
  | 16 => rfl
  | 17 => rfl
  | 18 => rfl
  | 19 => rfl
  | 20 => rfl
  | 21 => rfl
  | 22 => rfl
  | 23 => rfl
  | 24 => rfl
  | 25 => rfl
  | n + 26 => rfl
theorem mU_22 (G : nG) (ad : Nat → Nat) (w : Nat → Int32) (M : mM) (f : Nat → Int32) : va_up (mE G ad w M) 23 (some (ad 23, .inl (G.2.1 0, 4, .inl f))) = mE G ad w (ur M 22 f) := by
  funext n
  match n with
  | 0 => rfl
  | 1 => rfl
  | 2 => rfl
  | 3 => rfl
  | 4 => rfl
  | 5 => rfl
  | 6 => rfl
  | 7 => rfl
  | 8 => rfl
  | 9 => rfl
  | 10 => rfl
  | 11 => rfl
  | 12 => rfl
  | 13 => rfl
  | 14 => rfl
  | 15 => rfl
  | 16 => rfl
  | 17 => rfl
  | 18 => rfl
  | 19 => rfl
  | 20 => rfl
  | 21 => rfl
  | 22 => rfl
  | 23 => rfl
  | 24 => rfl
  | 25 => rfl
  | n + 26 => rfl
theorem mU_23 (G : nG) (ad : Nat → Nat) (w : Nat → Int32) (M : mM) (f : Nat → Int32) : va_up (mE G ad w M) 24 (some (ad 24, .inl (G.2.1 0, 160, .inl f))) = mE G ad w (ur M 23 f) := by
  funext n
  match n with
  | 0 => rfl
  | 1 => rfl
  | 2 => rfl
  | 3 => rfl
  | 4 => rfl
  | 5 => rfl
  | 6 => rfl
  | 7 => rfl
  | 8 => rfl
  | 9 => rfl
  | 10 => rfl
  | 11 => rfl
  | 12 => rfl
  | 13 => rfl
  | 14 => rfl
  | 15 => rfl
  | 16 => rfl
  | 17 => rfl
  | 18 => rfl
  | 19 => rfl
  | 20 => rfl
  | 21 => rfl
  | 22 => rfl
  | 23 => rfl
  | 24 => rfl
  | 25 => rfl
  | n + 26 => rfl
theorem mU_24 (G : nG) (ad : Nat → Nat) (w : Nat → Int32) (M : mM) (f : Nat → Int32) : va_up (mE G ad w M) 25 (some (ad 25, .inl (G.2.1 0, 40, .inl f))) = mE G ad w (ur M 24 f) := by
  funext n
  match n with
  | 0 => rfl
  | 1 => rfl
  | 2 => rfl
  | 3 => rfl
  | 4 => rfl
  | 5 => rfl
  | 6 => rfl
  | 7 => rfl
  | 8 => rfl
  | 9 => rfl
  | 10 => rfl
  | 11 => rfl
  | 12 => rfl
  | 13 => rfl
  | 14 => rfl
  | 15 => rfl
  | 16 => rfl
  | 17 => rfl
  | 18 => rfl
  | 19 => rfl
  | 20 => rfl
  | 21 => rfl
  | 22 => rfl
  | 23 => rfl
  | 24 => rfl
  | 25 => rfl
  | n + 26 => rfl
theorem mI_3 (G : nG) (ad : Nat → Nat) (w : Nat → Int32) (M : mM) (v : Int32) : va_up (mE G ad w M) 0 (some (ad 0, .inr (13, (mF ad M).set 3 (.int v)))) = mE G ad w (u2 M 3 0 v) := by
  funext n
  match n with
  | 0 => rfl
  | 1 => rfl
  | 2 => rfl
  | 3 => rfl
  | 4 => rfl
  | 5 => rfl
  | 6 => rfl
  | 7 => rfl
  | 8 => rfl
  | 9 => rfl
  | 10 => rfl
  | 11 => rfl
  | 12 => rfl
  | 13 => rfl
  | 14 => rfl
  | 15 => rfl
  | 16 => rfl
  | 17 => rfl
  | 18 => rfl
  | 19 => rfl
  | 20 => rfl
  | 21 => rfl
  | 22 => rfl
  | 23 => rfl
  | 24 => rfl
  | 25 => rfl
  | n + 26 => rfl
theorem mI_5 (G : nG) (ad : Nat → Nat) (w : Nat → Int32) (M : mM) (v : Int32) : va_up (mE G ad w M) 0 (some (ad 0, .inr (13, (mF ad M).set 5 (.int v)))) = mE G ad w (u2 M 5 0 v) := by
  funext n
  match n with
  | 0 => rfl
  | 1 => rfl
  | 2 => rfl
  | 3 => rfl
  | 4 => rfl
  | 5 => rfl
  | 6 => rfl
  | 7 => rfl
  | 8 => rfl
  | 9 => rfl
  | 10 => rfl
  | 11 => rfl
  | 12 => rfl
  | 13 => rfl
  | 14 => rfl
  | 15 => rfl
  | 16 => rfl
  | 17 => rfl
  | 18 => rfl
  | 19 => rfl
  | 20 => rfl
  | 21 => rfl
  | 22 => rfl
  | 23 => rfl
  | 24 => rfl
  | 25 => rfl
  | n + 26 => rfl
theorem mI_6 (G : nG) (ad : Nat → Nat) (w : Nat → Int32) (M : mM) (v : Int32) : va_up (mE G ad w M) 0 (some (ad 0, .inr (13, (mF ad M).set 6 (.int v)))) = mE G ad w (u2 M 6 0 v) := by
  funext n
  match n with
  | 0 => rfl
  | 1 => rfl
  | 2 => rfl
  | 3 => rfl
  | 4 => rfl
  | 5 => rfl
  | 6 => rfl
  | 7 => rfl
  | 8 => rfl
  | 9 => rfl
  | 10 => rfl
  | 11 => rfl
  | 12 => rfl
  | 13 => rfl
  | 14 => rfl
  | 15 => rfl
  | 16 => rfl
  | 17 => rfl
  | 18 => rfl
  | 19 => rfl
  | 20 => rfl
  | 21 => rfl
  | 22 => rfl
  | 23 => rfl
  | 24 => rfl
  | 25 => rfl
  | n + 26 => rfl
theorem mI_8 (G : nG) (ad : Nat → Nat) (w : Nat → Int32) (M : mM) (v : Int32) : va_up (mE G ad w M) 0 (some (ad 0, .inr (13, (mF ad M).set 8 (.int v)))) = mE G ad w (u2 M 8 0 v) := by
  funext n
  match n with
  | 0 => rfl
  | 1 => rfl
  | 2 => rfl
  | 3 => rfl
  | 4 => rfl
  | 5 => rfl
  | 6 => rfl
  | 7 => rfl
  | 8 => rfl
  | 9 => rfl
  | 10 => rfl
  | 11 => rfl
  | 12 => rfl
  | 13 => rfl
  | 14 => rfl
  | 15 => rfl
  | 16 => rfl
  | 17 => rfl
  | 18 => rfl
  | 19 => rfl
  | 20 => rfl
  | 21 => rfl
  | 22 => rfl
  | 23 => rfl
  | 24 => rfl
  | 25 => rfl
  | n + 26 => rfl
theorem mI_9 (G : nG) (ad : Nat → Nat) (w : Nat → Int32) (M : mM) (v : Int32) : va_up (mE G ad w M) 0 (some (ad 0, .inr (13, (mF ad M).set 9 (.int v)))) = mE G ad w (u2 M 9 0 v) := by
  funext n
  match n with
  | 0 => rfl
  | 1 => rfl
  | 2 => rfl
  | 3 => rfl
  | 4 => rfl
  | 5 => rfl
  | 6 => rfl
  | 7 => rfl
  | 8 => rfl
  | 9 => rfl
  | 10 => rfl
  | 11 => rfl
  | 12 => rfl
  | 13 => rfl
  | 14 => rfl
  | 15 => rfl
  | 16 => rfl
  | 17 => rfl
  | 18 => rfl
  | 19 => rfl
  | 20 => rfl
  | 21 => rfl
  | 22 => rfl
  | 23 => rfl
  | 24 => rfl
  | 25 => rfl
  | n + 26 => rfl
theorem mI_10 (G : nG) (ad : Nat → Nat) (w : Nat → Int32) (M : mM) (v : Int32) : va_up (mE G ad w M) 0 (some (ad 0, .inr (13, (mF ad M).set 10 (.int v)))) = mE G ad w (u2 M 10 0 v) := by
  funext n
  match n with
  | 0 => rfl
  | 1 => rfl
  | 2 => rfl
  | 3 => rfl
  | 4 => rfl
  | 5 => rfl
  | 6 => rfl
  | 7 => rfl
  | 8 => rfl
  | 9 => rfl
  | 10 => rfl
  | 11 => rfl
  | 12 => rfl
  | 13 => rfl
  | 14 => rfl
  | 15 => rfl
  | 16 => rfl
  | 17 => rfl
  | 18 => rfl
  | 19 => rfl
  | 20 => rfl
  | 21 => rfl
  | 22 => rfl
  | 23 => rfl
  | 24 => rfl
  | 25 => rfl
  | n + 26 => rfl
theorem mI_11 (G : nG) (ad : Nat → Nat) (w : Nat → Int32) (M : mM) (v : Int32) : va_up (mE G ad w M) 0 (some (ad 0, .inr (13, (mF ad M).set 11 (.int v)))) = mE G ad w (u2 M 11 0 v) := by
  funext n
  match n with
  | 0 => rfl
  | 1 => rfl
  | 2 => rfl
  | 3 => rfl
  | 4 => rfl
  | 5 => rfl
  | 6 => rfl
  | 7 => rfl
  | 8 => rfl
  | 9 => rfl
  | 10 => rfl
  | 11 => rfl
  | 12 => rfl
  | 13 => rfl
  | 14 => rfl
  | 15 => rfl
  | 16 => rfl
  | 17 => rfl
  | 18 => rfl
  | 19 => rfl
  | 20 => rfl
  | 21 => rfl
  | 22 => rfl
  | 23 => rfl
  | 24 => rfl
  | 25 => rfl
  | n + 26 => rfl
theorem mI_12 (G : nG) (ad : Nat → Nat) (w : Nat → Int32) (M : mM) (v : Int32) : va_up (mE G ad w M) 0 (some (ad 0, .inr (13, (mF ad M).set 12 (.int v)))) = mE G ad w (u2 M 12 0 v) := by
  funext n
  match n with
  | 0 => rfl
  | 1 => rfl
  | 2 => rfl
  | 3 => rfl
  | 4 => rfl
  | 5 => rfl
  | 6 => rfl
  | 7 => rfl
  | 8 => rfl
  | 9 => rfl
  | 10 => rfl
  | 11 => rfl
  | 12 => rfl
  | 13 => rfl
  | 14 => rfl
  | 15 => rfl
  | 16 => rfl
  | 17 => rfl
  | 18 => rfl
  | 19 => rfl
  | 20 => rfl
  | 21 => rfl
  | 22 => rfl
  | 23 => rfl
  | 24 => rfl
  | 25 => rfl
  | n + 26 => rfl
theorem mI_13 (G : nG) (ad : Nat → Nat) (w : Nat → Int32) (M : mM) (v : Int32) : va_up (mE G ad w M) 0 (some (ad 0, .inr (13, (mF ad M).set 13 (.int v)))) = mE G ad w (u2 M 13 0 v) := by
  funext n
  match n with
  | 0 => rfl
  | 1 => rfl
  | 2 => rfl
  | 3 => rfl
  | 4 => rfl
  | 5 => rfl
  | 6 => rfl
  | 7 => rfl
  | 8 => rfl
  | 9 => rfl
  | 10 => rfl
  | 11 => rfl
  | 12 => rfl
  | 13 => rfl
  | 14 => rfl
  | 15 => rfl
  | 16 => rfl
  | 17 => rfl
  | 18 => rfl
  | 19 => rfl
  | 20 => rfl
  | 21 => rfl
  | 22 => rfl
  | 23 => rfl
  | 24 => rfl
  | 25 => rfl
  | n + 26 => rfl
theorem mI_18 (G : nG) (ad : Nat → Nat) (w : Nat → Int32) (M : mM) (v : Int32) : va_up (mE G ad w M) 0 (some (ad 0, .inr (13, (mF ad M).set 18 (.int v)))) = mE G ad w (u2 M 18 0 v) := by
  funext n
  match n with
  | 0 => rfl
  | 1 => rfl
  | 2 => rfl
  | 3 => rfl
  | 4 => rfl
  | 5 => rfl
  | 6 => rfl
  | 7 => rfl
  | 8 => rfl
  | 9 => rfl
  | 10 => rfl
  | 11 => rfl
  | 12 => rfl
  | 13 => rfl
  | 14 => rfl
  | 15 => rfl
  | 16 => rfl
  | 17 => rfl
  | 18 => rfl
  | 19 => rfl
  | 20 => rfl
  | 21 => rfl
  | 22 => rfl
  | 23 => rfl
  | 24 => rfl
  | 25 => rfl
  | n + 26 => rfl
theorem mI_19 (G : nG) (ad : Nat → Nat) (w : Nat → Int32) (M : mM) (v : Int32) : va_up (mE G ad w M) 0 (some (ad 0, .inr (13, (mF ad M).set 19 (.int v)))) = mE G ad w (u2 M 19 0 v) := by
  funext n
  match n with
  | 0 => rfl
  | 1 => rfl
  | 2 => rfl
  | 3 => rfl
  | 4 => rfl
  | 5 => rfl
  | 6 => rfl
  | 7 => rfl
  | 8 => rfl
  | 9 => rfl
  | 10 => rfl
  | 11 => rfl
  | 12 => rfl
  | 13 => rfl
  | 14 => rfl
  | 15 => rfl
  | 16 => rfl
  | 17 => rfl
  | 18 => rfl
  | 19 => rfl
  | 20 => rfl
  | 21 => rfl
  | 22 => rfl
  | 23 => rfl
  | 24 => rfl
  | 25 => rfl
  | n + 26 => rfl
theorem mI_20 (G : nG) (ad : Nat → Nat) (w : Nat → Int32) (M : mM) (v : Int32) : va_up (mE G ad w M) 0 (some (ad 0, .inr (13, (mF ad M).set 20 (.int v)))) = mE G ad w (u2 M 20 0 v) := by
  funext n
  match n with
  | 0 => rfl
  | 1 => rfl
  | 2 => rfl
  | 3 => rfl
  | 4 => rfl
  | 5 => rfl
  | 6 => rfl
  | 7 => rfl
  | 8 => rfl
  | 9 => rfl
  | 10 => rfl
  | 11 => rfl
  | 12 => rfl
  | 13 => rfl
  | 14 => rfl
  | 15 => rfl
  | 16 => rfl
  | 17 => rfl
  | 18 => rfl
  | 19 => rfl
  | 20 => rfl
  | 21 => rfl
  | 22 => rfl
  | 23 => rfl
  | 24 => rfl
  | 25 => rfl
  | n + 26 => rfl
section MR
variable {p : Program} {l : Launch} {e : Env} {R : Room} {s : State} {m : MethodId} {args : Array Value} {below : List Frame} {meth : Method} {c : Code} {H : Heap} {locs : List Loc} {cells slots : Nat} {Q : State → Prop}
variable {cc : ByteArray} {pc : Nat} {ls : Array Slot} {rest st0 : List Value} {G : nG} {ad : Nat → Nat} {w : Nat → Int32} {M : mM}
theorem m_iastw (hexec : p.tables.exec = Jvm.exec) (hb : c.code = cc) (hw : nS G (mE G ad w M) s H locs) {i x : Int32} {j : Nat} (hij : i = nI j) (hj : j < 84) (hdg : decode cc pc = .ok (.iastore, 1))
    (kk : ∀ (H1 : Heap) (locs1 : List Loc), nS G (mE G ad (upd w j x) M) s H1 locs1 → W p l e R s m args below meth c H1 locs1 cells slots Q (F0 m (pc + 1) ls rest)) : W p l e R s m args below meth c H locs cells slots Q (F0 m pc ls (.int x :: .int i :: .ref (ad 1) :: rest)) :=
  n_iast (k := 1) hexec hb hw rfl hij hj (by decide) hdg (fun H1 locs1 h => kk H1 locs1 (n_E (mU_0 _ _ _ _ _) h))
theorem m_iast (hexec : p.tables.exec = Jvm.exec) (hb : c.code = cc) (hw : nS G (mE G ad w M) s H locs) (k : Nat) {n : Nat} (he : mE G ad w M (k + 1) = some (ad (k + 1), .inl (G.2.1 0, n, .inl (M k)))) (hu : ∀ f : Nat → Int32, va_up (mE G ad w M) (k + 1) (some (ad (k + 1), .inl (G.2.1 0, n, .inl f))) = mE G ad w (ur M k f)) {i x : Int32} {j : Nat} (hij : i = nI j) (hj : j < n) (hn : n < 2 ^ 31) (hdg : decode cc pc = .ok (.iastore, 1))
    (kk : ∀ (H1 : Heap) (locs1 : List Loc), nS G (mE G ad w (u2 M k j x)) s H1 locs1 → W p l e R s m args below meth c H1 locs1 cells slots Q (F0 m (pc + 1) ls rest)) : W p l e R s m args below meth c H locs cells slots Q (F0 m pc ls (.int x :: .int i :: .ref (ad (k + 1)) :: rest)) :=
  n_iast hexec hb hw he hij hj hn hdg (fun H1 locs1 h => kk H1 locs1 (n_E (hu _) h))
theorem m_put (hexec : p.tables.exec = Jvm.exec) (hb : c.code = cc) (hts : ∀ w ∈ lw_all, w.before args s = true) (hown : s.vm.findClass "LineCallsModel" = some m.cls) (hw : nS G (mE G ad w M) s H locs) (k : Nat) {index : Nat} (hk : k < 25) (hlink : Cond.fieldLink "LineCallsModel" index (TX13 k).1 (TX13 k).2.1 (TX13 k).2.2.1 ∈ lw_all) (hfin : (TX13 k).2.2.2 = false) {v : Int32} (hn : narrow (tyX13 k) (.int v) = .int v) (hfit : fits (tyX13 k) (.int v) = true) (hu : va_up (mE G ad w M) 0 (some (ad 0, .inr (13, (mF ad M).set k (.int v)))) = mE G ad w (u2 M k 0 v)) (hdg : decode cc pc = .ok (.putfield index, 3))
    (kk : ∀ (H1 : Heap) (locs1 : List Loc), nS G (mE G ad w (u2 M k 0 v)) s H1 locs1 → W p l e R s m args below meth c H1 locs1 cells slots Q (F0 m (pc + 3) ls rest)) : W p l e R s m args below meth c H locs cells slots Q (F0 m pc ls (.int v :: .ref (ad 0) :: rest)) :=
  n_put (k := 0) hexec hb hts in_X13 tyX13 tyX13_ok nmX13 hown hw (ci := 13) (fs := mF ad M) rfl rfl k hk hlink hfin hn hfit hk hdg (fun H1 locs1 h => kk H1 locs1 (n_E hu h))
end MR
