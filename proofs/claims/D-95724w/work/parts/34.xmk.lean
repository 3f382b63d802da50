/-! X's cells -/
set_option maxRecDepth 100000
def xF0 (ad : Nat → Nat) (f : Nat → Nat) : List Value := [.ref (ad 4), .ref (ad 1), .ref (ad 9), .ref (ad 10), .int (nI (f 4)), .ref (ad 11), .ref (ad 12), .int (nI (f 7)), .ref (ad 13), .int (nI (f 9)), .int (nI (f 10)), .ref (ad 14), .ref (ad 15), .ref (ad 16)]
/-- a Folk: its arrays' codes place stride second steps worn -/
def xFf (a b c d w : Nat) (ad : Nat → Nat) (f : Nat → Nat) : List Value := [.ref (ad a), .ref (ad b), .ref (ad c), .int (nI (f 3)), .ref (ad d), .ref (ad w), .int (nI (f 6)), .int (nI (f 7)), .int (nI (f 8)), .ref (ad 0)]
def xFt (ad : Nat → Nat) (f : Nat → Nat) : List Value := [.int (nI (f 0)), .ref (ad 17), .int (nI (f 2)), .ref (ad 18), .ref (ad 19), .ref (ad 20), .int (nI (f 6))]
def xFs (j : Nat) (ad : Nat → Nat) (f : Nat → Nat) : List Value := [.int (nI (f 0)), .int (nI (f 1)), .ref (ad (j + 1)), .int (nI (f 3))]
/-- a byte of the text: its number below 256, as the byte array keeps it -/
def xBy (n : Nat) : Int32 := (nI n).toInt8.toInt32
def xMk (dT : Nat → ClassId) (ad : Nat → Nat) (n : Nat) (j : Nat) (f : Nat → Nat) : va_E := match j with
  | 0 => .inr (1, xF0 ad f)
  | 1 => .inr (3, xFf 5 6 7 21 8 ad f)
  | 2 => .inr (3, xFf 22 23 24 26 25 ad f)
  | 3 => .inr (3, xFf 27 28 29 31 30 ad f)
  | 4 => .inr (2, xFt ad f)
  | 5 => .inl (dT 0, 8, .inl (fun i => nI (f i)))
  | 6 => .inl (dT 0, 8, .inl (fun i => nI (f i)))
  | 7 => .inl (dT 0, 8, .inl (fun i => nI (f i)))
  | 8 => .inl (dT 0, 10, .inl (fun i => nI (f i)))
  | 9 => .inl (dT 3, 20, .inr (.inr (.inr (.inr (fun i => some (ad (62 + i)))))))
  | 10 => .inl (dT 1, 20, .inl (fun i => nI (f i)))
  | 11 => .inl (dT 0, 40, .inl (fun i => nI (f i)))
  | 12 => .inl (dT 0, 40, .inl (fun i => nI (f i)))
  | 13 => .inl (dT 2, 500, .inl (fun i => xBy (f i)))
  | 14 => .inl (dT 4, 8, .inr (.inr (.inr (.inr (fun i => some (ad (82 + i)))))))
  | 15 => .inl (dT 0, 8, .inl (fun i => nI (f i)))
  | 16 => .inl (dT 6, 2, .inr (.inr (.inr (.inr (fun i => some (ad (2 + i)))))))
  | 17 => .inl (dT 5, 10, .inr (.inr (.inr (.inr (fun i => bif Nat.blt i n then some (ad (90 + 2 * i)) else none)))))
  | 18 => .inl (dT 0, 8, .inl (fun i => nI (f i)))
  | 19 => .inl (dT 0, 8, .inl (fun i => nI (f i)))
  | 20 => .inl (dT 0, 8, .inl (fun i => nI (f i)))
  | 21 => .inl (dT 3, 10, .inr (.inr (.inr (.inr (fun i => some (ad (32 + i)))))))
  | 22 => .inl (dT 0, 8, .inl (fun i => nI (f i)))
  | 23 => .inl (dT 0, 8, .inl (fun i => nI (f i)))
  | 24 => .inl (dT 0, 8, .inl (fun i => nI (f i)))
  | 25 => .inl (dT 0, 10, .inl (fun i => nI (f i)))
  | 26 => .inl (dT 3, 10, .inr (.inr (.inr (.inr (fun i => some (ad (42 + i)))))))
  | 27 => .inl (dT 0, 8, .inl (fun i => nI (f i)))
  | 28 => .inl (dT 0, 8, .inl (fun i => nI (f i)))
  | 29 => .inl (dT 0, 8, .inl (fun i => nI (f i)))
  | 30 => .inl (dT 0, 10, .inl (fun i => nI (f i)))
  | 31 => .inl (dT 3, 10, .inr (.inr (.inr (.inr (fun i => some (ad (52 + i)))))))
  | j => bif Nat.blt j 62 then .inl (dT 0, 3, .inl (fun i => nI (f i))) else bif Nat.blt j 82 then .inl (dT 0, 2, .inl (fun i => nI (f i))) else bif Nat.blt j 90 then .inl (dT 1, 256, .inl (fun i => nI (f i)))
    else bif Nat.beq (j % 2) 0 then .inr (6 + f 4, xFs j ad f) else .inl (dT 0, 3, .inl (fun i => nI (f i)))
theorem xMk_row {dT : Nat → ClassId} {ad : Nat → Nat} {n r : Nat} (hr : r < 10) (f : Nat → Nat) : xMk dT ad n (32 + r) f = .inl (dT 0, 3, .inl (fun i => nI (f i))) := by
  rcases r with _ | _ | _ | _ | _ | _ | _ | _ | _ | _ | r <;> first | rfl | omega
theorem xMk_img0 {dT : Nat → ClassId} {ad : Nat → Nat} {n r : Nat} (hr : r < 10) (f : Nat → Nat) : xMk dT ad n (42 + r) f = .inl (dT 0, 3, .inl (fun i => nI (f i))) := by
  rcases r with _ | _ | _ | _ | _ | _ | _ | _ | _ | _ | r <;> first | rfl | omega
theorem xMk_img1 {dT : Nat → ClassId} {ad : Nat → Nat} {n r : Nat} (hr : r < 10) (f : Nat → Nat) : xMk dT ad n (52 + r) f = .inl (dT 0, 3, .inl (fun i => nI (f i))) := by
  rcases r with _ | _ | _ | _ | _ | _ | _ | _ | _ | _ | r <;> first | rfl | omega
theorem xMk_seen {dT : Nat → ClassId} {ad : Nat → Nat} {n r : Nat} (hr : r < 20) (f : Nat → Nat) : xMk dT ad n (62 + r) f = .inl (dT 0, 2, .inl (fun i => nI (f i))) := by
  rcases r with _ | _ | _ | _ | _ | _ | _ | _ | _ | _ | _ | _ | _ | _ | _ | _ | _ | _ | _ | _ | r <;> first | rfl | omega
theorem xMk_come {dT : Nat → ClassId} {ad : Nat → Nat} {n r : Nat} (hr : r < 8) (f : Nat → Nat) : xMk dT ad n (82 + r) f = .inl (dT 1, 256, .inl (fun i => nI (f i))) := by
  rcases r with _ | _ | _ | _ | _ | _ | _ | _ | r <;> first | rfl | omega
theorem xMk_stair {dT : Nat → ClassId} {ad : Nat → Nat} {n r : Nat} (hr : r < 10) (f : Nat → Nat) : xMk dT ad n (90 + 2 * r) f = .inr (6 + f 4, xFs (90 + 2 * r) ad f) := by
  rcases r with _ | _ | _ | _ | _ | _ | _ | _ | _ | _ | r <;> first | rfl | omega
theorem xMk_steps {dT : Nat → ClassId} {ad : Nat → Nat} {n r : Nat} (hr : r < 10) (f : Nat → Nat) : xMk dT ad n (90 + 2 * r + 1) f = .inl (dT 0, 3, .inl (fun i => nI (f i))) := by
  rcases r with _ | _ | _ | _ | _ | _ | _ | _ | _ | _ | r <;> first | rfl | omega
abbrev xCodes (n : Nat) : List Nat := List.range (90 + 2 * n)
theorem xCode {n q : Nat} (h : q < 90 + 2 * n) : (xCodes n)[q]? = some q := by simp [xCodes, h]
theorem xNd {n : Nat} (h : n ≤ 10) : va_nd (xCodes n) = true := by
  rcases n with _ | _ | _ | _ | _ | _ | _ | _ | _ | _ | _ | n <;> first | decide +kernel | omega
abbrev xW (dT : Nat → ClassId) (ad : Nat → Nat) (n : Nat) (β : tT) : va_W := cW ad (xMk dT ad n) (xCodes n) β
