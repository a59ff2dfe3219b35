/-! SPEC 10: the buffer -/
def apX (x1 x2 x3 x4 x5 : Int32) (k : Nat) : Int32 := if k < 4 then x1 else if k < 8 then x2 else if k < 12 then x3 else if k < 16 then x4 else x5
def apB (x1 x2 x3 x4 x5 : Int32) (k : Nat) : Int32 := apX x1 x2 x3 x4 x5 k >>> (nI (24 - 8 * (k % 4)) &&& 31) &&& nI 255
def apK (T : Nat → Int32) (n : Nat) (f : Nat → Int32) : Nat → (Nat → Int32)
  | 0 => T
  | k + 1 => upd (apK T n f k) (n + k) (f k)
theorem apX_1 {x1 x2 x3 x4 x5 : Int32} {k : Nat} (h : k < 4) : x1 = apX x1 x2 x3 x4 x5 k := (if_pos h).symm
theorem apX_2 {x1 x2 x3 x4 x5 : Int32} {k : Nat} (h : 4 ≤ k) (h1 : k < 8) : x2 = apX x1 x2 x3 x4 x5 k := by rw [apX, if_neg (by omega), if_pos h1]
theorem apX_3 {x1 x2 x3 x4 x5 : Int32} {k : Nat} (h : 8 ≤ k) (h1 : k < 12) : x3 = apX x1 x2 x3 x4 x5 k := by rw [apX, if_neg (by omega), if_neg (by omega), if_pos h1]
theorem apX_4 {x1 x2 x3 x4 x5 : Int32} {k : Nat} (h : 12 ≤ k) (h1 : k < 16) : x4 = apX x1 x2 x3 x4 x5 k := by rw [apX, if_neg (by omega), if_neg (by omega), if_neg (by omega), if_pos h1]
theorem apX_5 {x1 x2 x3 x4 x5 : Int32} {k : Nat} (h : 16 ≤ k) : x5 = apX x1 x2 x3 x4 x5 k := by rw [apX, if_neg (by omega), if_neg (by omega), if_neg (by omega), if_neg (by omega)]
