/-! SPEC 12: a line, all lines -/
def cloM (M : Nat → Nat → Int32) : Nat → Nat → Int32 := mrow (takM (goM M) (nI 0) (nI 5)) 2 (upd (takM (goM M) (nI 0) (nI 5) 2) (9 + cN (lookV (goM M) (nI 0) (nI 5))) (if takM (goM M) (nI 0) (nI 5) 0 16 = 0 then nI 0 else takM (goM M) (nI 0) (nI 5) 2 (9 + cN (lookV (goM M) (nI 0) (nI 5)))))
def soA (M : Nat → Nat → Int32) : Nat → Nat → Int32 := mrow (mrow M 0 (upd (M 0) 19 (nI 1))) 2 (sAl (M 2) (M 1))
def wd (M : Nat → Nat → Int32) (j : Nat) : Bool := wrdB M (wB j).length (wG j)
def lineM (M : Nat → Nat → Int32) : Nat → Nat → Int32 := if wd M 1 = true then townM M else if wd M 2 = true then lettM M else if wd M 3 = true then sumM M else if wd M 4 = true then cloM M else if wd M 5 = true then goM (soA M) else failM M (nI 1)
theorem wd_t {M : Nat → Nat → Int32} {j : Nat} (h : ¬ wrdB M (wB j).length (wG j) = false) : wd M j = true := by
  unfold wd
  simpa using h
theorem lin_1 {M : Nat → Nat → Int32} (h1 : wd M 1 = true) : lineM M = townM M := if_pos h1
theorem lin_2 {M : Nat → Nat → Int32} (h1 : wd M 1 = false) (h2 : wd M 2 = true) : lineM M = lettM M := by rw [lineM, if_neg (by rw [h1]; decide), if_pos h2]
theorem lin_3 {M : Nat → Nat → Int32} (h1 : wd M 1 = false) (h2 : wd M 2 = false) (h3 : wd M 3 = true) : lineM M = sumM M := by rw [lineM, if_neg (by rw [h1]; decide), if_neg (by rw [h2]; decide), if_pos h3]
theorem lin_4 {M : Nat → Nat → Int32} (h1 : wd M 1 = false) (h2 : wd M 2 = false) (h3 : wd M 3 = false) (h4 : wd M 4 = true) : lineM M = cloM M := by rw [lineM, if_neg (by rw [h1]; decide), if_neg (by rw [h2]; decide), if_neg (by rw [h3]; decide), if_pos h4]
theorem lin_5 {M : Nat → Nat → Int32} (h1 : wd M 1 = false) (h2 : wd M 2 = false) (h3 : wd M 3 = false) (h4 : wd M 4 = false) (h5 : wd M 5 = true) : lineM M = goM (soA M) := by rw [lineM, if_neg (by rw [h1]; decide), if_neg (by rw [h2]; decide), if_neg (by rw [h3]; decide), if_neg (by rw [h4]; decide), if_pos h5]
theorem lin_6 {M : Nat → Nat → Int32} (h1 : wd M 1 = false) (h2 : wd M 2 = false) (h3 : wd M 3 = false) (h4 : wd M 4 = false) (h5 : wd M 5 = false) : lineM M = failM M (nI 1) := by rw [lineM, if_neg (by rw [h1]; decide), if_neg (by rw [h2]; decide), if_neg (by rw [h3]; decide), if_neg (by rw [h4]; decide), if_neg (by rw [h5]; decide)]
theorem soA_pw {M : Nat → Nat → Int32} (h : PW M) : PW (soA M) := h
