/-! plain laws: the greatest common measure, fractions held against one another -/
theorem pl_tmod {a b : Int} (ha : 0 ≤ a) : Int.tmod a b = a % b := Int.tmod_eq_emod_of_nonneg ha
theorem pl_tdiv {a b : Int} (ha : 0 ≤ a) : Int.tdiv a b = a / b := Int.tdiv_eq_ediv_of_nonneg ha
/-- a by b against c by d, none below 0: below, alike, above -/
def cmpF (a b c d : Int) : Int := if a * d < c * b then -1 else if a * d = c * b then 0 else 1
def partF (a b what : Int) : Int := Int.tdiv (if what = 0 then a else b) (Int.gcd a b : Int)
theorem cmpF_div {a b c d : Int} (hb : 0 < b) (hd : 0 < d) (h : a / b ≠ c / d) : cmpF a b c d = if a / b < c / d then -1 else 1 := by
  have h1 := Int.mul_ediv_add_emod a b
  have h2 := Int.mul_ediv_add_emod c d
  have h3 := Int.emod_nonneg a (show b ≠ 0 by omega)
  have h4 := Int.emod_lt_of_pos a hb
  have h5 := Int.emod_nonneg c (show d ≠ 0 by omega)
  have h6 := Int.emod_lt_of_pos c hd
  generalize a / b = x at *
  generalize a % b = p at *
  generalize c / d = y at *
  generalize c % d = q at *
  subst h1
  subst h2
  have e1 : (b * x + p) * d = b * d * x + p * d := by rw [Int.add_mul]; congr 1; rw [Int.mul_assoc, Int.mul_comm x d, ← Int.mul_assoc]
  have e2 : (d * y + q) * b = b * d * y + q * b := by rw [Int.add_mul]; congr 1; rw [Int.mul_comm d y, Int.mul_assoc, Int.mul_comm d b, Int.mul_comm y]
  have hp : 0 ≤ p * d := Int.mul_nonneg h3 (by omega)
  have hq : 0 ≤ q * b := Int.mul_nonneg h5 (by omega)
  have hp2 : p * d < b * d := Int.mul_lt_mul_of_pos_right h4 hd
  have hq2 : q * b < b * d := by rw [Int.mul_comm b d]; exact Int.mul_lt_mul_of_pos_right h6 hb
  unfold cmpF
  rw [e1, e2]
  by_cases hxy : x < y
  · rw [if_pos hxy]
    have : b * d * (x + 1) ≤ b * d * y := Int.mul_le_mul_of_nonneg_left (by omega) (by have := Int.mul_pos hb hd; omega)
    rw [Int.mul_add, Int.mul_one] at this
    rw [if_pos (by omega)]
  · rw [if_neg hxy]
    have : b * d * (y + 1) ≤ b * d * x := Int.mul_le_mul_of_nonneg_left (by omega) (by have := Int.mul_pos hb hd; omega)
    rw [Int.mul_add, Int.mul_one] at this
    rw [if_neg (by omega), if_neg (by omega)]
theorem cmpF_rem {a b c d : Int} (hb : 0 < b) (hd : 0 < d) (h : a / b = c / d) : cmpF a b c d = cmpF (a % b) b (c % d) d := by
  have h1 := Int.mul_ediv_add_emod a b
  have h2 := Int.mul_ediv_add_emod c d
  rw [h] at h1
  generalize c / d = x at *
  generalize a % b = p at *
  generalize c % d = q at *
  have e1 : a * d = b * d * x + p * d := by rw [← h1, Int.add_mul]; congr 1; rw [Int.mul_assoc, Int.mul_comm x d, ← Int.mul_assoc]
  have e2 : c * b = b * d * x + q * b := by rw [← h2, Int.add_mul]; congr 1; rw [Int.mul_comm d x, Int.mul_assoc, Int.mul_comm d b, Int.mul_comm x]
  unfold cmpF
  rw [e1, e2]
  by_cases h1 : p * d < q * b
  · rw [if_pos (by omega), if_pos h1]
  · rw [if_neg (by omega), if_neg h1]
    by_cases h2 : p * d = q * b
    · rw [if_pos (by omega), if_pos h2]
    · rw [if_neg (by omega), if_neg h2]
/-- what is left the other way round -/
theorem cmpF_inv {b p d q : Int} : cmpF p b q d = - cmpF b p d q := by
  unfold cmpF
  rw [Int.mul_comm b q, Int.mul_comm d p]
  by_cases h1 : p * d < q * b
  · rw [if_pos h1, if_neg (by omega), if_neg (by omega)]
  · rw [if_neg h1]
    by_cases h2 : p * d = q * b
    · rw [if_pos h2, if_neg (by omega), if_pos h2.symm]; rfl
    · rw [if_neg h2, if_pos (by omega)]; rfl
/-- the other one first -/
theorem cmpF_sym (a b c d : Int) : cmpF c d a b = - cmpF a b c d := by
  unfold cmpF
  by_cases h1 : a * d < c * b
  · rw [if_pos h1, if_neg (by omega), if_neg (by omega)]; rfl
  · rw [if_neg h1]
    by_cases h2 : a * d = c * b
    · rw [if_pos h2, if_neg (by omega), if_pos h2.symm]; rfl
    · rw [if_neg h2, if_pos (by omega)]
theorem cmpF_p0 {b q d : Int} (hb : 0 < b) (hd : 0 < d) (hq : 0 ≤ q) : cmpF 0 b q d = if q = 0 then 0 else -1 := by
  unfold cmpF
  rw [Int.zero_mul]
  by_cases h : q = 0
  · subst h
    simp
  · have : 0 < q * b := Int.mul_pos (by omega) hb
    rw [if_pos this, if_neg h]
theorem cmpF_q0 {p b d : Int} (hd : 0 < d) (hp : 0 ≤ p) : cmpF p b 0 d = if p = 0 then 0 else 1 := by
  unfold cmpF
  rw [Int.zero_mul]
  by_cases h : p = 0
  · subst h
    simp
  · have : 0 < p * d := Int.mul_pos (by omega) hd
    rw [if_neg (by omega), if_neg (by omega), if_neg h]
theorem pl_gcd0 {x : Int} (h : 0 ≤ x) : ((Int.gcd x 0 : Nat) : Int) = x := by
  rw [Int.gcd_zero_right]; omega
theorem pl_gcdr {x y : Int} (hx : 0 ≤ x) (hy : 0 ≤ y) : Int.gcd x y = Int.gcd y (x % y) := by
  obtain ⟨m, rfl⟩ := Int.eq_ofNat_of_zero_le hx
  obtain ⟨n, rfl⟩ := Int.eq_ofNat_of_zero_le hy
  rw [← Int.natCast_emod]
  simp only [Int.gcd_natCast_natCast]
  rw [Nat.gcd_comm m n, Nat.gcd_rec n m, Nat.gcd_comm]
