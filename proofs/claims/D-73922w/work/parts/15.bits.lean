/-! sets of small numbers as ints -/
def bsB (s k : Int) : Bool := s.toNat.testBit k.toNat
def bsO (a b : Int) : Int := ((a.toNat ||| b.toNat : Nat) : Int)
def bsA (a b : Int) : Int := ((a.toNat &&& b.toNat : Nat) : Int)
def bsX (a b : Int) : Int := ((a.toNat ^^^ b.toNat : Nat) : Int)
def bsD (a b : Int) : Int := ((a.toNat ^^^ (a.toNat &&& b.toNat) : Nat) : Int)
def bsP (k : Int) : Int := ((2 ^ k.toNat : Nat) : Int)
theorem jI_bv {a : Int} (h : 0 ≤ a) : (jI a).toBitVec = BitVec.ofNat 32 a.toNat := by
  show BitVec.ofInt 32 a = _
  obtain ⟨n, rfl⟩ := Int.eq_ofNat_of_zero_le h
  simp
theorem jI_bvn (b : Int) (h : 0 ≤ b) : (jI (-b - 1)).toBitVec = ~~~ (BitVec.ofNat 32 b.toNat) := by
  obtain ⟨n, rfl⟩ := Int.eq_ofNat_of_zero_le h
  have e : -(n : Int) - 1 = Int.negSucc n := by omega
  rw [e]
  show BitVec.ofInt 32 (Int.negSucc n) = _
  simp
theorem jI_inj {a b : Int32} (h : a.toBitVec = b.toBitVec) : a = b := Int32.toBitVec_inj.mp h
theorem jI_or {a b : Int} (ha : 0 ≤ a) (hb : 0 ≤ b) : jI a ||| jI b = jI (bsO a b) := by
  apply jI_inj
  rw [Int32.toBitVec_or, jI_bv ha, jI_bv hb, jI_bv (by unfold bsO; omega)]
  unfold bsO
  rw [Int.toNat_natCast, BitVec.ofNat_or]
theorem jI_and {a b : Int} (ha : 0 ≤ a) (hb : 0 ≤ b) : jI a &&& jI b = jI (bsA a b) := by
  apply jI_inj
  rw [Int32.toBitVec_and, jI_bv ha, jI_bv hb, jI_bv (by unfold bsA; omega)]
  unfold bsA
  rw [Int.toNat_natCast, BitVec.ofNat_and]
theorem jI_xor {a b : Int} (ha : 0 ≤ a) (hb : 0 ≤ b) : jI a ^^^ jI b = jI (bsX a b) := by
  apply jI_inj
  rw [Int32.toBitVec_xor, jI_bv ha, jI_bv hb, jI_bv (by unfold bsX; omega)]
  unfold bsX
  rw [Int.toNat_natCast, BitVec.ofNat_xor]
theorem jI_not {a : Int} (ha : 0 ≤ a) : jI a ^^^ jI (-1) = jI (-a - 1) := by
  apply jI_inj
  rw [Int32.toBitVec_xor, jI_bv ha, jI_bvn a ha]
  show BitVec.ofNat 32 a.toNat ^^^ BitVec.ofInt 32 (-1) = _
  have e : BitVec.ofInt 32 (-1) = BitVec.allOnes 32 := by decide
  rw [e, BitVec.xor_allOnes]
theorem jI_andn {a b : Int} (ha : 0 ≤ a) (hb : 0 ≤ b) : jI a &&& jI (-b - 1) = jI (bsD a b) := by
  apply jI_inj
  rw [Int32.toBitVec_and, jI_bv ha, jI_bvn b hb, jI_bv (by unfold bsD; omega)]
  unfold bsD
  rw [Int.toNat_natCast, BitVec.ofNat_xor, BitVec.ofNat_and]
  apply BitVec.eq_of_getLsbD_eq
  intro i hi
  simp only [BitVec.getLsbD_and, BitVec.getLsbD_not, BitVec.getLsbD_xor]
  cases (BitVec.ofNat 32 a.toNat).getLsbD i <;> cases (BitVec.ofNat 32 b.toNat).getLsbD i <;> simp [hi]
theorem bs_shl_dec : ∀ k : Fin 31, jI 1 <<< (jI (k.val : Int) &&& 31) = jI (bsP (k.val : Int)) := by decide +kernel
theorem jI_shl {k : Int} (h0 : 0 ≤ k) (h : k ≤ 30) : jI 1 <<< (jI k &&& 31) = jI (bsP k) := by
  obtain ⟨n, rfl⟩ := Int.eq_ofNat_of_zero_le h0
  exact bs_shl_dec ⟨n, by omega⟩
theorem bs_shr_dec : ∀ k : Fin 31, ((jI (k.val : Int) &&& 31).toBitVec.smod 32).toNat = k.val := by decide +kernel
theorem jI_nI (n : Nat) : jI (n : Int) = nI n := Int32.ofInt_eq_ofNat
theorem jI_shr {s k : Int} (hs : 0 ≤ s) (hs2 : s ≤ 2147483647) (h0 : 0 ≤ k) (h : k ≤ 30) : jI s >>> (jI k &&& 31) = jI ((s.toNat / 2 ^ k.toNat : Nat) : Int) := by
  obtain ⟨n, rfl⟩ := Int.eq_ofNat_of_zero_le h0
  obtain ⟨m, rfl⟩ := Int.eq_ofNat_of_zero_le hs
  rw [jI_nI m, pk_shrN (by omega) _ n (bs_shr_dec ⟨n, by omega⟩), jI_nI]
  simp
theorem bsB_and1 {s k : Int} : bsA ((s.toNat / 2 ^ k.toNat : Nat) : Int) 1 = if bsB s k then 1 else 0 := by
  unfold bsA bsB
  rw [Nat.testBit_eq_decide_div_mod_eq, Int.toNat_natCast, show (1 : Int).toNat = 1 from rfl, Nat.and_one_is_mod]
  by_cases h : s.toNat / 2 ^ k.toNat % 2 = 1
  · simp [h]
  · have : s.toNat / 2 ^ k.toNat % 2 = 0 := by omega
    simp [this]
theorem bsO_0 {a b : Int} : 0 ≤ bsO a b := by unfold bsO; omega
theorem bsA_0 {a b : Int} : 0 ≤ bsA a b := by unfold bsA; omega
theorem bsX_0 {a b : Int} : 0 ≤ bsX a b := by unfold bsX; omega
theorem bsD_0 {a b : Int} : 0 ≤ bsD a b := by unfold bsD; omega
theorem bsP_0 {k : Int} : 0 < bsP k := by unfold bsP; exact Int.natCast_pos.mpr (Nat.pow_pos (by decide))
theorem bs_toNat_lt {a : Int} {n : Nat} (h : a < ((2 ^ n : Nat) : Int)) : a.toNat < 2 ^ n := by
  have := Nat.pow_pos (n := n) (show 0 < 2 by decide)
  omega
theorem bsO_lt {a b : Int} {n : Nat} (ha : a < ((2 ^ n : Nat) : Int)) (hb : b < ((2 ^ n : Nat) : Int)) : bsO a b < ((2 ^ n : Nat) : Int) := by
  unfold bsO
  exact Int.ofNat_lt.mpr (Nat.or_lt_two_pow (bs_toNat_lt ha) (bs_toNat_lt hb))
theorem bsX_lt {a b : Int} {n : Nat} (ha : a < ((2 ^ n : Nat) : Int)) (hb : b < ((2 ^ n : Nat) : Int)) : bsX a b < ((2 ^ n : Nat) : Int) := by
  unfold bsX
  exact Int.ofNat_lt.mpr (Nat.xor_lt_two_pow (bs_toNat_lt ha) (bs_toNat_lt hb))
theorem bsA_lt {a b : Int} {n : Nat} (ha : a < ((2 ^ n : Nat) : Int)) : bsA a b < ((2 ^ n : Nat) : Int) := by
  unfold bsA
  rw [Nat.and_comm]
  exact Int.ofNat_lt.mpr (Nat.and_lt_two_pow _ (bs_toNat_lt ha))
theorem bsD_lt {a b : Int} {n : Nat} (ha : a < ((2 ^ n : Nat) : Int)) : bsD a b < ((2 ^ n : Nat) : Int) := by
  unfold bsD
  refine Int.ofNat_lt.mpr (Nat.xor_lt_two_pow (bs_toNat_lt ha) ?_)
  rw [Nat.and_comm]
  exact Nat.and_lt_two_pow _ (bs_toNat_lt ha)
theorem bsP_lt {k : Int} {n : Nat} (h : k.toNat < n) : bsP k < ((2 ^ n : Nat) : Int) := by
  unfold bsP
  exact Int.ofNat_lt.mpr (Nat.pow_lt_pow_right (by decide) h)
theorem bsB_O (a b k : Int) : bsB (bsO a b) k = (bsB a k || bsB b k) := by
  unfold bsB bsO
  rw [Int.toNat_natCast, Nat.testBit_or]
theorem bsB_A (a b k : Int) : bsB (bsA a b) k = (bsB a k && bsB b k) := by
  unfold bsB bsA
  rw [Int.toNat_natCast, Nat.testBit_and]
theorem bsB_X (a b k : Int) : bsB (bsX a b) k = (bsB a k ^^ bsB b k) := by
  unfold bsB bsX
  rw [Int.toNat_natCast, Nat.testBit_xor]
theorem bsB_D (a b k : Int) : bsB (bsD a b) k = (bsB a k && !bsB b k) := by
  unfold bsB bsD
  rw [Int.toNat_natCast, Nat.testBit_xor, Nat.testBit_and]
  cases a.toNat.testBit k.toNat <;> cases b.toNat.testBit k.toNat <;> rfl
theorem bsB_P {i k : Int} (hi : 0 ≤ i) (hk : 0 ≤ k) : bsB (bsP i) k = decide (k = i) := by
  unfold bsB bsP
  rw [Int.toNat_natCast, Nat.testBit_two_pow]
  by_cases h : k = i
  · simp [h]
  · have : ¬ i.toNat = k.toNat := by omega
    simp [h, this]
theorem bsB_0 (k : Int) : bsB 0 k = false := by unfold bsB; simp
theorem bsB_big {s k : Int} {n : Nat} (h : s < ((2 ^ n : Nat) : Int)) (hk : (n : Int) ≤ k) : bsB s k = false := by
  unfold bsB
  refine Nat.testBit_lt_two_pow (Nat.lt_of_lt_of_le (bs_toNat_lt h) (Nat.pow_le_pow_right (by decide) (by omega)))
/-- sets of one bound are told apart by their bits -/
theorem bs_ext {a b : Int} {n : Nat} (ha : 0 ≤ a) (hb : 0 ≤ b) (ha2 : a < ((2 ^ n : Nat) : Int)) (hb2 : b < ((2 ^ n : Nat) : Int)) (h : ∀ k : Int, 0 ≤ k → k < n → bsB a k = bsB b k) : a = b := by
  have e : a.toNat = b.toNat := by
    apply Nat.eq_of_testBit_eq
    intro i
    by_cases hi : i < n
    · have := h (i : Int) (by omega) (by omega)
      unfold bsB at this
      simpa using this
    · rw [Nat.testBit_lt_two_pow (Nat.lt_of_lt_of_le (bs_toNat_lt ha2) (Nat.pow_le_pow_right (by decide) (by omega))), Nat.testBit_lt_two_pow (Nat.lt_of_lt_of_le (bs_toNat_lt hb2) (Nat.pow_le_pow_right (by decide) (by omega)))]
  omega
theorem bsO_same {a b : Int} (ha : 0 ≤ a) (h : ∀ k : Int, 0 ≤ k → bsB b k = true → bsB a k = true) : bsO a b = a := by
  have e : a.toNat ||| b.toNat = a.toNat := by
    apply Nat.eq_of_testBit_eq
    intro i
    rw [Nat.testBit_or]
    have := h (i : Int) (by omega)
    unfold bsB at this
    simp only [Int.toNat_natCast] at this
    cases h1 : a.toNat.testBit i <;> cases h2 : b.toNat.testBit i <;> simp_all
  unfold bsO
  omega
