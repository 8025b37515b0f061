/-! numbers: an int of the machine as a whole number (jI), a long (jL), in range (inR, inL) -/
def jI (z : Int) : Int32 := Int32.ofInt z
def jL (z : Int) : Int64 := Int64.ofInt z
def inR (z : Int) : Prop := -2147483648 ≤ z ∧ z ≤ 2147483647
def inL (z : Int) : Prop := -9223372036854775808 ≤ z ∧ z ≤ 9223372036854775807
theorem inR_L {z : Int} (h : inR z) : inL z := by unfold inR at h; unfold inL; omega
theorem jI_toInt {z : Int} (h : inR z) : (jI z).toInt = z := Int32.toInt_ofInt_of_le (by have := h.1; omega) (by have := h.2; omega)
theorem jL_toInt {z : Int} (h : inL z) : (jL z).toInt = z := Int64.toInt_ofInt_of_le (by have := h.1; omega) (by have := h.2; omega)
theorem jI_of (x : Int32) : jI x.toInt = x := Int32.ofInt_toInt x
theorem jL_of (x : Int64) : jL x.toInt = x := Int64.ofInt_toInt x
theorem jI_in (x : Int32) : inR x.toInt := ⟨by have := x.le_toInt; omega, by have := x.toInt_lt; omega⟩
theorem jL_in (x : Int64) : inL x.toInt := ⟨by have := x.le_toInt; omega, by have := x.toInt_lt; omega⟩
theorem jI_add (a b : Int) : jI a + jI b = jI (a + b) := (Int32.ofInt_add a b).symm
theorem jI_sub (a b : Int) : jI a - jI b = jI (a - b) := (Int32.ofInt_sub a b).symm
theorem jI_mul (a b : Int) : jI a * jI b = jI (a * b) := (Int32.ofInt_mul a b).symm
theorem jI_neg (a : Int) : - jI a = jI (-a) := (Int32.ofInt_neg a).symm
theorem jL_add (a b : Int) : jL a + jL b = jL (a + b) := (Int64.ofInt_add a b).symm
theorem jL_sub (a b : Int) : jL a - jL b = jL (a - b) := (Int64.ofInt_sub a b).symm
theorem jL_mul (a b : Int) : jL a * jL b = jL (a * b) := (Int64.ofInt_mul a b).symm
theorem jL_neg (a : Int) : - jL a = jL (-a) := (Int64.ofInt_neg a).symm
theorem jI_div {a b : Int} (ha : inR a) (hb : inR b) : jI a / jI b = jI (Int.tdiv a b) := by
  have h1 := ha.1; have h2 := ha.2; have h3 := hb.1; have h4 := hb.2
  exact (Int32.ofInt_tdiv (by simpa using h1) (by rw [show Int32.maxValue.toInt = 2147483647 from rfl]; exact h2) (by simpa using h3) (by rw [show Int32.maxValue.toInt = 2147483647 from rfl]; exact h4)).symm
theorem jL_div {a b : Int} (ha : inL a) (hb : inL b) : jL a / jL b = jL (Int.tdiv a b) := by
  have h1 := ha.1; have h2 := ha.2; have h3 := hb.1; have h4 := hb.2
  exact (Int64.ofInt_tdiv (by simpa using h1) (by rw [show Int64.maxValue.toInt = 9223372036854775807 from rfl]; exact h2) (by simpa using h3) (by rw [show Int64.maxValue.toInt = 9223372036854775807 from rfl]; exact h4)).symm
theorem jI_rem {a b : Int} (ha : inR a) (hb : inR b) : jI a - jI a / jI b * jI b = jI (Int.tmod a b) := by
  rw [jI_div ha hb, jI_mul, jI_sub]
  congr 1
  have := Int.mul_tdiv_add_tmod a b
  rw [Int.mul_comm] at this
  omega
theorem jL_rem {a b : Int} (ha : inL a) (hb : inL b) : jL a - jL a / jL b * jL b = jL (Int.tmod a b) := by
  rw [jL_div ha hb, jL_mul, jL_sub]
  congr 1
  have := Int.mul_tdiv_add_tmod a b
  rw [Int.mul_comm] at this
  omega
theorem jI_eq {a b : Int} (ha : inR a) (hb : inR b) : jI a = jI b ↔ a = b :=
  ⟨fun h => by rw [← jI_toInt ha, ← jI_toInt hb, h], fun h => by rw [h]⟩
theorem jI_lt {a b : Int} (ha : inR a) (hb : inR b) : jI a < jI b ↔ a < b := by
  rw [Int32.lt_iff_toInt_lt, jI_toInt ha, jI_toInt hb]
theorem jI_le {a b : Int} (ha : inR a) (hb : inR b) : jI a ≤ jI b ↔ a ≤ b := by
  rw [Int32.le_iff_toInt_le, jI_toInt ha, jI_toInt hb]
theorem jL_eq {a b : Int} (ha : inL a) (hb : inL b) : jL a = jL b ↔ a = b :=
  ⟨fun h => by rw [← jL_toInt ha, ← jL_toInt hb, h], fun h => by rw [h]⟩
theorem jL_lt {a b : Int} (ha : inL a) (hb : inL b) : jL a < jL b ↔ a < b := by
  rw [Int64.lt_iff_toInt_lt, jL_toInt ha, jL_toInt hb]
theorem jL_le {a b : Int} (ha : inL a) (hb : inL b) : jL a ≤ jL b ↔ a ≤ b := by
  rw [Int64.le_iff_toInt_le, jL_toInt ha, jL_toInt hb]
theorem jI_0 : jI 0 = 0 := rfl
theorem jI_1 : jI 1 = 1 := rfl
theorem jI_l {z : Int} (h : inR z) : (jI z).toInt64 = jL z := by
  apply Int64.toInt_inj.mp
  rw [Int32.toInt_toInt64, jI_toInt h, jL_toInt (inR_L h)]
theorem jL_i (z : Int) : (jL z).toInt32 = jI z := Int64.toInt32_ofInt
theorem jI_clamp {z : Int} (h0 : 0 ≤ z) (h : z ≤ 2147483647) : (jI z).toNatClampNeg = z.toNat := by
  show (jI z).toInt.toNat = _
  rw [jI_toInt ⟨by omega, h⟩]
theorem jI_vp {z : Int} {n : Nat} (h0 : 0 ≤ z) (h : z < n) (hn : n ≤ 2147483647) : vp_in (jI z) n := by
  rw [vp_in_iff, jI_toInt ⟨by omega, by omega⟩]
  exact ⟨h0, h⟩
/-- an int array's contents: index to number -/
def aset (a : Int → Int) (i v : Int) : Int → Int := fun k => if k = i then v else a k
theorem aset_at (a : Int → Int) (i v : Int) : aset a i v i = v := if_pos rfl
theorem aset_ne {a : Int → Int} {i v k : Int} (h : k ≠ i) : aset a i v k = a k := if_neg h
abbrev arI (a : Int → Int) : Nat → Int32 := fun k => jI (a (k : Int))
abbrev arL (a : Int → Int) : Nat → Int64 := fun k => jL (a (k : Int))
theorem arI_set {a : Int → Int} {i v : Int} (h0 : 0 ≤ i) (h : i ≤ 2147483647) : upd (arI a) (jI i).toNatClampNeg (jI v) = arI (aset a i v) := by
  rw [jI_clamp h0 h]
  funext k
  simp only [upd, arI, aset]
  by_cases hk : k = i.toNat
  · rw [if_pos hk, if_pos (by omega)]
  · rw [if_neg hk, if_neg (by omega)]
theorem arL_set {a : Int → Int} {i v : Int} (h0 : 0 ≤ i) (h : i ≤ 2147483647) : vp_updL (arL a) (jI i).toNatClampNeg (jL v) = arL (aset a i v) := by
  rw [jI_clamp h0 h]
  funext k
  simp only [vp_updL, arL, aset]
  by_cases hk : k = i.toNat
  · rw [if_pos hk, if_pos (by omega)]
  · rw [if_neg hk, if_neg (by omega)]
theorem arI_at {a : Int → Int} {i : Int} (h0 : 0 ≤ i) (h : i ≤ 2147483647) : arI a (jI i).toNatClampNeg = jI (a i) := by
  rw [jI_clamp h0 h]
  show jI (a (i.toNat : Int)) = _
  rw [Int.toNat_of_nonneg h0]
theorem arL_at {a : Int → Int} {i : Int} (h0 : 0 ≤ i) (h : i ≤ 2147483647) : arL a (jI i).toNatClampNeg = jL (a i) := by
  rw [jI_clamp h0 h]
  show jL (a (i.toNat : Int)) = _
  rw [Int.toNat_of_nonneg h0]
theorem bip_ok {n : Int} (h1 : -128 ≤ n) (h2 : n ≤ 127) : (Int8.ofInt n).toInt32 = jI n := Int8.toInt32_ofInt (by simpa using h1) (by rw [show Int8.maxValue.toInt = 127 from rfl]; exact h2)
theorem sip_ok {n : Int} (h1 : -32768 ≤ n) (h2 : n ≤ 32767) : (Int16.ofInt n).toInt32 = jI n := Int16.toInt32_ofInt (by simpa using h1) (by rw [show Int16.maxValue.toInt = 32767 from rfl]; exact h2)
theorem lcmp_lt {a b : Int} (ha : inL a) (hb : inL b) : lg_cmp (jL a) (jL b) = jI (if b < a then 1 else if a = b then 0 else -1) := by
  unfold lg_cmp
  simp only [jL_lt hb ha, jL_eq ha hb]
  by_cases h1 : b < a
  · simp [h1]; rfl
  · by_cases h2 : a = b
    · simp [h2]; rfl
    · simp [h1, h2]; rfl
