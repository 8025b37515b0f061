/-! heat, years; what is put aside -/
def ov (a w : Int → Int) : Int → Int := fun k => if 0 ≤ k ∧ k < 40 then a k else w k
/-- alike outside of the forty numbers -/
def AgO (w w' : Int → Int) : Prop := ∀ k : Int, ¬ (0 ≤ k ∧ k < 40) → w' k = w k
theorem AgO.rf {w : Int → Int} : AgO w w := fun _ _ => rfl
theorem AgO.set {w w' : Int → Int} {i v : Int} (h : AgO w w') (hi : 0 ≤ i ∧ i < 40) : AgO w (aset w' i v) := fun k hk => by
  rw [aset_ne (by intro e; subst e; exact hk hi)]
  exact h k hk
theorem ov_back {w w' a : Int → Int} (h : AgO w w') : ov (ov w a) w' = w := by
  funext k
  unfold ov
  by_cases hk : 0 ≤ k ∧ k < 40
  · simp [hk]
  · simp only [if_neg hk]
    exact h k hk
theorem ov_in {a w : Int → Int} {k : Int} (h0 : 0 ≤ k) (h1 : k < 40) : ov a w k = a k := if_pos ⟨h0, h1⟩
def wHt (w : Int → Int) (k : Int) : Int := if w (28 + k) = 0 then 0 else ((wDr w (sT (w 0) (w 1) k) - wDr w (sF (w 0) (w 1) k)).natAbs : Int)
theorem wHt_in {w : Int → Int} (hd : Gd w) {k : Int} (h0 : 0 ≤ k) (h1 : k < wS w) : 0 ≤ wHt w k ∧ wHt w k ≤ 7653631721472 := by
  have q := sl_in hd.g h0 h1
  have q2 : wN w = w 0 * w 1 := rfl
  have d1 := hd.dr (v := sF (w 0) (w 1) k) (by omega) (by omega)
  have d2 := hd.dr (v := sT (w 0) (w 1) k) (by omega) (by omega)
  unfold wHt
  split <;> omega
def spHeat (w : Int → Int) (k p : Int) : Int := if (isKb w k && isPb p) = true then partF (wHt w k) (wWh w) p else -2
def wHo2 (w : Int → Int) : Int × Int := foI (fun k (s : Int × Int) => if wHt w k ≤ s.2 then s else (k, wHt w k)) (-1, 0) (wS w)
def spHottest (w : Int → Int) : Int := if 0 < w 4 then (wHo2 w).1 else -2
def wWe (w : Int → Int) : Int := foI (fun k s => if w 3 * wWh w < wHt w k then bsO s (bsP k) else s) 0 (wS w)
def spWearing (w : Int → Int) : Int := if 0 < w 4 then wWe w else -2
theorem bsP_12 {k : Int} (h0 : 0 ≤ k) (h : k < 12) : bsP k < 4096 := by
  have := bsP_lt (k := k) (n := 12) (by omega)
  simpa using this
theorem bsO_4096 {a b : Int} (ha : a < 4096) (hb : b < 4096) : bsO a b < 4096 := by
  have := bsO_lt (a := a) (b := b) (n := 12) (by simpa using ha) (by simpa using hb)
  simpa using this
theorem wear_in {w : Int → Int} (hd : Gd w) : 1 ≤ w 3 * wWh w ∧ w 3 * wWh w ≤ 8581344657408 := by
  have h3 := hd.wear
  have h4 := hd.who
  have h5 : 1 * 1 ≤ w 3 * wWh w := Int.mul_le_mul h3.1 (by omega) (by omega) (by omega)
  have h6 : w 3 * wWh w ≤ 999 * 8589934592 := Int.mul_le_mul h3.2 h4.2 (by omega) (by omega)
  omega
/-- what such a fold of a set is -/
def setI (w : Int → Int) (i s : Int) : Prop := (0 ≤ s ∧ s < 4096) ∧ ∀ k, 0 ≤ k → (bsB s k = true ↔ k < i ∧ w 3 * wWh w < wHt w k)
theorem wWe_upto {w : Int → Int} (hd : Gd w) {i : Int} (h0 : 0 ≤ i) (h1 : i ≤ wS w) : setI w i (foI (fun k s => if w 3 * wWh w < wHt w k then bsO s (bsP k) else s) 0 i) := by
  have hs := hd.s
  refine foI_inv (setI w) ⟨by omega, fun k hk => by rw [bsB_0]; constructor <;> intro h <;> first | omega | simp at h⟩ (fun k s q1 q2 q3 => ?_) h0
  try simp only
  split
  · rename_i hc
    refine ⟨⟨bsO_0, bsO_4096 q3.1.2 (bsP_12 q1 (by omega))⟩, fun j hj => ?_⟩
    rw [bsB_O, bsB_P q1 hj]
    have := q3.2 j hj
    by_cases e : j = k
    · subst e
      simp [hc]
      omega
    · simp only [e, decide_false, Bool.or_false, this]
      constructor <;> rintro ⟨a, b⟩ <;> exact ⟨by omega, b⟩
  · rename_i hc
    refine ⟨q3.1, fun j hj => ?_⟩
    have := q3.2 j hj
    rw [this]
    by_cases e : j = k
    · subst e
      constructor
      · rintro ⟨a, b⟩; omega
      · rintro ⟨a, b⟩; exact absurd b hc
    · constructor <;> rintro ⟨a, b⟩ <;> exact ⟨by omega, b⟩
theorem wWe_in {w : Int → Int} (hd : Gd w) : 0 ≤ wWe w ∧ wWe w < 4096 := (wWe_upto hd hd.s.1 (Int.le_refl _)).1
theorem wWe_bit {w : Int → Int} (hd : Gd w) {k : Int} (h0 : 0 ≤ k) : bsB (wWe w) k = true ↔ k < wS w ∧ w 3 * wWh w < wHt w k := (wWe_upto hd hd.s.1 (Int.le_refl _)).2 k h0
/-- a year -/
def wAge (w : Int → Int) : Int → Int := fun j => if 28 ≤ j ∧ j < 28 + wS w ∧ bsB (wWe w) (j - 28) = true then w j - 1 else w j
theorem wAge_lo {w : Int → Int} {j : Int} (h : j < 28) : wAge w j = w j := if_neg (by omega)
theorem wAge_hi {w : Int → Int} {j : Int} (h : 28 + wS w ≤ j) : wAge w j = w j := if_neg (by omega)
theorem wAge_at {w : Int → Int} (hd : Gd w) {k : Int} (h0 : 0 ≤ k) (h1 : k < wS w) : wAge w (28 + k) = if bsB (wWe w) k = true then w (28 + k) - 1 else w (28 + k) := by
  unfold wAge
  rw [show 28 + k - 28 = k by omega]
  by_cases h : bsB (wWe w) k = true
  · rw [if_pos ⟨by omega, by omega, h⟩, if_pos h]
  · rw [if_neg (by intro q; exact h q.2.2), if_neg h]
theorem wWe_pos {w : Int → Int} (hd : Gd w) {k : Int} (h0 : 0 ≤ k) (h : bsB (wWe w) k = true) : k < wS w ∧ 1 ≤ w (28 + k) := by
  have h1 := (wWe_bit hd h0).mp h
  have h2 := wear_in hd
  have hs := hd.s
  have h3 := hd.wd k h0 (by omega)
  unfold wWd at h3
  refine ⟨h1.1, ?_⟩
  by_cases e : w (28 + k) = 0
  · have := h1.2
    unfold wHt at this
    rw [if_pos e] at this
    omega
  · omega
theorem Gd.age {w : Int → Int} (hd : Gd w) : Gd (wAge w) := by
  have hs := hd.s
  refine hd.upd (fun k _ _ => wAge_lo (by omega)) (by rw [wAge_lo (by omega)]; exact hd.pads) (fun v _ _ => by rw [wAge_lo (by omega)]; exact hd.ld v (by omega) (by omega)) (fun k _ _ => wAge_lo (by omega)) (fun k h0 h1 => ?_) (fun k h0 h1 => by rw [wAge_hi (by omega)]; exact hd.wz k h0 h1)
  have h3 := hd.wd k h0 h1
  unfold wWd at h3
  by_cases e : k < wS w
  · rw [wAge_at hd h0 e]
    split
    · rename_i hb
      have := wWe_pos hd h0 hb
      omega
    · exact h3
  · rw [wAge_hi (by omega)]
    exact h3
theorem AgO.age {w w' : Int → Int} (hd : Gd w') (h : AgO w w') : AgO w (wAge w') := fun k hk => by
  have hs := hd.s
  rw [← h k hk]
  by_cases e : k < 28
  · exact wAge_lo e
  · exact wAge_hi (by omega)
theorem wAge_0 {w : Int → Int} (h : wWe w = 0) : wAge w = w := by
  funext j
  unfold wAge
  rw [h, bsB_0]
  exact if_neg (by simp)
def wSu (w : Int → Int) : Int := foI (fun k s => s + w (28 + k)) 0 12
theorem wSu_in {w : Int → Int} (hd : Gd w) : 0 ≤ wSu w ∧ wSu w ≤ 48 := by
  unfold wSu
  have := foI_inv (f := fun k s => s + w (28 + k)) (a := 0) (n := 12) (fun i s => 0 ≤ s ∧ s ≤ 4 * i) (by omega) (fun i s q1 q2 q3 => by
    have := hd.wd i q1 q2
    unfold wWd at this
    try simp only
    omega) (by omega)
  omega
theorem wSu_age {w : Int → Int} (hd : Gd w) (h : wWe w ≠ 0) : wSu (wAge w) < wSu w := by
  have hi := wWe_in hd
  have hs := hd.s
  obtain ⟨k, k0, k1, kb⟩ := bs_nz hi.1 hi.2 h
  have hp := wWe_pos hd k0 kb
  unfold wSu
  refine (sum_le (f := fun k => wAge w (28 + k)) (g := fun k => w (28 + k)) (fun i a b => ?_) (by omega)).2 k k0 k1 ?_
  · try simp only
    by_cases e : i < wS w
    · rw [wAge_at hd a e]
      split <;> omega
    · rw [wAge_hi (by omega)]
      omega
  · try simp only
    rw [wAge_at hd k0 hp.1, if_pos kb]
    omega
def las : Nat → (Int → Int) → Int → Int
  | 0, _, n => n
  | f + 1, w, n => if wHo w = true then (if wWe w = 0 then -1 else las f (wAge w) (n + 1)) else n
def cal : Nat → (Int → Int) → Int → Int
  | 0, _, n => n
  | f + 1, w, n => if wWe w = 0 then n else cal f (wAge w) (n + 1)
def wor (k : Int) : Nat → (Int → Int) → Int → Int
  | 0, _, n => n
  | f + 1, w, n => if 0 < w (28 + k) then (if wWe w = 0 then -1 else wor k f (wAge w) (n + 1)) else n
def spAged (w : Int → Int) (n k : Int) : Int := if (0 ≤ n ∧ n ≤ 100) ∧ isKb w k = true then itN wAge n.toNat w (28 + k) else -2
def spLasts (w : Int → Int) : Int := if 0 < w 4 then las 49 w 0 else -2
def spWorn (w : Int → Int) (k : Int) : Int := if isKb w k = true then wor k 49 w 0 else -2
def spCalms (w : Int → Int) : Int := if 0 < w 4 then cal 49 w 0 else -2
theorem Gd.ages {w : Int → Int} (hd : Gd w) (n : Nat) : Gd (itN wAge n w) := by
  induction n with
  | zero => exact hd
  | succ n ih => exact ih.age
theorem AgO.ages {w : Int → Int} (hd : Gd w) (n : Nat) : AgO w (itN wAge n w) := by
  induction n with
  | zero => exact AgO.rf
  | succ n ih => exact AgO.age (hd.ages n) ih
