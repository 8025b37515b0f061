/-! sets made by a loop; slopes -/
def setF (P : Int → Bool) (n : Int) : Int := foI (fun v s => if P v = true then bsO s (bsP v) else s) 0 n
theorem setF_bit {P : Int → Bool} {n : Int} (h0 : 0 ≤ n) (h12 : n ≤ 12) : (0 ≤ setF P n ∧ setF P n < 4096) ∧ ∀ k, 0 ≤ k → (bsB (setF P n) k = true ↔ k < n ∧ P k = true) := by
  unfold setF
  refine foI_inv (fun i s => (0 ≤ s ∧ s < 4096) ∧ ∀ k, 0 ≤ k → (bsB s k = true ↔ k < i ∧ P k = true)) ⟨by omega, fun k hk => by rw [bsB_0]; constructor <;> intro h <;> first | omega | simp at h⟩ (fun k s q1 q2 q3 => ?_) h0
  split
  · rename_i hc
    refine ⟨⟨bsO_0, bsO_4096 q3.1.2 (bsP_12 q1 (by omega))⟩, fun j hj => ?_⟩
    rw [bsB_O, bsB_P q1 hj]
    have := q3.2 j hj
    by_cases e : j = k
    · subst e
      simp [hc]
      omega
    · simp only [e, decide_false, Bool.or_false, this]
      constructor <;> rintro ⟨a, b⟩ <;> exact ⟨by omega, b⟩
  · rename_i hc
    refine ⟨q3.1, fun j hj => ?_⟩
    rw [q3.2 j hj]
    by_cases e : j = k
    · subst e
      constructor
      · rintro ⟨a, b⟩; omega
      · rintro ⟨a, b⟩; exact absurd b hc
    · constructor <;> rintro ⟨a, b⟩ <;> exact ⟨by omega, b⟩
theorem setF_zero {P : Int → Bool} {n : Int} (h0 : 0 ≤ n) (h12 : n ≤ 12) : setF P n = 0 ↔ ∀ k, 0 ≤ k → k < n → P k = false := by
  have hb := setF_bit (P := P) h0 h12
  constructor
  · intro h k k0 k1
    cases hp : P k
    · rfl
    · have := (hb.2 k k0).mpr ⟨k1, hp⟩
      rw [h, bsB_0] at this
      simp at this
  · intro h
    apply Classical.byContradiction
    intro hne
    obtain ⟨k, k0, -, kb⟩ := bs_nz hb.1.1 hb.1.2 hne
    have := (hb.2 k k0).mp kb
    rw [h k k0 this.1] at this
    simp at this
theorem setF_s {P : Int → Bool} {n : Int} (h : 0 ≤ n) : setF P (n + 1) = if P n = true then bsO (setF P n) (bsP n) else setF P n := foI_s _ _ h
def ovB (w f : Int → Int) (v : Int) : Bool := bsB (wR w) v && decide (w 2 * wWh w < f v)
theorem ov_hold {w : Int → Int} (hd : Gd w) : setF (ovB w (wDr w)) (wN w) = 0 ↔ wMx w ≤ w 2 * wWh w := by
  have hn := hd.n
  have hl := lim_in hd
  rw [setF_zero (by omega) (by omega)]
  constructor
  · intro h
    rcases wMx_at (w := w) (by omega) with e | ⟨v, a, b, c⟩
    · omega
    · rw [← c]
      have := h v a b
      unfold ovB at this
      cases hb : bsB (wR w) v
      · rw [dead_dr hb]; omega
      · rw [hb] at this
        simp at this
        omega
  · intro h k k0 k1
    have := wMx_ge (w := w) k0 k1
    unfold ovB
    rw [decide_eq_false (by omega)]
    simp
theorem wOv_eq {w : Int → Int} (hd : Gd w) : wOv w = setF (ovB w (wDr w)) (wN w) := by
  have hl := lim_in hd
  refine foI_cong (fun v s a b => ?_)
  unfold ovB
  cases hb : bsB (wR w) v
  · rw [dead_dr hb, if_neg (by omega)]
    simp
  · simp
def wSl (w : Int → Int) (k : Int) : Int := if w (28 + k) = 0 then 0 else wDr w (sT (w 0) (w 1) k) - wDr w (sF (w 0) (w 1) k)
theorem wSl_in {w : Int → Int} (hd : Gd w) {k : Int} (h0 : 0 ≤ k) (h1 : k < wS w) : -7653631721472 ≤ wSl w k ∧ wSl w k ≤ 7653631721472 := by
  have q := sl_in hd.g h0 h1
  have q2 : wN w = w 0 * w 1 := rfl
  have d1 := hd.dr (v := sF (w 0) (w 1) k) (by omega) (by omega)
  have d2 := hd.dr (v := sT (w 0) (w 1) k) (by omega) (by omega)
  unfold wSl
  split <;> omega
theorem wHt_sl {w : Int → Int} {k : Int} : wHt w k = ((wSl w k).natAbs : Int) := by
  unfold wHt wSl
  split <;> rfl
theorem wTh_sl {w : Int → Int} {k : Int} : wTh w k = wSl w k * w (28 + k) := by
  unfold wTh wSl
  split
  · rename_i e
    rw [e]
    omega
  · rw [Int.mul_comm]
/-- a strap that is there and one end of which is dead has no slope -/
theorem wSl_dead {w : Int → Int} (hd : Gd w) {k : Int} (h0 : 0 ≤ k) (h1 : k < wS w) (h : bsB (wR w) (sF (w 0) (w 1) k) = false) : wSl w k = 0 := by
  unfold wSl
  split
  · rfl
  · rename_i hw
    have hp := hd.p5
    have := rch_cl (wd := wWd w) hd.g hp.1 hp.2 h0 h1 hw
    have h2 : bsB (wR w) (sT (w 0) (w 1) k) = false := by
      rw [← h]
      exact this.symm
    rw [dead_dr h, dead_dr h2]
    rfl
theorem wWe_eq {w : Int → Int} : wWe w = setF (fun k => decide (w 3 * wWh w < ((wSl w k).natAbs : Int))) (wS w) := by
  refine foI_cong (fun k s _ _ => ?_)
  rw [wHt_sl]
  simp
theorem pc12_upto {s n : Int} (h0 : 0 ≤ n) (h1 : n ≤ 12) (hb : ∀ k, n ≤ k → k < 12 → bsB s k = false) : pc12 s = foI (fun k a => a + (if bsB s k = true then 1 else 0)) 0 n := by
  unfold pc12
  refine foI_stuck h0 h1 rfl (fun j a b => ?_)
  rw [hb j a b]
  simp
theorem pc12_yr {w : Int → Int} (hd : Gd w) : pc12 (wWe w) = wYr w := by
  have hs := hd.s
  refine pc12_upto hs.1 hs.2 (fun k a b => ?_)
  cases hb : bsB (wWe w) k
  · rfl
  · have := (wWe_bit hd (by omega)).mp hb
    omega
theorem pc12_9 {s : Int} (h : s < 512) : pc12 s = bitc s := pc12_upto (by omega) (by omega) (fun k a _ => bsB_big (n := 9) (by simpa using h) (by simpa using a))
theorem pc12_0 {w : Int → Int} (hd : Gd w) : pc12 (wWe w) = 0 ↔ wWe w = 0 := by
  have hi := wWe_in hd
  constructor
  · intro h
    apply Classical.byContradiction
    intro hne
    obtain ⟨k, k0, k1, kb⟩ := bs_nz hi.1 hi.2 hne
    have := foI_inv (f := fun (k a : Int) => a + (if bsB (wWe w) k then 1 else 0)) (a := 0) (n := 12) (fun i x => 0 ≤ x ∧ (k < i → 1 ≤ x)) ⟨by omega, by omega⟩ (fun i x q1 q2 q3 => by
      by_cases e : i = k
      · subst e
        rw [kb]
        simp
        try omega
      · (try simp only)
        split <;> (refine ⟨by omega, fun hk => ?_⟩; have := q3.2 (by omega); omega)) (by omega)
    have h1 := this.2 (by omega)
    unfold pc12 at h
    omega
  · intro h
    rw [h]
    decide
theorem cmpF_pos {a b c d : Int} : 0 < cmpF a b c d ↔ c * b < a * d := by
  unfold cmpF
  split
  · omega
  · split <;> omega
