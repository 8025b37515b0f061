/-! a grid solved: the set that is reached, what 1 drawn at a node does at another one (mv), the whole (wh) -/
def gR (c r : Int) (wd : Int → Int) (F : Int) : Int := rch c r wd F
def gx (c r : Int) (wd : Int → Int) (F v : Int) : Int := ix (gR c r wd F) F v
def gm (c r : Int) (wd : Int → Int) (F : Int) : Int := uC (gR c r wd F) F (c * r)
def gA (c r : Int) (wd : Int → Int) (F : Int) : Int → Int → Int := mA c r wd (ix (gR c r wd F) F) (sN c r)
def mv (c r : Int) (wd : Int → Int) (F v w : Int) : Int := if gx c r wd F v = -1 ∨ gx c r wd F w = -1 then 0 else bT (gA c r wd F) (gm c r wd F).toNat (gx c r wd F v) (9 + gx c r wd F w)
def wh (c r : Int) (wd : Int → Int) (F : Int) : Int := bV (gA c r wd F) (gm c r wd F).toNat
/-- widths of a grid -/
def WdOk (wd : Int → Int) : Prop := ∀ k : Int, 0 ≤ k → k < 12 → 0 ≤ wd k ∧ wd k ≤ 4
/-- a set of nodes -/
def NSet (c r F : Int) : Prop := 0 ≤ F ∧ F < bsP (c * r)
theorem NSet.s512 {c r F : Int} (hg : GW c r) (h : NSet c r F) : F < 512 := by
  have h1 := hg.n1
  have h2 := hg.2.2
  have h3 : bsP (c * r) ≤ 512 := by
    unfold bsP
    have : 2 ^ (c * r).toNat ≤ 2 ^ 9 := Nat.pow_le_pow_right (by decide) (by omega)
    omega
  have := h.2
  omega
theorem bsB_full {n v : Int} (hn : 0 ≤ n) (hv : 0 ≤ v) : bsB (bsP n - 1) v = decide (v < n) := by
  unfold bsB bsP
  have : 0 < 2 ^ n.toNat := Nat.pow_pos (by decide)
  rw [show (((2 ^ n.toNat : Nat) : Int) - 1).toNat = 2 ^ n.toNat - 1 by omega, Nat.testBit_two_pow_sub_one]
  by_cases h : v < n
  · simp [h]; omega
  · simp [h]; omega
/-- what the reference's arrays hold when it is solved -/
def SolM (c r : Int) (wd : Int → Int) (F : Int) (un no ce : Int → Int) : Prop := (∀ v, 0 ≤ v → v < c * r → un v = gx c r wd F v) ∧ (∀ i, 0 ≤ i → i < gm c r wd F → 0 ≤ no i ∧ no i < c * r ∧ gx c r wd F (no i) = i) ∧ Rep ce (gm c r wd F) (bT (gA c r wd F) (gm c r wd F).toNat)
theorem gx_in {c r : Int} {wd : Int → Int} {F v : Int} (h0 : 0 ≤ v) (h : v < c * r) : gx c r wd F v = -1 ∨ (0 ≤ gx c r wd F v ∧ gx c r wd F v < gm c r wd F) := ix_in h0 h
theorem gm_in {c r : Int} {wd : Int → Int} {F : Int} (hg : GW c r) : 0 ≤ gm c r wd F ∧ gm c r wd F ≤ 9 := by
  have h1 := hg.n1
  have h2 := hg.2.2
  have := uC_nn (R := gR c r wd F) (F := F) (v := c * r) (by omega)
  unfold gm
  omega
theorem foI_z {f : Int → Int → Int} {n : Int} (h : ∀ i x, 0 ≤ i → i < n → f i x = x) (a : Int) : foI f a n = a := by
  by_cases hn : 0 ≤ n
  · exact foI_inv (fun _ x => x = a) rfl (fun i x h0 h1 e => by rw [h i x h0 h1, e]) hn
  · unfold foI
    rw [show n.toNat = 0 by omega]
    rfl
theorem sum_le {f g : Int → Int} {n : Int} (h : ∀ i, 0 ≤ i → i < n → f i ≤ g i) (hn : 0 ≤ n) : foI (fun k s => s + f k) 0 n ≤ foI (fun k s => s + g k) 0 n ∧ ∀ j, 0 ≤ j → j < n → f j < g j → foI (fun k s => s + f k) 0 n < foI (fun k s => s + g k) 0 n := by
  obtain ⟨m, rfl⟩ := Int.eq_ofNat_of_zero_le hn
  clear hn
  induction m with
  | zero => exact ⟨Int.le_refl _, fun j _ _ => by omega⟩
  | succ m ih =>
    have e : ((m + 1 : Nat) : Int) = (m : Int) + 1 := by omega
    rw [e, foI_s _ _ (by omega), foI_s _ _ (by omega)]
    have h1 := ih (fun i a b => h i a (by omega))
    have h2 := h m (by omega) (by omega)
    refine ⟨by omega, fun j a b c => ?_⟩
    by_cases ej : j = m
    · subst ej; omega
    · have := h1.2 j a (by omega) c
      omega
theorem sum_add {f g : Int → Int} {n : Int} (hn : 0 ≤ n) : foI (fun k s => s + f k) 0 n + foI (fun k s => s + g k) 0 n = foI (fun k s => s + (f k + g k)) 0 n := by
  obtain ⟨m, rfl⟩ := Int.eq_ofNat_of_zero_le hn
  clear hn
  induction m with
  | zero => rfl
  | succ m ih =>
    rw [show ((m + 1 : Nat) : Int) = (m : Int) + 1 by omega, foI_s _ _ (by omega), foI_s _ _ (by omega), foI_s _ _ (by omega), ← ih]
    omega
theorem bs_nz {s : Int} (h0 : 0 ≤ s) (h1 : s < 4096) (h : s ≠ 0) : ∃ k, 0 ≤ k ∧ k < 12 ∧ bsB s k = true := by
  apply Classical.byContradiction
  intro hn
  apply h
  refine bs_ext (n := 12) h0 (Int.le_refl 0) (by simpa using h1) (by decide) (fun k a b => ?_)
  rw [bsB_0]
  cases hb : bsB s k
  · rfl
  · exact absurd ⟨k, a, by omega, hb⟩ hn
