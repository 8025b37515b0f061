/-! straps slimmer, lost; pairs; loads by draws; room -/
def wNs (w : Int → Int) : Bst := bst (fun k => !decide (w (28 + k) = 0) && wHo (aset w (28 + k) (w (28 + k) - 1))) (fun k => aset w (28 + k) (w (28 + k) - 1)) bs0 (wS w)
theorem Gd.slim {w : Int → Int} (hd : Gd w) {k : Int} (h0 : 0 ≤ k) (h1 : k < wS w) (h : w (28 + k) ≠ 0) : Gd (aset w (28 + k) (w (28 + k) - 1)) := by
  have := hd.s
  have h3 := hd.wd k h0 (by omega)
  unfold wWd at h3
  exact hd.wid h0 h1 (by omega)
theorem wNs_in {w : Int → Int} (hd : Gd w) : (wNs w).1 = -1 ∨ (0 ≤ (wNs w).1 ∧ (wNs w).1 < wS w ∧ w (28 + (wNs w).1) ≠ 0) := by
  rcases bst_at (P := fun k => !decide (w (28 + k) = 0) && wHo (aset w (28 + k) (w (28 + k) - 1))) (G := fun k => aset w (28 + k) (w (28 + k) - 1)) (s := bs0) (n := wS w) hd.s.1 with h | ⟨a, b, c⟩
  · exact Or.inl h
  · refine Or.inr ⟨a, b, ?_⟩
    unfold wNs
    simp only [Bool.and_eq_true, Bool.not_eq_true', decide_eq_false_iff_not] at c
    exact c.1
theorem wSu_slim {w : Int → Int} (hd : Gd w) {k : Int} (h0 : 0 ≤ k) (h1 : k < wS w) : wSu (aset w (28 + k) (w (28 + k) - 1)) < wSu w := by
  have := hd.s
  unfold wSu
  refine (sum_le (f := fun j => aset w (28 + k) (w (28 + k) - 1) (28 + j)) (g := fun j => w (28 + j)) (fun i a b => ?_) (by omega)).2 k h0 (by omega) ?_
  · by_cases e : i = k
    · rw [e, aset_at]; omega
    · rw [aset_ne (by omega)]; exact Int.le_refl _
  · rw [aset_at]; omega
def slf : Nat → (Int → Int) → Int → (Int → Int) × Int
  | 0, w, n => (w, n)
  | f + 1, w, n => if (wNs w).1 = -1 then (w, n) else slf f (aset w (28 + (wNs w).1) (w (28 + (wNs w).1) - 1)) (n + 1)
def spSlims (w : Int → Int) : Int := if 0 < w 4 then (if wHo w = true then (slf 49 w 0).2 else -1) else -2
def spSlim (w : Int → Int) (k : Int) : Int := if isKb w k = true then (if wHo w = true then (slf 49 w 0).1 (28 + k) else -1) else -2
/-- without a strap -/
def w0 (w : Int → Int) (k : Int) : Int → Int := aset w (28 + k) 0
theorem Gd.w0 {w : Int → Int} (hd : Gd w) {k : Int} (h0 : 0 ≤ k) (h1 : k < wS w) : Gd (w0 w k) := hd.wid h0 h1 (by omega)
theorem wS_w0 {w : Int → Int} {k : Int} (h0 : 0 ≤ k) : wS (w0 w k) = wS w := wS_aset (by omega)
def wPr (w : Int → Int) (a b : Int) : Bool := !decide (w (28 + a) = 0) && !decide (w (28 + b) = 0) && !wHo (w0 (w0 w a) b) && wHo (w0 w a) && wHo (w0 w b)
theorem w0_back {w : Int → Int} {a b : Int} : aset (aset (aset (aset w (28 + a) 0) (28 + b) 0) (28 + b) (w (28 + b))) (28 + a) (w (28 + a)) = w := by
  funext k
  by_cases e1 : k = 28 + a
  · rw [e1, aset_at]
  · rw [aset_ne e1]
    by_cases e2 : k = 28 + b
    · rw [e2, aset_at]
    · rw [aset_ne e2, aset_ne e2, aset_ne e1]
theorem w0_same {w : Int → Int} {a : Int} : w0 (w0 w a) a = w0 w a := aset_two
/-- one pair: how many so far, the one that is asked for -/
def prT (w : Int → Int) (i a b : Int) (s : Int × Int) : Int × Int := if a < b ∧ s.2 = -1 ∧ wPr w a b = true then (if s.1 = i then (s.1, 100 * a + b) else (s.1 + 1, -1)) else s
def prI (w : Int → Int) (i a : Int) (s : Int × Int) (n : Int) : Int × Int := foI (prT w i a) s n
def prS (w : Int → Int) (i n : Int) : Int × Int := foI (fun a s => prI w i a s (wS w)) (0, -1) n
theorem prT_st {w : Int → Int} {i a b : Int} {s : Int × Int} (h : s.2 ≠ -1) : prT w i a b s = s := if_neg (fun q => h q.2.1)
theorem prI_st {w : Int → Int} {i a n : Int} {s : Int × Int} (h : s.2 ≠ -1) : prI w i a s n = s := by
  by_cases hn : 0 ≤ n
  · exact foI_inv (fun _ x => x = s) rfl (fun j x _ _ e => by rw [e]; exact prT_st h) hn
  · unfold prI foI
    rw [show n.toNat = 0 by omega]
    rfl
theorem foI_stuck {α : Type} {f : Int → α → α} {a t : α} {k n : Int} (h0 : 0 ≤ k) (hk : k ≤ n) (h : foI f a k = t) (hs : ∀ j, k ≤ j → j < n → f j t = t) : foI f a n = t := by
  obtain ⟨m, rfl⟩ : ∃ m : Nat, n = k + m := ⟨(n - k).toNat, by omega⟩
  clear hk
  induction m with
  | zero => simpa using h
  | succ m ih =>
    rw [show k + ((m + 1 : Nat) : Int) = k + m + 1 by omega, foI_s _ _ (by omega), ih (fun j a b => hs j a (by omega)), hs _ (by omega) (by omega)]
/-- found: the end of both folds -/
theorem prS_found {w : Int → Int} {i a b : Int} {s : Int × Int} (ha : 0 ≤ a) (ha2 : a < wS w) (hb : a < b) (hb2 : b < wS w) (h1 : (s.1, (-1 : Int)) = prI w i a (prS w i a) b) (hp : wPr w a b = true) (hi : s.1 = i) : prS w i (wS w) = (s.1, 100 * a + b) := by
  have e1 : prI w i a (prS w i a) (b + 1) = (s.1, 100 * a + b) := by
    unfold prI at h1 ⊢
    rw [foI_s _ _ (by omega), ← h1]
    unfold prT
    rw [if_pos ⟨hb, rfl, hp⟩, if_pos hi]
  have e2 : prI w i a (prS w i a) (wS w) = (s.1, 100 * a + b) := foI_stuck (by omega) (by omega) e1 (fun j _ _ => prT_st (by simp only; omega))
  have e3 : prS w i (a + 1) = (s.1, 100 * a + b) := by
    unfold prS at e2 ⊢
    rw [foI_s _ _ ha]
    exact e2
  exact foI_stuck (by omega) (by omega) e3 (fun j _ _ => prI_st (by simp only; omega))
theorem prI_skip {w : Int → Int} {i a : Int} {s : Int × Int} (ha : 0 ≤ a) : prI w i a s (a + 1) = s := by
  refine foI_inv (fun _ x => x = s) rfl (fun j x _ q e => ?_) (by omega)
  rw [e]
  unfold prT
  rw [if_neg (by omega)]
def spPairs (w : Int → Int) : Int := if 0 < w 4 then (prS w (-1) (wS w)).1 else -2
def spPair (w : Int → Int) (i : Int) : Int := if 0 < w 4 ∧ 0 ≤ i then (prS w i (wS w)).2 else -2
/-! draws -/
def lcg (d : Int) : Int := (1103515245 * d + 12345) % 2147483648
theorem lcg_in (d : Int) : 0 ≤ lcg d ∧ lcg d < 2147483648 := by unfold lcg; omega
def trV (w : Int → Int) (d v : Int) : Int := itN lcg (v + 1).toNat d / 65536 % (w (6 + v) + 1)
def trW (w : Int → Int) (d : Int) : Int → Int := fun j => if 6 ≤ j ∧ j < 6 + wN w then trV w d (j - 6) else w j
theorem trV_in {w : Int → Int} (hd : Gd w) {d v : Int} (h0 : 0 ≤ v) (h1 : v < 9) : 0 ≤ trV w d v ∧ trV w d v ≤ w (6 + v) := by
  have h := hd.ld v h0 h1
  unfold trV
  have q1 := Int.emod_nonneg (itN lcg (v + 1).toNat d / 65536) (show w (6 + v) + 1 ≠ 0 by omega)
  have q2 := Int.emod_lt_of_pos (itN lcg (v + 1).toNat d / 65536) (show 0 < w (6 + v) + 1 by omega)
  omega
theorem Gd.tr {w : Int → Int} (hd : Gd w) (d : Int) : Gd (trW w d) := by
  have hn := hd.n
  have hs := hd.s
  have hl : ∀ j, ¬ (6 ≤ j ∧ j < 6 + wN w) → trW w d j = w j := fun j h => if_neg h
  refine hd.upd (fun k _ _ => hl k (by omega)) (by rw [hl 5 (by omega)]; exact hd.pads) (fun v h0 h1 => ?_) (fun k _ _ => hl k (by omega)) (fun k h0 h1 => by rw [hl _ (by omega)]; exact hd.wd k h0 h1) (fun k h0 h1 => by rw [hl _ (by omega)]; exact hd.wz k h0 h1)
  have h3 := hd.ld v h0 h1
  unfold trW
  split
  · have := trV_in hd (d := d) h0 h1
    rw [show 6 + v - 6 = v by omega]
    omega
  · exact h3
theorem itN_in {d : Int} (h : 0 ≤ d ∧ d < 2147483648) (n : Nat) : 0 ≤ itN lcg n d ∧ itN lcg n d < 2147483648 := by
  cases n with
  | zero => exact h
  | succ n => exact lcg_in _
/-- so many times: the number drawn, how often it holds, the greatest drop and its whole -/
def trT (w : Int → Int) (s : Int × Int × Int × Int) : Int × Int × Int × Int := (itN lcg (wN w).toNat s.1, s.2.1 + (if wHo (trW w s.1) = true then 1 else 0), if cmpF (wMx (trW w s.1)) (wWh (trW w s.1)) s.2.2.1 s.2.2.2 ≤ 0 then s.2.2 else (wMx (trW w s.1), wWh (trW w s.1)))
def trS (w : Int → Int) (seed n : Int) : Int × Int × Int × Int := foI (fun _ s => trT w s) (seed, 0, 0, 1) n
def spChance (w : Int → Int) (seed n : Int) : Int := if 0 < w 4 ∧ 0 ≤ seed ∧ 1 ≤ n ∧ n ≤ 100 then (trS w seed n).2.1 else -2
def spLuck (w : Int → Int) (seed n p : Int) : Int := if (0 < w 4 ∧ 0 ≤ seed ∧ 1 ≤ n ∧ n ≤ 100) ∧ isPb p = true then partF (trS w seed n).2.2.1 (trS w seed n).2.2.2 p else -2
def spWithout (w : Int → Int) (k p : Int) : Int := if (isKb w k && isPb p) = true then partF (wMx (w0 w k)) (wWh (w0 w k)) p else -2
def spLost (w : Int → Int) (k : Int) : Int := if isKb w k = true then wDead (w0 w k) else -2
def vsf (w : Int → Int) (k : Int) (s : Bst) : Bst := if 0 < w (28 + k) ∧ 0 < sc (w0 w k) s.2.1 s.2.2.1 s.2.2.2 then (k, wDl (w0 w k), wMx (w0 w k), wWh (w0 w k)) else s
def wVi (w : Int → Int) (n : Int) : Bst := foI (vsf w) (-1, -1, 0, 1) n
def spVital (w : Int → Int) : Int := if 0 < w 4 then (wVi w (wS w)).1 else -2
def wSp (w : Int → Int) (n : Int) : Int := foI (fun k s => if 0 < w (28 + k) ∧ wHo (w0 w k) = true then bsO s (bsP k) else s) 0 n
def spSpare (w : Int → Int) : Int := if 0 < w 4 then wSp w (wS w) else -2
def rmF (w : Int → Int) (v : Int) : Nat → Int
  | 0 => -1
  | n + 1 => if wHo (aset w (6 + v) (n : Int)) = true then (n : Int) else rmF w v n
def spRoom (w : Int → Int) (v : Int) : Int := if isNb w v = true then rmF w v 100 else -2
theorem andb1 {P : Prop} {b : Bool} [hd : Decidable P] (h : P) : (!decide P && b) = false := by rw [decide_eq_true h]; rfl
theorem andb2 {a b : Bool} (h : ¬ b = true) : (a && b) = false := by cases a <;> cases b <;> simp_all
