theorem sc_m1 {w : Int → Int} (hd : Gd w) {a b : Int} : 0 < sc w (-1) a b := by
  have := hd.dl
  rw [sc_ne (by omega), if_neg (by omega)]
  omega
theorem SX.ld {w sw sl : Int → Int} {sp v x : Int} (h : SX w sw sl sp) (hv : 0 ≤ v) (hv9 : v < 9) : SX (aset w (6 + v) x) sw (aset sl v x) sp := by
  refine ⟨fun j a b => by rw [aset_ne (by omega)]; exact h.1 j a b, fun u a b => ?_, by rw [aset_ne (by omega)]; exact h.2.2⟩
  by_cases e : u = v
  · rw [e, aset_at, aset_at]
  · rw [aset_ne e, aset_ne (by omega)]; exact h.2.1 u a b
theorem w0_comm {w : Int → Int} {a b : Int} : w0 (w0 w a) b = w0 (w0 w b) a := by
  funext k
  unfold w0
  by_cases e1 : k = 28 + a
  · by_cases e2 : k = 28 + b
    · rw [e1] at e2 ⊢
      have : a = b := by omega
      rw [this]
    · rw [aset_ne e2, e1, aset_at, aset_at]
  · by_cases e2 : k = 28 + b
    · rw [e2, aset_at, aset_ne (by omega), aset_at]
    · rw [aset_ne e2, aset_ne e1, aset_ne e1, aset_ne e2]
theorem lo_tr {w : Int → Int} {d : Int} : ∀ k : Int, 0 ≤ k → k < 4 → trW w d k = w k := fun k _ h => if_neg (by omega)
theorem SX.tr {w sw sl : Int → Int} {sp d : Int} (hd : Gd w) (h1 : ∀ k : Int, 0 ≤ k → k < 12 → sw k = w (28 + k)) (h2 : ∀ u : Int, 0 ≤ u → u < wN w → sl u = trV w d u) (h3 : ∀ u : Int, wN w ≤ u → u < 9 → sl u = w (6 + u)) (h4 : sp = w 5) : SX (trW w d) sw sl sp := by
  have hn := hd.n
  refine ⟨fun k a b => ?_, fun v a b => ?_, ?_⟩
  · unfold trW; rw [if_neg (by omega)]; exact h1 k a b
  · unfold trW
    by_cases e : v < wN w
    · rw [if_pos (by omega), show 6 + v - 6 = v by omega]; exact h2 v a e
    · rw [if_neg (by omega)]; exact h3 v (by omega) b
  · unfold trW; rw [if_neg (by omega)]; exact h4
theorem slf_ge : ∀ (f : Nat) (u : Int → Int) (n : Int), n ≤ (slf f u n).2 ∧ (slf f u n).2 ≤ n + f
  | 0, u, n => by simp [slf]
  | f + 1, u, n => by
    rw [slf]
    split
    · simp; omega
    · have := slf_ge f (aset u (28 + (wNs u).1) (u (28 + (wNs u).1) - 1)) (n + 1)
      omega
theorem slf_in {w : Int → Int} (_hd : Gd w) : 0 ≤ (slf 49 w 0).2 ∧ (slf 49 w 0).2 ≤ 49 := by
  have := slf_ge 49 w 0
  omega
