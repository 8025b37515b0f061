theorem NSet.z {c r : Int} : NSet c r 0 := ⟨by omega, bsP_0⟩
theorem wBp_cut {w : Int → Int} {n : Int} (hd : Gd w) : bst (bpP w n) (fun s => aset w 5 (bsO (w 5) s)) bs0 (bsP (wN w)) = wBp w n := by
  have hn := hd.n
  have h9 : bsP (wN w) ≤ 512 := by
    unfold bsP
    have : 2 ^ (wN w).toNat ≤ 2 ^ 9 := Nat.pow_le_pow_right (by decide) (by omega)
    omega
  refine (foI_stuck (Int.le_of_lt bsP_0) h9 rfl (fun j a b => ?_)).symm
  exact bsf_no1 (bpP_no (Or.inl a))
theorem SX.up {w sw sl : Int → Int} {sp k : Int} (h : SX w sw sl sp) (hk : 0 ≤ k) (h12 : k < 12) : SX (aset w (28 + k) (w (28 + k) + 1)) (aset sw k (sw k + 1)) sl sp := by
  rw [h.1 k hk h12]
  exact h.wid hk
theorem SX.dn {w sw sl : Int → Int} {sp k : Int} (h : SX w sw sl sp) (hk : 0 ≤ k) (h12 : k < 12) : SX (aset w (28 + k) (w (28 + k) - 1)) (aset sw k (sw k - 1)) sl sp := by
  rw [h.1 k hk h12]
  exact h.wid hk
theorem wdA_s {w : Int → Int} {t : Nat} (h : wdK (wdA w t) ≠ -1) : wdA w (t + 1) = aset (wdA w t) (28 + wdK (wdA w t)) (wdA w t (28 + wdK (wdA w t)) + 1) := by rw [wdA, if_neg h]
theorem wdA_lo {w : Int → Int} (t : Nat) : ∀ k : Int, 0 ≤ k → k < 4 → wdA w t k = w k := by
  induction t with
  | zero => intro k _ _; rfl
  | succ t ih =>
    intro k h0 h1
    rw [wdA]
    split
    · exact ih k h0 h1
    · rename_i h
      have hk : -1 ≤ wdK (wdA w t) := by
        unfold wdK
        split
        · omega
        · rcases bst_at (P := fun k => !decide (wdA w t (28 + k) = 4)) (G := fun k => aset (wdA w t) (28 + k) (wdA w t (28 + k) + 1)) (s := (-1, wDl (wdA w t), wMx (wdA w t), wWh (wdA w t))) (n := wS (wdA w t)) sN_0 with h | ⟨a, b, c⟩
          · unfold wNw; rw [h]; simp
          · unfold wNw; omega
      rw [aset_ne (by omega)]
      exact ih k h0 h1
