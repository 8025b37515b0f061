/-! small facts for the system's further answers -/
theorem partF_z {d p : Int} (hd : 0 < d) (hp : isPb p = true) : partF 0 d p = p := by
  have h : 0 ≤ p ∧ p ≤ 1 := by simpa [isPb] using hp
  have e : (Int.gcd 0 d : Int) = d := by rw [Int.gcd_zero_left]; omega
  unfold partF
  rw [e]
  rcases (show p = 0 ∨ p = 1 by omega) with rfl | rfl
  · simp
  · rw [if_neg (by omega)]
    exact Int.tdiv_self (by omega)
/-- where most comes from, asked of a node that is no pad -/
def wFq (w : Int → Int) (v : Int) : Int := (foI (fun k (s : Int × Int) => if wCb w k v ≤ s.1 then s else (wCb w k v, sF (w 0) (w 1) k + sT (w 0) (w 1) k - v)) (0, -1) (wS w)).2
theorem wFd_fo {w : Int → Int} {v : Int} : wFd w v = if bsB (w 5) v = true then -1 else wFq w v := rfl
