/-! more words of a grid; grids with other pads, widths, loads -/
theorem Gd.upd {w w' : Int → Int} (h : Gd w) (h4 : ∀ k : Int, 0 ≤ k → k ≤ 4 → w' k = w k) (hp : NSet (w 0) (w 1) (w' 5)) (hl : ∀ v : Int, 0 ≤ v → v < 9 → 0 ≤ w' (6 + v) ∧ w' (6 + v) ≤ 99) (hg : ∀ k : Int, 15 ≤ k → k < 28 → w' k = w k) (hw : ∀ k : Int, 0 ≤ k → k < 12 → 0 ≤ w' (28 + k) ∧ w' (28 + k) ≤ 4) (hz : ∀ k : Int, wS w ≤ k → k < 12 → w' (28 + k) = 0) : Gd w' := by
  have e0 := h4 0 (by omega) (by omega)
  have e1 := h4 1 (by omega) (by omega)
  have e2 := h4 2 (by omega) (by omega)
  have e3 := h4 3 (by omega) (by omega)
  have e4 := h4 4 (by omega) (by omega)
  refine ⟨by rw [e4]; exact h.l, by rw [e0, e1]; exact h.g, by rw [e2]; exact h.lim, by rw [e3]; exact h.wear, by rw [e0, e1]; exact hp, hl, fun v h0 h1 => ?_, fun v h0 h1 => ?_, hw, fun k h0 h1 => ?_⟩
  · rw [hg _ (by omega) (by omega)]; exact h.gr v h0 h1
  · rw [hg _ (by omega) (by omega)]; exact h.bu v h0 h1
  · refine hz k ?_ h1
    unfold wS at h0 ⊢
    rw [e0, e1] at h0
    exact h0
theorem Gd.pad {w : Int → Int} {p : Int} (h : Gd w) (hp : NSet (w 0) (w 1) p) : Gd (aset w 5 p) :=
  h.upd (fun k _ _ => aset_ne (by omega)) (by rw [aset_at]; exact hp) (fun v _ _ => by rw [aset_ne (by omega)]; exact h.ld v (by omega) (by omega)) (fun k _ _ => aset_ne (by omega)) (fun k _ _ => by rw [aset_ne (by omega)]; exact h.wd k (by omega) (by omega)) (fun k _ _ => by rw [aset_ne (by have := h.s; omega)]; exact h.wz k (by omega) (by omega))
theorem Gd.load {w : Int → Int} {v n : Int} (h : Gd w) (h0 : 0 ≤ v) (h1 : v < 9) (hn : 0 ≤ n ∧ n ≤ 99) : Gd (aset w (6 + v) n) :=
  h.upd (fun k _ _ => aset_ne (by omega)) (by rw [aset_ne (by omega)]; exact h.pads) (fun u _ _ => by
    by_cases e : u = v
    · rw [e, aset_at]; exact hn
    · rw [aset_ne (by omega)]; exact h.ld u (by omega) (by omega)) (fun k _ _ => aset_ne (by omega)) (fun k _ _ => by rw [aset_ne (by omega)]; exact h.wd k (by omega) (by omega)) (fun k _ _ => by rw [aset_ne (by have := h.s; omega)]; exact h.wz k (by omega) (by omega))
theorem Gd.wid {w : Int → Int} {k n : Int} (h : Gd w) (h0 : 0 ≤ k) (h1 : k < wS w) (hn : 0 ≤ n ∧ n ≤ 4) : Gd (aset w (28 + k) n) :=
  h.upd (fun k _ _ => aset_ne (by omega)) (by rw [aset_ne (by omega)]; exact h.pads) (fun u _ _ => by rw [aset_ne (by omega)]; exact h.ld u (by omega) (by omega)) (fun k _ _ => aset_ne (by omega)) (fun u _ _ => by
    by_cases e : u = k
    · rw [e, aset_at]; exact hn
    · rw [aset_ne (by omega)]; exact h.wd u (by omega) (by omega)) (fun u _ _ => by rw [aset_ne (by omega)]; exact h.wz u (by omega) (by omega))
theorem aset_same {w : Int → Int} {i : Int} : aset w i (w i) = w := by
  funext k
  by_cases e : k = i
  · rw [e, aset_at]
  · rw [aset_ne e]
theorem aset_two {w : Int → Int} {i a b : Int} : aset (aset w i a) i b = aset w i b := by
  funext k
  by_cases e : k = i
  · rw [e, aset_at, aset_at]
  · rw [aset_ne e, aset_ne e, aset_ne e]
theorem aset_back {w : Int → Int} {i a : Int} : aset (aset w i a) i (w i) = w := by rw [aset_two, aset_same]
theorem wN_aset {w : Int → Int} {i a : Int} (h : 2 ≤ i) : wN (aset w i a) = wN w := by
  unfold wN
  rw [aset_ne (by omega), aset_ne (by omega)]
theorem wS_aset {w : Int → Int} {i a : Int} (h : 2 ≤ i) : wS (aset w i a) = wS w := by
  unfold wS
  rw [aset_ne (by omega), aset_ne (by omega)]
theorem bsO_z {a : Int} (h : 0 ≤ a) : bsO a 0 = a := by
  unfold bsO
  simp
  omega
theorem NSet.P {c r v : Int} (h0 : 0 ≤ v) (h1 : v < c * r) : NSet c r (bsP v) := by
  refine ⟨Int.le_of_lt bsP_0, ?_⟩
  unfold bsP
  have : 2 ^ v.toNat < 2 ^ (c * r).toNat := Nat.pow_lt_pow_right (by decide) (by omega)
  omega
theorem NSet.O {c r a b : Int} (ha : NSet c r a) (hb : NSet c r b) : NSet c r (bsO a b) := ⟨bsO_0, by
  have h1 := ha.2
  have h2 := hb.2
  unfold bsP at h1 h2 ⊢
  exact bsO_lt h1 h2⟩
/-- the dead have no drop -/
theorem dead_mv {w : Int → Int} {v u : Int} (h : bsB (wR w) v = false) : wMv w v u = 0 := by
  unfold wMv mv
  rw [if_pos]
  left
  unfold gx ix ukB
  rw [show bsB (gR (w 0) (w 1) (wWd w) (w 5)) v = false from h]
  rfl
theorem dead_mvr {w : Int → Int} {v u : Int} (h : bsB (wR w) u = false) : wMv w v u = 0 := by
  unfold wMv mv
  rw [if_pos]
  right
  unfold gx ix ukB
  rw [show bsB (gR (w 0) (w 1) (wWd w) (w 5)) u = false from h]
  rfl
theorem dead_dr {w : Int → Int} {v : Int} (h : bsB (wR w) v = false) : wDr w v = 0 := by
  unfold wDr
  exact foI_z (fun i x _ _ => by rw [dead_mv h]; omega) 0
theorem wMx_ge {w : Int → Int} {v : Int} (h0 : 0 ≤ v) (h1 : v < wN w) : wDr w v ≤ wMx w := by
  unfold wMx
  have := foI_inv (f := fun v m => if m ≤ wDr w v then wDr w v else m) (a := 0) (n := wN w) (fun i s => ∀ u, 0 ≤ u → u < i → wDr w u ≤ s) (by intro u; omega) (fun i s q1 q2 q3 u q4 q5 => by
    by_cases e : u = i
    · subst e
      try simp only
      split <;> omega
    · have := q3 u q4 (by omega)
      try simp only
      split <;> omega) (by omega)
  exact this v h0 h1
theorem wMx_at {w : Int → Int} (h : 0 ≤ wN w) : wMx w = 0 ∨ ∃ v, 0 ≤ v ∧ v < wN w ∧ wDr w v = wMx w := by
  unfold wMx
  refine foI_inv (fun i s => s = 0 ∨ ∃ v, 0 ≤ v ∧ v < i ∧ wDr w v = s) (Or.inl rfl) (fun i s q1 q2 q3 => ?_) h
  split
  · exact Or.inr ⟨i, q1, by omega, rfl⟩
  · rcases q3 with q | ⟨v, a, b, c⟩
    · exact Or.inl q
    · exact Or.inr ⟨v, a, by omega, c⟩
/-- the least of those with the greatest drop -/
def wWo (w : Int → Int) : Int := foI (fun v b => if bsB (wR w) v = true ∧ (b = -1 ∨ wDr w b < wDr w v) then v else b) (-1) (wN w)
def WoI (w : Int → Int) (i b : Int) : Prop := (b = -1 ∧ ∀ j, 0 ≤ j → j < i → bsB (wR w) j = false) ∨ (0 ≤ b ∧ b < i ∧ bsB (wR w) b = true ∧ (∀ j, 0 ≤ j → j < i → bsB (wR w) j = true → wDr w j ≤ wDr w b) ∧ ∀ j, 0 ≤ j → j < b → bsB (wR w) j = true → wDr w j < wDr w b)
theorem wWo_inv {w : Int → Int} (h : 0 ≤ wN w) : WoI w (wN w) (wWo w) := by
  unfold wWo
  refine foI_inv (WoI w) (Or.inl ⟨rfl, fun j _ _ => by omega⟩) (fun i b q1 q2 q3 => ?_) h
  try simp only
  split
  · rename_i hc
    have hc2 := hc.2
    right
    refine ⟨q1, by omega, hc.1, fun j a1 a2 a3 => ?_, fun j a1 a2 a3 => ?_⟩
    · by_cases e : j = i
      · rw [e]; omega
      · rcases q3 with ⟨-, q⟩ | ⟨q9, -, -, q, -⟩
        · rw [q j a1 (by omega)] at a3; simp at a3
        · have := q j a1 (by omega) a3; omega
    · rcases q3 with ⟨-, q⟩ | ⟨q9, -, -, q, -⟩
      · rw [q j a1 (by omega)] at a3; simp at a3
      · have := q j a1 (by omega) a3; omega
  · rename_i hc
    rcases q3 with ⟨q4, q⟩ | ⟨q4, q5, q6, q7, q8⟩
    · left
      refine ⟨q4, fun j a1 a2 => ?_⟩
      by_cases e : j = i
      · rw [e]
        cases hb : bsB (wR w) i
        · rfl
        · exact absurd ⟨hb, Or.inl q4⟩ hc
      · exact q j a1 (by omega)
    · right
      refine ⟨q4, by omega, q6, fun j a1 a2 a3 => ?_, q8⟩
      by_cases e : j = i
      · rw [e] at a3 ⊢
        by_cases hl : wDr w b < wDr w i
        · exact absurd ⟨a3, Or.inr hl⟩ hc
        · omega
      · exact q7 j a1 (by omega) a3
theorem wWo_most {w : Int → Int} (hd : Gd w) : (if wWo w = -1 then 0 else wDr w (wWo w)) = wMx w := by
  have hn := hd.n
  have hm := hd.mx
  rcases wWo_inv (w := w) (by omega) with ⟨e, q⟩ | ⟨q4, q5, q6, q7, q8⟩
  · rw [if_pos e]
    rcases wMx_at (w := w) (by omega) with h | ⟨v, a, b, c⟩
    · exact h.symm
    · rw [← c, dead_dr (q v a b)]
  · rw [if_neg (by omega)]
    have h1 := wMx_ge (w := w) q4 q5
    rcases wMx_at (w := w) (by omega) with h | ⟨v, a, b, c⟩
    · have := hd.dr q4 q5
      omega
    · cases hb : bsB (wR w) v
      · rw [dead_dr hb] at c
        have := hd.dr q4 q5
        omega
      · have := q7 v a b hb
        omega
theorem wWo_first {w : Int → Int} (hd : Gd w) {v : Int} (h0 : 0 ≤ v) (h1 : v < wN w) (hl : bsB (wR w) v = true) (he : wDr w v = wMx w) (hb : ∀ j, 0 ≤ j → j < v → bsB (wR w) j = true → wDr w j ≠ wMx w) : wWo w = v := by
  have hm := wWo_most hd
  rcases wWo_inv (w := w) (by omega) with ⟨e, q⟩ | ⟨q4, q5, q6, q7, q8⟩
  · rw [q v h0 h1] at hl; simp at hl
  · rw [if_neg (by omega)] at hm
    rcases Int.lt_trichotomy (wWo w) v with h | h | h
    · exact absurd hm (hb _ q4 h q6)
    · exact h
    · have := q8 v h0 h hl
      omega
theorem wWo_none {w : Int → Int} (hd : Gd w) (hb : ∀ j, 0 ≤ j → j < wN w → bsB (wR w) j = true → wDr w j ≠ wMx w) : wWo w = -1 := by
  have hm := wWo_most hd
  have hn := hd.n
  rcases wWo_inv (w := w) (by omega) with ⟨e, q⟩ | ⟨q4, q5, q6, q7, q8⟩
  · exact e
  · rw [if_neg (by omega)] at hm
    exact absurd hm (hb _ q4 q5 q6)
def spWorst (w : Int → Int) : Int := if 0 < w 4 then wWo w else -2
def wOv (w : Int → Int) : Int := foI (fun v s => if w 2 * wWh w < wDr w v then bsO s (bsP v) else s) 0 (wN w)
def spOver (w : Int → Int) : Int := if 0 < w 4 then wOv w else -2
def spHolds (w : Int → Int) : Int := if 0 < w 4 then (if wHo w then 1 else 0) else -2
def wLo (w : Int → Int) : Int := foI (fun v s => s + w (6 + v) * wDr w v) 0 (wN w)
def spLoss (w : Int → Int) (p : Int) : Int := if 0 < w 4 ∧ isPb p = true then partF (wLo w) (wWh w) p else -2
def spMoves (w : Int → Int) (a b p : Int) : Int := if (isNb w a && isNb w b && isPb p) = true then (if (bsB (wR w) a && bsB (wR w) b) = true then partF (wMv w a b) (wWh w) p else -1) else -2
def spResists (w : Int → Int) (a b p : Int) : Int := if (isNb w a && isNb w b && isPb p) = true then (if bsB (gR (w 0) (w 1) (wWd w) (bsP a)) b = true then partF (mv (w 0) (w 1) (wWd w) (bsP a) b b) (wh (w 0) (w 1) (wWd w) (bsP a)) p else -1) else -2
def spShare (w : Int → Int) (a b p : Int) : Int := if (isNb w a && isNb w b && isPb p) = true then (if (bsB (wR w) a && bsB (wR w) b) = true then (if wMv w a b * w (6 + b) = 0 then p else partF (wMv w a b * w (6 + b)) (wDr w a) p) else -1) else -2
/-- what comes to a node by a strap, by the whole -/
def wCb (w : Int → Int) (k v : Int) : Int := if sT (w 0) (w 1) k = v then wTh w k else if sF (w 0) (w 1) k = v then -wTh w k else 0
def wFd (w : Int → Int) (v : Int) : Int := if bsB (w 5) v = true then -1 else (foI (fun k (s : Int × Int) => if wCb w k v ≤ s.1 then s else (wCb w k v, sF (w 0) (w 1) k + sT (w 0) (w 1) k - v)) (0, -1) (wS w)).2
def wFe (w : Int → Int) (v : Int) (i : Int) : Int := foI (fun _ u => if u = -1 then u else wFd w u) v i
def spFeeder (w : Int → Int) (v i : Int) : Int := if isNb w v = true ∧ 0 ≤ i then wFe w v i else -2
def wPa (w : Int → Int) : Int × Int := foI (fun v (s : Int × Int) => if bsB s.2 v = true then s else (s.1 + 1, bsO s.2 (rch (w 0) (w 1) (wWd w) (bsP v)))) (0, 0) (wN w)
def spParts (w : Int → Int) : Int := if 0 < w 4 then (wPa w).1 else -2
def spReached (w : Int → Int) (v : Int) : Int := if isNb w v = true then rch (w 0) (w 1) (wWd w) (bsP v) else -2
theorem lim_in {w : Int → Int} (hd : Gd w) : 0 ≤ w 2 * wWh w ∧ w 2 * wWh w ≤ 8581344657408 := by
  have h3 := hd.lim
  have h4 := hd.who
  have h6 : w 2 * wWh w ≤ 999 * 8589934592 := Int.mul_le_mul h3.2 h4.2 (by omega) (by omega)
  exact ⟨Int.mul_nonneg h3.1 (by omega), by omega⟩
theorem wLo_in {w : Int → Int} (hd : Gd w) : 0 ≤ wLo w ∧ wLo w ≤ 6819385863831552 := by
  have hn := hd.n
  have : 0 ≤ wLo w ∧ wLo w ≤ 757709540425728 * wN w := by
    unfold wLo
    refine foI_inv (fun i s => 0 ≤ s ∧ s ≤ 757709540425728 * i) (by omega) (fun i s q1 q2 q3 => ?_) (by omega)
    have h1 := hd.ld i q1 (by omega)
    have h2 := hd.dr q1 q2
    have h3 : 0 ≤ w (6 + i) * wDr w i := Int.mul_nonneg h1.1 h2.1
    have h4 : w (6 + i) * wDr w i ≤ 99 * 7653631721472 := Int.mul_le_mul h1.2 h2.2 h2.1 (by omega)
    try simp only
    omega
  omega
/-- where most comes from is a node, or none -/
theorem wFd_in {w : Int → Int} (hd : Gd w) {v : Int} (h0 : 0 ≤ v) (h1 : v < wN w) : wFd w v = -1 ∨ (0 ≤ wFd w v ∧ wFd w v < wN w) := by
  have hn := hd.n
  have hs := hd.s
  unfold wFd
  split
  · left; rfl
  · have := foI_inv (f := fun k (s : Int × Int) => if wCb w k v ≤ s.1 then s else (wCb w k v, sF (w 0) (w 1) k + sT (w 0) (w 1) k - v)) (a := (0, -1)) (n := wS w) (fun _ s => 0 ≤ s.1 ∧ (s.2 = -1 ∨ (0 ≤ s.2 ∧ s.2 < wN w))) ⟨by simp, Or.inl rfl⟩ (fun k s q1 q2 q3 => by
      try simp only
      split
      · exact q3
      · rename_i hc
        refine ⟨by (try simp only); omega, Or.inr ?_⟩
        have hin := sl_in hd.g q1 q2
        have hnn : wN w = w 0 * w 1 := rfl
        try simp only
        unfold wCb at hc
        split at hc
        · rename_i e
          omega
        · split at hc
          · rename_i e
            omega
          · omega) hs.1
    exact this.2
theorem wDr_ge {w : Int → Int} (hd : Gd w) {a b : Int} (a0 : 0 ≤ a) (a1 : a < wN w) (b0 : 0 ≤ b) (b1 : b < wN w) : wMv w a b * w (6 + b) ≤ wDr w a := by
  have hn := hd.n
  have := foI_inv (f := fun u s => s + w (6 + u) * wMv w a u) (a := 0) (n := wN w) (fun i s => 0 ≤ s ∧ (b < i → wMv w a b * w (6 + b) ≤ s)) ⟨by omega, by omega⟩ (fun i s q1 q2 q3 => by
    have e1 := hd.ld i q1 (by omega)
    have e2 := hd.mov a0 a1 q1 q2
    have e3 : 0 ≤ w (6 + i) * wMv w a i := Int.mul_nonneg e1.1 e2.1
    refine ⟨by (try simp only); omega, fun hb => ?_⟩
    by_cases e : b = i
    · subst e
      rw [Int.mul_comm]
      try simp only
      omega
    · have := q3.2 (by omega)
      try simp only
      omega) (by omega)
  exact this.2 b1
theorem wFe_stuck {w : Int → Int} {v k i : Int} (h : wFe w v k = -1) (h0 : 0 ≤ k) (hk : k ≤ i) : -1 = wFe w v i := by
  obtain ⟨m, rfl⟩ : ∃ m : Nat, i = k + m := ⟨(i - k).toNat, by omega⟩
  clear hk
  induction m with
  | zero => simpa using h.symm
  | succ m ih =>
    unfold wFe at ih ⊢
    rw [show k + ((m + 1 : Nat) : Int) = k + m + 1 by omega, foI_s _ _ (by omega), ← ih, if_pos rfl]
