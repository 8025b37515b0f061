/-! the words of a grid w (forty numbers: columns, rows, limit, wear, lines, pads, loads 6.., groups 15.., budgets 24.., widths 28..) -/
def wWd (w : Int → Int) : Int → Int := fun k => w (28 + k)
def wN (w : Int → Int) : Int := w 0 * w 1
def wS (w : Int → Int) : Int := sN (w 0) (w 1)
def wR (w : Int → Int) : Int := gR (w 0) (w 1) (wWd w) (w 5)
def wMv (w : Int → Int) (v u : Int) : Int := mv (w 0) (w 1) (wWd w) (w 5) v u
def wWh (w : Int → Int) : Int := wh (w 0) (w 1) (wWd w) (w 5)
def wDead (w : Int → Int) : Int := bsD (bsP (wN w) - 1) (wR w)
/-- the drop at a node, by the whole -/
def wDr (w : Int → Int) (v : Int) : Int := foI (fun u s => s + w (6 + u) * wMv w v u) 0 (wN w)
def wMx (w : Int → Int) : Int := foI (fun v m => if m ≤ wDr w v then wDr w v else m) 0 (wN w)
/-- how many that draw are dead -/
def wDl (w : Int → Int) : Int := foI (fun v s => s + if bsB (wR w) v = false ∧ 0 < w (6 + v) then 1 else 0) 0 (wN w)
def wHo (w : Int → Int) : Bool := decide (wDl w = 0 ∧ wMx w ≤ w 2 * wWh w)
/-- a grid that was read, perhaps with other loads, widths, pads -/
def Gd (w : Int → Int) : Prop := (0 < w 4 ∧ w 4 ≤ 1000) ∧ GW (w 0) (w 1) ∧ (0 ≤ w 2 ∧ w 2 ≤ 999) ∧ (1 ≤ w 3 ∧ w 3 ≤ 999) ∧ NSet (w 0) (w 1) (w 5) ∧ (∀ v : Int, 0 ≤ v → v < 9 → 0 ≤ w (6 + v) ∧ w (6 + v) ≤ 99) ∧ (∀ v : Int, 0 ≤ v → v < 9 → 0 ≤ w (15 + v) ∧ w (15 + v) ≤ 3) ∧ (∀ v : Int, 0 ≤ v → v < 4 → 0 ≤ w (24 + v) ∧ w (24 + v) ≤ 999) ∧ WdOk (wWd w) ∧ ∀ k : Int, wS w ≤ k → k < 12 → w (28 + k) = 0
theorem Gd.l {w : Int → Int} (h : Gd w) : 0 < w 4 ∧ w 4 ≤ 1000 := h.1
theorem Gd.g {w : Int → Int} (h : Gd w) : GW (w 0) (w 1) := h.2.1
theorem Gd.lim {w : Int → Int} (h : Gd w) : 0 ≤ w 2 ∧ w 2 ≤ 999 := h.2.2.1
theorem Gd.wear {w : Int → Int} (h : Gd w) : 1 ≤ w 3 ∧ w 3 ≤ 999 := h.2.2.2.1
theorem Gd.pads {w : Int → Int} (h : Gd w) : NSet (w 0) (w 1) (w 5) := h.2.2.2.2.1
theorem Gd.ld {w : Int → Int} (h : Gd w) : ∀ v : Int, 0 ≤ v → v < 9 → 0 ≤ w (6 + v) ∧ w (6 + v) ≤ 99 := h.2.2.2.2.2.1
theorem Gd.gr {w : Int → Int} (h : Gd w) : ∀ v : Int, 0 ≤ v → v < 9 → 0 ≤ w (15 + v) ∧ w (15 + v) ≤ 3 := h.2.2.2.2.2.2.1
theorem Gd.bu {w : Int → Int} (h : Gd w) : ∀ v : Int, 0 ≤ v → v < 4 → 0 ≤ w (24 + v) ∧ w (24 + v) ≤ 999 := h.2.2.2.2.2.2.2.1
theorem Gd.wd {w : Int → Int} (h : Gd w) : WdOk (wWd w) := h.2.2.2.2.2.2.2.2.1
theorem Gd.wz {w : Int → Int} (h : Gd w) : ∀ k : Int, wS w ≤ k → k < 12 → w (28 + k) = 0 := h.2.2.2.2.2.2.2.2.2
theorem Gd.n {w : Int → Int} (h : Gd w) : 1 ≤ wN w ∧ wN w ≤ 9 := ⟨h.g.n1, h.g.2.2⟩
theorem Gd.s {w : Int → Int} (h : Gd w) : 0 ≤ wS w ∧ wS w ≤ 12 := ⟨sN_0, sN_12 h.g⟩
theorem Gd.p5 {w : Int → Int} (h : Gd w) : 0 ≤ w 5 ∧ w 5 < 512 := ⟨h.pads.1, h.pads.s512 h.g⟩
theorem Gd.r {w : Int → Int} (h : Gd w) : w 5 ≤ wR w ∧ wR w < 512 := rch_in h.g h.p5.1 h.p5.2
theorem Gd.who {w : Int → Int} (h : Gd w) : 0 < wWh w ∧ wWh w ≤ 8589934592 := (sol_ok h.g h.wd h.pads).2.1
theorem Gd.mov {w : Int → Int} (h : Gd w) {v u : Int} (h1 : 0 ≤ v) (h2 : v < wN w) (h3 : 0 ≤ u) (h4 : u < wN w) : 0 ≤ wMv w v u ∧ wMv w v u ≤ 8589934592 := (sol_ok h.g h.wd h.pads).2.2 v u h1 h2 h3 h4
theorem Gd.dr {w : Int → Int} (h : Gd w) {v : Int} (h1 : 0 ≤ v) (h2 : v < wN w) : 0 ≤ wDr w v ∧ wDr w v ≤ 7653631721472 := by
  have hn := h.n
  have key : 0 ≤ wDr w v ∧ wDr w v ≤ 850403524608 * wN w := by
    unfold wDr
    refine foI_inv (fun i s => 0 ≤ s ∧ s ≤ 850403524608 * i) (by omega) (fun i s q1 q2 q3 => ?_) (by omega)
    have e1 := h.ld i q1 (by omega)
    have e2 := h.mov h1 h2 q1 q2
    have e3 : 0 ≤ w (6 + i) * wMv w v i := Int.mul_nonneg e1.1 e2.1
    have e4 : w (6 + i) * wMv w v i ≤ 99 * 8589934592 := Int.mul_le_mul e1.2 e2.2 e2.1 (by omega)
    omega
  omega
theorem Gd.mx {w : Int → Int} (h : Gd w) : 0 ≤ wMx w ∧ wMx w ≤ 7653631721472 := by
  have hn := h.n
  unfold wMx
  refine foI_inv (fun _ s => 0 ≤ s ∧ s ≤ 7653631721472) (by omega) (fun i s q1 q2 q3 => ?_) (by omega)
  have := h.dr q1 q2
  split <;> omega
theorem Gd.dl {w : Int → Int} (h : Gd w) : 0 ≤ wDl w ∧ wDl w ≤ 9 := by
  have hn := h.n
  have : 0 ≤ wDl w ∧ wDl w ≤ wN w := by
    unfold wDl
    refine foI_inv (fun i s => 0 ≤ s ∧ s ≤ i) (by omega) (fun i s q1 q2 q3 => ?_) (by omega)
    split <;> omega
  omega
theorem wDead_in {w : Int → Int} (h : Gd w) : 0 ≤ wDead w ∧ wDead w < 512 := by
  have hn := h.n
  refine ⟨bsD_0, ?_⟩
  have h9 : bsP (wN w) ≤ 512 := by
    unfold bsP
    have : 2 ^ (wN w).toNat ≤ 2 ^ 9 := Nat.pow_le_pow_right (by decide) (by omega)
    omega
  have := bsD_lt (a := bsP (wN w) - 1) (b := wR w) (n := 9) (by have : ((2 ^ 9 : Nat) : Int) = 512 := rfl; omega)
  unfold wDead
  simpa using this
theorem wDead_bit {w : Int → Int} (h : Gd w) {v : Int} (h1 : 0 ≤ v) (h2 : v < wN w) : bsB (wDead w) v = !bsB (wR w) v := by
  unfold wDead
  rw [bsB_D, bsB_full (by have := h.n; omega) h1]
  simp [h2]
/-- the arrays that hold its solution -/
def SolW (w : Int → Int) (un no ce : Int → Int) : Prop := SolM (w 0) (w 1) (wWd w) (w 5) un no ce
def wm (w : Int → Int) : Int := gm (w 0) (w 1) (wWd w) (w 5)
theorem Gd.m {w : Int → Int} (h : Gd w) : 0 ≤ wm w ∧ wm w ≤ 9 := gm_in h.g
theorem SolW.at {w un no ce : Int → Int} (hd : Gd w) (hS : SolW w un no ce) {v u : Int} (h1 : 0 ≤ v) (h2 : v < wN w) (h3 : 0 ≤ u) (h4 : u < wN w) (a : un v ≠ -1) (b : un u ≠ -1) : wMv w v u = ce (18 * un v + 9 + un u) ∧ 0 ≤ un v ∧ un v < wm w ∧ 0 ≤ un u ∧ un u < wm w := by
  have e1 := hS.1 v h1 h2
  have e2 := hS.1 u h3 h4
  have i1 := gx_in (c := w 0) (r := w 1) (wd := wWd w) (F := w 5) h1 h2
  have i2 := gx_in (c := w 0) (r := w 1) (wd := wWd w) (F := w 5) h3 h4
  rw [← e1] at i1
  rw [← e2] at i2
  refine ⟨?_, by omega, by unfold wm; omega, by omega, by unfold wm; omega⟩
  unfold wMv
  unfold mv
  rw [← e1, ← e2, if_neg (by omega)]
  have h9 : un u < 9 := by
    have := hd.m
    unfold wm at this
    omega
  have := hS.2.2 (un v) (9 + un u) (by omega) (by omega) (by omega) (by omega)
  rw [show 18 * un v + (9 + un u) = 18 * un v + 9 + un u by omega] at this
  exact this.symm
theorem drop_un {w un no ce : Int → Int} (hd : Gd w) (hS : SolW w un no ce) (v : Int) : foI (fun u s => s + wMv w v (no u) * w (6 + no u)) 0 (wm w) = wDr w v := by
  have hn := hd.n
  have key : ∀ x : Nat, (x : Int) ≤ wN w → foI (fun u s => s + wMv w v (no u) * w (6 + no u)) 0 (uC (wR w) (w 5) x) = foI (fun u s => s + w (6 + u) * wMv w v u) 0 (x : Int) := by
    intro x
    induction x with
    | zero => intro _; rfl
    | succ x ih =>
      intro hx
      have hx1 : ((x + 1 : Nat) : Int) = (x : Int) + 1 := by omega
      rw [hx1, foI_s _ _ (show (0 : Int) ≤ x by omega), ← ih (by omega), uC_s (show (0 : Int) ≤ x by omega)]
      have hu := uC_nn (R := wR w) (F := w 5) (show (0 : Int) ≤ x by omega)
      by_cases hk : ukB (wR w) (w 5) x = true
      · rw [if_pos hk, foI_s _ _ hu.1]
        have hlt : uC (wR w) (w 5) x < wm w := by
          have h2 := uC_mono (R := wR w) (F := w 5) (show (0 : Int) ≤ (x : Int) + 1 by omega) (show (x : Int) + 1 ≤ wN w by omega)
          rw [uC_s (show (0 : Int) ≤ x by omega), if_pos hk] at h2
          have : wm w = uC (wR w) (w 5) (wN w) := rfl
          omega
        have h3 := hS.2.1 _ hu.1 hlt
        have ex : no (uC (wR w) (w 5) x) = x := by
          refine ix_inj (R := wR w) (F := w 5) h3.1 (by omega) ?_ ?_
          · rw [show ix (wR w) (w 5) (no (uC (wR w) (w 5) ↑x)) = uC (wR w) (w 5) x from h3.2.2]
            unfold ix
            rw [if_pos hk]
          · rw [show ix (wR w) (w 5) (no (uC (wR w) (w 5) ↑x)) = uC (wR w) (w 5) x from h3.2.2]
            omega
        rw [ex, Int.mul_comm]
      · rw [if_neg hk]
        have : wMv w v x = 0 := by
          unfold wMv mv
          rw [if_pos]
          right
          unfold gx ix
          exact if_neg hk
        rw [this]
        omega
  have := key (wN w).toNat (by omega)
  rw [show (((wN w).toNat : Nat) : Int) = wN w by omega] at this
  exact this
/-! answers of the questions, as functions of the grid -/
def Zw (w : Int → Int) : Prop := ∀ k : Int, 0 ≤ k → k < 40 → w k = 0
/-- what the grid can be between calls -/
def WF (w : Int → Int) : Prop := Gd w ∨ Zw w
def isN (w : Int → Int) (v : Int) : Prop := 0 ≤ v ∧ v ≤ wN w - 1
def isK (w : Int → Int) (k : Int) : Prop := 0 < w 4 ∧ 0 ≤ k ∧ k ≤ wS w - 1
theorem Zw.n {w : Int → Int} (h : Zw w) : wN w = 0 := by unfold wN; rw [h 0 (by omega) (by omega)]; omega
theorem Zw.l {w : Int → Int} (h : Zw w) : w 4 = 0 := h 4 (by omega) (by omega)
theorem WF.n {w : Int → Int} (h : WF w) : 0 ≤ wN w ∧ wN w ≤ 9 := by
  rcases h with h | h
  · have := h.n; omega
  · have := h.n; omega
theorem WF.gd {w : Int → Int} (h : WF w) {v : Int} (hv : isN w v) : Gd w := by
  rcases h with h | h
  · exact h
  · have := h.n
    unfold isN at hv
    omega
theorem WF.gd4 {w : Int → Int} (h : WF w) (h4 : 0 < w 4) : Gd w := by
  rcases h with h | h
  · exact h
  · have := h.l
    omega
theorem WF.z4 {w : Int → Int} (h : WF w) (h4 : ¬ 0 < w 4) : Zw w := by
  rcases h with h | h
  · have := h.l
    omega
  · exact h
theorem WF.r {w : Int → Int} (h : WF w) {k : Int} (h0 : 0 ≤ k) (h1 : k < 40) : 0 ≤ w k ∧ w k ≤ 1000 := by
  rcases h with h | h
  · by_cases e0 : k = 0
    · subst e0; have := h.g.c9; have := h.g.1; omega
    by_cases e1 : k = 1
    · subst e1; have := h.g.c9; have := h.g.2.1; omega
    by_cases e2 : k = 2
    · subst e2; have := h.lim; omega
    by_cases e3 : k = 3
    · subst e3; have := h.wear; omega
    by_cases e4 : k = 4
    · subst e4; have := h.l; omega
    by_cases e5 : k = 5
    · subst e5; have := h.p5; omega
    by_cases e6 : k < 15
    · have := h.ld (k - 6) (by omega) (by omega); rw [show 6 + (k - 6) = k by omega] at this; omega
    by_cases e7 : k < 24
    · have := h.gr (k - 15) (by omega) (by omega); rw [show 15 + (k - 15) = k by omega] at this; omega
    by_cases e8 : k < 28
    · have := h.bu (k - 24) (by omega) (by omega); rw [show 24 + (k - 24) = k by omega] at this; omega
    · have := h.wd (k - 28) (by omega) (by omega); unfold wWd at this; rw [show 28 + (k - 28) = k by omega] at this; omega
  · have := h k h0 h1; omega
def isNb (w : Int → Int) (v : Int) : Bool := decide (0 ≤ v ∧ v ≤ wN w - 1)
def isKb (w : Int → Int) (k : Int) : Bool := decide (0 < w 4 ∧ 0 ≤ k ∧ k ≤ wS w - 1)
def isPb (p : Int) : Bool := decide (0 ≤ p ∧ p ≤ 1)
def spCount (w : Int → Int) (acts taped q : Int) : Int := if q = 0 then w 0 else if q = 1 then w 1 else if q = 2 then w 2 else if q = 3 then w 3 else if q = 4 then (if 0 < w 4 then wS w else 0) else if q = 5 then acts else if q = 6 then w 4 else if q = 7 then taped else if q = 8 then w 5 else if q = 9 then (if 0 < w 4 then wDead w else 0) else -1
def spStrap (w : Int → Int) (k q : Int) : Int := if isKb w k then (if q = 0 then sF (w 0) (w 1) k else if q = 1 then sT (w 0) (w 1) k else if q = 2 then w (28 + k) else -1) else -1
def spBetween (w : Int → Int) (a b : Int) : Int := if isNb w a && isNb w b then ffi (fun k => decide (sF (w 0) (w 1) k = (if a ≤ b then a else b) ∧ sT (w 0) (w 1) k = (if a ≤ b then b else a))) (wS w).toNat else -2
def spNode (w : Int → Int) (v q : Int) : Int := if isNb w v then (if q = 0 then (if bsB (w 5) v then 1 else 0) else if q = 1 then w (6 + v) else if q = 2 then w (15 + v) else if q = 3 then (if bsB (wR w) v then 0 else 1) else -1) else -1
def spBudget (w : Int → Int) (q : Int) : Int := if 0 < w 4 ∧ 0 ≤ q ∧ q ≤ 3 then w (24 + q) else -1
def spDrop (w : Int → Int) (v p : Int) : Int := if isNb w v && isPb p then (if bsB (wR w) v then partF (wDr w v) (wWh w) p else -1) else -2
/-- what goes through a strap, by the whole -/
def wTh (w : Int → Int) (k : Int) : Int := w (28 + k) * (wDr w (sT (w 0) (w 1) k) - wDr w (sF (w 0) (w 1) k))
def spThrough (w : Int → Int) (k p : Int) : Int := if isKb w k && isPb p then partF (wTh w k) (wWh w) p else -9223372036854775808
/-- what a pad gives, by the whole -/
def wGi (w : Int → Int) (v : Int) : Int := foI (fun k s => s + (if sF (w 0) (w 1) k = v then wTh w k else 0) - (if sT (w 0) (w 1) k = v then wTh w k else 0)) (w (6 + v) * wWh w) (wS w)
def spGives (w : Int → Int) (v p : Int) : Int := if isNb w v && isPb p then (if bsB (w 5) v then partF (wGi w v) (wWh w) p else -1) else -2
def spChief (w : Int → Int) : Int := if 0 < w 4 then foI (fun v b => if bsB (w 5) v = true ∧ (b = -1 ∨ wGi w b < wGi w v) then v else b) (-1) (wN w) else -2
def spArea (w : Int → Int) : Int := if 0 < w 4 then foI (fun k s => s + w (28 + k)) 0 12 else -2
theorem Gd.th {w : Int → Int} (h : Gd w) {k : Int} (h0 : 0 ≤ k) (h1 : k < wS w) : -30614526885888 ≤ wTh w k ∧ wTh w k ≤ 30614526885888 := by
  have q := sl_in h.g h0 h1
  have q2 : wN w = w 0 * w 1 := rfl
  have d1 := h.dr (v := sF (w 0) (w 1) k) (by omega) (by omega)
  have d2 := h.dr (v := sT (w 0) (w 1) k) (by omega) (by omega)
  have hs := h.s
  have hk := h.wd k h0 (by omega)
  unfold wWd at hk
  unfold wTh
  rcases (show w (28 + k) = 0 ∨ w (28 + k) = 1 ∨ w (28 + k) = 2 ∨ w (28 + k) = 3 ∨ w (28 + k) = 4 by omega) with e | e | e | e | e <;> rw [e] <;> omega
theorem Gd.gi {w : Int → Int} (h : Gd w) {v : Int} (h0 : 0 ≤ v) (h1 : v < wN w) : -1000000000000000 ≤ wGi w v ∧ wGi w v ≤ 1000000000000000 := by
  have hn := h.n
  have hs := h.s
  have hl := h.ld v h0 (by omega)
  have hw := h.who
  have e1 : 0 ≤ w (6 + v) * wWh w := Int.mul_nonneg hl.1 (by omega)
  have e2 : w (6 + v) * wWh w ≤ 99 * 8589934592 := Int.mul_le_mul hl.2 hw.2 (by omega) (by omega)
  have key : -61229053771776 * wS w ≤ wGi w v ∧ wGi w v ≤ 850403524608 + 61229053771776 * wS w := by
    unfold wGi
    refine foI_inv (fun i s => -61229053771776 * i ≤ s ∧ s ≤ 850403524608 + 61229053771776 * i) (by omega) (fun i s q1 q2 q3 => ?_) (by omega)
    have := h.th q1 q2
    split <;> split <;> omega
  omega
theorem isNb_in {w : Int → Int} {v : Int} (h : isNb w v = true) : 0 ≤ v ∧ v < wN w := by
  simp only [isNb, decide_eq_true_eq] at h
  omega
theorem isKb_in {w : Int → Int} {k : Int} (h : isKb w k = true) : 0 ≤ k ∧ k < wS w := by
  simp only [isKb, decide_eq_true_eq] at h
  omega
theorem WF.gdb {w : Int → Int} (h : WF w) {v : Int} (hv : isNb w v = true) : Gd w := h.gd (v := v) (by have := isNb_in hv; unfold isN; omega)
theorem WF.gdk {w : Int → Int} (h : WF w) {k : Int} (hk : isKb w k = true) : Gd w := h.gd4 (by simp only [isKb, decide_eq_true_eq] at hk; exact hk.1)
theorem ifb {P : Prop} [hd : Decidable P] : (if P then (1 : Int) else 0) = if decide P = true then 1 else 0 := by
  by_cases h : P
  · rw [if_pos h, if_pos (decide_eq_true h)]
  · rw [if_neg h, if_neg (by rw [decide_eq_false h]; decide)]
