/-! what an act makes of what is told -/
section NW2
variable {w n_width n_from n_to n_load n_group n_budget : Int → Int} {n_columns n_rows n_limit n_wear n_straps n_pads n_lines : Int}
/-- another grid of the same shape -/
theorem NW.upd {w' nw nl : Int → Int} {np : Int} (h : NW w n_width n_from n_to n_load n_group n_budget n_columns n_rows n_limit n_wear n_straps n_pads n_lines) (hd : Gd w') (h4 : ∀ k : Int, 0 ≤ k → k ≤ 4 → w' k = w k) (hp : np = w' 5) (hl : ∀ v : Int, 0 ≤ v → v < 9 → nl v = w' (6 + v)) (hg : ∀ k : Int, 15 ≤ k → k < 28 → w' k = w k) (hw : ∀ k : Int, 0 ≤ k → k < 12 → nw k = w' (28 + k)) : NW w' nw n_from n_to nl n_group n_budget n_columns n_rows n_limit n_wear n_straps np n_lines := by
  have e0 := h4 0 (by omega) (by omega)
  have e1 := h4 1 (by omega) (by omega)
  have e2 := h4 2 (by omega) (by omega)
  have e3 := h4 3 (by omega) (by omega)
  have e4 := h4 4 (by omega) (by omega)
  have eS : wS w' = wS w := by unfold wS; rw [e0, e1]
  refine ⟨Or.inl hd, ⟨by rw [e0]; exact h.c, by rw [e1]; exact h.r, by rw [e2]; exact h.lim, by rw [e3]; exact h.we, by rw [e4]; exact h.ln, hp⟩, by rw [e4, eS]; exact h.st, hl, fun v a b => by rw [hg _ (by omega) (by omega)]; exact h.gr v a b, fun q v a b => by rw [hg _ (by omega) (by omega)]; exact h.bu (by rw [← e4]; exact q) v a b, hw, fun q k a b => by rw [e0, e1]; exact h.en (by rw [← e4]; exact q) k a (by rw [← eS]; exact b)⟩
theorem NW.lay {k n : Int} (h : NW w n_width n_from n_to n_load n_group n_budget n_columns n_rows n_limit n_wear n_straps n_pads n_lines) (hd : Gd w) (h0 : 0 ≤ k) (h1 : k < wS w) (hn : 0 ≤ n ∧ n ≤ 4) : NW (aset w (28 + k) n) (aset n_width k n) n_from n_to n_load n_group n_budget n_columns n_rows n_limit n_wear n_straps n_pads n_lines := by
  refine h.upd (hd.wid h0 h1 hn) (fun j _ _ => aset_ne (by omega)) (by rw [aset_ne (by omega)]; exact h.pd) (fun v a b => by rw [aset_ne (by omega)]; exact h.ld v a b) (fun j _ _ => aset_ne (by omega)) (fun j a b => ?_)
  by_cases e : j = k
  · rw [e, aset_at, aset_at]
  · rw [aset_ne e, aset_ne (by omega)]; exact h.wd j a b
theorem NW.draw {v n : Int} (h : NW w n_width n_from n_to n_load n_group n_budget n_columns n_rows n_limit n_wear n_straps n_pads n_lines) (hd : Gd w) (h0 : 0 ≤ v) (h1 : v < 9) (hn : 0 ≤ n ∧ n ≤ 99) : NW (aset w (6 + v) n) n_width n_from n_to (aset n_load v n) n_group n_budget n_columns n_rows n_limit n_wear n_straps n_pads n_lines := by
  refine h.upd (hd.load h0 h1 hn) (fun j _ _ => aset_ne (by omega)) (by rw [aset_ne (by omega)]; exact h.pd) (fun u a b => ?_) (fun j _ _ => aset_ne (by omega)) (fun j a b => by rw [aset_ne (by omega)]; exact h.wd j a b)
  by_cases e : u = v
  · rw [e, aset_at, aset_at]
  · rw [aset_ne e, aset_ne (by omega)]; exact h.ld u a b
theorem NW.feed {p : Int} (h : NW w n_width n_from n_to n_load n_group n_budget n_columns n_rows n_limit n_wear n_straps n_pads n_lines) (hd : Gd w) (hp : NSet (w 0) (w 1) p) : NW (aset w 5 p) n_width n_from n_to n_load n_group n_budget n_columns n_rows n_limit n_wear n_straps p n_lines :=
  h.upd (hd.pad hp) (fun j _ _ => aset_ne (by omega)) (aset_at _ _ _).symm (fun u a b => by rw [aset_ne (by omega)]; exact h.ld u a b) (fun j _ _ => aset_ne (by omega)) (fun j a b => by rw [aset_ne (by omega)]; exact h.wd j a b)
theorem NW.age {nw : Int → Int} (h : NW w n_width n_from n_to n_load n_group n_budget n_columns n_rows n_limit n_wear n_straps n_pads n_lines) (hd : Gd w) (hw : ∀ k : Int, 0 ≤ k → k < 12 → nw k = wAge w (28 + k)) : NW (wAge w) nw n_from n_to n_load n_group n_budget n_columns n_rows n_limit n_wear n_straps n_pads n_lines :=
  h.upd hd.age (fun j _ _ => wAge_lo (by omega)) (by rw [wAge_lo (by omega)]; exact h.pd) (fun u a b => by rw [wAge_lo (by omega)]; exact h.ld u a b) (fun j _ _ => wAge_lo (by omega)) hw
end NW2
/-- an act, as it is remembered by the system: its kind (0 laid, 1 fed, 2 drawn, 3 aged) and two numbers -/
abbrev Chg : Type := Int × Int × Int
def chCell (x : Chg) : va_E := if x.1 = 0 then .inr (6, [.int (jI x.2.1), .int (jI x.2.2)]) else if x.1 = 1 then .inr (7, [.int (jI x.2.1)]) else if x.1 = 2 then .inr (8, [.int (jI x.2.1), .int (jI x.2.2)]) else .inr (9, [.int (jI x.2.1)])
/-- what it adds to what was answered -/
def chAns (x : Chg) : Int := if x.1 = 0 then x.2.2 else if x.1 = 1 then 0 else if x.1 = 2 then x.2.2 else pc12 x.2.1
/-- the way back -/
def chUndo (w : Int → Int) (x : Chg) : Int → Int := if x.1 = 0 then aset w (28 + x.2.1) x.2.2 else if x.1 = 1 then aset w 5 (bsX (w 5) (bsP x.2.1)) else if x.1 = 2 then aset w (6 + x.2.1) x.2.2 else fun j => if 28 ≤ j ∧ j < 28 + wS w ∧ bsB x.2.1 (j - 28) = true then w j + 1 else w j
/-- the list's elements are these acts; their cells lie in ex -/
def ActsX (ex : va_W) (el : Nat → Option Nat) (sz : Int) (cs : Int → Chg) : Prop := ∀ i : Int, 0 ≤ i → i < sz → ∃ c qk : Nat, el i.toNat = some c ∧ ex[qk]? = some (c, chCell (cs i))
theorem undo_laid {w : Int → Int} {k n : Int} : chUndo (aset w (28 + k) n) (0, k, w (28 + k)) = w := by
  unfold chUndo
  rw [if_pos rfl]
  exact aset_back
theorem undo_drawn {w : Int → Int} {v n : Int} : chUndo (aset w (6 + v) n) (2, v, w (6 + v)) = w := by
  unfold chUndo
  rw [if_neg (show ¬ (2 : Int) = 0 by decide), if_neg (show ¬ (2 : Int) = 1 by decide), if_pos rfl]
  exact aset_back
theorem bsX_back {a p : Int} (h : 0 ≤ a) : bsX (bsX a p) p = a := by
  unfold bsX
  simp only [Int.toNat_natCast, Nat.xor_assoc, Nat.xor_self, Nat.xor_zero]
  omega
theorem undo_fed {w : Int → Int} {v : Int} (h : 0 ≤ w 5) : chUndo (aset w 5 (bsX (w 5) (bsP v))) (1, v, 0) = w := by
  unfold chUndo
  rw [if_neg (show ¬ (1 : Int) = 0 by decide), if_pos rfl]
  show aset (aset w 5 (bsX (w 5) (bsP v))) 5 (bsX (aset w 5 (bsX (w 5) (bsP v)) 5) (bsP v)) = w
  rw [aset_at, bsX_back h, aset_back]
theorem undo_aged {w : Int → Int} : chUndo (wAge w) (3, wWe w, 0) = w := by
  have eS : wS (wAge w) = wS w := by
    unfold wS
    rw [wAge_lo (by omega), wAge_lo (by omega)]
  unfold chUndo
  rw [if_neg (show ¬ (3 : Int) = 0 by decide), if_neg (show ¬ (3 : Int) = 1 by decide), if_neg (show ¬ (3 : Int) = 2 by decide), eS]
  funext j
  show (if 28 ≤ j ∧ j < 28 + wS w ∧ bsB (wWe w) (j - 28) = true then wAge w j + 1 else wAge w j) = w j
  by_cases h : 28 ≤ j ∧ j < 28 + wS w ∧ bsB (wWe w) (j - 28) = true
  · rw [if_pos h]
    unfold wAge
    rw [if_pos h]
    omega
  · rw [if_neg h]
    unfold wAge
    rw [if_neg h]
