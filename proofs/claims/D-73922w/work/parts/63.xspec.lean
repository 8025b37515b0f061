/-! what the system's registers say of a grid w -/
/-- columns, rows, bounds, straps and their ends -/
def NB (w : Int → Int) (n_columns n_rows n_limit n_wear n_straps : Int) (n_from n_to : Int → Int) : Prop := n_columns = w 0 ∧ n_rows = w 1 ∧ n_limit = w 2 ∧ n_wear = w 3 ∧ n_straps = wS w ∧ ∀ k : Int, 0 ≤ k → k < wS w → n_from k = sF (w 0) (w 1) k ∧ n_to k = sT (w 0) (w 1) k
/-- widths, loads, pads that are laid into one that is solved -/
def SX (w sw sl : Int → Int) (sp : Int) : Prop := (∀ k : Int, 0 ≤ k → k < 12 → sw k = w (28 + k)) ∧ (∀ v : Int, 0 ≤ v → v < 9 → sl v = w (6 + v)) ∧ sp = w 5
/-- column x of the system's table is column cm m x of the other -/
def cm (m x : Int) : Int := if x < m then x else 9 + (x - m)
/-- rows of 2m numbers -/
def RepG (tb : Int → Int) (m : Int) (M : Int → Int → Int) : Prop := ∀ i x : Int, 0 ≤ i → i < m → 0 ≤ x → x < 2 * m → tb (18 * i + x) = M i x
def RepX (tb : Int → Int) (m : Int) (M : Int → Int → Int) : Prop := RepG tb m (fun i x => M i (cm m x))
theorem RepG.cong {tb : Int → Int} {m : Int} {M M' : Int → Int → Int} (h : RepG tb m M) (he : ∀ i x : Int, 0 ≤ i → i < m → 0 ≤ x → x < 2 * m → M i x = M' i x) : RepG tb m M' := fun i c h1 h2 h3 h4 => (h i c h1 h2 h3 h4).trans (he i c h1 h2 h3 h4)
theorem RepG.set {tb : Int → Int} {m a b v : Int} {M : Int → Int → Int} (hm : m ≤ 9) (h : RepG tb m M) (hb0 : 0 ≤ b) (hb : b < 18) : RepG (aset tb (18 * a + b) v) m (fun i x => if i = a ∧ x = b then v else M i x) := by
  intro i c h1 h2 h3 h4
  show (if 18 * i + c = 18 * a + b then v else tb (18 * i + c)) = if i = a ∧ c = b then v else M i c
  by_cases e : i = a ∧ c = b
  · rw [if_pos e, if_pos (by omega)]
  · rw [if_neg e, if_neg (by omega)]
    exact h i c h1 h2 h3 h4
theorem RepG.add {tb : Int → Int} {m a b x : Int} {M : Int → Int → Int} (hm : m ≤ 9) (h : RepG tb m M) (ha0 : 0 ≤ a) (ha : a < m) (hb0 : 0 ≤ b) (hb : b < 2 * m) : RepG (aset tb (18 * a + b) (tb (18 * a + b) + x)) m (fun i y => M i y + if i = a ∧ y = b then x else 0) := by
  refine (h.set hm (a := a) (b := b) (v := tb (18 * a + b) + x) hb0 (by omega)).cong (fun i c h1 h2 h3 h4 => ?_)
  by_cases e : i = a ∧ c = b
  · obtain ⟨rfl, rfl⟩ := e
    rw [if_pos ⟨rfl, rfl⟩, if_pos ⟨rfl, rfl⟩, h i c ha0 ha hb0 hb]
  · rw [if_neg e, if_neg e]
    omega
theorem RepG.sub {tb : Int → Int} {m a b x : Int} {M : Int → Int → Int} (hm : m ≤ 9) (h : RepG tb m M) (ha0 : 0 ≤ a) (ha : a < m) (hb0 : 0 ≤ b) (hb : b < 2 * m) : RepG (aset tb (18 * a + b) (tb (18 * a + b) - x)) m (fun i y => M i y - if i = a ∧ y = b then x else 0) := by
  refine (h.set hm (a := a) (b := b) (v := tb (18 * a + b) - x) hb0 (by omega)).cong (fun i c h1 h2 h3 h4 => ?_)
  by_cases e : i = a ∧ c = b
  · obtain ⟨rfl, rfl⟩ := e
    rw [if_pos ⟨rfl, rfl⟩, if_pos ⟨rfl, rfl⟩, h i c ha0 ha hb0 hb]
  · rw [if_neg e, if_neg e]
    omega
/-- a strap is tied to a place -/
def tieF (tb : Int → Int) (i j x : Int) : Int → Int := if i = -1 then tb else if j = -1 then aset tb (18 * i + i) (tb (18 * i + i) + x) else aset (aset tb (18 * i + i) (tb (18 * i + i) + x)) (18 * i + j) (aset tb (18 * i + i) (tb (18 * i + i) + x) (18 * i + j) - x)
theorem tie_rep {tb : Int → Int} {m i j x : Int} {M : Int → Int → Int} (hm : m ≤ 9) (h : RepG tb m M) (hi : i = -1 ∨ (0 ≤ i ∧ i < m)) (hj : j = -1 ∨ (0 ≤ j ∧ j < m)) : RepG (tieF tb i j x) m (fun a b => M a b + (if i ≠ -1 ∧ a = i ∧ b = i then x else 0) - (if i ≠ -1 ∧ j ≠ -1 ∧ a = i ∧ b = j then x else 0)) := by
  unfold tieF
  by_cases e : i = -1
  · rw [if_pos e]
    refine h.cong (fun a b _ _ _ _ => ?_)
    rw [if_neg (fun q => q.1 e), if_neg (fun q => q.1 e)]
    omega
  · rw [if_neg e]
    have hi2 : 0 ≤ i ∧ i < m := by omega
    have h1 := h.add hm (x := x) hi2.1 hi2.2 hi2.1 (by omega)
    by_cases e2 : j = -1
    · rw [if_pos e2]
      refine h1.cong (fun a b _ _ _ _ => ?_)
      generalize M a b = z
      (repeat' split) <;> omega
    · rw [if_neg e2]
      refine (h1.sub hm (x := x) hi2.1 hi2.2 (show 0 ≤ j by omega) (by omega)).cong (fun a b _ _ _ _ => ?_)
      generalize M a b = z
      (repeat' split) <;> omega
theorem ties_rep {tb : Int → Int} {c r m k : Int} {wd iv : Int → Int} (hm : m ≤ 9) (hk : 0 ≤ k) (h : RepX tb m (bT (mA c r wd iv k) 0)) (ha : iv (sF c r k) = -1 ∨ (0 ≤ iv (sF c r k) ∧ iv (sF c r k) < m)) (hb : iv (sT c r k) = -1 ∨ (0 ≤ iv (sT c r k) ∧ iv (sT c r k) < m)) (hne : iv (sF c r k) = iv (sT c r k) → iv (sF c r k) = -1) : RepX (tieF (tieF tb (iv (sF c r k)) (iv (sT c r k)) (wd k)) (iv (sT c r k)) (iv (sF c r k)) (wd k)) m (bT (mA c r wd iv (k + 1)) 0) := by
  refine (tie_rep hm (tie_rep hm h ha hb) hb ha).cong (fun i y h1 h2 h3 h4 => ?_)
  rw [bT_0, bT_0]
  by_cases hy : y < m
  · have ec : cm m y = y := if_pos hy
    rw [ec, if_pos (show y < 9 by omega), if_pos (show y < 9 by omega)]
    have e1 : mA c r wd iv (k + 1) i y = mA c r wd iv k i y + ctr c r wd iv k i y := by
      unfold mA
      rw [foI_s _ _ hk]
    rw [e1]
    unfold ctr
    generalize iv (sF c r k) = a at *
    generalize iv (sT c r k) = b at *
    generalize mA c r wd iv k i y = z
    generalize wd k = x
    (repeat' split) <;> omega
  · have ec : cm m y = 9 + (y - m) := if_neg hy
    rw [ec, if_neg (show ¬ 9 + (y - m) < 9 by omega), if_neg (show ¬ 9 + (y - m) < 9 by omega)]
    generalize iv (sF c r k) = a at *
    generalize iv (sT c r k) = b at *
    generalize wd k = x
    generalize (if 9 + (y - m) = 9 + i then (1 : Int) else 0) = z
    (repeat' split) <;> omega
/-- that it is solved -/
def SS (w : Int → Int) (re : Int) (pl tb dr : Int → Int) (sz wo : Int) : Prop := re = wR w ∧ (∀ v, 0 ≤ v → v < wN w → pl v = gx (w 0) (w 1) (wWd w) (w 5) v) ∧ sz = wm w ∧ RepX tb (wm w) (bT (gA (w 0) (w 1) (wWd w) (w 5)) (wm w).toNat) ∧ (∀ v, 0 ≤ v → v < wN w → dr v = wDr w v) ∧ wo = wWh w
theorem rst_cong {c r k s : Int} {wd wd' : Int → Int} (h : wd k = wd' k) : rst c r wd k s = rst c r wd' k s := by unfold rst; rw [h]
theorem rps_cong {c r : Int} {wd wd' : Int → Int} (h : ∀ k, 0 ≤ k → k < sN c r → wd k = wd' k) : rps c r wd = rps c r wd' := by
  funext s
  exact foI_cong (fun k x a b => rst_cong (h k a b))
theorem rch_cong {c r s : Int} {wd wd' : Int → Int} (h : ∀ k, 0 ≤ k → k < sN c r → wd k = wd' k) : rch c r wd s = rch c r wd' s := by
  unfold rch
  rw [rps_cong h]
theorem mA_cong {c r i j : Int} {wd wd' iv : Int → Int} (h : ∀ k, 0 ≤ k → k < sN c r → wd k = wd' k) : mA c r wd iv (sN c r) i j = mA c r wd' iv (sN c r) i j := foI_cong (fun k x a b => by unfold ctr; rw [h k a b])
theorem gA_cong {c r F : Int} {wd wd' : Int → Int} (h : ∀ k, 0 ≤ k → k < sN c r → wd k = wd' k) : gA c r wd F = gA c r wd' F := by
  funext i j
  unfold gA gR
  rw [rch_cong h]
  exact mA_cong h
theorem rst_or {c r k s : Int} {wd : Int → Int} (hw : 0 < wd k) (h0 : 0 ≤ sF c r k) (h1 : 0 ≤ sT c r k) (hs : 0 ≤ s) (h : bsB s (sF c r k) = true ∨ bsB s (sT c r k) = true) : rst c r wd k s = bsO s (bsO (bsP (sF c r k)) (bsP (sT c r k))) := by
  unfold rst
  by_cases e : bsB s (sF c r k) = bsB s (sT c r k)
  · rw [if_pos (Or.inr e)]
    have h2 : bsB s (sF c r k) = true ∧ bsB s (sT c r k) = true := by
      rcases h with h | h
      · exact ⟨h, by rw [← e]; exact h⟩
      · exact ⟨by rw [e]; exact h, h⟩
    refine (bsO_same hs (fun x hx hb => ?_)).symm
    rw [bsB_O, bsB_P h0 hx, bsB_P h1 hx] at hb
    simp only [Bool.or_eq_true, decide_eq_true_eq] at hb
    rcases hb with rfl | rfl
    · exact h2.1
    · exact h2.2
  · rw [if_neg (by intro q; rcases q with q | q; omega; exact e q)]
theorem rst_no {c r k s : Int} {wd : Int → Int} (h : wd k = 0 ∨ (¬ bsB s (sF c r k) = true ∧ ¬ bsB s (sT c r k) = true)) : rst c r wd k s = s := by
  unfold rst
  rw [if_pos]
  rcases h with h | ⟨h1, h2⟩
  · exact Or.inl h
  · right
    cases q1 : bsB s (sF c r k) <;> cases q2 : bsB s (sT c r k) <;> simp_all
