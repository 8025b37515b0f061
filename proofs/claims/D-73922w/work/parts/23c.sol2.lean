/-! signs and bounds in the elimination -/
def sm (f : Int → Int) (n : Int) : Int := foI (fun j s => s + f j) 0 n
theorem sm_s {f : Int → Int} {n : Int} (h : 0 ≤ n) : sm f (n + 1) = sm f n + f n := foI_s _ _ h
theorem sm_0 {f : Int → Int} : sm f 0 = 0 := rfl
theorem sm_ind {n : Int} {P : Int → Prop} (hn : 0 ≤ n) (h0 : P 0) (hs : ∀ i, 0 ≤ i → i < n → P i → P (i + 1)) : P n := by
  obtain ⟨m, rfl⟩ := Int.eq_ofNat_of_zero_le hn
  have key : ∀ k : Nat, k ≤ m → P (k : Int) := by
    intro k
    induction k with
    | zero => intro _; exact h0
    | succ k ih => intro hk; exact_mod_cast hs k (by omega) (by omega) (ih (by omega))
  exact key m (Nat.le_refl _)
theorem sm_cong {f g : Int → Int} {n : Int} (h : ∀ j, 0 ≤ j → j < n → f j = g j) : sm f n = sm g n := foI_cong (fun i x a b => by rw [h i a b])
theorem sm_lin {f g : Int → Int} {a b n : Int} (hn : 0 ≤ n) : sm (fun j => a * f j - b * g j) n = a * sm f n - b * sm g n := by
  refine sm_ind (P := fun n => sm (fun j => a * f j - b * g j) n = a * sm f n - b * sm g n) hn (by simp [sm_0]) (fun i h0 _ ih => ?_)
  rw [sm_s h0, sm_s h0, sm_s h0, ih]
  grind
theorem sm_nn {f : Int → Int} {n : Int} (hn : 0 ≤ n) (h : ∀ j, 0 ≤ j → j < n → 0 ≤ f j) : 0 ≤ sm f n := by
  refine foI_inv (fun _ s => 0 ≤ s) (Int.le_refl 0) (fun i s a b q => ?_) hn
  have := h i a b
  omega
theorem sm_le {f g : Int → Int} {n : Int} (hn : 0 ≤ n) (h : ∀ j, 0 ≤ j → j < n → f j ≤ g j) : sm f n ≤ sm g n := (sum_le h hn).1
theorem sm_add {f g : Int → Int} {n : Int} (hn : 0 ≤ n) : sm (fun j => f j + g j) n = sm f n + sm g n := (sum_add hn).symm
theorem sm_zero {n : Int} (hn : 0 ≤ n) : sm (fun _ => 0) n = 0 := foI_z (fun _ _ _ _ => by simp) 0
theorem sm_pick {f : Int → Int} {n i : Int} (hn : 0 ≤ n) : sm (fun j => if j = i then f j else 0) n = if 0 ≤ i ∧ i < n then f i else 0 := by
  refine sm_ind (P := fun n => sm (fun j => if j = i then f j else 0) n = if 0 ≤ i ∧ i < n then f i else 0) hn (by rw [sm_0, if_neg (by omega)]) (fun k h0 _ ih => ?_)
  rw [sm_s h0, ih]
  by_cases e : k = i
  · rw [if_pos e, if_neg (by omega), if_pos (by omega), e]; omega
  · rw [if_neg e]
    by_cases q : 0 ≤ i ∧ i < k
    · rw [if_pos q, if_pos (by omega)]; omega
    · rw [if_neg q, if_neg (by omega)]; omega
/-- one term apart from the rest -/
theorem sm_at {f : Int → Int} {n i : Int} (h0 : 0 ≤ i) (h1 : i < n) : sm f n = f i + sm (fun j => if j = i then 0 else f j) n := by
  have e := sm_pick (f := f) (n := n) (i := i) (by omega)
  rw [if_pos ⟨h0, h1⟩] at e
  rw [← e, ← sm_add (by omega)]
  exact sm_cong (fun j _ _ => by by_cases q : j = i <;> simp [q])
theorem sm_ge1 {f : Int → Int} {n i : Int} (h0 : 0 ≤ i) (h1 : i < n) (h : ∀ j, 0 ≤ j → j < n → j ≠ i → 0 ≤ f j) : f i ≤ sm f n := by
  rw [sm_at h0 h1]
  have := sm_nn (f := fun j => if j = i then 0 else f j) (n := n) (by omega) (fun j a b => by
    by_cases q : j = i
    · simp [q]
    · simp only [if_neg q]; exact h j a b q)
  omega
theorem sm_le1 {f : Int → Int} {n i : Int} (h0 : 0 ≤ i) (h1 : i < n) (h : ∀ j, 0 ≤ j → j < n → j ≠ i → f j ≤ 0) : sm f n ≤ f i := by
  have := sm_ge1 (f := fun j => - f j) h0 h1 (fun j a b c => by have := h j a b c; omega)
  have e : sm (fun j => - f j) n = - sm f n := by
    have := sm_lin (f := f) (g := f) (a := -1) (b := 0) (n := n) (by omega)
    rw [← sm_cong (f := fun j => -1 * f j - 0 * f j) (g := fun j => - f j) (fun j _ _ => by omega), this]
    omega
  omega
theorem sm_le2 {f : Int → Int} {n i k : Int} (h0 : 0 ≤ i) (h1 : i < n) (k0 : 0 ≤ k) (k1 : k < n) (hik : i ≠ k) (h : ∀ j, 0 ≤ j → j < n → j ≠ i → f j ≤ 0) : sm f n ≤ f i + f k := by
  rw [sm_at h0 h1]
  have := sm_le1 (f := fun j => if j = i then 0 else f j) k0 k1 (fun j a b c => by
    by_cases q : j = i
    · simp [q]
    · simp only [if_neg q]; exact h j a b q)
  simp only [if_neg (show ¬ k = i from fun e => hik e.symm)] at this
  omega
theorem sm_split {f : Int → Int} {m p : Int} (h0 : 0 ≤ p) (h1 : p < m) : sm (fun i => if p ≤ i then f i else 0) m = f p + sm (fun i => if p + 1 ≤ i then f i else 0) m := by
  rw [sm_at h0 h1, if_pos (Int.le_refl p)]
  congr 1
  exact sm_cong (fun j _ _ => by
    by_cases e : j = p
    · rw [if_pos e, if_neg (by omega)]
    · rw [if_neg e]
      by_cases q : p ≤ j
      · rw [if_pos q, if_pos (by omega)]
      · rw [if_neg q, if_neg (by omega)])
def pw (p : Nat) : Int := 16 ^ p
theorem pw_s (p : Nat) : pw (p + 1) = 16 * pw p := by unfold pw; rw [Int.pow_succ]; omega
theorem pw_pos (p : Nat) : 0 < pw p := by
  induction p with
  | zero => decide
  | succ p ih => rw [pw_s]; omega
theorem pw_mono {p q : Nat} (h : p ≤ q) : pw p ≤ pw q := by
  induction q with
  | zero => rw [show p = 0 by omega]; exact Int.le_refl _
  | succ q ih =>
    by_cases e : p = q + 1
    · rw [e]; exact Int.le_refl _
    · have := ih (by omega)
      have := pw_pos q
      rw [pw_s]
      omega
/-- what is asked of the matrix -/
def Hyp (A : Int → Int → Int) (m : Int) (x : Int → Int) : Prop := (0 ≤ m ∧ m ≤ 8) ∧ (∀ i j, 0 ≤ i → i < m → 0 ≤ j → j < m → i ≠ j → A i j ≤ 0) ∧ (∀ i, 0 ≤ i → i < m → 0 ≤ sm (A i) m) ∧ (∀ j, 0 ≤ j → j < m → 0 ≤ sm (fun i => A i j) m) ∧ (∀ i, 0 ≤ i → i < m → A i i ≤ 16) ∧ (∀ j, 0 ≤ j → j < m → 0 < x j) ∧ (∀ i, 0 ≤ i → i < m → 0 < sm (fun j => A i j * x j) m) ∧ ∀ i c, 0 ≤ i → i < m → m ≤ c → c < 9 → A i c = 0
def Inv (A : Int → Int → Int) (m : Int) (x : Int → Int) (p : Nat) : Prop :=
  (0 < bV A p ∧ bV A p ≤ pw p) ∧ Uni A m p ∧ (∀ i j, 0 ≤ i → i < m → 0 ≤ j → j < m → i ≠ j → bT A p i j ≤ 0) ∧ (∀ i c, 0 ≤ i → i < m → 9 ≤ c → c < 18 → 0 ≤ bT A p i c)
  ∧ (∀ i, 0 ≤ i → i < m → 0 ≤ sm (bT A p i) m) ∧ (∀ i, 0 ≤ i → i < m → 0 < sm (fun j => bT A p i j * x j) m) ∧ (∀ j, (p : Int) ≤ j → j < m → 0 ≤ sm (fun i => if (p : Int) ≤ i then bT A p i j else 0) m) ∧ (∀ i, (p : Int) ≤ i → i < m → bT A p i i ≤ 16 * bV A p)
  ∧ (∀ c, 9 ≤ c → c < 18 → sm (fun i => if (p : Int) ≤ i then bT A p i c else 0) m ≤ bV A p) ∧ (∀ i c, 0 ≤ i → i < (p : Int) → i < m → 9 ≤ c → c < 18 → 16 * bT A p i c ≤ p * pw p) ∧ (∀ i c, 0 ≤ i → i < m → m ≤ c → c < 9 → bT A p i c = 0) ∧ ∀ k, k < p → Exa A m k ∧ bV A k ≠ 0
theorem inv_0 {A : Int → Int → Int} {m : Int} {x : Int → Int} (h : Hyp A m x) : Inv A m x 0 := by
  obtain ⟨h0, h1, h2, h3, h4, h5, h6, h7⟩ := h
  have hT : ∀ i j, j < 9 → bT A 0 i j = A i j := fun i j hj => by rw [bT_0, if_pos hj]
  refine ⟨⟨by rw [bV_0]; decide, by rw [bV_0]; decide⟩, fun i j _ _ a b => by omega, fun i j a b c d e => by rw [hT i j (by omega)]; exact h1 i j a b c d e, fun i c a b d e => ?_, fun i a b => ?_, fun i a b => ?_, fun j a b => ?_, fun i a b => ?_, fun c a b => ?_, fun i c a b => by omega, fun i c a b d e => by rw [hT i c e]; exact h7 i c a b d e, fun k hk => by omega⟩
  · rw [bT_0, if_neg (by omega)]
    split <;> omega
  · rw [sm_cong (g := A i) (fun j c d => hT i j (by omega))]
    exact h2 i a b
  · rw [sm_cong (g := fun j => A i j * x j) (fun j c d => by rw [hT i j (by omega)])]
    exact h6 i a b
  · rw [sm_cong (g := fun i => A i j) (fun i c d => by rw [if_pos (by omega), hT i j (by omega)])]
    exact h3 j (by omega) b
  · rw [hT i i (by omega), bV_0]
    have := h4 i (by omega) b
    omega
  · rw [bV_0, sm_cong (g := fun i => if i = c - 9 then (fun _ => (1 : Int)) i else 0) (fun i d e => by
      rw [if_pos (by omega), bT_0, if_neg (by omega)]
      by_cases q : c = 9 + i
      · rw [if_pos q, if_pos (by omega)]
      · rw [if_neg q, if_neg (by omega)]), sm_pick h0.1]
    split <;> omega
theorem mul_np {a b : Int} (ha : a ≤ 0) (hb : b ≤ 0) : 0 ≤ a * b := Int.mul_nonneg_of_nonpos_of_nonpos ha hb
theorem mul_pn {a b : Int} (ha : a ≤ 0) (hb : 0 ≤ b) : a * b ≤ 0 := Int.mul_nonpos_of_nonpos_of_nonneg ha hb
theorem le_of_mul {d a b : Int} (hd : 0 < d) (h : d * a ≤ d * b) : a ≤ b := Int.le_of_mul_le_mul_left h hd
/-- the pivot -/
theorem piv_pos {A : Int → Int → Int} {m : Int} {x : Int → Int} {p : Nat} (h : Hyp A m x) (hI : Inv A m x p) (hp : (p : Int) < m) : 0 < bT A p p p := by
  obtain ⟨h0, -, -, -, -, h5, -, -⟩ := h
  have h6 := hI.2.2.2.2.2.1 p (by omega) hp
  have h3 := hI.2.2.1
  have := sm_le1 (f := fun j => bT A p p j * x j) (i := p) (by omega) hp (fun j a b c => mul_pn (h3 p j (by omega) hp a b (fun e => c e.symm)) (Int.le_of_lt (h5 j a b)))
  have hx := h5 p (by omega) hp
  rcases Int.lt_trichotomy 0 (bT A p p p) with q | q | q
  · exact q
  · simp only [← q, Int.zero_mul] at this
    omega
  · have q2 := mul_pn (Int.le_of_lt q) (Int.le_of_lt hx)
    have q3 : sm (fun j => bT A p p j * x j) m ≤ bT A p p p * x p := this
    omega
theorem row_dom {T : Int → Int} {m i k : Int} (h0 : 0 ≤ i) (h1 : i < m) (k0 : 0 ≤ k) (k1 : k < m) (hik : i ≠ k) (hn : ∀ j, 0 ≤ j → j < m → i ≠ j → T j ≤ 0) (hs : 0 ≤ sm T m) : - T i ≤ T k := by
  have := sm_le2 (f := T) h0 h1 k0 k1 hik (fun j a b c => hn j a b (fun e => c e.symm))
  omega
theorem inv_s {A : Int → Int → Int} {m : Int} {x : Int → Int} {p : Nat} (h : Hyp A m x) (hI : Inv A m x p) (hp : (p : Int) < m) : Inv A m x (p + 1) := by
  have hpv := piv_pos h hI hp
  obtain ⟨⟨hd, hd2⟩, hU, i3, i4, i5, i6, i7, i8, i9, i10, i11, i12⟩ := hI
  have hm := h.1
  have hE : Exa A m p := exa_step hp i12 (by omega) hU
  have hV : bV A (p + 1) = bT A p p p := bV_s A p
  have hrow : bT A (p + 1) p = bT A p p := by funext c; rw [bT_s, if_pos rfl]
  have hc1 : ((p + 1 : Nat) : Int) = (p : Int) + 1 := by omega
  have hd16 : bT A p p p ≤ 16 * bV A p := i8 p (Int.le_refl _) hp
  have hE' : ∀ i c, 0 ≤ i → i < m → i ≠ (p : Int) → bV A p * bT A (p + 1) i c = bT A p p p * bT A p i c - bT A p i p * bT A p p c := fun i c a b e => by rw [hE i c a b e]; grind
  have hS : ∀ c, sm (fun i => if (p : Int) + 1 ≤ i then bT A p i c else 0) m = sm (fun i => if (p : Int) ≤ i then bT A p i c else 0) m - bT A p p c := fun c => by
    have := sm_split (f := fun i => bT A p i c) (m := m) (p := p) (by omega) hp
    try simp only at this
    omega
  have hcol : ∀ c, bV A p * sm (fun i => if ((p + 1 : Nat) : Int) ≤ i then bT A (p + 1) i c else 0) m = bT A p p p * sm (fun i => if (p : Int) ≤ i then bT A p i c else 0) m - bT A p p c * sm (fun i => if (p : Int) ≤ i then bT A p i p else 0) m := fun c => by
    have e1 := sm_lin (f := fun i => if ((p + 1 : Nat) : Int) ≤ i then bT A (p + 1) i c else 0) (g := fun _ => 0) (a := bV A p) (b := 0) (n := m) hm.1
    have e2 := sm_lin (f := fun i => if (p : Int) + 1 ≤ i then bT A p i c else 0) (g := fun i => if (p : Int) + 1 ≤ i then bT A p i p else 0) (a := bT A p p p) (b := bT A p p c) (n := m) hm.1
    rw [hS, hS] at e2
    have e3 : sm (fun j => bV A p * (if ((p + 1 : Nat) : Int) ≤ j then bT A (p + 1) j c else 0) - 0 * 0) m = sm (fun j => bT A p p p * (if (p : Int) + 1 ≤ j then bT A p j c else 0) - bT A p p c * (if (p : Int) + 1 ≤ j then bT A p j p else 0)) m := sm_cong (fun j a b => by
      by_cases q : (p : Int) + 1 ≤ j
      · rw [if_pos (by omega), if_pos q, if_pos q, hE' j c a b (by omega)]
        grind
      · rw [if_neg (by omega), if_neg q, if_neg q]
        grind)
    rw [e1, e2] at e3
    grind
  refine ⟨⟨by rw [hV]; exact hpv, by rw [hV, pw_s]; omega⟩, fun i j a b c d => ?_, fun i j a b c d e => ?_, fun i c a b d e => ?_, fun i a b => ?_, fun i a b => ?_, fun j a b => ?_, fun i a b => ?_, fun c a b => ?_, fun i c a b b2 d e => ?_, fun i c a b d e => ?_, fun k hk => ?_⟩
  · rw [hV]
    by_cases ei : i = p
    · rw [ei, hrow]
      by_cases ej : j = p
      · rw [ej, if_pos rfl]
      · rw [hU p j (by omega) hp c (by omega), if_neg (by omega), if_neg (by omega)]
    · have q := hE' i j a b ei
      by_cases ej : j = p
      · rw [ej] at q ⊢
        rw [if_neg ei]
        have : bV A p * bT A (p + 1) i p = bV A p * 0 := by rw [q]; grind
        exact Int.eq_of_mul_eq_mul_left (by omega) this
      · rw [hU p j (by omega) hp c (by omega), if_neg (by omega), hU i j a b c (by omega)] at q
        by_cases e : i = j
        · rw [if_pos e] at q ⊢
          exact Int.eq_of_mul_eq_mul_left (show bV A p ≠ 0 by omega) (by rw [q]; grind)
        · rw [if_neg e] at q ⊢
          exact Int.eq_of_mul_eq_mul_left (show bV A p ≠ 0 by omega) (by rw [q]; grind)
  · by_cases ei : i = p
    · rw [ei, hrow]; exact i3 p j (by omega) hp c d (by omega)
    · have q := hE' i j a b ei
      refine le_of_mul hd ?_
      rw [q]
      by_cases ej : j = p
      · rw [ej]; grind
      · have q1 := mul_pn (i3 i j a b c d e) (Int.le_of_lt hpv)
        have q2 := mul_np (i3 i p a b (by omega) hp ei) (i3 p j (by omega) hp c d (by omega))
        rw [Int.mul_comm] at q1
        omega
  · by_cases ei : i = p
    · rw [ei, hrow]; exact i4 p c (by omega) hp d e
    · have q := hE' i c a b ei
      refine le_of_mul hd ?_
      rw [q]
      have q1 := Int.mul_nonneg (Int.le_of_lt hpv) (i4 i c a b d e)
      have q2 := mul_pn (i3 i p a b (by omega) hp ei) (i4 p c (by omega) hp d e)
      omega
  · by_cases ei : i = p
    · rw [ei, hrow]; exact i5 p (by omega) hp
    · have e1 := sm_lin (f := bT A (p + 1) i) (g := fun _ => 0) (a := bV A p) (b := 0) (n := m) hm.1
      have e2 := sm_lin (f := bT A p i) (g := bT A p p) (a := bT A p p p) (b := bT A p i p) (n := m) hm.1
      rw [sm_cong (g := fun j => bT A p p p * bT A p i j - bT A p i p * bT A p p j) (fun j _ _ => by rw [hE' i j a b ei]; grind), e2] at e1
      refine le_of_mul hd ?_
      have q1 := Int.mul_nonneg (Int.le_of_lt hpv) (i5 i a b)
      have q2 := mul_pn (i3 i p a b (by omega) hp ei) (i5 p (by omega) hp)
      have : (0 : Int) * sm (fun _ => 0) m = 0 := Int.zero_mul _
      omega
  · by_cases ei : i = p
    · rw [ei, hrow]; exact i6 p (by omega) hp
    · have e1 := sm_lin (f := fun j => bT A (p + 1) i j * x j) (g := fun _ => 0) (a := bV A p) (b := 0) (n := m) hm.1
      have e2 := sm_lin (f := fun j => bT A p i j * x j) (g := fun j => bT A p p j * x j) (a := bT A p p p) (b := bT A p i p) (n := m) hm.1
      rw [sm_cong (g := fun j => bT A p p p * (bT A p i j * x j) - bT A p i p * (bT A p p j * x j)) (fun j _ _ => by have := hE' i j a b ei; grind), e2] at e1
      have q1 := Int.mul_pos hpv (i6 i a b)
      have q2 := mul_pn (i3 i p a b (by omega) hp ei) (Int.le_of_lt (i6 p (by omega) hp))
      have q3 : (0 : Int) * sm (fun _ => 0) m = 0 := Int.zero_mul _
      have q4 : 0 < bV A p * sm (fun j => bT A (p + 1) i j * x j) m := by omega
      apply Classical.byContradiction
      intro hneg
      have q5 := mul_pn (show sm (fun j => bT A (p + 1) i j * x j) m ≤ 0 by omega) (Int.le_of_lt hd)
      rw [Int.mul_comm] at q5
      omega
  · refine le_of_mul hd ?_
    rw [hcol j]
    have q1 := Int.mul_nonneg (Int.le_of_lt hpv) (i7 j (by omega) b)
    have q2 := mul_pn (i3 p j (by omega) hp (by omega) b (by omega)) (i7 p (Int.le_refl _) hp)
    omega
  · refine le_of_mul hd ?_
    rw [hV, hE' i i (by omega) b (by omega)]
    have q1 := Int.mul_le_mul_of_nonneg_left (i8 i (by omega) b) (Int.le_of_lt hpv)
    have q2 := mul_np (i3 i p (by omega) b (by omega) hp (by omega)) (i3 p i (by omega) hp (by omega) b (by omega))
    grind
  · refine le_of_mul hd ?_
    rw [hcol c, hV]
    have q1 := Int.mul_le_mul_of_nonneg_left (i9 c a b) (Int.le_of_lt hpv)
    have q2 := Int.mul_nonneg (i4 p c (by omega) hp a b) (i7 p (Int.le_refl _) hp)
    grind
  · have hTp : bT A p p c ≤ bV A p := by
      have q := i9 c d e
      have := sm_ge1 (f := fun i => if (p : Int) ≤ i then bT A p i c else 0) (i := p) (by omega) hp (fun j s t _ => by
        try simp only
        split
        · exact i4 j c s t d e
        · omega)
      simp only [if_pos (Int.le_refl (p : Int))] at this
      omega
    have hpp := pw_pos p
    have hpc : (((p + 1 : Nat) : Int)) * pw (p + 1) = 16 * (p * pw p) + 16 * pw p := by rw [hc1, pw_s]; grind
    rw [hpc]
    have hnn : 0 ≤ (p : Int) * pw p := Int.mul_nonneg (by omega) (by omega)
    by_cases ei : i = p
    · rw [ei, hrow]
      omega
    · have q := hE' i c a b2 ei
      have hi : i < (p : Int) := by omega
      have dom := row_dom (T := bT A p i) (m := m) a b2 (show 0 ≤ (p : Int) by omega) hp ei (fun j s t u => i3 i j a b2 s t u) (i5 i a b2)
      rw [hU i i a b2 a hi, if_pos rfl] at dom
      have t0 := i4 i c a b2 d e
      have u0 := i4 p c (by omega) hp d e
      have q1 : bT A p p p * bT A p i c ≤ (16 * bV A p) * bT A p i c := Int.mul_le_mul_of_nonneg_right hd16 t0
      have q2 : -(bT A p i p) * bT A p p c ≤ bV A p * bT A p p c := Int.mul_le_mul_of_nonneg_right (by omega) u0
      have q3 : bV A p * bT A (p + 1) i c ≤ bV A p * (16 * bT A p i c + bT A p p c) := by rw [q]; grind
      have q4 := le_of_mul hd q3
      have q5 := i10 i c a hi b2 d e
      omega
  · by_cases ei : i = p
    · rw [ei, hrow]; exact i11 p c (by omega) hp d e
    · have q := hE' i c a b ei
      rw [i11 i c a b d e, i11 p c (by omega) hp d e] at q
      exact Int.eq_of_mul_eq_mul_left (show bV A p ≠ 0 by omega) (by rw [q]; grind)
  · by_cases e : k = p
    · rw [e]; exact ⟨hE, by omega⟩
    · exact i12 k (by omega)
theorem inv_all {A : Int → Int → Int} {m : Int} {x : Int → Int} (h : Hyp A m x) : ∀ p : Nat, (p : Int) ≤ m → Inv A m x p
  | 0, _ => inv_0 h
  | p + 1, hp => inv_s h (inv_all h p (by omega)) (by omega)
theorem pw_7 : pw 7 = 268435456 := by decide
theorem pw_8 : pw 8 = 4294967296 := by decide
theorem pw_6 : pw 6 = 16777216 := by decide
theorem ab_mul {a b B C : Int} (ha : 0 ≤ a) (haB : a ≤ B) (hb1 : -C ≤ b) (hb2 : b ≤ C) (hC : 0 ≤ C) : -(B * C) ≤ a * b ∧ a * b ≤ B * C := by
  have h1 : a * b ≤ a * C := Int.mul_le_mul_of_nonneg_left hb2 ha
  have h2 : a * -C ≤ a * b := Int.mul_le_mul_of_nonneg_left hb1 ha
  have h3 : a * C ≤ B * C := Int.mul_le_mul_of_nonneg_right haB hC
  have h4 : a * -C = -(a * C) := Int.mul_neg a C
  omega
theorem brOk {A : Int → Int → Int} {m : Int} {x : Int → Int} (h : Hyp A m x) : BrOk A m := by
  have hm := h.1
  refine ⟨fun p hp i c a b d e => ?_, fun p hp => ?_⟩
  · have hI := inv_all h p (by omega)
    have hJ := inv_all h (p + 1) (by omega)
    have hd := hI.1
    have hd' := hJ.1
    have hp7 : p ≤ 7 := by omega
    have h7 := pw_mono hp7
    have h8 := pw_mono (show p + 1 ≤ 8 by omega)
    rw [pw_7] at h7
    rw [pw_8] at h8
    by_cases ei : i = p
    · rw [ei]
      have : bT A p p c * bT A p p p - bT A p p c * bT A p p p = 0 := by omega
      rw [this]
      unfold inL
      omega
    · have hE := (hJ.2.2.2.2.2.2.2.2.2.2.2 p (by omega)).1 i c a b ei
      rw [← hE]
      unfold inL
      by_cases hc9 : 9 ≤ c
      · have t0 := hJ.2.2.2.1 i c a b hc9 e
        have t1 : bT A (p + 1) i c ≤ 4294967296 := by
          by_cases hi : i < ((p + 1 : Nat) : Int)
          · have q := hJ.2.2.2.2.2.2.2.2.2.1 i c a hi b hc9 e
            have q2 : ((p + 1 : Nat) : Int) * pw (p + 1) ≤ 8 * 4294967296 := Int.mul_le_mul (by omega) h8 (Int.le_of_lt (pw_pos _)) (by omega)
            omega
          · have q := hJ.2.2.2.2.2.2.2.2.1 c hc9 e
            have q2 := sm_ge1 (f := fun i => if ((p + 1 : Nat) : Int) ≤ i then bT A (p + 1) i c else 0) a b (fun j s t _ => by
              try simp only
              split
              · exact hJ.2.2.2.1 j c s t hc9 e
              · omega)
            simp only [if_pos (show ((p + 1 : Nat) : Int) ≤ i by omega)] at q2
            omega
        have := ab_mul (a := bV A p) (b := bT A (p + 1) i c) (B := 268435456) (C := 4294967296) (by omega) (by omega) (by omega) t1 (by omega)
        omega
      · by_cases hcm : m ≤ c
        · rw [hJ.2.2.2.2.2.2.2.2.2.2.1 i c a b hcm (by omega), Int.mul_zero]
          omega
        · have i3 := hJ.2.2.1
          have i5 := hJ.2.2.2.2.1 i a b
          have dg0 : 0 ≤ bT A (p + 1) i i := by
            have := sm_le1 (f := bT A (p + 1) i) a b (fun j s t u => i3 i j a b s t (fun q => u q.symm))
            omega
          have bd : -(bT A (p + 1) i i) ≤ bT A (p + 1) i c ∧ bT A (p + 1) i c ≤ bT A (p + 1) i i := by
            by_cases e2 : i = c
            · rw [← e2]; omega
            · have q1 := row_dom (T := bT A (p + 1) i) (m := m) a b d (by omega) e2 (fun j s t u => i3 i j a b s t u) i5
              have q2 := i3 i c a b d (by omega) e2
              omega
          by_cases hi : i < ((p + 1 : Nat) : Int)
          · have q := hJ.2.1 i i a b a hi
            rw [if_pos rfl] at q
            have := ab_mul (a := bV A p) (b := bT A (p + 1) i c) (B := 268435456) (C := 4294967296) (by omega) (by omega) (by omega) (by omega) (by omega)
            omega
          · have hp6 : p ≤ 6 := by omega
            have g6 := pw_mono hp6
            have g7 := pw_mono (show p + 1 ≤ 7 by omega)
            rw [pw_6] at g6
            rw [pw_7] at g7
            have q := hJ.2.2.2.2.2.2.2.1 i (by omega) b
            have := ab_mul (a := bV A p) (b := bT A (p + 1) i c) (B := 16777216) (C := 4294967296) (by omega) (by omega) (by omega) (by omega) (by omega)
            omega
  · have hI := inv_all h p hp
    have h8 := pw_mono (show p ≤ 8 by omega)
    rw [pw_8] at h8
    have := hI.1
    unfold inL
    omega
