/-! what is tried, as a grid u -/
def TS (u sw sl : Int → Int) (sp re : Int) (pl tb dr : Int → Int) (sz wo : Int) : Prop := SX u sw sl sp ∧ SS u re pl tb dr sz wo
theorem NB.of {w u : Int → Int} {n_columns n_rows n_limit n_wear n_straps : Int} {n_from n_to : Int → Int} (h : NB w n_columns n_rows n_limit n_wear n_straps n_from n_to) (e : ∀ k : Int, 0 ≤ k → k < 4 → u k = w k) : NB u n_columns n_rows n_limit n_wear n_straps n_from n_to := by
  have e0 := e 0 (by omega) (by omega)
  have e1 := e 1 (by omega) (by omega)
  have e2 := e 2 (by omega) (by omega)
  have e3 := e 3 (by omega) (by omega)
  unfold NB wS at h ⊢
  rw [e0, e1, e2, e3]
  exact h
theorem lo_aset {w : Int → Int} {i x : Int} (hi : 4 ≤ i) : ∀ k : Int, 0 ≤ k → k < 4 → aset w i x k = w k := fun k _ h => aset_ne (by omega)
theorem lo_age {w : Int → Int} : ∀ k : Int, 0 ≤ k → k < 4 → wAge w k = w k := fun k _ h => wAge_lo (by omega)
theorem lo_ages {w : Int → Int} (n : Nat) : ∀ k : Int, 0 ≤ k → k < 4 → itN wAge n w k = w k := by
  induction n with
  | zero => intro k _ _; rfl
  | succ n ih => intro k h0 h1; exact (wAge_lo (by omega)).trans (ih k h0 h1)
theorem SX.pad {w sw sl : Int → Int} {sp p : Int} (h : SX w sw sl sp) : SX (aset w 5 p) sw sl p := ⟨fun k a b => by rw [aset_ne (by omega)]; exact h.1 k a b, fun v a b => by rw [aset_ne (by omega)]; exact h.2.1 v a b, (aset_at _ _ _).symm⟩
theorem SX.wid {w sw sl : Int → Int} {sp k x : Int} (h : SX w sw sl sp) (hk : 0 ≤ k) : SX (aset w (28 + k) x) (aset sw k x) sl sp := by
  refine ⟨fun j a b => ?_, fun v a b => ?_, by rw [aset_ne (by omega)]; exact h.2.2⟩
  · by_cases e : j = k
    · rw [e, aset_at, aset_at]
    · rw [aset_ne e, aset_ne (by omega)]; exact h.1 j a b
  · rw [aset_ne (by omega)]; exact h.2.1 v a b
theorem sc_neg {w : Int → Int} {bd ba bb : Int} (h : wDl w = bd) : sc w bd ba bb < 0 ↔ 0 < cmpF ba bb (wMx w) (wWh w) := by
  unfold sc
  rw [if_pos h, cmpF_pos]
  unfold cmpF
  split
  · constructor
    · intro _; assumption
    · intro _; omega
  · split
    · constructor
      · intro q; omega
      · intro q; omega
    · constructor
      · intro q; omega
      · intro q; omega
theorem sc_ne {w : Int → Int} {bd ba bb : Int} (h : ¬ wDl w = bd) : sc w bd ba bb = if wDl w < bd then -1 else 1 := by
  unfold sc
  rw [if_neg h]
theorem sc_pos {w : Int → Int} {bd ba bb : Int} (h : wDl w = bd) : 0 < sc w bd ba bb ↔ 0 < cmpF (wMx w) (wWh w) ba bb := by
  unfold sc
  rw [if_pos h]
theorem bsO_assoc {a b c : Int} : bsO (bsO a b) c = bsO a (bsO b c) := by
  unfold bsO
  simp [Nat.or_assoc]
theorem wNp_P {w : Int → Int} {P : Int} : wNp (aset w 5 P) = bst (fun v => !bsB P v) (fun v => aset w 5 (bsO P (bsP v))) bs0 (wN w) := by
  unfold wNp
  rw [wN_aset (by omega)]
  simp only [aset_at, aset_two]
theorem cal_run {w : Int → Int} : ∀ (m f : Nat) (n : Int), m ≤ f → (∀ j : Nat, j < m → wWe (itN wAge j w) ≠ 0) → cal f w n = cal (f - m) (itN wAge m w) (n + m)
  | 0, f, n, _, _ => by simp [itN]
  | m + 1, f, n, h, hj => by
    rw [cal_run m f n (by omega) (fun j a => hj j (by omega))]
    obtain ⟨e, he⟩ : ∃ e, f - m = e + 1 := ⟨f - m - 1, by omega⟩
    rw [he, cal, if_neg (hj m (by omega)), show f - (m + 1) = e by omega, show n + (m : Int) + 1 = n + ((m + 1 : Nat) : Int) by omega]
    rfl
theorem cal_end {w : Int → Int} {m f : Nat} (h : m ≤ f) (hj : ∀ j : Nat, j < m → wWe (itN wAge j w) ≠ 0) (he : m = f ∨ wWe (itN wAge m w) = 0) : cal f w 0 = m := by
  rw [cal_run m f 0 h hj]
  rcases he with e | e
  · rw [e, Nat.sub_self, cal]; omega
  · cases f - m with
    | zero => rw [cal]; omega
    | succ x => rw [cal, if_pos e]; omega
theorem wSu_run {w : Int → Int} (hd : Gd w) : ∀ m : Nat, (∀ j : Nat, j < m → wWe (itN wAge j w) ≠ 0) → wSu (itN wAge m w) + m ≤ wSu w
  | 0, _ => by simp [itN]
  | m + 1, hj => by
    have := wSu_run hd m (fun j a => hj j (by omega))
    have h2 := wSu_age (hd.ages m) (hj m (by omega))
    have e : itN wAge (m + 1) w = wAge (itN wAge m w) := rfl
    rw [e]
    omega
theorem it_stuck {w : Int → Int} {m n : Nat} (h : wWe (itN wAge m w) = 0) (hn : m ≤ n) : itN wAge n w = itN wAge m w := by
  obtain ⟨x, rfl⟩ := Nat.exists_eq_add_of_le hn
  clear hn
  induction x with
  | zero => rfl
  | succ x ih =>
    have e : itN wAge (m + (x + 1)) w = wAge (itN wAge (m + x) w) := rfl
    rw [e, ih, wAge_0 h]
theorem bitN_0 : ∀ s : Fin 512, bitN s.val = 0 → s.val = 0 := by decide +kernel
theorem wBp_zero {w : Int → Int} (hd : Gd w) : (wBp w 0).1 = 0 := by
  have h0 : bpP w 0 0 = true := by
    have h1 : 0 < bsP (wN w) := bsP_0
    have h2 : bitc 0 = 0 := by decide +kernel
    have h3 : bsA 0 (w 5) = 0 := by unfold bsA; simp
    unfold bpP
    simp [h1, h2, h3]
  rcases wBp_0 (n := 0) hd with ⟨_, b⟩ | ⟨a, b, c⟩
  · rw [b 0 (by omega) (by omega)] at h0
    exact absurd h0 (by decide)
  · unfold bpP at c
    simp only [Bool.and_eq_true, decide_eq_true_eq] at c
    have e := c.1.2
    rw [bitc_N a b] at e
    have := bitN_0 ⟨(wBp w 0).1.toNat, by omega⟩ (by (try simp only); omega)
    simp only at this
    omega
theorem wBp_in {w : Int → Int} {n : Int} (hd : Gd w) : (wBp w n).1 = -1 ∨ (0 ≤ (wBp w n).1 ∧ (wBp w n).1 < bsP (wN w) ∧ n ≤ wN w - bitc (w 5)) := by
  rcases wBp_0 (n := n) hd with ⟨a, _⟩ | ⟨a, b, c⟩
  · left; rw [a]
  · right
    refine ⟨a, ?_, bpP_le hd a c⟩
    unfold bpP at c
    simp only [Bool.and_eq_true, decide_eq_true_eq] at c
    exact c.1.1
theorem pc12_in {s : Int} : 0 ≤ pc12 s ∧ pc12 s ≤ 12 := by
  unfold pc12
  have := foI_inv (f := fun k a => a + (if bsB s k = true then 1 else 0)) (a := 0) (n := 12) (fun i x => 0 ≤ x ∧ x ≤ i) (by omega) (fun i x q1 q2 q3 => by
    try simp only
    split <;> omega) (by omega)
  omega
