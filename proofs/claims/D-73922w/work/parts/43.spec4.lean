/-! scores; the best one of many -/
def sc (w : Int → Int) (bd ba bb : Int) : Int := if wDl w = bd then cmpF (wMx w) (wWh w) ba bb else if wDl w < bd then -1 else 1
/-- the best so far: which one, how many dead that draw, the greatest drop, the whole -/
abbrev Bst : Type := Int × Int × Int × Int
def BsOk (s : Bst) : Prop := (-1 ≤ s.2.1 ∧ s.2.1 ≤ 10) ∧ (0 ≤ s.2.2.1 ∧ s.2.2.1 ≤ 7653631721472) ∧ (0 < s.2.2.2 ∧ s.2.2.2 ≤ 8589934592)
def bsf (P : Int → Bool) (G : Int → Int → Int) (v : Int) (s : Bst) : Bst := if P v = true ∧ sc (G v) s.2.1 s.2.2.1 s.2.2.2 < 0 then (v, wDl (G v), wMx (G v), wWh (G v)) else s
def bst (P : Int → Bool) (G : Int → Int → Int) (s : Bst) (n : Int) : Bst := foI (bsf P G) s n
abbrev bs0 : Bst := (-1, 10, 0, 1)
theorem bs0_ok : BsOk bs0 := by unfold BsOk; simp
theorem bs_of {w : Int → Int} (hd : Gd w) (v : Int) : BsOk (v, wDl w, wMx w, wWh w) := by
  have h1 := hd.dl
  have h2 := hd.mx
  have h3 := hd.who
  exact ⟨by (try simp only); omega, h2, h3⟩
theorem bsf_no1 {P : Int → Bool} {G : Int → Int → Int} {v : Int} {s : Bst} (h : P v = false) : bsf P G v s = s := by
  unfold bsf
  rw [if_neg (by rw [h]; simp)]
theorem bsf_no2 {P : Int → Bool} {G : Int → Int → Int} {v : Int} {s : Bst} (h : 0 ≤ sc (G v) s.2.1 s.2.2.1 s.2.2.2) : bsf P G v s = s := by
  unfold bsf
  rw [if_neg (by intro q; omega)]
theorem bsf_yes {P : Int → Bool} {G : Int → Int → Int} {v : Int} {s : Bst} (h : P v = true) (h2 : sc (G v) s.2.1 s.2.2.1 s.2.2.2 < 0) : bsf P G v s = (v, wDl (G v), wMx (G v), wWh (G v)) := by
  unfold bsf
  rw [if_pos ⟨h, h2⟩]
theorem cmpF_in {a b c d : Int} : -1 ≤ cmpF a b c d ∧ cmpF a b c d ≤ 1 := by
  unfold cmpF
  split
  · omega
  · split <;> omega
theorem sc_in {w : Int → Int} {a b c : Int} : -1 ≤ sc w a b c ∧ sc w a b c ≤ 1 := by
  unfold sc
  split
  · exact cmpF_in
  · split <;> omega
theorem bst_s {P : Int → Bool} {G : Int → Int → Int} {s : Bst} {i : Int} (h : 0 ≤ i) : bst P G s (i + 1) = bsf P G i (bst P G s i) := foI_s _ _ h
theorem bst_ok {P : Int → Bool} {G : Int → Int → Int} {s : Bst} {n : Int} (hs : BsOk s) (hG : ∀ v, 0 ≤ v → v < n → P v = true → Gd (G v)) (h : 0 ≤ n) : BsOk (bst P G s n) := by
  refine foI_inv (fun _ x => BsOk x) hs (fun i x q1 q2 q3 => ?_) h
  unfold bsf
  split
  · rename_i hc
    exact bs_of (hG i q1 q2 hc.1) i
  · exact q3
theorem bst_at {P : Int → Bool} {G : Int → Int → Int} {s : Bst} {n : Int} (h : 0 ≤ n) : (bst P G s n).1 = s.1 ∨ (0 ≤ (bst P G s n).1 ∧ (bst P G s n).1 < n ∧ P (bst P G s n).1 = true) := by
  refine foI_inv (fun i (x : Bst) => x.1 = s.1 ∨ (0 ≤ x.1 ∧ x.1 < i ∧ P x.1 = true)) (Or.inl rfl) (fun i x q1 q2 q3 => ?_) h
  unfold bsf
  split
  · rename_i hc
    exact Or.inr ⟨q1, by (try simp only); omega, hc.1⟩
  · rcases q3 with q | ⟨a, b, c⟩
    · exact Or.inl q
    · exact Or.inr ⟨a, by omega, c⟩
/-- begun without: the first that can be is taken -/
theorem sc_10 {w : Int → Int} (hd : Gd w) {a b : Int} : sc w 10 a b < 0 := by
  have := hd.dl
  unfold sc
  rw [if_neg (by omega), if_pos (by omega)]
  omega
theorem bst_0 {P : Int → Bool} {G : Int → Int → Int} {n : Int} (hG : ∀ v, 0 ≤ v → v < n → P v = true → Gd (G v)) (h : 0 ≤ n) : (bst P G bs0 n = bs0 ∧ ∀ j, 0 ≤ j → j < n → P j = false) ∨ (0 ≤ (bst P G bs0 n).1 ∧ (bst P G bs0 n).1 < n ∧ P (bst P G bs0 n).1 = true) := by
  refine foI_inv (fun i (x : Bst) => (x = bs0 ∧ ∀ j, 0 ≤ j → j < i → P j = false) ∨ (0 ≤ x.1 ∧ x.1 < i ∧ P x.1 = true)) (Or.inl ⟨rfl, fun j _ _ => by omega⟩) (fun i x q1 q2 q3 => ?_) h
  unfold bsf
  split
  · rename_i hc
    exact Or.inr ⟨q1, by (try simp only); omega, hc.1⟩
  · rename_i hc
    rcases q3 with ⟨q, r⟩ | ⟨a, b, c⟩
    · left
      refine ⟨q, fun j a b => ?_⟩
      by_cases e : j = i
      · subst e
        cases hp : P j
        · rfl
        · exact absurd ⟨hp, by rw [q]; exact sc_10 (hG j q1 q2 hp)⟩ hc
      · exact r j a (by omega)
    · exact Or.inr ⟨a, by omega, c⟩
/-! pads more -/
def wNp (w : Int → Int) : Bst := bst (fun v => !bsB (w 5) v) (fun v => aset w 5 (bsO (w 5) (bsP v))) bs0 (wN w)
theorem Gd.pO {w : Int → Int} (hd : Gd w) {v : Int} (h0 : 0 ≤ v) (h1 : v < wN w) : Gd (aset w 5 (bsO (w 5) (bsP v))) := hd.pad (hd.pads.O (NSet.P h0 h1))
theorem wNp_in {w : Int → Int} (hd : Gd w) : (wNp w).1 = -1 ∨ (0 ≤ (wNp w).1 ∧ (wNp w).1 < wN w ∧ bsB (w 5) (wNp w).1 = false) := by
  have hn := hd.n
  rcases bst_at (P := fun v => !bsB (w 5) v) (G := fun v => aset w 5 (bsO (w 5) (bsP v))) (s := bs0) (n := wN w) (by omega) with h | ⟨a, b, c⟩
  · exact Or.inl h
  · refine Or.inr ⟨a, b, ?_⟩
    unfold wNp
    simpa using c
theorem bsD_O {a v : Int} (h0 : 0 ≤ a) (h1 : a < 512) (hv : 0 ≤ v) (hv2 : v < 9) (h : bsB a v = false) : bsD (bsO a (bsP v)) (bsP v) = a := by
  have e : ((2 ^ 9 : Nat) : Int) = 512 := rfl
  have hP := bsP_9 hv hv2
  refine bs_ext (n := 9) bsD_0 h0 (bsD_lt (by rw [e]; exact bsO_512 h1 hP)) (by rw [e]; exact h1) (fun k a0 a1 => ?_)
  rw [bsB_D, bsB_O, bsB_P hv a0]
  by_cases ek : k = v
  · subst ek; simp [h]
  · simp [ek]
def pdS (w : Int → Int) : Nat → Int × Int
  | 0 => (w 5, (wNp w).1)
  | k + 1 => if (pdS w k).2 = -1 then pdS w k else (bsO (pdS w k).1 (bsP (pdS w k).2), (wNp (aset w 5 (bsO (pdS w k).1 (bsP (pdS w k).2)))).1)
def spPad (w : Int → Int) (i : Int) : Int := if 0 < w 4 ∧ 0 ≤ i then (pdS w i.toNat).2 else -2
theorem pdS_stuck {w : Int → Int} {k i : Nat} (h : (pdS w k).2 = -1) (hk : k ≤ i) : (pdS w i).2 = -1 := by
  obtain ⟨m, rfl⟩ := Nat.exists_eq_add_of_le hk
  have : pdS w (k + m) = pdS w k := by
    induction m with
    | zero => rfl
    | succ m ih =>
      rw [← Nat.add_assoc, pdS, ih (by omega), if_pos h]
  rw [this, h]
def bitc (s : Int) : Int := foI (fun k a => a + (if bsB s k then 1 else 0)) 0 9
def bpP (w : Int → Int) (n s : Int) : Bool := decide (s < bsP (wN w)) && decide (bitc s = n) && decide (bsA s (w 5) = 0)
def wBp (w : Int → Int) (n : Int) : Bst := bst (bpP w n) (fun s => aset w 5 (bsO (w 5) s)) bs0 512
theorem bpP_gd {w : Int → Int} {n : Int} (hd : Gd w) : ∀ v, 0 ≤ v → v < 512 → bpP w n v = true → Gd (aset w 5 (bsO (w 5) v)) := fun v h0 _ h => by
  unfold bpP at h
  simp only [Bool.and_eq_true, decide_eq_true_eq] at h
  exact hd.pad (hd.pads.O ⟨h0, h.1.1⟩)
def spPads (w : Int → Int) (n : Int) : Int := if 0 < w 4 ∧ 0 ≤ n ∧ n ≤ 9 then (wBp w n).1 else -2
def spPadded (w : Int → Int) (n p : Int) : Int := if (0 < w 4 ∧ 0 ≤ n ∧ n ≤ 9) ∧ isPb p = true then (if (wBp w n).1 = -1 then -1 else partF (wBp w n).2.2.1 (wBp w n).2.2.2 p) else -2
def enH (w : Int → Int) (n : Int) : Bool := wHo (aset w 5 (bsO (w 5) (wBp w n).1))
def spEnough (w : Int → Int) : Int := if 0 < w 4 then ffi (enH w) (wN w - bitc (w 5) + 1).toNat else -2
/-- the n least of those that are free -/
def lowF (p : Nat) : Nat → Nat → Nat → Nat
  | 0, _, _ => 0
  | _ + 1, 0, _ => 0
  | f + 1, n + 1, k => if p.testBit k then lowF p f (n + 1) (k + 1) else 2 ^ k + lowF p f n (k + 1)
def bitN (s : Nat) : Nat := (List.range 9).foldl (fun a k => a + (if s.testBit k then 1 else 0)) 0
def lowOk (N p n : Nat) : Bool := decide (2 ^ N ≤ p) || decide (N < bitN p + n) || (decide (lowF p N n 0 < 2 ^ N) && decide (bitN (lowF p N n 0) = n) && decide (lowF p N n 0 &&& p = 0))
theorem low_all : ∀ N : Fin 10, ∀ p : Fin 512, ∀ n : Fin 10, lowOk N.val p.val n.val = true := by decide +kernel
theorem bitc_all : ∀ s : Fin 512, bitc (s.val : Int) = (bitN s.val : Int) := by decide +kernel
theorem bitc_N {s : Int} (h0 : 0 ≤ s) (h1 : s < 512) : bitc s = (bitN s.toNat : Int) := by
  have := bitc_all ⟨s.toNat, by omega⟩
  simp only at this
  rwa [show ((s.toNat : Nat) : Int) = s by omega] at this
theorem bitc_in {s : Int} : 0 ≤ bitc s ∧ bitc s ≤ 9 := by
  unfold bitc
  have := foI_inv (f := fun k a => a + (if bsB s k then 1 else 0)) (a := 0) (n := 9) (fun i x => 0 ≤ x ∧ x ≤ i) (by omega) (fun i x q1 q2 q3 => by (try simp only); split <;> omega) (by omega)
  exact this
theorem wBp_0 {w : Int → Int} {n : Int} (hd : Gd w) : (wBp w n = bs0 ∧ ∀ j, 0 ≤ j → j < 512 → bpP w n j = false) ∨ (0 ≤ (wBp w n).1 ∧ (wBp w n).1 < 512 ∧ bpP w n (wBp w n).1 = true) := bst_0 (bpP_gd hd) (by omega)
theorem wBp_some {w : Int → Int} {n : Int} (hd : Gd w) (h0 : 0 ≤ n) (h1 : n ≤ wN w - bitc (w 5)) : 0 ≤ (wBp w n).1 ∧ (wBp w n).1 < bsP (wN w) := by
  have hn := hd.n
  have hp := hd.p5
  have hb := bitc_in (s := w 5)
  rcases wBp_0 (n := n) hd with ⟨-, q⟩ | ⟨a, b, c⟩
  · exfalso
    have h := low_all ⟨(wN w).toNat, by omega⟩ ⟨(w 5).toNat, by omega⟩ ⟨n.toNat, by omega⟩
    have hN := hd.pads.2
    rw [bitc_N hp.1 hp.2] at h1
    have e1 : ¬ 2 ^ (wN w).toNat ≤ (w 5).toNat := by
      have : w 5 < ((2 ^ (wN w).toNat : Nat) : Int) := hN
      omega
    have e2 : ¬ (wN w).toNat < bitN (w 5).toNat + n.toNat := by omega
    simp only [lowOk, e1, e2, decide_false, Bool.false_or, Bool.and_eq_true, decide_eq_true_eq] at h
    generalize lowF (w 5).toNat (wN w).toNat n.toNat 0 = s at h
    have hs : s < 512 := by
      have : 2 ^ (wN w).toNat ≤ 2 ^ 9 := Nat.pow_le_pow_right (by decide) (by omega)
      omega
    have := q s (by omega) (by omega)
    unfold bpP at this
    have c1 : (s : Int) < bsP (wN w) := by
      unfold bsP
      omega
    have c2 : bitc s = n := by
      rw [bitc_N (by omega) (by omega), Int.toNat_natCast, h.1.2]
      omega
    have c3 : bsA s (w 5) = 0 := by
      unfold bsA
      rw [Int.toNat_natCast, h.2]
      rfl
    simp [c1, c2, c3] at this
  · unfold bpP at c
    simp only [Bool.and_eq_true, decide_eq_true_eq] at c
    exact ⟨a, c.1.1⟩
theorem sum_N : ∀ N : Fin 10, foI (fun k s => s + (if k < (N.val : Int) then 1 else 0)) 0 9 = (N.val : Int) := by decide +kernel
theorem bpP_le {w : Int → Int} {n s : Int} (hd : Gd w) (h0 : 0 ≤ s) (h : bpP w n s = true) : n ≤ wN w - bitc (w 5) := by
  unfold bpP at h
  simp only [Bool.and_eq_true, decide_eq_true_eq] at h
  obtain ⟨⟨h1, h2⟩, h3⟩ := h
  have hn := hd.n
  have e := sum_N ⟨(wN w).toNat, by omega⟩
  simp only [show (((wN w).toNat : Nat) : Int) = wN w by omega] at e
  have e2 := sum_add (f := fun k => if bsB s k = true then 1 else 0) (g := fun k => if bsB (w 5) k = true then 1 else 0) (n := 9) (by omega)
  have e3 := (sum_le (f := fun k => (if bsB s k = true then 1 else 0) + (if bsB (w 5) k = true then 1 else 0)) (g := fun k => if k < wN w then 1 else 0) (n := 9) (fun i a b => ?_) (by omega)).1
  · unfold bitc at h2 ⊢
    try simp only at e2 e3 e
    omega
  · try simp only
    by_cases hi : i < wN w
    · have hb : (bsB s i && bsB (w 5) i) = false := by rw [← bsB_A, h3, bsB_0]
      rw [if_pos hi]
      cases h5 : bsB s i <;> cases h6 : bsB (w 5) i <;> simp_all
    · have b1 : bsB s i = false := bsB_big (n := (wN w).toNat) h1 (by omega)
      have b2 : bsB (w 5) i = false := bsB_big (n := (wN w).toNat) hd.pads.2 (by omega)
      rw [b1, b2, if_neg hi]
      simp
/-! straps wider -/
def wNw (w : Int → Int) : Bst := bst (fun k => !decide (w (28 + k) = 4)) (fun k => aset w (28 + k) (w (28 + k) + 1)) (-1, wDl w, wMx w, wWh w) (wS w)
theorem Gd.wide {w : Int → Int} (hd : Gd w) {k : Int} (h0 : 0 ≤ k) (h1 : k < wS w) (h : w (28 + k) ≠ 4) : Gd (aset w (28 + k) (w (28 + k) + 1)) := by
  have := hd.s
  have h3 := hd.wd k h0 (by omega)
  unfold wWd at h3
  exact hd.wid h0 h1 (by omega)
theorem wNw_in {w : Int → Int} (hd : Gd w) : (wNw w).1 = -1 ∨ (0 ≤ (wNw w).1 ∧ (wNw w).1 < wS w ∧ w (28 + (wNw w).1) ≠ 4) := by
  rcases bst_at (P := fun k => !decide (w (28 + k) = 4)) (G := fun k => aset w (28 + k) (w (28 + k) + 1)) (s := (-1, wDl w, wMx w, wWh w)) (n := wS w) hd.s.1 with h | ⟨a, b, c⟩
  · exact Or.inl h
  · refine Or.inr ⟨a, b, ?_⟩
    unfold wNw
    simpa using c
def wdK (w : Int → Int) : Int := if wHo w = true then -1 else (wNw w).1
def wdA (w : Int → Int) : Nat → Int → Int
  | 0 => w
  | t + 1 => if wdK (wdA w t) = -1 then wdA w t else aset (wdA w t) (28 + wdK (wdA w t)) (wdA w t (28 + wdK (wdA w t)) + 1)
theorem wdA_gd {w : Int → Int} (hd : Gd w) (t : Nat) : Gd (wdA w t) ∧ AgO w (wdA w t) ∧ wS (wdA w t) = wS w := by
  induction t with
  | zero => exact ⟨hd, AgO.rf, rfl⟩
  | succ t ih =>
    rw [wdA]
    split
    · exact ih
    · rename_i h
      have h2 := wNw_in ih.1
      have h3 : wdK (wdA w t) = (wNw (wdA w t)).1 := by
        unfold wdK at h ⊢
        split
        · rename_i q; rw [if_pos q] at h; exact absurd rfl h
        · rfl
      rw [h3] at h ⊢
      have hs := ih.1.s
      rcases h2 with h2 | ⟨a, b, c⟩
      · exact absurd h2 h
      · exact ⟨ih.1.wide a b c, ih.2.1.set (by omega), by rw [wS_aset (by omega)]; exact ih.2.2⟩
def WdC (w : Int → Int) (c : Int) : Prop := (0 ≤ c ∧ c ≤ 20) ∧ (∀ t, 0 ≤ t → t < c → wdK (wdA w t.toNat) ≠ -1) ∧ (c = 20 ∨ wdK (wdA w c.toNat) = -1)
def wdC (w : Int → Int) : Int := if ffi (fun t => decide (wdK (wdA w t.toNat) = -1)) 20 = -1 then 20 else ffi (fun t => decide (wdK (wdA w t.toNat) = -1)) 20
theorem WdC.eq {w : Int → Int} {c : Int} (h : WdC w c) : wdC w = c := by
  obtain ⟨h0, h1, h2⟩ := h
  unfold wdC
  by_cases e : c = 20
  · rw [if_pos (ffi_none (p := fun t => decide (wdK (wdA w t.toNat) = -1)) 20 (fun j a b => by simpa using h1 j (by omega) (by omega))), e]
  · rw [ffi_some (p := fun t => decide (wdK (wdA w t.toNat) = -1)) 20 c h0.1 (by omega) (by simpa using h2.resolve_left e) (fun j a b => by simpa using h1 j a b), if_neg (by omega)]
def spWidens (w : Int → Int) : Int := if 0 < w 4 then wdC w else -2
def spWiden (w : Int → Int) (i : Int) : Int := if 0 < w 4 ∧ 0 ≤ i then (if i < wdC w then wdK (wdA w i.toNat) else -1) else -2
def spWide (w : Int → Int) : Int := if 0 < w 4 then (if wHo (wdA w (wdC w).toNat) = true then 1 else 0) else -2
/-! a few steps -/
def cdL (F : Int → Option (List Int)) : Nat → Int → Option (List Int)
  | 0, _ => none
  | m + 1, k => match F k with
    | some l => some l
    | none => cdL F m (k + 1)
def cd : Nat → (Int → Int) → Int → Option (List Int)
  | 0, w, _ => if wHo w = true then some [] else none
  | n + 1, w, f => cdL (fun k => if w (28 + k) = 4 then none else (cd n (aset w (28 + k) (w (28 + k) + 1)) k).map (k :: ·)) (wS w - f).toNat f
def cdF (n : Nat) (w : Int → Int) (k : Int) : Option (List Int) := if w (28 + k) = 4 then none else (cd n (aset w (28 + k) (w (28 + k) + 1)) k).map (k :: ·)
theorem cd_s (n : Nat) (w : Int → Int) (f : Int) : cd (n + 1) w f = cdL (cdF n w) (wS w - f).toNat f := rfl
theorem cdL_end {F : Int → Option (List Int)} {S k : Int} (h : S ≤ k) : cdL F (S - k).toNat k = none := by
  rw [show (S - k).toNat = 0 by omega]
  rfl
theorem cdL_step {F : Int → Option (List Int)} {S k : Int} (h : k < S) : cdL F (S - k).toNat k = match F k with
    | some l => some l
    | none => cdL F (S - (k + 1)).toNat (k + 1) := by
  rw [show (S - k).toNat = (S - (k + 1)).toNat + 1 by omega]
  rfl
def wFw (w : Int → Int) : Int := ffi (fun n => (cd n.toNat w 0).isSome) 4
def spFewest (w : Int → Int) : Int := if 0 < w 4 then wFw w else -2
def spFew (w : Int → Int) (i : Int) : Int := if 0 < w 4 ∧ 0 ≤ i then (if i < wFw w then ((cd (wFw w).toNat w 0).getD []).getD i.toNat 0 else -1) else -2
theorem cdL_len {F : Int → Option (List Int)} {n : Nat} (h : ∀ k l, F k = some l → l.length = n) : ∀ (m : Nat) (k : Int) (l : List Int), cdL F m k = some l → l.length = n
  | 0, k, l, e => by simp [cdL] at e
  | m + 1, k, l, e => by
    rw [cdL] at e
    cases hF : F k with
    | some l' =>
      rw [hF] at e
      cases e
      exact h k _ hF
    | none =>
      rw [hF] at e
      exact cdL_len h m (k + 1) l e
theorem cd_len : ∀ (n : Nat) (w : Int → Int) (f : Int) (l : List Int), cd n w f = some l → l.length = n
  | 0, w, f, l, e => by
    rw [cd] at e
    split at e
    · cases e; rfl
    · simp at e
  | n + 1, w, f, l, e => by
    rw [cd_s] at e
    refine cdL_len (fun k l' hl => ?_) _ _ _ e
    unfold cdF at hl
    split at hl
    · simp at hl
    · rw [Option.map_eq_some_iff] at hl
      obtain ⟨l2, h2, rfl⟩ := hl
      simp [cd_len n _ _ _ h2]
theorem aset_ud {w : Int → Int} {i : Int} : aset (aset w i (w i + 1)) i (aset w i (w i + 1) i - 1) = w := by
  rw [aset_at, aset_two, show w i + 1 - 1 = w i by omega, aset_same]
theorem aset_du {w : Int → Int} {i : Int} : aset (aset w i (w i - 1)) i (aset w i (w i - 1) i + 1) = w := by
  rw [aset_at, aset_two, show w i - 1 + 1 = w i by omega, aset_same]
theorem ffi_in {p : Int → Bool} : ∀ n : Nat, -1 ≤ ffi p n ∧ ffi p n < n
  | 0 => by simp [ffi]
  | n + 1 => by
    have := ffi_in (p := p) n
    rw [ffi]
    split
    · omega
    · split <;> omega
theorem bpP_no {w : Int → Int} {n s : Int} (h : bsP (wN w) ≤ s ∨ bitc s ≠ n ∨ bsA s (w 5) ≠ 0) : bpP w n s = false := by
  unfold bpP
  rcases h with h | h | h
  · rw [decide_eq_false (by omega)]
    rfl
  · rw [decide_eq_false h]
    simp
  · rw [decide_eq_false h]
    simp
