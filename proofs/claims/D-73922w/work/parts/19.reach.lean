/-! what some nodes come to by straps that are there: passes over the straps till nothing is new -/
def itN {α : Type} (f : α → α) : Nat → α → α
  | 0, s => s
  | n + 1, s => f (itN f n s)
theorem itN_s {α : Type} (f : α → α) : ∀ (n : Nat) (s : α), itN f n (f s) = f (itN f n s)
  | 0, _ => rfl
  | n + 1, s => by rw [itN, itN, itN_s f n s]
/-- a climb below N stands still within N steps -/
theorem itN_fix {f : Int → Int} {N : Int} (h : ∀ s, 0 ≤ s → s < N → s ≤ f s ∧ f s < N) {s : Int} (h0 : 0 ≤ s) (h1 : s < N) : f (itN f N.toNat s) = itN f N.toNat s := by
  have rng : ∀ n : Nat, 0 ≤ itN f n s ∧ itN f n s < N := by
    intro n
    induction n with
    | zero => exact ⟨h0, h1⟩
    | succ n ih =>
      have := h _ ih.1 ih.2
      rw [itN]
      omega
  have climb : ∀ n : Nat, f (itN f n s) = itN f n s ∨ (n : Int) + 1 ≤ itN f (n + 1) s := by
    intro n
    induction n with
    | zero =>
      have := h _ h0 h1
      by_cases e : f s = s
      · exact Or.inl e
      · right
        show _ ≤ f s
        omega
    | succ n ih =>
      rcases ih with e | e
      · left
        show f (f (itN f n s)) = f (itN f n s)
        rw [e, e]
      · have := h _ (rng (n + 1)).1 (rng (n + 1)).2
        by_cases e2 : f (itN f (n + 1) s) = itN f (n + 1) s
        · exact Or.inl e2
        · right
          show _ ≤ f (itN f (n + 1) s)
          omega
  rcases climb N.toNat with e | e
  · exact e
  · have := (rng (N.toNat + 1)).2
    omega
/-- one strap: both ends, if just one of them is in -/
def rst (c r : Int) (wd : Int → Int) (k s : Int) : Int := if wd k = 0 ∨ bsB s (sF c r k) = bsB s (sT c r k) then s else bsO s (bsO (bsP (sF c r k)) (bsP (sT c r k)))
def rps (c r : Int) (wd : Int → Int) (s : Int) : Int := foI (rst c r wd) s (sN c r)
def rch (c r : Int) (wd : Int → Int) (s : Int) : Int := itN (rps c r wd) 512 s
theorem bsO_le (a b : Int) (ha : 0 ≤ a) : a ≤ bsO a b := by
  unfold bsO
  have : a.toNat ≤ a.toNat ||| b.toNat := Nat.left_le_or
  omega
theorem bsP_9 {k : Int} (h0 : 0 ≤ k) (h : k < 9) : bsP k < 512 := by
  have := bsP_lt (k := k) (n := 9) (by omega)
  simpa using this
theorem bsO_512 {a b : Int} (ha : a < 512) (hb : b < 512) : bsO a b < 512 := by
  have := bsO_lt (a := a) (b := b) (n := 9) (by simpa using ha) (by simpa using hb)
  simpa using this
theorem rst_in {c r : Int} {wd : Int → Int} {k s : Int} (hg : GW c r) (hk : 0 ≤ k) (hk2 : k < sN c r) (h0 : 0 ≤ s) (h : s < 512) : s ≤ rst c r wd k s ∧ rst c r wd k s < 512 := by
  have h1 := sl_in hg hk hk2
  have h2 := hg.2.2
  unfold rst
  split
  · omega
  · exact ⟨bsO_le _ _ h0, bsO_512 h (bsO_512 (bsP_9 (by omega) (by omega)) (bsP_9 (by omega) (by omega)))⟩
theorem rps_upto {c r : Int} {wd : Int → Int} {s : Int} (hg : GW c r) (h0 : 0 ≤ s) (h : s < 512) {k : Int} (hk : 0 ≤ k) (hk2 : k ≤ sN c r) : s ≤ foI (rst c r wd) s k ∧ foI (rst c r wd) s k < 512 :=
  foI_inv (fun _ x => s ≤ x ∧ x < 512) ⟨by omega, h⟩ (fun i x h1 h2 h3 => by have := rst_in (wd := wd) hg h1 (show i < sN c r by omega) (show 0 ≤ x by omega) h3.2; omega) hk
theorem rps_in {c r : Int} {wd : Int → Int} {s : Int} (hg : GW c r) (h0 : 0 ≤ s) (h : s < 512) : s ≤ rps c r wd s ∧ rps c r wd s < 512 := rps_upto hg h0 h sN_0 (Int.le_refl _)
theorem rch_fix {c r : Int} {wd : Int → Int} {s : Int} (hg : GW c r) (h0 : 0 ≤ s) (h : s < 512) : rps c r wd (rch c r wd s) = rch c r wd s :=
  itN_fix (N := 512) (fun _ q1 q2 => rps_in hg q1 q2) h0 h
theorem rch_step {c r : Int} {wd : Int → Int} {s : Int} (hg : GW c r) (h0 : 0 ≤ s) (h : s < 512) : rch c r wd (rps c r wd s) = rch c r wd s := by
  rw [rch, itN_s]
  exact rch_fix hg h0 h
theorem rch_done {c r : Int} {wd : Int → Int} {s : Int} (h : rps c r wd s = s) : rch c r wd s = s := by
  unfold rch
  have : ∀ n : Nat, itN (rps c r wd) n s = s := by
    intro n
    induction n with
    | zero => rfl
    | succ n ih => rw [itN, ih, h]
  exact this 512
theorem rch_in {c r : Int} {wd : Int → Int} {s : Int} (hg : GW c r) (h0 : 0 ≤ s) (h : s < 512) : s ≤ rch c r wd s ∧ rch c r wd s < 512 := by
  unfold rch
  have : ∀ n : Nat, s ≤ itN (rps c r wd) n s ∧ itN (rps c r wd) n s < 512 := by
    intro n
    induction n with
    | zero => exact ⟨Int.le_refl _, h⟩
    | succ n ih =>
      have := rps_in (wd := wd) hg (show 0 ≤ itN (rps c r wd) n s by omega) ih.2
      rw [itN]
      omega
  exact this 512
/-- a strap of which just one end is in makes the set greater -/
theorem rst_gt {c r : Int} {wd : Int → Int} {k s : Int} (hg : GW c r) (hk : 0 ≤ k) (hk2 : k < sN c r) (h0 : 0 ≤ s) (h1 : wd k ≠ 0) (h2 : bsB s (sF c r k) ≠ bsB s (sT c r k)) : s < bsO s (bsO (bsP (sF c r k)) (bsP (sT c r k))) := by
  have q := sl_in hg hk hk2
  have h3 := bsO_le s (bsO (bsP (sF c r k)) (bsP (sT c r k))) h0
  rcases Int.lt_or_eq_of_le h3 with h4 | h4
  · exact h4
  · exfalso
    have e1 : bsB s (sF c r k) = true := by rw [h4, bsB_O, bsB_O, bsB_P q.1 q.1]; simp
    have e2 : bsB s (sT c r k) = true := by rw [h4, bsB_O, bsB_O, bsB_P (show 0 ≤ sT c r k by omega) (show 0 ≤ sT c r k by omega)]; simp
    rw [e1, e2] at h2
    exact h2 rfl
