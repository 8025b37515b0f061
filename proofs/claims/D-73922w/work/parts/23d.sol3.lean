/-! the matrix of a grid is as asked -/
theorem ix_sur {R F : Int} : ∀ (n : Nat) (j : Int), 0 ≤ j → j < uC R F n → ∃ v, 0 ≤ v ∧ v < (n : Int) ∧ ix R F v = j
  | 0, j, h0, h1 => by rw [show ((0 : Nat) : Int) = 0 from rfl, uC_0] at h1; omega
  | n + 1, j, h0, h1 => by
    rw [show ((n + 1 : Nat) : Int) = (n : Int) + 1 by omega, uC_s (by omega)] at h1
    split at h1
    · rename_i hu
      by_cases e : j = uC R F n
      · exact ⟨n, by omega, by omega, by unfold ix; rw [if_pos hu, e]⟩
      · obtain ⟨v, a, b, c⟩ := ix_sur (R := R) (F := F) n j h0 (by omega)
        exact ⟨v, a, by omega, c⟩
    · obtain ⟨v, a, b, c⟩ := ix_sur (R := R) (F := F) n j h0 h1
      exact ⟨v, a, by omega, c⟩
theorem ctr_sum {c r i k m : Int} {wd iv X : Int → Int} (hi0 : 0 ≤ i) (him : i < m) (hab : iv (sF c r k) ≠ iv (sT c r k) ∨ iv (sF c r k) = -1) : sm (fun j => ctr c r wd iv k i j * X j) m = (if iv (sF c r k) = i ∨ iv (sT c r k) = i then wd k else 0) * X i - (if 0 ≤ iv (sT c r k) ∧ iv (sT c r k) < m then (if iv (sF c r k) = i then wd k else 0) * X (iv (sT c r k)) else 0) - (if 0 ≤ iv (sF c r k) ∧ iv (sF c r k) < m then (if iv (sT c r k) = i then wd k else 0) * X (iv (sF c r k)) else 0) := by
  generalize ha : iv (sF c r k) = a at *
  generalize hb : iv (sT c r k) = b at *
  have hm : 0 ≤ m := by omega
  have p1 := sm_pick (f := fun j => (if a = i ∨ b = i then wd k else 0) * X j) (n := m) (i := i) hm
  have p2 := sm_pick (f := fun j => (if a = i then wd k else 0) * X j) (n := m) (i := b) hm
  have p3 := sm_pick (f := fun j => (if b = i then wd k else 0) * X j) (n := m) (i := a) hm
  rw [if_pos (And.intro hi0 him)] at p1
  rw [← p1, ← p2, ← p3]
  have q1 := sm_lin (f := fun j => if j = i then (if a = i ∨ b = i then wd k else 0) * X j else 0) (g := fun j => if j = b then (if a = i then wd k else 0) * X j else 0) (a := 1) (b := 1) (n := m) hm
  have q2 := sm_lin (f := fun j => 1 * (if j = i then (if a = i ∨ b = i then wd k else 0) * X j else 0) - 1 * (if j = b then (if a = i then wd k else 0) * X j else 0)) (g := fun j => if j = a then (if b = i then wd k else 0) * X j else 0) (a := 1) (b := 1) (n := m) hm
  have q3 : sm (fun j => ctr c r wd iv k i j * X j) m = sm (fun j => 1 * (1 * (if j = i then (if a = i ∨ b = i then wd k else 0) * X j else 0) - 1 * (if j = b then (if a = i then wd k else 0) * X j else 0)) - 1 * (if j = a then (if b = i then wd k else 0) * X j else 0)) m := by
    refine sm_cong (fun j h0 h1 => ?_)
    unfold ctr
    rw [ha, hb]
    by_cases e1 : a = i
    · by_cases e2 : b = i
      · omega
      · by_cases e3 : j = i
        · have : ¬ (i = b) := fun e => e2 e.symm
          simp [e1, e2, e3, this]
          try grind
        · by_cases e4 : j = b
          · have h4 : b = j := e4.symm
            have h5 : ¬ i = j := fun e => e3 e.symm
            have h6 : ¬ (j = a) := by omega
            simp [e1, e2, h4, h5, h6, e3]
            try grind
          · have h5 : ¬ i = j := fun e => e3 e.symm
            have h6 : ¬ b = j := fun e => e4 e.symm
            simp [e1, e2, e3, e4, h5, h6]
    · by_cases e2 : b = i
      · by_cases e3 : j = i
        · have h4 : ¬ i = a := fun e => e1 e.symm
          simp [e1, e2, e3, h4]
          try grind
        · by_cases e4 : j = a
          · have h5 : ¬ i = j := fun e => e3 e.symm
            have h6 : a = j := e4.symm
            have h7 : ¬ j = b := by omega
            simp [e1, e2, e3, h5, h6, h7]
            try grind
          · have h5 : ¬ i = j := fun e => e3 e.symm
            have h6 : ¬ a = j := fun e => e4 e.symm
            simp [e1, e2, e3, e4, h5, h6]
      · simp [e1, e2]
  rw [q3, q2, q1]
  omega
theorem mA_sum {c r i m : Int} {wd iv X : Int → Int} {S : Int} (hS : 0 ≤ S) (hm : 0 ≤ m) : sm (fun j => mA c r wd iv S i j * X j) m = sm (fun k => sm (fun j => ctr c r wd iv k i j * X j) m) S := by
  refine sm_ind (P := fun S => sm (fun j => mA c r wd iv S i j * X j) m = sm (fun k => sm (fun j => ctr c r wd iv k i j * X j) m) S) hS ?_ (fun k h0 _ ih => ?_)
  · rw [sm_0]
    rw [sm_cong (g := fun _ => 0) (fun j _ _ => by
      show foI _ 0 0 * X j = 0
      rw [foI_0]
      omega)]
    exact sm_zero hm
  · rw [sm_s h0, ← ih, ← sm_add hm]
    refine sm_cong (fun j _ _ => ?_)
    unfold mA
    rw [foI_s _ _ h0]
    grind
theorem ctr_sym {c r i j k : Int} {wd iv : Int → Int} : ctr c r wd iv k i j = ctr c r wd iv k j i := by
  unfold ctr
  by_cases e : i = j
  · rw [e]
  · have e' : ¬ j = i := fun h => e h.symm
    rw [if_neg (show ¬ (i = j ∧ (iv (sF c r k) = i ∨ iv (sT c r k) = i)) from fun h => e h.1), if_neg (show ¬ (j = i ∧ (iv (sF c r k) = j ∨ iv (sT c r k) = j)) from fun h => e' h.1)]
    congr 1
    by_cases q : (iv (sF c r k) = i ∧ iv (sT c r k) = j) ∨ (iv (sT c r k) = i ∧ iv (sF c r k) = j)
    · rw [if_pos q, if_pos (by omega)]
    · rw [if_neg q, if_neg (by omega)]
theorem mA_sym {c r i j S : Int} {wd iv : Int → Int} : mA c r wd iv S i j = mA c r wd iv S j i := foI_cong (fun k s _ _ => by rw [ctr_sym])
def degOk (c r : Int) : Bool := (List.range 9).all (fun v => decide (foI (fun k (s : Int) => s + (if sF c r k = (v : Int) ∨ sT c r k = (v : Int) then 4 else 0)) 0 (sN c r) ≤ 16))
theorem deg_chk {c r : Int} (h : GW c r) : degOk c r = true := gw_all (P := degOk) (by decide +kernel) h
theorem deg_16 {c r v : Int} (h : GW c r) (h0 : 0 ≤ v) (h1 : v < 9) : sm (fun k => if sF c r k = v ∨ sT c r k = v then 4 else 0) (sN c r) ≤ 16 := by
  have := deg_chk h
  simp only [degOk, List.all_eq_true, decide_eq_true_eq] at this
  have := this v.toNat (List.mem_range.mpr (by omega))
  rw [show ((v.toNat : Nat) : Int) = v by omega] at this
  unfold sm
  exact this
/-- a strap that is there has both its ends within what is reached, or none -/
theorem rch_cl {c r : Int} {wd : Int → Int} {s k : Int} (hg : GW c r) (h0 : 0 ≤ s) (h : s < 512) (hk : 0 ≤ k) (hk2 : k < sN c r) (hw : wd k ≠ 0) : bsB (rch c r wd s) (sF c r k) = bsB (rch c r wd s) (sT c r k) := by
  have hf := rch_fix (wd := wd) hg h0 h
  have hin := rch_in (wd := wd) hg h0 h
  generalize rch c r wd s = R at *
  have hR0 : 0 ≤ R := by omega
  have mono : ∀ (d : Nat) (a : Int), 0 ≤ a → a + d ≤ sN c r → foI (rst c r wd) R a ≤ foI (rst c r wd) R (a + d) := by
    intro d
    induction d with
    | zero => intro a _ _; simp
    | succ d ih =>
      intro a a0 a1
      have e1 := ih a a0 (by omega)
      have e2 := rps_upto (wd := wd) hg hR0 hin.2 (show 0 ≤ a + d by omega) (by omega)
      have e3 := rst_in (wd := wd) hg (show 0 ≤ a + d by omega) (show a + d < sN c r by omega) (show 0 ≤ foI (rst c r wd) R (a + d) by omega) e2.2
      rw [show a + ((d + 1 : Nat) : Int) = a + d + 1 by omega, foI_s _ _ (by omega)]
      omega
  have e1 := rps_upto (wd := wd) hg hR0 hin.2 hk (Int.le_of_lt hk2)
  have e2 := mono (sN c r - (k + 1)).toNat (k + 1) (by omega) (by omega)
  rw [show k + 1 + (((sN c r - (k + 1)).toNat : Nat) : Int) = sN c r by omega, foI_s _ _ hk] at e2
  have e3 : foI (rst c r wd) R (sN c r) = R := hf
  have e4 := rst_in (wd := wd) hg hk hk2 (show 0 ≤ foI (rst c r wd) R k by omega) e1.2
  have e5 : foI (rst c r wd) R k = R := by omega
  rw [e5] at e2 e4
  apply Classical.byContradiction
  intro hne
  have := rst_gt hg hk hk2 hR0 hw hne
  have e6 : rst c r wd k R = bsO R (bsO (bsP (sF c r k)) (bsP (sT c r k))) := by
    unfold rst
    rw [if_neg (by intro q; rcases q with q | q; exact hw q; exact hne q)]
  rw [e3, e6] at e2
  omega
/-- every one that is reached has one ahead of it, down to those that it began with -/
def RkOk (c r : Int) (wd : Int → Int) (F s : Int) : Prop := (∀ v, 0 ≤ v → bsB F v = true → bsB s v = true) ∧ ∃ rk : Int → Nat, (∀ v, 0 ≤ v → bsB F v = true → rk v = 0) ∧ ∀ v, 0 ≤ v → bsB s v = true → bsB F v = false → ∃ k u, 0 ≤ k ∧ k < sN c r ∧ wd k ≠ 0 ∧ ((sF c r k = v ∧ sT c r k = u) ∨ (sT c r k = v ∧ sF c r k = u)) ∧ 0 ≤ u ∧ bsB s u = true ∧ rk u < rk v
theorem rk_rst {c r : Int} {wd : Int → Int} {F s k : Int} (hg : GW c r) (hk : 0 ≤ k) (hk2 : k < sN c r) (h : RkOk c r wd F s) : RkOk c r wd F (rst c r wd k s) := by
  have q := sl_in hg hk hk2
  unfold rst
  split
  · exact h
  · rename_i hc
    have hw : wd k ≠ 0 := fun e => hc (Or.inl e)
    have hne : bsB s (sF c r k) ≠ bsB s (sT c r k) := fun e => hc (Or.inr e)
    obtain ⟨h1, rk, h2, h3⟩ := h
    have hb : ∀ x, 0 ≤ x → bsB (bsO s (bsO (bsP (sF c r k)) (bsP (sT c r k)))) x = (bsB s x || (decide (x = sF c r k) || decide (x = sT c r k))) := fun x hx => by
      rw [bsB_O, bsB_O, bsB_P q.1 hx, bsB_P (show 0 ≤ sT c r k by omega) hx]
    refine ⟨fun v h0 hF => by rw [hb v h0, h1 v h0 hF]; rfl, ?_⟩
    -- which end is new
    have key : ∀ u v, ((sF c r k = v ∧ sT c r k = u) ∨ (sT c r k = v ∧ sF c r k = u)) → bsB s u = true → bsB s v = false → ∃ rk : Int → Nat, (∀ v, 0 ≤ v → bsB F v = true → rk v = 0) ∧ ∀ v, 0 ≤ v → bsB (bsO s (bsO (bsP (sF c r k)) (bsP (sT c r k)))) v = true → bsB F v = false → ∃ k' u, 0 ≤ k' ∧ k' < sN c r ∧ wd k' ≠ 0 ∧ ((sF c r k' = v ∧ sT c r k' = u) ∨ (sT c r k' = v ∧ sF c r k' = u)) ∧ 0 ≤ u ∧ bsB (bsO s (bsO (bsP (sF c r k)) (bsP (sT c r k)))) u = true ∧ rk u < rk v := by
      intro u v huv hu hv
      have hnn : u ≠ v := by intro e; rw [e, hv] at hu; simp at hu
      refine ⟨fun x => if x = v then rk u + 1 else rk x, fun x hx hF => ?_, fun x hx hxs hxF => ?_⟩
      · have : x ≠ v := by intro e; have := h1 x hx hF; rw [e, hv] at this; simp at this
        simp only [if_neg this]
        exact h2 x hx hF
      · by_cases e : x = v
        · refine ⟨k, u, hk, hk2, hw, by rw [e]; exact huv, by omega, ?_, ?_⟩
          · rw [hb u (by omega), hu]; rfl
          · simp only [if_pos e, if_neg hnn]
            omega
        · have hxs2 : bsB s x = true := by
            rw [hb x hx] at hxs
            cases hsx : bsB s x
            · rw [hsx] at hxs
              simp only [Bool.false_or, Bool.or_eq_true, decide_eq_true_eq] at hxs
              have hxu : x = u := by omega
              rw [hxu, hu] at hsx
              simp at hsx
            · rfl
          obtain ⟨k', u', a1, a2, a3, a4, a5, a6, a7⟩ := h3 x hx hxs2 hxF
          have hu' : u' ≠ v := by intro e2; rw [e2, hv] at a6; simp at a6
          refine ⟨k', u', a1, a2, a3, a4, a5, by rw [hb u' a5, a6]; rfl, ?_⟩
          simp only [if_neg e, if_neg hu']
          exact a7
    cases hF : bsB s (sF c r k)
    · cases hT : bsB s (sT c r k)
      · rw [hF, hT] at hne; exact absurd rfl hne
      · exact key (sT c r k) (sF c r k) (Or.inl ⟨rfl, rfl⟩) hT hF
    · cases hT : bsB s (sT c r k)
      · exact key (sF c r k) (sT c r k) (Or.inr ⟨rfl, rfl⟩) hF hT
      · rw [hF, hT] at hne; exact absurd rfl hne
theorem rk_rch {c r : Int} {wd : Int → Int} {F : Int} (hg : GW c r) : RkOk c r wd F (rch c r wd F) := by
  unfold rch
  have : ∀ n : Nat, RkOk c r wd F (itN (rps c r wd) n F) := by
    intro n
    induction n with
    | zero => exact ⟨fun _ _ h => h, fun _ => 0, fun _ _ _ => rfl, fun v _ h1 h2 => by rw [show itN (rps c r wd) 0 F = F from rfl, h2] at h1; simp at h1⟩
    | succ n ih => exact foI_inv (fun _ s => RkOk c r wd F s) ih (fun i s a b q => rk_rst hg a b q) sN_0
  exact this 512
theorem rch_0 {c r : Int} {wd : Int → Int} : rch c r wd 0 = 0 := by
  refine rch_done ?_
  unfold rps
  exact foI_inv (fun _ s => s = 0) rfl (fun i s _ _ e => by
    rw [e]
    unfold rst
    rw [bsB_0, bsB_0, if_pos (Or.inr rfl)]) sN_0
theorem sm_const {a n : Int} (hn : 0 ≤ n) : sm (fun _ => a) n = a * n := by
  refine sm_ind (P := fun n => sm (fun _ => a) n = a * n) hn (by rw [sm_0]; omega) (fun i h0 _ ih => ?_)
  rw [sm_s h0, ih]
  grind
theorem gm_8 {c r : Int} {wd : Int → Int} {F : Int} (hg : GW c r) (hF : NSet c r F) : gm c r wd F ≤ 8 := by
  have hn1 := hg.n1
  have hn9 := hg.2.2
  unfold gm gR
  by_cases e : F = 0
  · subst e
    rw [rch_0]
    have : uC 0 0 (c * r) = 0 := by
      unfold uC
      refine foI_z (fun u a _ _ => ?_) 0
      unfold ukB
      rw [bsB_0]
      rfl
    omega
  · have hF9 := hF.s512 hg
    obtain ⟨v, v0, v1, vb⟩ := bs_nz hF.1 (by omega) e
    have hvN : v < c * r := by
      apply Classical.byContradiction
      intro hq
      have := bsB_big (s := F) (k := v) (n := (c * r).toNat) hF.2 (by omega)
      rw [this] at vb
      simp at vb
    have a1 := uC_mono (R := rch c r wd F) (F := F) (Int.le_refl 0) v0
    have a2 := uC_s (R := rch c r wd F) (F := F) v0
    have a3 := uC_mono (R := rch c r wd F) (F := F) (show 0 ≤ v + 1 by omega) (show v + 1 ≤ c * r by omega)
    have hu : ukB (rch c r wd F) F v = false := by unfold ukB; rw [vb]; simp
    rw [hu, if_neg (by simp)] at a2
    rw [uC_0] at a1
    omega
theorem p64 (a : Nat) : (0 : Int) < 64 ^ a := by
  induction a with
  | zero => decide
  | succ a ih => rw [Int.pow_succ]; omega
theorem p64_mono {a b : Nat} (h : a < b) : (64 : Int) * 64 ^ a ≤ 64 ^ b := by
  induction b with
  | zero => omega
  | succ b ih =>
    rw [Int.pow_succ]
    by_cases e : a = b
    · rw [e]; omega
    · have := ih (by omega)
      have := p64 b
      omega
theorem hyp_g {c r : Int} {wd : Int → Int} {F : Int} (hg : GW c r) (hw : WdOk wd) (hF : NSet c r F) : ∃ x, Hyp (gA c r wd F) (gm c r wd F) x := by
  have hn1 := hg.n1
  have hn9 := hg.2.2
  have hF9 := hF.s512 hg
  have hm8 := gm_8 (wd := wd) hg hF
  have hm0 := (gm_in (wd := wd) (F := F) hg).1
  have hS := sN_0 (c := c) (r := r)
  have hS12 := sN_12 hg
  obtain ⟨hsub, rk, hrk0, hrk⟩ := rk_rch (wd := wd) (F := F) hg
  have hin := rch_in (wd := wd) hg hF.1 hF9
  have hiv : ∀ v, 0 ≤ v → v < c * r → gx c r wd F v = -1 ∨ (0 ≤ gx c r wd F v ∧ gx c r wd F v < gm c r wd F) := fun v a b => gx_in a b
  have hinj : ∀ u v, 0 ≤ u → 0 ≤ v → gx c r wd F u = gx c r wd F v → gx c r wd F u ≠ -1 → u = v := fun u v a b e h => ix_inj a b e h
  have hsur : ∀ j, 0 ≤ j → j < gm c r wd F → ∃ v, 0 ≤ v ∧ v < c * r ∧ gx c r wd F v = j := fun j a b => by
    have := ix_sur (R := gR c r wd F) (F := F) (c * r).toNat j a (by rw [show (((c * r).toNat : Nat) : Int) = c * r by omega]; exact b)
    rwa [show (((c * r).toNat : Nat) : Int) = c * r by omega] at this
  have hwk : ∀ k, 0 ≤ k → k < sN c r → 0 ≤ wd k ∧ wd k ≤ 4 := fun k a b => hw k a (by omega)
  have hab : ∀ k, 0 ≤ k → k < sN c r → gx c r wd F (sF c r k) ≠ gx c r wd F (sT c r k) ∨ gx c r wd F (sF c r k) = -1 := fun k a b => by
    have q := sl_in hg a b
    by_cases e : gx c r wd F (sF c r k) = -1
    · exact Or.inr e
    · left
      intro e2
      have := hinj _ _ (by omega) (by omega) e2 e
      omega
  -- a node's number
  have hnd : ∃ nd : Int → Int, ∀ v, 0 ≤ v → v < c * r → gx c r wd F v ≠ -1 → nd (gx c r wd F v) = v := by
    refine ⟨fun j => Classical.epsilon (fun v => (0 ≤ v ∧ v < c * r) ∧ gx c r wd F v = j), fun v a b e => ?_⟩
    have := Classical.epsilon_spec (p := fun u => (0 ≤ u ∧ u < c * r) ∧ gx c r wd F u = gx c r wd F v) ⟨v, ⟨a, b⟩, rfl⟩
    exact (hinj v _ a this.1.1 this.2.symm e).symm
  obtain ⟨nd, hnd⟩ := hnd
  -- heights
  have hD : ∃ D : Nat, ∀ v, 0 ≤ v → v < c * r → rk v ≤ D := by
    have : ∀ n : Nat, ∃ D : Nat, ∀ v, 0 ≤ v → v < (n : Int) → rk v ≤ D := by
      intro n
      induction n with
      | zero => exact ⟨0, fun v _ _ => by omega⟩
      | succ n ih =>
        obtain ⟨D, hD⟩ := ih
        refine ⟨D + rk n, fun v a b => ?_⟩
        by_cases e : v = n
        · rw [e]; omega
        · have := hD v a (by omega)
          omega
    obtain ⟨D, h⟩ := this (c * r).toNat
    exact ⟨D, fun v a b => h v a (by omega)⟩
  obtain ⟨D, hD⟩ := hD
  have hunk : ∀ v, gx c r wd F v ≠ -1 → bsB (rch c r wd F) v = true ∧ bsB F v = false := fun v h => by
    unfold gx ix at h
    split at h
    · rename_i hu
      unfold ukB at hu
      simp only [Bool.and_eq_true, Bool.not_eq_true'] at hu
      exact hu
    · exact absurd rfl h
  refine ⟨fun j => 64 ^ D - 64 ^ (D - rk (nd j)), ⟨hm0, hm8⟩, fun i j a b d e hne => ?_, fun i a b => ?_, fun j a b => ?_, fun i a b => ?_, fun j a b => ?_, fun i a b => ?_, fun i cc a b d e => ?_⟩
  · -- off the diagonal
    unfold gA mA
    refine foI_inv (fun _ s => s ≤ 0) (Int.le_refl 0) (fun k s q1 q2 q3 => ?_) hS
    have := hwk k q1 q2
    unfold ctr
    rw [if_neg (fun h => hne h.1)]
    split <;> omega
  · -- rows
    have e := mA_sum (c := c) (r := r) (i := i) (m := gm c r wd F) (wd := wd) (iv := gx c r wd F) (X := fun _ => 1) hS hm0
    have e2 : sm (gA c r wd F i) (gm c r wd F) = sm (fun j => mA c r wd (gx c r wd F) (sN c r) i j * (fun _ => 1) j) (gm c r wd F) := sm_cong (fun j _ _ => by simp only [Int.mul_one]; rfl)
    rw [e2, e]
    refine sm_nn hS (fun k q1 q2 => ?_)
    rw [ctr_sum a b (hab k q1 q2)]
    have h1 := hwk k q1 q2
    have h2 := hab k q1 q2
    generalize gx c r wd F (sF c r k) = p at *
    generalize gx c r wd F (sT c r k) = q at *
    by_cases e1 : p = i
    · have e3 : ¬ q = i := by omega
      rw [if_pos (Or.inl e1), if_pos e1, if_neg e3]
      split <;> split <;> omega
    · by_cases e3 : q = i
      · rw [if_pos (Or.inr e3), if_neg e1, if_pos e3]
        split <;> split <;> omega
      · rw [if_neg (by omega), if_neg e1, if_neg e3]
        split <;> split <;> omega
  · -- columns
    have e0 : sm (fun i => gA c r wd F i j) (gm c r wd F) = sm (gA c r wd F j) (gm c r wd F) := sm_cong (fun i _ _ => mA_sym)
    rw [e0]
    have e := mA_sum (c := c) (r := r) (i := j) (m := gm c r wd F) (wd := wd) (iv := gx c r wd F) (X := fun _ => 1) hS hm0
    have e2 : sm (gA c r wd F j) (gm c r wd F) = sm (fun i => mA c r wd (gx c r wd F) (sN c r) j i * (fun _ => 1) i) (gm c r wd F) := sm_cong (fun i _ _ => by simp only [Int.mul_one]; rfl)
    rw [e2, e]
    refine sm_nn hS (fun k q1 q2 => ?_)
    rw [ctr_sum a b (hab k q1 q2)]
    have h1 := hwk k q1 q2
    have h2 := hab k q1 q2
    generalize gx c r wd F (sF c r k) = p at *
    generalize gx c r wd F (sT c r k) = q at *
    by_cases e1 : p = j
    · have e3 : ¬ q = j := by omega
      rw [if_pos (Or.inl e1), if_pos e1, if_neg e3]
      split <;> split <;> omega
    · by_cases e3 : q = j
      · rw [if_pos (Or.inr e3), if_neg e1, if_pos e3]
        split <;> split <;> omega
      · rw [if_neg (by omega), if_neg e1, if_neg e3]
        split <;> split <;> omega
  · -- the diagonal
    obtain ⟨v, v0, v1, ev⟩ := hsur i a b
    have h16 := deg_16 (v := v) hg v0 (by omega)
    have : gA c r wd F i i ≤ sm (fun k => if sF c r k = v ∨ sT c r k = v then 4 else 0) (sN c r) := by
      have e1 : gA c r wd F i i = sm (fun k => ctr c r wd (gx c r wd F) k i i) (sN c r) := rfl
      rw [e1]
      refine sm_le hS (fun k q1 q2 => ?_)
      have h1 := hwk k q1 q2
      have q := sl_in hg q1 q2
      unfold ctr
      by_cases e2 : gx c r wd F (sF c r k) = i ∨ gx c r wd F (sT c r k) = i
      · have e3 : sF c r k = v ∨ sT c r k = v := by
          rcases e2 with e2 | e2
          · exact Or.inl (hinj _ v (by omega) v0 (by rw [e2, ev]) (by rw [e2]; omega))
          · exact Or.inr (hinj _ v (by omega) v0 (by rw [e2, ev]) (by rw [e2]; omega))
        rw [if_pos ⟨rfl, e2⟩, if_pos e3]
        split <;> omega
      · rw [if_neg (fun h => e2 h.2), if_neg (by omega)]
        split <;> omega
    omega
  · -- heights are above 0
    obtain ⟨v, v0, v1, ev⟩ := hsur j a b
    have hvn : gx c r wd F v ≠ -1 := by omega
    have e1 := hnd v v0 v1 hvn
    rw [ev] at e1
    simp only [e1]
    obtain ⟨hb1, hb2⟩ := hunk v hvn
    obtain ⟨k, u, -, -, -, -, -, -, hlt⟩ := hrk v v0 hb1 hb2
    have hd := hD v v0 v1
    have := p64_mono (show D - rk v < D by omega)
    have := p64 (D - rk v)
    omega
  · -- rows by heights
    obtain ⟨v, v0, v1, ev⟩ := hsur i a b
    have hvn : gx c r wd F v ≠ -1 := by omega
    obtain ⟨hb1, hb2⟩ := hunk v hvn
    obtain ⟨k0, u0, p1, p2, p3, p4, p5, p6, p7⟩ := hrk v v0 hb1 hb2
    have hdv := hD v v0 v1
    have hE := p64 (D - rk v)
    have e := mA_sum (c := c) (r := r) (i := i) (m := gm c r wd F) (wd := wd) (iv := gx c r wd F) (X := fun j => 64 ^ D - 64 ^ (D - rk (nd j))) hS hm0
    have hXi : (64 : Int) ^ D - 64 ^ (D - rk (nd i)) = 64 ^ D - 64 ^ (D - rk v) := by
      have e1 := hnd v v0 v1 hvn
      rw [ev] at e1
      rw [e1]
    -- what an end that is reached is worth
    have hX : ∀ u, 0 ≤ u → u < c * r → bsB (rch c r wd F) u = true → (if 0 ≤ gx c r wd F u ∧ gx c r wd F u < gm c r wd F then (64 : Int) ^ D - 64 ^ (D - rk (nd (gx c r wd F u))) else 0) = 64 ^ D - 64 ^ (D - rk u) := fun u a1 a2 a3 => by
      by_cases h1 : gx c r wd F u = -1
      · rw [if_neg (by omega)]
        have : bsB F u = true := by
          cases hb : bsB F u
          · exfalso
            unfold gx ix ukB gR at h1
            rw [a3, hb, if_pos (show (true && !false) = true from rfl)] at h1
            have := uC_nn (R := rch c r wd F) (F := F) a1
            omega
          · rfl
        rw [hrk0 u a1 this, Nat.sub_zero]
        omega
      · have := hiv u a1 a2
        rw [if_pos (by omega), hnd u a1 a2 h1]
    have hterm : ∀ k, 0 ≤ k → k < sN c r → -(4 * 64 ^ (D - rk v)) ≤ sm (fun j => ctr c r wd (gx c r wd F) k i j * (64 ^ D - 64 ^ (D - rk (nd j)))) (gm c r wd F) ∧ (k = k0 → 63 * 64 ^ (D - rk v) ≤ sm (fun j => ctr c r wd (gx c r wd F) k i j * (64 ^ D - 64 ^ (D - rk (nd j)))) (gm c r wd F)) := fun k q1 q2 => by
      have hcs := ctr_sum (c := c) (r := r) (i := i) (k := k) (m := gm c r wd F) (wd := wd) (iv := gx c r wd F) (X := fun j => 64 ^ D - 64 ^ (D - rk (nd j))) a b (hab k q1 q2)
      try simp only at hcs
      rw [hcs, hXi]
      have hq := sl_in hg q1 q2
      have h1 := hwk k q1 q2
      -- the strap from v to u
      have one : ∀ u, 0 ≤ u → u < c * r → (wd k ≠ 0 → bsB (rch c r wd F) u = true) → -(4 * 64 ^ (D - rk v)) ≤ wd k * (64 ^ D - 64 ^ (D - rk v)) - (if 0 ≤ gx c r wd F u ∧ gx c r wd F u < gm c r wd F then wd k * ((64 : Int) ^ D - 64 ^ (D - rk (nd (gx c r wd F u)))) else 0) ∧ (wd k ≠ 0 → rk u < rk v → 63 * 64 ^ (D - rk v) ≤ wd k * (64 ^ D - 64 ^ (D - rk v)) - (if 0 ≤ gx c r wd F u ∧ gx c r wd F u < gm c r wd F then wd k * ((64 : Int) ^ D - 64 ^ (D - rk (nd (gx c r wd F u)))) else 0)) := fun u a1 a2 a3 => by
        by_cases hz : wd k = 0
        · refine ⟨?_, fun h => absurd hz h⟩
          rw [hz]
          split <;> omega
        · have e3 := hX u a1 a2 (a3 hz)
          have e4 : (if 0 ≤ gx c r wd F u ∧ gx c r wd F u < gm c r wd F then wd k * ((64 : Int) ^ D - 64 ^ (D - rk (nd (gx c r wd F u)))) else 0) = wd k * (64 ^ D - 64 ^ (D - rk u)) := by
            rw [← e3]
            split
            · rfl
            · omega
          rw [e4]
          have hEu := p64 (D - rk u)
          have e5 : wd k * ((64 : Int) ^ D - 64 ^ (D - rk v)) - wd k * (64 ^ D - 64 ^ (D - rk u)) = wd k * (64 ^ (D - rk u) - 64 ^ (D - rk v)) := by grind
          rw [e5]
          have hm : rk u < rk v → (64 : Int) * 64 ^ (D - rk v) ≤ 64 ^ (D - rk u) := fun hlt => p64_mono (by omega)
          generalize (64 : Int) ^ (D - rk v) = E at hE hm ⊢
          generalize (64 : Int) ^ (D - rk u) = G at hEu hm ⊢
          refine ⟨?_, fun _ hlt => ?_⟩
          · rcases (show wd k = 1 ∨ wd k = 2 ∨ wd k = 3 ∨ wd k = 4 by omega) with h | h | h | h <;> rw [h] <;> omega
          · have hm2 := hm hlt
            rcases (show wd k = 1 ∨ wd k = 2 ∨ wd k = 3 ∨ wd k = 4 by omega) with h | h | h | h <;> rw [h] <;> omega
      have hcl : wd k ≠ 0 → bsB (rch c r wd F) (sF c r k) = bsB (rch c r wd F) (sT c r k) := fun h => rch_cl hg hF.1 hF9 q1 q2 h
      by_cases ea : gx c r wd F (sF c r k) = i
      · have hv : sF c r k = v := hinj _ v (by omega) v0 (by rw [ea, ev]) (by rw [ea]; omega)
        have eb : ¬ gx c r wd F (sT c r k) = i := by
          intro eb
          have := hab k q1 q2
          omega
        have o := one (sT c r k) (by omega) (by omega) (fun h => by rw [← hcl h, hv]; exact hb1)
        rw [if_pos (Or.inl ea), if_pos ea, if_neg eb, Int.zero_mul]
        have hz : (if 0 ≤ gx c r wd F (sF c r k) ∧ gx c r wd F (sF c r k) < gm c r wd F then (0 : Int) else 0) = 0 := by split <;> rfl
        rw [hz, Int.sub_zero]
        refine ⟨o.1, fun ek => o.2 (by rw [ek]; exact p3) ?_⟩
        subst ek
        rcases p4 with ⟨-, q⟩ | ⟨q, -⟩
        · rw [q]; exact p7
        · omega
      · by_cases eb : gx c r wd F (sT c r k) = i
        · have hv : sT c r k = v := hinj _ v (by omega) v0 (by rw [eb, ev]) (by rw [eb]; omega)
          have o := one (sF c r k) (by omega) (by omega) (fun h => by rw [hcl h, hv]; exact hb1)
          rw [if_pos (Or.inr eb), if_neg ea, if_pos eb, Int.zero_mul]
          have hz : (if 0 ≤ gx c r wd F (sT c r k) ∧ gx c r wd F (sT c r k) < gm c r wd F then (0 : Int) else 0) = 0 := by split <;> rfl
          rw [hz, Int.sub_zero]
          refine ⟨o.1, fun ek => o.2 (by rw [ek]; exact p3) ?_⟩
          subst ek
          rcases p4 with ⟨q, -⟩ | ⟨-, q⟩
          · omega
          · rw [q]; exact p7
        · rw [if_neg (by intro q; rcases q with q | q; exact ea q; exact eb q), if_neg ea, if_neg eb, Int.zero_mul, Int.zero_mul, Int.zero_mul]
          have hz1 : (if 0 ≤ gx c r wd F (sT c r k) ∧ gx c r wd F (sT c r k) < gm c r wd F then (0 : Int) else 0) = 0 := by split <;> rfl
          have hz2 : (if 0 ≤ gx c r wd F (sF c r k) ∧ gx c r wd F (sF c r k) < gm c r wd F then (0 : Int) else 0) = 0 := by split <;> rfl
          rw [hz1, hz2]
          refine ⟨by omega, fun ek => ?_⟩
          exfalso
          subst ek
          rcases p4 with ⟨q, -⟩ | ⟨q, -⟩
          · exact ea (by rw [q, ev])
          · exact eb (by rw [q, ev])
    have h1 := sm_ge1 (f := fun k => sm (fun j => ctr c r wd (gx c r wd F) k i j * (64 ^ D - 64 ^ (D - rk (nd j)))) (gm c r wd F) + 4 * 64 ^ (D - rk v)) (n := sN c r) p1 p2 (fun j s t _ => by
      have := (hterm j s t).1
      try simp only
      omega)
    have h2 := (hterm k0 p1 p2).2 rfl
    have h3 := sm_add (f := fun k => sm (fun j => ctr c r wd (gx c r wd F) k i j * (64 ^ D - 64 ^ (D - rk (nd j)))) (gm c r wd F)) (g := fun _ => 4 * 64 ^ (D - rk v)) (n := sN c r) hS
    rw [sm_const hS] at h3
    have h4 : 4 * (64 : Int) ^ (D - rk v) * sN c r ≤ 4 * 64 ^ (D - rk v) * 12 := Int.mul_le_mul_of_nonneg_left hS12 (by omega)
    have e5 : sm (fun j => gA c r wd F i j * (fun j => (64 : Int) ^ D - 64 ^ (D - rk (nd j))) j) (gm c r wd F) = sm (fun j => mA c r wd (gx c r wd F) (sN c r) i j * (fun j => (64 : Int) ^ D - 64 ^ (D - rk (nd j))) j) (gm c r wd F) := rfl
    rw [e5, e]
    try simp only at h1 h2 h3 ⊢
    omega
  · -- beyond
    unfold gA mA
    refine foI_z (fun k s q1 q2 => ?_) 0
    have q := sl_in hg q1 q2
    have h1 := hiv (sF c r k) (by omega) (by omega)
    have h2 := hiv (sT c r k) (by omega) (by omega)
    have h1' : gx c r wd F (sF c r k) = ix (gR c r wd F) F (sF c r k) := rfl
    have h2' : gx c r wd F (sT c r k) = ix (gR c r wd F) F (sT c r k) := rfl
    rw [h1'] at h1
    rw [h2'] at h2
    unfold ctr
    rw [if_neg (by omega), if_neg (by omega)]
    omega
theorem sol_ok {c r : Int} {wd : Int → Int} {F : Int} (hg : GW c r) (hw : WdOk wd) (hF : NSet c r F) : BrOk (gA c r wd F) (gm c r wd F) ∧ (0 < wh c r wd F ∧ wh c r wd F ≤ 8589934592) ∧ ∀ v w : Int, 0 ≤ v → v < c * r → 0 ≤ w → w < c * r → 0 ≤ mv c r wd F v w ∧ mv c r wd F v w ≤ 8589934592 := by
  obtain ⟨x, hx⟩ := hyp_g hg hw hF
  have hm := hx.1
  have e : (((gm c r wd F).toNat : Nat) : Int) = gm c r wd F := by omega
  have hI := inv_all hx (gm c r wd F).toNat (by omega)
  have h8 := pw_mono (show (gm c r wd F).toNat ≤ 8 by omega)
  rw [pw_8] at h8
  refine ⟨brOk hx, ?_, fun v w v0 v1 w0 w1 => ?_⟩
  · have := hI.1
    unfold wh
    omega
  · unfold mv
    split
    · omega
    · rename_i hn
      have h1 := gx_in (c := c) (r := r) (wd := wd) (F := F) v0 v1
      have h2 := gx_in (c := c) (r := r) (wd := wd) (F := F) w0 w1
      have h3 : 0 ≤ gx c r wd F v ∧ gx c r wd F v < gm c r wd F := by omega
      have h4 : 0 ≤ gx c r wd F w ∧ gx c r wd F w < gm c r wd F := by omega
      have q1 := hI.2.2.2.1 (gx c r wd F v) (9 + gx c r wd F w) h3.1 h3.2 (by omega) (by omega)
      have q2 := hI.2.2.2.2.2.2.2.2.2.1 (gx c r wd F v) (9 + gx c r wd F w) h3.1 (by omega) h3.2 (by omega) (by omega)
      have q3 : (((gm c r wd F).toNat : Nat) : Int) * pw (gm c r wd F).toNat ≤ 8 * 4294967296 := Int.mul_le_mul (by omega) h8 (Int.le_of_lt (pw_pos _)) (by omega)
      omega
