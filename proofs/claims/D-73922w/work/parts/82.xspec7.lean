/-! who is next; sums in another order -/
def nxF (w : Int → Int) (nd s n : Int) : Int := foI (fun v b => if bsB s v = true ∧ (b = -1 ∨ wMv w nd b < wMv w nd v) then v else b) (-1) n
theorem nxF_ok {w : Int → Int} {nd s n : Int} (hn : 0 ≤ n) : (nxF w nd s n = -1 ∧ ∀ x, 0 ≤ x → x < n → bsB s x = false) ∨ (0 ≤ nxF w nd s n ∧ nxF w nd s n < n ∧ bsB s (nxF w nd s n) = true ∧ ∀ x, 0 ≤ x → x < n → bsB s x = true → x ≠ nxF w nd s n → ahB w nd (nxF w nd s n) x = true) := by
  unfold nxF
  refine foI_inv (fun i b => (b = -1 ∧ ∀ x, 0 ≤ x → x < i → bsB s x = false) ∨ (0 ≤ b ∧ b < i ∧ bsB s b = true ∧ ∀ x, 0 ≤ x → x < i → bsB s x = true → x ≠ b → ahB w nd b x = true)) (Or.inl ⟨rfl, fun x _ _ => by omega⟩) (fun i b q1 q2 q3 => ?_) hn
  split
  · rename_i hc
    right
    refine ⟨q1, by omega, hc.1, fun x a b' hx hne => ?_⟩
    rw [ahB_iff]
    rcases q3 with ⟨e, h⟩ | ⟨e1, e2, e3, e4⟩
    · have := h x a (by omega)
      rw [this] at hx
      simp at hx
    · have h2 : wMv w nd b < wMv w nd i := by
        rcases hc.2 with h | h
        · omega
        · exact h
      by_cases ex : x = b
      · rw [ex]; omega
      · have := ahB_iff.mp (e4 x a (by omega) hx ex)
        omega
  · rename_i hc
    rcases q3 with ⟨e, h⟩ | ⟨e1, e2, e3, e4⟩
    · left
      refine ⟨e, fun x a b' => ?_⟩
      by_cases ex : x = i
      · rw [ex]
        cases hb : bsB s i
        · rfl
        · exact absurd ⟨hb, Or.inl e⟩ hc
      · exact h x a (by omega)
    · right
      refine ⟨e1, by omega, e3, fun x a b' hx hne => ?_⟩
      by_cases ex : x = i
      · rw [ex] at hx ⊢
        rw [ahB_iff]
        have : ¬ wMv w nd b < wMv w nd i := fun q => hc ⟨hx, Or.inr q⟩
        omega
      · exact e4 x a (by omega) hx hne
/-- the set of those that are still to draw -/
def SetO (o : Int → Int) (i c s : Int) : Prop := ∀ x, 0 ≤ x → (bsB s x = true ↔ ∃ j, i ≤ j ∧ j < c ∧ o j = x)
theorem nx_eq {w : Int → Int} {nd n c s i : Int} {o : Int → Int} (ho : OrdF w nd o n c) (hs : SetO o i c s) (h0 : 0 ≤ i) (h1 : i < c) : nxF w nd s n = o i := by
  have hc := ho.1
  have hoi := ho.2.2.1 i h0 h1
  have hin : bsB s (o i) = true := (hs (o i) hoi.1).mpr ⟨i, by omega, h1, rfl⟩
  rcases nxF_ok (w := w) (nd := nd) (s := s) (n := n) (by omega) with ⟨_, h⟩ | ⟨a1, a2, a3, a4⟩
  · rw [h (o i) hoi.1 hoi.2.1] at hin
    simp at hin
  · obtain ⟨j, j0, j1, ej⟩ := (hs _ a1).mp a3
    by_cases e : o i = nxF w nd s n
    · exact e.symm
    · have h2 := a4 (o i) hoi.1 hoi.2.1 hin e
      have hij : i ≠ j := fun q => e (by rw [q]; exact ej)
      have h3 := ho.2.1 i j h0 (by omega) j1
      rw [ej] at h3
      exact (ahB_as h2 h3).elim
theorem SetO.step {o : Int → Int} {w : Int → Int} {nd n i c s : Int} (ho : OrdF w nd o n c) (h : SetO o i c s) (h0 : 0 ≤ i) (h1 : i < c) : SetO o (i + 1) c (bsD s (bsP (o i))) := by
  intro x hx
  have hoi := ho.2.2.1 i h0 h1
  rw [bsB_D, bsB_P hoi.1 hx]
  constructor
  · intro q
    simp only [Bool.and_eq_true, Bool.not_eq_true', decide_eq_false_iff_not] at q
    obtain ⟨j, j0, j1, ej⟩ := (h x hx).mp q.1
    refine ⟨j, ?_, j1, ej⟩
    by_cases e : j = i
    · rw [e] at ej; exact absurd ej.symm q.2
    · omega
  · rintro ⟨j, j0, j1, ej⟩
    have h3 := ho.2.1 i j h0 (by omega) j1
    rw [(h x hx).mpr ⟨j, by omega, j1, ej⟩]
    have : x ≠ o i := fun q => by
      rw [← ej] at q
      rw [q] at h3
      exact ahB_as h3 h3
    simp [this]
theorem sum_aset {m db : Int → Int} {u d n : Int} (hu : 0 ≤ u) (hn : 0 ≤ n) : foI (fun v s => s + m v * aset db u d v) 0 n = foI (fun v s => s + m v * db v) 0 n + (if u < n then m u * (d - db u) else 0) := by
  obtain ⟨k, rfl⟩ : ∃ k : Nat, n = k := ⟨n.toNat, by omega⟩
  clear hn
  induction k with
  | zero =>
    rw [if_neg (by omega)]
    rfl
  | succ k ih =>
    rw [show ((k + 1 : Nat) : Int) = (k : Int) + 1 by omega, foI_s _ _ (by omega), foI_s _ _ (by omega), ih]
    by_cases e : u = (k : Int)
    · rw [e, aset_at, if_neg (by omega), if_pos (by omega), Int.mul_sub]
      omega
    · rw [aset_ne (by omega)]
      by_cases e2 : u < (k : Int)
      · rw [if_pos e2, if_pos (by omega)]
        omega
      · rw [if_neg e2, if_neg (by omega)]
        omega
theorem sum_cong {m f g : Int → Int} {n : Int} (h : ∀ v, 0 ≤ v → v < n → f v = g v) : foI (fun v s => s + m v * f v) 0 n = foI (fun v s => s + m v * g v) 0 n := foI_cong (fun v s a b => by rw [h v a b])
theorem sum_zero {m f : Int → Int} {n : Int} (hn : 0 ≤ n) (h : ∀ v, 0 ≤ v → v < n → f v = 0) : foI (fun v s => s + m v * f v) 0 n = 0 := by
  refine foI_inv (fun _ s => s = 0) rfl (fun i s a b q => ?_) hn
  rw [q, h i a b]
  simp
theorem setO_0 {o : Int → Int} {i c s : Int} (h : SetO o i c s) (hc : c ≤ i) (h0 : 0 ≤ s) (h1 : s < 512) : s = 0 := by
  by_cases e : s = 0
  · exact e
  · obtain ⟨k, k0, k1, kb⟩ := bs_nz h0 (by omega) e
    obtain ⟨j, j0, j1, _⟩ := (h k k0).mp kb
    omega
theorem setO_1 {o : Int → Int} {w : Int → Int} {nd n i c s : Int} (ho : OrdF w nd o n c) (h : SetO o i c s) (h0 : 0 ≤ i) (hc : i < c) : s ≠ 0 := by
  intro e
  have hoi := ho.2.2.1 i h0 hc
  have := (h (o i) hoi.1).mpr ⟨i, by omega, hc, rfl⟩
  rw [e, bsB_0] at this
  simp at this
theorem drN_g {w L : Int → Int} {v : Int} (h : w (15 + v) = 0) : drN w L v = if w (6 + v) ≤ L 0 then w (6 + v) else L 0 := by
  unfold drN
  rw [h]
  simp
/-! parts that hang together -/
theorem rst_sub {c r : Int} {wd : Int → Int} {T s k : Int} (hg : GW c r) (hk : 0 ≤ k) (hk2 : k < sN c r) (hT : wd k ≠ 0 → bsB T (sF c r k) = bsB T (sT c r k)) (h : ∀ x, 0 ≤ x → bsB s x = true → bsB T x = true) : ∀ x, 0 ≤ x → bsB (rst c r wd k s) x = true → bsB T x = true := by
  have hin := sl_in hg hk hk2
  intro x hx hb
  unfold rst at hb
  split at hb
  · exact h x hx hb
  · rename_i hc
    rw [bsB_O, bsB_O, bsB_P (by omega) hx, bsB_P (by omega) hx] at hb
    have hT2 := hT (fun q => hc (Or.inl q))
    have hor : bsB T (sF c r k) = true := by
      cases q : bsB s (sF c r k) with
      | true => exact h _ (by omega) q
      | false =>
        cases q2 : bsB s (sT c r k) with
        | true => rw [hT2]; exact h _ (by omega) q2
        | false => exact absurd (Or.inr (by rw [q, q2])) hc
    simp only [Bool.or_eq_true, decide_eq_true_eq] at hb
    rcases hb with hb | hb | hb
    · exact h x hx hb
    · rw [hb]; exact hor
    · rw [hb, ← hT2]; exact hor
theorem rps_sub {c r : Int} {wd : Int → Int} {T s : Int} (hg : GW c r) (hT : ∀ k, 0 ≤ k → k < sN c r → wd k ≠ 0 → bsB T (sF c r k) = bsB T (sT c r k)) (h : ∀ x, 0 ≤ x → bsB s x = true → bsB T x = true) : ∀ x, 0 ≤ x → bsB (rps c r wd s) x = true → bsB T x = true :=
  foI_inv (f := rst c r wd) (a := s) (n := sN c r) (fun _ s => ∀ x, 0 ≤ x → bsB s x = true → bsB T x = true) h (fun k s a b q => rst_sub hg a b (hT k a b) q) sN_0
theorem rch_sub {c r : Int} {wd : Int → Int} {T s : Int} (hg : GW c r) (hT : ∀ k, 0 ≤ k → k < sN c r → wd k ≠ 0 → bsB T (sF c r k) = bsB T (sT c r k)) (h : ∀ x, 0 ≤ x → bsB s x = true → bsB T x = true) : ∀ x, 0 ≤ x → bsB (rch c r wd s) x = true → bsB T x = true := by
  have key : ∀ n : Nat, ∀ x, 0 ≤ x → bsB (itN (rps c r wd) n s) x = true → bsB T x = true := by
    intro n
    induction n with
    | zero => exact h
    | succ n ih => exact rps_sub hg hT ih
  exact key 512
theorem rch_has {c r : Int} {wd : Int → Int} {s : Int} (hg : GW c r) (h0 : 0 ≤ s) (h1 : s < 512) : ∀ x, 0 ≤ x → bsB s x = true → bsB (rch c r wd s) x = true := by
  have hst : ∀ k s, ∀ x, 0 ≤ x → bsB s x = true → bsB (rst c r wd k s) x = true := by
    intro k s x _ hb
    unfold rst
    split
    · exact hb
    · rw [bsB_O, hb]; rfl
  have hps : ∀ s, ∀ x, 0 ≤ x → bsB s x = true → bsB (rps c r wd s) x = true := by
    intro s x hx hb
    exact foI_inv (f := rst c r wd) (a := s) (n := sN c r) (fun _ t => bsB t x = true) hb (fun k t _ _ q => hst k t x hx q) sN_0
  have key : ∀ n : Nat, ∀ x, 0 ≤ x → bsB s x = true → bsB (itN (rps c r wd) n s) x = true := by
    intro n
    induction n with
    | zero => exact fun x _ h => h
    | succ n ih => exact fun x hx hb => hps _ x hx (ih x hx hb)
  exact key 512
/-- all that hangs together with a node -/
def cmp (w : Int → Int) (v : Int) : Int := rch (w 0) (w 1) (wWd w) (bsP v)
theorem cmp_in {w : Int → Int} (hd : Gd w) {v : Int} (h0 : 0 ≤ v) (h1 : v < wN w) : 0 < cmp w v ∧ cmp w v < 512 ∧ bsB (cmp w v) v = true := by
  have hn := hd.n
  have hP := bsP_9 h0 (show v < 9 by omega)
  have hP0 := bsP_0 (k := v)
  have := rch_in (wd := wWd w) hd.g (Int.le_of_lt hP0) hP
  refine ⟨by unfold cmp; omega, this.2, rch_has hd.g (Int.le_of_lt hP0) hP v h0 ?_⟩
  rw [bsB_P h0 h0]
  simp
theorem cmp_cl {w : Int → Int} (hd : Gd w) {v : Int} (h0 : 0 ≤ v) (h1 : v < wN w) : ∀ k, 0 ≤ k → k < sN (w 0) (w 1) → wWd w k ≠ 0 → bsB (cmp w v) (sF (w 0) (w 1) k) = bsB (cmp w v) (sT (w 0) (w 1) k) := fun k a b hw => by
  have hn := hd.n
  exact rch_cl hd.g (Int.le_of_lt bsP_0) (bsP_9 h0 (show v < 9 by omega)) a b hw
theorem cmp_tr {w : Int → Int} (hd : Gd w) {v u : Int} (h0 : 0 ≤ v) (h1 : v < wN w) (u0 : 0 ≤ u) (h : bsB (cmp w v) u = true) : ∀ x, 0 ≤ x → bsB (cmp w u) x = true → bsB (cmp w v) x = true :=
  rch_sub hd.g (cmp_cl hd h0 h1) (fun x hx hb => by
    rw [bsB_P u0 hx] at hb
    rw [of_decide_eq_true hb]
    exact h)
theorem cmp_sy {w : Int → Int} (hd : Gd w) {v u : Int} (h0 : 0 ≤ v) (h1 : v < wN w) (u0 : 0 ≤ u) (u1 : u < wN w) (h : bsB (cmp w v) u = true) : bsB (cmp w u) v = true := by
  cases q : bsB (cmp w u) v with
  | true => rfl
  | false =>
    have := rch_sub (T := bsD (cmp w v) (cmp w u)) (s := bsP v) (wd := wWd w) hd.g (fun k a b hw => by rw [bsB_D, bsB_D, cmp_cl hd h0 h1 k a b hw, cmp_cl hd u0 u1 k a b hw]) (fun x hx hb => by
      rw [bsB_P h0 hx] at hb
      rw [of_decide_eq_true hb, bsB_D, q, (cmp_in hd h0 h1).2.2]
      rfl) u u0 h
    rw [bsB_D, (cmp_in hd u0 u1).2.2] at this
    simp at this
theorem lsb_all : ∀ s : Fin 512, s.val = 0 ∨ (0 ≤ ffi (fun k => bsB (s.val : Int) k) 9 ∧ (jI (s.val : Int) ^^^ jI (-1)) &&& jI ((s.val : Int) - 1) = jI (2 ^ (ffi (fun k => bsB (s.val : Int) k) 9).toNat - 1)) := by decide +kernel
def lsb (s : Int) : Int := ffi (fun k => bsB s k) 9
theorem lsb_ok {s : Int} (h0 : 0 < s) (h1 : s < 512) : (0 ≤ lsb s ∧ lsb s < 9) ∧ (jI s ^^^ jI (-1)) &&& jI (s - 1) = jI (2 ^ (lsb s).toNat - 1) := by
  have h := lsb_all ⟨s.toNat, by omega⟩
  simp only at h
  rw [show ((s.toNat : Nat) : Int) = s by omega] at h
  have h2 := h.resolve_left (by omega)
  have h3 := ffi_in (p := fun k => bsB s k) 9
  exact ⟨⟨h2.1, by unfold lsb; omega⟩, h2.2⟩
theorem ffi_some' {p : Int → Bool} : ∀ (n : Nat) (j : Int), 0 ≤ j → j < n → p j = true → 0 ≤ ffi p n
  | 0, j, h0, h1, _ => by omega
  | n + 1, j, h0, h1, hp => by
    rw [ffi]
    split
    · assumption
    · rename_i h
      by_cases e : j < n
      · exact absurd (ffi_some' n j h0 e hp) h
      · have : j = (n : Int) := by omega
        rw [this] at hp
        rw [if_pos hp]
        omega
theorem ffi_at {p : Int → Bool} : ∀ n : Nat, 0 ≤ ffi p n → p (ffi p n) = true ∧ ∀ j, 0 ≤ j → j < ffi p n → p j = false
  | 0, h => by simp [ffi] at h
  | n + 1, h => by
    have hi := ffi_in (p := p) n
    rw [ffi] at h ⊢
    split
    · exact ffi_at n (by assumption)
    · rename_i hneg
      rw [if_neg hneg] at h
      split
      · rename_i hp
        refine ⟨hp, fun j a b => ?_⟩
        have h2 : ffi p n = -1 := by omega
        by_cases q : p j = true
        · have := ffi_some' n j a b q
          omega
        · simpa using q
      · rename_i hp
        rw [if_neg hp] at h
        omega
theorem lsb_cmp {w : Int → Int} (hd : Gd w) {v : Int} (h0 : 0 ≤ v) (h1 : v < wN w) : lsb (cmp w v) = v ↔ ∀ u, 0 ≤ u → u < v → bsB (cmp w v) u = false := by
  have hn := hd.n
  have hc := cmp_in hd h0 h1
  constructor
  · intro e u a b
    have := (ffi_at (p := fun k => bsB (cmp w v) k) 9 (by have := e; unfold lsb at this; omega)).2 u a (by have := e; unfold lsb at this; omega)
    exact this
  · intro h
    exact ffi_some 9 v h0 (by omega) hc.2.2 h
/-- how many hang together: each counted at its least node -/
theorem parts_eq {w : Int → Int} (hd : Gd w) : foI (fun v s => s + if lsb (cmp w v) = v then 1 else 0) 0 (wN w) = (wPa w).1 := by
  have hn := hd.n
  have key : ∀ n : Nat, (n : Int) ≤ wN w → ∃ S, foI (fun v (s : Int × Int) => if bsB s.2 v = true then s else (s.1 + 1, bsO s.2 (rch (w 0) (w 1) (wWd w) (bsP v)))) (0, 0) (n : Int) = (foI (fun v s => s + if lsb (cmp w v) = v then 1 else 0) 0 (n : Int), S) ∧ ∀ x, 0 ≤ x → (bsB S x = true ↔ ∃ u, 0 ≤ u ∧ u < (n : Int) ∧ bsB (cmp w u) x = true) := by
    intro n
    induction n with
    | zero =>
      intro _
      refine ⟨0, rfl, fun x _ => ?_⟩
      rw [bsB_0]
      constructor
      · intro h; simp at h
      · rintro ⟨u, a, b, _⟩; omega
    | succ n ih =>
      intro hle
      obtain ⟨S, e, hS⟩ := ih (by omega)
      have h0 : (0 : Int) ≤ n := by omega
      have h1 : (n : Int) < wN w := by omega
      rw [show ((n + 1 : Nat) : Int) = (n : Int) + 1 by omega, foI_s _ _ h0, foI_s _ _ h0, e]
      have hl := lsb_cmp hd h0 h1
      have hc := cmp_in hd h0 h1
      cases hb : bsB S (n : Int) with
      | true =>
        obtain ⟨u, u0, u1, ub⟩ := (hS _ h0).mp hb
        have hsy := cmp_sy hd u0 (by omega) h0 h1 ub
        have hne : ¬ lsb (cmp w n) = n := fun q => by
          rw [hl.mp q u u0 u1] at hsy
          simp at hsy
        refine ⟨S, ?_, fun x hx => ?_⟩
        · simp only [hb, if_true]
          rw [if_neg hne, Int.add_zero]
        · rw [hS x hx]
          constructor
          · rintro ⟨y, y0, y1, yb⟩; exact ⟨y, y0, by omega, yb⟩
          · rintro ⟨y, y0, y1, yb⟩
            by_cases ey : y = (n : Int)
            · rw [ey] at yb
              exact ⟨u, u0, u1, cmp_tr hd u0 (by omega) h0 ub x hx yb⟩
            · exact ⟨y, y0, by omega, yb⟩
      | false =>
        have hle2 : lsb (cmp w n) = n := hl.mpr (fun u u0 u1 => by
          cases q : bsB (cmp w n) u with
          | false => rfl
          | true =>
            have := (hS n h0).mpr ⟨u, u0, u1, cmp_sy hd h0 h1 u0 (by omega) q⟩
            rw [hb] at this
            simp at this)
        refine ⟨bsO S (cmp w n), ?_, fun x hx => ?_⟩
        · simp only [hb]
          rw [if_pos hle2]
          rfl
        · rw [bsB_O, Bool.or_eq_true, hS x hx]
          constructor
          · rintro (⟨y, y0, y1, yb⟩ | q)
            · exact ⟨y, y0, by omega, yb⟩
            · exact ⟨n, h0, by omega, q⟩
          · rintro ⟨y, y0, y1, yb⟩
            by_cases ey : y = (n : Int)
            · rw [ey] at yb; exact Or.inr yb
            · exact Or.inl ⟨y, y0, by omega, yb⟩
  obtain ⟨S, e, _⟩ := key (wN w).toNat (by omega)
  rw [show (((wN w).toNat : Nat) : Int) = wN w by omega] at e
  unfold wPa
  rw [e]
