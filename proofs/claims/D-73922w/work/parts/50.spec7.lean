/-! the most that loads can do: who draws ahead of whom, what each draws -/
def ahB (w : Int → Int) (nd a b : Int) : Bool := decide (wMv w nd b < wMv w nd a ∨ (wMv w nd a = wMv w nd b ∧ a < b))
theorem ahB_iff {w : Int → Int} {nd a b : Int} : ahB w nd a b = true ↔ wMv w nd b < wMv w nd a ∨ (wMv w nd a = wMv w nd b ∧ a < b) := by simp [ahB]
theorem ahB_tr {w : Int → Int} {nd a b c : Int} (h1 : ahB w nd a b = true) (h2 : ahB w nd b c = true) : ahB w nd a c = true := by
  rw [ahB_iff] at *
  omega
theorem ahB_as {w : Int → Int} {nd a b : Int} (h1 : ahB w nd a b = true) (h2 : ahB w nd b a = true) : False := by
  rw [ahB_iff] at *
  omega
theorem ahB_to {w : Int → Int} {nd a b : Int} (h : a ≠ b) (h1 : ¬ ahB w nd a b = true) : ahB w nd b a = true := by
  rw [ahB_iff] at *
  omega
/-- o orders the live ones below n; c of them -/
def OrdF (w : Int → Int) (nd : Int) (o : Int → Int) (n c : Int) : Prop := (0 ≤ c ∧ c ≤ n) ∧ (∀ i j, 0 ≤ i → i < j → j < c → ahB w nd (o i) (o j) = true) ∧ (∀ i, 0 ≤ i → i < c → 0 ≤ o i ∧ o i < n ∧ bsB (wR w) (o i) = true) ∧ ∀ x, 0 ≤ x → x < n → bsB (wR w) x = true → ∃ i, 0 ≤ i ∧ i < c ∧ o i = x
theorem OrdF.dead {w : Int → Int} {nd n c : Int} {o : Int → Int} (h : OrdF w nd o n c) (hd : bsB (wR w) n = false) : OrdF w nd o (n + 1) c := by
  obtain ⟨h0, h1, h2, h3⟩ := h
  refine ⟨by omega, h1, fun i a b => ?_, fun x a b e => ?_⟩
  · have := h2 i a b
    exact ⟨this.1, by omega, this.2.2⟩
  · by_cases ex : x = n
    · rw [ex, hd] at e; simp at e
    · exact h3 x a (by omega) e
theorem OrdF.ins {w : Int → Int} {nd n c p : Int} {o o' : Int → Int} (h : OrdF w nd o n c) (hl : bsB (wR w) n = true) (hp : 0 ≤ p ∧ p ≤ c) (e1 : ∀ i, 0 ≤ i → i < p → o' i = o i) (e2 : o' p = n) (e3 : ∀ i, p ≤ i → i < c → o' (i + 1) = o i) (e4 : ∀ i, p ≤ i → i < c → ahB w nd n (o i) = true) (e5 : p = 0 ∨ ¬ ahB w nd n (o (p - 1)) = true) : OrdF w nd o' (n + 1) (c + 1) := by
  obtain ⟨h0, h1, h2, h3⟩ := h
  have e6 : ∀ i, 0 ≤ i → i < p → ahB w nd (o i) n = true := by
    intro i a b
    rcases e5 with e | e
    · omega
    · have hq := h2 (p - 1) (by omega) (by omega)
      have h5 : ahB w nd (o (p - 1)) n = true := ahB_to (by omega) e
      by_cases ei : i = p - 1
      · rw [ei]; exact h5
      · exact ahB_tr (h1 i (p - 1) a (by omega) (by omega)) h5
  have e3' : ∀ j, p < j → j < c + 1 → o' j = o (j - 1) := by
    intro j a b
    have := e3 (j - 1) (by omega) (by omega)
    rwa [show j - 1 + 1 = j by omega] at this
  refine ⟨by omega, fun i j a b d => ?_, fun i a b => ?_, fun x a b e => ?_⟩
  · rcases Int.lt_trichotomy j p with q | q | q
    · rw [e1 i a (by omega), e1 j (by omega) q]; exact h1 i j a b (by omega)
    · rw [e1 i a (by omega), q, e2]; exact e6 i a (by omega)
    · rw [e3' j q d]
      rcases Int.lt_trichotomy i p with r | r | r
      · rw [e1 i a r]; exact h1 i (j - 1) a (by omega) (by omega)
      · rw [r, e2]; exact e4 (j - 1) (by omega) (by omega)
      · rw [e3' i r (by omega)]; exact h1 (i - 1) (j - 1) (by omega) (by omega) (by omega)
  · rcases Int.lt_trichotomy i p with q | q | q
    · rw [e1 i a q]; have := h2 i a (by omega); exact ⟨this.1, by omega, this.2.2⟩
    · rw [q, e2]; exact ⟨by omega, by omega, hl⟩
    · rw [e3' i q b]; have := h2 (i - 1) (by omega) (by omega); exact ⟨this.1, by omega, this.2.2⟩
  · by_cases ex : x = n
    · exact ⟨p, hp.1, by omega, by rw [e2, ex]⟩
    · obtain ⟨i, i0, i1, i2⟩ := h3 x a (by omega) e
      by_cases q : i < p
      · exact ⟨i, i0, by omega, by rw [e1 i i0 q]; exact i2⟩
      · exact ⟨i + 1, by omega, by omega, by rw [e3 i (by omega) i1]; exact i2⟩
theorem OrdF.eq_at {w : Int → Int} {nd n c c' : Int} {o o' : Int → Int} (h : OrdF w nd o n c) (h' : OrdF w nd o' n c') : ∀ (m : Nat) (i : Int), i.toNat = m → 0 ≤ i → i < c → i < c' → o i = o' i := by
  intro m
  induction m using Nat.strongRecOn with
  | _ m ih =>
  intro i hm i0 i1 i2
  have hb : ∀ j, 0 ≤ j → j < i → o j = o' j := fun j a b => ih j.toNat (by omega) j rfl a (by omega) (by omega)
  have irr : ∀ a, ahB w nd a a = true → False := fun a q => ahB_as q q
  have q1 := h.2.2.1 i i0 i1
  have q2 := h'.2.2.1 i i0 i2
  obtain ⟨k, k0, k1, k2⟩ := h'.2.2.2 (o i) q1.1 q1.2.1 q1.2.2
  obtain ⟨l, l0, l1, l2⟩ := h.2.2.2 (o' i) q2.1 q2.2.1 q2.2.2
  rcases Int.lt_trichotomy k i with r | r | r
  · have := h.2.1 k i k0 r i1
    rw [hb k k0 r, k2] at this
    exact (irr _ this).elim
  · rw [← k2, r]
  · have a1 := h'.2.1 i k i0 r k1
    rw [k2] at a1
    rcases Int.lt_trichotomy l i with s | s | s
    · have := h'.2.1 l i l0 s i2
      rw [← hb l l0 s, l2] at this
      exact (irr _ this).elim
    · rw [s] at l2
      exact l2
    · have a2 := h.2.1 i l i0 s l1
      rw [l2] at a2
      exact (ahB_as a1 a2).elim
theorem OrdF.uniq {w : Int → Int} {nd n c c' : Int} {o o' : Int → Int} (h : OrdF w nd o n c) (h' : OrdF w nd o' n c') : c = c' ∧ ∀ i, 0 ≤ i → i < c → o i = o' i := by
  have key : ∀ {c c' : Int} {o o' : Int → Int}, OrdF w nd o n c → OrdF w nd o' n c' → ¬ c < c' := by
    intro c c' o o' h h' hl
    have q2 := h'.2.2.1 c h.1.1 hl
    obtain ⟨l, l0, l1, l2⟩ := h.2.2.2 (o' c) q2.1 q2.2.1 q2.2.2
    have e := h.eq_at h' l.toNat l rfl l0 l1 (by omega)
    have := h'.2.1 l c l0 l1 hl
    rw [← e, l2] at this
    exact ahB_as this this
  have h1 := key h h'
  have h2 := key h' h
  have e : c = c' := by omega
  exact ⟨e, fun i a b => h.eq_at h' i.toNat i rfl a b (by omega)⟩
noncomputable def ordO (w : Int → Int) (nd : Int) : (Int → Int) × Int := Classical.epsilon (fun p : (Int → Int) × Int => OrdF w nd p.1 (wN w) p.2)
theorem ordO_eq {w : Int → Int} {nd c : Int} {o : Int → Int} (h : OrdF w nd o (wN w) c) : (ordO w nd).2 = c ∧ ∀ i, 0 ≤ i → i < c → (ordO w nd).1 i = o i := by
  have hs : OrdF w nd (ordO w nd).1 (wN w) (ordO w nd).2 := Classical.epsilon_spec (p := fun p : (Int → Int) × Int => OrdF w nd p.1 (wN w) p.2) ⟨(o, c), h⟩
  have := hs.uniq h
  exact ⟨this.1, fun i a b => this.2 i a (by omega)⟩
/-- one draws -/
def drN (w L : Int → Int) (v : Int) : Int := if w (6 + v) ≤ (if L 0 ≤ L (w (15 + v)) then L 0 else L (w (15 + v))) then w (6 + v) else (if L 0 ≤ L (w (15 + v)) then L 0 else L (w (15 + v)))
def drL (w L : Int → Int) (v : Int) : Int → Int := if 0 < w (15 + v) then aset (aset L 0 (L 0 - drN w L v)) (w (15 + v)) (aset L 0 (L 0 - drN w L v) (w (15 + v)) - drN w L v) else aset L 0 (L 0 - drN w L v)
def drT (w : Int → Int) (v : Int) (s : (Int → Int) × (Int → Int)) : (Int → Int) × (Int → Int) := (drL w s.1 v, aset s.2 v (drN w s.1 v))
def drF (w o : Int → Int) (n : Int) : (Int → Int) × (Int → Int) := foI (fun k s => drT w (o k) s) (fun g => w (24 + g), fun _ => 0) n
noncomputable def wDw (w : Int → Int) (nd : Int) : (Int → Int) × (Int → Int) := drF w (ordO w nd).1 (ordO w nd).2
theorem wDw_eq {w : Int → Int} {nd c : Int} {o : Int → Int} (h : OrdF w nd o (wN w) c) : wDw w nd = drF w o c := by
  obtain ⟨e, q⟩ := ordO_eq h
  unfold wDw drF
  rw [e]
  exact foI_cong (fun i x a b => by rw [q i a b])
def DrOk (w : Int → Int) (s : (Int → Int) × (Int → Int)) : Prop := (∀ g, 0 ≤ g → g < 4 → 0 ≤ s.1 g ∧ s.1 g ≤ 999) ∧ ∀ v, 0 ≤ v → v < wN w → 0 ≤ s.2 v ∧ s.2 v ≤ 99
theorem drN_in {w L : Int → Int} (hd : Gd w) {v : Int} (h0 : 0 ≤ v) (h1 : v < wN w) (hL : ∀ g, 0 ≤ g → g < 4 → 0 ≤ L g ∧ L g ≤ 999) : 0 ≤ drN w L v ∧ drN w L v ≤ 99 ∧ drN w L v ≤ L 0 ∧ drN w L v ≤ L (w (15 + v)) := by
  have hn := hd.n
  have h2 := hd.ld v h0 (by omega)
  have h3 := hd.gr v h0 (by omega)
  have h4 := hL 0 (by omega) (by omega)
  have h5 := hL (w (15 + v)) (by omega) (by omega)
  unfold drN
  split <;> split <;> omega
theorem drT_ok {w : Int → Int} (hd : Gd w) {v : Int} {s : (Int → Int) × (Int → Int)} (h0 : 0 ≤ v) (h1 : v < wN w) (hs : DrOk w s) : DrOk w (drT w v s) := by
  have hn := hd.n
  have h3 := hd.gr v h0 (by omega)
  have h4 := drN_in hd h0 h1 hs.1
  have h5 := hs.1 0 (by omega) (by omega)
  have h6 := hs.1 (w (15 + v)) (by omega) (by omega)
  refine ⟨fun g a b => ?_, fun u a b => ?_⟩
  · have h7 := hs.1 g a b
    unfold drT drL
    (try simp only)
    split
    · by_cases e : g = w (15 + v)
      · rw [e, aset_at, aset_ne (by omega)]
        omega
      · rw [aset_ne e]
        by_cases e0 : g = 0
        · rw [e0, aset_at]; omega
        · rw [aset_ne e0]; exact h7
    · by_cases e0 : g = 0
      · rw [e0, aset_at]; omega
      · rw [aset_ne e0]; exact h7
  · unfold drT
    (try simp only)
    by_cases e : u = v
    · rw [e, aset_at]; omega
    · rw [aset_ne e]; exact hs.2 u a b
theorem drF_ok {w o : Int → Int} (hd : Gd w) {n : Int} (hn : 0 ≤ n) (ho : ∀ i, 0 ≤ i → i < n → 0 ≤ o i ∧ o i < wN w) : DrOk w (drF w o n) := by
  unfold drF
  refine foI_inv (fun _ s => DrOk w s) ⟨fun g a b => hd.bu g a b, fun v _ _ => by simp⟩ (fun i s a b q => drT_ok hd (ho i a b).1 (ho i a b).2 q) hn
/-- alike where it counts -/
def DrEq (w : Int → Int) (s t : (Int → Int) × (Int → Int)) : Prop := (∀ g, 0 ≤ g → g < 4 → s.1 g = t.1 g) ∧ ∀ v, 0 ≤ v → v < wN w → s.2 v = t.2 v
theorem drN_eq {w L L' : Int → Int} (hd : Gd w) {v : Int} (h0 : 0 ≤ v) (h1 : v < wN w) (h : ∀ g, 0 ≤ g → g < 4 → L g = L' g) : drN w L v = drN w L' v := by
  have hn := hd.n
  have h3 := hd.gr v h0 (by omega)
  unfold drN
  rw [h 0 (by omega) (by omega), h (w (15 + v)) (by omega) (by omega)]
theorem drT_eq {w : Int → Int} (hd : Gd w) {v : Int} {s t : (Int → Int) × (Int → Int)} (h0 : 0 ≤ v) (h1 : v < wN w) (h : DrEq w s t) : DrEq w (drT w v s) (drT w v t) := by
  have hn := hd.n
  have h3 := hd.gr v h0 (by omega)
  have e := drN_eq hd h0 h1 h.1
  refine ⟨fun g a b => ?_, fun u a b => ?_⟩
  · unfold drT drL
    (try simp only)
    rw [e]
    have q0 := h.1 0 (by omega) (by omega)
    have qg := h.1 (w (15 + v)) (by omega) (by omega)
    have q := h.1 g a b
    split
    · by_cases e1 : g = w (15 + v)
      · rw [e1, aset_at, aset_at, aset_ne (by omega), aset_ne (by omega), qg]
      · rw [aset_ne e1, aset_ne e1]
        by_cases e0 : g = 0
        · rw [e0, aset_at, aset_at, q0]
        · rw [aset_ne e0, aset_ne e0, q]
    · by_cases e0 : g = 0
      · rw [e0, aset_at, aset_at, q0]
      · rw [aset_ne e0, aset_ne e0, q]
  · unfold drT
    (try simp only)
    rw [e]
    by_cases e1 : u = v
    · rw [e1, aset_at, aset_at]
    · rw [aset_ne e1, aset_ne e1]; exact h.2 u a b
noncomputable def wMo (w : Int → Int) (nd : Int) : Int := foI (fun v s => s + wMv w nd v * (wDw w nd).2 v) 0 (wN w)
noncomputable def spMost (w : Int → Int) (v p : Int) : Int := if (isNb w v && isPb p) = true then (if bsB (wR w) v = true then partF (wMo w v) (wWh w) p else -1) else -2
noncomputable def spDrawn (w : Int → Int) (v u : Int) : Int := if (isNb w v && isNb w u) = true then (if bsB (wR w) v = true then (wDw w v).2 u else -1) else -2
noncomputable def wTi (w : Int → Int) (v : Int) (n : Int) : Int := foI (fun g s => if (wDw w v).1 g = 0 then bsO s (bsP g) else s) 0 n
noncomputable def spTight (w : Int → Int) (v : Int) : Int := if isNb w v = true then (if bsB (wR w) v = true then wTi w v 4 else -1) else -2
noncomputable def wFo (w : Int → Int) (n : Int) : Int × Int := foI (fun v (s : Int × Int) => if bsB (wR w) v = true ∧ s.2 < wMo w v then (v, wMo w v) else s) (-1, -1) n
noncomputable def spFoe (w : Int → Int) : Int := if 0 < w 4 then (wFo w (wN w)).1 else -2
noncomputable def wUn (w : Int → Int) (n : Int) : Int := foI (fun v s => if bsB (wR w) v = true ∧ w 2 * wWh w < wMo w v then bsO s (bsP v) else s) 0 n
noncomputable def spUnsa (w : Int → Int) : Int := if 0 < w 4 then wUn w (wN w) else -2
/-- that there is such an order -/
def ExO (w : Int → Int) (nd : Int) : Prop := ∃ o c, OrdF w nd o (wN w) c
theorem ExO.ok {w : Int → Int} {nd : Int} (hd : Gd w) (h : ExO w nd) : DrOk w (wDw w nd) := by
  obtain ⟨o, c, h⟩ := h
  rw [wDw_eq h]
  exact drF_ok hd h.1.1 (fun i a b => ⟨(h.2.2.1 i a b).1, (h.2.2.1 i a b).2.1⟩)
theorem wMo_in {w : Int → Int} {nd : Int} (hd : Gd w) (h : ExO w nd) (h0 : 0 ≤ nd) (h1 : nd < wN w) : 0 ≤ wMo w nd ∧ wMo w nd ≤ 7653631721472 := by
  have hn := hd.n
  have hk := h.ok hd
  have key : 0 ≤ wMo w nd ∧ wMo w nd ≤ 850403524608 * wN w := by
    unfold wMo
    refine foI_inv (fun i s => 0 ≤ s ∧ s ≤ 850403524608 * i) (by omega) (fun i s q1 q2 q3 => ?_) (by omega)
    have e1 := hk.2 i q1 q2
    have e2 := hd.mov h0 h1 q1 q2
    have e3 : 0 ≤ wMv w nd i * (wDw w nd).2 i := Int.mul_nonneg e2.1 e1.1
    have e4 : wMv w nd i * (wDw w nd).2 i ≤ 8589934592 * 99 := Int.mul_le_mul e2.2 e1.2 e1.1 (by omega)
    omega
  omega
/-- the live ones can be put in order, one by one -/
theorem exO {w : Int → Int} {nd : Int} (hn : 0 ≤ wN w) : ExO w nd := by
  have key : ∀ m : Nat, ∃ o c, OrdF w nd o (m : Int) c := by
    intro m
    induction m with
    | zero => exact ⟨fun _ => 0, 0, by omega, fun i j _ _ _ => by omega, fun i _ _ => by omega, fun x _ _ => by omega⟩
    | succ m ih =>
      obtain ⟨o, c, h⟩ := ih
      cases hl : bsB (wR w) (m : Int)
      · exact ⟨o, c, h.dead hl⟩
      · have hc := h.1
        have : ∀ q : Nat, (q : Int) ≤ c → ∃ p : Int, 0 ≤ p ∧ p ≤ q ∧ (∀ i, p ≤ i → i < q → ahB w nd m (o i) = true) ∧ (p = 0 ∨ ¬ ahB w nd m (o (p - 1)) = true) := by
          intro q
          induction q with
          | zero => intro _; exact ⟨0, by omega, by omega, fun i _ _ => by omega, Or.inl rfl⟩
          | succ q ihq =>
            intro hq
            by_cases ha : ahB w nd m (o q) = true
            · obtain ⟨p, a1, a2, a3, a4⟩ := ihq (by omega)
              refine ⟨p, a1, by omega, fun i b1 b2 => ?_, a4⟩
              by_cases e : i = q
              · rw [e]; exact ha
              · exact a3 i b1 (by omega)
            · exact ⟨(q : Int) + 1, by omega, by omega, fun i _ _ => by omega, Or.inr (by rw [show (q : Int) + 1 - 1 = q by omega]; exact ha)⟩
        obtain ⟨p, a1, a2, a3, a4⟩ := this c.toNat (by omega)
        rw [show ((c.toNat : Nat) : Int) = c by omega] at a2 a3
        refine ⟨fun i => if i < p then o i else if i = p then m else o (i - 1), c + 1, ?_⟩
        have := h.ins (o' := fun i => if i < p then o i else if i = p then (m : Int) else o (i - 1)) hl ⟨a1, a2⟩ (fun i _ b => by simp [b]) (by simp) (fun i b _ => by (try simp only); rw [if_neg (by omega), if_neg (by omega), show i + 1 - 1 = i by omega]) a3 a4
        exact_mod_cast this
  have := key (wN w).toNat
  rw [show (((wN w).toNat : Nat) : Int) = wN w by omega] at this
  exact this
