/-! the table of whole numbers, brought to a diagonal: what both reckon -/
/-- a node whose drop is not known: it comes to one that is fed, and isn't fed itself -/
def ukB (R F v : Int) : Bool := bsB R v && !bsB F v
def uC (R F v : Int) : Int := foI (fun u a => if ukB R F u then a + 1 else a) 0 v
def ix (R F v : Int) : Int := if ukB R F v then uC R F v else -1
theorem uC_s {R F v : Int} (h : 0 ≤ v) : uC R F (v + 1) = if ukB R F v then uC R F v + 1 else uC R F v := by
  unfold uC
  rw [foI_s _ _ h]
theorem uC_0 {R F : Int} : uC R F 0 = 0 := rfl
theorem uC_mono {R F : Int} {a b : Int} (h0 : 0 ≤ a) (h : a ≤ b) : uC R F a ≤ uC R F b ∧ uC R F b ≤ uC R F a + (b - a) := by
  obtain ⟨k, rfl⟩ : ∃ k : Nat, b = a + k := ⟨(b - a).toNat, by omega⟩
  clear h
  induction k with
  | zero => simp
  | succ k ih =>
    have e := uC_s (R := R) (F := F) (v := a + k) (by omega)
    rw [show a + ((k + 1 : Nat) : Int) = a + k + 1 by omega, e]
    split <;> omega
theorem uC_nn {R F v : Int} (h : 0 ≤ v) : 0 ≤ uC R F v ∧ uC R F v ≤ v := by
  have := uC_mono (R := R) (F := F) (Int.le_refl 0) h
  rw [uC_0] at this
  omega
theorem ix_in {R F v n : Int} (h0 : 0 ≤ v) (h : v < n) : ix R F v = -1 ∨ (0 ≤ ix R F v ∧ ix R F v < uC R F n) := by
  unfold ix
  split
  · right
    have h1 := uC_nn (R := R) (F := F) h0
    have h2 := uC_mono (R := R) (F := F) (show 0 ≤ v + 1 by omega) (show v + 1 ≤ n by omega)
    rw [uC_s h0] at h2
    rename_i hu
    rw [if_pos hu] at h2
    omega
  · left; rfl
theorem ix_inj {R F u v : Int} (h0 : 0 ≤ u) (h1 : 0 ≤ v) (h : ix R F u = ix R F v) (hn : ix R F u ≠ -1) : u = v := by
  have key : ∀ a b : Int, 0 ≤ a → a < b → ix R F a ≠ -1 → ix R F b ≠ -1 → ix R F a < ix R F b := by
    intro a b ha hab h2 h3
    unfold ix at *
    split at h2
    · split at h3
      · rename_i ea eb
        rw [if_pos ea, if_pos eb]
        have h4 := uC_mono (R := R) (F := F) (show 0 ≤ a + 1 by omega) (show a + 1 ≤ b by omega)
        rw [uC_s ha, if_pos ea] at h4
        omega
      · omega
    · omega
  rcases Int.lt_trichotomy u v with h2 | h2 | h2
  · have := key u v h0 h2 hn (by rw [← h]; exact hn)
    omega
  · exact h2
  · have := key v u h1 h2 (by rw [← h]; exact hn) hn
    omega
/-- what strap k adds at place i, j -/
def ctr (c r : Int) (wd iv : Int → Int) (k i j : Int) : Int := (if i = j ∧ (iv (sF c r k) = i ∨ iv (sT c r k) = i) then wd k else 0) - (if (iv (sF c r k) = i ∧ iv (sT c r k) = j) ∨ (iv (sT c r k) = i ∧ iv (sF c r k) = j) then wd k else 0)
def mA (c r : Int) (wd iv : Int → Int) (S i j : Int) : Int := foI (fun k s => s + ctr c r wd iv k i j) 0 S
def bS (A : Int → Int → Int) : Nat → (Int → Int → Int) × Int
  | 0 => (fun i c => if c < 9 then A i c else if c = 9 + i then 1 else 0, 1)
  | p + 1 => (fun i c => if i = (p : Int) then (bS A p).1 i c else Int.tdiv ((bS A p).1 i c * (bS A p).1 p p - (bS A p).1 p c * (bS A p).1 i p) (bS A p).2, (bS A p).1 p p)
def bT (A : Int → Int → Int) (p : Nat) : Int → Int → Int := (bS A p).1
def bV (A : Int → Int → Int) (p : Nat) : Int := (bS A p).2
theorem bT_0 (A : Int → Int → Int) (i c : Int) : bT A 0 i c = if c < 9 then A i c else if c = 9 + i then 1 else 0 := rfl
theorem bV_0 (A : Int → Int → Int) : bV A 0 = 1 := rfl
theorem bT_s (A : Int → Int → Int) (p : Nat) (i c : Int) : bT A (p + 1) i c = if i = (p : Int) then bT A p i c else Int.tdiv (bT A p i c * bT A p p p - bT A p p c * bT A p i p) (bV A p) := rfl
theorem bV_s (A : Int → Int → Int) (p : Nat) : bV A (p + 1) = bT A p p p := rfl
/-- no number leaves its range, no pivot is 0 -/
def BrOk (A : Int → Int → Int) (m : Int) : Prop := (∀ p : Nat, (p : Int) < m → ∀ i c : Int, 0 ≤ i → i < m → 0 ≤ c → c < 18 → inL (bT A p i c * bT A p p p - bT A p p c * bT A p i p)) ∧ ∀ p : Nat, (p : Int) ≤ m → bV A p ≠ 0 ∧ inL (bV A p)
/-- an array of rows of 18 -/
def Rep (ce : Int → Int) (m : Int) (M : Int → Int → Int) : Prop := ∀ i c : Int, 0 ≤ i → i < m → 0 ≤ c → c < 18 → ce (18 * i + c) = M i c
theorem Rep.set {ce : Int → Int} {m a b v : Int} {M : Int → Int → Int} (h : Rep ce m M) (hb0 : 0 ≤ b) (hb : b < 18) : Rep (aset ce (18 * a + b) v) m (fun i c => if i = a ∧ c = b then v else M i c) := by
  intro i c h1 h2 h3 h4
  show (if 18 * i + c = 18 * a + b then v else ce (18 * i + c)) = if i = a ∧ c = b then v else M i c
  by_cases e : i = a ∧ c = b
  · rw [if_pos e, if_pos (by omega)]
  · rw [if_neg e, if_neg (by omega)]
    exact h i c h1 h2 h3 h4
theorem Rep.cong {ce : Int → Int} {m : Int} {M M' : Int → Int → Int} (h : Rep ce m M) (he : ∀ i c : Int, 0 ≤ i → i < m → 0 ≤ c → c < 18 → M i c = M' i c) : Rep ce m M' := fun i c h1 h2 h3 h4 => (h i c h1 h2 h3 h4).trans (he i c h1 h2 h3 h4)
theorem Rep.add {ce : Int → Int} {m a b w : Int} {M : Int → Int → Int} (h : Rep ce m M) (ha0 : 0 ≤ a) (ha : a < m) (hb0 : 0 ≤ b) (hb : b < 18) : Rep (aset ce (18 * a + b) (ce (18 * a + b) + w)) m (fun i c => M i c + if i = a ∧ c = b then w else 0) := by
  refine (h.set (a := a) (b := b) (v := ce (18 * a + b) + w) hb0 hb).cong (fun i c h1 h2 h3 h4 => ?_)
  by_cases e : i = a ∧ c = b
  · obtain ⟨rfl, rfl⟩ := e
    simp only [and_self, if_true, if_pos]
    rw [h i c ha0 ha hb0 hb]
  · rw [if_neg e, if_neg e]
    omega
theorem Rep.sub {ce : Int → Int} {m a b w : Int} {M : Int → Int → Int} (h : Rep ce m M) (ha0 : 0 ≤ a) (ha : a < m) (hb0 : 0 ≤ b) (hb : b < 18) : Rep (aset ce (18 * a + b) (ce (18 * a + b) - w)) m (fun i c => M i c - if i = a ∧ c = b then w else 0) := by
  refine (h.set (a := a) (b := b) (v := ce (18 * a + b) - w) hb0 hb).cong (fun i c h1 h2 h3 h4 => ?_)
  by_cases e : i = a ∧ c = b
  · obtain ⟨rfl, rfl⟩ := e
    simp only [and_self, if_true, if_pos]
    rw [h i c ha0 ha hb0 hb]
  · rw [if_neg e, if_neg e]
    omega
