/-! straps of a grid of c columns and r rows, in their order -/
def stp (c r v : Int) : List (Int × Int) := (if v % c < c - 1 then [(v, v + 1)] else []) ++ (if v / c < r - 1 then [(v, v + c)] else [])
def stl (c r : Int) : Nat → List (Int × Int)
  | 0 => []
  | n + 1 => stl c r n ++ stp c r (n : Int)
def sL (c r : Int) : List (Int × Int) := stl c r (c * r).toNat
def sN (c r : Int) : Int := ((sL c r).length : Int)
def sF (c r k : Int) : Int := ((sL c r).getD k.toNat (0, 0)).1
def sT (c r k : Int) : Int := ((sL c r).getD k.toNat (0, 0)).2
/-- a grid that can be: at most nine nodes -/
def GW (c r : Int) : Prop := 1 ≤ c ∧ 1 ≤ r ∧ c * r ≤ 9
theorem GW.c9 {c r : Int} (h : GW c r) : c ≤ 9 ∧ r ≤ 9 := by
  obtain ⟨h1, h2, h3⟩ := h
  constructor
  · have : c * 1 ≤ c * r := Int.mul_le_mul_of_nonneg_left h2 (by omega)
    omega
  · have : 1 * r ≤ c * r := Int.mul_le_mul_of_nonneg_right h1 (by omega)
    omega
theorem GW.n1 {c r : Int} (h : GW c r) : 1 ≤ c * r := by
  have : 1 * 1 ≤ c * r := Int.mul_le_mul h.1 h.2.1 (by omega) (by have := h.1; omega)
  omega
/-- a check over all grids that can be -/
theorem gw_all {P : Int → Int → Bool} (h : ∀ c : Fin 10, ∀ r : Fin 10, (if 1 ≤ c.val ∧ 1 ≤ r.val ∧ c.val * r.val ≤ 9 then P c.val r.val else true) = true) {c r : Int} (hg : GW c r) : P c r = true := by
  have h9 := hg.c9
  obtain ⟨h1, h2, h3⟩ := hg
  obtain ⟨a, rfl⟩ := Int.eq_ofNat_of_zero_le (show 0 ≤ c by omega)
  obtain ⟨b, rfl⟩ := Int.eq_ofNat_of_zero_le (show 0 ≤ r by omega)
  have := h ⟨a, by omega⟩ ⟨b, by omega⟩
  rw [if_pos ⟨show 1 ≤ a by omega, show 1 ≤ b by omega, by simp only; exact Int.ofNat_le.mp (by simpa using h3)⟩] at this
  exact this
def sl_ok (c r : Int) : Bool := decide ((sL c r).length ≤ 12) && (sL c r).all (fun q => decide (0 ≤ q.1 ∧ q.1 < q.2 ∧ q.2 < c * r)) && decide ((sL c r).Nodup)
theorem sl_chk {c r : Int} (h : GW c r) : sl_ok c r = true := gw_all (P := sl_ok) (by decide +kernel) h
theorem sN_0 {c r : Int} : 0 ≤ sN c r := by unfold sN; omega
theorem sN_12 {c r : Int} (h : GW c r) : sN c r ≤ 12 := by
  have := sl_chk h
  simp only [sl_ok, Bool.and_eq_true, decide_eq_true_eq] at this
  unfold sN
  omega
theorem sl_in {c r k : Int} (h : GW c r) (h0 : 0 ≤ k) (h1 : k < sN c r) : 0 ≤ sF c r k ∧ sF c r k < sT c r k ∧ sT c r k < c * r := by
  have hk := sl_chk h
  simp only [sl_ok, Bool.and_eq_true, decide_eq_true_eq, List.all_eq_true] at hk
  have hl : k.toNat < (sL c r).length := by unfold sN at h1; omega
  have := hk.1.2 _ (List.getElem_mem hl)
  unfold sF sT
  rw [List.getD_eq_getElem?_getD, List.getElem?_eq_getElem hl]
  exact this
/-- two straps of the same ends are one -/
theorem sl_one {c r k j : Int} (h : GW c r) (h0 : 0 ≤ k) (h1 : k < sN c r) (h2 : 0 ≤ j) (h3 : j < sN c r) (e1 : sF c r k = sF c r j) (e2 : sT c r k = sT c r j) : k = j := by
  have hk := sl_chk h
  simp only [sl_ok, Bool.and_eq_true, decide_eq_true_eq, List.all_eq_true] at hk
  have hl : k.toNat < (sL c r).length := by unfold sN at h1; omega
  have hj : j.toNat < (sL c r).length := by unfold sN at h3; omega
  unfold sF at e1
  unfold sT at e2
  rw [List.getD_eq_getElem?_getD, List.getElem?_eq_getElem hl, List.getD_eq_getElem?_getD, List.getElem?_eq_getElem hj] at e1 e2
  have e : (sL c r)[k.toNat]? = (sL c r)[j.toNat]? := by
    rw [List.getElem?_eq_getElem hl, List.getElem?_eq_getElem hj]
    congr 1
    exact Prod.ext e1 e2
  have := (List.getElem?_inj hl hk.2).mp e
  omega
/-- what an array of ends holds -/
def Ends (c r : Int) (e : Int → Int) : Prop := ∀ k : Int, 0 ≤ k → k < sN c r → e (2 * k) = sF c r k ∧ e (2 * k + 1) = sT c r k
/-- the first straps, of the nodes below v -/
theorem stl_mono {c r : Int} : ∀ (n m : Nat), n ≤ m → ∃ l, stl c r m = stl c r n ++ l := by
  intro n m h
  induction m with
  | zero => exact ⟨[], by rw [show n = 0 by omega]; simp⟩
  | succ m ih =>
    by_cases hn : n = m + 1
    · exact ⟨[], by rw [hn]; simp⟩
    · obtain ⟨l, hl⟩ := ih (by omega)
      exact ⟨l ++ stp c r m, by rw [stl, hl, List.append_assoc]⟩
/-- folds: what a loop from 0 on has made -/
def fo {α : Type} (f : Int → α → α) (a : α) : Nat → α
  | 0 => a
  | n + 1 => f (n : Int) (fo f a n)
def foI {α : Type} (f : Int → α → α) (a : α) (n : Int) : α := fo f a n.toNat
theorem foI_0 {α : Type} (f : Int → α → α) (a : α) : foI f a 0 = a := rfl
theorem foI_s {α : Type} (f : Int → α → α) (a : α) {n : Int} (h : 0 ≤ n) : foI f a (n + 1) = f n (foI f a n) := by
  unfold foI
  obtain ⟨m, rfl⟩ := Int.eq_ofNat_of_zero_le h
  rw [show ((m : Int) + 1).toNat = m + 1 by omega]
  rfl
/-- folds that step alike are alike -/
theorem foI_cong {α : Type} {f f' : Int → α → α} {a : α} {n : Int} (h : ∀ i x, 0 ≤ i → i < n → f i x = f' i x) : foI f a n = foI f' a n := by
  unfold foI
  have key : ∀ m : Nat, (m : Int) ≤ n → fo f a m = fo f' a m := by
    intro m
    induction m with
    | zero => intro _; rfl
    | succ m ih =>
      intro hm
      rw [fo, fo, ih (by omega), h m _ (by omega) (by omega)]
  by_cases hn : 0 ≤ n
  · exact key _ (by omega)
  · rw [show n.toNat = 0 by omega]
    rfl
/-- what a fold keeps -/
theorem foI_inv {α : Type} {f : Int → α → α} {a : α} {n : Int} (P : Int → α → Prop) (h0 : P 0 a) (hs : ∀ i x, 0 ≤ i → i < n → P i x → P (i + 1) (f i x)) (hn : 0 ≤ n) : P n (foI f a n) := by
  unfold foI
  have key : ∀ m : Nat, (m : Int) ≤ n → P (m : Int) (fo f a m) := by
    intro m
    induction m with
    | zero => intro _; exact h0
    | succ m ih =>
      intro hm
      have := hs m _ (by omega) (by omega) (ih (by omega))
      rw [fo]
      exact_mod_cast this
  have := key n.toNat (by omega)
  rwa [show ((n.toNat : Nat) : Int) = n by omega] at this
theorem stl_s {c r v : Int} (h : 0 ≤ v) : stl c r (v + 1).toNat = stl c r v.toNat ++ stp c r v := by
  obtain ⟨n, rfl⟩ := Int.eq_ofNat_of_zero_le h
  rw [show ((n : Int) + 1).toNat = n + 1 by omega, stl, Int.toNat_natCast]
theorem stl_len {c r : Int} (hg : GW c r) {n : Nat} (h : (n : Int) ≤ c * r) : (stl c r n).length ≤ 12 := by
  obtain ⟨l, hl⟩ := stl_mono (c := c) (r := r) n (c * r).toNat (by omega)
  have h1 := sl_chk hg
  simp only [sl_ok, Bool.and_eq_true, decide_eq_true_eq] at h1
  have h2 := h1.1.1
  unfold sL at h2
  rw [hl, List.length_append] at h2
  omega
/-- the array holds the list's pairs -/
def EL (l : List (Int × Int)) (e : Int → Int) : Prop := ∀ (k : Nat) (q : Int × Int), l[k]? = some q → e (2 * (k : Int)) = q.1 ∧ e (2 * (k : Int) + 1) = q.2
theorem EL.app {l : List (Int × Int)} {e : Int → Int} {a b s : Int} (h : EL l e) (hs : s = (l.length : Int)) : EL (l ++ [(a, b)]) (aset (aset e (2 * s) a) (2 * s + 1) b) := by
  subst hs
  intro k q hk
  by_cases hl : k < l.length
  · rw [List.getElem?_append_left hl] at hk
    have := h k q hk
    simp only [aset]
    rw [if_neg (by omega), if_neg (by omega), if_neg (by omega), if_neg (by omega)]
    exact this
  · rw [List.getElem?_append_right (by omega)] at hk
    have hz : k - l.length < 1 := (List.getElem?_eq_some_iff.mp hk).1
    rw [show k - l.length = 0 by omega] at hk
    cases hk
    simp only [aset]
    rw [if_neg (by omega), if_pos (by omega), if_pos (by omega)]
    exact ⟨rfl, rfl⟩
theorem EL.ends {c r : Int} {e : Int → Int} (h : EL (sL c r) e) : Ends c r e := by
  intro k h0 h1
  have hl : k.toNat < (sL c r).length := by unfold sN at h1; omega
  have := h k.toNat _ (List.getElem?_eq_getElem hl)
  rw [show ((k.toNat : Nat) : Int) = k by omega] at this
  unfold sF sT
  rw [List.getD_eq_getElem?_getD, List.getElem?_eq_getElem hl]
  exact this
/-- the first number below n of which p holds; -1 -/
def ffi (p : Int → Bool) : Nat → Int
  | 0 => -1
  | n + 1 => if 0 ≤ ffi p n then ffi p n else if p (n : Int) then (n : Int) else -1
theorem ffi_some {p : Int → Bool} : ∀ (n : Nat) (i : Int), 0 ≤ i → i < n → p i = true → (∀ j, 0 ≤ j → j < i → p j = false) → ffi p n = i
  | 0, i, h0, h1, _, _ => by omega
  | n + 1, i, h0, h1, hp, hb => by
    rw [ffi]
    by_cases hi : i < n
    · rw [ffi_some n i h0 hi hp hb, if_pos h0]
    · have e : i = n := by omega
      subst e
      have key : ∀ m : Nat, m ≤ n → ffi p m = -1 := by
        intro m
        induction m with
        | zero => intro _; rfl
        | succ m ih =>
          intro hm
          rw [ffi, ih (by omega), if_neg (by omega), hb m (by omega) (by omega)]
          rfl
      rw [key n (Nat.le_refl _), if_neg (by omega), hp, if_pos rfl]
theorem ffi_none {p : Int → Bool} : ∀ (n : Nat), (∀ j, 0 ≤ j → j < n → p j = false) → ffi p n = -1
  | 0, _ => rfl
  | n + 1, h => by
    rw [ffi, ffi_none n (fun j h0 h1 => h j h0 (by omega)), if_neg (by omega), h n (by omega) (by omega)]
    rfl
