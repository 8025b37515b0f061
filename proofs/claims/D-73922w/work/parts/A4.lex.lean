/-! tokens of a tape: what both readers see -/
def blB (b : Int) : Bool := decide (b = 32 ∨ b = 10)
def lcB (b : Int) : Bool := decide (97 ≤ b ∧ b ≤ 122)
def dgB (b : Int) : Bool := decide (48 ≤ b ∧ b ≤ 57)
theorem blB_iff {b : Int} : blB b = true ↔ (b = 32 ∨ b = 10) := decide_eq_true_iff
theorem lcB_iff {b : Int} : lcB b = true ↔ (97 ≤ b ∧ b ≤ 122) := decide_eq_true_iff
theorem dgB_iff {b : Int} : dgB b = true ↔ (48 ≤ b ∧ b ≤ 57) := decide_eq_true_iff
def rnF (P : Int → Bool) (T : Int → Int) : Nat → Int → Int
  | 0, a => a
  | k + 1, a => if P (T a) = true then rnF P T k (a + 1) else a
/-- from a on, as far as P goes -/
def rn (P : Int → Bool) (T : Int → Int) (n a : Int) : Int := rnF P T (n - a).toNat a
theorem rn_y {P : Int → Bool} {T : Int → Int} {n a : Int} (h : a < n) (hp : P (T a) = true) : rn P T n a = rn P T n (a + 1) := by
  unfold rn
  rw [show (n - a).toNat = (n - (a + 1)).toNat + 1 by omega, rnF, if_pos hp]
theorem rn_n {P : Int → Bool} {T : Int → Int} {n a : Int} (h : ¬ (a < n ∧ P (T a) = true)) : rn P T n a = a := by
  unfold rn
  cases e : (n - a).toNat with
  | zero => rfl
  | succ k => rw [rnF, if_neg (fun q => h ⟨by omega, q⟩)]
theorem rnF_in (P : Int → Bool) (T : Int → Int) : ∀ (k : Nat) (a : Int), a ≤ rnF P T k a ∧ rnF P T k a ≤ a + k
  | 0, a => by rw [rnF]; omega
  | k + 1, a => by
    rw [rnF]
    have := rnF_in P T k (a + 1)
    split <;> omega
theorem rn_in {P : Int → Bool} {T : Int → Int} {n a : Int} (h : a ≤ n) : a ≤ rn P T n a ∧ rn P T n a ≤ n := by
  have := rnF_in P T (n - a).toNat a
  unfold rn
  omega
def vlF (T : Int → Int) : Nat → Int → Int → Int
  | 0, _, v => v
  | k + 1, a, v => if dgB (T a) = true then vlF T k (a + 1) (if 99999 ≤ 10 * v + T a - 48 then 99999 else 10 * v + T a - 48) else v
/-- the number that stands from a on, behind v -/
def vl (T : Int → Int) (n a v : Int) : Int := vlF T (n - a).toNat a v
theorem vl_y {T : Int → Int} {n a v : Int} (h : a < n) (hp : dgB (T a) = true) : vl T n a v = vl T n (a + 1) (if 99999 ≤ 10 * v + T a - 48 then 99999 else 10 * v + T a - 48) := by
  unfold vl
  rw [show (n - a).toNat = (n - (a + 1)).toNat + 1 by omega, vlF, if_pos hp]
theorem vl_n {T : Int → Int} {n a v : Int} (h : ¬ (a < n ∧ dgB (T a) = true)) : vl T n a v = v := by
  unfold vl
  cases e : (n - a).toNat with
  | zero => rfl
  | succ k => rw [vlF, if_neg (fun q => h ⟨by omega, q⟩)]
theorem vlF_in (T : Int → Int) : ∀ (k : Nat) (a v : Int), 0 ≤ v → v ≤ 99999 → 0 ≤ vlF T k a v ∧ vlF T k a v ≤ 99999
  | 0, a, v, h0, h1 => by rw [vlF]; exact ⟨h0, h1⟩
  | k + 1, a, v, h0, h1 => by
    rw [vlF]
    split
    · rename_i hp
      have := dgB_iff.mp hp
      exact vlF_in T k (a + 1) _ (by split <;> omega) (by split <;> omega)
    · exact ⟨h0, h1⟩
theorem vl_in {T : Int → Int} {n a v : Int} (h0 : 0 ≤ v) (h1 : v ≤ 99999) : 0 ≤ vl T n a v ∧ vl T n a v ≤ 99999 := vlF_in T _ a v h0 h1
/-- a token: where it begins, its kind, where it ends, its number -/
def tB (T : Int → Int) (n a : Int) : Int := rn blB T n a
def tK (T : Int → Int) (n b : Int) : Int := if n ≤ b then 0 else if lcB (T b) = true then 1 else if dgB (T b) = true then 2 else if T b = 59 then 3 else 4
def tE (T : Int → Int) (n b : Int) : Int := if n ≤ b then b else if lcB (T b) = true then rn lcB T n b else if dgB (T b) = true then rn dgB T n b else b + 1
def tV (T : Int → Int) (n b : Int) : Int := vl T n b 0
theorem tB_in {T : Int → Int} {n a : Int} (h : a ≤ n) : a ≤ tB T n a ∧ tB T n a ≤ n := rn_in h
theorem tK_in {T : Int → Int} {n b : Int} : 0 ≤ tK T n b ∧ tK T n b ≤ 4 := by
  unfold tK
  repeat' split
  all_goals omega
theorem tE_in {T : Int → Int} {n b : Int} (h : b ≤ n) : b ≤ tE T n b ∧ tE T n b ≤ n := by
  unfold tE
  split
  · omega
  · split
    · exact rn_in h
    · split
      · exact rn_in h
      · omega
theorem tV_in {T : Int → Int} {n b : Int} : 0 ≤ tV T n b ∧ tV T n b ≤ 99999 := vl_in (Int.le_refl 0) (by omega)
/-- a word stands from f to a -/
def isWb (T : Int → Int) (a f t : Int) (w : List Int) : Bool := decide (t = 1 ∧ a - f = (w.length : Int)) && (List.range w.length).all (fun k => decide (T (f + (k : Int)) = w.getD k 0))
theorem isWb_iff {T : Int → Int} {a f t : Int} {w : List Int} : isWb T a f t w = true ↔ (t = 1 ∧ a - f = (w.length : Int)) ∧ ∀ k : Nat, k < w.length → T (f + (k : Int)) = w.getD k 0 := by
  unfold isWb
  simp only [Bool.and_eq_true, decide_eq_true_iff, List.all_eq_true, List.mem_range]
/-- a reader's state: at, begin, token, value, kind of fault, its place -/
abbrev Q6 : Type := Int × Int × Int × Int × Int × Int
def qAdv (T : Int → Int) (n : Int) (q : Q6) : Q6 := (tE T n (tB T n q.1), tB T n q.1, tK T n (tB T n q.1), (if tK T n (tB T n q.1) = 2 then tV T n (tB T n q.1) else q.2.2.2.1), q.2.2.2.2.1, q.2.2.2.2.2)
def qErr (k : Int) (q : Q6) : Q6 := if q.2.2.2.2.1 = 0 then (q.1, q.2.1, q.2.2.1, q.2.2.2.1, k, q.2.1) else q
def qIs (T : Int → Int) (w : List Int) (q : Q6) : Bool := decide (q.2.2.2.2.1 = 0) && isWb T q.1 q.2.1 q.2.2.1 w
def qExp (T : Int → Int) (n : Int) (w : List Int) (q : Q6) : Q6 := if qIs T w q = true then qAdv T n q else qErr 1 q
def qTak (T : Int → Int) (n lo hi : Int) (q : Q6) : Int × Q6 := if q.2.2.2.2.1 ≠ 0 then (0, q) else if q.2.2.1 ≠ 2 then (0, qErr 1 q) else if ¬ (lo ≤ q.2.2.2.1 ∧ q.2.2.2.1 ≤ hi) then (0, qErr 2 q) else (q.2.2.2.1, qAdv T n q)
def qTld (T : Int → Int) (n : Int) (w : List Int) (lo hi : Int) (q : Q6) : Int × Q6 := qTak T n lo hi (qExp T n w q)
def QOk (n : Int) (q : Q6) : Prop := (0 ≤ q.1 ∧ q.1 ≤ n) ∧ (0 ≤ q.2.1 ∧ q.2.1 ≤ q.1) ∧ (0 ≤ q.2.2.1 ∧ q.2.2.1 ≤ 4) ∧ (q.2.2.1 = 2 → 0 ≤ q.2.2.2.1 ∧ q.2.2.2.1 ≤ 99999) ∧ (0 ≤ q.2.2.2.2.1 ∧ q.2.2.2.2.1 ≤ 2) ∧ (-1 ≤ q.2.2.2.2.2 ∧ q.2.2.2.2.2 ≤ n) ∧ (q.2.2.1 ≠ 0 → q.2.1 < q.1)
theorem qIs_iff {T : Int → Int} {w : List Int} {q : Q6} : qIs T w q = true ↔ q.2.2.2.2.1 = 0 ∧ isWb T q.1 q.2.1 q.2.2.1 w = true := by
  unfold qIs
  simp only [Bool.and_eq_true, decide_eq_true_iff]
theorem tE_lt {T : Int → Int} {n b : Int} (h : tK T n b ≠ 0) : b < tE T n b := by
  unfold tK at h
  unfold tE
  split
  · rename_i c
    rw [if_pos c] at h
    exact absurd rfl h
  · rename_i c
    split
    · rename_i d
      rw [rn_y (by omega) d]
      have := (rn_in (P := lcB) (T := T) (n := n) (a := b + 1) (by omega)).1
      omega
    · split
      · rename_i e
        rw [rn_y (by omega) e]
        have := (rn_in (P := dgB) (T := T) (n := n) (a := b + 1) (by omega)).1
        omega
      · omega
theorem QOk.adv0 {T : Int → Int} {n : Int} {q : Q6} (h1 : 0 ≤ q.1 ∧ q.1 ≤ n) (h5 : 0 ≤ q.2.2.2.2.1 ∧ q.2.2.2.2.1 ≤ 2) (h6 : -1 ≤ q.2.2.2.2.2 ∧ q.2.2.2.2.2 ≤ n) : QOk n (qAdv T n q) := by
  have b := tB_in (T := T) h1.2
  have e := tE_in (T := T) b.2
  refine ⟨⟨by show 0 ≤ tE T n _; omega, e.2⟩, ⟨by show 0 ≤ tB T n _; omega, e.1⟩, tK_in, fun ht => ?_, h5, h6, fun h => tE_lt h⟩
  have ht' : tK T n (tB T n q.1) = 2 := ht
  show 0 ≤ (if tK T n (tB T n q.1) = 2 then tV T n (tB T n q.1) else q.2.2.2.1) ∧ (if tK T n (tB T n q.1) = 2 then tV T n (tB T n q.1) else q.2.2.2.1) ≤ 99999
  rw [if_pos ht']
  exact tV_in
theorem QOk.adv {T : Int → Int} {n : Int} {q : Q6} (h : QOk n q) : QOk n (qAdv T n q) := QOk.adv0 h.1 h.2.2.2.2.1 h.2.2.2.2.2.1
theorem QOk.err {n k : Int} {q : Q6} (h : QOk n q) (hk : 0 ≤ k ∧ k ≤ 2) : QOk n (qErr k q) := by
  unfold qErr
  split
  · obtain ⟨h1, h2, h3, h4, h5, h6, h7⟩ := h
    refine ⟨h1, h2, h3, h4, hk, ?_, h7⟩
    show -1 ≤ q.2.1 ∧ q.2.1 ≤ n
    omega
  · exact h
theorem QOk.exp {T : Int → Int} {n : Int} {w : List Int} {q : Q6} (h : QOk n q) : QOk n (qExp T n w q) := by
  unfold qExp
  split
  · exact h.adv
  · exact h.err (by omega)
theorem QOk.tak {T : Int → Int} {n lo hi : Int} {q : Q6} (h : QOk n q) : QOk n (qTak T n lo hi q).2 := by
  unfold qTak
  split
  · exact h
  · split
    · exact h.err (by omega)
    · split
      · exact h.err (by omega)
      · exact h.adv
theorem QOk.tld {T : Int → Int} {n : Int} {w : List Int} {lo hi : Int} {q : Q6} (h : QOk n q) : QOk n (qTld T n w lo hi q).2 := h.exp.tak
/-- bad stays bad -/
theorem qErr_bad {k : Int} {q : Q6} (h : q.2.2.2.2.1 ≠ 0) : qErr k q = q := if_neg h
theorem qErr_good {k : Int} {q : Q6} (h : q.2.2.2.2.1 = 0) : qErr k q = (q.1, q.2.1, q.2.2.1, q.2.2.2.1, k, q.2.1) := if_pos h
theorem qErr_nz {k : Int} {q : Q6} (h : q.2.2.2.2.1 = 0) (hk : k ≠ 0) : (qErr k q).2.2.2.2.1 ≠ 0 := by
  rw [qErr_good h]
  exact hk
theorem qIs_bad {T : Int → Int} {w : List Int} {q : Q6} (h : q.2.2.2.2.1 ≠ 0) : qIs T w q = false := by
  unfold qIs
  rw [decide_eq_false h]
  rfl
theorem qExp_bad {T : Int → Int} {n : Int} {w : List Int} {q : Q6} (h : q.2.2.2.2.1 ≠ 0) : qExp T n w q = q := by
  unfold qExp
  rw [qIs_bad h, if_neg (by decide), qErr_bad h]
theorem qTak_bad {T : Int → Int} {n lo hi : Int} {q : Q6} (h : q.2.2.2.2.1 ≠ 0) : qTak T n lo hi q = (0, q) := if_pos h
theorem qTld_bad {T : Int → Int} {n : Int} {w : List Int} {lo hi : Int} {q : Q6} (h : q.2.2.2.2.1 ≠ 0) : qTld T n w lo hi q = (0, q) := by
  unfold qTld
  rw [qExp_bad h, qTak_bad h]
theorem qAdv_k {T : Int → Int} {n : Int} {q : Q6} : (qAdv T n q).2.2.2.2.1 = q.2.2.2.2.1 := rfl
theorem qTak_in {T : Int → Int} {n lo hi : Int} {q : Q6} (h : (qTak T n lo hi q).2.2.2.2.2.1 = 0) : q.2.2.2.2.1 = 0 ∧ q.2.2.1 = 2 ∧ (lo ≤ q.2.2.2.1 ∧ q.2.2.2.1 ≤ hi) ∧ qTak T n lo hi q = (q.2.2.2.1, qAdv T n q) := by
  unfold qTak at h ⊢
  split
  · rename_i c
    rw [if_pos c] at h
    exact absurd h c
  · rename_i c
    have c' : q.2.2.2.2.1 = 0 := Classical.byContradiction c
    rw [if_neg c] at h
    split
    · rename_i d
      rw [if_pos d, qErr_good c'] at h
      exact absurd (show (1 : Int) = 0 from h) (by decide)
    · rename_i d
      rw [if_neg d] at h
      split
      · rename_i e
        rw [if_pos e, qErr_good c'] at h
        exact absurd (show (2 : Int) = 0 from h) (by decide)
      · rename_i e
        exact ⟨c', Classical.byContradiction d, Classical.byContradiction e, rfl⟩
theorem qExp_in {T : Int → Int} {n : Int} {w : List Int} {q : Q6} (h : (qExp T n w q).2.2.2.2.1 = 0) : q.2.2.2.2.1 = 0 ∧ isWb T q.1 q.2.1 q.2.2.1 w = true ∧ qExp T n w q = qAdv T n q := by
  unfold qExp at h ⊢
  by_cases c : qIs T w q = true
  · rw [if_pos c]
    exact ⟨(qIs_iff.mp c).1, (qIs_iff.mp c).2, rfl⟩
  · rw [if_neg c] at h
    by_cases d : q.2.2.2.2.1 = 0
    · rw [qErr_good d] at h
      exact absurd (show (1 : Int) = 0 from h) (by decide)
    · rw [qErr_bad d] at h
      exact absurd h d
theorem qTak_0 {T : Int → Int} {n lo hi : Int} {q : Q6} (h : (qTak T n lo hi q).2.2.2.2.2.1 ≠ 0) : (qTak T n lo hi q).1 = 0 := by
  unfold qTak at h ⊢
  split
  · rfl
  · rename_i c
    rw [if_neg c] at h
    split
    · rfl
    · rename_i d
      rw [if_neg d] at h
      split
      · rfl
      · rename_i e
        rw [if_neg e] at h
        exact absurd (Classical.byContradiction c) h
/-- what is taken lies between, or is 0 -/
theorem qTak_r {T : Int → Int} {n lo hi : Int} {q : Q6} : (qTak T n lo hi q).1 = 0 ∨ (lo ≤ (qTak T n lo hi q).1 ∧ (qTak T n lo hi q).1 ≤ hi) := by
  by_cases h : (qTak T n lo hi q).2.2.2.2.2.1 = 0
  · obtain ⟨-, -, e3, e4⟩ := qTak_in h
    rw [e4]
    exact Or.inr e3
  · exact Or.inl (qTak_0 h)
/-- further on the tape; past a token -/
def qLe (q q' : Q6) : Prop := q.1 ≤ q'.1 ∧ q.2.1 ≤ q'.2.1
theorem qLe.rf {q : Q6} : qLe q q := ⟨Int.le_refl _, Int.le_refl _⟩
theorem qLe.tr {q q' q'' : Q6} (h : qLe q q') (h' : qLe q' q'') : qLe q q'' := ⟨Int.le_trans h.1 h'.1, Int.le_trans h.2 h'.2⟩
theorem qAdv_le {T : Int → Int} {n : Int} {q : Q6} (h : QOk n q) : qLe q (qAdv T n q) ∧ q.1 ≤ (qAdv T n q).2.1 := by
  have b := tB_in (T := T) h.1.2
  have e := tE_in (T := T) b.2
  have hf := h.2.1.2
  refine ⟨⟨?_, ?_⟩, b.1⟩
  · show q.1 ≤ tE T n _
    omega
  · show q.2.1 ≤ tB T n _
    omega
theorem qErr_le {k : Int} {q : Q6} : qLe q (qErr k q) := by
  unfold qErr
  split
  · exact ⟨Int.le_refl _, Int.le_refl _⟩
  · exact qLe.rf
theorem qExp_le {T : Int → Int} {n : Int} {w : List Int} {q : Q6} (h : QOk n q) : qLe q (qExp T n w q) := by
  unfold qExp
  split
  · exact (qAdv_le h).1
  · exact qErr_le
theorem qTak_le {T : Int → Int} {n lo hi : Int} {q : Q6} (h : QOk n q) : qLe q (qTak T n lo hi q).2 := by
  unfold qTak
  split
  · exact qLe.rf
  · split
    · exact qErr_le
    · split
      · exact qErr_le
      · exact (qAdv_le h).1
theorem qTld_le {T : Int → Int} {n : Int} {w : List Int} {lo hi : Int} {q : Q6} (h : QOk n q) : qLe q (qTld T n w lo hi q).2 := (qExp_le h).tr (qTak_le h.exp)
/-- words -/
def kGrid : List Int := [103, 114, 105, 100]
def kColumns : List Int := [99, 111, 108, 117, 109, 110, 115]
def kRows : List Int := [114, 111, 119, 115]
def kWidth : List Int := [119, 105, 100, 116, 104]
def kLimit : List Int := [108, 105, 109, 105, 116]
def kWear : List Int := [119, 101, 97, 114]
def kAt : List Int := [97, 116]
def kEast : List Int := [101, 97, 115, 116]
def kSouth : List Int := [115, 111, 117, 116, 104]
def kDraws : List Int := [100, 114, 97, 119, 115]
def kGroup : List Int := [103, 114, 111, 117, 112]
def kIs : List Int := [105, 115]
def kStrap : List Int := [115, 116, 114, 97, 112]
def kPad : List Int := [112, 97, 100]
def kLoad : List Int := [108, 111, 97, 100]
def kBudget : List Int := [98, 117, 100, 103, 101, 116]

