/-! acts: the world ahead of each, its kind, what it answered; images; the tape -/
def rmb (w wb : Int → Int) (a kind ans : Int) : Int → Int := fun j => if j = 42 * a + 41 then ans else if j = 42 * a + 40 then kind else if 42 * a ≤ j ∧ j < 42 * a + 40 then w (j - 42 * a) else wb j
/-- the world of record a -/
def wbW (w wb : Int → Int) (a : Int) : Int → Int := fun j => if 0 ≤ j ∧ j < 40 then wb (42 * a + j) else w j
def didF (wb : Int → Int) (kind what n : Int) : Int := foI (fun k s => if wb (42 * k + 40) = kind then s + (if what = 0 then 1 else wb (42 * k + 41)) else s) 0 n
def spDid (w wb : Int → Int) (acts kind what : Int) : Int := if (0 < w 4 ∧ 0 ≤ kind ∧ kind ≤ 3) ∧ isPb what = true then didF wb kind what acts else -2
def imgS (w wb im : Int → Int) (acts k : Int) : Int → Int := fun j => if 881 * k ≤ j ∧ j < 881 * k + 40 then w (j - 881 * k) else if j = 881 * k + 40 then acts else if 881 * k + 41 ≤ j ∧ j < 881 * k + 881 then wb (j - (881 * k + 41)) else im j
def imgW (w im : Int → Int) (k : Int) : Int → Int := fun j => if 0 ≤ j ∧ j < 40 then im (881 * k + j) else w j
def imgB (wb im : Int → Int) (k : Int) : Int → Int := fun j => if 0 ≤ j ∧ j < 840 then im (881 * k + 41 + j) else wb j
def fdA (a b c d e i : Int) : Int := if i = 0 then a else if i = 1 then b else if i = 2 then c else if i = 3 then d else e
/-- byte i of five numbers -/
def fdB (a b c d e i : Int) : Int := ((jI (((jI (fdA a b c d e (i / 4))) >>> (jI (24 - 8 * (i % 4)) &&& 31)).toInt)).toInt8.toInt32).toInt
def fdT (tp : Int → Int) (tn a b c d e : Int) : Int → Int := fun j => if tn ≤ j ∧ j < tn + 20 then fdB a b c d e (j - tn) else tp j
theorem i8_in (x : Int32) : -128 ≤ (x.toInt8.toInt32).toInt ∧ (x.toInt8.toInt32).toInt ≤ 127 := by
  rw [Int8.toInt_toInt32]
  have h1 := x.toInt8.le_toInt
  have h2 := x.toInt8.toInt_lt
  omega
theorem fdB_in (a b c d e i : Int) : -128 ≤ fdB a b c d e i ∧ fdB a b c d e i ≤ 127 := i8_in _
def wYr (w : Int → Int) : Int := foI (fun k s => s + (if bsB (wWe w) k = true then 1 else 0)) 0 (wS w)
theorem wYr_in {w : Int → Int} (hd : Gd w) : 0 ≤ wYr w ∧ wYr w ≤ 12 := by
  have hs := hd.s
  have : 0 ≤ wYr w ∧ wYr w ≤ wS w := foI_inv (f := fun k s => s + (if bsB (wWe w) k = true then 1 else 0)) (a := 0) (n := wS w) (fun i s => 0 ≤ s ∧ s ≤ i) (by omega) (fun i s q1 q2 q3 => by (try simp only); split <;> omega) hs.1
  omega
theorem vsf_ok {w : Int → Int} (hd : Gd w) {k : Int} {s : Bst} (h0 : 0 ≤ k) (h1 : k < wS w) (hs : BsOk s) : BsOk (vsf w k s) := by
  unfold vsf
  split
  · exact bs_of (hd.w0 h0 h1) k
  · exact hs
theorem trS_ok {w : Int → Int} (hd : Gd w) {seed n : Int} (hs : 0 ≤ seed ∧ seed ≤ 2147483647) (hn : 0 ≤ n) : (0 ≤ (trS w seed n).2.2.1 ∧ (trS w seed n).2.2.1 ≤ 7653631721472) ∧ (0 < (trS w seed n).2.2.2 ∧ (trS w seed n).2.2.2 ≤ 8589934592) := by
  have := foI_inv (f := fun _ s => trT w s) (a := (seed, 0, 0, 1)) (n := n) (fun _ s => (0 ≤ s.2.2.1 ∧ s.2.2.1 ≤ 7653631721472) ∧ (0 < s.2.2.2 ∧ s.2.2.2 ≤ 8589934592)) (by simp) (fun i s _ _ q => by
    unfold trT
    (try simp only)
    split
    · exact q
    · exact ⟨(hd.tr s.1).mx, (hd.tr s.1).who⟩) hn
  exact this
