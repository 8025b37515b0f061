/-! what is read, as the model reads it: functions of a reader's state and of the grid that grows -/
def qPl2 (fr : Int → Int) (but : Int) (x : Int × Q6) : Q6 := if (x.2.2.2.2.2.1 = 0 ∧ x.2.2.2.1 = 2 ∧ x.2.2.2.2.1 < fr 1) ∧ bsB but (fr 0 * x.2.2.2.2.1 + x.1) = true then qErr 2 x.2 else x.2
def qPl3 (T : Int → Int) (n : Int) (fr : Int → Int) (but : Int) (x : Int × Q6) : Int × Q6 := (fr 0 * (qTak T n 0 (fr 1 - 1) (qPl2 fr but x)).1 + x.1, (qTak T n 0 (fr 1 - 1) (qPl2 fr but x)).2)
/-- a place -/
def qPlc (T : Int → Int) (n : Int) (fr : Int → Int) (but : Int) (q : Q6) : Int × Q6 := qPl3 T n fr but (qTak T n 0 (fr 0 - 1) (qExp T n kAt q))
def kOf (c r a b : Int) : Int := ffi (fun k => decide (sF c r k = (if a ≤ b then a else b) ∧ sT c r k = (if a ≤ b then b else a))) (sN c r).toNat
def toW (c v : Int) (east : Bool) : Int := if east = true then v + 1 else v + c
def isWy (c r v : Int) (east : Bool) : Bool := if east = true then decide (Int.tmod v c < c - 1) else decide (Int.tdiv v c < r - 1)
/-- a strap: which way; whether there is one; its width -/
def qSt1 (T : Int → Int) (q : Q6) : Q6 := if (q.2.2.2.2.1 = 0 ∧ qIs T kEast q = false) ∧ qIs T kSouth q = false then qErr 1 q else q
def qSt2 (b : Bool) (q : Q6) : Q6 := if q.2.2.2.2.1 = 0 ∧ b = false then qErr 2 q else q
def qSt3 (T : Int → Int) (n : Int) (q : Q6) : Q6 := if q.2.2.2.2.1 = 0 then qAdv T n q else q
def qSt4 (T : Int → Int) (n : Int) (fr : Int → Int) (p : Int × Q6) : Int × Q6 := qTld T n kWidth 0 4 (qSt3 T n (qSt2 (isWy (fr 0) (fr 1) p.1 (qIs T kEast p.2)) (qSt1 T p.2)))
def fSt (T : Int → Int) (n : Int) (fr : Int → Int) (p : Int × Q6) : Int → Int := if (qSt4 T n fr p).2.2.2.2.2.1 = 0 then aset fr (28 + kOf (fr 0) (fr 1) p.1 (toW (fr 0) p.1 (qIs T kEast p.2))) (qSt4 T n fr p).1 else fr
/-- a state of the reading: the reader, the grid, loads and budgets that are told -/
abbrev RS : Type := Q6 × (Int → Int) × Int × Int
def rStr (T : Int → Int) (n : Int) (s : RS) : RS := ((qSt4 T n s.2.1 (qPlc T n s.2.1 0 s.1)).2, fSt T n s.2.1 (qPlc T n s.2.1 0 s.1), s.2.2)
def qGrp (T : Int → Int) (n : Int) (q : Q6) : Int × Q6 := if qIs T kGroup q = true then qTak T n 1 3 (qAdv T n q) else (0, q)
def rLd1 (fr : Int → Int) (ld v m : Int) (x : Int × Q6) (bt : Int) : RS := if x.2.2.2.2.2.1 = 0 then (x.2, aset (aset fr (6 + v) m) (15 + v) x.1, bsO ld (bsP v), bt) else (x.2, fr, ld, bt)
def rLd2 (T : Int → Int) (n : Int) (s : RS) (p : Int × Q6) : RS := rLd1 s.2.1 s.2.2.1 p.1 (qTld T n kDraws 1 99 p.2).1 (qGrp T n (qTld T n kDraws 1 99 p.2).2) s.2.2.2
def rLod (T : Int → Int) (n : Int) (s : RS) : RS := rLd2 T n s (qPlc T n s.2.1 s.2.2.1 s.1)
def qBu1 (bt : Int) (q : Q6) : Q6 := if (q.2.2.2.2.1 = 0 ∧ q.2.2.1 = 2 ∧ q.2.2.2.1 < 4) ∧ bsB bt q.2.2.2.1 = true then qErr 2 q else q
def rBu2 (s : RS) (b : Int) (m : Int × Q6) : RS := if m.2.2.2.2.2.1 = 0 then (m.2, aset s.2.1 (24 + b) m.1, s.2.2.1, bsO s.2.2.2 (bsP b)) else (m.2, s.2)
def rBu3 (T : Int → Int) (n : Int) (s : RS) (x : Int × Q6) : RS := rBu2 s x.1 (qTld T n kIs 0 999 x.2)
def rBud (T : Int → Int) (n : Int) (s : RS) : RS := rBu3 T n s (qTak T n 0 3 (qBu1 s.2.2.2 s.1))
def rPa1 (s : RS) (p : Int × Q6) : RS := if p.2.2.2.2.2.1 = 0 then (p.2, aset s.2.1 5 (bsO (s.2.1 5) (bsP p.1)), s.2.2) else (p.2, s.2)
def rPad (T : Int → Int) (n : Int) (s : RS) : RS := rPa1 s (qPlc T n s.2.1 (s.2.1 5) s.1)
def rLin (T : Int → Int) (n : Int) (s : RS) : RS := if qIs T kStrap s.1 = true then rStr T n (qAdv T n s.1, s.2) else if qIs T kPad s.1 = true then rPad T n (qAdv T n s.1, s.2) else if qIs T kLoad s.1 = true then rLod T n (qAdv T n s.1, s.2) else if qIs T kBudget s.1 = true then rBud T n (qAdv T n s.1, s.2) else (qErr 1 s.1, s.2)
/-- the first line -/
def qFi1 (c : Int) (q : Q6) : Q6 := if ((q.2.2.2.2.1 = 0 ∧ q.2.2.1 = 2) ∧ 1 ≤ q.2.2.2.1 ∧ q.2.2.2.1 ≤ 9) ∧ 9 < c * q.2.2.2.1 then qErr 2 q else q
def qFi2 (T : Int → Int) (n : Int) (q : Q6) : Int × Q6 := qTld T n kColumns 1 9 (qExp T n kGrid q)
def qFi3 (T : Int → Int) (n : Int) (x : Int × Q6) : Int × Q6 := qTak T n 1 9 (qFi1 x.1 (qExp T n kRows x.2))
def fLay (c r w : Int) (f : Int → Int) : Int → Int := fun j => if 24 ≤ j ∧ j < 28 then 999 else if 28 ≤ j ∧ j < 28 + sN c r then w else f j
def fFi0 (fr : Int → Int) (c r l e : Int) : Int → Int := aset (aset (aset (aset fr 0 c) 1 r) 2 l) 3 e
def rFi4 (fr : Int → Int) (c r w l : Int) (e : Int × Q6) (lb : Int × Int) : RS := if e.2.2.2.2.2.1 = 0 then (e.2, fLay c r w (fFi0 fr c r l e.1), lb) else (e.2, fFi0 fr c r l e.1, lb)
def rFi3 (T : Int → Int) (n : Int) (fr : Int → Int) (c r w : Int) (l : Int × Q6) (lb : Int × Int) : RS := rFi4 fr c r w l.1 (qTld T n kWear 1 999 l.2) lb
def rFi2 (T : Int → Int) (n : Int) (fr : Int → Int) (c r : Int) (w : Int × Q6) (lb : Int × Int) : RS := rFi3 T n fr c r w.1 (qTld T n kLimit 0 999 w.2) lb
def rFi1 (T : Int → Int) (n : Int) (fr : Int → Int) (c : Int) (r : Int × Q6) (lb : Int × Int) : RS := rFi2 T n fr c r.1 (qTld T n kWidth 0 4 r.2) lb
def rFst (T : Int → Int) (n : Int) (s : RS) : RS := rFi1 T n s.2.1 (qFi2 T n s.1).1 (qFi3 T n (qFi2 T n s.1)) s.2.2
/-- one line -/
def qTx1 (q : Q6) : Q6 := if q.2.2.2.2.1 = 0 ∧ q.2.2.1 ≠ 3 then qErr 1 q else q
def rTx1 (T : Int → Int) (n : Int) (s : RS) : RS := (qSt3 T n (qTx1 s.1), aset s.2.1 4 (s.2.1 4 + 1), s.2.2)
def rTxt (T : Int → Int) (n : Int) (s : RS) : RS := rTx1 T n (if s.2.1 4 = 0 then rFst T n s else rLin T n s)
/-! ranges -/
theorem QOk.pl2 {fr : Int → Int} {but n : Int} {x : Int × Q6} (h : QOk n x.2) : QOk n (qPl2 fr but x) := by
  unfold qPl2
  split
  · exact h.err (by omega)
  · exact h
theorem QOk.plc {T : Int → Int} {n : Int} {fr : Int → Int} {but : Int} {q : Q6} (h : QOk n q) : QOk n (qPlc T n fr but q).2 := (QOk.pl2 h.exp.tak).tak
theorem QOk.st1 {T : Int → Int} {n : Int} {q : Q6} (h : QOk n q) : QOk n (qSt1 T q) := by
  unfold qSt1
  split
  · exact h.err (by omega)
  · exact h
theorem QOk.st2 {n : Int} {b : Bool} {q : Q6} (h : QOk n q) : QOk n (qSt2 b q) := by
  unfold qSt2
  split
  · exact h.err (by omega)
  · exact h
theorem QOk.st3 {T : Int → Int} {n : Int} {q : Q6} (h : QOk n q) : QOk n (qSt3 T n q) := by
  unfold qSt3
  split
  · exact h.adv
  · exact h
theorem QOk.st4 {T : Int → Int} {n : Int} {fr : Int → Int} {p : Int × Q6} (h : QOk n p.2) : QOk n (qSt4 T n fr p).2 := (h.st1.st2.st3).tld
theorem QOk.grp {T : Int → Int} {n : Int} {q : Q6} (h : QOk n q) : QOk n (qGrp T n q).2 := by
  unfold qGrp
  split
  · exact h.adv.tak
  · exact h
theorem QOk.bu1 {n bt : Int} {q : Q6} (h : QOk n q) : QOk n (qBu1 bt q) := by
  unfold qBu1
  split
  · exact h.err (by omega)
  · exact h
theorem QOk.fi1 {n c : Int} {q : Q6} (h : QOk n q) : QOk n (qFi1 c q) := by
  unfold qFi1
  split
  · exact h.err (by omega)
  · exact h
theorem QOk.fi2 {T : Int → Int} {n : Int} {q : Q6} (h : QOk n q) : QOk n (qFi2 T n q).2 := h.exp.tld
theorem QOk.fi3 {T : Int → Int} {n : Int} {x : Int × Q6} (h : QOk n x.2) : QOk n (qFi3 T n x).2 := h.exp.fi1.tak
theorem QOk.tx1 {n : Int} {q : Q6} (h : QOk n q) : QOk n (qTx1 q) := by
  unfold qTx1
  split
  · exact h.err (by omega)
  · exact h
theorem QOk.str {T : Int → Int} {n : Int} {s : RS} (h : QOk n s.1) : QOk n (rStr T n s).1 := (h.plc (T := T) (fr := s.2.1) (but := 0)).st4
theorem QOk.lod {T : Int → Int} {n : Int} {s : RS} (h : QOk n s.1) : QOk n (rLod T n s).1 := by
  unfold rLod rLd2 rLd1
  split
  · exact h.plc.tld.grp
  · exact h.plc.tld.grp
theorem QOk.bud {T : Int → Int} {n : Int} {s : RS} (h : QOk n s.1) : QOk n (rBud T n s).1 := by
  unfold rBud rBu3 rBu2
  split
  · exact h.bu1.tak.tld
  · exact h.bu1.tak.tld
theorem QOk.pad {T : Int → Int} {n : Int} {s : RS} (h : QOk n s.1) : QOk n (rPad T n s).1 := by
  unfold rPad rPa1
  split
  · exact h.plc
  · exact h.plc
theorem QOk.lin {T : Int → Int} {n : Int} {s : RS} (h : QOk n s.1) : QOk n (rLin T n s).1 := by
  unfold rLin
  split
  · exact QOk.str (s := (qAdv T n s.1, s.2)) h.adv
  · split
    · exact QOk.pad (s := (qAdv T n s.1, s.2)) h.adv
    · split
      · exact QOk.lod (s := (qAdv T n s.1, s.2)) h.adv
      · split
        · exact QOk.bud (s := (qAdv T n s.1, s.2)) h.adv
        · exact h.err (by omega)
theorem QOk.fst {T : Int → Int} {n : Int} {s : RS} (h : QOk n s.1) : QOk n (rFst T n s).1 := by
  unfold rFst rFi1 rFi2 rFi3 rFi4
  split
  · exact h.fi2.fi3.tld.tld.tld
  · exact h.fi2.fi3.tld.tld.tld
theorem QOk.txt {T : Int → Int} {n : Int} {s : RS} (h : QOk n s.1) : QOk n (rTxt T n s).1 := by
  unfold rTxt rTx1
  split
  · exact h.fst.tx1.st3
  · exact h.lin.tx1.st3

