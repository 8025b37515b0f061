/-! what a line that is read makes of the grid -/
theorem Gd.of2 {w w' : Int → Int} (h : Gd w) (h0 : w' 0 = w 0) (h1 : w' 1 = w 1) (h2 : w' 2 = w 2) (h3 : w' 3 = w 3) (h4 : 0 < w' 4 ∧ w' 4 ≤ 1000) (h5 : NSet (w 0) (w 1) (w' 5)) (hl : ∀ v : Int, 0 ≤ v → v < 9 → 0 ≤ w' (6 + v) ∧ w' (6 + v) ≤ 99) (hr : ∀ v : Int, 0 ≤ v → v < 9 → 0 ≤ w' (15 + v) ∧ w' (15 + v) ≤ 3) (hb : ∀ v : Int, 0 ≤ v → v < 4 → 0 ≤ w' (24 + v) ∧ w' (24 + v) ≤ 999) (hw : ∀ k : Int, 0 ≤ k → k < 12 → 0 ≤ w' (28 + k) ∧ w' (28 + k) ≤ 4) (hz : ∀ k : Int, wS w ≤ k → k < 12 → w' (28 + k) = 0) : Gd w' := by
  refine ⟨h4, by rw [h0, h1]; exact h.g, by rw [h2]; exact h.lim, by rw [h3]; exact h.wear, by rw [h0, h1]; exact h5, hl, hr, hb, hw, fun k a b => hz k ?_ b⟩
  unfold wS at a ⊢
  rw [h0, h1] at a
  exact a
theorem Gd.lin {w : Int → Int} {m : Int} (h : Gd w) (h0 : 0 < m) (h1 : m ≤ 1000) : Gd (aset w 4 m) := by
  have hs := h.s
  exact h.of2 (aset_ne (by omega)) (aset_ne (by omega)) (aset_ne (by omega)) (aset_ne (by omega)) (by rw [aset_at]; exact ⟨h0, h1⟩) (by rw [aset_ne (by omega)]; exact h.pads) (fun v a b => by rw [aset_ne (by omega)]; exact h.ld v a b) (fun v a b => by rw [aset_ne (by omega)]; exact h.gr v a b) (fun v a b => by rw [aset_ne (by omega)]; exact h.bu v a b) (fun v a b => by rw [aset_ne (by omega)]; exact h.wd v a b) (fun v a b => by rw [aset_ne (by omega)]; exact h.wz v a b)
theorem Gd.lod {w : Int → Int} {v m x : Int} (h : Gd w) (h0 : 0 ≤ v) (h1 : v < 9) (hm : 0 ≤ m ∧ m ≤ 99) (hx : 0 ≤ x ∧ x ≤ 3) : Gd (aset (aset w (6 + v) m) (15 + v) x) := by
  have hs := h.s
  have h' := h.load h0 h1 hm
  exact h'.of2 (aset_ne (by omega)) (aset_ne (by omega)) (aset_ne (by omega)) (aset_ne (by omega)) (by rw [aset_ne (by omega)]; exact h'.l) (by rw [show aset (aset w (6 + v) m) (15 + v) x 5 = aset w (6 + v) m 5 from aset_ne (by omega)]; exact h'.pads) (fun u a b => by rw [aset_ne (by omega)]; exact h'.ld u a b) (fun u a b => by
    by_cases e : u = v
    · rw [e, aset_at]; exact hx
    · rw [aset_ne (by omega)]; exact h'.gr u a b) (fun u a b => by rw [aset_ne (by omega)]; exact h'.bu u a b) (fun u a b => by rw [aset_ne (by omega)]; exact h'.wd u a b) (fun u a b => by rw [aset_ne (by have := h'.s; omega)]; exact h'.wz u a b)
theorem Gd.bud {w : Int → Int} {v m : Int} (h : Gd w) (h0 : 0 ≤ v) (h1 : v < 4) (hm : 0 ≤ m ∧ m ≤ 999) : Gd (aset w (24 + v) m) := by
  have hs := h.s
  exact h.of2 (aset_ne (by omega)) (aset_ne (by omega)) (aset_ne (by omega)) (aset_ne (by omega)) (by rw [aset_ne (by omega)]; exact h.l) (by rw [aset_ne (by omega)]; exact h.pads) (fun u a b => by rw [aset_ne (by omega)]; exact h.ld u a b) (fun u a b => by rw [aset_ne (by omega)]; exact h.gr u a b) (fun u a b => by
    by_cases e : u = v
    · rw [e, aset_at]; exact hm
    · rw [aset_ne (by omega)]; exact h.bu u a b) (fun u a b => by rw [aset_ne (by omega)]; exact h.wd u a b) (fun u a b => by rw [aset_ne (by omega)]; exact h.wz u a b)
/-- a way that is there is a strap -/
theorem kOf_all : ∀ c r v : Fin 10, ∀ b : Bool, 1 ≤ c.val → 1 ≤ r.val → c.val * r.val ≤ 9 → v.val < c.val * r.val → isWy (c.val : Int) (r.val : Int) (v.val : Int) b = true → (0 ≤ kOf (c.val : Int) (r.val : Int) (v.val : Int) (toW (c.val : Int) (v.val : Int) b) ∧ kOf (c.val : Int) (r.val : Int) (v.val : Int) (toW (c.val : Int) (v.val : Int) b) < sN (c.val : Int) (r.val : Int)) := by decide +kernel
theorem kOf_ok {c r v : Int} {b : Bool} (hg : GW c r) (h0 : 0 ≤ v) (h1 : v < c * r) (hw : isWy c r v b = true) : 0 ≤ kOf c r v (toW c v b) ∧ kOf c r v (toW c v b) < sN c r := by
  have h9 := hg.c9
  have hc := hg.1
  have hr := hg.2.1
  have hcr := hg.2.2
  have e1 : ((c.toNat : Nat) : Int) = c := by omega
  have e2 : ((r.toNat : Nat) : Int) = r := by omega
  have e3 : ((v.toNat : Nat) : Int) = v := by omega
  have ecr : ((c.toNat * r.toNat : Nat) : Int) = c * r := by rw [Int.natCast_mul, e1, e2]
  have h := kOf_all ⟨c.toNat, by omega⟩ ⟨r.toNat, by omega⟩ ⟨v.toNat, by omega⟩ b (by show 1 ≤ c.toNat; omega) (by show 1 ≤ r.toNat; omega) (by show c.toNat * r.toNat ≤ 9; omega) (by show v.toNat < c.toNat * r.toNat; omega)
  simp only [e1, e2, e3] at h
  exact h hw
/-! what good says of what was ahead -/
theorem qPl2_le {fr : Int → Int} {but : Int} {x : Int × Q6} : qLe x.2 (qPl2 fr but x) := by
  unfold qPl2
  split
  · exact qErr_le
  · exact qLe.rf
theorem qPl2_in {fr : Int → Int} {but : Int} {x : Int × Q6} (h : (qPl2 fr but x).2.2.2.2.1 = 0) : qPl2 fr but x = x.2 ∧ ((x.2.2.2.1 = 2 ∧ x.2.2.2.2.1 < fr 1) → bsB but (fr 0 * x.2.2.2.2.1 + x.1) = false) := by
  unfold qPl2 at h ⊢
  by_cases c : (x.2.2.2.2.2.1 = 0 ∧ x.2.2.2.1 = 2 ∧ x.2.2.2.2.1 < fr 1) ∧ bsB but (fr 0 * x.2.2.2.2.1 + x.1) = true
  · rw [if_pos c] at h
    exact absurd h (qErr_nz c.1.1 (by decide))
  · rw [if_neg c] at h ⊢
    refine ⟨rfl, fun q => ?_⟩
    cases hb : bsB but (fr 0 * x.2.2.2.2.1 + x.1) with
    | false => rfl
    | true => exact absurd ⟨⟨h, q⟩, hb⟩ c
theorem qPlc_le {T : Int → Int} {n : Int} {fr : Int → Int} {but : Int} {q : Q6} (h : QOk n q) : qLe q (qPlc T n fr but q).2 := ((qExp_le h).tr (qTak_le h.exp)).tr (qPl2_le.tr (qTak_le h.exp.tak.pl2))
theorem qPlc_in {T : Int → Int} {n : Int} {fr : Int → Int} {but : Int} {q : Q6} (hr : 1 ≤ fr 1) (h : (qPlc T n fr but q).2.2.2.2.2.1 = 0) : q.2.2.2.2.1 = 0 ∧ bsB but (qPlc T n fr but q).1 = false := by
  unfold qPlc qPl3 at h ⊢
  generalize hx : qTak T n 0 (fr 0 - 1) (qExp T n kAt q) = x at h ⊢
  obtain ⟨e1, e2, e3, e4⟩ := qTak_in h
  obtain ⟨e5, e6⟩ := qPl2_in e1
  rw [e5] at e2 e3
  have hk : x.2.2.2.2.2.1 = 0 := by rw [← e5]; exact e1
  refine ⟨?_, ?_⟩
  · rw [← hx] at hk
    exact (qExp_in (qTak_in hk).1).1
  · show bsB but (fr 0 * (qTak T n 0 (fr 1 - 1) (qPl2 fr but x)).1 + x.1) = false
    rw [e4, e5]
    exact e6 ⟨e2, by omega⟩
theorem qSt1_le {T : Int → Int} {q : Q6} : qLe q (qSt1 T q) := by
  unfold qSt1
  split
  · exact qErr_le
  · exact qLe.rf
theorem qSt2_le {b : Bool} {q : Q6} : qLe q (qSt2 b q) := by
  unfold qSt2
  split
  · exact qErr_le
  · exact qLe.rf
theorem qSt3_le {T : Int → Int} {n : Int} {q : Q6} (h : QOk n q) : qLe q (qSt3 T n q) := by
  unfold qSt3
  split
  · exact (qAdv_le h).1
  · exact qLe.rf
theorem qSt4_le {T : Int → Int} {n : Int} {fr : Int → Int} {p : Int × Q6} (h : QOk n p.2) : qLe p.2 (qSt4 T n fr p).2 := (qSt1_le.tr qSt2_le).tr ((qSt3_le h.st1.st2).tr (qTld_le h.st1.st2.st3))
theorem qTld_in {T : Int → Int} {n : Int} {w : List Int} {lo hi : Int} {q : Q6} (h : (qTld T n w lo hi q).2.2.2.2.2.1 = 0) : q.2.2.2.2.1 = 0 ∧ (lo ≤ (qTld T n w lo hi q).1 ∧ (qTld T n w lo hi q).1 ≤ hi) := by
  unfold qTld at h ⊢
  obtain ⟨e1, e2, e3, e4⟩ := qTak_in h
  refine ⟨(qExp_in e1).1, ?_⟩
  rw [e4]
  exact e3
theorem qSt3_in {T : Int → Int} {n : Int} {q : Q6} (h : (qSt3 T n q).2.2.2.2.1 = 0) : q.2.2.2.2.1 = 0 := by
  unfold qSt3 at h
  split at h
  · assumption
  · exact h
theorem qSt2_in {b : Bool} {q : Q6} (h : (qSt2 b q).2.2.2.2.1 = 0) : q.2.2.2.2.1 = 0 ∧ b = true ∧ qSt2 b q = q := by
  unfold qSt2 at h ⊢
  by_cases c : q.2.2.2.2.1 = 0 ∧ b = false
  · rw [if_pos c] at h
    exact absurd h (qErr_nz c.1 (by decide))
  · rw [if_neg c] at h ⊢
    refine ⟨h, ?_, rfl⟩
    cases hb : b with
    | true => rfl
    | false => exact absurd ⟨h, hb⟩ c
theorem qSt1_in {T : Int → Int} {q : Q6} (h : (qSt1 T q).2.2.2.2.1 = 0) : q.2.2.2.2.1 = 0 ∧ qSt1 T q = q ∧ (qIs T kEast q = true ∨ qIs T kSouth q = true) := by
  unfold qSt1 at h ⊢
  by_cases c : (q.2.2.2.2.1 = 0 ∧ qIs T kEast q = false) ∧ qIs T kSouth q = false
  · rw [if_pos c] at h
    exact absurd h (qErr_nz c.1.1 (by decide))
  · rw [if_neg c] at h ⊢
    refine ⟨h, rfl, ?_⟩
    cases ha : qIs T kEast q with
    | true => exact Or.inl rfl
    | false =>
      cases hb : qIs T kSouth q with
      | true => exact Or.inr rfl
      | false => exact absurd ⟨⟨h, ha⟩, hb⟩ c
theorem qSt4_in {T : Int → Int} {n : Int} {fr : Int → Int} {p : Int × Q6} (h : (qSt4 T n fr p).2.2.2.2.2.1 = 0) : p.2.2.2.2.2.1 = 0 ∧ isWy (fr 0) (fr 1) p.1 (qIs T kEast p.2) = true ∧ (0 ≤ (qSt4 T n fr p).1 ∧ (qSt4 T n fr p).1 ≤ 4) := by
  have h1 := qTld_in (q := qSt3 T n (qSt2 (isWy (fr 0) (fr 1) p.1 (qIs T kEast p.2)) (qSt1 T p.2))) h
  have h2 := qSt2_in (qSt3_in h1.1)
  exact ⟨(qSt1_in h2.1).1, h2.2.1, h1.2⟩
theorem qGrp_le {T : Int → Int} {n : Int} {q : Q6} (h : QOk n q) : qLe q (qGrp T n q).2 := by
  unfold qGrp
  split
  · exact (qAdv_le h).1.tr (qTak_le h.adv)
  · exact qLe.rf
theorem qGrp_in {T : Int → Int} {n : Int} {q : Q6} (h : (qGrp T n q).2.2.2.2.2.1 = 0) : q.2.2.2.2.1 = 0 ∧ (0 ≤ (qGrp T n q).1 ∧ (qGrp T n q).1 ≤ 3) := by
  unfold qGrp at h ⊢
  split
  · rename_i c
    rw [if_pos c] at h
    obtain ⟨e1, e2, e3, e4⟩ := qTak_in h
    rw [e4]
    exact ⟨e1, by have := e3.1; omega, e3.2⟩
  · rename_i c
    rw [if_neg c] at h
    exact ⟨h, by omega, by omega⟩
theorem qBu1_le {bt : Int} {q : Q6} : qLe q (qBu1 bt q) := by
  unfold qBu1
  split
  · exact qErr_le
  · exact qLe.rf
theorem qBu1_in {bt : Int} {q : Q6} (h : (qBu1 bt q).2.2.2.2.1 = 0) : q.2.2.2.2.1 = 0 ∧ qBu1 bt q = q ∧ ((q.2.2.1 = 2 ∧ q.2.2.2.1 < 4) → bsB bt q.2.2.2.1 = false) := by
  unfold qBu1 at h ⊢
  by_cases c : (q.2.2.2.2.1 = 0 ∧ q.2.2.1 = 2 ∧ q.2.2.2.1 < 4) ∧ bsB bt q.2.2.2.1 = true
  · rw [if_pos c] at h
    exact absurd h (qErr_nz c.1.1 (by decide))
  · rw [if_neg c] at h ⊢
    refine ⟨h, rfl, fun z => ?_⟩
    cases hb : bsB bt q.2.2.2.1 with
    | false => rfl
    | true => exact absurd ⟨⟨h, z⟩, hb⟩ c
theorem qFi1_le {c : Int} {q : Q6} : qLe q (qFi1 c q) := by
  unfold qFi1
  split
  · exact qErr_le
  · exact qLe.rf
theorem qFi1_in {c : Int} {q : Q6} (h : (qFi1 c q).2.2.2.2.1 = 0) : q.2.2.2.2.1 = 0 ∧ qFi1 c q = q ∧ (q.2.2.1 = 2 → 1 ≤ q.2.2.2.1 → q.2.2.2.1 ≤ 9 → c * q.2.2.2.1 ≤ 9) := by
  unfold qFi1 at h ⊢
  by_cases d : ((q.2.2.2.2.1 = 0 ∧ q.2.2.1 = 2) ∧ 1 ≤ q.2.2.2.1 ∧ q.2.2.2.1 ≤ 9) ∧ 9 < c * q.2.2.2.1
  · rw [if_pos d] at h
    exact absurd h (qErr_nz d.1.1.1 (by decide))
  · rw [if_neg d] at h ⊢
    refine ⟨h, rfl, fun a b e => ?_⟩
    exact Classical.byContradiction fun z => d ⟨⟨⟨h, a⟩, b, e⟩, by omega⟩
theorem qFi2_in {T : Int → Int} {n : Int} {q : Q6} (h : (qFi2 T n q).2.2.2.2.2.1 = 0) : (qExp T n kGrid q).2.2.2.2.1 = 0 ∧ (1 ≤ (qFi2 T n q).1 ∧ (qFi2 T n q).1 ≤ 9) := qTld_in h
theorem qFi3_in {T : Int → Int} {n : Int} {x : Int × Q6} (hx : 1 ≤ x.1) (h : (qFi3 T n x).2.2.2.2.2.1 = 0) : x.2.2.2.2.2.1 = 0 ∧ GW x.1 (qFi3 T n x).1 := by
  unfold qFi3 at h ⊢
  obtain ⟨e1, e2, e3, e4⟩ := qTak_in h
  obtain ⟨e5, e6, e7⟩ := qFi1_in e1
  rw [e6] at e2 e3
  refine ⟨(qExp_in e5).1, ?_⟩
  rw [e4, e6]
  exact ⟨hx, e3.1, e7 e2 e3.1 e3.2⟩
/-! the first line -/
theorem rFst_in {T : Int → Int} {n : Int} {s : RS} (h : (rFst T n s).1.2.2.2.2.1 = 0) : ∃ c r w l e : Int, GW c r ∧ (0 ≤ w ∧ w ≤ 4) ∧ (0 ≤ l ∧ l ≤ 999) ∧ (1 ≤ e ∧ e ≤ 999) ∧ (qExp T n kGrid s.1).2.2.2.2.1 = 0 ∧ (rFst T n s).2 = (fLay c r w (fFi0 s.2.1 c r l e), s.2.2) := by
  unfold rFst rFi1 rFi2 rFi3 rFi4 at h ⊢
  generalize hx : qFi2 T n s.1 = x at h ⊢
  generalize hy : qFi3 T n x = y at h ⊢
  generalize hw : qTld T n kWidth 0 4 y.2 = w at h ⊢
  generalize hl : qTld T n kLimit 0 999 w.2 = l at h ⊢
  generalize he : qTld T n kWear 1 999 l.2 = e at h ⊢
  by_cases c : e.2.2.2.2.2.1 = 0
  · rw [if_pos c]
    have e1 := qTld_in (T := T) (n := n) (w := kWear) (lo := 1) (hi := 999) (q := l.2) (by rw [he]; exact c)
    have l1 := qTld_in (T := T) (n := n) (w := kLimit) (lo := 0) (hi := 999) (q := w.2) (by rw [hl]; exact e1.1)
    have w1 := qTld_in (T := T) (n := n) (w := kWidth) (lo := 0) (hi := 4) (q := y.2) (by rw [hw]; exact l1.1)
    rw [he] at e1
    rw [hl] at l1
    rw [hw] at w1
    have hy1 : (qFi3 T n x).2.2.2.2.2.1 = 0 := by rw [hy]; exact w1.1
    have hxr : 1 ≤ x.1 := by
      have hx2 : x.2.2.2.2.2.1 = 0 := by
        unfold qFi3 at hy1
        exact (qExp_in (qFi1_in (qTak_in hy1).1).1).1
      have := qFi2_in (T := T) (n := n) (q := s.1) (by rw [hx]; exact hx2)
      rw [hx] at this
      exact this.2.1
    have y1 := qFi3_in hxr hy1
    have x1 := qFi2_in (T := T) (n := n) (q := s.1) (by rw [hx]; exact y1.1)
    rw [hy] at y1
    exact ⟨x.1, y.1, w.1, l.1, e.1, y1.2, w1.2, l1.2, e1.2, x1.1, rfl⟩
  · rw [if_neg c] at h
    exact absurd h c
theorem fLay_gd {fr : Int → Int} {c r w l e : Int} (hz : Zw fr) (hg : GW c r) (hw : 0 ≤ w ∧ w ≤ 4) (hl : 0 ≤ l ∧ l ≤ 999) (he : 1 ≤ e ∧ e ≤ 999) : Gd (aset (fLay c r w (fFi0 fr c r l e)) 4 1) ∧ fLay c r w (fFi0 fr c r l e) 4 = 0 ∧ fLay c r w (fFi0 fr c r l e) 0 = c ∧ fLay c r w (fFi0 fr c r l e) 1 = r := by
  have h12 := sN_12 hg
  have h00 := sN_0 (c := c) (r := r)
  have f0 : fLay c r w (fFi0 fr c r l e) 0 = c := by
    unfold fLay fFi0
    rw [if_neg (by omega), if_neg (by omega), aset_ne (by omega), aset_ne (by omega), aset_ne (by omega), aset_at]
  have f1 : fLay c r w (fFi0 fr c r l e) 1 = r := by
    unfold fLay fFi0
    rw [if_neg (by omega), if_neg (by omega), aset_ne (by omega), aset_ne (by omega), aset_at]
  have f2 : fLay c r w (fFi0 fr c r l e) 2 = l := by
    unfold fLay fFi0
    rw [if_neg (by omega), if_neg (by omega), aset_ne (by omega), aset_at]
  have f3 : fLay c r w (fFi0 fr c r l e) 3 = e := by
    unfold fLay fFi0
    rw [if_neg (by omega), if_neg (by omega), aset_at]
  have fo : ∀ j : Int, 4 ≤ j → j < 24 → fLay c r w (fFi0 fr c r l e) j = 0 := by
    intro j h0 h1
    unfold fLay fFi0
    rw [if_neg (by omega), if_neg (by omega), aset_ne (by omega), aset_ne (by omega), aset_ne (by omega), aset_ne (by omega)]
    exact hz j (by omega) (by omega)
  have fb : ∀ v : Int, 0 ≤ v → v < 4 → fLay c r w (fFi0 fr c r l e) (24 + v) = 999 := by
    intro v h0 h1
    unfold fLay
    rw [if_pos (by omega)]
  have fw : ∀ k : Int, 0 ≤ k → k < 12 → fLay c r w (fFi0 fr c r l e) (28 + k) = if k < sN c r then w else 0 := by
    intro k h0 h1
    unfold fLay fFi0
    rw [if_neg (by omega)]
    by_cases d : k < sN c r
    · rw [if_pos (by omega), if_pos d]
    · rw [if_neg (by omega), if_neg d, aset_ne (by omega), aset_ne (by omega), aset_ne (by omega), aset_ne (by omega)]
      exact hz _ (by omega) (by omega)
  refine ⟨?_, fo 4 (by omega) (by omega), f0, f1⟩
  refine ⟨by rw [aset_at]; omega, by rw [aset_ne (by omega), aset_ne (by omega), f0, f1]; exact hg, by rw [aset_ne (by omega), f2]; exact hl, by rw [aset_ne (by omega), f3]; exact he, ?_, fun v a b => ?_, fun v a b => ?_, fun v a b => ?_, fun k a b => ?_, fun k a b => ?_⟩
  · rw [aset_ne (by omega), aset_ne (by omega), aset_ne (by omega), fo 5 (by omega) (by omega)]
    exact NSet.z
  · rw [aset_ne (by omega), fo _ (by omega) (by omega)]; omega
  · rw [aset_ne (by omega), fo _ (by omega) (by omega)]; omega
  · rw [aset_ne (by omega), fb v a b]; omega
  · unfold wWd
    rw [aset_ne (by omega), fw k a b]
    split <;> omega
  · unfold wS at a
    rw [aset_ne (by omega), aset_ne (by omega), f0, f1] at a
    rw [aset_ne (by omega), fw k (by omega) b, if_neg (by omega)]
/-! the state of the reading between two lines -/
def RI (n : Int) (s : RS) : Prop := QOk n s.1 ∧ (0 ≤ s.2.2.1 ∧ s.2.2.1 < 512) ∧ (0 ≤ s.2.2.2 ∧ s.2.2.2 < 16) ∧ (0 ≤ s.2.1 4 ∧ s.2.1 4 ≤ s.1.1) ∧ ((s.2.1 4 = 0 → Zw s.2.1) ∧ (s.2.1 4 ≠ 0 → Gd s.2.1))
theorem bsO_16 {a b : Int} (ha : a < 16) (hb : b < 16) : bsO a b < 16 := by
  have := bsO_lt (a := a) (b := b) (n := 4) (by simpa using ha) (by simpa using hb)
  simpa using this
theorem bsP_4 {k : Int} (h0 : 0 ≤ k) (h : k < 4) : bsP k < 16 := by
  have := bsP_lt (k := k) (n := 4) (by omega)
  simpa using this
theorem rLin_ok {T : Int → Int} {n : Int} {s : RS} (hn : n ≤ 700) (h : RI n s) (h4 : s.2.1 4 ≠ 0) (hk : (rLin T n s).1.2.2.2.2.1 = 0) : Gd (rLin T n s).2.1 ∧ (rLin T n s).2.1 4 = s.2.1 4 ∧ ((rLin T n s).2.1 0 = s.2.1 0 ∧ (rLin T n s).2.1 1 = s.2.1 1) ∧ (0 ≤ (rLin T n s).2.2.1 ∧ (rLin T n s).2.2.1 < 512) ∧ (0 ≤ (rLin T n s).2.2.2 ∧ (rLin T n s).2.2.2 < 16) ∧ s.1.1 ≤ (rLin T n s).1.2.1 := by
  obtain ⟨hq, hl, hb, h40, -, hd⟩ := h
  have hd := hd h4
  have hg := hd.g
  have h9 := hg.2.2
  have ha := qAdv_le (T := T) hq
  have hqa : QOk n (qAdv T n s.1) := hq.adv
  unfold rLin at hk ⊢
  by_cases c1 : qIs T kStrap s.1 = true
  · rw [if_pos c1] at hk ⊢
    unfold rStr at hk ⊢
    simp only [] at hk ⊢
    have hpr := qPlc_r (T := T) (n := n) (fr := s.2.1) (but := 0) (q := qAdv T n s.1) hg
    have hpo : QOk n (qPlc T n s.2.1 0 (qAdv T n s.1)).2 := hqa.plc
    have hpl := qPlc_le (T := T) (fr := s.2.1) (but := 0) hqa
    generalize qPlc T n s.2.1 0 (qAdv T n s.1) = p at hk hpr hpo hpl ⊢
    have e := qSt4_in hk
    have hk2 := kOf_ok hg hpr.1 hpr.2 e.2.1
    have hle := qSt4_le (T := T) (fr := s.2.1) hpo
    refine ⟨?_, ?_, ⟨?_, ?_⟩, hl, hb, ?_⟩
    · show Gd (fSt T n s.2.1 p)
      unfold fSt
      rw [if_pos hk]
      exact hd.wid hk2.1 hk2.2 e.2.2
    · show fSt T n s.2.1 p 4 = _
      unfold fSt
      rw [if_pos hk, aset_ne (by omega)]
    · show fSt T n s.2.1 p 0 = _
      unfold fSt
      rw [if_pos hk, aset_ne (by omega)]
    · show fSt T n s.2.1 p 1 = _
      unfold fSt
      rw [if_pos hk, aset_ne (by omega)]
    · have := (hpl.tr hle).2
      have := ha.2
      omega
  · rw [if_neg c1] at hk ⊢
    by_cases c2 : qIs T kPad s.1 = true
    · rw [if_pos c2] at hk ⊢
      unfold rPad at hk ⊢
      simp only [] at hk ⊢
      have hpr := qPlc_r (T := T) (n := n) (fr := s.2.1) (but := s.2.1 5) (q := qAdv T n s.1) hg
      have hpl := qPlc_le (T := T) (fr := s.2.1) (but := s.2.1 5) hqa
      generalize qPlc T n s.2.1 (s.2.1 5) (qAdv T n s.1) = p at hk hpr hpl ⊢
      unfold rPa1 at hk ⊢
      by_cases d : p.2.2.2.2.2.1 = 0
      · rw [if_pos d]
        have ne : ∀ j : Int, j ≠ 5 → aset s.2.1 5 (bsO (s.2.1 5) (bsP p.1)) j = s.2.1 j := fun j hj => aset_ne hj
        refine ⟨hd.pad (NSet.O hd.pads (NSet.P hpr.1 hpr.2)), ne 4 (by omega), ⟨ne 0 (by omega), ne 1 (by omega)⟩, hl, hb, ?_⟩
        show s.1.1 ≤ p.2.2.1
        have := hpl.2
        have := ha.2
        omega
      · rw [if_neg d] at hk
        exact absurd hk d
    · rw [if_neg c2] at hk ⊢
      by_cases c3 : qIs T kLoad s.1 = true
      · rw [if_pos c3] at hk ⊢
        unfold rLod rLd2 at hk ⊢
        simp only [] at hk ⊢
        have hpr := qPlc_r (T := T) (n := n) (fr := s.2.1) (but := s.2.2.1) (q := qAdv T n s.1) hg
        have hpo : QOk n (qPlc T n s.2.1 s.2.2.1 (qAdv T n s.1)).2 := hqa.plc
        have hpl := qPlc_le (T := T) (fr := s.2.1) (but := s.2.2.1) hqa
        generalize qPlc T n s.2.1 s.2.2.1 (qAdv T n s.1) = p at hk hpr hpo hpl ⊢
        have hml := qTld_le (T := T) (w := kDraws) (lo := 1) (hi := 99) hpo
        have hmo : QOk n (qTld T n kDraws 1 99 p.2).2 := hpo.tld
        have hmi := qTld_in (T := T) (n := n) (w := kDraws) (lo := 1) (hi := 99) (q := p.2)
        generalize qTld T n kDraws 1 99 p.2 = m at hk hml hmo hmi ⊢
        have hgl := qGrp_le (T := T) hmo
        have hgi := qGrp_in (T := T) (n := n) (q := m.2)
        generalize qGrp T n m.2 = x at hk hgl hgi ⊢
        unfold rLd1 at hk ⊢
        by_cases d : x.2.2.2.2.2.1 = 0
        · rw [if_pos d]
          have hgi := hgi d
          have hmi := hmi hgi.1
          refine ⟨hd.lod hpr.1 (by omega) ⟨by omega, by omega⟩ hgi.2, ?_, ⟨?_, ?_⟩, ⟨bsO_0, bsO_512 hl.2 (bsP_9 hpr.1 (by omega))⟩, hb, ?_⟩
          · show aset (aset s.2.1 (6 + p.1) m.1) (15 + p.1) x.1 4 = _
            rw [aset_ne (by omega), aset_ne (by omega)]
          · show aset (aset s.2.1 (6 + p.1) m.1) (15 + p.1) x.1 0 = _
            rw [aset_ne (by omega), aset_ne (by omega)]
          · show aset (aset s.2.1 (6 + p.1) m.1) (15 + p.1) x.1 1 = _
            rw [aset_ne (by omega), aset_ne (by omega)]
          · show s.1.1 ≤ x.2.2.1
            have := ((hpl.tr hml).tr hgl).2
            have := ha.2
            omega
        · rw [if_neg d] at hk
          exact absurd hk d
      · rw [if_neg c3] at hk ⊢
        by_cases c4 : qIs T kBudget s.1 = true
        · rw [if_pos c4] at hk ⊢
          unfold rBud rBu3 at hk ⊢
          simp only [] at hk ⊢
          have hbo : QOk n (qBu1 s.2.2.2 (qAdv T n s.1)) := hqa.bu1
          have hbl := qBu1_le (bt := s.2.2.2) (q := qAdv T n s.1)
          generalize qBu1 s.2.2.2 (qAdv T n s.1) = b1 at hk hbo hbl ⊢
          have hxl := qTak_le (T := T) (lo := 0) (hi := 3) hbo
          have hxo : QOk n (qTak T n 0 3 b1).2 := hbo.tak
          have hxi := qTak_in (T := T) (n := n) (lo := 0) (hi := 3) (q := b1)
          generalize hxe : qTak T n 0 3 b1 = x at hk hxl hxo hxi ⊢
          have hml := qTld_le (T := T) (w := kIs) (lo := 0) (hi := 999) hxo
          have hmi := qTld_in (T := T) (n := n) (w := kIs) (lo := 0) (hi := 999) (q := x.2)
          generalize qTld T n kIs 0 999 x.2 = m at hk hml hmi ⊢
          unfold rBu2 at hk ⊢
          by_cases d : m.2.2.2.2.2.1 = 0
          · rw [if_pos d]
            have hmi := hmi d
            obtain ⟨-, -, i3, i4⟩ := hxi hmi.1
            have hx1 : 0 ≤ x.1 ∧ x.1 ≤ 3 := by rw [i4]; exact i3
            have ne : ∀ j : Int, j < 24 → aset s.2.1 (24 + x.1) m.1 j = s.2.1 j := fun j hj => aset_ne (by omega)
            refine ⟨hd.bud hx1.1 (by omega) hmi.2, ne 4 (by omega), ⟨ne 0 (by omega), ne 1 (by omega)⟩, hl, ⟨bsO_0, bsO_16 hb.2 (bsP_4 hx1.1 (by omega))⟩, ?_⟩
            show s.1.1 ≤ m.2.2.1
            have := ((hbl.tr hxl).tr hml).2
            have := ha.2
            omega
          · rw [if_neg d] at hk
            exact absurd hk d
        · rw [if_neg c4] at hk
          by_cases d : s.1.2.2.2.2.1 = 0
          · exact absurd hk (qErr_nz d (by decide))
          · rw [qErr_bad d] at hk
            exact absurd hk d
theorem qTx1_in {q : Q6} (h : (qTx1 q).2.2.2.2.1 = 0) : q.2.2.2.2.1 = 0 ∧ qTx1 q = q ∧ q.2.2.1 = 3 := by
  unfold qTx1 at h ⊢
  by_cases c : q.2.2.2.2.1 = 0 ∧ q.2.2.1 ≠ 3
  · rw [if_pos c] at h
    exact absurd h (qErr_nz c.1 (by decide))
  · rw [if_neg c] at h ⊢
    exact ⟨h, rfl, Classical.byContradiction fun z => c ⟨h, z⟩⟩
theorem rFst_le {T : Int → Int} {n : Int} {s : RS} (h : QOk n s.1) (hk : (qExp T n kGrid s.1).2.2.2.2.1 = 0) : s.1.1 ≤ (rFst T n s).1.2.1 := by
  obtain ⟨e1, e2, e3⟩ := qExp_in hk
  have h0 : s.1.1 ≤ (qExp T n kGrid s.1).2.1 := by rw [e3]; exact (qAdv_le h).2
  have h1 : qLe (qExp T n kGrid s.1) (rFst T n s).1 := by
    unfold rFst rFi1 rFi2 rFi3 rFi4
    have a1 : qLe (qExp T n kGrid s.1) (qFi2 T n s.1).2 := qTld_le h.exp
    have a2 : qLe (qFi2 T n s.1).2 (qFi3 T n (qFi2 T n s.1)).2 := ((qExp_le h.fi2).tr qFi1_le).tr (qTak_le h.fi2.exp.fi1)
    have o3 : QOk n (qFi3 T n (qFi2 T n s.1)).2 := h.fi2.fi3
    have a3 := qTld_le (T := T) (w := kWidth) (lo := 0) (hi := 4) o3
    have o4 : QOk n (qTld T n kWidth 0 4 (qFi3 T n (qFi2 T n s.1)).2).2 := o3.tld
    have a4 := qTld_le (T := T) (w := kLimit) (lo := 0) (hi := 999) o4
    have o5 : QOk n (qTld T n kLimit 0 999 (qTld T n kWidth 0 4 (qFi3 T n (qFi2 T n s.1)).2).2).2 := o4.tld
    have a5 := qTld_le (T := T) (w := kWear) (lo := 1) (hi := 999) o5
    have a6 := (((a1.tr a2).tr a3).tr a4).tr a5
    split
    · exact a6
    · exact a6
  have := h1.2
  omega
/-- one line more -/
theorem rTxt_ok {T : Int → Int} {n : Int} {s : RS} (hn : n ≤ 700) (h : RI n s) (hk : (rTxt T n s).1.2.2.2.2.1 = 0) : RI n (rTxt T n s) ∧ s.1.1 < (rTxt T n s).1.1 ∧ (rTxt T n s).2.1 4 = s.2.1 4 + 1 ∧ Gd (rTxt T n s).2.1 := by
  have hT := QOk.txt (T := T) h.1
  have hq := h.1
  obtain ⟨-, hl, hb, h40, hz, hd⟩ := h
  unfold rTxt at hk hT ⊢
  by_cases c : s.2.1 4 = 0
  · rw [if_pos c] at hk hT ⊢
    unfold rTx1 at hk hT ⊢
    simp only [] at hk hT ⊢
    have k1 := qTx1_in (qSt3_in hk)
    have hf : QOk n (rFst T n s).1 := hq.fst
    obtain ⟨c', r, w, l, e, i1, i2, i3, i4, i5, i6⟩ := rFst_in k1.1
    have hle := rFst_le hq i5
    have i7 := fLay_gd (hz c) i1 i2 i3 i4
    have hx := hf.2.2.2.2.2.2 (by rw [k1.2.2]; decide)
    have hq3 := qSt3_le (T := T) hf.tx1
    rw [k1.2.1] at hq3
    have e6 : (rFst T n s).2.1 = fLay c' r w (fFi0 s.2.1 c' r l e) := by rw [i6]
    have e7 : (rFst T n s).2.2 = s.2.2 := by rw [i6]
    rw [k1.2.1] at hT ⊢
    rw [e6, e7, i7.2.1, c]
    have hgd : Gd (aset (fLay c' r w (fFi0 s.2.1 c' r l e)) 4 (0 + 1)) := i7.1
    have hq31 := hq3.1
    refine ⟨⟨hT, hl, hb, ?_, fun z => ?_, fun _ => hgd⟩, ?_, ?_, hgd⟩
    · show 0 ≤ aset (fLay c' r w (fFi0 s.2.1 c' r l e)) 4 (0 + 1) 4 ∧ aset (fLay c' r w (fFi0 s.2.1 c' r l e)) 4 (0 + 1) 4 ≤ (qSt3 T n (rFst T n s).1).1
      rw [aset_at]
      constructor
      · omega
      · have : 0 ≤ s.1.1 := hq.1.1
        omega
    · have z2 : aset (fLay c' r w (fFi0 s.2.1 c' r l e)) 4 (0 + 1) 4 = 0 := z
      rw [aset_at] at z2
      omega
    · show s.1.1 < (qSt3 T n (rFst T n s).1).1
      omega
    · exact aset_at _ _ _
  · rw [if_neg c] at hk hT ⊢
    unfold rTx1 at hk hT ⊢
    simp only [] at hk hT ⊢
    have k1 := qTx1_in (qSt3_in hk)
    have hf : QOk n (rLin T n s).1 := hq.lin
    have i := rLin_ok hn ⟨hq, hl, hb, h40, hz, hd⟩ c k1.1
    have hx := hf.2.2.2.2.2.2 (by rw [k1.2.2]; decide)
    have hq3 := qSt3_le (T := T) hf.tx1
    rw [k1.2.1] at hq3
    have hq31 := hq3.1
    rw [k1.2.1] at hT ⊢
    have ha7 : s.1.1 ≤ 700 := by have := hq.1.2; omega
    have hgd : Gd (aset (rLin T n s).2.1 4 ((rLin T n s).2.1 4 + 1)) := i.1.lin (by rw [i.2.1]; omega) (by rw [i.2.1]; omega)
    have e4 := i.2.1
    refine ⟨⟨hT, i.2.2.2.1, i.2.2.2.2.1, ?_, fun z => ?_, fun _ => hgd⟩, ?_, ?_, hgd⟩
    · show 0 ≤ aset (rLin T n s).2.1 4 ((rLin T n s).2.1 4 + 1) 4 ∧ aset (rLin T n s).2.1 4 ((rLin T n s).2.1 4 + 1) 4 ≤ (qSt3 T n (rLin T n s).1).1
      rw [aset_at, e4]
      have := i.2.2.2.2.2
      constructor <;> omega
    · have z2 : aset (rLin T n s).2.1 4 ((rLin T n s).2.1 4 + 1) 4 = 0 := z
      rw [aset_at, e4] at z2
      omega
    · have := i.2.2.2.2.2
      show s.1.1 < (qSt3 T n (rLin T n s).1).1
      omega
    · show aset (rLin T n s).2.1 4 ((rLin T n s).2.1 4 + 1) 4 = _
      rw [aset_at, e4]

