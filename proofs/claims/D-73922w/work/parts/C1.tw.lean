/-! what is told so far, and the grid that the model reads -/
section TW
variable {F wd fr to ld gr bu : Int → Int} {c rw lm we ss pd ln dw : Int}
theorem NW.upd2 {w' nw nl ng nb : Int → Int} {np nln : Int} (h : NW F wd fr to ld gr bu c rw lm we ss pd ln) (hd0 : Gd F) (hd : Gd w') (e0 : w' 0 = F 0) (e1 : w' 1 = F 1) (e2 : w' 2 = F 2) (e3 : w' 3 = F 3) (hln : nln = w' 4) (hp : np = w' 5) (hl : ∀ v : Int, 0 ≤ v → v < 9 → nl v = w' (6 + v)) (hg : ∀ v : Int, 0 ≤ v → v < 9 → ng v = w' (15 + v)) (hb : ∀ v : Int, 0 ≤ v → v < 4 → nb v = w' (24 + v)) (hw : ∀ k : Int, 0 ≤ k → k < 12 → nw k = w' (28 + k)) : NW w' nw fr to nl ng nb c rw lm we ss np nln := by
  have eS : wS w' = wS F := by unfold wS; rw [e0, e1]
  refine ⟨Or.inl hd, ⟨by rw [e0]; exact h.c, by rw [e1]; exact h.r, by rw [e2]; exact h.lim, by rw [e3]; exact h.we, hln, hp⟩, ?_, hl, hg, fun _ => hb, hw, fun _ k a b => by rw [e0, e1]; exact h.en hd0.l.1 k a (by rw [← eS]; exact b)⟩
  rw [if_pos hd.l.1, eS]
  exact h.s hd0
/-- what is told between two lines -/
def TW (F : Int → Int) (dw : Int) (wd fr to ld gr bu : Int → Int) (c rw lm we ss pd ln : Int) : Prop := NW F wd fr to ld gr bu c rw lm we ss pd ln ∧ (F 4 = 0 → ∀ v : Int, 0 ≤ v → v < 4 → bu v = 999) ∧ (∀ v : Int, 0 ≤ v → v < 9 → bsB dw v = false → F (15 + v) = 0)
theorem TW.str {k x : Int} (h : TW F dw wd fr to ld gr bu c rw lm we ss pd ln) (hd : Gd F) (h4 : F 4 < 1000) (h0 : 0 ≤ k) (h1 : k < wS F) (hx : 0 ≤ x ∧ x ≤ 4) : TW (aset (aset F (28 + k) x) 4 (aset F (28 + k) x 4 + 1)) dw (aset wd k x) fr to ld gr bu c rw lm we ss pd (ln + 1) := by
  have hl := hd.l
  have hs := hd.s
  have e4 : aset F (28 + k) x 4 = F 4 := aset_ne (by omega)
  rw [e4]
  refine ⟨h.1.upd2 hd ((hd.wid h0 h1 hx).lin (by omega) (by omega)) (by rw [aset_ne (by omega), aset_ne (by omega)]) (by rw [aset_ne (by omega), aset_ne (by omega)]) (by rw [aset_ne (by omega), aset_ne (by omega)]) (by rw [aset_ne (by omega), aset_ne (by omega)]) (by rw [aset_at, h.1.ln]) (by rw [aset_ne (by omega), aset_ne (by omega)]; exact h.1.pd) (fun v a b => by rw [aset_ne (by omega), aset_ne (by omega)]; exact h.1.ld v a b) (fun v a b => by rw [aset_ne (by omega), aset_ne (by omega)]; exact h.1.gr v a b) (fun v a b => by rw [aset_ne (by omega), aset_ne (by omega)]; exact h.1.bu hl.1 v a b) (fun j a b => ?_), fun z => ?_, fun v a b z => ?_⟩
  · rw [aset_ne (i := 4) (k := 28 + j) (by omega)]
    by_cases e : j = k
    · rw [e, aset_at, aset_at]
    · rw [aset_ne e, aset_ne (by omega)]; exact h.1.wd j a b
  · rw [aset_at] at z; omega
  · rw [aset_ne (by omega), aset_ne (by omega)]; exact h.2.2 v a b z
theorem TW.pad {p : Int} (h : TW F dw wd fr to ld gr bu c rw lm we ss pd ln) (hd : Gd F) (h4 : F 4 < 1000) (hp : NSet (F 0) (F 1) p) : TW (aset (aset F 5 p) 4 (aset F 5 p 4 + 1)) dw wd fr to ld gr bu c rw lm we ss p (ln + 1) := by
  have hl := hd.l
  have e4 : aset F 5 p 4 = F 4 := aset_ne (by omega)
  rw [e4]
  refine ⟨h.1.upd2 hd ((hd.pad hp).lin (by omega) (by omega)) (by rw [aset_ne (by omega), aset_ne (by omega)]) (by rw [aset_ne (by omega), aset_ne (by omega)]) (by rw [aset_ne (by omega), aset_ne (by omega)]) (by rw [aset_ne (by omega), aset_ne (by omega)]) (by rw [aset_at, h.1.ln]) (by rw [aset_ne (by omega), aset_at]) (fun v a b => by rw [aset_ne (by omega), aset_ne (by omega)]; exact h.1.ld v a b) (fun v a b => by rw [aset_ne (by omega), aset_ne (by omega)]; exact h.1.gr v a b) (fun v a b => by rw [aset_ne (by omega), aset_ne (by omega)]; exact h.1.bu hl.1 v a b) (fun j a b => by rw [aset_ne (by omega), aset_ne (by omega)]; exact h.1.wd j a b), fun z => ?_, fun v a b z => ?_⟩
  · rw [aset_at] at z; omega
  · rw [aset_ne (by omega), aset_ne (by omega)]; exact h.2.2 v a b z
theorem TW.bud {v m : Int} (h : TW F dw wd fr to ld gr bu c rw lm we ss pd ln) (hd : Gd F) (h4 : F 4 < 1000) (h0 : 0 ≤ v) (h1 : v < 4) (hm : 0 ≤ m ∧ m ≤ 999) : TW (aset (aset F (24 + v) m) 4 (aset F (24 + v) m 4 + 1)) dw wd fr to ld gr (aset bu v m) c rw lm we ss pd (ln + 1) := by
  have hl := hd.l
  have e4 : aset F (24 + v) m 4 = F 4 := aset_ne (by omega)
  rw [e4]
  refine ⟨h.1.upd2 hd ((hd.bud h0 h1 hm).lin (by omega) (by omega)) (by rw [aset_ne (by omega), aset_ne (by omega)]) (by rw [aset_ne (by omega), aset_ne (by omega)]) (by rw [aset_ne (by omega), aset_ne (by omega)]) (by rw [aset_ne (by omega), aset_ne (by omega)]) (by rw [aset_at, h.1.ln]) (by rw [aset_ne (by omega), aset_ne (by omega)]; exact h.1.pd) (fun v a b => by rw [aset_ne (by omega), aset_ne (by omega)]; exact h.1.ld v a b) (fun v a b => by rw [aset_ne (by omega), aset_ne (by omega)]; exact h.1.gr v a b) (fun u a b => ?_) (fun j a b => by rw [aset_ne (by omega), aset_ne (by omega)]; exact h.1.wd j a b), fun z => ?_, fun v a b z => ?_⟩
  · rw [aset_ne (i := 4) (k := 24 + u) (by omega)]
    by_cases e : u = v
    · rw [e, aset_at, aset_at]
    · rw [aset_ne e, aset_ne (by omega)]; exact h.1.bu hl.1 u a b
  · rw [aset_at] at z; omega
  · rw [aset_ne (by omega), aset_ne (by omega)]; exact h.2.2 v a b z
theorem TW.lod {v m x : Int} {b : Bool} (h : TW F dw wd fr to ld gr bu c rw lm we ss pd ln) (hd : Gd F) (h4 : F 4 < 1000) (h0 : 0 ≤ v) (h1 : v < 9) (hm : 0 ≤ m ∧ m ≤ 99) (hx : 0 ≤ x ∧ x ≤ 3) (hv : bsB dw v = false) (hb : b = false → x = 0) : TW (aset (aset (aset F (6 + v) m) (15 + v) x) 4 (aset (aset F (6 + v) m) (15 + v) x 4 + 1)) (bsO dw (bsP v)) wd fr to (aset ld v m) (if b = true then aset gr v x else gr) bu c rw lm we ss pd (ln + 1) := by
  have hl := hd.l
  have e4 : aset (aset F (6 + v) m) (15 + v) x 4 = F 4 := by rw [aset_ne (by omega), aset_ne (by omega)]
  rw [e4]
  refine ⟨h.1.upd2 hd ((hd.lod h0 h1 hm hx).lin (by omega) (by omega)) (by rw [aset_ne (by omega), aset_ne (by omega), aset_ne (by omega)]) (by rw [aset_ne (by omega), aset_ne (by omega), aset_ne (by omega)]) (by rw [aset_ne (by omega), aset_ne (by omega), aset_ne (by omega)]) (by rw [aset_ne (by omega), aset_ne (by omega), aset_ne (by omega)]) (by rw [aset_at, h.1.ln]) (by rw [aset_ne (by omega), aset_ne (by omega), aset_ne (by omega)]; exact h.1.pd) (fun u a b => ?_) (fun u a b => ?_) (fun v a b => by rw [aset_ne (by omega), aset_ne (by omega), aset_ne (by omega)]; exact h.1.bu hl.1 v a b) (fun j a b => by rw [aset_ne (by omega), aset_ne (by omega), aset_ne (by omega)]; exact h.1.wd j a b), fun z => ?_, fun u a b z => ?_⟩
  · rw [aset_ne (i := 4) (k := 6 + u) (by omega), aset_ne (i := 15 + v) (k := 6 + u) (by omega)]
    by_cases e : u = v
    · rw [e, aset_at, aset_at]
    · rw [aset_ne e, aset_ne (by omega)]; exact h.1.ld u a b
  · rw [aset_ne (by omega)]
    by_cases e : u = v
    · rw [e, aset_at]
      split
      · rw [aset_at]
      · rename_i z
        rw [h.1.gr v h0 h1, h.2.2 v h0 h1 hv, hb (Bool.eq_false_iff.mpr z)]
    · rw [aset_ne (by omega), aset_ne (by omega)]
      split
      · rw [aset_ne e]; exact h.1.gr u a b
      · exact h.1.gr u a b
  · rw [aset_at] at z; omega
  · rw [bsB_O, bsB_P h0 a, Bool.or_eq_false_iff, decide_eq_false_iff_not] at z
    rw [aset_ne (by omega), aset_ne (by omega), aset_ne (by omega)]
    exact h.2.2 u a b z.1
theorem TW.fst {wd' fr' to' : Int → Int} {c' r' w' l' e' : Int} (h : TW F dw wd fr to ld gr bu c rw lm we ss pd ln) (hz : Zw F) (hg : GW c' r') (hw : 0 ≤ w' ∧ w' ≤ 4) (hl : 0 ≤ l' ∧ l' ≤ 999) (he : 1 ≤ e' ∧ e' ≤ 999) (hA : ∀ k, 0 ≤ k → k < sN c' r' → fr' k = sF c' r' k ∧ to' k = sT c' r' k ∧ wd' k = w') (hB : ∀ k, sN c' r' ≤ k → k < 12 → wd' k = wd k) : TW (aset (fLay c' r' w' (fFi0 F c' r' l' e')) 4 (fLay c' r' w' (fFi0 F c' r' l' e') 4 + 1)) dw wd' fr' to' ld gr bu c' r' l' e' (sN c' r') pd (ln + 1) := by
  have h12 := sN_12 hg
  have h00 := sN_0 (c := c') (r := r')
  obtain ⟨hG, e4, f0, f1⟩ := fLay_gd hz hg hw hl he
  have z4 := hz 4 (by omega) (by omega)
  have hln := h.1.ln
  rw [e4]
  have f2 : fLay c' r' w' (fFi0 F c' r' l' e') 2 = l' := by
    unfold fLay fFi0
    rw [if_neg (by omega), if_neg (by omega), aset_ne (by omega), aset_at]
  have f3 : fLay c' r' w' (fFi0 F c' r' l' e') 3 = e' := by
    unfold fLay fFi0
    rw [if_neg (by omega), if_neg (by omega), aset_at]
  have fo : ∀ j : Int, 4 ≤ j → j < 24 → fLay c' r' w' (fFi0 F c' r' l' e') j = F j := by
    intro j h0 h1
    unfold fLay fFi0
    rw [if_neg (by omega), if_neg (by omega), aset_ne (by omega), aset_ne (by omega), aset_ne (by omega), aset_ne (by omega)]
  have fb : ∀ v : Int, 0 ≤ v → v < 4 → fLay c' r' w' (fFi0 F c' r' l' e') (24 + v) = 999 := by
    intro v h0 h1
    unfold fLay
    rw [if_pos (by omega)]
  have fw : ∀ k : Int, 0 ≤ k → k < 12 → fLay c' r' w' (fFi0 F c' r' l' e') (28 + k) = if k < sN c' r' then w' else F (28 + k) := by
    intro k h0 h1
    unfold fLay fFi0
    rw [if_neg (by omega)]
    by_cases d : k < sN c' r'
    · rw [if_pos (by omega), if_pos d]
    · rw [if_neg (by omega), if_neg d, aset_ne (by omega), aset_ne (by omega), aset_ne (by omega), aset_ne (by omega)]
  generalize hW : fLay c' r' w' (fFi0 F c' r' l' e') = W at *
  have eS : wS (aset W 4 (0 + 1)) = sN c' r' := by
    unfold wS
    rw [aset_ne (by omega), aset_ne (by omega), f0, f1]
  refine ⟨⟨Or.inl hG, ⟨by rw [aset_ne (by omega), f0], by rw [aset_ne (by omega), f1], by rw [aset_ne (by omega), f2], by rw [aset_ne (by omega), f3], by rw [aset_at, hln, z4], by rw [aset_ne (by omega), fo 5 (by omega) (by omega)]; exact h.1.pd⟩, ?_, fun v a b => ?_, fun v a b => ?_, fun _ v a b => ?_, fun k a b => ?_, fun _ k a b => ?_⟩, fun z => ?_, fun v a b z => ?_⟩
  · rw [aset_at, if_pos (by decide), eS]
  · rw [aset_ne (by omega), fo _ (by omega) (by omega)]; exact h.1.ld v a b
  · rw [aset_ne (by omega), fo _ (by omega) (by omega)]; exact h.1.gr v a b
  · rw [aset_ne (by omega), fb v a b]; exact h.2.1 z4 v a b
  · rw [aset_ne (by omega), fw k a b]
    split
    · rename_i d; exact (hA k a d).2.2
    · rename_i d; rw [hB k (by omega) b]; exact h.1.wd k a b
  · rw [eS] at b
    rw [aset_ne (by omega), aset_ne (by omega), f0, f1]
    exact ⟨(hA k a b).1, (hA k a b).2.1⟩
  · rw [aset_at] at z; omega
  · rw [aset_ne (by omega), fo _ (by omega) (by omega)]; exact h.2.2 v a b z
end TW
theorem rRun_bad {T : Int → Int} {n : Int} {k : Nat} {s f : RS} (h : rRun T n k s f) (hk : s.1.2.2.2.2.1 ≠ 0) : f = s := by
  cases k with
  | zero => exact h.2
  | succ k => exact absurd h.1.1 hk
theorem rTx1_bad {T : Int → Int} {n : Int} {s : RS} (h : s.1.2.2.2.2.1 ≠ 0) : (rTx1 T n s).1 = s.1 := by
  have e : qTx1 s.1 = s.1 := if_neg (fun z => h z.1)
  show qSt3 T n (qTx1 s.1) = s.1
  rw [e]
  exact qSt3_bad h
theorem rTx1_no {T : Int → Int} {n : Int} {s : RS} (h : s.1.2.2.2.2.1 = 0) (h3 : s.1.2.2.1 ≠ 3) : (rTx1 T n s).1 = qErr 1 s.1 := by
  have e : qTx1 s.1 = qErr 1 s.1 := if_pos ⟨h, h3⟩
  show qSt3 T n (qTx1 s.1) = _
  rw [e]
  exact qSt3_bad (qErr_nz h (by decide))
theorem rTx1_good {T : Int → Int} {n : Int} {s : RS} (h : s.1.2.2.2.2.1 = 0) (h3 : s.1.2.2.1 = 3) : rTx1 T n s = (qAdv T n s.1, aset s.2.1 4 (s.2.1 4 + 1), s.2.2) := by
  have e : qTx1 s.1 = s.1 := if_neg (fun z => z.2 h3)
  unfold rTx1
  rw [e]
  unfold qSt3
  rw [if_pos h]

