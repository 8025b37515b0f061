/-! the reader: the first line -/
theorem fi_rows {T : Int → Int} {n : Int} {x : Int × Q6} (h1 : 1 ≤ x.1) : qTld T n kRows 1 (Int.tdiv 9 x.1) x.2 = qFi3 T n x := by
  unfold qTld qFi3
  generalize qExp T n kRows x.2 = q
  have hd : ∀ v : Int, v ≤ Int.tdiv 9 x.1 ↔ x.1 * v ≤ 9 := fun v => by
    rw [Int.tdiv_eq_ediv_of_nonneg (by decide), Int.le_ediv_iff_mul_le (by omega), Int.mul_comm]
  by_cases hk : q.2.2.2.2.1 = 0
  · by_cases h2 : q.2.2.1 = 2
    · by_cases hv : 1 ≤ q.2.2.2.1 ∧ x.1 * q.2.2.2.1 ≤ 9
      · have h9 : q.2.2.2.1 ≤ 9 := by
          have := Int.mul_le_mul_of_nonneg_right (a := 1) (b := x.1) (c := q.2.2.2.1) h1 (by omega)
          omega
        have e1 : qFi1 x.1 q = q := if_neg (fun z => by have := z.2; omega)
        rw [e1]
        unfold qTak
        rw [if_neg (fun y => y hk), if_neg (fun y => y h2), if_neg (fun y => y ⟨hv.1, (hd _).mpr hv.2⟩), if_neg (fun y => y hk), if_neg (fun y => y h2), if_neg (fun y => y ⟨hv.1, h9⟩)]
      · have e0 : qTak T n 1 (Int.tdiv 9 x.1) q = (0, qErr 2 q) := by
          unfold qTak
          rw [if_neg (fun y => y hk), if_neg (fun y => y h2), if_pos (fun y => hv ⟨y.1, (hd _).mp y.2⟩)]
        rw [e0]
        by_cases h3 : (1 ≤ q.2.2.2.1 ∧ q.2.2.2.1 ≤ 9) ∧ 9 < x.1 * q.2.2.2.1
        · have e1 : qFi1 x.1 q = qErr 2 q := if_pos ⟨⟨⟨hk, h2⟩, h3.1⟩, h3.2⟩
          rw [e1, qTak_bad (qErr_nz hk (by decide))]
        · have e1 : qFi1 x.1 q = q := if_neg (fun z => h3 ⟨z.1.2, z.2⟩)
          rw [e1]
          unfold qTak
          rw [if_neg (fun y => y hk), if_neg (fun y => y h2), if_pos (fun y => ?_)]
          by_cases h4 : 9 < x.1 * q.2.2.2.1
          · exact h3 ⟨y, h4⟩
          · exact hv ⟨y.1, by omega⟩
    · have e1 : qFi1 x.1 q = q := if_neg (fun z => h2 z.1.1.2)
      rw [e1]
      unfold qTak
      rw [if_neg (fun y => y hk), if_pos h2, if_neg (fun y => y hk), if_pos h2]
  · have e1 : qFi1 x.1 q = q := if_neg (fun z => hk z.1.1.1)
    rw [e1, qTak_bad hk, qTak_bad hk]
theorem qFi3_bad {T : Int → Int} {n : Int} {x : Int × Q6} (h : x.2.2.2.2.2.1 ≠ 0) : qFi3 T n x = (0, x.2) := by
  unfold qFi3
  have e1 : qFi1 x.1 x.2 = x.2 := if_neg (fun z => h z.1.1.1)
  rw [qExp_bad h, e1, qTak_bad h]
/-- the first line's numbers, after columns and rows -/
def qF3 (T : Int → Int) (n : Int) (q : Q6) : Int × Q6 := qTld T n kWidth 0 4 (qFi3 T n (qFi2 T n q)).2
def qF4 (T : Int → Int) (n : Int) (q : Q6) : Int × Q6 := qTld T n kLimit 0 999 (qF3 T n q).2
def qF5 (T : Int → Int) (n : Int) (q : Q6) : Int × Q6 := qTld T n kWear 1 999 (qF4 T n q).2
theorem qF3_bad {T : Int → Int} {n : Int} {q : Q6} (h : (qFi3 T n (qFi2 T n q)).2.2.2.2.2.1 ≠ 0) : (qF5 T n q).2 = (qFi3 T n (qFi2 T n q)).2 := by
  unfold qF5 qF4 qF3
  rw [qTld_bad h, qTld_bad h, qTld_bad h]
theorem qF2_bad {T : Int → Int} {n : Int} {q : Q6} (h : (qFi2 T n q).2.2.2.2.2.1 ≠ 0) : (qF5 T n q).2 = (qFi2 T n q).2 := by
  have e := qFi3_bad (T := T) (n := n) h
  rw [qF3_bad (by rw [e]; exact h), e]
theorem rFst_q {T : Int → Int} {n : Int} {s : RS} (h : (qF5 T n s.1).2.2.2.2.2.1 = 0) : rFst T n s = ((qF5 T n s.1).2, fLay (qFi2 T n s.1).1 (qFi3 T n (qFi2 T n s.1)).1 (qF3 T n s.1).1 (fFi0 s.2.1 (qFi2 T n s.1).1 (qFi3 T n (qFi2 T n s.1)).1 (qF4 T n s.1).1 (qF5 T n s.1).1), s.2.2) := by
  unfold rFst rFi1 rFi2 rFi3 rFi4
  exact if_pos h
theorem rFst_q1 {T : Int → Int} {n : Int} {s : RS} : (rFst T n s).1 = (qF5 T n s.1).2 := by
  unfold rFst rFi1 rFi2 rFi3 rFi4
  split
  · rfl
  · rfl
section R4
variable {g : GX} {ws : va_W} {T : Int → Int} {qt : Nat}
variable {r tp : Nat} {τ : Nat → Nat} {n ap bg tk vl dw bd : Int} {wd fr to ld gr bu : Int → Int} {c rw lm we ss pd ln md sz : Int} {el : Nat → Option Nat}
theorem c_X6_grid (hG : Gok g) {e1 e2 : Nat} (W : GEn g e1 e2) (TT : GT g) (TH : GTh g) {κ : Nat → Nat} (GR : GRs g κ) {q : Q6} (ht : ws[qt]? = some (tp, .inl (g.2.2.1 2, 700, .inl (arI T)))) (hn : n ≤ 700) (hT : TpOk T) (hq : QOk n q) (hk : q.2.2.2.2.1 = 0) (hv : q.2.2.1 = 2 → vl = q.2.2.2.1) : XMetT g yX6_grid cX6_grid 1 none (8) [.ref r] (wRd g r tp τ n (q.1) (q.2.1) (q.2.2.1) vl dw bd wd fr to ld gr bu c rw lm we (0) pd ln md sz el ++ ws) (pV (fun ww => (qF5 T n q).2.2.2.2.2.1 = 0 ∧ ∃ (vl' : Int) (wd' fr' to' : Int → Int), ((qF5 T n q).2.2.2.1 = 2 → vl' = (qF5 T n q).2.2.2.2.1) ∧ ((∀ k, 0 ≤ k → k < sN (qFi2 T n q).1 (qFi3 T n (qFi2 T n q)).1 → fr' k = sF (qFi2 T n q).1 (qFi3 T n (qFi2 T n q)).1 k ∧ to' k = sT (qFi2 T n q).1 (qFi3 T n (qFi2 T n q)).1 k ∧ wd' k = (qF3 T n q).1) ∧ (∀ k, sN (qFi2 T n q).1 (qFi3 T n (qFi2 T n q)).1 ≤ k → k < 12 → wd' k = wd k)) ∧ ww = (wRd g r tp τ n (((qF5 T n q).2).1) (((qF5 T n q).2).2.1) (((qF5 T n q).2).2.2.1) (vl') dw bd (wd') (fr') (to') ld gr bu ((qFi2 T n q).1) ((qFi3 T n (qFi2 T n q)).1) ((qF4 T n q).1) ((qF5 T n q).1) (sN (qFi2 T n q).1 (qFi3 T n (qFi2 T n q)).1) pd ln md sz el ++ ws))) (pTq ws (qF5 T n q).2) := by
  refine XMetT.of (L := [some (.ref r)]) hG (by decide +kernel) (Nat.le_of_ble_eq_true rfl) rfl (fun K C E => ?_)
  refine r_aload_0 C dX6_grid_0 ?_
  refine r_ldcS C (GR.at 89 kGrid (by decide)).1 dX6_grid_1 ?_
  refine r_cT1v C E (c_X6_needs hG (GR.at 89 kGrid (by decide)).2 TT TH GR ht hn hT hq hk hv) (q0 := 0) rfl rfl q469 pkX6_needs dX6_grid_3 (fun a ww h => by
    have e : qFi2 T n q = (0, qExp T n kGrid q) := qTld_bad h.1
    rw [qF2_bad (by rw [e]; exact h.1), e]
    exact h) (fun w h => ?_)
  obtain ⟨h1, vl1, hv1, rfl⟩ := h
  refine r_aload_0 C dX6_grid_6 ?_
  refine gR_t C q434 dX6_grid_7 ?_
  refine r_aload_0 C dX6_grid_10 ?_
  refine r_ldcS C (GR.at 91 kColumns (by decide)).1 dX6_grid_11 ?_
  refine r_iconst C dX6_grid_13 ?_
  refine r_bipush C dX6_grid_14 ?_
  refine r_cT3i C E (c_X6_named hG (GR.at 91 kColumns (by decide)).2 TT TH GR ht hn hT hq.exp h1 hv1 (by unfold inR; omega) (by unfold inR; omega)) (q0 := 0) rfl rfl q597 pkX6_named dX6_grid_16 (fun a ww h => by
    rw [qF2_bad h.1]
    exact h) (fun z w h => ?_)
  obtain ⟨⟨rfl, h2⟩, vl2, hv2, rfl⟩ := h
  have hx1 : 1 ≤ (qFi2 T n q).1 ∧ (qFi2 T n q).1 ≤ 9 := (qTld_in h2).2
  have hxo : QOk n (qFi2 T n q).2 := hq.fi2
  have hfi := fi_rows (T := T) (n := n) hx1.1
  have hxk : (qFi2 T n q).2.2.2.2.2.1 = 0 := h2
  have htd : 0 ≤ Int.tdiv 9 (qFi2 T n q).1 ∧ Int.tdiv 9 (qFi2 T n q).1 ≤ 9 := by
    rw [Int.tdiv_eq_ediv_of_nonneg (by decide)]
    exact ⟨Int.ediv_nonneg (by decide) (by omega), Int.ediv_le_self _ (by decide)⟩
  change AW g K (wRd g r tp τ n (((qFi2 T n q).2).1) (((qFi2 T n q).2).2.1) (((qFi2 T n q).2).2.2.1) (vl2) dw bd wd fr to ld gr bu c rw lm we (0) pd ln md sz el ++ ws) _ _ 19 _ [.int (jI (qFi2 T n q).1), .ref (τ 0)]
  have hgw := fun z => qFi3_in (T := T) (n := n) hx1.1 z
  replace hv2 : (qFi2 T n q).2.2.2.1 = 2 → vl2 = (qFi2 T n q).2.2.2.2.1 := hv2
  have hf5 := qF3_bad (T := T) (n := n) (q := q)
  have hyo : QOk n (qFi3 T n (qFi2 T n q)).2 := hxo.fi3
  unfold qF5 qF4 qF3 at E hf5
  generalize qFi2 T n q = x at E hx1 hxo hfi hxk htd hv2 hgw hf5 hyo ⊢
  refine pRT_columns C q221 dX6_grid_19 ?_
  refine r_aload_0 C dX6_grid_22 ?_
  refine gR_t C q434 dX6_grid_23 ?_
  refine r_aload_0 C dX6_grid_26 ?_
  refine r_ldcS C (GR.at 99 kRows (by decide)).1 dX6_grid_27 ?_
  refine r_iconst C dX6_grid_29 ?_
  refine r_bipush C dX6_grid_30 ?_
  refine r_aload_0 C dX6_grid_32 ?_
  refine gR_t C q434 dX6_grid_33 ?_
  refine gRT_columns C q221 dX6_grid_36 ?_
  refine r_idiv C dX6_grid_39 ?_
  refine r_cT3i C E (c_X6_named hG (GR.at 99 kRows (by decide)).2 TT TH GR ht hn hT hxo hxk hv2 (by unfold inR; omega) (by unfold inR; omega)) (q0 := 0) rfl rfl q597 pkX6_named dX6_grid_40 (fun a ww h => by
    rw [hfi] at h
    rw [hf5 h.1]
    exact h) (fun z w h => ?_)
  rw [hfi] at h
  obtain ⟨⟨rfl, h3⟩, vl3, hv3, rfl⟩ := h
  have hg := (hgw h3).2
  have h9 := hg.c9
  have hr1 := hg.2.1
  have hcr := hg.2.2
  generalize qFi3 T n x = y at E h3 hv3 hg h9 hr1 hcr hyo ⊢
  refine pRT_rows C q225 dX6_grid_43 ?_
  refine r_aload_0 C dX6_grid_46 ?_
  refine gR_t C q434 dX6_grid_47 ?_
  refine r_aload_0 C dX6_grid_50 ?_
  refine r_ldcS C (GR.at 103 kWidth (by decide)).1 dX6_grid_51 ?_
  refine r_iconst C dX6_grid_53 ?_
  refine r_iconst C dX6_grid_54 ?_
  refine r_cT3i C E (c_X6_named hG (GR.at 103 kWidth (by decide)).2 TT TH GR ht hn hT hyo h3 hv3 (by unfold inR; omega) (by unfold inR; omega)) (q0 := 0) rfl rfl q597 pkX6_named dX6_grid_55 (fun a ww h => by
    rw [qTld_bad h.1, qTld_bad h.1]
    exact h) (fun z w h => ?_)
  obtain ⟨⟨rfl, h4⟩, vl4, hv4, rfl⟩ := h
  have hzo : QOk n (qTld T n kWidth 0 4 y.2).2 := hyo.tld
  refine AW.perm (List.perm_middle (l₁ := wT g τ wd fr to ld gr bu x.1 y.1 lm we 0 pd ln md sz el) (l₂ := ws)).symm ?_
  refine r_cV1v C (c_T_lays hG W hg) (q0 := 0) rfl rfl q611 pkX1_lays dX6_grid_58 (fun w h => ?_)
  obtain ⟨wd', fr', to', hA, hB, rfl⟩ := h
  refine AW.perm List.perm_middle ?_
  generalize qTld T n kWidth 0 4 y.2 = z at E h4 hv4 hzo hA ⊢
  refine r_aload_0 C dX6_grid_61 ?_
  refine gR_t C q434 dX6_grid_62 ?_
  refine r_aload_0 C dX6_grid_65 ?_
  refine r_ldcS C (GR.at 109 kLimit (by decide)).1 dX6_grid_66 ?_
  refine r_iconst C dX6_grid_68 ?_
  refine r_sipush C dX6_grid_69 ?_
  refine r_cT3i C E (c_X6_named hG (GR.at 109 kLimit (by decide)).2 TT TH GR ht hn hT hzo h4 hv4 (by unfold inR; omega) (by unfold inR; omega)) (q0 := 0) rfl rfl q597 pkX6_named dX6_grid_72 (fun a ww h => by
    rw [qTld_bad h.1]
    exact h) (fun z w h => ?_)
  obtain ⟨⟨rfl, h5⟩, vl5, hv5, rfl⟩ := h
  have hlo : QOk n (qTld T n kLimit 0 999 z.2).2 := hzo.tld
  refine pRT_limit C q228 dX6_grid_75 ?_
  refine r_aload_0 C dX6_grid_78 ?_
  refine gR_t C q434 dX6_grid_79 ?_
  refine r_aload_0 C dX6_grid_82 ?_
  refine r_ldcS C (GR.at 113 kWear (by decide)).1 dX6_grid_83 ?_
  refine r_iconst C dX6_grid_85 ?_
  refine r_sipush C dX6_grid_86 ?_
  refine r_cT3i C E (c_X6_named hG (GR.at 113 kWear (by decide)).2 TT TH GR ht hn hT hlo h5 hv5 (by unfold inR; omega) (by unfold inR; omega)) (q0 := 0) rfl rfl q597 pkX6_named dX6_grid_89 (fun a ww h => h) (fun z w h => ?_)
  obtain ⟨⟨rfl, h6⟩, vl6, hv6, rfl⟩ := h
  refine pRT_wear C q232 dX6_grid_92 ?_
  obtain ⟨K', hC', E', hb'⟩ := E.back
  refine hb' (r_return (hC' C) E' dX6_grid_95 ?_)
  exact ⟨rfl, h6, vl6, wd', fr', to', hv6, ⟨hA, hB⟩, rfl⟩
end R4

