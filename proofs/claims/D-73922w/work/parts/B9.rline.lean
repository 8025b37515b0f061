/-! the reader: places, straps, loads, budgets -/
theorem r_acmpeq {g : GX} {K : KY} {d : Nat} {cc : ByteArray} {own : String} {ws : va_W} {k n pc x y tgt : Nat} {off : Int} {L : List (Option Value)} {st : List Value} (C : Cok g K d cc own) (dd : decode cc pc = .ok (.if_acmp .eq off, 3)) (ht : (pc : Int) + off = (tgt : Int)) (k1 : x = y → AW g K ws k n tgt L st) (k2 : x ≠ y → AW g K ws k n (pc + 3) L st) : AW g K ws k n pc L (.ref y :: .ref x :: st) := by
  by_cases h : x = y
  · exact AW.op C (fun hx hb hown hts hml hfr hl w => lv_acmp_eq (rx := some x) (ry := some y) hx hb dd ht (fun _ => w) (fun z => absurd (congrArg some h) z)) (k1 h)
  · exact AW.op C (fun hx hb hown hts hml hfr hl w => lv_acmp_eq (rx := some x) (ry := some y) hx hb dd ht (fun z => absurd (Option.some.inj z) h) (fun _ => w)) (k2 h)
theorem qPlc_bad1 {T : Int → Int} {n : Int} {F : Int → Int} {but : Int} {x : Int × Q6} (h : x.2.2.2.2.2.1 ≠ 0) : (qPl3 T n F but x).2 = x.2 := by
  unfold qPl3 qPl2
  rw [if_neg (fun z => h z.1.1)]
  show (qTak T n 0 (F 1 - 1) x.2).2 = x.2
  rw [qTak_bad h]
theorem qPlc_bad2 {T : Int → Int} {n : Int} {F : Int → Int} {but : Int} {x : Int × Q6} (ho : QOk n x.2) (h : (qTak T n 0 (F 1 - 1) x.2).2.2.2.2.2.1 ≠ 0) : (qPl3 T n F but x).2 = (qTak T n 0 (F 1 - 1) x.2).2 := by
  unfold qPl3 qPl2
  rw [if_neg (fun z => h ?_)]
  have hv := ho.2.2.2.1 z.1.2.1
  have e : qTak T n 0 (F 1 - 1) x.2 = (x.2.2.2.2.1, qAdv T n x.2) := by
    unfold qTak
    rw [if_neg (fun y => y z.1.1), if_neg (fun y => y z.1.2.1), if_neg (fun y => y ⟨hv.1, by have := z.1.2.2; omega⟩)]
  rw [e]
  exact z.1.1
theorem qPlc_bad3 {T : Int → Int} {n : Int} {F : Int → Int} {but : Int} {x : Int × Q6} (hk : x.2.2.2.2.2.1 = 0) (h2 : x.2.2.2.1 = 2) (h3 : x.2.2.2.2.1 < F 1) (hb : bsB but (F 0 * x.2.2.2.2.1 + x.1) = true) : (qPl3 T n F but x).2 = qErr 2 x.2 := by
  unfold qPl3 qPl2
  rw [if_pos ⟨⟨hk, h2, h3⟩, hb⟩]
  show (qTak T n 0 (F 1 - 1) (qErr 2 x.2)).2 = qErr 2 x.2
  rw [qTak_bad (qErr_nz hk (by decide))]
theorem qPlc_good {T : Int → Int} {n : Int} {F : Int → Int} {but : Int} {x : Int × Q6} (e : qTak T n 0 (F 1 - 1) x.2 = (x.2.2.2.2.1, qAdv T n x.2)) (hb : bsB but (F 0 * x.2.2.2.2.1 + x.1) = false) : qPl3 T n F but x = (F 0 * x.2.2.2.2.1 + x.1, qAdv T n x.2) := by
  unfold qPl3 qPl2
  rw [if_neg (fun z => by rw [hb] at z; exact absurd z.2 (by decide)), e]
theorem qSt1_bad {T : Int → Int} {q : Q6} (h : q.2.2.2.2.1 ≠ 0) : qSt1 T q = q := if_neg (fun z => h z.1.1)
theorem qSt2_bad {b : Bool} {q : Q6} (h : q.2.2.2.2.1 ≠ 0) : qSt2 b q = q := if_neg (fun z => h z.1)
theorem qSt3_bad {T : Int → Int} {n : Int} {q : Q6} (h : q.2.2.2.2.1 ≠ 0) : qSt3 T n q = q := if_neg h
theorem qSt4_bad {T : Int → Int} {n : Int} {F : Int → Int} {p : Int × Q6} {q : Q6} (e : qSt1 T p.2 = q) (h : q.2.2.2.2.1 ≠ 0) : (qSt4 T n F p).2 = q := by
  unfold qSt4
  rw [e, qSt2_bad h, qSt3_bad h, qTld_bad h]
theorem qSt4_no {T : Int → Int} {n : Int} {F : Int → Int} {p : Int × Q6} (e : qSt1 T p.2 = p.2) (h : p.2.2.2.2.2.1 = 0) (hw : isWy (F 0) (F 1) p.1 (qIs T kEast p.2) = false) : (qSt4 T n F p).2 = qErr 2 p.2 := by
  have e2 : qSt2 (isWy (F 0) (F 1) p.1 (qIs T kEast p.2)) p.2 = qErr 2 p.2 := if_pos ⟨h, hw⟩
  unfold qSt4
  rw [e, e2, qSt3_bad (qErr_nz h (by decide)), qTld_bad (qErr_nz h (by decide))]
theorem qSt4_good {T : Int → Int} {n : Int} {F : Int → Int} {p : Int × Q6} (e : qSt1 T p.2 = p.2) (h : p.2.2.2.2.2.1 = 0) (hw : isWy (F 0) (F 1) p.1 (qIs T kEast p.2) = true) : qSt4 T n F p = qTld T n kWidth 0 4 (qAdv T n p.2) := by
  have e2 : qSt2 (isWy (F 0) (F 1) p.1 (qIs T kEast p.2)) p.2 = p.2 := if_neg (fun z => by rw [hw] at z; exact absurd z.2 (by decide))
  have e3 : qSt3 T n p.2 = qAdv T n p.2 := if_pos h
  unfold qSt4
  rw [e, e2, e3]
section R3
variable {g : GX} {ws : va_W} {T : Int → Int} {qt : Nat}
variable {r tp : Nat} {τ : Nat → Nat} {n ap bg tk vl dw bd : Int} {wd fr to ld gr bu : Int → Int} {c rw lm we ss pd ln md sz : Int} {el : Nat → Option Nat}
theorem c_X6_place (hG : Gok g) {but : Int} {F : Int → Int} (TT : GT g) (TH : GTh g) {κ : Nat → Nat} (GR : GRs g κ) {q : Q6} (ht : ws[qt]? = some (tp, .inl (g.2.2.1 2, 700, .inl (arI T)))) (hn : n ≤ 700) (hT : TpOk T) (hq : QOk n q) (hk : q.2.2.2.2.1 = 0) (hv : q.2.2.1 = 2 → vl = q.2.2.2.1) (hb : 0 ≤ but ∧ but ≤ 2147483647) (hc : c = F 0) (hr : rw = F 1) (hg : GW (F 0) (F 1)) : XMetT g yX6_place cX6_place 4 (some .int) (8) [.ref r, .int (jI but)] (wRd g r tp τ n (q.1) (q.2.1) (q.2.2.1) vl dw bd wd fr to ld gr bu c rw lm we ss pd ln md sz el ++ ws) (pI (fun z ww => (z = (qPlc T n F but (qAdv T n q)).1 ∧ (qPlc T n F but (qAdv T n q)).2.2.2.2.2.1 = 0) ∧ ∃ vl' : Int, ((qPlc T n F but (qAdv T n q)).2.2.2.1 = 2 → vl' = (qPlc T n F but (qAdv T n q)).2.2.2.2.1) ∧ ww = (wRd g r tp τ n (((qPlc T n F but (qAdv T n q)).2).1) (((qPlc T n F but (qAdv T n q)).2).2.1) (((qPlc T n F but (qAdv T n q)).2).2.2.1) (vl') dw bd wd fr to ld gr bu c rw lm we ss pd ln md sz el ++ ws))) (pTq ws (qPlc T n F but (qAdv T n q)).2) := by
  refine XMetT.of (L := [some (.ref r), some (.int (jI but)), none, none]) hG (by decide +kernel) (Nat.le_of_ble_eq_true rfl) rfl (fun K C E => ?_)
  have h9 := hg.c9
  have hc1 := hg.1
  have hr1 := hg.2.1
  have hcr := hg.2.2
  subst hc hr
  have hE : qPlc T n F but (qAdv T n q) = qPl3 T n F but (qTld T n kAt 0 (F 0 - 1) (qAdv T n q)) := rfl
  rw [hE] at E
  clear hE
  have hqa : QOk n (qAdv T n q) := hq.adv
  refine r_aload_0 C dX6_place_0 ?_
  refine r_cV0v C (c_X6_next hG ht hn hq.1 hT) (q0 := 0) rfl rfl q419 pkX6_next dX6_place_1 (fun w h => ?_)
  obtain ⟨vl', hvl, rfl⟩ := h
  have hv1 : (qAdv T n q).2.2.1 = 2 → vl' = (qAdv T n q).2.2.2.1 := fun h2 => (hvl h2).trans (if_pos h2).symm
  refine r_aload_0 C dX6_place_4 ?_
  refine r_ldcS C (GR.at 117 kAt (by decide)).1 dX6_place_5 ?_
  refine r_iconst C dX6_place_7 ?_
  refine r_aload_0 C dX6_place_8 ?_
  refine gR_t C q434 dX6_place_9 ?_
  refine gRT_columns C q221 dX6_place_12 ?_
  refine r_iconst C dX6_place_15 ?_
  refine r_isub C dX6_place_16 ?_
  refine r_cT3i C E (c_X6_named hG (GR.at 117 kAt (by decide)).2 TT TH GR ht hn hT hqa hk hv1 (by unfold inR; omega) (by unfold inR; omega)) (q0 := 0) rfl rfl q597 pkX6_named dX6_place_17 (fun a ww h => by rw [qPlc_bad1 h.1]; exact h) (fun z w h => ?_)
  obtain ⟨⟨rfl, h1⟩, vl2, hv2, rfl⟩ := h
  have hxo : QOk n (qTld T n kAt 0 (F 0 - 1) (qAdv T n q)).2 := hqa.tld
  have hxr := (qTld_in h1).2
  generalize qTld T n kAt 0 (F 0 - 1) (qAdv T n q) = x at hxo hxr h1 hv2 E ⊢
  refine r_istore_2 C dX6_place_20 ?_
  refine r_aload_0 C dX6_place_21 ?_
  refine r_iconst C dX6_place_22 ?_
  refine r_aload_0 C dX6_place_23 ?_
  refine gR_t C q434 dX6_place_24 ?_
  refine gRT_rows C q225 dX6_place_27 ?_
  refine r_iconst C dX6_place_30 ?_
  refine r_isub C dX6_place_31 ?_
  refine r_cT2i C E (c_X6_sees hG TT TH GR ht hn hT hxo h1 hv2 (by unfold inR; omega) (by unfold inR; omega)) (q0 := 0) rfl rfl q605 pkX6_sees dX6_place_32 (fun a ww h => by rw [qPlc_bad2 hxo h.1]; exact h) (fun z w h => ?_)
  obtain ⟨⟨h2, h3⟩, rfl, rfl⟩ := h
  have hpl := plc_in hg (x := x.1) (v := x.2.2.2.2.1) hxr.1 hxr.2 h3.2.1 (by omega)
  have hpl2 : F 0 * x.2.2.2.2.1 + x.1 < 9 := by omega
  refine r_aload_0 C dX6_place_35 ?_
  refine gR_t C q434 dX6_place_36 ?_
  refine gRT_columns C q221 dX6_place_39 ?_
  refine r_imul C dX6_place_42 ?_
  refine r_iload_2 C dX6_place_43 ?_
  refine r_iadd C dX6_place_44 ?_
  refine r_topi (F 0 * x.2.2.2.2.1 + x.1) (by rw [Int.mul_comm]) ?_
  refine r_istore_3 C dX6_place_45 ?_
  refine r_aload_0 C dX6_place_46 ?_
  refine r_iload_1 C dX6_place_47 ?_
  refine r_iload_3 C dX6_place_48 ?_
  refine r_cSN2i C (c_X0_isOn hG hb ⟨hpl.1, by omega⟩) q657 pkX0_isOn dX6_place_49 (fun z w h => ?_)
  obtain ⟨rfl, rfl⟩ := h
  refine r_ifneB (tgt := 59) C dX6_place_52 (by decide) (fun c_52 => ?_) (fun c_52 => ?_)
  · skip
    refine r_iconst C dX6_place_59 ?_
    skip
    have j64 : bsB but (F 0 * x.2.2.2.2.1 + x.1) = false → AW g K (wRd g r tp τ n ((x.2).1) ((x.2).2.1) ((x.2).2.2.1) (vl2) dw bd wd fr to ld gr bu (F 0) (F 1) lm we ss pd ln md sz el ++ ws) 1 8 64 [some (.ref r), some (.int (jI but)), some (.int (jI x.1)), some (.int (jI (F 0 * x.2.2.2.2.1 + x.1)))] [] := by
      intro hbb
      have hG2 := qPlc_good (but := but) h2 hbb
      rw [hG2] at E
      refine r_aload_0 C dX6_place_64 ?_
      refine r_cV0v C (c_X6_next hG ht hn hxo.1 hT) (q0 := 0) rfl rfl q419 pkX6_next dX6_place_65 (fun w h => ?_)
      obtain ⟨vl3, hvl3, rfl⟩ := h
      refine r_iload_3 C dX6_place_68 ?_
      obtain ⟨K', hC', E', hb'⟩ := E.back
      refine hb' (r_ireturn (hC' C) E' dX6_place_69 ?_)
      refine ⟨_, rfl, ⟨rfl, h1⟩, vl3, fun z => ?_, rfl⟩
      rw [hvl3 z]
      exact (if_pos z).symm
    refine r_iconst C dX6_place_60 ?_
    refine r_cT2v C E (c_X6_must hG TH (by first | exact Or.inl rfl | exact Or.inr rfl)) (q0 := 0) rfl rfl q525 pkX6_must dX6_place_61 (fun a ww h => by
      have hbb : bsB but (F 0 * x.2.2.2.2.1 + x.1) = true := by first | exact c_52 | exact absurd h.1 (by decide)
      rw [qPlc_bad3 h1 h3.1 (by omega) hbb]
      exact pTq_err h1 (by decide) h.2) (fun w h => ?_)
    obtain ⟨h4, rfl⟩ := h
    first
      | exact absurd h4 (by decide)
      | exact j64 (Bool.eq_false_iff.mpr c_52)
  · skip
    refine r_iconst C dX6_place_55 ?_
    refine r_goto (tgt := 60) C dX6_place_56 (by decide) ?_
    skip
    have j64 : bsB but (F 0 * x.2.2.2.2.1 + x.1) = false → AW g K (wRd g r tp τ n ((x.2).1) ((x.2).2.1) ((x.2).2.2.1) (vl2) dw bd wd fr to ld gr bu (F 0) (F 1) lm we ss pd ln md sz el ++ ws) 1 8 64 [some (.ref r), some (.int (jI but)), some (.int (jI x.1)), some (.int (jI (F 0 * x.2.2.2.2.1 + x.1)))] [] := by
      intro hbb
      have hG2 := qPlc_good (but := but) h2 hbb
      rw [hG2] at E
      refine r_aload_0 C dX6_place_64 ?_
      refine r_cV0v C (c_X6_next hG ht hn hxo.1 hT) (q0 := 0) rfl rfl q419 pkX6_next dX6_place_65 (fun w h => ?_)
      obtain ⟨vl3, hvl3, rfl⟩ := h
      refine r_iload_3 C dX6_place_68 ?_
      obtain ⟨K', hC', E', hb'⟩ := E.back
      refine hb' (r_ireturn (hC' C) E' dX6_place_69 ?_)
      refine ⟨_, rfl, ⟨rfl, h1⟩, vl3, fun z => ?_, rfl⟩
      rw [hvl3 z]
      exact (if_pos z).symm
    refine r_iconst C dX6_place_60 ?_
    refine r_cT2v C E (c_X6_must hG TH (by first | exact Or.inl rfl | exact Or.inr rfl)) (q0 := 0) rfl rfl q525 pkX6_must dX6_place_61 (fun a ww h => by
      have hbb : bsB but (F 0 * x.2.2.2.2.1 + x.1) = true := by first | exact c_52 | exact absurd h.1 (by decide)
      rw [qPlc_bad3 h1 h3.1 (by omega) hbb]
      exact pTq_err h1 (by decide) h.2) (fun w h => ?_)
    obtain ⟨h4, rfl⟩ := h
    first
      | exact absurd h4 (by decide)
      | exact j64 (Bool.eq_false_iff.mpr c_52)
theorem c_X6_strap (hG : Gok g) {e1 e2 : Nat} (W : GEn g e1 e2) {F : Int → Int} (TT : GT g) (TH : GTh g) {κ : Nat → Nat} (GR : GRs g κ) {q : Q6} (ht : ws[qt]? = some (tp, .inl (g.2.2.1 2, 700, .inl (arI T)))) (hn : n ≤ 700) (hT : TpOk T) (hq : QOk n q) (hk : q.2.2.2.2.1 = 0) (hv : q.2.2.1 = 2 → vl = q.2.2.2.1) (hc : c = F 0) (hr : rw = F 1) (hg : GW (F 0) (F 1)) (hss : ss = sN (F 0) (F 1)) (hen : ∀ k : Int, 0 ≤ k → k < sN (F 0) (F 1) → fr k = sF (F 0) (F 1) k ∧ to k = sT (F 0) (F 1) k) : XMetT g yX6_strap cX6_strap 3 none (9) [.ref r] (wRd g r tp τ n (q.1) (q.2.1) (q.2.2.1) vl dw bd wd fr to ld gr bu c rw lm we ss pd ln md sz el ++ ws) (pV (fun ww => (qSt4 T n F (qPlc T n F 0 (qAdv T n q))).2.2.2.2.2.1 = 0 ∧ ∃ vl' : Int, ((qSt4 T n F (qPlc T n F 0 (qAdv T n q))).2.2.2.1 = 2 → vl' = (qSt4 T n F (qPlc T n F 0 (qAdv T n q))).2.2.2.2.1) ∧ ww = (wRd g r tp τ n (((qSt4 T n F (qPlc T n F 0 (qAdv T n q))).2).1) (((qSt4 T n F (qPlc T n F 0 (qAdv T n q))).2).2.1) (((qSt4 T n F (qPlc T n F 0 (qAdv T n q))).2).2.2.1) (vl') dw bd (aset wd (kOf (F 0) (F 1) (qPlc T n F 0 (qAdv T n q)).1 (toW (F 0) (qPlc T n F 0 (qAdv T n q)).1 (qIs T kEast (qPlc T n F 0 (qAdv T n q)).2))) (qSt4 T n F (qPlc T n F 0 (qAdv T n q))).1) fr to ld gr bu c rw lm we ss pd ln md sz el ++ ws))) (pTq ws (qSt4 T n F (qPlc T n F 0 (qAdv T n q))).2) := by
  refine XMetT.of (L := [some (.ref r), none, none]) hG (by decide +kernel) (Nat.le_of_ble_eq_true rfl) rfl (fun K C E => ?_)
  have h9 := hg.c9
  have hc1 := hg.1
  have hr1 := hg.2.1
  have hcr := hg.2.2
  have h12 := sN_12 hg
  subst hc hr
  refine r_aload_0 C dX6_strap_0 ?_
  refine r_iconst C dX6_strap_1 ?_
  refine r_cT1i C E (c_X6_place hG TT TH GR ht hn hT hq hk hv (by omega) rfl rfl hg) (q0 := 0) rfl rfl q652 pkX6_place dX6_strap_2 (fun a ww h => by
    have e : (qSt4 T n F (qPlc T n F 0 (qAdv T n q))).2 = (qPlc T n F 0 (qAdv T n q)).2 := qSt4_bad (qSt1_bad h.1) h.1
    rw [e]
    exact h) (fun z w h => ?_)
  obtain ⟨⟨rfl, h1⟩, vl2, hv2, rfl⟩ := h
  have hpr := qPlc_r (T := T) (n := n) (fr := F) (but := 0) (q := qAdv T n q) hg
  have hpo : QOk n (qPlc T n F 0 (qAdv T n q)).2 := hq.adv.plc
  generalize qPlc T n F 0 (qAdv T n q) = p at hpr hpo h1 hv2 E ⊢
  have eIs : ∀ w : List Int, qIs T w p.2 = isWb T p.2.1 p.2.2.1 p.2.2.2.1 w := fun w => by
    unfold qIs
    rw [decide_eq_true h1, Bool.true_and]
  have j51 : ∀ b : Bool, b = qIs T kEast p.2 → qSt1 T p.2 = p.2 → AW g K (wRd g r tp τ n ((p.2).1) ((p.2).2.1) ((p.2).2.2.1) (vl2) dw bd wd fr to ld gr bu (F 0) (F 1) lm we ss pd ln md sz el ++ ws) 1 8 51 [some (.ref r), some (.int (jI p.1)), some (.ref (wyA e1 e2 b))] [] := by
    intro b eb es1
    refine r_aload_0 C dX6_strap_51 ?_
    refine r_aload_2 C dX6_strap_52 ?_
    refine r_aload_0 C dX6_strap_53 ?_
    refine gR_t C q434 dX6_strap_54 ?_
    refine r_iload_1 C dX6_strap_57 ?_
    refine r_wayIs C hG W b 1 rfl ⟨by omega, by omega⟩ ⟨by omega, by omega⟩ ⟨hpr.1, by omega⟩ q664 dX6_strap_58 ?_
    refine r_iconst C dX6_strap_61 ?_
    refine r_cT2v C E (c_X6_must hG TH (by split <;> omega)) (q0 := 0) rfl rfl q525 pkX6_must dX6_strap_62 (fun a ww h => by
      have hw : isWy (F 0) (F 1) p.1 b = false := Bool.eq_false_iff.mpr (fun z => by rw [if_pos z] at h; exact absurd h.1 (by decide))
      have e : (qSt4 T n F p).2 = qErr 2 p.2 := qSt4_no es1 h1 (by rw [← eb]; exact hw)
      rw [e]
      exact pTq_err h1 (by decide) h.2) (fun w h => ?_)
    obtain ⟨h2, rfl⟩ := h
    have hw : isWy (F 0) (F 1) p.1 b = true := Classical.byContradiction fun z => by rw [if_neg z] at h2; exact absurd h2 (by decide)
    have eQ : qSt4 T n F p = qTld T n kWidth 0 4 (qAdv T n p.2) := qSt4_good es1 h1 (by rw [← eb]; exact hw)
    have hko := kOf_ok hg hpr.1 hpr.2 hw
    have hle : p.1 ≤ toW (F 0) p.1 b := by
      unfold toW
      split <;> omega
    have ht18 : toW (F 0) p.1 b ≤ 18 := by
      unfold toW
      split <;> omega
    have eK : kOf (F 0) (F 1) p.1 (toW (F 0) p.1 b) = ffi (fun k => decide (sF (F 0) (F 1) k = p.1 ∧ sT (F 0) (F 1) k = toW (F 0) p.1 b)) (sN (F 0) (F 1)).toNat := by
      unfold kOf
      rw [if_pos hle, if_pos hle]
    rw [eQ, ← eb] at E
    have hao : QOk n (qAdv T n p.2) := hpo.adv
    refine r_aload_0 C dX6_strap_65 ?_
    refine r_cV0v C (c_X6_next hG ht hn hpo.1 hT) (q0 := 0) rfl rfl q419 pkX6_next dX6_strap_66 (fun w h => ?_)
    obtain ⟨vl3, hvl3, rfl⟩ := h
    have hv3 : (qAdv T n p.2).2.2.1 = 2 → vl3 = (qAdv T n p.2).2.2.2.1 := fun z => (hvl3 z).trans (if_pos z).symm
    refine r_aload_0 C dX6_strap_69 ?_
    refine gR_t C q434 dX6_strap_70 ?_
    refine gRT_width C q195 dX6_strap_73 ?_
    refine r_aload_0 C dX6_strap_76 ?_
    refine gR_t C q434 dX6_strap_77 ?_
    refine r_iload_1 C dX6_strap_80 ?_
    refine r_aload_2 C dX6_strap_81 ?_
    refine r_aload_0 C dX6_strap_82 ?_
    refine gR_t C q434 dX6_strap_83 ?_
    refine r_iload_1 C dX6_strap_86 ?_
    refine r_wayTo (c := F 0) (r := F 1) C hG W b 1 rfl q665 dX6_strap_87 ?_
    refine AW.perm (List.perm_middle (l₁ := wT g τ wd fr to ld gr bu (F 0) (F 1) lm we ss pd ln md sz el) (l₂ := ws)).symm ?_
    refine r_cV2i C (c_T_strapOf hG (by unfold inR; omega) (by unfold inR; omega) hg hss hen) (q0 := 0) rfl rfl q666 pkX1_strapOf dX6_strap_90 (fun z w h => ?_)
    obtain ⟨hz, rfl⟩ := h
    rw [← eK] at hz
    refine AW.perm List.perm_middle ?_
    rw [hz]
    refine r_aload_0 C dX6_strap_93 ?_
    refine r_ldcS C (GR.at 103 kWidth (by decide)).1 dX6_strap_94 ?_
    refine r_iconst C dX6_strap_96 ?_
    refine r_iconst C dX6_strap_97 ?_
    refine r_cT3i C E (c_X6_named hG (GR.at 103 kWidth (by decide)).2 TT TH GR ht hn hT hao h1 hv3 (by unfold inR; omega) (by unfold inR; omega)) (q0 := 0) rfl rfl q597 pkX6_named dX6_strap_98 (fun a ww h => h) (fun z w h => ?_)
    obtain ⟨⟨rfl, h5⟩, vl4, hv4, rfl⟩ := h
    refine stR_width C dX6_strap_101 ?_
    obtain ⟨K', hC', E', hb'⟩ := E.back
    exact hb' (r_return (hC' C) E' dX6_strap_102 ⟨rfl, h5, vl4, hv4, rfl⟩)
  have j25 : ∀ b : Bool, b = qIs T kEast p.2 → AW g K (wRd g r tp τ n ((p.2).1) ((p.2).2.1) ((p.2).2.2.1) (vl2) dw bd wd fr to ld gr bu (F 0) (F 1) lm we ss pd ln md sz el ++ ws) 1 8 25 [some (.ref r), some (.int (jI p.1)), some (.ref (wyA e1 e2 b))] [] := by
    intro b eb
    have j47 : ∀ z : Int, (z = 1 ∧ qSt1 T p.2 = p.2) ∨ (z = 0 ∧ qSt1 T p.2 = qErr 1 p.2) → AW g K (wRd g r tp τ n ((p.2).1) ((p.2).2.1) ((p.2).2.2.1) (vl2) dw bd wd fr to ld gr bu (F 0) (F 1) lm we ss pd ln md sz el ++ ws) 1 8 47 [some (.ref r), some (.int (jI p.1)), some (.ref (wyA e1 e2 b))] [.int (jI z), .ref r] := by
      intro z hz
      refine r_iconst C dX6_strap_47 ?_
      refine r_cT2v C E (c_X6_must hG TH (by omega)) (q0 := 0) rfl rfl q525 pkX6_must dX6_strap_48 (fun a ww h => by
        have es : qSt1 T p.2 = qErr 1 p.2 := by
          rcases hz with z1 | z1
          · exact absurd (z1.1.symm.trans h.1) (by decide)
          · exact z1.2
        have e : (qSt4 T n F p).2 = qErr 1 p.2 := qSt4_bad es (qErr_nz h1 (by decide))
        rw [e]
        exact pTq_err h1 (by decide) h.2) (fun w h => ?_)
      obtain ⟨h2, rfl⟩ := h
      refine j51 b eb ?_
      rcases hz with z1 | z1
      · exact z1.2
      · exact absurd (z1.1.symm.trans h2) (by decide)
    refine r_aload_0 C dX6_strap_25 ?_
    refine r_aload_2 C dX6_strap_26 ?_
    refine r_gets C (fun A U H h => (W.2 A U H h).1) q661 dX6_strap_27 ?_
    refine r_acmpeq (tgt := 42) C dX6_strap_30 (by decide) (fun d => ?_) (fun d => ?_)
    · refine r_iconst C dX6_strap_42 ?_
      refine r_goto (tgt := 47) C dX6_strap_43 (by decide) ?_
      refine j47 1 (Or.inl ⟨rfl, ?_⟩)
      have hb1 : b = true := by
        cases b with
        | true => rfl
        | false => exact absurd d.symm W.1
      unfold qSt1
      rw [if_neg (fun z => by rw [← eb, hb1] at z; exact absurd z.1.2 (by decide))]
    · have hb0 : b = false := by
        cases b with
        | true => exact absurd rfl d
        | false => rfl
      refine r_aload_0 C dX6_strap_33 ?_
      refine r_ldcS C (GR.at 136 kSouth (by decide)).1 dX6_strap_34 ?_
      refine r_cV1i C (c_X6_is hG TT (GR.at 136 kSouth (by decide)).2 ht hn hT hpo.1 hpo.2.1 hpo.2.2.1) (q0 := 0) rfl rfl q473 pkX6_is dX6_strap_36 (fun z w h => ?_)
      obtain ⟨rfl, rfl⟩ := h
      refine r_ifeqB (tgt := 46) C dX6_strap_39 (by decide) (fun d2 => ?_) (fun d2 => ?_)
      · refine r_iconst C dX6_strap_46 ?_
        refine j47 0 (Or.inr ⟨rfl, ?_⟩)
        unfold qSt1
        rw [if_pos ⟨⟨h1, by rw [← eb]; exact hb0⟩, by rw [eIs]; exact Bool.eq_false_iff.mpr d2⟩]
      · refine r_iconst C dX6_strap_42 ?_
        refine r_goto (tgt := 47) C dX6_strap_43 (by decide) ?_
        refine j47 1 (Or.inl ⟨rfl, ?_⟩)
        unfold qSt1
        rw [if_neg (fun z => by rw [eIs kSouth, d2] at z; exact absurd z.2 (by decide))]
  refine r_istore_1 C dX6_strap_5 ?_
  refine r_aload_0 C dX6_strap_6 ?_
  refine r_ldcS C (GR.at 125 kEast (by decide)).1 dX6_strap_7 ?_
  refine r_cV1i C (c_X6_is hG TT (GR.at 125 kEast (by decide)).2 ht hn hT hpo.1 hpo.2.1 hpo.2.2.1) (q0 := 0) rfl rfl q473 pkX6_is dX6_strap_9 (fun z w h => ?_)
  obtain ⟨rfl, rfl⟩ := h
  refine r_ifeqB (tgt := 21) C dX6_strap_12 (by decide) (fun d => ?_) (fun d => ?_)
  · refine r_gets C (fun A U H h => (W.2 A U H h).2.1) q662 dX6_strap_21 ?_
    refine r_astore_2 C dX6_strap_24 ?_
    exact j25 false (by rw [eIs]; exact (Bool.eq_false_iff.mpr d).symm)
  · refine r_gets C (fun A U H h => (W.2 A U H h).1) q661 dX6_strap_15 ?_
    refine r_goto (tgt := 24) C dX6_strap_18 (by decide) ?_
    refine r_astore_2 C dX6_strap_24 ?_
    exact j25 true (by rw [eIs]; exact d.symm)
theorem c_X6_load (hG : Gok g) {F : Int → Int} (TT : GT g) (TH : GTh g) {κ : Nat → Nat} (GR : GRs g κ) {q : Q6} (ht : ws[qt]? = some (tp, .inl (g.2.2.1 2, 700, .inl (arI T)))) (hn : n ≤ 700) (hT : TpOk T) (hq : QOk n q) (hk : q.2.2.2.2.1 = 0) (hv : q.2.2.1 = 2 → vl = q.2.2.2.1) (hd : 0 ≤ dw ∧ dw < 512) (hc : c = F 0) (hr : rw = F 1) (hg : GW (F 0) (F 1)) : XMetT g yX6_load cX6_load 2 none (9) [.ref r] (wRd g r tp τ n (q.1) (q.2.1) (q.2.2.1) vl dw bd wd fr to ld gr bu c rw lm we ss pd ln md sz el ++ ws) (pV (fun ww => (qGrp T n (qTld T n kDraws 1 99 (qPlc T n F dw (qAdv T n q)).2).2).2.2.2.2.2.1 = 0 ∧ ∃ vl' : Int, ((qGrp T n (qTld T n kDraws 1 99 (qPlc T n F dw (qAdv T n q)).2).2).2.2.2.1 = 2 → vl' = (qGrp T n (qTld T n kDraws 1 99 (qPlc T n F dw (qAdv T n q)).2).2).2.2.2.2.1) ∧ ww = (wRd g r tp τ n (((qGrp T n (qTld T n kDraws 1 99 (qPlc T n F dw (qAdv T n q)).2).2).2).1) (((qGrp T n (qTld T n kDraws 1 99 (qPlc T n F dw (qAdv T n q)).2).2).2).2.1) (((qGrp T n (qTld T n kDraws 1 99 (qPlc T n F dw (qAdv T n q)).2).2).2).2.2.1) (vl') (bsO dw (bsP (qPlc T n F dw (qAdv T n q)).1)) bd wd fr to (aset ld (qPlc T n F dw (qAdv T n q)).1 (qTld T n kDraws 1 99 (qPlc T n F dw (qAdv T n q)).2).1) (if qIs T kGroup (qTld T n kDraws 1 99 (qPlc T n F dw (qAdv T n q)).2).2 = true then aset gr (qPlc T n F dw (qAdv T n q)).1 (qGrp T n (qTld T n kDraws 1 99 (qPlc T n F dw (qAdv T n q)).2).2).1 else gr) bu c rw lm we ss pd ln md sz el ++ ws))) (pTq ws (qGrp T n (qTld T n kDraws 1 99 (qPlc T n F dw (qAdv T n q)).2).2).2) := by
  refine XMetT.of (L := [some (.ref r), none]) hG (by decide +kernel) (Nat.le_of_ble_eq_true rfl) rfl (fun K C E => ?_)
  have h9 := hg.c9
  have hcr := hg.2.2
  subst hc hr
  have gBad : ∀ q2 : Q6, q2.2.2.2.2.1 ≠ 0 → (qGrp T n q2).2 = q2 := fun q2 z => by
    unfold qGrp
    rw [qIs_bad z, if_neg (by decide)]
  refine r_aload_0 C dX6_load_0 ?_
  refine r_aload_0 C dX6_load_1 ?_
  refine gR_drawn C q439 dX6_load_2 ?_
  refine r_cT1i C E (c_X6_place hG TT TH GR ht hn hT hq hk hv (by omega) rfl rfl hg) (q0 := 0) rfl rfl q652 pkX6_place dX6_load_5 (fun a ww h => by
    rw [qTld_bad h.1, gBad _ h.1]
    exact h) (fun z w h => ?_)
  obtain ⟨⟨rfl, h1⟩, vl2, hv2, rfl⟩ := h
  have hpr := qPlc_r (T := T) (n := n) (fr := F) (but := dw) (q := qAdv T n q) hg
  have hpo : QOk n (qPlc T n F dw (qAdv T n q)).2 := hq.adv.plc
  generalize qPlc T n F dw (qAdv T n q) = p at hpr hpo h1 hv2 E ⊢
  have hP0 := bsP_0 (k := p.1)
  have hmo : QOk n (qTld T n kDraws 1 99 p.2).2 := hpo.tld
  refine r_istore_1 C dX6_load_8 ?_
  refine r_aload_0 C dX6_load_9 ?_
  refine r_dup C dX6_load_10 ?_
  refine gR_drawn C q439 dX6_load_11 ?_
  refine r_iconst C dX6_load_14 ?_
  refine r_iload_1 C dX6_load_15 ?_
  refine r_ishl C (bsP p.1) dX6_load_16 (jI_shl hpr.1 (by omega)) ?_
  refine r_ior C (bsO dw (bsP p.1)) dX6_load_17 (jI_or hd.1 (by omega)) ?_
  refine pR_drawn C q439 dX6_load_18 ?_
  refine r_aload_0 C dX6_load_21 ?_
  refine gR_t C q434 dX6_load_22 ?_
  refine gRT_load C q208 dX6_load_25 ?_
  refine r_iload_1 C dX6_load_28 ?_
  refine r_aload_0 C dX6_load_29 ?_
  refine r_ldcS C (GR.at 157 kDraws (by decide)).1 dX6_load_30 ?_
  refine r_iconst C dX6_load_32 ?_
  refine r_bipush C dX6_load_33 ?_
  refine r_cT3i C E (c_X6_named hG (GR.at 157 kDraws (by decide)).2 TT TH GR ht hn hT hpo h1 hv2 (by unfold inR; omega) (by unfold inR; omega)) (q0 := 0) rfl rfl q597 pkX6_named dX6_load_35 (fun a ww h => by
    rw [gBad _ h.1]
    exact h) (fun z w h => ?_)
  obtain ⟨⟨rfl, h3⟩, vl3, hv3, rfl⟩ := h
  refine stR_load C dX6_load_38 ?_
  generalize qTld T n kDraws 1 99 p.2 = m at hmo h3 hv3 E ⊢
  have eIs : qIs T kGroup m.2 = isWb T m.2.1 m.2.2.1 m.2.2.2.1 kGroup := by
    unfold qIs
    rw [decide_eq_true h3, Bool.true_and]
  refine r_aload_0 C dX6_load_39 ?_
  refine r_ldcS C (GR.at 159 kGroup (by decide)).1 dX6_load_40 ?_
  refine r_cV1i C (c_X6_is hG TT (GR.at 159 kGroup (by decide)).2 ht hn hT hmo.1 hmo.2.1 hmo.2.2.1) (q0 := 0) rfl rfl q473 pkX6_is dX6_load_42 (fun z w h => ?_)
  obtain ⟨rfl, rfl⟩ := h
  refine r_ifeqB (tgt := 65) C dX6_load_45 (by decide) (fun c_45 => ?_) (fun c_45 => ?_)
  · skip
    obtain ⟨K', hC', E', hb'⟩ := E.back
    refine hb' (r_return (hC' C) E' dX6_load_65 ?_)
    have hi : ¬ qIs T kGroup m.2 = true := by rw [eIs]; exact c_45
    have eG : qGrp T n m.2 = (0, m.2) := if_neg hi
    rw [eG, if_neg hi]
    exact ⟨rfl, h3, vl3, hv3, rfl⟩
  · skip
    have hi : qIs T kGroup m.2 = true := by rw [eIs]; exact c_45
    have eG : qGrp T n m.2 = qTld T n kGroup 1 3 m.2 := by
      unfold qGrp qTld qExp
      rw [if_pos hi, if_pos hi]
    rw [eG, if_pos hi] at E
    refine r_aload_0 C dX6_load_48 ?_
    refine gR_t C q434 dX6_load_49 ?_
    refine gRT_group C q211 dX6_load_52 ?_
    refine r_iload_1 C dX6_load_55 ?_
    refine r_aload_0 C dX6_load_56 ?_
    refine r_ldcS C (GR.at 159 kGroup (by decide)).1 dX6_load_57 ?_
    refine r_iconst C dX6_load_59 ?_
    refine r_iconst C dX6_load_60 ?_
    refine r_cT3i C E (c_X6_named hG (GR.at 159 kGroup (by decide)).2 TT TH GR ht hn hT hmo h3 hv3 (by unfold inR; omega) (by unfold inR; omega)) (q0 := 0) rfl rfl q597 pkX6_named dX6_load_61 (fun a ww h => h) (fun z w h => ?_)
    obtain ⟨⟨rfl, h5⟩, vl5, hv5, rfl⟩ := h
    refine stR_group C dX6_load_64 ?_
    obtain ⟨K', hC', E', hb'⟩ := E.back
    refine hb' (r_return (hC' C) E' dX6_load_65 ?_)
    exact ⟨rfl, h5, vl5, hv5, rfl⟩
theorem c_X6_budget (hG : Gok g) (TT : GT g) (TH : GTh g) {κ : Nat → Nat} (GR : GRs g κ) {q : Q6} (ht : ws[qt]? = some (tp, .inl (g.2.2.1 2, 700, .inl (arI T)))) (hn : n ≤ 700) (hT : TpOk T) (hq : QOk n q) (hk : q.2.2.2.2.1 = 0) (hv : q.2.2.1 = 2 → vl = q.2.2.2.1) (hd : 0 ≤ bd ∧ bd < 16) : XMetT g yX6_budget cX6_budget 2 none (8) [.ref r] (wRd g r tp τ n (q.1) (q.2.1) (q.2.2.1) vl dw bd wd fr to ld gr bu c rw lm we ss pd ln md sz el ++ ws) (pV (fun ww => (qTld T n kIs 0 999 (qTak T n 0 3 (qBu1 bd (qAdv T n q))).2).2.2.2.2.2.1 = 0 ∧ ∃ vl' : Int, ((qTld T n kIs 0 999 (qTak T n 0 3 (qBu1 bd (qAdv T n q))).2).2.2.2.1 = 2 → vl' = (qTld T n kIs 0 999 (qTak T n 0 3 (qBu1 bd (qAdv T n q))).2).2.2.2.2.1) ∧ ww = (wRd g r tp τ n (((qTld T n kIs 0 999 (qTak T n 0 3 (qBu1 bd (qAdv T n q))).2).2).1) (((qTld T n kIs 0 999 (qTak T n 0 3 (qBu1 bd (qAdv T n q))).2).2).2.1) (((qTld T n kIs 0 999 (qTak T n 0 3 (qBu1 bd (qAdv T n q))).2).2).2.2.1) (vl') dw (bsO bd (bsP (qTak T n 0 3 (qBu1 bd (qAdv T n q))).1)) wd fr to ld gr (aset bu (qTak T n 0 3 (qBu1 bd (qAdv T n q))).1 (qTld T n kIs 0 999 (qTak T n 0 3 (qBu1 bd (qAdv T n q))).2).1) c rw lm we ss pd ln md sz el ++ ws))) (pTq ws (qTld T n kIs 0 999 (qTak T n 0 3 (qBu1 bd (qAdv T n q))).2).2) := by
  refine XMetT.of (L := [some (.ref r), none]) hG (by decide +kernel) (Nat.le_of_ble_eq_true rfl) rfl (fun K C E => ?_)
  have hqa : QOk n (qAdv T n q) := hq.adv
  refine r_aload_0 C dX6_budget_0 ?_
  refine r_cV0v C (c_X6_next hG ht hn hq.1 hT) (q0 := 0) rfl rfl q419 pkX6_next dX6_budget_1 (fun w h => ?_)
  obtain ⟨vl', hvl, rfl⟩ := h
  have hv1 : (qAdv T n q).2.2.1 = 2 → vl' = (qAdv T n q).2.2.2.1 := fun h2 => (hvl h2).trans (if_pos h2).symm
  have hk1 : (qAdv T n q).2.2.2.2.1 = 0 := hk
  change AW g K (wRd g r tp τ n ((qAdv T n q).1) ((qAdv T n q).2.1) ((qAdv T n q).2.2.1) (vl') dw bd wd fr to ld gr bu c rw lm we ss pd ln md sz el ++ ws) _ _ 4 _ _
  generalize qAdv T n q = q1 at hqa hv1 hk1 E ⊢
  refine r_aload_0 C dX6_budget_4 ?_
  refine r_iconst C dX6_budget_5 ?_
  refine r_iconst C dX6_budget_6 ?_
  refine r_cT2i C E (c_X6_sees hG TT TH GR ht hn hT hqa hk1 hv1 (by unfold inR; omega) (by unfold inR; omega)) (q0 := 0) rfl rfl q605 pkX6_sees dX6_budget_7 (fun a ww h => by
    have e : qBu1 bd q1 = q1 := by
      unfold qBu1
      refine if_neg (fun z => h.1 ?_)
      have hv9 := hqa.2.2.2.1 z.1.2.1
      have e9 : qTak T n 0 3 q1 = (q1.2.2.2.1, qAdv T n q1) := by
        unfold qTak
        rw [if_neg (fun y => y hk1), if_neg (fun y => y z.1.2.1), if_neg (fun y => y ⟨hv9.1, by have := z.1.2.2; omega⟩)]
      rw [e9]
      exact hk1
    rw [e, qTld_bad h.1]
    exact h) (fun z w h => ?_)
  obtain ⟨⟨h2, h3⟩, rfl, rfl⟩ := h
  have hP0 := bsP_0 (k := q1.2.2.2.1)
  refine r_istore_1 C dX6_budget_10 ?_
  refine r_aload_0 C dX6_budget_11 ?_
  refine r_aload_0 C dX6_budget_12 ?_
  refine gR_budgets C q440 dX6_budget_13 ?_
  refine r_iload_1 C dX6_budget_16 ?_
  refine r_cSN2i C (c_X0_isOn hG (by omega) (by omega)) q657 pkX0_isOn dX6_budget_17 (fun z w h => ?_)
  obtain ⟨rfl, rfl⟩ := h
  refine r_ifneB (tgt := 27) C dX6_budget_20 (by decide) (fun c_20 => ?_) (fun c_20 => ?_)
  · skip
    refine r_iconst C dX6_budget_27 ?_
    skip
    have j32 : bsB bd q1.2.2.2.1 = false → AW g K (wRd g r tp τ n (q1.1) (q1.2.1) (q1.2.2.1) (vl') dw bd wd fr to ld gr bu c rw lm we ss pd ln md sz el ++ ws) 1 8 32 [some (.ref r), some (.int (jI q1.2.2.2.1))] [] := by
      intro hbb
      have e : qBu1 bd q1 = q1 := by
        unfold qBu1
        rw [if_neg (fun z => by rw [hbb] at z; exact absurd z.2 (by decide))]
      rw [e, h2] at E
      have hao : QOk n (qAdv T n q1) := hqa.adv
      refine r_aload_0 C dX6_budget_32 ?_
      refine r_dup C dX6_budget_33 ?_
      refine gR_budgets C q440 dX6_budget_34 ?_
      refine r_iconst C dX6_budget_37 ?_
      refine r_iload_1 C dX6_budget_38 ?_
      refine r_ishl C (bsP q1.2.2.2.1) dX6_budget_39 (jI_shl (by omega) (by omega)) ?_
      refine r_ior C (bsO bd (bsP q1.2.2.2.1)) dX6_budget_40 (jI_or hd.1 (by omega)) ?_
      refine pR_budgets C q440 dX6_budget_41 ?_
      refine r_aload_0 C dX6_budget_44 ?_
      refine r_cV0v C (c_X6_next hG ht hn hqa.1 hT) (q0 := 0) rfl rfl q419 pkX6_next dX6_budget_45 (fun w h => ?_)
      obtain ⟨vl3, hvl3, rfl⟩ := h
      have hv3 : (qAdv T n q1).2.2.1 = 2 → vl3 = (qAdv T n q1).2.2.2.1 := fun z => (hvl3 z).trans (if_pos z).symm
      refine r_aload_0 C dX6_budget_48 ?_
      refine gR_t C q434 dX6_budget_49 ?_
      refine gRT_budget C q214 dX6_budget_52 ?_
      refine r_iload_1 C dX6_budget_55 ?_
      refine r_aload_0 C dX6_budget_56 ?_
      refine r_ldcS C (GR.at 169 kIs (by decide)).1 dX6_budget_57 ?_
      refine r_iconst C dX6_budget_59 ?_
      refine r_sipush C dX6_budget_60 ?_
      refine r_cT3i C E (c_X6_named hG (GR.at 169 kIs (by decide)).2 TT TH GR ht hn hT hao hk1 hv3 (by unfold inR; omega) (by unfold inR; omega)) (q0 := 0) rfl rfl q597 pkX6_named dX6_budget_63 (fun a ww h => h) (fun z w h => ?_)
      obtain ⟨⟨rfl, h5⟩, vl5, hv5, rfl⟩ := h
      refine stR_budget C dX6_budget_66 ?_
      obtain ⟨K', hC', E', hb'⟩ := E.back
      refine hb' (r_return (hC' C) E' dX6_budget_67 ?_)
      exact ⟨rfl, h5, vl5, hv5, rfl⟩
    refine r_iconst C dX6_budget_28 ?_
    refine r_cT2v C E (c_X6_must hG TH (by first | exact Or.inl rfl | exact Or.inr rfl)) (q0 := 0) rfl rfl q525 pkX6_must dX6_budget_29 (fun a ww h => by
      have hbb : bsB bd q1.2.2.2.1 = true := by first | exact c_20 | exact absurd h.1 (by decide)
      have e : qBu1 bd q1 = qErr 2 q1 := by
        unfold qBu1
        rw [if_pos ⟨⟨hk1, h3.1, by omega⟩, hbb⟩]
      rw [e, qTak_bad (qErr_nz hk1 (by decide)), qTld_bad (qErr_nz hk1 (by decide))]
      exact pTq_err hk1 (by decide) h.2) (fun w h => ?_)
    obtain ⟨h4, rfl⟩ := h
    first
      | exact absurd h4 (by decide)
      | exact j32 (Bool.eq_false_iff.mpr c_20)
  · skip
    refine r_iconst C dX6_budget_23 ?_
    refine r_goto (tgt := 28) C dX6_budget_24 (by decide) ?_
    skip
    have j32 : bsB bd q1.2.2.2.1 = false → AW g K (wRd g r tp τ n (q1.1) (q1.2.1) (q1.2.2.1) (vl') dw bd wd fr to ld gr bu c rw lm we ss pd ln md sz el ++ ws) 1 8 32 [some (.ref r), some (.int (jI q1.2.2.2.1))] [] := by
      intro hbb
      have e : qBu1 bd q1 = q1 := by
        unfold qBu1
        rw [if_neg (fun z => by rw [hbb] at z; exact absurd z.2 (by decide))]
      rw [e, h2] at E
      have hao : QOk n (qAdv T n q1) := hqa.adv
      refine r_aload_0 C dX6_budget_32 ?_
      refine r_dup C dX6_budget_33 ?_
      refine gR_budgets C q440 dX6_budget_34 ?_
      refine r_iconst C dX6_budget_37 ?_
      refine r_iload_1 C dX6_budget_38 ?_
      refine r_ishl C (bsP q1.2.2.2.1) dX6_budget_39 (jI_shl (by omega) (by omega)) ?_
      refine r_ior C (bsO bd (bsP q1.2.2.2.1)) dX6_budget_40 (jI_or hd.1 (by omega)) ?_
      refine pR_budgets C q440 dX6_budget_41 ?_
      refine r_aload_0 C dX6_budget_44 ?_
      refine r_cV0v C (c_X6_next hG ht hn hqa.1 hT) (q0 := 0) rfl rfl q419 pkX6_next dX6_budget_45 (fun w h => ?_)
      obtain ⟨vl3, hvl3, rfl⟩ := h
      have hv3 : (qAdv T n q1).2.2.1 = 2 → vl3 = (qAdv T n q1).2.2.2.1 := fun z => (hvl3 z).trans (if_pos z).symm
      refine r_aload_0 C dX6_budget_48 ?_
      refine gR_t C q434 dX6_budget_49 ?_
      refine gRT_budget C q214 dX6_budget_52 ?_
      refine r_iload_1 C dX6_budget_55 ?_
      refine r_aload_0 C dX6_budget_56 ?_
      refine r_ldcS C (GR.at 169 kIs (by decide)).1 dX6_budget_57 ?_
      refine r_iconst C dX6_budget_59 ?_
      refine r_sipush C dX6_budget_60 ?_
      refine r_cT3i C E (c_X6_named hG (GR.at 169 kIs (by decide)).2 TT TH GR ht hn hT hao hk1 hv3 (by unfold inR; omega) (by unfold inR; omega)) (q0 := 0) rfl rfl q597 pkX6_named dX6_budget_63 (fun a ww h => h) (fun z w h => ?_)
      obtain ⟨⟨rfl, h5⟩, vl5, hv5, rfl⟩ := h
      refine stR_budget C dX6_budget_66 ?_
      obtain ⟨K', hC', E', hb'⟩ := E.back
      refine hb' (r_return (hC' C) E' dX6_budget_67 ?_)
      exact ⟨rfl, h5, vl5, hv5, rfl⟩
    refine r_iconst C dX6_budget_28 ?_
    refine r_cT2v C E (c_X6_must hG TH (by first | exact Or.inl rfl | exact Or.inr rfl)) (q0 := 0) rfl rfl q525 pkX6_must dX6_budget_29 (fun a ww h => by
      have hbb : bsB bd q1.2.2.2.1 = true := by first | exact c_20 | exact absurd h.1 (by decide)
      have e : qBu1 bd q1 = qErr 2 q1 := by
        unfold qBu1
        rw [if_pos ⟨⟨hk1, h3.1, by omega⟩, hbb⟩]
      rw [e, qTak_bad (qErr_nz hk1 (by decide)), qTld_bad (qErr_nz hk1 (by decide))]
      exact pTq_err hk1 (by decide) h.2) (fun w h => ?_)
    obtain ⟨h4, rfl⟩ := h
    first
      | exact absurd h4 (by decide)
      | exact j32 (Bool.eq_false_iff.mpr c_20)
end R3

