/-! the reader: words and numbers, or a fault -/
def rWords : List (Nat × List Int) := [(89, kGrid), (91, kColumns), (99, kRows), (103, kWidth), (109, kLimit), (113, kWear), (117, kAt), (125, kEast), (136, kSouth), (157, kDraws), (159, kGroup), (169, kIs), (175, kStrap), (179, kPad), (184, kLoad), (187, kBudget)]
/-- static facts: the reader's text constants -/
def GRs (g : GX) (κ : Nat → Nat) : Prop := ∀ p ∈ rWords, LdG g RX6 p.1 (κ p.1) ∧ StrG g (κ p.1) p.2
theorem GRs.at {g : GX} {κ : Nat → Nat} (h : GRs g κ) (i : Nat) (w : List Int) (hm : (i, w) ∈ rWords) : LdG g RX6 i (κ i) ∧ StrG g (κ i) w := h (i, w) hm
/-- thrown: the fault of a reader's state -/
def pTq (ws : va_W) (q : Q6) : Nat → va_W → Prop := fun a w => q.2.2.2.2.1 ≠ 0 ∧ pTf ws q.2.2.2.2.1 q.2.2.2.2.2 a w
theorem pTq_err {ws : va_W} {q : Q6} {kd : Int} {a : Nat} {w : va_W} (hk : q.2.2.2.2.1 = 0) (h0 : kd ≠ 0) (h : pTf ws kd q.2.1 a w) : pTq ws (qErr kd q) a w := by
  rw [qErr_good hk]
  exact ⟨h0, h⟩
section R2
variable {g : GX} {ws : va_W} {T : Int → Int} {qt : Nat}
variable {r tp : Nat} {τ : Nat → Nat} {n ap bg tk vl dw bd : Int} {wd fr to ld gr bu : Int → Int} {c rw lm we ss pd ln md sz : Int} {el : Nat → Option Nat}
theorem c_X6_must (hG : Gok g) (TH : GTh g) {z kd : Int} (hz : z = 0 ∨ z = 1) : XMetT g yX6_must cX6_must 3 none (4) [.ref r, .int (jI z), .int (jI kd)] (wRd g r tp τ n ap bg tk vl dw bd wd fr to ld gr bu c rw lm we ss pd ln md sz el ++ ws) (pV (fun w => z = 1 ∧ w = (wRd g r tp τ n ap bg tk vl dw bd wd fr to ld gr bu c rw lm we ss pd ln md sz el ++ ws))) (fun a w => z = 0 ∧ pTf ws kd bg a w) := by
  refine XMetT.of (L := [some (.ref r), some (.int (jI z)), some (.int (jI kd))]) hG (by decide +kernel) (Nat.le_of_ble_eq_true rfl) rfl (fun K C E => ?_)
  refine r_iload_1 C dX6_must_0 ?_
  refine r_ifne (tgt := 17) C dX6_must_1 (by decide) (fun c_1 => ?_) (fun c_1 => ?_) (ha := by unfold inR; omega)
  · skip
    obtain ⟨K', hC', E', hb'⟩ := E.back
    refine hb' (r_return (hC' C) E' dX6_must_17 ?_)
    exact ⟨rfl, by omega, rfl⟩
  · skip
    refine r_new (ws := []) (wt := (wRd g r tp τ n ap bg tk vl dw bd wd fr to ld gr bu c rw lm we ss pd ln md sz el ++ ws)) (k := 0) (n := 0) C in_X7 tyX7_ok q529 q530 q136 (ci := 5) (fs := [.null, .null, .null, .null, .null, .int 0, .int 0, .int 0]) rfl (fun j hj => by rcases (show j = 0 ∨ j = 1 ∨ j = 2 ∨ j = 3 ∨ j = 4 ∨ j = 5 ∨ j = 6 ∨ j = 7 by omega) with rfl | rfl | rfl | rfl | rfl | rfl | rfl | rfl <;> rfl) dX6_must_4 (fun a => ?_)
    refine r_dup C dX6_must_7 ?_
    refine r_iload_2 C dX6_must_8 ?_
    refine r_aload_0 C dX6_must_9 ?_
    refine r_get C 1 rfl rfl in_X6 4 (by decide) q436 rfl rfl dX6_must_10 ?_
    refine r_callI C (av := [.int (jI kd), .int (jI bg)]) (c_X7_init hG TH) q566 pkX7_init (by decide) (Nat.zero_le _) (Nat.zero_le _) rfl (Nat.le_of_ble_eq_true rfl) dX6_must_13 (fun r' w h => ?_)
    obtain ⟨rfl, rfl⟩ := h
    refine AW.sub (wd := wRd g r tp τ n ap bg tk vl dw bd wd fr to ld gr bu c rw lm we ss pd ln md sz el) (ws' := (a, .inr (5, [.null, .null, .null, .null, .null, .int 0, .int (jI kd), .int (jI bg)])) :: ws) List.perm_middle.symm ?_
    exact r_athrow C E 0 rfl dX6_must_16 ⟨by omega, _, rfl, rfl, rfl⟩
theorem c_X6_is (hG : Gok g) {sa : Nat} {w : List Int} (TT : GT g) (S : StrG g sa w) (ht : ws[qt]? = some (tp, .inl (g.2.2.1 2, 700, .inl (arI T)))) (hn : n ≤ 700) (hT : TpOk T) (hap : 0 ≤ ap ∧ ap ≤ n) (hbg : 0 ≤ bg ∧ bg ≤ ap) (htk : 0 ≤ tk ∧ tk ≤ 4) : XMet g yX6_is cX6_is 3 (some .boolean) (4) 0 0 [.ref r, .ref sa] (wRd g r tp τ n ap bg tk vl dw bd wd fr to ld gr bu c rw lm we ss pd ln md sz el ++ ws) (pI (fun z w' => z = (if isWb T ap bg tk w = true then 1 else 0) ∧ w' = (wRd g r tp τ n ap bg tk vl dw bd wd fr to ld gr bu c rw lm we ss pd ln md sz el ++ ws))) := by
  refine XMet.of (L := [some (.ref r), some (.ref sa), none]) hG (by decide +kernel) (Nat.le_of_ble_eq_true rfl) rfl (fun K C E => ?_)
  have hwl := S.2.1
  have key : ∀ (mm : Nat), ∀ (k : Int), (0 ≤ k) → (k ≤ w.length) → ((tk = 1 ∧ ap - bg = (w.length : Int)) ∧ ∀ j : Nat, (j : Int) < k → T (bg + (j : Int)) = w.getD j 0) → ((w.length : Int) - k).toNat = mm → AW g K (wRd g r tp τ n ap bg tk vl dw bd wd fr to ld gr bu c rw lm we ss pd ln md sz el ++ ws) 0 0 28 [some (.ref r), some (.ref sa), some (.int (jI k))] [] := by
    intro mm
    induction mm using Nat.strongRecOn with
    | _ mm ih =>
    intro k hk0 hk1 hx1 hm
    refine r_iload_2 C dX6_is_28 ?_
    refine r_aload_1 C dX6_is_29 ?_
    refine r_len C hG TT S q477 dX6_is_30 ?_
    refine r_if_icmpge (tgt := 63) C dX6_is_33 (by decide) (fun c_33 => ?_) (fun c_33 => ?_)
    · skip
      refine r_iconst C dX6_is_63 ?_
      refine r_zreturn C E dX6_is_64 (by first | exact Or.inl rfl | exact Or.inr rfl | omega) ?_
      refine ⟨_, rfl, ?_, rfl⟩
      rw [if_pos (isWb_iff.mpr ⟨hx1.1, fun j hj => hx1.2 j (by omega)⟩)]
    · skip
      have htp := hT (bg + k) (by omega) (by omega)
      have hch := S.1 k.toNat (by omega)
      have ekn : ((k.toNat : Nat) : Int) = k := by omega
      refine r_aload_0 C dX6_is_36 ?_
      refine gR_text C q432 dX6_is_37 ?_
      refine r_aload_0 C dX6_is_40 ?_
      refine gR_begin C q436 dX6_is_41 ?_
      refine r_iload_2 C dX6_is_44 ?_
      refine r_iadd C dX6_is_45 ?_
      refine ldR_text C ht dX6_is_46 ?_
      refine r_aload_1 C dX6_is_47 ?_
      refine r_iload_2 C dX6_is_48 ?_
      refine r_chr C hG TT S hk0 (by omega) q487 dX6_is_49 ?_
      refine r_if_icmpeq (tgt := 57) C dX6_is_52 (by decide) (fun c_52 => ?_) (fun c_52 => ?_)
      · skip
        refine r_iinc_2 C dX6_is_57 ?_
        refine r_goto (tgt := 28) C dX6_is_60 (by decide) ?_
        refine ih _ (show ((w.length : Int) - (k + 1)).toNat < mm by omega) (k + 1) (by omega) (by omega) ⟨hx1.1, fun j hj => ?_⟩ rfl
        by_cases ej : (j : Int) = k
        · have ej2 : j = k.toNat := by omega
          rw [ej, ej2]
          exact c_52
        · exact hx1.2 j (by omega)
      · skip
        refine r_iconst C dX6_is_55 ?_
        refine r_zreturn C E dX6_is_56 (by first | exact Or.inl rfl | exact Or.inr rfl | omega) ?_
        refine ⟨_, rfl, ?_, rfl⟩
        rw [if_neg (fun h => ?_)]
        have h2 := (isWb_iff.mp h).2 k.toNat (by omega)
        rw [ekn] at h2
        exact c_52 h2
  refine r_aload_0 C dX6_is_0 ?_
  refine gR_token C q437 dX6_is_1 ?_
  refine r_iconst C dX6_is_4 ?_
  refine r_if_icmpne (tgt := 24) C dX6_is_5 (by decide) (fun c_5 => ?_) (fun c_5 => ?_)
  · skip
    refine r_iconst C dX6_is_24 ?_
    refine r_zreturn C E dX6_is_25 (by first | exact Or.inl rfl | exact Or.inr rfl | omega) ?_
    refine ⟨_, rfl, ?_, rfl⟩
    rw [if_neg (fun h => ?_)]
    have h2 := (isWb_iff.mp h).1
    first | exact c_5 h2.1 | exact c_21 h2.2 | omega
  · skip
    refine r_aload_0 C dX6_is_8 ?_
    refine gR_at C q435 dX6_is_9 ?_
    refine r_aload_0 C dX6_is_12 ?_
    refine gR_begin C q436 dX6_is_13 ?_
    refine r_isub C dX6_is_16 ?_
    refine r_aload_1 C dX6_is_17 ?_
    refine r_len C hG TT S q477 dX6_is_18 ?_
    refine r_if_icmpeq (tgt := 26) C dX6_is_21 (by decide) (fun c_21 => ?_) (fun c_21 => ?_)
    · skip
      refine r_iconst C dX6_is_26 ?_
      refine r_istore_2 C dX6_is_27 ?_
      exact key _ 0 (by omega) (by omega) ⟨⟨by omega, by omega⟩, fun j hj => by omega⟩ rfl
    · skip
      refine r_iconst C dX6_is_24 ?_
      refine r_zreturn C E dX6_is_25 (by first | exact Or.inl rfl | exact Or.inr rfl | omega) ?_
      refine ⟨_, rfl, ?_, rfl⟩
      rw [if_neg (fun h => ?_)]
      have h2 := (isWb_iff.mp h).1
      first | exact c_5 h2.1 | exact c_21 h2.2 | omega
theorem c_X6_needs (hG : Gok g) {sa : Nat} {w : List Int} (S : StrG g sa w) (TT : GT g) (TH : GTh g) {κ : Nat → Nat} (GR : GRs g κ) {q : Q6} (ht : ws[qt]? = some (tp, .inl (g.2.2.1 2, 700, .inl (arI T)))) (hn : n ≤ 700) (hT : TpOk T) (hq : QOk n q) (hk : q.2.2.2.2.1 = 0) (hv : q.2.2.1 = 2 → vl = q.2.2.2.1) : XMetT g yX6_needs cX6_needs 2 none (5) [.ref r, .ref sa] (wRd g r tp τ n (q.1) (q.2.1) (q.2.2.1) vl dw bd wd fr to ld gr bu c rw lm we ss pd ln md sz el ++ ws) (pV (fun ww => (qExp T n w q).2.2.2.2.1 = 0 ∧ ∃ vl' : Int, ((qExp T n w q).2.2.1 = 2 → vl' = (qExp T n w q).2.2.2.1) ∧ ww = (wRd g r tp τ n ((qExp T n w q).1) ((qExp T n w q).2.1) ((qExp T n w q).2.2.1) (vl') dw bd wd fr to ld gr bu c rw lm we ss pd ln md sz el ++ ws))) (pTq ws (qExp T n w q)) := by
  refine XMetT.of (L := [some (.ref r), some (.ref sa)]) hG (by decide +kernel) (Nat.le_of_ble_eq_true rfl) rfl (fun K C E => ?_)
  have hE : qExp T n w q = if isWb T q.1 q.2.1 q.2.2.1 w = true then qAdv T n q else qErr 1 q := by
    unfold qExp qIs
    rw [decide_eq_true hk, Bool.true_and]
  refine r_aload_0 C dX6_needs_0 ?_
  refine r_aload_0 C dX6_needs_1 ?_
  refine r_aload_1 C dX6_needs_2 ?_
  refine r_cV1i C (c_X6_is hG TT S ht hn hT hq.1 hq.2.1 hq.2.2.1) (q0 := 0) rfl rfl q473 pkX6_is dX6_needs_3 (fun z w h => ?_)
  obtain ⟨rfl, rfl⟩ := h
  refine r_iconst C dX6_needs_6 ?_
  refine r_cT2v C E (c_X6_must hG TH (by split <;> omega)) (q0 := 0) rfl rfl q525 pkX6_must dX6_needs_7 (fun a ww h => by
    have hw : ¬ isWb T q.1 q.2.1 q.2.2.1 w = true := fun z => by rw [if_pos z] at h; exact absurd h.1 (by decide)
    rw [hE, if_neg hw]
    exact pTq_err hk (by decide) h.2) (fun w h => ?_)
  obtain ⟨h1, rfl⟩ := h
  have hw : isWb T q.1 q.2.1 q.2.2.1 w = true := Classical.byContradiction fun z => by rw [if_neg z] at h1; exact absurd h1 (by decide)
  rw [if_pos hw] at hE
  rw [hE] at E
  refine r_aload_0 C dX6_needs_10 ?_
  refine r_cV0v C (c_X6_next hG ht hn hq.1 hT) (q0 := 0) rfl rfl q419 pkX6_next dX6_needs_11 (fun w h => ?_)
  obtain ⟨vl', hvl, rfl⟩ := h
  obtain ⟨K', hC', E', hb'⟩ := E.back
  refine hb' (r_return (hC' C) E' dX6_needs_14 ?_)
  refine ⟨rfl, hk, vl', fun h2 => ?_, rfl⟩
  rw [hvl h2]
  exact (if_pos h2).symm
theorem c_X6_sees (hG : Gok g) {lo hi : Int} (TT : GT g) (TH : GTh g) {κ : Nat → Nat} (GR : GRs g κ) {q : Q6} (ht : ws[qt]? = some (tp, .inl (g.2.2.1 2, 700, .inl (arI T)))) (hn : n ≤ 700) (hT : TpOk T) (hq : QOk n q) (hk : q.2.2.2.2.1 = 0) (hv : q.2.2.1 = 2 → vl = q.2.2.2.1) (hlo : inR lo) (hhi : inR hi) : XMetT g yX6_sees cX6_sees 3 (some .int) (5) [.ref r, .int (jI lo), .int (jI hi)] (wRd g r tp τ n (q.1) (q.2.1) (q.2.2.1) vl dw bd wd fr to ld gr bu c rw lm we ss pd ln md sz el ++ ws) (pI (fun z ww => (qTak T n lo hi q = (q.2.2.2.1, qAdv T n q) ∧ (q.2.2.1 = 2 ∧ lo ≤ q.2.2.2.1 ∧ q.2.2.2.1 ≤ hi)) ∧ z = q.2.2.2.1 ∧ ww = (wRd g r tp τ n (q.1) (q.2.1) (q.2.2.1) vl dw bd wd fr to ld gr bu c rw lm we ss pd ln md sz el ++ ws))) (pTq ws (qTak T n lo hi q).2) := by
  refine XMetT.of (L := [some (.ref r), some (.int (jI lo)), some (.int (jI hi))]) hG (by decide +kernel) (Nat.le_of_ble_eq_true rfl) rfl (fun K C E => ?_)
  have hqt := hq.2.2.1
  have j18 : q.2.2.1 = 2 → AW g K (wRd g r tp τ n (q.1) (q.2.1) (q.2.2.1) vl dw bd wd fr to ld gr bu c rw lm we ss pd ln md sz el ++ ws) 1 8 18 [some (.ref r), some (.int (jI lo)), some (.int (jI hi))] [] := by
    intro h2
    have hvv := hv h2
    have hvr := hq.2.2.2.1 h2
    subst hvv
    refine r_aload_0 C dX6_sees_18 ?_
    refine r_aload_0 C dX6_sees_19 ?_
    refine gR_value C q438 dX6_sees_20 ?_
    refine r_i2l C dX6_sees_23 ?_
    refine r_iload_1 C dX6_sees_24 ?_
    refine r_i2l C dX6_sees_25 ?_
    refine r_iload_2 C dX6_sees_26 ?_
    refine r_i2l C dX6_sees_27 ?_
    refine r_cSN3i C (c_X0_in hG (inR_L (by unfold inR; omega)) (inR_L hlo) (inR_L hhi)) q427 pkX0_in dX6_sees_28 (fun z w h => ?_)
    obtain ⟨rfl, rfl⟩ := h
    refine r_iconst C dX6_sees_31 ?_
    refine r_cT2v C E (c_X6_must hG TH (by split <;> omega)) (q0 := 0) rfl rfl q525 pkX6_must dX6_sees_32 (fun a ww h => by
      have hw : ¬ (lo ≤ q.2.2.2.1 ∧ q.2.2.2.1 ≤ hi) := fun z => by rw [if_pos z] at h; exact absurd h.1 (by decide)
      have e : qTak T n lo hi q = (0, qErr 2 q) := by
        unfold qTak
        rw [if_neg (fun z => z hk), if_neg (fun z => z h2), if_pos hw]
      rw [e]
      exact pTq_err hk (by decide) h.2) (fun w h => ?_)
    obtain ⟨h1, rfl⟩ := h
    have hw : lo ≤ q.2.2.2.1 ∧ q.2.2.2.1 ≤ hi := Classical.byContradiction fun z => by rw [if_neg z] at h1; exact absurd h1 (by decide)
    refine r_aload_0 C dX6_sees_35 ?_
    refine gR_value C q438 dX6_sees_36 ?_
    obtain ⟨K', hC', E', hb'⟩ := E.back
    refine hb' (r_ireturn (hC' C) E' dX6_sees_39 ?_)
    refine ⟨_, rfl, ⟨?_, h2, hw⟩, rfl, rfl⟩
    unfold qTak
    rw [if_neg (fun z => z hk), if_neg (fun z => z h2), if_neg (fun z => z hw)]
  refine r_aload_0 C dX6_sees_0 ?_
  refine r_aload_0 C dX6_sees_1 ?_
  refine gR_token C q437 dX6_sees_2 ?_
  refine r_iconst C dX6_sees_5 ?_
  refine r_if_icmpne (tgt := 13) C dX6_sees_6 (by decide) (fun c_6 => ?_) (fun c_6 => ?_)
  · skip
    refine r_iconst C dX6_sees_13 ?_
    refine r_iconst C dX6_sees_14 ?_
    refine r_cT2v C E (c_X6_must hG TH (by first | exact Or.inl rfl | exact Or.inr rfl)) (q0 := 0) rfl rfl q525 pkX6_must dX6_sees_15 (fun a ww h => by
      have hw : ¬ q.2.2.1 = 2 := by first | exact c_6 | exact absurd h.1 (by decide)
      have e : qTak T n lo hi q = (0, qErr 1 q) := by
        unfold qTak
        rw [if_neg (fun z => z hk), if_pos hw]
      rw [e]
      exact pTq_err hk (by decide) h.2) (fun w h => ?_)
    obtain ⟨h1, rfl⟩ := h
    first
      | exact absurd h1 (by decide)
      | exact j18 c_6
      | exact j18 (Classical.byContradiction c_6)
  · skip
    refine r_iconst C dX6_sees_9 ?_
    refine r_goto (tgt := 14) C dX6_sees_10 (by decide) ?_
    refine r_iconst C dX6_sees_14 ?_
    refine r_cT2v C E (c_X6_must hG TH (by first | exact Or.inl rfl | exact Or.inr rfl)) (q0 := 0) rfl rfl q525 pkX6_must dX6_sees_15 (fun a ww h => by
      have hw : ¬ q.2.2.1 = 2 := by first | exact c_6 | exact absurd h.1 (by decide)
      have e : qTak T n lo hi q = (0, qErr 1 q) := by
        unfold qTak
        rw [if_neg (fun z => z hk), if_pos hw]
      rw [e]
      exact pTq_err hk (by decide) h.2) (fun w h => ?_)
    obtain ⟨h1, rfl⟩ := h
    first
      | exact absurd h1 (by decide)
      | exact j18 c_6
      | exact j18 (Classical.byContradiction c_6)
theorem c_X6_number (hG : Gok g) {lo hi : Int} (TT : GT g) (TH : GTh g) {κ : Nat → Nat} (GR : GRs g κ) {q : Q6} (ht : ws[qt]? = some (tp, .inl (g.2.2.1 2, 700, .inl (arI T)))) (hn : n ≤ 700) (hT : TpOk T) (hq : QOk n q) (hk : q.2.2.2.2.1 = 0) (hv : q.2.2.1 = 2 → vl = q.2.2.2.1) (hlo : inR lo) (hhi : inR hi) : XMetT g yX6_number cX6_number 4 (some .int) (6) [.ref r, .int (jI lo), .int (jI hi)] (wRd g r tp τ n (q.1) (q.2.1) (q.2.2.1) vl dw bd wd fr to ld gr bu c rw lm we ss pd ln md sz el ++ ws) (pI (fun z ww => (z = (qTak T n lo hi q).1 ∧ (qTak T n lo hi q).2.2.2.2.2.1 = 0) ∧ ∃ vl' : Int, ((qTak T n lo hi q).2.2.2.1 = 2 → vl' = (qTak T n lo hi q).2.2.2.2.1) ∧ ww = (wRd g r tp τ n (((qTak T n lo hi q).2).1) (((qTak T n lo hi q).2).2.1) (((qTak T n lo hi q).2).2.2.1) (vl') dw bd wd fr to ld gr bu c rw lm we ss pd ln md sz el ++ ws))) (pTq ws (qTak T n lo hi q).2) := by
  refine XMetT.of (L := [some (.ref r), some (.int (jI lo)), some (.int (jI hi)), none]) hG (by decide +kernel) (Nat.le_of_ble_eq_true rfl) rfl (fun K C E => ?_)
  refine r_aload_0 C dX6_number_0 ?_
  refine r_iload_1 C dX6_number_1 ?_
  refine r_iload_2 C dX6_number_2 ?_
  refine r_cT2i C E (c_X6_sees hG TT TH GR ht hn hT hq hk hv hlo hhi) (q0 := 0) rfl rfl q605 pkX6_sees dX6_number_3 (fun a ww h => h) (fun z w h => ?_)
  obtain ⟨h1, rfl, rfl⟩ := h
  rw [h1.1] at E
  refine r_istore_3 C dX6_number_6 ?_
  refine r_aload_0 C dX6_number_7 ?_
  refine r_cV0v C (c_X6_next hG ht hn hq.1 hT) (q0 := 0) rfl rfl q419 pkX6_next dX6_number_8 (fun w h => ?_)
  obtain ⟨vl', hvl, rfl⟩ := h
  refine r_iload_3 C dX6_number_11 ?_
  obtain ⟨K', hC', E', hb'⟩ := E.back
  refine hb' (r_ireturn (hC' C) E' dX6_number_12 ?_)
  refine ⟨_, rfl, ⟨rfl, hk⟩, vl', fun h2 => ?_, rfl⟩
  rw [hvl h2]
  exact (if_pos h2).symm
theorem c_X6_named (hG : Gok g) {sa : Nat} {w : List Int} {lo hi : Int} (S : StrG g sa w) (TT : GT g) (TH : GTh g) {κ : Nat → Nat} (GR : GRs g κ) {q : Q6} (ht : ws[qt]? = some (tp, .inl (g.2.2.1 2, 700, .inl (arI T)))) (hn : n ≤ 700) (hT : TpOk T) (hq : QOk n q) (hk : q.2.2.2.2.1 = 0) (hv : q.2.2.1 = 2 → vl = q.2.2.2.1) (hlo : inR lo) (hhi : inR hi) : XMetT g yX6_named cX6_named 4 (some .int) (7) [.ref r, .ref sa, .int (jI lo), .int (jI hi)] (wRd g r tp τ n (q.1) (q.2.1) (q.2.2.1) vl dw bd wd fr to ld gr bu c rw lm we ss pd ln md sz el ++ ws) (pI (fun z ww => (z = (qTld T n w lo hi q).1 ∧ (qTld T n w lo hi q).2.2.2.2.2.1 = 0) ∧ ∃ vl' : Int, ((qTld T n w lo hi q).2.2.2.1 = 2 → vl' = (qTld T n w lo hi q).2.2.2.2.1) ∧ ww = (wRd g r tp τ n (((qTld T n w lo hi q).2).1) (((qTld T n w lo hi q).2).2.1) (((qTld T n w lo hi q).2).2.2.1) (vl') dw bd wd fr to ld gr bu c rw lm we ss pd ln md sz el ++ ws))) (pTq ws (qTld T n w lo hi q).2) := by
  refine XMetT.of (L := [some (.ref r), some (.ref sa), some (.int (jI lo)), some (.int (jI hi))]) hG (by decide +kernel) (Nat.le_of_ble_eq_true rfl) rfl (fun K C E => ?_)
  unfold qTld at E
  refine r_aload_0 C dX6_named_0 ?_
  refine r_aload_1 C dX6_named_1 ?_
  refine r_cT1v C E (c_X6_needs hG S TT TH GR ht hn hT hq hk hv) (q0 := 0) rfl rfl q469 pkX6_needs dX6_named_2 (fun a ww h => by
    rw [qTak_bad h.1]
    exact h) (fun w h => ?_)
  obtain ⟨h1, vl', hv', rfl⟩ := h
  refine r_aload_0 C dX6_named_5 ?_
  refine r_iload_2 C dX6_named_6 ?_
  refine r_iload_3 C dX6_named_7 ?_
  refine r_cT2i C E (c_X6_number hG TT TH GR ht hn hT hq.exp h1 hv' hlo hhi) (q0 := 0) rfl rfl q601 pkX6_number dX6_named_8 (fun a ww h => h) (fun z w h => ?_)
  obtain ⟨⟨rfl, h2⟩, vl2, hv2, rfl⟩ := h
  obtain ⟨K', hC', E', hb'⟩ := E.back
  refine hb' (r_ireturn (hC' C) E' dX6_named_11 ?_)
  exact ⟨_, rfl, ⟨rfl, h2⟩, vl2, hv2, rfl⟩
end R2

