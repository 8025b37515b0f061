/-! a fault is made; the reader's tokens -/
/-- static facts: two statics of Throwable are some references -/
def GTh (g : GX) : Prop := ∀ (A : Nat → Prop) (U : State) (H : Heap), g.2.2.2 A U H → va_Zq "java/lang/Throwable" "UNASSIGNED_STACK" "[Ljava/lang/StackTraceElement;" A U H ∧ va_Zq "java/lang/Throwable" "SUPPRESSED_SENTINEL" "Ljava/util/List;" A U H
theorem r_aloadN_1 {g : GX} {K : KY} {d : Nat} {cc : ByteArray} {own : String} {ws : va_W} {k n pc : Nat} {st : List Value} (C : Cok g K d cc own) {a0 : Option Value} {l : List (Option Value)} (dd : decode cc pc = .ok (.aload_n 1, 1)) (kk : AW g K ws k n (pc + 1) (a0 :: some .null :: l) (.null :: st)) : AW g K ws k n pc (a0 :: some .null :: l) st :=
  AW.op C (fun hx hb hown hts hml hfr hl w => lv_aload_nN hx hb dd rfl (lo_at hl rfl) w) kk
theorem r_aloadN_2 {g : GX} {K : KY} {d : Nat} {cc : ByteArray} {own : String} {ws : va_W} {k n pc : Nat} {st : List Value} (C : Cok g K d cc own) {a0 a1 : Option Value} {l : List (Option Value)} (dd : decode cc pc = .ok (.aload_n 2, 1)) (kk : AW g K ws k n (pc + 1) (a0 :: a1 :: some .null :: l) (.null :: st)) : AW g K ws k n pc (a0 :: a1 :: some .null :: l) st :=
  AW.op C (fun hx hb hown hts hml hfr hl w => lv_aload_nN hx hb dd rfl (lo_at hl rfl) w) kk
section Fault
variable {g : GX} {ws : va_W} {a : Nat}
theorem pkJ8_init2 : PkI yJ8_init_2 cJ8_init_2 5 4 := ⟨q573, q134, q574, by decide, rfl, by decide +kernel, by decide +kernel, by decide +kernel⟩
theorem pkJ9_init : PkI yJ9_init cJ9_init 5 4 := ⟨q570, q135, q571, by decide, rfl, by decide +kernel, by decide +kernel, by decide +kernel⟩
theorem pkX7_init : PkI yX7_init cX7_init 3 2 := ⟨q567, q136, q568, by decide, rfl, by decide +kernel, by decide +kernel, by decide +kernel⟩
theorem c_J8_init2 (hG : Gok g) (TH : GTh g) {v0 v1 v2 v3 v4 v5 v6 v7 : Value} : XMet g yJ8_init_2 cJ8_init_2 5 none 1 0 0 [.ref a, .null, .null, .int (jI 0), .int (jI 0)] ((a, .inr (5, [v0, v1, v2, v3, v4, v5, v6, v7])) :: ws) (pV (fun w => w = (a, .inr (5, [.null, .null, .null, .null, v4, v5, v6, v7])) :: ws)) := by
  refine XMet.ofI (L := [some (.ref a), some .null, some .null, some (.int (jI 0)), some (.int (jI 0))]) hG (by decide +kernel) rfl (Nat.le_of_ble_eq_true rfl) rfl (fun K C E I => ?_)
  have j23 : ∀ (x0 x1 x2 : Value), AW g K ((a, .inr (5, [x0, x1, x2, v3, v4, v5, v6, v7])) :: ws) 0 0 23 [some (.ref a), some .null, some .null, some (.int (jI 0)), some (.int (jI 0))] [] := by
    intro x0 x1 x2
    refine r_iload_4 C dJ8_init_2_23 ?_
    refine r_ifeq (tgt := 36) C dJ8_init_2_25 (by decide) (fun _ => ?_) (fun h => absurd rfl h)
    refine r_aload_0 C dJ8_init_2_36 ?_
    refine r_aconst_null C dJ8_init_2_37 ?_
    refine r_put C 0 rfl rfl in_X7 tyX7 tyX7_ok nmX7 1 (by decide) q582 rfl rfl (tyX7_ok 1 (by decide)) rfl rfl (Nat.le_of_ble_eq_true rfl) dJ8_init_2_38 ?_
    refine r_aload_0 C dJ8_init_2_41 ?_
    refine r_aloadN_1 C dJ8_init_2_42 ?_
    refine r_put C 0 rfl rfl in_X7 tyX7 tyX7_ok nmX7 3 (by decide) q580 rfl rfl (tyX7_ok 3 (by decide)) rfl rfl (Nat.le_of_ble_eq_true rfl) dJ8_init_2_43 ?_
    refine r_aload_0 C dJ8_init_2_46 ?_
    refine r_aloadN_2 C dJ8_init_2_47 ?_
    refine r_put C 0 rfl rfl in_X7 tyX7 tyX7_ok nmX7 0 (by decide) q581 rfl rfl (tyX7_ok 0 (by decide)) rfl rfl (Nat.le_of_ble_eq_true rfl) dJ8_init_2_48 ?_
    refine r_iload_3 C dJ8_init_2_51 ?_
    refine r_ifne (tgt := 60) C dJ8_init_2_52 (by decide) (fun h => absurd rfl h) (fun _ => ?_)
    refine r_aload_0 C dJ8_init_2_55 ?_
    refine r_aconst_null C dJ8_init_2_56 ?_
    refine r_put C 0 rfl rfl in_X7 tyX7 tyX7_ok nmX7 2 (by decide) q583 rfl rfl (tyX7_ok 2 (by decide)) rfl rfl (Nat.le_of_ble_eq_true rfl) dJ8_init_2_57 ?_
    exact r_return C E dJ8_init_2_60 ⟨rfl, rfl⟩
  have j16 : ∀ (x0 x1 : Value), AW g K ((a, .inr (5, [x0, x1, v2, v3, v4, v5, v6, v7])) :: ws) 0 0 16 [some (.ref a), some .null, some .null, some (.int (jI 0)), some (.int (jI 0))] [] := by
    intro x0 x1
    refine r_aload_0 C dJ8_init_2_16 ?_
    refine r_getsq C (fun A U H h => (TH A U H h).2) q555 dJ8_init_2_17 ?_ (fun t => ?_)
    · refine r_put C 0 rfl rfl in_X7 tyX7 tyX7_ok nmX7 2 (by decide) q583 rfl rfl (tyX7_ok 2 (by decide)) rfl rfl (Nat.le_of_ble_eq_true rfl) dJ8_init_2_20 ?_
      exact j23 _ _ _
    · refine r_put C 0 rfl rfl in_X7 tyX7 tyX7_ok nmX7 2 (by decide) q583 rfl rfl (tyX7_ok 2 (by decide)) rfl rfl (Nat.le_of_ble_eq_true rfl) dJ8_init_2_20 ?_
      exact j23 _ _ _
  refine r_aload_0 C dJ8_init_2_0 ?_
  refine r_objInit C q552 dJ8_init_2_1 (by decide) (by decide) ?_
  refine r_aload_0 C dJ8_init_2_4 ?_
  refine r_aload_0 C dJ8_init_2_5 ?_
  refine r_put C 0 rfl rfl in_X7 tyX7 tyX7_ok nmX7 0 (by decide) q581 rfl rfl (tyX7_ok 0 (by decide)) rfl rfl (Nat.le_of_ble_eq_true rfl) dJ8_init_2_6 ?_
  refine r_aload_0 C dJ8_init_2_9 ?_
  refine r_getsq C (fun A U H h => (TH A U H h).1) q553 dJ8_init_2_10 ?_ (fun t => ?_)
  · refine r_put C 0 rfl rfl in_X7 tyX7 tyX7_ok nmX7 1 (by decide) q582 rfl rfl (tyX7_ok 1 (by decide)) rfl rfl (Nat.le_of_ble_eq_true rfl) dJ8_init_2_13 ?_
    exact j16 _ _
  · refine r_put C 0 rfl rfl in_X7 tyX7 tyX7_ok nmX7 1 (by decide) q582 rfl rfl (tyX7_ok 1 (by decide)) rfl rfl (Nat.le_of_ble_eq_true rfl) dJ8_init_2_13 ?_
    exact j16 _ _
theorem c_J9_init (hG : Gok g) (TH : GTh g) {v0 v1 v2 v3 v4 v5 v6 v7 : Value} : XMet g yJ9_init cJ9_init 5 none 2 0 0 [.ref a, .null, .null, .int (jI 0), .int (jI 0)] ((a, .inr (5, [v0, v1, v2, v3, v4, v5, v6, v7])) :: ws) (pV (fun w => w = (a, .inr (5, [.null, .null, .null, .null, v4, v5, v6, v7])) :: ws)) := by
  refine XMet.ofI (L := [some (.ref a), some .null, some .null, some (.int (jI 0)), some (.int (jI 0))]) hG (by decide +kernel) rfl (Nat.le_of_ble_eq_true rfl) rfl (fun K C E I => ?_)
  refine r_aload_0 C dJ9_init_0 ?_
  refine r_aloadN_1 C dJ9_init_1 ?_
  refine r_aloadN_2 C dJ9_init_2 ?_
  refine r_iload_3 C dJ9_init_3 ?_
  refine r_iload_4 C dJ9_init_4 ?_
  refine r_callI C (av := [.null, .null, .int (jI 0), .int (jI 0)]) (c_J8_init2 hG TH) q572 pkJ8_init2 (by decide) (Nat.zero_le _) (Nat.zero_le _) rfl (Nat.le_of_ble_eq_true rfl) dJ9_init_6 (fun r w h => ?_)
  obtain ⟨rfl, rfl⟩ := h
  exact r_return C E dJ9_init_9 ⟨rfl, rfl⟩
theorem c_X7_init (hG : Gok g) (TH : GTh g) {kd pl : Int} {v0 v1 v2 v3 v4 v5 v6 v7 : Value} : XMet g yX7_init cX7_init 3 none 3 0 0 [.ref a, .int (jI kd), .int (jI pl)] ((a, .inr (5, [v0, v1, v2, v3, v4, v5, v6, v7])) :: ws) (pV (fun w => w = (a, .inr (5, [.null, .null, .null, .null, v4, v5, .int (jI kd), .int (jI pl)])) :: ws)) := by
  refine XMet.ofI (L := [some (.ref a), some (.int (jI kd)), some (.int (jI pl))]) hG (by decide +kernel) rfl (Nat.le_of_ble_eq_true rfl) rfl (fun K C E I => ?_)
  refine r_aload_0 C dX7_init_0 ?_
  refine r_aconst_null C dX7_init_1 ?_
  refine r_aconst_null C dX7_init_2 ?_
  refine r_iconst C dX7_init_3 ?_
  refine r_iconst C dX7_init_4 ?_
  refine r_callI C (av := [.null, .null, .int (jI 0), .int (jI 0)]) (c_J9_init hG TH) q569 pkJ9_init (by decide) (Nat.zero_le _) (Nat.zero_le _) rfl (Nat.le_of_ble_eq_true rfl) dX7_init_5 (fun r w h => ?_)
  obtain ⟨rfl, rfl⟩ := h
  refine r_aload_0 C dX7_init_8 ?_
  refine r_iload_1 C dX7_init_9 ?_
  refine r_putF C I 0 rfl rfl in_X7 tyX7 tyX7_ok nmX7 6 (by decide) q575 rfl rfl rfl (tyX7_ok 6 (by decide)) rfl rfl (Nat.le_of_ble_eq_true rfl) dX7_init_10 ?_
  refine r_aload_0 C dX7_init_13 ?_
  refine r_iload_2 C dX7_init_14 ?_
  refine r_putF C I 0 rfl rfl in_X7 tyX7 tyX7_ok nmX7 7 (by decide) q577 rfl rfl rfl (tyX7_ok 7 (by decide)) rfl rfl (Nat.le_of_ble_eq_true rfl) dX7_init_15 ?_
  exact r_return C E dX7_init_18 ⟨rfl, rfl⟩
end Fault
abbrev vlN (T : Int → Int) (n a v : Int) : Int := vl T n a v
/-- what is thrown: a fault of a kind and a place; of the rest only ws is kept -/
def pTf (ws : va_W) (kd pl : Int) : Nat → va_W → Prop := fun q w => ∃ fs : List Value, fs[6]? = some (.int (jI kd)) ∧ fs[7]? = some (.int (jI pl)) ∧ w = (q, .inr (5, fs)) :: ws
section R1
variable {g : GX} {ws : va_W} {T : Int → Int} {qt : Nat}
variable {r tp : Nat} {τ : Nat → Nat} {n ap bg tk vl dw bd : Int} {wd fr to ld gr bu : Int → Int} {c rw lm we ss pd ln md sz : Int} {el : Nat → Option Nat}
theorem c_X6_isAt (hG : Gok g) {lo hi : Int} (ht : ws[qt]? = some (tp, .inl (g.2.2.1 2, 700, .inl (arI T)))) (hn : n ≤ 700) (ha : 0 ≤ ap ∧ ap ≤ n) (hT : TpOk T) (hlo : inR lo) (hhi : inR hi) : XMet g yX6_isAt cX6_isAt 3 (some .boolean) (1) 0 0 [.ref r, .int (jI lo), .int (jI hi)] (wRd g r tp τ n ap bg tk vl dw bd wd fr to ld gr bu c rw lm we ss pd ln md sz el ++ ws) (pI (fun z w => z = (if ap < n ∧ lo ≤ T ap ∧ T ap ≤ hi then 1 else 0) ∧ w = (wRd g r tp τ n ap bg tk vl dw bd wd fr to ld gr bu c rw lm we ss pd ln md sz el ++ ws))) := by
  refine XMet.of (L := [some (.ref r), some (.int (jI lo)), some (.int (jI hi))]) hG (by decide +kernel) (Nat.le_of_ble_eq_true rfl) rfl (fun K C E => ?_)
  refine r_aload_0 C dX6_isAt_0 ?_
  refine gR_at C q435 dX6_isAt_1 ?_
  refine r_aload_0 C dX6_isAt_4 ?_
  refine gR_many C q433 dX6_isAt_5 ?_
  refine r_if_icmpge (tgt := 35) C dX6_isAt_8 (by decide) (fun c_8 => ?_) (fun c_8 => ?_)
  · skip
    refine r_iconst C dX6_isAt_35 ?_
    refine r_zreturn C E dX6_isAt_36 (by first | exact Or.inl rfl | exact Or.inr rfl | omega) ?_
    refine ⟨_, rfl, ?_, rfl⟩
    first
      | rw [if_neg (fun h => by omega)]
      | rw [if_pos ⟨by omega, c_28⟩]
      | rw [if_neg (fun h => c_28 h.2)]
  · skip
    refine r_aload_0 C dX6_isAt_11 ?_
    refine gR_text C q432 dX6_isAt_12 ?_
    refine r_aload_0 C dX6_isAt_15 ?_
    refine gR_at C q435 dX6_isAt_16 ?_
    have hta := hT ap ha.1 (by omega)
    refine ldR_text C ht dX6_isAt_19 ?_
    refine r_i2l C dX6_isAt_20 ?_
    refine r_iload_1 C dX6_isAt_21 ?_
    refine r_i2l C dX6_isAt_22 ?_
    refine r_iload_2 C dX6_isAt_23 ?_
    refine r_i2l C dX6_isAt_24 ?_
    refine r_cSN3i C (c_X0_in hG (inR_L (by unfold inR; omega)) (inR_L hlo) (inR_L hhi)) q427 pkX0_in dX6_isAt_25 (fun z w h => ?_)
    obtain ⟨rfl, rfl⟩ := h
    refine r_ifeqB (tgt := 35) C dX6_isAt_28 (by decide) (fun c_28 => ?_) (fun c_28 => ?_)
    · skip
      refine r_iconst C dX6_isAt_35 ?_
      refine r_zreturn C E dX6_isAt_36 (by first | exact Or.inl rfl | exact Or.inr rfl | omega) ?_
      refine ⟨_, rfl, ?_, rfl⟩
      first
        | rw [if_neg (fun h => by omega)]
        | rw [if_pos ⟨by omega, c_28⟩]
        | rw [if_neg (fun h => c_28 h.2)]
    · skip
      refine r_iconst C dX6_isAt_31 ?_
      refine r_goto (tgt := 36) C dX6_isAt_32 (by decide) ?_
      refine r_zreturn C E dX6_isAt_36 (by first | exact Or.inl rfl | exact Or.inr rfl | omega) ?_
      refine ⟨_, rfl, ?_, rfl⟩
      first
        | rw [if_neg (fun h => by omega)]
        | rw [if_pos ⟨by omega, c_28⟩]
        | rw [if_neg (fun h => c_28 h.2)]
theorem c_X6_next (hG : Gok g) (ht : ws[qt]? = some (tp, .inl (g.2.2.1 2, 700, .inl (arI T)))) (hn : n ≤ 700) (ha : 0 ≤ ap ∧ ap ≤ n) (hT : TpOk T) : XMet g yX6_next cX6_next 1 none (2) 0 0 [.ref r] (wRd g r tp τ n ap bg tk vl dw bd wd fr to ld gr bu c rw lm we ss pd ln md sz el ++ ws) (pV (fun w => ∃ vl' : Int, (tK T n (tB T n ap) = 2 → vl' = tV T n (tB T n ap)) ∧ w = (wRd g r tp τ n (tE T n (tB T n ap)) (tB T n ap) (tK T n (tB T n ap)) (vl') dw bd wd fr to ld gr bu c rw lm we ss pd ln md sz el ++ ws))) := by
  refine XMet.of (L := [some (.ref r)]) hG (by decide +kernel) (Nat.le_of_ble_eq_true rfl) rfl (fun K C E => ?_)
  have key : ∀ (mm : Nat), ∀ (a : Int), (0 ≤ a) → (a ≤ n) → (tB T n a = tB T n ap) → (n - a).toNat = mm → AW g K (wRd g r tp τ n (a) bg tk vl dw bd wd fr to ld gr bu c rw lm we ss pd ln md sz el ++ ws) 0 0 0 [some (.ref r)] [] := by
    intro mm
    induction mm using Nat.strongRecOn with
    | _ mm ih =>
    intro a ha0 ha1 hb hm
    refine r_aload_0 C dX6_next_0 ?_
    refine r_bipush C dX6_next_1 ?_
    refine r_bipush C dX6_next_3 ?_
    refine r_cV2i C (c_X6_isAt hG ht hn ⟨ha0, ha1⟩ hT (by unfold inR; omega) (by unfold inR; omega)) (q0 := 0) rfl rfl q423 pkX6_isAt dX6_next_5 (fun z w h => ?_)
    obtain ⟨rfl, rfl⟩ := h
    refine r_ifneB (tgt := 22) C dX6_next_8 (by decide) (fun c_8 => ?_) (fun c_8 => ?_)
    · skip
      refine r_aload_0 C dX6_next_22 ?_
      refine r_dup C dX6_next_23 ?_
      refine gR_at C q435 dX6_next_24 ?_
      refine r_iconst C dX6_next_27 ?_
      refine r_iadd C dX6_next_28 ?_
      refine pR_at C q435 dX6_next_29 ?_
      refine r_goto (tgt := 0) C dX6_next_32 (by decide) ?_
      have hbl : a < n ∧ blB (T a) = true := by
        first
          | exact ⟨c_8.1, blB_iff.mpr (Or.inl (by omega))⟩
          | exact ⟨c_19.1, blB_iff.mpr (Or.inr (by omega))⟩
      refine ih _ (show (n - (a + 1)).toNat < mm by omega) (a + 1) (by omega) (by omega) ?_ rfl
      rw [← hb]
      exact (rn_y hbl.1 hbl.2).symm
    · skip
      refine r_aload_0 C dX6_next_11 ?_
      refine r_bipush C dX6_next_12 ?_
      refine r_bipush C dX6_next_14 ?_
      refine r_cV2i C (c_X6_isAt hG ht hn ⟨ha0, ha1⟩ hT (by unfold inR; omega) (by unfold inR; omega)) (q0 := 0) rfl rfl q423 pkX6_isAt dX6_next_16 (fun z w h => ?_)
      obtain ⟨rfl, rfl⟩ := h
      refine r_ifeqB (tgt := 35) C dX6_next_19 (by decide) (fun c_19 => ?_) (fun c_19 => ?_)
      · skip
        have eb : tB T n ap = a := by
          rw [← hb]
          refine rn_n (fun h => ?_)
          rcases blB_iff.mp h.2 with h2 | h2
          · exact c_8 ⟨h.1, by omega⟩
          · exact c_19 ⟨h.1, by omega⟩
        clear ih hb
        rw [eb] at E
        refine r_aload_0 C dX6_next_35 ?_
        refine r_aload_0 C dX6_next_36 ?_
        refine gR_at C q435 dX6_next_37 ?_
        refine pR_begin C q436 dX6_next_40 ?_
        refine r_aload_0 C dX6_next_43 ?_
        refine r_iconst C dX6_next_44 ?_
        refine pR_value C q438 dX6_next_45 ?_
        refine r_aload_0 C dX6_next_48 ?_
        refine gR_at C q435 dX6_next_49 ?_
        refine r_aload_0 C dX6_next_52 ?_
        refine gR_many C q433 dX6_next_53 ?_
        refine r_if_icmpne (tgt := 67) C dX6_next_56 (by decide) (fun c_56 => ?_) (fun c_56 => ?_)
        · skip
          have hlt : a < n := by omega
          refine r_aload_0 C dX6_next_67 ?_
          refine r_bipush C dX6_next_68 ?_
          refine r_bipush C dX6_next_70 ?_
          refine r_cV2i C (c_X6_isAt hG ht hn ⟨ha0, ha1⟩ hT (by unfold inR; omega) (by unfold inR; omega)) (q0 := 0) rfl rfl q423 pkX6_isAt dX6_next_72 (fun z w h => ?_)
          obtain ⟨rfl, rfl⟩ := h
          refine r_ifeqB (tgt := 107) C dX6_next_75 (by decide) (fun c_75 => ?_) (fun c_75 => ?_)
          · skip
            have hL : ¬ lcB (T a) = true := fun h => c_75 ⟨hlt, lcB_iff.mp h⟩
            refine r_aload_0 C dX6_next_107 ?_
            refine r_bipush C dX6_next_108 ?_
            refine r_bipush C dX6_next_110 ?_
            refine r_cV2i C (c_X6_isAt hG ht hn ⟨ha0, ha1⟩ hT (by unfold inR; omega) (by unfold inR; omega)) (q0 := 0) rfl rfl q423 pkX6_isAt dX6_next_112 (fun z w h => ?_)
            obtain ⟨rfl, rfl⟩ := h
            refine r_ifeqB (tgt := 176) C dX6_next_115 (by decide) (fun c_115 => ?_) (fun c_115 => ?_)
            · skip
              have hD : ¬ dgB (T a) = true := fun h => c_115 ⟨hlt, dgB_iff.mp h⟩
              refine r_aload_0 C dX6_next_176 ?_
              refine r_aload_0 C dX6_next_177 ?_
              refine r_bipush C dX6_next_178 ?_
              refine r_bipush C dX6_next_180 ?_
              refine r_cV2i C (c_X6_isAt hG ht hn ⟨ha0, ha1⟩ hT (by unfold inR; omega) (by unfold inR; omega)) (q0 := 0) rfl rfl q423 pkX6_isAt dX6_next_182 (fun z w h => ?_)
              obtain ⟨rfl, rfl⟩ := h
              refine r_ifeqB (tgt := 192) C dX6_next_185 (by decide) (fun c_185 => ?_) (fun c_185 => ?_)
              · skip
                refine r_iconst C dX6_next_192 ?_
                refine pR_token C q437 dX6_next_193 ?_
                refine r_aload_0 C dX6_next_196 ?_
                refine r_dup C dX6_next_197 ?_
                refine gR_at C q435 dX6_next_198 ?_
                refine r_iconst C dX6_next_201 ?_
                refine r_iadd C dX6_next_202 ?_
                refine pR_at C q435 dX6_next_203 ?_
                refine r_return C E dX6_next_206 ?_
                first
                  | (have hle : n ≤ a := by omega
                     have e1 : tE T n a = a := if_pos hle
                     have e2 : tK T n a = 0 := if_pos hle
                     rw [e1, e2]
                     exact ⟨rfl, 0, fun h => absurd h (by decide), rfl⟩)
                  | (have e1 : tE T n a = a + 1 := by
                       unfold tE
                       rw [if_neg (by omega), if_neg hL, if_neg hD]
                     have e2 : tK T n a = 3 := by
                       unfold tK
                       rw [if_neg (by omega), if_neg hL, if_neg hD, if_pos (by omega)]
                     rw [e1, e2]
                     exact ⟨rfl, 0, fun h => absurd h (by decide), rfl⟩)
                  | (have e1 : tE T n a = a + 1 := by
                       unfold tE
                       rw [if_neg (by omega), if_neg hL, if_neg hD]
                     have e2 : tK T n a = 4 := by
                       unfold tK
                       rw [if_neg (by omega), if_neg hL, if_neg hD, if_neg (fun h => c_185 ⟨hlt, by omega, by omega⟩)]
                     rw [e1, e2]
                     exact ⟨rfl, 0, fun h => absurd h (by decide), rfl⟩)
              · skip
                refine r_iconst C dX6_next_188 ?_
                refine r_goto (tgt := 193) C dX6_next_189 (by decide) ?_
                refine pR_token C q437 dX6_next_193 ?_
                refine r_aload_0 C dX6_next_196 ?_
                refine r_dup C dX6_next_197 ?_
                refine gR_at C q435 dX6_next_198 ?_
                refine r_iconst C dX6_next_201 ?_
                refine r_iadd C dX6_next_202 ?_
                refine pR_at C q435 dX6_next_203 ?_
                refine r_return C E dX6_next_206 ?_
                first
                  | (have hle : n ≤ a := by omega
                     have e1 : tE T n a = a := if_pos hle
                     have e2 : tK T n a = 0 := if_pos hle
                     rw [e1, e2]
                     exact ⟨rfl, 0, fun h => absurd h (by decide), rfl⟩)
                  | (have e1 : tE T n a = a + 1 := by
                       unfold tE
                       rw [if_neg (by omega), if_neg hL, if_neg hD]
                     have e2 : tK T n a = 3 := by
                       unfold tK
                       rw [if_neg (by omega), if_neg hL, if_neg hD, if_pos (by omega)]
                     rw [e1, e2]
                     exact ⟨rfl, 0, fun h => absurd h (by decide), rfl⟩)
                  | (have e1 : tE T n a = a + 1 := by
                       unfold tE
                       rw [if_neg (by omega), if_neg hL, if_neg hD]
                     have e2 : tK T n a = 4 := by
                       unfold tK
                       rw [if_neg (by omega), if_neg hL, if_neg hD, if_neg (fun h => c_185 ⟨hlt, by omega, by omega⟩)]
                     rw [e1, e2]
                     exact ⟨rfl, 0, fun h => absurd h (by decide), rfl⟩)
            · skip
              have hD : dgB (T a) = true := dgB_iff.mpr c_115.2
              refine r_aload_0 C dX6_next_118 ?_
              refine r_iconst C dX6_next_119 ?_
              refine pR_token C q437 dX6_next_120 ?_
              skip
              have kw : ∀ (mm : Nat), ∀ (b v : Int), (a ≤ b) → (b ≤ n) → (0 ≤ v) → (v ≤ 99999) → (rn dgB T n b = rn dgB T n a) → (vlN T n b v = vlN T n a 0) → (n - b).toNat = mm → AW g K (wRd g r tp τ n (b) (a) (2) (v) dw bd wd fr to ld gr bu c rw lm we ss pd ln md sz el ++ ws) 0 0 123 [some (.ref r)] [] := by
                intro mm
                induction mm using Nat.strongRecOn with
                | _ mm ih =>
                intro b v hb0 hb1 hv0 hv1 hb hv hm
                refine r_aload_0 C dX6_next_123 ?_
                refine r_bipush C dX6_next_124 ?_
                refine r_bipush C dX6_next_126 ?_
                refine r_cV2i C (c_X6_isAt hG ht hn ⟨by omega, hb1⟩ hT (by unfold inR; omega) (by unfold inR; omega)) (q0 := 0) rfl rfl q423 pkX6_isAt dX6_next_128 (fun z w h => ?_)
                obtain ⟨rfl, rfl⟩ := h
                refine r_ifeqB (tgt := 206) C dX6_next_131 (by decide) (fun c_131 => ?_) (fun c_131 => ?_)
                · skip
                  refine r_return C E dX6_next_206 ?_
                  have hx : ¬ (b < n ∧ dgB (T b) = true) := fun h => c_131 ⟨h.1, dgB_iff.mp h.2⟩
                  have e1 : tE T n a = b := by
                    unfold tE
                    rw [if_neg (by omega), if_neg hL, if_pos hD, ← hb, rn_n hx]
                  have e2 : tK T n a = 2 := by
                    unfold tK
                    rw [if_neg (by omega), if_neg hL, if_pos hD]
                  have e3 : tV T n a = v := by
                    show vlN T n a 0 = v
                    rw [← hv]
                    exact vl_n hx
                  rw [e1, e2, e3]
                  exact ⟨rfl, v, fun _ => rfl, rfl⟩
                · skip
                  have hta := hT b (by omega) (by omega)
                  refine r_aload_0 C dX6_next_134 ?_
                  refine r_ldc C 99999 q428 dX6_next_135 ?_
                  refine r_bipush C dX6_next_137 ?_
                  refine r_aload_0 C dX6_next_139 ?_
                  refine gR_value C q438 dX6_next_140 ?_
                  refine r_imul C dX6_next_143 ?_
                  refine r_aload_0 C dX6_next_144 ?_
                  refine gR_text C q432 dX6_next_145 ?_
                  refine r_aload_0 C dX6_next_148 ?_
                  refine gR_at C q435 dX6_next_149 ?_
                  refine ldR_text C ht dX6_next_152 ?_
                  refine r_iadd C dX6_next_153 ?_
                  refine r_bipush C dX6_next_154 ?_
                  refine r_isub C dX6_next_156 ?_
                  refine r_mmin C q429 dX6_next_157 ?_
                  refine pR_value C q438 dX6_next_160 ?_
                  refine r_aload_0 C dX6_next_163 ?_
                  refine r_dup C dX6_next_164 ?_
                  refine gR_at C q435 dX6_next_165 ?_
                  refine r_iconst C dX6_next_168 ?_
                  refine r_iadd C dX6_next_169 ?_
                  refine pR_at C q435 dX6_next_170 ?_
                  refine r_goto (tgt := 123) C dX6_next_173 (by decide) ?_
                  refine ih _ (show (n - (b + 1)).toNat < mm by have := c_131.1; omega) (b + 1) _ (by omega) (by have := c_131.1; omega) (by split <;> omega) (by split <;> omega) ?_ ?_ rfl
                  · rw [← hb]
                    exact (rn_y c_131.1 (dgB_iff.mpr c_131.2)).symm
                  · rw [← hv]
                    exact (vl_y c_131.1 (dgB_iff.mpr c_131.2)).symm
              exact kw _ a 0 (Int.le_refl _) ha1 (by omega) (by omega) rfl rfl rfl
          · skip
            have hL : lcB (T a) = true := lcB_iff.mpr c_75.2
            refine r_aload_0 C dX6_next_78 ?_
            refine r_iconst C dX6_next_79 ?_
            refine pR_token C q437 dX6_next_80 ?_
            skip
            have kw : ∀ (mm : Nat), ∀ (b : Int), (a ≤ b) → (b ≤ n) → (rn lcB T n b = rn lcB T n a) → (n - b).toNat = mm → AW g K (wRd g r tp τ n (b) (a) (1) (0) dw bd wd fr to ld gr bu c rw lm we ss pd ln md sz el ++ ws) 0 0 83 [some (.ref r)] [] := by
              intro mm
              induction mm using Nat.strongRecOn with
              | _ mm ih =>
              intro b hb0 hb1 hb hm
              refine r_aload_0 C dX6_next_83 ?_
              refine r_bipush C dX6_next_84 ?_
              refine r_bipush C dX6_next_86 ?_
              refine r_cV2i C (c_X6_isAt hG ht hn ⟨by omega, hb1⟩ hT (by unfold inR; omega) (by unfold inR; omega)) (q0 := 0) rfl rfl q423 pkX6_isAt dX6_next_88 (fun z w h => ?_)
              obtain ⟨rfl, rfl⟩ := h
              refine r_ifeqB (tgt := 206) C dX6_next_91 (by decide) (fun c_91 => ?_) (fun c_91 => ?_)
              · skip
                refine r_return C E dX6_next_206 ?_
                have hx : rn lcB T n b = b := rn_n (fun h => c_91 ⟨h.1, lcB_iff.mp h.2⟩)
                have e1 : tE T n a = b := by
                  unfold tE
                  rw [if_neg (by omega), if_pos hL, ← hb, hx]
                have e2 : tK T n a = 1 := by
                  unfold tK
                  rw [if_neg (by omega), if_pos hL]
                rw [e1, e2]
                exact ⟨rfl, 0, fun h => absurd h (by decide), rfl⟩
              · skip
                refine r_aload_0 C dX6_next_94 ?_
                refine r_dup C dX6_next_95 ?_
                refine gR_at C q435 dX6_next_96 ?_
                refine r_iconst C dX6_next_99 ?_
                refine r_iadd C dX6_next_100 ?_
                refine pR_at C q435 dX6_next_101 ?_
                refine r_goto (tgt := 83) C dX6_next_104 (by decide) ?_
                refine ih _ (show (n - (b + 1)).toNat < mm by have := c_91.1; omega) (b + 1) (by omega) (by have := c_91.1; omega) ?_ rfl
                rw [← hb]
                exact (rn_y c_91.1 (lcB_iff.mpr c_91.2)).symm
            exact kw _ a (Int.le_refl _) ha1 rfl rfl
        · skip
          refine r_aload_0 C dX6_next_59 ?_
          refine r_iconst C dX6_next_60 ?_
          refine pR_token C q437 dX6_next_61 ?_
          refine r_goto (tgt := 206) C dX6_next_64 (by decide) ?_
          refine r_return C E dX6_next_206 ?_
          first
            | (have hle : n ≤ a := by omega
               have e1 : tE T n a = a := if_pos hle
               have e2 : tK T n a = 0 := if_pos hle
               rw [e1, e2]
               exact ⟨rfl, 0, fun h => absurd h (by decide), rfl⟩)
            | (have e1 : tE T n a = a + 1 := by
                 unfold tE
                 rw [if_neg (by omega), if_neg hL, if_neg hD]
               have e2 : tK T n a = 3 := by
                 unfold tK
                 rw [if_neg (by omega), if_neg hL, if_neg hD, if_pos (by omega)]
               rw [e1, e2]
               exact ⟨rfl, 0, fun h => absurd h (by decide), rfl⟩)
            | (have e1 : tE T n a = a + 1 := by
                 unfold tE
                 rw [if_neg (by omega), if_neg hL, if_neg hD]
               have e2 : tK T n a = 4 := by
                 unfold tK
                 rw [if_neg (by omega), if_neg hL, if_neg hD, if_neg (fun h => c_185 ⟨hlt, by omega, by omega⟩)]
               rw [e1, e2]
               exact ⟨rfl, 0, fun h => absurd h (by decide), rfl⟩)
      · skip
        refine r_aload_0 C dX6_next_22 ?_
        refine r_dup C dX6_next_23 ?_
        refine gR_at C q435 dX6_next_24 ?_
        refine r_iconst C dX6_next_27 ?_
        refine r_iadd C dX6_next_28 ?_
        refine pR_at C q435 dX6_next_29 ?_
        refine r_goto (tgt := 0) C dX6_next_32 (by decide) ?_
        have hbl : a < n ∧ blB (T a) = true := by
          first
            | exact ⟨c_8.1, blB_iff.mpr (Or.inl (by omega))⟩
            | exact ⟨c_19.1, blB_iff.mpr (Or.inr (by omega))⟩
        refine ih _ (show (n - (a + 1)).toNat < mm by omega) (a + 1) (by omega) (by omega) ?_ rfl
        rw [← hb]
        exact (rn_y hbl.1 hbl.2).symm
  exact key _ ap ha.1 ha.2 rfl rfl
end R1

