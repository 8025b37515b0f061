section M13
variable {g : GX} {ρ : Nat → Nat} {ex : va_W}
variable {m_thrown : Int} {m_world : Int → Int} {m_fresh : Int → Int} {m_waysBack : Int → Int} {m_acts : Int} {m_images : Int → Int} {m_hasImage : Int → Int} {m_endOf : Int → Int} {m_strapMany : Int} {m_tape : Int → Int} {m_taped : Int} {m_five : Int → Int} {m_size : Int} {m_at : Int} {m_from : Int} {m_token : Int} {m_value : Int} {m_faultKind : Int} {m_faultPlace : Int} {m_budgetsTold : Int} {m_loadsTold : Int} {m_deadSet : Int} {m_unknownOf : Int → Int} {m_nodeOf : Int → Int} {m_unknowns : Int} {m_cells : Int → Int} {m_whole : Int} {m_ordered : Int → Int} {m_drawnBy : Int → Int} {m_left : Int → Int} {m_aside : Int → Int} {m_bestDead : Int} {m_bestAbove : Int} {m_bestBelow : Int} {m_widened : Int → Int} {m_widenedMany : Int} {m_fewOf : Int → Int} {m_drawing : Int}
theorem c_X5_nextWider (hG : Gok g) (hd : Gd m_world) : XMet g yX5_nextWider cX5_nextWider 3 (some .int) 6 0 0 [.ref (ρ 0)] (wM g ρ m_thrown m_world m_fresh m_waysBack m_acts m_images m_hasImage m_endOf m_strapMany m_tape m_taped m_five m_size m_at m_from m_token m_value m_faultKind m_faultPlace m_budgetsTold m_loadsTold m_deadSet m_unknownOf m_nodeOf m_unknowns m_cells m_whole m_ordered m_drawnBy m_left m_aside m_bestDead m_bestAbove m_bestBelow m_widened m_widenedMany m_fewOf m_drawing ++ ex) (pI (fun z w => z = (wNw m_world).1 ∧ ∃ e un no ce sm ds um wh b1 b2 b3, w = (wM g ρ m_thrown m_world m_fresh m_waysBack m_acts m_images m_hasImage (e) (sm) m_tape m_taped m_five m_size m_at m_from m_token m_value m_faultKind m_faultPlace m_budgetsTold m_loadsTold (ds) (un) (no) (um) (ce) (wh) m_ordered m_drawnBy m_left m_aside (b1) (b2) (b3) m_widened m_widenedMany m_fewOf m_drawing ++ ex))) := by
  refine XMet.of (L := [some (.ref (ρ 0)), none, none]) hG (by decide +kernel) (Nat.le_of_ble_eq_true rfl) rfl (fun K C E => ?_)
  have hs := hd.s
  have key : ∀ (mm : Nat), ∀ (k : Int) (s : Bst) (e un no ce : Int → Int) (ds um wh : Int), (0 ≤ k) → (k ≤ wS m_world) → (BsOk s) → (-1 ≤ s.1 ∧ s.1 < 12) → (s = bst (fun k => !decide (m_world (28 + k) = 4)) (fun k => aset m_world (28 + k) (m_world (28 + k) + 1)) (-1, wDl m_world, wMx m_world, wWh m_world) k) → (wS m_world - k).toNat = mm → AW g K (wM g ρ m_thrown m_world m_fresh m_waysBack m_acts m_images m_hasImage (e) (wS m_world) m_tape m_taped m_five m_size m_at m_from m_token m_value m_faultKind m_faultPlace m_budgetsTold m_loadsTold (ds) (un) (no) (um) (ce) (wh) m_ordered m_drawnBy m_left m_aside (s.2.1) (s.2.2.1) (s.2.2.2) m_widened m_widenedMany m_fewOf m_drawing ++ ex) 0 0 8 [some (.ref (ρ 0)), some (.int (jI s.1)), some (.int (jI k))] [] := by
    intro mm
    induction mm using Nat.strongRecOn with
    | _ mm ih =>
    intro k s e un no ce ds um wh hk0 hk hs0 hs1 es hm
    refine r_iload_2 C dX5_nextWider_8 ?_
    refine r_aload_0 C dX5_nextWider_9 ?_
    refine gM_strapMany C q1393 dX5_nextWider_10 ?_
    refine r_if_icmpge (tgt := 77) C dX5_nextWider_13 (by decide) (fun c_13 => ?_) (fun c_13 => ?_)
    · skip
      refine r_iload_1 C dX5_nextWider_77 ?_
      refine r_ireturn C E dX5_nextWider_78 ?_
      have e : k = wS m_world := by omega
      subst e
      exact ⟨_, rfl, by rw [es]; rfl, _, _, _, _, _, _, _, _, _, _, _, rfl⟩
    · skip
      have hwk := hd.wd k hk0 (by omega)
      unfold wWd at hwk
      refine r_aload_0 C dX5_nextWider_16 ?_
      refine gM_world C q1386 dX5_nextWider_17 ?_
      refine r_bipush C dX5_nextWider_20 ?_
      refine r_iload_2 C dX5_nextWider_22 ?_
      refine r_iadd C dX5_nextWider_23 ?_
      refine ldM_world C dX5_nextWider_24 ?_
      refine r_iconst C dX5_nextWider_25 ?_
      refine r_if_icmpne (tgt := 32) C dX5_nextWider_26 (by decide) (fun c_26 => ?_) (fun c_26 => ?_)
      · skip
        have hdv := hd.wide hk0 c_13 c_26
        have hsc := sc_in (w := aset m_world (28 + k) (m_world (28 + k) + 1)) (a := s.2.1) (b := s.2.2.1) (c := s.2.2.2)
        refine r_aload_0 C dX5_nextWider_32 ?_
        refine gM_world C q1386 dX5_nextWider_33 ?_
        refine r_bipush C dX5_nextWider_36 ?_
        refine r_iload_2 C dX5_nextWider_38 ?_
        refine r_iadd C dX5_nextWider_39 ?_
        refine r_dup2 C dX5_nextWider_40 ?_
        refine ldM_world C dX5_nextWider_41 ?_
        refine r_iconst C dX5_nextWider_42 ?_
        refine r_iadd C dX5_nextWider_43 ?_
        refine stM_world C dX5_nextWider_44 ?_
        refine r_aload_0 C dX5_nextWider_45 ?_
        refine r_cV0i C (c_X5_scores hG hdv hs0) (q0 := 0) rfl rfl q1907 pkX5_scores dX5_nextWider_46 (fun z w h => ?_)
        obtain ⟨rfl, e, un, no, ce, he, hS, rfl⟩ := h
        refine r_ifge (tgt := 58) C dX5_nextWider_49 (by decide) (fun c_49 => ?_) (fun c_49 => ?_)
        · skip
          refine r_aload_0 C dX5_nextWider_58 ?_
          refine gM_world C q1386 dX5_nextWider_59 ?_
          refine r_bipush C dX5_nextWider_62 ?_
          refine r_iload_2 C dX5_nextWider_64 ?_
          refine r_iadd C dX5_nextWider_65 ?_
          refine r_dup2 C dX5_nextWider_66 ?_
          refine ldM_world C dX5_nextWider_67 ?_
          refine r_iconst C dX5_nextWider_68 ?_
          refine r_isub C dX5_nextWider_69 ?_
          refine stM_world C dX5_nextWider_70 ?_
          first
            | rw [aset_ud, wS_aset (by omega)]
            | skip
          refine r_iinc_2 C dX5_nextWider_71 ?_
          refine r_goto (tgt := 8) C dX5_nextWider_74 (by decide) ?_
          first
            | (refine ih _ (show (wS m_world - (k + 1)).toNat < mm by omega) (k + 1) s _ _ _ _ _ _ _ (by omega) (by omega) hs0 hs1 ?_ rfl
               first
                 | rw [bst_s hk0, ← es, bsf_no2 (G := fun k => aset m_world (28 + k) (m_world (28 + k) + 1)) c_49]
                 | rw [bst_s hk0, ← es, bsf_no1 (by simp [c_26]; done)])
            | (refine ih _ (show (wS m_world - (k + 1)).toNat < mm by omega) (k + 1) (k, wDl (aset m_world (28 + k) (m_world (28 + k) + 1)), wMx (aset m_world (28 + k) (m_world (28 + k) + 1)), wWh (aset m_world (28 + k) (m_world (28 + k) + 1))) _ _ _ _ _ _ _ (by omega) (by omega) (bs_of hdv k) (by (try simp only); omega) ?_ rfl
               rw [bst_s hk0, ← es, bsf_yes (P := fun k => !decide (m_world (28 + k) = 4)) (G := fun k => aset m_world (28 + k) (m_world (28 + k) + 1)) (by simp [c_26]; done) c_49])
        · skip
          refine r_iload_2 C dX5_nextWider_52 ?_
          refine r_istore_1 C dX5_nextWider_53 ?_
          refine r_aload_0 C dX5_nextWider_54 ?_
          refine r_cV0v C (c_X5_keeps hG hdv rfl hS rfl) (q0 := 0) rfl rfl q1914 pkX5_keeps dX5_nextWider_55 (fun w h => ?_)
          subst h
          refine r_aload_0 C dX5_nextWider_58 ?_
          refine gM_world C q1386 dX5_nextWider_59 ?_
          refine r_bipush C dX5_nextWider_62 ?_
          refine r_iload_2 C dX5_nextWider_64 ?_
          refine r_iadd C dX5_nextWider_65 ?_
          refine r_dup2 C dX5_nextWider_66 ?_
          refine ldM_world C dX5_nextWider_67 ?_
          refine r_iconst C dX5_nextWider_68 ?_
          refine r_isub C dX5_nextWider_69 ?_
          refine stM_world C dX5_nextWider_70 ?_
          first
            | rw [aset_ud, wS_aset (by omega)]
            | skip
          refine r_iinc_2 C dX5_nextWider_71 ?_
          refine r_goto (tgt := 8) C dX5_nextWider_74 (by decide) ?_
          first
            | (refine ih _ (show (wS m_world - (k + 1)).toNat < mm by omega) (k + 1) s _ _ _ _ _ _ _ (by omega) (by omega) hs0 hs1 ?_ rfl
               first
                 | rw [bst_s hk0, ← es, bsf_no2 (G := fun k => aset m_world (28 + k) (m_world (28 + k) + 1)) c_49]
                 | rw [bst_s hk0, ← es, bsf_no1 (by simp [c_26]; done)])
            | (refine ih _ (show (wS m_world - (k + 1)).toNat < mm by omega) (k + 1) (k, wDl (aset m_world (28 + k) (m_world (28 + k) + 1)), wMx (aset m_world (28 + k) (m_world (28 + k) + 1)), wWh (aset m_world (28 + k) (m_world (28 + k) + 1))) _ _ _ _ _ _ _ (by omega) (by omega) (bs_of hdv k) (by (try simp only); omega) ?_ rfl
               rw [bst_s hk0, ← es, bsf_yes (P := fun k => !decide (m_world (28 + k) = 4)) (G := fun k => aset m_world (28 + k) (m_world (28 + k) + 1)) (by simp [c_26]; done) c_49])
      · skip
        refine r_goto (tgt := 71) C dX5_nextWider_29 (by decide) ?_
        first
          | rw [aset_ud, wS_aset (by omega)]
          | skip
        refine r_iinc_2 C dX5_nextWider_71 ?_
        refine r_goto (tgt := 8) C dX5_nextWider_74 (by decide) ?_
        first
          | (refine ih _ (show (wS m_world - (k + 1)).toNat < mm by omega) (k + 1) s _ _ _ _ _ _ _ (by omega) (by omega) hs0 hs1 ?_ rfl
             first
               | rw [bst_s hk0, ← es, bsf_no2 (G := fun k => aset m_world (28 + k) (m_world (28 + k) + 1)) c_49]
               | rw [bst_s hk0, ← es, bsf_no1 (by simp [c_26]; done)])
          | (refine ih _ (show (wS m_world - (k + 1)).toNat < mm by omega) (k + 1) (k, wDl (aset m_world (28 + k) (m_world (28 + k) + 1)), wMx (aset m_world (28 + k) (m_world (28 + k) + 1)), wWh (aset m_world (28 + k) (m_world (28 + k) + 1))) _ _ _ _ _ _ _ (by omega) (by omega) (bs_of hdv k) (by (try simp only); omega) ?_ rfl
             rw [bst_s hk0, ← es, bsf_yes (P := fun k => !decide (m_world (28 + k) = 4)) (G := fun k => aset m_world (28 + k) (m_world (28 + k) + 1)) (by simp [c_26]; done) c_49])
  refine r_aload_0 C dX5_nextWider_0 ?_
  refine r_cV0v C (c_X5_beginsWith hG hd) (q0 := 0) rfl rfl q1953 pkX5_beginsWith dX5_nextWider_1 (fun w h => ?_)
  obtain ⟨e, un, no, ce, he, hS, rfl⟩ := h
  refine r_iconst C dX5_nextWider_4 ?_
  refine r_istore_1 C dX5_nextWider_5 ?_
  refine r_iconst C dX5_nextWider_6 ?_
  refine r_istore_2 C dX5_nextWider_7 ?_
  exact key _ 0 (-1, wDl m_world, wMx m_world, wWh m_world) _ _ _ _ _ _ _ (by omega) (by omega) (bs_of hd _) (by simp) rfl rfl
theorem c_X5_widensAll (hG : Gok g) (hd : Gd m_world) : XMet g yX5_widensAll cX5_widensAll 2 none 7 0 0 [.ref (ρ 0)] (wM g ρ m_thrown m_world m_fresh m_waysBack m_acts m_images m_hasImage m_endOf m_strapMany m_tape m_taped m_five m_size m_at m_from m_token m_value m_faultKind m_faultPlace m_budgetsTold m_loadsTold m_deadSet m_unknownOf m_nodeOf m_unknowns m_cells m_whole m_ordered m_drawnBy m_left m_aside m_bestDead m_bestAbove m_bestBelow m_widened m_widenedMany m_fewOf m_drawing ++ ex) (pV (fun w => ∃ e un no ce sm ds um wh b1 b2 b3 c wi, WdC m_world c ∧ (∀ t, 0 ≤ t → t < c → wi t = wdK (wdA m_world t.toNat)) ∧ w = (wM g ρ m_thrown (wdA m_world c.toNat) m_fresh m_waysBack m_acts m_images m_hasImage (e) (sm) m_tape m_taped m_five m_size m_at m_from m_token m_value m_faultKind m_faultPlace m_budgetsTold m_loadsTold (ds) (un) (no) (um) (ce) (wh) m_ordered m_drawnBy m_left m_aside (b1) (b2) (b3) (wi) (c) m_fewOf m_drawing ++ ex))) := by
  refine XMet.of (L := [some (.ref (ρ 0)), none]) hG (by decide +kernel) (Nat.le_of_ble_eq_true rfl) rfl (fun K C E => ?_)
  have key : ∀ (mm : Nat), ∀ (c b1 b2 b3 : Int) (wi : Int → Int) (l1 : Option Value) (e un no ce : Int → Int) (sm ds um wh : Int), (0 ≤ c) → (c ≤ 20) → (∀ t, 0 ≤ t → t < c → wdK (wdA m_world t.toNat) ≠ -1) → (∀ t, 0 ≤ t → t < c → wi t = wdK (wdA m_world t.toNat)) → (20 - c).toNat = mm → AW g K (wM g ρ m_thrown (wdA m_world c.toNat) m_fresh m_waysBack m_acts m_images m_hasImage (e) (sm) m_tape m_taped m_five m_size m_at m_from m_token m_value m_faultKind m_faultPlace m_budgetsTold m_loadsTold (ds) (un) (no) (um) (ce) (wh) m_ordered m_drawnBy m_left m_aside (b1) (b2) (b3) (wi) (c) m_fewOf m_drawing ++ ex) 0 0 5 [some (.ref (ρ 0)), l1] [] := by
    intro mm
    induction mm using Nat.strongRecOn with
    | _ mm ih =>
    intro c b1 b2 b3 wi l1 e un no ce sm ds um wh hc0 hc hj hwi hm
    obtain ⟨hdc, hag, hsc⟩ := wdA_gd hd c.toNat
    have hin := wNw_in hdc
    have hs := hdc.s
    refine r_aload_0 C dX5_widensAll_5 ?_
    refine gM_widenedMany C q1420 dX5_widensAll_6 ?_
    refine r_bipush C dX5_widensAll_9 ?_
    refine r_if_icmpge (tgt := 68) C dX5_widensAll_11 (by decide) (fun c_11 => ?_) (fun c_11 => ?_)
    · skip
      refine r_return C E dX5_widensAll_68 ?_
      refine ⟨rfl, _, _, _, _, _, _, _, _, _, _, _, c, wi, ⟨⟨hc0, hc⟩, hj, ?_⟩, hwi, rfl⟩
      first
        | (left; omega)
        | (right; unfold wdK; rw [if_pos c_18])
    · skip
      refine r_aload_0 C dX5_widensAll_14 ?_
      refine r_cV0i C (c_X5_doesHold hG hdc) (q0 := 0) rfl rfl q1770 pkX5_doesHold dX5_widensAll_15 (fun z w h => ?_)
      obtain ⟨rfl, e, un, no, ce, -, -, rfl⟩ := h
      refine r_ifneB (tgt := 68) C dX5_widensAll_18 (by decide) (fun c_18 => ?_) (fun c_18 => ?_)
      · skip
        refine r_return C E dX5_widensAll_68 ?_
        refine ⟨rfl, _, _, _, _, _, _, _, _, _, _, _, c, wi, ⟨⟨hc0, hc⟩, hj, ?_⟩, hwi, rfl⟩
        first
          | (left; omega)
          | (right; unfold wdK; rw [if_pos c_18])
      · skip
        refine r_aload_0 C dX5_widensAll_21 ?_
        refine r_cV0i C (c_X5_nextWider hG hdc) (q0 := 0) rfl rfl q1949 pkX5_nextWider dX5_widensAll_22 (fun z w h => ?_)
        obtain ⟨rfl, e, un, no, ce, sm, ds, um, wh, b1, b2, b3, rfl⟩ := h
        have hK : wdK (wdA m_world c.toNat) = (wNw (wdA m_world c.toNat)).1 := by unfold wdK; rw [if_neg c_18]
        refine r_istore_1 C dX5_widensAll_25 ?_
        refine r_iload_1 C dX5_widensAll_26 ?_
        refine r_iconst C dX5_widensAll_27 ?_
        refine r_if_icmpne (tgt := 32) C dX5_widensAll_28 (by decide) (fun c_28 => ?_) (fun c_28 => ?_) (by unfold inR; omega)
        · skip
          refine r_aload_0 C dX5_widensAll_32 ?_
          refine gM_world C q1386 dX5_widensAll_33 ?_
          refine r_bipush C dX5_widensAll_36 ?_
          refine r_iload_1 C dX5_widensAll_38 ?_
          refine r_iadd C dX5_widensAll_39 ?_
          refine r_dup2 C dX5_widensAll_40 ?_
          refine ldM_world C dX5_widensAll_41 ?_
          refine r_iconst C dX5_widensAll_42 ?_
          refine r_iadd C dX5_widensAll_43 ?_
          refine stM_world C dX5_widensAll_44 ?_
          refine r_aload_0 C dX5_widensAll_45 ?_
          refine gM_widened C q1419 dX5_widensAll_46 ?_
          refine r_aload_0 C dX5_widensAll_49 ?_
          refine gM_widenedMany C q1420 dX5_widensAll_50 ?_
          refine r_iload_1 C dX5_widensAll_53 ?_
          refine stM_widened C dX5_widensAll_54 ?_
          refine r_aload_0 C dX5_widensAll_55 ?_
          refine r_dup C dX5_widensAll_56 ?_
          refine gM_widenedMany C q1420 dX5_widensAll_57 ?_
          refine r_iconst C dX5_widensAll_60 ?_
          refine r_iadd C dX5_widensAll_61 ?_
          refine pM_widenedMany C q1420 dX5_widensAll_62 ?_
          refine r_goto (tgt := 5) C dX5_widensAll_65 (by decide) ?_
          have ea : wdA m_world (c + 1).toNat = aset (wdA m_world c.toNat) (28 + (wNw (wdA m_world c.toNat)).1) (wdA m_world c.toNat (28 + (wNw (wdA m_world c.toNat)).1) + 1) := by
            rw [show (c + 1).toNat = c.toNat + 1 by omega, wdA, hK, if_neg c_28]
          rw [← ea]
          refine ih _ (show (20 - (c + 1)).toNat < mm by omega) (c + 1) _ _ _ _ _ _ _ _ _ _ _ _ _ (by omega) (by omega) (fun t a b => ?_) (fun t a b => ?_) rfl
          · by_cases et : t = c
            · rw [et, hK]; exact c_28
            · exact hj t a (by omega)
          · by_cases et : t = c
            · rw [et, aset_at, hK]
            · rw [aset_ne et]; exact hwi t a (by omega)
        · skip
          refine r_return C E dX5_widensAll_31 ?_
          exact ⟨rfl, _, _, _, _, _, _, _, _, _, _, _, c, wi, ⟨⟨hc0, hc⟩, hj, Or.inr (by rw [hK]; exact c_28)⟩, hwi, rfl⟩
  refine r_aload_0 C dX5_widensAll_0 ?_
  refine r_iconst C dX5_widensAll_1 ?_
  refine pM_widenedMany C q1420 dX5_widensAll_2 ?_
  exact key _ 0 _ _ _ _ _ _ _ _ _ _ _ _ _ (by omega) (by omega) (fun t _ _ => by omega) (fun t _ _ => by omega) rfl
theorem c_X5_laysWidened (hG : Gok g) (hW : WF m_world) : XMet g yX5_laysWidened cX5_laysWidened 1 (some .boolean) 8 0 0 [.ref (ρ 0)] (wM g ρ m_thrown m_world m_fresh m_waysBack m_acts m_images m_hasImage m_endOf m_strapMany m_tape m_taped m_five m_size m_at m_from m_token m_value m_faultKind m_faultPlace m_budgetsTold m_loadsTold m_deadSet m_unknownOf m_nodeOf m_unknowns m_cells m_whole m_ordered m_drawnBy m_left m_aside m_bestDead m_bestAbove m_bestBelow m_widened m_widenedMany m_fewOf m_drawing ++ ex) (pI (fun z w => z = (if 0 < m_world 4 then 1 else 0) ∧ ∃ e un no ce sm ds um wh b1 b2 b3 c wi ad, (0 < m_world 4 → WdC m_world c ∧ ∀ t, 0 ≤ t → t < c → wi t = wdK (wdA m_world t.toNat)) ∧ w = (wM g ρ m_thrown m_world m_fresh m_waysBack m_acts m_images m_hasImage (e) (sm) m_tape m_taped m_five m_size m_at m_from m_token m_value m_faultKind m_faultPlace m_budgetsTold m_loadsTold (ds) (un) (no) (um) (ce) (wh) m_ordered m_drawnBy m_left (ad) (b1) (b2) (b3) (wi) (c) m_fewOf m_drawing ++ ex))) := by
  refine XMet.of (L := [some (.ref (ρ 0))]) hG (by decide +kernel) (Nat.le_of_ble_eq_true rfl) rfl (fun K C E => ?_)
  have h4 := hW.r (k := 4) (by omega) (by omega)
  refine r_aload_0 C dX5_laysWidened_0 ?_
  refine r_cV0i C (c_X5_isGrid hG (by unfold inR; omega)) (q0 := 0) rfl rfl q1638 pkX5_isGrid dX5_laysWidened_1 (fun z w h => ?_)
  obtain ⟨rfl, rfl⟩ := h
  refine r_ifneB (tgt := 9) C dX5_laysWidened_4 (by decide) (fun c_4 => ?_) (fun c_4 => ?_)
  · skip
    have hd := hW.gd4 c_4
    refine r_aload_0 C dX5_laysWidened_9 ?_
    refine r_cV0v C (c_X5_puts hG) (q0 := 0) rfl rfl q1871 pkX5_puts dX5_laysWidened_10 (fun w h => ?_)
    subst h
    refine r_aload_0 C dX5_laysWidened_13 ?_
    refine r_cV0v C (c_X5_widensAll hG hd) (q0 := 0) rfl rfl q1945 pkX5_widensAll dX5_laysWidened_14 (fun w h => ?_)
    obtain ⟨e, un, no, ce, sm, ds, um, wh, b1, b2, b3, c, wi, hc, hwi, rfl⟩ := h
    refine r_aload_0 C dX5_laysWidened_17 ?_
    refine r_cV0v C (c_X5_takesOut hG) (q0 := 0) rfl rfl q1879 pkX5_takesOut dX5_laysWidened_18 (fun w h => ?_)
    subst h
    rw [ov_back (wdA_gd hd _).2.1]
    refine r_iconst C dX5_laysWidened_21 ?_
    refine r_zreturn C E dX5_laysWidened_22 (by first | exact Or.inl rfl | exact Or.inr rfl | omega) ?_
    exact ⟨_, rfl, (if_pos c_4).symm, _, _, _, _, _, _, _, _, _, _, _, c, wi, _, fun _ => ⟨hc, hwi⟩, rfl⟩
  · skip
    refine r_iconst C dX5_laysWidened_7 ?_
    refine r_zreturn C E dX5_laysWidened_8 (by first | exact Or.inl rfl | exact Or.inr rfl | omega) ?_
    exact ⟨_, rfl, (if_neg c_4).symm, _, _, _, _, _, _, _, _, _, _, _, _, _, _, fun h => absurd h c_4, rfl⟩
theorem c_X5_widens (hG : Gok g) (hW : WF m_world) : XMet g yX5_widens cX5_widens 1 (some .int) 9 0 0 [.ref (ρ 0)] (wM g ρ m_thrown m_world m_fresh m_waysBack m_acts m_images m_hasImage m_endOf m_strapMany m_tape m_taped m_five m_size m_at m_from m_token m_value m_faultKind m_faultPlace m_budgetsTold m_loadsTold m_deadSet m_unknownOf m_nodeOf m_unknowns m_cells m_whole m_ordered m_drawnBy m_left m_aside m_bestDead m_bestAbove m_bestBelow m_widened m_widenedMany m_fewOf m_drawing ++ ex) (pI (fun z w => z = spWidens m_world ∧ PubM g ρ ex m_world m_waysBack m_acts m_images m_hasImage m_tape m_taped m_faultKind m_faultPlace w)) := by
  refine XMet.of (L := [some (.ref (ρ 0))]) hG (by decide +kernel) (Nat.le_of_ble_eq_true rfl) rfl (fun K C E => ?_)
  refine r_aload_0 C dX5_widens_0 ?_
  refine r_cV0i C (c_X5_laysWidened hG hW) (q0 := 0) rfl rfl q1941 pkX5_laysWidened dX5_widens_1 (fun z w h => ?_)
  obtain ⟨rfl, e, un, no, ce, sm, ds, um, wh, b1, b2, b3, c, wi, ad, hc, rfl⟩ := h
  refine r_ifeqB (tgt := 14) C dX5_widens_4 (by decide) (fun c_4 => ?_) (fun c_4 => ?_)
  · skip
    refine r_bipush C dX5_widens_14 ?_
    refine r_ireturn C E dX5_widens_16 ?_
    refine ⟨_, rfl, ?_, PubM.mk⟩
    unfold spWidens
    first
      | rw [if_pos c_4, (hc c_4).1.eq]
      | rw [if_neg c_4]
  · skip
    refine r_aload_0 C dX5_widens_7 ?_
    refine gM_widenedMany C q1420 dX5_widens_8 ?_
    refine r_goto (tgt := 16) C dX5_widens_11 (by decide) ?_
    refine r_ireturn C E dX5_widens_16 ?_
    refine ⟨_, rfl, ?_, PubM.mk⟩
    unfold spWidens
    first
      | rw [if_pos c_4, (hc c_4).1.eq]
      | rw [if_neg c_4]
theorem c_X5_widen (hG : Gok g) {i : Int} (hi : inR i) (hW : WF m_world) : XMet g yX5_widen cX5_widen 2 (some .int) 9 0 0 [.ref (ρ 0), .int (jI i)] (wM g ρ m_thrown m_world m_fresh m_waysBack m_acts m_images m_hasImage m_endOf m_strapMany m_tape m_taped m_five m_size m_at m_from m_token m_value m_faultKind m_faultPlace m_budgetsTold m_loadsTold m_deadSet m_unknownOf m_nodeOf m_unknowns m_cells m_whole m_ordered m_drawnBy m_left m_aside m_bestDead m_bestAbove m_bestBelow m_widened m_widenedMany m_fewOf m_drawing ++ ex) (pI (fun z w => z = spWiden m_world i ∧ PubM g ρ ex m_world m_waysBack m_acts m_images m_hasImage m_tape m_taped m_faultKind m_faultPlace w)) := by
  refine XMet.of (L := [some (.ref (ρ 0)), some (.int (jI i))]) hG (by decide +kernel) (Nat.le_of_ble_eq_true rfl) rfl (fun K C E => ?_)
  refine r_iload_1 C dX5_widen_0 ?_
  refine r_iflt (tgt := 11) C dX5_widen_1 (by decide) (fun c_1 => ?_) (fun c_1 => ?_)
  · skip
    refine r_bipush C dX5_widen_11 ?_
    refine r_ireturn C E dX5_widen_13 ?_
    refine ⟨_, rfl, ?_, PubM.mk⟩
    unfold spWiden
    first
      | rw [if_neg (by intro q; exact c_8 q.1)]
      | rw [if_neg (by omega)]
  · skip
    refine r_aload_0 C dX5_widen_4 ?_
    refine r_cV0i C (c_X5_laysWidened hG hW) (q0 := 0) rfl rfl q1941 pkX5_laysWidened dX5_widen_5 (fun z w h => ?_)
    obtain ⟨rfl, e, un, no, ce, sm, ds, um, wh, b1, b2, b3, c, wi, ad, hc, rfl⟩ := h
    refine r_ifneB (tgt := 14) C dX5_widen_8 (by decide) (fun c_8 => ?_) (fun c_8 => ?_)
    · skip
      have hcc := hc c_8
      have hc1 := hcc.1.1
      refine r_iload_1 C dX5_widen_14 ?_
      refine r_aload_0 C dX5_widen_15 ?_
      refine gM_widenedMany C q1420 dX5_widen_16 ?_
      refine r_if_icmpge (tgt := 31) C dX5_widen_19 (by decide) (fun c_19 => ?_) (fun c_19 => ?_)
      · skip
        refine r_iconst C dX5_widen_31 ?_
        refine r_ireturn C E dX5_widen_32 ?_
        refine ⟨_, rfl, ?_, PubM.mk⟩
        unfold spWiden
        rw [if_pos (And.intro c_8 c_1), hcc.1.eq]
        first
          | rw [if_pos c_19, hcc.2 i c_1 c_19]
          | rw [if_neg (by omega)]
      · skip
        refine r_aload_0 C dX5_widen_22 ?_
        refine gM_widened C q1419 dX5_widen_23 ?_
        refine r_iload_1 C dX5_widen_26 ?_
        refine ldM_widened C dX5_widen_27 ?_
        refine r_goto (tgt := 32) C dX5_widen_28 (by decide) ?_
        refine r_ireturn C E dX5_widen_32 ?_
        refine ⟨_, rfl, ?_, PubM.mk⟩
        unfold spWiden
        rw [if_pos (And.intro c_8 c_1), hcc.1.eq]
        first
          | rw [if_pos c_19, hcc.2 i c_1 c_19]
          | rw [if_neg (by omega)]
    · skip
      refine r_bipush C dX5_widen_11 ?_
      refine r_ireturn C E dX5_widen_13 ?_
      refine ⟨_, rfl, ?_, PubM.mk⟩
      unfold spWiden
      first
        | rw [if_neg (by intro q; exact c_8 q.1)]
        | rw [if_neg (by omega)]
theorem c_X5_wide (hG : Gok g) (hW : WF m_world) : XMet g yX5_wide cX5_wide 2 (some .int) 8 0 0 [.ref (ρ 0)] (wM g ρ m_thrown m_world m_fresh m_waysBack m_acts m_images m_hasImage m_endOf m_strapMany m_tape m_taped m_five m_size m_at m_from m_token m_value m_faultKind m_faultPlace m_budgetsTold m_loadsTold m_deadSet m_unknownOf m_nodeOf m_unknowns m_cells m_whole m_ordered m_drawnBy m_left m_aside m_bestDead m_bestAbove m_bestBelow m_widened m_widenedMany m_fewOf m_drawing ++ ex) (pI (fun z w => z = spWide m_world ∧ PubM g ρ ex m_world m_waysBack m_acts m_images m_hasImage m_tape m_taped m_faultKind m_faultPlace w)) := by
  refine XMet.of (L := [some (.ref (ρ 0)), none]) hG (by decide +kernel) (Nat.le_of_ble_eq_true rfl) rfl (fun K C E => ?_)
  have h4 := hW.r (k := 4) (by omega) (by omega)
  refine r_aload_0 C dX5_wide_0 ?_
  refine r_cV0i C (c_X5_isGrid hG (by unfold inR; omega)) (q0 := 0) rfl rfl q1638 pkX5_isGrid dX5_wide_1 (fun z w h => ?_)
  obtain ⟨rfl, rfl⟩ := h
  refine r_ifneB (tgt := 10) C dX5_wide_4 (by decide) (fun c_4 => ?_) (fun c_4 => ?_)
  · skip
    have hd := hW.gd4 c_4
    refine r_aload_0 C dX5_wide_10 ?_
    refine r_cV0v C (c_X5_puts hG) (q0 := 0) rfl rfl q1871 pkX5_puts dX5_wide_11 (fun w h => ?_)
    subst h
    refine r_aload_0 C dX5_wide_14 ?_
    refine r_cV0v C (c_X5_widensAll hG hd) (q0 := 0) rfl rfl q1945 pkX5_widensAll dX5_wide_15 (fun w h => ?_)
    obtain ⟨e, un, no, ce, sm, ds, um, wh, b1, b2, b3, c, wi, hc, hwi, rfl⟩ := h
    obtain ⟨hdc, hag, -⟩ := wdA_gd hd c.toNat
    refine r_aload_0 C dX5_wide_18 ?_
    refine r_cV0i C (c_X5_doesHold hG hdc) (q0 := 0) rfl rfl q1770 pkX5_doesHold dX5_wide_19 (fun z w h => ?_)
    obtain ⟨rfl, e, un, no, ce, -, -, rfl⟩ := h
    refine r_ifeqB (tgt := 29) C dX5_wide_22 (by decide) (fun c_22 => ?_) (fun c_22 => ?_)
    · skip
      refine r_iconst C dX5_wide_29 ?_
      refine r_istore_1 C dX5_wide_30 ?_
      refine r_aload_0 C dX5_wide_31 ?_
      refine r_cV0v C (c_X5_takesOut hG) (q0 := 0) rfl rfl q1879 pkX5_takesOut dX5_wide_32 (fun w h => ?_)
      subst h
      rw [ov_back hag]
      refine r_iload_1 C dX5_wide_35 ?_
      refine r_ireturn C E dX5_wide_36 ?_
      refine ⟨_, rfl, ?_, PubM.mk⟩
      unfold spWide
      rw [if_pos c_4, hc.eq]
      first
        | rw [if_pos c_22]
        | rw [if_neg c_22]
    · skip
      refine r_iconst C dX5_wide_25 ?_
      refine r_goto (tgt := 30) C dX5_wide_26 (by decide) ?_
      refine r_istore_1 C dX5_wide_30 ?_
      refine r_aload_0 C dX5_wide_31 ?_
      refine r_cV0v C (c_X5_takesOut hG) (q0 := 0) rfl rfl q1879 pkX5_takesOut dX5_wide_32 (fun w h => ?_)
      subst h
      rw [ov_back hag]
      refine r_iload_1 C dX5_wide_35 ?_
      refine r_ireturn C E dX5_wide_36 ?_
      refine ⟨_, rfl, ?_, PubM.mk⟩
      unfold spWide
      rw [if_pos c_4, hc.eq]
      first
        | rw [if_pos c_22]
        | rw [if_neg c_22]
  · skip
    refine r_bipush C dX5_wide_7 ?_
    refine r_ireturn C E dX5_wide_9 ?_
    exact ⟨_, rfl, by simp [spWide, *], PubM.mk⟩
theorem c_X5_does (hG : Gok g) : ∀ (nn : Nat) {m_world m_fewOf e un no ce : Int → Int} {sm ds um wh step f : Int}, Gd m_world → nn ≤ 3 → 0 ≤ step → step + nn ≤ 3 → 0 ≤ f → f ≤ wS m_world → XMet g yX5_does cX5_does 6 (some .boolean) (6 + nn) 0 0 [.ref (ρ 0), .int (jI step), .int (jI (step + nn)), .int (jI f)] (wM g ρ m_thrown m_world m_fresh m_waysBack m_acts m_images m_hasImage (e) (sm) m_tape m_taped m_five m_size m_at m_from m_token m_value m_faultKind m_faultPlace m_budgetsTold m_loadsTold (ds) (un) (no) (um) (ce) (wh) m_ordered m_drawnBy m_left m_aside m_bestDead m_bestAbove m_bestBelow m_widened m_widenedMany m_fewOf m_drawing ++ ex) (pI (fun z wv => z = (if (cd nn m_world f).isSome = true then 1 else 0) ∧ ∃ e un no ce sm ds um wh fo, (∀ j, j < step → fo j = m_fewOf j) ∧ (∀ l, cd nn m_world f = some l → ∀ t : Nat, t < nn → fo (step + t) = l.getD t 0) ∧ wv = (wM g ρ m_thrown m_world m_fresh m_waysBack m_acts m_images m_hasImage (e) (sm) m_tape m_taped m_five m_size m_at m_from m_token m_value m_faultKind m_faultPlace m_budgetsTold m_loadsTold (ds) (un) (no) (um) (ce) (wh) m_ordered m_drawnBy m_left m_aside m_bestDead m_bestAbove m_bestBelow m_widened m_widenedMany (fo) m_drawing ++ ex))) := by
  intro nn
  induction nn with
  | zero =>
    intro m_world m_fewOf e un no ce sm ds um wh step f hd hn3 h0 h3 hf0 hf
    refine XMet.of (L := [some (.ref (ρ 0)), some (.int (jI step)), some (.int (jI (step + (0 : Nat)))), some (.int (jI f)), none, none]) hG (by decide +kernel) (Nat.le_of_ble_eq_true rfl) rfl (fun K C E => ?_)
    refine r_iload_1 C dX5_does_0 ?_
    refine r_iload_2 C dX5_does_1 ?_
    refine r_if_icmpne (tgt := 10) C dX5_does_2 (by decide) (fun c_2 => ?_) (fun c_2 => ?_)
    · skip
      omega
    · skip
      refine r_aload_0 C dX5_does_5 ?_
      refine r_cV0i C (c_X5_doesHold hG hd) (q0 := 0) rfl rfl q1770 pkX5_doesHold dX5_does_6 (fun z w h => ?_)
      obtain ⟨rfl, e, un, no, ce, -, -, rfl⟩ := h
      refine r_zreturnB C E dX5_does_9 ?_
      refine ⟨_, rfl, ?_, e, un, no, ce, _, _, _, _, m_fewOf, fun _ _ => rfl, fun l _ t ht => by omega, rfl⟩
      rw [cd]
      split <;> simp
  | succ nn ihn =>
    intro m_world m_fewOf e un no ce sm ds um wh step f hd hn3 h0 h3 hf0 hf
    refine XMet.of (L := [some (.ref (ρ 0)), some (.int (jI step)), some (.int (jI (step + (nn + 1 : Nat)))), some (.int (jI f)), none, none]) hG (by decide +kernel) (Nat.le_of_ble_eq_true rfl) rfl (fun K C E => ?_)
    have hs := hd.s
    have key : ∀ (mm : Nat), ∀ (k : Int) (fo : Int → Int) (l5 : Option Value) (e un no ce : Int → Int) (sm ds um wh : Int), (0 ≤ k) → (k ≤ wS m_world) → (∀ j, j < step → fo j = m_fewOf j) → (cdL (cdF nn m_world) (wS m_world - k).toNat k = cd (nn + 1) m_world f) → (wS m_world - k).toNat = mm → AW g K (wM g ρ m_thrown m_world m_fresh m_waysBack m_acts m_images m_hasImage (e) (sm) m_tape m_taped m_five m_size m_at m_from m_token m_value m_faultKind m_faultPlace m_budgetsTold m_loadsTold (ds) (un) (no) (um) (ce) (wh) m_ordered m_drawnBy m_left m_aside m_bestDead m_bestAbove m_bestBelow m_widened m_widenedMany (fo) m_drawing ++ ex) 0 0 13 [some (.ref (ρ 0)), some (.int (jI step)), some (.int (jI (step + (nn + 1 : Nat)))), some (.int (jI f)), some (.int (jI k)), l5] [] := by
      intro mm
      induction mm using Nat.strongRecOn with
      | _ mm ih =>
      intro k fo l5 e un no ce sm ds um wh hk0 hk hfo ec hm
      refine r_iload_4 C dX5_does_13 ?_
      refine r_aload_0 C dX5_does_15 ?_
      refine r_cV0i C (c_X5_straps hG hd.l hd.g) (q0 := 0) rfl rfl q1634 pkX5_straps dX5_does_16 (fun z w h => ?_)
      obtain ⟨rfl, e, he, rfl⟩ := h
      refine r_topi (wS m_world) rfl ?_
      refine r_if_icmpge (tgt := 100) C dX5_does_19 (by decide) (fun c_19 => ?_) (fun c_19 => ?_)
      · skip
        refine r_iconst C dX5_does_100 ?_
        refine r_zreturn C E dX5_does_101 (by first | exact Or.inl rfl | exact Or.inr rfl | omega) ?_
        rw [cdL_end c_19] at ec
        exact ⟨_, rfl, by rw [← ec]; rfl, _, _, _, _, _, _, _, _, fo, hfo, fun l hl => by rw [← ec] at hl; simp at hl, rfl⟩
      · skip
        have hwk := hd.wd k hk0 (by omega)
        unfold wWd at hwk
        rw [cdL_step c_19] at ec
        refine r_aload_0 C dX5_does_22 ?_
        refine gM_world C q1386 dX5_does_23 ?_
        refine r_bipush C dX5_does_26 ?_
        refine r_iload_4 C dX5_does_28 ?_
        refine r_iadd C dX5_does_30 ?_
        refine ldM_world C dX5_does_31 ?_
        refine r_iconst C dX5_does_32 ?_
        refine r_if_icmpne (tgt := 39) C dX5_does_33 (by decide) (fun c_33 => ?_) (fun c_33 => ?_)
        · skip
          have hdv := hd.wide hk0 c_19 c_33
          have hsv : wS (aset m_world (28 + k) (m_world (28 + k) + 1)) = wS m_world := wS_aset (by omega)
          refine r_aload_0 C dX5_does_39 ?_
          refine gM_world C q1386 dX5_does_40 ?_
          refine r_bipush C dX5_does_43 ?_
          refine r_iload_4 C dX5_does_45 ?_
          refine r_iadd C dX5_does_47 ?_
          refine r_dup2 C dX5_does_48 ?_
          refine ldM_world C dX5_does_49 ?_
          refine r_iconst C dX5_does_50 ?_
          refine r_iadd C dX5_does_51 ?_
          refine stM_world C dX5_does_52 ?_
          refine r_aload_0 C dX5_does_53 ?_
          refine gM_fewOf C q1421 dX5_does_54 ?_
          refine r_iload_1 C dX5_does_57 ?_
          refine r_iload_4 C dX5_does_58 ?_
          refine stM_fewOf C dX5_does_60 ?_
          refine r_aload_0 C dX5_does_61 ?_
          refine r_iload_1 C dX5_does_62 ?_
          refine r_iconst C dX5_does_63 ?_
          refine r_iadd C dX5_does_64 ?_
          refine r_iload_2 C dX5_does_65 ?_
          refine r_iload_4 C dX5_does_66 ?_
          rw [show step + ((nn + 1 : Nat) : Int) = (step + 1) + (nn : Int) by omega]
          refine r_cV3i C (ihn (e := e) (step := step + 1) (f := k) hdv (by omega) (by omega) (by omega) hk0 (by omega)) (q0 := 0) rfl rfl q1973 pkX5_does dX5_does_68 (fun z w h => ?_)
          obtain ⟨rfl, e, un, no, ce, sm, ds, um, wh, fo2, hf1, hf2, rfl⟩ := h
          rw [show (step + 1) + (nn : Int) = step + ((nn + 1 : Nat) : Int) by omega]
          refine r_istore_5 C dX5_does_71 ?_
          refine r_aload_0 C dX5_does_73 ?_
          refine gM_world C q1386 dX5_does_74 ?_
          refine r_bipush C dX5_does_77 ?_
          refine r_iload_4 C dX5_does_79 ?_
          refine r_iadd C dX5_does_81 ?_
          refine r_dup2 C dX5_does_82 ?_
          refine ldM_world C dX5_does_83 ?_
          refine r_iconst C dX5_does_84 ?_
          refine r_isub C dX5_does_85 ?_
          refine stM_world C dX5_does_86 ?_
          rw [aset_ud]
          refine r_iload_5 C dX5_does_87 ?_
          refine r_ifeqB (tgt := 94) C dX5_does_89 (by decide) (fun c_89 => ?_) (fun c_89 => ?_)
          · skip
            refine r_iinc_4 C dX5_does_94 ?_
            refine r_goto (tgt := 13) C dX5_does_97 (by decide) ?_
            first
              | (have hF : cdF nn m_world k = none := by unfold cdF; rw [if_pos c_33]
                 rw [hF] at ec
                 exact ih _ (show (wS m_world - (k + 1)).toNat < mm by omega) (k + 1) fo _ _ _ _ _ _ _ _ _ (by omega) (by omega) hfo ec rfl)
              | (have hF : cdF nn m_world k = none := by
                   unfold cdF
                   rw [if_neg c_33]
                   cases hc : cd nn (aset m_world (28 + k) (m_world (28 + k) + 1)) k
                   · rfl
                   · rw [hc] at c_89; simp at c_89
                 rw [hF] at ec
                 refine ih _ (show (wS m_world - (k + 1)).toNat < mm by omega) (k + 1) fo2 _ _ _ _ _ _ _ _ _ (by omega) (by omega) (fun j hj => ?_) ec rfl
                 rw [hf1 j (by omega), aset_ne (by omega)]
                 exact hfo j hj)
          · skip
            have hF : cdF nn m_world k = (cd nn (aset m_world (28 + k) (m_world (28 + k) + 1)) k).map (k :: ·) := by unfold cdF; rw [if_neg c_33]
            obtain ⟨l, hl⟩ := Option.isSome_iff_exists.mp c_89
            rw [hF, hl] at ec
            simp only [Option.map_some] at ec
            refine r_iconst C dX5_does_92 ?_
            refine r_zreturn C E dX5_does_93 (by first | exact Or.inl rfl | exact Or.inr rfl | omega) ?_
            refine ⟨_, rfl, by rw [← ec]; rfl, _, _, _, _, _, _, _, _, fo2, fun j hj => ?_, fun l' hl' t ht => ?_, rfl⟩
            · rw [hf1 j (by omega), aset_ne (by omega)]
              exact hfo j hj
            · rw [← ec] at hl'
              cases hl'
              cases t with
              | zero =>
                rw [hf1 _ (by omega)]
                simp [aset]
              | succ t =>
                rw [show step + ((t + 1 : Nat) : Int) = step + 1 + (t : Int) by omega, hf2 l hl t (by omega)]
                simp
        · skip
          refine r_goto (tgt := 94) C dX5_does_36 (by decide) ?_
          refine r_iinc_4 C dX5_does_94 ?_
          refine r_goto (tgt := 13) C dX5_does_97 (by decide) ?_
          first
            | (have hF : cdF nn m_world k = none := by unfold cdF; rw [if_pos c_33]
               rw [hF] at ec
               exact ih _ (show (wS m_world - (k + 1)).toNat < mm by omega) (k + 1) fo _ _ _ _ _ _ _ _ _ (by omega) (by omega) hfo ec rfl)
            | (have hF : cdF nn m_world k = none := by
                 unfold cdF
                 rw [if_neg c_33]
                 cases hc : cd nn (aset m_world (28 + k) (m_world (28 + k) + 1)) k
                 · rfl
                 · rw [hc] at c_89; simp at c_89
               rw [hF] at ec
               refine ih _ (show (wS m_world - (k + 1)).toNat < mm by omega) (k + 1) fo2 _ _ _ _ _ _ _ _ _ (by omega) (by omega) (fun j hj => ?_) ec rfl
               rw [hf1 j (by omega), aset_ne (by omega)]
               exact hfo j hj)
    refine r_iload_1 C dX5_does_0 ?_
    refine r_iload_2 C dX5_does_1 ?_
    refine r_if_icmpne (tgt := 10) C dX5_does_2 (by decide) (fun c_2 => ?_) (fun c_2 => ?_)
    · skip
      refine r_iload_3 C dX5_does_10 ?_
      refine r_istore_4 C dX5_does_11 ?_
      exact key _ f m_fewOf _ _ _ _ _ _ _ _ _ hf0 hf (fun _ _ => rfl) rfl rfl
    · skip
      omega
theorem c_X5_fewestOf (hG : Gok g) (hd : Gd m_world) : XMet g yX5_fewestOf cX5_fewestOf 2 (some .int) 10 0 0 [.ref (ρ 0)] (wM g ρ m_thrown m_world m_fresh m_waysBack m_acts m_images m_hasImage m_endOf m_strapMany m_tape m_taped m_five m_size m_at m_from m_token m_value m_faultKind m_faultPlace m_budgetsTold m_loadsTold m_deadSet m_unknownOf m_nodeOf m_unknowns m_cells m_whole m_ordered m_drawnBy m_left m_aside m_bestDead m_bestAbove m_bestBelow m_widened m_widenedMany m_fewOf m_drawing ++ ex) (pI (fun z w => z = wFw m_world ∧ ∃ e un no ce sm ds um wh fo, (0 ≤ wFw m_world → ∀ t : Nat, (t : Int) < wFw m_world → fo t = ((cd (wFw m_world).toNat m_world 0).getD []).getD t 0) ∧ w = (wM g ρ m_thrown m_world m_fresh m_waysBack m_acts m_images m_hasImage (e) (sm) m_tape m_taped m_five m_size m_at m_from m_token m_value m_faultKind m_faultPlace m_budgetsTold m_loadsTold (ds) (un) (no) (um) (ce) (wh) m_ordered m_drawnBy m_left m_aside m_bestDead m_bestAbove m_bestBelow m_widened m_widenedMany (fo) m_drawing ++ ex))) := by
  refine XMet.of (L := [some (.ref (ρ 0)), none]) hG (by decide +kernel) (Nat.le_of_ble_eq_true rfl) rfl (fun K C E => ?_)
  have hs := hd.s
  have key : ∀ (mm : Nat), ∀ (n : Int) (fo : Int → Int) (e un no ce : Int → Int) (sm ds um wh : Int), (0 ≤ n) → (n ≤ 4) → (∀ j, 0 ≤ j → j < n → (cd j.toNat m_world 0).isSome = false) → (4 - n).toNat = mm → AW g K (wM g ρ m_thrown m_world m_fresh m_waysBack m_acts m_images m_hasImage (e) (sm) m_tape m_taped m_five m_size m_at m_from m_token m_value m_faultKind m_faultPlace m_budgetsTold m_loadsTold (ds) (un) (no) (um) (ce) (wh) m_ordered m_drawnBy m_left m_aside m_bestDead m_bestAbove m_bestBelow m_widened m_widenedMany (fo) m_drawing ++ ex) 0 0 2 [some (.ref (ρ 0)), some (.int (jI n))] [] := by
    intro mm
    induction mm using Nat.strongRecOn with
    | _ mm ih =>
    intro n fo e un no ce sm ds um wh hn0 hn hj hm
    refine r_iload_1 C dX5_fewestOf_2 ?_
    refine r_iconst C dX5_fewestOf_3 ?_
    refine r_if_icmpgt (tgt := 25) C dX5_fewestOf_4 (by decide) (fun c_4 => ?_) (fun c_4 => ?_)
    · skip
      refine r_iconst C dX5_fewestOf_25 ?_
      refine r_ireturn C E dX5_fewestOf_26 ?_
      have e : wFw m_world = -1 := ffi_none 4 (fun j a b => hj j (by omega) (by omega))
      exact ⟨_, rfl, e.symm, _, _, _, _, _, _, _, _, fo, fun h => by omega, rfl⟩
    · skip
      refine r_aload_0 C dX5_fewestOf_7 ?_
      refine r_iconst C dX5_fewestOf_8 ?_
      refine r_iload_1 C dX5_fewestOf_9 ?_
      refine r_iconst C dX5_fewestOf_10 ?_
      rw [show n = 0 + ((n.toNat : Nat) : Int) by omega]
      refine r_cV3i C (c_X5_does hG n.toNat (step := 0) (f := 0) hd (by omega) (by omega) (by omega) (by omega) (by omega)) (q0 := 0) rfl rfl q1973 pkX5_does dX5_fewestOf_11 (fun z w h => ?_)
      obtain ⟨rfl, e, un, no, ce, sm, ds, um, wh, fo2, hf1, hf2, rfl⟩ := h
      rw [show 0 + ((n.toNat : Nat) : Int) = n by omega]
      refine r_ifeqB (tgt := 19) C dX5_fewestOf_14 (by decide) (fun c_14 => ?_) (fun c_14 => ?_)
      · skip
        refine r_iinc_1 C dX5_fewestOf_19 ?_
        refine r_goto (tgt := 2) C dX5_fewestOf_22 (by decide) ?_
        refine ih _ (show (4 - (n + 1)).toNat < mm by omega) (n + 1) fo2 _ _ _ _ _ _ _ _ (by omega) (by omega) (fun j a b => ?_) rfl
        by_cases ej : j = n
        · rw [ej]; simpa using c_14
        · exact hj j a (by omega)
      · skip
        refine r_iload_1 C dX5_fewestOf_17 ?_
        refine r_ireturn C E dX5_fewestOf_18 ?_
        have e : wFw m_world = n := ffi_some 4 n hn0 (by omega) c_14 hj
        refine ⟨_, rfl, e.symm, _, _, _, _, _, _, _, _, fo2, fun _ t ht => ?_, rfl⟩
        obtain ⟨l, hl⟩ := Option.isSome_iff_exists.mp c_14
        rw [e] at ht ⊢
        rw [hl]
        have := hf2 l hl t (by omega)
        simpa using this
  refine r_iconst C dX5_fewestOf_0 ?_
  refine r_istore_1 C dX5_fewestOf_1 ?_
  exact key _ 0 m_fewOf _ _ _ _ _ _ _ _ (by omega) (by omega) (fun j _ _ => by omega) rfl
theorem c_X5_fewest (hG : Gok g) (hW : WF m_world) : XMet g yX5_fewest cX5_fewest 1 (some .int) 11 0 0 [.ref (ρ 0)] (wM g ρ m_thrown m_world m_fresh m_waysBack m_acts m_images m_hasImage m_endOf m_strapMany m_tape m_taped m_five m_size m_at m_from m_token m_value m_faultKind m_faultPlace m_budgetsTold m_loadsTold m_deadSet m_unknownOf m_nodeOf m_unknowns m_cells m_whole m_ordered m_drawnBy m_left m_aside m_bestDead m_bestAbove m_bestBelow m_widened m_widenedMany m_fewOf m_drawing ++ ex) (pI (fun z w => z = spFewest m_world ∧ PubM g ρ ex m_world m_waysBack m_acts m_images m_hasImage m_tape m_taped m_faultKind m_faultPlace w)) := by
  refine XMet.of (L := [some (.ref (ρ 0))]) hG (by decide +kernel) (Nat.le_of_ble_eq_true rfl) rfl (fun K C E => ?_)
  have h4 := hW.r (k := 4) (by omega) (by omega)
  refine r_aload_0 C dX5_fewest_0 ?_
  refine r_cV0i C (c_X5_isGrid hG (by unfold inR; omega)) (q0 := 0) rfl rfl q1638 pkX5_isGrid dX5_fewest_1 (fun z w h => ?_)
  obtain ⟨rfl, rfl⟩ := h
  refine r_ifeqB (tgt := 14) C dX5_fewest_4 (by decide) (fun c_4 => ?_) (fun c_4 => ?_)
  · skip
    refine r_bipush C dX5_fewest_14 ?_
    refine r_ireturn C E dX5_fewest_16 ?_
    refine ⟨_, rfl, ?_, PubM.mk⟩
    unfold spFewest
    first
      | rw [if_pos c_4]
      | rw [if_neg c_4]
  · skip
    have hd := hW.gd4 c_4
    refine r_aload_0 C dX5_fewest_7 ?_
    refine r_cV0i C (c_X5_fewestOf hG hd) (q0 := 0) rfl rfl q1969 pkX5_fewestOf dX5_fewest_8 (fun z w h => ?_)
    obtain ⟨rfl, e, un, no, ce, sm, ds, um, wh, fo, -, rfl⟩ := h
    refine r_goto (tgt := 16) C dX5_fewest_11 (by decide) ?_
    refine r_ireturn C E dX5_fewest_16 ?_
    refine ⟨_, rfl, ?_, PubM.mk⟩
    unfold spFewest
    first
      | rw [if_pos c_4]
      | rw [if_neg c_4]
theorem c_X5_few (hG : Gok g) {i : Int} (hi : inR i) (hW : WF m_world) : XMet g yX5_few cX5_few 3 (some .int) 11 0 0 [.ref (ρ 0), .int (jI i)] (wM g ρ m_thrown m_world m_fresh m_waysBack m_acts m_images m_hasImage m_endOf m_strapMany m_tape m_taped m_five m_size m_at m_from m_token m_value m_faultKind m_faultPlace m_budgetsTold m_loadsTold m_deadSet m_unknownOf m_nodeOf m_unknowns m_cells m_whole m_ordered m_drawnBy m_left m_aside m_bestDead m_bestAbove m_bestBelow m_widened m_widenedMany m_fewOf m_drawing ++ ex) (pI (fun z w => z = spFew m_world i ∧ PubM g ρ ex m_world m_waysBack m_acts m_images m_hasImage m_tape m_taped m_faultKind m_faultPlace w)) := by
  refine XMet.of (L := [some (.ref (ρ 0)), some (.int (jI i)), none]) hG (by decide +kernel) (Nat.le_of_ble_eq_true rfl) rfl (fun K C E => ?_)
  have h4 := hW.r (k := 4) (by omega) (by omega)
  refine r_aload_0 C dX5_few_0 ?_
  refine r_cV0i C (c_X5_isGrid hG (by unfold inR; omega)) (q0 := 0) rfl rfl q1638 pkX5_isGrid dX5_few_1 (fun z w h => ?_)
  obtain ⟨rfl, rfl⟩ := h
  refine r_ifeqB (tgt := 11) C dX5_few_4 (by decide) (fun c_4 => ?_) (fun c_4 => ?_)
  · skip
    refine r_bipush C dX5_few_11 ?_
    refine r_ireturn C E dX5_few_13 ?_
    refine ⟨_, rfl, ?_, PubM.mk⟩
    unfold spFew
    rw [if_neg (by omega)]
  · skip
    refine r_iload_1 C dX5_few_7 ?_
    refine r_ifge (tgt := 14) C dX5_few_8 (by decide) (fun c_8 => ?_) (fun c_8 => ?_)
    · skip
      have hd := hW.gd4 c_4
      have hwf := ffi_in (p := fun n => (cd n.toNat m_world 0).isSome) 4
      have hwf2 : -1 ≤ wFw m_world ∧ wFw m_world < 4 := hwf
      refine r_aload_0 C dX5_few_14 ?_
      refine r_cV0i C (c_X5_fewestOf hG hd) (q0 := 0) rfl rfl q1969 pkX5_fewestOf dX5_few_15 (fun z w h => ?_)
      obtain ⟨rfl, e, un, no, ce, sm, ds, um, wh, fo, hfo, rfl⟩ := h
      refine r_istore_2 C dX5_few_18 ?_
      refine r_iload_1 C dX5_few_19 ?_
      refine r_iload_2 C dX5_few_20 ?_
      refine r_if_icmpge (tgt := 33) C dX5_few_21 (by decide) (fun c_21 => ?_) (fun c_21 => ?_)
      · skip
        refine r_iconst C dX5_few_33 ?_
        refine r_ireturn C E dX5_few_34 ?_
        refine ⟨_, rfl, ?_, PubM.mk⟩
        unfold spFew
        rw [if_pos (And.intro c_4 c_8)]
        first
          | (have := hfo (by omega) i.toNat (by omega)
             rw [show ((i.toNat : Nat) : Int) = i by omega] at this
             rw [if_pos c_21, this])
          | rw [if_neg (by omega)]
      · skip
        refine r_aload_0 C dX5_few_24 ?_
        refine gM_fewOf C q1421 dX5_few_25 ?_
        refine r_iload_1 C dX5_few_28 ?_
        refine ldM_fewOf C dX5_few_29 ?_
        refine r_goto (tgt := 34) C dX5_few_30 (by decide) ?_
        refine r_ireturn C E dX5_few_34 ?_
        refine ⟨_, rfl, ?_, PubM.mk⟩
        unfold spFew
        rw [if_pos (And.intro c_4 c_8)]
        first
          | (have := hfo (by omega) i.toNat (by omega)
             rw [show ((i.toNat : Nat) : Int) = i by omega] at this
             rw [if_pos c_21, this])
          | rw [if_neg (by omega)]
    · skip
      refine r_bipush C dX5_few_11 ?_
      refine r_ireturn C E dX5_few_13 ?_
      refine ⟨_, rfl, ?_, PubM.mk⟩
      unfold spFew
      rw [if_neg (by omega)]
end M13

