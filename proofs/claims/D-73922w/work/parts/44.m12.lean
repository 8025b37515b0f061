section M12
variable {g : GX} {ρ : Nat → Nat} {ex : va_W}
variable {m_thrown : Int} {m_world : Int → Int} {m_fresh : Int → Int} {m_waysBack : Int → Int} {m_acts : Int} {m_images : Int → Int} {m_hasImage : Int → Int} {m_endOf : Int → Int} {m_strapMany : Int} {m_tape : Int → Int} {m_taped : Int} {m_five : Int → Int} {m_size : Int} {m_at : Int} {m_from : Int} {m_token : Int} {m_value : Int} {m_faultKind : Int} {m_faultPlace : Int} {m_budgetsTold : Int} {m_loadsTold : Int} {m_deadSet : Int} {m_unknownOf : Int → Int} {m_nodeOf : Int → Int} {m_unknowns : Int} {m_cells : Int → Int} {m_whole : Int} {m_ordered : Int → Int} {m_drawnBy : Int → Int} {m_left : Int → Int} {m_aside : Int → Int} {m_bestDead : Int} {m_bestAbove : Int} {m_bestBelow : Int} {m_widened : Int → Int} {m_widenedMany : Int} {m_fewOf : Int → Int} {m_drawing : Int}
theorem c_X5_scores (hG : Gok g) (hd : Gd m_world) (hb : BsOk (0, m_bestDead, m_bestAbove, m_bestBelow)) : XMet g yX5_scores cX5_scores 1 (some .int) 5 0 0 [.ref (ρ 0)] (wM g ρ m_thrown m_world m_fresh m_waysBack m_acts m_images m_hasImage m_endOf m_strapMany m_tape m_taped m_five m_size m_at m_from m_token m_value m_faultKind m_faultPlace m_budgetsTold m_loadsTold m_deadSet m_unknownOf m_nodeOf m_unknowns m_cells m_whole m_ordered m_drawnBy m_left m_aside m_bestDead m_bestAbove m_bestBelow m_widened m_widenedMany m_fewOf m_drawing ++ ex) (pI (fun z w => z = sc m_world m_bestDead m_bestAbove m_bestBelow ∧ ∃ e un no ce, Ends (m_world 0) (m_world 1) e ∧ SolW m_world un no ce ∧ w = (wM g ρ m_thrown m_world m_fresh m_waysBack m_acts m_images m_hasImage (e) (wS m_world) m_tape m_taped m_five m_size m_at m_from m_token m_value m_faultKind m_faultPlace m_budgetsTold m_loadsTold (wDead m_world) (un) (no) (wm m_world) (ce) (wWh m_world) m_ordered m_drawnBy m_left m_aside m_bestDead m_bestAbove m_bestBelow m_widened m_widenedMany m_fewOf m_drawing ++ ex))) := by
  refine XMet.of (L := [some (.ref (ρ 0))]) hG (by decide +kernel) (Nat.le_of_ble_eq_true rfl) rfl (fun K C E => ?_)
  obtain ⟨⟨b1, b2⟩, ⟨b3, b4⟩, b5, b6⟩ := hb
  simp only at b1 b2 b3 b4 b5 b6
  have h1 := hd.dl
  have h2 := hd.mx
  have h3 := hd.who
  refine r_aload_0 C dX5_scores_0 ?_
  refine r_cV0v C (c_X5_lays hG hd) (q0 := 0) rfl rfl q1646 pkX5_lays dX5_scores_1 (fun w h => ?_)
  obtain ⟨e, un, no, ce, he, hS, rfl⟩ := h
  refine r_aload_0 C dX5_scores_4 ?_
  refine r_cV0i C (c_X5_deadLoads hG hd rfl) (q0 := 0) rfl rfl q1774 pkX5_deadLoads dX5_scores_5 (fun z w h => ?_)
  obtain ⟨rfl, rfl⟩ := h
  refine r_aload_0 C dX5_scores_8 ?_
  refine gM_bestDead C q1416 dX5_scores_9 ?_
  refine r_if_icmpeq (tgt := 32) C dX5_scores_12 (by decide) (fun c_12 => ?_) (fun c_12 => ?_)
  · skip
    refine r_aload_0 C dX5_scores_32 ?_
    refine r_cV0l C (c_X5_mostDrop hG hd hS rfl) (q0 := 0) rfl rfl q1755 pkX5_mostDrop dX5_scores_33 (fun z w h => ?_)
    obtain ⟨rfl, rfl⟩ := h
    refine r_aload_0 C dX5_scores_36 ?_
    refine gM_whole C q1411 dX5_scores_37 ?_
    refine r_aload_0 C dX5_scores_40 ?_
    refine gM_bestAbove C q1417 dX5_scores_41 ?_
    refine r_aload_0 C dX5_scores_44 ?_
    refine gM_bestBelow C q1418 dX5_scores_45 ?_
    refine r_cS4i C (c_X5_compares hG (by omega) (by omega) (by omega) (by omega)) q1911 pkX5_compares dX5_scores_48 (fun z w h => ?_)
    obtain ⟨rfl, rfl⟩ := h
    refine r_ireturn C E dX5_scores_51 ?_
    refine ⟨_, rfl, ?_, e, un, no, ce, he, hS, rfl⟩
    unfold sc
    first
      | rw [if_pos c_12]
      | rw [if_neg c_12, if_pos c_23]
      | rw [if_neg c_12, if_neg (by omega)]
  · skip
    refine r_aload_0 C dX5_scores_15 ?_
    refine r_cV0i C (c_X5_deadLoads hG hd rfl) (q0 := 0) rfl rfl q1774 pkX5_deadLoads dX5_scores_16 (fun z w h => ?_)
    obtain ⟨rfl, rfl⟩ := h
    refine r_aload_0 C dX5_scores_19 ?_
    refine gM_bestDead C q1416 dX5_scores_20 ?_
    refine r_if_icmpge (tgt := 30) C dX5_scores_23 (by decide) (fun c_23 => ?_) (fun c_23 => ?_)
    · skip
      refine r_iconst C dX5_scores_30 ?_
      refine r_ireturn C E dX5_scores_31 ?_
      refine ⟨_, rfl, ?_, e, un, no, ce, he, hS, rfl⟩
      unfold sc
      first
        | rw [if_pos c_12]
        | rw [if_neg c_12, if_pos c_23]
        | rw [if_neg c_12, if_neg (by omega)]
    · skip
      refine r_iconst C dX5_scores_26 ?_
      refine r_goto (tgt := 31) C dX5_scores_27 (by decide) ?_
      refine r_ireturn C E dX5_scores_31 ?_
      refine ⟨_, rfl, ?_, e, un, no, ce, he, hS, rfl⟩
      unfold sc
      first
        | rw [if_pos c_12]
        | rw [if_neg c_12, if_pos c_23]
        | rw [if_neg c_12, if_neg (by omega)]
theorem c_X5_keeps (hG : Gok g) (hd : Gd m_world) (hD : m_deadSet = wDead m_world) (hS : SolW m_world m_unknownOf m_nodeOf m_cells) (hm : m_unknowns = wm m_world) : XMet g yX5_keeps cX5_keeps 1 none 3 0 0 [.ref (ρ 0)] (wM g ρ m_thrown m_world m_fresh m_waysBack m_acts m_images m_hasImage m_endOf m_strapMany m_tape m_taped m_five m_size m_at m_from m_token m_value m_faultKind m_faultPlace m_budgetsTold m_loadsTold m_deadSet m_unknownOf m_nodeOf m_unknowns m_cells m_whole m_ordered m_drawnBy m_left m_aside m_bestDead m_bestAbove m_bestBelow m_widened m_widenedMany m_fewOf m_drawing ++ ex) (pV (fun w => w = (wM g ρ m_thrown m_world m_fresh m_waysBack m_acts m_images m_hasImage m_endOf m_strapMany m_tape m_taped m_five m_size m_at m_from m_token m_value m_faultKind m_faultPlace m_budgetsTold m_loadsTold m_deadSet m_unknownOf m_nodeOf m_unknowns m_cells m_whole m_ordered m_drawnBy m_left m_aside (wDl m_world) (wMx m_world) (m_whole) m_widened m_widenedMany m_fewOf m_drawing ++ ex))) := by
  refine XMet.of (L := [some (.ref (ρ 0))]) hG (by decide +kernel) (Nat.le_of_ble_eq_true rfl) rfl (fun K C E => ?_)
  refine r_aload_0 C dX5_keeps_0 ?_
  refine r_aload_0 C dX5_keeps_1 ?_
  refine r_cV0i C (c_X5_deadLoads hG hd hD) (q0 := 0) rfl rfl q1774 pkX5_deadLoads dX5_keeps_2 (fun z w h => ?_)
  obtain ⟨rfl, rfl⟩ := h
  refine pM_bestDead C q1416 dX5_keeps_5 ?_
  refine r_aload_0 C dX5_keeps_8 ?_
  refine r_aload_0 C dX5_keeps_9 ?_
  refine r_cV0l C (c_X5_mostDrop hG hd hS hm) (q0 := 0) rfl rfl q1755 pkX5_mostDrop dX5_keeps_10 (fun z w h => ?_)
  obtain ⟨rfl, rfl⟩ := h
  refine pM_bestAbove C q1417 dX5_keeps_13 ?_
  refine r_aload_0 C dX5_keeps_16 ?_
  refine r_aload_0 C dX5_keeps_17 ?_
  refine gM_whole C q1411 dX5_keeps_18 ?_
  refine pM_bestBelow C q1418 dX5_keeps_21 ?_
  refine r_return C E dX5_keeps_24 ?_
  exact ⟨rfl, rfl⟩
theorem c_X5_beginsWith (hG : Gok g) (hd : Gd m_world) : XMet g yX5_beginsWith cX5_beginsWith 1 none 5 0 0 [.ref (ρ 0)] (wM g ρ m_thrown m_world m_fresh m_waysBack m_acts m_images m_hasImage m_endOf m_strapMany m_tape m_taped m_five m_size m_at m_from m_token m_value m_faultKind m_faultPlace m_budgetsTold m_loadsTold m_deadSet m_unknownOf m_nodeOf m_unknowns m_cells m_whole m_ordered m_drawnBy m_left m_aside m_bestDead m_bestAbove m_bestBelow m_widened m_widenedMany m_fewOf m_drawing ++ ex) (pV (fun w => ∃ e un no ce, Ends (m_world 0) (m_world 1) e ∧ SolW m_world un no ce ∧ w = (wM g ρ m_thrown m_world m_fresh m_waysBack m_acts m_images m_hasImage (e) (wS m_world) m_tape m_taped m_five m_size m_at m_from m_token m_value m_faultKind m_faultPlace m_budgetsTold m_loadsTold (wDead m_world) (un) (no) (wm m_world) (ce) (wWh m_world) m_ordered m_drawnBy m_left m_aside (wDl m_world) (wMx m_world) (wWh m_world) m_widened m_widenedMany m_fewOf m_drawing ++ ex))) := by
  refine XMet.of (L := [some (.ref (ρ 0))]) hG (by decide +kernel) (Nat.le_of_ble_eq_true rfl) rfl (fun K C E => ?_)
  refine r_aload_0 C dX5_beginsWith_0 ?_
  refine r_cV0v C (c_X5_lays hG hd) (q0 := 0) rfl rfl q1646 pkX5_lays dX5_beginsWith_1 (fun w h => ?_)
  obtain ⟨e, un, no, ce, he, hS, rfl⟩ := h
  refine r_aload_0 C dX5_beginsWith_4 ?_
  refine r_cV0v C (c_X5_keeps hG hd rfl hS rfl) (q0 := 0) rfl rfl q1914 pkX5_keeps dX5_beginsWith_5 (fun w h => ?_)
  subst h
  refine r_return C E dX5_beginsWith_8 ?_
  exact ⟨rfl, e, un, no, ce, he, hS, rfl⟩
theorem c_X5_beginsWithout (hG : Gok g)  : XMet g yX5_beginsWithout cX5_beginsWithout 1 none 0 0 0 [.ref (ρ 0)] (wM g ρ m_thrown m_world m_fresh m_waysBack m_acts m_images m_hasImage m_endOf m_strapMany m_tape m_taped m_five m_size m_at m_from m_token m_value m_faultKind m_faultPlace m_budgetsTold m_loadsTold m_deadSet m_unknownOf m_nodeOf m_unknowns m_cells m_whole m_ordered m_drawnBy m_left m_aside m_bestDead m_bestAbove m_bestBelow m_widened m_widenedMany m_fewOf m_drawing ++ ex) (pV (fun w => w = (wM g ρ m_thrown m_world m_fresh m_waysBack m_acts m_images m_hasImage m_endOf m_strapMany m_tape m_taped m_five m_size m_at m_from m_token m_value m_faultKind m_faultPlace m_budgetsTold m_loadsTold m_deadSet m_unknownOf m_nodeOf m_unknowns m_cells m_whole m_ordered m_drawnBy m_left m_aside (10) (0) (1) m_widened m_widenedMany m_fewOf m_drawing ++ ex))) := by
  refine XMet.of (L := [some (.ref (ρ 0))]) hG (by decide +kernel) (Nat.le_of_ble_eq_true rfl) rfl (fun K C E => ?_)
  refine r_aload_0 C dX5_beginsWithout_0 ?_
  refine r_bipush C dX5_beginsWithout_1 ?_
  refine pM_bestDead C q1416 dX5_beginsWithout_3 ?_
  refine r_aload_0 C dX5_beginsWithout_6 ?_
  refine r_lconst0 C dX5_beginsWithout_7 ?_
  refine pM_bestAbove C q1417 dX5_beginsWithout_8 ?_
  refine r_aload_0 C dX5_beginsWithout_11 ?_
  refine r_lconst1 C dX5_beginsWithout_12 ?_
  refine pM_bestBelow C q1418 dX5_beginsWithout_13 ?_
  refine r_return C E dX5_beginsWithout_16 ?_
  exact ⟨rfl, rfl⟩
theorem c_X5_nextPad (hG : Gok g) (hd : Gd m_world) : XMet g yX5_nextPad cX5_nextPad 3 (some .int) 6 0 0 [.ref (ρ 0)] (wM g ρ m_thrown m_world m_fresh m_waysBack m_acts m_images m_hasImage m_endOf m_strapMany m_tape m_taped m_five m_size m_at m_from m_token m_value m_faultKind m_faultPlace m_budgetsTold m_loadsTold m_deadSet m_unknownOf m_nodeOf m_unknowns m_cells m_whole m_ordered m_drawnBy m_left m_aside m_bestDead m_bestAbove m_bestBelow m_widened m_widenedMany m_fewOf m_drawing ++ ex) (pI (fun z w => z = (wNp m_world).1 ∧ ∃ e un no ce sm ds um wh b1 b2 b3, w = (wM g ρ m_thrown m_world m_fresh m_waysBack m_acts m_images m_hasImage (e) (sm) m_tape m_taped m_five m_size m_at m_from m_token m_value m_faultKind m_faultPlace m_budgetsTold m_loadsTold (ds) (un) (no) (um) (ce) (wh) m_ordered m_drawnBy m_left m_aside (b1) (b2) (b3) m_widened m_widenedMany m_fewOf m_drawing ++ ex))) := by
  refine XMet.of (L := [some (.ref (ρ 0)), none, none]) hG (by decide +kernel) (Nat.le_of_ble_eq_true rfl) rfl (fun K C E => ?_)
  have hn := hd.n
  have hp5 := hd.p5
  have key : ∀ (mm : Nat), ∀ (v : Int) (s : Bst) (e un no ce : Int → Int) (sm ds um wh : Int), (0 ≤ v) → (v ≤ wN m_world) → (BsOk s) → (-1 ≤ s.1 ∧ s.1 < 9) → (s = bst (fun v => !bsB (m_world 5) v) (fun v => aset m_world 5 (bsO (m_world 5) (bsP v))) bs0 v) → (wN m_world - v).toNat = mm → AW g K (wM g ρ m_thrown m_world m_fresh m_waysBack m_acts m_images m_hasImage (e) (sm) m_tape m_taped m_five m_size m_at m_from m_token m_value m_faultKind m_faultPlace m_budgetsTold m_loadsTold (ds) (un) (no) (um) (ce) (wh) m_ordered m_drawnBy m_left m_aside (s.2.1) (s.2.2.1) (s.2.2.2) m_widened m_widenedMany m_fewOf m_drawing ++ ex) 0 0 8 [some (.ref (ρ 0)), some (.int (jI s.1)), some (.int (jI v))] [] := by
    intro mm
    induction mm using Nat.strongRecOn with
    | _ mm ih =>
    intro v s e un no ce sm ds um wh hv0 hv hs hs1 es hm
    refine r_iload_2 C dX5_nextPad_8 ?_
    refine r_aload_0 C dX5_nextPad_9 ?_
    refine r_cV0i C (c_X5_nodes hG) (q0 := 0) rfl rfl q1654 pkX5_nodes dX5_nextPad_10 (fun z w h => ?_)
    obtain ⟨rfl, rfl⟩ := h
    refine r_topi (wN m_world) rfl ?_
    refine r_if_icmpge (tgt := 77) C dX5_nextPad_13 (by decide) (fun c_13 => ?_) (fun c_13 => ?_)
    · skip
      refine r_iload_1 C dX5_nextPad_77 ?_
      refine r_ireturn C E dX5_nextPad_78 ?_
      have e : v = wN m_world := by omega
      subst e
      exact ⟨_, rfl, by rw [es]; rfl, _, _, _, _, _, _, _, _, _, _, _, rfl⟩
    · skip
      have hP := bsP_9 hv0 (show v < 9 by omega)
      have hP0 := bsP_0 (k := v)
      refine r_aload_0 C dX5_nextPad_16 ?_
      refine gM_world C q1386 dX5_nextPad_17 ?_
      refine r_iconst C dX5_nextPad_20 ?_
      refine ldM_world C dX5_nextPad_21 ?_
      refine r_iload_2 C dX5_nextPad_22 ?_
      refine r_cS2i C (c_X5_isOf hG (by omega) (by omega)) q1606 pkX5_isOf dX5_nextPad_23 (fun z w h => ?_)
      obtain ⟨rfl, rfl⟩ := h
      refine r_ifeqB (tgt := 32) C dX5_nextPad_26 (by decide) (fun c_26 => ?_) (fun c_26 => ?_)
      · skip
        have hc26 : bsB (m_world 5) v = false := by simpa using c_26
        have hdv := hd.pO hv0 c_13
        have hsc := sc_in (w := aset m_world 5 (bsO (m_world 5) (bsP v))) (a := s.2.1) (b := s.2.2.1) (c := s.2.2.2)
        have hO : 0 ≤ bsO (m_world 5) (bsP v) := bsO_0
        refine r_aload_0 C dX5_nextPad_32 ?_
        refine gM_world C q1386 dX5_nextPad_33 ?_
        refine r_iconst C dX5_nextPad_36 ?_
        refine r_dup2 C dX5_nextPad_37 ?_
        refine ldM_world C dX5_nextPad_38 ?_
        refine r_iconst C dX5_nextPad_39 ?_
        refine r_iload_2 C dX5_nextPad_40 ?_
        refine r_ishl C (_) dX5_nextPad_41 (jI_shl (by omega) (by omega)) ?_
        refine r_ior C (_) dX5_nextPad_42 (jI_or (by omega) (by omega)) ?_
        refine stM_world C dX5_nextPad_43 ?_
        refine r_aload_0 C dX5_nextPad_44 ?_
        refine r_cV0i C (c_X5_scores hG hdv hs) (q0 := 0) rfl rfl q1907 pkX5_scores dX5_nextPad_45 (fun z w h => ?_)
        obtain ⟨rfl, e, un, no, ce, he, hS, rfl⟩ := h
        refine r_ifge (tgt := 57) C dX5_nextPad_48 (by decide) (fun c_48 => ?_) (fun c_48 => ?_)
        · skip
          refine r_aload_0 C dX5_nextPad_57 ?_
          refine gM_world C q1386 dX5_nextPad_58 ?_
          refine r_iconst C dX5_nextPad_61 ?_
          refine r_dup2 C dX5_nextPad_62 ?_
          refine ldM_world C dX5_nextPad_63 ?_
          refine r_iconst C dX5_nextPad_64 ?_
          refine r_iload_2 C dX5_nextPad_65 ?_
          refine r_ishl C (_) dX5_nextPad_66 (jI_shl (by omega) (by omega)) ?_
          refine r_iconst C dX5_nextPad_67 ?_
          refine r_ixor C (_) dX5_nextPad_68 (jI_not (by omega)) ?_
          refine r_iand C (bsD (bsO (m_world 5) (bsP v)) (bsP v)) dX5_nextPad_69 ((by rw [aset_at]; exact jI_andn hO (by omega))) ?_
          refine stM_world C dX5_nextPad_70 ?_
          first
            | rw [bsD_O hp5.1 hp5.2 hv0 (by omega) hc26, aset_back]
            | skip
          refine r_iinc_2 C dX5_nextPad_71 ?_
          refine r_goto (tgt := 8) C dX5_nextPad_74 (by decide) ?_
          first
            | (refine ih _ (show (wN m_world - (v + 1)).toNat < mm by omega) (v + 1) s _ _ _ _ _ _ _ _ (by omega) (by omega) hs hs1 ?_ rfl
               first
                 | rw [bst_s hv0, ← es, bsf_no2 (G := fun v => aset m_world 5 (bsO (m_world 5) (bsP v))) c_48]
                 | rw [bst_s hv0, ← es, bsf_no1 (by simp [c_26]; done)])
            | (refine ih _ (show (wN m_world - (v + 1)).toNat < mm by omega) (v + 1) (v, wDl (aset m_world 5 (bsO (m_world 5) (bsP v))), wMx (aset m_world 5 (bsO (m_world 5) (bsP v))), wWh (aset m_world 5 (bsO (m_world 5) (bsP v)))) _ _ _ _ _ _ _ _ (by omega) (by omega) (bs_of hdv v) (by (try simp only); omega) ?_ rfl
               rw [bst_s hv0, ← es, bsf_yes (P := fun v => !bsB (m_world 5) v) (G := fun v => aset m_world 5 (bsO (m_world 5) (bsP v))) (by simp [hc26]; done) c_48])
        · skip
          refine r_iload_2 C dX5_nextPad_51 ?_
          refine r_istore_1 C dX5_nextPad_52 ?_
          refine r_aload_0 C dX5_nextPad_53 ?_
          refine r_cV0v C (c_X5_keeps hG hdv rfl hS rfl) (q0 := 0) rfl rfl q1914 pkX5_keeps dX5_nextPad_54 (fun w h => ?_)
          subst h
          refine r_aload_0 C dX5_nextPad_57 ?_
          refine gM_world C q1386 dX5_nextPad_58 ?_
          refine r_iconst C dX5_nextPad_61 ?_
          refine r_dup2 C dX5_nextPad_62 ?_
          refine ldM_world C dX5_nextPad_63 ?_
          refine r_iconst C dX5_nextPad_64 ?_
          refine r_iload_2 C dX5_nextPad_65 ?_
          refine r_ishl C (_) dX5_nextPad_66 (jI_shl (by omega) (by omega)) ?_
          refine r_iconst C dX5_nextPad_67 ?_
          refine r_ixor C (_) dX5_nextPad_68 (jI_not (by omega)) ?_
          refine r_iand C (bsD (bsO (m_world 5) (bsP v)) (bsP v)) dX5_nextPad_69 ((by rw [aset_at]; exact jI_andn hO (by omega))) ?_
          refine stM_world C dX5_nextPad_70 ?_
          first
            | rw [bsD_O hp5.1 hp5.2 hv0 (by omega) hc26, aset_back]
            | skip
          refine r_iinc_2 C dX5_nextPad_71 ?_
          refine r_goto (tgt := 8) C dX5_nextPad_74 (by decide) ?_
          first
            | (refine ih _ (show (wN m_world - (v + 1)).toNat < mm by omega) (v + 1) s _ _ _ _ _ _ _ _ (by omega) (by omega) hs hs1 ?_ rfl
               first
                 | rw [bst_s hv0, ← es, bsf_no2 (G := fun v => aset m_world 5 (bsO (m_world 5) (bsP v))) c_48]
                 | rw [bst_s hv0, ← es, bsf_no1 (by simp [c_26]; done)])
            | (refine ih _ (show (wN m_world - (v + 1)).toNat < mm by omega) (v + 1) (v, wDl (aset m_world 5 (bsO (m_world 5) (bsP v))), wMx (aset m_world 5 (bsO (m_world 5) (bsP v))), wWh (aset m_world 5 (bsO (m_world 5) (bsP v)))) _ _ _ _ _ _ _ _ (by omega) (by omega) (bs_of hdv v) (by (try simp only); omega) ?_ rfl
               rw [bst_s hv0, ← es, bsf_yes (P := fun v => !bsB (m_world 5) v) (G := fun v => aset m_world 5 (bsO (m_world 5) (bsP v))) (by simp [hc26]; done) c_48])
      · skip
        refine r_goto (tgt := 71) C dX5_nextPad_29 (by decide) ?_
        first
          | rw [bsD_O hp5.1 hp5.2 hv0 (by omega) hc26, aset_back]
          | skip
        refine r_iinc_2 C dX5_nextPad_71 ?_
        refine r_goto (tgt := 8) C dX5_nextPad_74 (by decide) ?_
        first
          | (refine ih _ (show (wN m_world - (v + 1)).toNat < mm by omega) (v + 1) s _ _ _ _ _ _ _ _ (by omega) (by omega) hs hs1 ?_ rfl
             first
               | rw [bst_s hv0, ← es, bsf_no2 (G := fun v => aset m_world 5 (bsO (m_world 5) (bsP v))) c_48]
               | rw [bst_s hv0, ← es, bsf_no1 (by simp [c_26]; done)])
          | (refine ih _ (show (wN m_world - (v + 1)).toNat < mm by omega) (v + 1) (v, wDl (aset m_world 5 (bsO (m_world 5) (bsP v))), wMx (aset m_world 5 (bsO (m_world 5) (bsP v))), wWh (aset m_world 5 (bsO (m_world 5) (bsP v)))) _ _ _ _ _ _ _ _ (by omega) (by omega) (bs_of hdv v) (by (try simp only); omega) ?_ rfl
             rw [bst_s hv0, ← es, bsf_yes (P := fun v => !bsB (m_world 5) v) (G := fun v => aset m_world 5 (bsO (m_world 5) (bsP v))) (by simp [hc26]; done) c_48])
  refine r_aload_0 C dX5_nextPad_0 ?_
  refine r_cV0v C (c_X5_beginsWithout hG) (q0 := 0) rfl rfl q1903 pkX5_beginsWithout dX5_nextPad_1 (fun w h => ?_)
  subst h
  refine r_iconst C dX5_nextPad_4 ?_
  refine r_istore_1 C dX5_nextPad_5 ?_
  refine r_iconst C dX5_nextPad_6 ?_
  refine r_istore_2 C dX5_nextPad_7 ?_
  exact key _ 0 bs0 _ _ _ _ _ _ _ _ (by omega) (by omega) bs0_ok (by simp) rfl rfl
theorem c_X5_pad (hG : Gok g) {i : Int} (hi : inR i) (hW : WF m_world) : XMet g yX5_pad cX5_pad 4 (some .int) 7 0 0 [.ref (ρ 0), .int (jI i)] (wM g ρ m_thrown m_world m_fresh m_waysBack m_acts m_images m_hasImage m_endOf m_strapMany m_tape m_taped m_five m_size m_at m_from m_token m_value m_faultKind m_faultPlace m_budgetsTold m_loadsTold m_deadSet m_unknownOf m_nodeOf m_unknowns m_cells m_whole m_ordered m_drawnBy m_left m_aside m_bestDead m_bestAbove m_bestBelow m_widened m_widenedMany m_fewOf m_drawing ++ ex) (pI (fun z w => z = spPad m_world i ∧ PubM g ρ ex m_world m_waysBack m_acts m_images m_hasImage m_tape m_taped m_faultKind m_faultPlace w)) := by
  refine XMet.of (L := [some (.ref (ρ 0)), some (.int (jI i)), none, none]) hG (by decide +kernel) (Nat.le_of_ble_eq_true rfl) rfl (fun K C E => ?_)
  have h4 := hW.r (k := 4) (by omega) (by omega)
  have hi2 := hi.2
  refine r_aload_0 C dX5_pad_0 ?_
  refine r_cV0i C (c_X5_isGrid hG (by unfold inR; omega)) (q0 := 0) rfl rfl q1638 pkX5_isGrid dX5_pad_1 (fun z w h => ?_)
  obtain ⟨rfl, rfl⟩ := h
  refine r_ifeqB (tgt := 11) C dX5_pad_4 (by decide) (fun c_4 => ?_) (fun c_4 => ?_)
  · skip
    refine r_bipush C dX5_pad_11 ?_
    refine r_ireturn C E dX5_pad_13 ?_
    refine ⟨_, rfl, ?_, PubM.mk⟩
    unfold spPad
    rw [if_neg (by omega)]
  · skip
    refine r_iload_1 C dX5_pad_7 ?_
    refine r_ifge (tgt := 14) C dX5_pad_8 (by decide) (fun c_8 => ?_) (fun c_8 => ?_)
    · skip
      have hd := hW.gd4 c_4
      have hn := hd.n
      have key : ∀ (mm : Nat), ∀ (k p v b1 b2 b3 : Int) (e un no ce : Int → Int) (sm ds um wh : Int), (0 ≤ k) → (k ≤ i) → (NSet (m_world 0) (m_world 1) p) → (v = -1 ∨ (0 ≤ v ∧ v < wN m_world)) → ((p, v) = pdS m_world k.toNat) → (i - k).toNat = mm → AW g K (wM g ρ m_thrown (aset m_world 5 p) m_fresh m_waysBack m_acts m_images m_hasImage (e) (sm) m_tape m_taped m_five m_size m_at m_from m_token m_value m_faultKind m_faultPlace m_budgetsTold m_loadsTold (ds) (un) (no) (um) (ce) (wh) m_ordered m_drawnBy m_left (ov m_world m_aside) (b1) (b2) (b3) m_widened m_widenedMany m_fewOf m_drawing ++ ex) 0 0 25 [some (.ref (ρ 0)), some (.int (jI i)), some (.int (jI v)), some (.int (jI k))] [] := by
        intro mm
        induction mm using Nat.strongRecOn with
        | _ mm ih =>
        intro k p v b1 b2 b3 e un no ce sm ds um wh hk0 hk hp hv es hm
        have hp5 := hp.1
        have hp6 := hp.s512 hd.g
        refine r_iload_3 C dX5_pad_25 ?_
        refine r_iload_1 C dX5_pad_26 ?_
        refine r_if_icmpge (tgt := 58) C dX5_pad_27 (by decide) (fun c_27 => ?_) (fun c_27 => ?_)
        · skip
          refine r_aload_0 C dX5_pad_58 ?_
          refine r_cV0v C (c_X5_takesOut hG) (q0 := 0) rfl rfl q1879 pkX5_takesOut dX5_pad_59 (fun w h => ?_)
          subst h
          rw [ov_back (AgO.rf.set (by omega))]
          refine r_iload_2 C dX5_pad_62 ?_
          refine r_ireturn C E dX5_pad_63 ?_
          refine ⟨_, rfl, ?_, PubM.mk⟩
          unfold spPad
          rw [if_pos ⟨by omega, by omega⟩]
          first
            | (have e : k = i := by omega
               rw [← e, ← es])
            | (rw [c_32]
               exact (pdS_stuck (k := k.toNat) (by rw [← es]; exact c_32) (by omega)).symm)
        · skip
          refine r_iload_2 C dX5_pad_30 ?_
          refine r_iconst C dX5_pad_31 ?_
          refine r_if_icmpeq (tgt := 58) C dX5_pad_32 (by decide) (fun c_32 => ?_) (fun c_32 => ?_) (by unfold inR; omega)
          · skip
            refine r_aload_0 C dX5_pad_58 ?_
            refine r_cV0v C (c_X5_takesOut hG) (q0 := 0) rfl rfl q1879 pkX5_takesOut dX5_pad_59 (fun w h => ?_)
            subst h
            rw [ov_back (AgO.rf.set (by omega))]
            refine r_iload_2 C dX5_pad_62 ?_
            refine r_ireturn C E dX5_pad_63 ?_
            refine ⟨_, rfl, ?_, PubM.mk⟩
            unfold spPad
            rw [if_pos ⟨by omega, by omega⟩]
            first
              | (have e : k = i := by omega
                 rw [← e, ← es])
              | (rw [c_32]
                 exact (pdS_stuck (k := k.toNat) (by rw [← es]; exact c_32) (by omega)).symm)
          · skip
            have hv2 : 0 ≤ v ∧ v < wN m_world := by omega
            have hP := bsP_9 hv2.1 (show v < 9 by omega)
            have hP0 := bsP_0 (k := v)
            have hp' : NSet (m_world 0) (m_world 1) (bsO p (bsP v)) := hp.O (NSet.P hv2.1 hv2.2)
            have hdv := hd.pad hp'
            refine r_aload_0 C dX5_pad_35 ?_
            refine gM_world C q1386 dX5_pad_36 ?_
            refine r_iconst C dX5_pad_39 ?_
            refine r_dup2 C dX5_pad_40 ?_
            refine ldM_world C dX5_pad_41 ?_
            refine r_iconst C dX5_pad_42 ?_
            refine r_iload_2 C dX5_pad_43 ?_
            refine r_ishl C (_) dX5_pad_44 (jI_shl (by omega) (by omega)) ?_
            refine r_ior C (bsO p (bsP v)) dX5_pad_45 ((by rw [aset_at]; exact jI_or (by omega) (by omega))) ?_
            refine stM_world C dX5_pad_46 ?_
            rw [aset_two]
            refine r_aload_0 C dX5_pad_47 ?_
            refine r_cV0i C (c_X5_nextPad hG hdv) (q0 := 0) rfl rfl q1899 pkX5_nextPad dX5_pad_48 (fun z w h => ?_)
            obtain ⟨rfl, e, un, no, ce, sm, ds, um, wh, b1, b2, b3, rfl⟩ := h
            have hin := wNp_in hdv
            rw [wN_aset (by omega)] at hin
            refine r_istore_2 C dX5_pad_51 ?_
            refine r_iinc_3 C dX5_pad_52 ?_
            refine r_goto (tgt := 25) C dX5_pad_55 (by decide) ?_
            refine ih _ (show (i - (k + 1)).toNat < mm by omega) (k + 1) (bsO p (bsP v)) _ _ _ _ _ _ _ _ _ _ _ _ (by omega) (by omega) hp' (by omega) ?_ rfl
            rw [show (k + 1).toNat = k.toNat + 1 by omega, pdS, ← es, if_neg c_32]
      refine r_aload_0 C dX5_pad_14 ?_
      refine r_cV0v C (c_X5_puts hG) (q0 := 0) rfl rfl q1871 pkX5_puts dX5_pad_15 (fun w h => ?_)
      subst h
      refine r_aload_0 C dX5_pad_18 ?_
      refine r_cV0i C (c_X5_nextPad hG hd) (q0 := 0) rfl rfl q1899 pkX5_nextPad dX5_pad_19 (fun z w h => ?_)
      obtain ⟨rfl, e, un, no, ce, sm, ds, um, wh, b1, b2, b3, rfl⟩ := h
      have hin := wNp_in hd
      refine r_istore_2 C dX5_pad_22 ?_
      refine r_iconst C dX5_pad_23 ?_
      refine r_istore_3 C dX5_pad_24 ?_
      have e5 : m_world = aset m_world 5 (m_world 5) := aset_same.symm
      have := key _ 0 (m_world 5) (wNp m_world).1 b1 b2 b3 e un no ce sm ds um wh (by omega) (by omega) hd.pads (by omega) rfl rfl
      rw [aset_same] at this
      exact this
    · skip
      refine r_bipush C dX5_pad_11 ?_
      refine r_ireturn C E dX5_pad_13 ?_
      refine ⟨_, rfl, ?_, PubM.mk⟩
      unfold spPad
      rw [if_neg (by omega)]
theorem c_X5_bestPads (hG : Gok g) {n : Int} (hn9 : 0 ≤ n ∧ n ≤ 9) (hd : Gd m_world) : XMet g yX5_bestPads cX5_bestPads 5 (some .int) 6 0 0 [.ref (ρ 0), .int (jI n)] (wM g ρ m_thrown m_world m_fresh m_waysBack m_acts m_images m_hasImage m_endOf m_strapMany m_tape m_taped m_five m_size m_at m_from m_token m_value m_faultKind m_faultPlace m_budgetsTold m_loadsTold m_deadSet m_unknownOf m_nodeOf m_unknowns m_cells m_whole m_ordered m_drawnBy m_left m_aside m_bestDead m_bestAbove m_bestBelow m_widened m_widenedMany m_fewOf m_drawing ++ ex) (pI (fun z w => z = (wBp m_world n).1 ∧ ∃ e un no ce sm ds um wh, w = (wM g ρ m_thrown m_world m_fresh m_waysBack m_acts m_images m_hasImage (e) (sm) m_tape m_taped m_five m_size m_at m_from m_token m_value m_faultKind m_faultPlace m_budgetsTold m_loadsTold (ds) (un) (no) (um) (ce) (wh) m_ordered m_drawnBy m_left m_aside ((wBp m_world n).2.1) ((wBp m_world n).2.2.1) ((wBp m_world n).2.2.2) m_widened m_widenedMany m_fewOf m_drawing ++ ex))) := by
  refine XMet.of (L := [some (.ref (ρ 0)), some (.int (jI n)), none, none, none]) hG (by decide +kernel) (Nat.le_of_ble_eq_true rfl) rfl (fun K C E => ?_)
  have hn := hd.n
  have hp5 := hd.p5
  have hPN : 0 < bsP (wN m_world) := bsP_0
  have hPN9 : bsP (wN m_world) ≤ 512 := by
    unfold bsP
    have : 2 ^ (wN m_world).toNat ≤ 2 ^ 9 := Nat.pow_le_pow_right (by decide) (by omega)
    omega
  have key : ∀ (mm : Nat), ∀ (v q : Int) (s : Bst) (e un no ce : Int → Int) (sm ds um wh : Int), (0 ≤ v) → (v ≤ 512) → (BsOk s) → (-1 ≤ s.1 ∧ s.1 < 512) → (s = bst (bpP m_world n) (fun v => aset m_world 5 (bsO (m_world 5) v)) bs0 v) → (512 - v).toNat = mm → AW g K (wM g ρ m_thrown (aset m_world 5 q) m_fresh m_waysBack m_acts m_images m_hasImage (e) (sm) m_tape m_taped m_five m_size m_at m_from m_token m_value m_faultKind m_faultPlace m_budgetsTold m_loadsTold (ds) (un) (no) (um) (ce) (wh) m_ordered m_drawnBy m_left m_aside (s.2.1) (s.2.2.1) (s.2.2.2) m_widened m_widenedMany m_fewOf m_drawing ++ ex) 0 0 16 [some (.ref (ρ 0)), some (.int (jI n)), some (.int (jI s.1)), some (.int (jI (m_world 5))), some (.int (jI v))] [] := by
    intro mm
    induction mm using Nat.strongRecOn with
    | _ mm ih =>
    intro v q s e un no ce sm ds um wh hv0 hv hs hs1 es hm
    refine r_iload_4 C dX5_bestPads_16 ?_
    refine r_sipush C dX5_bestPads_18 ?_
    refine r_if_icmpge (tgt := 84) C dX5_bestPads_21 (by decide) (fun c_21 => ?_) (fun c_21 => ?_)
    · skip
      refine r_aload_0 C dX5_bestPads_84 ?_
      refine gM_world C q1386 dX5_bestPads_85 ?_
      refine r_iconst C dX5_bestPads_88 ?_
      refine r_iload_3 C dX5_bestPads_89 ?_
      refine stM_world C dX5_bestPads_90 ?_
      rw [aset_back]
      refine r_iload_2 C dX5_bestPads_91 ?_
      refine r_ireturn C E dX5_bestPads_92 ?_
      have e : v = 512 := by omega
      subst e
      have es' : s = wBp m_world n := es
      subst es'
      exact ⟨_, rfl, rfl, _, _, _, _, _, _, _, _, rfl⟩
    · skip
      refine r_iload_4 C dX5_bestPads_24 ?_
      refine r_iconst C dX5_bestPads_26 ?_
      refine r_aload_0 C dX5_bestPads_27 ?_
      refine r_cV0i C (c_X5_nodes hG) (q0 := 0) rfl rfl q1654 pkX5_nodes dX5_bestPads_28 (fun z w h => ?_)
      obtain ⟨rfl, rfl⟩ := h
      refine r_topi (wN m_world) (wN_aset (by omega)) ?_
      refine r_ishl C (_) dX5_bestPads_31 (jI_shl (by omega) (by omega)) ?_
      refine r_if_icmpge (tgt := 78) C dX5_bestPads_32 (by decide) (fun c_32 => ?_) (fun c_32 => ?_)
      · skip
        refine r_iinc_4 C dX5_bestPads_78 ?_
        refine r_goto (tgt := 16) C dX5_bestPads_81 (by decide) ?_
        first
          | (refine ih _ (show (512 - (v + 1)).toNat < mm by omega) (v + 1) _ s _ _ _ _ _ _ _ _ (by omega) (by omega) hs hs1 ?_ rfl
             first
               | (rw [bst_s hv0, ← es, bsf_no2 (G := fun v => aset m_world 5 (bsO (m_world 5) v)) c_68])
               | (rw [bst_s hv0, ← es, bsf_no1 (bpP_no (Or.inl c_32))])
               | (rw [bst_s hv0, ← es, bsf_no1 (bpP_no (Or.inr (Or.inl c_41)))])
               | (rw [bst_s hv0, ← es, bsf_no1 (bpP_no (Or.inr (Or.inr c_48)))]))
          | (refine ih _ (show (512 - (v + 1)).toNat < mm by omega) (v + 1) _ (v, wDl (aset m_world 5 (bsO (m_world 5) v)), wMx (aset m_world 5 (bsO (m_world 5) v)), wWh (aset m_world 5 (bsO (m_world 5) v))) _ _ _ _ _ _ _ _ (by omega) (by omega) (bs_of hdv v) (by (try simp only); omega) ?_ rfl
             rw [bst_s hv0, ← es, bsf_yes (P := bpP m_world n) (G := fun v => aset m_world 5 (bsO (m_world 5) v)) hPv c_68])
      · skip
        have hbc := bitc_in (s := v)
        refine r_iload_4 C dX5_bestPads_35 ?_
        refine r_cS1i C (c_X5_bits hG (by omega)) q1926 pkX5_bits dX5_bestPads_37 (fun z w h => ?_)
        obtain ⟨rfl, rfl⟩ := h
        refine r_topi (bitc v) rfl ?_
        refine r_iload_1 C dX5_bestPads_40 ?_
        refine r_if_icmpne (tgt := 78) C dX5_bestPads_41 (by decide) (fun c_41 => ?_) (fun c_41 => ?_)
        · skip
          refine r_iinc_4 C dX5_bestPads_78 ?_
          refine r_goto (tgt := 16) C dX5_bestPads_81 (by decide) ?_
          first
            | (refine ih _ (show (512 - (v + 1)).toNat < mm by omega) (v + 1) _ s _ _ _ _ _ _ _ _ (by omega) (by omega) hs hs1 ?_ rfl
               first
                 | (rw [bst_s hv0, ← es, bsf_no2 (G := fun v => aset m_world 5 (bsO (m_world 5) v)) c_68])
                 | (rw [bst_s hv0, ← es, bsf_no1 (bpP_no (Or.inl c_32))])
                 | (rw [bst_s hv0, ← es, bsf_no1 (bpP_no (Or.inr (Or.inl c_41)))])
                 | (rw [bst_s hv0, ← es, bsf_no1 (bpP_no (Or.inr (Or.inr c_48)))]))
            | (refine ih _ (show (512 - (v + 1)).toNat < mm by omega) (v + 1) _ (v, wDl (aset m_world 5 (bsO (m_world 5) v)), wMx (aset m_world 5 (bsO (m_world 5) v)), wWh (aset m_world 5 (bsO (m_world 5) v))) _ _ _ _ _ _ _ _ (by omega) (by omega) (bs_of hdv v) (by (try simp only); omega) ?_ rfl
               rw [bst_s hv0, ← es, bsf_yes (P := bpP m_world n) (G := fun v => aset m_world 5 (bsO (m_world 5) v)) hPv c_68])
        · skip
          refine r_iload_4 C dX5_bestPads_44 ?_
          refine r_iload_3 C dX5_bestPads_46 ?_
          refine r_iand C (_) dX5_bestPads_47 (jI_and (by omega) (by omega)) ?_
          have hA : 0 ≤ bsA v (m_world 5) := bsA_0
          have hA2 : bsA v (m_world 5) < 512 := by
            have := bsA_lt (a := v) (b := m_world 5) (n := 9) (by simpa using c_21)
            simpa using this
          refine r_ifeq (tgt := 54) C dX5_bestPads_48 (by decide) (fun c_48 => ?_) (fun c_48 => ?_)
          · skip
            have hPv : bpP m_world n v = true := by
              unfold bpP
              simp [c_32, c_41, c_48]
            have hdv := bpP_gd hd v hv0 c_21 hPv
            have hsc := sc_in (w := aset m_world 5 (bsO (m_world 5) v)) (a := s.2.1) (b := s.2.2.1) (c := s.2.2.2)
            refine r_aload_0 C dX5_bestPads_54 ?_
            refine gM_world C q1386 dX5_bestPads_55 ?_
            refine r_iconst C dX5_bestPads_58 ?_
            refine r_iload_3 C dX5_bestPads_59 ?_
            refine r_iload_4 C dX5_bestPads_60 ?_
            refine r_ior C (_) dX5_bestPads_62 (jI_or (by omega) (by omega)) ?_
            refine stM_world C dX5_bestPads_63 ?_
            rw [aset_two]
            refine r_aload_0 C dX5_bestPads_64 ?_
            refine r_cV0i C (c_X5_scores hG hdv hs) (q0 := 0) rfl rfl q1907 pkX5_scores dX5_bestPads_65 (fun z w h => ?_)
            obtain ⟨rfl, e, un, no, ce, he, hS, rfl⟩ := h
            refine r_ifge (tgt := 78) C dX5_bestPads_68 (by decide) (fun c_68 => ?_) (fun c_68 => ?_)
            · skip
              refine r_iinc_4 C dX5_bestPads_78 ?_
              refine r_goto (tgt := 16) C dX5_bestPads_81 (by decide) ?_
              first
                | (refine ih _ (show (512 - (v + 1)).toNat < mm by omega) (v + 1) _ s _ _ _ _ _ _ _ _ (by omega) (by omega) hs hs1 ?_ rfl
                   first
                     | (rw [bst_s hv0, ← es, bsf_no2 (G := fun v => aset m_world 5 (bsO (m_world 5) v)) c_68])
                     | (rw [bst_s hv0, ← es, bsf_no1 (bpP_no (Or.inl c_32))])
                     | (rw [bst_s hv0, ← es, bsf_no1 (bpP_no (Or.inr (Or.inl c_41)))])
                     | (rw [bst_s hv0, ← es, bsf_no1 (bpP_no (Or.inr (Or.inr c_48)))]))
                | (refine ih _ (show (512 - (v + 1)).toNat < mm by omega) (v + 1) _ (v, wDl (aset m_world 5 (bsO (m_world 5) v)), wMx (aset m_world 5 (bsO (m_world 5) v)), wWh (aset m_world 5 (bsO (m_world 5) v))) _ _ _ _ _ _ _ _ (by omega) (by omega) (bs_of hdv v) (by (try simp only); omega) ?_ rfl
                   rw [bst_s hv0, ← es, bsf_yes (P := bpP m_world n) (G := fun v => aset m_world 5 (bsO (m_world 5) v)) hPv c_68])
            · skip
              refine r_iload_4 C dX5_bestPads_71 ?_
              refine r_istore_2 C dX5_bestPads_73 ?_
              refine r_aload_0 C dX5_bestPads_74 ?_
              refine r_cV0v C (c_X5_keeps hG hdv rfl hS rfl) (q0 := 0) rfl rfl q1914 pkX5_keeps dX5_bestPads_75 (fun w h => ?_)
              subst h
              refine r_iinc_4 C dX5_bestPads_78 ?_
              refine r_goto (tgt := 16) C dX5_bestPads_81 (by decide) ?_
              first
                | (refine ih _ (show (512 - (v + 1)).toNat < mm by omega) (v + 1) _ s _ _ _ _ _ _ _ _ (by omega) (by omega) hs hs1 ?_ rfl
                   first
                     | (rw [bst_s hv0, ← es, bsf_no2 (G := fun v => aset m_world 5 (bsO (m_world 5) v)) c_68])
                     | (rw [bst_s hv0, ← es, bsf_no1 (bpP_no (Or.inl c_32))])
                     | (rw [bst_s hv0, ← es, bsf_no1 (bpP_no (Or.inr (Or.inl c_41)))])
                     | (rw [bst_s hv0, ← es, bsf_no1 (bpP_no (Or.inr (Or.inr c_48)))]))
                | (refine ih _ (show (512 - (v + 1)).toNat < mm by omega) (v + 1) _ (v, wDl (aset m_world 5 (bsO (m_world 5) v)), wMx (aset m_world 5 (bsO (m_world 5) v)), wWh (aset m_world 5 (bsO (m_world 5) v))) _ _ _ _ _ _ _ _ (by omega) (by omega) (bs_of hdv v) (by (try simp only); omega) ?_ rfl
                   rw [bst_s hv0, ← es, bsf_yes (P := bpP m_world n) (G := fun v => aset m_world 5 (bsO (m_world 5) v)) hPv c_68])
          · skip
            refine r_goto (tgt := 78) C dX5_bestPads_51 (by decide) ?_
            refine r_iinc_4 C dX5_bestPads_78 ?_
            refine r_goto (tgt := 16) C dX5_bestPads_81 (by decide) ?_
            first
              | (refine ih _ (show (512 - (v + 1)).toNat < mm by omega) (v + 1) _ s _ _ _ _ _ _ _ _ (by omega) (by omega) hs hs1 ?_ rfl
                 first
                   | (rw [bst_s hv0, ← es, bsf_no2 (G := fun v => aset m_world 5 (bsO (m_world 5) v)) c_68])
                   | (rw [bst_s hv0, ← es, bsf_no1 (bpP_no (Or.inl c_32))])
                   | (rw [bst_s hv0, ← es, bsf_no1 (bpP_no (Or.inr (Or.inl c_41)))])
                   | (rw [bst_s hv0, ← es, bsf_no1 (bpP_no (Or.inr (Or.inr c_48)))]))
              | (refine ih _ (show (512 - (v + 1)).toNat < mm by omega) (v + 1) _ (v, wDl (aset m_world 5 (bsO (m_world 5) v)), wMx (aset m_world 5 (bsO (m_world 5) v)), wWh (aset m_world 5 (bsO (m_world 5) v))) _ _ _ _ _ _ _ _ (by omega) (by omega) (bs_of hdv v) (by (try simp only); omega) ?_ rfl
                 rw [bst_s hv0, ← es, bsf_yes (P := bpP m_world n) (G := fun v => aset m_world 5 (bsO (m_world 5) v)) hPv c_68])
  refine r_aload_0 C dX5_bestPads_0 ?_
  refine r_cV0v C (c_X5_beginsWithout hG) (q0 := 0) rfl rfl q1903 pkX5_beginsWithout dX5_bestPads_1 (fun w h => ?_)
  subst h
  refine r_iconst C dX5_bestPads_4 ?_
  refine r_istore_2 C dX5_bestPads_5 ?_
  refine r_aload_0 C dX5_bestPads_6 ?_
  refine gM_world C q1386 dX5_bestPads_7 ?_
  refine r_iconst C dX5_bestPads_10 ?_
  refine ldM_world C dX5_bestPads_11 ?_
  refine r_istore_3 C dX5_bestPads_12 ?_
  refine r_iconst C dX5_bestPads_13 ?_
  refine r_istore_4 C dX5_bestPads_14 ?_
  have := key _ 0 (m_world 5) bs0 m_endOf m_unknownOf m_nodeOf m_cells m_strapMany m_deadSet m_unknowns m_whole (by omega) (by omega) bs0_ok (by simp) rfl rfl
  rw [aset_same] at this
  exact this
theorem c_X5_pads (hG : Gok g) {n : Int} (hn : inR n) (hW : WF m_world) : XMet g yX5_pads cX5_pads 2 (some .int) 7 0 0 [.ref (ρ 0), .int (jI n)] (wM g ρ m_thrown m_world m_fresh m_waysBack m_acts m_images m_hasImage m_endOf m_strapMany m_tape m_taped m_five m_size m_at m_from m_token m_value m_faultKind m_faultPlace m_budgetsTold m_loadsTold m_deadSet m_unknownOf m_nodeOf m_unknowns m_cells m_whole m_ordered m_drawnBy m_left m_aside m_bestDead m_bestAbove m_bestBelow m_widened m_widenedMany m_fewOf m_drawing ++ ex) (pI (fun z w => z = spPads m_world n ∧ PubM g ρ ex m_world m_waysBack m_acts m_images m_hasImage m_tape m_taped m_faultKind m_faultPlace w)) := by
  refine XMet.of (L := [some (.ref (ρ 0)), some (.int (jI n))]) hG (by decide +kernel) (Nat.le_of_ble_eq_true rfl) rfl (fun K C E => ?_)
  have h4 := hW.r (k := 4) (by omega) (by omega)
  refine r_aload_0 C dX5_pads_0 ?_
  refine r_cV0i C (c_X5_isGrid hG (by unfold inR; omega)) (q0 := 0) rfl rfl q1638 pkX5_isGrid dX5_pads_1 (fun z w h => ?_)
  obtain ⟨rfl, rfl⟩ := h
  refine r_ifeqB (tgt := 27) C dX5_pads_4 (by decide) (fun c_4 => ?_) (fun c_4 => ?_)
  · skip
    refine r_bipush C dX5_pads_27 ?_
    refine r_ireturn C E dX5_pads_29 ?_
    refine ⟨_, rfl, ?_, PubM.mk⟩
    unfold spPads
    first
      | rw [if_pos (And.intro c_4 c_16)]
      | rw [if_neg (by intro q; exact c_4 q.1)]
      | rw [if_neg (by intro q; exact c_16 q.2)]
  · skip
    refine r_iload_1 C dX5_pads_7 ?_
    refine r_i2l C dX5_pads_8 ?_
    refine r_lconst0 C dX5_pads_9 ?_
    refine r_ldc2 C 9 q1580 dX5_pads_10 ?_
    refine r_cS3i C (c_X5_in hG (inR_L hn) (by unfold inL; omega) (by unfold inL; omega)) q1506 pkX5_in dX5_pads_13 (fun z w h => ?_)
    obtain ⟨rfl, rfl⟩ := h
    refine r_ifeqB (tgt := 27) C dX5_pads_16 (by decide) (fun c_16 => ?_) (fun c_16 => ?_)
    · skip
      refine r_bipush C dX5_pads_27 ?_
      refine r_ireturn C E dX5_pads_29 ?_
      refine ⟨_, rfl, ?_, PubM.mk⟩
      unfold spPads
      first
        | rw [if_pos (And.intro c_4 c_16)]
        | rw [if_neg (by intro q; exact c_4 q.1)]
        | rw [if_neg (by intro q; exact c_16 q.2)]
    · skip
      have hd := hW.gd4 c_4
      refine r_aload_0 C dX5_pads_19 ?_
      refine r_iload_1 C dX5_pads_20 ?_
      refine r_cV1i C (c_X5_bestPads hG c_16 hd) (q0 := 0) rfl rfl q1922 pkX5_bestPads dX5_pads_21 (fun z w h => ?_)
      obtain ⟨rfl, e, un, no, ce, sm, ds, um, wh, rfl⟩ := h
      refine r_goto (tgt := 29) C dX5_pads_24 (by decide) ?_
      refine r_ireturn C E dX5_pads_29 ?_
      refine ⟨_, rfl, ?_, PubM.mk⟩
      unfold spPads
      first
        | rw [if_pos (And.intro c_4 c_16)]
        | rw [if_neg (by intro q; exact c_4 q.1)]
        | rw [if_neg (by intro q; exact c_16 q.2)]
theorem c_X5_padded (hG : Gok g) {n p : Int} (hn : inR n) (hp : inR p) (hW : WF m_world) : XMet g yX5_padded cX5_padded 3 (some .long) 7 0 0 [.ref (ρ 0), .int (jI n), .int (jI p)] (wM g ρ m_thrown m_world m_fresh m_waysBack m_acts m_images m_hasImage m_endOf m_strapMany m_tape m_taped m_five m_size m_at m_from m_token m_value m_faultKind m_faultPlace m_budgetsTold m_loadsTold m_deadSet m_unknownOf m_nodeOf m_unknowns m_cells m_whole m_ordered m_drawnBy m_left m_aside m_bestDead m_bestAbove m_bestBelow m_widened m_widenedMany m_fewOf m_drawing ++ ex) (pL (fun z w => z = spPadded m_world n p ∧ PubM g ρ ex m_world m_waysBack m_acts m_images m_hasImage m_tape m_taped m_faultKind m_faultPlace w)) := by
  refine XMet.of (L := [some (.ref (ρ 0)), some (.int (jI n)), some (.int (jI p))]) hG (by decide +kernel) (Nat.le_of_ble_eq_true rfl) rfl (fun K C E => ?_)
  have h4 := hW.r (k := 4) (by omega) (by omega)
  refine r_aload_0 C dX5_padded_0 ?_
  refine r_cV0i C (c_X5_isGrid hG (by unfold inR; omega)) (q0 := 0) rfl rfl q1638 pkX5_isGrid dX5_padded_1 (fun z w h => ?_)
  obtain ⟨rfl, rfl⟩ := h
  refine r_ifeqB (tgt := 26) C dX5_padded_4 (by decide) (fun c_4 => ?_) (fun c_4 => ?_)
  · skip
    refine r_ldc2 C (-2) q1709 dX5_padded_26 ?_
    refine r_lreturn C E dX5_padded_29 ?_
    refine ⟨_, rfl, ?_, PubM.mk⟩
    unfold spPadded
    first
      | rw [if_neg (by intro q; exact c_4 q.1.1)]
      | rw [if_neg (by intro q; exact c_16 q.1.2)]
      | rw [if_neg (by intro q; exact c_23 q.2)]
  · skip
    refine r_iload_1 C dX5_padded_7 ?_
    refine r_i2l C dX5_padded_8 ?_
    refine r_lconst0 C dX5_padded_9 ?_
    refine r_ldc2 C 9 q1580 dX5_padded_10 ?_
    refine r_cS3i C (c_X5_in hG (inR_L hn) (by unfold inL; omega) (by unfold inL; omega)) q1506 pkX5_in dX5_padded_13 (fun z w h => ?_)
    obtain ⟨rfl, rfl⟩ := h
    refine r_ifeqB (tgt := 26) C dX5_padded_16 (by decide) (fun c_16 => ?_) (fun c_16 => ?_)
    · skip
      refine r_ldc2 C (-2) q1709 dX5_padded_26 ?_
      refine r_lreturn C E dX5_padded_29 ?_
      refine ⟨_, rfl, ?_, PubM.mk⟩
      unfold spPadded
      first
        | rw [if_neg (by intro q; exact c_4 q.1.1)]
        | rw [if_neg (by intro q; exact c_16 q.1.2)]
        | rw [if_neg (by intro q; exact c_23 q.2)]
    · skip
      refine r_iload_2 C dX5_padded_19 ?_
      refine r_cS1i C (c_X5_isPart hG hp) q1706 pkX5_isPart dX5_padded_20 (fun z w h => ?_)
      obtain ⟨rfl, rfl⟩ := h
      refine r_ifneB (tgt := 30) C dX5_padded_23 (by decide) (fun c_23 => ?_) (fun c_23 => ?_)
      · skip
        have hd := hW.gd4 c_4
        obtain ⟨⟨b1, b2⟩, ⟨b3, b4⟩, b5, b6⟩ := bst_ok (n := 512) bs0_ok (bpP_gd (n := n) hd) (by omega)
        have hb1 := bst_at (P := bpP m_world n) (G := fun s => aset m_world 5 (bsO (m_world 5) s)) (s := bs0) (n := 512) (by omega)
        have hb2 : -1 ≤ (wBp m_world n).1 ∧ (wBp m_world n).1 < 512 := by
          unfold wBp
          rcases hb1 with h | h
          · rw [h]; simp
          · omega
        have b3' : 0 ≤ (wBp m_world n).2.2.1 := b3
        have b4' : (wBp m_world n).2.2.1 ≤ 7653631721472 := b4
        have b5' : 0 < (wBp m_world n).2.2.2 := b5
        have b6' : (wBp m_world n).2.2.2 ≤ 8589934592 := b6
        refine r_aload_0 C dX5_padded_30 ?_
        refine r_iload_1 C dX5_padded_31 ?_
        refine r_cV1i C (c_X5_bestPads hG c_16 hd) (q0 := 0) rfl rfl q1922 pkX5_bestPads dX5_padded_32 (fun z w h => ?_)
        obtain ⟨rfl, e, un, no, ce, sm, ds, um, wh, rfl⟩ := h
        refine r_iconst C dX5_padded_35 ?_
        refine r_if_icmpne (tgt := 45) C dX5_padded_36 (by decide) (fun c_36 => ?_) (fun c_36 => ?_)
        · skip
          refine r_aload_0 C dX5_padded_45 ?_
          refine gM_bestAbove C q1417 dX5_padded_46 ?_
          refine r_aload_0 C dX5_padded_49 ?_
          refine gM_bestBelow C q1418 dX5_padded_50 ?_
          refine r_iload_2 C dX5_padded_53 ?_
          refine r_cS3l C (c_X5_part hG (by omega) (by omega) hp (by omega)) q1719 pkX5_part dX5_padded_54 (fun z w h => ?_)
          obtain ⟨rfl, rfl⟩ := h
          refine r_lreturn C E dX5_padded_57 ?_
          refine ⟨_, rfl, ?_, PubM.mk⟩
          unfold spPadded
          rw [if_pos (And.intro (And.intro c_4 c_16) c_23)]
          first
            | rw [if_pos c_36]
            | rw [if_neg c_36]
        · skip
          refine r_ldc2 C (-1) q1710 dX5_padded_39 ?_
          refine r_goto (tgt := 57) C dX5_padded_42 (by decide) ?_
          refine r_lreturn C E dX5_padded_57 ?_
          refine ⟨_, rfl, ?_, PubM.mk⟩
          unfold spPadded
          rw [if_pos (And.intro (And.intro c_4 c_16) c_23)]
          first
            | rw [if_pos c_36]
            | rw [if_neg c_36]
      · skip
        refine r_ldc2 C (-2) q1709 dX5_padded_26 ?_
        refine r_lreturn C E dX5_padded_29 ?_
        refine ⟨_, rfl, ?_, PubM.mk⟩
        unfold spPadded
        first
          | rw [if_neg (by intro q; exact c_4 q.1.1)]
          | rw [if_neg (by intro q; exact c_16 q.1.2)]
          | rw [if_neg (by intro q; exact c_23 q.2)]
theorem c_X5_enough (hG : Gok g) (hW : WF m_world) : XMet g yX5_enough cX5_enough 4 (some .int) 7 0 0 [.ref (ρ 0)] (wM g ρ m_thrown m_world m_fresh m_waysBack m_acts m_images m_hasImage m_endOf m_strapMany m_tape m_taped m_five m_size m_at m_from m_token m_value m_faultKind m_faultPlace m_budgetsTold m_loadsTold m_deadSet m_unknownOf m_nodeOf m_unknowns m_cells m_whole m_ordered m_drawnBy m_left m_aside m_bestDead m_bestAbove m_bestBelow m_widened m_widenedMany m_fewOf m_drawing ++ ex) (pI (fun z w => z = spEnough m_world ∧ PubM g ρ ex m_world m_waysBack m_acts m_images m_hasImage m_tape m_taped m_faultKind m_faultPlace w)) := by
  refine XMet.of (L := [some (.ref (ρ 0)), none, none, none]) hG (by decide +kernel) (Nat.le_of_ble_eq_true rfl) rfl (fun K C E => ?_)
  have h4 := hW.r (k := 4) (by omega) (by omega)
  refine r_aload_0 C dX5_enough_0 ?_
  refine r_cV0i C (c_X5_isGrid hG (by unfold inR; omega)) (q0 := 0) rfl rfl q1638 pkX5_isGrid dX5_enough_1 (fun z w h => ?_)
  obtain ⟨rfl, rfl⟩ := h
  refine r_ifneB (tgt := 10) C dX5_enough_4 (by decide) (fun c_4 => ?_) (fun c_4 => ?_)
  · skip
    have hd := hW.gd4 c_4
    have hn := hd.n
    have hp5 := hd.p5
    have hbc := bitc_in (s := m_world 5)
    have key : ∀ (mm : Nat), ∀ (n b1 b2 b3 : Int) (l2 l3 : Option Value) (e un no ce : Int → Int) (sm ds um wh : Int), (0 ≤ n) → (n ≤ 10) → (∀ j, 0 ≤ j → j < n → enH m_world j = false) → (10 - n).toNat = mm → AW g K (wM g ρ m_thrown m_world m_fresh m_waysBack m_acts m_images m_hasImage (e) (sm) m_tape m_taped m_five m_size m_at m_from m_token m_value m_faultKind m_faultPlace m_budgetsTold m_loadsTold (ds) (un) (no) (um) (ce) (wh) m_ordered m_drawnBy m_left m_aside (b1) (b2) (b3) m_widened m_widenedMany m_fewOf m_drawing ++ ex) 0 0 12 [some (.ref (ρ 0)), some (.int (jI n)), l2, l3] [] := by
      intro mm
      induction mm using Nat.strongRecOn with
      | _ mm ih =>
      intro n b1 b2 b3 l2 l3 e un no ce sm ds um wh hn0 hn9 hj hm
      refine r_iload_1 C dX5_enough_12 ?_
      refine r_aload_0 C dX5_enough_13 ?_
      refine r_cV0i C (c_X5_nodes hG) (q0 := 0) rfl rfl q1654 pkX5_nodes dX5_enough_14 (fun z w h => ?_)
      obtain ⟨rfl, rfl⟩ := h
      refine r_topi (wN m_world) rfl ?_
      refine r_aload_0 C dX5_enough_17 ?_
      refine gM_world C q1386 dX5_enough_18 ?_
      refine r_iconst C dX5_enough_21 ?_
      refine ldM_world C dX5_enough_22 ?_
      refine r_cS1i C (c_X5_bits hG (by omega)) q1926 pkX5_bits dX5_enough_23 (fun z w h => ?_)
      obtain ⟨rfl, rfl⟩ := h
      refine r_topi (bitc (m_world 5)) rfl ?_
      refine r_isub C dX5_enough_26 ?_
      refine r_if_icmpgt (tgt := 74) C dX5_enough_27 (by decide) (fun c_27 => ?_) (fun c_27 => ?_)
      · skip
        refine r_iconst C dX5_enough_74 ?_
        refine r_ireturn C E dX5_enough_75 ?_
        refine ⟨_, rfl, ?_, PubM.mk⟩
        unfold spEnough
        rw [if_pos c_4, ffi_none _ (fun j a b => hj j (by omega) (by omega))]
      · skip
        have hsm := wBp_some hd hn0 c_27
        have hNS : NSet (m_world 0) (m_world 1) (bsO (m_world 5) (wBp m_world n).1) := hd.pads.O hsm
        have hdv := hd.pad hNS
        refine r_aload_0 C dX5_enough_30 ?_
        refine gM_world C q1386 dX5_enough_31 ?_
        refine r_iconst C dX5_enough_34 ?_
        refine ldM_world C dX5_enough_35 ?_
        refine r_istore_2 C dX5_enough_36 ?_
        refine r_aload_0 C dX5_enough_37 ?_
        refine gM_world C q1386 dX5_enough_38 ?_
        refine r_iconst C dX5_enough_41 ?_
        refine r_iload_2 C dX5_enough_42 ?_
        refine r_aload_0 C dX5_enough_43 ?_
        refine r_iload_1 C dX5_enough_44 ?_
        refine r_cV1i C (c_X5_bestPads hG ⟨hn0, by omega⟩ hd) (q0 := 0) rfl rfl q1922 pkX5_bestPads dX5_enough_45 (fun z w h => ?_)
        obtain ⟨rfl, e, un, no, ce, sm, ds, um, wh, rfl⟩ := h
        refine r_ior C (_) dX5_enough_48 (jI_or (by omega) (by omega)) ?_
        refine stM_world C dX5_enough_49 ?_
        refine r_aload_0 C dX5_enough_50 ?_
        refine r_cV0i C (c_X5_doesHold hG hdv) (q0 := 0) rfl rfl q1770 pkX5_doesHold dX5_enough_51 (fun z w h => ?_)
        obtain ⟨rfl, e, un, no, ce, -, -, rfl⟩ := h
        refine r_istore_3 C dX5_enough_54 ?_
        refine r_aload_0 C dX5_enough_55 ?_
        refine gM_world C q1386 dX5_enough_56 ?_
        refine r_iconst C dX5_enough_59 ?_
        refine r_iload_2 C dX5_enough_60 ?_
        refine stM_world C dX5_enough_61 ?_
        rw [aset_back]
        refine r_iload_3 C dX5_enough_62 ?_
        refine r_ifeqB (tgt := 68) C dX5_enough_63 (by decide) (fun c_63 => ?_) (fun c_63 => ?_)
        · skip
          refine r_iinc_1 C dX5_enough_68 ?_
          refine r_goto (tgt := 12) C dX5_enough_71 (by decide) ?_
          refine ih _ (show (10 - (n + 1)).toNat < mm by omega) (n + 1) _ _ _ _ _ _ _ _ _ _ _ _ _ (by omega) (by omega) (fun j a b => ?_) rfl
          by_cases ej : j = n
          · subst ej
            unfold enH
            simpa using c_63
          · exact hj j a (by omega)
        · skip
          refine r_iload_1 C dX5_enough_66 ?_
          refine r_ireturn C E dX5_enough_67 ?_
          refine ⟨_, rfl, ?_, PubM.mk⟩
          unfold spEnough
          rw [if_pos c_4, ffi_some _ n hn0 (by omega) c_63 hj]
    refine r_iconst C dX5_enough_10 ?_
    refine r_istore_1 C dX5_enough_11 ?_
    exact key _ 0 _ _ _ _ _ _ _ _ _ _ _ _ _ (by omega) (by omega) (fun j _ _ => by omega) rfl
  · skip
    refine r_bipush C dX5_enough_7 ?_
    refine r_ireturn C E dX5_enough_9 ?_
    exact ⟨_, rfl, by simp [spEnough, *], PubM.mk⟩
end M12

