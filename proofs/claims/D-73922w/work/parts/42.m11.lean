section M11
variable {g : GX} {ρ : Nat → Nat} {ex : va_W}
variable {m_thrown : Int} {m_world : Int → Int} {m_fresh : Int → Int} {m_waysBack : Int → Int} {m_acts : Int} {m_images : Int → Int} {m_hasImage : Int → Int} {m_endOf : Int → Int} {m_strapMany : Int} {m_tape : Int → Int} {m_taped : Int} {m_five : Int → Int} {m_size : Int} {m_at : Int} {m_from : Int} {m_token : Int} {m_value : Int} {m_faultKind : Int} {m_faultPlace : Int} {m_budgetsTold : Int} {m_loadsTold : Int} {m_deadSet : Int} {m_unknownOf : Int → Int} {m_nodeOf : Int → Int} {m_unknowns : Int} {m_cells : Int → Int} {m_whole : Int} {m_ordered : Int → Int} {m_drawnBy : Int → Int} {m_left : Int → Int} {m_aside : Int → Int} {m_bestDead : Int} {m_bestAbove : Int} {m_bestBelow : Int} {m_widened : Int → Int} {m_widenedMany : Int} {m_fewOf : Int → Int} {m_drawing : Int}
theorem c_X5_heatOf (hG : Gok g) {k : Int} (hd : Gd m_world) (he : Ends (m_world 0) (m_world 1) m_endOf) (hS : SolW m_world m_unknownOf m_nodeOf m_cells) (hm : m_unknowns = wm m_world) (hk : 0 ≤ k ∧ k < wS m_world) : XMet g yX5_heatOf cX5_heatOf 2 (some .long) 2 0 0 [.ref (ρ 0), .int (jI k)] (wM g ρ m_thrown m_world m_fresh m_waysBack m_acts m_images m_hasImage m_endOf m_strapMany m_tape m_taped m_five m_size m_at m_from m_token m_value m_faultKind m_faultPlace m_budgetsTold m_loadsTold m_deadSet m_unknownOf m_nodeOf m_unknowns m_cells m_whole m_ordered m_drawnBy m_left m_aside m_bestDead m_bestAbove m_bestBelow m_widened m_widenedMany m_fewOf m_drawing ++ ex) (pL (fun z w => z = wHt m_world k ∧ w = (wM g ρ m_thrown m_world m_fresh m_waysBack m_acts m_images m_hasImage m_endOf m_strapMany m_tape m_taped m_five m_size m_at m_from m_token m_value m_faultKind m_faultPlace m_budgetsTold m_loadsTold m_deadSet m_unknownOf m_nodeOf m_unknowns m_cells m_whole m_ordered m_drawnBy m_left m_aside m_bestDead m_bestAbove m_bestBelow m_widened m_widenedMany m_fewOf m_drawing ++ ex))) := by
  refine XMet.of (L := [some (.ref (ρ 0)), some (.int (jI k))]) hG (by decide +kernel) (Nat.le_of_ble_eq_true rfl) rfl (fun K C E => ?_)
  have hs := hd.s
  have hek := he k hk.1 hk.2
  have hin := sl_in hd.g hk.1 hk.2
  have hwd := hd.wd k hk.1 (by omega)
  unfold wWd at hwd
  have hnn : wN m_world = m_world 0 * m_world 1 := rfl
  have d1 := hd.dr (v := sF (m_world 0) (m_world 1) k) (by omega) (by omega)
  have d2 := hd.dr (v := sT (m_world 0) (m_world 1) k) (by omega) (by omega)
  refine r_aload_0 C dX5_heatOf_0 ?_
  refine gM_world C q1386 dX5_heatOf_1 ?_
  refine r_bipush C dX5_heatOf_4 ?_
  refine r_iload_1 C dX5_heatOf_6 ?_
  refine r_iadd C dX5_heatOf_7 ?_
  refine ldM_world C dX5_heatOf_8 ?_
  refine r_ifne (tgt := 16) C dX5_heatOf_9 (by decide) (fun c_9 => ?_) (fun c_9 => ?_)
  · skip
    refine r_aload_0 C dX5_heatOf_16 ?_
    refine r_aload_0 C dX5_heatOf_17 ?_
    refine gM_endOf C q1392 dX5_heatOf_18 ?_
    refine r_iconst C dX5_heatOf_21 ?_
    refine r_iload_1 C dX5_heatOf_22 ?_
    refine r_imul C dX5_heatOf_23 ?_
    refine r_iconst C dX5_heatOf_24 ?_
    refine r_iadd C dX5_heatOf_25 ?_
    refine ldM_endOf C dX5_heatOf_26 ?_
    refine r_topi (sT (m_world 0) (m_world 1) k) hek.2 ?_
    refine r_cV1l C (c_X5_dropOf hG hd hS hm ⟨by omega, by omega⟩) (q0 := 0) rfl rfl q1711 pkX5_dropOf dX5_heatOf_27 (fun z w h => ?_)
    obtain ⟨rfl, rfl⟩ := h
    refine r_aload_0 C dX5_heatOf_30 ?_
    refine r_aload_0 C dX5_heatOf_31 ?_
    refine gM_endOf C q1392 dX5_heatOf_32 ?_
    refine r_iconst C dX5_heatOf_35 ?_
    refine r_iload_1 C dX5_heatOf_36 ?_
    refine r_imul C dX5_heatOf_37 ?_
    refine ldM_endOf C dX5_heatOf_38 ?_
    refine r_topi (sF (m_world 0) (m_world 1) k) hek.1 ?_
    refine r_cV1l C (c_X5_dropOf hG hd hS hm ⟨by omega, by omega⟩) (q0 := 0) rfl rfl q1711 pkX5_dropOf dX5_heatOf_39 (fun z w h => ?_)
    obtain ⟨rfl, rfl⟩ := h
    refine r_lsub C dX5_heatOf_42 ?_
    refine r_mabsL C q1725 dX5_heatOf_43 ?_
    refine r_lreturn C E dX5_heatOf_46 ?_
    refine ⟨_, rfl, ?_, rfl⟩
    unfold wHt
    first
      | rw [if_pos c_9]
      | rw [if_neg c_9]
  · skip
    refine r_lconst0 C dX5_heatOf_12 ?_
    refine r_goto (tgt := 46) C dX5_heatOf_13 (by decide) ?_
    refine r_lreturn C E dX5_heatOf_46 ?_
    refine ⟨_, rfl, ?_, rfl⟩
    unfold wHt
    first
      | rw [if_pos c_9]
      | rw [if_neg c_9]
theorem c_X5_heat (hG : Gok g) {k p : Int} (hk : inR k) (hp : inR p) (hW : WF m_world) : XMet g yX5_heat cX5_heat 3 (some .long) 5 0 0 [.ref (ρ 0), .int (jI k), .int (jI p)] (wM g ρ m_thrown m_world m_fresh m_waysBack m_acts m_images m_hasImage m_endOf m_strapMany m_tape m_taped m_five m_size m_at m_from m_token m_value m_faultKind m_faultPlace m_budgetsTold m_loadsTold m_deadSet m_unknownOf m_nodeOf m_unknowns m_cells m_whole m_ordered m_drawnBy m_left m_aside m_bestDead m_bestAbove m_bestBelow m_widened m_widenedMany m_fewOf m_drawing ++ ex) (pL (fun z w => z = spHeat m_world k p ∧ PubM g ρ ex m_world m_waysBack m_acts m_images m_hasImage m_tape m_taped m_faultKind m_faultPlace w)) := by
  refine XMet.of (L := [some (.ref (ρ 0)), some (.int (jI k)), some (.int (jI p))]) hG (by decide +kernel) (Nat.le_of_ble_eq_true rfl) rfl (fun K C E => ?_)
  refine r_aload_0 C dX5_heat_0 ?_
  refine r_iload_1 C dX5_heat_1 ?_
  refine r_cV1i C (c_X5_isStrapW hG hk hW) (q0 := 0) rfl rfl q1677 pkX5_isStrap dX5_heat_2 (fun z w h => ?_)
  obtain ⟨rfl, e, sm, -, rfl⟩ := h
  refine r_ifeqB (tgt := 15) C dX5_heat_5 (by decide) (fun c_5 => ?_) (fun c_5 => ?_)
  · skip
    refine r_ldc2 C (-2) q1709 dX5_heat_15 ?_
    refine r_lreturn C E dX5_heat_18 ?_
    exact ⟨_, rfl, by simp [spHeat, *], PubM.mk⟩
  · skip
    refine r_iload_2 C dX5_heat_8 ?_
    refine r_cS1i C (c_X5_isPart hG hp) q1706 pkX5_isPart dX5_heat_9 (fun z w h => ?_)
    obtain ⟨rfl, rfl⟩ := h
    refine r_ifneB (tgt := 19) C dX5_heat_12 (by decide) (fun c_12 => ?_) (fun c_12 => ?_)
    · skip
      have hd := hW.gdk c_5
      have hkk := isKb_in c_5
      have hht := wHt_in hd hkk.1 hkk.2
      have hw := hd.who
      refine r_aload_0 C dX5_heat_19 ?_
      refine r_cV0v C (c_X5_lays hG hd) (q0 := 0) rfl rfl q1646 pkX5_lays dX5_heat_20 (fun w h => ?_)
      obtain ⟨e, un, no, ce, he, hS, rfl⟩ := h
      refine r_aload_0 C dX5_heat_23 ?_
      refine r_iload_1 C dX5_heat_24 ?_
      refine r_cV1l C (c_X5_heatOf hG hd he hS rfl hkk) (q0 := 0) rfl rfl q1850 pkX5_heatOf dX5_heat_25 (fun z w h => ?_)
      obtain ⟨rfl, rfl⟩ := h
      refine r_aload_0 C dX5_heat_28 ?_
      refine gM_whole C q1411 dX5_heat_29 ?_
      refine r_iload_2 C dX5_heat_32 ?_
      refine r_cS3l C (c_X5_part hG (by omega) (by omega) hp (by omega)) q1719 pkX5_part dX5_heat_33 (fun z w h => ?_)
      obtain ⟨rfl, rfl⟩ := h
      refine r_lreturn C E dX5_heat_36 ?_
      exact ⟨_, rfl, by simp [spHeat, *], PubM.mk⟩
    · skip
      refine r_ldc2 C (-2) q1709 dX5_heat_15 ?_
      refine r_lreturn C E dX5_heat_18 ?_
      exact ⟨_, rfl, by simp [spHeat, *], PubM.mk⟩
theorem c_X5_hottest (hG : Gok g) (hW : WF m_world) : XMet g yX5_hottest cX5_hottest 5 (some .int) 6 0 0 [.ref (ρ 0)] (wM g ρ m_thrown m_world m_fresh m_waysBack m_acts m_images m_hasImage m_endOf m_strapMany m_tape m_taped m_five m_size m_at m_from m_token m_value m_faultKind m_faultPlace m_budgetsTold m_loadsTold m_deadSet m_unknownOf m_nodeOf m_unknowns m_cells m_whole m_ordered m_drawnBy m_left m_aside m_bestDead m_bestAbove m_bestBelow m_widened m_widenedMany m_fewOf m_drawing ++ ex) (pI (fun z w => z = spHottest m_world ∧ PubM g ρ ex m_world m_waysBack m_acts m_images m_hasImage m_tape m_taped m_faultKind m_faultPlace w)) := by
  refine XMet.of (L := [some (.ref (ρ 0)), none, none, none, none]) hG (by decide +kernel) (Nat.le_of_ble_eq_true rfl) rfl (fun K C E => ?_)
  refine r_aload_0 C dX5_hottest_0 ?_
  refine r_cV0i C (c_X5_asksW hG hW) (q0 := 0) rfl rfl q1642 pkX5_asks dX5_hottest_1 (fun z w h => ?_)
  obtain ⟨rfl, e, sm, ds, un, no, um, ce, wh, hs, rfl⟩ := h
  refine r_ifneB (tgt := 10) C dX5_hottest_4 (by decide) (fun c_4 => ?_) (fun c_4 => ?_)
  · skip
    have hd := hW.gd4 c_4
    obtain ⟨he, hS, rfl, rfl, rfl, rfl⟩ := hs hd
    have hs := hd.s
    have key : ∀ (mm : Nat), ∀ (k : Int) (s : Int × Int), (0 ≤ k) → (k ≤ wS m_world) → (0 ≤ s.2 ∧ s.2 ≤ 7653631721472) → (s = foI (fun k (s : Int × Int) => if wHt m_world k ≤ s.2 then s else (k, wHt m_world k)) (-1, 0) k) → (wS m_world - k).toNat = mm → AW g K (wM g ρ m_thrown m_world m_fresh m_waysBack m_acts m_images m_hasImage (e) (wS m_world) m_tape m_taped m_five m_size m_at m_from m_token m_value m_faultKind m_faultPlace m_budgetsTold m_loadsTold (wDead m_world) (un) (no) (wm m_world) (ce) (wWh m_world) m_ordered m_drawnBy m_left m_aside m_bestDead m_bestAbove m_bestBelow m_widened m_widenedMany m_fewOf m_drawing ++ ex) 0 0 17 [some (.ref (ρ 0)), some (.int (jI s.1)), some (.long (jL s.2)), none, some (.int (jI k))] [] := by
      intro mm
      induction mm using Nat.strongRecOn with
      | _ mm ih =>
      intro k s hk0 hk hsb es hm
      refine r_iload_4 C dX5_hottest_17 ?_
      refine r_aload_0 C dX5_hottest_19 ?_
      refine gM_strapMany C q1393 dX5_hottest_20 ?_
      refine r_if_icmpge (tgt := 56) C dX5_hottest_23 (by decide) (fun c_23 => ?_) (fun c_23 => ?_)
      · skip
        refine r_iload_1 C dX5_hottest_56 ?_
        refine r_ireturn C E dX5_hottest_57 ?_
        have e : k = wS m_world := by omega
        subst e
        exact ⟨_, rfl, by unfold spHottest wHo2; rw [if_pos c_4, es], PubM.mk⟩
      · skip
        have hht := wHt_in hd hk0 c_23
        refine r_aload_0 C dX5_hottest_26 ?_
        refine r_iload_4 C dX5_hottest_27 ?_
        refine r_cV1l C (c_X5_heatOf hG hd he hS rfl ⟨hk0, c_23⟩) (q0 := 0) rfl rfl q1850 pkX5_heatOf dX5_hottest_29 (fun z w h => ?_)
        obtain ⟨rfl, rfl⟩ := h
        refine r_lload_2 C dX5_hottest_32 ?_
        refine r_lcmp_ifgt (tgt := 40) C dX5_hottest_33 dX5_hottest_34 (by decide) (fun c_33 => ?_) (fun c_33 => ?_)
        · skip
          refine r_iload_4 C dX5_hottest_40 ?_
          refine r_istore_1 C dX5_hottest_42 ?_
          refine r_aload_0 C dX5_hottest_43 ?_
          refine r_iload_4 C dX5_hottest_44 ?_
          refine r_cV1l C (c_X5_heatOf hG hd he hS rfl ⟨hk0, c_23⟩) (q0 := 0) rfl rfl q1850 pkX5_heatOf dX5_hottest_46 (fun z w h => ?_)
          obtain ⟨rfl, rfl⟩ := h
          refine r_lstore_2 C dX5_hottest_49 ?_
          refine r_iinc_4 C dX5_hottest_50 ?_
          refine r_goto (tgt := 17) C dX5_hottest_53 (by decide) ?_
          first
            | (refine ih _ (show (wS m_world - (k + 1)).toNat < mm by omega) (k + 1) s (by omega) (by omega) hsb ?_ rfl
               rw [foI_s _ _ hk0, ← es, if_pos c_33])
            | (refine ih _ (show (wS m_world - (k + 1)).toNat < mm by omega) (k + 1) (k, wHt m_world k) (by omega) (by omega) hht ?_ rfl
               rw [foI_s _ _ hk0, ← es, if_neg (by omega)])
        · skip
          refine r_goto (tgt := 50) C dX5_hottest_37 (by decide) ?_
          refine r_iinc_4 C dX5_hottest_50 ?_
          refine r_goto (tgt := 17) C dX5_hottest_53 (by decide) ?_
          first
            | (refine ih _ (show (wS m_world - (k + 1)).toNat < mm by omega) (k + 1) s (by omega) (by omega) hsb ?_ rfl
               rw [foI_s _ _ hk0, ← es, if_pos c_33])
            | (refine ih _ (show (wS m_world - (k + 1)).toNat < mm by omega) (k + 1) (k, wHt m_world k) (by omega) (by omega) hht ?_ rfl
               rw [foI_s _ _ hk0, ← es, if_neg (by omega)])
    refine r_iconst C dX5_hottest_10 ?_
    refine r_istore_1 C dX5_hottest_11 ?_
    refine r_lconst0 C dX5_hottest_12 ?_
    refine r_lstore_2 C dX5_hottest_13 ?_
    refine r_iconst C dX5_hottest_14 ?_
    refine r_istore_4 C dX5_hottest_15 ?_
    exact key _ 0 (-1, 0) (by omega) (by omega) (by simp) rfl rfl
  · skip
    refine r_bipush C dX5_hottest_7 ?_
    refine r_ireturn C E dX5_hottest_9 ?_
    exact ⟨_, rfl, by simp [spHottest, *], PubM.mk⟩
theorem c_X5_wears (hG : Gok g) (hd : Gd m_world) : XMet g yX5_wears cX5_wears 3 (some .int) 5 0 0 [.ref (ρ 0)] (wM g ρ m_thrown m_world m_fresh m_waysBack m_acts m_images m_hasImage m_endOf m_strapMany m_tape m_taped m_five m_size m_at m_from m_token m_value m_faultKind m_faultPlace m_budgetsTold m_loadsTold m_deadSet m_unknownOf m_nodeOf m_unknowns m_cells m_whole m_ordered m_drawnBy m_left m_aside m_bestDead m_bestAbove m_bestBelow m_widened m_widenedMany m_fewOf m_drawing ++ ex) (pI (fun z w => z = wWe m_world ∧ ∃ e un no ce, Ends (m_world 0) (m_world 1) e ∧ SolW m_world un no ce ∧ w = (wM g ρ m_thrown m_world m_fresh m_waysBack m_acts m_images m_hasImage (e) (wS m_world) m_tape m_taped m_five m_size m_at m_from m_token m_value m_faultKind m_faultPlace m_budgetsTold m_loadsTold (wDead m_world) (un) (no) (wm m_world) (ce) (wWh m_world) m_ordered m_drawnBy m_left m_aside m_bestDead m_bestAbove m_bestBelow m_widened m_widenedMany m_fewOf m_drawing ++ ex))) := by
  refine XMet.of (L := [some (.ref (ρ 0)), none, none]) hG (by decide +kernel) (Nat.le_of_ble_eq_true rfl) rfl (fun K C E => ?_)
  have hs := hd.s
  have hwr := wear_in hd
  have hw3 := hd.wear
  refine r_aload_0 C dX5_wears_0 ?_
  refine r_cV0v C (c_X5_lays hG hd) (q0 := 0) rfl rfl q1646 pkX5_lays dX5_wears_1 (fun w h => ?_)
  obtain ⟨e, un, no, ce, he, hS, rfl⟩ := h
  skip
  have key : ∀ (mm : Nat), ∀ (k s : Int), (0 ≤ k) → (k ≤ wS m_world) → (0 ≤ s ∧ s < 4096) → (s = foI (fun k s => if m_world 3 * wWh m_world < wHt m_world k then bsO s (bsP k) else s) 0 k) → (wS m_world - k).toNat = mm → AW g K (wM g ρ m_thrown m_world m_fresh m_waysBack m_acts m_images m_hasImage (e) (wS m_world) m_tape m_taped m_five m_size m_at m_from m_token m_value m_faultKind m_faultPlace m_budgetsTold m_loadsTold (wDead m_world) (un) (no) (wm m_world) (ce) (wWh m_world) m_ordered m_drawnBy m_left m_aside m_bestDead m_bestAbove m_bestBelow m_widened m_widenedMany m_fewOf m_drawing ++ ex) 0 0 8 [some (.ref (ρ 0)), some (.int (jI s)), some (.int (jI k))] [] := by
    intro mm
    induction mm using Nat.strongRecOn with
    | _ mm ih =>
    intro k s hk0 hk hs0 es hm
    refine r_iload_2 C dX5_wears_8 ?_
    refine r_aload_0 C dX5_wears_9 ?_
    refine gM_strapMany C q1393 dX5_wears_10 ?_
    refine r_if_icmpge (tgt := 53) C dX5_wears_13 (by decide) (fun c_13 => ?_) (fun c_13 => ?_)
    · skip
      refine r_iload_1 C dX5_wears_53 ?_
      refine r_ireturn C E dX5_wears_54 ?_
      have e : k = wS m_world := by omega
      subst e
      exact ⟨_, rfl, es, _, un, no, ce, he, hS, rfl⟩
    · skip
      have hht := wHt_in hd hk0 c_13
      have hP := bsP_12 hk0 (show k < 12 by omega)
      refine r_iload_1 C dX5_wears_16 ?_
      refine r_aload_0 C dX5_wears_17 ?_
      refine r_iload_2 C dX5_wears_18 ?_
      refine r_cV1l C (c_X5_heatOf hG hd he hS rfl ⟨hk0, c_13⟩) (q0 := 0) rfl rfl q1850 pkX5_heatOf dX5_wears_19 (fun z w h => ?_)
      obtain ⟨rfl, rfl⟩ := h
      refine r_aload_0 C dX5_wears_22 ?_
      refine gM_world C q1386 dX5_wears_23 ?_
      refine r_iconst C dX5_wears_26 ?_
      refine ldM_world C dX5_wears_27 ?_
      refine r_i2l C dX5_wears_28 ?_
      refine r_aload_0 C dX5_wears_29 ?_
      refine gM_whole C q1411 dX5_wears_30 ?_
      refine r_lmul C dX5_wears_33 ?_
      refine r_lcmp_ifle (tgt := 44) C dX5_wears_34 dX5_wears_35 (by decide) (fun c_34 => ?_) (fun c_34 => ?_)
      · skip
        refine r_iconst C dX5_wears_44 ?_
        refine r_ior C (_) dX5_wears_45 (jI_or (by omega) (by first | exact Int.le_of_lt bsP_0 | omega)) ?_
        refine r_istore_1 C dX5_wears_46 ?_
        refine r_iinc_2 C dX5_wears_47 ?_
        refine r_goto (tgt := 8) C dX5_wears_50 (by decide) ?_
        refine ih _ (show (wS m_world - (k + 1)).toNat < mm by omega) (k + 1) _ (by omega) (by omega) ⟨bsO_0, bsO_4096 hs0.2 (by omega)⟩ ?_ rfl
        rw [foI_s _ _ hk0, ← es]
        first
          | rw [if_pos c_34]
          | rw [if_neg (by omega), bsO_z hs0.1]
      · skip
        refine r_iconst C dX5_wears_38 ?_
        refine r_iload_2 C dX5_wears_39 ?_
        refine r_ishl C (_) dX5_wears_40 (jI_shl (by omega) (by omega)) ?_
        refine r_goto (tgt := 45) C dX5_wears_41 (by decide) ?_
        refine r_ior C (_) dX5_wears_45 (jI_or (by omega) (by first | exact Int.le_of_lt bsP_0 | omega)) ?_
        refine r_istore_1 C dX5_wears_46 ?_
        refine r_iinc_2 C dX5_wears_47 ?_
        refine r_goto (tgt := 8) C dX5_wears_50 (by decide) ?_
        refine ih _ (show (wS m_world - (k + 1)).toNat < mm by omega) (k + 1) _ (by omega) (by omega) ⟨bsO_0, bsO_4096 hs0.2 (by omega)⟩ ?_ rfl
        rw [foI_s _ _ hk0, ← es]
        first
          | rw [if_pos c_34]
          | rw [if_neg (by omega), bsO_z hs0.1]
  refine r_iconst C dX5_wears_4 ?_
  refine r_istore_1 C dX5_wears_5 ?_
  refine r_iconst C dX5_wears_6 ?_
  refine r_istore_2 C dX5_wears_7 ?_
  exact key _ 0 0 (by omega) (by omega) (by omega) rfl rfl
theorem c_X5_wearing (hG : Gok g) (hW : WF m_world) : XMet g yX5_wearing cX5_wearing 1 (some .int) 6 0 0 [.ref (ρ 0)] (wM g ρ m_thrown m_world m_fresh m_waysBack m_acts m_images m_hasImage m_endOf m_strapMany m_tape m_taped m_five m_size m_at m_from m_token m_value m_faultKind m_faultPlace m_budgetsTold m_loadsTold m_deadSet m_unknownOf m_nodeOf m_unknowns m_cells m_whole m_ordered m_drawnBy m_left m_aside m_bestDead m_bestAbove m_bestBelow m_widened m_widenedMany m_fewOf m_drawing ++ ex) (pI (fun z w => z = spWearing m_world ∧ PubM g ρ ex m_world m_waysBack m_acts m_images m_hasImage m_tape m_taped m_faultKind m_faultPlace w)) := by
  refine XMet.of (L := [some (.ref (ρ 0))]) hG (by decide +kernel) (Nat.le_of_ble_eq_true rfl) rfl (fun K C E => ?_)
  have h4 := hW.r (k := 4) (by omega) (by omega)
  refine r_aload_0 C dX5_wearing_0 ?_
  refine r_cV0i C (c_X5_isGrid hG (by unfold inR; omega)) (q0 := 0) rfl rfl q1638 pkX5_isGrid dX5_wearing_1 (fun z w h => ?_)
  obtain ⟨rfl, rfl⟩ := h
  refine r_ifeqB (tgt := 14) C dX5_wearing_4 (by decide) (fun c_4 => ?_) (fun c_4 => ?_)
  · skip
    refine r_bipush C dX5_wearing_14 ?_
    refine r_ireturn C E dX5_wearing_16 ?_
    exact ⟨_, rfl, by simp [spWearing, *], PubM.mk⟩
  · skip
    have hd := hW.gd4 c_4
    refine r_aload_0 C dX5_wearing_7 ?_
    refine r_cV0i C (c_X5_wears hG hd) (q0 := 0) rfl rfl q1862 pkX5_wears dX5_wearing_8 (fun z w h => ?_)
    obtain ⟨rfl, e, un, no, ce, he, hS, rfl⟩ := h
    refine r_goto (tgt := 16) C dX5_wearing_11 (by decide) ?_
    refine r_ireturn C E dX5_wearing_16 ?_
    exact ⟨_, rfl, by simp [spWearing, *], PubM.mk⟩
theorem c_X5_ages (hG : Gok g) (hd : Gd m_world) : XMet g yX5_ages cX5_ages 3 (some .int) 6 0 0 [.ref (ρ 0)] (wM g ρ m_thrown m_world m_fresh m_waysBack m_acts m_images m_hasImage m_endOf m_strapMany m_tape m_taped m_five m_size m_at m_from m_token m_value m_faultKind m_faultPlace m_budgetsTold m_loadsTold m_deadSet m_unknownOf m_nodeOf m_unknowns m_cells m_whole m_ordered m_drawnBy m_left m_aside m_bestDead m_bestAbove m_bestBelow m_widened m_widenedMany m_fewOf m_drawing ++ ex) (pI (fun z w => z = wWe m_world ∧ ∃ e sm ds un no um ce wh, Ends (m_world 0) (m_world 1) e ∧ sm = wS m_world ∧ w = (wM g ρ m_thrown (wAge m_world) m_fresh m_waysBack m_acts m_images m_hasImage (e) (sm) m_tape m_taped m_five m_size m_at m_from m_token m_value m_faultKind m_faultPlace m_budgetsTold m_loadsTold (ds) (un) (no) (um) (ce) (wh) m_ordered m_drawnBy m_left m_aside m_bestDead m_bestAbove m_bestBelow m_widened m_widenedMany m_fewOf m_drawing ++ ex))) := by
  refine XMet.of (L := [some (.ref (ρ 0)), none, none]) hG (by decide +kernel) (Nat.le_of_ble_eq_true rfl) rfl (fun K C E => ?_)
  have hs := hd.s
  have hwe := wWe_in hd
  refine r_aload_0 C dX5_ages_0 ?_
  refine r_cV0i C (c_X5_wears hG hd) (q0 := 0) rfl rfl q1862 pkX5_wears dX5_ages_1 (fun z w h => ?_)
  obtain ⟨rfl, e, un, no, ce, he, hS, rfl⟩ := h
  skip
  have key : ∀ (mm : Nat), ∀ (k : Int) (ww : Int → Int), (0 ≤ k) → (k ≤ wS m_world) → (∀ j, 28 ≤ j → j < 28 + k → ww j = wAge m_world j) → (∀ j, j < 28 ∨ 28 + k ≤ j → ww j = m_world j) → (wS m_world - k).toNat = mm → AW g K (wM g ρ m_thrown (ww) m_fresh m_waysBack m_acts m_images m_hasImage (e) (wS (m_world)) m_tape m_taped m_five m_size m_at m_from m_token m_value m_faultKind m_faultPlace m_budgetsTold m_loadsTold (wDead (m_world)) (un) (no) (wm (m_world)) (ce) (wWh (m_world)) m_ordered m_drawnBy m_left m_aside m_bestDead m_bestAbove m_bestBelow m_widened m_widenedMany m_fewOf m_drawing ++ ex) 0 0 7 [some (.ref (ρ 0)), some (.int (jI (wWe m_world))), some (.int (jI k))] [] := by
    intro mm
    induction mm using Nat.strongRecOn with
    | _ mm ih =>
    intro k ww hk0 hk hw1 hw2 hm
    refine r_iload_2 C dX5_ages_7 ?_
    refine r_aload_0 C dX5_ages_8 ?_
    refine gM_strapMany C q1393 dX5_ages_9 ?_
    refine r_if_icmpge (tgt := 42) C dX5_ages_12 (by decide) (fun c_12 => ?_) (fun c_12 => ?_)
    · skip
      refine r_iload_1 C dX5_ages_42 ?_
      refine r_ireturn C E dX5_ages_43 ?_
      have e : k = wS m_world := by omega
      subst e
      have ew : ww = wAge m_world := by
        funext j
        by_cases q : 28 ≤ j ∧ j < 28 + wS m_world
        · exact hw1 j q.1 q.2
        · rw [hw2 j (by omega)]
          by_cases q2 : j < 28
          · rw [wAge_lo q2]
          · rw [wAge_hi (by omega)]
      subst ew
      exact ⟨_, rfl, rfl, _, _, _, un, no, _, ce, _, he, rfl, rfl⟩
    · skip
      refine r_iload_1 C dX5_ages_15 ?_
      refine r_iload_2 C dX5_ages_16 ?_
      refine r_cS2i C (c_X5_isOf hG (by omega) (by omega)) q1606 pkX5_isOf dX5_ages_17 (fun z w h => ?_)
      obtain ⟨rfl, rfl⟩ := h
      refine r_ifeqB (tgt := 36) C dX5_ages_20 (by decide) (fun c_20 => ?_) (fun c_20 => ?_)
      · skip
        refine r_iinc_2 C dX5_ages_36 ?_
        refine r_goto (tgt := 7) C dX5_ages_39 (by decide) ?_
        first
          | (refine ih _ (show (wS m_world - (k + 1)).toNat < mm by omega) (k + 1) ww (by omega) (by omega) (fun j a b => ?_) (fun j a => hw2 j (by omega)) rfl
             by_cases ej : j = 28 + k
             · rw [ej, hw2 _ (by omega), wAge_at hd hk0 c_12, if_neg c_20]
             · exact hw1 j a (by omega))
          | (refine ih _ (show (wS m_world - (k + 1)).toNat < mm by omega) (k + 1) (aset ww (28 + k) (ww (28 + k) - 1)) (by omega) (by omega) (fun j a b => ?_) (fun j a => by rw [aset_ne (by omega)]; exact hw2 j (by omega)) rfl
             by_cases ej : j = 28 + k
             · rw [ej, aset_at, hw2 _ (by omega), wAge_at hd hk0 c_12, if_pos c_20]
             · rw [aset_ne ej]
               exact hw1 j a (by omega))
      · skip
        refine r_aload_0 C dX5_ages_23 ?_
        refine gM_world C q1386 dX5_ages_24 ?_
        refine r_bipush C dX5_ages_27 ?_
        refine r_iload_2 C dX5_ages_29 ?_
        refine r_iadd C dX5_ages_30 ?_
        refine r_dup2 C dX5_ages_31 ?_
        refine ldM_world C dX5_ages_32 ?_
        refine r_iconst C dX5_ages_33 ?_
        refine r_isub C dX5_ages_34 ?_
        refine stM_world C dX5_ages_35 ?_
        refine r_iinc_2 C dX5_ages_36 ?_
        refine r_goto (tgt := 7) C dX5_ages_39 (by decide) ?_
        first
          | (refine ih _ (show (wS m_world - (k + 1)).toNat < mm by omega) (k + 1) ww (by omega) (by omega) (fun j a b => ?_) (fun j a => hw2 j (by omega)) rfl
             by_cases ej : j = 28 + k
             · rw [ej, hw2 _ (by omega), wAge_at hd hk0 c_12, if_neg c_20]
             · exact hw1 j a (by omega))
          | (refine ih _ (show (wS m_world - (k + 1)).toNat < mm by omega) (k + 1) (aset ww (28 + k) (ww (28 + k) - 1)) (by omega) (by omega) (fun j a b => ?_) (fun j a => by rw [aset_ne (by omega)]; exact hw2 j (by omega)) rfl
             by_cases ej : j = 28 + k
             · rw [ej, aset_at, hw2 _ (by omega), wAge_at hd hk0 c_12, if_pos c_20]
             · rw [aset_ne ej]
               exact hw1 j a (by omega))
  refine r_istore_1 C dX5_ages_4 ?_
  refine r_iconst C dX5_ages_5 ?_
  refine r_istore_2 C dX5_ages_6 ?_
  exact key _ 0 m_world (by omega) (by omega) (fun j _ _ => by omega) (fun j _ => rfl) rfl
theorem c_X5_puts (hG : Gok g)  : XMet g yX5_puts cX5_puts 2 none 0 0 0 [.ref (ρ 0)] (wM g ρ m_thrown m_world m_fresh m_waysBack m_acts m_images m_hasImage m_endOf m_strapMany m_tape m_taped m_five m_size m_at m_from m_token m_value m_faultKind m_faultPlace m_budgetsTold m_loadsTold m_deadSet m_unknownOf m_nodeOf m_unknowns m_cells m_whole m_ordered m_drawnBy m_left m_aside m_bestDead m_bestAbove m_bestBelow m_widened m_widenedMany m_fewOf m_drawing ++ ex) (pV (fun w => w = (wM g ρ m_thrown m_world m_fresh m_waysBack m_acts m_images m_hasImage m_endOf m_strapMany m_tape m_taped m_five m_size m_at m_from m_token m_value m_faultKind m_faultPlace m_budgetsTold m_loadsTold m_deadSet m_unknownOf m_nodeOf m_unknowns m_cells m_whole m_ordered m_drawnBy m_left (ov m_world m_aside) m_bestDead m_bestAbove m_bestBelow m_widened m_widenedMany m_fewOf m_drawing ++ ex))) := by
  refine XMet.of (L := [some (.ref (ρ 0)), none]) hG (by decide +kernel) (Nat.le_of_ble_eq_true rfl) rfl (fun K C E => ?_)
  have key : ∀ (mm : Nat), ∀ (k : Int) (a : Int → Int), (0 ≤ k) → (k ≤ 40) → (∀ j, 0 ≤ j → j < k → a j = m_world j) → (∀ j, ¬ (0 ≤ j ∧ j < k) → a j = m_aside j) → (40 - k).toNat = mm → AW g K (wM g ρ m_thrown m_world m_fresh m_waysBack m_acts m_images m_hasImage m_endOf m_strapMany m_tape m_taped m_five m_size m_at m_from m_token m_value m_faultKind m_faultPlace m_budgetsTold m_loadsTold m_deadSet m_unknownOf m_nodeOf m_unknowns m_cells m_whole m_ordered m_drawnBy m_left (a) m_bestDead m_bestAbove m_bestBelow m_widened m_widenedMany m_fewOf m_drawing ++ ex) 0 0 2 [some (.ref (ρ 0)), some (.int (jI k))] [] := by
    intro mm
    induction mm using Nat.strongRecOn with
    | _ mm ih =>
    intro k a hk0 hk h1 h2 hm
    refine r_iload_1 C dX5_puts_2 ?_
    refine r_bipush C dX5_puts_3 ?_
    refine r_if_icmpge (tgt := 26) C dX5_puts_5 (by decide) (fun c_5 => ?_) (fun c_5 => ?_)
    · skip
      refine r_return C E dX5_puts_26 ?_
      have e : k = 40 := by omega
      subst e
      have ea : a = ov m_world m_aside := by
        funext j
        unfold ov
        split
        · rename_i q; exact h1 j q.1 q.2
        · rename_i q; exact h2 j q
      subst ea
      exact ⟨rfl, rfl⟩
    · skip
      refine r_aload_0 C dX5_puts_8 ?_
      refine gM_aside C q1415 dX5_puts_9 ?_
      refine r_iload_1 C dX5_puts_12 ?_
      refine r_aload_0 C dX5_puts_13 ?_
      refine gM_world C q1386 dX5_puts_14 ?_
      refine r_iload_1 C dX5_puts_17 ?_
      refine ldM_world C dX5_puts_18 ?_
      refine stM_aside C dX5_puts_19 ?_
      refine r_iinc_1 C dX5_puts_20 ?_
      refine r_goto (tgt := 2) C dX5_puts_23 (by decide) ?_
      refine ih _ (show (40 - (k + 1)).toNat < mm by omega) (k + 1) _ (by omega) (by omega) (fun j q1 q2 => ?_) (fun j q => ?_) rfl
      · by_cases ej : j = k
        · rw [ej, aset_at]
        · rw [aset_ne ej]; exact h1 j q1 (by omega)
      · rw [aset_ne (by omega)]; exact h2 j (by omega)
  refine r_iconst C dX5_puts_0 ?_
  refine r_istore_1 C dX5_puts_1 ?_
  exact key _ 0 m_aside (by omega) (by omega) (fun j _ _ => by omega) (fun j _ => rfl) rfl
theorem c_X5_takesOut (hG : Gok g)  : XMet g yX5_takesOut cX5_takesOut 2 none 0 0 0 [.ref (ρ 0)] (wM g ρ m_thrown m_world m_fresh m_waysBack m_acts m_images m_hasImage m_endOf m_strapMany m_tape m_taped m_five m_size m_at m_from m_token m_value m_faultKind m_faultPlace m_budgetsTold m_loadsTold m_deadSet m_unknownOf m_nodeOf m_unknowns m_cells m_whole m_ordered m_drawnBy m_left m_aside m_bestDead m_bestAbove m_bestBelow m_widened m_widenedMany m_fewOf m_drawing ++ ex) (pV (fun w => w = (wM g ρ m_thrown (ov m_aside m_world) m_fresh m_waysBack m_acts m_images m_hasImage m_endOf m_strapMany m_tape m_taped m_five m_size m_at m_from m_token m_value m_faultKind m_faultPlace m_budgetsTold m_loadsTold m_deadSet m_unknownOf m_nodeOf m_unknowns m_cells m_whole m_ordered m_drawnBy m_left m_aside m_bestDead m_bestAbove m_bestBelow m_widened m_widenedMany m_fewOf m_drawing ++ ex))) := by
  refine XMet.of (L := [some (.ref (ρ 0)), none]) hG (by decide +kernel) (Nat.le_of_ble_eq_true rfl) rfl (fun K C E => ?_)
  have key : ∀ (mm : Nat), ∀ (k : Int) (a : Int → Int), (0 ≤ k) → (k ≤ 40) → (∀ j, 0 ≤ j → j < k → a j = m_aside j) → (∀ j, ¬ (0 ≤ j ∧ j < k) → a j = m_world j) → (40 - k).toNat = mm → AW g K (wM g ρ m_thrown (a) m_fresh m_waysBack m_acts m_images m_hasImage m_endOf m_strapMany m_tape m_taped m_five m_size m_at m_from m_token m_value m_faultKind m_faultPlace m_budgetsTold m_loadsTold m_deadSet m_unknownOf m_nodeOf m_unknowns m_cells m_whole m_ordered m_drawnBy m_left m_aside m_bestDead m_bestAbove m_bestBelow m_widened m_widenedMany m_fewOf m_drawing ++ ex) 0 0 2 [some (.ref (ρ 0)), some (.int (jI k))] [] := by
    intro mm
    induction mm using Nat.strongRecOn with
    | _ mm ih =>
    intro k a hk0 hk h1 h2 hm
    refine r_iload_1 C dX5_takesOut_2 ?_
    refine r_bipush C dX5_takesOut_3 ?_
    refine r_if_icmpge (tgt := 26) C dX5_takesOut_5 (by decide) (fun c_5 => ?_) (fun c_5 => ?_)
    · skip
      refine r_return C E dX5_takesOut_26 ?_
      have e : k = 40 := by omega
      subst e
      have ea : a = ov m_aside m_world := by
        funext j
        unfold ov
        split
        · rename_i q; exact h1 j q.1 q.2
        · rename_i q; exact h2 j q
      subst ea
      exact ⟨rfl, rfl⟩
    · skip
      refine r_aload_0 C dX5_takesOut_8 ?_
      refine gM_world C q1386 dX5_takesOut_9 ?_
      refine r_iload_1 C dX5_takesOut_12 ?_
      refine r_aload_0 C dX5_takesOut_13 ?_
      refine gM_aside C q1415 dX5_takesOut_14 ?_
      refine r_iload_1 C dX5_takesOut_17 ?_
      refine ldM_aside C dX5_takesOut_18 ?_
      refine stM_world C dX5_takesOut_19 ?_
      refine r_iinc_1 C dX5_takesOut_20 ?_
      refine r_goto (tgt := 2) C dX5_takesOut_23 (by decide) ?_
      refine ih _ (show (40 - (k + 1)).toNat < mm by omega) (k + 1) _ (by omega) (by omega) (fun j q1 q2 => ?_) (fun j q => ?_) rfl
      · by_cases ej : j = k
        · rw [ej, aset_at]
        · rw [aset_ne ej]; exact h1 j q1 (by omega)
      · rw [aset_ne (by omega)]; exact h2 j (by omega)
  refine r_iconst C dX5_takesOut_0 ?_
  refine r_istore_1 C dX5_takesOut_1 ?_
  exact key _ 0 m_world (by omega) (by omega) (fun j _ _ => by omega) (fun j _ => rfl) rfl
theorem c_X5_aged (hG : Gok g) {n k : Int} (hn : inR n) (hk : inR k) (hW : WF m_world) : XMet g yX5_aged cX5_aged 4 (some .int) 7 0 0 [.ref (ρ 0), .int (jI n), .int (jI k)] (wM g ρ m_thrown m_world m_fresh m_waysBack m_acts m_images m_hasImage m_endOf m_strapMany m_tape m_taped m_five m_size m_at m_from m_token m_value m_faultKind m_faultPlace m_budgetsTold m_loadsTold m_deadSet m_unknownOf m_nodeOf m_unknowns m_cells m_whole m_ordered m_drawnBy m_left m_aside m_bestDead m_bestAbove m_bestBelow m_widened m_widenedMany m_fewOf m_drawing ++ ex) (pI (fun z w => z = spAged m_world n k ∧ PubM g ρ ex m_world m_waysBack m_acts m_images m_hasImage m_tape m_taped m_faultKind m_faultPlace w)) := by
  refine XMet.of (L := [some (.ref (ρ 0)), some (.int (jI n)), some (.int (jI k)), none]) hG (by decide +kernel) (Nat.le_of_ble_eq_true rfl) rfl (fun K C E => ?_)
  refine r_iload_1 C dX5_aged_0 ?_
  refine r_i2l C dX5_aged_1 ?_
  refine r_lconst0 C dX5_aged_2 ?_
  refine r_ldc2 C 100 q1870 dX5_aged_3 ?_
  refine r_cS3i C (c_X5_in hG (inR_L hn) (by unfold inL; omega) (by unfold inL; omega)) q1506 pkX5_in dX5_aged_6 (fun z w h => ?_)
  obtain ⟨rfl, rfl⟩ := h
  refine r_ifeqB (tgt := 20) C dX5_aged_9 (by decide) (fun c_9 => ?_) (fun c_9 => ?_)
  · skip
    refine r_bipush C dX5_aged_20 ?_
    refine r_ireturn C E dX5_aged_22 ?_
    refine ⟨_, rfl, ?_, PubM.mk⟩
    unfold spAged
    first
      | rw [if_neg (by intro h; exact c_9 h.1)]
      | rw [if_neg (by intro h; exact c_17 h.2)]
  · skip
    refine r_aload_0 C dX5_aged_12 ?_
    refine r_iload_2 C dX5_aged_13 ?_
    refine r_cV1i C (c_X5_isStrapW hG hk hW) (q0 := 0) rfl rfl q1677 pkX5_isStrap dX5_aged_14 (fun z w h => ?_)
    obtain ⟨rfl, e, sm, -, rfl⟩ := h
    refine r_ifneB (tgt := 23) C dX5_aged_17 (by decide) (fun c_17 => ?_) (fun c_17 => ?_)
    · skip
      have hd := hW.gdk c_17
      have hkk := isKb_in c_17
      have hs := hd.s
      refine r_aload_0 C dX5_aged_23 ?_
      refine r_cV0v C (c_X5_puts hG) (q0 := 0) rfl rfl q1871 pkX5_puts dX5_aged_24 (fun w h => ?_)
      subst h
      skip
      have key : ∀ (mm : Nat), ∀ (y : Int) (e un no ce : Int → Int) (sm ds um wh : Int), (0 ≤ y) → (y ≤ n) → (n - y).toNat = mm → AW g K (wM g ρ m_thrown (itN wAge y.toNat m_world) m_fresh m_waysBack m_acts m_images m_hasImage (e) (sm) m_tape m_taped m_five m_size m_at m_from m_token m_value m_faultKind m_faultPlace m_budgetsTold m_loadsTold (ds) (un) (no) (um) (ce) (wh) m_ordered m_drawnBy m_left (ov m_world m_aside) m_bestDead m_bestAbove m_bestBelow m_widened m_widenedMany m_fewOf m_drawing ++ ex) 0 0 29 [some (.ref (ρ 0)), some (.int (jI n)), some (.int (jI k)), some (.int (jI y))] [] := by
        intro mm
        induction mm using Nat.strongRecOn with
        | _ mm ih =>
        intro y e un no ce sm ds um wh hy0 hy hm
        have hdy := hd.ages y.toNat
        refine r_iload_3 C dX5_aged_29 ?_
        refine r_iload_1 C dX5_aged_30 ?_
        refine r_if_icmpge (tgt := 45) C dX5_aged_31 (by decide) (fun c_31 => ?_) (fun c_31 => ?_)
        · skip
          refine r_aload_0 C dX5_aged_45 ?_
          refine gM_world C q1386 dX5_aged_46 ?_
          refine r_bipush C dX5_aged_49 ?_
          refine r_iload_2 C dX5_aged_51 ?_
          refine r_iadd C dX5_aged_52 ?_
          refine ldM_world C dX5_aged_53 ?_
          refine r_istore_3 C dX5_aged_54 ?_
          have ey : y = n := by omega
          subst ey
          refine r_aload_0 C dX5_aged_55 ?_
          refine r_cV0v C (c_X5_takesOut hG) (q0 := 0) rfl rfl q1879 pkX5_takesOut dX5_aged_56 (fun w h => ?_)
          subst h
          rw [ov_back (AgO.ages hd _)]
          refine r_iload_3 C dX5_aged_59 ?_
          refine r_ireturn C E dX5_aged_60 ?_
          refine ⟨_, rfl, ?_, PubM.mk⟩
          unfold spAged
          rw [if_pos ⟨c_9, c_17⟩]
        · skip
          refine r_aload_0 C dX5_aged_34 ?_
          refine r_cV0i C (c_X5_ages hG hdy) (q0 := 0) rfl rfl q1875 pkX5_ages dX5_aged_35 (fun z w h => ?_)
          obtain ⟨rfl, e, sm, ds, un, no, um, ce, wh, -, -, rfl⟩ := h
          refine r_pop C dX5_aged_38 ?_
          refine r_iinc_3 C dX5_aged_39 ?_
          refine r_goto (tgt := 29) C dX5_aged_42 (by decide) ?_
          have ey : itN wAge (y + 1).toNat m_world = wAge (itN wAge y.toNat m_world) := by rw [show (y + 1).toNat = y.toNat + 1 by omega]; rfl
          rw [← ey]
          exact ih _ (show (n - (y + 1)).toNat < mm by omega) (y + 1) e un no ce sm ds um wh (by omega) (by omega) rfl
      refine r_iconst C dX5_aged_27 ?_
      refine r_istore_3 C dX5_aged_28 ?_
      exact key _ 0 _ _ _ _ _ _ _ _ (by omega) (by omega) rfl
    · skip
      refine r_bipush C dX5_aged_20 ?_
      refine r_ireturn C E dX5_aged_22 ?_
      refine ⟨_, rfl, ?_, PubM.mk⟩
      unfold spAged
      first
        | rw [if_neg (by intro h; exact c_9 h.1)]
        | rw [if_neg (by intro h; exact c_17 h.2)]
theorem c_X5_lasts (hG : Gok g) (hW : WF m_world) : XMet g yX5_lasts cX5_lasts 3 (some .int) 7 0 0 [.ref (ρ 0)] (wM g ρ m_thrown m_world m_fresh m_waysBack m_acts m_images m_hasImage m_endOf m_strapMany m_tape m_taped m_five m_size m_at m_from m_token m_value m_faultKind m_faultPlace m_budgetsTold m_loadsTold m_deadSet m_unknownOf m_nodeOf m_unknowns m_cells m_whole m_ordered m_drawnBy m_left m_aside m_bestDead m_bestAbove m_bestBelow m_widened m_widenedMany m_fewOf m_drawing ++ ex) (pI (fun z w => z = spLasts m_world ∧ PubM g ρ ex m_world m_waysBack m_acts m_images m_hasImage m_tape m_taped m_faultKind m_faultPlace w)) := by
  refine XMet.of (L := [some (.ref (ρ 0)), none, none]) hG (by decide +kernel) (Nat.le_of_ble_eq_true rfl) rfl (fun K C E => ?_)
  have h4 := hW.r (k := 4) (by omega) (by omega)
  refine r_aload_0 C dX5_lasts_0 ?_
  refine r_cV0i C (c_X5_isGrid hG (by unfold inR; omega)) (q0 := 0) rfl rfl q1638 pkX5_isGrid dX5_lasts_1 (fun z w h => ?_)
  obtain ⟨rfl, rfl⟩ := h
  refine r_ifneB (tgt := 10) C dX5_lasts_4 (by decide) (fun c_4 => ?_) (fun c_4 => ?_)
  · skip
    have hd := hW.gd4 c_4
    have hsu := wSu_in hd
    have key : ∀ (f : Nat) (n : Int) (w e un no ce : Int → Int) (sm ds um wh : Int), Gd w → AgO m_world w → wSu w < f → 0 ≤ n → n + f ≤ 100 → las f w n = las 49 m_world 0 → AW g K (wM g ρ m_thrown (w) m_fresh m_waysBack m_acts m_images m_hasImage (e) (sm) m_tape m_taped m_five m_size m_at m_from m_token m_value m_faultKind m_faultPlace m_budgetsTold m_loadsTold (ds) (un) (no) (um) (ce) (wh) m_ordered m_drawnBy m_left (ov m_world m_aside) m_bestDead m_bestAbove m_bestBelow m_widened m_widenedMany m_fewOf m_drawing ++ ex) 0 0 21 [some (.ref (ρ 0)), some (.int (jI n)), some (.int (jI (if wHo w = true then 1 else 0)))] [] := by
      intro f
      induction f with
      | zero =>
        intro n w e un no ce sm ds um wh hdw hag hf
        have := wSu_in hdw
        omega
      | succ f ih =>
        intro n w e un no ce sm ds um wh hdw hag hf hn0 hnf hl
        rw [las] at hl
        have hwe := wWe_in hdw
        refine r_iload_2 C dX5_lasts_21 ?_
        refine r_ifeqB (tgt := 43) C dX5_lasts_22 (by decide) (fun c_22 => ?_) (fun c_22 => ?_)
        · skip
          refine r_aload_0 C dX5_lasts_43 ?_
          refine r_cV0v C (c_X5_takesOut hG) (q0 := 0) rfl rfl q1879 pkX5_takesOut dX5_lasts_44 (fun w h => ?_)
          subst h
          first
            | rw [ov_back (AgO.age hdw hag)]
            | rw [ov_back hag]
          refine r_iload_2 C dX5_lasts_47 ?_
          refine r_ifeqB (tgt := 55) C dX5_lasts_48 (by decide) (fun c_48 => ?_) (fun c_48 => ?_)
          · skip
            refine r_iload_1 C dX5_lasts_55 ?_
            refine r_ireturn C E dX5_lasts_56 ?_
            first
              | (exact absurd c_48 c_22)
              | (exact absurd c_22 c_48)
              | (refine ⟨_, rfl, ?_, PubM.mk⟩
                 unfold spLasts
                 rw [if_pos c_4, ← hl]
                 first
                   | rw [if_pos c_22, if_pos c_29]
                   | rw [if_neg c_22])
          · skip
            refine r_iconst C dX5_lasts_51 ?_
            refine r_goto (tgt := 56) C dX5_lasts_52 (by decide) ?_
            refine r_ireturn C E dX5_lasts_56 ?_
            first
              | (exact absurd c_48 c_22)
              | (exact absurd c_22 c_48)
              | (refine ⟨_, rfl, ?_, PubM.mk⟩
                 unfold spLasts
                 rw [if_pos c_4, ← hl]
                 first
                   | rw [if_pos c_22, if_pos c_29]
                   | rw [if_neg c_22])
        · skip
          refine r_aload_0 C dX5_lasts_25 ?_
          refine r_cV0i C (c_X5_ages hG hdw) (q0 := 0) rfl rfl q1875 pkX5_ages dX5_lasts_26 (fun z w h => ?_)
          obtain ⟨rfl, e, sm, ds, un, no, um, ce, wh, -, -, rfl⟩ := h
          refine r_ifeq (tgt := 43) C dX5_lasts_29 (by decide) (fun c_29 => ?_) (fun c_29 => ?_)
          · skip
            refine r_aload_0 C dX5_lasts_43 ?_
            refine r_cV0v C (c_X5_takesOut hG) (q0 := 0) rfl rfl q1879 pkX5_takesOut dX5_lasts_44 (fun w h => ?_)
            subst h
            first
              | rw [ov_back (AgO.age hdw hag)]
              | rw [ov_back hag]
            refine r_iload_2 C dX5_lasts_47 ?_
            refine r_ifeqB (tgt := 55) C dX5_lasts_48 (by decide) (fun c_48 => ?_) (fun c_48 => ?_)
            · skip
              refine r_iload_1 C dX5_lasts_55 ?_
              refine r_ireturn C E dX5_lasts_56 ?_
              first
                | (exact absurd c_48 c_22)
                | (exact absurd c_22 c_48)
                | (refine ⟨_, rfl, ?_, PubM.mk⟩
                   unfold spLasts
                   rw [if_pos c_4, ← hl]
                   first
                     | rw [if_pos c_22, if_pos c_29]
                     | rw [if_neg c_22])
            · skip
              refine r_iconst C dX5_lasts_51 ?_
              refine r_goto (tgt := 56) C dX5_lasts_52 (by decide) ?_
              refine r_ireturn C E dX5_lasts_56 ?_
              first
                | (exact absurd c_48 c_22)
                | (exact absurd c_22 c_48)
                | (refine ⟨_, rfl, ?_, PubM.mk⟩
                   unfold spLasts
                   rw [if_pos c_4, ← hl]
                   first
                     | rw [if_pos c_22, if_pos c_29]
                     | rw [if_neg c_22])
          · skip
            refine r_iinc_1 C dX5_lasts_32 ?_
            refine r_aload_0 C dX5_lasts_35 ?_
            refine r_cV0i C (c_X5_doesHold hG hdw.age) (q0 := 0) rfl rfl q1770 pkX5_doesHold dX5_lasts_36 (fun z w h => ?_)
            obtain ⟨rfl, e, un, no, ce, -, -, rfl⟩ := h
            refine r_istore_2 C dX5_lasts_39 ?_
            refine r_goto (tgt := 21) C dX5_lasts_40 (by decide) ?_
            rw [if_pos c_22, if_neg c_29] at hl
            exact ih (n + 1) (wAge w) _ _ _ _ _ _ _ _ hdw.age (AgO.age hdw hag) (by have := wSu_age hdw c_29; omega) (by omega) (by omega) hl
    refine r_aload_0 C dX5_lasts_10 ?_
    refine r_cV0v C (c_X5_puts hG) (q0 := 0) rfl rfl q1871 pkX5_puts dX5_lasts_11 (fun w h => ?_)
    subst h
    refine r_iconst C dX5_lasts_14 ?_
    refine r_istore_1 C dX5_lasts_15 ?_
    refine r_aload_0 C dX5_lasts_16 ?_
    refine r_cV0i C (c_X5_doesHold hG hd) (q0 := 0) rfl rfl q1770 pkX5_doesHold dX5_lasts_17 (fun z w h => ?_)
    obtain ⟨rfl, e, un, no, ce, -, -, rfl⟩ := h
    refine r_istore_2 C dX5_lasts_20 ?_
    exact key 49 0 m_world _ _ _ _ _ _ _ _ hd AgO.rf (by omega) (by omega) (by omega) rfl
  · skip
    refine r_bipush C dX5_lasts_7 ?_
    refine r_ireturn C E dX5_lasts_9 ?_
    exact ⟨_, rfl, by simp [spLasts, *], PubM.mk⟩
theorem c_X5_worn (hG : Gok g) {k : Int} (hk : inR k) (hW : WF m_world) : XMet g yX5_worn cX5_worn 4 (some .int) 7 0 0 [.ref (ρ 0), .int (jI k)] (wM g ρ m_thrown m_world m_fresh m_waysBack m_acts m_images m_hasImage m_endOf m_strapMany m_tape m_taped m_five m_size m_at m_from m_token m_value m_faultKind m_faultPlace m_budgetsTold m_loadsTold m_deadSet m_unknownOf m_nodeOf m_unknowns m_cells m_whole m_ordered m_drawnBy m_left m_aside m_bestDead m_bestAbove m_bestBelow m_widened m_widenedMany m_fewOf m_drawing ++ ex) (pI (fun z w => z = spWorn m_world k ∧ PubM g ρ ex m_world m_waysBack m_acts m_images m_hasImage m_tape m_taped m_faultKind m_faultPlace w)) := by
  refine XMet.of (L := [some (.ref (ρ 0)), some (.int (jI k)), none, none]) hG (by decide +kernel) (Nat.le_of_ble_eq_true rfl) rfl (fun K C E => ?_)
  refine r_aload_0 C dX5_worn_0 ?_
  refine r_iload_1 C dX5_worn_1 ?_
  refine r_cV1i C (c_X5_isStrapW hG hk hW) (q0 := 0) rfl rfl q1677 pkX5_isStrap dX5_worn_2 (fun z w h => ?_)
  obtain ⟨rfl, e, sm, -, rfl⟩ := h
  refine r_ifneB (tgt := 11) C dX5_worn_5 (by decide) (fun c_5 => ?_) (fun c_5 => ?_)
  · skip
    have hd := hW.gdk c_5
    have hkk := isKb_in c_5
    have hsu := wSu_in hd
    have hs := hd.s
    have key : ∀ (f : Nat) (n : Int) (w e un no ce : Int → Int) (sm ds um wh : Int), Gd w → AgO m_world w → wSu w < f → 0 ≤ n → n + f ≤ 100 → wor k f w n = wor k 49 m_world 0 → AW g K (wM g ρ m_thrown (w) m_fresh m_waysBack m_acts m_images m_hasImage (e) (sm) m_tape m_taped m_five m_size m_at m_from m_token m_value m_faultKind m_faultPlace m_budgetsTold m_loadsTold (ds) (un) (no) (um) (ce) (wh) m_ordered m_drawnBy m_left (ov m_world m_aside) m_bestDead m_bestAbove m_bestBelow m_widened m_widenedMany m_fewOf m_drawing ++ ex) 0 0 17 [some (.ref (ρ 0)), some (.int (jI k)), some (.int (jI n)), none] [] := by
      intro f
      induction f with
      | zero =>
        intro n w e un no ce sm ds um wh hdw hag hf
        have := wSu_in hdw
        omega
      | succ f ih =>
        intro n w e un no ce sm ds um wh hdw hag hf hn0 hnf hl
        rw [wor] at hl
        have hwe := wWe_in hdw
        have hwk := hdw.wd k hkk.1 (by omega)
        unfold wWd at hwk
        refine r_aload_0 C dX5_worn_17 ?_
        refine gM_world C q1386 dX5_worn_18 ?_
        refine r_bipush C dX5_worn_21 ?_
        refine r_iload_1 C dX5_worn_23 ?_
        refine r_iadd C dX5_worn_24 ?_
        refine ldM_world C dX5_worn_25 ?_
        refine r_ifle (tgt := 42) C dX5_worn_26 (by decide) (fun c_26 => ?_) (fun c_26 => ?_)
        · skip
          first
            | rw [wAge_0 c_33]
            | skip
          refine r_aload_0 C dX5_worn_42 ?_
          refine gM_world C q1386 dX5_worn_43 ?_
          refine r_bipush C dX5_worn_46 ?_
          refine r_iload_1 C dX5_worn_48 ?_
          refine r_iadd C dX5_worn_49 ?_
          refine ldM_world C dX5_worn_50 ?_
          refine r_ifne (tgt := 58) C dX5_worn_51 (by decide) (fun c_51 => ?_) (fun c_51 => ?_)
          · skip
            refine r_iconst C dX5_worn_58 ?_
            refine r_istore_3 C dX5_worn_59 ?_
            refine r_aload_0 C dX5_worn_60 ?_
            refine r_cV0v C (c_X5_takesOut hG) (q0 := 0) rfl rfl q1879 pkX5_takesOut dX5_worn_61 (fun w h => ?_)
            subst h
            rw [ov_back hag]
            refine r_iload_3 C dX5_worn_64 ?_
            refine r_ifeq (tgt := 72) C dX5_worn_65 (by decide) (fun c_65 => ?_) (fun c_65 => ?_)
            · skip
              refine r_iconst C dX5_worn_72 ?_
              refine r_ireturn C E dX5_worn_73 ?_
              first
                | (exfalso; omega)
                | (refine ⟨_, rfl, ?_, PubM.mk⟩
                   unfold spWorn
                   rw [if_pos c_5, ← hl]
                   first
                     | rw [if_pos c_26, if_pos c_33]
                     | rw [if_neg (by omega)])
            · skip
              refine r_iload_2 C dX5_worn_68 ?_
              refine r_goto (tgt := 73) C dX5_worn_69 (by decide) ?_
              refine r_ireturn C E dX5_worn_73 ?_
              first
                | (exfalso; omega)
                | (refine ⟨_, rfl, ?_, PubM.mk⟩
                   unfold spWorn
                   rw [if_pos c_5, ← hl]
                   first
                     | rw [if_pos c_26, if_pos c_33]
                     | rw [if_neg (by omega)])
          · skip
            refine r_iconst C dX5_worn_54 ?_
            refine r_goto (tgt := 59) C dX5_worn_55 (by decide) ?_
            refine r_istore_3 C dX5_worn_59 ?_
            refine r_aload_0 C dX5_worn_60 ?_
            refine r_cV0v C (c_X5_takesOut hG) (q0 := 0) rfl rfl q1879 pkX5_takesOut dX5_worn_61 (fun w h => ?_)
            subst h
            rw [ov_back hag]
            refine r_iload_3 C dX5_worn_64 ?_
            refine r_ifeq (tgt := 72) C dX5_worn_65 (by decide) (fun c_65 => ?_) (fun c_65 => ?_)
            · skip
              refine r_iconst C dX5_worn_72 ?_
              refine r_ireturn C E dX5_worn_73 ?_
              first
                | (exfalso; omega)
                | (refine ⟨_, rfl, ?_, PubM.mk⟩
                   unfold spWorn
                   rw [if_pos c_5, ← hl]
                   first
                     | rw [if_pos c_26, if_pos c_33]
                     | rw [if_neg (by omega)])
            · skip
              refine r_iload_2 C dX5_worn_68 ?_
              refine r_goto (tgt := 73) C dX5_worn_69 (by decide) ?_
              refine r_ireturn C E dX5_worn_73 ?_
              first
                | (exfalso; omega)
                | (refine ⟨_, rfl, ?_, PubM.mk⟩
                   unfold spWorn
                   rw [if_pos c_5, ← hl]
                   first
                     | rw [if_pos c_26, if_pos c_33]
                     | rw [if_neg (by omega)])
        · skip
          refine r_aload_0 C dX5_worn_29 ?_
          refine r_cV0i C (c_X5_ages hG hdw) (q0 := 0) rfl rfl q1875 pkX5_ages dX5_worn_30 (fun z w h => ?_)
          obtain ⟨rfl, e, sm, ds, un, no, um, ce, wh, -, -, rfl⟩ := h
          refine r_ifeq (tgt := 42) C dX5_worn_33 (by decide) (fun c_33 => ?_) (fun c_33 => ?_)
          · skip
            first
              | rw [wAge_0 c_33]
              | skip
            refine r_aload_0 C dX5_worn_42 ?_
            refine gM_world C q1386 dX5_worn_43 ?_
            refine r_bipush C dX5_worn_46 ?_
            refine r_iload_1 C dX5_worn_48 ?_
            refine r_iadd C dX5_worn_49 ?_
            refine ldM_world C dX5_worn_50 ?_
            refine r_ifne (tgt := 58) C dX5_worn_51 (by decide) (fun c_51 => ?_) (fun c_51 => ?_)
            · skip
              refine r_iconst C dX5_worn_58 ?_
              refine r_istore_3 C dX5_worn_59 ?_
              refine r_aload_0 C dX5_worn_60 ?_
              refine r_cV0v C (c_X5_takesOut hG) (q0 := 0) rfl rfl q1879 pkX5_takesOut dX5_worn_61 (fun w h => ?_)
              subst h
              rw [ov_back hag]
              refine r_iload_3 C dX5_worn_64 ?_
              refine r_ifeq (tgt := 72) C dX5_worn_65 (by decide) (fun c_65 => ?_) (fun c_65 => ?_)
              · skip
                refine r_iconst C dX5_worn_72 ?_
                refine r_ireturn C E dX5_worn_73 ?_
                first
                  | (exfalso; omega)
                  | (refine ⟨_, rfl, ?_, PubM.mk⟩
                     unfold spWorn
                     rw [if_pos c_5, ← hl]
                     first
                       | rw [if_pos c_26, if_pos c_33]
                       | rw [if_neg (by omega)])
              · skip
                refine r_iload_2 C dX5_worn_68 ?_
                refine r_goto (tgt := 73) C dX5_worn_69 (by decide) ?_
                refine r_ireturn C E dX5_worn_73 ?_
                first
                  | (exfalso; omega)
                  | (refine ⟨_, rfl, ?_, PubM.mk⟩
                     unfold spWorn
                     rw [if_pos c_5, ← hl]
                     first
                       | rw [if_pos c_26, if_pos c_33]
                       | rw [if_neg (by omega)])
            · skip
              refine r_iconst C dX5_worn_54 ?_
              refine r_goto (tgt := 59) C dX5_worn_55 (by decide) ?_
              refine r_istore_3 C dX5_worn_59 ?_
              refine r_aload_0 C dX5_worn_60 ?_
              refine r_cV0v C (c_X5_takesOut hG) (q0 := 0) rfl rfl q1879 pkX5_takesOut dX5_worn_61 (fun w h => ?_)
              subst h
              rw [ov_back hag]
              refine r_iload_3 C dX5_worn_64 ?_
              refine r_ifeq (tgt := 72) C dX5_worn_65 (by decide) (fun c_65 => ?_) (fun c_65 => ?_)
              · skip
                refine r_iconst C dX5_worn_72 ?_
                refine r_ireturn C E dX5_worn_73 ?_
                first
                  | (exfalso; omega)
                  | (refine ⟨_, rfl, ?_, PubM.mk⟩
                     unfold spWorn
                     rw [if_pos c_5, ← hl]
                     first
                       | rw [if_pos c_26, if_pos c_33]
                       | rw [if_neg (by omega)])
              · skip
                refine r_iload_2 C dX5_worn_68 ?_
                refine r_goto (tgt := 73) C dX5_worn_69 (by decide) ?_
                refine r_ireturn C E dX5_worn_73 ?_
                first
                  | (exfalso; omega)
                  | (refine ⟨_, rfl, ?_, PubM.mk⟩
                     unfold spWorn
                     rw [if_pos c_5, ← hl]
                     first
                       | rw [if_pos c_26, if_pos c_33]
                       | rw [if_neg (by omega)])
          · skip
            refine r_iinc_2 C dX5_worn_36 ?_
            refine r_goto (tgt := 17) C dX5_worn_39 (by decide) ?_
            rw [if_pos c_26, if_neg c_33] at hl
            exact ih (n + 1) (wAge w) _ _ _ _ _ _ _ _ hdw.age (AgO.age hdw hag) (by have := wSu_age hdw c_33; omega) (by omega) (by omega) hl
    refine r_aload_0 C dX5_worn_11 ?_
    refine r_cV0v C (c_X5_puts hG) (q0 := 0) rfl rfl q1871 pkX5_puts dX5_worn_12 (fun w h => ?_)
    subst h
    refine r_iconst C dX5_worn_15 ?_
    refine r_istore_2 C dX5_worn_16 ?_
    exact key 49 0 m_world _ _ _ _ _ _ _ _ hd AgO.rf (by omega) (by omega) (by omega) rfl
  · skip
    refine r_bipush C dX5_worn_8 ?_
    refine r_ireturn C E dX5_worn_10 ?_
    exact ⟨_, rfl, by simp [spWorn, *], PubM.mk⟩
theorem c_X5_calms (hG : Gok g) (hW : WF m_world) : XMet g yX5_calms cX5_calms 2 (some .int) 7 0 0 [.ref (ρ 0)] (wM g ρ m_thrown m_world m_fresh m_waysBack m_acts m_images m_hasImage m_endOf m_strapMany m_tape m_taped m_five m_size m_at m_from m_token m_value m_faultKind m_faultPlace m_budgetsTold m_loadsTold m_deadSet m_unknownOf m_nodeOf m_unknowns m_cells m_whole m_ordered m_drawnBy m_left m_aside m_bestDead m_bestAbove m_bestBelow m_widened m_widenedMany m_fewOf m_drawing ++ ex) (pI (fun z w => z = spCalms m_world ∧ PubM g ρ ex m_world m_waysBack m_acts m_images m_hasImage m_tape m_taped m_faultKind m_faultPlace w)) := by
  refine XMet.of (L := [some (.ref (ρ 0)), none]) hG (by decide +kernel) (Nat.le_of_ble_eq_true rfl) rfl (fun K C E => ?_)
  have h4 := hW.r (k := 4) (by omega) (by omega)
  refine r_aload_0 C dX5_calms_0 ?_
  refine r_cV0i C (c_X5_isGrid hG (by unfold inR; omega)) (q0 := 0) rfl rfl q1638 pkX5_isGrid dX5_calms_1 (fun z w h => ?_)
  obtain ⟨rfl, rfl⟩ := h
  refine r_ifneB (tgt := 10) C dX5_calms_4 (by decide) (fun c_4 => ?_) (fun c_4 => ?_)
  · skip
    have hd := hW.gd4 c_4
    have hsu := wSu_in hd
    have key : ∀ (f : Nat) (n : Int) (w e un no ce : Int → Int) (sm ds um wh : Int), Gd w → AgO m_world w → wSu w < f → 0 ≤ n → n + f ≤ 100 → cal f w n = cal 49 m_world 0 → AW g K (wM g ρ m_thrown (w) m_fresh m_waysBack m_acts m_images m_hasImage (e) (sm) m_tape m_taped m_five m_size m_at m_from m_token m_value m_faultKind m_faultPlace m_budgetsTold m_loadsTold (ds) (un) (no) (um) (ce) (wh) m_ordered m_drawnBy m_left (ov m_world m_aside) m_bestDead m_bestAbove m_bestBelow m_widened m_widenedMany m_fewOf m_drawing ++ ex) 0 0 16 [some (.ref (ρ 0)), some (.int (jI n))] [] := by
      intro f
      induction f with
      | zero =>
        intro n w e un no ce sm ds um wh hdw hag hf
        have := wSu_in hdw
        omega
      | succ f ih =>
        intro n w e un no ce sm ds um wh hdw hag hf hn0 hnf hl
        rw [cal] at hl
        have hwe := wWe_in hdw
        refine r_aload_0 C dX5_calms_16 ?_
        refine r_cV0i C (c_X5_ages hG hdw) (q0 := 0) rfl rfl q1875 pkX5_ages dX5_calms_17 (fun z w h => ?_)
        obtain ⟨rfl, e, sm, ds, un, no, um, ce, wh, -, -, rfl⟩ := h
        refine r_ifeq (tgt := 29) C dX5_calms_20 (by decide) (fun c_20 => ?_) (fun c_20 => ?_)
        · skip
          refine r_aload_0 C dX5_calms_29 ?_
          refine r_cV0v C (c_X5_takesOut hG) (q0 := 0) rfl rfl q1879 pkX5_takesOut dX5_calms_30 (fun w h => ?_)
          subst h
          rw [ov_back (AgO.age hdw hag)]
          refine r_iload_1 C dX5_calms_33 ?_
          refine r_ireturn C E dX5_calms_34 ?_
          refine ⟨_, rfl, ?_, PubM.mk⟩
          unfold spCalms
          rw [if_pos c_4, ← hl, if_pos c_20]
        · skip
          refine r_iinc_1 C dX5_calms_23 ?_
          refine r_goto (tgt := 16) C dX5_calms_26 (by decide) ?_
          rw [if_neg c_20] at hl
          exact ih (n + 1) (wAge w) _ _ _ _ _ _ _ _ hdw.age (AgO.age hdw hag) (by have := wSu_age hdw c_20; omega) (by omega) (by omega) hl
    refine r_aload_0 C dX5_calms_10 ?_
    refine r_cV0v C (c_X5_puts hG) (q0 := 0) rfl rfl q1871 pkX5_puts dX5_calms_11 (fun w h => ?_)
    subst h
    refine r_iconst C dX5_calms_14 ?_
    refine r_istore_1 C dX5_calms_15 ?_
    exact key 49 0 m_world _ _ _ _ _ _ _ _ hd AgO.rf (by omega) (by omega) (by omega) rfl
  · skip
    refine r_bipush C dX5_calms_7 ?_
    refine r_ireturn C E dX5_calms_9 ?_
    exact ⟨_, rfl, by simp [spCalms, *], PubM.mk⟩
end M11

