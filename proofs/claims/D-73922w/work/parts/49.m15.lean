section M15
variable {g : GX} {ρ : Nat → Nat} {ex : va_W}
variable {m_thrown : Int} {m_world : Int → Int} {m_fresh : Int → Int} {m_waysBack : Int → Int} {m_acts : Int} {m_images : Int → Int} {m_hasImage : Int → Int} {m_endOf : Int → Int} {m_strapMany : Int} {m_tape : Int → Int} {m_taped : Int} {m_five : Int → Int} {m_size : Int} {m_at : Int} {m_from : Int} {m_token : Int} {m_value : Int} {m_faultKind : Int} {m_faultPlace : Int} {m_budgetsTold : Int} {m_loadsTold : Int} {m_deadSet : Int} {m_unknownOf : Int → Int} {m_nodeOf : Int → Int} {m_unknowns : Int} {m_cells : Int → Int} {m_whole : Int} {m_ordered : Int → Int} {m_drawnBy : Int → Int} {m_left : Int → Int} {m_aside : Int → Int} {m_bestDead : Int} {m_bestAbove : Int} {m_bestBelow : Int} {m_widened : Int → Int} {m_widenedMany : Int} {m_fewOf : Int → Int} {m_drawing : Int}
theorem c_X5_chance (hG : Gok g) {sd n : Int} (hsd : inR sd) (hn : inR n) (hW : WF m_world) : XMet g yX5_chance cX5_chance 3 (some .int) 7 0 0 [.ref (ρ 0), .int (jI sd), .int (jI n)] (wM g ρ m_thrown m_world m_fresh m_waysBack m_acts m_images m_hasImage m_endOf m_strapMany m_tape m_taped m_five m_size m_at m_from m_token m_value m_faultKind m_faultPlace m_budgetsTold m_loadsTold m_deadSet m_unknownOf m_nodeOf m_unknowns m_cells m_whole m_ordered m_drawnBy m_left m_aside m_bestDead m_bestAbove m_bestBelow m_widened m_widenedMany m_fewOf m_drawing ++ ex) (pI (fun z w => z = spChance m_world sd n ∧ PubM g ρ ex m_world m_waysBack m_acts m_images m_hasImage m_tape m_taped m_faultKind m_faultPlace w)) := by
  refine XMet.of (L := [some (.ref (ρ 0)), some (.int (jI sd)), some (.int (jI n))]) hG (by decide +kernel) (Nat.le_of_ble_eq_true rfl) rfl (fun K C E => ?_)
  have h4 := hW.r (k := 4) (by omega) (by omega)
  have hs2 := hsd.2
  refine r_aload_0 C dX5_chance_0 ?_
  refine r_cV0i C (c_X5_isGrid hG (by unfold inR; omega)) (q0 := 0) rfl rfl q1638 pkX5_isGrid dX5_chance_1 (fun z w h => ?_)
  obtain ⟨rfl, rfl⟩ := h
  refine r_ifeqB (tgt := 32) C dX5_chance_4 (by decide) (fun c_4 => ?_) (fun c_4 => ?_)
  · skip
    refine r_bipush C dX5_chance_32 ?_
    refine r_ireturn C E dX5_chance_34 ?_
    refine ⟨_, rfl, ?_, PubM.mk⟩
    unfold spChance
    first
      | rw [if_pos (And.intro c_4 (And.intro c_8 c_20))]
      | rw [if_neg (fun q => c_4 q.1)]
      | rw [if_neg (fun q => c_20 q.2.2)]
      | rw [if_neg (by omega)]
  · skip
    refine r_iload_1 C dX5_chance_7 ?_
    refine r_iflt (tgt := 32) C dX5_chance_8 (by decide) (fun c_8 => ?_) (fun c_8 => ?_)
    · skip
      refine r_bipush C dX5_chance_32 ?_
      refine r_ireturn C E dX5_chance_34 ?_
      refine ⟨_, rfl, ?_, PubM.mk⟩
      unfold spChance
      first
        | rw [if_pos (And.intro c_4 (And.intro c_8 c_20))]
        | rw [if_neg (fun q => c_4 q.1)]
        | rw [if_neg (fun q => c_20 q.2.2)]
        | rw [if_neg (by omega)]
    · skip
      refine r_iload_2 C dX5_chance_11 ?_
      refine r_i2l C dX5_chance_12 ?_
      refine r_lconst1 C dX5_chance_13 ?_
      refine r_ldc2 C 100 q1870 dX5_chance_14 ?_
      refine r_cS3i C (c_X5_in hG (inR_L hn) (by unfold inL; omega) (by unfold inL; omega)) q1506 pkX5_in dX5_chance_17 (fun z w h => ?_)
      obtain ⟨rfl, rfl⟩ := h
      refine r_ifeqB (tgt := 32) C dX5_chance_20 (by decide) (fun c_20 => ?_) (fun c_20 => ?_)
      · skip
        refine r_bipush C dX5_chance_32 ?_
        refine r_ireturn C E dX5_chance_34 ?_
        refine ⟨_, rfl, ?_, PubM.mk⟩
        unfold spChance
        first
          | rw [if_pos (And.intro c_4 (And.intro c_8 c_20))]
          | rw [if_neg (fun q => c_4 q.1)]
          | rw [if_neg (fun q => c_20 q.2.2)]
          | rw [if_neg (by omega)]
      · skip
        have hd := hW.gd4 c_4
        refine r_aload_0 C dX5_chance_23 ?_
        refine r_iload_1 C dX5_chance_24 ?_
        refine r_iload_2 C dX5_chance_25 ?_
        refine r_cV2i C (c_X5_tries hG ⟨c_8, hs2⟩ c_20 hd) (q0 := 0) rfl rfl q2021 pkX5_tries dX5_chance_26 (fun z w h => ?_)
        obtain ⟨rfl, e, un, no, ce, sm, ds, um, wh, dr, ad, rfl⟩ := h
        refine r_goto (tgt := 34) C dX5_chance_29 (by decide) ?_
        refine r_ireturn C E dX5_chance_34 ?_
        refine ⟨_, rfl, ?_, PubM.mk⟩
        unfold spChance
        first
          | rw [if_pos (And.intro c_4 (And.intro c_8 c_20))]
          | rw [if_neg (fun q => c_4 q.1)]
          | rw [if_neg (fun q => c_20 q.2.2)]
          | rw [if_neg (by omega)]
theorem c_X5_luck (hG : Gok g) {sd n p : Int} (hsd : inR sd) (hn : inR n) (hp : inR p) (hW : WF m_world) : XMet g yX5_luck cX5_luck 4 (some .long) 7 0 0 [.ref (ρ 0), .int (jI sd), .int (jI n), .int (jI p)] (wM g ρ m_thrown m_world m_fresh m_waysBack m_acts m_images m_hasImage m_endOf m_strapMany m_tape m_taped m_five m_size m_at m_from m_token m_value m_faultKind m_faultPlace m_budgetsTold m_loadsTold m_deadSet m_unknownOf m_nodeOf m_unknowns m_cells m_whole m_ordered m_drawnBy m_left m_aside m_bestDead m_bestAbove m_bestBelow m_widened m_widenedMany m_fewOf m_drawing ++ ex) (pL (fun z w => z = spLuck m_world sd n p ∧ PubM g ρ ex m_world m_waysBack m_acts m_images m_hasImage m_tape m_taped m_faultKind m_faultPlace w)) := by
  refine XMet.of (L := [some (.ref (ρ 0)), some (.int (jI sd)), some (.int (jI n)), some (.int (jI p))]) hG (by decide +kernel) (Nat.le_of_ble_eq_true rfl) rfl (fun K C E => ?_)
  have h4 := hW.r (k := 4) (by omega) (by omega)
  have hs2 := hsd.2
  refine r_aload_0 C dX5_luck_0 ?_
  refine r_cV0i C (c_X5_isGrid hG (by unfold inR; omega)) (q0 := 0) rfl rfl q1638 pkX5_isGrid dX5_luck_1 (fun z w h => ?_)
  obtain ⟨rfl, rfl⟩ := h
  refine r_ifeqB (tgt := 30) C dX5_luck_4 (by decide) (fun c_4 => ?_) (fun c_4 => ?_)
  · skip
    refine r_ldc2 C (-2) q1709 dX5_luck_30 ?_
    refine r_lreturn C E dX5_luck_33 ?_
    refine ⟨_, rfl, ?_, PubM.mk⟩
    unfold spLuck
    first
      | rw [if_neg (fun q => c_4 q.1.1)]
      | rw [if_neg (fun q => c_20 q.1.2.2)]
      | rw [if_neg (fun q => c_27 q.2)]
      | rw [if_neg (by omega)]
  · skip
    refine r_iload_1 C dX5_luck_7 ?_
    refine r_iflt (tgt := 30) C dX5_luck_8 (by decide) (fun c_8 => ?_) (fun c_8 => ?_)
    · skip
      refine r_ldc2 C (-2) q1709 dX5_luck_30 ?_
      refine r_lreturn C E dX5_luck_33 ?_
      refine ⟨_, rfl, ?_, PubM.mk⟩
      unfold spLuck
      first
        | rw [if_neg (fun q => c_4 q.1.1)]
        | rw [if_neg (fun q => c_20 q.1.2.2)]
        | rw [if_neg (fun q => c_27 q.2)]
        | rw [if_neg (by omega)]
    · skip
      refine r_iload_2 C dX5_luck_11 ?_
      refine r_i2l C dX5_luck_12 ?_
      refine r_lconst1 C dX5_luck_13 ?_
      refine r_ldc2 C 100 q1870 dX5_luck_14 ?_
      refine r_cS3i C (c_X5_in hG (inR_L hn) (by unfold inL; omega) (by unfold inL; omega)) q1506 pkX5_in dX5_luck_17 (fun z w h => ?_)
      obtain ⟨rfl, rfl⟩ := h
      refine r_ifeqB (tgt := 30) C dX5_luck_20 (by decide) (fun c_20 => ?_) (fun c_20 => ?_)
      · skip
        refine r_ldc2 C (-2) q1709 dX5_luck_30 ?_
        refine r_lreturn C E dX5_luck_33 ?_
        refine ⟨_, rfl, ?_, PubM.mk⟩
        unfold spLuck
        first
          | rw [if_neg (fun q => c_4 q.1.1)]
          | rw [if_neg (fun q => c_20 q.1.2.2)]
          | rw [if_neg (fun q => c_27 q.2)]
          | rw [if_neg (by omega)]
      · skip
        refine r_iload_3 C dX5_luck_23 ?_
        refine r_cS1i C (c_X5_isPart hG hp) q1706 pkX5_isPart dX5_luck_24 (fun z w h => ?_)
        obtain ⟨rfl, rfl⟩ := h
        refine r_ifneB (tgt := 34) C dX5_luck_27 (by decide) (fun c_27 => ?_) (fun c_27 => ?_)
        · skip
          have hd := hW.gd4 c_4
          have hts := trS_ok hd ⟨c_8, hs2⟩ (show 0 ≤ n by omega)
          refine r_aload_0 C dX5_luck_34 ?_
          refine r_iload_1 C dX5_luck_35 ?_
          refine r_iload_2 C dX5_luck_36 ?_
          refine r_cV2i C (c_X5_tries hG ⟨c_8, hs2⟩ c_20 hd) (q0 := 0) rfl rfl q2021 pkX5_tries dX5_luck_37 (fun z w h => ?_)
          obtain ⟨rfl, e, un, no, ce, sm, ds, um, wh, dr, ad, rfl⟩ := h
          refine r_pop C dX5_luck_40 ?_
          refine r_aload_0 C dX5_luck_41 ?_
          refine gM_bestAbove C q1417 dX5_luck_42 ?_
          refine r_aload_0 C dX5_luck_45 ?_
          refine gM_bestBelow C q1418 dX5_luck_46 ?_
          refine r_iload_3 C dX5_luck_49 ?_
          refine r_cS3l C (c_X5_part hG (by omega) (by omega) hp (by omega)) q1719 pkX5_part dX5_luck_50 (fun z w h => ?_)
          obtain ⟨rfl, rfl⟩ := h
          refine r_lreturn C E dX5_luck_53 ?_
          refine ⟨_, rfl, ?_, PubM.mk⟩
          unfold spLuck
          rw [if_pos (And.intro (And.intro c_4 (And.intro c_8 c_20)) c_27)]
        · skip
          refine r_ldc2 C (-2) q1709 dX5_luck_30 ?_
          refine r_lreturn C E dX5_luck_33 ?_
          refine ⟨_, rfl, ?_, PubM.mk⟩
          unfold spLuck
          first
            | rw [if_neg (fun q => c_4 q.1.1)]
            | rw [if_neg (fun q => c_20 q.1.2.2)]
            | rw [if_neg (fun q => c_27 q.2)]
            | rw [if_neg (by omega)]
theorem c_X5_without (hG : Gok g) {k p : Int} (hk : inR k) (hp : inR p) (hW : WF m_world) : XMet g yX5_without cX5_without 6 (some .long) 6 0 0 [.ref (ρ 0), .int (jI k), .int (jI p)] (wM g ρ m_thrown m_world m_fresh m_waysBack m_acts m_images m_hasImage m_endOf m_strapMany m_tape m_taped m_five m_size m_at m_from m_token m_value m_faultKind m_faultPlace m_budgetsTold m_loadsTold m_deadSet m_unknownOf m_nodeOf m_unknowns m_cells m_whole m_ordered m_drawnBy m_left m_aside m_bestDead m_bestAbove m_bestBelow m_widened m_widenedMany m_fewOf m_drawing ++ ex) (pL (fun z w => z = spWithout m_world k p ∧ PubM g ρ ex m_world m_waysBack m_acts m_images m_hasImage m_tape m_taped m_faultKind m_faultPlace w)) := by
  refine XMet.of (L := [some (.ref (ρ 0)), some (.int (jI k)), some (.int (jI p)), none, none, none]) hG (by decide +kernel) (Nat.le_of_ble_eq_true rfl) rfl (fun K C E => ?_)
  refine r_aload_0 C dX5_without_0 ?_
  refine r_iload_1 C dX5_without_1 ?_
  refine r_cV1i C (c_X5_isStrapW hG hk hW) (q0 := 0) rfl rfl q1677 pkX5_isStrap dX5_without_2 (fun z w h => ?_)
  obtain ⟨rfl, e, sm, -, rfl⟩ := h
  refine r_ifeqB (tgt := 15) C dX5_without_5 (by decide) (fun c_5 => ?_) (fun c_5 => ?_)
  · skip
    refine r_ldc2 C (-2) q1709 dX5_without_15 ?_
    refine r_lreturn C E dX5_without_18 ?_
    exact ⟨_, rfl, by simp [spWithout, *], PubM.mk⟩
  · skip
    refine r_iload_2 C dX5_without_8 ?_
    refine r_cS1i C (c_X5_isPart hG hp) q1706 pkX5_isPart dX5_without_9 (fun z w h => ?_)
    obtain ⟨rfl, rfl⟩ := h
    refine r_ifneB (tgt := 19) C dX5_without_12 (by decide) (fun c_12 => ?_) (fun c_12 => ?_)
    · skip
      have hd := hW.gdk c_5
      have hkk := isKb_in c_5
      have hs := hd.s
      have hdv : Gd (aset m_world (28 + k) 0) := hd.w0 hkk.1 hkk.2
      have hmx := hdv.mx
      have hwh := hdv.who
      refine r_aload_0 C dX5_without_19 ?_
      refine gM_world C q1386 dX5_without_20 ?_
      refine r_bipush C dX5_without_23 ?_
      refine r_iload_1 C dX5_without_25 ?_
      refine r_iadd C dX5_without_26 ?_
      refine ldM_world C dX5_without_27 ?_
      refine r_istore_3 C dX5_without_28 ?_
      refine r_aload_0 C dX5_without_29 ?_
      refine gM_world C q1386 dX5_without_30 ?_
      refine r_bipush C dX5_without_33 ?_
      refine r_iload_1 C dX5_without_35 ?_
      refine r_iadd C dX5_without_36 ?_
      refine r_iconst C dX5_without_37 ?_
      refine stM_world C dX5_without_38 ?_
      refine r_aload_0 C dX5_without_39 ?_
      refine r_cV0v C (c_X5_lays hG hdv) (q0 := 0) rfl rfl q1646 pkX5_lays dX5_without_40 (fun w h => ?_)
      obtain ⟨e, un, no, ce, he, hS, rfl⟩ := h
      refine r_aload_0 C dX5_without_43 ?_
      refine r_cV0l C (c_X5_mostDrop hG hdv hS rfl) (q0 := 0) rfl rfl q1755 pkX5_mostDrop dX5_without_44 (fun z w h => ?_)
      obtain ⟨rfl, rfl⟩ := h
      refine r_aload_0 C dX5_without_47 ?_
      refine gM_whole C q1411 dX5_without_48 ?_
      refine r_iload_2 C dX5_without_51 ?_
      refine r_cS3l C (c_X5_part hG (by omega) (by omega) hp (by omega)) q1719 pkX5_part dX5_without_52 (fun z w h => ?_)
      obtain ⟨rfl, rfl⟩ := h
      refine r_lstore_4 C dX5_without_55 ?_
      refine r_aload_0 C dX5_without_57 ?_
      refine gM_world C q1386 dX5_without_58 ?_
      refine r_bipush C dX5_without_61 ?_
      refine r_iload_1 C dX5_without_63 ?_
      refine r_iadd C dX5_without_64 ?_
      refine r_iload_3 C dX5_without_65 ?_
      refine stM_world C dX5_without_66 ?_
      rw [aset_back]
      refine r_lload_4 C dX5_without_67 ?_
      refine r_lreturn C E dX5_without_69 ?_
      refine ⟨_, rfl, ?_, PubM.mk⟩
      unfold spWithout
      rw [c_5, c_12]
      rfl
    · skip
      refine r_ldc2 C (-2) q1709 dX5_without_15 ?_
      refine r_lreturn C E dX5_without_18 ?_
      exact ⟨_, rfl, by simp [spWithout, *], PubM.mk⟩
theorem c_X5_lost (hG : Gok g) {k : Int} (hk : inR k) (hW : WF m_world) : XMet g yX5_lost cX5_lost 3 (some .int) 6 0 0 [.ref (ρ 0), .int (jI k)] (wM g ρ m_thrown m_world m_fresh m_waysBack m_acts m_images m_hasImage m_endOf m_strapMany m_tape m_taped m_five m_size m_at m_from m_token m_value m_faultKind m_faultPlace m_budgetsTold m_loadsTold m_deadSet m_unknownOf m_nodeOf m_unknowns m_cells m_whole m_ordered m_drawnBy m_left m_aside m_bestDead m_bestAbove m_bestBelow m_widened m_widenedMany m_fewOf m_drawing ++ ex) (pI (fun z w => z = spLost m_world k ∧ PubM g ρ ex m_world m_waysBack m_acts m_images m_hasImage m_tape m_taped m_faultKind m_faultPlace w)) := by
  refine XMet.of (L := [some (.ref (ρ 0)), some (.int (jI k)), none]) hG (by decide +kernel) (Nat.le_of_ble_eq_true rfl) rfl (fun K C E => ?_)
  refine r_aload_0 C dX5_lost_0 ?_
  refine r_iload_1 C dX5_lost_1 ?_
  refine r_cV1i C (c_X5_isStrapW hG hk hW) (q0 := 0) rfl rfl q1677 pkX5_isStrap dX5_lost_2 (fun z w h => ?_)
  obtain ⟨rfl, e, sm, -, rfl⟩ := h
  refine r_ifneB (tgt := 11) C dX5_lost_5 (by decide) (fun c_5 => ?_) (fun c_5 => ?_)
  · skip
    have hd := hW.gdk c_5
    have hkk := isKb_in c_5
    have hs := hd.s
    have hdv : Gd (aset m_world (28 + k) 0) := hd.w0 hkk.1 hkk.2
    refine r_aload_0 C dX5_lost_11 ?_
    refine gM_world C q1386 dX5_lost_12 ?_
    refine r_bipush C dX5_lost_15 ?_
    refine r_iload_1 C dX5_lost_17 ?_
    refine r_iadd C dX5_lost_18 ?_
    refine ldM_world C dX5_lost_19 ?_
    refine r_istore_2 C dX5_lost_20 ?_
    refine r_aload_0 C dX5_lost_21 ?_
    refine gM_world C q1386 dX5_lost_22 ?_
    refine r_bipush C dX5_lost_25 ?_
    refine r_iload_1 C dX5_lost_27 ?_
    refine r_iadd C dX5_lost_28 ?_
    refine r_iconst C dX5_lost_29 ?_
    refine stM_world C dX5_lost_30 ?_
    refine r_aload_0 C dX5_lost_31 ?_
    refine r_cV0v C (c_X5_lays hG hdv) (q0 := 0) rfl rfl q1646 pkX5_lays dX5_lost_32 (fun w h => ?_)
    obtain ⟨e, un, no, ce, he, hS, rfl⟩ := h
    refine r_aload_0 C dX5_lost_35 ?_
    refine gM_world C q1386 dX5_lost_36 ?_
    refine r_bipush C dX5_lost_39 ?_
    refine r_iload_1 C dX5_lost_41 ?_
    refine r_iadd C dX5_lost_42 ?_
    refine r_iload_2 C dX5_lost_43 ?_
    refine stM_world C dX5_lost_44 ?_
    rw [aset_back]
    refine r_aload_0 C dX5_lost_45 ?_
    refine gM_deadSet C q1406 dX5_lost_46 ?_
    refine r_ireturn C E dX5_lost_49 ?_
    exact ⟨_, rfl, by unfold spLost; rw [if_pos c_5]; rfl, PubM.mk⟩
  · skip
    refine r_bipush C dX5_lost_8 ?_
    refine r_ireturn C E dX5_lost_10 ?_
    exact ⟨_, rfl, by simp [spLost, *], PubM.mk⟩
theorem c_X5_vital (hG : Gok g) (hW : WF m_world) : XMet g yX5_vital cX5_vital 4 (some .int) 6 0 0 [.ref (ρ 0)] (wM g ρ m_thrown m_world m_fresh m_waysBack m_acts m_images m_hasImage m_endOf m_strapMany m_tape m_taped m_five m_size m_at m_from m_token m_value m_faultKind m_faultPlace m_budgetsTold m_loadsTold m_deadSet m_unknownOf m_nodeOf m_unknowns m_cells m_whole m_ordered m_drawnBy m_left m_aside m_bestDead m_bestAbove m_bestBelow m_widened m_widenedMany m_fewOf m_drawing ++ ex) (pI (fun z w => z = spVital m_world ∧ PubM g ρ ex m_world m_waysBack m_acts m_images m_hasImage m_tape m_taped m_faultKind m_faultPlace w)) := by
  refine XMet.of (L := [some (.ref (ρ 0)), none, none, none]) hG (by decide +kernel) (Nat.le_of_ble_eq_true rfl) rfl (fun K C E => ?_)
  have h4 := hW.r (k := 4) (by omega) (by omega)
  refine r_aload_0 C dX5_vital_0 ?_
  refine r_cV0i C (c_X5_isGrid hG (by unfold inR; omega)) (q0 := 0) rfl rfl q1638 pkX5_isGrid dX5_vital_1 (fun z w h => ?_)
  obtain ⟨rfl, rfl⟩ := h
  refine r_ifneB (tgt := 10) C dX5_vital_4 (by decide) (fun c_4 => ?_) (fun c_4 => ?_)
  · skip
    have hd := hW.gd4 c_4
    have hs := hd.s
    have key : ∀ (mm : Nat), ∀ (k : Int) (s : Bst) (l3 : Option Value) (e un no ce : Int → Int) (sm ds um wh : Int), (0 ≤ k) → (k ≤ wS m_world) → (BsOk s) → (-1 ≤ s.1 ∧ s.1 < 12) → (s = wVi m_world k) → (wS m_world - k).toNat = mm → AW g K (wM g ρ m_thrown m_world m_fresh m_waysBack m_acts m_images m_hasImage (e) (sm) m_tape m_taped m_five m_size m_at m_from m_token m_value m_faultKind m_faultPlace m_budgetsTold m_loadsTold (ds) (un) (no) (um) (ce) (wh) m_ordered m_drawnBy m_left m_aside (s.2.1) (s.2.2.1) (s.2.2.2) m_widened m_widenedMany m_fewOf m_drawing ++ ex) 0 0 29 [some (.ref (ρ 0)), some (.int (jI s.1)), some (.int (jI k)), l3] [] := by
      intro mm
      induction mm using Nat.strongRecOn with
      | _ mm ih =>
      intro k s l3 e un no ce sm ds um wh hk0 hk hs0 hs1 es hm
      refine r_iload_2 C dX5_vital_29 ?_
      refine r_aload_0 C dX5_vital_30 ?_
      refine r_cV0i C (c_X5_straps hG hd.l hd.g) (q0 := 0) rfl rfl q1634 pkX5_straps dX5_vital_31 (fun z w h => ?_)
      obtain ⟨rfl, e, he, rfl⟩ := h
      refine r_topi (wS m_world) rfl ?_
      refine r_if_icmpge (tgt := 90) C dX5_vital_34 (by decide) (fun c_34 => ?_) (fun c_34 => ?_)
      · skip
        refine r_iload_1 C dX5_vital_90 ?_
        refine r_ireturn C E dX5_vital_91 ?_
        have e : k = wS m_world := by omega
        subst e
        exact ⟨_, rfl, by unfold spVital; rw [if_pos c_4, es], PubM.mk⟩
      · skip
        have hwk := hd.wd k hk0 (by omega)
        unfold wWd at hwk
        have hdv : Gd (aset m_world (28 + k) 0) := hd.w0 hk0 c_34
        have hsc := sc_in (w := aset m_world (28 + k) 0) (a := s.2.1) (b := s.2.2.1) (c := s.2.2.2)
        refine r_aload_0 C dX5_vital_37 ?_
        refine gM_world C q1386 dX5_vital_38 ?_
        refine r_bipush C dX5_vital_41 ?_
        refine r_iload_2 C dX5_vital_43 ?_
        refine r_iadd C dX5_vital_44 ?_
        refine ldM_world C dX5_vital_45 ?_
        refine r_istore_3 C dX5_vital_46 ?_
        refine r_aload_0 C dX5_vital_47 ?_
        refine gM_world C q1386 dX5_vital_48 ?_
        refine r_bipush C dX5_vital_51 ?_
        refine r_iload_2 C dX5_vital_53 ?_
        refine r_iadd C dX5_vital_54 ?_
        refine r_iconst C dX5_vital_55 ?_
        refine stM_world C dX5_vital_56 ?_
        refine r_iload_3 C dX5_vital_57 ?_
        refine r_ifle (tgt := 74) C dX5_vital_58 (by decide) (fun c_58 => ?_) (fun c_58 => ?_)
        · skip
          refine r_aload_0 C dX5_vital_74 ?_
          refine gM_world C q1386 dX5_vital_75 ?_
          refine r_bipush C dX5_vital_78 ?_
          refine r_iload_2 C dX5_vital_80 ?_
          refine r_iadd C dX5_vital_81 ?_
          refine r_iload_3 C dX5_vital_82 ?_
          refine stM_world C dX5_vital_83 ?_
          rw [aset_back]
          refine r_iinc_2 C dX5_vital_84 ?_
          refine r_goto (tgt := 29) C dX5_vital_87 (by decide) ?_
          first
            | (refine ih _ (show (wS m_world - (k + 1)).toNat < mm by omega) (k + 1) s _ _ _ _ _ _ _ _ _ (by omega) (by omega) hs0 hs1 ?_ rfl
               unfold wVi at es ⊢
               rw [foI_s _ _ hk0, ← es]
               unfold vsf w0
               rw [if_neg (by omega)])
            | (refine ih _ (show (wS m_world - (k + 1)).toNat < mm by omega) (k + 1) (k, wDl (aset m_world (28 + k) 0), wMx (aset m_world (28 + k) 0), wWh (aset m_world (28 + k) 0)) _ _ _ _ _ _ _ _ _ (by omega) (by omega) (bs_of hdv k) (by (try simp only); omega) ?_ rfl
               unfold wVi at es ⊢
               rw [foI_s _ _ hk0, ← es]
               unfold vsf w0
               rw [if_pos (And.intro c_58 c_65)])
        · skip
          refine r_aload_0 C dX5_vital_61 ?_
          refine r_cV0i C (c_X5_scores hG hdv hs0) (q0 := 0) rfl rfl q1907 pkX5_scores dX5_vital_62 (fun z w h => ?_)
          obtain ⟨rfl, e, un, no, ce, he, hS, rfl⟩ := h
          refine r_ifle (tgt := 74) C dX5_vital_65 (by decide) (fun c_65 => ?_) (fun c_65 => ?_)
          · skip
            refine r_aload_0 C dX5_vital_74 ?_
            refine gM_world C q1386 dX5_vital_75 ?_
            refine r_bipush C dX5_vital_78 ?_
            refine r_iload_2 C dX5_vital_80 ?_
            refine r_iadd C dX5_vital_81 ?_
            refine r_iload_3 C dX5_vital_82 ?_
            refine stM_world C dX5_vital_83 ?_
            rw [aset_back]
            refine r_iinc_2 C dX5_vital_84 ?_
            refine r_goto (tgt := 29) C dX5_vital_87 (by decide) ?_
            first
              | (refine ih _ (show (wS m_world - (k + 1)).toNat < mm by omega) (k + 1) s _ _ _ _ _ _ _ _ _ (by omega) (by omega) hs0 hs1 ?_ rfl
                 unfold wVi at es ⊢
                 rw [foI_s _ _ hk0, ← es]
                 unfold vsf w0
                 rw [if_neg (by omega)])
              | (refine ih _ (show (wS m_world - (k + 1)).toNat < mm by omega) (k + 1) (k, wDl (aset m_world (28 + k) 0), wMx (aset m_world (28 + k) 0), wWh (aset m_world (28 + k) 0)) _ _ _ _ _ _ _ _ _ (by omega) (by omega) (bs_of hdv k) (by (try simp only); omega) ?_ rfl
                 unfold wVi at es ⊢
                 rw [foI_s _ _ hk0, ← es]
                 unfold vsf w0
                 rw [if_pos (And.intro c_58 c_65)])
          · skip
            refine r_iload_2 C dX5_vital_68 ?_
            refine r_istore_1 C dX5_vital_69 ?_
            refine r_aload_0 C dX5_vital_70 ?_
            refine r_cV0v C (c_X5_keeps hG hdv rfl hS rfl) (q0 := 0) rfl rfl q1914 pkX5_keeps dX5_vital_71 (fun w h => ?_)
            subst h
            refine r_aload_0 C dX5_vital_74 ?_
            refine gM_world C q1386 dX5_vital_75 ?_
            refine r_bipush C dX5_vital_78 ?_
            refine r_iload_2 C dX5_vital_80 ?_
            refine r_iadd C dX5_vital_81 ?_
            refine r_iload_3 C dX5_vital_82 ?_
            refine stM_world C dX5_vital_83 ?_
            rw [aset_back]
            refine r_iinc_2 C dX5_vital_84 ?_
            refine r_goto (tgt := 29) C dX5_vital_87 (by decide) ?_
            first
              | (refine ih _ (show (wS m_world - (k + 1)).toNat < mm by omega) (k + 1) s _ _ _ _ _ _ _ _ _ (by omega) (by omega) hs0 hs1 ?_ rfl
                 unfold wVi at es ⊢
                 rw [foI_s _ _ hk0, ← es]
                 unfold vsf w0
                 rw [if_neg (by omega)])
              | (refine ih _ (show (wS m_world - (k + 1)).toNat < mm by omega) (k + 1) (k, wDl (aset m_world (28 + k) 0), wMx (aset m_world (28 + k) 0), wWh (aset m_world (28 + k) 0)) _ _ _ _ _ _ _ _ _ (by omega) (by omega) (bs_of hdv k) (by (try simp only); omega) ?_ rfl
                 unfold wVi at es ⊢
                 rw [foI_s _ _ hk0, ← es]
                 unfold vsf w0
                 rw [if_pos (And.intro c_58 c_65)])
    refine r_iconst C dX5_vital_10 ?_
    refine r_istore_1 C dX5_vital_11 ?_
    refine r_aload_0 C dX5_vital_12 ?_
    refine r_iconst C dX5_vital_13 ?_
    refine pM_bestDead C q1416 dX5_vital_14 ?_
    refine r_aload_0 C dX5_vital_17 ?_
    refine r_lconst0 C dX5_vital_18 ?_
    refine pM_bestAbove C q1417 dX5_vital_19 ?_
    refine r_aload_0 C dX5_vital_22 ?_
    refine r_lconst1 C dX5_vital_23 ?_
    refine pM_bestBelow C q1418 dX5_vital_24 ?_
    refine r_iconst C dX5_vital_27 ?_
    refine r_istore_2 C dX5_vital_28 ?_
    exact key _ 0 (-1, -1, 0, 1) _ _ _ _ _ _ _ _ _ (by omega) (by omega) (by unfold BsOk; simp) (by simp) rfl rfl
  · skip
    refine r_bipush C dX5_vital_7 ?_
    refine r_ireturn C E dX5_vital_9 ?_
    exact ⟨_, rfl, by simp [spVital, *], PubM.mk⟩
theorem c_X5_spare (hG : Gok g) (hW : WF m_world) : XMet g yX5_spare cX5_spare 4 (some .int) 6 0 0 [.ref (ρ 0)] (wM g ρ m_thrown m_world m_fresh m_waysBack m_acts m_images m_hasImage m_endOf m_strapMany m_tape m_taped m_five m_size m_at m_from m_token m_value m_faultKind m_faultPlace m_budgetsTold m_loadsTold m_deadSet m_unknownOf m_nodeOf m_unknowns m_cells m_whole m_ordered m_drawnBy m_left m_aside m_bestDead m_bestAbove m_bestBelow m_widened m_widenedMany m_fewOf m_drawing ++ ex) (pI (fun z w => z = spSpare m_world ∧ PubM g ρ ex m_world m_waysBack m_acts m_images m_hasImage m_tape m_taped m_faultKind m_faultPlace w)) := by
  refine XMet.of (L := [some (.ref (ρ 0)), none, none, none]) hG (by decide +kernel) (Nat.le_of_ble_eq_true rfl) rfl (fun K C E => ?_)
  have h4 := hW.r (k := 4) (by omega) (by omega)
  refine r_aload_0 C dX5_spare_0 ?_
  refine r_cV0i C (c_X5_isGrid hG (by unfold inR; omega)) (q0 := 0) rfl rfl q1638 pkX5_isGrid dX5_spare_1 (fun z w h => ?_)
  obtain ⟨rfl, rfl⟩ := h
  refine r_ifneB (tgt := 10) C dX5_spare_4 (by decide) (fun c_4 => ?_) (fun c_4 => ?_)
  · skip
    have hd := hW.gd4 c_4
    have hs := hd.s
    have key : ∀ (mm : Nat), ∀ (k s : Int) (l3 : Option Value) (e un no ce : Int → Int) (sm ds um wh : Int), (0 ≤ k) → (k ≤ wS m_world) → (0 ≤ s ∧ s < 4096) → (s = wSp m_world k) → (wS m_world - k).toNat = mm → AW g K (wM g ρ m_thrown m_world m_fresh m_waysBack m_acts m_images m_hasImage (e) (sm) m_tape m_taped m_five m_size m_at m_from m_token m_value m_faultKind m_faultPlace m_budgetsTold m_loadsTold (ds) (un) (no) (um) (ce) (wh) m_ordered m_drawnBy m_left m_aside m_bestDead m_bestAbove m_bestBelow m_widened m_widenedMany m_fewOf m_drawing ++ ex) 0 0 14 [some (.ref (ρ 0)), some (.int (jI s)), some (.int (jI k)), l3] [] := by
      intro mm
      induction mm using Nat.strongRecOn with
      | _ mm ih =>
      intro k s l3 e un no ce sm ds um wh hk0 hk hs0 es hm
      refine r_iload_2 C dX5_spare_14 ?_
      refine r_aload_0 C dX5_spare_15 ?_
      refine r_cV0i C (c_X5_straps hG hd.l hd.g) (q0 := 0) rfl rfl q1634 pkX5_straps dX5_spare_16 (fun z w h => ?_)
      obtain ⟨rfl, e, he, rfl⟩ := h
      refine r_topi (wS m_world) rfl ?_
      refine r_if_icmpge (tgt := 79) C dX5_spare_19 (by decide) (fun c_19 => ?_) (fun c_19 => ?_)
      · skip
        refine r_iload_1 C dX5_spare_79 ?_
        refine r_ireturn C E dX5_spare_80 ?_
        have e : k = wS m_world := by omega
        subst e
        exact ⟨_, rfl, by unfold spSpare; rw [if_pos c_4, es], PubM.mk⟩
      · skip
        have hwk := hd.wd k hk0 (by omega)
        unfold wWd at hwk
        have hdv : Gd (aset m_world (28 + k) 0) := hd.w0 hk0 c_19
        have hP := bsP_12 hk0 (show k < 12 by omega)
        have hP0 := bsP_0 (k := k)
        refine r_aload_0 C dX5_spare_22 ?_
        refine gM_world C q1386 dX5_spare_23 ?_
        refine r_bipush C dX5_spare_26 ?_
        refine r_iload_2 C dX5_spare_28 ?_
        refine r_iadd C dX5_spare_29 ?_
        refine ldM_world C dX5_spare_30 ?_
        refine r_istore_3 C dX5_spare_31 ?_
        refine r_aload_0 C dX5_spare_32 ?_
        refine gM_world C q1386 dX5_spare_33 ?_
        refine r_bipush C dX5_spare_36 ?_
        refine r_iload_2 C dX5_spare_38 ?_
        refine r_iadd C dX5_spare_39 ?_
        refine r_iconst C dX5_spare_40 ?_
        refine stM_world C dX5_spare_41 ?_
        refine r_iload_1 C dX5_spare_42 ?_
        refine r_iload_3 C dX5_spare_43 ?_
        refine r_ifle (tgt := 60) C dX5_spare_44 (by decide) (fun c_44 => ?_) (fun c_44 => ?_)
        · skip
          refine r_iconst C dX5_spare_60 ?_
          refine r_ior C (_) dX5_spare_61 (jI_or (by omega) (by omega)) ?_
          refine r_istore_1 C dX5_spare_62 ?_
          refine r_aload_0 C dX5_spare_63 ?_
          refine gM_world C q1386 dX5_spare_64 ?_
          refine r_bipush C dX5_spare_67 ?_
          refine r_iload_2 C dX5_spare_69 ?_
          refine r_iadd C dX5_spare_70 ?_
          refine r_iload_3 C dX5_spare_71 ?_
          refine stM_world C dX5_spare_72 ?_
          rw [aset_back]
          refine r_iinc_2 C dX5_spare_73 ?_
          refine r_goto (tgt := 14) C dX5_spare_76 (by decide) ?_
          refine ih _ (show (wS m_world - (k + 1)).toNat < mm by omega) (k + 1) _ _ _ _ _ _ _ _ _ _ (by omega) (by omega) ⟨bsO_0, bsO_4096 hs0.2 (by omega)⟩ ?_ rfl
          unfold wSp at es ⊢
          rw [foI_s _ _ hk0, ← es]
          unfold w0
          first
            | rw [if_pos (And.intro c_44 c_51)]
            | rw [if_neg (fun q => c_51 q.2), bsO_z hs0.1]
            | rw [if_neg (by omega), bsO_z hs0.1]
        · skip
          refine r_aload_0 C dX5_spare_47 ?_
          refine r_cV0i C (c_X5_doesHold hG hdv) (q0 := 0) rfl rfl q1770 pkX5_doesHold dX5_spare_48 (fun z w h => ?_)
          obtain ⟨rfl, e, un, no, ce, he, hS, rfl⟩ := h
          refine r_ifeqB (tgt := 60) C dX5_spare_51 (by decide) (fun c_51 => ?_) (fun c_51 => ?_)
          · skip
            refine r_iconst C dX5_spare_60 ?_
            refine r_ior C (_) dX5_spare_61 (jI_or (by omega) (by omega)) ?_
            refine r_istore_1 C dX5_spare_62 ?_
            refine r_aload_0 C dX5_spare_63 ?_
            refine gM_world C q1386 dX5_spare_64 ?_
            refine r_bipush C dX5_spare_67 ?_
            refine r_iload_2 C dX5_spare_69 ?_
            refine r_iadd C dX5_spare_70 ?_
            refine r_iload_3 C dX5_spare_71 ?_
            refine stM_world C dX5_spare_72 ?_
            rw [aset_back]
            refine r_iinc_2 C dX5_spare_73 ?_
            refine r_goto (tgt := 14) C dX5_spare_76 (by decide) ?_
            refine ih _ (show (wS m_world - (k + 1)).toNat < mm by omega) (k + 1) _ _ _ _ _ _ _ _ _ _ (by omega) (by omega) ⟨bsO_0, bsO_4096 hs0.2 (by omega)⟩ ?_ rfl
            unfold wSp at es ⊢
            rw [foI_s _ _ hk0, ← es]
            unfold w0
            first
              | rw [if_pos (And.intro c_44 c_51)]
              | rw [if_neg (fun q => c_51 q.2), bsO_z hs0.1]
              | rw [if_neg (by omega), bsO_z hs0.1]
          · skip
            refine r_iconst C dX5_spare_54 ?_
            refine r_iload_2 C dX5_spare_55 ?_
            refine r_ishl C (_) dX5_spare_56 (jI_shl (by omega) (by omega)) ?_
            refine r_goto (tgt := 61) C dX5_spare_57 (by decide) ?_
            refine r_ior C (_) dX5_spare_61 (jI_or (by omega) (by omega)) ?_
            refine r_istore_1 C dX5_spare_62 ?_
            refine r_aload_0 C dX5_spare_63 ?_
            refine gM_world C q1386 dX5_spare_64 ?_
            refine r_bipush C dX5_spare_67 ?_
            refine r_iload_2 C dX5_spare_69 ?_
            refine r_iadd C dX5_spare_70 ?_
            refine r_iload_3 C dX5_spare_71 ?_
            refine stM_world C dX5_spare_72 ?_
            rw [aset_back]
            refine r_iinc_2 C dX5_spare_73 ?_
            refine r_goto (tgt := 14) C dX5_spare_76 (by decide) ?_
            refine ih _ (show (wS m_world - (k + 1)).toNat < mm by omega) (k + 1) _ _ _ _ _ _ _ _ _ _ (by omega) (by omega) ⟨bsO_0, bsO_4096 hs0.2 (by omega)⟩ ?_ rfl
            unfold wSp at es ⊢
            rw [foI_s _ _ hk0, ← es]
            unfold w0
            first
              | rw [if_pos (And.intro c_44 c_51)]
              | rw [if_neg (fun q => c_51 q.2), bsO_z hs0.1]
              | rw [if_neg (by omega), bsO_z hs0.1]
    refine r_iconst C dX5_spare_10 ?_
    refine r_istore_1 C dX5_spare_11 ?_
    refine r_iconst C dX5_spare_12 ?_
    refine r_istore_2 C dX5_spare_13 ?_
    exact key _ 0 0 _ _ _ _ _ _ _ _ _ (by omega) (by omega) (by omega) rfl rfl
  · skip
    refine r_bipush C dX5_spare_7 ?_
    refine r_ireturn C E dX5_spare_9 ?_
    exact ⟨_, rfl, by simp [spSpare, *], PubM.mk⟩
theorem c_X5_room (hG : Gok g) {v : Int} (hv : inR v) (hW : WF m_world) : XMet g yX5_room cX5_room 4 (some .int) 6 0 0 [.ref (ρ 0), .int (jI v)] (wM g ρ m_thrown m_world m_fresh m_waysBack m_acts m_images m_hasImage m_endOf m_strapMany m_tape m_taped m_five m_size m_at m_from m_token m_value m_faultKind m_faultPlace m_budgetsTold m_loadsTold m_deadSet m_unknownOf m_nodeOf m_unknowns m_cells m_whole m_ordered m_drawnBy m_left m_aside m_bestDead m_bestAbove m_bestBelow m_widened m_widenedMany m_fewOf m_drawing ++ ex) (pI (fun z w => z = spRoom m_world v ∧ PubM g ρ ex m_world m_waysBack m_acts m_images m_hasImage m_tape m_taped m_faultKind m_faultPlace w)) := by
  refine XMet.of (L := [some (.ref (ρ 0)), some (.int (jI v)), none, none]) hG (by decide +kernel) (Nat.le_of_ble_eq_true rfl) rfl (fun K C E => ?_)
  have hn := hW.n
  refine r_aload_0 C dX5_room_0 ?_
  refine r_iload_1 C dX5_room_1 ?_
  refine r_cV1i C (c_X5_isNode hG (by assumption) hn) (q0 := 0) rfl rfl q1685 pkX5_isNode dX5_room_2 (fun z w h => ?_)
  obtain ⟨rfl, rfl⟩ := h
  refine r_ifneB (tgt := 11) C dX5_room_5 (by decide) (fun c_5 => ?_) (fun c_5 => ?_)
  · skip
    have hd := hW.gdb c_5
    have hvv := isNb_in c_5
    have key : ∀ (f : Nat) (e un no ce : Int → Int) (sm ds um wh : Int), f ≤ 100 → rmF m_world v f = rmF m_world v 100 → AW g K (wM g ρ m_thrown (aset m_world (6 + v) ((f : Int) - 1)) m_fresh m_waysBack m_acts m_images m_hasImage (e) (sm) m_tape m_taped m_five m_size m_at m_from m_token m_value m_faultKind m_faultPlace m_budgetsTold m_loadsTold (ds) (un) (no) (um) (ce) (wh) m_ordered m_drawnBy m_left m_aside m_bestDead m_bestAbove m_bestBelow m_widened m_widenedMany m_fewOf m_drawing ++ ex) 0 0 34 [some (.ref (ρ 0)), some (.int (jI v)), some (.int (jI (m_world (6 + v)))), some (.int (jI ((f : Int) - 1)))] [] := by
      intro f
      induction f with
      | zero =>
        intro e un no ce sm ds um wh hf hl
        refine r_iload_3 C dX5_room_34 ?_
        refine r_iflt (tgt := 61) C dX5_room_35 (by decide) (fun c_35 => ?_) (fun c_35 => ?_)
        · skip
          refine r_aload_0 C dX5_room_61 ?_
          refine gM_world C q1386 dX5_room_62 ?_
          refine r_bipush C dX5_room_65 ?_
          refine r_iload_1 C dX5_room_67 ?_
          refine r_iadd C dX5_room_68 ?_
          refine r_iload_2 C dX5_room_69 ?_
          refine stM_world C dX5_room_70 ?_
          rw [aset_back]
          refine r_iload_3 C dX5_room_71 ?_
          refine r_ireturn C E dX5_room_72 ?_
          refine ⟨_, rfl, ?_, PubM.mk⟩
          unfold spRoom
          rw [if_pos c_5, ← hl]
          rfl
        · skip
          omega
      | succ f ih =>
        intro e un no ce sm ds um wh hf hl
        rw [rmF] at hl
        rw [show ((f + 1 : Nat) : Int) - 1 = (f : Int) by omega]
        have hdv : Gd (aset m_world (6 + v) (f : Int)) := hd.load hvv.1 (by omega) (by omega)
        refine r_iload_3 C dX5_room_34 ?_
        refine r_iflt (tgt := 61) C dX5_room_35 (by decide) (fun c_35 => ?_) (fun c_35 => ?_)
        · skip
          refine r_aload_0 C dX5_room_61 ?_
          refine gM_world C q1386 dX5_room_62 ?_
          refine r_bipush C dX5_room_65 ?_
          refine r_iload_1 C dX5_room_67 ?_
          refine r_iadd C dX5_room_68 ?_
          refine r_iload_2 C dX5_room_69 ?_
          refine stM_world C dX5_room_70 ?_
          rw [aset_back]
          refine r_iload_3 C dX5_room_71 ?_
          refine r_ireturn C E dX5_room_72 ?_
          first
            | (exfalso; omega)
            | (rw [if_pos c_42] at hl
               refine ⟨_, rfl, ?_, PubM.mk⟩
               unfold spRoom
               rw [if_pos c_5, ← hl])
        · skip
          refine r_aload_0 C dX5_room_38 ?_
          refine r_cV0i C (c_X5_doesHold hG hdv) (q0 := 0) rfl rfl q1770 pkX5_doesHold dX5_room_39 (fun z w h => ?_)
          obtain ⟨rfl, e, un, no, ce, he, hS, rfl⟩ := h
          refine r_ifneB (tgt := 61) C dX5_room_42 (by decide) (fun c_42 => ?_) (fun c_42 => ?_)
          · skip
            refine r_aload_0 C dX5_room_61 ?_
            refine gM_world C q1386 dX5_room_62 ?_
            refine r_bipush C dX5_room_65 ?_
            refine r_iload_1 C dX5_room_67 ?_
            refine r_iadd C dX5_room_68 ?_
            refine r_iload_2 C dX5_room_69 ?_
            refine stM_world C dX5_room_70 ?_
            rw [aset_back]
            refine r_iload_3 C dX5_room_71 ?_
            refine r_ireturn C E dX5_room_72 ?_
            first
              | (exfalso; omega)
              | (rw [if_pos c_42] at hl
                 refine ⟨_, rfl, ?_, PubM.mk⟩
                 unfold spRoom
                 rw [if_pos c_5, ← hl])
          · skip
            refine r_iinc_3 C dX5_room_45 ?_
            refine r_aload_0 C dX5_room_48 ?_
            refine gM_world C q1386 dX5_room_49 ?_
            refine r_bipush C dX5_room_52 ?_
            refine r_iload_1 C dX5_room_54 ?_
            refine r_iadd C dX5_room_55 ?_
            refine r_iload_3 C dX5_room_56 ?_
            refine stM_world C dX5_room_57 ?_
            rw [aset_two]
            refine r_goto (tgt := 34) C dX5_room_58 (by decide) ?_
            rw [if_neg c_42] at hl
            exact ih _ _ _ _ _ _ _ _ (by omega) hl
    refine r_aload_0 C dX5_room_11 ?_
    refine gM_world C q1386 dX5_room_12 ?_
    refine r_bipush C dX5_room_15 ?_
    refine r_iload_1 C dX5_room_17 ?_
    refine r_iadd C dX5_room_18 ?_
    refine ldM_world C dX5_room_19 ?_
    refine r_istore_2 C dX5_room_20 ?_
    refine r_bipush C dX5_room_21 ?_
    refine r_istore_3 C dX5_room_23 ?_
    refine r_aload_0 C dX5_room_24 ?_
    refine gM_world C q1386 dX5_room_25 ?_
    refine r_bipush C dX5_room_28 ?_
    refine r_iload_1 C dX5_room_30 ?_
    refine r_iadd C dX5_room_31 ?_
    refine r_iload_3 C dX5_room_32 ?_
    refine stM_world C dX5_room_33 ?_
    exact key 100 _ _ _ _ _ _ _ _ (by omega) rfl
  · skip
    refine r_bipush C dX5_room_8 ?_
    refine r_ireturn C E dX5_room_10 ?_
    exact ⟨_, rfl, by simp [spRoom, *], PubM.mk⟩
theorem c_X5_isFull (hG : Gok g) (ha : 0 ≤ m_acts ∧ m_acts ≤ 20) : XMet g yX5_isFull cX5_isFull 1 (some .boolean) 0 0 0 [.ref (ρ 0)] (wM g ρ m_thrown m_world m_fresh m_waysBack m_acts m_images m_hasImage m_endOf m_strapMany m_tape m_taped m_five m_size m_at m_from m_token m_value m_faultKind m_faultPlace m_budgetsTold m_loadsTold m_deadSet m_unknownOf m_nodeOf m_unknowns m_cells m_whole m_ordered m_drawnBy m_left m_aside m_bestDead m_bestAbove m_bestBelow m_widened m_widenedMany m_fewOf m_drawing ++ ex) (pI (fun z w => z = (if m_acts = 20 then 1 else 0) ∧ w = (wM g ρ m_thrown m_world m_fresh m_waysBack m_acts m_images m_hasImage m_endOf m_strapMany m_tape m_taped m_five m_size m_at m_from m_token m_value m_faultKind m_faultPlace m_budgetsTold m_loadsTold m_deadSet m_unknownOf m_nodeOf m_unknowns m_cells m_whole m_ordered m_drawnBy m_left m_aside m_bestDead m_bestAbove m_bestBelow m_widened m_widenedMany m_fewOf m_drawing ++ ex))) := by
  refine XMet.of (L := [some (.ref (ρ 0))]) hG (by decide +kernel) (Nat.le_of_ble_eq_true rfl) rfl (fun K C E => ?_)
  refine r_aload_0 C dX5_isFull_0 ?_
  refine gM_acts C q1389 dX5_isFull_1 ?_
  refine r_bipush C dX5_isFull_4 ?_
  refine r_if_icmpne (tgt := 13) C dX5_isFull_6 (by decide) (fun c_6 => ?_) (fun c_6 => ?_)
  · skip
    refine r_iconst C dX5_isFull_13 ?_
    refine r_zreturn C E dX5_isFull_14 (by first | exact Or.inl rfl | exact Or.inr rfl | omega) ?_
    exact ⟨_, rfl, by simp [*], rfl⟩
  · skip
    refine r_iconst C dX5_isFull_9 ?_
    refine r_goto (tgt := 14) C dX5_isFull_10 (by decide) ?_
    refine r_zreturn C E dX5_isFull_14 (by first | exact Or.inl rfl | exact Or.inr rfl | omega) ?_
    exact ⟨_, rfl, by simp [*], rfl⟩
theorem c_X5_remembers (hG : Gok g) {kd an : Int} (ha : 0 ≤ m_acts ∧ m_acts < 20) : XMet g yX5_remembers cX5_remembers 4 none 0 0 0 [.ref (ρ 0), .int (jI kd), .int (jI an)] (wM g ρ m_thrown m_world m_fresh m_waysBack m_acts m_images m_hasImage m_endOf m_strapMany m_tape m_taped m_five m_size m_at m_from m_token m_value m_faultKind m_faultPlace m_budgetsTold m_loadsTold m_deadSet m_unknownOf m_nodeOf m_unknowns m_cells m_whole m_ordered m_drawnBy m_left m_aside m_bestDead m_bestAbove m_bestBelow m_widened m_widenedMany m_fewOf m_drawing ++ ex) (pV (fun w => w = (wM g ρ m_thrown m_world m_fresh (rmb m_world m_waysBack m_acts kd an) (m_acts + 1) m_images m_hasImage m_endOf m_strapMany m_tape m_taped m_five m_size m_at m_from m_token m_value m_faultKind m_faultPlace m_budgetsTold m_loadsTold m_deadSet m_unknownOf m_nodeOf m_unknowns m_cells m_whole m_ordered m_drawnBy m_left m_aside m_bestDead m_bestAbove m_bestBelow m_widened m_widenedMany m_fewOf m_drawing ++ ex))) := by
  refine XMet.of (L := [some (.ref (ρ 0)), some (.int (jI kd)), some (.int (jI an)), none]) hG (by decide +kernel) (Nat.le_of_ble_eq_true rfl) rfl (fun K C E => ?_)
  have key : ∀ (mm : Nat), ∀ (k : Int) (b : Int → Int), (0 ≤ k) → (k ≤ 40) → (∀ j, 0 ≤ j → j < k → b (42 * m_acts + j) = m_world j) → (∀ j, ¬ (42 * m_acts ≤ j ∧ j < 42 * m_acts + k) → b j = m_waysBack j) → (40 - k).toNat = mm → AW g K (wM g ρ m_thrown m_world m_fresh (b) m_acts m_images m_hasImage m_endOf m_strapMany m_tape m_taped m_five m_size m_at m_from m_token m_value m_faultKind m_faultPlace m_budgetsTold m_loadsTold m_deadSet m_unknownOf m_nodeOf m_unknowns m_cells m_whole m_ordered m_drawnBy m_left m_aside m_bestDead m_bestAbove m_bestBelow m_widened m_widenedMany m_fewOf m_drawing ++ ex) 0 0 2 [some (.ref (ρ 0)), some (.int (jI kd)), some (.int (jI an)), some (.int (jI k))] [] := by
    intro mm
    induction mm using Nat.strongRecOn with
    | _ mm ih =>
    intro k b hk0 hk h1 h2 hm
    refine r_iload_3 C dX5_remembers_2 ?_
    refine r_bipush C dX5_remembers_3 ?_
    refine r_if_icmpge (tgt := 34) C dX5_remembers_5 (by decide) (fun c_5 => ?_) (fun c_5 => ?_)
    · skip
      refine r_aload_0 C dX5_remembers_34 ?_
      refine gM_waysBack C q1388 dX5_remembers_35 ?_
      refine r_bipush C dX5_remembers_38 ?_
      refine r_aload_0 C dX5_remembers_40 ?_
      refine gM_acts C q1389 dX5_remembers_41 ?_
      refine r_imul C dX5_remembers_44 ?_
      refine r_bipush C dX5_remembers_45 ?_
      refine r_iadd C dX5_remembers_47 ?_
      refine r_iload_1 C dX5_remembers_48 ?_
      refine stM_waysBack C dX5_remembers_49 ?_
      refine r_aload_0 C dX5_remembers_50 ?_
      refine gM_waysBack C q1388 dX5_remembers_51 ?_
      refine r_bipush C dX5_remembers_54 ?_
      refine r_aload_0 C dX5_remembers_56 ?_
      refine gM_acts C q1389 dX5_remembers_57 ?_
      refine r_imul C dX5_remembers_60 ?_
      refine r_bipush C dX5_remembers_61 ?_
      refine r_iadd C dX5_remembers_63 ?_
      refine r_iconst C dX5_remembers_64 ?_
      refine r_iadd C dX5_remembers_65 ?_
      refine r_iload_2 C dX5_remembers_66 ?_
      refine stM_waysBack C dX5_remembers_67 ?_
      refine r_aload_0 C dX5_remembers_68 ?_
      refine r_dup C dX5_remembers_69 ?_
      refine gM_acts C q1389 dX5_remembers_70 ?_
      refine r_iconst C dX5_remembers_73 ?_
      refine r_iadd C dX5_remembers_74 ?_
      refine pM_acts C q1389 dX5_remembers_75 ?_
      refine r_return C E dX5_remembers_78 ?_
      have e : k = 40 := by omega
      subst e
      have ea : aset (aset b (42 * m_acts + 40) kd) (42 * m_acts + 40 + 1) an = rmb m_world m_waysBack m_acts kd an := by
        funext j
        unfold rmb
        by_cases e1 : j = 42 * m_acts + 41
        · rw [if_pos e1, e1, show 42 * m_acts + 41 = 42 * m_acts + 40 + 1 by omega, aset_at]
        · rw [if_neg e1, aset_ne (by omega)]
          by_cases e2 : j = 42 * m_acts + 40
          · rw [if_pos e2, e2, aset_at]
          · rw [if_neg e2, aset_ne e2]
            split
            · rename_i q
              have := h1 (j - 42 * m_acts) (by omega) (by omega)
              rwa [show 42 * m_acts + (j - 42 * m_acts) = j by omega] at this
            · rename_i q; exact h2 j (by omega)
      exact ⟨rfl, by rw [← ea]⟩
    · skip
      refine r_aload_0 C dX5_remembers_8 ?_
      refine gM_waysBack C q1388 dX5_remembers_9 ?_
      refine r_bipush C dX5_remembers_12 ?_
      refine r_aload_0 C dX5_remembers_14 ?_
      refine gM_acts C q1389 dX5_remembers_15 ?_
      refine r_imul C dX5_remembers_18 ?_
      refine r_iload_3 C dX5_remembers_19 ?_
      refine r_iadd C dX5_remembers_20 ?_
      refine r_aload_0 C dX5_remembers_21 ?_
      refine gM_world C q1386 dX5_remembers_22 ?_
      refine r_iload_3 C dX5_remembers_25 ?_
      refine ldM_world C dX5_remembers_26 ?_
      refine stM_waysBack C dX5_remembers_27 ?_
      refine r_iinc_3 C dX5_remembers_28 ?_
      refine r_goto (tgt := 2) C dX5_remembers_31 (by decide) ?_
      refine ih _ (show (40 - (k + 1)).toNat < mm by omega) (k + 1) _ (by omega) (by omega) (fun j q1 q2 => ?_) (fun j q => ?_) rfl
      · by_cases ej : j = k
        · rw [ej, aset_at]
        · rw [aset_ne (by omega)]; exact h1 j q1 (by omega)
      · rw [aset_ne (by omega)]; exact h2 j (by omega)
  refine r_iconst C dX5_remembers_0 ?_
  refine r_istore_3 C dX5_remembers_1 ?_
  exact key _ 0 m_waysBack (by omega) (by omega) (fun j _ _ => by omega) (fun j _ => rfl) rfl
theorem c_X5_did (hG : Gok g) {kd wt : Int} (hkd : inR kd) (hwt : inR wt) (hW : WF m_world) (ha : 0 ≤ m_acts ∧ m_acts ≤ 20) (hb : ∀ j, 0 ≤ j → j < 840 → inR (m_waysBack j)) : XMet g yX5_did cX5_did 5 (some .int) 2 0 0 [.ref (ρ 0), .int (jI kd), .int (jI wt)] (wM g ρ m_thrown m_world m_fresh m_waysBack m_acts m_images m_hasImage m_endOf m_strapMany m_tape m_taped m_five m_size m_at m_from m_token m_value m_faultKind m_faultPlace m_budgetsTold m_loadsTold m_deadSet m_unknownOf m_nodeOf m_unknowns m_cells m_whole m_ordered m_drawnBy m_left m_aside m_bestDead m_bestAbove m_bestBelow m_widened m_widenedMany m_fewOf m_drawing ++ ex) (pI (fun z w => z = spDid m_world m_waysBack m_acts kd wt ∧ PubM g ρ ex m_world m_waysBack m_acts m_images m_hasImage m_tape m_taped m_faultKind m_faultPlace w)) := by
  refine XMet.of (L := [some (.ref (ρ 0)), some (.int (jI kd)), some (.int (jI wt)), none, none]) hG (by decide +kernel) (Nat.le_of_ble_eq_true rfl) rfl (fun K C E => ?_)
  have h4 := hW.r (k := 4) (by omega) (by omega)
  refine r_aload_0 C dX5_did_0 ?_
  refine r_cV0i C (c_X5_isGrid hG (by unfold inR; omega)) (q0 := 0) rfl rfl q1638 pkX5_isGrid dX5_did_1 (fun z w h => ?_)
  obtain ⟨rfl, rfl⟩ := h
  refine r_ifeqB (tgt := 26) C dX5_did_4 (by decide) (fun c_4 => ?_) (fun c_4 => ?_)
  · skip
    refine r_bipush C dX5_did_26 ?_
    refine r_ireturn C E dX5_did_28 ?_
    refine ⟨_, rfl, ?_, PubM.mk⟩
    unfold spDid
    first
      | rw [if_neg (fun q => c_4 q.1.1)]
      | rw [if_neg (fun q => c_16 q.1.2)]
      | rw [if_neg (fun q => c_23 q.2)]
  · skip
    refine r_iload_1 C dX5_did_7 ?_
    refine r_i2l C dX5_did_8 ?_
    refine r_lconst0 C dX5_did_9 ?_
    refine r_ldc2 C 3 q1693 dX5_did_10 ?_
    refine r_cS3i C (c_X5_in hG (inR_L hkd) (by unfold inL; omega) (by unfold inL; omega)) q1506 pkX5_in dX5_did_13 (fun z w h => ?_)
    obtain ⟨rfl, rfl⟩ := h
    refine r_ifeqB (tgt := 26) C dX5_did_16 (by decide) (fun c_16 => ?_) (fun c_16 => ?_)
    · skip
      refine r_bipush C dX5_did_26 ?_
      refine r_ireturn C E dX5_did_28 ?_
      refine ⟨_, rfl, ?_, PubM.mk⟩
      unfold spDid
      first
        | rw [if_neg (fun q => c_4 q.1.1)]
        | rw [if_neg (fun q => c_16 q.1.2)]
        | rw [if_neg (fun q => c_23 q.2)]
    · skip
      refine r_iload_2 C dX5_did_19 ?_
      refine r_cS1i C (c_X5_isPart hG hwt) q1706 pkX5_isPart dX5_did_20 (fun z w h => ?_)
      obtain ⟨rfl, rfl⟩ := h
      refine r_ifneB (tgt := 29) C dX5_did_23 (by decide) (fun c_23 => ?_) (fun c_23 => ?_)
      · skip
        skip
        have key : ∀ (mm : Nat), ∀ (k s : Int), (0 ≤ k) → (k ≤ m_acts) → (s = didF m_waysBack kd wt k) → (m_acts - k).toNat = mm → AW g K (wM g ρ m_thrown m_world m_fresh m_waysBack m_acts m_images m_hasImage m_endOf m_strapMany m_tape m_taped m_five m_size m_at m_from m_token m_value m_faultKind m_faultPlace m_budgetsTold m_loadsTold m_deadSet m_unknownOf m_nodeOf m_unknowns m_cells m_whole m_ordered m_drawnBy m_left m_aside m_bestDead m_bestAbove m_bestBelow m_widened m_widenedMany m_fewOf m_drawing ++ ex) 0 0 34 [some (.ref (ρ 0)), some (.int (jI kd)), some (.int (jI wt)), some (.int (jI s)), some (.int (jI k))] [] := by
          intro mm
          induction mm using Nat.strongRecOn with
          | _ mm ih =>
          intro k s hk0 hk es hm
          refine r_iload_4 C dX5_did_34 ?_
          refine r_aload_0 C dX5_did_36 ?_
          refine gM_acts C q1389 dX5_did_37 ?_
          refine r_if_icmpge (tgt := 92) C dX5_did_40 (by decide) (fun c_40 => ?_) (fun c_40 => ?_)
          · skip
            refine r_iload_3 C dX5_did_92 ?_
            refine r_ireturn C E dX5_did_93 ?_
            have e : k = m_acts := by omega
            subst e
            exact ⟨_, rfl, by unfold spDid; rw [if_pos (And.intro (And.intro c_4 c_16) c_23), es], PubM.mk⟩
          · skip
            refine r_aload_0 C dX5_did_43 ?_
            refine gM_waysBack C q1388 dX5_did_44 ?_
            refine r_bipush C dX5_did_47 ?_
            refine r_iload_4 C dX5_did_49 ?_
            refine r_imul C dX5_did_51 ?_
            refine r_bipush C dX5_did_52 ?_
            refine r_iadd C dX5_did_54 ?_
            refine ldM_waysBack C dX5_did_55 ?_
            refine r_iload_1 C dX5_did_56 ?_
            refine r_if_icmpne (tgt := 86) C dX5_did_57 (by decide) (fun c_57 => ?_) (fun c_57 => ?_) (hb _ (by omega) (by omega))
            · skip
              refine r_iinc_4 C dX5_did_86 ?_
              refine r_goto (tgt := 34) C dX5_did_89 (by decide) ?_
              refine ih _ (show (m_acts - (k + 1)).toNat < mm by omega) (k + 1) _ (by omega) (by omega) ?_ rfl
              unfold didF at es ⊢
              rw [foI_s _ _ hk0, ← es]
              first
                | rw [if_pos c_57, if_pos c_62]
                | (rw [if_pos c_57, if_neg c_62, show 42 * k + 41 = 42 * k + 40 + 1 by omega])
                | rw [if_neg c_57]
            · skip
              refine r_iload_3 C dX5_did_60 ?_
              refine r_iload_2 C dX5_did_61 ?_
              refine r_ifne (tgt := 69) C dX5_did_62 (by decide) (fun c_62 => ?_) (fun c_62 => ?_)
              · skip
                refine r_aload_0 C dX5_did_69 ?_
                refine gM_waysBack C q1388 dX5_did_70 ?_
                refine r_bipush C dX5_did_73 ?_
                refine r_iload_4 C dX5_did_75 ?_
                refine r_imul C dX5_did_77 ?_
                refine r_bipush C dX5_did_78 ?_
                refine r_iadd C dX5_did_80 ?_
                refine r_iconst C dX5_did_81 ?_
                refine r_iadd C dX5_did_82 ?_
                refine ldM_waysBack C dX5_did_83 ?_
                refine r_iadd C dX5_did_84 ?_
                refine r_istore_3 C dX5_did_85 ?_
                refine r_iinc_4 C dX5_did_86 ?_
                refine r_goto (tgt := 34) C dX5_did_89 (by decide) ?_
                refine ih _ (show (m_acts - (k + 1)).toNat < mm by omega) (k + 1) _ (by omega) (by omega) ?_ rfl
                unfold didF at es ⊢
                rw [foI_s _ _ hk0, ← es]
                first
                  | rw [if_pos c_57, if_pos c_62]
                  | (rw [if_pos c_57, if_neg c_62, show 42 * k + 41 = 42 * k + 40 + 1 by omega])
                  | rw [if_neg c_57]
              · skip
                refine r_iconst C dX5_did_65 ?_
                refine r_goto (tgt := 84) C dX5_did_66 (by decide) ?_
                refine r_iadd C dX5_did_84 ?_
                refine r_istore_3 C dX5_did_85 ?_
                refine r_iinc_4 C dX5_did_86 ?_
                refine r_goto (tgt := 34) C dX5_did_89 (by decide) ?_
                refine ih _ (show (m_acts - (k + 1)).toNat < mm by omega) (k + 1) _ (by omega) (by omega) ?_ rfl
                unfold didF at es ⊢
                rw [foI_s _ _ hk0, ← es]
                first
                  | rw [if_pos c_57, if_pos c_62]
                  | (rw [if_pos c_57, if_neg c_62, show 42 * k + 41 = 42 * k + 40 + 1 by omega])
                  | rw [if_neg c_57]
        refine r_iconst C dX5_did_29 ?_
        refine r_istore_3 C dX5_did_30 ?_
        refine r_iconst C dX5_did_31 ?_
        refine r_istore_4 C dX5_did_32 ?_
        exact key _ 0 0 (by omega) (by omega) rfl rfl
      · skip
        refine r_bipush C dX5_did_26 ?_
        refine r_ireturn C E dX5_did_28 ?_
        refine ⟨_, rfl, ?_, PubM.mk⟩
        unfold spDid
        first
          | rw [if_neg (fun q => c_4 q.1.1)]
          | rw [if_neg (fun q => c_16 q.1.2)]
          | rw [if_neg (fun q => c_23 q.2)]
theorem c_X5_lay (hG : Gok g) {k n : Int} (hk : inR k) (hn : inR n) (hW : WF m_world) (ha : 0 ≤ m_acts ∧ m_acts ≤ 20) : XMet g yX5_lay cX5_lay 4 (some .int) 4 0 0 [.ref (ρ 0), .int (jI k), .int (jI n)] (wM g ρ m_thrown m_world m_fresh m_waysBack m_acts m_images m_hasImage m_endOf m_strapMany m_tape m_taped m_five m_size m_at m_from m_token m_value m_faultKind m_faultPlace m_budgetsTold m_loadsTold m_deadSet m_unknownOf m_nodeOf m_unknowns m_cells m_whole m_ordered m_drawnBy m_left m_aside m_bestDead m_bestAbove m_bestBelow m_widened m_widenedMany m_fewOf m_drawing ++ ex) (pI (fun z w => if isKb m_world k = true ∧ 0 ≤ n ∧ n ≤ 4 then (if m_world (28 + k) = n ∨ m_acts = 20 then z = -5 ∧ PubM g ρ ex m_world m_waysBack m_acts m_images m_hasImage m_tape m_taped m_faultKind m_faultPlace w else z = m_world (28 + k) ∧ PubM g ρ ex (aset m_world (28 + k) n) (rmb m_world m_waysBack m_acts 0 (m_world (28 + k))) (m_acts + 1) m_images m_hasImage m_tape m_taped m_faultKind m_faultPlace w) else z = -2 ∧ PubM g ρ ex m_world m_waysBack m_acts m_images m_hasImage m_tape m_taped m_faultKind m_faultPlace w)) := by
  refine XMet.of (L := [some (.ref (ρ 0)), some (.int (jI k)), some (.int (jI n)), none]) hG (by decide +kernel) (Nat.le_of_ble_eq_true rfl) rfl (fun K C E => ?_)
  refine r_aload_0 C dX5_lay_0 ?_
  refine r_iload_1 C dX5_lay_1 ?_
  refine r_cV1i C (c_X5_isStrapW hG hk hW) (q0 := 0) rfl rfl q1677 pkX5_isStrap dX5_lay_2 (fun z w h => ?_)
  obtain ⟨rfl, e, sm, -, rfl⟩ := h
  refine r_ifeqB (tgt := 20) C dX5_lay_5 (by decide) (fun c_5 => ?_) (fun c_5 => ?_)
  · skip
    refine r_bipush C dX5_lay_20 ?_
    refine r_ireturn C E dX5_lay_22 ?_
    refine ⟨_, rfl, ?_⟩
    show @ite _ _ _ _ _
    first
      | (rw [if_neg (fun q => c_5 q.1)]; exact ⟨rfl, PubM.mk⟩)
      | (rw [if_neg (fun q => c_17 q.2)]; exact ⟨rfl, PubM.mk⟩)
  · skip
    refine r_iload_2 C dX5_lay_8 ?_
    refine r_i2l C dX5_lay_9 ?_
    refine r_lconst0 C dX5_lay_10 ?_
    refine r_ldc2 C 4 q2065 dX5_lay_11 ?_
    refine r_cS3i C (c_X5_in hG (inR_L hn) (by unfold inL; omega) (by unfold inL; omega)) q1506 pkX5_in dX5_lay_14 (fun z w h => ?_)
    obtain ⟨rfl, rfl⟩ := h
    refine r_ifneB (tgt := 23) C dX5_lay_17 (by decide) (fun c_17 => ?_) (fun c_17 => ?_)
    · skip
      have hd := hW.gdk c_5
      have hkk := isKb_in c_5
      have hs := hd.s
      have hwk := hd.wd k hkk.1 (by omega)
      unfold wWd at hwk
      refine r_aload_0 C dX5_lay_23 ?_
      refine gM_world C q1386 dX5_lay_24 ?_
      refine r_bipush C dX5_lay_27 ?_
      refine r_iload_1 C dX5_lay_29 ?_
      refine r_iadd C dX5_lay_30 ?_
      refine ldM_world C dX5_lay_31 ?_
      refine r_istore_3 C dX5_lay_32 ?_
      refine r_iload_3 C dX5_lay_33 ?_
      refine r_iload_2 C dX5_lay_34 ?_
      refine r_if_icmpeq (tgt := 45) C dX5_lay_35 (by decide) (fun c_35 => ?_) (fun c_35 => ?_)
      · skip
        refine r_bipush C dX5_lay_45 ?_
        refine r_ireturn C E dX5_lay_47 ?_
        refine ⟨_, rfl, ?_⟩
        show @ite _ _ _ _ _
        rw [if_pos (And.intro c_5 c_17), if_pos (by omega)]
        exact ⟨rfl, PubM.mk⟩
      · skip
        refine r_aload_0 C dX5_lay_38 ?_
        refine r_cV0i C (c_X5_isFull hG ha) (q0 := 0) rfl rfl q2066 pkX5_isFull dX5_lay_39 (fun z w h => ?_)
        obtain ⟨rfl, rfl⟩ := h
        refine r_ifeqB (tgt := 48) C dX5_lay_42 (by decide) (fun c_42 => ?_) (fun c_42 => ?_)
        · skip
          refine r_aload_0 C dX5_lay_48 ?_
          refine r_iconst C dX5_lay_49 ?_
          refine r_iload_3 C dX5_lay_50 ?_
          refine r_cV2v C (c_X5_remembers hG (by omega)) (q0 := 0) rfl rfl q2070 pkX5_remembers dX5_lay_51 (fun w h => ?_)
          subst h
          refine r_aload_0 C dX5_lay_54 ?_
          refine gM_world C q1386 dX5_lay_55 ?_
          refine r_bipush C dX5_lay_58 ?_
          refine r_iload_1 C dX5_lay_60 ?_
          refine r_iadd C dX5_lay_61 ?_
          refine r_iload_2 C dX5_lay_62 ?_
          refine stM_world C dX5_lay_63 ?_
          refine r_iload_3 C dX5_lay_64 ?_
          refine r_ireturn C E dX5_lay_65 ?_
          refine ⟨_, rfl, ?_⟩
          show @ite _ _ _ _ _
          rw [if_pos (And.intro c_5 c_17), if_neg (by omega)]
          exact ⟨rfl, PubM.mk⟩
        · skip
          refine r_bipush C dX5_lay_45 ?_
          refine r_ireturn C E dX5_lay_47 ?_
          refine ⟨_, rfl, ?_⟩
          show @ite _ _ _ _ _
          rw [if_pos (And.intro c_5 c_17), if_pos (by omega)]
          exact ⟨rfl, PubM.mk⟩
    · skip
      refine r_bipush C dX5_lay_20 ?_
      refine r_ireturn C E dX5_lay_22 ?_
      refine ⟨_, rfl, ?_⟩
      show @ite _ _ _ _ _
      first
        | (rw [if_neg (fun q => c_5 q.1)]; exact ⟨rfl, PubM.mk⟩)
        | (rw [if_neg (fun q => c_17 q.2)]; exact ⟨rfl, PubM.mk⟩)
theorem c_X5_feeds (hG : Gok g) {v : Int} (hv : inR v) (hW : WF m_world) (ha : 0 ≤ m_acts ∧ m_acts ≤ 20) : XMet g yX5_feeds cX5_feeds 2 (some .int) 3 0 0 [.ref (ρ 0), .int (jI v)] (wM g ρ m_thrown m_world m_fresh m_waysBack m_acts m_images m_hasImage m_endOf m_strapMany m_tape m_taped m_five m_size m_at m_from m_token m_value m_faultKind m_faultPlace m_budgetsTold m_loadsTold m_deadSet m_unknownOf m_nodeOf m_unknowns m_cells m_whole m_ordered m_drawnBy m_left m_aside m_bestDead m_bestAbove m_bestBelow m_widened m_widenedMany m_fewOf m_drawing ++ ex) (pI (fun z w => if isNb m_world v = true then (if m_acts = 20 then z = -5 ∧ PubM g ρ ex m_world m_waysBack m_acts m_images m_hasImage m_tape m_taped m_faultKind m_faultPlace w else z = bitc (bsX (m_world 5) (bsP v)) ∧ PubM g ρ ex (aset m_world 5 (bsX (m_world 5) (bsP v))) (rmb m_world m_waysBack m_acts 1 0) (m_acts + 1) m_images m_hasImage m_tape m_taped m_faultKind m_faultPlace w) else z = -2 ∧ PubM g ρ ex m_world m_waysBack m_acts m_images m_hasImage m_tape m_taped m_faultKind m_faultPlace w)) := by
  refine XMet.of (L := [some (.ref (ρ 0)), some (.int (jI v))]) hG (by decide +kernel) (Nat.le_of_ble_eq_true rfl) rfl (fun K C E => ?_)
  have hn := hW.n
  refine r_aload_0 C dX5_feeds_0 ?_
  refine r_iload_1 C dX5_feeds_1 ?_
  refine r_cV1i C (c_X5_isNode hG (by assumption) hn) (q0 := 0) rfl rfl q1685 pkX5_isNode dX5_feeds_2 (fun z w h => ?_)
  obtain ⟨rfl, rfl⟩ := h
  refine r_ifneB (tgt := 11) C dX5_feeds_5 (by decide) (fun c_5 => ?_) (fun c_5 => ?_)
  · skip
    have hd := hW.gdb c_5
    have hvv := isNb_in c_5
    have hp5 := hd.p5
    have hP := bsP_9 hvv.1 (show v < 9 by omega)
    have hP0 := bsP_0 (k := v)
    have hX : 0 ≤ bsX (m_world 5) (bsP v) := bsX_0
    have hX2 : bsX (m_world 5) (bsP v) < 512 := by
      have := bsX_lt (a := m_world 5) (b := bsP v) (n := 9) (by simpa using hp5.2) (by simpa using hP)
      simpa using this
    refine r_aload_0 C dX5_feeds_11 ?_
    refine r_cV0i C (c_X5_isFull hG ha) (q0 := 0) rfl rfl q2066 pkX5_isFull dX5_feeds_12 (fun z w h => ?_)
    obtain ⟨rfl, rfl⟩ := h
    refine r_ifeqB (tgt := 21) C dX5_feeds_15 (by decide) (fun c_15 => ?_) (fun c_15 => ?_)
    · skip
      refine r_aload_0 C dX5_feeds_21 ?_
      refine r_iconst C dX5_feeds_22 ?_
      refine r_iconst C dX5_feeds_23 ?_
      refine r_cV2v C (c_X5_remembers hG (by omega)) (q0 := 0) rfl rfl q2070 pkX5_remembers dX5_feeds_24 (fun w h => ?_)
      subst h
      refine r_aload_0 C dX5_feeds_27 ?_
      refine gM_world C q1386 dX5_feeds_28 ?_
      refine r_iconst C dX5_feeds_31 ?_
      refine r_dup2 C dX5_feeds_32 ?_
      refine ldM_world C dX5_feeds_33 ?_
      refine r_iconst C dX5_feeds_34 ?_
      refine r_iload_1 C dX5_feeds_35 ?_
      refine r_ishl C (_) dX5_feeds_36 (jI_shl (by omega) (by omega)) ?_
      refine r_ixor C (_) dX5_feeds_37 (jI_xor (by omega) (by omega)) ?_
      refine stM_world C dX5_feeds_38 ?_
      refine r_aload_0 C dX5_feeds_39 ?_
      refine gM_world C q1386 dX5_feeds_40 ?_
      refine r_iconst C dX5_feeds_43 ?_
      refine ldM_world C dX5_feeds_44 ?_
      refine r_topi (bsX (m_world 5) (bsP v)) (aset_at _ _ _) ?_
      refine r_cS1i C (c_X5_bits hG (by omega)) q1926 pkX5_bits dX5_feeds_45 (fun z w h => ?_)
      obtain ⟨rfl, rfl⟩ := h
      refine r_ireturn C E dX5_feeds_48 ?_
      refine ⟨_, rfl, ?_⟩
      show @ite _ _ _ _ _
      rw [if_pos c_5, if_neg c_15]
      exact ⟨rfl, PubM.mk⟩
    · skip
      refine r_bipush C dX5_feeds_18 ?_
      refine r_ireturn C E dX5_feeds_20 ?_
      refine ⟨_, rfl, ?_⟩
      show @ite _ _ _ _ _
      rw [if_pos c_5, if_pos c_15]
      exact ⟨rfl, PubM.mk⟩
  · skip
    refine r_bipush C dX5_feeds_8 ?_
    refine r_ireturn C E dX5_feeds_10 ?_
    refine ⟨_, rfl, ?_⟩
    show @ite _ _ _ _ _
    rw [if_neg c_5]
    exact ⟨rfl, PubM.mk⟩
theorem c_X5_draw (hG : Gok g) {v n : Int} (hv : inR v) (hn : inR n) (hW : WF m_world) (ha : 0 ≤ m_acts ∧ m_acts ≤ 20) : XMet g yX5_draw cX5_draw 4 (some .int) 4 0 0 [.ref (ρ 0), .int (jI v), .int (jI n)] (wM g ρ m_thrown m_world m_fresh m_waysBack m_acts m_images m_hasImage m_endOf m_strapMany m_tape m_taped m_five m_size m_at m_from m_token m_value m_faultKind m_faultPlace m_budgetsTold m_loadsTold m_deadSet m_unknownOf m_nodeOf m_unknowns m_cells m_whole m_ordered m_drawnBy m_left m_aside m_bestDead m_bestAbove m_bestBelow m_widened m_widenedMany m_fewOf m_drawing ++ ex) (pI (fun z w => if isNb m_world v = true ∧ 0 ≤ n ∧ n ≤ 99 then (if m_world (6 + v) = n ∨ m_acts = 20 then z = -5 ∧ PubM g ρ ex m_world m_waysBack m_acts m_images m_hasImage m_tape m_taped m_faultKind m_faultPlace w else z = m_world (6 + v) ∧ PubM g ρ ex (aset m_world (6 + v) n) (rmb m_world m_waysBack m_acts 2 (m_world (6 + v))) (m_acts + 1) m_images m_hasImage m_tape m_taped m_faultKind m_faultPlace w) else z = -2 ∧ PubM g ρ ex m_world m_waysBack m_acts m_images m_hasImage m_tape m_taped m_faultKind m_faultPlace w)) := by
  refine XMet.of (L := [some (.ref (ρ 0)), some (.int (jI v)), some (.int (jI n)), none]) hG (by decide +kernel) (Nat.le_of_ble_eq_true rfl) rfl (fun K C E => ?_)
  have hn' := hW.n
  refine r_aload_0 C dX5_draw_0 ?_
  refine r_iload_1 C dX5_draw_1 ?_
  refine r_cV1i C (c_X5_isNode hG (by assumption) hn') (q0 := 0) rfl rfl q1685 pkX5_isNode dX5_draw_2 (fun z w h => ?_)
  obtain ⟨rfl, rfl⟩ := h
  refine r_ifeqB (tgt := 20) C dX5_draw_5 (by decide) (fun c_5 => ?_) (fun c_5 => ?_)
  · skip
    refine r_bipush C dX5_draw_20 ?_
    refine r_ireturn C E dX5_draw_22 ?_
    refine ⟨_, rfl, ?_⟩
    show @ite _ _ _ _ _
    first
      | (rw [if_neg (fun q => c_5 q.1)]; exact ⟨rfl, PubM.mk⟩)
      | (rw [if_neg (fun q => c_17 q.2)]; exact ⟨rfl, PubM.mk⟩)
  · skip
    refine r_iload_2 C dX5_draw_8 ?_
    refine r_i2l C dX5_draw_9 ?_
    refine r_lconst0 C dX5_draw_10 ?_
    refine r_ldc2 C 99 q2082 dX5_draw_11 ?_
    refine r_cS3i C (c_X5_in hG (inR_L hn) (by unfold inL; omega) (by unfold inL; omega)) q1506 pkX5_in dX5_draw_14 (fun z w h => ?_)
    obtain ⟨rfl, rfl⟩ := h
    refine r_ifneB (tgt := 23) C dX5_draw_17 (by decide) (fun c_17 => ?_) (fun c_17 => ?_)
    · skip
      have hd := hW.gdb c_5
      have hvv := isNb_in c_5
      have hld := hd.ld v hvv.1 (by omega)
      refine r_aload_0 C dX5_draw_23 ?_
      refine gM_world C q1386 dX5_draw_24 ?_
      refine r_bipush C dX5_draw_27 ?_
      refine r_iload_1 C dX5_draw_29 ?_
      refine r_iadd C dX5_draw_30 ?_
      refine ldM_world C dX5_draw_31 ?_
      refine r_istore_3 C dX5_draw_32 ?_
      refine r_iload_3 C dX5_draw_33 ?_
      refine r_iload_2 C dX5_draw_34 ?_
      refine r_if_icmpeq (tgt := 45) C dX5_draw_35 (by decide) (fun c_35 => ?_) (fun c_35 => ?_)
      · skip
        refine r_bipush C dX5_draw_45 ?_
        refine r_ireturn C E dX5_draw_47 ?_
        refine ⟨_, rfl, ?_⟩
        show @ite _ _ _ _ _
        rw [if_pos (And.intro c_5 c_17), if_pos (by omega)]
        exact ⟨rfl, PubM.mk⟩
      · skip
        refine r_aload_0 C dX5_draw_38 ?_
        refine r_cV0i C (c_X5_isFull hG ha) (q0 := 0) rfl rfl q2066 pkX5_isFull dX5_draw_39 (fun z w h => ?_)
        obtain ⟨rfl, rfl⟩ := h
        refine r_ifeqB (tgt := 48) C dX5_draw_42 (by decide) (fun c_42 => ?_) (fun c_42 => ?_)
        · skip
          refine r_aload_0 C dX5_draw_48 ?_
          refine r_iconst C dX5_draw_49 ?_
          refine r_iload_3 C dX5_draw_50 ?_
          refine r_cV2v C (c_X5_remembers hG (by omega)) (q0 := 0) rfl rfl q2070 pkX5_remembers dX5_draw_51 (fun w h => ?_)
          subst h
          refine r_aload_0 C dX5_draw_54 ?_
          refine gM_world C q1386 dX5_draw_55 ?_
          refine r_bipush C dX5_draw_58 ?_
          refine r_iload_1 C dX5_draw_60 ?_
          refine r_iadd C dX5_draw_61 ?_
          refine r_iload_2 C dX5_draw_62 ?_
          refine stM_world C dX5_draw_63 ?_
          refine r_iload_3 C dX5_draw_64 ?_
          refine r_ireturn C E dX5_draw_65 ?_
          refine ⟨_, rfl, ?_⟩
          show @ite _ _ _ _ _
          rw [if_pos (And.intro c_5 c_17), if_neg (by omega)]
          exact ⟨rfl, PubM.mk⟩
        · skip
          refine r_bipush C dX5_draw_45 ?_
          refine r_ireturn C E dX5_draw_47 ?_
          refine ⟨_, rfl, ?_⟩
          show @ite _ _ _ _ _
          rw [if_pos (And.intro c_5 c_17), if_pos (by omega)]
          exact ⟨rfl, PubM.mk⟩
    · skip
      refine r_bipush C dX5_draw_20 ?_
      refine r_ireturn C E dX5_draw_22 ?_
      refine ⟨_, rfl, ?_⟩
      show @ite _ _ _ _ _
      first
        | (rw [if_neg (fun q => c_5 q.1)]; exact ⟨rfl, PubM.mk⟩)
        | (rw [if_neg (fun q => c_17 q.2)]; exact ⟨rfl, PubM.mk⟩)
theorem c_X5_year (hG : Gok g) (hW : WF m_world) (ha : 0 ≤ m_acts ∧ m_acts ≤ 20) : XMet g yX5_year cX5_year 4 (some .int) 7 0 0 [.ref (ρ 0)] (wM g ρ m_thrown m_world m_fresh m_waysBack m_acts m_images m_hasImage m_endOf m_strapMany m_tape m_taped m_five m_size m_at m_from m_token m_value m_faultKind m_faultPlace m_budgetsTold m_loadsTold m_deadSet m_unknownOf m_nodeOf m_unknowns m_cells m_whole m_ordered m_drawnBy m_left m_aside m_bestDead m_bestAbove m_bestBelow m_widened m_widenedMany m_fewOf m_drawing ++ ex) (pI (fun z w => if 0 < m_world 4 then (if m_acts = 20 then z = -5 ∧ PubM g ρ ex m_world m_waysBack m_acts m_images m_hasImage m_tape m_taped m_faultKind m_faultPlace w else z = wYr m_world ∧ PubM g ρ ex (wAge m_world) (rmb m_world m_waysBack m_acts 3 (wYr m_world)) (m_acts + 1) m_images m_hasImage m_tape m_taped m_faultKind m_faultPlace w) else z = -2 ∧ PubM g ρ ex m_world m_waysBack m_acts m_images m_hasImage m_tape m_taped m_faultKind m_faultPlace w)) := by
  refine XMet.of (L := [some (.ref (ρ 0)), none, none, none]) hG (by decide +kernel) (Nat.le_of_ble_eq_true rfl) rfl (fun K C E => ?_)
  have h4 := hW.r (k := 4) (by omega) (by omega)
  refine r_aload_0 C dX5_year_0 ?_
  refine r_cV0i C (c_X5_isGrid hG (by unfold inR; omega)) (q0 := 0) rfl rfl q1638 pkX5_isGrid dX5_year_1 (fun z w h => ?_)
  obtain ⟨rfl, rfl⟩ := h
  refine r_ifneB (tgt := 10) C dX5_year_4 (by decide) (fun c_4 => ?_) (fun c_4 => ?_)
  · skip
    refine r_aload_0 C dX5_year_10 ?_
    refine r_cV0i C (c_X5_isFull hG ha) (q0 := 0) rfl rfl q2066 pkX5_isFull dX5_year_11 (fun z w h => ?_)
    obtain ⟨rfl, rfl⟩ := h
    refine r_ifeqB (tgt := 20) C dX5_year_14 (by decide) (fun c_14 => ?_) (fun c_14 => ?_)
    · skip
      have hd := hW.gd4 c_4
      have hs := hd.s
      have hwe := wWe_in hd
      refine r_aload_0 C dX5_year_20 ?_
      refine r_cV0i C (c_X5_wears hG hd) (q0 := 0) rfl rfl q1862 pkX5_wears dX5_year_21 (fun z w h => ?_)
      obtain ⟨rfl, e, un, no, ce, he, hS, rfl⟩ := h
      skip
      have key : ∀ (mm : Nat), ∀ (k s : Int), (0 ≤ k) → (k ≤ wS m_world) → (s = foI (fun k s => s + (if bsB (wWe m_world) k = true then 1 else 0)) 0 k) → (wS m_world - k).toNat = mm → AW g K (wM g ρ m_thrown m_world m_fresh m_waysBack m_acts m_images m_hasImage (e) (wS m_world) m_tape m_taped m_five m_size m_at m_from m_token m_value m_faultKind m_faultPlace m_budgetsTold m_loadsTold (wDead m_world) (un) (no) (wm m_world) (ce) (wWh m_world) m_ordered m_drawnBy m_left m_aside m_bestDead m_bestAbove m_bestBelow m_widened m_widenedMany m_fewOf m_drawing ++ ex) 0 0 29 [some (.ref (ρ 0)), some (.int (jI (wWe m_world))), some (.int (jI s)), some (.int (jI k))] [] := by
        intro mm
        induction mm using Nat.strongRecOn with
        | _ mm ih =>
        intro k s hk0 hk es hm
        refine r_iload_3 C dX5_year_29 ?_
        refine r_aload_0 C dX5_year_30 ?_
        refine gM_strapMany C q1393 dX5_year_31 ?_
        refine r_if_icmpge (tgt := 59) C dX5_year_34 (by decide) (fun c_34 => ?_) (fun c_34 => ?_)
        · skip
          have e : k = wS m_world := by omega
          subst e
          have es' : s = wYr m_world := es
          subst es'
          refine r_aload_0 C dX5_year_59 ?_
          refine r_iconst C dX5_year_60 ?_
          refine r_iload_2 C dX5_year_61 ?_
          refine r_cV2v C (c_X5_remembers hG (by omega)) (q0 := 0) rfl rfl q2070 pkX5_remembers dX5_year_62 (fun w h => ?_)
          subst h
          refine r_aload_0 C dX5_year_65 ?_
          refine r_cV0i C (c_X5_ages hG hd) (q0 := 0) rfl rfl q1875 pkX5_ages dX5_year_66 (fun z w h => ?_)
          obtain ⟨rfl, e, sm, ds, un, no, um, ce, wh, -, -, rfl⟩ := h
          refine r_pop C dX5_year_69 ?_
          refine r_iload_2 C dX5_year_70 ?_
          refine r_ireturn C E dX5_year_71 ?_
          refine ⟨_, rfl, ?_⟩
          show @ite _ _ _ _ _
          rw [if_pos c_4, if_neg c_14]
          exact ⟨rfl, PubM.mk⟩
        · skip
          refine r_iload_2 C dX5_year_37 ?_
          refine r_iload_1 C dX5_year_38 ?_
          refine r_iload_3 C dX5_year_39 ?_
          refine r_cS2i C (c_X5_isOf hG (by omega) (by omega)) q1606 pkX5_isOf dX5_year_40 (fun z w h => ?_)
          obtain ⟨rfl, rfl⟩ := h
          refine r_ifeqB (tgt := 50) C dX5_year_43 (by decide) (fun c_43 => ?_) (fun c_43 => ?_)
          · skip
            refine r_iconst C dX5_year_50 ?_
            refine r_iadd C dX5_year_51 ?_
            refine r_istore_2 C dX5_year_52 ?_
            refine r_iinc_3 C dX5_year_53 ?_
            refine r_goto (tgt := 29) C dX5_year_56 (by decide) ?_
            refine ih _ (show (wS m_world - (k + 1)).toNat < mm by omega) (k + 1) _ (by omega) (by omega) ?_ rfl
            rw [foI_s _ _ hk0, ← es]
            first
              | rw [if_pos c_43]
              | rw [if_neg c_43]
          · skip
            refine r_iconst C dX5_year_46 ?_
            refine r_goto (tgt := 51) C dX5_year_47 (by decide) ?_
            refine r_iadd C dX5_year_51 ?_
            refine r_istore_2 C dX5_year_52 ?_
            refine r_iinc_3 C dX5_year_53 ?_
            refine r_goto (tgt := 29) C dX5_year_56 (by decide) ?_
            refine ih _ (show (wS m_world - (k + 1)).toNat < mm by omega) (k + 1) _ (by omega) (by omega) ?_ rfl
            rw [foI_s _ _ hk0, ← es]
            first
              | rw [if_pos c_43]
              | rw [if_neg c_43]
      refine r_istore_1 C dX5_year_24 ?_
      refine r_iconst C dX5_year_25 ?_
      refine r_istore_2 C dX5_year_26 ?_
      refine r_iconst C dX5_year_27 ?_
      refine r_istore_3 C dX5_year_28 ?_
      exact key _ 0 0 (by omega) (by omega) rfl rfl
    · skip
      refine r_bipush C dX5_year_17 ?_
      refine r_ireturn C E dX5_year_19 ?_
      refine ⟨_, rfl, ?_⟩
      show @ite _ _ _ _ _
      rw [if_pos c_4, if_pos c_14]
      exact ⟨rfl, PubM.mk⟩
  · skip
    refine r_bipush C dX5_year_7 ?_
    refine r_ireturn C E dX5_year_9 ?_
    refine ⟨_, rfl, ?_⟩
    show @ite _ _ _ _ _
    rw [if_neg c_4]
    exact ⟨rfl, PubM.mk⟩
theorem c_X5_takesBack (hG : Gok g) (ha : 0 < m_acts ∧ m_acts ≤ 20) : XMet g yX5_takesBack cX5_takesBack 2 none 0 0 0 [.ref (ρ 0)] (wM g ρ m_thrown m_world m_fresh m_waysBack m_acts m_images m_hasImage m_endOf m_strapMany m_tape m_taped m_five m_size m_at m_from m_token m_value m_faultKind m_faultPlace m_budgetsTold m_loadsTold m_deadSet m_unknownOf m_nodeOf m_unknowns m_cells m_whole m_ordered m_drawnBy m_left m_aside m_bestDead m_bestAbove m_bestBelow m_widened m_widenedMany m_fewOf m_drawing ++ ex) (pV (fun w => w = (wM g ρ m_thrown (wbW m_world m_waysBack (m_acts - 1)) m_fresh m_waysBack (m_acts - 1) m_images m_hasImage m_endOf m_strapMany m_tape m_taped m_five m_size m_at m_from m_token m_value m_faultKind m_faultPlace m_budgetsTold m_loadsTold m_deadSet m_unknownOf m_nodeOf m_unknowns m_cells m_whole m_ordered m_drawnBy m_left m_aside m_bestDead m_bestAbove m_bestBelow m_widened m_widenedMany m_fewOf m_drawing ++ ex))) := by
  refine XMet.of (L := [some (.ref (ρ 0)), none]) hG (by decide +kernel) (Nat.le_of_ble_eq_true rfl) rfl (fun K C E => ?_)
  have key : ∀ (mm : Nat), ∀ (k : Int) (b : Int → Int), (0 ≤ k) → (k ≤ 40) → (∀ j, 0 ≤ j → j < k → b j = m_waysBack (42 * (m_acts - 1) + j)) → (∀ j, ¬ (0 ≤ j ∧ j < k) → b j = m_world j) → (40 - k).toNat = mm → AW g K (wM g ρ m_thrown (b) m_fresh m_waysBack (m_acts - 1) m_images m_hasImage m_endOf m_strapMany m_tape m_taped m_five m_size m_at m_from m_token m_value m_faultKind m_faultPlace m_budgetsTold m_loadsTold m_deadSet m_unknownOf m_nodeOf m_unknowns m_cells m_whole m_ordered m_drawnBy m_left m_aside m_bestDead m_bestAbove m_bestBelow m_widened m_widenedMany m_fewOf m_drawing ++ ex) 0 0 12 [some (.ref (ρ 0)), some (.int (jI k))] [] := by
    intro mm
    induction mm using Nat.strongRecOn with
    | _ mm ih =>
    intro k b hk0 hk h1 h2 hm
    refine r_iload_1 C dX5_takesBack_12 ?_
    refine r_bipush C dX5_takesBack_13 ?_
    refine r_if_icmpge (tgt := 44) C dX5_takesBack_15 (by decide) (fun c_15 => ?_) (fun c_15 => ?_)
    · skip
      refine r_return C E dX5_takesBack_44 ?_
      have e : k = 40 := by omega
      subst e
      have ea : b = wbW m_world m_waysBack (m_acts - 1) := by
        funext j
        unfold wbW
        split
        · rename_i q; exact h1 j q.1 q.2
        · rename_i q; exact h2 j q
      subst ea
      exact ⟨rfl, rfl⟩
    · skip
      refine r_aload_0 C dX5_takesBack_18 ?_
      refine gM_world C q1386 dX5_takesBack_19 ?_
      refine r_iload_1 C dX5_takesBack_22 ?_
      refine r_aload_0 C dX5_takesBack_23 ?_
      refine gM_waysBack C q1388 dX5_takesBack_24 ?_
      refine r_bipush C dX5_takesBack_27 ?_
      refine r_aload_0 C dX5_takesBack_29 ?_
      refine gM_acts C q1389 dX5_takesBack_30 ?_
      refine r_imul C dX5_takesBack_33 ?_
      refine r_iload_1 C dX5_takesBack_34 ?_
      refine r_iadd C dX5_takesBack_35 ?_
      refine ldM_waysBack C dX5_takesBack_36 ?_
      refine stM_world C dX5_takesBack_37 ?_
      refine r_iinc_1 C dX5_takesBack_38 ?_
      refine r_goto (tgt := 12) C dX5_takesBack_41 (by decide) ?_
      refine ih _ (show (40 - (k + 1)).toNat < mm by omega) (k + 1) _ (by omega) (by omega) (fun j q1 q2 => ?_) (fun j q => ?_) rfl
      · by_cases ej : j = k
        · rw [ej, aset_at]
        · rw [aset_ne (by omega)]; exact h1 j q1 (by omega)
      · rw [aset_ne (by omega)]; exact h2 j (by omega)
  refine r_aload_0 C dX5_takesBack_0 ?_
  refine r_dup C dX5_takesBack_1 ?_
  refine gM_acts C q1389 dX5_takesBack_2 ?_
  refine r_iconst C dX5_takesBack_5 ?_
  refine r_isub C dX5_takesBack_6 ?_
  refine pM_acts C q1389 dX5_takesBack_7 ?_
  refine r_iconst C dX5_takesBack_10 ?_
  refine r_istore_1 C dX5_takesBack_11 ?_
  exact key _ 0 m_world (by omega) (by omega) (fun j _ _ => by omega) (fun j _ => rfl) rfl
theorem c_X5_undo (hG : Gok g) (hW : WF m_world) (ha : 0 ≤ m_acts ∧ m_acts ≤ 20) : XMet g yX5_undo cX5_undo 1 (some .int) 1 0 0 [.ref (ρ 0)] (wM g ρ m_thrown m_world m_fresh m_waysBack m_acts m_images m_hasImage m_endOf m_strapMany m_tape m_taped m_five m_size m_at m_from m_token m_value m_faultKind m_faultPlace m_budgetsTold m_loadsTold m_deadSet m_unknownOf m_nodeOf m_unknowns m_cells m_whole m_ordered m_drawnBy m_left m_aside m_bestDead m_bestAbove m_bestBelow m_widened m_widenedMany m_fewOf m_drawing ++ ex) (pI (fun z w => if 0 < m_world 4 then (if m_acts = 0 then z = -5 ∧ PubM g ρ ex m_world m_waysBack m_acts m_images m_hasImage m_tape m_taped m_faultKind m_faultPlace w else z = m_acts - 1 ∧ PubM g ρ ex (wbW m_world m_waysBack (m_acts - 1)) m_waysBack (m_acts - 1) m_images m_hasImage m_tape m_taped m_faultKind m_faultPlace w) else z = -2 ∧ PubM g ρ ex m_world m_waysBack m_acts m_images m_hasImage m_tape m_taped m_faultKind m_faultPlace w)) := by
  refine XMet.of (L := [some (.ref (ρ 0))]) hG (by decide +kernel) (Nat.le_of_ble_eq_true rfl) rfl (fun K C E => ?_)
  have h4 := hW.r (k := 4) (by omega) (by omega)
  refine r_aload_0 C dX5_undo_0 ?_
  refine r_cV0i C (c_X5_isGrid hG (by unfold inR; omega)) (q0 := 0) rfl rfl q1638 pkX5_isGrid dX5_undo_1 (fun z w h => ?_)
  obtain ⟨rfl, rfl⟩ := h
  refine r_ifneB (tgt := 10) C dX5_undo_4 (by decide) (fun c_4 => ?_) (fun c_4 => ?_)
  · skip
    refine r_aload_0 C dX5_undo_10 ?_
    refine gM_acts C q1389 dX5_undo_11 ?_
    refine r_ifne (tgt := 20) C dX5_undo_14 (by decide) (fun c_14 => ?_) (fun c_14 => ?_)
    · skip
      refine r_aload_0 C dX5_undo_20 ?_
      refine r_cV0v C (c_X5_takesBack hG (by omega)) (q0 := 0) rfl rfl q2091 pkX5_takesBack dX5_undo_21 (fun w h => ?_)
      subst h
      refine r_aload_0 C dX5_undo_24 ?_
      refine gM_acts C q1389 dX5_undo_25 ?_
      refine r_ireturn C E dX5_undo_28 ?_
      refine ⟨_, rfl, ?_⟩
      show @ite _ _ _ _ _
      rw [if_pos c_4, if_neg c_14]
      exact ⟨rfl, PubM.mk⟩
    · skip
      refine r_bipush C dX5_undo_17 ?_
      refine r_ireturn C E dX5_undo_19 ?_
      refine ⟨_, rfl, ?_⟩
      show @ite _ _ _ _ _
      rw [if_pos c_4, if_pos c_14]
      exact ⟨rfl, PubM.mk⟩
  · skip
    refine r_bipush C dX5_undo_7 ?_
    refine r_ireturn C E dX5_undo_9 ?_
    refine ⟨_, rfl, ?_⟩
    show @ite _ _ _ _ _
    rw [if_neg c_4]
    exact ⟨rfl, PubM.mk⟩
theorem c_X5_anew (hG : Gok g) (hW : WF m_world) (ha : 0 ≤ m_acts ∧ m_acts ≤ 20) : XMet g yX5_anew cX5_anew 2 (some .int) 1 0 0 [.ref (ρ 0)] (wM g ρ m_thrown m_world m_fresh m_waysBack m_acts m_images m_hasImage m_endOf m_strapMany m_tape m_taped m_five m_size m_at m_from m_token m_value m_faultKind m_faultPlace m_budgetsTold m_loadsTold m_deadSet m_unknownOf m_nodeOf m_unknowns m_cells m_whole m_ordered m_drawnBy m_left m_aside m_bestDead m_bestAbove m_bestBelow m_widened m_widenedMany m_fewOf m_drawing ++ ex) (pI (fun z w => if 0 < m_world 4 then z = m_acts ∧ PubM g ρ ex ((if m_acts = 0 then m_world else wbW m_world m_waysBack 0)) m_waysBack (0) m_images m_hasImage m_tape m_taped m_faultKind m_faultPlace w else z = -2 ∧ PubM g ρ ex m_world m_waysBack m_acts m_images m_hasImage m_tape m_taped m_faultKind m_faultPlace w)) := by
  refine XMet.of (L := [some (.ref (ρ 0)), none]) hG (by decide +kernel) (Nat.le_of_ble_eq_true rfl) rfl (fun K C E => ?_)
  have h4 := hW.r (k := 4) (by omega) (by omega)
  refine r_aload_0 C dX5_anew_0 ?_
  refine r_cV0i C (c_X5_isGrid hG (by unfold inR; omega)) (q0 := 0) rfl rfl q1638 pkX5_isGrid dX5_anew_1 (fun z w h => ?_)
  obtain ⟨rfl, rfl⟩ := h
  refine r_ifneB (tgt := 10) C dX5_anew_4 (by decide) (fun c_4 => ?_) (fun c_4 => ?_)
  · skip
    skip
    have key : ∀ (mm : Nat), ∀ (a : Int) (w : Int → Int), (0 ≤ a) → (a ≤ m_acts) → ((a = m_acts ∧ w = m_world) ∨ (a < m_acts ∧ w = wbW m_world m_waysBack a)) → a.toNat = mm → AW g K (wM g ρ m_thrown (w) m_fresh m_waysBack (a) m_images m_hasImage m_endOf m_strapMany m_tape m_taped m_five m_size m_at m_from m_token m_value m_faultKind m_faultPlace m_budgetsTold m_loadsTold m_deadSet m_unknownOf m_nodeOf m_unknowns m_cells m_whole m_ordered m_drawnBy m_left m_aside m_bestDead m_bestAbove m_bestBelow m_widened m_widenedMany m_fewOf m_drawing ++ ex) 0 0 15 [some (.ref (ρ 0)), some (.int (jI m_acts))] [] := by
      intro mm
      induction mm using Nat.strongRecOn with
      | _ mm ih =>
      intro a w ha0 ha1 hw hm
      refine r_aload_0 C dX5_anew_15 ?_
      refine gM_acts C q1389 dX5_anew_16 ?_
      refine r_ifle (tgt := 29) C dX5_anew_19 (by decide) (fun c_19 => ?_) (fun c_19 => ?_)
      · skip
        refine r_iload_1 C dX5_anew_29 ?_
        refine r_ireturn C E dX5_anew_30 ?_
        refine ⟨_, rfl, ?_⟩
        show @ite _ _ _ _ _
        rw [if_pos c_4]
        have e : a = 0 := by omega
        subst e
        refine ⟨rfl, ?_⟩
        have ew : w = (if m_acts = 0 then m_world else wbW m_world m_waysBack 0) := by
          rcases hw with ⟨q, rfl⟩ | ⟨q, rfl⟩
          · rw [if_pos q.symm]
          · rw [if_neg (by omega)]
        rw [ew]
        exact PubM.mk
      · skip
        refine r_aload_0 C dX5_anew_22 ?_
        refine r_cV0v C (c_X5_takesBack hG (by omega)) (q0 := 0) rfl rfl q2091 pkX5_takesBack dX5_anew_23 (fun w h => ?_)
        subst h
        refine r_goto (tgt := 15) C dX5_anew_26 (by decide) ?_
        refine ih _ (show (a - 1).toNat < mm by omega) (a - 1) _ (by omega) (by omega) (Or.inr ⟨by omega, ?_⟩) rfl
        rcases hw with ⟨-, rfl⟩ | ⟨-, rfl⟩
        · rfl
        · funext j
          unfold wbW
          split <;> rfl
    refine r_aload_0 C dX5_anew_10 ?_
    refine gM_acts C q1389 dX5_anew_11 ?_
    refine r_istore_1 C dX5_anew_14 ?_
    exact key _ m_acts m_world ha.1 (by omega) (Or.inl ⟨rfl, rfl⟩) rfl
  · skip
    refine r_bipush C dX5_anew_7 ?_
    refine r_ireturn C E dX5_anew_9 ?_
    refine ⟨_, rfl, ?_⟩
    show @ite _ _ _ _ _
    rw [if_neg c_4]
    exact ⟨rfl, PubM.mk⟩
theorem c_X5_end (hG : Gok g) {n : Int} (hn : inR n) (ht : 0 ≤ m_taped ∧ m_taped ≤ 700) : XMet g yX5_end cX5_end 2 (some .int) 1 0 0 [.ref (ρ 0), .int (jI n)] (wM g ρ m_thrown m_world m_fresh m_waysBack m_acts m_images m_hasImage m_endOf m_strapMany m_tape m_taped m_five m_size m_at m_from m_token m_value m_faultKind m_faultPlace m_budgetsTold m_loadsTold m_deadSet m_unknownOf m_nodeOf m_unknowns m_cells m_whole m_ordered m_drawnBy m_left m_aside m_bestDead m_bestAbove m_bestBelow m_widened m_widenedMany m_fewOf m_drawing ++ ex) (pI (fun z w => if 0 ≤ n ∧ n ≤ m_taped then z = n ∧ PubM g ρ ex m_world m_waysBack m_acts m_images m_hasImage m_tape (n) m_faultKind m_faultPlace w else z = -1 ∧ PubM g ρ ex m_world m_waysBack m_acts m_images m_hasImage m_tape m_taped m_faultKind m_faultPlace w)) := by
  refine XMet.of (L := [some (.ref (ρ 0)), some (.int (jI n))]) hG (by decide +kernel) (Nat.le_of_ble_eq_true rfl) rfl (fun K C E => ?_)
  refine r_iload_1 C dX5_end_0 ?_
  refine r_i2l C dX5_end_1 ?_
  refine r_lconst0 C dX5_end_2 ?_
  refine r_aload_0 C dX5_end_3 ?_
  refine gM_taped C q1395 dX5_end_4 ?_
  refine r_i2l C dX5_end_7 ?_
  refine r_cS3i C (c_X5_in hG (inR_L hn) (by unfold inL; omega) (by unfold inL; omega)) q1506 pkX5_in dX5_end_8 (fun z w h => ?_)
  obtain ⟨rfl, rfl⟩ := h
  refine r_ifneB (tgt := 16) C dX5_end_11 (by decide) (fun c_11 => ?_) (fun c_11 => ?_)
  · skip
    refine r_aload_0 C dX5_end_16 ?_
    refine r_iload_1 C dX5_end_17 ?_
    refine pM_taped C q1395 dX5_end_18 ?_
    refine r_iload_1 C dX5_end_21 ?_
    refine r_ireturn C E dX5_end_22 ?_
    refine ⟨_, rfl, ?_⟩
    show @ite _ _ _ _ _
    rw [if_pos c_11]
    exact ⟨rfl, PubM.mk⟩
  · skip
    refine r_iconst C dX5_end_14 ?_
    refine r_ireturn C E dX5_end_15 ?_
    refine ⟨_, rfl, ?_⟩
    show @ite _ _ _ _ _
    rw [if_neg c_11]
    exact ⟨rfl, PubM.mk⟩
theorem c_X5_fault (hG : Gok g) {q : Int} (hq : inR q) : XMet g yX5_fault cX5_fault 2 (some .int) 0 0 0 [.ref (ρ 0), .int (jI q)] (wM g ρ m_thrown m_world m_fresh m_waysBack m_acts m_images m_hasImage m_endOf m_strapMany m_tape m_taped m_five m_size m_at m_from m_token m_value m_faultKind m_faultPlace m_budgetsTold m_loadsTold m_deadSet m_unknownOf m_nodeOf m_unknowns m_cells m_whole m_ordered m_drawnBy m_left m_aside m_bestDead m_bestAbove m_bestBelow m_widened m_widenedMany m_fewOf m_drawing ++ ex) (pI (fun z w => z = (if q = 0 then m_faultKind else if q = 1 then m_faultPlace else -1) ∧ PubM g ρ ex m_world m_waysBack m_acts m_images m_hasImage m_tape m_taped m_faultKind m_faultPlace w)) := by
  refine XMet.of (L := [some (.ref (ρ 0)), some (.int (jI q))]) hG (by decide +kernel) (Nat.le_of_ble_eq_true rfl) rfl (fun K C E => ?_)
  refine r_iload_1 C dX5_fault_0 ?_
  refine r_ifne (tgt := 11) C dX5_fault_1 (by decide) (fun c_1 => ?_) (fun c_1 => ?_)
  · skip
    refine r_iload_1 C dX5_fault_11 ?_
    refine r_iconst C dX5_fault_12 ?_
    refine r_if_icmpne (tgt := 23) C dX5_fault_13 (by decide) (fun c_13 => ?_) (fun c_13 => ?_)
    · skip
      refine r_iconst C dX5_fault_23 ?_
      refine r_ireturn C E dX5_fault_24 ?_
      refine ⟨_, rfl, ?_, PubM.mk⟩
      first
        | rw [if_pos c_1]
        | rw [if_neg c_1, if_pos c_13]
        | rw [if_neg c_1, if_neg c_13]
    · skip
      refine r_aload_0 C dX5_fault_16 ?_
      refine gM_faultPlace C q1403 dX5_fault_17 ?_
      refine r_goto (tgt := 24) C dX5_fault_20 (by decide) ?_
      refine r_ireturn C E dX5_fault_24 ?_
      refine ⟨_, rfl, ?_, PubM.mk⟩
      first
        | rw [if_pos c_1]
        | rw [if_neg c_1, if_pos c_13]
        | rw [if_neg c_1, if_neg c_13]
  · skip
    refine r_aload_0 C dX5_fault_4 ?_
    refine gM_faultKind C q1402 dX5_fault_5 ?_
    refine r_goto (tgt := 24) C dX5_fault_8 (by decide) ?_
    refine r_ireturn C E dX5_fault_24 ?_
    refine ⟨_, rfl, ?_, PubM.mk⟩
    first
      | rw [if_pos c_1]
      | rw [if_neg c_1, if_pos c_13]
      | rw [if_neg c_1, if_neg c_13]
theorem c_X5_image (hG : Gok g) {k : Int} (hk : inR k) : XMet g yX5_image cX5_image 4 (some .int) 1 0 0 [.ref (ρ 0), .int (jI k)] (wM g ρ m_thrown m_world m_fresh m_waysBack m_acts m_images m_hasImage m_endOf m_strapMany m_tape m_taped m_five m_size m_at m_from m_token m_value m_faultKind m_faultPlace m_budgetsTold m_loadsTold m_deadSet m_unknownOf m_nodeOf m_unknowns m_cells m_whole m_ordered m_drawnBy m_left m_aside m_bestDead m_bestAbove m_bestBelow m_widened m_widenedMany m_fewOf m_drawing ++ ex) (pI (fun z w => if 0 ≤ k ∧ k ≤ 2 then z = 0 ∧ PubM g ρ ex m_world m_waysBack m_acts (imgS m_world m_waysBack m_images m_acts k) (aset m_hasImage k 1) m_tape m_taped m_faultKind m_faultPlace w else z = -2 ∧ PubM g ρ ex m_world m_waysBack m_acts m_images m_hasImage m_tape m_taped m_faultKind m_faultPlace w)) := by
  refine XMet.of (L := [some (.ref (ρ 0)), some (.int (jI k)), none, none]) hG (by decide +kernel) (Nat.le_of_ble_eq_true rfl) rfl (fun K C E => ?_)
  refine r_iload_1 C dX5_image_0 ?_
  refine r_i2l C dX5_image_1 ?_
  refine r_lconst0 C dX5_image_2 ?_
  refine r_ldc2 C 2 q1505 dX5_image_3 ?_
  refine r_cS3i C (c_X5_in hG (inR_L hk) (by unfold inL; omega) (by unfold inL; omega)) q1506 pkX5_in dX5_image_6 (fun z w h => ?_)
  obtain ⟨rfl, rfl⟩ := h
  refine r_ifneB (tgt := 15) C dX5_image_9 (by decide) (fun c_9 => ?_) (fun c_9 => ?_)
  · skip
    skip
    have key2 : ∀ (mm : Nat), ∀ (i : Int) (b : Int → Int), (0 ≤ i) → (i ≤ 840) → (∀ j, 0 ≤ j → j < 40 → b (881 * k + j) = m_world j) → (b (881 * k + 40) = m_acts) → (∀ j, 0 ≤ j → j < i → b (881 * k + 41 + j) = m_waysBack j) → (∀ j, ¬ (881 * k ≤ j ∧ j < 881 * k + 41 + i) → b j = m_images j) → (840 - i).toNat = mm → AW g K (wM g ρ m_thrown m_world m_fresh m_waysBack m_acts (b) m_hasImage m_endOf m_strapMany m_tape m_taped m_five m_size m_at m_from m_token m_value m_faultKind m_faultPlace m_budgetsTold m_loadsTold m_deadSet m_unknownOf m_nodeOf m_unknowns m_cells m_whole m_ordered m_drawnBy m_left m_aside m_bestDead m_bestAbove m_bestBelow m_widened m_widenedMany m_fewOf m_drawing ++ ex) 0 0 64 [some (.ref (ρ 0)), some (.int (jI k)), some (.int (jI (881 * k))), some (.int (jI i))] [] := by
      intro mm
      induction mm using Nat.strongRecOn with
      | _ mm ih =>
      intro i b hi0 hi h1 h2 h3 h4 hm
      refine r_iload_3 C dX5_image_64 ?_
      refine r_sipush C dX5_image_65 ?_
      refine r_if_icmpge (tgt := 96) C dX5_image_68 (by decide) (fun c_68 => ?_) (fun c_68 => ?_)
      · skip
        refine r_aload_0 C dX5_image_96 ?_
        refine gM_hasImage C q1391 dX5_image_97 ?_
        refine r_iload_1 C dX5_image_100 ?_
        refine r_iconst C dX5_image_101 ?_
        refine stM_hasImage C dX5_image_102 ?_
        refine r_iconst C dX5_image_103 ?_
        refine r_ireturn C E dX5_image_104 ?_
        have e : i = 840 := by omega
        subst e
        have ea : b = imgS m_world m_waysBack m_images m_acts k := by
          funext j
          unfold imgS
          by_cases e1 : 881 * k ≤ j ∧ j < 881 * k + 40
          · rw [if_pos e1]
            have := h1 (j - 881 * k) (by omega) (by omega)
            rwa [show 881 * k + (j - 881 * k) = j by omega] at this
          · rw [if_neg e1]
            by_cases e2 : j = 881 * k + 40
            · rw [if_pos e2, e2]; exact h2
            · rw [if_neg e2]
              by_cases e3 : 881 * k + 41 ≤ j ∧ j < 881 * k + 881
              · rw [if_pos e3]
                have := h3 (j - (881 * k + 41)) (by omega) (by omega)
                rwa [show 881 * k + 41 + (j - (881 * k + 41)) = j by omega] at this
              · rw [if_neg e3]; exact h4 j (by omega)
        subst ea
        refine ⟨_, rfl, ?_⟩
        show @ite _ _ _ _ _
        rw [if_pos c_9]
        exact ⟨rfl, PubM.mk⟩
      · skip
        refine r_aload_0 C dX5_image_71 ?_
        refine gM_images C q1390 dX5_image_72 ?_
        refine r_iload_2 C dX5_image_75 ?_
        refine r_bipush C dX5_image_76 ?_
        refine r_iadd C dX5_image_78 ?_
        refine r_iconst C dX5_image_79 ?_
        refine r_iadd C dX5_image_80 ?_
        refine r_iload_3 C dX5_image_81 ?_
        refine r_iadd C dX5_image_82 ?_
        refine r_aload_0 C dX5_image_83 ?_
        refine gM_waysBack C q1388 dX5_image_84 ?_
        refine r_iload_3 C dX5_image_87 ?_
        refine ldM_waysBack C dX5_image_88 ?_
        refine stM_images C dX5_image_89 ?_
        refine r_iinc_3 C dX5_image_90 ?_
        refine r_goto (tgt := 64) C dX5_image_93 (by decide) ?_
        refine ih _ (show (840 - (i + 1)).toNat < mm by omega) (i + 1) _ (by omega) (by omega) (fun j q1 q2 => ?_) ?_ (fun j q1 q2 => ?_) (fun j q => ?_) rfl
        · rw [aset_ne (by omega)]; exact h1 j q1 q2
        · rw [aset_ne (by omega)]; exact h2
        · by_cases ej : j = i
          · rw [ej, show 881 * k + 41 + i = 881 * k + 40 + 1 + i by omega, aset_at]
          · rw [aset_ne (by omega)]; exact h3 j q1 (by omega)
        · rw [aset_ne (by omega)]; exact h4 j (by omega)
    have key1 : ∀ (mm : Nat), ∀ (i : Int) (b : Int → Int), (0 ≤ i) → (i ≤ 40) → (∀ j, 0 ≤ j → j < i → b (881 * k + j) = m_world j) → (∀ j, ¬ (881 * k ≤ j ∧ j < 881 * k + i) → b j = m_images j) → (40 - i).toNat = mm → AW g K (wM g ρ m_thrown m_world m_fresh m_waysBack m_acts (b) m_hasImage m_endOf m_strapMany m_tape m_taped m_five m_size m_at m_from m_token m_value m_faultKind m_faultPlace m_budgetsTold m_loadsTold m_deadSet m_unknownOf m_nodeOf m_unknowns m_cells m_whole m_ordered m_drawnBy m_left m_aside m_bestDead m_bestAbove m_bestBelow m_widened m_widenedMany m_fewOf m_drawing ++ ex) 0 0 23 [some (.ref (ρ 0)), some (.int (jI k)), some (.int (jI (881 * k))), some (.int (jI i))] [] := by
      intro mm
      induction mm using Nat.strongRecOn with
      | _ mm ih =>
      intro i b hi0 hi h1 h4 hm
      refine r_iload_3 C dX5_image_23 ?_
      refine r_bipush C dX5_image_24 ?_
      refine r_if_icmpge (tgt := 49) C dX5_image_26 (by decide) (fun c_26 => ?_) (fun c_26 => ?_)
      · skip
        refine r_aload_0 C dX5_image_49 ?_
        refine gM_images C q1390 dX5_image_50 ?_
        refine r_iload_2 C dX5_image_53 ?_
        refine r_bipush C dX5_image_54 ?_
        refine r_iadd C dX5_image_56 ?_
        refine r_aload_0 C dX5_image_57 ?_
        refine gM_acts C q1389 dX5_image_58 ?_
        refine stM_images C dX5_image_61 ?_
        refine r_iconst C dX5_image_62 ?_
        refine r_istore_3 C dX5_image_63 ?_
        have e : i = 40 := by omega
        subst e
        refine key2 _ 0 _ (by omega) (by omega) (fun j q1 q2 => ?_) (aset_at _ _ _) (fun j _ _ => by omega) (fun j q => ?_) rfl
        · rw [aset_ne (by omega)]; exact h1 j q1 q2
        · rw [aset_ne (by omega)]; exact h4 j (by omega)
      · skip
        refine r_aload_0 C dX5_image_29 ?_
        refine gM_images C q1390 dX5_image_30 ?_
        refine r_iload_2 C dX5_image_33 ?_
        refine r_iload_3 C dX5_image_34 ?_
        refine r_iadd C dX5_image_35 ?_
        refine r_aload_0 C dX5_image_36 ?_
        refine gM_world C q1386 dX5_image_37 ?_
        refine r_iload_3 C dX5_image_40 ?_
        refine ldM_world C dX5_image_41 ?_
        refine stM_images C dX5_image_42 ?_
        refine r_iinc_3 C dX5_image_43 ?_
        refine r_goto (tgt := 23) C dX5_image_46 (by decide) ?_
        refine ih _ (show (40 - (i + 1)).toNat < mm by omega) (i + 1) _ (by omega) (by omega) (fun j q1 q2 => ?_) (fun j q => ?_) rfl
        · by_cases ej : j = i
          · rw [ej, aset_at]
          · rw [aset_ne (by omega)]; exact h1 j q1 (by omega)
        · rw [aset_ne (by omega)]; exact h4 j (by omega)
    refine r_sipush C dX5_image_15 ?_
    refine r_iload_1 C dX5_image_18 ?_
    refine r_imul C dX5_image_19 ?_
    refine r_istore_2 C dX5_image_20 ?_
    refine r_iconst C dX5_image_21 ?_
    refine r_istore_3 C dX5_image_22 ?_
    exact key1 _ 0 m_images (by omega) (by omega) (fun j _ _ => by omega) (fun j _ => rfl) rfl
  · skip
    refine r_bipush C dX5_image_12 ?_
    refine r_ireturn C E dX5_image_14 ?_
    refine ⟨_, rfl, ?_⟩
    show @ite _ _ _ _ _
    rw [if_neg c_9]
    exact ⟨rfl, PubM.mk⟩
theorem c_X5_back (hG : Gok g) {k : Int} (hk : inR k) (hI : ∀ j, 0 ≤ j → j < 3 → m_hasImage j = 0 ∨ m_hasImage j = 1) : XMet g yX5_back cX5_back 4 (some .int) 1 0 0 [.ref (ρ 0), .int (jI k)] (wM g ρ m_thrown m_world m_fresh m_waysBack m_acts m_images m_hasImage m_endOf m_strapMany m_tape m_taped m_five m_size m_at m_from m_token m_value m_faultKind m_faultPlace m_budgetsTold m_loadsTold m_deadSet m_unknownOf m_nodeOf m_unknowns m_cells m_whole m_ordered m_drawnBy m_left m_aside m_bestDead m_bestAbove m_bestBelow m_widened m_widenedMany m_fewOf m_drawing ++ ex) (pI (fun z w => if 0 ≤ k ∧ k ≤ 2 then (if m_hasImage k = 0 then z = -6 ∧ PubM g ρ ex m_world m_waysBack m_acts m_images m_hasImage m_tape m_taped m_faultKind m_faultPlace w else z = 0 ∧ PubM g ρ ex (imgW m_world m_images k) (imgB m_waysBack m_images k) (m_images (881 * k + 40)) m_images m_hasImage m_tape m_taped m_faultKind m_faultPlace w) else z = -2 ∧ PubM g ρ ex m_world m_waysBack m_acts m_images m_hasImage m_tape m_taped m_faultKind m_faultPlace w)) := by
  refine XMet.of (L := [some (.ref (ρ 0)), some (.int (jI k)), none, none]) hG (by decide +kernel) (Nat.le_of_ble_eq_true rfl) rfl (fun K C E => ?_)
  refine r_iload_1 C dX5_back_0 ?_
  refine r_i2l C dX5_back_1 ?_
  refine r_lconst0 C dX5_back_2 ?_
  refine r_ldc2 C 2 q1505 dX5_back_3 ?_
  refine r_cS3i C (c_X5_in hG (inR_L hk) (by unfold inL; omega) (by unfold inL; omega)) q1506 pkX5_in dX5_back_6 (fun z w h => ?_)
  obtain ⟨rfl, rfl⟩ := h
  refine r_ifneB (tgt := 15) C dX5_back_9 (by decide) (fun c_9 => ?_) (fun c_9 => ?_)
  · skip
    have hIk := hI k (by omega) (by omega)
    refine r_aload_0 C dX5_back_15 ?_
    refine gM_hasImage C q1391 dX5_back_16 ?_
    refine r_iload_1 C dX5_back_19 ?_
    refine ldM_hasImage C dX5_back_20 ?_
    refine r_ifne (tgt := 27) C dX5_back_21 (by decide) (fun c_21 => ?_) (fun c_21 => ?_)
    · skip
      skip
      have key2 : ∀ (mm : Nat), ∀ (i : Int) (b : Int → Int), (0 ≤ i) → (i ≤ 840) → (∀ j, 0 ≤ j → j < i → b j = m_images (881 * k + 41 + j)) → (∀ j, ¬ (0 ≤ j ∧ j < i) → b j = m_waysBack j) → (840 - i).toNat = mm → AW g K (wM g ρ m_thrown (imgW m_world m_images k) m_fresh (b) (m_images (881 * k + 40)) m_images m_hasImage m_endOf m_strapMany m_tape m_taped m_five m_size m_at m_from m_token m_value m_faultKind m_faultPlace m_budgetsTold m_loadsTold m_deadSet m_unknownOf m_nodeOf m_unknowns m_cells m_whole m_ordered m_drawnBy m_left m_aside m_bestDead m_bestAbove m_bestBelow m_widened m_widenedMany m_fewOf m_drawing ++ ex) 0 0 76 [some (.ref (ρ 0)), some (.int (jI k)), some (.int (jI (881 * k))), some (.int (jI i))] [] := by
        intro mm
        induction mm using Nat.strongRecOn with
        | _ mm ih =>
        intro i b hi0 hi h1 h2 hm
        refine r_iload_3 C dX5_back_76 ?_
        refine r_sipush C dX5_back_77 ?_
        refine r_if_icmpge (tgt := 108) C dX5_back_80 (by decide) (fun c_80 => ?_) (fun c_80 => ?_)
        · skip
          refine r_iconst C dX5_back_108 ?_
          refine r_ireturn C E dX5_back_109 ?_
          have e : i = 840 := by omega
          subst e
          have ea : b = imgB m_waysBack m_images k := by
            funext j
            unfold imgB
            split
            · rename_i q; exact h1 j q.1 q.2
            · rename_i q; exact h2 j q
          subst ea
          refine ⟨_, rfl, ?_⟩
          show @ite _ _ _ _ _
          rw [if_pos c_9, if_neg c_21]
          exact ⟨rfl, PubM.mk⟩
        · skip
          refine r_aload_0 C dX5_back_83 ?_
          refine gM_waysBack C q1388 dX5_back_84 ?_
          refine r_iload_3 C dX5_back_87 ?_
          refine r_aload_0 C dX5_back_88 ?_
          refine gM_images C q1390 dX5_back_89 ?_
          refine r_iload_2 C dX5_back_92 ?_
          refine r_bipush C dX5_back_93 ?_
          refine r_iadd C dX5_back_95 ?_
          refine r_iconst C dX5_back_96 ?_
          refine r_iadd C dX5_back_97 ?_
          refine r_iload_3 C dX5_back_98 ?_
          refine r_iadd C dX5_back_99 ?_
          refine ldM_images C dX5_back_100 ?_
          refine stM_waysBack C dX5_back_101 ?_
          refine r_iinc_3 C dX5_back_102 ?_
          refine r_goto (tgt := 76) C dX5_back_105 (by decide) ?_
          refine ih _ (show (840 - (i + 1)).toNat < mm by omega) (i + 1) _ (by omega) (by omega) (fun j q1 q2 => ?_) (fun j q => ?_) rfl
          · by_cases ej : j = i
            · rw [ej, aset_at, show 881 * k + 40 + 1 + i = 881 * k + 41 + i by omega]
            · rw [aset_ne (by omega)]; exact h1 j q1 (by omega)
          · rw [aset_ne (by omega)]; exact h2 j (by omega)
      have key1 : ∀ (mm : Nat), ∀ (i : Int) (b : Int → Int), (0 ≤ i) → (i ≤ 40) → (∀ j, 0 ≤ j → j < i → b j = m_images (881 * k + j)) → (∀ j, ¬ (0 ≤ j ∧ j < i) → b j = m_world j) → (40 - i).toNat = mm → AW g K (wM g ρ m_thrown (b) m_fresh m_waysBack m_acts m_images m_hasImage m_endOf m_strapMany m_tape m_taped m_five m_size m_at m_from m_token m_value m_faultKind m_faultPlace m_budgetsTold m_loadsTold m_deadSet m_unknownOf m_nodeOf m_unknowns m_cells m_whole m_ordered m_drawnBy m_left m_aside m_bestDead m_bestAbove m_bestBelow m_widened m_widenedMany m_fewOf m_drawing ++ ex) 0 0 35 [some (.ref (ρ 0)), some (.int (jI k)), some (.int (jI (881 * k))), some (.int (jI i))] [] := by
        intro mm
        induction mm using Nat.strongRecOn with
        | _ mm ih =>
        intro i b hi0 hi h1 h2 hm
        refine r_iload_3 C dX5_back_35 ?_
        refine r_bipush C dX5_back_36 ?_
        refine r_if_icmpge (tgt := 61) C dX5_back_38 (by decide) (fun c_38 => ?_) (fun c_38 => ?_)
        · skip
          have e : i = 40 := by omega
          subst e
          have ea : b = imgW m_world m_images k := by
            funext j
            unfold imgW
            split
            · rename_i q; exact h1 j q.1 q.2
            · rename_i q; exact h2 j q
          subst ea
          refine r_aload_0 C dX5_back_61 ?_
          refine r_aload_0 C dX5_back_62 ?_
          refine gM_images C q1390 dX5_back_63 ?_
          refine r_iload_2 C dX5_back_66 ?_
          refine r_bipush C dX5_back_67 ?_
          refine r_iadd C dX5_back_69 ?_
          refine ldM_images C dX5_back_70 ?_
          refine pM_acts C q1389 dX5_back_71 ?_
          refine r_iconst C dX5_back_74 ?_
          refine r_istore_3 C dX5_back_75 ?_
          exact key2 _ 0 _ (by omega) (by omega) (fun j _ _ => by omega) (fun j _ => rfl) rfl
        · skip
          refine r_aload_0 C dX5_back_41 ?_
          refine gM_world C q1386 dX5_back_42 ?_
          refine r_iload_3 C dX5_back_45 ?_
          refine r_aload_0 C dX5_back_46 ?_
          refine gM_images C q1390 dX5_back_47 ?_
          refine r_iload_2 C dX5_back_50 ?_
          refine r_iload_3 C dX5_back_51 ?_
          refine r_iadd C dX5_back_52 ?_
          refine ldM_images C dX5_back_53 ?_
          refine stM_world C dX5_back_54 ?_
          refine r_iinc_3 C dX5_back_55 ?_
          refine r_goto (tgt := 35) C dX5_back_58 (by decide) ?_
          refine ih _ (show (40 - (i + 1)).toNat < mm by omega) (i + 1) _ (by omega) (by omega) (fun j q1 q2 => ?_) (fun j q => ?_) rfl
          · by_cases ej : j = i
            · rw [ej, aset_at]
            · rw [aset_ne (by omega)]; exact h1 j q1 (by omega)
          · rw [aset_ne (by omega)]; exact h2 j (by omega)
      refine r_sipush C dX5_back_27 ?_
      refine r_iload_1 C dX5_back_30 ?_
      refine r_imul C dX5_back_31 ?_
      refine r_istore_2 C dX5_back_32 ?_
      refine r_iconst C dX5_back_33 ?_
      refine r_istore_3 C dX5_back_34 ?_
      exact key1 _ 0 m_world (by omega) (by omega) (fun j _ _ => by omega) (fun j _ => rfl) rfl
    · skip
      refine r_bipush C dX5_back_24 ?_
      refine r_ireturn C E dX5_back_26 ?_
      refine ⟨_, rfl, ?_⟩
      show @ite _ _ _ _ _
      rw [if_pos c_9, if_pos c_21]
      exact ⟨rfl, PubM.mk⟩
  · skip
    refine r_bipush C dX5_back_12 ?_
    refine r_ireturn C E dX5_back_14 ?_
    refine ⟨_, rfl, ?_⟩
    show @ite _ _ _ _ _
    rw [if_neg c_9]
    exact ⟨rfl, PubM.mk⟩
theorem c_X5_feed (hG : Gok g) {a b c d e : Int} (ht : 0 ≤ m_taped ∧ m_taped ≤ 700) : XMet g yX5_feed cX5_feed 7 (some .int) 0 0 0 [.ref (ρ 0), .int (jI a), .int (jI b), .int (jI c), .int (jI d), .int (jI e)] (wM g ρ m_thrown m_world m_fresh m_waysBack m_acts m_images m_hasImage m_endOf m_strapMany m_tape m_taped m_five m_size m_at m_from m_token m_value m_faultKind m_faultPlace m_budgetsTold m_loadsTold m_deadSet m_unknownOf m_nodeOf m_unknowns m_cells m_whole m_ordered m_drawnBy m_left m_aside m_bestDead m_bestAbove m_bestBelow m_widened m_widenedMany m_fewOf m_drawing ++ ex) (pI (fun z w => if m_taped + 20 ≤ 700 then z = m_taped + 20 ∧ PubM g ρ ex m_world m_waysBack m_acts m_images m_hasImage (fdT m_tape m_taped a b c d e) (m_taped + 20) m_faultKind m_faultPlace w else z = -1 ∧ PubM g ρ ex m_world m_waysBack m_acts m_images m_hasImage m_tape m_taped m_faultKind m_faultPlace w)) := by
  refine XMet.of (L := [some (.ref (ρ 0)), some (.int (jI a)), some (.int (jI b)), some (.int (jI c)), some (.int (jI d)), some (.int (jI e)), none]) hG (by decide +kernel) (Nat.le_of_ble_eq_true rfl) rfl (fun K C E => ?_)
  refine r_aload_0 C dX5_feed_0 ?_
  refine gM_taped C q1395 dX5_feed_1 ?_
  refine r_bipush C dX5_feed_4 ?_
  refine r_iadd C dX5_feed_6 ?_
  refine r_sipush C dX5_feed_7 ?_
  refine r_if_icmple (tgt := 15) C dX5_feed_10 (by decide) (fun c_10 => ?_) (fun c_10 => ?_)
  · skip
    skip
    have key : ∀ (mm : Nat), ∀ (k : Int) (t f5 : Int → Int), (0 ≤ k) → (k ≤ 20) → (∀ i, 0 ≤ i → i < 5 → f5 i = fdA a b c d e i) → (∀ j, 0 ≤ j → j < k → t (m_taped + j) = fdB a b c d e j) → (∀ j, ¬ (m_taped ≤ j ∧ j < m_taped + k) → t j = m_tape j) → (20 - k).toNat = mm → AW g K (wM g ρ m_thrown m_world m_fresh m_waysBack m_acts m_images m_hasImage m_endOf m_strapMany (t) m_taped (f5) m_size m_at m_from m_token m_value m_faultKind m_faultPlace m_budgetsTold m_loadsTold m_deadSet m_unknownOf m_nodeOf m_unknowns m_cells m_whole m_ordered m_drawnBy m_left m_aside m_bestDead m_bestAbove m_bestBelow m_widened m_widenedMany m_fewOf m_drawing ++ ex) 0 0 55 [some (.ref (ρ 0)), some (.int (jI a)), some (.int (jI b)), some (.int (jI c)), some (.int (jI d)), some (.int (jI e)), some (.int (jI k))] [] := by
      intro mm
      induction mm using Nat.strongRecOn with
      | _ mm ih =>
      intro k t f5 hk0 hk h5 h1 h2 hm
      refine r_iload_6 C dX5_feed_55 ?_
      refine r_bipush C dX5_feed_57 ?_
      refine r_if_icmpge (tgt := 101) C dX5_feed_59 (by decide) (fun c_59 => ?_) (fun c_59 => ?_)
      · skip
        refine r_aload_0 C dX5_feed_101 ?_
        refine r_dup C dX5_feed_102 ?_
        refine gM_taped C q1395 dX5_feed_103 ?_
        refine r_bipush C dX5_feed_106 ?_
        refine r_iadd C dX5_feed_108 ?_
        refine pM_taped C q1395 dX5_feed_109 ?_
        refine r_aload_0 C dX5_feed_112 ?_
        refine gM_taped C q1395 dX5_feed_113 ?_
        refine r_ireturn C E dX5_feed_116 ?_
        have e : k = 20 := by omega
        subst e
        have ea : t = fdT m_tape m_taped a b c d e := by
          funext j
          unfold fdT
          split
          · rename_i q
            have := h1 (j - m_taped) (by omega) (by omega)
            rwa [show m_taped + (j - m_taped) = j by omega] at this
          · rename_i q; exact h2 j q
        subst ea
        refine ⟨_, rfl, ?_⟩
        show @ite _ _ _ _ _
        rw [if_pos (by omega)]
        exact ⟨rfl, PubM.mk⟩
      · skip
        have hB := fdB_in a b c d e k
        refine r_aload_0 C dX5_feed_62 ?_
        refine gM_tape C q1394 dX5_feed_63 ?_
        refine r_aload_0 C dX5_feed_66 ?_
        refine gM_taped C q1395 dX5_feed_67 ?_
        refine r_iload_6 C dX5_feed_70 ?_
        refine r_iadd C dX5_feed_72 ?_
        refine r_aload_0 C dX5_feed_73 ?_
        refine gM_five C q1396 dX5_feed_74 ?_
        refine r_iload_6 C dX5_feed_77 ?_
        refine r_iconst C dX5_feed_79 ?_
        refine r_idiv C dX5_feed_80 ?_
        refine r_topi (k / 4) (pl_tdiv hk0) ?_
        refine ldM_five C dX5_feed_81 ?_
        refine r_topi (fdA a b c d e (k / 4)) (h5 _ (by omega) (by omega)) ?_
        refine r_bipush C dX5_feed_82 ?_
        refine r_bipush C dX5_feed_84 ?_
        refine r_iload_6 C dX5_feed_86 ?_
        refine r_iconst C dX5_feed_88 ?_
        refine r_irem C dX5_feed_89 ?_
        refine r_topi (k % 4) (pl_tmod hk0) ?_
        refine r_imul C dX5_feed_90 ?_
        refine r_isub C dX5_feed_91 ?_
        refine r_ishr C (_) dX5_feed_92 ((jI_of _).symm) ?_
        refine r_i2b C (fdB a b c d e k) dX5_feed_93 ((jI_of _).symm) ?_
        refine stM_tape C dX5_feed_94 ?_
        refine r_iinc_6 C dX5_feed_95 ?_
        refine r_goto (tgt := 55) C dX5_feed_98 (by decide) ?_
        refine ih _ (show (20 - (k + 1)).toNat < mm by omega) (k + 1) _ f5 (by omega) (by omega) h5 (fun j q1 q2 => ?_) (fun j q => ?_) rfl
        · by_cases ej : j = k
          · rw [ej, aset_at]
          · rw [aset_ne (by omega)]; exact h1 j q1 (by omega)
        · rw [aset_ne (by omega)]; exact h2 j (by omega)
    refine r_aload_0 C dX5_feed_15 ?_
    refine gM_five C q1396 dX5_feed_16 ?_
    refine r_iconst C dX5_feed_19 ?_
    refine r_iload_1 C dX5_feed_20 ?_
    refine stM_five C dX5_feed_21 ?_
    refine r_aload_0 C dX5_feed_22 ?_
    refine gM_five C q1396 dX5_feed_23 ?_
    refine r_iconst C dX5_feed_26 ?_
    refine r_iload_2 C dX5_feed_27 ?_
    refine stM_five C dX5_feed_28 ?_
    refine r_aload_0 C dX5_feed_29 ?_
    refine gM_five C q1396 dX5_feed_30 ?_
    refine r_iconst C dX5_feed_33 ?_
    refine r_iload_3 C dX5_feed_34 ?_
    refine stM_five C dX5_feed_35 ?_
    refine r_aload_0 C dX5_feed_36 ?_
    refine gM_five C q1396 dX5_feed_37 ?_
    refine r_iconst C dX5_feed_40 ?_
    refine r_iload_4 C dX5_feed_41 ?_
    refine stM_five C dX5_feed_43 ?_
    refine r_aload_0 C dX5_feed_44 ?_
    refine gM_five C q1396 dX5_feed_45 ?_
    refine r_iconst C dX5_feed_48 ?_
    refine r_iload_5 C dX5_feed_49 ?_
    refine stM_five C dX5_feed_51 ?_
    refine r_iconst C dX5_feed_52 ?_
    refine r_istore_6 C dX5_feed_53 ?_
    refine key _ 0 m_tape _ (by omega) (by omega) (fun i q1 q2 => ?_) (fun j _ _ => by omega) (fun j _ => rfl) rfl
    rcases (show i = 0 ∨ i = 1 ∨ i = 2 ∨ i = 3 ∨ i = 4 by omega) with h | h | h | h | h <;> subst h <;> rfl
  · skip
    refine r_iconst C dX5_feed_13 ?_
    refine r_ireturn C E dX5_feed_14 ?_
    refine ⟨_, rfl, ?_⟩
    show @ite _ _ _ _ _
    rw [if_neg (by omega)]
    exact ⟨rfl, PubM.mk⟩
end M15

