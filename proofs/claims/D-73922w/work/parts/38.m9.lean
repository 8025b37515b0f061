section M9
variable {g : GX} {ρ : Nat → Nat} {ex : va_W}
variable {m_thrown : Int} {m_world : Int → Int} {m_fresh : Int → Int} {m_waysBack : Int → Int} {m_acts : Int} {m_images : Int → Int} {m_hasImage : Int → Int} {m_endOf : Int → Int} {m_strapMany : Int} {m_tape : Int → Int} {m_taped : Int} {m_five : Int → Int} {m_size : Int} {m_at : Int} {m_from : Int} {m_token : Int} {m_value : Int} {m_faultKind : Int} {m_faultPlace : Int} {m_budgetsTold : Int} {m_loadsTold : Int} {m_deadSet : Int} {m_unknownOf : Int → Int} {m_nodeOf : Int → Int} {m_unknowns : Int} {m_cells : Int → Int} {m_whole : Int} {m_ordered : Int → Int} {m_drawnBy : Int → Int} {m_left : Int → Int} {m_aside : Int → Int} {m_bestDead : Int} {m_bestAbove : Int} {m_bestBelow : Int} {m_widened : Int → Int} {m_widenedMany : Int} {m_fewOf : Int → Int} {m_drawing : Int}
theorem c_X5_isPart {ws : va_W} (hG : Gok g) {p : Int} (hp : inR p) : XMet g yX5_isPart cX5_isPart 1 (some .boolean) 1 0 0 [.int (jI p)] ws (pI (fun z w => z = (if isPb p then 1 else 0) ∧ w = ws)) := by
  refine XMet.of (L := [some (.int (jI p))]) hG (by decide +kernel) (Nat.le_of_ble_eq_true rfl) rfl (fun K C E => ?_)
  refine r_iload_0 C dX5_isPart_0 ?_
  refine r_i2l C dX5_isPart_1 ?_
  refine r_lconst0 C dX5_isPart_2 ?_
  refine r_lconst1 C dX5_isPart_3 ?_
  refine r_cS3i C (c_X5_in hG (inR_L hp) (by unfold inL; omega) (by unfold inL; omega)) q1506 pkX5_in dX5_isPart_4 (fun z w h => ?_)
  obtain ⟨rfl, rfl⟩ := h
  refine r_zreturn C E dX5_isPart_7 (by split <;> omega) ?_
  exact ⟨_, rfl, by simp [isPb], rfl⟩
theorem c_X5_isStrapW (hG : Gok g) {k : Int} (hk : inR k) (hW : WF m_world) : XMet g yX5_isStrap cX5_isStrap 2 (some .boolean) 3 0 0 [.ref (ρ 0), .int (jI k)] (wM g ρ m_thrown m_world m_fresh m_waysBack m_acts m_images m_hasImage m_endOf m_strapMany m_tape m_taped m_five m_size m_at m_from m_token m_value m_faultKind m_faultPlace m_budgetsTold m_loadsTold m_deadSet m_unknownOf m_nodeOf m_unknowns m_cells m_whole m_ordered m_drawnBy m_left m_aside m_bestDead m_bestAbove m_bestBelow m_widened m_widenedMany m_fewOf m_drawing ++ ex) (pI (fun z w => z = (if isKb m_world k then 1 else 0) ∧ ∃ e sm, (Gd m_world → Ends (m_world 0) (m_world 1) e ∧ sm = wS m_world) ∧ w = (wM g ρ m_thrown m_world m_fresh m_waysBack m_acts m_images m_hasImage (e) (sm) m_tape m_taped m_five m_size m_at m_from m_token m_value m_faultKind m_faultPlace m_budgetsTold m_loadsTold m_deadSet m_unknownOf m_nodeOf m_unknowns m_cells m_whole m_ordered m_drawnBy m_left m_aside m_bestDead m_bestAbove m_bestBelow m_widened m_widenedMany m_fewOf m_drawing ++ ex))) := by
  rcases hW with hd | hz
  · refine (c_X5_isStrap hG hk hd.l hd.g).mono ?_
    rintro r w ⟨z, rfl, rfl, e, he, rfl⟩
    refine ⟨_, rfl, ?_, e, _, fun _ => ⟨he, rfl⟩, rfl⟩
    have := hd.l
    simp [isKb, wS, this.1]
  · refine (c_X5_isStrap0 hG hk hz.l).mono ?_
    rintro r w ⟨z, rfl, rfl, rfl⟩
    refine ⟨_, rfl, ?_, m_endOf, m_strapMany, fun hd => ?_, rfl⟩
    · have := hz.l
      simp [isKb, this]
    · have := hd.l
      have := hz.l
      omega
theorem c_X5_strapsW (hG : Gok g) (hW : WF m_world) : XMet g yX5_straps cX5_straps 1 (some .int) 2 0 0 [.ref (ρ 0)] (wM g ρ m_thrown m_world m_fresh m_waysBack m_acts m_images m_hasImage m_endOf m_strapMany m_tape m_taped m_five m_size m_at m_from m_token m_value m_faultKind m_faultPlace m_budgetsTold m_loadsTold m_deadSet m_unknownOf m_nodeOf m_unknowns m_cells m_whole m_ordered m_drawnBy m_left m_aside m_bestDead m_bestAbove m_bestBelow m_widened m_widenedMany m_fewOf m_drawing ++ ex) (pI (fun z w => z = (if 0 < m_world 4 then wS m_world else 0) ∧ ∃ e sm, (Gd m_world → Ends (m_world 0) (m_world 1) e ∧ sm = wS m_world) ∧ w = (wM g ρ m_thrown m_world m_fresh m_waysBack m_acts m_images m_hasImage (e) (sm) m_tape m_taped m_five m_size m_at m_from m_token m_value m_faultKind m_faultPlace m_budgetsTold m_loadsTold m_deadSet m_unknownOf m_nodeOf m_unknowns m_cells m_whole m_ordered m_drawnBy m_left m_aside m_bestDead m_bestAbove m_bestBelow m_widened m_widenedMany m_fewOf m_drawing ++ ex))) := by
  rcases hW with hd | hz
  · refine (c_X5_straps hG hd.l hd.g).mono ?_
    rintro r w ⟨z, rfl, rfl, e, he, rfl⟩
    exact ⟨_, rfl, (if_pos hd.l.1).symm, e, _, fun _ => ⟨he, rfl⟩, rfl⟩
  · refine (c_X5_straps0 hG hz.l).mono ?_
    rintro r w ⟨z, rfl, rfl, rfl⟩
    refine ⟨_, rfl, (if_neg (by have := hz.l; omega)).symm, m_endOf, m_strapMany, fun hd => ?_, rfl⟩
    have := hd.l
    have := hz.l
    omega
theorem c_X5_asksW (hG : Gok g) (hW : WF m_world) : XMet g yX5_asks cX5_asks 1 (some .boolean) 5 0 0 [.ref (ρ 0)] (wM g ρ m_thrown m_world m_fresh m_waysBack m_acts m_images m_hasImage m_endOf m_strapMany m_tape m_taped m_five m_size m_at m_from m_token m_value m_faultKind m_faultPlace m_budgetsTold m_loadsTold m_deadSet m_unknownOf m_nodeOf m_unknowns m_cells m_whole m_ordered m_drawnBy m_left m_aside m_bestDead m_bestAbove m_bestBelow m_widened m_widenedMany m_fewOf m_drawing ++ ex) (pI (fun z w => z = (if 0 < m_world 4 then 1 else 0) ∧ ∃ e sm ds un no um ce wh, (Gd m_world → Ends (m_world 0) (m_world 1) e ∧ SolW m_world un no ce ∧ sm = wS m_world ∧ ds = wDead m_world ∧ um = wm m_world ∧ wh = wWh m_world) ∧ w = (wM g ρ m_thrown m_world m_fresh m_waysBack m_acts m_images m_hasImage (e) (sm) m_tape m_taped m_five m_size m_at m_from m_token m_value m_faultKind m_faultPlace m_budgetsTold m_loadsTold (ds) (un) (no) (um) (ce) (wh) m_ordered m_drawnBy m_left m_aside m_bestDead m_bestAbove m_bestBelow m_widened m_widenedMany m_fewOf m_drawing ++ ex))) := by
  rcases hW with hd | hz
  · refine (c_X5_asks hG hd).mono ?_
    rintro r w ⟨z, rfl, rfl, e, un, no, ce, he, hS, rfl⟩
    exact ⟨_, rfl, (if_pos hd.l.1).symm, e, _, _, un, no, _, ce, _, fun _ => ⟨he, hS, rfl, rfl, rfl, rfl⟩, rfl⟩
  · refine (c_X5_asks0 hG hz.l).mono ?_
    rintro r w ⟨z, rfl, rfl, rfl⟩
    refine ⟨_, rfl, (if_neg (by have := hz.l; omega)).symm, m_endOf, m_strapMany, m_deadSet, m_unknownOf, m_nodeOf, m_unknowns, m_cells, m_whole, fun hd => ?_, rfl⟩
    have := hd.l
    have := hz.l
    omega
theorem c_X5_count (hG : Gok g) {q : Int} (hq : inR q) (hW : WF m_world) : XMet g yX5_count cX5_count 2 (some .int) 6 0 0 [.ref (ρ 0), .int (jI q)] (wM g ρ m_thrown m_world m_fresh m_waysBack m_acts m_images m_hasImage m_endOf m_strapMany m_tape m_taped m_five m_size m_at m_from m_token m_value m_faultKind m_faultPlace m_budgetsTold m_loadsTold m_deadSet m_unknownOf m_nodeOf m_unknowns m_cells m_whole m_ordered m_drawnBy m_left m_aside m_bestDead m_bestAbove m_bestBelow m_widened m_widenedMany m_fewOf m_drawing ++ ex) (pI (fun z w => z = spCount m_world m_acts m_taped q ∧ PubM g ρ ex m_world m_waysBack m_acts m_images m_hasImage m_tape m_taped m_faultKind m_faultPlace w)) := by
  refine XMet.of (L := [some (.ref (ρ 0)), some (.int (jI q))]) hG (by decide +kernel) (Nat.le_of_ble_eq_true rfl) rfl (fun K C E => ?_)
  refine r_iload_1 C dX5_count_0 ?_
  refine r_tsC 0 0 (tgt := 56) C dX5_count_1 rfl (by decide) rfl (by decide) (fun e_1 => ?_) (fun n_1_0 => ?_)
  · skip
    refine r_aload_0 C dX5_count_56 ?_
    refine gM_world C q1386 dX5_count_57 ?_
    refine r_iconst C dX5_count_60 ?_
    refine ldM_world C dX5_count_61 ?_
    refine r_ireturn C E dX5_count_62 ?_
    exact ⟨_, rfl, by subst e_1; simp [spCount], PubM.mk⟩
  refine r_tsC 1 1 (tgt := 63) C dX5_count_1 rfl (by decide) rfl (by decide) (fun e_1 => ?_) (fun n_1_1 => ?_)
  · skip
    refine r_aload_0 C dX5_count_63 ?_
    refine gM_world C q1386 dX5_count_64 ?_
    refine r_iconst C dX5_count_67 ?_
    refine ldM_world C dX5_count_68 ?_
    refine r_ireturn C E dX5_count_69 ?_
    exact ⟨_, rfl, by subst e_1; simp [spCount], PubM.mk⟩
  refine r_tsC 2 2 (tgt := 70) C dX5_count_1 rfl (by decide) rfl (by decide) (fun e_1 => ?_) (fun n_1_2 => ?_)
  · skip
    refine r_aload_0 C dX5_count_70 ?_
    refine gM_world C q1386 dX5_count_71 ?_
    refine r_iconst C dX5_count_74 ?_
    refine ldM_world C dX5_count_75 ?_
    refine r_ireturn C E dX5_count_76 ?_
    exact ⟨_, rfl, by subst e_1; simp [spCount], PubM.mk⟩
  refine r_tsC 3 3 (tgt := 77) C dX5_count_1 rfl (by decide) rfl (by decide) (fun e_1 => ?_) (fun n_1_3 => ?_)
  · skip
    refine r_aload_0 C dX5_count_77 ?_
    refine gM_world C q1386 dX5_count_78 ?_
    refine r_iconst C dX5_count_81 ?_
    refine ldM_world C dX5_count_82 ?_
    refine r_ireturn C E dX5_count_83 ?_
    exact ⟨_, rfl, by subst e_1; simp [spCount], PubM.mk⟩
  refine r_tsC 4 4 (tgt := 84) C dX5_count_1 rfl (by decide) rfl (by decide) (fun e_1 => ?_) (fun n_1_4 => ?_)
  · skip
    refine r_aload_0 C dX5_count_84 ?_
    refine r_cV0i C (c_X5_strapsW hG hW) (q0 := 0) rfl rfl q1634 pkX5_straps dX5_count_85 (fun z w h => ?_)
    obtain ⟨rfl, e, sm, -, rfl⟩ := h
    refine r_ireturn C E dX5_count_88 ?_
    exact ⟨_, rfl, by subst e_1; simp [spCount], PubM.mk⟩
  refine r_tsC 5 5 (tgt := 89) C dX5_count_1 rfl (by decide) rfl (by decide) (fun e_1 => ?_) (fun n_1_5 => ?_)
  · skip
    refine r_aload_0 C dX5_count_89 ?_
    refine gM_acts C q1389 dX5_count_90 ?_
    refine r_ireturn C E dX5_count_93 ?_
    exact ⟨_, rfl, by subst e_1; simp [spCount], PubM.mk⟩
  refine r_tsC 6 6 (tgt := 94) C dX5_count_1 rfl (by decide) rfl (by decide) (fun e_1 => ?_) (fun n_1_6 => ?_)
  · skip
    refine r_aload_0 C dX5_count_94 ?_
    refine gM_world C q1386 dX5_count_95 ?_
    refine r_iconst C dX5_count_98 ?_
    refine ldM_world C dX5_count_99 ?_
    refine r_ireturn C E dX5_count_100 ?_
    exact ⟨_, rfl, by subst e_1; simp [spCount], PubM.mk⟩
  refine r_tsC 7 7 (tgt := 101) C dX5_count_1 rfl (by decide) rfl (by decide) (fun e_1 => ?_) (fun n_1_7 => ?_)
  · skip
    refine r_aload_0 C dX5_count_101 ?_
    refine gM_taped C q1395 dX5_count_102 ?_
    refine r_ireturn C E dX5_count_105 ?_
    exact ⟨_, rfl, by subst e_1; simp [spCount], PubM.mk⟩
  refine r_tsC 8 8 (tgt := 106) C dX5_count_1 rfl (by decide) rfl (by decide) (fun e_1 => ?_) (fun n_1_8 => ?_)
  · skip
    refine r_aload_0 C dX5_count_106 ?_
    refine gM_world C q1386 dX5_count_107 ?_
    refine r_iconst C dX5_count_110 ?_
    refine ldM_world C dX5_count_111 ?_
    refine r_ireturn C E dX5_count_112 ?_
    exact ⟨_, rfl, by subst e_1; simp [spCount], PubM.mk⟩
  refine r_tsC 9 9 (tgt := 113) C dX5_count_1 rfl (by decide) rfl (by decide) (fun e_1 => ?_) (fun n_1_9 => ?_)
  · skip
    refine r_aload_0 C dX5_count_113 ?_
    refine r_cV0i C (c_X5_asksW hG hW) (q0 := 0) rfl rfl q1642 pkX5_asks dX5_count_114 (fun z w h => ?_)
    obtain ⟨rfl, e, sm, ds, un, no, um, ce, wh, hs, rfl⟩ := h
    refine r_ifeq (tgt := 127) C dX5_count_117 (by decide) (fun c_117 => ?_) (fun c_117 => ?_) (by unfold inR; split <;> omega)
    · skip
      refine r_iconst C dX5_count_127 ?_
      refine r_ireturn C E dX5_count_128 ?_
      refine ⟨_, rfl, ?_, PubM.mk⟩
      subst e_1
      by_cases h4 : 0 < m_world 4
      · have := hs (hW.gd4 h4)
        simp_all [spCount]
      · simp_all [spCount] <;> (intro _; omega)
    · skip
      refine r_aload_0 C dX5_count_120 ?_
      refine gM_deadSet C q1406 dX5_count_121 ?_
      refine r_goto (tgt := 128) C dX5_count_124 (by decide) ?_
      refine r_ireturn C E dX5_count_128 ?_
      refine ⟨_, rfl, ?_, PubM.mk⟩
      subst e_1
      by_cases h4 : 0 < m_world 4
      · have := hs (hW.gd4 h4)
        simp_all [spCount]
      · simp_all [spCount] <;> (intro _; omega)
  refine r_tsO (tgt := 129) C dX5_count_1 (by omega) (by decide) ?_
  refine r_iconst C dX5_count_129 ?_
  refine r_ireturn C E dX5_count_130 ?_
  exact ⟨_, rfl, by simp [spCount, *], PubM.mk⟩
theorem c_X5_strap (hG : Gok g) {k q : Int} (hk : inR k) (hq : inR q) (hW : WF m_world) : XMet g yX5_strap cX5_strap 3 (some .int) 6 0 0 [.ref (ρ 0), .int (jI k), .int (jI q)] (wM g ρ m_thrown m_world m_fresh m_waysBack m_acts m_images m_hasImage m_endOf m_strapMany m_tape m_taped m_five m_size m_at m_from m_token m_value m_faultKind m_faultPlace m_budgetsTold m_loadsTold m_deadSet m_unknownOf m_nodeOf m_unknowns m_cells m_whole m_ordered m_drawnBy m_left m_aside m_bestDead m_bestAbove m_bestBelow m_widened m_widenedMany m_fewOf m_drawing ++ ex) (pI (fun z w => z = spStrap m_world k q ∧ PubM g ρ ex m_world m_waysBack m_acts m_images m_hasImage m_tape m_taped m_faultKind m_faultPlace w)) := by
  refine XMet.of (L := [some (.ref (ρ 0)), some (.int (jI k)), some (.int (jI q))]) hG (by decide +kernel) (Nat.le_of_ble_eq_true rfl) rfl (fun K C E => ?_)
  refine r_aload_0 C dX5_strap_0 ?_
  refine r_iload_1 C dX5_strap_1 ?_
  refine r_cV1i C (c_X5_isStrapW hG hk hW) (q0 := 0) rfl rfl q1677 pkX5_isStrap dX5_strap_2 (fun z w h => ?_)
  obtain ⟨rfl, e, sm, he, rfl⟩ := h
  refine r_ifeqB (tgt := 20) C dX5_strap_5 (by decide) (fun c_5 => ?_) (fun c_5 => ?_)
  · skip
    refine r_iconst C dX5_strap_20 ?_
    refine r_ireturn C E dX5_strap_21 ?_
    refine ⟨_, rfl, ?_, PubM.mk⟩
    unfold spStrap
    first
      | (rw [if_neg c_5])
      | (rw [if_pos c_5, if_neg (by omega), if_neg (by omega), if_neg (by omega)])
  · skip
    refine r_iload_2 C dX5_strap_8 ?_
    refine r_i2l C dX5_strap_9 ?_
    refine r_lconst0 C dX5_strap_10 ?_
    refine r_ldc2 C 2 q1505 dX5_strap_11 ?_
    refine r_cS3i C (c_X5_in hG (inR_L hq) (by unfold inL; omega) (by unfold inL; omega)) q1506 pkX5_in dX5_strap_14 (fun z w h => ?_)
    obtain ⟨rfl, rfl⟩ := h
    refine r_ifneB (tgt := 22) C dX5_strap_17 (by decide) (fun c_17 => ?_) (fun c_17 => ?_)
    · skip
      have hk2 := c_5
      simp only [isKb, decide_eq_true_eq] at hk2
      have hd := hW.gd4 hk2.1
      have he' := he hd
      obtain ⟨hE, rfl⟩ := he'
      have hs := hd.s
      have hek := hE k hk2.2.1 (by unfold wS at hk2; omega)
      refine r_iload_2 C dX5_strap_22 ?_
      refine r_iconst C dX5_strap_23 ?_
      refine r_if_icmpne (tgt := 39) C dX5_strap_24 (by decide) (fun c_24 => ?_) (fun c_24 => ?_)
      · skip
        refine r_aload_0 C dX5_strap_39 ?_
        refine gM_endOf C q1392 dX5_strap_40 ?_
        refine r_iconst C dX5_strap_43 ?_
        refine r_iload_1 C dX5_strap_44 ?_
        refine r_imul C dX5_strap_45 ?_
        refine r_iload_2 C dX5_strap_46 ?_
        refine r_iadd C dX5_strap_47 ?_
        refine ldM_endOf C dX5_strap_48 ?_
        refine r_ireturn C E dX5_strap_49 ?_
        refine ⟨_, rfl, ?_, PubM.mk⟩
        unfold spStrap
        rw [if_pos c_5]
        rcases (show q = 0 ∨ q = 1 ∨ q = 2 by omega) with e | e | e
        · subst e; simp_all
        · subst e; simp_all
        · subst e; simp_all
      · skip
        refine r_aload_0 C dX5_strap_27 ?_
        refine gM_world C q1386 dX5_strap_28 ?_
        refine r_bipush C dX5_strap_31 ?_
        refine r_iload_1 C dX5_strap_33 ?_
        refine r_iadd C dX5_strap_34 ?_
        refine ldM_world C dX5_strap_35 ?_
        refine r_goto (tgt := 49) C dX5_strap_36 (by decide) ?_
        refine r_ireturn C E dX5_strap_49 ?_
        refine ⟨_, rfl, ?_, PubM.mk⟩
        unfold spStrap
        rw [if_pos c_5]
        rcases (show q = 0 ∨ q = 1 ∨ q = 2 by omega) with e | e | e
        · subst e; simp_all
        · subst e; simp_all
        · subst e; simp_all
    · skip
      refine r_iconst C dX5_strap_20 ?_
      refine r_ireturn C E dX5_strap_21 ?_
      refine ⟨_, rfl, ?_, PubM.mk⟩
      unfold spStrap
      first
        | (rw [if_neg c_5])
        | (rw [if_pos c_5, if_neg (by omega), if_neg (by omega), if_neg (by omega)])
theorem c_X5_between (hG : Gok g) {a b : Int} (ha : inR a) (hb : inR b) (hW : WF m_world) : XMet g yX5_between cX5_between 3 (some .int) 3 0 0 [.ref (ρ 0), .int (jI a), .int (jI b)] (wM g ρ m_thrown m_world m_fresh m_waysBack m_acts m_images m_hasImage m_endOf m_strapMany m_tape m_taped m_five m_size m_at m_from m_token m_value m_faultKind m_faultPlace m_budgetsTold m_loadsTold m_deadSet m_unknownOf m_nodeOf m_unknowns m_cells m_whole m_ordered m_drawnBy m_left m_aside m_bestDead m_bestAbove m_bestBelow m_widened m_widenedMany m_fewOf m_drawing ++ ex) (pI (fun z w => z = spBetween m_world a b ∧ PubM g ρ ex m_world m_waysBack m_acts m_images m_hasImage m_tape m_taped m_faultKind m_faultPlace w)) := by
  refine XMet.of (L := [some (.ref (ρ 0)), some (.int (jI a)), some (.int (jI b))]) hG (by decide +kernel) (Nat.le_of_ble_eq_true rfl) rfl (fun K C E => ?_)
  have hn := hW.n
  refine r_aload_0 C dX5_between_0 ?_
  refine r_iload_1 C dX5_between_1 ?_
  refine r_cV1i C (c_X5_isNode hG (by assumption) hn) (q0 := 0) rfl rfl q1685 pkX5_isNode dX5_between_2 (fun z w h => ?_)
  obtain ⟨rfl, rfl⟩ := h
  refine r_ifeqB (tgt := 16) C dX5_between_5 (by decide) (fun c_5 => ?_) (fun c_5 => ?_)
  · skip
    refine r_bipush C dX5_between_16 ?_
    refine r_ireturn C E dX5_between_18 ?_
    exact ⟨_, rfl, by simp [spBetween, *], PubM.mk⟩
  · skip
    refine r_aload_0 C dX5_between_8 ?_
    refine r_iload_2 C dX5_between_9 ?_
    refine r_cV1i C (c_X5_isNode hG (by assumption) hn) (q0 := 0) rfl rfl q1685 pkX5_isNode dX5_between_10 (fun z w h => ?_)
    obtain ⟨rfl, rfl⟩ := h
    refine r_ifneB (tgt := 19) C dX5_between_13 (by decide) (fun c_13 => ?_) (fun c_13 => ?_)
    · skip
      have hd := hW.gdb c_5
      refine r_aload_0 C dX5_between_19 ?_
      refine r_cV0i C (c_X5_straps hG hd.l hd.g) (q0 := 0) rfl rfl q1634 pkX5_straps dX5_between_20 (fun z w h => ?_)
      obtain ⟨rfl, e, he, rfl⟩ := h
      refine r_pop C dX5_between_23 ?_
      refine r_aload_0 C dX5_between_24 ?_
      refine r_iload_1 C dX5_between_25 ?_
      refine r_iload_2 C dX5_between_26 ?_
      refine r_cV2i C (c_X5_strapOf hG ha hb hd.g he rfl) (q0 := 0) rfl rfl q1611 pkX5_strapOf dX5_between_27 (fun z w h => ?_)
      obtain ⟨rfl, rfl⟩ := h
      refine r_ireturn C E dX5_between_30 ?_
      exact ⟨_, rfl, by simp [spBetween, c_5, c_13, wS], PubM.mk⟩
    · skip
      refine r_bipush C dX5_between_16 ?_
      refine r_ireturn C E dX5_between_18 ?_
      exact ⟨_, rfl, by simp [spBetween, *], PubM.mk⟩
theorem c_X5_node (hG : Gok g) {v q : Int} (hv : inR v) (hq : inR q) (hW : WF m_world) : XMet g yX5_node cX5_node 3 (some .int) 5 0 0 [.ref (ρ 0), .int (jI v), .int (jI q)] (wM g ρ m_thrown m_world m_fresh m_waysBack m_acts m_images m_hasImage m_endOf m_strapMany m_tape m_taped m_five m_size m_at m_from m_token m_value m_faultKind m_faultPlace m_budgetsTold m_loadsTold m_deadSet m_unknownOf m_nodeOf m_unknowns m_cells m_whole m_ordered m_drawnBy m_left m_aside m_bestDead m_bestAbove m_bestBelow m_widened m_widenedMany m_fewOf m_drawing ++ ex) (pI (fun z w => z = spNode m_world v q ∧ PubM g ρ ex m_world m_waysBack m_acts m_images m_hasImage m_tape m_taped m_faultKind m_faultPlace w)) := by
  refine XMet.of (L := [some (.ref (ρ 0)), some (.int (jI v)), some (.int (jI q))]) hG (by decide +kernel) (Nat.le_of_ble_eq_true rfl) rfl (fun K C E => ?_)
  have hn := hW.n
  refine r_aload_0 C dX5_node_0 ?_
  refine r_iload_1 C dX5_node_1 ?_
  refine r_cV1i C (c_X5_isNode hG (by assumption) hn) (q0 := 0) rfl rfl q1685 pkX5_isNode dX5_node_2 (fun z w h => ?_)
  obtain ⟨rfl, rfl⟩ := h
  refine r_ifeqB (tgt := 20) C dX5_node_5 (by decide) (fun c_5 => ?_) (fun c_5 => ?_)
  · skip
    refine r_iconst C dX5_node_20 ?_
    refine r_ireturn C E dX5_node_21 ?_
    refine ⟨_, rfl, ?_, PubM.mk⟩
    unfold spNode
    first
      | (rw [if_neg c_5])
      | (rw [if_pos c_5, if_neg (by omega), if_neg (by omega), if_neg (by omega), if_neg (by omega)])
  · skip
    refine r_iload_2 C dX5_node_8 ?_
    refine r_i2l C dX5_node_9 ?_
    refine r_lconst0 C dX5_node_10 ?_
    refine r_ldc2 C 3 q1693 dX5_node_11 ?_
    refine r_cS3i C (c_X5_in hG (inR_L hq) (by unfold inL; omega) (by unfold inL; omega)) q1506 pkX5_in dX5_node_14 (fun z w h => ?_)
    obtain ⟨rfl, rfl⟩ := h
    refine r_ifneB (tgt := 22) C dX5_node_17 (by decide) (fun c_17 => ?_) (fun c_17 => ?_)
    · skip
      have hd := hW.gdb c_5
      have hvv := isNb_in c_5
      have hld := hd.ld v hvv.1 (by omega)
      have hgr := hd.gr v hvv.1 (by omega)
      have hp := hd.p5
      refine r_aload_0 C dX5_node_22 ?_
      refine r_cV0v C (c_X5_lays hG hd) (q0 := 0) rfl rfl q1646 pkX5_lays dX5_node_23 (fun w h => ?_)
      obtain ⟨e, un, no, ce, he, hS, rfl⟩ := h
      refine r_iload_2 C dX5_node_26 ?_
      refine r_tsC 0 0 (tgt := 52) C dX5_node_27 rfl (by decide) rfl (by decide) (fun e_27 => ?_) (fun n_27_0 => ?_)
      · skip
        refine r_aload_0 C dX5_node_52 ?_
        refine gM_world C q1386 dX5_node_53 ?_
        refine r_iconst C dX5_node_56 ?_
        refine ldM_world C dX5_node_57 ?_
        refine r_iload_1 C dX5_node_58 ?_
        refine r_cS2i C (c_X5_isOf hG (by omega) (by omega)) q1606 pkX5_isOf dX5_node_59 (fun z w h => ?_)
        obtain ⟨rfl, rfl⟩ := h
        refine r_ifeqB (tgt := 69) C dX5_node_62 (by decide) (fun c_62 => ?_) (fun c_62 => ?_)
        · skip
          refine r_iconst C dX5_node_69 ?_
          refine r_ireturn C E dX5_node_70 ?_
          exact ⟨_, rfl, by subst e_27; simp [spNode, *], PubM.mk⟩
        · skip
          refine r_iconst C dX5_node_65 ?_
          refine r_goto (tgt := 70) C dX5_node_66 (by decide) ?_
          refine r_ireturn C E dX5_node_70 ?_
          exact ⟨_, rfl, by subst e_27; simp [spNode, *], PubM.mk⟩
      refine r_tsC 1 1 (tgt := 71) C dX5_node_27 rfl (by decide) rfl (by decide) (fun e_27 => ?_) (fun n_27_1 => ?_)
      · skip
        refine r_aload_0 C dX5_node_71 ?_
        refine gM_world C q1386 dX5_node_72 ?_
        refine r_bipush C dX5_node_75 ?_
        refine r_iload_1 C dX5_node_77 ?_
        refine r_iadd C dX5_node_78 ?_
        refine ldM_world C dX5_node_79 ?_
        refine r_ireturn C E dX5_node_80 ?_
        exact ⟨_, rfl, by subst e_27; simp [spNode, *], PubM.mk⟩
      refine r_tsC 2 2 (tgt := 81) C dX5_node_27 rfl (by decide) rfl (by decide) (fun e_27 => ?_) (fun n_27_2 => ?_)
      · skip
        refine r_aload_0 C dX5_node_81 ?_
        refine gM_world C q1386 dX5_node_82 ?_
        refine r_bipush C dX5_node_85 ?_
        refine r_iload_1 C dX5_node_87 ?_
        refine r_iadd C dX5_node_88 ?_
        refine ldM_world C dX5_node_89 ?_
        refine r_ireturn C E dX5_node_90 ?_
        exact ⟨_, rfl, by subst e_27; simp [spNode, *], PubM.mk⟩
      refine r_tsO (tgt := 91) C dX5_node_27 (by omega) (by decide) ?_
      refine r_aload_0 C dX5_node_91 ?_
      refine r_iload_1 C dX5_node_92 ?_
      refine r_cV1i C (c_X5_isDead hG hd rfl hvv) (q0 := 0) rfl rfl q1694 pkX5_isDead dX5_node_93 (fun z w h => ?_)
      obtain ⟨rfl, rfl⟩ := h
      refine r_ifeqB (tgt := 103) C dX5_node_96 (by decide) (fun c_96 => ?_) (fun c_96 => ?_)
      · skip
        refine r_iconst C dX5_node_103 ?_
        refine r_ireturn C E dX5_node_104 ?_
        refine ⟨_, rfl, ?_, PubM.mk⟩
        have : q = 3 := by omega
        subst this
        simp [spNode, *]
      · skip
        refine r_iconst C dX5_node_99 ?_
        refine r_goto (tgt := 104) C dX5_node_100 (by decide) ?_
        refine r_ireturn C E dX5_node_104 ?_
        refine ⟨_, rfl, ?_, PubM.mk⟩
        have : q = 3 := by omega
        subst this
        simp [spNode, *]
    · skip
      refine r_iconst C dX5_node_20 ?_
      refine r_ireturn C E dX5_node_21 ?_
      refine ⟨_, rfl, ?_, PubM.mk⟩
      unfold spNode
      first
        | (rw [if_neg c_5])
        | (rw [if_pos c_5, if_neg (by omega), if_neg (by omega), if_neg (by omega), if_neg (by omega)])
theorem c_X5_budget (hG : Gok g) {q : Int} (hq : inR q) (hW : WF m_world) : XMet g yX5_budget cX5_budget 2 (some .int) 1 0 0 [.ref (ρ 0), .int (jI q)] (wM g ρ m_thrown m_world m_fresh m_waysBack m_acts m_images m_hasImage m_endOf m_strapMany m_tape m_taped m_five m_size m_at m_from m_token m_value m_faultKind m_faultPlace m_budgetsTold m_loadsTold m_deadSet m_unknownOf m_nodeOf m_unknowns m_cells m_whole m_ordered m_drawnBy m_left m_aside m_bestDead m_bestAbove m_bestBelow m_widened m_widenedMany m_fewOf m_drawing ++ ex) (pI (fun z w => z = spBudget m_world q ∧ PubM g ρ ex m_world m_waysBack m_acts m_images m_hasImage m_tape m_taped m_faultKind m_faultPlace w)) := by
  refine XMet.of (L := [some (.ref (ρ 0)), some (.int (jI q))]) hG (by decide +kernel) (Nat.le_of_ble_eq_true rfl) rfl (fun K C E => ?_)
  have h4 := hW.r (k := 4) (by omega) (by omega)
  refine r_aload_0 C dX5_budget_0 ?_
  refine r_cV0i C (c_X5_isGrid hG (by unfold inR; omega)) (q0 := 0) rfl rfl q1638 pkX5_isGrid dX5_budget_1 (fun z w h => ?_)
  obtain ⟨rfl, rfl⟩ := h
  refine r_ifeqB (tgt := 31) C dX5_budget_4 (by decide) (fun c_4 => ?_) (fun c_4 => ?_)
  · skip
    refine r_iconst C dX5_budget_31 ?_
    refine r_ireturn C E dX5_budget_32 ?_
    refine ⟨_, rfl, ?_, PubM.mk⟩
    unfold spBudget
    first
      | (rw [if_pos (by omega)])
      | (rw [if_neg (by omega)])
  · skip
    refine r_iload_1 C dX5_budget_7 ?_
    refine r_i2l C dX5_budget_8 ?_
    refine r_lconst0 C dX5_budget_9 ?_
    refine r_ldc2 C 3 q1693 dX5_budget_10 ?_
    refine r_cS3i C (c_X5_in hG (inR_L hq) (by unfold inL; omega) (by unfold inL; omega)) q1506 pkX5_in dX5_budget_13 (fun z w h => ?_)
    obtain ⟨rfl, rfl⟩ := h
    refine r_ifeqB (tgt := 31) C dX5_budget_16 (by decide) (fun c_16 => ?_) (fun c_16 => ?_)
    · skip
      refine r_iconst C dX5_budget_31 ?_
      refine r_ireturn C E dX5_budget_32 ?_
      refine ⟨_, rfl, ?_, PubM.mk⟩
      unfold spBudget
      first
        | (rw [if_pos (by omega)])
        | (rw [if_neg (by omega)])
    · skip
      refine r_aload_0 C dX5_budget_19 ?_
      refine gM_world C q1386 dX5_budget_20 ?_
      refine r_bipush C dX5_budget_23 ?_
      refine r_iload_1 C dX5_budget_25 ?_
      refine r_iadd C dX5_budget_26 ?_
      refine ldM_world C dX5_budget_27 ?_
      refine r_goto (tgt := 32) C dX5_budget_28 (by decide) ?_
      refine r_ireturn C E dX5_budget_32 ?_
      refine ⟨_, rfl, ?_, PubM.mk⟩
      unfold spBudget
      first
        | (rw [if_pos (by omega)])
        | (rw [if_neg (by omega)])
theorem c_X5_drop (hG : Gok g) {v p : Int} (hv : inR v) (hp : inR p) (hW : WF m_world) : XMet g yX5_drop cX5_drop 3 (some .long) 5 0 0 [.ref (ρ 0), .int (jI v), .int (jI p)] (wM g ρ m_thrown m_world m_fresh m_waysBack m_acts m_images m_hasImage m_endOf m_strapMany m_tape m_taped m_five m_size m_at m_from m_token m_value m_faultKind m_faultPlace m_budgetsTold m_loadsTold m_deadSet m_unknownOf m_nodeOf m_unknowns m_cells m_whole m_ordered m_drawnBy m_left m_aside m_bestDead m_bestAbove m_bestBelow m_widened m_widenedMany m_fewOf m_drawing ++ ex) (pL (fun z w => z = spDrop m_world v p ∧ PubM g ρ ex m_world m_waysBack m_acts m_images m_hasImage m_tape m_taped m_faultKind m_faultPlace w)) := by
  refine XMet.of (L := [some (.ref (ρ 0)), some (.int (jI v)), some (.int (jI p))]) hG (by decide +kernel) (Nat.le_of_ble_eq_true rfl) rfl (fun K C E => ?_)
  have hn := hW.n
  refine r_aload_0 C dX5_drop_0 ?_
  refine r_iload_1 C dX5_drop_1 ?_
  refine r_cV1i C (c_X5_isNode hG (by assumption) hn) (q0 := 0) rfl rfl q1685 pkX5_isNode dX5_drop_2 (fun z w h => ?_)
  obtain ⟨rfl, rfl⟩ := h
  refine r_ifeqB (tgt := 15) C dX5_drop_5 (by decide) (fun c_5 => ?_) (fun c_5 => ?_)
  · skip
    refine r_ldc2 C (-2) q1709 dX5_drop_15 ?_
    refine r_lreturn C E dX5_drop_18 ?_
    exact ⟨_, rfl, by simp [spDrop, *], PubM.mk⟩
  · skip
    refine r_iload_2 C dX5_drop_8 ?_
    refine r_cS1i C (c_X5_isPart hG hp) q1706 pkX5_isPart dX5_drop_9 (fun z w h => ?_)
    obtain ⟨rfl, rfl⟩ := h
    refine r_ifneB (tgt := 19) C dX5_drop_12 (by decide) (fun c_12 => ?_) (fun c_12 => ?_)
    · skip
      have hd := hW.gdb c_5
      have hvv := isNb_in c_5
      have hdr := hd.dr hvv.1 hvv.2
      have hw := hd.who
      refine r_aload_0 C dX5_drop_19 ?_
      refine r_cV0v C (c_X5_lays hG hd) (q0 := 0) rfl rfl q1646 pkX5_lays dX5_drop_20 (fun w h => ?_)
      obtain ⟨e, un, no, ce, he, hS, rfl⟩ := h
      refine r_aload_0 C dX5_drop_23 ?_
      refine r_iload_1 C dX5_drop_24 ?_
      refine r_cV1i C (c_X5_isDead hG hd rfl hvv) (q0 := 0) rfl rfl q1694 pkX5_isDead dX5_drop_25 (fun z w h => ?_)
      obtain ⟨rfl, rfl⟩ := h
      refine r_ifeqB (tgt := 37) C dX5_drop_28 (by decide) (fun c_28 => ?_) (fun c_28 => ?_)
      · skip
        refine r_aload_0 C dX5_drop_37 ?_
        refine r_iload_1 C dX5_drop_38 ?_
        refine r_cV1l C (c_X5_dropOf hG hd hS rfl hvv) (q0 := 0) rfl rfl q1711 pkX5_dropOf dX5_drop_39 (fun z w h => ?_)
        obtain ⟨rfl, rfl⟩ := h
        refine r_aload_0 C dX5_drop_42 ?_
        refine gM_whole C q1411 dX5_drop_43 ?_
        refine r_iload_2 C dX5_drop_46 ?_
        refine r_cS3l C (c_X5_part hG (by omega) (by omega) hp (by omega)) q1719 pkX5_part dX5_drop_47 (fun z w h => ?_)
        obtain ⟨rfl, rfl⟩ := h
        refine r_lreturn C E dX5_drop_50 ?_
        exact ⟨_, rfl, by simp [spDrop, *], PubM.mk⟩
      · skip
        refine r_ldc2 C (-1) q1710 dX5_drop_31 ?_
        refine r_goto (tgt := 50) C dX5_drop_34 (by decide) ?_
        refine r_lreturn C E dX5_drop_50 ?_
        exact ⟨_, rfl, by simp [spDrop, *], PubM.mk⟩
    · skip
      refine r_ldc2 C (-2) q1709 dX5_drop_15 ?_
      refine r_lreturn C E dX5_drop_18 ?_
      exact ⟨_, rfl, by simp [spDrop, *], PubM.mk⟩
theorem c_X5_throughOf (hG : Gok g) {k : Int} (hd : Gd m_world) (he : Ends (m_world 0) (m_world 1) m_endOf) (hS : SolW m_world m_unknownOf m_nodeOf m_cells) (hm : m_unknowns = wm m_world) (hk : 0 ≤ k ∧ k < wS m_world) : XMet g yX5_throughOf cX5_throughOf 2 (some .long) 2 0 0 [.ref (ρ 0), .int (jI k)] (wM g ρ m_thrown m_world m_fresh m_waysBack m_acts m_images m_hasImage m_endOf m_strapMany m_tape m_taped m_five m_size m_at m_from m_token m_value m_faultKind m_faultPlace m_budgetsTold m_loadsTold m_deadSet m_unknownOf m_nodeOf m_unknowns m_cells m_whole m_ordered m_drawnBy m_left m_aside m_bestDead m_bestAbove m_bestBelow m_widened m_widenedMany m_fewOf m_drawing ++ ex) (pL (fun z w => z = wTh m_world k ∧ w = (wM g ρ m_thrown m_world m_fresh m_waysBack m_acts m_images m_hasImage m_endOf m_strapMany m_tape m_taped m_five m_size m_at m_from m_token m_value m_faultKind m_faultPlace m_budgetsTold m_loadsTold m_deadSet m_unknownOf m_nodeOf m_unknowns m_cells m_whole m_ordered m_drawnBy m_left m_aside m_bestDead m_bestAbove m_bestBelow m_widened m_widenedMany m_fewOf m_drawing ++ ex))) := by
  refine XMet.of (L := [some (.ref (ρ 0)), some (.int (jI k))]) hG (by decide +kernel) (Nat.le_of_ble_eq_true rfl) rfl (fun K C E => ?_)
  have hs := hd.s
  have hek := he k hk.1 hk.2
  have hin := sl_in hd.g hk.1 hk.2
  have hwd := hd.wd k hk.1 (by omega)
  unfold wWd at hwd
  refine r_aload_0 C dX5_throughOf_0 ?_
  refine gM_world C q1386 dX5_throughOf_1 ?_
  refine r_bipush C dX5_throughOf_4 ?_
  refine r_iload_1 C dX5_throughOf_6 ?_
  refine r_iadd C dX5_throughOf_7 ?_
  refine ldM_world C dX5_throughOf_8 ?_
  refine r_i2l C dX5_throughOf_9 ?_
  refine r_aload_0 C dX5_throughOf_10 ?_
  refine r_aload_0 C dX5_throughOf_11 ?_
  refine gM_endOf C q1392 dX5_throughOf_12 ?_
  refine r_iconst C dX5_throughOf_15 ?_
  refine r_iload_1 C dX5_throughOf_16 ?_
  refine r_imul C dX5_throughOf_17 ?_
  refine r_iconst C dX5_throughOf_18 ?_
  refine r_iadd C dX5_throughOf_19 ?_
  refine ldM_endOf C dX5_throughOf_20 ?_
  refine r_topi (sT (m_world 0) (m_world 1) k) hek.2 ?_
  refine r_cV1l C (c_X5_dropOf hG hd hS hm ⟨by omega, by unfold wN; omega⟩) (q0 := 0) rfl rfl q1711 pkX5_dropOf dX5_throughOf_21 (fun z w h => ?_)
  obtain ⟨rfl, rfl⟩ := h
  refine r_aload_0 C dX5_throughOf_24 ?_
  refine r_aload_0 C dX5_throughOf_25 ?_
  refine gM_endOf C q1392 dX5_throughOf_26 ?_
  refine r_iconst C dX5_throughOf_29 ?_
  refine r_iload_1 C dX5_throughOf_30 ?_
  refine r_imul C dX5_throughOf_31 ?_
  refine ldM_endOf C dX5_throughOf_32 ?_
  refine r_topi (sF (m_world 0) (m_world 1) k) hek.1 ?_
  refine r_cV1l C (c_X5_dropOf hG hd hS hm ⟨by omega, by unfold wN; omega⟩) (q0 := 0) rfl rfl q1711 pkX5_dropOf dX5_throughOf_33 (fun z w h => ?_)
  obtain ⟨rfl, rfl⟩ := h
  refine r_lsub C dX5_throughOf_36 ?_
  refine r_lmul C dX5_throughOf_37 ?_
  refine r_lreturn C E dX5_throughOf_38 ?_
  exact ⟨_, rfl, rfl, rfl⟩
theorem c_X5_through (hG : Gok g) {k p : Int} (hk : inR k) (hp : inR p) (hW : WF m_world) : XMet g yX5_through cX5_through 3 (some .long) 5 0 0 [.ref (ρ 0), .int (jI k), .int (jI p)] (wM g ρ m_thrown m_world m_fresh m_waysBack m_acts m_images m_hasImage m_endOf m_strapMany m_tape m_taped m_five m_size m_at m_from m_token m_value m_faultKind m_faultPlace m_budgetsTold m_loadsTold m_deadSet m_unknownOf m_nodeOf m_unknowns m_cells m_whole m_ordered m_drawnBy m_left m_aside m_bestDead m_bestAbove m_bestBelow m_widened m_widenedMany m_fewOf m_drawing ++ ex) (pL (fun z w => z = spThrough m_world k p ∧ PubM g ρ ex m_world m_waysBack m_acts m_images m_hasImage m_tape m_taped m_faultKind m_faultPlace w)) := by
  refine XMet.of (L := [some (.ref (ρ 0)), some (.int (jI k)), some (.int (jI p))]) hG (by decide +kernel) (Nat.le_of_ble_eq_true rfl) rfl (fun K C E => ?_)
  refine r_aload_0 C dX5_through_0 ?_
  refine r_iload_1 C dX5_through_1 ?_
  refine r_cV1i C (c_X5_isStrapW hG hk hW) (q0 := 0) rfl rfl q1677 pkX5_isStrap dX5_through_2 (fun z w h => ?_)
  obtain ⟨rfl, e, sm, -, rfl⟩ := h
  refine r_ifeqB (tgt := 15) C dX5_through_5 (by decide) (fun c_5 => ?_) (fun c_5 => ?_)
  · skip
    refine r_ldc2 C (-9223372036854775808) q1730 dX5_through_15 ?_
    refine r_lreturn C E dX5_through_18 ?_
    exact ⟨_, rfl, by simp [spThrough, *], PubM.mk⟩
  · skip
    refine r_iload_2 C dX5_through_8 ?_
    refine r_cS1i C (c_X5_isPart hG hp) q1706 pkX5_isPart dX5_through_9 (fun z w h => ?_)
    obtain ⟨rfl, rfl⟩ := h
    refine r_ifneB (tgt := 19) C dX5_through_12 (by decide) (fun c_12 => ?_) (fun c_12 => ?_)
    · skip
      have hd := hW.gdk c_5
      have hkk := isKb_in c_5
      have hth := hd.th hkk.1 hkk.2
      have hw := hd.who
      refine r_aload_0 C dX5_through_19 ?_
      refine r_cV0v C (c_X5_lays hG hd) (q0 := 0) rfl rfl q1646 pkX5_lays dX5_through_20 (fun w h => ?_)
      obtain ⟨e, un, no, ce, he, hS, rfl⟩ := h
      refine r_aload_0 C dX5_through_23 ?_
      refine r_iload_1 C dX5_through_24 ?_
      refine r_cV1l C (c_X5_throughOf hG hd he hS rfl hkk) (q0 := 0) rfl rfl q1731 pkX5_throughOf dX5_through_25 (fun z w h => ?_)
      obtain ⟨rfl, rfl⟩ := h
      refine r_aload_0 C dX5_through_28 ?_
      refine gM_whole C q1411 dX5_through_29 ?_
      refine r_iload_2 C dX5_through_32 ?_
      refine r_cS3l C (c_X5_part hG (by omega) (by omega) hp (by omega)) q1719 pkX5_part dX5_through_33 (fun z w h => ?_)
      obtain ⟨rfl, rfl⟩ := h
      refine r_lreturn C E dX5_through_36 ?_
      exact ⟨_, rfl, by simp [spThrough, *], PubM.mk⟩
    · skip
      refine r_ldc2 C (-9223372036854775808) q1730 dX5_through_15 ?_
      refine r_lreturn C E dX5_through_18 ?_
      exact ⟨_, rfl, by simp [spThrough, *], PubM.mk⟩
end M9

