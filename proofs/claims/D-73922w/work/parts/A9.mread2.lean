theorem rLod_b {T : Int → Int} {n : Int} {s : RS} : (rLod T n s).2.2.2 = s.2.2.2 := by
  unfold rLod rLd2 rLd1
  split <;> rfl
theorem rBud_l {T : Int → Int} {n : Int} {s : RS} : (rBud T n s).2.2.1 = s.2.2.1 := by
  unfold rBud rBu3 rBu2
  split <;> rfl
theorem rFst_1 {T : Int → Int} {n : Int} {s : RS} : (rFst T n s).1 = (qTld T n kWear 1 999 (qTld T n kLimit 0 999 (qTld T n kWidth 0 4 (qFi3 T n (qFi2 T n s.1)).2).2).2).2 := by
  unfold rFst rFi1 rFi2 rFi3 rFi4
  split <;> rfl
section M22
variable {g : GX} {ρ : Nat → Nat} {ex : va_W}
variable {m_thrown : Int} {m_world : Int → Int} {m_fresh : Int → Int} {m_waysBack : Int → Int} {m_acts : Int} {m_images : Int → Int} {m_hasImage : Int → Int} {m_endOf : Int → Int} {m_strapMany : Int} {m_tape : Int → Int} {m_taped : Int} {m_five : Int → Int} {m_size : Int} {m_at : Int} {m_from : Int} {m_token : Int} {m_value : Int} {m_faultKind : Int} {m_faultPlace : Int} {m_budgetsTold : Int} {m_loadsTold : Int} {m_deadSet : Int} {m_unknownOf : Int → Int} {m_nodeOf : Int → Int} {m_unknowns : Int} {m_cells : Int → Int} {m_whole : Int} {m_ordered : Int → Int} {m_drawnBy : Int → Int} {m_left : Int → Int} {m_aside : Int → Int} {m_bestDead : Int} {m_bestAbove : Int} {m_bestBelow : Int} {m_widened : Int → Int} {m_widenedMany : Int} {m_fewOf : Int → Int} {m_drawing : Int}
theorem c_X5_readLoad (hG : Gok g) {q : Q6} (TT : GT g) {κ : Nat → Nat} (GM : GMs g κ) (hn : m_size ≤ 700) (hn0 : 0 ≤ m_size) (hT : TpOk m_tape) (hq : QOk m_size q) (hg : GW (m_fresh 0) (m_fresh 1)) (hl : 0 ≤ m_loadsTold ∧ m_loadsTold < 512) : XMet g yX5_readLoad cX5_readLoad 4 none (7) 0 0 [.ref (ρ 0)] (wM g ρ m_thrown m_world m_fresh m_waysBack m_acts m_images m_hasImage m_endOf m_strapMany m_tape m_taped m_five m_size (q.1) (q.2.1) (q.2.2.1) (q.2.2.2.1) (q.2.2.2.2.1) (q.2.2.2.2.2) m_budgetsTold m_loadsTold m_deadSet m_unknownOf m_nodeOf m_unknowns m_cells m_whole m_ordered m_drawnBy m_left m_aside m_bestDead m_bestAbove m_bestBelow m_widened m_widenedMany m_fewOf m_drawing ++ ex) (pV (fun w => w = (wM g ρ m_thrown m_world ((rLod m_tape m_size (q, m_fresh, m_loadsTold, m_budgetsTold)).2.1) m_waysBack m_acts m_images m_hasImage m_endOf m_strapMany m_tape m_taped m_five m_size (((rLod m_tape m_size (q, m_fresh, m_loadsTold, m_budgetsTold)).1).1) (((rLod m_tape m_size (q, m_fresh, m_loadsTold, m_budgetsTold)).1).2.1) (((rLod m_tape m_size (q, m_fresh, m_loadsTold, m_budgetsTold)).1).2.2.1) (((rLod m_tape m_size (q, m_fresh, m_loadsTold, m_budgetsTold)).1).2.2.2.1) (((rLod m_tape m_size (q, m_fresh, m_loadsTold, m_budgetsTold)).1).2.2.2.2.1) (((rLod m_tape m_size (q, m_fresh, m_loadsTold, m_budgetsTold)).1).2.2.2.2.2) m_budgetsTold ((rLod m_tape m_size (q, m_fresh, m_loadsTold, m_budgetsTold)).2.2.1) m_deadSet m_unknownOf m_nodeOf m_unknowns m_cells m_whole m_ordered m_drawnBy m_left m_aside m_bestDead m_bestAbove m_bestBelow m_widened m_widenedMany m_fewOf m_drawing ++ ex))) := by
  refine XMet.of (L := [some (.ref (ρ 0)), none, none, none]) hG (by decide +kernel) (Nat.le_of_ble_eq_true rfl) rfl (fun K C E => ?_)
  have hcr := hg.2.2
  have hE : rLod m_tape m_size (q, m_fresh, m_loadsTold, m_budgetsTold) = rLd2 m_tape m_size (q, m_fresh, m_loadsTold, m_budgetsTold) (qPlc m_tape m_size m_fresh m_loadsTold q) := rfl
  have hpr := qPlc_r (T := m_tape) (n := m_size) (but := m_loadsTold) (q := q) hg
  have hpo : QOk m_size (qPlc m_tape m_size m_fresh m_loadsTold q).2 := hq.plc
  rw [hE] at E
  refine r_aload_0 C dX5_readLoad_0 ?_
  refine r_aload_0 C dX5_readLoad_1 ?_
  refine gM_loadsTold C q1405 dX5_readLoad_2 ?_
  refine r_cV1i C (c_X5_readPlace hG TT GM hn hn0 hT hq (by omega) hg) (q0 := 0) rfl rfl q1601 pkX5_readPlace dX5_readLoad_5 (fun z w h => ?_)
  obtain ⟨rfl, rfl⟩ := h
  refine r_istore_1 C dX5_readLoad_8 ?_
  clear hE
  generalize qPlc m_tape m_size m_fresh m_loadsTold q = p at hpr hpo E ⊢
  unfold rLd2 at E
  have hmo : QOk m_size (qTld m_tape m_size kDraws 1 99 p.2).2 := hpo.tld
  refine r_aload_0 C dX5_readLoad_9 ?_
  refine r_ldcS C (GM.at 226 kDraws (by decide)).1 dX5_readLoad_10 ?_
  refine r_iconst C dX5_readLoad_12 ?_
  refine r_bipush C dX5_readLoad_13 ?_
  refine r_cV3i C (c_X5_told hG TT (GM.at 226 kDraws (by decide)).2 (by unfold inR; omega) (by unfold inR; omega) hn hn0 hT hpo) (q0 := 0) rfl rfl q1571 pkX5_told dX5_readLoad_15 (fun z w h => ?_)
  obtain ⟨rfl, rfl⟩ := h
  generalize qTld m_tape m_size kDraws 1 99 p.2 = m at hmo E ⊢
  have hxo : QOk m_size (qGrp m_tape m_size m.2).2 := hmo.grp
  have hmk := hmo.2.2.2.2.1
  have j41 : ∀ x : Int × Q6, qGrp m_tape m_size m.2 = x → AW g K (wM g ρ m_thrown m_world m_fresh m_waysBack m_acts m_images m_hasImage m_endOf m_strapMany m_tape m_taped m_five m_size ((x.2).1) ((x.2).2.1) ((x.2).2.2.1) ((x.2).2.2.2.1) ((x.2).2.2.2.2.1) ((x.2).2.2.2.2.2) m_budgetsTold m_loadsTold m_deadSet m_unknownOf m_nodeOf m_unknowns m_cells m_whole m_ordered m_drawnBy m_left m_aside m_bestDead m_bestAbove m_bestBelow m_widened m_widenedMany m_fewOf m_drawing ++ ex) 0 0 41 [some (.ref (ρ 0)), some (.int (jI p.1)), some (.int (jI m.1)), some (.int (jI x.1))] [] := by
    intro x ex
    rw [ex] at hxo E
    have hxk := hxo.2.2.2.2.1
    have hP0 := bsP_0 (k := p.1)
    unfold rLd1 at E
    refine r_aload_0 C dX5_readLoad_41 ?_
    refine r_cV0i C (c_X5_good hG (by unfold inR; omega)) (q0 := 0) rfl rfl q1543 pkX5_good dX5_readLoad_42 (fun z w h => ?_)
    obtain ⟨rfl, rfl⟩ := h
    refine r_ifneB (tgt := 49) C dX5_readLoad_45 (by decide) (fun c_45 => ?_) (fun c_45 => ?_)
    · skip
      refine r_aload_0 C dX5_readLoad_49 ?_
      refine gM_fresh C q1387 dX5_readLoad_50 ?_
      refine r_bipush C dX5_readLoad_53 ?_
      refine r_iload_1 C dX5_readLoad_55 ?_
      refine r_iadd C dX5_readLoad_56 ?_
      refine r_iload_2 C dX5_readLoad_57 ?_
      refine stM_fresh C dX5_readLoad_58 ?_
      refine r_aload_0 C dX5_readLoad_59 ?_
      refine gM_fresh C q1387 dX5_readLoad_60 ?_
      refine r_bipush C dX5_readLoad_63 ?_
      refine r_iload_1 C dX5_readLoad_65 ?_
      refine r_iadd C dX5_readLoad_66 ?_
      refine r_iload_3 C dX5_readLoad_67 ?_
      refine stM_fresh C dX5_readLoad_68 ?_
      refine r_aload_0 C dX5_readLoad_69 ?_
      refine r_dup C dX5_readLoad_70 ?_
      refine gM_loadsTold C q1405 dX5_readLoad_71 ?_
      refine r_iconst C dX5_readLoad_74 ?_
      refine r_iload_1 C dX5_readLoad_75 ?_
      refine r_ishl C (bsP p.1) dX5_readLoad_76 (jI_shl hpr.1 (by omega)) ?_
      refine r_ior C (bsO m_loadsTold (bsP p.1)) dX5_readLoad_77 (jI_or hl.1 (by omega)) ?_
      refine pM_loadsTold C q1405 dX5_readLoad_78 ?_
      refine r_return C E dX5_readLoad_81 ?_
      rw [if_pos c_45]
      exact ⟨rfl, rfl⟩
    · skip
      refine r_return C E dX5_readLoad_48 ?_
      rw [if_neg c_45]
      exact ⟨rfl, rfl⟩
  refine r_istore_2 C dX5_readLoad_18 ?_
  refine r_iconst C dX5_readLoad_19 ?_
  refine r_istore_3 C dX5_readLoad_20 ?_
  refine r_aload_0 C dX5_readLoad_21 ?_
  refine r_ldcS C (GM.at 228 kGroup (by decide)).1 dX5_readLoad_22 ?_
  refine r_cV1i C (c_X5_is hG TT (GM.at 228 kGroup (by decide)).2 hn hn0 hT hmo) (q0 := 0) rfl rfl q1560 pkX5_is dX5_readLoad_24 (fun z w h => ?_)
  obtain ⟨rfl, rfl⟩ := h
  refine r_ifeqB (tgt := 41) C dX5_readLoad_27 (by decide) (fun c_27 => ?_) (fun c_27 => ?_)
  · skip
    first
      | exact j41 _ (if_pos c_27)
      | exact j41 (0, m.2) (if_neg c_27)
  · skip
    refine r_aload_0 C dX5_readLoad_30 ?_
    refine r_cV0v C (c_X5_advance hG hn hn0 hT hmo.1) (q0 := 0) rfl rfl q1529 pkX5_advance dX5_readLoad_31 (fun w h => ?_)
    subst h
    refine r_aload_0 C dX5_readLoad_34 ?_
    refine r_iconst C dX5_readLoad_35 ?_
    refine r_iconst C dX5_readLoad_36 ?_
    refine r_cV2i C (c_X5_takes hG (by unfold inR; omega) (by unfold inR; omega) hn hn0 hT hmo.adv) (q0 := 0) rfl rfl q1575 pkX5_takes dX5_readLoad_37 (fun z w h => ?_)
    obtain ⟨rfl, rfl⟩ := h
    refine r_istore_3 C dX5_readLoad_40 ?_
    first
      | exact j41 _ (if_pos c_27)
      | exact j41 (0, m.2) (if_neg c_27)
theorem c_X5_readBudget (hG : Gok g) {q : Q6} (TT : GT g) {κ : Nat → Nat} (GM : GMs g κ) (hn : m_size ≤ 700) (hn0 : 0 ≤ m_size) (hT : TpOk m_tape) (hq : QOk m_size q) (hb : 0 ≤ m_budgetsTold ∧ m_budgetsTold < 16) : XMet g yX5_readBudget cX5_readBudget 3 none (7) 0 0 [.ref (ρ 0)] (wM g ρ m_thrown m_world m_fresh m_waysBack m_acts m_images m_hasImage m_endOf m_strapMany m_tape m_taped m_five m_size (q.1) (q.2.1) (q.2.2.1) (q.2.2.2.1) (q.2.2.2.2.1) (q.2.2.2.2.2) m_budgetsTold m_loadsTold m_deadSet m_unknownOf m_nodeOf m_unknowns m_cells m_whole m_ordered m_drawnBy m_left m_aside m_bestDead m_bestAbove m_bestBelow m_widened m_widenedMany m_fewOf m_drawing ++ ex) (pV (fun w => w = (wM g ρ m_thrown m_world ((rBud m_tape m_size (q, m_fresh, m_loadsTold, m_budgetsTold)).2.1) m_waysBack m_acts m_images m_hasImage m_endOf m_strapMany m_tape m_taped m_five m_size (((rBud m_tape m_size (q, m_fresh, m_loadsTold, m_budgetsTold)).1).1) (((rBud m_tape m_size (q, m_fresh, m_loadsTold, m_budgetsTold)).1).2.1) (((rBud m_tape m_size (q, m_fresh, m_loadsTold, m_budgetsTold)).1).2.2.1) (((rBud m_tape m_size (q, m_fresh, m_loadsTold, m_budgetsTold)).1).2.2.2.1) (((rBud m_tape m_size (q, m_fresh, m_loadsTold, m_budgetsTold)).1).2.2.2.2.1) (((rBud m_tape m_size (q, m_fresh, m_loadsTold, m_budgetsTold)).1).2.2.2.2.2) ((rBud m_tape m_size (q, m_fresh, m_loadsTold, m_budgetsTold)).2.2.2) m_loadsTold m_deadSet m_unknownOf m_nodeOf m_unknowns m_cells m_whole m_ordered m_drawnBy m_left m_aside m_bestDead m_bestAbove m_bestBelow m_widened m_widenedMany m_fewOf m_drawing ++ ex))) := by
  refine XMet.of (L := [some (.ref (ρ 0)), none, none]) hG (by decide +kernel) (Nat.le_of_ble_eq_true rfl) rfl (fun K C E => ?_)
  have hE : rBud m_tape m_size (q, m_fresh, m_loadsTold, m_budgetsTold) = rBu3 m_tape m_size (q, m_fresh, m_loadsTold, m_budgetsTold) (qTak m_tape m_size 0 3 (qBu1 m_budgetsTold q)) := rfl
  rw [hE] at E
  clear hE
  have hqk := hq.2.2.2.2.1
  have hqt := hq.2.2.1
  have hqv := hq.2.2.2.1
  have j42 : ∀ q1 : Q6, qBu1 m_budgetsTold q = q1 → AW g K (wM g ρ m_thrown m_world m_fresh m_waysBack m_acts m_images m_hasImage m_endOf m_strapMany m_tape m_taped m_five m_size (q1.1) (q1.2.1) (q1.2.2.1) (q1.2.2.2.1) (q1.2.2.2.2.1) (q1.2.2.2.2.2) m_budgetsTold m_loadsTold m_deadSet m_unknownOf m_nodeOf m_unknowns m_cells m_whole m_ordered m_drawnBy m_left m_aside m_bestDead m_bestAbove m_bestBelow m_widened m_widenedMany m_fewOf m_drawing ++ ex) 0 0 42 [some (.ref (ρ 0)), none, none] [] := by
    intro q1 e1
    rw [e1] at E
    have ho1 : QOk m_size q1 := by rw [← e1]; exact hq.bu1
    have hxo : QOk m_size (qTak m_tape m_size 0 3 q1).2 := ho1.tak
    have hxr : (qTak m_tape m_size 0 3 q1).1 = 0 ∨ (0 ≤ (qTak m_tape m_size 0 3 q1).1 ∧ (qTak m_tape m_size 0 3 q1).1 ≤ 3) := qTak_r
    unfold rBu3 at E
    refine r_aload_0 C dX5_readBudget_42 ?_
    refine r_iconst C dX5_readBudget_43 ?_
    refine r_iconst C dX5_readBudget_44 ?_
    refine r_cV2i C (c_X5_takes hG (by unfold inR; omega) (by unfold inR; omega) hn hn0 hT ho1) (q0 := 0) rfl rfl q1575 pkX5_takes dX5_readBudget_45 (fun z w h => ?_)
    obtain ⟨rfl, rfl⟩ := h
    generalize qTak m_tape m_size 0 3 q1 = x at hxo hxr E ⊢
    have hmo : QOk m_size (qTld m_tape m_size kIs 0 999 x.2).2 := hxo.tld
    refine r_istore_1 C dX5_readBudget_48 ?_
    refine r_aload_0 C dX5_readBudget_49 ?_
    refine r_ldcS C (GM.at 233 kIs (by decide)).1 dX5_readBudget_50 ?_
    refine r_iconst C dX5_readBudget_52 ?_
    refine r_sipush C dX5_readBudget_53 ?_
    refine r_cV3i C (c_X5_told hG TT (GM.at 233 kIs (by decide)).2 (by unfold inR; omega) (by unfold inR; omega) hn hn0 hT hxo) (q0 := 0) rfl rfl q1571 pkX5_told dX5_readBudget_56 (fun z w h => ?_)
    obtain ⟨rfl, rfl⟩ := h
    generalize qTld m_tape m_size kIs 0 999 x.2 = m at hmo E ⊢
    have hmk := hmo.2.2.2.2.1
    have hP0 := bsP_0 (k := x.1)
    unfold rBu2 at E
    refine r_istore_2 C dX5_readBudget_59 ?_
    refine r_aload_0 C dX5_readBudget_60 ?_
    refine r_cV0i C (c_X5_good hG (by unfold inR; omega)) (q0 := 0) rfl rfl q1543 pkX5_good dX5_readBudget_61 (fun z w h => ?_)
    obtain ⟨rfl, rfl⟩ := h
    refine r_ifneB (tgt := 68) C dX5_readBudget_64 (by decide) (fun c_64 => ?_) (fun c_64 => ?_)
    · skip
      refine r_aload_0 C dX5_readBudget_68 ?_
      refine gM_fresh C q1387 dX5_readBudget_69 ?_
      refine r_bipush C dX5_readBudget_72 ?_
      refine r_iload_1 C dX5_readBudget_74 ?_
      refine r_iadd C dX5_readBudget_75 ?_
      refine r_iload_2 C dX5_readBudget_76 ?_
      refine stM_fresh C dX5_readBudget_77 ?_
      refine r_aload_0 C dX5_readBudget_78 ?_
      refine r_dup C dX5_readBudget_79 ?_
      refine gM_budgetsTold C q1404 dX5_readBudget_80 ?_
      refine r_iconst C dX5_readBudget_83 ?_
      refine r_iload_1 C dX5_readBudget_84 ?_
      refine r_ishl C (bsP x.1) dX5_readBudget_85 (jI_shl (by omega) (by omega)) ?_
      refine r_ior C (bsO m_budgetsTold (bsP x.1)) dX5_readBudget_86 (jI_or hb.1 (by omega)) ?_
      refine pM_budgetsTold C q1404 dX5_readBudget_87 ?_
      refine r_return C E dX5_readBudget_90 ?_
      rw [if_pos c_64]
      exact ⟨rfl, rfl⟩
    · skip
      refine r_return C E dX5_readBudget_67 ?_
      rw [if_neg c_64]
      exact ⟨rfl, rfl⟩
  refine r_aload_0 C dX5_readBudget_0 ?_
  refine r_cV0i C (c_X5_good hG (by unfold inR; omega)) (q0 := 0) rfl rfl q1543 pkX5_good dX5_readBudget_1 (fun z w h => ?_)
  obtain ⟨rfl, rfl⟩ := h
  refine r_ifeqB (tgt := 42) C dX5_readBudget_4 (by decide) (fun c_4 => ?_) (fun c_4 => ?_)
  · skip
    first
      | exact j42 _ (if_neg (fun h => c_4 h.1.1))
      | exact j42 _ (if_neg (fun h => c_12 h.1.2.1))
      | exact j42 _ (if_neg (fun h => by have := h.1.2.2; omega))
      | exact j42 _ (if_neg (fun h => c_34 h.2))
      | exact j42 _ (if_pos ⟨⟨c_4, c_12, by omega⟩, c_34⟩)
  · skip
    refine r_aload_0 C dX5_readBudget_7 ?_
    refine gM_token C q1400 dX5_readBudget_8 ?_
    refine r_iconst C dX5_readBudget_11 ?_
    refine r_if_icmpne (tgt := 42) C dX5_readBudget_12 (by decide) (fun c_12 => ?_) (fun c_12 => ?_)
    · skip
      first
        | exact j42 _ (if_neg (fun h => c_4 h.1.1))
        | exact j42 _ (if_neg (fun h => c_12 h.1.2.1))
        | exact j42 _ (if_neg (fun h => by have := h.1.2.2; omega))
        | exact j42 _ (if_neg (fun h => c_34 h.2))
        | exact j42 _ (if_pos ⟨⟨c_4, c_12, by omega⟩, c_34⟩)
    · skip
      have hv := hqv c_12
      refine r_aload_0 C dX5_readBudget_15 ?_
      refine gM_value C q1401 dX5_readBudget_16 ?_
      refine r_iconst C dX5_readBudget_19 ?_
      refine r_if_icmpge (tgt := 42) C dX5_readBudget_20 (by decide) (fun c_20 => ?_) (fun c_20 => ?_)
      · skip
        first
          | exact j42 _ (if_neg (fun h => c_4 h.1.1))
          | exact j42 _ (if_neg (fun h => c_12 h.1.2.1))
          | exact j42 _ (if_neg (fun h => by have := h.1.2.2; omega))
          | exact j42 _ (if_neg (fun h => c_34 h.2))
          | exact j42 _ (if_pos ⟨⟨c_4, c_12, by omega⟩, c_34⟩)
      · skip
        refine r_aload_0 C dX5_readBudget_23 ?_
        refine gM_budgetsTold C q1404 dX5_readBudget_24 ?_
        refine r_aload_0 C dX5_readBudget_27 ?_
        refine gM_value C q1401 dX5_readBudget_28 ?_
        refine r_cS2i C (c_X5_isOf hG (by omega) (by omega)) q1606 pkX5_isOf dX5_readBudget_31 (fun z w h => ?_)
        obtain ⟨rfl, rfl⟩ := h
        refine r_ifeqB (tgt := 42) C dX5_readBudget_34 (by decide) (fun c_34 => ?_) (fun c_34 => ?_)
        · skip
          first
            | exact j42 _ (if_neg (fun h => c_4 h.1.1))
            | exact j42 _ (if_neg (fun h => c_12 h.1.2.1))
            | exact j42 _ (if_neg (fun h => by have := h.1.2.2; omega))
            | exact j42 _ (if_neg (fun h => c_34 h.2))
            | exact j42 _ (if_pos ⟨⟨c_4, c_12, by omega⟩, c_34⟩)
        · skip
          refine r_aload_0 C dX5_readBudget_37 ?_
          refine r_iconst C dX5_readBudget_38 ?_
          refine r_cV1v C (c_X5_errs hG (by unfold inR; omega)) (q0 := 0) rfl rfl q1566 pkX5_errs dX5_readBudget_39 (fun w h => ?_)
          subst h
          first
            | exact j42 _ (if_neg (fun h => c_4 h.1.1))
            | exact j42 _ (if_neg (fun h => c_12 h.1.2.1))
            | exact j42 _ (if_neg (fun h => by have := h.1.2.2; omega))
            | exact j42 _ (if_neg (fun h => c_34 h.2))
            | exact j42 _ (if_pos ⟨⟨c_4, c_12, by omega⟩, c_34⟩)
theorem c_X5_readLine (hG : Gok g) {q : Q6} (TT : GT g) {κ : Nat → Nat} (GM : GMs g κ) (hn : m_size ≤ 700) (hn0 : 0 ≤ m_size) (hT : TpOk m_tape) (hq : QOk m_size q) (hg : GW (m_fresh 0) (m_fresh 1)) (he : Ends (m_fresh 0) (m_fresh 1) m_endOf) (hs : m_strapMany = sN (m_fresh 0) (m_fresh 1)) (hp : 0 ≤ m_fresh 5 ∧ m_fresh 5 < 512) (hl : 0 ≤ m_loadsTold ∧ m_loadsTold < 512) (hb : 0 ≤ m_budgetsTold ∧ m_budgetsTold < 16) : XMet g yX5_readLine cX5_readLine 2 none (8) 0 0 [.ref (ρ 0)] (wM g ρ m_thrown m_world m_fresh m_waysBack m_acts m_images m_hasImage m_endOf m_strapMany m_tape m_taped m_five m_size (q.1) (q.2.1) (q.2.2.1) (q.2.2.2.1) (q.2.2.2.2.1) (q.2.2.2.2.2) m_budgetsTold m_loadsTold m_deadSet m_unknownOf m_nodeOf m_unknowns m_cells m_whole m_ordered m_drawnBy m_left m_aside m_bestDead m_bestAbove m_bestBelow m_widened m_widenedMany m_fewOf m_drawing ++ ex) (pV (fun w => w = (wM g ρ m_thrown m_world ((rLin m_tape m_size (q, m_fresh, m_loadsTold, m_budgetsTold)).2.1) m_waysBack m_acts m_images m_hasImage m_endOf m_strapMany m_tape m_taped m_five m_size (((rLin m_tape m_size (q, m_fresh, m_loadsTold, m_budgetsTold)).1).1) (((rLin m_tape m_size (q, m_fresh, m_loadsTold, m_budgetsTold)).1).2.1) (((rLin m_tape m_size (q, m_fresh, m_loadsTold, m_budgetsTold)).1).2.2.1) (((rLin m_tape m_size (q, m_fresh, m_loadsTold, m_budgetsTold)).1).2.2.2.1) (((rLin m_tape m_size (q, m_fresh, m_loadsTold, m_budgetsTold)).1).2.2.2.2.1) (((rLin m_tape m_size (q, m_fresh, m_loadsTold, m_budgetsTold)).1).2.2.2.2.2) ((rLin m_tape m_size (q, m_fresh, m_loadsTold, m_budgetsTold)).2.2.2) ((rLin m_tape m_size (q, m_fresh, m_loadsTold, m_budgetsTold)).2.2.1) m_deadSet m_unknownOf m_nodeOf m_unknowns m_cells m_whole m_ordered m_drawnBy m_left m_aside m_bestDead m_bestAbove m_bestBelow m_widened m_widenedMany m_fewOf m_drawing ++ ex))) := by
  refine XMet.of (L := [some (.ref (ρ 0)), none]) hG (by decide +kernel) (Nat.le_of_ble_eq_true rfl) rfl (fun K C E => ?_)
  have hcr := hg.2.2
  have hqk := hq.2.2.2.2.1
  have hqa : QOk m_size (qAdv m_tape m_size q) := hq.adv
  have hpr := qPlc_r (T := m_tape) (n := m_size) (but := m_fresh 5) (q := qAdv m_tape m_size q) hg
  have hpo : QOk m_size (qPlc m_tape m_size m_fresh (m_fresh 5) (qAdv m_tape m_size q)).2 := hqa.plc
  have hpk := hpo.2.2.2.2.1
  have hP0 := bsP_0 (k := (qPlc m_tape m_size m_fresh (m_fresh 5) (qAdv m_tape m_size q)).1)
  unfold rLin at E
  refine r_aload_0 C dX5_readLine_0 ?_
  refine r_ldcS C (GM.at 234 kStrap (by decide)).1 dX5_readLine_1 ?_
  refine r_cV1i C (c_X5_is hG TT (GM.at 234 kStrap (by decide)).2 hn hn0 hT hq) (q0 := 0) rfl rfl q1560 pkX5_is dX5_readLine_3 (fun z w h => ?_)
  obtain ⟨rfl, rfl⟩ := h
  refine r_ifeqB (tgt := 20) C dX5_readLine_6 (by decide) (fun c_6 => ?_) (fun c_6 => ?_)
  · skip
    refine r_aload_0 C dX5_readLine_20 ?_
    refine r_ldcS C (GM.at 239 kPad (by decide)).1 dX5_readLine_21 ?_
    refine r_cV1i C (c_X5_is hG TT (GM.at 239 kPad (by decide)).2 hn hn0 hT hq) (q0 := 0) rfl rfl q1560 pkX5_is dX5_readLine_23 (fun z w h => ?_)
    obtain ⟨rfl, rfl⟩ := h
    refine r_ifeqB (tgt := 66) C dX5_readLine_26 (by decide) (fun c_26 => ?_) (fun c_26 => ?_)
    · skip
      refine r_aload_0 C dX5_readLine_66 ?_
      refine r_ldcS C (GM.at 241 kLoad (by decide)).1 dX5_readLine_67 ?_
      refine r_cV1i C (c_X5_is hG TT (GM.at 241 kLoad (by decide)).2 hn hn0 hT hq) (q0 := 0) rfl rfl q1560 pkX5_is dX5_readLine_69 (fun z w h => ?_)
      obtain ⟨rfl, rfl⟩ := h
      refine r_ifeqB (tgt := 86) C dX5_readLine_72 (by decide) (fun c_72 => ?_) (fun c_72 => ?_)
      · skip
        refine r_aload_0 C dX5_readLine_86 ?_
        refine r_ldcS C (GM.at 246 kBudget (by decide)).1 dX5_readLine_87 ?_
        refine r_cV1i C (c_X5_is hG TT (GM.at 246 kBudget (by decide)).2 hn hn0 hT hq) (q0 := 0) rfl rfl q1560 pkX5_is dX5_readLine_89 (fun z w h => ?_)
        obtain ⟨rfl, rfl⟩ := h
        refine r_ifeqB (tgt := 106) C dX5_readLine_92 (by decide) (fun c_92 => ?_) (fun c_92 => ?_)
        · skip
          refine r_aload_0 C dX5_readLine_106 ?_
          refine r_iconst C dX5_readLine_107 ?_
          refine r_cV1v C (c_X5_errs hG (by unfold inR; omega)) (q0 := 0) rfl rfl q1566 pkX5_errs dX5_readLine_108 (fun w h => ?_)
          subst h
          refine r_return C E dX5_readLine_111 ?_
          first
            | (rw [if_pos c_6]; exact ⟨rfl, rfl⟩)
            | (rw [if_neg c_6, if_pos c_26]; unfold rPad rPa1; simp only []; rw [if_pos c_48]; exact ⟨rfl, rfl⟩)
            | (rw [if_neg c_6, if_pos c_26]; unfold rPad rPa1; simp only []; rw [if_neg c_48]; exact ⟨rfl, rfl⟩)
            | (rw [if_neg c_6, if_neg c_26, if_pos c_72, rLod_b]; exact ⟨rfl, rfl⟩)
            | (rw [if_neg c_6, if_neg c_26, if_neg c_72, if_pos c_92, rBud_l]; exact ⟨rfl, rfl⟩)
            | (rw [if_neg c_6, if_neg c_26, if_neg c_72, if_neg c_92]; exact ⟨rfl, rfl⟩)
        · skip
          refine r_aload_0 C dX5_readLine_95 ?_
          refine r_cV0v C (c_X5_advance hG hn hn0 hT hq.1) (q0 := 0) rfl rfl q1529 pkX5_advance dX5_readLine_96 (fun w h => ?_)
          subst h
          refine r_aload_0 C dX5_readLine_99 ?_
          refine r_cV0v C (c_X5_readBudget hG TT GM hn hn0 hT hqa hb) (q0 := 0) rfl rfl q1625 pkX5_readBudget dX5_readLine_100 (fun w h => ?_)
          subst h
          refine r_goto (tgt := 111) C dX5_readLine_103 (by decide) ?_
          refine r_return C E dX5_readLine_111 ?_
          first
            | (rw [if_pos c_6]; exact ⟨rfl, rfl⟩)
            | (rw [if_neg c_6, if_pos c_26]; unfold rPad rPa1; simp only []; rw [if_pos c_48]; exact ⟨rfl, rfl⟩)
            | (rw [if_neg c_6, if_pos c_26]; unfold rPad rPa1; simp only []; rw [if_neg c_48]; exact ⟨rfl, rfl⟩)
            | (rw [if_neg c_6, if_neg c_26, if_pos c_72, rLod_b]; exact ⟨rfl, rfl⟩)
            | (rw [if_neg c_6, if_neg c_26, if_neg c_72, if_pos c_92, rBud_l]; exact ⟨rfl, rfl⟩)
            | (rw [if_neg c_6, if_neg c_26, if_neg c_72, if_neg c_92]; exact ⟨rfl, rfl⟩)
      · skip
        refine r_aload_0 C dX5_readLine_75 ?_
        refine r_cV0v C (c_X5_advance hG hn hn0 hT hq.1) (q0 := 0) rfl rfl q1529 pkX5_advance dX5_readLine_76 (fun w h => ?_)
        subst h
        refine r_aload_0 C dX5_readLine_79 ?_
        refine r_cV0v C (c_X5_readLoad hG TT GM hn hn0 hT hqa hg hl) (q0 := 0) rfl rfl q1618 pkX5_readLoad dX5_readLine_80 (fun w h => ?_)
        subst h
        refine r_goto (tgt := 111) C dX5_readLine_83 (by decide) ?_
        refine r_return C E dX5_readLine_111 ?_
        first
          | (rw [if_pos c_6]; exact ⟨rfl, rfl⟩)
          | (rw [if_neg c_6, if_pos c_26]; unfold rPad rPa1; simp only []; rw [if_pos c_48]; exact ⟨rfl, rfl⟩)
          | (rw [if_neg c_6, if_pos c_26]; unfold rPad rPa1; simp only []; rw [if_neg c_48]; exact ⟨rfl, rfl⟩)
          | (rw [if_neg c_6, if_neg c_26, if_pos c_72, rLod_b]; exact ⟨rfl, rfl⟩)
          | (rw [if_neg c_6, if_neg c_26, if_neg c_72, if_pos c_92, rBud_l]; exact ⟨rfl, rfl⟩)
          | (rw [if_neg c_6, if_neg c_26, if_neg c_72, if_neg c_92]; exact ⟨rfl, rfl⟩)
    · skip
      refine r_aload_0 C dX5_readLine_29 ?_
      refine r_cV0v C (c_X5_advance hG hn hn0 hT hq.1) (q0 := 0) rfl rfl q1529 pkX5_advance dX5_readLine_30 (fun w h => ?_)
      subst h
      refine r_aload_0 C dX5_readLine_33 ?_
      refine r_aload_0 C dX5_readLine_34 ?_
      refine gM_fresh C q1387 dX5_readLine_35 ?_
      refine r_iconst C dX5_readLine_38 ?_
      refine ldM_fresh C dX5_readLine_39 ?_
      refine r_cV1i C (c_X5_readPlace hG TT GM hn hn0 hT hqa (by omega) hg) (q0 := 0) rfl rfl q1601 pkX5_readPlace dX5_readLine_40 (fun z w h => ?_)
      obtain ⟨rfl, rfl⟩ := h
      refine r_istore_1 C dX5_readLine_43 ?_
      refine r_aload_0 C dX5_readLine_44 ?_
      refine r_cV0i C (c_X5_good hG (by unfold inR; omega)) (q0 := 0) rfl rfl q1543 pkX5_good dX5_readLine_45 (fun z w h => ?_)
      obtain ⟨rfl, rfl⟩ := h
      refine r_ifeqB (tgt := 63) C dX5_readLine_48 (by decide) (fun c_48 => ?_) (fun c_48 => ?_)
      · skip
        refine r_goto (tgt := 111) C dX5_readLine_63 (by decide) ?_
        refine r_return C E dX5_readLine_111 ?_
        first
          | (rw [if_pos c_6]; exact ⟨rfl, rfl⟩)
          | (rw [if_neg c_6, if_pos c_26]; unfold rPad rPa1; simp only []; rw [if_pos c_48]; exact ⟨rfl, rfl⟩)
          | (rw [if_neg c_6, if_pos c_26]; unfold rPad rPa1; simp only []; rw [if_neg c_48]; exact ⟨rfl, rfl⟩)
          | (rw [if_neg c_6, if_neg c_26, if_pos c_72, rLod_b]; exact ⟨rfl, rfl⟩)
          | (rw [if_neg c_6, if_neg c_26, if_neg c_72, if_pos c_92, rBud_l]; exact ⟨rfl, rfl⟩)
          | (rw [if_neg c_6, if_neg c_26, if_neg c_72, if_neg c_92]; exact ⟨rfl, rfl⟩)
      · skip
        refine r_aload_0 C dX5_readLine_51 ?_
        refine gM_fresh C q1387 dX5_readLine_52 ?_
        refine r_iconst C dX5_readLine_55 ?_
        refine r_dup2 C dX5_readLine_56 ?_
        refine ldM_fresh C dX5_readLine_57 ?_
        refine r_iconst C dX5_readLine_58 ?_
        refine r_iload_1 C dX5_readLine_59 ?_
        refine r_ishl C (bsP (qPlc m_tape m_size m_fresh (m_fresh 5) (qAdv m_tape m_size q)).1) dX5_readLine_60 (jI_shl hpr.1 (by omega)) ?_
        refine r_ior C (bsO (m_fresh 5) (bsP (qPlc m_tape m_size m_fresh (m_fresh 5) (qAdv m_tape m_size q)).1)) dX5_readLine_61 (jI_or hp.1 (by omega)) ?_
        refine stM_fresh C dX5_readLine_62 ?_
        refine r_goto (tgt := 111) C dX5_readLine_63 (by decide) ?_
        refine r_return C E dX5_readLine_111 ?_
        first
          | (rw [if_pos c_6]; exact ⟨rfl, rfl⟩)
          | (rw [if_neg c_6, if_pos c_26]; unfold rPad rPa1; simp only []; rw [if_pos c_48]; exact ⟨rfl, rfl⟩)
          | (rw [if_neg c_6, if_pos c_26]; unfold rPad rPa1; simp only []; rw [if_neg c_48]; exact ⟨rfl, rfl⟩)
          | (rw [if_neg c_6, if_neg c_26, if_pos c_72, rLod_b]; exact ⟨rfl, rfl⟩)
          | (rw [if_neg c_6, if_neg c_26, if_neg c_72, if_pos c_92, rBud_l]; exact ⟨rfl, rfl⟩)
          | (rw [if_neg c_6, if_neg c_26, if_neg c_72, if_neg c_92]; exact ⟨rfl, rfl⟩)
  · skip
    refine r_aload_0 C dX5_readLine_9 ?_
    refine r_cV0v C (c_X5_advance hG hn hn0 hT hq.1) (q0 := 0) rfl rfl q1529 pkX5_advance dX5_readLine_10 (fun w h => ?_)
    subst h
    refine r_aload_0 C dX5_readLine_13 ?_
    refine r_cV0v C (c_X5_readStrap hG TT GM hn hn0 hT hqa hg he hs) (q0 := 0) rfl rfl q1597 pkX5_readStrap dX5_readLine_14 (fun w h => ?_)
    subst h
    refine r_goto (tgt := 111) C dX5_readLine_17 (by decide) ?_
    refine r_return C E dX5_readLine_111 ?_
    first
      | (rw [if_pos c_6]; exact ⟨rfl, rfl⟩)
      | (rw [if_neg c_6, if_pos c_26]; unfold rPad rPa1; simp only []; rw [if_pos c_48]; exact ⟨rfl, rfl⟩)
      | (rw [if_neg c_6, if_pos c_26]; unfold rPad rPa1; simp only []; rw [if_neg c_48]; exact ⟨rfl, rfl⟩)
      | (rw [if_neg c_6, if_neg c_26, if_pos c_72, rLod_b]; exact ⟨rfl, rfl⟩)
      | (rw [if_neg c_6, if_neg c_26, if_neg c_72, if_pos c_92, rBud_l]; exact ⟨rfl, rfl⟩)
      | (rw [if_neg c_6, if_neg c_26, if_neg c_72, if_neg c_92]; exact ⟨rfl, rfl⟩)
theorem c_X5_readFirst (hG : Gok g) {q : Q6} (TT : GT g) {κ : Nat → Nat} (GM : GMs g κ) (hn : m_size ≤ 700) (hn0 : 0 ≤ m_size) (hT : TpOk m_tape) (hq : QOk m_size q) : XMet g yX5_readFirst cX5_readFirst 3 none (7) 0 0 [.ref (ρ 0)] (wM g ρ m_thrown m_world m_fresh m_waysBack m_acts m_images m_hasImage m_endOf m_strapMany m_tape m_taped m_five m_size (q.1) (q.2.1) (q.2.2.1) (q.2.2.2.1) (q.2.2.2.2.1) (q.2.2.2.2.2) m_budgetsTold m_loadsTold m_deadSet m_unknownOf m_nodeOf m_unknowns m_cells m_whole m_ordered m_drawnBy m_left m_aside m_bestDead m_bestAbove m_bestBelow m_widened m_widenedMany m_fewOf m_drawing ++ ex) (pV (fun w => ∃ (e : Int → Int) (sm : Int), ((rFst m_tape m_size (q, m_fresh, m_loadsTold, m_budgetsTold)).1.2.2.2.2.1 = 0 → Ends ((rFst m_tape m_size (q, m_fresh, m_loadsTold, m_budgetsTold)).2.1 0) ((rFst m_tape m_size (q, m_fresh, m_loadsTold, m_budgetsTold)).2.1 1) e ∧ sm = sN ((rFst m_tape m_size (q, m_fresh, m_loadsTold, m_budgetsTold)).2.1 0) ((rFst m_tape m_size (q, m_fresh, m_loadsTold, m_budgetsTold)).2.1 1)) ∧ w = (wM g ρ m_thrown m_world ((rFst m_tape m_size (q, m_fresh, m_loadsTold, m_budgetsTold)).2.1) m_waysBack m_acts m_images m_hasImage (e) (sm) m_tape m_taped m_five m_size (((rFst m_tape m_size (q, m_fresh, m_loadsTold, m_budgetsTold)).1).1) (((rFst m_tape m_size (q, m_fresh, m_loadsTold, m_budgetsTold)).1).2.1) (((rFst m_tape m_size (q, m_fresh, m_loadsTold, m_budgetsTold)).1).2.2.1) (((rFst m_tape m_size (q, m_fresh, m_loadsTold, m_budgetsTold)).1).2.2.2.1) (((rFst m_tape m_size (q, m_fresh, m_loadsTold, m_budgetsTold)).1).2.2.2.2.1) (((rFst m_tape m_size (q, m_fresh, m_loadsTold, m_budgetsTold)).1).2.2.2.2.2) m_budgetsTold m_loadsTold m_deadSet m_unknownOf m_nodeOf m_unknowns m_cells m_whole m_ordered m_drawnBy m_left m_aside m_bestDead m_bestAbove m_bestBelow m_widened m_widenedMany m_fewOf m_drawing ++ ex))) := by
  refine XMet.of (L := [some (.ref (ρ 0)), none, none]) hG (by decide +kernel) (Nat.le_of_ble_eq_true rfl) rfl (fun K C E => ?_)
  have hI : (rFst m_tape m_size (q, m_fresh, m_loadsTold, m_budgetsTold)).1.2.2.2.2.1 = 0 → GW (qFi2 m_tape m_size q).1 (qFi3 m_tape m_size (qFi2 m_tape m_size q)).1 := by
    intro h
    rw [rFst_1] at h
    have e1 := qTld_in h
    have l1 := qTld_in e1.1
    have w1 := qTld_in l1.1
    have x2 : (qFi2 m_tape m_size q).2.2.2.2.2.1 = 0 := (qExp_in (qFi1_in (qTak_in w1.1).1).1).1
    exact (qFi3_in (qFi2_in x2).2.1 w1.1).2
  have hxo : QOk m_size (qFi2 m_tape m_size q).2 := hq.fi2
  have hxr : (qFi2 m_tape m_size q).1 = 0 ∨ (1 ≤ (qFi2 m_tape m_size q).1 ∧ (qFi2 m_tape m_size q).1 ≤ 9) := qTak_r
  have hE0 : qFi2 m_tape m_size q = qTld m_tape m_size kColumns 1 9 (qExp m_tape m_size kGrid q) := rfl
  unfold rFst at E hI
  simp only [] at E hI
  refine r_aload_0 C dX5_readFirst_0 ?_
  refine r_ldcS C (GM.at 190 kGrid (by decide)).1 dX5_readFirst_1 ?_
  refine r_cV1v C (c_X5_expects hG TT (GM.at 190 kGrid (by decide)).2 hn hn0 hT hq) (q0 := 0) rfl rfl q1556 pkX5_expects dX5_readFirst_3 (fun w h => ?_)
  subst h
  refine r_aload_0 C dX5_readFirst_6 ?_
  refine gM_fresh C q1387 dX5_readFirst_7 ?_
  refine r_iconst C dX5_readFirst_10 ?_
  refine r_aload_0 C dX5_readFirst_11 ?_
  refine r_ldcS C (GM.at 192 kColumns (by decide)).1 dX5_readFirst_12 ?_
  refine r_iconst C dX5_readFirst_14 ?_
  refine r_bipush C dX5_readFirst_15 ?_
  refine r_cV3i C (c_X5_told hG TT (GM.at 192 kColumns (by decide)).2 (by unfold inR; omega) (by unfold inR; omega) hn hn0 hT hq.exp) (q0 := 0) rfl rfl q1571 pkX5_told dX5_readFirst_17 (fun z w h => ?_)
  obtain ⟨rfl, rfl⟩ := h
  rw [← hE0]
  clear hE0
  generalize qFi2 m_tape m_size q = x at hxo hxr hI E ⊢
  have hyE : qFi3 m_tape m_size x = qTak m_tape m_size 1 9 (qFi1 x.1 (qExp m_tape m_size kRows x.2)) := rfl
  have hyo : QOk m_size (qFi3 m_tape m_size x).2 := hxo.fi3
  have hyr : (qFi3 m_tape m_size x).1 = 0 ∨ (1 ≤ (qFi3 m_tape m_size x).1 ∧ (qFi3 m_tape m_size x).1 ≤ 9) := qTak_r
  have h3o : QOk m_size (qExp m_tape m_size kRows x.2) := hxo.exp
  have h3k := h3o.2.2.2.2.1
  have h3t := h3o.2.2.1
  have h3v := h3o.2.2.2.1
  have j78 : ∀ q4 : Q6, qFi1 x.1 (qExp m_tape m_size kRows x.2) = q4 → AW g K (wM g ρ m_thrown m_world (aset m_fresh 0 x.1) m_waysBack m_acts m_images m_hasImage m_endOf m_strapMany m_tape m_taped m_five m_size (q4.1) (q4.2.1) (q4.2.2.1) (q4.2.2.2.1) (q4.2.2.2.2.1) (q4.2.2.2.2.2) m_budgetsTold m_loadsTold m_deadSet m_unknownOf m_nodeOf m_unknowns m_cells m_whole m_ordered m_drawnBy m_left m_aside m_bestDead m_bestAbove m_bestBelow m_widened m_widenedMany m_fewOf m_drawing ++ ex) 0 0 78 [some (.ref (ρ 0)), none, none] [] := by
    intro q4 e4
    rw [e4] at hyE
    have ho4 : QOk m_size q4 := by rw [← e4]; exact h3o.fi1
    refine r_aload_0 C dX5_readFirst_78 ?_
    refine gM_fresh C q1387 dX5_readFirst_79 ?_
    refine r_iconst C dX5_readFirst_82 ?_
    refine r_aload_0 C dX5_readFirst_83 ?_
    refine r_iconst C dX5_readFirst_84 ?_
    refine r_bipush C dX5_readFirst_85 ?_
    refine r_cV2i C (c_X5_takes hG (by unfold inR; omega) (by unfold inR; omega) hn hn0 hT ho4) (q0 := 0) rfl rfl q1575 pkX5_takes dX5_readFirst_87 (fun z w h => ?_)
    obtain ⟨rfl, rfl⟩ := h
    rw [← hyE]
    clear hyE
    generalize qFi3 m_tape m_size x = y at hyo hyr hI E ⊢
    unfold rFi1 at E hI
    have hwo : QOk m_size (qTld m_tape m_size kWidth 0 4 y.2).2 := hyo.tld
    refine stM_fresh C dX5_readFirst_90 ?_
    refine r_aload_0 C dX5_readFirst_91 ?_
    refine r_ldcS C (GM.at 202 kWidth (by decide)).1 dX5_readFirst_92 ?_
    refine r_iconst C dX5_readFirst_94 ?_
    refine r_iconst C dX5_readFirst_95 ?_
    refine r_cV3i C (c_X5_told hG TT (GM.at 202 kWidth (by decide)).2 (by unfold inR; omega) (by unfold inR; omega) hn hn0 hT hyo) (q0 := 0) rfl rfl q1571 pkX5_told dX5_readFirst_96 (fun z w h => ?_)
    obtain ⟨rfl, rfl⟩ := h
    generalize qTld m_tape m_size kWidth 0 4 y.2 = w at hwo hI E ⊢
    unfold rFi2 at E hI
    have hlo : QOk m_size (qTld m_tape m_size kLimit 0 999 w.2).2 := hwo.tld
    refine r_istore_1 C dX5_readFirst_99 ?_
    refine r_aload_0 C dX5_readFirst_100 ?_
    refine gM_fresh C q1387 dX5_readFirst_101 ?_
    refine r_iconst C dX5_readFirst_104 ?_
    refine r_aload_0 C dX5_readFirst_105 ?_
    refine r_ldcS C (GM.at 204 kLimit (by decide)).1 dX5_readFirst_106 ?_
    refine r_iconst C dX5_readFirst_108 ?_
    refine r_sipush C dX5_readFirst_109 ?_
    refine r_cV3i C (c_X5_told hG TT (GM.at 204 kLimit (by decide)).2 (by unfold inR; omega) (by unfold inR; omega) hn hn0 hT hwo) (q0 := 0) rfl rfl q1571 pkX5_told dX5_readFirst_112 (fun z w h => ?_)
    obtain ⟨rfl, rfl⟩ := h
    generalize qTld m_tape m_size kLimit 0 999 w.2 = l at hlo hI E ⊢
    unfold rFi3 at E hI
    have heo : QOk m_size (qTld m_tape m_size kWear 1 999 l.2).2 := hlo.tld
    refine stM_fresh C dX5_readFirst_115 ?_
    refine r_aload_0 C dX5_readFirst_116 ?_
    refine gM_fresh C q1387 dX5_readFirst_117 ?_
    refine r_iconst C dX5_readFirst_120 ?_
    refine r_aload_0 C dX5_readFirst_121 ?_
    refine r_ldcS C (GM.at 206 kWear (by decide)).1 dX5_readFirst_122 ?_
    refine r_iconst C dX5_readFirst_124 ?_
    refine r_sipush C dX5_readFirst_125 ?_
    refine r_cV3i C (c_X5_told hG TT (GM.at 206 kWear (by decide)).2 (by unfold inR; omega) (by unfold inR; omega) hn hn0 hT hlo) (q0 := 0) rfl rfl q1571 pkX5_told dX5_readFirst_128 (fun z w h => ?_)
    obtain ⟨rfl, rfl⟩ := h
    generalize qTld m_tape m_size kWear 1 999 l.2 = e at heo hI E ⊢
    have hek := heo.2.2.2.2.1
    unfold rFi4 at E hI
    refine stM_fresh C dX5_readFirst_131 ?_
    refine r_aload_0 C dX5_readFirst_132 ?_
    refine r_cV0i C (c_X5_good hG (by unfold inR; omega)) (q0 := 0) rfl rfl q1543 pkX5_good dX5_readFirst_133 (fun z w h => ?_)
    obtain ⟨rfl, rfl⟩ := h
    refine r_ifneB (tgt := 140) C dX5_readFirst_136 (by decide) (fun c_136 => ?_) (fun c_136 => ?_)
    · skip
      rw [if_pos c_136] at E hI
      have hgw := hI c_136
      have f0 : fFi0 m_fresh x.1 y.1 l.1 e.1 0 = x.1 := by
        unfold fFi0
        rw [aset_ne (by omega), aset_ne (by omega), aset_ne (by omega), aset_at]
      have f1 : fFi0 m_fresh x.1 y.1 l.1 e.1 1 = y.1 := by
        unfold fFi0
        rw [aset_ne (by omega), aset_ne (by omega), aset_at]
      have hfold : aset (aset (aset (aset m_fresh 0 x.1) 1 y.1) 2 l.1) 3 e.1 = fFi0 m_fresh x.1 y.1 l.1 e.1 := rfl
      rw [hfold]
      clear hfold
      have h12 := sN_12 hgw
      have h00 := sN_0 (c := x.1) (r := y.1)
      generalize fFi0 m_fresh x.1 y.1 l.1 e.1 = f at f0 f1 E ⊢
      refine r_aload_0 C dX5_readFirst_140 ?_
      refine r_aload_0 C dX5_readFirst_141 ?_
      refine gM_fresh C q1387 dX5_readFirst_142 ?_
      refine r_iconst C dX5_readFirst_145 ?_
      refine ldM_fresh C dX5_readFirst_146 ?_
      refine r_topi x.1 f0 ?_
      refine r_aload_0 C dX5_readFirst_147 ?_
      refine gM_fresh C q1387 dX5_readFirst_148 ?_
      refine r_iconst C dX5_readFirst_151 ?_
      refine ldM_fresh C dX5_readFirst_152 ?_
      refine r_topi y.1 f1 ?_
      refine r_cV2v C (c_X5_laysStraps hG hgw) (q0 := 0) rfl rfl q1584 pkX5_laysStraps dX5_readFirst_153 (fun w h => ?_)
      obtain ⟨en, hen, rfl⟩ := h
      skip
      have k2 : ∀ (mm : Nat), ∀ (j : Int), (0 ≤ j) → (j ≤ 4) → (4 - j).toNat = mm → AW g K (wM g ρ m_thrown m_world (fun i => if 24 ≤ i ∧ i < 24 + j then 999 else if 28 ≤ i ∧ i < 28 + sN x.1 y.1 then w.1 else f i) m_waysBack m_acts m_images m_hasImage (en) (sN x.1 y.1) m_tape m_taped m_five m_size ((e.2).1) ((e.2).2.1) ((e.2).2.2.1) ((e.2).2.2.2.1) ((e.2).2.2.2.2.1) ((e.2).2.2.2.2.2) m_budgetsTold m_loadsTold m_deadSet m_unknownOf m_nodeOf m_unknowns m_cells m_whole m_ordered m_drawnBy m_left m_aside m_bestDead m_bestAbove m_bestBelow m_widened m_widenedMany m_fewOf m_drawing ++ ex) 0 0 184 [some (.ref (ρ 0)), some (.int (jI w.1)), some (.int (jI j))] [] := by
        intro mm
        induction mm using Nat.strongRecOn with
        | _ mm ih =>
        intro j hj0 hj1 hm
        refine r_iload_2 C dX5_readFirst_184 ?_
        refine r_iconst C dX5_readFirst_185 ?_
        refine r_if_icmpge (tgt := 207) C dX5_readFirst_186 (by decide) (fun c_186 => ?_) (fun c_186 => ?_)
        · skip
          refine r_return C E dX5_readFirst_207 ?_
          have ej : j = 4 := by omega
          subst ej
          refine ⟨rfl, en, _, fun _ => ?_, rfl⟩
          have g0 : fLay x.1 y.1 w.1 f 0 = x.1 := by
            unfold fLay
            rw [if_neg (by omega), if_neg (by omega)]
            exact f0
          have g1 : fLay x.1 y.1 w.1 f 1 = y.1 := by
            unfold fLay
            rw [if_neg (by omega), if_neg (by omega)]
            exact f1
          show Ends (fLay x.1 y.1 w.1 f 0) (fLay x.1 y.1 w.1 f 1) en ∧ sN x.1 y.1 = sN (fLay x.1 y.1 w.1 f 0) (fLay x.1 y.1 w.1 f 1)
          rw [g0, g1]
          exact ⟨hen, rfl⟩
        · skip
          refine r_aload_0 C dX5_readFirst_189 ?_
          refine gM_fresh C q1387 dX5_readFirst_190 ?_
          refine r_bipush C dX5_readFirst_193 ?_
          refine r_iload_2 C dX5_readFirst_195 ?_
          refine r_iadd C dX5_readFirst_196 ?_
          refine r_sipush C dX5_readFirst_197 ?_
          refine stM_fresh C dX5_readFirst_200 ?_
          refine r_iinc_2 C dX5_readFirst_201 ?_
          refine r_goto (tgt := 184) C dX5_readFirst_204 (by decide) ?_
          have ef : aset (fun i => if 24 ≤ i ∧ i < 24 + j then 999 else if 28 ≤ i ∧ i < 28 + sN x.1 y.1 then w.1 else f i) (24 + j) 999 = fun i => if 24 ≤ i ∧ i < 24 + (j + 1) then 999 else if 28 ≤ i ∧ i < 28 + sN x.1 y.1 then w.1 else f i := by
            funext i
            unfold aset
            by_cases h1 : i = 24 + j
            · rw [if_pos h1, if_pos (by omega)]
            · rw [if_neg h1]
              dsimp only
              by_cases h2 : 24 ≤ i ∧ i < 24 + j
              · rw [if_pos h2, if_pos (by omega)]
              · rw [if_neg h2, if_neg (show ¬ (24 ≤ i ∧ i < 24 + (j + 1)) by omega)]
          rw [ef]
          exact ih _ (show (4 - (j + 1)).toNat < mm by omega) (j + 1) (by omega) (by omega) rfl
      have k1 : ∀ (mm : Nat), ∀ (j : Int), (0 ≤ j) → (j ≤ sN x.1 y.1) → (sN x.1 y.1 - j).toNat = mm → AW g K (wM g ρ m_thrown m_world (fun i => if 28 ≤ i ∧ i < 28 + j then w.1 else f i) m_waysBack m_acts m_images m_hasImage (en) (sN x.1 y.1) m_tape m_taped m_five m_size ((e.2).1) ((e.2).2.1) ((e.2).2.2.1) ((e.2).2.2.2.1) ((e.2).2.2.2.2.1) ((e.2).2.2.2.2.2) m_budgetsTold m_loadsTold m_deadSet m_unknownOf m_nodeOf m_unknowns m_cells m_whole m_ordered m_drawnBy m_left m_aside m_bestDead m_bestAbove m_bestBelow m_widened m_widenedMany m_fewOf m_drawing ++ ex) 0 0 158 [some (.ref (ρ 0)), some (.int (jI w.1)), some (.int (jI j))] [] := by
        intro mm
        induction mm using Nat.strongRecOn with
        | _ mm ih =>
        intro j hj0 hj1 hm
        refine r_iload_2 C dX5_readFirst_158 ?_
        refine r_aload_0 C dX5_readFirst_159 ?_
        refine gM_strapMany C q1393 dX5_readFirst_160 ?_
        refine r_if_icmpge (tgt := 182) C dX5_readFirst_163 (by decide) (fun c_163 => ?_) (fun c_163 => ?_)
        · skip
          refine r_iconst C dX5_readFirst_182 ?_
          refine r_istore_2 C dX5_readFirst_183 ?_
          have ej : j = sN x.1 y.1 := by omega
          subst ej
          have e2 := k2 _ 0 (by omega) (by omega) rfl
          have ef : (fun i => if 24 ≤ i ∧ i < 24 + (0 : Int) then (999 : Int) else if 28 ≤ i ∧ i < 28 + sN x.1 y.1 then w.1 else f i) = fun i => if 28 ≤ i ∧ i < 28 + sN x.1 y.1 then w.1 else f i := by
            funext i
            rw [if_neg (by omega)]
          rw [ef] at e2
          exact e2
        · skip
          refine r_aload_0 C dX5_readFirst_166 ?_
          refine gM_fresh C q1387 dX5_readFirst_167 ?_
          refine r_bipush C dX5_readFirst_170 ?_
          refine r_iload_2 C dX5_readFirst_172 ?_
          refine r_iadd C dX5_readFirst_173 ?_
          refine r_iload_1 C dX5_readFirst_174 ?_
          refine stM_fresh C dX5_readFirst_175 ?_
          refine r_iinc_2 C dX5_readFirst_176 ?_
          refine r_goto (tgt := 158) C dX5_readFirst_179 (by decide) ?_
          have ef : aset (fun i => if 28 ≤ i ∧ i < 28 + j then w.1 else f i) (28 + j) w.1 = fun i => if 28 ≤ i ∧ i < 28 + (j + 1) then w.1 else f i := by
            funext i
            unfold aset
            by_cases h1 : i = 28 + j
            · rw [if_pos h1, if_pos (by omega)]
            · rw [if_neg h1]
              dsimp only
              by_cases h2 : 28 ≤ i ∧ i < 28 + j
              · rw [if_pos h2, if_pos (by omega)]
              · rw [if_neg h2, if_neg (by omega)]
          rw [ef]
          exact ih _ (show (sN x.1 y.1 - (j + 1)).toNat < mm by omega) (j + 1) (by omega) (by omega) rfl
      refine r_iconst C dX5_readFirst_156 ?_
      refine r_istore_2 C dX5_readFirst_157 ?_
      have e1 := k1 _ 0 (by omega) (by omega) rfl
      have ef : (fun i => if 28 ≤ i ∧ i < 28 + (0 : Int) then w.1 else f i) = f := by
        funext i
        rw [if_neg (by omega)]
      rw [ef] at e1
      exact e1
    · skip
      refine r_return C E dX5_readFirst_139 ?_
      rw [if_neg c_136]
      exact ⟨rfl, _, _, fun h => absurd h c_136, rfl⟩
  refine stM_fresh C dX5_readFirst_20 ?_
  refine r_aload_0 C dX5_readFirst_21 ?_
  refine r_ldcS C (GM.at 198 kRows (by decide)).1 dX5_readFirst_22 ?_
  refine r_cV1v C (c_X5_expects hG TT (GM.at 198 kRows (by decide)).2 hn hn0 hT hxo) (q0 := 0) rfl rfl q1556 pkX5_expects dX5_readFirst_24 (fun w h => ?_)
  subst h
  refine r_aload_0 C dX5_readFirst_27 ?_
  refine r_cV0i C (c_X5_good hG (by unfold inR; omega)) (q0 := 0) rfl rfl q1543 pkX5_good dX5_readFirst_28 (fun z w h => ?_)
  obtain ⟨rfl, rfl⟩ := h
  refine r_ifeqB (tgt := 78) C dX5_readFirst_31 (by decide) (fun c_31 => ?_) (fun c_31 => ?_)
  · skip
    first
      | exact j78 _ (if_neg (fun h => c_31 h.1.1.1))
      | exact j78 _ (if_neg (fun h => c_39 h.1.1.2))
      | exact j78 _ (if_neg (fun h => c_54 h.1.2))
      | exact j78 _ (if_neg (fun h => by have := h.2; omega))
      | exact j78 _ (if_pos ⟨⟨⟨c_31, c_39⟩, c_54⟩, by omega⟩)
  · skip
    refine r_aload_0 C dX5_readFirst_34 ?_
    refine gM_token C q1400 dX5_readFirst_35 ?_
    refine r_iconst C dX5_readFirst_38 ?_
    refine r_if_icmpne (tgt := 78) C dX5_readFirst_39 (by decide) (fun c_39 => ?_) (fun c_39 => ?_)
    · skip
      first
        | exact j78 _ (if_neg (fun h => c_31 h.1.1.1))
        | exact j78 _ (if_neg (fun h => c_39 h.1.1.2))
        | exact j78 _ (if_neg (fun h => c_54 h.1.2))
        | exact j78 _ (if_neg (fun h => by have := h.2; omega))
        | exact j78 _ (if_pos ⟨⟨⟨c_31, c_39⟩, c_54⟩, by omega⟩)
    · skip
      have hv := h3v c_39
      refine r_aload_0 C dX5_readFirst_42 ?_
      refine gM_value C q1401 dX5_readFirst_43 ?_
      refine r_i2l C dX5_readFirst_46 ?_
      refine r_lconst1 C dX5_readFirst_47 ?_
      refine r_ldc2 C 9 q1580 dX5_readFirst_48 ?_
      refine r_cS3i C (c_X5_in hG (inR_L (by unfold inR; omega)) (by unfold inL; omega) (by unfold inL; omega)) q1506 pkX5_in dX5_readFirst_51 (fun z w h => ?_)
      obtain ⟨rfl, rfl⟩ := h
      refine r_ifeqB (tgt := 78) C dX5_readFirst_54 (by decide) (fun c_54 => ?_) (fun c_54 => ?_)
      · skip
        first
          | exact j78 _ (if_neg (fun h => c_31 h.1.1.1))
          | exact j78 _ (if_neg (fun h => c_39 h.1.1.2))
          | exact j78 _ (if_neg (fun h => c_54 h.1.2))
          | exact j78 _ (if_neg (fun h => by have := h.2; omega))
          | exact j78 _ (if_pos ⟨⟨⟨c_31, c_39⟩, c_54⟩, by omega⟩)
      · skip
        refine r_aload_0 C dX5_readFirst_57 ?_
        refine gM_fresh C q1387 dX5_readFirst_58 ?_
        refine r_iconst C dX5_readFirst_61 ?_
        refine ldM_fresh C dX5_readFirst_62 ?_
        refine r_topi x.1 (aset_at _ _ _) ?_
        refine r_aload_0 C dX5_readFirst_63 ?_
        refine gM_value C q1401 dX5_readFirst_64 ?_
        refine r_imul C dX5_readFirst_67 ?_
        have hmul : 0 ≤ x.1 * (qExp m_tape m_size kRows x.2).2.2.2.1 ∧ x.1 * (qExp m_tape m_size kRows x.2).2.2.2.1 ≤ 81 := by
          have h1 : 0 ≤ x.1 := by omega
          have h2 : x.1 ≤ 9 := by omega
          exact ⟨Int.mul_nonneg h1 hv.1, Int.mul_le_mul h2 c_54.2 hv.1 (by omega)⟩
        refine r_bipush C dX5_readFirst_68 ?_
        refine r_if_icmple (tgt := 78) C dX5_readFirst_70 (by decide) (fun c_70 => ?_) (fun c_70 => ?_)
        · skip
          first
            | exact j78 _ (if_neg (fun h => c_31 h.1.1.1))
            | exact j78 _ (if_neg (fun h => c_39 h.1.1.2))
            | exact j78 _ (if_neg (fun h => c_54 h.1.2))
            | exact j78 _ (if_neg (fun h => by have := h.2; omega))
            | exact j78 _ (if_pos ⟨⟨⟨c_31, c_39⟩, c_54⟩, by omega⟩)
        · skip
          refine r_aload_0 C dX5_readFirst_73 ?_
          refine r_iconst C dX5_readFirst_74 ?_
          refine r_cV1v C (c_X5_errs hG (by unfold inR; omega)) (q0 := 0) rfl rfl q1566 pkX5_errs dX5_readFirst_75 (fun w h => ?_)
          subst h
          first
            | exact j78 _ (if_neg (fun h => c_31 h.1.1.1))
            | exact j78 _ (if_neg (fun h => c_39 h.1.1.2))
            | exact j78 _ (if_neg (fun h => c_54 h.1.2))
            | exact j78 _ (if_neg (fun h => by have := h.2; omega))
            | exact j78 _ (if_pos ⟨⟨⟨c_31, c_39⟩, c_54⟩, by omega⟩)
end M22

