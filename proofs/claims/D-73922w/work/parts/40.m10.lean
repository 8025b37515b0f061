section M10
variable {g : GX} {ρ : Nat → Nat} {ex : va_W}
variable {m_thrown : Int} {m_world : Int → Int} {m_fresh : Int → Int} {m_waysBack : Int → Int} {m_acts : Int} {m_images : Int → Int} {m_hasImage : Int → Int} {m_endOf : Int → Int} {m_strapMany : Int} {m_tape : Int → Int} {m_taped : Int} {m_five : Int → Int} {m_size : Int} {m_at : Int} {m_from : Int} {m_token : Int} {m_value : Int} {m_faultKind : Int} {m_faultPlace : Int} {m_budgetsTold : Int} {m_loadsTold : Int} {m_deadSet : Int} {m_unknownOf : Int → Int} {m_nodeOf : Int → Int} {m_unknowns : Int} {m_cells : Int → Int} {m_whole : Int} {m_ordered : Int → Int} {m_drawnBy : Int → Int} {m_left : Int → Int} {m_aside : Int → Int} {m_bestDead : Int} {m_bestAbove : Int} {m_bestBelow : Int} {m_widened : Int → Int} {m_widenedMany : Int} {m_fewOf : Int → Int} {m_drawing : Int}
theorem c_X5_givesOf (hG : Gok g) {v : Int} (hd : Gd m_world) (he : Ends (m_world 0) (m_world 1) m_endOf) (hS : SolW m_world m_unknownOf m_nodeOf m_cells) (hm : m_unknowns = wm m_world) (hsm : m_strapMany = wS m_world) (hwh : m_whole = wWh m_world) (hv : 0 ≤ v ∧ v < wN m_world) : XMet g yX5_givesOf cX5_givesOf 5 (some .long) 3 0 0 [.ref (ρ 0), .int (jI v)] (wM g ρ m_thrown m_world m_fresh m_waysBack m_acts m_images m_hasImage m_endOf m_strapMany m_tape m_taped m_five m_size m_at m_from m_token m_value m_faultKind m_faultPlace m_budgetsTold m_loadsTold m_deadSet m_unknownOf m_nodeOf m_unknowns m_cells m_whole m_ordered m_drawnBy m_left m_aside m_bestDead m_bestAbove m_bestBelow m_widened m_widenedMany m_fewOf m_drawing ++ ex) (pL (fun z w => z = wGi m_world v ∧ w = (wM g ρ m_thrown m_world m_fresh m_waysBack m_acts m_images m_hasImage m_endOf m_strapMany m_tape m_taped m_five m_size m_at m_from m_token m_value m_faultKind m_faultPlace m_budgetsTold m_loadsTold m_deadSet m_unknownOf m_nodeOf m_unknowns m_cells m_whole m_ordered m_drawnBy m_left m_aside m_bestDead m_bestAbove m_bestBelow m_widened m_widenedMany m_fewOf m_drawing ++ ex))) := by
  refine XMet.of (L := [some (.ref (ρ 0)), some (.int (jI v)), none, none, none]) hG (by decide +kernel) (Nat.le_of_ble_eq_true rfl) rfl (fun K C E => ?_)
  have hn := hd.n
  have hs := hd.s
  have hnn : m_world 0 * m_world 1 ≤ 9 := hd.g.2.2
  have hld := hd.ld v hv.1 (by omega)
  subst hm hsm hwh
  have key : ∀ (mm : Nat), ∀ (k s : Int), (0 ≤ k) → (k ≤ wS m_world) → (s = foI (fun k s => s + (if sF (m_world 0) (m_world 1) k = v then wTh m_world k else 0) - (if sT (m_world 0) (m_world 1) k = v then wTh m_world k else 0)) (m_world (6 + v) * wWh m_world) k) → (wS m_world - k).toNat = mm → AW g K (wM g ρ m_thrown m_world m_fresh m_waysBack m_acts m_images m_hasImage m_endOf (wS m_world) m_tape m_taped m_five m_size m_at m_from m_token m_value m_faultKind m_faultPlace m_budgetsTold m_loadsTold m_deadSet m_unknownOf m_nodeOf (wm m_world) m_cells (wWh m_world) m_ordered m_drawnBy m_left m_aside m_bestDead m_bestAbove m_bestBelow m_widened m_widenedMany m_fewOf m_drawing ++ ex) 0 0 19 [some (.ref (ρ 0)), some (.int (jI v)), some (.long (jL s)), none, some (.int (jI k))] [] := by
    intro mm
    induction mm using Nat.strongRecOn with
    | _ mm ih =>
    intro k s hk0 hk es hm
    refine r_iload_4 C dX5_givesOf_19 ?_
    refine r_aload_0 C dX5_givesOf_21 ?_
    refine gM_strapMany C q1393 dX5_givesOf_22 ?_
    refine r_if_icmpge (tgt := 80) C dX5_givesOf_25 (by decide) (fun c_25 => ?_) (fun c_25 => ?_)
    · skip
      refine r_lload_2 C dX5_givesOf_80 ?_
      refine r_lreturn C E dX5_givesOf_81 ?_
      have e : k = wS m_world := by omega
      subst e
      exact ⟨_, rfl, es, rfl⟩
    · skip
      have hek := he k hk0 c_25
      have hin := sl_in hd.g hk0 c_25
      refine r_aload_0 C dX5_givesOf_28 ?_
      refine gM_endOf C q1392 dX5_givesOf_29 ?_
      refine r_iconst C dX5_givesOf_32 ?_
      refine r_iload_4 C dX5_givesOf_33 ?_
      refine r_imul C dX5_givesOf_35 ?_
      refine ldM_endOf C dX5_givesOf_36 ?_
      refine r_topi (sF (m_world 0) (m_world 1) k) hek.1 ?_
      refine r_iload_1 C dX5_givesOf_37 ?_
      refine r_if_icmpne (tgt := 50) C dX5_givesOf_38 (by decide) (fun c_38 => ?_) (fun c_38 => ?_)
      · skip
        refine r_aload_0 C dX5_givesOf_50 ?_
        refine gM_endOf C q1392 dX5_givesOf_51 ?_
        refine r_iconst C dX5_givesOf_54 ?_
        refine r_iload_4 C dX5_givesOf_55 ?_
        refine r_imul C dX5_givesOf_57 ?_
        refine r_iconst C dX5_givesOf_58 ?_
        refine r_iadd C dX5_givesOf_59 ?_
        refine ldM_endOf C dX5_givesOf_60 ?_
        refine r_topi (sT (m_world 0) (m_world 1) k) hek.2 ?_
        refine r_iload_1 C dX5_givesOf_61 ?_
        refine r_if_icmpne (tgt := 74) C dX5_givesOf_62 (by decide) (fun c_62 => ?_) (fun c_62 => ?_)
        · skip
          refine r_iinc_4 C dX5_givesOf_74 ?_
          refine r_goto (tgt := 19) C dX5_givesOf_77 (by decide) ?_
          refine ih _ (show (wS m_world - (k + 1)).toNat < mm by omega) (k + 1) _ (by omega) (by omega) ?_ rfl
          rw [foI_s _ _ hk0, ← es]
          first
            | (rw [if_pos c_38, if_pos c_62])
            | (rw [if_pos c_38, if_neg c_62]; omega)
            | (rw [if_neg c_38, if_pos c_62]; omega)
            | (rw [if_neg c_38, if_neg c_62]; omega)
        · skip
          refine r_lload_2 C dX5_givesOf_65 ?_
          refine r_aload_0 C dX5_givesOf_66 ?_
          refine r_iload_4 C dX5_givesOf_67 ?_
          refine r_cV1l C (c_X5_throughOf hG hd he hS rfl ⟨hk0, c_25⟩) (q0 := 0) rfl rfl q1731 pkX5_throughOf dX5_givesOf_69 (fun z w h => ?_)
          obtain ⟨rfl, rfl⟩ := h
          refine r_lsub C dX5_givesOf_72 ?_
          refine r_lstore_2 C dX5_givesOf_73 ?_
          refine r_iinc_4 C dX5_givesOf_74 ?_
          refine r_goto (tgt := 19) C dX5_givesOf_77 (by decide) ?_
          refine ih _ (show (wS m_world - (k + 1)).toNat < mm by omega) (k + 1) _ (by omega) (by omega) ?_ rfl
          rw [foI_s _ _ hk0, ← es]
          first
            | (rw [if_pos c_38, if_pos c_62])
            | (rw [if_pos c_38, if_neg c_62]; omega)
            | (rw [if_neg c_38, if_pos c_62]; omega)
            | (rw [if_neg c_38, if_neg c_62]; omega)
      · skip
        refine r_lload_2 C dX5_givesOf_41 ?_
        refine r_aload_0 C dX5_givesOf_42 ?_
        refine r_iload_4 C dX5_givesOf_43 ?_
        refine r_cV1l C (c_X5_throughOf hG hd he hS rfl ⟨hk0, c_25⟩) (q0 := 0) rfl rfl q1731 pkX5_throughOf dX5_givesOf_45 (fun z w h => ?_)
        obtain ⟨rfl, rfl⟩ := h
        refine r_ladd C dX5_givesOf_48 ?_
        refine r_lstore_2 C dX5_givesOf_49 ?_
        refine r_aload_0 C dX5_givesOf_50 ?_
        refine gM_endOf C q1392 dX5_givesOf_51 ?_
        refine r_iconst C dX5_givesOf_54 ?_
        refine r_iload_4 C dX5_givesOf_55 ?_
        refine r_imul C dX5_givesOf_57 ?_
        refine r_iconst C dX5_givesOf_58 ?_
        refine r_iadd C dX5_givesOf_59 ?_
        refine ldM_endOf C dX5_givesOf_60 ?_
        refine r_topi (sT (m_world 0) (m_world 1) k) hek.2 ?_
        refine r_iload_1 C dX5_givesOf_61 ?_
        refine r_if_icmpne (tgt := 74) C dX5_givesOf_62 (by decide) (fun c_62 => ?_) (fun c_62 => ?_)
        · skip
          refine r_iinc_4 C dX5_givesOf_74 ?_
          refine r_goto (tgt := 19) C dX5_givesOf_77 (by decide) ?_
          refine ih _ (show (wS m_world - (k + 1)).toNat < mm by omega) (k + 1) _ (by omega) (by omega) ?_ rfl
          rw [foI_s _ _ hk0, ← es]
          first
            | (rw [if_pos c_38, if_pos c_62])
            | (rw [if_pos c_38, if_neg c_62]; omega)
            | (rw [if_neg c_38, if_pos c_62]; omega)
            | (rw [if_neg c_38, if_neg c_62]; omega)
        · skip
          refine r_lload_2 C dX5_givesOf_65 ?_
          refine r_aload_0 C dX5_givesOf_66 ?_
          refine r_iload_4 C dX5_givesOf_67 ?_
          refine r_cV1l C (c_X5_throughOf hG hd he hS rfl ⟨hk0, c_25⟩) (q0 := 0) rfl rfl q1731 pkX5_throughOf dX5_givesOf_69 (fun z w h => ?_)
          obtain ⟨rfl, rfl⟩ := h
          refine r_lsub C dX5_givesOf_72 ?_
          refine r_lstore_2 C dX5_givesOf_73 ?_
          refine r_iinc_4 C dX5_givesOf_74 ?_
          refine r_goto (tgt := 19) C dX5_givesOf_77 (by decide) ?_
          refine ih _ (show (wS m_world - (k + 1)).toNat < mm by omega) (k + 1) _ (by omega) (by omega) ?_ rfl
          rw [foI_s _ _ hk0, ← es]
          first
            | (rw [if_pos c_38, if_pos c_62])
            | (rw [if_pos c_38, if_neg c_62]; omega)
            | (rw [if_neg c_38, if_pos c_62]; omega)
            | (rw [if_neg c_38, if_neg c_62]; omega)
  refine r_aload_0 C dX5_givesOf_0 ?_
  refine gM_world C q1386 dX5_givesOf_1 ?_
  refine r_bipush C dX5_givesOf_4 ?_
  refine r_iload_1 C dX5_givesOf_6 ?_
  refine r_iadd C dX5_givesOf_7 ?_
  refine ldM_world C dX5_givesOf_8 ?_
  refine r_i2l C dX5_givesOf_9 ?_
  refine r_aload_0 C dX5_givesOf_10 ?_
  refine gM_whole C q1411 dX5_givesOf_11 ?_
  refine r_lmul C dX5_givesOf_14 ?_
  refine r_lstore_2 C dX5_givesOf_15 ?_
  refine r_iconst C dX5_givesOf_16 ?_
  refine r_istore_4 C dX5_givesOf_17 ?_
  exact key _ 0 _ (by omega) (by omega) rfl rfl
theorem c_X5_gives (hG : Gok g) {v p : Int} (hv : inR v) (hp : inR p) (hW : WF m_world) : XMet g yX5_gives cX5_gives 3 (some .long) 5 0 0 [.ref (ρ 0), .int (jI v), .int (jI p)] (wM g ρ m_thrown m_world m_fresh m_waysBack m_acts m_images m_hasImage m_endOf m_strapMany m_tape m_taped m_five m_size m_at m_from m_token m_value m_faultKind m_faultPlace m_budgetsTold m_loadsTold m_deadSet m_unknownOf m_nodeOf m_unknowns m_cells m_whole m_ordered m_drawnBy m_left m_aside m_bestDead m_bestAbove m_bestBelow m_widened m_widenedMany m_fewOf m_drawing ++ ex) (pL (fun z w => z = spGives m_world v p ∧ PubM g ρ ex m_world m_waysBack m_acts m_images m_hasImage m_tape m_taped m_faultKind m_faultPlace w)) := by
  refine XMet.of (L := [some (.ref (ρ 0)), some (.int (jI v)), some (.int (jI p))]) hG (by decide +kernel) (Nat.le_of_ble_eq_true rfl) rfl (fun K C E => ?_)
  have hn := hW.n
  refine r_aload_0 C dX5_gives_0 ?_
  refine r_iload_1 C dX5_gives_1 ?_
  refine r_cV1i C (c_X5_isNode hG (by assumption) hn) (q0 := 0) rfl rfl q1685 pkX5_isNode dX5_gives_2 (fun z w h => ?_)
  obtain ⟨rfl, rfl⟩ := h
  refine r_ifeqB (tgt := 15) C dX5_gives_5 (by decide) (fun c_5 => ?_) (fun c_5 => ?_)
  · skip
    refine r_ldc2 C (-2) q1709 dX5_gives_15 ?_
    refine r_lreturn C E dX5_gives_18 ?_
    exact ⟨_, rfl, by simp [spGives, *], PubM.mk⟩
  · skip
    refine r_iload_2 C dX5_gives_8 ?_
    refine r_cS1i C (c_X5_isPart hG hp) q1706 pkX5_isPart dX5_gives_9 (fun z w h => ?_)
    obtain ⟨rfl, rfl⟩ := h
    refine r_ifneB (tgt := 19) C dX5_gives_12 (by decide) (fun c_12 => ?_) (fun c_12 => ?_)
    · skip
      have hd := hW.gdb c_5
      have hvv := isNb_in c_5
      have hgi := hd.gi hvv.1 hvv.2
      have hw := hd.who
      have hp5 := hd.p5
      refine r_aload_0 C dX5_gives_19 ?_
      refine gM_world C q1386 dX5_gives_20 ?_
      refine r_iconst C dX5_gives_23 ?_
      refine ldM_world C dX5_gives_24 ?_
      refine r_iload_1 C dX5_gives_25 ?_
      refine r_cS2i C (c_X5_isOf hG (by omega) (by omega)) q1606 pkX5_isOf dX5_gives_26 (fun z w h => ?_)
      obtain ⟨rfl, rfl⟩ := h
      refine r_ifneB (tgt := 36) C dX5_gives_29 (by decide) (fun c_29 => ?_) (fun c_29 => ?_)
      · skip
        refine r_aload_0 C dX5_gives_36 ?_
        refine r_cV0v C (c_X5_lays hG hd) (q0 := 0) rfl rfl q1646 pkX5_lays dX5_gives_37 (fun w h => ?_)
        obtain ⟨e, un, no, ce, he, hS, rfl⟩ := h
        refine r_aload_0 C dX5_gives_40 ?_
        refine r_iload_1 C dX5_gives_41 ?_
        refine r_cV1l C (c_X5_givesOf hG hd he hS rfl rfl rfl hvv) (q0 := 0) rfl rfl q1739 pkX5_givesOf dX5_gives_42 (fun z w h => ?_)
        obtain ⟨rfl, rfl⟩ := h
        refine r_aload_0 C dX5_gives_45 ?_
        refine gM_whole C q1411 dX5_gives_46 ?_
        refine r_iload_2 C dX5_gives_49 ?_
        refine r_cS3l C (c_X5_part hG (by omega) (by omega) hp (by omega)) q1719 pkX5_part dX5_gives_50 (fun z w h => ?_)
        obtain ⟨rfl, rfl⟩ := h
        refine r_lreturn C E dX5_gives_53 ?_
        exact ⟨_, rfl, by simp [spGives, *], PubM.mk⟩
      · skip
        refine r_ldc2 C (-1) q1710 dX5_gives_32 ?_
        refine r_lreturn C E dX5_gives_35 ?_
        exact ⟨_, rfl, by simp [spGives, *], PubM.mk⟩
    · skip
      refine r_ldc2 C (-2) q1709 dX5_gives_15 ?_
      refine r_lreturn C E dX5_gives_18 ?_
      exact ⟨_, rfl, by simp [spGives, *], PubM.mk⟩
theorem c_X5_chief (hG : Gok g) (hW : WF m_world) : XMet g yX5_chief cX5_chief 3 (some .int) 6 0 0 [.ref (ρ 0)] (wM g ρ m_thrown m_world m_fresh m_waysBack m_acts m_images m_hasImage m_endOf m_strapMany m_tape m_taped m_five m_size m_at m_from m_token m_value m_faultKind m_faultPlace m_budgetsTold m_loadsTold m_deadSet m_unknownOf m_nodeOf m_unknowns m_cells m_whole m_ordered m_drawnBy m_left m_aside m_bestDead m_bestAbove m_bestBelow m_widened m_widenedMany m_fewOf m_drawing ++ ex) (pI (fun z w => z = spChief m_world ∧ PubM g ρ ex m_world m_waysBack m_acts m_images m_hasImage m_tape m_taped m_faultKind m_faultPlace w)) := by
  refine XMet.of (L := [some (.ref (ρ 0)), none, none]) hG (by decide +kernel) (Nat.le_of_ble_eq_true rfl) rfl (fun K C E => ?_)
  refine r_aload_0 C dX5_chief_0 ?_
  refine r_cV0i C (c_X5_asksW hG hW) (q0 := 0) rfl rfl q1642 pkX5_asks dX5_chief_1 (fun z w h => ?_)
  obtain ⟨rfl, e, sm, ds, un, no, um, ce, wh, hs, rfl⟩ := h
  refine r_ifneB (tgt := 10) C dX5_chief_4 (by decide) (fun c_4 => ?_) (fun c_4 => ?_)
  · skip
    have hd := hW.gd4 c_4
    obtain ⟨he, hS, rfl, rfl, rfl, rfl⟩ := hs hd
    have hn := hd.n
    have hp5 := hd.p5
    have key : ∀ (mm : Nat), ∀ (v b : Int), (0 ≤ v) → (v ≤ wN m_world) → (-1 ≤ b ∧ b < wN m_world) → (b = foI (fun v b => if bsB (m_world 5) v = true ∧ (b = -1 ∨ wGi m_world b < wGi m_world v) then v else b) (-1) v) → (wN m_world - v).toNat = mm → AW g K (wM g ρ m_thrown m_world m_fresh m_waysBack m_acts m_images m_hasImage (e) (wS m_world) m_tape m_taped m_five m_size m_at m_from m_token m_value m_faultKind m_faultPlace m_budgetsTold m_loadsTold (wDead m_world) (un) (no) (wm m_world) (ce) (wWh m_world) m_ordered m_drawnBy m_left m_aside m_bestDead m_bestAbove m_bestBelow m_widened m_widenedMany m_fewOf m_drawing ++ ex) 0 0 14 [some (.ref (ρ 0)), some (.int (jI b)), some (.int (jI v))] [] := by
      intro mm
      induction mm using Nat.strongRecOn with
      | _ mm ih =>
      intro v b hv0 hv hb eb hm
      refine r_iload_2 C dX5_chief_14 ?_
      refine r_aload_0 C dX5_chief_15 ?_
      refine r_cV0i C (c_X5_nodes hG) (q0 := 0) rfl rfl q1654 pkX5_nodes dX5_chief_16 (fun z w h => ?_)
      obtain ⟨rfl, rfl⟩ := h
      refine r_topi (wN m_world) rfl ?_
      refine r_if_icmpge (tgt := 62) C dX5_chief_19 (by decide) (fun c_19 => ?_) (fun c_19 => ?_)
      · skip
        refine r_iload_1 C dX5_chief_62 ?_
        refine r_ireturn C E dX5_chief_63 ?_
        have e : v = wN m_world := by omega
        subst e
        exact ⟨_, rfl, by unfold spChief; rw [if_pos c_4, eb], PubM.mk⟩
      · skip
        have hgi := hd.gi hv0 c_19
        refine r_aload_0 C dX5_chief_22 ?_
        refine gM_world C q1386 dX5_chief_23 ?_
        refine r_iconst C dX5_chief_26 ?_
        refine ldM_world C dX5_chief_27 ?_
        refine r_iload_2 C dX5_chief_28 ?_
        refine r_cS2i C (c_X5_isOf hG (by omega) (by omega)) q1606 pkX5_isOf dX5_chief_29 (fun z w h => ?_)
        obtain ⟨rfl, rfl⟩ := h
        refine r_ifeqB (tgt := 56) C dX5_chief_32 (by decide) (fun c_32 => ?_) (fun c_32 => ?_)
        · skip
          refine r_iinc_2 C dX5_chief_56 ?_
          refine r_goto (tgt := 14) C dX5_chief_59 (by decide) ?_
          refine ih _ (show (wN m_world - (v + 1)).toNat < mm by omega) (v + 1) _ (by omega) (by omega) (by omega) ?_ rfl
          rw [foI_s _ _ hv0, ← eb]
          first
            | (rw [if_neg (by intro h; exact c_32 h.1)])
            | (rw [if_pos (And.intro c_32 (Or.inl c_37))])
            | (rw [if_neg (by rintro ⟨-, h⟩; omega)])
            | (rw [if_pos (And.intro c_32 (Or.inr c_50))])
        · skip
          refine r_iload_1 C dX5_chief_35 ?_
          refine r_iconst C dX5_chief_36 ?_
          refine r_if_icmpeq (tgt := 54) C dX5_chief_37 (by decide) (fun c_37 => ?_) (fun c_37 => ?_)
          · skip
            refine r_iload_2 C dX5_chief_54 ?_
            refine r_istore_1 C dX5_chief_55 ?_
            refine r_iinc_2 C dX5_chief_56 ?_
            refine r_goto (tgt := 14) C dX5_chief_59 (by decide) ?_
            refine ih _ (show (wN m_world - (v + 1)).toNat < mm by omega) (v + 1) _ (by omega) (by omega) (by omega) ?_ rfl
            rw [foI_s _ _ hv0, ← eb]
            first
              | (rw [if_neg (by intro h; exact c_32 h.1)])
              | (rw [if_pos (And.intro c_32 (Or.inl c_37))])
              | (rw [if_neg (by rintro ⟨-, h⟩; omega)])
              | (rw [if_pos (And.intro c_32 (Or.inr c_50))])
          · skip
            have hgb := hd.gi (v := b) (by omega) hb.2
            refine r_aload_0 C dX5_chief_40 ?_
            refine r_iload_2 C dX5_chief_41 ?_
            refine r_cV1l C (c_X5_givesOf hG hd he hS rfl rfl rfl ⟨hv0, c_19⟩) (q0 := 0) rfl rfl q1739 pkX5_givesOf dX5_chief_42 (fun z w h => ?_)
            obtain ⟨rfl, rfl⟩ := h
            refine r_aload_0 C dX5_chief_45 ?_
            refine r_iload_1 C dX5_chief_46 ?_
            refine r_cV1l C (c_X5_givesOf hG hd he hS rfl rfl rfl ⟨by omega, hb.2⟩) (q0 := 0) rfl rfl q1739 pkX5_givesOf dX5_chief_47 (fun z w h => ?_)
            obtain ⟨rfl, rfl⟩ := h
            refine r_lcmp_ifle (tgt := 56) C dX5_chief_50 dX5_chief_51 (by decide) (fun c_50 => ?_) (fun c_50 => ?_)
            · skip
              refine r_iinc_2 C dX5_chief_56 ?_
              refine r_goto (tgt := 14) C dX5_chief_59 (by decide) ?_
              refine ih _ (show (wN m_world - (v + 1)).toNat < mm by omega) (v + 1) _ (by omega) (by omega) (by omega) ?_ rfl
              rw [foI_s _ _ hv0, ← eb]
              first
                | (rw [if_neg (by intro h; exact c_32 h.1)])
                | (rw [if_pos (And.intro c_32 (Or.inl c_37))])
                | (rw [if_neg (by rintro ⟨-, h⟩; omega)])
                | (rw [if_pos (And.intro c_32 (Or.inr c_50))])
            · skip
              refine r_iload_2 C dX5_chief_54 ?_
              refine r_istore_1 C dX5_chief_55 ?_
              refine r_iinc_2 C dX5_chief_56 ?_
              refine r_goto (tgt := 14) C dX5_chief_59 (by decide) ?_
              refine ih _ (show (wN m_world - (v + 1)).toNat < mm by omega) (v + 1) _ (by omega) (by omega) (by omega) ?_ rfl
              rw [foI_s _ _ hv0, ← eb]
              first
                | (rw [if_neg (by intro h; exact c_32 h.1)])
                | (rw [if_pos (And.intro c_32 (Or.inl c_37))])
                | (rw [if_neg (by rintro ⟨-, h⟩; omega)])
                | (rw [if_pos (And.intro c_32 (Or.inr c_50))])
    refine r_iconst C dX5_chief_10 ?_
    refine r_istore_1 C dX5_chief_11 ?_
    refine r_iconst C dX5_chief_12 ?_
    refine r_istore_2 C dX5_chief_13 ?_
    exact key _ 0 (-1) (by omega) (by omega) (by omega) rfl rfl
  · skip
    refine r_bipush C dX5_chief_7 ?_
    refine r_ireturn C E dX5_chief_9 ?_
    exact ⟨_, rfl, by simp [spChief, *], PubM.mk⟩
theorem c_X5_area (hG : Gok g) (hW : WF m_world) : XMet g yX5_area cX5_area 3 (some .int) 2 0 0 [.ref (ρ 0)] (wM g ρ m_thrown m_world m_fresh m_waysBack m_acts m_images m_hasImage m_endOf m_strapMany m_tape m_taped m_five m_size m_at m_from m_token m_value m_faultKind m_faultPlace m_budgetsTold m_loadsTold m_deadSet m_unknownOf m_nodeOf m_unknowns m_cells m_whole m_ordered m_drawnBy m_left m_aside m_bestDead m_bestAbove m_bestBelow m_widened m_widenedMany m_fewOf m_drawing ++ ex) (pI (fun z w => z = spArea m_world ∧ PubM g ρ ex m_world m_waysBack m_acts m_images m_hasImage m_tape m_taped m_faultKind m_faultPlace w)) := by
  refine XMet.of (L := [some (.ref (ρ 0)), none, none]) hG (by decide +kernel) (Nat.le_of_ble_eq_true rfl) rfl (fun K C E => ?_)
  have h4 := hW.r (k := 4) (by omega) (by omega)
  refine r_aload_0 C dX5_area_0 ?_
  refine r_cV0i C (c_X5_isGrid hG (by unfold inR; omega)) (q0 := 0) rfl rfl q1638 pkX5_isGrid dX5_area_1 (fun z w h => ?_)
  obtain ⟨rfl, rfl⟩ := h
  refine r_ifneB (tgt := 10) C dX5_area_4 (by decide) (fun c_4 => ?_) (fun c_4 => ?_)
  · skip
    skip
    have key : ∀ (mm : Nat), ∀ (v s : Int), (0 ≤ v) → (v ≤ 12) → (s = foI (fun k s => s + m_world (28 + k)) 0 v) → (12 - v).toNat = mm → AW g K (wM g ρ m_thrown m_world m_fresh m_waysBack m_acts m_images m_hasImage m_endOf m_strapMany m_tape m_taped m_five m_size m_at m_from m_token m_value m_faultKind m_faultPlace m_budgetsTold m_loadsTold m_deadSet m_unknownOf m_nodeOf m_unknowns m_cells m_whole m_ordered m_drawnBy m_left m_aside m_bestDead m_bestAbove m_bestBelow m_widened m_widenedMany m_fewOf m_drawing ++ ex) 0 0 14 [some (.ref (ρ 0)), some (.int (jI s)), some (.int (jI v))] [] := by
      intro mm
      induction mm using Nat.strongRecOn with
      | _ mm ih =>
      intro v s hv0 hv es hm
      refine r_iload_2 C dX5_area_14 ?_
      refine r_bipush C dX5_area_15 ?_
      refine r_if_icmpge (tgt := 38) C dX5_area_17 (by decide) (fun c_17 => ?_) (fun c_17 => ?_)
      · skip
        refine r_iload_1 C dX5_area_38 ?_
        refine r_ireturn C E dX5_area_39 ?_
        have e : v = 12 := by omega
        subst e
        exact ⟨_, rfl, by unfold spArea; rw [if_pos c_4, es], PubM.mk⟩
      · skip
        refine r_iload_1 C dX5_area_20 ?_
        refine r_aload_0 C dX5_area_21 ?_
        refine gM_world C q1386 dX5_area_22 ?_
        refine r_bipush C dX5_area_25 ?_
        refine r_iload_2 C dX5_area_27 ?_
        refine r_iadd C dX5_area_28 ?_
        refine ldM_world C dX5_area_29 ?_
        refine r_iadd C dX5_area_30 ?_
        refine r_istore_1 C dX5_area_31 ?_
        refine r_iinc_2 C dX5_area_32 ?_
        refine r_goto (tgt := 14) C dX5_area_35 (by decide) ?_
        refine ih _ (show (12 - (v + 1)).toNat < mm by omega) (v + 1) _ (by omega) (by omega) (by rw [foI_s _ _ hv0, ← es]) rfl
    refine r_iconst C dX5_area_10 ?_
    refine r_istore_1 C dX5_area_11 ?_
    refine r_iconst C dX5_area_12 ?_
    refine r_istore_2 C dX5_area_13 ?_
    exact key _ 0 0 (by omega) (by omega) rfl rfl
  · skip
    refine r_bipush C dX5_area_7 ?_
    refine r_ireturn C E dX5_area_9 ?_
    exact ⟨_, rfl, by simp [spArea, *], PubM.mk⟩
theorem c_X5_worst (hG : Gok g) (hW : WF m_world) : XMet g yX5_worst cX5_worst 2 (some .int) 6 0 0 [.ref (ρ 0)] (wM g ρ m_thrown m_world m_fresh m_waysBack m_acts m_images m_hasImage m_endOf m_strapMany m_tape m_taped m_five m_size m_at m_from m_token m_value m_faultKind m_faultPlace m_budgetsTold m_loadsTold m_deadSet m_unknownOf m_nodeOf m_unknowns m_cells m_whole m_ordered m_drawnBy m_left m_aside m_bestDead m_bestAbove m_bestBelow m_widened m_widenedMany m_fewOf m_drawing ++ ex) (pI (fun z w => z = spWorst m_world ∧ PubM g ρ ex m_world m_waysBack m_acts m_images m_hasImage m_tape m_taped m_faultKind m_faultPlace w)) := by
  refine XMet.of (L := [some (.ref (ρ 0)), none]) hG (by decide +kernel) (Nat.le_of_ble_eq_true rfl) rfl (fun K C E => ?_)
  refine r_aload_0 C dX5_worst_0 ?_
  refine r_cV0i C (c_X5_asksW hG hW) (q0 := 0) rfl rfl q1642 pkX5_asks dX5_worst_1 (fun z w h => ?_)
  obtain ⟨rfl, e, sm, ds, un, no, um, ce, wh, hs, rfl⟩ := h
  refine r_ifneB (tgt := 10) C dX5_worst_4 (by decide) (fun c_4 => ?_) (fun c_4 => ?_)
  · skip
    have hd := hW.gd4 c_4
    obtain ⟨he, hS, rfl, rfl, rfl, rfl⟩ := hs hd
    have hn := hd.n
    have hmx := hd.mx
    have key : ∀ (mm : Nat), ∀ (v : Int), (0 ≤ v) → (v ≤ wN m_world) → (∀ j, 0 ≤ j → j < v → bsB (wR m_world) j = true → wDr m_world j ≠ wMx m_world) → (wN m_world - v).toNat = mm → AW g K (wM g ρ m_thrown m_world m_fresh m_waysBack m_acts m_images m_hasImage (e) (wS m_world) m_tape m_taped m_five m_size m_at m_from m_token m_value m_faultKind m_faultPlace m_budgetsTold m_loadsTold (wDead m_world) (un) (no) (wm m_world) (ce) (wWh m_world) m_ordered m_drawnBy m_left m_aside m_bestDead m_bestAbove m_bestBelow m_widened m_widenedMany m_fewOf m_drawing ++ ex) 0 0 12 [some (.ref (ρ 0)), some (.int (jI v))] [] := by
      intro mm
      induction mm using Nat.strongRecOn with
      | _ mm ih =>
      intro v hv0 hv hj hm
      refine r_iload_1 C dX5_worst_12 ?_
      refine r_aload_0 C dX5_worst_13 ?_
      refine r_cV0i C (c_X5_nodes hG) (q0 := 0) rfl rfl q1654 pkX5_nodes dX5_worst_14 (fun z w h => ?_)
      obtain ⟨rfl, rfl⟩ := h
      refine r_topi (wN m_world) rfl ?_
      refine r_if_icmpge (tgt := 49) C dX5_worst_17 (by decide) (fun c_17 => ?_) (fun c_17 => ?_)
      · skip
        refine r_iconst C dX5_worst_49 ?_
        refine r_ireturn C E dX5_worst_50 ?_
        refine ⟨_, rfl, ?_, PubM.mk⟩
        unfold spWorst
        rw [if_pos c_4, wWo_none hd (fun j a1 a2 a3 => hj j a1 (by omega) a3)]
      · skip
        have hdr := hd.dr hv0 c_17
        refine r_aload_0 C dX5_worst_20 ?_
        refine r_iload_1 C dX5_worst_21 ?_
        refine r_cV1i C (c_X5_isDead hG hd rfl ⟨hv0, c_17⟩) (q0 := 0) rfl rfl q1694 pkX5_isDead dX5_worst_22 (fun z w h => ?_)
        obtain ⟨rfl, rfl⟩ := h
        refine r_ifneB (tgt := 43) C dX5_worst_25 (by decide) (fun c_25 => ?_) (fun c_25 => ?_)
        · skip
          refine r_iinc_1 C dX5_worst_43 ?_
          refine r_goto (tgt := 12) C dX5_worst_46 (by decide) ?_
          refine ih _ (show (wN m_world - (v + 1)).toNat < mm by omega) (v + 1) (by omega) (by omega) (fun j a1 a2 a3 => ?_) rfl
          by_cases ej : j = v
          · subst ej
            first
              | exact c_37
              | (rw [c_25] at a3; simp at a3)
          · exact hj j a1 (by omega) a3
        · skip
          refine r_aload_0 C dX5_worst_28 ?_
          refine r_iload_1 C dX5_worst_29 ?_
          refine r_cV1l C (c_X5_dropOf hG hd hS rfl ⟨hv0, c_17⟩) (q0 := 0) rfl rfl q1711 pkX5_dropOf dX5_worst_30 (fun z w h => ?_)
          obtain ⟨rfl, rfl⟩ := h
          refine r_aload_0 C dX5_worst_33 ?_
          refine r_cV0l C (c_X5_mostDrop hG hd hS rfl) (q0 := 0) rfl rfl q1755 pkX5_mostDrop dX5_worst_34 (fun z w h => ?_)
          obtain ⟨rfl, rfl⟩ := h
          refine r_lcmp_ifne (tgt := 43) C dX5_worst_37 dX5_worst_38 (by decide) (fun c_37 => ?_) (fun c_37 => ?_)
          · skip
            refine r_iinc_1 C dX5_worst_43 ?_
            refine r_goto (tgt := 12) C dX5_worst_46 (by decide) ?_
            refine ih _ (show (wN m_world - (v + 1)).toNat < mm by omega) (v + 1) (by omega) (by omega) (fun j a1 a2 a3 => ?_) rfl
            by_cases ej : j = v
            · subst ej
              first
                | exact c_37
                | (rw [c_25] at a3; simp at a3)
            · exact hj j a1 (by omega) a3
          · skip
            refine r_iload_1 C dX5_worst_41 ?_
            refine r_ireturn C E dX5_worst_42 ?_
            refine ⟨_, rfl, ?_, PubM.mk⟩
            unfold spWorst
            rw [if_pos c_4, wWo_first hd hv0 c_17 (by simpa using c_25) c_37 hj]
    refine r_iconst C dX5_worst_10 ?_
    refine r_istore_1 C dX5_worst_11 ?_
    exact key _ 0 (by omega) (by omega) (fun j _ _ => by omega) rfl
  · skip
    refine r_bipush C dX5_worst_7 ?_
    refine r_ireturn C E dX5_worst_9 ?_
    exact ⟨_, rfl, by simp [spWorst, *], PubM.mk⟩
theorem c_X5_over (hG : Gok g) (hW : WF m_world) : XMet g yX5_over cX5_over 3 (some .int) 6 0 0 [.ref (ρ 0)] (wM g ρ m_thrown m_world m_fresh m_waysBack m_acts m_images m_hasImage m_endOf m_strapMany m_tape m_taped m_five m_size m_at m_from m_token m_value m_faultKind m_faultPlace m_budgetsTold m_loadsTold m_deadSet m_unknownOf m_nodeOf m_unknowns m_cells m_whole m_ordered m_drawnBy m_left m_aside m_bestDead m_bestAbove m_bestBelow m_widened m_widenedMany m_fewOf m_drawing ++ ex) (pI (fun z w => z = spOver m_world ∧ PubM g ρ ex m_world m_waysBack m_acts m_images m_hasImage m_tape m_taped m_faultKind m_faultPlace w)) := by
  refine XMet.of (L := [some (.ref (ρ 0)), none, none]) hG (by decide +kernel) (Nat.le_of_ble_eq_true rfl) rfl (fun K C E => ?_)
  refine r_aload_0 C dX5_over_0 ?_
  refine r_cV0i C (c_X5_asksW hG hW) (q0 := 0) rfl rfl q1642 pkX5_asks dX5_over_1 (fun z w h => ?_)
  obtain ⟨rfl, e, sm, ds, un, no, um, ce, wh, hs, rfl⟩ := h
  refine r_ifneB (tgt := 10) C dX5_over_4 (by decide) (fun c_4 => ?_) (fun c_4 => ?_)
  · skip
    have hd := hW.gd4 c_4
    obtain ⟨he, hS, rfl, rfl, rfl, rfl⟩ := hs hd
    have hn := hd.n
    have hlm := lim_in hd
    have hl2 := hd.lim
    have key : ∀ (mm : Nat), ∀ (v s : Int), (0 ≤ v) → (v ≤ wN m_world) → (0 ≤ s ∧ s < 512) → (s = foI (fun v s => if m_world 2 * wWh m_world < wDr m_world v then bsO s (bsP v) else s) 0 v) → (wN m_world - v).toNat = mm → AW g K (wM g ρ m_thrown m_world m_fresh m_waysBack m_acts m_images m_hasImage (e) (wS m_world) m_tape m_taped m_five m_size m_at m_from m_token m_value m_faultKind m_faultPlace m_budgetsTold m_loadsTold (wDead m_world) (un) (no) (wm m_world) (ce) (wWh m_world) m_ordered m_drawnBy m_left m_aside m_bestDead m_bestAbove m_bestBelow m_widened m_widenedMany m_fewOf m_drawing ++ ex) 0 0 14 [some (.ref (ρ 0)), some (.int (jI s)), some (.int (jI v))] [] := by
      intro mm
      induction mm using Nat.strongRecOn with
      | _ mm ih =>
      intro v s hv0 hv hs0 es hm
      refine r_iload_2 C dX5_over_14 ?_
      refine r_aload_0 C dX5_over_15 ?_
      refine r_cV0i C (c_X5_nodes hG) (q0 := 0) rfl rfl q1654 pkX5_nodes dX5_over_16 (fun z w h => ?_)
      obtain ⟨rfl, rfl⟩ := h
      refine r_topi (wN m_world) rfl ?_
      refine r_if_icmpge (tgt := 59) C dX5_over_19 (by decide) (fun c_19 => ?_) (fun c_19 => ?_)
      · skip
        refine r_iload_1 C dX5_over_59 ?_
        refine r_ireturn C E dX5_over_60 ?_
        have e : v = wN m_world := by omega
        subst e
        exact ⟨_, rfl, by unfold spOver wOv; rw [if_pos c_4, es], PubM.mk⟩
      · skip
        have hdr := hd.dr hv0 c_19
        have hP := bsP_9 hv0 (show v < 9 by omega)
        refine r_iload_1 C dX5_over_22 ?_
        refine r_aload_0 C dX5_over_23 ?_
        refine r_iload_2 C dX5_over_24 ?_
        refine r_cV1l C (c_X5_dropOf hG hd hS rfl ⟨hv0, c_19⟩) (q0 := 0) rfl rfl q1711 pkX5_dropOf dX5_over_25 (fun z w h => ?_)
        obtain ⟨rfl, rfl⟩ := h
        refine r_aload_0 C dX5_over_28 ?_
        refine gM_world C q1386 dX5_over_29 ?_
        refine r_iconst C dX5_over_32 ?_
        refine ldM_world C dX5_over_33 ?_
        refine r_i2l C dX5_over_34 ?_
        refine r_aload_0 C dX5_over_35 ?_
        refine gM_whole C q1411 dX5_over_36 ?_
        refine r_lmul C dX5_over_39 ?_
        refine r_lcmp_ifle (tgt := 50) C dX5_over_40 dX5_over_41 (by decide) (fun c_40 => ?_) (fun c_40 => ?_)
        · skip
          refine r_iconst C dX5_over_50 ?_
          refine r_ior C (_) dX5_over_51 (jI_or (by omega) (by first | exact Int.le_of_lt bsP_0 | omega)) ?_
          refine r_istore_1 C dX5_over_52 ?_
          refine r_iinc_2 C dX5_over_53 ?_
          refine r_goto (tgt := 14) C dX5_over_56 (by decide) ?_
          refine ih _ (show (wN m_world - (v + 1)).toNat < mm by omega) (v + 1) _ (by omega) (by omega) ⟨bsO_0, bsO_512 hs0.2 (by omega)⟩ ?_ rfl
          rw [foI_s _ _ hv0, ← es]
          first
            | rw [if_pos c_40]
            | rw [if_neg (by omega), bsO_z hs0.1]
        · skip
          refine r_iconst C dX5_over_44 ?_
          refine r_iload_2 C dX5_over_45 ?_
          refine r_ishl C (_) dX5_over_46 (jI_shl (by omega) (by omega)) ?_
          refine r_goto (tgt := 51) C dX5_over_47 (by decide) ?_
          refine r_ior C (_) dX5_over_51 (jI_or (by omega) (by first | exact Int.le_of_lt bsP_0 | omega)) ?_
          refine r_istore_1 C dX5_over_52 ?_
          refine r_iinc_2 C dX5_over_53 ?_
          refine r_goto (tgt := 14) C dX5_over_56 (by decide) ?_
          refine ih _ (show (wN m_world - (v + 1)).toNat < mm by omega) (v + 1) _ (by omega) (by omega) ⟨bsO_0, bsO_512 hs0.2 (by omega)⟩ ?_ rfl
          rw [foI_s _ _ hv0, ← es]
          first
            | rw [if_pos c_40]
            | rw [if_neg (by omega), bsO_z hs0.1]
    refine r_iconst C dX5_over_10 ?_
    refine r_istore_1 C dX5_over_11 ?_
    refine r_iconst C dX5_over_12 ?_
    refine r_istore_2 C dX5_over_13 ?_
    exact key _ 0 0 (by omega) (by omega) (by omega) rfl rfl
  · skip
    refine r_bipush C dX5_over_7 ?_
    refine r_ireturn C E dX5_over_9 ?_
    exact ⟨_, rfl, by simp [spOver, *], PubM.mk⟩
theorem c_X5_holds (hG : Gok g) (hW : WF m_world) : XMet g yX5_holds cX5_holds 1 (some .int) 6 0 0 [.ref (ρ 0)] (wM g ρ m_thrown m_world m_fresh m_waysBack m_acts m_images m_hasImage m_endOf m_strapMany m_tape m_taped m_five m_size m_at m_from m_token m_value m_faultKind m_faultPlace m_budgetsTold m_loadsTold m_deadSet m_unknownOf m_nodeOf m_unknowns m_cells m_whole m_ordered m_drawnBy m_left m_aside m_bestDead m_bestAbove m_bestBelow m_widened m_widenedMany m_fewOf m_drawing ++ ex) (pI (fun z w => z = spHolds m_world ∧ PubM g ρ ex m_world m_waysBack m_acts m_images m_hasImage m_tape m_taped m_faultKind m_faultPlace w)) := by
  refine XMet.of (L := [some (.ref (ρ 0))]) hG (by decide +kernel) (Nat.le_of_ble_eq_true rfl) rfl (fun K C E => ?_)
  have h4 := hW.r (k := 4) (by omega) (by omega)
  refine r_aload_0 C dX5_holds_0 ?_
  refine r_cV0i C (c_X5_isGrid hG (by unfold inR; omega)) (q0 := 0) rfl rfl q1638 pkX5_isGrid dX5_holds_1 (fun z w h => ?_)
  obtain ⟨rfl, rfl⟩ := h
  refine r_ifneB (tgt := 10) C dX5_holds_4 (by decide) (fun c_4 => ?_) (fun c_4 => ?_)
  · skip
    have hd := hW.gd4 c_4
    refine r_aload_0 C dX5_holds_10 ?_
    refine r_cV0i C (c_X5_doesHold hG hd) (q0 := 0) rfl rfl q1770 pkX5_doesHold dX5_holds_11 (fun z w h => ?_)
    obtain ⟨rfl, e, un, no, ce, he, hS, rfl⟩ := h
    refine r_ifeqB (tgt := 21) C dX5_holds_14 (by decide) (fun c_14 => ?_) (fun c_14 => ?_)
    · skip
      refine r_iconst C dX5_holds_21 ?_
      refine r_ireturn C E dX5_holds_22 ?_
      exact ⟨_, rfl, by simp [spHolds, *], PubM.mk⟩
    · skip
      refine r_iconst C dX5_holds_17 ?_
      refine r_goto (tgt := 22) C dX5_holds_18 (by decide) ?_
      refine r_ireturn C E dX5_holds_22 ?_
      exact ⟨_, rfl, by simp [spHolds, *], PubM.mk⟩
  · skip
    refine r_bipush C dX5_holds_7 ?_
    refine r_ireturn C E dX5_holds_9 ?_
    exact ⟨_, rfl, by simp [spHolds, *], PubM.mk⟩
theorem c_X5_loss (hG : Gok g) {p : Int} (hp : inR p) (hW : WF m_world) : XMet g yX5_loss cX5_loss 5 (some .long) 6 0 0 [.ref (ρ 0), .int (jI p)] (wM g ρ m_thrown m_world m_fresh m_waysBack m_acts m_images m_hasImage m_endOf m_strapMany m_tape m_taped m_five m_size m_at m_from m_token m_value m_faultKind m_faultPlace m_budgetsTold m_loadsTold m_deadSet m_unknownOf m_nodeOf m_unknowns m_cells m_whole m_ordered m_drawnBy m_left m_aside m_bestDead m_bestAbove m_bestBelow m_widened m_widenedMany m_fewOf m_drawing ++ ex) (pL (fun z w => z = spLoss m_world p ∧ PubM g ρ ex m_world m_waysBack m_acts m_images m_hasImage m_tape m_taped m_faultKind m_faultPlace w)) := by
  refine XMet.of (L := [some (.ref (ρ 0)), some (.int (jI p)), none, none, none]) hG (by decide +kernel) (Nat.le_of_ble_eq_true rfl) rfl (fun K C E => ?_)
  refine r_iload_1 C dX5_loss_0 ?_
  refine r_cS1i C (c_X5_isPart hG hp) q1706 pkX5_isPart dX5_loss_1 (fun z w h => ?_)
  obtain ⟨rfl, rfl⟩ := h
  refine r_ifeqB (tgt := 14) C dX5_loss_4 (by decide) (fun c_4 => ?_) (fun c_4 => ?_)
  · skip
    refine r_ldc2 C (-2) q1709 dX5_loss_14 ?_
    refine r_lreturn C E dX5_loss_17 ?_
    exact ⟨_, rfl, by simp [spLoss, *], PubM.mk⟩
  · skip
    refine r_aload_0 C dX5_loss_7 ?_
    refine r_cV0i C (c_X5_asksW hG hW) (q0 := 0) rfl rfl q1642 pkX5_asks dX5_loss_8 (fun z w h => ?_)
    obtain ⟨rfl, e, sm, ds, un, no, um, ce, wh, hs, rfl⟩ := h
    refine r_ifneB (tgt := 18) C dX5_loss_11 (by decide) (fun c_11 => ?_) (fun c_11 => ?_)
    · skip
      have hd := hW.gd4 c_11
      obtain ⟨he, hS, rfl, rfl, rfl, rfl⟩ := hs hd
      have hn := hd.n
      have hlo := wLo_in hd
      have hw := hd.who
      have key : ∀ (mm : Nat), ∀ (v s : Int), (0 ≤ v) → (v ≤ wN m_world) → (s = foI (fun v s => s + m_world (6 + v) * wDr m_world v) 0 v) → (wN m_world - v).toNat = mm → AW g K (wM g ρ m_thrown m_world m_fresh m_waysBack m_acts m_images m_hasImage (e) (wS m_world) m_tape m_taped m_five m_size m_at m_from m_token m_value m_faultKind m_faultPlace m_budgetsTold m_loadsTold (wDead m_world) (un) (no) (wm m_world) (ce) (wWh m_world) m_ordered m_drawnBy m_left m_aside m_bestDead m_bestAbove m_bestBelow m_widened m_widenedMany m_fewOf m_drawing ++ ex) 0 0 23 [some (.ref (ρ 0)), some (.int (jI p)), some (.long (jL s)), none, some (.int (jI v))] [] := by
        intro mm
        induction mm using Nat.strongRecOn with
        | _ mm ih =>
        intro v s hv0 hv es hm
        refine r_iload_4 C dX5_loss_23 ?_
        refine r_aload_0 C dX5_loss_25 ?_
        refine r_cV0i C (c_X5_nodes hG) (q0 := 0) rfl rfl q1654 pkX5_nodes dX5_loss_26 (fun z w h => ?_)
        obtain ⟨rfl, rfl⟩ := h
        refine r_topi (wN m_world) rfl ?_
        refine r_if_icmpge (tgt := 59) C dX5_loss_29 (by decide) (fun c_29 => ?_) (fun c_29 => ?_)
        · skip
          have e : v = wN m_world := by omega
          subst e
          have es' : s = wLo m_world := es
          subst es'
          refine r_lload_2 C dX5_loss_59 ?_
          refine r_aload_0 C dX5_loss_60 ?_
          refine gM_whole C q1411 dX5_loss_61 ?_
          refine r_iload_1 C dX5_loss_64 ?_
          refine r_cS3l C (c_X5_part hG (by omega) (by omega) hp (by omega)) q1719 pkX5_part dX5_loss_65 (fun z w h => ?_)
          obtain ⟨rfl, rfl⟩ := h
          refine r_lreturn C E dX5_loss_68 ?_
          exact ⟨_, rfl, by simp [spLoss, *], PubM.mk⟩
        · skip
          have hld := hd.ld v hv0 (by omega)
          refine r_lload_2 C dX5_loss_32 ?_
          refine r_aload_0 C dX5_loss_33 ?_
          refine gM_world C q1386 dX5_loss_34 ?_
          refine r_bipush C dX5_loss_37 ?_
          refine r_iload_4 C dX5_loss_39 ?_
          refine r_iadd C dX5_loss_41 ?_
          refine ldM_world C dX5_loss_42 ?_
          refine r_i2l C dX5_loss_43 ?_
          refine r_aload_0 C dX5_loss_44 ?_
          refine r_iload_4 C dX5_loss_45 ?_
          refine r_cV1l C (c_X5_dropOf hG hd hS rfl ⟨hv0, c_29⟩) (q0 := 0) rfl rfl q1711 pkX5_dropOf dX5_loss_47 (fun z w h => ?_)
          obtain ⟨rfl, rfl⟩ := h
          refine r_lmul C dX5_loss_50 ?_
          refine r_ladd C dX5_loss_51 ?_
          refine r_lstore_2 C dX5_loss_52 ?_
          refine r_iinc_4 C dX5_loss_53 ?_
          refine r_goto (tgt := 23) C dX5_loss_56 (by decide) ?_
          exact ih _ (show (wN m_world - (v + 1)).toNat < mm by omega) (v + 1) _ (by omega) (by omega) (by rw [foI_s _ _ hv0, ← es]) rfl
      refine r_lconst0 C dX5_loss_18 ?_
      refine r_lstore_2 C dX5_loss_19 ?_
      refine r_iconst C dX5_loss_20 ?_
      refine r_istore_4 C dX5_loss_21 ?_
      exact key _ 0 0 (by omega) (by omega) rfl rfl
    · skip
      refine r_ldc2 C (-2) q1709 dX5_loss_14 ?_
      refine r_lreturn C E dX5_loss_17 ?_
      exact ⟨_, rfl, by simp [spLoss, *], PubM.mk⟩
theorem c_X5_moves (hG : Gok g) {a b p : Int} (ha : inR a) (hb : inR b) (hp : inR p) (hW : WF m_world) : XMet g yX5_moves cX5_moves 4 (some .long) 5 0 0 [.ref (ρ 0), .int (jI a), .int (jI b), .int (jI p)] (wM g ρ m_thrown m_world m_fresh m_waysBack m_acts m_images m_hasImage m_endOf m_strapMany m_tape m_taped m_five m_size m_at m_from m_token m_value m_faultKind m_faultPlace m_budgetsTold m_loadsTold m_deadSet m_unknownOf m_nodeOf m_unknowns m_cells m_whole m_ordered m_drawnBy m_left m_aside m_bestDead m_bestAbove m_bestBelow m_widened m_widenedMany m_fewOf m_drawing ++ ex) (pL (fun z w => z = spMoves m_world a b p ∧ PubM g ρ ex m_world m_waysBack m_acts m_images m_hasImage m_tape m_taped m_faultKind m_faultPlace w)) := by
  refine XMet.of (L := [some (.ref (ρ 0)), some (.int (jI a)), some (.int (jI b)), some (.int (jI p))]) hG (by decide +kernel) (Nat.le_of_ble_eq_true rfl) rfl (fun K C E => ?_)
  have hn := hW.n
  refine r_aload_0 C dX5_moves_0 ?_
  refine r_iload_1 C dX5_moves_1 ?_
  refine r_cV1i C (c_X5_isNode hG (by assumption) hn) (q0 := 0) rfl rfl q1685 pkX5_isNode dX5_moves_2 (fun z w h => ?_)
  obtain ⟨rfl, rfl⟩ := h
  refine r_ifeqB (tgt := 23) C dX5_moves_5 (by decide) (fun c_5 => ?_) (fun c_5 => ?_)
  · skip
    refine r_ldc2 C (-2) q1709 dX5_moves_23 ?_
    refine r_lreturn C E dX5_moves_26 ?_
    exact ⟨_, rfl, by simp [spMoves, *], PubM.mk⟩
  · skip
    refine r_aload_0 C dX5_moves_8 ?_
    refine r_iload_2 C dX5_moves_9 ?_
    refine r_cV1i C (c_X5_isNode hG (by assumption) hn) (q0 := 0) rfl rfl q1685 pkX5_isNode dX5_moves_10 (fun z w h => ?_)
    obtain ⟨rfl, rfl⟩ := h
    refine r_ifeqB (tgt := 23) C dX5_moves_13 (by decide) (fun c_13 => ?_) (fun c_13 => ?_)
    · skip
      refine r_ldc2 C (-2) q1709 dX5_moves_23 ?_
      refine r_lreturn C E dX5_moves_26 ?_
      exact ⟨_, rfl, by simp [spMoves, *], PubM.mk⟩
    · skip
      refine r_iload_3 C dX5_moves_16 ?_
      refine r_cS1i C (c_X5_isPart hG hp) q1706 pkX5_isPart dX5_moves_17 (fun z w h => ?_)
      obtain ⟨rfl, rfl⟩ := h
      refine r_ifneB (tgt := 27) C dX5_moves_20 (by decide) (fun c_20 => ?_) (fun c_20 => ?_)
      · skip
        have hd := hW.gdb c_5
        have haa := isNb_in c_5
        have hbb := isNb_in c_13
        have hmv := hd.mov haa.1 haa.2 hbb.1 hbb.2
        have hw := hd.who
        refine r_aload_0 C dX5_moves_27 ?_
        refine r_cV0v C (c_X5_lays hG hd) (q0 := 0) rfl rfl q1646 pkX5_lays dX5_moves_28 (fun w h => ?_)
        obtain ⟨e, un, no, ce, he, hS, rfl⟩ := h
        refine r_aload_0 C dX5_moves_31 ?_
        refine r_iload_1 C dX5_moves_32 ?_
        refine r_cV1i C (c_X5_isDead hG hd rfl haa) (q0 := 0) rfl rfl q1694 pkX5_isDead dX5_moves_33 (fun z w h => ?_)
        obtain ⟨rfl, rfl⟩ := h
        refine r_ifneB (tgt := 47) C dX5_moves_36 (by decide) (fun c_36 => ?_) (fun c_36 => ?_)
        · skip
          refine r_ldc2 C (-1) q1710 dX5_moves_47 ?_
          refine r_goto (tgt := 67) C dX5_moves_50 (by decide) ?_
          refine r_lreturn C E dX5_moves_67 ?_
          exact ⟨_, rfl, by simp [spMoves, *], PubM.mk⟩
        · skip
          refine r_aload_0 C dX5_moves_39 ?_
          refine r_iload_2 C dX5_moves_40 ?_
          refine r_cV1i C (c_X5_isDead hG hd rfl hbb) (q0 := 0) rfl rfl q1694 pkX5_isDead dX5_moves_41 (fun z w h => ?_)
          obtain ⟨rfl, rfl⟩ := h
          refine r_ifeqB (tgt := 53) C dX5_moves_44 (by decide) (fun c_44 => ?_) (fun c_44 => ?_)
          · skip
            refine r_aload_0 C dX5_moves_53 ?_
            refine r_iload_1 C dX5_moves_54 ?_
            refine r_iload_2 C dX5_moves_55 ?_
            refine r_cV2l C (c_X5_movesOf hG hd hS haa hbb) (q0 := 0) rfl rfl q1715 pkX5_movesOf dX5_moves_56 (fun z w h => ?_)
            obtain ⟨rfl, rfl⟩ := h
            refine r_aload_0 C dX5_moves_59 ?_
            refine gM_whole C q1411 dX5_moves_60 ?_
            refine r_iload_3 C dX5_moves_63 ?_
            refine r_cS3l C (c_X5_part hG (by omega) (by omega) hp (by omega)) q1719 pkX5_part dX5_moves_64 (fun z w h => ?_)
            obtain ⟨rfl, rfl⟩ := h
            refine r_lreturn C E dX5_moves_67 ?_
            exact ⟨_, rfl, by simp [spMoves, *], PubM.mk⟩
          · skip
            refine r_ldc2 C (-1) q1710 dX5_moves_47 ?_
            refine r_goto (tgt := 67) C dX5_moves_50 (by decide) ?_
            refine r_lreturn C E dX5_moves_67 ?_
            exact ⟨_, rfl, by simp [spMoves, *], PubM.mk⟩
      · skip
        refine r_ldc2 C (-2) q1709 dX5_moves_23 ?_
        refine r_lreturn C E dX5_moves_26 ?_
        exact ⟨_, rfl, by simp [spMoves, *], PubM.mk⟩
theorem c_X5_resists (hG : Gok g) {a b p : Int} (ha : inR a) (hb : inR b) (hp : inR p) (hW : WF m_world) : XMet g yX5_resists cX5_resists 4 (some .long) 5 0 0 [.ref (ρ 0), .int (jI a), .int (jI b), .int (jI p)] (wM g ρ m_thrown m_world m_fresh m_waysBack m_acts m_images m_hasImage m_endOf m_strapMany m_tape m_taped m_five m_size m_at m_from m_token m_value m_faultKind m_faultPlace m_budgetsTold m_loadsTold m_deadSet m_unknownOf m_nodeOf m_unknowns m_cells m_whole m_ordered m_drawnBy m_left m_aside m_bestDead m_bestAbove m_bestBelow m_widened m_widenedMany m_fewOf m_drawing ++ ex) (pL (fun z w => z = spResists m_world a b p ∧ PubM g ρ ex m_world m_waysBack m_acts m_images m_hasImage m_tape m_taped m_faultKind m_faultPlace w)) := by
  refine XMet.of (L := [some (.ref (ρ 0)), some (.int (jI a)), some (.int (jI b)), some (.int (jI p))]) hG (by decide +kernel) (Nat.le_of_ble_eq_true rfl) rfl (fun K C E => ?_)
  have hn := hW.n
  refine r_aload_0 C dX5_resists_0 ?_
  refine r_iload_1 C dX5_resists_1 ?_
  refine r_cV1i C (c_X5_isNode hG (by assumption) hn) (q0 := 0) rfl rfl q1685 pkX5_isNode dX5_resists_2 (fun z w h => ?_)
  obtain ⟨rfl, rfl⟩ := h
  refine r_ifeqB (tgt := 23) C dX5_resists_5 (by decide) (fun c_5 => ?_) (fun c_5 => ?_)
  · skip
    refine r_ldc2 C (-2) q1709 dX5_resists_23 ?_
    refine r_lreturn C E dX5_resists_26 ?_
    exact ⟨_, rfl, by simp [spResists, *], PubM.mk⟩
  · skip
    refine r_aload_0 C dX5_resists_8 ?_
    refine r_iload_2 C dX5_resists_9 ?_
    refine r_cV1i C (c_X5_isNode hG (by assumption) hn) (q0 := 0) rfl rfl q1685 pkX5_isNode dX5_resists_10 (fun z w h => ?_)
    obtain ⟨rfl, rfl⟩ := h
    refine r_ifeqB (tgt := 23) C dX5_resists_13 (by decide) (fun c_13 => ?_) (fun c_13 => ?_)
    · skip
      refine r_ldc2 C (-2) q1709 dX5_resists_23 ?_
      refine r_lreturn C E dX5_resists_26 ?_
      exact ⟨_, rfl, by simp [spResists, *], PubM.mk⟩
    · skip
      refine r_iload_3 C dX5_resists_16 ?_
      refine r_cS1i C (c_X5_isPart hG hp) q1706 pkX5_isPart dX5_resists_17 (fun z w h => ?_)
      obtain ⟨rfl, rfl⟩ := h
      refine r_ifneB (tgt := 27) C dX5_resists_20 (by decide) (fun c_20 => ?_) (fun c_20 => ?_)
      · skip
        have hd := hW.gdb c_5
        have haa := isNb_in c_5
        have hbb := isNb_in c_13
        have hnn : m_world 0 * m_world 1 = wN m_world := rfl
        have hF : NSet (m_world 0) (m_world 1) (bsP a) := NSet.P haa.1 haa.2
        have hok := sol_ok hd.g hd.wd hF
        have hmv := hok.2.2 b b hbb.1 hbb.2 hbb.1 hbb.2
        have hw := hok.2.1
        have hmv1 : 0 ≤ mv (m_world 0) (m_world 1) (fun k => m_world (28 + k)) (bsP a) b b ∧ mv (m_world 0) (m_world 1) (fun k => m_world (28 + k)) (bsP a) b b ≤ 8589934592 := hmv
        have hw1 : 0 < wh (m_world 0) (m_world 1) (fun k => m_world (28 + k)) (bsP a) ∧ wh (m_world 0) (m_world 1) (fun k => m_world (28 + k)) (bsP a) ≤ 8589934592 := hw
        refine r_aload_0 C dX5_resists_27 ?_
        refine r_iconst C dX5_resists_28 ?_
        refine r_iload_1 C dX5_resists_29 ?_
        refine r_ishl C (_) dX5_resists_30 (jI_shl (by omega) (by omega)) ?_
        refine r_cV1v C (c_X5_solves hG hd.l hd.g hd.wd hF) (q0 := 0) rfl rfl q1650 pkX5_solves dX5_resists_31 (fun w h => ?_)
        obtain ⟨e, un, no, ce, he, hS, rfl⟩ := h
        refine r_aload_0 C dX5_resists_34 ?_
        refine r_iload_2 C dX5_resists_35 ?_
        refine r_cV1i C (c_X5_isDeadG hG (by omega) rfl hbb) (q0 := 0) rfl rfl q1694 pkX5_isDead dX5_resists_36 (fun z w h => ?_)
        obtain ⟨rfl, rfl⟩ := h
        refine r_ifeqB (tgt := 48) C dX5_resists_39 (by decide) (fun c_39 => ?_) (fun c_39 => ?_)
        · skip
          refine r_aload_0 C dX5_resists_48 ?_
          refine r_iload_2 C dX5_resists_49 ?_
          refine r_iload_2 C dX5_resists_50 ?_
          refine r_cV2l C (c_X5_movesOfG hG hd.g hS hbb hbb) (q0 := 0) rfl rfl q1715 pkX5_movesOf dX5_resists_51 (fun z w h => ?_)
          obtain ⟨rfl, rfl⟩ := h
          refine r_aload_0 C dX5_resists_54 ?_
          refine gM_whole C q1411 dX5_resists_55 ?_
          refine r_iload_3 C dX5_resists_58 ?_
          refine r_cS3l C (c_X5_part hG (by omega) (by omega) hp (by omega)) q1719 pkX5_part dX5_resists_59 (fun z w h => ?_)
          obtain ⟨rfl, rfl⟩ := h
          refine r_lreturn C E dX5_resists_62 ?_
          refine ⟨_, rfl, ?_, PubM.mk⟩
          unfold spResists
          rw [if_pos (by simp [c_5, c_13, c_20])]
          first
            | (have c : bsB (gR (m_world 0) (m_world 1) (wWd m_world) (bsP a)) b = false := c_39
               rw [if_neg (by rw [c]; decide)])
            | (have c : ¬ bsB (gR (m_world 0) (m_world 1) (wWd m_world) (bsP a)) b = false := c_39
               rw [if_pos (by simpa using c)]
               rfl)
        · skip
          refine r_ldc2 C (-1) q1710 dX5_resists_42 ?_
          refine r_goto (tgt := 62) C dX5_resists_45 (by decide) ?_
          refine r_lreturn C E dX5_resists_62 ?_
          refine ⟨_, rfl, ?_, PubM.mk⟩
          unfold spResists
          rw [if_pos (by simp [c_5, c_13, c_20])]
          first
            | (have c : bsB (gR (m_world 0) (m_world 1) (wWd m_world) (bsP a)) b = false := c_39
               rw [if_neg (by rw [c]; decide)])
            | (have c : ¬ bsB (gR (m_world 0) (m_world 1) (wWd m_world) (bsP a)) b = false := c_39
               rw [if_pos (by simpa using c)]
               rfl)
      · skip
        refine r_ldc2 C (-2) q1709 dX5_resists_23 ?_
        refine r_lreturn C E dX5_resists_26 ?_
        exact ⟨_, rfl, by simp [spResists, *], PubM.mk⟩
theorem c_X5_share (hG : Gok g) {a b p : Int} (ha : inR a) (hb : inR b) (hp : inR p) (hW : WF m_world) : XMet g yX5_share cX5_share 6 (some .long) 5 0 0 [.ref (ρ 0), .int (jI a), .int (jI b), .int (jI p)] (wM g ρ m_thrown m_world m_fresh m_waysBack m_acts m_images m_hasImage m_endOf m_strapMany m_tape m_taped m_five m_size m_at m_from m_token m_value m_faultKind m_faultPlace m_budgetsTold m_loadsTold m_deadSet m_unknownOf m_nodeOf m_unknowns m_cells m_whole m_ordered m_drawnBy m_left m_aside m_bestDead m_bestAbove m_bestBelow m_widened m_widenedMany m_fewOf m_drawing ++ ex) (pL (fun z w => z = spShare m_world a b p ∧ PubM g ρ ex m_world m_waysBack m_acts m_images m_hasImage m_tape m_taped m_faultKind m_faultPlace w)) := by
  refine XMet.of (L := [some (.ref (ρ 0)), some (.int (jI a)), some (.int (jI b)), some (.int (jI p)), none, none]) hG (by decide +kernel) (Nat.le_of_ble_eq_true rfl) rfl (fun K C E => ?_)
  have hn := hW.n
  refine r_aload_0 C dX5_share_0 ?_
  refine r_iload_1 C dX5_share_1 ?_
  refine r_cV1i C (c_X5_isNode hG (by assumption) hn) (q0 := 0) rfl rfl q1685 pkX5_isNode dX5_share_2 (fun z w h => ?_)
  obtain ⟨rfl, rfl⟩ := h
  refine r_ifeqB (tgt := 23) C dX5_share_5 (by decide) (fun c_5 => ?_) (fun c_5 => ?_)
  · skip
    refine r_ldc2 C (-2) q1709 dX5_share_23 ?_
    refine r_lreturn C E dX5_share_26 ?_
    exact ⟨_, rfl, by simp [spShare, *], PubM.mk⟩
  · skip
    refine r_aload_0 C dX5_share_8 ?_
    refine r_iload_2 C dX5_share_9 ?_
    refine r_cV1i C (c_X5_isNode hG (by assumption) hn) (q0 := 0) rfl rfl q1685 pkX5_isNode dX5_share_10 (fun z w h => ?_)
    obtain ⟨rfl, rfl⟩ := h
    refine r_ifeqB (tgt := 23) C dX5_share_13 (by decide) (fun c_13 => ?_) (fun c_13 => ?_)
    · skip
      refine r_ldc2 C (-2) q1709 dX5_share_23 ?_
      refine r_lreturn C E dX5_share_26 ?_
      exact ⟨_, rfl, by simp [spShare, *], PubM.mk⟩
    · skip
      refine r_iload_3 C dX5_share_16 ?_
      refine r_cS1i C (c_X5_isPart hG hp) q1706 pkX5_isPart dX5_share_17 (fun z w h => ?_)
      obtain ⟨rfl, rfl⟩ := h
      refine r_ifneB (tgt := 27) C dX5_share_20 (by decide) (fun c_20 => ?_) (fun c_20 => ?_)
      · skip
        have hd := hW.gdb c_5
        have haa := isNb_in c_5
        have hbb := isNb_in c_13
        have hmv := hd.mov haa.1 haa.2 hbb.1 hbb.2
        have hdr := hd.dr haa.1 haa.2
        have hw := hd.who
        have hld := hd.ld b hbb.1 (by omega)
        have h0 : 0 ≤ wMv m_world a b * m_world (6 + b) := Int.mul_nonneg hmv.1 hld.1
        have h1 : wMv m_world a b * m_world (6 + b) ≤ 8589934592 * 99 := Int.mul_le_mul hmv.2 hld.2 hld.1 (by omega)
        have h2 : wMv m_world a b * m_world (6 + b) ≤ wDr m_world a := wDr_ge hd haa.1 haa.2 hbb.1 hbb.2
        refine r_aload_0 C dX5_share_27 ?_
        refine r_cV0v C (c_X5_lays hG hd) (q0 := 0) rfl rfl q1646 pkX5_lays dX5_share_28 (fun w h => ?_)
        obtain ⟨e, un, no, ce, he, hS, rfl⟩ := h
        refine r_aload_0 C dX5_share_31 ?_
        refine r_iload_1 C dX5_share_32 ?_
        refine r_cV1i C (c_X5_isDead hG hd rfl haa) (q0 := 0) rfl rfl q1694 pkX5_isDead dX5_share_33 (fun z w h => ?_)
        obtain ⟨rfl, rfl⟩ := h
        refine r_ifneB (tgt := 47) C dX5_share_36 (by decide) (fun c_36 => ?_) (fun c_36 => ?_)
        · skip
          refine r_ldc2 C (-1) q1710 dX5_share_47 ?_
          refine r_lreturn C E dX5_share_50 ?_
          refine ⟨_, rfl, ?_, PubM.mk⟩
          first
            | (simp [spShare, *]; done)
            | (simp only [spShare, c_5, c_13, c_20, Bool.and_self, if_true, if_pos]
               simp at c_36 c_44
               rw [if_pos (by simp [c_36, c_44])]
               first
                 | rw [if_pos c_73]
                 | rw [if_neg c_73])
        · skip
          refine r_aload_0 C dX5_share_39 ?_
          refine r_iload_2 C dX5_share_40 ?_
          refine r_cV1i C (c_X5_isDead hG hd rfl hbb) (q0 := 0) rfl rfl q1694 pkX5_isDead dX5_share_41 (fun z w h => ?_)
          obtain ⟨rfl, rfl⟩ := h
          refine r_ifeqB (tgt := 51) C dX5_share_44 (by decide) (fun c_44 => ?_) (fun c_44 => ?_)
          · skip
            refine r_aload_0 C dX5_share_51 ?_
            refine r_iload_1 C dX5_share_52 ?_
            refine r_iload_2 C dX5_share_53 ?_
            refine r_cV2l C (c_X5_movesOf hG hd hS haa hbb) (q0 := 0) rfl rfl q1715 pkX5_movesOf dX5_share_54 (fun z w h => ?_)
            obtain ⟨rfl, rfl⟩ := h
            refine r_aload_0 C dX5_share_57 ?_
            refine gM_world C q1386 dX5_share_58 ?_
            refine r_bipush C dX5_share_61 ?_
            refine r_iload_2 C dX5_share_63 ?_
            refine r_iadd C dX5_share_64 ?_
            refine ldM_world C dX5_share_65 ?_
            refine r_i2l C dX5_share_66 ?_
            refine r_lmul C dX5_share_67 ?_
            refine r_lstore_4 C dX5_share_68 ?_
            refine r_lload_4 C dX5_share_70 ?_
            refine r_lconst0 C dX5_share_72 ?_
            refine r_lcmp_ifne (tgt := 82) C dX5_share_73 dX5_share_74 (by decide) (fun c_73 => ?_) (fun c_73 => ?_)
            · skip
              refine r_lload_4 C dX5_share_82 ?_
              refine r_aload_0 C dX5_share_84 ?_
              refine r_iload_1 C dX5_share_85 ?_
              refine r_cV1l C (c_X5_dropOf hG hd hS rfl haa) (q0 := 0) rfl rfl q1711 pkX5_dropOf dX5_share_86 (fun z w h => ?_)
              obtain ⟨rfl, rfl⟩ := h
              refine r_iload_3 C dX5_share_89 ?_
              refine r_cS3l C (c_X5_part hG (by omega) (by omega) hp (by omega)) q1719 pkX5_part dX5_share_90 (fun z w h => ?_)
              obtain ⟨rfl, rfl⟩ := h
              refine r_lreturn C E dX5_share_93 ?_
              refine ⟨_, rfl, ?_, PubM.mk⟩
              first
                | (simp [spShare, *]; done)
                | (simp only [spShare, c_5, c_13, c_20, Bool.and_self, if_true, if_pos]
                   simp at c_36 c_44
                   rw [if_pos (by simp [c_36, c_44])]
                   first
                     | rw [if_pos c_73]
                     | rw [if_neg c_73])
            · skip
              refine r_iload_3 C dX5_share_77 ?_
              refine r_i2l C dX5_share_78 ?_
              refine r_goto (tgt := 93) C dX5_share_79 (by decide) ?_
              refine r_lreturn C E dX5_share_93 ?_
              refine ⟨_, rfl, ?_, PubM.mk⟩
              first
                | (simp [spShare, *]; done)
                | (simp only [spShare, c_5, c_13, c_20, Bool.and_self, if_true, if_pos]
                   simp at c_36 c_44
                   rw [if_pos (by simp [c_36, c_44])]
                   first
                     | rw [if_pos c_73]
                     | rw [if_neg c_73])
          · skip
            refine r_ldc2 C (-1) q1710 dX5_share_47 ?_
            refine r_lreturn C E dX5_share_50 ?_
            refine ⟨_, rfl, ?_, PubM.mk⟩
            first
              | (simp [spShare, *]; done)
              | (simp only [spShare, c_5, c_13, c_20, Bool.and_self, if_true, if_pos]
                 simp at c_36 c_44
                 rw [if_pos (by simp [c_36, c_44])]
                 first
                   | rw [if_pos c_73]
                   | rw [if_neg c_73])
      · skip
        refine r_ldc2 C (-2) q1709 dX5_share_23 ?_
        refine r_lreturn C E dX5_share_26 ?_
        exact ⟨_, rfl, by simp [spShare, *], PubM.mk⟩
theorem c_X5_comesBy (hG : Gok g) {k v : Int} (hd : Gd m_world) (he : Ends (m_world 0) (m_world 1) m_endOf) (hS : SolW m_world m_unknownOf m_nodeOf m_cells) (hm : m_unknowns = wm m_world) (hk : 0 ≤ k ∧ k < wS m_world) (hv : 0 ≤ v ∧ v < wN m_world) : XMet g yX5_comesBy cX5_comesBy 3 (some .long) 3 0 0 [.ref (ρ 0), .int (jI k), .int (jI v)] (wM g ρ m_thrown m_world m_fresh m_waysBack m_acts m_images m_hasImage m_endOf m_strapMany m_tape m_taped m_five m_size m_at m_from m_token m_value m_faultKind m_faultPlace m_budgetsTold m_loadsTold m_deadSet m_unknownOf m_nodeOf m_unknowns m_cells m_whole m_ordered m_drawnBy m_left m_aside m_bestDead m_bestAbove m_bestBelow m_widened m_widenedMany m_fewOf m_drawing ++ ex) (pL (fun z w => z = wCb m_world k v ∧ w = (wM g ρ m_thrown m_world m_fresh m_waysBack m_acts m_images m_hasImage m_endOf m_strapMany m_tape m_taped m_five m_size m_at m_from m_token m_value m_faultKind m_faultPlace m_budgetsTold m_loadsTold m_deadSet m_unknownOf m_nodeOf m_unknowns m_cells m_whole m_ordered m_drawnBy m_left m_aside m_bestDead m_bestAbove m_bestBelow m_widened m_widenedMany m_fewOf m_drawing ++ ex))) := by
  refine XMet.of (L := [some (.ref (ρ 0)), some (.int (jI k)), some (.int (jI v))]) hG (by decide +kernel) (Nat.le_of_ble_eq_true rfl) rfl (fun K C E => ?_)
  have hn := hd.n
  have hs := hd.s
  have hnn : m_world 0 * m_world 1 ≤ 9 := hd.g.2.2
  have hek := he k hk.1 hk.2
  have hin := sl_in hd.g hk.1 hk.2
  subst hm
  refine r_aload_0 C dX5_comesBy_0 ?_
  refine gM_endOf C q1392 dX5_comesBy_1 ?_
  refine r_iconst C dX5_comesBy_4 ?_
  refine r_iload_1 C dX5_comesBy_5 ?_
  refine r_imul C dX5_comesBy_6 ?_
  refine r_iconst C dX5_comesBy_7 ?_
  refine r_iadd C dX5_comesBy_8 ?_
  refine ldM_endOf C dX5_comesBy_9 ?_
  refine r_topi (sT (m_world 0) (m_world 1) k) hek.2 ?_
  refine r_iload_2 C dX5_comesBy_10 ?_
  refine r_if_icmpne (tgt := 22) C dX5_comesBy_11 (by decide) (fun c_11 => ?_) (fun c_11 => ?_)
  · skip
    refine r_aload_0 C dX5_comesBy_22 ?_
    refine gM_endOf C q1392 dX5_comesBy_23 ?_
    refine r_iconst C dX5_comesBy_26 ?_
    refine r_iload_1 C dX5_comesBy_27 ?_
    refine r_imul C dX5_comesBy_28 ?_
    refine ldM_endOf C dX5_comesBy_29 ?_
    refine r_topi (sF (m_world 0) (m_world 1) k) hek.1 ?_
    refine r_iload_2 C dX5_comesBy_30 ?_
    refine r_if_icmpne (tgt := 43) C dX5_comesBy_31 (by decide) (fun c_31 => ?_) (fun c_31 => ?_)
    · skip
      refine r_lconst0 C dX5_comesBy_43 ?_
      refine r_lreturn C E dX5_comesBy_44 ?_
      refine ⟨_, rfl, ?_, rfl⟩
      unfold wCb
      first
        | rw [if_pos c_11]
        | rw [if_neg c_11, if_pos c_31]
        | rw [if_neg c_11, if_neg c_31]
    · skip
      refine r_aload_0 C dX5_comesBy_34 ?_
      refine r_iload_1 C dX5_comesBy_35 ?_
      refine r_cV1l C (c_X5_throughOf hG hd he hS rfl hk) (q0 := 0) rfl rfl q1731 pkX5_throughOf dX5_comesBy_36 (fun z w h => ?_)
      obtain ⟨rfl, rfl⟩ := h
      refine r_lneg C dX5_comesBy_39 ?_
      refine r_goto (tgt := 44) C dX5_comesBy_40 (by decide) ?_
      refine r_lreturn C E dX5_comesBy_44 ?_
      refine ⟨_, rfl, ?_, rfl⟩
      unfold wCb
      first
        | rw [if_pos c_11]
        | rw [if_neg c_11, if_pos c_31]
        | rw [if_neg c_11, if_neg c_31]
  · skip
    refine r_aload_0 C dX5_comesBy_14 ?_
    refine r_iload_1 C dX5_comesBy_15 ?_
    refine r_cV1l C (c_X5_throughOf hG hd he hS rfl hk) (q0 := 0) rfl rfl q1731 pkX5_throughOf dX5_comesBy_16 (fun z w h => ?_)
    obtain ⟨rfl, rfl⟩ := h
    refine r_goto (tgt := 44) C dX5_comesBy_19 (by decide) ?_
    refine r_lreturn C E dX5_comesBy_44 ?_
    refine ⟨_, rfl, ?_, rfl⟩
    unfold wCb
    first
      | rw [if_pos c_11]
      | rw [if_neg c_11, if_pos c_31]
      | rw [if_neg c_11, if_neg c_31]
theorem c_X5_feederOf (hG : Gok g) {v : Int} (hd : Gd m_world) (he : Ends (m_world 0) (m_world 1) m_endOf) (hS : SolW m_world m_unknownOf m_nodeOf m_cells) (hm : m_unknowns = wm m_world) (hsm : m_strapMany = wS m_world) (hv : 0 ≤ v ∧ v < wN m_world) : XMet g yX5_feederOf cX5_feederOf 6 (some .int) 4 0 0 [.ref (ρ 0), .int (jI v)] (wM g ρ m_thrown m_world m_fresh m_waysBack m_acts m_images m_hasImage m_endOf m_strapMany m_tape m_taped m_five m_size m_at m_from m_token m_value m_faultKind m_faultPlace m_budgetsTold m_loadsTold m_deadSet m_unknownOf m_nodeOf m_unknowns m_cells m_whole m_ordered m_drawnBy m_left m_aside m_bestDead m_bestAbove m_bestBelow m_widened m_widenedMany m_fewOf m_drawing ++ ex) (pI (fun z w => z = wFd m_world v ∧ w = (wM g ρ m_thrown m_world m_fresh m_waysBack m_acts m_images m_hasImage m_endOf m_strapMany m_tape m_taped m_five m_size m_at m_from m_token m_value m_faultKind m_faultPlace m_budgetsTold m_loadsTold m_deadSet m_unknownOf m_nodeOf m_unknowns m_cells m_whole m_ordered m_drawnBy m_left m_aside m_bestDead m_bestAbove m_bestBelow m_widened m_widenedMany m_fewOf m_drawing ++ ex))) := by
  refine XMet.of (L := [some (.ref (ρ 0)), some (.int (jI v)), none, none, none, none]) hG (by decide +kernel) (Nat.le_of_ble_eq_true rfl) rfl (fun K C E => ?_)
  have hn := hd.n
  have hs := hd.s
  have hnn : m_world 0 * m_world 1 ≤ 9 := hd.g.2.2
  have hp5 := hd.p5
  subst hm hsm
  refine r_aload_0 C dX5_feederOf_0 ?_
  refine gM_world C q1386 dX5_feederOf_1 ?_
  refine r_iconst C dX5_feederOf_4 ?_
  refine ldM_world C dX5_feederOf_5 ?_
  refine r_iload_1 C dX5_feederOf_6 ?_
  refine r_cS2i C (c_X5_isOf hG (by omega) (by omega)) q1606 pkX5_isOf dX5_feederOf_7 (fun z w h => ?_)
  obtain ⟨rfl, rfl⟩ := h
  refine r_ifeqB (tgt := 15) C dX5_feederOf_10 (by decide) (fun c_10 => ?_) (fun c_10 => ?_)
  · skip
    skip
    have key : ∀ (mm : Nat), ∀ (k : Int) (s : Int × Int), (0 ≤ k) → (k ≤ wS m_world) → (0 ≤ s.1 ∧ s.1 ≤ 100000000000000) → (s = foI (fun k (s : Int × Int) => if wCb m_world k v ≤ s.1 then s else (wCb m_world k v, sF (m_world 0) (m_world 1) k + sT (m_world 0) (m_world 1) k - v)) (0, -1) k) → (wS m_world - k).toNat = mm → AW g K (wM g ρ m_thrown m_world m_fresh m_waysBack m_acts m_images m_hasImage m_endOf (wS m_world) m_tape m_taped m_five m_size m_at m_from m_token m_value m_faultKind m_faultPlace m_budgetsTold m_loadsTold m_deadSet m_unknownOf m_nodeOf (wm m_world) m_cells m_whole m_ordered m_drawnBy m_left m_aside m_bestDead m_bestAbove m_bestBelow m_widened m_widenedMany m_fewOf m_drawing ++ ex) 0 0 23 [some (.ref (ρ 0)), some (.int (jI v)), some (.long (jL s.1)), none, some (.int (jI s.2)), some (.int (jI k))] [] := by
      intro mm
      induction mm using Nat.strongRecOn with
      | _ mm ih =>
      intro k s hk0 hk hsb es hm
      refine r_iload_5 C dX5_feederOf_23 ?_
      refine r_aload_0 C dX5_feederOf_25 ?_
      refine gM_strapMany C q1393 dX5_feederOf_26 ?_
      refine r_if_icmpge (tgt := 86) C dX5_feederOf_29 (by decide) (fun c_29 => ?_) (fun c_29 => ?_)
      · skip
        refine r_iload_4 C dX5_feederOf_86 ?_
        refine r_ireturn C E dX5_feederOf_88 ?_
        have e : k = wS m_world := by omega
        subst e
        exact ⟨_, rfl, by unfold wFd; rw [if_neg c_10, es], rfl⟩
      · skip
        have hek := he k hk0 c_29
        have hin := sl_in hd.g hk0 c_29
        have hth := hd.th hk0 c_29
        have hcb : -100000000000000 ≤ wCb m_world k v ∧ wCb m_world k v ≤ 100000000000000 := by
          unfold wCb
          split
          · omega
          · split <;> omega
        refine r_aload_0 C dX5_feederOf_32 ?_
        refine r_iload_5 C dX5_feederOf_33 ?_
        refine r_iload_1 C dX5_feederOf_35 ?_
        refine r_cV2l C (c_X5_comesBy hG hd he hS rfl ⟨hk0, c_29⟩ hv) (q0 := 0) rfl rfl q1802 pkX5_comesBy dX5_feederOf_36 (fun z w h => ?_)
        obtain ⟨rfl, rfl⟩ := h
        refine r_lload_2 C dX5_feederOf_39 ?_
        refine r_lcmp_ifgt (tgt := 47) C dX5_feederOf_40 dX5_feederOf_41 (by decide) (fun c_40 => ?_) (fun c_40 => ?_)
        · skip
          refine r_aload_0 C dX5_feederOf_47 ?_
          refine r_iload_5 C dX5_feederOf_48 ?_
          refine r_iload_1 C dX5_feederOf_50 ?_
          refine r_cV2l C (c_X5_comesBy hG hd he hS rfl ⟨hk0, c_29⟩ hv) (q0 := 0) rfl rfl q1802 pkX5_comesBy dX5_feederOf_51 (fun z w h => ?_)
          obtain ⟨rfl, rfl⟩ := h
          refine r_lstore_2 C dX5_feederOf_54 ?_
          refine r_aload_0 C dX5_feederOf_55 ?_
          refine gM_endOf C q1392 dX5_feederOf_56 ?_
          refine r_iconst C dX5_feederOf_59 ?_
          refine r_iload_5 C dX5_feederOf_60 ?_
          refine r_imul C dX5_feederOf_62 ?_
          refine ldM_endOf C dX5_feederOf_63 ?_
          refine r_topi (sF (m_world 0) (m_world 1) k) hek.1 ?_
          refine r_aload_0 C dX5_feederOf_64 ?_
          refine gM_endOf C q1392 dX5_feederOf_65 ?_
          refine r_iconst C dX5_feederOf_68 ?_
          refine r_iload_5 C dX5_feederOf_69 ?_
          refine r_imul C dX5_feederOf_71 ?_
          refine r_iconst C dX5_feederOf_72 ?_
          refine r_iadd C dX5_feederOf_73 ?_
          refine ldM_endOf C dX5_feederOf_74 ?_
          refine r_topi (sT (m_world 0) (m_world 1) k) hek.2 ?_
          refine r_iadd C dX5_feederOf_75 ?_
          refine r_iload_1 C dX5_feederOf_76 ?_
          refine r_isub C dX5_feederOf_77 ?_
          refine r_istore_4 C dX5_feederOf_78 ?_
          refine r_iinc_5 C dX5_feederOf_80 ?_
          refine r_goto (tgt := 23) C dX5_feederOf_83 (by decide) ?_
          first
            | (refine ih _ (show (wS m_world - (k + 1)).toNat < mm by omega) (k + 1) s (by omega) (by omega) hsb ?_ rfl
               rw [foI_s _ _ hk0, ← es, if_pos c_40])
            | (refine ih _ (show (wS m_world - (k + 1)).toNat < mm by omega) (k + 1) (wCb m_world k v, sF (m_world 0) (m_world 1) k + sT (m_world 0) (m_world 1) k - v) (by omega) (by omega) ⟨by (try simp only); omega, by (try simp only); omega⟩ ?_ rfl
               rw [foI_s _ _ hk0, ← es, if_neg (by omega)])
        · skip
          refine r_goto (tgt := 80) C dX5_feederOf_44 (by decide) ?_
          refine r_iinc_5 C dX5_feederOf_80 ?_
          refine r_goto (tgt := 23) C dX5_feederOf_83 (by decide) ?_
          first
            | (refine ih _ (show (wS m_world - (k + 1)).toNat < mm by omega) (k + 1) s (by omega) (by omega) hsb ?_ rfl
               rw [foI_s _ _ hk0, ← es, if_pos c_40])
            | (refine ih _ (show (wS m_world - (k + 1)).toNat < mm by omega) (k + 1) (wCb m_world k v, sF (m_world 0) (m_world 1) k + sT (m_world 0) (m_world 1) k - v) (by omega) (by omega) ⟨by (try simp only); omega, by (try simp only); omega⟩ ?_ rfl
               rw [foI_s _ _ hk0, ← es, if_neg (by omega)])
    refine r_lconst0 C dX5_feederOf_15 ?_
    refine r_lstore_2 C dX5_feederOf_16 ?_
    refine r_iconst C dX5_feederOf_17 ?_
    refine r_istore_4 C dX5_feederOf_18 ?_
    refine r_iconst C dX5_feederOf_20 ?_
    refine r_istore_5 C dX5_feederOf_21 ?_
    exact key _ 0 (0, -1) (by omega) (by omega) (by simp) rfl rfl
  · skip
    refine r_iconst C dX5_feederOf_13 ?_
    refine r_ireturn C E dX5_feederOf_14 ?_
    exact ⟨_, rfl, by unfold wFd; rw [if_pos c_10], rfl⟩
theorem c_X5_feeder (hG : Gok g) {v i : Int} (hv : inR v) (hi : inR i) (hW : WF m_world) : XMet g yX5_feeder cX5_feeder 5 (some .int) 5 0 0 [.ref (ρ 0), .int (jI v), .int (jI i)] (wM g ρ m_thrown m_world m_fresh m_waysBack m_acts m_images m_hasImage m_endOf m_strapMany m_tape m_taped m_five m_size m_at m_from m_token m_value m_faultKind m_faultPlace m_budgetsTold m_loadsTold m_deadSet m_unknownOf m_nodeOf m_unknowns m_cells m_whole m_ordered m_drawnBy m_left m_aside m_bestDead m_bestAbove m_bestBelow m_widened m_widenedMany m_fewOf m_drawing ++ ex) (pI (fun z w => z = spFeeder m_world v i ∧ PubM g ρ ex m_world m_waysBack m_acts m_images m_hasImage m_tape m_taped m_faultKind m_faultPlace w)) := by
  refine XMet.of (L := [some (.ref (ρ 0)), some (.int (jI v)), some (.int (jI i)), none, none]) hG (by decide +kernel) (Nat.le_of_ble_eq_true rfl) rfl (fun K C E => ?_)
  have hn := hW.n
  have hi2 := hi.2
  refine r_aload_0 C dX5_feeder_0 ?_
  refine r_iload_1 C dX5_feeder_1 ?_
  refine r_cV1i C (c_X5_isNode hG (by assumption) hn) (q0 := 0) rfl rfl q1685 pkX5_isNode dX5_feeder_2 (fun z w h => ?_)
  obtain ⟨rfl, rfl⟩ := h
  refine r_ifeqB (tgt := 12) C dX5_feeder_5 (by decide) (fun c_5 => ?_) (fun c_5 => ?_)
  · skip
    refine r_bipush C dX5_feeder_12 ?_
    refine r_ireturn C E dX5_feeder_14 ?_
    refine ⟨_, rfl, ?_, PubM.mk⟩
    unfold spFeeder
    first
      | rw [if_neg (by intro h; exact c_5 h.1)]
      | rw [if_neg (by intro h; omega)]
  · skip
    refine r_iload_2 C dX5_feeder_8 ?_
    refine r_ifge (tgt := 15) C dX5_feeder_9 (by decide) (fun c_9 => ?_) (fun c_9 => ?_)
    · skip
      have hd := hW.gdb c_5
      have hvv := isNb_in c_5
      refine r_aload_0 C dX5_feeder_15 ?_
      refine r_cV0v C (c_X5_lays hG hd) (q0 := 0) rfl rfl q1646 pkX5_lays dX5_feeder_16 (fun w h => ?_)
      obtain ⟨e, un, no, ce, he, hS, rfl⟩ := h
      skip
      have key : ∀ (mm : Nat), ∀ (k u : Int), (0 ≤ k) → (k ≤ i) → (u = -1 ∨ (0 ≤ u ∧ u < wN m_world)) → (u = wFe m_world v k) → (i - k).toNat = mm → AW g K (wM g ρ m_thrown m_world m_fresh m_waysBack m_acts m_images m_hasImage (e) (wS m_world) m_tape m_taped m_five m_size m_at m_from m_token m_value m_faultKind m_faultPlace m_budgetsTold m_loadsTold (wDead m_world) (un) (no) (wm m_world) (ce) (wWh m_world) m_ordered m_drawnBy m_left m_aside m_bestDead m_bestAbove m_bestBelow m_widened m_widenedMany m_fewOf m_drawing ++ ex) 0 0 24 [some (.ref (ρ 0)), some (.int (jI v)), some (.int (jI i)), some (.int (jI u)), some (.int (jI k))] [] := by
        intro mm
        induction mm using Nat.strongRecOn with
        | _ mm ih =>
        intro k u hk0 hk hu eu hm
        refine r_iload_4 C dX5_feeder_24 ?_
        refine r_iload_2 C dX5_feeder_26 ?_
        refine r_if_icmpge (tgt := 47) C dX5_feeder_27 (by decide) (fun c_27 => ?_) (fun c_27 => ?_)
        · skip
          refine r_iload_3 C dX5_feeder_47 ?_
          refine r_ireturn C E dX5_feeder_48 ?_
          refine ⟨_, rfl, ?_, PubM.mk⟩
          unfold spFeeder
          rw [if_pos ⟨c_5, by omega⟩]
          first
            | (have e : k = i := by omega
               rw [← e]; exact eu)
            | (rw [c_32, wFe_stuck (by rw [← eu]; exact c_32) hk0 hk])
        · skip
          refine r_iload_3 C dX5_feeder_30 ?_
          refine r_iconst C dX5_feeder_31 ?_
          refine r_if_icmpeq (tgt := 47) C dX5_feeder_32 (by decide) (fun c_32 => ?_) (fun c_32 => ?_) (by unfold inR; omega)
          · skip
            refine r_iload_3 C dX5_feeder_47 ?_
            refine r_ireturn C E dX5_feeder_48 ?_
            refine ⟨_, rfl, ?_, PubM.mk⟩
            unfold spFeeder
            rw [if_pos ⟨c_5, by omega⟩]
            first
              | (have e : k = i := by omega
                 rw [← e]; exact eu)
              | (rw [c_32, wFe_stuck (by rw [← eu]; exact c_32) hk0 hk])
          · skip
            have hu2 : 0 ≤ u ∧ u < wN m_world := by omega
            have hf := wFd_in hd hu2.1 hu2.2
            refine r_aload_0 C dX5_feeder_35 ?_
            refine r_iload_3 C dX5_feeder_36 ?_
            refine r_cV1i C (c_X5_feederOf hG hd he hS rfl rfl hu2) (q0 := 0) rfl rfl q1798 pkX5_feederOf dX5_feeder_37 (fun z w h => ?_)
            obtain ⟨rfl, rfl⟩ := h
            refine r_istore_3 C dX5_feeder_40 ?_
            refine r_iinc_4 C dX5_feeder_41 ?_
            refine r_goto (tgt := 24) C dX5_feeder_44 (by decide) ?_
            refine ih _ (show (i - (k + 1)).toNat < mm by omega) (k + 1) _ (by omega) (by omega) hf ?_ rfl
            unfold wFe at eu ⊢
            rw [foI_s _ _ hk0, ← eu, if_neg c_32]
      refine r_iload_1 C dX5_feeder_19 ?_
      refine r_istore_3 C dX5_feeder_20 ?_
      refine r_iconst C dX5_feeder_21 ?_
      refine r_istore_4 C dX5_feeder_22 ?_
      exact key _ 0 v (by omega) (by omega) (Or.inr hvv) rfl rfl
    · skip
      refine r_bipush C dX5_feeder_12 ?_
      refine r_ireturn C E dX5_feeder_14 ?_
      refine ⟨_, rfl, ?_, PubM.mk⟩
      unfold spFeeder
      first
        | rw [if_neg (by intro h; exact c_5 h.1)]
        | rw [if_neg (by intro h; omega)]
theorem c_X5_reached (hG : Gok g) {v : Int} (hv : inR v) (hW : WF m_world) : XMet g yX5_reached cX5_reached 2 (some .int) 3 0 0 [.ref (ρ 0), .int (jI v)] (wM g ρ m_thrown m_world m_fresh m_waysBack m_acts m_images m_hasImage m_endOf m_strapMany m_tape m_taped m_five m_size m_at m_from m_token m_value m_faultKind m_faultPlace m_budgetsTold m_loadsTold m_deadSet m_unknownOf m_nodeOf m_unknowns m_cells m_whole m_ordered m_drawnBy m_left m_aside m_bestDead m_bestAbove m_bestBelow m_widened m_widenedMany m_fewOf m_drawing ++ ex) (pI (fun z w => z = spReached m_world v ∧ PubM g ρ ex m_world m_waysBack m_acts m_images m_hasImage m_tape m_taped m_faultKind m_faultPlace w)) := by
  refine XMet.of (L := [some (.ref (ρ 0)), some (.int (jI v))]) hG (by decide +kernel) (Nat.le_of_ble_eq_true rfl) rfl (fun K C E => ?_)
  have hn := hW.n
  refine r_aload_0 C dX5_reached_0 ?_
  refine r_iload_1 C dX5_reached_1 ?_
  refine r_cV1i C (c_X5_isNode hG (by assumption) hn) (q0 := 0) rfl rfl q1685 pkX5_isNode dX5_reached_2 (fun z w h => ?_)
  obtain ⟨rfl, rfl⟩ := h
  refine r_ifneB (tgt := 11) C dX5_reached_5 (by decide) (fun c_5 => ?_) (fun c_5 => ?_)
  · skip
    have hd := hW.gdb c_5
    have hvv := isNb_in c_5
    have hP := bsP_9 hvv.1 (show v < 9 by omega)
    refine r_aload_0 C dX5_reached_11 ?_
    refine r_cV0i C (c_X5_straps hG hd.l hd.g) (q0 := 0) rfl rfl q1634 pkX5_straps dX5_reached_12 (fun z w h => ?_)
    obtain ⟨rfl, e, he, rfl⟩ := h
    refine r_pop C dX5_reached_15 ?_
    refine r_aload_0 C dX5_reached_16 ?_
    refine r_iconst C dX5_reached_17 ?_
    refine r_iload_1 C dX5_reached_18 ?_
    refine r_ishl C (_) dX5_reached_19 (jI_shl (by omega) (by omega)) ?_
    refine r_cV1i C (c_X5_comesTo hG hd.g he rfl (fun k h1 h2 => by have := hd.wd k h1 h2; unfold wWd at this; unfold inR; omega) (Int.le_of_lt bsP_0) hP) (q0 := 0) rfl rfl q1661 pkX5_comesTo dX5_reached_20 (fun z w h => ?_)
    obtain ⟨rfl, rfl⟩ := h
    refine r_ireturn C E dX5_reached_23 ?_
    exact ⟨_, rfl, by unfold spReached; rw [if_pos c_5]; rfl, PubM.mk⟩
  · skip
    refine r_bipush C dX5_reached_8 ?_
    refine r_ireturn C E dX5_reached_10 ?_
    exact ⟨_, rfl, by simp [spReached, *], PubM.mk⟩
theorem c_X5_parts (hG : Gok g) (hW : WF m_world) : XMet g yX5_parts cX5_parts 4 (some .int) 3 0 0 [.ref (ρ 0)] (wM g ρ m_thrown m_world m_fresh m_waysBack m_acts m_images m_hasImage m_endOf m_strapMany m_tape m_taped m_five m_size m_at m_from m_token m_value m_faultKind m_faultPlace m_budgetsTold m_loadsTold m_deadSet m_unknownOf m_nodeOf m_unknowns m_cells m_whole m_ordered m_drawnBy m_left m_aside m_bestDead m_bestAbove m_bestBelow m_widened m_widenedMany m_fewOf m_drawing ++ ex) (pI (fun z w => z = spParts m_world ∧ PubM g ρ ex m_world m_waysBack m_acts m_images m_hasImage m_tape m_taped m_faultKind m_faultPlace w)) := by
  refine XMet.of (L := [some (.ref (ρ 0)), none, none, none]) hG (by decide +kernel) (Nat.le_of_ble_eq_true rfl) rfl (fun K C E => ?_)
  have h4 := hW.r (k := 4) (by omega) (by omega)
  refine r_aload_0 C dX5_parts_0 ?_
  refine r_cV0i C (c_X5_isGrid hG (by unfold inR; omega)) (q0 := 0) rfl rfl q1638 pkX5_isGrid dX5_parts_1 (fun z w h => ?_)
  obtain ⟨rfl, rfl⟩ := h
  refine r_ifneB (tgt := 10) C dX5_parts_4 (by decide) (fun c_4 => ?_) (fun c_4 => ?_)
  · skip
    have hd := hW.gd4 c_4
    have hn := hd.n
    have hwR : ∀ k, 0 ≤ k → k < 12 → inR (m_world (28 + k)) := fun k h1 h2 => by have := hd.wd k h1 h2; unfold wWd at this; unfold inR; omega
    refine r_aload_0 C dX5_parts_10 ?_
    refine r_cV0i C (c_X5_straps hG hd.l hd.g) (q0 := 0) rfl rfl q1634 pkX5_straps dX5_parts_11 (fun z w h => ?_)
    obtain ⟨rfl, e, he, rfl⟩ := h
    refine r_pop C dX5_parts_14 ?_
    skip
    have key : ∀ (mm : Nat), ∀ (v : Int) (s : Int × Int), (0 ≤ v) → (v ≤ wN m_world) → (0 ≤ s.2 ∧ s.2 < 512) → (s = foI (fun v (s : Int × Int) => if bsB s.2 v = true then s else (s.1 + 1, bsO s.2 (rch (m_world 0) (m_world 1) (wWd m_world) (bsP v)))) (0, 0) v) → (wN m_world - v).toNat = mm → AW g K (wM g ρ m_thrown m_world m_fresh m_waysBack m_acts m_images m_hasImage (e) (sN (m_world 0) (m_world 1)) m_tape m_taped m_five m_size m_at m_from m_token m_value m_faultKind m_faultPlace m_budgetsTold m_loadsTold m_deadSet m_unknownOf m_nodeOf m_unknowns m_cells m_whole m_ordered m_drawnBy m_left m_aside m_bestDead m_bestAbove m_bestBelow m_widened m_widenedMany m_fewOf m_drawing ++ ex) 0 0 21 [some (.ref (ρ 0)), some (.int (jI s.1)), some (.int (jI s.2)), some (.int (jI v))] [] := by
      intro mm
      induction mm using Nat.strongRecOn with
      | _ mm ih =>
      intro v s hv0 hv hs es hm
      refine r_iload_3 C dX5_parts_21 ?_
      refine r_aload_0 C dX5_parts_22 ?_
      refine r_cV0i C (c_X5_nodes hG) (q0 := 0) rfl rfl q1654 pkX5_nodes dX5_parts_23 (fun z w h => ?_)
      obtain ⟨rfl, rfl⟩ := h
      refine r_topi (wN m_world) rfl ?_
      refine r_if_icmpge (tgt := 59) C dX5_parts_26 (by decide) (fun c_26 => ?_) (fun c_26 => ?_)
      · skip
        refine r_iload_1 C dX5_parts_59 ?_
        refine r_ireturn C E dX5_parts_60 ?_
        have e : v = wN m_world := by omega
        subst e
        exact ⟨_, rfl, by unfold spParts wPa; rw [if_pos c_4, es], PubM.mk⟩
      · skip
        have hP := bsP_9 hv0 (show v < 9 by omega)
        have hr := rch_in (wd := wWd m_world) hd.g (Int.le_of_lt (bsP_0 (k := v))) hP
        have hP0 := bsP_0 (k := v)
        refine r_iload_2 C dX5_parts_29 ?_
        refine r_iload_3 C dX5_parts_30 ?_
        refine r_cS2i C (c_X5_isOf hG (by omega) (by omega)) q1606 pkX5_isOf dX5_parts_31 (fun z w h => ?_)
        obtain ⟨rfl, rfl⟩ := h
        refine r_ifeqB (tgt := 40) C dX5_parts_34 (by decide) (fun c_34 => ?_) (fun c_34 => ?_)
        · skip
          refine r_iload_2 C dX5_parts_40 ?_
          refine r_aload_0 C dX5_parts_41 ?_
          refine r_iconst C dX5_parts_42 ?_
          refine r_iload_3 C dX5_parts_43 ?_
          refine r_ishl C (_) dX5_parts_44 (jI_shl (by omega) (by omega)) ?_
          refine r_cV1i C (c_X5_comesTo hG hd.g he rfl hwR (Int.le_of_lt bsP_0) hP) (q0 := 0) rfl rfl q1661 pkX5_comesTo dX5_parts_45 (fun z w h => ?_)
          obtain ⟨rfl, rfl⟩ := h
          refine r_ior C (bsO s.2 (rch (m_world 0) (m_world 1) (wWd m_world) (bsP v))) dX5_parts_48 (jI_or hs.1 (show 0 ≤ rch (m_world 0) (m_world 1) (wWd m_world) (bsP v) by omega)) ?_
          refine r_istore_2 C dX5_parts_49 ?_
          refine r_iinc_1 C dX5_parts_50 ?_
          refine r_iinc_3 C dX5_parts_53 ?_
          refine r_goto (tgt := 21) C dX5_parts_56 (by decide) ?_
          first
            | (refine ih _ (show (wN m_world - (v + 1)).toNat < mm by omega) (v + 1) s (by omega) (by omega) hs ?_ rfl
               rw [foI_s _ _ hv0, ← es, if_pos c_34])
            | (refine ih _ (show (wN m_world - (v + 1)).toNat < mm by omega) (v + 1) (s.1 + 1, bsO s.2 (rch (m_world 0) (m_world 1) (wWd m_world) (bsP v))) (by omega) (by omega) ⟨bsO_0, bsO_512 hs.2 (by omega)⟩ ?_ rfl
               rw [foI_s _ _ hv0, ← es, if_neg c_34])
        · skip
          refine r_goto (tgt := 53) C dX5_parts_37 (by decide) ?_
          refine r_iinc_3 C dX5_parts_53 ?_
          refine r_goto (tgt := 21) C dX5_parts_56 (by decide) ?_
          first
            | (refine ih _ (show (wN m_world - (v + 1)).toNat < mm by omega) (v + 1) s (by omega) (by omega) hs ?_ rfl
               rw [foI_s _ _ hv0, ← es, if_pos c_34])
            | (refine ih _ (show (wN m_world - (v + 1)).toNat < mm by omega) (v + 1) (s.1 + 1, bsO s.2 (rch (m_world 0) (m_world 1) (wWd m_world) (bsP v))) (by omega) (by omega) ⟨bsO_0, bsO_512 hs.2 (by omega)⟩ ?_ rfl
               rw [foI_s _ _ hv0, ← es, if_neg c_34])
    refine r_iconst C dX5_parts_15 ?_
    refine r_istore_1 C dX5_parts_16 ?_
    refine r_iconst C dX5_parts_17 ?_
    refine r_istore_2 C dX5_parts_18 ?_
    refine r_iconst C dX5_parts_19 ?_
    refine r_istore_3 C dX5_parts_20 ?_
    exact key _ 0 (0, 0) (by omega) (by omega) (by simp) rfl rfl
  · skip
    refine r_bipush C dX5_parts_7 ?_
    refine r_ireturn C E dX5_parts_9 ?_
    exact ⟨_, rfl, by simp [spParts, *], PubM.mk⟩
end M10

