section M8
variable {g : GX} {ρ : Nat → Nat} {ex : va_W}
variable {m_thrown : Int} {m_world : Int → Int} {m_fresh : Int → Int} {m_waysBack : Int → Int} {m_acts : Int} {m_images : Int → Int} {m_hasImage : Int → Int} {m_endOf : Int → Int} {m_strapMany : Int} {m_tape : Int → Int} {m_taped : Int} {m_five : Int → Int} {m_size : Int} {m_at : Int} {m_from : Int} {m_token : Int} {m_value : Int} {m_faultKind : Int} {m_faultPlace : Int} {m_budgetsTold : Int} {m_loadsTold : Int} {m_deadSet : Int} {m_unknownOf : Int → Int} {m_nodeOf : Int → Int} {m_unknowns : Int} {m_cells : Int → Int} {m_whole : Int} {m_ordered : Int → Int} {m_drawnBy : Int → Int} {m_left : Int → Int} {m_aside : Int → Int} {m_bestDead : Int} {m_bestAbove : Int} {m_bestBelow : Int} {m_widened : Int → Int} {m_widenedMany : Int} {m_fewOf : Int → Int} {m_drawing : Int}
theorem c_X5_lays (hG : Gok g) (hd : Gd m_world) : XMet g yX5_lays cX5_lays 1 none 4 0 0 [.ref (ρ 0)] (wM g ρ m_thrown m_world m_fresh m_waysBack m_acts m_images m_hasImage m_endOf m_strapMany m_tape m_taped m_five m_size m_at m_from m_token m_value m_faultKind m_faultPlace m_budgetsTold m_loadsTold m_deadSet m_unknownOf m_nodeOf m_unknowns m_cells m_whole m_ordered m_drawnBy m_left m_aside m_bestDead m_bestAbove m_bestBelow m_widened m_widenedMany m_fewOf m_drawing ++ ex) (pV (fun w => ∃ e un no ce, Ends (m_world 0) (m_world 1) e ∧ SolW m_world un no ce ∧ w = (wM g ρ m_thrown m_world m_fresh m_waysBack m_acts m_images m_hasImage (e) (wS m_world) m_tape m_taped m_five m_size m_at m_from m_token m_value m_faultKind m_faultPlace m_budgetsTold m_loadsTold (wDead m_world) (un) (no) (wm m_world) (ce) (wWh m_world) m_ordered m_drawnBy m_left m_aside m_bestDead m_bestAbove m_bestBelow m_widened m_widenedMany m_fewOf m_drawing ++ ex))) := by
  refine XMet.of (L := [some (.ref (ρ 0))]) hG (by decide +kernel) (Nat.le_of_ble_eq_true rfl) rfl (fun K C E => ?_)
  refine r_aload_0 C dX5_lays_0 ?_
  refine r_aload_0 C dX5_lays_1 ?_
  refine gM_world C q1386 dX5_lays_2 ?_
  refine r_iconst C dX5_lays_5 ?_
  refine ldM_world C dX5_lays_6 ?_
  refine r_cV1v C (c_X5_solves hG hd.l hd.g hd.wd hd.pads) (q0 := 0) rfl rfl q1650 pkX5_solves dX5_lays_7 (fun w h => ?_)
  obtain ⟨e, un, no, ce, he, hS, rfl⟩ := h
  refine r_return C E dX5_lays_10 ?_
  exact ⟨rfl, e, un, no, ce, he, hS, rfl⟩
theorem c_X5_isDeadG (hG : Gok g) {v n R : Int} (hn : 0 ≤ n ∧ n ≤ 9) (hD : m_deadSet = bsD (bsP n - 1) R) (hv : 0 ≤ v ∧ v < n) : XMet g yX5_isDead cX5_isDead 2 (some .boolean) 1 0 0 [.ref (ρ 0), .int (jI v)] (wM g ρ m_thrown m_world m_fresh m_waysBack m_acts m_images m_hasImage m_endOf m_strapMany m_tape m_taped m_five m_size m_at m_from m_token m_value m_faultKind m_faultPlace m_budgetsTold m_loadsTold m_deadSet m_unknownOf m_nodeOf m_unknowns m_cells m_whole m_ordered m_drawnBy m_left m_aside m_bestDead m_bestAbove m_bestBelow m_widened m_widenedMany m_fewOf m_drawing ++ ex) (pI (fun z w => z = (if bsB R v = false then 1 else 0) ∧ w = (wM g ρ m_thrown m_world m_fresh m_waysBack m_acts m_images m_hasImage m_endOf m_strapMany m_tape m_taped m_five m_size m_at m_from m_token m_value m_faultKind m_faultPlace m_budgetsTold m_loadsTold m_deadSet m_unknownOf m_nodeOf m_unknowns m_cells m_whole m_ordered m_drawnBy m_left m_aside m_bestDead m_bestAbove m_bestBelow m_widened m_widenedMany m_fewOf m_drawing ++ ex))) := by
  refine XMet.of (L := [some (.ref (ρ 0)), some (.int (jI v))]) hG (by decide +kernel) (Nat.le_of_ble_eq_true rfl) rfl (fun K C E => ?_)
  have h1 : 0 ≤ m_deadSet ∧ m_deadSet < 512 := by
    rw [hD]
    refine ⟨bsD_0, ?_⟩
    have h9 : bsP n ≤ 512 := by
      unfold bsP
      have : 2 ^ n.toNat ≤ 2 ^ 9 := Nat.pow_le_pow_right (by decide) (by omega)
      omega
    have := bsD_lt (a := bsP n - 1) (b := R) (n := 9) (by have : ((2 ^ 9 : Nat) : Int) = 512 := rfl; omega)
    simpa using this
  refine r_aload_0 C dX5_isDead_0 ?_
  refine gM_deadSet C q1406 dX5_isDead_1 ?_
  refine r_iload_1 C dX5_isDead_4 ?_
  refine r_cS2i C (c_X5_isOf hG (by omega) (by omega)) q1606 pkX5_isOf dX5_isDead_5 (fun z w h => ?_)
  obtain ⟨rfl, rfl⟩ := h
  refine r_zreturn C E dX5_isDead_8 (by split <;> omega) ?_
  refine ⟨_, rfl, ?_, rfl⟩
  rw [hD, bsB_D, bsB_full hn.1 hv.1]
  simp [hv.2]
theorem c_X5_isDead (hG : Gok g) {v : Int} (hd : Gd m_world) (hD : m_deadSet = wDead m_world) (hv : 0 ≤ v ∧ v < wN m_world) : XMet g yX5_isDead cX5_isDead 2 (some .boolean) 1 0 0 [.ref (ρ 0), .int (jI v)] (wM g ρ m_thrown m_world m_fresh m_waysBack m_acts m_images m_hasImage m_endOf m_strapMany m_tape m_taped m_five m_size m_at m_from m_token m_value m_faultKind m_faultPlace m_budgetsTold m_loadsTold m_deadSet m_unknownOf m_nodeOf m_unknowns m_cells m_whole m_ordered m_drawnBy m_left m_aside m_bestDead m_bestAbove m_bestBelow m_widened m_widenedMany m_fewOf m_drawing ++ ex) (pI (fun z w => z = (if bsB (wR m_world) v = false then 1 else 0) ∧ w = (wM g ρ m_thrown m_world m_fresh m_waysBack m_acts m_images m_hasImage m_endOf m_strapMany m_tape m_taped m_five m_size m_at m_from m_token m_value m_faultKind m_faultPlace m_budgetsTold m_loadsTold m_deadSet m_unknownOf m_nodeOf m_unknowns m_cells m_whole m_ordered m_drawnBy m_left m_aside m_bestDead m_bestAbove m_bestBelow m_widened m_widenedMany m_fewOf m_drawing ++ ex))) := c_X5_isDeadG hG ⟨by have := hd.n; omega, hd.n.2⟩ hD hv
theorem c_X5_movesOfG (hG : Gok g) {v u c r F : Int} {wd : Int → Int} (hg : GW c r) (hS : SolM c r wd F m_unknownOf m_nodeOf m_cells) (hv : 0 ≤ v ∧ v < c * r) (hu : 0 ≤ u ∧ u < c * r) : XMet g yX5_movesOf cX5_movesOf 5 (some .long) 0 0 0 [.ref (ρ 0), .int (jI v), .int (jI u)] (wM g ρ m_thrown m_world m_fresh m_waysBack m_acts m_images m_hasImage m_endOf m_strapMany m_tape m_taped m_five m_size m_at m_from m_token m_value m_faultKind m_faultPlace m_budgetsTold m_loadsTold m_deadSet m_unknownOf m_nodeOf m_unknowns m_cells m_whole m_ordered m_drawnBy m_left m_aside m_bestDead m_bestAbove m_bestBelow m_widened m_widenedMany m_fewOf m_drawing ++ ex) (pL (fun z w => z = mv c r wd F v u ∧ w = (wM g ρ m_thrown m_world m_fresh m_waysBack m_acts m_images m_hasImage m_endOf m_strapMany m_tape m_taped m_five m_size m_at m_from m_token m_value m_faultKind m_faultPlace m_budgetsTold m_loadsTold m_deadSet m_unknownOf m_nodeOf m_unknowns m_cells m_whole m_ordered m_drawnBy m_left m_aside m_bestDead m_bestAbove m_bestBelow m_widened m_widenedMany m_fewOf m_drawing ++ ex))) := by
  refine XMet.of (L := [some (.ref (ρ 0)), some (.int (jI v)), some (.int (jI u)), none, none]) hG (by decide +kernel) (Nat.le_of_ble_eq_true rfl) rfl (fun K C E => ?_)
  have hn := hg.2.2
  have hm := gm_in (wd := wd) (F := F) hg
  have e1 := hS.1 v hv.1 hv.2
  have e2 := hS.1 u hu.1 hu.2
  have i1 := gx_in (c := c) (r := r) (wd := wd) (F := F) hv.1 hv.2
  have i2 := gx_in (c := c) (r := r) (wd := wd) (F := F) hu.1 hu.2
  rw [← e1] at i1
  rw [← e2] at i2
  refine r_aload_0 C dX5_movesOf_0 ?_
  refine gM_unknownOf C q1407 dX5_movesOf_1 ?_
  refine r_iload_1 C dX5_movesOf_4 ?_
  refine ldM_unknownOf C dX5_movesOf_5 ?_
  refine r_istore_3 C dX5_movesOf_6 ?_
  refine r_aload_0 C dX5_movesOf_7 ?_
  refine gM_unknownOf C q1407 dX5_movesOf_8 ?_
  refine r_iload_2 C dX5_movesOf_11 ?_
  refine ldM_unknownOf C dX5_movesOf_12 ?_
  refine r_istore_4 C dX5_movesOf_13 ?_
  refine r_iload_3 C dX5_movesOf_15 ?_
  refine r_iconst C dX5_movesOf_16 ?_
  refine r_if_icmpeq (tgt := 26) C dX5_movesOf_17 (by decide) (fun c_17 => ?_) (fun c_17 => ?_)
  · skip
    refine r_lconst0 C dX5_movesOf_26 ?_
    refine r_goto (tgt := 45) C dX5_movesOf_27 (by decide) ?_
    refine r_lreturn C E dX5_movesOf_45 ?_
    refine ⟨_, rfl, ?_, rfl⟩
    first
      | exact hc.symm
      | (unfold mv
         rw [← e1, ← e2, if_pos (by omega)])
  · skip
    refine r_iload_4 C dX5_movesOf_20 ?_
    refine r_iconst C dX5_movesOf_22 ?_
    refine r_if_icmpne (tgt := 30) C dX5_movesOf_23 (by decide) (fun c_23 => ?_) (fun c_23 => ?_)
    · skip
      refine r_aload_0 C dX5_movesOf_30 ?_
      refine gM_cells C q1410 dX5_movesOf_31 ?_
      refine r_bipush C dX5_movesOf_34 ?_
      refine r_iload_3 C dX5_movesOf_36 ?_
      refine r_imul C dX5_movesOf_37 ?_
      refine r_bipush C dX5_movesOf_38 ?_
      refine r_iadd C dX5_movesOf_40 ?_
      refine r_iload_4 C dX5_movesOf_41 ?_
      refine r_iadd C dX5_movesOf_43 ?_
      have hc : mv c r wd F v u = m_cells (18 * m_unknownOf v + 9 + m_unknownOf u) := by
        unfold mv
        rw [← e1, ← e2, if_neg (by omega)]
        have := hS.2.2 (m_unknownOf v) (9 + m_unknownOf u) (by omega) (by omega) (by omega) (by omega)
        rw [show 18 * m_unknownOf v + (9 + m_unknownOf u) = 18 * m_unknownOf v + 9 + m_unknownOf u by omega] at this
        exact this.symm
      refine ldM_cells C dX5_movesOf_44 ?_
      refine r_lreturn C E dX5_movesOf_45 ?_
      refine ⟨_, rfl, ?_, rfl⟩
      first
        | exact hc.symm
        | (unfold mv
           rw [← e1, ← e2, if_pos (by omega)])
    · skip
      refine r_lconst0 C dX5_movesOf_26 ?_
      refine r_goto (tgt := 45) C dX5_movesOf_27 (by decide) ?_
      refine r_lreturn C E dX5_movesOf_45 ?_
      refine ⟨_, rfl, ?_, rfl⟩
      first
        | exact hc.symm
        | (unfold mv
           rw [← e1, ← e2, if_pos (by omega)])
theorem c_X5_movesOf (hG : Gok g) {v u : Int} (hd : Gd m_world) (hS : SolW m_world m_unknownOf m_nodeOf m_cells) (hv : 0 ≤ v ∧ v < wN m_world) (hu : 0 ≤ u ∧ u < wN m_world) : XMet g yX5_movesOf cX5_movesOf 5 (some .long) 0 0 0 [.ref (ρ 0), .int (jI v), .int (jI u)] (wM g ρ m_thrown m_world m_fresh m_waysBack m_acts m_images m_hasImage m_endOf m_strapMany m_tape m_taped m_five m_size m_at m_from m_token m_value m_faultKind m_faultPlace m_budgetsTold m_loadsTold m_deadSet m_unknownOf m_nodeOf m_unknowns m_cells m_whole m_ordered m_drawnBy m_left m_aside m_bestDead m_bestAbove m_bestBelow m_widened m_widenedMany m_fewOf m_drawing ++ ex) (pL (fun z w => z = wMv m_world v u ∧ w = (wM g ρ m_thrown m_world m_fresh m_waysBack m_acts m_images m_hasImage m_endOf m_strapMany m_tape m_taped m_five m_size m_at m_from m_token m_value m_faultKind m_faultPlace m_budgetsTold m_loadsTold m_deadSet m_unknownOf m_nodeOf m_unknowns m_cells m_whole m_ordered m_drawnBy m_left m_aside m_bestDead m_bestAbove m_bestBelow m_widened m_widenedMany m_fewOf m_drawing ++ ex))) := c_X5_movesOfG hG hd.g hS hv hu
theorem c_X5_dropOf (hG : Gok g) {v : Int} (hd : Gd m_world) (hS : SolW m_world m_unknownOf m_nodeOf m_cells) (hm : m_unknowns = wm m_world) (hv : 0 ≤ v ∧ v < wN m_world) : XMet g yX5_dropOf cX5_dropOf 5 (some .long) 1 0 0 [.ref (ρ 0), .int (jI v)] (wM g ρ m_thrown m_world m_fresh m_waysBack m_acts m_images m_hasImage m_endOf m_strapMany m_tape m_taped m_five m_size m_at m_from m_token m_value m_faultKind m_faultPlace m_budgetsTold m_loadsTold m_deadSet m_unknownOf m_nodeOf m_unknowns m_cells m_whole m_ordered m_drawnBy m_left m_aside m_bestDead m_bestAbove m_bestBelow m_widened m_widenedMany m_fewOf m_drawing ++ ex) (pL (fun z w => z = wDr m_world v ∧ w = (wM g ρ m_thrown m_world m_fresh m_waysBack m_acts m_images m_hasImage m_endOf m_strapMany m_tape m_taped m_five m_size m_at m_from m_token m_value m_faultKind m_faultPlace m_budgetsTold m_loadsTold m_deadSet m_unknownOf m_nodeOf m_unknowns m_cells m_whole m_ordered m_drawnBy m_left m_aside m_bestDead m_bestAbove m_bestBelow m_widened m_widenedMany m_fewOf m_drawing ++ ex))) := by
  refine XMet.of (L := [some (.ref (ρ 0)), some (.int (jI v)), none, none, none]) hG (by decide +kernel) (Nat.le_of_ble_eq_true rfl) rfl (fun K C E => ?_)
  have hn := hd.n
  have hm9 := hd.m
  subst hm
  have key : ∀ (mm : Nat), ∀ (u s : Int), (0 ≤ u) → (u ≤ wm m_world) → (s = foI (fun u s => s + wMv m_world v (m_nodeOf u) * m_world (6 + m_nodeOf u)) 0 u) → (wm m_world - u).toNat = mm → AW g K (wM g ρ m_thrown m_world m_fresh m_waysBack m_acts m_images m_hasImage m_endOf m_strapMany m_tape m_taped m_five m_size m_at m_from m_token m_value m_faultKind m_faultPlace m_budgetsTold m_loadsTold m_deadSet m_unknownOf m_nodeOf (wm m_world) m_cells m_whole m_ordered m_drawnBy m_left m_aside m_bestDead m_bestAbove m_bestBelow m_widened m_widenedMany m_fewOf m_drawing ++ ex) 0 0 5 [some (.ref (ρ 0)), some (.int (jI v)), some (.long (jL s)), none, some (.int (jI u))] [] := by
    intro mm
    induction mm using Nat.strongRecOn with
    | _ mm ih =>
    intro u s hu0 hu es hm
    refine r_iload_4 C dX5_dropOf_5 ?_
    refine r_aload_0 C dX5_dropOf_7 ?_
    refine gM_unknowns C q1409 dX5_dropOf_8 ?_
    refine r_if_icmpge (tgt := 52) C dX5_dropOf_11 (by decide) (fun c_11 => ?_) (fun c_11 => ?_)
    · skip
      refine r_lload_2 C dX5_dropOf_52 ?_
      refine r_lreturn C E dX5_dropOf_53 ?_
      have e : u = wm m_world := by omega
      subst e
      exact ⟨_, rfl, by rw [es, drop_un hd hS], rfl⟩
    · skip
      have hno := hS.2.1 u hu0 c_11
      have hno9 : m_nodeOf u < 9 := by have := hno.2.1; unfold wN at hn; omega
      have hno0 := hno.1
      have hld := hd.ld (m_nodeOf u) hno.1 hno9
      refine r_lload_2 C dX5_dropOf_14 ?_
      refine r_aload_0 C dX5_dropOf_15 ?_
      refine r_iload_1 C dX5_dropOf_16 ?_
      refine r_aload_0 C dX5_dropOf_17 ?_
      refine gM_nodeOf C q1408 dX5_dropOf_18 ?_
      refine r_iload_4 C dX5_dropOf_21 ?_
      refine ldM_nodeOf C dX5_dropOf_23 ?_
      refine r_cV2l C (c_X5_movesOf hG hd hS hv ⟨hno.1, hno.2.1⟩) (q0 := 0) rfl rfl q1715 pkX5_movesOf dX5_dropOf_24 (fun z w h => ?_)
      obtain ⟨rfl, rfl⟩ := h
      refine r_aload_0 C dX5_dropOf_27 ?_
      refine gM_world C q1386 dX5_dropOf_28 ?_
      refine r_bipush C dX5_dropOf_31 ?_
      refine r_aload_0 C dX5_dropOf_33 ?_
      refine gM_nodeOf C q1408 dX5_dropOf_34 ?_
      refine r_iload_4 C dX5_dropOf_37 ?_
      refine ldM_nodeOf C dX5_dropOf_39 ?_
      refine r_iadd C dX5_dropOf_40 ?_
      refine ldM_world C dX5_dropOf_41 ?_
      refine r_i2l C dX5_dropOf_42 ?_
      refine r_lmul C dX5_dropOf_43 ?_
      refine r_ladd C dX5_dropOf_44 ?_
      refine r_lstore_2 C dX5_dropOf_45 ?_
      refine r_iinc_4 C dX5_dropOf_46 ?_
      refine r_goto (tgt := 5) C dX5_dropOf_49 (by decide) ?_
      exact ih _ (show (wm m_world - (u + 1)).toNat < mm by omega) (u + 1) _ (by omega) (by omega) (by rw [foI_s _ _ hu0, ← es]) rfl
  refine r_lconst0 C dX5_dropOf_0 ?_
  refine r_lstore_2 C dX5_dropOf_1 ?_
  refine r_iconst C dX5_dropOf_2 ?_
  refine r_istore_4 C dX5_dropOf_3 ?_
  exact key _ 0 0 (by omega) (by omega) rfl rfl
theorem c_X5_mostDrop (hG : Gok g) (hd : Gd m_world) (hS : SolW m_world m_unknownOf m_nodeOf m_cells) (hm : m_unknowns = wm m_world) : XMet g yX5_mostDrop cX5_mostDrop 4 (some .long) 2 0 0 [.ref (ρ 0)] (wM g ρ m_thrown m_world m_fresh m_waysBack m_acts m_images m_hasImage m_endOf m_strapMany m_tape m_taped m_five m_size m_at m_from m_token m_value m_faultKind m_faultPlace m_budgetsTold m_loadsTold m_deadSet m_unknownOf m_nodeOf m_unknowns m_cells m_whole m_ordered m_drawnBy m_left m_aside m_bestDead m_bestAbove m_bestBelow m_widened m_widenedMany m_fewOf m_drawing ++ ex) (pL (fun z w => z = wMx m_world ∧ w = (wM g ρ m_thrown m_world m_fresh m_waysBack m_acts m_images m_hasImage m_endOf m_strapMany m_tape m_taped m_five m_size m_at m_from m_token m_value m_faultKind m_faultPlace m_budgetsTold m_loadsTold m_deadSet m_unknownOf m_nodeOf m_unknowns m_cells m_whole m_ordered m_drawnBy m_left m_aside m_bestDead m_bestAbove m_bestBelow m_widened m_widenedMany m_fewOf m_drawing ++ ex))) := by
  refine XMet.of (L := [some (.ref (ρ 0)), none, none, none]) hG (by decide +kernel) (Nat.le_of_ble_eq_true rfl) rfl (fun K C E => ?_)
  have hn := hd.n
  subst hm
  have key : ∀ (mm : Nat), ∀ (v s : Int), (0 ≤ v) → (v ≤ wN m_world) → (s = foI (fun v m => if m ≤ wDr m_world v then wDr m_world v else m) 0 v) → (0 ≤ s ∧ s ≤ 7653631721472) → (wN m_world - v).toNat = mm → AW g K (wM g ρ m_thrown m_world m_fresh m_waysBack m_acts m_images m_hasImage m_endOf m_strapMany m_tape m_taped m_five m_size m_at m_from m_token m_value m_faultKind m_faultPlace m_budgetsTold m_loadsTold m_deadSet m_unknownOf m_nodeOf (wm m_world) m_cells m_whole m_ordered m_drawnBy m_left m_aside m_bestDead m_bestAbove m_bestBelow m_widened m_widenedMany m_fewOf m_drawing ++ ex) 0 0 4 [some (.ref (ρ 0)), some (.long (jL s)), none, some (.int (jI v))] [] := by
    intro mm
    induction mm using Nat.strongRecOn with
    | _ mm ih =>
    intro v s hv0 hv es hs hm
    refine r_iload_3 C dX5_mostDrop_4 ?_
    refine r_aload_0 C dX5_mostDrop_5 ?_
    refine r_cV0i C (c_X5_nodes hG) (q0 := 0) rfl rfl q1654 pkX5_nodes dX5_mostDrop_6 (fun z w h => ?_)
    obtain ⟨rfl, rfl⟩ := h
    refine r_topi (wN m_world) rfl ?_
    refine r_if_icmpge (tgt := 28) C dX5_mostDrop_9 (by decide) (fun c_9 => ?_) (fun c_9 => ?_)
    · skip
      refine r_lload_1 C dX5_mostDrop_28 ?_
      refine r_lreturn C E dX5_mostDrop_29 ?_
      have e : v = wN m_world := by omega
      subst e
      exact ⟨_, rfl, es, rfl⟩
    · skip
      have hdr := hd.dr hv0 c_9
      refine r_lload_1 C dX5_mostDrop_12 ?_
      refine r_aload_0 C dX5_mostDrop_13 ?_
      refine r_iload_3 C dX5_mostDrop_14 ?_
      refine r_cV1l C (c_X5_dropOf hG hd hS rfl ⟨hv0, c_9⟩) (q0 := 0) rfl rfl q1711 pkX5_dropOf dX5_mostDrop_15 (fun z w h => ?_)
      obtain ⟨rfl, rfl⟩ := h
      refine r_mmaxL C q1759 dX5_mostDrop_18 ?_
      refine r_lstore_1 C dX5_mostDrop_21 ?_
      refine r_iinc_3 C dX5_mostDrop_22 ?_
      refine r_goto (tgt := 4) C dX5_mostDrop_25 (by decide) ?_
      exact ih _ (show (wN m_world - (v + 1)).toNat < mm by omega) (v + 1) _ (by omega) (by omega) (by rw [foI_s _ _ hv0, ← es]) (by split <;> omega) rfl
  refine r_lconst0 C dX5_mostDrop_0 ?_
  refine r_lstore_1 C dX5_mostDrop_1 ?_
  refine r_iconst C dX5_mostDrop_2 ?_
  refine r_istore_3 C dX5_mostDrop_3 ?_
  exact key _ 0 0 (by omega) (by omega) rfl (by omega) rfl
theorem c_X5_deadLoads (hG : Gok g) (hd : Gd m_world) (hD : m_deadSet = wDead m_world) : XMet g yX5_deadLoads cX5_deadLoads 3 (some .int) 2 0 0 [.ref (ρ 0)] (wM g ρ m_thrown m_world m_fresh m_waysBack m_acts m_images m_hasImage m_endOf m_strapMany m_tape m_taped m_five m_size m_at m_from m_token m_value m_faultKind m_faultPlace m_budgetsTold m_loadsTold m_deadSet m_unknownOf m_nodeOf m_unknowns m_cells m_whole m_ordered m_drawnBy m_left m_aside m_bestDead m_bestAbove m_bestBelow m_widened m_widenedMany m_fewOf m_drawing ++ ex) (pI (fun z w => z = wDl m_world ∧ w = (wM g ρ m_thrown m_world m_fresh m_waysBack m_acts m_images m_hasImage m_endOf m_strapMany m_tape m_taped m_five m_size m_at m_from m_token m_value m_faultKind m_faultPlace m_budgetsTold m_loadsTold m_deadSet m_unknownOf m_nodeOf m_unknowns m_cells m_whole m_ordered m_drawnBy m_left m_aside m_bestDead m_bestAbove m_bestBelow m_widened m_widenedMany m_fewOf m_drawing ++ ex))) := by
  refine XMet.of (L := [some (.ref (ρ 0)), none, none]) hG (by decide +kernel) (Nat.le_of_ble_eq_true rfl) rfl (fun K C E => ?_)
  have hn := hd.n
  have key : ∀ (mm : Nat), ∀ (v s : Int), (0 ≤ v) → (v ≤ wN m_world) → (s = foI (fun v s => s + if bsB (wR m_world) v = false ∧ 0 < m_world (6 + v) then 1 else 0) 0 v) → (wN m_world - v).toNat = mm → AW g K (wM g ρ m_thrown m_world m_fresh m_waysBack m_acts m_images m_hasImage m_endOf m_strapMany m_tape m_taped m_five m_size m_at m_from m_token m_value m_faultKind m_faultPlace m_budgetsTold m_loadsTold m_deadSet m_unknownOf m_nodeOf m_unknowns m_cells m_whole m_ordered m_drawnBy m_left m_aside m_bestDead m_bestAbove m_bestBelow m_widened m_widenedMany m_fewOf m_drawing ++ ex) 0 0 4 [some (.ref (ρ 0)), some (.int (jI s)), some (.int (jI v))] [] := by
    intro mm
    induction mm using Nat.strongRecOn with
    | _ mm ih =>
    intro v s hv0 hv es hm
    refine r_iload_2 C dX5_deadLoads_4 ?_
    refine r_aload_0 C dX5_deadLoads_5 ?_
    refine r_cV0i C (c_X5_nodes hG) (q0 := 0) rfl rfl q1654 pkX5_nodes dX5_deadLoads_6 (fun z w h => ?_)
    obtain ⟨rfl, rfl⟩ := h
    refine r_topi (wN m_world) rfl ?_
    refine r_if_icmpge (tgt := 46) C dX5_deadLoads_9 (by decide) (fun c_9 => ?_) (fun c_9 => ?_)
    · skip
      refine r_iload_1 C dX5_deadLoads_46 ?_
      refine r_ireturn C E dX5_deadLoads_47 ?_
      have e : v = wN m_world := by omega
      subst e
      exact ⟨_, rfl, es, rfl⟩
    · skip
      have hld := hd.ld v hv0 (by omega)
      refine r_iload_1 C dX5_deadLoads_12 ?_
      refine r_aload_0 C dX5_deadLoads_13 ?_
      refine r_iload_2 C dX5_deadLoads_14 ?_
      refine r_cV1i C (c_X5_isDead hG hd hD ⟨hv0, c_9⟩) (q0 := 0) rfl rfl q1694 pkX5_isDead dX5_deadLoads_15 (fun z w h => ?_)
      obtain ⟨rfl, rfl⟩ := h
      refine r_ifeq (tgt := 37) C dX5_deadLoads_18 (by decide) (fun c_18 => ?_) (fun c_18 => ?_) (by unfold inR; split <;> omega)
      · skip
        refine r_iconst C dX5_deadLoads_37 ?_
        refine r_iadd C dX5_deadLoads_38 ?_
        refine r_istore_1 C dX5_deadLoads_39 ?_
        refine r_iinc_2 C dX5_deadLoads_40 ?_
        refine r_goto (tgt := 4) C dX5_deadLoads_43 (by decide) ?_
        refine ih _ (show (wN m_world - (v + 1)).toNat < mm by omega) (v + 1) _ (by omega) (by omega) ?_ rfl
        rw [foI_s _ _ hv0, ← es]
        congr 1
        cases hb : bsB (wR m_world) v <;> simp_all <;> omega
      · skip
        refine r_aload_0 C dX5_deadLoads_21 ?_
        refine gM_world C q1386 dX5_deadLoads_22 ?_
        refine r_bipush C dX5_deadLoads_25 ?_
        refine r_iload_2 C dX5_deadLoads_27 ?_
        refine r_iadd C dX5_deadLoads_28 ?_
        refine ldM_world C dX5_deadLoads_29 ?_
        refine r_ifle (tgt := 37) C dX5_deadLoads_30 (by decide) (fun c_30 => ?_) (fun c_30 => ?_)
        · skip
          refine r_iconst C dX5_deadLoads_37 ?_
          refine r_iadd C dX5_deadLoads_38 ?_
          refine r_istore_1 C dX5_deadLoads_39 ?_
          refine r_iinc_2 C dX5_deadLoads_40 ?_
          refine r_goto (tgt := 4) C dX5_deadLoads_43 (by decide) ?_
          refine ih _ (show (wN m_world - (v + 1)).toNat < mm by omega) (v + 1) _ (by omega) (by omega) ?_ rfl
          rw [foI_s _ _ hv0, ← es]
          congr 1
          cases hb : bsB (wR m_world) v <;> simp_all <;> omega
        · skip
          refine r_iconst C dX5_deadLoads_33 ?_
          refine r_goto (tgt := 38) C dX5_deadLoads_34 (by decide) ?_
          refine r_iadd C dX5_deadLoads_38 ?_
          refine r_istore_1 C dX5_deadLoads_39 ?_
          refine r_iinc_2 C dX5_deadLoads_40 ?_
          refine r_goto (tgt := 4) C dX5_deadLoads_43 (by decide) ?_
          refine ih _ (show (wN m_world - (v + 1)).toNat < mm by omega) (v + 1) _ (by omega) (by omega) ?_ rfl
          rw [foI_s _ _ hv0, ← es]
          congr 1
          cases hb : bsB (wR m_world) v <;> simp_all <;> omega
  refine r_iconst C dX5_deadLoads_0 ?_
  refine r_istore_1 C dX5_deadLoads_1 ?_
  refine r_iconst C dX5_deadLoads_2 ?_
  refine r_istore_2 C dX5_deadLoads_3 ?_
  exact key _ 0 0 (by omega) (by omega) rfl rfl
theorem c_X5_doesHold (hG : Gok g) (hd : Gd m_world) : XMet g yX5_doesHold cX5_doesHold 1 (some .boolean) 5 0 0 [.ref (ρ 0)] (wM g ρ m_thrown m_world m_fresh m_waysBack m_acts m_images m_hasImage m_endOf m_strapMany m_tape m_taped m_five m_size m_at m_from m_token m_value m_faultKind m_faultPlace m_budgetsTold m_loadsTold m_deadSet m_unknownOf m_nodeOf m_unknowns m_cells m_whole m_ordered m_drawnBy m_left m_aside m_bestDead m_bestAbove m_bestBelow m_widened m_widenedMany m_fewOf m_drawing ++ ex) (pI (fun z w => z = (if wHo m_world then 1 else 0) ∧ ∃ e un no ce, Ends (m_world 0) (m_world 1) e ∧ SolW m_world un no ce ∧ w = (wM g ρ m_thrown m_world m_fresh m_waysBack m_acts m_images m_hasImage (e) (wS m_world) m_tape m_taped m_five m_size m_at m_from m_token m_value m_faultKind m_faultPlace m_budgetsTold m_loadsTold (wDead m_world) (un) (no) (wm m_world) (ce) (wWh m_world) m_ordered m_drawnBy m_left m_aside m_bestDead m_bestAbove m_bestBelow m_widened m_widenedMany m_fewOf m_drawing ++ ex))) := by
  refine XMet.of (L := [some (.ref (ρ 0))]) hG (by decide +kernel) (Nat.le_of_ble_eq_true rfl) rfl (fun K C E => ?_)
  have h1 := hd.dl
  have h2 := hd.mx
  have h3 := hd.lim
  have h4 := hd.who
  have h5 : 0 ≤ m_world 2 * wWh m_world := Int.mul_nonneg h3.1 (by omega)
  have h6 : m_world 2 * wWh m_world ≤ 999 * 8589934592 := Int.mul_le_mul h3.2 h4.2 (by omega) (by omega)
  refine r_aload_0 C dX5_doesHold_0 ?_
  refine r_cV0v C (c_X5_lays hG hd) (q0 := 0) rfl rfl q1646 pkX5_lays dX5_doesHold_1 (fun w h => ?_)
  obtain ⟨e, un, no, ce, he, hS, rfl⟩ := h
  refine r_aload_0 C dX5_doesHold_4 ?_
  refine r_cV0i C (c_X5_deadLoads hG hd rfl) (q0 := 0) rfl rfl q1774 pkX5_deadLoads dX5_doesHold_5 (fun z w h => ?_)
  obtain ⟨rfl, rfl⟩ := h
  refine r_ifne (tgt := 35) C dX5_doesHold_8 (by decide) (fun c_8 => ?_) (fun c_8 => ?_)
  · skip
    refine r_iconst C dX5_doesHold_35 ?_
    refine r_zreturn C E dX5_doesHold_36 (by first | exact Or.inl rfl | exact Or.inr rfl | omega) ?_
    exact ⟨_, rfl, by simp [wHo, *] <;> omega, e, un, no, ce, he, hS, rfl⟩
  · skip
    refine r_aload_0 C dX5_doesHold_11 ?_
    refine r_cV0l C (c_X5_mostDrop hG hd hS rfl) (q0 := 0) rfl rfl q1755 pkX5_mostDrop dX5_doesHold_12 (fun z w h => ?_)
    obtain ⟨rfl, rfl⟩ := h
    refine r_aload_0 C dX5_doesHold_15 ?_
    refine gM_world C q1386 dX5_doesHold_16 ?_
    refine r_iconst C dX5_doesHold_19 ?_
    refine ldM_world C dX5_doesHold_20 ?_
    refine r_i2l C dX5_doesHold_21 ?_
    refine r_aload_0 C dX5_doesHold_22 ?_
    refine gM_whole C q1411 dX5_doesHold_23 ?_
    refine r_lmul C dX5_doesHold_26 ?_
    refine r_lcmp_ifgt (tgt := 35) C dX5_doesHold_27 dX5_doesHold_28 (by decide) (fun c_27 => ?_) (fun c_27 => ?_)
    · skip
      refine r_iconst C dX5_doesHold_35 ?_
      refine r_zreturn C E dX5_doesHold_36 (by first | exact Or.inl rfl | exact Or.inr rfl | omega) ?_
      exact ⟨_, rfl, by simp [wHo, *] <;> omega, e, un, no, ce, he, hS, rfl⟩
    · skip
      refine r_iconst C dX5_doesHold_31 ?_
      refine r_goto (tgt := 36) C dX5_doesHold_32 (by decide) ?_
      refine r_zreturn C E dX5_doesHold_36 (by first | exact Or.inl rfl | exact Or.inr rfl | omega) ?_
      exact ⟨_, rfl, by simp [wHo, *] <;> omega, e, un, no, ce, he, hS, rfl⟩
theorem c_X5_asks (hG : Gok g) (hd : Gd m_world) : XMet g yX5_asks cX5_asks 1 (some .boolean) 5 0 0 [.ref (ρ 0)] (wM g ρ m_thrown m_world m_fresh m_waysBack m_acts m_images m_hasImage m_endOf m_strapMany m_tape m_taped m_five m_size m_at m_from m_token m_value m_faultKind m_faultPlace m_budgetsTold m_loadsTold m_deadSet m_unknownOf m_nodeOf m_unknowns m_cells m_whole m_ordered m_drawnBy m_left m_aside m_bestDead m_bestAbove m_bestBelow m_widened m_widenedMany m_fewOf m_drawing ++ ex) (pI (fun z w => z = 1 ∧ ∃ e un no ce, Ends (m_world 0) (m_world 1) e ∧ SolW m_world un no ce ∧ w = (wM g ρ m_thrown m_world m_fresh m_waysBack m_acts m_images m_hasImage (e) (wS m_world) m_tape m_taped m_five m_size m_at m_from m_token m_value m_faultKind m_faultPlace m_budgetsTold m_loadsTold (wDead m_world) (un) (no) (wm m_world) (ce) (wWh m_world) m_ordered m_drawnBy m_left m_aside m_bestDead m_bestAbove m_bestBelow m_widened m_widenedMany m_fewOf m_drawing ++ ex))) := by
  refine XMet.of (L := [some (.ref (ρ 0))]) hG (by decide +kernel) (Nat.le_of_ble_eq_true rfl) rfl (fun K C E => ?_)
  have h1 := hd.l
  refine r_aload_0 C dX5_asks_0 ?_
  refine r_cV0i C (c_X5_isGrid hG (by unfold inR; omega)) (q0 := 0) rfl rfl q1638 pkX5_isGrid dX5_asks_1 (fun z w h => ?_)
  obtain ⟨rfl, rfl⟩ := h
  refine r_ifeq (tgt := 11) C dX5_asks_4 (by decide) (fun c_4 => ?_) (fun c_4 => ?_) (by unfold inR; split <;> omega)
  · skip
    rw [if_pos h1.1] at c_4; omega
  · skip
    skip
    refine r_aload_0 C dX5_asks_7 ?_
    refine r_cV0v C (c_X5_lays hG hd) (q0 := 0) rfl rfl q1646 pkX5_lays dX5_asks_8 (fun w h => ?_)
    obtain ⟨e, un, no, ce, he, hS, rfl⟩ := h
    refine r_aload_0 C dX5_asks_11 ?_
    refine r_cV0i C (c_X5_isGrid hG (by unfold inR; omega)) (q0 := 0) rfl rfl q1638 pkX5_isGrid dX5_asks_12 (fun z w h => ?_)
    obtain ⟨rfl, rfl⟩ := h
    refine r_zreturn C E dX5_asks_15 (by split <;> omega) ?_
    exact ⟨_, rfl, if_pos h1.1, e, un, no, ce, he, hS, rfl⟩
theorem c_X5_asks0 (hG : Gok g) (h4 : m_world 4 = 0) : XMet g yX5_asks cX5_asks 1 (some .boolean) 5 0 0 [.ref (ρ 0)] (wM g ρ m_thrown m_world m_fresh m_waysBack m_acts m_images m_hasImage m_endOf m_strapMany m_tape m_taped m_five m_size m_at m_from m_token m_value m_faultKind m_faultPlace m_budgetsTold m_loadsTold m_deadSet m_unknownOf m_nodeOf m_unknowns m_cells m_whole m_ordered m_drawnBy m_left m_aside m_bestDead m_bestAbove m_bestBelow m_widened m_widenedMany m_fewOf m_drawing ++ ex) (pI (fun z w => z = 0 ∧ w = (wM g ρ m_thrown m_world m_fresh m_waysBack m_acts m_images m_hasImage m_endOf m_strapMany m_tape m_taped m_five m_size m_at m_from m_token m_value m_faultKind m_faultPlace m_budgetsTold m_loadsTold m_deadSet m_unknownOf m_nodeOf m_unknowns m_cells m_whole m_ordered m_drawnBy m_left m_aside m_bestDead m_bestAbove m_bestBelow m_widened m_widenedMany m_fewOf m_drawing ++ ex))) := by
  refine XMet.of (L := [some (.ref (ρ 0))]) hG (by decide +kernel) (Nat.le_of_ble_eq_true rfl) rfl (fun K C E => ?_)
  refine r_aload_0 C dX5_asks_0 ?_
  refine r_cV0i C (c_X5_isGrid hG (by unfold inR; omega)) (q0 := 0) rfl rfl q1638 pkX5_isGrid dX5_asks_1 (fun z w h => ?_)
  obtain ⟨rfl, rfl⟩ := h
  refine r_ifeq (tgt := 11) C dX5_asks_4 (by decide) (fun c_4 => ?_) (fun c_4 => ?_) (by unfold inR; split <;> omega)
  · skip
    refine r_aload_0 C dX5_asks_11 ?_
    refine r_cV0i C (c_X5_isGrid hG (by unfold inR; omega)) (q0 := 0) rfl rfl q1638 pkX5_isGrid dX5_asks_12 (fun z w h => ?_)
    obtain ⟨rfl, rfl⟩ := h
    refine r_zreturn C E dX5_asks_15 (by split <;> omega) ?_
    exact ⟨_, rfl, if_neg (by omega), rfl⟩
  · skip
    rw [if_neg (by omega)] at c_4; omega
end M8

