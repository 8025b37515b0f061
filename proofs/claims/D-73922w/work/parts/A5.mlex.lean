/-! the model's reader: tokens -/
def uB (b : Int) : Int := if b < 0 then b + 256 else b
def seeV (T : Int → Int) (n a : Int) : Int := if a < n then uB (T a) else -1
def TpOk (T : Int → Int) : Prop := ∀ j : Int, 0 ≤ j → j < 700 → -128 ≤ T j ∧ T j ≤ 127
theorem seeV_r {T : Int → Int} {n a : Int} (hT : TpOk T) (hn : n ≤ 700) (ha : 0 ≤ a) : -1 ≤ seeV T n a ∧ seeV T n a ≤ 255 := by
  unfold seeV uB
  split
  · have := hT a ha (by omega)
    split <;> omega
  · omega
theorem seeV_in {T : Int → Int} {n a lo hi : Int} (hT : TpOk T) (hn : n ≤ 700) (ha : 0 ≤ a) (h0 : 0 ≤ lo) (h1 : hi ≤ 127) : (lo ≤ seeV T n a ∧ seeV T n a ≤ hi) ↔ (a < n ∧ lo ≤ T a ∧ T a ≤ hi) := by
  unfold seeV uB
  split
  · have := hT a ha (by omega)
    split <;> omega
  · omega
theorem seeV_eq {T : Int → Int} {n a c : Int} (hT : TpOk T) (hn : n ≤ 700) (ha : 0 ≤ a) (h0 : 0 ≤ c) (h1 : c ≤ 127) : seeV T n a = c ↔ (a < n ∧ T a = c) := by
  have := seeV_in (T := T) (n := n) (a := a) (lo := c) (hi := c) hT hn ha h0 h1
  omega
theorem seeV_end {T : Int → Int} {n a : Int} (hT : TpOk T) (hn : n ≤ 700) (ha : 0 ≤ a) : seeV T n a = -1 ↔ n ≤ a := by
  unfold seeV uB
  split
  · have := hT a ha (by omega)
    split <;> omega
  · omega
theorem qAdv_end {T : Int → Int} {n b : Int} {q : Q6} (e : tB T n q.1 = b) (h : n ≤ b) : qAdv T n q = (b, b, 0, q.2.2.2.1, q.2.2.2.2.1, q.2.2.2.2.2) := by
  unfold qAdv
  rw [e]
  unfold tE tK
  rw [if_pos h, if_pos h, if_neg (by decide)]
theorem qAdv_word {T : Int → Int} {n b : Int} {q : Q6} (e : tB T n q.1 = b) (h : b < n) (hl : lcB (T b) = true) : qAdv T n q = (rn lcB T n b, b, 1, q.2.2.2.1, q.2.2.2.2.1, q.2.2.2.2.2) := by
  unfold qAdv
  rw [e]
  unfold tE tK
  have h1 : ¬ n ≤ b := by omega
  simp [h1, hl]
theorem qAdv_num {T : Int → Int} {n b : Int} {q : Q6} (e : tB T n q.1 = b) (h : b < n) (hl : ¬ lcB (T b) = true) (hd : dgB (T b) = true) : qAdv T n q = (rn dgB T n b, b, 2, vl T n b 0, q.2.2.2.2.1, q.2.2.2.2.2) := by
  unfold qAdv
  rw [e]
  unfold tE tK tV
  have h1 : ¬ n ≤ b := by omega
  simp [h1, hl, hd]
theorem qAdv_oth {T : Int → Int} {n b : Int} {q : Q6} (e : tB T n q.1 = b) (h : b < n) (hl : ¬ lcB (T b) = true) (hd : ¬ dgB (T b) = true) : qAdv T n q = (b + 1, b, (if T b = 59 then 3 else 4), q.2.2.2.1, q.2.2.2.2.1, q.2.2.2.2.2) := by
  unfold qAdv
  rw [e]
  unfold tE tK
  have h1 : ¬ n ≤ b := by omega
  by_cases h59 : T b = 59
  · simp [h1, hl, hd, h59]
    first | done | simp_all
  · simp [h1, hl, hd, h59]
section M20
variable {g : GX} {ρ : Nat → Nat} {ex : va_W}
variable {m_thrown : Int} {m_world : Int → Int} {m_fresh : Int → Int} {m_waysBack : Int → Int} {m_acts : Int} {m_images : Int → Int} {m_hasImage : Int → Int} {m_endOf : Int → Int} {m_strapMany : Int} {m_tape : Int → Int} {m_taped : Int} {m_five : Int → Int} {m_size : Int} {m_at : Int} {m_from : Int} {m_token : Int} {m_value : Int} {m_faultKind : Int} {m_faultPlace : Int} {m_budgetsTold : Int} {m_loadsTold : Int} {m_deadSet : Int} {m_unknownOf : Int → Int} {m_nodeOf : Int → Int} {m_unknowns : Int} {m_cells : Int → Int} {m_whole : Int} {m_ordered : Int → Int} {m_drawnBy : Int → Int} {m_left : Int → Int} {m_aside : Int → Int} {m_bestDead : Int} {m_bestAbove : Int} {m_bestBelow : Int} {m_widened : Int → Int} {m_widenedMany : Int} {m_fewOf : Int → Int} {m_drawing : Int}
theorem c_X5_see (hG : Gok g) {k : Int} (hk : 0 ≤ k ∧ k ≤ 700) (hn : m_size ≤ 700) (hn0 : 0 ≤ m_size) (hT : TpOk m_tape) : XMet g yX5_see cX5_see 2 (some .int) (0) 0 0 [.ref (ρ 0), .int (jI k)] (wM g ρ m_thrown m_world m_fresh m_waysBack m_acts m_images m_hasImage m_endOf m_strapMany m_tape m_taped m_five m_size m_at m_from m_token m_value m_faultKind m_faultPlace m_budgetsTold m_loadsTold m_deadSet m_unknownOf m_nodeOf m_unknowns m_cells m_whole m_ordered m_drawnBy m_left m_aside m_bestDead m_bestAbove m_bestBelow m_widened m_widenedMany m_fewOf m_drawing ++ ex) (pI (fun z w => z = seeV m_tape m_size k ∧ w = (wM g ρ m_thrown m_world m_fresh m_waysBack m_acts m_images m_hasImage m_endOf m_strapMany m_tape m_taped m_five m_size m_at m_from m_token m_value m_faultKind m_faultPlace m_budgetsTold m_loadsTold m_deadSet m_unknownOf m_nodeOf m_unknowns m_cells m_whole m_ordered m_drawnBy m_left m_aside m_bestDead m_bestAbove m_bestBelow m_widened m_widenedMany m_fewOf m_drawing ++ ex))) := by
  refine XMet.of (L := [some (.ref (ρ 0)), some (.int (jI k))]) hG (by decide +kernel) (Nat.le_of_ble_eq_true rfl) rfl (fun K C E => ?_)
  refine r_iload_1 C dX5_see_0 ?_
  refine r_aload_0 C dX5_see_1 ?_
  refine gM_size C q1397 dX5_see_2 ?_
  refine r_if_icmpge (tgt := 21) C dX5_see_5 (by decide) (fun c_5 => ?_) (fun c_5 => ?_)
  · skip
    refine r_iconst C dX5_see_21 ?_
    refine r_ireturn C E dX5_see_22 ?_
    refine ⟨_, rfl, ?_, rfl⟩
    unfold seeV
    first
      | rw [if_neg (by omega)]
      | rw [if_pos (by omega)]
  · skip
    refine r_aload_0 C dX5_see_8 ?_
    refine gM_tape C q1394 dX5_see_9 ?_
    refine r_iload_1 C dX5_see_12 ?_
    refine ldM_tape C dX5_see_13 ?_
    refine r_sipush C dX5_see_14 ?_
    refine r_iand C (uB (m_tape k)) dX5_see_17 (and255 (hT k hk.1 (by omega)).1 (hT k hk.1 (by omega)).2) ?_
    refine r_goto (tgt := 22) C dX5_see_18 (by decide) ?_
    refine r_ireturn C E dX5_see_22 ?_
    refine ⟨_, rfl, ?_, rfl⟩
    unfold seeV
    first
      | rw [if_neg (by omega)]
      | rw [if_pos (by omega)]
theorem c_X5_good (hG : Gok g) (hk : inR m_faultKind) : XMet g yX5_good cX5_good 1 (some .boolean) (0) 0 0 [.ref (ρ 0)] (wM g ρ m_thrown m_world m_fresh m_waysBack m_acts m_images m_hasImage m_endOf m_strapMany m_tape m_taped m_five m_size m_at m_from m_token m_value m_faultKind m_faultPlace m_budgetsTold m_loadsTold m_deadSet m_unknownOf m_nodeOf m_unknowns m_cells m_whole m_ordered m_drawnBy m_left m_aside m_bestDead m_bestAbove m_bestBelow m_widened m_widenedMany m_fewOf m_drawing ++ ex) (pI (fun z w => z = (if m_faultKind = 0 then 1 else 0) ∧ w = (wM g ρ m_thrown m_world m_fresh m_waysBack m_acts m_images m_hasImage m_endOf m_strapMany m_tape m_taped m_five m_size m_at m_from m_token m_value m_faultKind m_faultPlace m_budgetsTold m_loadsTold m_deadSet m_unknownOf m_nodeOf m_unknowns m_cells m_whole m_ordered m_drawnBy m_left m_aside m_bestDead m_bestAbove m_bestBelow m_widened m_widenedMany m_fewOf m_drawing ++ ex))) := by
  refine XMet.of (L := [some (.ref (ρ 0))]) hG (by decide +kernel) (Nat.le_of_ble_eq_true rfl) rfl (fun K C E => ?_)
  refine r_aload_0 C dX5_good_0 ?_
  refine gM_faultKind C q1402 dX5_good_1 ?_
  refine r_ifne (tgt := 11) C dX5_good_4 (by decide) (fun c_4 => ?_) (fun c_4 => ?_)
  · skip
    refine r_iconst C dX5_good_11 ?_
    refine r_zreturn C E dX5_good_12 (by first | exact Or.inl rfl | exact Or.inr rfl | omega) ?_
    refine ⟨_, rfl, ?_, rfl⟩
    first
      | rw [if_neg c_4]
      | rw [if_pos c_4]
      | rw [if_pos (Classical.byContradiction c_4)]
  · skip
    refine r_iconst C dX5_good_7 ?_
    refine r_goto (tgt := 12) C dX5_good_8 (by decide) ?_
    refine r_zreturn C E dX5_good_12 (by first | exact Or.inl rfl | exact Or.inr rfl | omega) ?_
    refine ⟨_, rfl, ?_, rfl⟩
    first
      | rw [if_neg c_4]
      | rw [if_pos c_4]
      | rw [if_pos (Classical.byContradiction c_4)]
theorem c_X5_errs (hG : Gok g) {q : Q6} {kd : Int} (hk : inR q.2.2.2.2.1) : XMet g yX5_errs cX5_errs 2 none (1) 0 0 [.ref (ρ 0), .int (jI kd)] (wM g ρ m_thrown m_world m_fresh m_waysBack m_acts m_images m_hasImage m_endOf m_strapMany m_tape m_taped m_five m_size (q.1) (q.2.1) (q.2.2.1) (q.2.2.2.1) (q.2.2.2.2.1) (q.2.2.2.2.2) m_budgetsTold m_loadsTold m_deadSet m_unknownOf m_nodeOf m_unknowns m_cells m_whole m_ordered m_drawnBy m_left m_aside m_bestDead m_bestAbove m_bestBelow m_widened m_widenedMany m_fewOf m_drawing ++ ex) (pV (fun w => w = (wM g ρ m_thrown m_world m_fresh m_waysBack m_acts m_images m_hasImage m_endOf m_strapMany m_tape m_taped m_five m_size ((qErr kd q).1) ((qErr kd q).2.1) ((qErr kd q).2.2.1) ((qErr kd q).2.2.2.1) ((qErr kd q).2.2.2.2.1) ((qErr kd q).2.2.2.2.2) m_budgetsTold m_loadsTold m_deadSet m_unknownOf m_nodeOf m_unknowns m_cells m_whole m_ordered m_drawnBy m_left m_aside m_bestDead m_bestAbove m_bestBelow m_widened m_widenedMany m_fewOf m_drawing ++ ex))) := by
  refine XMet.of (L := [some (.ref (ρ 0)), some (.int (jI kd))]) hG (by decide +kernel) (Nat.le_of_ble_eq_true rfl) rfl (fun K C E => ?_)
  refine r_aload_0 C dX5_errs_0 ?_
  refine r_cV0i C (c_X5_good hG hk) (q0 := 0) rfl rfl q1543 pkX5_good dX5_errs_1 (fun z w h => ?_)
  obtain ⟨rfl, rfl⟩ := h
  refine r_ifneB (tgt := 8) C dX5_errs_4 (by decide) (fun c_4 => ?_) (fun c_4 => ?_)
  · skip
    refine r_aload_0 C dX5_errs_8 ?_
    refine r_iload_1 C dX5_errs_9 ?_
    refine pM_faultKind C q1402 dX5_errs_10 ?_
    refine r_aload_0 C dX5_errs_13 ?_
    refine r_aload_0 C dX5_errs_14 ?_
    refine gM_from C q1399 dX5_errs_15 ?_
    refine pM_faultPlace C q1403 dX5_errs_18 ?_
    refine r_return C E dX5_errs_21 ?_
    refine ⟨rfl, ?_⟩
    first
      | rw [qErr_good c_4]
      | rw [qErr_bad c_4]
  · skip
    refine r_return C E dX5_errs_7 ?_
    refine ⟨rfl, ?_⟩
    first
      | rw [qErr_good c_4]
      | rw [qErr_bad c_4]
theorem c_X5_advance (hG : Gok g) {q : Q6} (hn : m_size ≤ 700) (hn0 : 0 ≤ m_size) (hT : TpOk m_tape) (hqa : 0 ≤ q.1 ∧ q.1 ≤ m_size) : XMet g yX5_advance cX5_advance 2 none (1) 0 0 [.ref (ρ 0)] (wM g ρ m_thrown m_world m_fresh m_waysBack m_acts m_images m_hasImage m_endOf m_strapMany m_tape m_taped m_five m_size (q.1) (q.2.1) (q.2.2.1) (q.2.2.2.1) (q.2.2.2.2.1) (q.2.2.2.2.2) m_budgetsTold m_loadsTold m_deadSet m_unknownOf m_nodeOf m_unknowns m_cells m_whole m_ordered m_drawnBy m_left m_aside m_bestDead m_bestAbove m_bestBelow m_widened m_widenedMany m_fewOf m_drawing ++ ex) (pV (fun w => w = (wM g ρ m_thrown m_world m_fresh m_waysBack m_acts m_images m_hasImage m_endOf m_strapMany m_tape m_taped m_five m_size ((qAdv m_tape m_size q).1) ((qAdv m_tape m_size q).2.1) ((qAdv m_tape m_size q).2.2.1) ((qAdv m_tape m_size q).2.2.2.1) ((qAdv m_tape m_size q).2.2.2.2.1) ((qAdv m_tape m_size q).2.2.2.2.2) m_budgetsTold m_loadsTold m_deadSet m_unknownOf m_nodeOf m_unknowns m_cells m_whole m_ordered m_drawnBy m_left m_aside m_bestDead m_bestAbove m_bestBelow m_widened m_widenedMany m_fewOf m_drawing ++ ex))) := by
  refine XMet.of (L := [some (.ref (ρ 0)), none]) hG (by decide +kernel) (Nat.le_of_ble_eq_true rfl) rfl (fun K C E => ?_)
  have key : ∀ (mm : Nat), ∀ (a : Int), (0 ≤ a) → (a ≤ m_size) → (tB m_tape m_size a = tB m_tape m_size q.1) → (m_size - a).toNat = mm → AW g K (wM g ρ m_thrown m_world m_fresh m_waysBack m_acts m_images m_hasImage m_endOf m_strapMany m_tape m_taped m_five m_size (a) (q.2.1) (q.2.2.1) (q.2.2.2.1) (q.2.2.2.2.1) (q.2.2.2.2.2) m_budgetsTold m_loadsTold m_deadSet m_unknownOf m_nodeOf m_unknowns m_cells m_whole m_ordered m_drawnBy m_left m_aside m_bestDead m_bestAbove m_bestBelow m_widened m_widenedMany m_fewOf m_drawing ++ ex) 0 0 0 [some (.ref (ρ 0)), none] [] := by
    intro mm
    induction mm using Nat.strongRecOn with
    | _ mm ih =>
    intro a ha0 ha1 hb hm
    have hsr := seeV_r (T := m_tape) (n := m_size) hT hn ha0
    have e32 := seeV_eq (T := m_tape) (n := m_size) (c := 32) hT hn ha0 (by omega) (by omega)
    have e10 := seeV_eq (T := m_tape) (n := m_size) (c := 10) hT hn ha0 (by omega) (by omega)
    refine r_aload_0 C dX5_advance_0 ?_
    refine r_aload_0 C dX5_advance_1 ?_
    refine gM_at C q1398 dX5_advance_2 ?_
    refine r_cV1i C (c_X5_see hG (by omega) hn hn0 hT) (q0 := 0) rfl rfl q1533 pkX5_see dX5_advance_5 (fun z w h => ?_)
    obtain ⟨rfl, rfl⟩ := h
    refine r_bipush C dX5_advance_8 ?_
    refine r_if_icmpeq (tgt := 26) C dX5_advance_10 (by decide) (fun c_10 => ?_) (fun c_10 => ?_)
    · skip
      refine r_aload_0 C dX5_advance_26 ?_
      refine r_dup C dX5_advance_27 ?_
      refine gM_at C q1398 dX5_advance_28 ?_
      refine r_iconst C dX5_advance_31 ?_
      refine r_iadd C dX5_advance_32 ?_
      refine pM_at C q1398 dX5_advance_33 ?_
      refine r_goto (tgt := 0) C dX5_advance_36 (by decide) ?_
      have hbl : a < m_size ∧ blB (m_tape a) = true := by
        first
          | exact ⟨(e32.mp c_10).1, blB_iff.mpr (Or.inl (e32.mp c_10).2)⟩
          | exact ⟨(e10.mp c_23).1, blB_iff.mpr (Or.inr (e10.mp c_23).2)⟩
          | exact ⟨(e10.mp (Classical.byContradiction c_23)).1, blB_iff.mpr (Or.inr (e10.mp (Classical.byContradiction c_23)).2)⟩
      refine ih _ (show (m_size - (a + 1)).toNat < mm by omega) (a + 1) (by omega) (by omega) ?_ rfl
      rw [← hb]
      exact (rn_y hbl.1 hbl.2).symm
    · skip
      refine r_aload_0 C dX5_advance_13 ?_
      refine r_aload_0 C dX5_advance_14 ?_
      refine gM_at C q1398 dX5_advance_15 ?_
      refine r_cV1i C (c_X5_see hG (by omega) hn hn0 hT) (q0 := 0) rfl rfl q1533 pkX5_see dX5_advance_18 (fun z w h => ?_)
      obtain ⟨rfl, rfl⟩ := h
      refine r_bipush C dX5_advance_21 ?_
      refine r_if_icmpne (tgt := 39) C dX5_advance_23 (by decide) (fun c_23 => ?_) (fun c_23 => ?_)
      · skip
        have eb : tB m_tape m_size q.1 = a := by
          rw [← hb]
          refine rn_n (fun h => ?_)
          rcases blB_iff.mp h.2 with h2 | h2
          · exact c_10 (e32.mpr ⟨h.1, h2⟩)
          · exact c_23 (e10.mpr ⟨h.1, h2⟩)
        clear ih hb
        have eE := seeV_end (T := m_tape) (n := m_size) hT hn ha0
        have eL := seeV_in (T := m_tape) (n := m_size) (lo := 97) (hi := 122) hT hn ha0 (by omega) (by omega)
        have eD := seeV_in (T := m_tape) (n := m_size) (lo := 48) (hi := 57) hT hn ha0 (by omega) (by omega)
        have eS := seeV_eq (T := m_tape) (n := m_size) (c := 59) hT hn ha0 (by omega) (by omega)
        refine r_aload_0 C dX5_advance_39 ?_
        refine r_aload_0 C dX5_advance_40 ?_
        refine gM_at C q1398 dX5_advance_41 ?_
        refine pM_from C q1399 dX5_advance_44 ?_
        refine r_aload_0 C dX5_advance_47 ?_
        refine r_aload_0 C dX5_advance_48 ?_
        refine gM_at C q1398 dX5_advance_49 ?_
        refine r_cV1i C (c_X5_see hG (by omega) hn hn0 hT) (q0 := 0) rfl rfl q1533 pkX5_see dX5_advance_52 (fun z w h => ?_)
        obtain ⟨rfl, rfl⟩ := h
        refine r_istore_1 C dX5_advance_55 ?_
        refine r_iload_1 C dX5_advance_56 ?_
        refine r_iconst C dX5_advance_57 ?_
        refine r_if_icmpne (tgt := 69) C dX5_advance_58 (by decide) (fun c_58 => ?_) (fun c_58 => ?_)
        · skip
          refine r_iload_1 C dX5_advance_69 ?_
          refine r_i2l C dX5_advance_70 ?_
          refine r_ldc2 C 97 q1537 dX5_advance_71 ?_
          refine r_ldc2 C 122 q1538 dX5_advance_74 ?_
          refine r_cS3i C (c_X5_in hG (inR_L (by unfold inR; omega)) (by unfold inL; omega) (by unfold inL; omega)) q1506 pkX5_in dX5_advance_77 (fun z w h => ?_)
          obtain ⟨rfl, rfl⟩ := h
          refine r_ifeqB (tgt := 125) C dX5_advance_80 (by decide) (fun c_80 => ?_) (fun c_80 => ?_)
          · skip
            refine r_iload_1 C dX5_advance_125 ?_
            refine r_i2l C dX5_advance_126 ?_
            refine r_ldc2 C 48 q1539 dX5_advance_127 ?_
            refine r_ldc2 C 57 q1540 dX5_advance_130 ?_
            refine r_cS3i C (c_X5_in hG (inR_L (by unfold inR; omega)) (by unfold inL; omega) (by unfold inL; omega)) q1506 pkX5_in dX5_advance_133 (fun z w h => ?_)
            obtain ⟨rfl, rfl⟩ := h
            refine r_ifeqB (tgt := 214) C dX5_advance_136 (by decide) (fun c_136 => ?_) (fun c_136 => ?_)
            · skip
              have hlt : a < m_size := by omega
              have hL : ¬ lcB (m_tape a) = true := fun h => c_80 (eL.mpr ⟨hlt, lcB_iff.mp h⟩)
              have hD : ¬ dgB (m_tape a) = true := fun h => c_136 (eD.mpr ⟨hlt, dgB_iff.mp h⟩)
              refine r_aload_0 C dX5_advance_214 ?_
              refine r_iload_1 C dX5_advance_215 ?_
              refine r_bipush C dX5_advance_216 ?_
              refine r_if_icmpne (tgt := 225) C dX5_advance_218 (by decide) (fun c_218 => ?_) (fun c_218 => ?_)
              · skip
                refine r_iconst C dX5_advance_225 ?_
                refine pM_token C q1400 dX5_advance_226 ?_
                refine r_aload_0 C dX5_advance_229 ?_
                refine r_dup C dX5_advance_230 ?_
                refine gM_at C q1398 dX5_advance_231 ?_
                refine r_iconst C dX5_advance_234 ?_
                refine r_iadd C dX5_advance_235 ?_
                refine pM_at C q1398 dX5_advance_236 ?_
                refine r_return C E dX5_advance_239 ?_
                first
                  | (rw [qAdv_end eb (eE.mp (Classical.byContradiction c_58))]; exact ⟨rfl, rfl⟩)
                  | (rw [qAdv_end eb (eE.mp c_58)]; exact ⟨rfl, rfl⟩)
                  | (rw [qAdv_oth eb hlt hL hD, if_pos (eS.mp c_218).2]; exact ⟨rfl, rfl⟩)
                  | (rw [qAdv_oth eb hlt hL hD, if_pos (eS.mp (Classical.byContradiction c_218)).2]; exact ⟨rfl, rfl⟩)
                  | (rw [qAdv_oth eb hlt hL hD, if_neg (fun h => c_218 (eS.mpr ⟨hlt, h⟩))]; exact ⟨rfl, rfl⟩)
              · skip
                refine r_iconst C dX5_advance_221 ?_
                refine r_goto (tgt := 226) C dX5_advance_222 (by decide) ?_
                refine pM_token C q1400 dX5_advance_226 ?_
                refine r_aload_0 C dX5_advance_229 ?_
                refine r_dup C dX5_advance_230 ?_
                refine gM_at C q1398 dX5_advance_231 ?_
                refine r_iconst C dX5_advance_234 ?_
                refine r_iadd C dX5_advance_235 ?_
                refine pM_at C q1398 dX5_advance_236 ?_
                refine r_return C E dX5_advance_239 ?_
                first
                  | (rw [qAdv_end eb (eE.mp (Classical.byContradiction c_58))]; exact ⟨rfl, rfl⟩)
                  | (rw [qAdv_end eb (eE.mp c_58)]; exact ⟨rfl, rfl⟩)
                  | (rw [qAdv_oth eb hlt hL hD, if_pos (eS.mp c_218).2]; exact ⟨rfl, rfl⟩)
                  | (rw [qAdv_oth eb hlt hL hD, if_pos (eS.mp (Classical.byContradiction c_218)).2]; exact ⟨rfl, rfl⟩)
                  | (rw [qAdv_oth eb hlt hL hD, if_neg (fun h => c_218 (eS.mpr ⟨hlt, h⟩))]; exact ⟨rfl, rfl⟩)
            · skip
              have hD := eD.mp c_136
              have hL : ¬ lcB (m_tape a) = true := fun h => c_80 (eL.mpr ⟨hD.1, lcB_iff.mp h⟩)
              refine r_aload_0 C dX5_advance_139 ?_
              refine r_iconst C dX5_advance_140 ?_
              refine pM_value C q1401 dX5_advance_141 ?_
              skip
              have kw : ∀ (mm : Nat), ∀ (b v : Int), (a ≤ b) → (b ≤ m_size) → (0 ≤ v) → (v ≤ 99999) → (rn dgB m_tape m_size b = rn dgB m_tape m_size a) → (vl m_tape m_size b v = vl m_tape m_size a 0) → (m_size - b).toNat = mm → AW g K (wM g ρ m_thrown m_world m_fresh m_waysBack m_acts m_images m_hasImage m_endOf m_strapMany m_tape m_taped m_five m_size (b) (a) (q.2.2.1) (v) (q.2.2.2.2.1) (q.2.2.2.2.2) m_budgetsTold m_loadsTold m_deadSet m_unknownOf m_nodeOf m_unknowns m_cells m_whole m_ordered m_drawnBy m_left m_aside m_bestDead m_bestAbove m_bestBelow m_widened m_widenedMany m_fewOf m_drawing ++ ex) 0 0 144 [some (.ref (ρ 0)), some (.int (jI (seeV m_tape m_size a)))] [] := by
                intro mm
                induction mm using Nat.strongRecOn with
                | _ mm ih =>
                intro b v hb0 hb1 hv0 hv1 hb hv hm
                have hsr2 := seeV_r (T := m_tape) (n := m_size) (a := b) hT hn (by omega)
                have eD2 := seeV_in (T := m_tape) (n := m_size) (a := b) (lo := 48) (hi := 57) hT hn (by omega) (by omega) (by omega)
                refine r_aload_0 C dX5_advance_144 ?_
                refine r_aload_0 C dX5_advance_145 ?_
                refine gM_at C q1398 dX5_advance_146 ?_
                refine r_cV1i C (c_X5_see hG (by omega) hn hn0 hT) (q0 := 0) rfl rfl q1533 pkX5_see dX5_advance_149 (fun z w h => ?_)
                obtain ⟨rfl, rfl⟩ := h
                refine r_i2l C dX5_advance_152 ?_
                refine r_ldc2 C 48 q1539 dX5_advance_153 ?_
                refine r_ldc2 C 57 q1540 dX5_advance_156 ?_
                refine r_cS3i C (c_X5_in hG (inR_L (by unfold inR; omega)) (by unfold inL; omega) (by unfold inL; omega)) q1506 pkX5_in dX5_advance_159 (fun z w h => ?_)
                obtain ⟨rfl, rfl⟩ := h
                refine r_ifeqB (tgt := 206) C dX5_advance_162 (by decide) (fun c_162 => ?_) (fun c_162 => ?_)
                · skip
                  refine r_aload_0 C dX5_advance_206 ?_
                  refine r_iconst C dX5_advance_207 ?_
                  refine pM_token C q1400 dX5_advance_208 ?_
                  refine r_goto (tgt := 239) C dX5_advance_211 (by decide) ?_
                  refine r_return C E dX5_advance_239 ?_
                  have hx : ¬ (b < m_size ∧ dgB (m_tape b) = true) := fun h => c_162 (eD2.mpr ⟨h.1, dgB_iff.mp h.2⟩)
                  rw [qAdv_num eb hD.1 hL (dgB_iff.mpr hD.2), ← hb, ← hv, rn_n hx, vl_n hx]
                  exact ⟨rfl, rfl⟩
                · skip
                  have hl := eD2.mp c_162
                  have es : seeV m_tape m_size b = m_tape b := by
                    unfold seeV uB
                    rw [if_pos hl.1, if_neg (by omega)]
                  refine r_aload_0 C dX5_advance_165 ?_
                  refine r_ldc C 99999 q1541 dX5_advance_166 ?_
                  refine r_bipush C dX5_advance_168 ?_
                  refine r_aload_0 C dX5_advance_170 ?_
                  refine gM_value C q1401 dX5_advance_171 ?_
                  refine r_imul C dX5_advance_174 ?_
                  refine r_aload_0 C dX5_advance_175 ?_
                  refine r_aload_0 C dX5_advance_176 ?_
                  refine gM_at C q1398 dX5_advance_177 ?_
                  refine r_cV1i C (c_X5_see hG (by omega) hn hn0 hT) (q0 := 0) rfl rfl q1533 pkX5_see dX5_advance_180 (fun z w h => ?_)
                  obtain ⟨rfl, rfl⟩ := h
                  refine r_iadd C dX5_advance_183 ?_
                  refine r_bipush C dX5_advance_184 ?_
                  refine r_isub C dX5_advance_186 ?_
                  refine r_mmin C q1542 dX5_advance_187 ?_
                  refine r_topi (if 99999 ≤ 10 * v + m_tape b - 48 then 99999 else 10 * v + m_tape b - 48) (by rw [es]) ?_
                  refine pM_value C q1401 dX5_advance_190 ?_
                  refine r_aload_0 C dX5_advance_193 ?_
                  refine r_dup C dX5_advance_194 ?_
                  refine gM_at C q1398 dX5_advance_195 ?_
                  refine r_iconst C dX5_advance_198 ?_
                  refine r_iadd C dX5_advance_199 ?_
                  refine pM_at C q1398 dX5_advance_200 ?_
                  refine r_goto (tgt := 144) C dX5_advance_203 (by decide) ?_
                  refine ih _ (show (m_size - (b + 1)).toNat < mm by omega) (b + 1) _ (by omega) (by omega) (by split <;> omega) (by split <;> omega) ?_ ?_ rfl
                  · rw [← hb]
                    exact (rn_y hl.1 (dgB_iff.mpr hl.2)).symm
                  · rw [← hv]
                    exact (vl_y hl.1 (dgB_iff.mpr hl.2)).symm
              exact kw _ a 0 (Int.le_refl _) ha1 (by omega) (by omega) rfl rfl rfl
          · skip
            have hL := eL.mp c_80
            have kw : ∀ (mm : Nat), ∀ (b : Int), (a ≤ b) → (b ≤ m_size) → (rn lcB m_tape m_size b = rn lcB m_tape m_size a) → (m_size - b).toNat = mm → AW g K (wM g ρ m_thrown m_world m_fresh m_waysBack m_acts m_images m_hasImage m_endOf m_strapMany m_tape m_taped m_five m_size (b) (a) (q.2.2.1) (q.2.2.2.1) (q.2.2.2.2.1) (q.2.2.2.2.2) m_budgetsTold m_loadsTold m_deadSet m_unknownOf m_nodeOf m_unknowns m_cells m_whole m_ordered m_drawnBy m_left m_aside m_bestDead m_bestAbove m_bestBelow m_widened m_widenedMany m_fewOf m_drawing ++ ex) 0 0 83 [some (.ref (ρ 0)), some (.int (jI (seeV m_tape m_size a)))] [] := by
              intro mm
              induction mm using Nat.strongRecOn with
              | _ mm ih =>
              intro b hb0 hb1 hb hm
              have hsr2 := seeV_r (T := m_tape) (n := m_size) (a := b) hT hn (by omega)
              have eL2 := seeV_in (T := m_tape) (n := m_size) (a := b) (lo := 97) (hi := 122) hT hn (by omega) (by omega) (by omega)
              refine r_aload_0 C dX5_advance_83 ?_
              refine r_aload_0 C dX5_advance_84 ?_
              refine gM_at C q1398 dX5_advance_85 ?_
              refine r_cV1i C (c_X5_see hG (by omega) hn hn0 hT) (q0 := 0) rfl rfl q1533 pkX5_see dX5_advance_88 (fun z w h => ?_)
              obtain ⟨rfl, rfl⟩ := h
              refine r_i2l C dX5_advance_91 ?_
              refine r_ldc2 C 97 q1537 dX5_advance_92 ?_
              refine r_ldc2 C 122 q1538 dX5_advance_95 ?_
              refine r_cS3i C (c_X5_in hG (inR_L (by unfold inR; omega)) (by unfold inL; omega) (by unfold inL; omega)) q1506 pkX5_in dX5_advance_98 (fun z w h => ?_)
              obtain ⟨rfl, rfl⟩ := h
              refine r_ifeqB (tgt := 117) C dX5_advance_101 (by decide) (fun c_101 => ?_) (fun c_101 => ?_)
              · skip
                refine r_aload_0 C dX5_advance_117 ?_
                refine r_iconst C dX5_advance_118 ?_
                refine pM_token C q1400 dX5_advance_119 ?_
                refine r_goto (tgt := 239) C dX5_advance_122 (by decide) ?_
                refine r_return C E dX5_advance_239 ?_
                have hx : rn lcB m_tape m_size b = b := rn_n (fun h => c_101 (eL2.mpr ⟨h.1, lcB_iff.mp h.2⟩))
                rw [qAdv_word eb hL.1 (lcB_iff.mpr hL.2), ← hb, hx]
                exact ⟨rfl, rfl⟩
              · skip
                refine r_aload_0 C dX5_advance_104 ?_
                refine r_dup C dX5_advance_105 ?_
                refine gM_at C q1398 dX5_advance_106 ?_
                refine r_iconst C dX5_advance_109 ?_
                refine r_iadd C dX5_advance_110 ?_
                refine pM_at C q1398 dX5_advance_111 ?_
                refine r_goto (tgt := 83) C dX5_advance_114 (by decide) ?_
                have hl := eL2.mp c_101
                refine ih _ (show (m_size - (b + 1)).toNat < mm by omega) (b + 1) (by omega) (by omega) ?_ rfl
                rw [← hb]
                exact (rn_y hl.1 (lcB_iff.mpr hl.2)).symm
            exact kw _ a (Int.le_refl _) ha1 rfl rfl
        · skip
          refine r_aload_0 C dX5_advance_61 ?_
          refine r_iconst C dX5_advance_62 ?_
          refine pM_token C q1400 dX5_advance_63 ?_
          refine r_goto (tgt := 239) C dX5_advance_66 (by decide) ?_
          refine r_return C E dX5_advance_239 ?_
          first
            | (rw [qAdv_end eb (eE.mp (Classical.byContradiction c_58))]; exact ⟨rfl, rfl⟩)
            | (rw [qAdv_end eb (eE.mp c_58)]; exact ⟨rfl, rfl⟩)
            | (rw [qAdv_oth eb hlt hL hD, if_pos (eS.mp c_218).2]; exact ⟨rfl, rfl⟩)
            | (rw [qAdv_oth eb hlt hL hD, if_pos (eS.mp (Classical.byContradiction c_218)).2]; exact ⟨rfl, rfl⟩)
            | (rw [qAdv_oth eb hlt hL hD, if_neg (fun h => c_218 (eS.mpr ⟨hlt, h⟩))]; exact ⟨rfl, rfl⟩)
      · skip
        refine r_aload_0 C dX5_advance_26 ?_
        refine r_dup C dX5_advance_27 ?_
        refine gM_at C q1398 dX5_advance_28 ?_
        refine r_iconst C dX5_advance_31 ?_
        refine r_iadd C dX5_advance_32 ?_
        refine pM_at C q1398 dX5_advance_33 ?_
        refine r_goto (tgt := 0) C dX5_advance_36 (by decide) ?_
        have hbl : a < m_size ∧ blB (m_tape a) = true := by
          first
            | exact ⟨(e32.mp c_10).1, blB_iff.mpr (Or.inl (e32.mp c_10).2)⟩
            | exact ⟨(e10.mp c_23).1, blB_iff.mpr (Or.inr (e10.mp c_23).2)⟩
            | exact ⟨(e10.mp (Classical.byContradiction c_23)).1, blB_iff.mpr (Or.inr (e10.mp (Classical.byContradiction c_23)).2)⟩
        refine ih _ (show (m_size - (a + 1)).toNat < mm by omega) (a + 1) (by omega) (by omega) ?_ rfl
        rw [← hb]
        exact (rn_y hbl.1 hbl.2).symm
  exact key _ q.1 hqa.1 hqa.2 rfl rfl
theorem c_X5_is (hG : Gok g) {q : Q6} {sa : Nat} {wd : List Int} (TT : GT g) (S : StrG g sa wd) (hn : m_size ≤ 700) (hn0 : 0 ≤ m_size) (hT : TpOk m_tape) (hq : QOk m_size q) : XMet g yX5_is cX5_is 4 (some .boolean) (4) 0 0 [.ref (ρ 0), .ref sa] (wM g ρ m_thrown m_world m_fresh m_waysBack m_acts m_images m_hasImage m_endOf m_strapMany m_tape m_taped m_five m_size (q.1) (q.2.1) (q.2.2.1) (q.2.2.2.1) (q.2.2.2.2.1) (q.2.2.2.2.2) m_budgetsTold m_loadsTold m_deadSet m_unknownOf m_nodeOf m_unknowns m_cells m_whole m_ordered m_drawnBy m_left m_aside m_bestDead m_bestAbove m_bestBelow m_widened m_widenedMany m_fewOf m_drawing ++ ex) (pI (fun z w => z = (if qIs m_tape wd q = true then 1 else 0) ∧ w = (wM g ρ m_thrown m_world m_fresh m_waysBack m_acts m_images m_hasImage m_endOf m_strapMany m_tape m_taped m_five m_size (q.1) (q.2.1) (q.2.2.1) (q.2.2.2.1) (q.2.2.2.2.1) (q.2.2.2.2.2) m_budgetsTold m_loadsTold m_deadSet m_unknownOf m_nodeOf m_unknowns m_cells m_whole m_ordered m_drawnBy m_left m_aside m_bestDead m_bestAbove m_bestBelow m_widened m_widenedMany m_fewOf m_drawing ++ ex))) := by
  refine XMet.of (L := [some (.ref (ρ 0)), some (.ref sa), none, none]) hG (by decide +kernel) (Nat.le_of_ble_eq_true rfl) rfl (fun K C E => ?_)
  have hqa := hq.1
  have hqf := hq.2.1
  have hqt := hq.2.2.1
  have hqk := hq.2.2.2.2.1
  have hwl := S.2.1
  have key : ∀ (mm : Nat), ∀ (k x : Int), (0 ≤ k) → (k ≤ wd.length) → (x = 0 ∨ x = 1) → (x = 0 → ¬ qIs m_tape wd q = true) → (x = 1 → (q.2.2.2.2.1 = 0 ∧ q.2.2.1 = 1 ∧ q.1 - q.2.1 = (wd.length : Int)) ∧ ∀ j : Nat, (j : Int) < k → m_tape (q.2.1 + (j : Int)) = wd.getD j 0) → ((wd.length : Int) - k).toNat = mm → AW g K (wM g ρ m_thrown m_world m_fresh m_waysBack m_acts m_images m_hasImage m_endOf m_strapMany m_tape m_taped m_five m_size (q.1) (q.2.1) (q.2.2.1) (q.2.2.2.1) (q.2.2.2.2.1) (q.2.2.2.2.2) m_budgetsTold m_loadsTold m_deadSet m_unknownOf m_nodeOf m_unknowns m_cells m_whole m_ordered m_drawnBy m_left m_aside m_bestDead m_bestAbove m_bestBelow m_widened m_widenedMany m_fewOf m_drawing ++ ex) 0 0 39 [some (.ref (ρ 0)), some (.ref sa), some (.int (jI x)), some (.int (jI k))] [] := by
    intro mm
    induction mm using Nat.strongRecOn with
    | _ mm ih =>
    intro k x hk0 hk1 hx hx0 hx1 hm
    refine r_iload_3 C dX5_is_39 ?_
    refine r_aload_1 C dX5_is_40 ?_
    refine r_len C hG TT S q1564 dX5_is_41 ?_
    refine r_if_icmpge (tgt := 82) C dX5_is_44 (by decide) (fun c_44 => ?_) (fun c_44 => ?_)
    · skip
      refine r_iload_2 C dX5_is_82 ?_
      refine r_zreturn C E dX5_is_83 hx ?_
      refine ⟨_, rfl, ?_, rfl⟩
      rcases hx with e | e
      · subst e
        rw [if_neg (hx0 rfl)]
      · subst e
        have h1 := hx1 rfl
        first
          | (exfalso; omega)
          | rw [if_pos (qIs_iff.mpr ⟨h1.1.1, isWb_iff.mpr ⟨⟨h1.1.2.1, h1.1.2.2⟩, fun j hj => h1.2 j (by omega)⟩⟩)]
    · skip
      refine r_iload_2 C dX5_is_47 ?_
      refine r_ifeq (tgt := 82) C dX5_is_48 (by decide) (fun c_48 => ?_) (fun c_48 => ?_)
      · skip
        refine r_iload_2 C dX5_is_82 ?_
        refine r_zreturn C E dX5_is_83 hx ?_
        refine ⟨_, rfl, ?_, rfl⟩
        rcases hx with e | e
        · subst e
          rw [if_neg (hx0 rfl)]
        · subst e
          have h1 := hx1 rfl
          first
            | (exfalso; omega)
            | rw [if_pos (qIs_iff.mpr ⟨h1.1.1, isWb_iff.mpr ⟨⟨h1.1.2.1, h1.1.2.2⟩, fun j hj => h1.2 j (by omega)⟩⟩)]
      · skip
        have hx' : x = 1 := by omega
        have h1 := hx1 hx'
        refine r_aload_0 C dX5_is_51 ?_
        refine gM_tape C q1394 dX5_is_52 ?_
        refine r_aload_0 C dX5_is_55 ?_
        refine gM_from C q1399 dX5_is_56 ?_
        refine r_iload_3 C dX5_is_59 ?_
        refine r_iadd C dX5_is_60 ?_
        refine ldM_tape C dX5_is_61 ?_
        refine r_aload_1 C dX5_is_62 ?_
        refine r_iload_3 C dX5_is_63 ?_
        refine r_chr C hG TT S hk0 (by omega) q1565 dX5_is_64 ?_
        have htp := hT (q.2.1 + k) (by omega) (by omega)
        have hch := S.1 k.toNat (by omega)
        have ekn : ((k.toNat : Nat) : Int) = k := by omega
        refine r_if_icmpne (tgt := 74) C dX5_is_67 (by decide) (fun c_67 => ?_) (fun c_67 => ?_)
        · skip
          refine r_iconst C dX5_is_74 ?_
          refine r_istore_2 C dX5_is_75 ?_
          refine r_iinc_3 C dX5_is_76 ?_
          refine r_goto (tgt := 39) C dX5_is_79 (by decide) ?_
          refine ih _ (show ((wd.length : Int) - (k + 1)).toNat < mm by omega) (k + 1) _ (by omega) (by omega) (by first | exact Or.inl rfl | exact Or.inr rfl) ?_ ?_ rfl
          · first
              | (intro h; exact absurd h (by decide))
              | (intro _ h
                 have h2 := (isWb_iff.mp (qIs_iff.mp h).2).2 k.toNat (by omega)
                 rw [ekn] at h2
                 exact c_67 h2)
          · first
              | (intro h; exact absurd h (by decide))
              | (intro _
                 refine ⟨h1.1, fun j hj => ?_⟩
                 by_cases ej : (j : Int) = k
                 · have ej2 : j = k.toNat := by omega
                   rw [ej, ej2]
                   first | exact c_67 | exact Classical.byContradiction c_67
                 · exact h1.2 j (by omega))
        · skip
          refine r_iconst C dX5_is_70 ?_
          refine r_goto (tgt := 75) C dX5_is_71 (by decide) ?_
          refine r_istore_2 C dX5_is_75 ?_
          refine r_iinc_3 C dX5_is_76 ?_
          refine r_goto (tgt := 39) C dX5_is_79 (by decide) ?_
          refine ih _ (show ((wd.length : Int) - (k + 1)).toNat < mm by omega) (k + 1) _ (by omega) (by omega) (by first | exact Or.inl rfl | exact Or.inr rfl) ?_ ?_ rfl
          · first
              | (intro h; exact absurd h (by decide))
              | (intro _ h
                 have h2 := (isWb_iff.mp (qIs_iff.mp h).2).2 k.toNat (by omega)
                 rw [ekn] at h2
                 exact c_67 h2)
          · first
              | (intro h; exact absurd h (by decide))
              | (intro _
                 refine ⟨h1.1, fun j hj => ?_⟩
                 by_cases ej : (j : Int) = k
                 · have ej2 : j = k.toNat := by omega
                   rw [ej, ej2]
                   first | exact c_67 | exact Classical.byContradiction c_67
                 · exact h1.2 j (by omega))
  refine r_aload_0 C dX5_is_0 ?_
  refine r_cV0i C (c_X5_good hG (by unfold inR; omega)) (q0 := 0) rfl rfl q1543 pkX5_good dX5_is_1 (fun z w h => ?_)
  obtain ⟨rfl, rfl⟩ := h
  refine r_ifeqB (tgt := 35) C dX5_is_4 (by decide) (fun c_4 => ?_) (fun c_4 => ?_)
  · skip
    refine r_iconst C dX5_is_35 ?_
    refine r_istore_2 C dX5_is_36 ?_
    refine r_iconst C dX5_is_37 ?_
    refine r_istore_3 C dX5_is_38 ?_
    refine key _ 0 _ (by omega) (by omega) (by first | exact Or.inl rfl | exact Or.inr rfl) ?_ ?_ rfl
    · first
        | (intro h; exact absurd h (by decide))
        | (intro _ h
           have h2 := isWb_iff.mp (qIs_iff.mp h).2
           have h3 := (qIs_iff.mp h).1
           first | exact c_4 h3 | exact c_12 h2.1.1 | exact c_28 h2.1.2)
    · first
        | (intro h; exact absurd h (by decide))
        | (intro _
           refine ⟨⟨c_4, ?_, ?_⟩, fun j hj => by omega⟩
           · first | exact c_12 | exact Classical.byContradiction c_12
           · first | exact c_28 | exact Classical.byContradiction c_28)
  · skip
    refine r_aload_0 C dX5_is_7 ?_
    refine gM_token C q1400 dX5_is_8 ?_
    refine r_iconst C dX5_is_11 ?_
    refine r_if_icmpne (tgt := 35) C dX5_is_12 (by decide) (fun c_12 => ?_) (fun c_12 => ?_)
    · skip
      refine r_iconst C dX5_is_35 ?_
      refine r_istore_2 C dX5_is_36 ?_
      refine r_iconst C dX5_is_37 ?_
      refine r_istore_3 C dX5_is_38 ?_
      refine key _ 0 _ (by omega) (by omega) (by first | exact Or.inl rfl | exact Or.inr rfl) ?_ ?_ rfl
      · first
          | (intro h; exact absurd h (by decide))
          | (intro _ h
             have h2 := isWb_iff.mp (qIs_iff.mp h).2
             have h3 := (qIs_iff.mp h).1
             first | exact c_4 h3 | exact c_12 h2.1.1 | exact c_28 h2.1.2)
      · first
          | (intro h; exact absurd h (by decide))
          | (intro _
             refine ⟨⟨c_4, ?_, ?_⟩, fun j hj => by omega⟩
             · first | exact c_12 | exact Classical.byContradiction c_12
             · first | exact c_28 | exact Classical.byContradiction c_28)
    · skip
      refine r_aload_0 C dX5_is_15 ?_
      refine gM_at C q1398 dX5_is_16 ?_
      refine r_aload_0 C dX5_is_19 ?_
      refine gM_from C q1399 dX5_is_20 ?_
      refine r_isub C dX5_is_23 ?_
      refine r_aload_1 C dX5_is_24 ?_
      refine r_len C hG TT S q1564 dX5_is_25 ?_
      refine r_if_icmpne (tgt := 35) C dX5_is_28 (by decide) (fun c_28 => ?_) (fun c_28 => ?_)
      · skip
        refine r_iconst C dX5_is_35 ?_
        refine r_istore_2 C dX5_is_36 ?_
        refine r_iconst C dX5_is_37 ?_
        refine r_istore_3 C dX5_is_38 ?_
        refine key _ 0 _ (by omega) (by omega) (by first | exact Or.inl rfl | exact Or.inr rfl) ?_ ?_ rfl
        · first
            | (intro h; exact absurd h (by decide))
            | (intro _ h
               have h2 := isWb_iff.mp (qIs_iff.mp h).2
               have h3 := (qIs_iff.mp h).1
               first | exact c_4 h3 | exact c_12 h2.1.1 | exact c_28 h2.1.2)
        · first
            | (intro h; exact absurd h (by decide))
            | (intro _
               refine ⟨⟨c_4, ?_, ?_⟩, fun j hj => by omega⟩
               · first | exact c_12 | exact Classical.byContradiction c_12
               · first | exact c_28 | exact Classical.byContradiction c_28)
      · skip
        refine r_iconst C dX5_is_31 ?_
        refine r_goto (tgt := 36) C dX5_is_32 (by decide) ?_
        refine r_istore_2 C dX5_is_36 ?_
        refine r_iconst C dX5_is_37 ?_
        refine r_istore_3 C dX5_is_38 ?_
        refine key _ 0 _ (by omega) (by omega) (by first | exact Or.inl rfl | exact Or.inr rfl) ?_ ?_ rfl
        · first
            | (intro h; exact absurd h (by decide))
            | (intro _ h
               have h2 := isWb_iff.mp (qIs_iff.mp h).2
               have h3 := (qIs_iff.mp h).1
               first | exact c_4 h3 | exact c_12 h2.1.1 | exact c_28 h2.1.2)
        · first
            | (intro h; exact absurd h (by decide))
            | (intro _
               refine ⟨⟨c_4, ?_, ?_⟩, fun j hj => by omega⟩
               · first | exact c_12 | exact Classical.byContradiction c_12
               · first | exact c_28 | exact Classical.byContradiction c_28)
theorem c_X5_expects (hG : Gok g) {q : Q6} {sa : Nat} {wd : List Int} (TT : GT g) (S : StrG g sa wd) (hn : m_size ≤ 700) (hn0 : 0 ≤ m_size) (hT : TpOk m_tape) (hq : QOk m_size q) : XMet g yX5_expects cX5_expects 2 none (5) 0 0 [.ref (ρ 0), .ref sa] (wM g ρ m_thrown m_world m_fresh m_waysBack m_acts m_images m_hasImage m_endOf m_strapMany m_tape m_taped m_five m_size (q.1) (q.2.1) (q.2.2.1) (q.2.2.2.1) (q.2.2.2.2.1) (q.2.2.2.2.2) m_budgetsTold m_loadsTold m_deadSet m_unknownOf m_nodeOf m_unknowns m_cells m_whole m_ordered m_drawnBy m_left m_aside m_bestDead m_bestAbove m_bestBelow m_widened m_widenedMany m_fewOf m_drawing ++ ex) (pV (fun w => w = (wM g ρ m_thrown m_world m_fresh m_waysBack m_acts m_images m_hasImage m_endOf m_strapMany m_tape m_taped m_five m_size ((qExp m_tape m_size wd q).1) ((qExp m_tape m_size wd q).2.1) ((qExp m_tape m_size wd q).2.2.1) ((qExp m_tape m_size wd q).2.2.2.1) ((qExp m_tape m_size wd q).2.2.2.2.1) ((qExp m_tape m_size wd q).2.2.2.2.2) m_budgetsTold m_loadsTold m_deadSet m_unknownOf m_nodeOf m_unknowns m_cells m_whole m_ordered m_drawnBy m_left m_aside m_bestDead m_bestAbove m_bestBelow m_widened m_widenedMany m_fewOf m_drawing ++ ex))) := by
  refine XMet.of (L := [some (.ref (ρ 0)), some (.ref sa)]) hG (by decide +kernel) (Nat.le_of_ble_eq_true rfl) rfl (fun K C E => ?_)
  have hqk := hq.2.2.2.2.1
  refine r_aload_0 C dX5_expects_0 ?_
  refine r_aload_1 C dX5_expects_1 ?_
  refine r_cV1i C (c_X5_is hG TT S hn hn0 hT hq) (q0 := 0) rfl rfl q1560 pkX5_is dX5_expects_2 (fun z w h => ?_)
  obtain ⟨rfl, rfl⟩ := h
  refine r_ifeqB (tgt := 15) C dX5_expects_5 (by decide) (fun c_5 => ?_) (fun c_5 => ?_)
  · skip
    refine r_aload_0 C dX5_expects_15 ?_
    refine r_iconst C dX5_expects_16 ?_
    refine r_cV1v C (c_X5_errs hG (by unfold inR; omega)) (q0 := 0) rfl rfl q1566 pkX5_errs dX5_expects_17 (fun w h => ?_)
    subst h
    refine r_return C E dX5_expects_20 ?_
    refine ⟨rfl, ?_⟩
    first
      | rw [show qExp m_tape m_size wd q = qAdv m_tape m_size q from if_pos c_5]
      | rw [show qExp m_tape m_size wd q = qErr 1 q from if_neg c_5]
  · skip
    refine r_aload_0 C dX5_expects_8 ?_
    refine r_cV0v C (c_X5_advance hG hn hn0 hT hq.1) (q0 := 0) rfl rfl q1529 pkX5_advance dX5_expects_9 (fun w h => ?_)
    subst h
    refine r_goto (tgt := 20) C dX5_expects_12 (by decide) ?_
    refine r_return C E dX5_expects_20 ?_
    refine ⟨rfl, ?_⟩
    first
      | rw [show qExp m_tape m_size wd q = qAdv m_tape m_size q from if_pos c_5]
      | rw [show qExp m_tape m_size wd q = qErr 1 q from if_neg c_5]
theorem c_X5_takes (hG : Gok g) {q : Q6} {lo hi : Int} (hlo : inR lo) (hhi : inR hi) (hn : m_size ≤ 700) (hn0 : 0 ≤ m_size) (hT : TpOk m_tape) (hq : QOk m_size q) : XMet g yX5_takes cX5_takes 4 (some .int) (2) 0 0 [.ref (ρ 0), .int (jI lo), .int (jI hi)] (wM g ρ m_thrown m_world m_fresh m_waysBack m_acts m_images m_hasImage m_endOf m_strapMany m_tape m_taped m_five m_size (q.1) (q.2.1) (q.2.2.1) (q.2.2.2.1) (q.2.2.2.2.1) (q.2.2.2.2.2) m_budgetsTold m_loadsTold m_deadSet m_unknownOf m_nodeOf m_unknowns m_cells m_whole m_ordered m_drawnBy m_left m_aside m_bestDead m_bestAbove m_bestBelow m_widened m_widenedMany m_fewOf m_drawing ++ ex) (pI (fun z w => z = (qTak m_tape m_size lo hi q).1 ∧ w = (wM g ρ m_thrown m_world m_fresh m_waysBack m_acts m_images m_hasImage m_endOf m_strapMany m_tape m_taped m_five m_size (((qTak m_tape m_size lo hi q).2).1) (((qTak m_tape m_size lo hi q).2).2.1) (((qTak m_tape m_size lo hi q).2).2.2.1) (((qTak m_tape m_size lo hi q).2).2.2.2.1) (((qTak m_tape m_size lo hi q).2).2.2.2.2.1) (((qTak m_tape m_size lo hi q).2).2.2.2.2.2) m_budgetsTold m_loadsTold m_deadSet m_unknownOf m_nodeOf m_unknowns m_cells m_whole m_ordered m_drawnBy m_left m_aside m_bestDead m_bestAbove m_bestBelow m_widened m_widenedMany m_fewOf m_drawing ++ ex))) := by
  refine XMet.of (L := [some (.ref (ρ 0)), some (.int (jI lo)), some (.int (jI hi)), none]) hG (by decide +kernel) (Nat.le_of_ble_eq_true rfl) rfl (fun K C E => ?_)
  have hqk := hq.2.2.2.2.1
  have hqt := hq.2.2.1
  have hqv := hq.2.2.2.1
  have j47 : ∀ q2 : Q6, QOk m_size q2 → (q2.2.2.2.2.1 = 0 → qTak m_tape m_size lo hi q = (q2.2.2.2.1, qAdv m_tape m_size q2)) → (q2.2.2.2.2.1 ≠ 0 → qTak m_tape m_size lo hi q = (0, q2)) → AW g K (wM g ρ m_thrown m_world m_fresh m_waysBack m_acts m_images m_hasImage m_endOf m_strapMany m_tape m_taped m_five m_size (q2.1) (q2.2.1) (q2.2.2.1) (q2.2.2.2.1) (q2.2.2.2.2.1) (q2.2.2.2.2.2) m_budgetsTold m_loadsTold m_deadSet m_unknownOf m_nodeOf m_unknowns m_cells m_whole m_ordered m_drawnBy m_left m_aside m_bestDead m_bestAbove m_bestBelow m_widened m_widenedMany m_fewOf m_drawing ++ ex) 0 0 47 [some (.ref (ρ 0)), some (.int (jI lo)), some (.int (jI hi)), none] [] := by
    intro q2 hq2 e1 e2
    have hk2 := hq2.2.2.2.2.1
    refine r_aload_0 C dX5_takes_47 ?_
    refine r_cV0i C (c_X5_good hG (by unfold inR; omega)) (q0 := 0) rfl rfl q1543 pkX5_good dX5_takes_48 (fun z w h => ?_)
    obtain ⟨rfl, rfl⟩ := h
    refine r_ifneB (tgt := 56) C dX5_takes_51 (by decide) (fun c_51 => ?_) (fun c_51 => ?_)
    · skip
      refine r_aload_0 C dX5_takes_56 ?_
      refine gM_value C q1401 dX5_takes_57 ?_
      refine r_istore_3 C dX5_takes_60 ?_
      refine r_aload_0 C dX5_takes_61 ?_
      refine r_cV0v C (c_X5_advance hG hn hn0 hT hq2.1) (q0 := 0) rfl rfl q1529 pkX5_advance dX5_takes_62 (fun w h => ?_)
      subst h
      refine r_iload_3 C dX5_takes_65 ?_
      refine r_ireturn C E dX5_takes_66 ?_
      rw [e1 c_51]
      exact ⟨_, rfl, rfl, rfl⟩
    · skip
      refine r_iconst C dX5_takes_54 ?_
      refine r_ireturn C E dX5_takes_55 ?_
      rw [e2 c_51]
      exact ⟨_, rfl, rfl, rfl⟩
  have j20 : ∀ q1 : Q6, QOk m_size q1 → (q1.2.2.2.2.1 = 0 → q1 = q ∧ q.2.2.1 = 2) → (q1.2.2.2.2.1 ≠ 0 → qTak m_tape m_size lo hi q = (0, q1)) → AW g K (wM g ρ m_thrown m_world m_fresh m_waysBack m_acts m_images m_hasImage m_endOf m_strapMany m_tape m_taped m_five m_size (q1.1) (q1.2.1) (q1.2.2.1) (q1.2.2.2.1) (q1.2.2.2.2.1) (q1.2.2.2.2.2) m_budgetsTold m_loadsTold m_deadSet m_unknownOf m_nodeOf m_unknowns m_cells m_whole m_ordered m_drawnBy m_left m_aside m_bestDead m_bestAbove m_bestBelow m_widened m_widenedMany m_fewOf m_drawing ++ ex) 0 0 20 [some (.ref (ρ 0)), some (.int (jI lo)), some (.int (jI hi)), none] [] := by
    intro q1 hq1 e1 e2
    have hk1 := hq1.2.2.2.2.1
    refine r_aload_0 C dX5_takes_20 ?_
    refine r_cV0i C (c_X5_good hG (by unfold inR; omega)) (q0 := 0) rfl rfl q1543 pkX5_good dX5_takes_21 (fun z w h => ?_)
    obtain ⟨rfl, rfl⟩ := h
    refine r_ifeqB (tgt := 47) C dX5_takes_24 (by decide) (fun c_24 => ?_) (fun c_24 => ?_)
    · skip
      first
        | exact j47 q1 hq1 (fun h => absurd h c_24) e2
        | (have hk0 : q.2.2.2.2.1 = 0 := by rw [← e3.1]; exact c_24
           have e4 : qTak m_tape m_size lo hi q = (q.2.2.2.1, qAdv m_tape m_size q) := by
             unfold qTak
             rw [if_neg (fun h => h hk0), if_neg (fun h => h e3.2), if_neg (fun h => h c_39)]
           exact j47 q hq (fun _ => e4) (fun h => absurd hk0 h))
        | (have hk0 : q.2.2.2.2.1 = 0 := by rw [← e3.1]; exact c_24
           have e4 : qTak m_tape m_size lo hi q = (0, qErr 2 q) := by
             unfold qTak
             rw [if_neg (fun h => h hk0), if_neg (fun h => h e3.2), if_pos c_39]
           exact j47 (qErr 2 q) (hq.err (by omega)) (fun h => absurd h (qErr_nz hk0 (by decide))) (fun _ => e4))
    · skip
      have e3 := e1 c_24
      have hv1 := hqv e3.2
      rw [e3.1]
      refine r_aload_0 C dX5_takes_27 ?_
      refine gM_value C q1401 dX5_takes_28 ?_
      refine r_i2l C dX5_takes_31 ?_
      refine r_iload_1 C dX5_takes_32 ?_
      refine r_i2l C dX5_takes_33 ?_
      refine r_iload_2 C dX5_takes_34 ?_
      refine r_i2l C dX5_takes_35 ?_
      refine r_cS3i C (c_X5_in hG (inR_L (by unfold inR; omega)) (inR_L hlo) (inR_L hhi)) q1506 pkX5_in dX5_takes_36 (fun z w h => ?_)
      obtain ⟨rfl, rfl⟩ := h
      refine r_ifneB (tgt := 47) C dX5_takes_39 (by decide) (fun c_39 => ?_) (fun c_39 => ?_)
      · skip
        first
          | exact j47 q1 hq1 (fun h => absurd h c_24) e2
          | (have hk0 : q.2.2.2.2.1 = 0 := by rw [← e3.1]; exact c_24
             have e4 : qTak m_tape m_size lo hi q = (q.2.2.2.1, qAdv m_tape m_size q) := by
               unfold qTak
               rw [if_neg (fun h => h hk0), if_neg (fun h => h e3.2), if_neg (fun h => h c_39)]
             exact j47 q hq (fun _ => e4) (fun h => absurd hk0 h))
          | (have hk0 : q.2.2.2.2.1 = 0 := by rw [← e3.1]; exact c_24
             have e4 : qTak m_tape m_size lo hi q = (0, qErr 2 q) := by
               unfold qTak
               rw [if_neg (fun h => h hk0), if_neg (fun h => h e3.2), if_pos c_39]
             exact j47 (qErr 2 q) (hq.err (by omega)) (fun h => absurd h (qErr_nz hk0 (by decide))) (fun _ => e4))
      · skip
        refine r_aload_0 C dX5_takes_42 ?_
        refine r_iconst C dX5_takes_43 ?_
        refine r_cV1v C (c_X5_errs hG (by unfold inR; omega)) (q0 := 0) rfl rfl q1566 pkX5_errs dX5_takes_44 (fun w h => ?_)
        subst h
        first
          | exact j47 q1 hq1 (fun h => absurd h c_24) e2
          | (have hk0 : q.2.2.2.2.1 = 0 := by rw [← e3.1]; exact c_24
             have e4 : qTak m_tape m_size lo hi q = (q.2.2.2.1, qAdv m_tape m_size q) := by
               unfold qTak
               rw [if_neg (fun h => h hk0), if_neg (fun h => h e3.2), if_neg (fun h => h c_39)]
             exact j47 q hq (fun _ => e4) (fun h => absurd hk0 h))
          | (have hk0 : q.2.2.2.2.1 = 0 := by rw [← e3.1]; exact c_24
             have e4 : qTak m_tape m_size lo hi q = (0, qErr 2 q) := by
               unfold qTak
               rw [if_neg (fun h => h hk0), if_neg (fun h => h e3.2), if_pos c_39]
             exact j47 (qErr 2 q) (hq.err (by omega)) (fun h => absurd h (qErr_nz hk0 (by decide))) (fun _ => e4))
  refine r_aload_0 C dX5_takes_0 ?_
  refine r_cV0i C (c_X5_good hG (by unfold inR; omega)) (q0 := 0) rfl rfl q1543 pkX5_good dX5_takes_1 (fun z w h => ?_)
  obtain ⟨rfl, rfl⟩ := h
  refine r_ifeqB (tgt := 20) C dX5_takes_4 (by decide) (fun c_4 => ?_) (fun c_4 => ?_)
  · skip
    first
      | exact j20 q hq (fun h => absurd h c_4) (fun h => qTak_bad h)
      | exact j20 q hq (fun _ => ⟨rfl, c_12⟩) (fun h => absurd c_4 h)
      | exact j20 q hq (fun _ => ⟨rfl, Classical.byContradiction c_12⟩) (fun h => absurd c_4 h)
      | (have e4 : qTak m_tape m_size lo hi q = (0, qErr 1 q) := by
           unfold qTak
           rw [if_neg (fun h => h c_4), if_pos c_12]
         exact j20 (qErr 1 q) (hq.err (by omega)) (fun h => absurd h (qErr_nz c_4 (by decide))) (fun _ => e4))
  · skip
    refine r_aload_0 C dX5_takes_7 ?_
    refine gM_token C q1400 dX5_takes_8 ?_
    refine r_iconst C dX5_takes_11 ?_
    refine r_if_icmpeq (tgt := 20) C dX5_takes_12 (by decide) (fun c_12 => ?_) (fun c_12 => ?_)
    · skip
      first
        | exact j20 q hq (fun h => absurd h c_4) (fun h => qTak_bad h)
        | exact j20 q hq (fun _ => ⟨rfl, c_12⟩) (fun h => absurd c_4 h)
        | exact j20 q hq (fun _ => ⟨rfl, Classical.byContradiction c_12⟩) (fun h => absurd c_4 h)
        | (have e4 : qTak m_tape m_size lo hi q = (0, qErr 1 q) := by
             unfold qTak
             rw [if_neg (fun h => h c_4), if_pos c_12]
           exact j20 (qErr 1 q) (hq.err (by omega)) (fun h => absurd h (qErr_nz c_4 (by decide))) (fun _ => e4))
    · skip
      refine r_aload_0 C dX5_takes_15 ?_
      refine r_iconst C dX5_takes_16 ?_
      refine r_cV1v C (c_X5_errs hG (by unfold inR; omega)) (q0 := 0) rfl rfl q1566 pkX5_errs dX5_takes_17 (fun w h => ?_)
      subst h
      first
        | exact j20 q hq (fun h => absurd h c_4) (fun h => qTak_bad h)
        | exact j20 q hq (fun _ => ⟨rfl, c_12⟩) (fun h => absurd c_4 h)
        | exact j20 q hq (fun _ => ⟨rfl, Classical.byContradiction c_12⟩) (fun h => absurd c_4 h)
        | (have e4 : qTak m_tape m_size lo hi q = (0, qErr 1 q) := by
             unfold qTak
             rw [if_neg (fun h => h c_4), if_pos c_12]
           exact j20 (qErr 1 q) (hq.err (by omega)) (fun h => absurd h (qErr_nz c_4 (by decide))) (fun _ => e4))
theorem c_X5_told (hG : Gok g) {q : Q6} {sa : Nat} {wd : List Int} {lo hi : Int} (TT : GT g) (S : StrG g sa wd) (hlo : inR lo) (hhi : inR hi) (hn : m_size ≤ 700) (hn0 : 0 ≤ m_size) (hT : TpOk m_tape) (hq : QOk m_size q) : XMet g yX5_told cX5_told 4 (some .int) (6) 0 0 [.ref (ρ 0), .ref sa, .int (jI lo), .int (jI hi)] (wM g ρ m_thrown m_world m_fresh m_waysBack m_acts m_images m_hasImage m_endOf m_strapMany m_tape m_taped m_five m_size (q.1) (q.2.1) (q.2.2.1) (q.2.2.2.1) (q.2.2.2.2.1) (q.2.2.2.2.2) m_budgetsTold m_loadsTold m_deadSet m_unknownOf m_nodeOf m_unknowns m_cells m_whole m_ordered m_drawnBy m_left m_aside m_bestDead m_bestAbove m_bestBelow m_widened m_widenedMany m_fewOf m_drawing ++ ex) (pI (fun z w => z = (qTld m_tape m_size wd lo hi q).1 ∧ w = (wM g ρ m_thrown m_world m_fresh m_waysBack m_acts m_images m_hasImage m_endOf m_strapMany m_tape m_taped m_five m_size (((qTld m_tape m_size wd lo hi q).2).1) (((qTld m_tape m_size wd lo hi q).2).2.1) (((qTld m_tape m_size wd lo hi q).2).2.2.1) (((qTld m_tape m_size wd lo hi q).2).2.2.2.1) (((qTld m_tape m_size wd lo hi q).2).2.2.2.2.1) (((qTld m_tape m_size wd lo hi q).2).2.2.2.2.2) m_budgetsTold m_loadsTold m_deadSet m_unknownOf m_nodeOf m_unknowns m_cells m_whole m_ordered m_drawnBy m_left m_aside m_bestDead m_bestAbove m_bestBelow m_widened m_widenedMany m_fewOf m_drawing ++ ex))) := by
  refine XMet.of (L := [some (.ref (ρ 0)), some (.ref sa), some (.int (jI lo)), some (.int (jI hi))]) hG (by decide +kernel) (Nat.le_of_ble_eq_true rfl) rfl (fun K C E => ?_)
  refine r_aload_0 C dX5_told_0 ?_
  refine r_aload_1 C dX5_told_1 ?_
  refine r_cV1v C (c_X5_expects hG TT S hn hn0 hT hq) (q0 := 0) rfl rfl q1556 pkX5_expects dX5_told_2 (fun w h => ?_)
  subst h
  refine r_aload_0 C dX5_told_5 ?_
  refine r_iload_2 C dX5_told_6 ?_
  refine r_iload_3 C dX5_told_7 ?_
  refine r_cV2i C (c_X5_takes hG hlo hhi hn hn0 hT hq.exp) (q0 := 0) rfl rfl q1575 pkX5_takes dX5_told_8 (fun z w h => ?_)
  obtain ⟨rfl, rfl⟩ := h
  refine r_ireturn C E dX5_told_11 ?_
  exact ⟨_, rfl, rfl, rfl⟩
end M20

