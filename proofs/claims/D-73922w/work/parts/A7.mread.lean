/-! the model reads -/
def mWords : List (Nat × List Int) := [(190, kGrid), (192, kColumns), (198, kRows), (202, kWidth), (204, kLimit), (206, kWear), (208, kAt), (216, kEast), (218, kSouth), (226, kDraws), (228, kGroup), (233, kIs), (234, kStrap), (239, kPad), (241, kLoad), (246, kBudget)]
/-- static facts: the model's text constants -/
def GMs (g : GX) (κ : Nat → Nat) : Prop := ∀ p ∈ mWords, LdG g RX5 p.1 (κ p.1) ∧ StrG g (κ p.1) p.2
theorem GMs.at {g : GX} {κ : Nat → Nat} (h : GMs g κ) (i : Nat) (w : List Int) (hm : (i, w) ∈ mWords) : LdG g RX5 i (κ i) ∧ StrG g (κ i) w := h (i, w) hm
theorem ffi_r {p : Int → Bool} : ∀ n : Nat, -1 ≤ ffi p n ∧ ffi p n < n := by
  intro n
  by_cases h : ∀ j : Int, 0 ≤ j → j < n → p j = false
  · rw [ffi_none n (fun j _ hj => h j (by omega) (by omega))]
    omega
  · have h2 : ∃ i : Nat, i < n ∧ p i = true := Classical.byContradiction (fun q => h (fun j h0 h1 => by
      cases hp : p j with
      | false => rfl
      | true => exact absurd ⟨j.toNat, by omega, by rw [show ((j.toNat : Nat) : Int) = j by omega]; exact hp⟩ q))
    obtain ⟨i, hi, hp⟩ := h2
    have h3 : ∃ i : Nat, (i < n ∧ p i = true) ∧ ∀ j : Nat, j < i → p j = false := by
      induction i using Nat.strongRecOn with
      | _ i ih =>
        by_cases hm : ∃ j : Nat, j < i ∧ p j = true
        · obtain ⟨j, hj, hpj⟩ := hm
          exact ih j hj (by omega) hpj
        · refine ⟨i, ⟨hi, hp⟩, fun j hj => ?_⟩
          cases hq : p j with
          | false => rfl
          | true => exact absurd ⟨j, hj, hq⟩ hm
    obtain ⟨i, ⟨hi, hp⟩, hj⟩ := h3
    rw [ffi_some n i (by omega) (by omega) hp (fun j h0 h1 => by
      have := hj j.toNat (by omega)
      rw [show ((j.toNat : Nat) : Int) = j by omega] at this
      exact this)]
    omega
theorem plc_in {c r x v : Int} (h : GW c r) (h0 : 0 ≤ x) (h1 : x ≤ c - 1) (h2 : 0 ≤ v) (h3 : v < r) : 0 ≤ c * v + x ∧ c * v + x < c * r := by
  have e1 : c * v ≤ c * (r - 1) := Int.mul_le_mul_of_nonneg_left (by omega) (by have := h.1; omega)
  have e2 : c * (r - 1) = c * r - c := by rw [Int.mul_sub, Int.mul_one]
  have e3 : 0 ≤ c * v := Int.mul_nonneg (by have := h.1; omega) h2
  omega
theorem qPlc_r {T : Int → Int} {n : Int} {fr : Int → Int} {but : Int} {q : Q6} (h : GW (fr 0) (fr 1)) : 0 ≤ (qPlc T n fr but q).1 ∧ (qPlc T n fr but q).1 < fr 0 * fr 1 := by
  have h1 : (qTak T n 0 (fr 0 - 1) (qExp T n kAt q)).1 = 0 ∨ _ := qTak_r
  have hc := h.1
  have hr := h.2.1
  unfold qPlc qPl3
  generalize qTak T n 0 (fr 0 - 1) (qExp T n kAt q) = x at h1 ⊢
  have h2 : (qTak T n 0 (fr 1 - 1) (qPl2 fr but x)).1 = 0 ∨ _ := qTak_r
  generalize qTak T n 0 (fr 1 - 1) (qPl2 fr but x) = y at h2 ⊢
  exact plc_in h (by omega) (by omega) (by omega) (by omega)
section M21
variable {g : GX} {ρ : Nat → Nat} {ex : va_W}
variable {m_thrown : Int} {m_world : Int → Int} {m_fresh : Int → Int} {m_waysBack : Int → Int} {m_acts : Int} {m_images : Int → Int} {m_hasImage : Int → Int} {m_endOf : Int → Int} {m_strapMany : Int} {m_tape : Int → Int} {m_taped : Int} {m_five : Int → Int} {m_size : Int} {m_at : Int} {m_from : Int} {m_token : Int} {m_value : Int} {m_faultKind : Int} {m_faultPlace : Int} {m_budgetsTold : Int} {m_loadsTold : Int} {m_deadSet : Int} {m_unknownOf : Int → Int} {m_nodeOf : Int → Int} {m_unknowns : Int} {m_cells : Int → Int} {m_whole : Int} {m_ordered : Int → Int} {m_drawnBy : Int → Int} {m_left : Int → Int} {m_aside : Int → Int} {m_bestDead : Int} {m_bestAbove : Int} {m_bestBelow : Int} {m_widened : Int → Int} {m_widenedMany : Int} {m_fewOf : Int → Int} {m_drawing : Int}
theorem c_X5_readPlace (hG : Gok g) {q : Q6} {but : Int} (TT : GT g) {κ : Nat → Nat} (GM : GMs g κ) (hn : m_size ≤ 700) (hn0 : 0 ≤ m_size) (hT : TpOk m_tape) (hq : QOk m_size q) (hb : 0 ≤ but ∧ but ≤ 2147483647) (hg : GW (m_fresh 0) (m_fresh 1)) : XMet g yX5_readPlace cX5_readPlace 4 (some .int) (6) 0 0 [.ref (ρ 0), .int (jI but)] (wM g ρ m_thrown m_world m_fresh m_waysBack m_acts m_images m_hasImage m_endOf m_strapMany m_tape m_taped m_five m_size (q.1) (q.2.1) (q.2.2.1) (q.2.2.2.1) (q.2.2.2.2.1) (q.2.2.2.2.2) m_budgetsTold m_loadsTold m_deadSet m_unknownOf m_nodeOf m_unknowns m_cells m_whole m_ordered m_drawnBy m_left m_aside m_bestDead m_bestAbove m_bestBelow m_widened m_widenedMany m_fewOf m_drawing ++ ex) (pI (fun z w => z = (qPlc m_tape m_size m_fresh but q).1 ∧ w = (wM g ρ m_thrown m_world m_fresh m_waysBack m_acts m_images m_hasImage m_endOf m_strapMany m_tape m_taped m_five m_size (((qPlc m_tape m_size m_fresh but q).2).1) (((qPlc m_tape m_size m_fresh but q).2).2.1) (((qPlc m_tape m_size m_fresh but q).2).2.2.1) (((qPlc m_tape m_size m_fresh but q).2).2.2.2.1) (((qPlc m_tape m_size m_fresh but q).2).2.2.2.2.1) (((qPlc m_tape m_size m_fresh but q).2).2.2.2.2.2) m_budgetsTold m_loadsTold m_deadSet m_unknownOf m_nodeOf m_unknowns m_cells m_whole m_ordered m_drawnBy m_left m_aside m_bestDead m_bestAbove m_bestBelow m_widened m_widenedMany m_fewOf m_drawing ++ ex))) := by
  refine XMet.of (L := [some (.ref (ρ 0)), some (.int (jI but)), none, none]) hG (by decide +kernel) (Nat.le_of_ble_eq_true rfl) rfl (fun K C E => ?_)
  have h9 := hg.c9
  have hc1 := hg.1
  have hr1 := hg.2.1
  have hcr := hg.2.2
  refine r_aload_0 C dX5_readPlace_0 ?_
  refine r_ldcS C (GM.at 208 kAt (by decide)).1 dX5_readPlace_1 ?_
  refine r_cV1v C (c_X5_expects hG TT (GM.at 208 kAt (by decide)).2 hn hn0 hT hq) (q0 := 0) rfl rfl q1556 pkX5_expects dX5_readPlace_3 (fun w h => ?_)
  subst h
  refine r_aload_0 C dX5_readPlace_6 ?_
  refine r_iconst C dX5_readPlace_7 ?_
  refine r_aload_0 C dX5_readPlace_8 ?_
  refine gM_fresh C q1387 dX5_readPlace_9 ?_
  refine r_iconst C dX5_readPlace_12 ?_
  refine ldM_fresh C dX5_readPlace_13 ?_
  refine r_iconst C dX5_readPlace_14 ?_
  refine r_isub C dX5_readPlace_15 ?_
  refine r_cV2i C (c_X5_takes hG (by unfold inR; omega) (by unfold inR; omega) hn hn0 hT hq.exp) (q0 := 0) rfl rfl q1575 pkX5_takes dX5_readPlace_16 (fun z w h => ?_)
  obtain ⟨rfl, rfl⟩ := h
  refine r_istore_2 C dX5_readPlace_19 ?_
  generalize hx : qTak m_tape m_size 0 (m_fresh 0 - 1) (qExp m_tape m_size kAt q) = x
  have hxo : QOk m_size x.2 := by rw [← hx]; exact hq.exp.tak
  have hxr : x.1 = 0 ∨ (0 ≤ x.1 ∧ x.1 ≤ m_fresh 0 - 1) := by rw [← hx]; exact qTak_r
  have hE : qPlc m_tape m_size m_fresh but q = qPl3 m_tape m_size m_fresh but x := by rw [← hx]; rfl
  have hxk := hxo.2.2.2.2.1
  have hxt := hxo.2.2.1
  have hxv := hxo.2.2.2.1
  have j73 : ∀ q3 : Q6, qPl2 m_fresh but x = q3 → AW g K (wM g ρ m_thrown m_world m_fresh m_waysBack m_acts m_images m_hasImage m_endOf m_strapMany m_tape m_taped m_five m_size (q3.1) (q3.2.1) (q3.2.2.1) (q3.2.2.2.1) (q3.2.2.2.2.1) (q3.2.2.2.2.2) m_budgetsTold m_loadsTold m_deadSet m_unknownOf m_nodeOf m_unknowns m_cells m_whole m_ordered m_drawnBy m_left m_aside m_bestDead m_bestAbove m_bestBelow m_widened m_widenedMany m_fewOf m_drawing ++ ex) 0 0 73 [some (.ref (ρ 0)), some (.int (jI but)), some (.int (jI x.1)), none] [] := by
    intro q3 e3
    have ho3 : QOk m_size q3 := by rw [← e3]; exact hxo.pl2
    refine r_aload_0 C dX5_readPlace_73 ?_
    refine r_iconst C dX5_readPlace_74 ?_
    refine r_aload_0 C dX5_readPlace_75 ?_
    refine gM_fresh C q1387 dX5_readPlace_76 ?_
    refine r_iconst C dX5_readPlace_79 ?_
    refine ldM_fresh C dX5_readPlace_80 ?_
    refine r_iconst C dX5_readPlace_81 ?_
    refine r_isub C dX5_readPlace_82 ?_
    refine r_cV2i C (c_X5_takes hG (by unfold inR; omega) (by unfold inR; omega) hn hn0 hT ho3) (q0 := 0) rfl rfl q1575 pkX5_takes dX5_readPlace_83 (fun z w h => ?_)
    obtain ⟨rfl, rfl⟩ := h
    refine r_istore_3 C dX5_readPlace_86 ?_
    refine r_aload_0 C dX5_readPlace_87 ?_
    refine gM_fresh C q1387 dX5_readPlace_88 ?_
    refine r_iconst C dX5_readPlace_91 ?_
    refine ldM_fresh C dX5_readPlace_92 ?_
    refine r_iload_3 C dX5_readPlace_93 ?_
    refine r_imul C dX5_readPlace_94 ?_
    refine r_iload_2 C dX5_readPlace_95 ?_
    refine r_iadd C dX5_readPlace_96 ?_
    refine r_ireturn C E dX5_readPlace_97 ?_
    rw [hE]
    unfold qPl3
    rw [e3]
    exact ⟨_, rfl, rfl, rfl⟩
  clear hx
  refine r_aload_0 C dX5_readPlace_20 ?_
  refine r_cV0i C (c_X5_good hG (by unfold inR; omega)) (q0 := 0) rfl rfl q1543 pkX5_good dX5_readPlace_21 (fun z w h => ?_)
  obtain ⟨rfl, rfl⟩ := h
  refine r_ifeqB (tgt := 73) C dX5_readPlace_24 (by decide) (fun c_24 => ?_) (fun c_24 => ?_)
  · skip
    first
      | exact j73 _ (if_neg (fun h => c_24 h.1.1))
      | exact j73 _ (if_neg (fun h => c_32 h.1.2.1))
      | exact j73 _ (if_neg (fun h => by have := h.1.2.2; omega))
      | exact j73 _ (if_neg (fun h => c_65 h.2))
      | exact j73 _ (if_pos ⟨⟨c_24, c_32, by omega⟩, c_65⟩)
  · skip
    refine r_aload_0 C dX5_readPlace_27 ?_
    refine gM_token C q1400 dX5_readPlace_28 ?_
    refine r_iconst C dX5_readPlace_31 ?_
    refine r_if_icmpne (tgt := 73) C dX5_readPlace_32 (by decide) (fun c_32 => ?_) (fun c_32 => ?_)
    · skip
      first
        | exact j73 _ (if_neg (fun h => c_24 h.1.1))
        | exact j73 _ (if_neg (fun h => c_32 h.1.2.1))
        | exact j73 _ (if_neg (fun h => by have := h.1.2.2; omega))
        | exact j73 _ (if_neg (fun h => c_65 h.2))
        | exact j73 _ (if_pos ⟨⟨c_24, c_32, by omega⟩, c_65⟩)
    · skip
      have hv := hxv c_32
      refine r_aload_0 C dX5_readPlace_35 ?_
      refine gM_value C q1401 dX5_readPlace_36 ?_
      refine r_aload_0 C dX5_readPlace_39 ?_
      refine gM_fresh C q1387 dX5_readPlace_40 ?_
      refine r_iconst C dX5_readPlace_43 ?_
      refine ldM_fresh C dX5_readPlace_44 ?_
      refine r_if_icmpge (tgt := 73) C dX5_readPlace_45 (by decide) (fun c_45 => ?_) (fun c_45 => ?_)
      · skip
        first
          | exact j73 _ (if_neg (fun h => c_24 h.1.1))
          | exact j73 _ (if_neg (fun h => c_32 h.1.2.1))
          | exact j73 _ (if_neg (fun h => by have := h.1.2.2; omega))
          | exact j73 _ (if_neg (fun h => c_65 h.2))
          | exact j73 _ (if_pos ⟨⟨c_24, c_32, by omega⟩, c_65⟩)
      · skip
        have hpl := plc_in hg (x := x.1) (v := x.2.2.2.2.1) (by omega) (by omega) hv.1 (by omega)
        refine r_iload_1 C dX5_readPlace_48 ?_
        refine r_aload_0 C dX5_readPlace_49 ?_
        refine gM_fresh C q1387 dX5_readPlace_50 ?_
        refine r_iconst C dX5_readPlace_53 ?_
        refine ldM_fresh C dX5_readPlace_54 ?_
        refine r_aload_0 C dX5_readPlace_55 ?_
        refine gM_value C q1401 dX5_readPlace_56 ?_
        refine r_imul C dX5_readPlace_59 ?_
        refine r_iload_2 C dX5_readPlace_60 ?_
        refine r_iadd C dX5_readPlace_61 ?_
        refine r_cS2i C (c_X5_isOf hG hb ⟨hpl.1, by omega⟩) q1606 pkX5_isOf dX5_readPlace_62 (fun z w h => ?_)
        obtain ⟨rfl, rfl⟩ := h
        refine r_ifeqB (tgt := 73) C dX5_readPlace_65 (by decide) (fun c_65 => ?_) (fun c_65 => ?_)
        · skip
          first
            | exact j73 _ (if_neg (fun h => c_24 h.1.1))
            | exact j73 _ (if_neg (fun h => c_32 h.1.2.1))
            | exact j73 _ (if_neg (fun h => by have := h.1.2.2; omega))
            | exact j73 _ (if_neg (fun h => c_65 h.2))
            | exact j73 _ (if_pos ⟨⟨c_24, c_32, by omega⟩, c_65⟩)
        · skip
          refine r_aload_0 C dX5_readPlace_68 ?_
          refine r_iconst C dX5_readPlace_69 ?_
          refine r_cV1v C (c_X5_errs hG (by unfold inR; omega)) (q0 := 0) rfl rfl q1566 pkX5_errs dX5_readPlace_70 (fun w h => ?_)
          subst h
          first
            | exact j73 _ (if_neg (fun h => c_24 h.1.1))
            | exact j73 _ (if_neg (fun h => c_32 h.1.2.1))
            | exact j73 _ (if_neg (fun h => by have := h.1.2.2; omega))
            | exact j73 _ (if_neg (fun h => c_65 h.2))
            | exact j73 _ (if_pos ⟨⟨c_24, c_32, by omega⟩, c_65⟩)
theorem c_X5_readStrap (hG : Gok g) {q : Q6} (TT : GT g) {κ : Nat → Nat} (GM : GMs g κ) (hn : m_size ≤ 700) (hn0 : 0 ≤ m_size) (hT : TpOk m_tape) (hq : QOk m_size q) (hg : GW (m_fresh 0) (m_fresh 1)) (he : Ends (m_fresh 0) (m_fresh 1) m_endOf) (hs : m_strapMany = sN (m_fresh 0) (m_fresh 1)) : XMet g yX5_readStrap cX5_readStrap 6 none (7) 0 0 [.ref (ρ 0)] (wM g ρ m_thrown m_world m_fresh m_waysBack m_acts m_images m_hasImage m_endOf m_strapMany m_tape m_taped m_five m_size (q.1) (q.2.1) (q.2.2.1) (q.2.2.2.1) (q.2.2.2.2.1) (q.2.2.2.2.2) m_budgetsTold m_loadsTold m_deadSet m_unknownOf m_nodeOf m_unknowns m_cells m_whole m_ordered m_drawnBy m_left m_aside m_bestDead m_bestAbove m_bestBelow m_widened m_widenedMany m_fewOf m_drawing ++ ex) (pV (fun w => w = (wM g ρ m_thrown m_world (fSt m_tape m_size m_fresh (qPlc m_tape m_size m_fresh 0 q)) m_waysBack m_acts m_images m_hasImage m_endOf m_strapMany m_tape m_taped m_five m_size (((qSt4 m_tape m_size m_fresh (qPlc m_tape m_size m_fresh 0 q)).2).1) (((qSt4 m_tape m_size m_fresh (qPlc m_tape m_size m_fresh 0 q)).2).2.1) (((qSt4 m_tape m_size m_fresh (qPlc m_tape m_size m_fresh 0 q)).2).2.2.1) (((qSt4 m_tape m_size m_fresh (qPlc m_tape m_size m_fresh 0 q)).2).2.2.2.1) (((qSt4 m_tape m_size m_fresh (qPlc m_tape m_size m_fresh 0 q)).2).2.2.2.2.1) (((qSt4 m_tape m_size m_fresh (qPlc m_tape m_size m_fresh 0 q)).2).2.2.2.2.2) m_budgetsTold m_loadsTold m_deadSet m_unknownOf m_nodeOf m_unknowns m_cells m_whole m_ordered m_drawnBy m_left m_aside m_bestDead m_bestAbove m_bestBelow m_widened m_widenedMany m_fewOf m_drawing ++ ex))) := by
  refine XMet.of (L := [some (.ref (ρ 0)), none, none, none, none, none]) hG (by decide +kernel) (Nat.le_of_ble_eq_true rfl) rfl (fun K C E => ?_)
  have h9 := hg.c9
  have hc1 := hg.1
  have hr1 := hg.2.1
  have hcr := hg.2.2
  refine r_aload_0 C dX5_readStrap_0 ?_
  refine r_iconst C dX5_readStrap_1 ?_
  refine r_cV1i C (c_X5_readPlace hG TT GM hn hn0 hT hq (by omega) hg) (q0 := 0) rfl rfl q1601 pkX5_readPlace dX5_readStrap_2 (fun z w h => ?_)
  obtain ⟨rfl, rfl⟩ := h
  refine r_istore_1 C dX5_readStrap_5 ?_
  have hpr := qPlc_r (T := m_tape) (n := m_size) (but := 0) (q := q) hg
  have hpo : QOk m_size (qPlc m_tape m_size m_fresh 0 q).2 := hq.plc
  generalize qPlc m_tape m_size m_fresh 0 q = p at hpr hpo E ⊢
  have j142 : ∀ (q4 : Q6) (to b : Int), qSt3 m_tape m_size (qSt2 (isWy (m_fresh 0) (m_fresh 1) p.1 (qIs m_tape kEast p.2)) (qSt1 m_tape p.2)) = q4 → to = toW (m_fresh 0) p.1 (qIs m_tape kEast p.2) → AW g K (wM g ρ m_thrown m_world m_fresh m_waysBack m_acts m_images m_hasImage m_endOf m_strapMany m_tape m_taped m_five m_size (q4.1) (q4.2.1) (q4.2.2.1) (q4.2.2.2.1) (q4.2.2.2.2.1) (q4.2.2.2.2.2) m_budgetsTold m_loadsTold m_deadSet m_unknownOf m_nodeOf m_unknowns m_cells m_whole m_ordered m_drawnBy m_left m_aside m_bestDead m_bestAbove m_bestBelow m_widened m_widenedMany m_fewOf m_drawing ++ ex) 0 0 142 [some (.ref (ρ 0)), some (.int (jI p.1)), some (.int (jI (if qIs m_tape kEast p.2 = true then 1 else 0))), some (.int (jI to)), some (.int (jI b)), none] [] := by
    intro q4 to b e4 et
    have ho4 : QOk m_size q4 := by rw [← e4]; exact hpo.st1.st2.st3
    have hE : qSt4 m_tape m_size m_fresh p = qTld m_tape m_size kWidth 0 4 q4 := by unfold qSt4; rw [e4]
    have hto : 0 ≤ to ∧ to ≤ 18 := by
      rw [et]
      unfold toW
      split <;> omega
    refine r_aload_0 C dX5_readStrap_142 ?_
    refine r_ldcS C (GM.at 202 kWidth (by decide)).1 dX5_readStrap_143 ?_
    refine r_iconst C dX5_readStrap_145 ?_
    refine r_iconst C dX5_readStrap_146 ?_
    refine r_cV3i C (c_X5_told hG TT (GM.at 202 kWidth (by decide)).2 (by unfold inR; omega) (by unfold inR; omega) hn hn0 hT ho4) (q0 := 0) rfl rfl q1571 pkX5_told dX5_readStrap_147 (fun z w h => ?_)
    obtain ⟨rfl, rfl⟩ := h
    have ho5 : QOk m_size (qTld m_tape m_size kWidth 0 4 q4).2 := ho4.tld
    have ho5k := ho5.2.2.2.2.1
    refine r_istore_5 C dX5_readStrap_150 ?_
    refine r_aload_0 C dX5_readStrap_152 ?_
    refine r_cV0i C (c_X5_good hG (by unfold inR; omega)) (q0 := 0) rfl rfl q1543 pkX5_good dX5_readStrap_153 (fun z w h => ?_)
    obtain ⟨rfl, rfl⟩ := h
    refine r_ifeqB (tgt := 175) C dX5_readStrap_156 (by decide) (fun c_156 => ?_) (fun c_156 => ?_)
    · skip
      refine r_return C E dX5_readStrap_175 ?_
      unfold fSt
      rw [hE]
      first
        | (rw [if_neg c_156]; exact ⟨rfl, rfl⟩)
        | (rw [if_pos c_156, ← et]; exact ⟨rfl, rfl⟩)
    · skip
      refine r_aload_0 C dX5_readStrap_159 ?_
      refine gM_fresh C q1387 dX5_readStrap_160 ?_
      refine r_bipush C dX5_readStrap_163 ?_
      refine r_aload_0 C dX5_readStrap_165 ?_
      refine r_iload_1 C dX5_readStrap_166 ?_
      refine r_iload_3 C dX5_readStrap_167 ?_
      refine r_cV2i C (c_X5_strapOf hG (by unfold inR; omega) (by unfold inR; omega) hg he hs) (q0 := 0) rfl rfl q1611 pkX5_strapOf dX5_readStrap_168 (fun z w h => ?_)
      obtain ⟨rfl, rfl⟩ := h
      have hk := ffi_r (p := fun k => decide (sF (m_fresh 0) (m_fresh 1) k = (if p.1 ≤ to then p.1 else to) ∧ sT (m_fresh 0) (m_fresh 1) k = (if p.1 ≤ to then to else p.1))) (sN (m_fresh 0) (m_fresh 1)).toNat
      have h12 := sN_12 hg
      have h00 := sN_0 (c := m_fresh 0) (r := m_fresh 1)
      refine r_iadd C dX5_readStrap_171 ?_
      refine r_iload_5 C dX5_readStrap_172 ?_
      refine stM_fresh C dX5_readStrap_174 ?_
      refine r_return C E dX5_readStrap_175 ?_
      unfold fSt
      rw [hE]
      first
        | (rw [if_neg c_156]; exact ⟨rfl, rfl⟩)
        | (rw [if_pos c_156, ← et]; exact ⟨rfl, rfl⟩)
  have j131 : ∀ (q3 : Q6) (to b : Int), qSt2 (isWy (m_fresh 0) (m_fresh 1) p.1 (qIs m_tape kEast p.2)) (qSt1 m_tape p.2) = q3 → to = toW (m_fresh 0) p.1 (qIs m_tape kEast p.2) → AW g K (wM g ρ m_thrown m_world m_fresh m_waysBack m_acts m_images m_hasImage m_endOf m_strapMany m_tape m_taped m_five m_size (q3.1) (q3.2.1) (q3.2.2.1) (q3.2.2.2.1) (q3.2.2.2.2.1) (q3.2.2.2.2.2) m_budgetsTold m_loadsTold m_deadSet m_unknownOf m_nodeOf m_unknowns m_cells m_whole m_ordered m_drawnBy m_left m_aside m_bestDead m_bestAbove m_bestBelow m_widened m_widenedMany m_fewOf m_drawing ++ ex) 0 0 131 [some (.ref (ρ 0)), some (.int (jI p.1)), some (.int (jI (if qIs m_tape kEast p.2 = true then 1 else 0))), some (.int (jI to)), some (.int (jI b)), none] [] := by
    intro q3 to b e3 et
    have ho3 : QOk m_size q3 := by rw [← e3]; exact hpo.st1.st2
    have hok := ho3.2.2.2.2.1
    refine r_aload_0 C dX5_readStrap_131 ?_
    refine r_cV0i C (c_X5_good hG (by unfold inR; omega)) (q0 := 0) rfl rfl q1543 pkX5_good dX5_readStrap_132 (fun z w h => ?_)
    obtain ⟨rfl, rfl⟩ := h
    refine r_ifeqB (tgt := 142) C dX5_readStrap_135 (by decide) (fun c_135 => ?_) (fun c_135 => ?_)
    · skip
      first
        | exact j142 _ to b (by rw [e3]; exact if_neg c_135) et
        | exact j142 _ to b (by rw [e3]; exact if_pos c_135) et
    · skip
      refine r_aload_0 C dX5_readStrap_138 ?_
      refine r_cV0v C (c_X5_advance hG hn hn0 hT ho3.1) (q0 := 0) rfl rfl q1529 pkX5_advance dX5_readStrap_139 (fun w h => ?_)
      subst h
      first
        | exact j142 _ to b (by rw [e3]; exact if_neg c_135) et
        | exact j142 _ to b (by rw [e3]; exact if_pos c_135) et
  have j114 : ∀ (q2 : Q6) (to b : Int), qSt1 m_tape p.2 = q2 → to = toW (m_fresh 0) p.1 (qIs m_tape kEast p.2) → b = (if isWy (m_fresh 0) (m_fresh 1) p.1 (qIs m_tape kEast p.2) = true then 1 else 0) → AW g K (wM g ρ m_thrown m_world m_fresh m_waysBack m_acts m_images m_hasImage m_endOf m_strapMany m_tape m_taped m_five m_size (q2.1) (q2.2.1) (q2.2.2.1) (q2.2.2.2.1) (q2.2.2.2.2.1) (q2.2.2.2.2.2) m_budgetsTold m_loadsTold m_deadSet m_unknownOf m_nodeOf m_unknowns m_cells m_whole m_ordered m_drawnBy m_left m_aside m_bestDead m_bestAbove m_bestBelow m_widened m_widenedMany m_fewOf m_drawing ++ ex) 0 0 114 [some (.ref (ρ 0)), some (.int (jI p.1)), some (.int (jI (if qIs m_tape kEast p.2 = true then 1 else 0))), some (.int (jI to)), some (.int (jI b)), none] [] := by
    intro q2 to b e2 et eb
    have ho2 : QOk m_size q2 := by rw [← e2]; exact hpo.st1
    have hok := ho2.2.2.2.2.1
    have hbr : inR b := by
      rw [eb]
      unfold inR
      split <;> omega
    refine r_aload_0 C dX5_readStrap_114 ?_
    refine r_cV0i C (c_X5_good hG (by unfold inR; omega)) (q0 := 0) rfl rfl q1543 pkX5_good dX5_readStrap_115 (fun z w h => ?_)
    obtain ⟨rfl, rfl⟩ := h
    refine r_ifeqB (tgt := 131) C dX5_readStrap_118 (by decide) (fun c_118 => ?_) (fun c_118 => ?_)
    · skip
      first
        | exact j131 _ to b (by rw [e2]; exact if_neg (fun h => c_118 h.1)) et
        | exact j131 _ to b (by rw [e2]; exact if_neg (fun h => c_123 (by rw [eb, h.2]; rfl))) et
        | exact j131 _ to b (by
            rw [e2]
            refine if_pos ⟨c_118, ?_⟩
            cases hw : isWy (m_fresh 0) (m_fresh 1) p.1 (qIs m_tape kEast p.2) with
            | false => rfl
            | true =>
              rw [hw, if_pos rfl] at eb
              omega) et
    · skip
      refine r_iload_4 C dX5_readStrap_121 ?_
      refine r_ifne (tgt := 131) C dX5_readStrap_123 (by decide) (fun c_123 => ?_) (fun c_123 => ?_)
      · skip
        first
          | exact j131 _ to b (by rw [e2]; exact if_neg (fun h => c_118 h.1)) et
          | exact j131 _ to b (by rw [e2]; exact if_neg (fun h => c_123 (by rw [eb, h.2]; rfl))) et
          | exact j131 _ to b (by
              rw [e2]
              refine if_pos ⟨c_118, ?_⟩
              cases hw : isWy (m_fresh 0) (m_fresh 1) p.1 (qIs m_tape kEast p.2) with
              | false => rfl
              | true =>
                rw [hw, if_pos rfl] at eb
                omega) et
      · skip
        refine r_aload_0 C dX5_readStrap_126 ?_
        refine r_iconst C dX5_readStrap_127 ?_
        refine r_cV1v C (c_X5_errs hG (by unfold inR; omega)) (q0 := 0) rfl rfl q1566 pkX5_errs dX5_readStrap_128 (fun w h => ?_)
        subst h
        first
          | exact j131 _ to b (by rw [e2]; exact if_neg (fun h => c_118 h.1)) et
          | exact j131 _ to b (by rw [e2]; exact if_neg (fun h => c_123 (by rw [eb, h.2]; rfl))) et
          | exact j131 _ to b (by
              rw [e2]
              refine if_pos ⟨c_118, ?_⟩
              cases hw : isWy (m_fresh 0) (m_fresh 1) p.1 (qIs m_tape kEast p.2) with
              | false => rfl
              | true =>
                rw [hw, if_pos rfl] at eb
                omega) et
  have j57 : ∀ (q2 : Q6) (to : Int), qSt1 m_tape p.2 = q2 → to = toW (m_fresh 0) p.1 (qIs m_tape kEast p.2) → AW g K (wM g ρ m_thrown m_world m_fresh m_waysBack m_acts m_images m_hasImage m_endOf m_strapMany m_tape m_taped m_five m_size (q2.1) (q2.2.1) (q2.2.2.1) (q2.2.2.2.1) (q2.2.2.2.2.1) (q2.2.2.2.2.2) m_budgetsTold m_loadsTold m_deadSet m_unknownOf m_nodeOf m_unknowns m_cells m_whole m_ordered m_drawnBy m_left m_aside m_bestDead m_bestAbove m_bestBelow m_widened m_widenedMany m_fewOf m_drawing ++ ex) 0 0 57 [some (.ref (ρ 0)), some (.int (jI p.1)), some (.int (jI (if qIs m_tape kEast p.2 = true then 1 else 0))), some (.int (jI to)), none, none] [] := by
    intro q2 to e2 et
    have hrem : -10 ≤ Int.tmod p.1 (m_fresh 0) ∧ Int.tmod p.1 (m_fresh 0) ≤ 10 := by
      have h1 := Int.tmod_lt_of_pos p.1 (show 0 < m_fresh 0 by omega)
      have h2 := Int.tmod_nonneg (m_fresh 0) hpr.1
      omega
    have hdv : 0 ≤ Int.tdiv p.1 (m_fresh 0) ∧ Int.tdiv p.1 (m_fresh 0) ≤ 10 := by
      have h1 := Int.tdiv_nonneg hpr.1 (show 0 ≤ m_fresh 0 by omega)
      have h2 := Int.tdiv_le_self (b := m_fresh 0) hpr.1
      omega
    refine r_iload_2 C dX5_readStrap_57 ?_
    refine r_ifeqB (tgt := 88) C dX5_readStrap_58 (by decide) (fun c_58 => ?_) (fun c_58 => ?_)
    · skip
      refine r_iload_1 C dX5_readStrap_88 ?_
      refine r_aload_0 C dX5_readStrap_89 ?_
      refine gM_fresh C q1387 dX5_readStrap_90 ?_
      refine r_iconst C dX5_readStrap_93 ?_
      refine ldM_fresh C dX5_readStrap_94 ?_
      refine r_idiv C dX5_readStrap_95 ?_
      refine r_aload_0 C dX5_readStrap_96 ?_
      refine gM_fresh C q1387 dX5_readStrap_97 ?_
      refine r_iconst C dX5_readStrap_100 ?_
      refine ldM_fresh C dX5_readStrap_101 ?_
      refine r_iconst C dX5_readStrap_102 ?_
      refine r_isub C dX5_readStrap_103 ?_
      refine r_if_icmpge (tgt := 111) C dX5_readStrap_104 (by decide) (fun c_104 => ?_) (fun c_104 => ?_)
      · skip
        refine r_iconst C dX5_readStrap_111 ?_
        refine r_istore_4 C dX5_readStrap_112 ?_
        refine j114 _ to _ e2 et ?_
        unfold isWy
        first
          | (rw [if_pos c_58, if_pos (decide_eq_true (by omega))])
          | (rw [if_pos c_58, if_neg (by rw [decide_eq_true_iff]; omega)])
          | (rw [if_neg c_58, if_pos (decide_eq_true (by omega))])
          | (rw [if_neg c_58, if_neg (by rw [decide_eq_true_iff]; omega)])
      · skip
        refine r_iconst C dX5_readStrap_107 ?_
        refine r_goto (tgt := 112) C dX5_readStrap_108 (by decide) ?_
        refine r_istore_4 C dX5_readStrap_112 ?_
        refine j114 _ to _ e2 et ?_
        unfold isWy
        first
          | (rw [if_pos c_58, if_pos (decide_eq_true (by omega))])
          | (rw [if_pos c_58, if_neg (by rw [decide_eq_true_iff]; omega)])
          | (rw [if_neg c_58, if_pos (decide_eq_true (by omega))])
          | (rw [if_neg c_58, if_neg (by rw [decide_eq_true_iff]; omega)])
    · skip
      refine r_iload_1 C dX5_readStrap_61 ?_
      refine r_aload_0 C dX5_readStrap_62 ?_
      refine gM_fresh C q1387 dX5_readStrap_63 ?_
      refine r_iconst C dX5_readStrap_66 ?_
      refine ldM_fresh C dX5_readStrap_67 ?_
      refine r_irem C dX5_readStrap_68 ?_
      refine r_aload_0 C dX5_readStrap_69 ?_
      refine gM_fresh C q1387 dX5_readStrap_70 ?_
      refine r_iconst C dX5_readStrap_73 ?_
      refine ldM_fresh C dX5_readStrap_74 ?_
      refine r_iconst C dX5_readStrap_75 ?_
      refine r_isub C dX5_readStrap_76 ?_
      refine r_if_icmpge (tgt := 84) C dX5_readStrap_77 (by decide) (fun c_77 => ?_) (fun c_77 => ?_)
      · skip
        refine r_iconst C dX5_readStrap_84 ?_
        refine r_goto (tgt := 112) C dX5_readStrap_85 (by decide) ?_
        refine r_istore_4 C dX5_readStrap_112 ?_
        refine j114 _ to _ e2 et ?_
        unfold isWy
        first
          | (rw [if_pos c_58, if_pos (decide_eq_true (by omega))])
          | (rw [if_pos c_58, if_neg (by rw [decide_eq_true_iff]; omega)])
          | (rw [if_neg c_58, if_pos (decide_eq_true (by omega))])
          | (rw [if_neg c_58, if_neg (by rw [decide_eq_true_iff]; omega)])
      · skip
        refine r_iconst C dX5_readStrap_80 ?_
        refine r_goto (tgt := 112) C dX5_readStrap_81 (by decide) ?_
        refine r_istore_4 C dX5_readStrap_112 ?_
        refine j114 _ to _ e2 et ?_
        unfold isWy
        first
          | (rw [if_pos c_58, if_pos (decide_eq_true (by omega))])
          | (rw [if_pos c_58, if_neg (by rw [decide_eq_true_iff]; omega)])
          | (rw [if_neg c_58, if_pos (decide_eq_true (by omega))])
          | (rw [if_neg c_58, if_neg (by rw [decide_eq_true_iff]; omega)])
  have j38 : ∀ q2 : Q6, qSt1 m_tape p.2 = q2 → AW g K (wM g ρ m_thrown m_world m_fresh m_waysBack m_acts m_images m_hasImage m_endOf m_strapMany m_tape m_taped m_five m_size (q2.1) (q2.2.1) (q2.2.2.1) (q2.2.2.2.1) (q2.2.2.2.2.1) (q2.2.2.2.2.2) m_budgetsTold m_loadsTold m_deadSet m_unknownOf m_nodeOf m_unknowns m_cells m_whole m_ordered m_drawnBy m_left m_aside m_bestDead m_bestAbove m_bestBelow m_widened m_widenedMany m_fewOf m_drawing ++ ex) 0 0 38 [some (.ref (ρ 0)), some (.int (jI p.1)), some (.int (jI (if qIs m_tape kEast p.2 = true then 1 else 0))), none, none, none] [] := by
    intro q2 e2
    refine r_iload_2 C dX5_readStrap_38 ?_
    refine r_ifeqB (tgt := 48) C dX5_readStrap_39 (by decide) (fun c_39 => ?_) (fun c_39 => ?_)
    · skip
      refine r_iload_1 C dX5_readStrap_48 ?_
      refine r_aload_0 C dX5_readStrap_49 ?_
      refine gM_fresh C q1387 dX5_readStrap_50 ?_
      refine r_iconst C dX5_readStrap_53 ?_
      refine ldM_fresh C dX5_readStrap_54 ?_
      refine r_iadd C dX5_readStrap_55 ?_
      refine r_istore_3 C dX5_readStrap_56 ?_
      refine j57 _ _ e2 ?_
      unfold toW
      first
        | rw [if_pos c_39]
        | rw [if_neg c_39]
    · skip
      refine r_iload_1 C dX5_readStrap_42 ?_
      refine r_iconst C dX5_readStrap_43 ?_
      refine r_iadd C dX5_readStrap_44 ?_
      refine r_goto (tgt := 56) C dX5_readStrap_45 (by decide) ?_
      refine r_istore_3 C dX5_readStrap_56 ?_
      refine j57 _ _ e2 ?_
      unfold toW
      first
        | rw [if_pos c_39]
        | rw [if_neg c_39]
  have hpk := hpo.2.2.2.2.1
  refine r_aload_0 C dX5_readStrap_6 ?_
  refine r_ldcS C (GM.at 216 kEast (by decide)).1 dX5_readStrap_7 ?_
  refine r_cV1i C (c_X5_is hG TT (GM.at 216 kEast (by decide)).2 hn hn0 hT hpo) (q0 := 0) rfl rfl q1560 pkX5_is dX5_readStrap_9 (fun z w h => ?_)
  obtain ⟨rfl, rfl⟩ := h
  refine r_istore_2 C dX5_readStrap_12 ?_
  refine r_aload_0 C dX5_readStrap_13 ?_
  refine r_cV0i C (c_X5_good hG (by unfold inR; omega)) (q0 := 0) rfl rfl q1543 pkX5_good dX5_readStrap_14 (fun z w h => ?_)
  obtain ⟨rfl, rfl⟩ := h
  refine r_ifeqB (tgt := 38) C dX5_readStrap_17 (by decide) (fun c_17 => ?_) (fun c_17 => ?_)
  · skip
    first
      | exact j38 _ (if_neg (fun h => c_17 h.1.1))
      | exact j38 _ (if_neg (fun h => by rw [c_21] at h; exact absurd h.1.2 (by decide)))
      | exact j38 _ (if_neg (fun h => by rw [c_30] at h; exact absurd h.2 (by decide)))
      | exact j38 _ (if_pos ⟨⟨c_17, Bool.eq_false_iff.mpr c_21⟩, Bool.eq_false_iff.mpr c_30⟩)
  · skip
    refine r_iload_2 C dX5_readStrap_20 ?_
    refine r_ifneB (tgt := 38) C dX5_readStrap_21 (by decide) (fun c_21 => ?_) (fun c_21 => ?_)
    · skip
      first
        | exact j38 _ (if_neg (fun h => c_17 h.1.1))
        | exact j38 _ (if_neg (fun h => by rw [c_21] at h; exact absurd h.1.2 (by decide)))
        | exact j38 _ (if_neg (fun h => by rw [c_30] at h; exact absurd h.2 (by decide)))
        | exact j38 _ (if_pos ⟨⟨c_17, Bool.eq_false_iff.mpr c_21⟩, Bool.eq_false_iff.mpr c_30⟩)
    · skip
      refine r_aload_0 C dX5_readStrap_24 ?_
      refine r_ldcS C (GM.at 218 kSouth (by decide)).1 dX5_readStrap_25 ?_
      refine r_cV1i C (c_X5_is hG TT (GM.at 218 kSouth (by decide)).2 hn hn0 hT hpo) (q0 := 0) rfl rfl q1560 pkX5_is dX5_readStrap_27 (fun z w h => ?_)
      obtain ⟨rfl, rfl⟩ := h
      refine r_ifneB (tgt := 38) C dX5_readStrap_30 (by decide) (fun c_30 => ?_) (fun c_30 => ?_)
      · skip
        first
          | exact j38 _ (if_neg (fun h => c_17 h.1.1))
          | exact j38 _ (if_neg (fun h => by rw [c_21] at h; exact absurd h.1.2 (by decide)))
          | exact j38 _ (if_neg (fun h => by rw [c_30] at h; exact absurd h.2 (by decide)))
          | exact j38 _ (if_pos ⟨⟨c_17, Bool.eq_false_iff.mpr c_21⟩, Bool.eq_false_iff.mpr c_30⟩)
      · skip
        refine r_aload_0 C dX5_readStrap_33 ?_
        refine r_iconst C dX5_readStrap_34 ?_
        refine r_cV1v C (c_X5_errs hG (by unfold inR; omega)) (q0 := 0) rfl rfl q1566 pkX5_errs dX5_readStrap_35 (fun w h => ?_)
        subst h
        first
          | exact j38 _ (if_neg (fun h => c_17 h.1.1))
          | exact j38 _ (if_neg (fun h => by rw [c_21] at h; exact absurd h.1.2 (by decide)))
          | exact j38 _ (if_neg (fun h => by rw [c_30] at h; exact absurd h.2 (by decide)))
          | exact j38 _ (if_pos ⟨⟨c_17, Bool.eq_false_iff.mpr c_21⟩, Bool.eq_false_iff.mpr c_30⟩)
end M21

