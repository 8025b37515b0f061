theorem rFst_22 {T : Int → Int} {n : Int} {s : RS} : (rFst T n s).2.2 = s.2.2 := by
  unfold rFst rFi1 rFi2 rFi3 rFi4
  split <;> rfl
section M23
variable {g : GX} {ρ : Nat → Nat} {ex : va_W}
variable {m_thrown : Int} {m_world : Int → Int} {m_fresh : Int → Int} {m_waysBack : Int → Int} {m_acts : Int} {m_images : Int → Int} {m_hasImage : Int → Int} {m_endOf : Int → Int} {m_strapMany : Int} {m_tape : Int → Int} {m_taped : Int} {m_five : Int → Int} {m_size : Int} {m_at : Int} {m_from : Int} {m_token : Int} {m_value : Int} {m_faultKind : Int} {m_faultPlace : Int} {m_budgetsTold : Int} {m_loadsTold : Int} {m_deadSet : Int} {m_unknownOf : Int → Int} {m_nodeOf : Int → Int} {m_unknowns : Int} {m_cells : Int → Int} {m_whole : Int} {m_ordered : Int → Int} {m_drawnBy : Int → Int} {m_left : Int → Int} {m_aside : Int → Int} {m_bestDead : Int} {m_bestAbove : Int} {m_bestBelow : Int} {m_widened : Int → Int} {m_widenedMany : Int} {m_fewOf : Int → Int} {m_drawing : Int}
theorem c_X5_readText (hG : Gok g) {q : Q6} (TT : GT g) {κ : Nat → Nat} (GM : GMs g κ) (hn : m_size ≤ 700) (hn0 : 0 ≤ m_size) (hT : TpOk m_tape) (hq : QOk m_size q) (hR : RI m_size (q, m_fresh, m_loadsTold, m_budgetsTold)) (he : m_fresh 4 ≠ 0 → Ends (m_fresh 0) (m_fresh 1) m_endOf ∧ m_strapMany = sN (m_fresh 0) (m_fresh 1)) : XMet g yX5_readText cX5_readText 1 none (9) 0 0 [.ref (ρ 0)] (wM g ρ m_thrown m_world m_fresh m_waysBack m_acts m_images m_hasImage m_endOf m_strapMany m_tape m_taped m_five m_size (q.1) (q.2.1) (q.2.2.1) (q.2.2.2.1) (q.2.2.2.2.1) (q.2.2.2.2.2) m_budgetsTold m_loadsTold m_deadSet m_unknownOf m_nodeOf m_unknowns m_cells m_whole m_ordered m_drawnBy m_left m_aside m_bestDead m_bestAbove m_bestBelow m_widened m_widenedMany m_fewOf m_drawing ++ ex) (pV (fun w => ∃ (e : Int → Int) (sm : Int), ((rTxt m_tape m_size (q, m_fresh, m_loadsTold, m_budgetsTold)).1.2.2.2.2.1 = 0 → Ends ((rTxt m_tape m_size (q, m_fresh, m_loadsTold, m_budgetsTold)).2.1 0) ((rTxt m_tape m_size (q, m_fresh, m_loadsTold, m_budgetsTold)).2.1 1) e ∧ sm = sN ((rTxt m_tape m_size (q, m_fresh, m_loadsTold, m_budgetsTold)).2.1 0) ((rTxt m_tape m_size (q, m_fresh, m_loadsTold, m_budgetsTold)).2.1 1)) ∧ w = (wM g ρ m_thrown m_world ((rTxt m_tape m_size (q, m_fresh, m_loadsTold, m_budgetsTold)).2.1) m_waysBack m_acts m_images m_hasImage (e) (sm) m_tape m_taped m_five m_size (((rTxt m_tape m_size (q, m_fresh, m_loadsTold, m_budgetsTold)).1).1) (((rTxt m_tape m_size (q, m_fresh, m_loadsTold, m_budgetsTold)).1).2.1) (((rTxt m_tape m_size (q, m_fresh, m_loadsTold, m_budgetsTold)).1).2.2.1) (((rTxt m_tape m_size (q, m_fresh, m_loadsTold, m_budgetsTold)).1).2.2.2.1) (((rTxt m_tape m_size (q, m_fresh, m_loadsTold, m_budgetsTold)).1).2.2.2.2.1) (((rTxt m_tape m_size (q, m_fresh, m_loadsTold, m_budgetsTold)).1).2.2.2.2.2) ((rTxt m_tape m_size (q, m_fresh, m_loadsTold, m_budgetsTold)).2.2.2) ((rTxt m_tape m_size (q, m_fresh, m_loadsTold, m_budgetsTold)).2.2.1) m_deadSet m_unknownOf m_nodeOf m_unknowns m_cells m_whole m_ordered m_drawnBy m_left m_aside m_bestDead m_bestAbove m_bestBelow m_widened m_widenedMany m_fewOf m_drawing ++ ex))) := by
  refine XMet.of (L := [some (.ref (ρ 0))]) hG (by decide +kernel) (Nat.le_of_ble_eq_true rfl) rfl (fun K C E => ?_)
  have hRl : 0 ≤ m_loadsTold ∧ m_loadsTold < 512 := hR.2.1
  have hRb : 0 ≤ m_budgetsTold ∧ m_budgetsTold < 16 := hR.2.2.1
  have hR4 : 0 ≤ m_fresh 4 ∧ m_fresh 4 ≤ q.1 := hR.2.2.2.1
  have hqa := hq.1
  have hRd : m_fresh 4 ≠ 0 → Gd m_fresh := hR.2.2.2.2.2
  have j20 : ∀ (x : RS) (en : Int → Int) (sm : Int), QOk m_size x.1 → (if m_fresh 4 = 0 then rFst m_tape m_size (q, m_fresh, m_loadsTold, m_budgetsTold) else rLin m_tape m_size (q, m_fresh, m_loadsTold, m_budgetsTold)) = x → (x.1.2.2.2.2.1 = 0 → Ends (x.2.1 0) (x.2.1 1) en ∧ sm = sN (x.2.1 0) (x.2.1 1)) → AW g K (wM g ρ m_thrown m_world (x.2.1) m_waysBack m_acts m_images m_hasImage (en) (sm) m_tape m_taped m_five m_size ((x.1).1) ((x.1).2.1) ((x.1).2.2.1) ((x.1).2.2.2.1) ((x.1).2.2.2.2.1) ((x.1).2.2.2.2.2) (x.2.2.2) (x.2.2.1) m_deadSet m_unknownOf m_nodeOf m_unknowns m_cells m_whole m_ordered m_drawnBy m_left m_aside m_bestDead m_bestAbove m_bestBelow m_widened m_widenedMany m_fewOf m_drawing ++ ex) 0 0 20 [some (.ref (ρ 0))] [] := by
    intro x en sm ho hex hen
    have hE : rTxt m_tape m_size (q, m_fresh, m_loadsTold, m_budgetsTold) = rTx1 m_tape m_size x := by
      unfold rTxt
      exact congrArg _ hex
    have hok := ho.2.2.2.2.1
    have hot := ho.2.2.1
    have e0 : (rTx1 m_tape m_size x).2.1 0 = x.2.1 0 := show aset x.2.1 4 (x.2.1 4 + 1) 0 = x.2.1 0 from aset_ne (by omega)
    have e1 : (rTx1 m_tape m_size x).2.1 1 = x.2.1 1 := show aset x.2.1 4 (x.2.1 4 + 1) 1 = x.2.1 1 from aset_ne (by omega)
    have j51 : ∀ q2 : Q6, qSt3 m_tape m_size (qTx1 x.1) = q2 → AW g K (wM g ρ m_thrown m_world (x.2.1) m_waysBack m_acts m_images m_hasImage (en) (sm) m_tape m_taped m_five m_size (q2.1) (q2.2.1) (q2.2.2.1) (q2.2.2.2.1) (q2.2.2.2.2.1) (q2.2.2.2.2.2) (x.2.2.2) (x.2.2.1) m_deadSet m_unknownOf m_nodeOf m_unknowns m_cells m_whole m_ordered m_drawnBy m_left m_aside m_bestDead m_bestAbove m_bestBelow m_widened m_widenedMany m_fewOf m_drawing ++ ex) 0 0 51 [some (.ref (ρ 0))] [] := by
      intro q2 e2
      have hE2 : rTx1 m_tape m_size x = (q2, aset x.2.1 4 (x.2.1 4 + 1), x.2.2) := by
        unfold rTx1
        rw [e2]
      have hgood : q2.2.2.2.2.1 = 0 → x.1.2.2.2.2.1 = 0 := by
        intro h
        rw [← e2] at h
        exact (qTx1_in (qSt3_in h)).1
      refine r_aload_0 C dX5_readText_51 ?_
      refine gM_fresh C q1387 dX5_readText_52 ?_
      refine r_iconst C dX5_readText_55 ?_
      refine r_dup2 C dX5_readText_56 ?_
      refine ldM_fresh C dX5_readText_57 ?_
      refine r_iconst C dX5_readText_58 ?_
      refine r_iadd C dX5_readText_59 ?_
      refine stM_fresh C dX5_readText_60 ?_
      refine r_return C E dX5_readText_61 ?_
      rw [hE]
      refine ⟨rfl, en, sm, fun h => ?_, ?_⟩
      · rw [e0, e1]
        exact hen (hgood (by rw [hE2] at h; exact h))
      · rw [hE2]
    have j40 : ∀ q1 : Q6, qTx1 x.1 = q1 → AW g K (wM g ρ m_thrown m_world (x.2.1) m_waysBack m_acts m_images m_hasImage (en) (sm) m_tape m_taped m_five m_size (q1.1) (q1.2.1) (q1.2.2.1) (q1.2.2.2.1) (q1.2.2.2.2.1) (q1.2.2.2.2.2) (x.2.2.2) (x.2.2.1) m_deadSet m_unknownOf m_nodeOf m_unknowns m_cells m_whole m_ordered m_drawnBy m_left m_aside m_bestDead m_bestAbove m_bestBelow m_widened m_widenedMany m_fewOf m_drawing ++ ex) 0 0 40 [some (.ref (ρ 0))] [] := by
      intro q1 e2
      have ho1 : QOk m_size q1 := by rw [← e2]; exact ho.tx1
      have ho1k := ho1.2.2.2.2.1
      refine r_aload_0 C dX5_readText_40 ?_
      refine r_cV0i C (c_X5_good hG (by unfold inR; omega)) (q0 := 0) rfl rfl q1543 pkX5_good dX5_readText_41 (fun z w h => ?_)
      obtain ⟨rfl, rfl⟩ := h
      refine r_ifeqB (tgt := 51) C dX5_readText_44 (by decide) (fun c_44 => ?_) (fun c_44 => ?_)
      · skip
        first
          | exact j51 _ (by rw [e2]; exact if_pos c_44)
          | exact j51 _ (by rw [e2]; exact if_neg c_44)
      · skip
        refine r_aload_0 C dX5_readText_47 ?_
        refine r_cV0v C (c_X5_advance hG hn hn0 hT ho1.1) (q0 := 0) rfl rfl q1529 pkX5_advance dX5_readText_48 (fun w h => ?_)
        subst h
        first
          | exact j51 _ (by rw [e2]; exact if_pos c_44)
          | exact j51 _ (by rw [e2]; exact if_neg c_44)
    refine r_aload_0 C dX5_readText_20 ?_
    refine r_cV0i C (c_X5_good hG (by unfold inR; omega)) (q0 := 0) rfl rfl q1543 pkX5_good dX5_readText_21 (fun z w h => ?_)
    obtain ⟨rfl, rfl⟩ := h
    refine r_ifeqB (tgt := 40) C dX5_readText_24 (by decide) (fun c_24 => ?_) (fun c_24 => ?_)
    · skip
      first
        | exact j40 _ (if_neg (fun h => c_24 h.1))
        | exact j40 _ (if_neg (fun h => h.2 c_32))
        | exact j40 _ (if_pos ⟨c_24, c_32⟩)
    · skip
      refine r_aload_0 C dX5_readText_27 ?_
      refine gM_token C q1400 dX5_readText_28 ?_
      refine r_iconst C dX5_readText_31 ?_
      refine r_if_icmpeq (tgt := 40) C dX5_readText_32 (by decide) (fun c_32 => ?_) (fun c_32 => ?_)
      · skip
        first
          | exact j40 _ (if_neg (fun h => c_24 h.1))
          | exact j40 _ (if_neg (fun h => h.2 c_32))
          | exact j40 _ (if_pos ⟨c_24, c_32⟩)
      · skip
        refine r_aload_0 C dX5_readText_35 ?_
        refine r_iconst C dX5_readText_36 ?_
        refine r_cV1v C (c_X5_errs hG (by unfold inR; omega)) (q0 := 0) rfl rfl q1566 pkX5_errs dX5_readText_37 (fun w h => ?_)
        subst h
        first
          | exact j40 _ (if_neg (fun h => c_24 h.1))
          | exact j40 _ (if_neg (fun h => h.2 c_32))
          | exact j40 _ (if_pos ⟨c_24, c_32⟩)
  refine r_aload_0 C dX5_readText_0 ?_
  refine gM_fresh C q1387 dX5_readText_1 ?_
  refine r_iconst C dX5_readText_4 ?_
  refine ldM_fresh C dX5_readText_5 ?_
  refine r_ifne (tgt := 16) C dX5_readText_6 (by decide) (fun c_6 => ?_) (fun c_6 => ?_) (ha := by unfold inR; omega)
  · skip
    have hd := hRd c_6
    have hp5 := hd.p5
    refine r_aload_0 C dX5_readText_16 ?_
    refine r_cV0v C (c_X5_readLine hG TT GM hn hn0 hT hq hd.g (he c_6).1 (he c_6).2 hp5 hRl hRb) (q0 := 0) rfl rfl q1592 pkX5_readLine dX5_readText_17 (fun w h => ?_)
    subst h
    first
      | (have h0 := j20 (rFst m_tape m_size (q, m_fresh, m_loadsTold, m_budgetsTold)) en sm (QOk.fst (s := (q, m_fresh, m_loadsTold, m_budgetsTold)) hq) (if_pos c_6) hen
         rw [rFst_22] at h0
         exact h0)
      | (refine j20 (rLin m_tape m_size (q, m_fresh, m_loadsTold, m_budgetsTold)) m_endOf m_strapMany (QOk.lin (s := (q, m_fresh, m_loadsTold, m_budgetsTold)) hq) (if_neg c_6) (fun h => ?_)
         have hr := rLin_ok hn hR c_6 h
         rw [hr.2.2.1.1, hr.2.2.1.2]
         exact he c_6)
  · skip
    refine r_aload_0 C dX5_readText_9 ?_
    refine r_cV0v C (c_X5_readFirst hG TT GM hn hn0 hT hq) (q0 := 0) rfl rfl q1551 pkX5_readFirst dX5_readText_10 (fun w h => ?_)
    obtain ⟨en, sm, hen, rfl⟩ := h
    refine r_goto (tgt := 20) C dX5_readText_13 (by decide) ?_
    first
      | (have h0 := j20 (rFst m_tape m_size (q, m_fresh, m_loadsTold, m_budgetsTold)) en sm (QOk.fst (s := (q, m_fresh, m_loadsTold, m_budgetsTold)) hq) (if_pos c_6) hen
         rw [rFst_22] at h0
         exact h0)
      | (refine j20 (rLin m_tape m_size (q, m_fresh, m_loadsTold, m_budgetsTold)) m_endOf m_strapMany (QOk.lin (s := (q, m_fresh, m_loadsTold, m_budgetsTold)) hq) (if_neg c_6) (fun h => ?_)
         have hr := rLin_ok hn hR c_6 h
         rw [hr.2.2.1.1, hr.2.2.1.2]
         exact he c_6)
end M23
/-! a fault's place changes only with the fault -/
def qGP (q q' : Q6) : Prop := q'.2.2.2.2.1 = 0 → q.2.2.2.2.1 = 0 ∧ q'.2.2.2.2.2 = q.2.2.2.2.2
theorem qGP.rf {q : Q6} : qGP q q := fun h => ⟨h, rfl⟩
theorem qGP.tr {q q' q'' : Q6} (h : qGP q q') (h' : qGP q' q'') : qGP q q'' := fun k => ⟨(h (h' k).1).1, (h' k).2.trans (h (h' k).1).2⟩
theorem qAdv_gp {T : Int → Int} {n : Int} {q : Q6} : qGP q (qAdv T n q) := fun h => ⟨h, rfl⟩
theorem qErr_gp {k : Int} {q : Q6} (hk : k ≠ 0) : qGP q (qErr k q) := by
  intro h
  by_cases c : q.2.2.2.2.1 = 0
  · exact absurd h (qErr_nz c hk)
  · rw [qErr_bad c] at h
    exact absurd h c
theorem qExp_gp {T : Int → Int} {n : Int} {w : List Int} {q : Q6} : qGP q (qExp T n w q) := by
  unfold qExp
  split
  · exact qAdv_gp
  · exact qErr_gp (by decide)
theorem qTak_gp {T : Int → Int} {n lo hi : Int} {q : Q6} : qGP q (qTak T n lo hi q).2 := by
  unfold qTak
  split
  · exact qGP.rf
  · split
    · exact qErr_gp (by decide)
    · split
      · exact qErr_gp (by decide)
      · exact qAdv_gp
theorem qTld_gp {T : Int → Int} {n : Int} {w : List Int} {lo hi : Int} {q : Q6} : qGP q (qTld T n w lo hi q).2 := qExp_gp.tr qTak_gp
theorem qPl2_gp {fr : Int → Int} {but : Int} {x : Int × Q6} : qGP x.2 (qPl2 fr but x) := by
  unfold qPl2
  split
  · exact qErr_gp (by decide)
  · exact qGP.rf
theorem qPlc_gp {T : Int → Int} {n : Int} {fr : Int → Int} {but : Int} {q : Q6} : qGP q (qPlc T n fr but q).2 := (qExp_gp.tr qTak_gp).tr (qPl2_gp.tr qTak_gp)
theorem qSt1_gp {T : Int → Int} {q : Q6} : qGP q (qSt1 T q) := by
  unfold qSt1
  split
  · exact qErr_gp (by decide)
  · exact qGP.rf
theorem qSt2_gp {b : Bool} {q : Q6} : qGP q (qSt2 b q) := by
  unfold qSt2
  split
  · exact qErr_gp (by decide)
  · exact qGP.rf
theorem qSt3_gp {T : Int → Int} {n : Int} {q : Q6} : qGP q (qSt3 T n q) := by
  unfold qSt3
  split
  · exact qAdv_gp
  · exact qGP.rf
theorem qGrp_gp {T : Int → Int} {n : Int} {q : Q6} : qGP q (qGrp T n q).2 := by
  unfold qGrp
  split
  · exact qAdv_gp.tr qTak_gp
  · exact qGP.rf
theorem qBu1_gp {bt : Int} {q : Q6} : qGP q (qBu1 bt q) := by
  unfold qBu1
  split
  · exact qErr_gp (by decide)
  · exact qGP.rf
theorem qFi1_gp {c : Int} {q : Q6} : qGP q (qFi1 c q) := by
  unfold qFi1
  split
  · exact qErr_gp (by decide)
  · exact qGP.rf
theorem qTx1_gp {q : Q6} : qGP q (qTx1 q) := by
  unfold qTx1
  split
  · exact qErr_gp (by decide)
  · exact qGP.rf
theorem rStr_gp {T : Int → Int} {n : Int} {s : RS} : qGP s.1 (rStr T n s).1 := qPlc_gp.tr ((qSt1_gp.tr qSt2_gp).tr (qSt3_gp.tr qTld_gp))
theorem rLod_gp {T : Int → Int} {n : Int} {s : RS} : qGP s.1 (rLod T n s).1 := by
  unfold rLod rLd2 rLd1
  split
  · exact qPlc_gp.tr (qTld_gp.tr qGrp_gp)
  · exact qPlc_gp.tr (qTld_gp.tr qGrp_gp)
theorem rBud_gp {T : Int → Int} {n : Int} {s : RS} : qGP s.1 (rBud T n s).1 := by
  unfold rBud rBu3 rBu2
  split
  · exact qBu1_gp.tr (qTak_gp.tr qTld_gp)
  · exact qBu1_gp.tr (qTak_gp.tr qTld_gp)
theorem rPad_gp {T : Int → Int} {n : Int} {s : RS} : qGP s.1 (rPad T n s).1 := by
  unfold rPad rPa1
  split
  · exact qPlc_gp
  · exact qPlc_gp
theorem rLin_gp {T : Int → Int} {n : Int} {s : RS} : qGP s.1 (rLin T n s).1 := by
  unfold rLin
  split
  · exact qAdv_gp.tr (rStr_gp (s := (qAdv T n s.1, s.2)))
  · split
    · exact qAdv_gp.tr (rPad_gp (s := (qAdv T n s.1, s.2)))
    · split
      · exact qAdv_gp.tr (rLod_gp (s := (qAdv T n s.1, s.2)))
      · split
        · exact qAdv_gp.tr (rBud_gp (s := (qAdv T n s.1, s.2)))
        · exact qErr_gp (by decide)
theorem rFst_gp {T : Int → Int} {n : Int} {s : RS} : qGP s.1 (rFst T n s).1 := by
  rw [rFst_1]
  exact (((qExp_gp.tr qTld_gp).tr (qExp_gp.tr (qFi1_gp.tr qTak_gp))).tr qTld_gp).tr (qTld_gp.tr qTld_gp)
theorem rTxt_gp {T : Int → Int} {n : Int} {s : RS} : qGP s.1 (rTxt T n s).1 := by
  unfold rTxt
  split
  · exact rFst_gp.tr (qTx1_gp.tr qSt3_gp)
  · exact rLin_gp.tr (qTx1_gp.tr qSt3_gp)
/-! the whole text: line by line, till the end or a fault -/
def rRun (T : Int → Int) (n : Int) : Nat → RS → RS → Prop
  | 0, s, f => ¬ (s.1.2.2.2.2.1 = 0 ∧ s.1.2.2.1 ≠ 0) ∧ f = s
  | k + 1, s, f => (s.1.2.2.2.2.1 = 0 ∧ s.1.2.2.1 ≠ 0) ∧ rRun T n k (rTxt T n s) f
theorem rRun_ex {T : Int → Int} {n : Int} (hn : n ≤ 700) : ∀ (m : Nat) (s : RS), RI n s → (n + 1 - s.1.1).toNat ≤ m → ∃ (k : Nat) (f : RS), rRun T n k s f := by
  intro m
  induction m with
  | zero =>
    intro s h hk
    have := h.1.1.2
    omega
  | succ m ih =>
    intro s h hk
    by_cases c : s.1.2.2.2.2.1 = 0 ∧ s.1.2.2.1 ≠ 0
    · by_cases d : (rTxt T n s).1.2.2.2.2.1 = 0
      · have h2 := rTxt_ok hn h d
        have h3 := h2.2.1
        obtain ⟨k, f, hr⟩ := ih (rTxt T n s) h2.1 (by omega)
        exact ⟨k + 1, f, c, hr⟩
      · exact ⟨1, rTxt T n s, c, fun z => d z.1, rfl⟩
    · exact ⟨0, s, c, rfl⟩
/-- what stands at its end -/
theorem rRun_end {T : Int → Int} {n : Int} (hn : n ≤ 700) : ∀ (k : Nat) (s f : RS), RI n s → s.1.2.2.2.2.1 = 0 → s.1.2.2.2.2.2 = -1 → rRun T n k s f → f.1.2.2.2.2.1 = 0 → RI n f ∧ f.1.2.2.2.2.2 = -1 ∧ f.1.2.2.1 = 0 := by
  intro k
  induction k with
  | zero =>
    intro s f h hk hp hr hf
    obtain ⟨h1, rfl⟩ := hr
    exact ⟨h, hp, Classical.byContradiction fun z => h1 ⟨hk, z⟩⟩
  | succ k ih =>
    intro s f h hk hp hr hf
    by_cases d : (rTxt T n s).1.2.2.2.2.1 = 0
    · have h2 := rTxt_ok hn h d
      exact ih (rTxt T n s) f h2.1 d (((rTxt_gp d).2).trans hp) hr.2 hf
    · cases k with
      | zero =>
        obtain ⟨-, -, rfl⟩ := hr
        exact absurd hf d
      | succ k => exact absurd hr.2.1.1 d
def fZ (f : Int → Int) : Int → Int := fun j => if 0 ≤ j ∧ j < 40 then 0 else f j
theorem fZ_z {f : Int → Int} : Zw (fZ f) := fun k h0 h1 => if_pos ⟨h0, h1⟩
/-- where the reading begins -/
def rBeg (T : Int → Int) (n a f t v : Int) (fr : Int → Int) : RS := (qAdv T n (a, f, t, v, 0, -1), fZ fr, 0, 0)
theorem rBeg_ok {T : Int → Int} {n f t v : Int} {fr : Int → Int} (hn : 0 ≤ n) : RI n (rBeg T n 0 f t v fr) ∧ (rBeg T n 0 f t v fr).1.2.2.2.2.1 = 0 ∧ (rBeg T n 0 f t v fr).1.2.2.2.2.2 = -1 := by
  have hq : QOk n (qAdv T n (0, f, t, v, 0, -1)) := QOk.adv0 (q := (0, f, t, v, 0, -1)) ⟨Int.le_refl _, hn⟩ ⟨Int.le_refl _, by show (0 : Int) ≤ 2; decide⟩ ⟨by show (-1 : Int) ≤ -1; decide, by show (-1 : Int) ≤ n; omega⟩
  refine ⟨⟨hq, ⟨Int.le_refl _, by show (0 : Int) < 512; decide⟩, ⟨Int.le_refl _, by show (0 : Int) < 16; decide⟩, ⟨?_, ?_⟩, fun _ => fZ_z, fun h => absurd (fZ_z (f := fr) 4 (by omega) (by omega)) h⟩, rfl, rfl⟩
  · show 0 ≤ fZ fr 4
    rw [fZ_z 4 (by omega) (by omega)]
    exact Int.le_refl _
  · show fZ fr 4 ≤ (qAdv T n (0, f, t, v, 0, -1)).1
    rw [fZ_z 4 (by omega) (by omega)]
    exact hq.1.1
section M24
variable {g : GX} {ρ : Nat → Nat} {ex : va_W}
variable {m_thrown : Int} {m_world : Int → Int} {m_fresh : Int → Int} {m_waysBack : Int → Int} {m_acts : Int} {m_images : Int → Int} {m_hasImage : Int → Int} {m_endOf : Int → Int} {m_strapMany : Int} {m_tape : Int → Int} {m_taped : Int} {m_five : Int → Int} {m_size : Int} {m_at : Int} {m_from : Int} {m_token : Int} {m_value : Int} {m_faultKind : Int} {m_faultPlace : Int} {m_budgetsTold : Int} {m_loadsTold : Int} {m_deadSet : Int} {m_unknownOf : Int → Int} {m_nodeOf : Int → Int} {m_unknowns : Int} {m_cells : Int → Int} {m_whole : Int} {m_ordered : Int → Int} {m_drawnBy : Int → Int} {m_left : Int → Int} {m_aside : Int → Int} {m_bestDead : Int} {m_bestAbove : Int} {m_bestBelow : Int} {m_widened : Int → Int} {m_widenedMany : Int} {m_fewOf : Int → Int} {m_drawing : Int}
theorem c_X5_grid (hG : Gok g) (TT : GT g) {κ : Nat → Nat} (GM : GMs g κ) (hn : m_taped ≤ 700) (hn0 : 0 ≤ m_taped) (hT : TpOk m_tape) {k : Nat} {f : RS} (hr : rRun m_tape m_taped k (rBeg m_tape m_taped 0 m_from m_token m_value m_fresh) f) : XMet g yX5_grid cX5_grid 2 (some .int) (10) 0 0 [.ref (ρ 0)] (wM g ρ m_thrown m_world m_fresh m_waysBack m_acts m_images m_hasImage m_endOf m_strapMany m_tape m_taped m_five m_size m_at m_from m_token m_value m_faultKind m_faultPlace m_budgetsTold m_loadsTold m_deadSet m_unknownOf m_nodeOf m_unknowns m_cells m_whole m_ordered m_drawnBy m_left m_aside m_bestDead m_bestAbove m_bestBelow m_widened m_widenedMany m_fewOf m_drawing ++ ex) (pI (fun z w => if f.1.2.2.2.2.1 = 0 then z = f.2.1 4 ∧ PubM g ρ ex (fun j => if 0 ≤ j ∧ j < 40 then f.2.1 j else m_world j) m_waysBack (0) m_images m_hasImage m_tape (0) (0) (-1) w else z = -4 ∧ PubM g ρ ex m_world m_waysBack m_acts m_images m_hasImage m_tape (0) (f.1.2.2.2.2.1) (f.1.2.2.2.2.2) w)) := by
  refine XMet.of (L := [some (.ref (ρ 0)), none]) hG (by decide +kernel) (Nat.le_of_ble_eq_true rfl) rfl (fun K C E => ?_)
  have hb := rBeg_ok (T := m_tape) (f := m_from) (t := m_token) (v := m_value) (fr := m_fresh) hn0
  have hend := fun h => rRun_end hn k _ f hb.1 hb.2.1 hb.2.2 hr h
  have kl : ∀ (j : Nat) (s : RS) (en : Int → Int) (sm : Int), QOk m_taped s.1 → (s.1.2.2.2.2.1 = 0 → RI m_taped s ∧ (s.2.1 4 ≠ 0 → Ends (s.2.1 0) (s.2.1 1) en ∧ sm = sN (s.2.1 0) (s.2.1 1))) → rRun m_tape m_taped j s f → AW g K (wM g ρ m_thrown m_world (s.2.1) m_waysBack m_acts m_images m_hasImage (en) (sm) m_tape (0) m_five (m_taped) ((s.1).1) ((s.1).2.1) ((s.1).2.2.1) ((s.1).2.2.2.1) ((s.1).2.2.2.2.1) ((s.1).2.2.2.2.2) (s.2.2.2) (s.2.2.1) m_deadSet m_unknownOf m_nodeOf m_unknowns m_cells m_whole m_ordered m_drawnBy m_left m_aside m_bestDead m_bestAbove m_bestBelow m_widened m_widenedMany m_fewOf m_drawing ++ ex) 0 0 63 [some (.ref (ρ 0)), some (.int (jI 40))] [] := by
    intro j
    induction j with
    | zero =>
      intro s en sm ho hs hj
      obtain ⟨h1, rfl⟩ := hj
      have hok := ho.2.2.2.2.1
      have hot := ho.2.2.1
      refine r_aload_0 C dX5_grid_63 ?_
      refine r_cV0i C (c_X5_good hG (by unfold inR; omega)) (q0 := 0) rfl rfl q1543 pkX5_good dX5_grid_64 (fun z w h => ?_)
      obtain ⟨rfl, rfl⟩ := h
      refine r_ifeqB (tgt := 84) C dX5_grid_67 (by decide) (fun c_67 => ?_) (fun c_67 => ?_)
      · skip
        refine r_aload_0 C dX5_grid_84 ?_
        refine r_cV0i C (c_X5_good hG (by unfold inR; omega)) (q0 := 0) rfl rfl q1543 pkX5_good dX5_grid_85 (fun z w h => ?_)
        obtain ⟨rfl, rfl⟩ := h
        refine r_ifneB (tgt := 94) C dX5_grid_88 (by decide) (fun c_88 => ?_) (fun c_88 => ?_)
        · skip
          have he := hend c_88
          have hf4 := he.1.2.2.2.1
          have cp : ∀ (mm : Nat), ∀ (i : Int) (wd : Int → Int), (0 ≤ i) → (i ≤ 40) → (wd = fun j => if 0 ≤ j ∧ j < i then f.2.1 j else m_world j) → (40 - i).toNat = mm → AW g K (wM g ρ m_thrown (wd) (f.2.1) m_waysBack m_acts m_images m_hasImage (en) (sm) m_tape (0) m_five (m_taped) ((f.1).1) ((f.1).2.1) ((f.1).2.2.1) ((f.1).2.2.2.1) ((f.1).2.2.2.2.1) ((f.1).2.2.2.2.2) (f.2.2.2) (f.2.2.1) m_deadSet m_unknownOf m_nodeOf m_unknowns m_cells m_whole m_ordered m_drawnBy m_left m_aside m_bestDead m_bestAbove m_bestBelow m_widened m_widenedMany m_fewOf m_drawing ++ ex) 0 0 96 [some (.ref (ρ 0)), some (.int (jI i))] [] := by
            intro mm
            induction mm using Nat.strongRecOn with
            | _ mm ih =>
            intro i wd hi0 hi1 hw hm
            refine r_iload_1 C dX5_grid_96 ?_
            refine r_bipush C dX5_grid_97 ?_
            refine r_if_icmpge (tgt := 120) C dX5_grid_99 (by decide) (fun c_99 => ?_) (fun c_99 => ?_)
            · skip
              refine r_aload_0 C dX5_grid_120 ?_
              refine r_iconst C dX5_grid_121 ?_
              refine pM_acts C q1389 dX5_grid_122 ?_
              refine r_aload_0 C dX5_grid_125 ?_
              refine gM_world C q1386 dX5_grid_126 ?_
              refine r_iconst C dX5_grid_129 ?_
              refine ldM_world C dX5_grid_130 ?_
              refine r_ireturn C E dX5_grid_131 ?_
              have ei : i = 40 := by omega
              subst ei
              refine ⟨_, rfl, ?_⟩
              show @ite _ _ _ _ _
              rw [if_pos c_88, hw]
              refine ⟨if_pos (by omega), ?_⟩
              rw [c_88, he.2.1]
              exact PubM.mk
            · skip
              refine r_aload_0 C dX5_grid_102 ?_
              refine gM_world C q1386 dX5_grid_103 ?_
              refine r_iload_1 C dX5_grid_106 ?_
              refine r_aload_0 C dX5_grid_107 ?_
              refine gM_fresh C q1387 dX5_grid_108 ?_
              refine r_iload_1 C dX5_grid_111 ?_
              refine ldM_fresh C dX5_grid_112 ?_
              refine stM_world C dX5_grid_113 ?_
              refine r_iinc_1 C dX5_grid_114 ?_
              refine r_goto (tgt := 96) C dX5_grid_117 (by decide) ?_
              refine ih _ (show (40 - (i + 1)).toNat < mm by omega) (i + 1) _ (by omega) (by omega) ?_ rfl
              rw [hw]
              funext j
              unfold aset
              by_cases h1 : j = i
              · rw [if_pos h1, if_pos (by omega), h1]
              · rw [if_neg h1]
                dsimp only
                by_cases h2 : 0 ≤ j ∧ j < i
                · rw [if_pos h2, if_pos (by omega)]
                · rw [if_neg h2, if_neg (by omega)]
          refine r_iconst C dX5_grid_94 ?_
          refine r_istore_1 C dX5_grid_95 ?_
          refine cp _ 0 _ (by omega) (by omega) ?_ rfl
          funext j
          rw [if_neg (by omega)]
        · skip
          refine r_bipush C dX5_grid_91 ?_
          refine r_ireturn C E dX5_grid_93 ?_
          refine ⟨_, rfl, ?_⟩
          show @ite _ _ _ _ _
          rw [if_neg c_88]
          exact ⟨rfl, PubM.mk⟩
      · skip
        refine r_aload_0 C dX5_grid_70 ?_
        refine gM_token C q1400 dX5_grid_71 ?_
        refine r_ifeq (tgt := 84) C dX5_grid_74 (by decide) (fun c_74 => ?_) (fun c_74 => ?_)
        · skip
          refine r_aload_0 C dX5_grid_84 ?_
          refine r_cV0i C (c_X5_good hG (by unfold inR; omega)) (q0 := 0) rfl rfl q1543 pkX5_good dX5_grid_85 (fun z w h => ?_)
          obtain ⟨rfl, rfl⟩ := h
          refine r_ifneB (tgt := 94) C dX5_grid_88 (by decide) (fun c_88 => ?_) (fun c_88 => ?_)
          · skip
            have he := hend c_88
            have hf4 := he.1.2.2.2.1
            have cp : ∀ (mm : Nat), ∀ (i : Int) (wd : Int → Int), (0 ≤ i) → (i ≤ 40) → (wd = fun j => if 0 ≤ j ∧ j < i then f.2.1 j else m_world j) → (40 - i).toNat = mm → AW g K (wM g ρ m_thrown (wd) (f.2.1) m_waysBack m_acts m_images m_hasImage (en) (sm) m_tape (0) m_five (m_taped) ((f.1).1) ((f.1).2.1) ((f.1).2.2.1) ((f.1).2.2.2.1) ((f.1).2.2.2.2.1) ((f.1).2.2.2.2.2) (f.2.2.2) (f.2.2.1) m_deadSet m_unknownOf m_nodeOf m_unknowns m_cells m_whole m_ordered m_drawnBy m_left m_aside m_bestDead m_bestAbove m_bestBelow m_widened m_widenedMany m_fewOf m_drawing ++ ex) 0 0 96 [some (.ref (ρ 0)), some (.int (jI i))] [] := by
              intro mm
              induction mm using Nat.strongRecOn with
              | _ mm ih =>
              intro i wd hi0 hi1 hw hm
              refine r_iload_1 C dX5_grid_96 ?_
              refine r_bipush C dX5_grid_97 ?_
              refine r_if_icmpge (tgt := 120) C dX5_grid_99 (by decide) (fun c_99 => ?_) (fun c_99 => ?_)
              · skip
                refine r_aload_0 C dX5_grid_120 ?_
                refine r_iconst C dX5_grid_121 ?_
                refine pM_acts C q1389 dX5_grid_122 ?_
                refine r_aload_0 C dX5_grid_125 ?_
                refine gM_world C q1386 dX5_grid_126 ?_
                refine r_iconst C dX5_grid_129 ?_
                refine ldM_world C dX5_grid_130 ?_
                refine r_ireturn C E dX5_grid_131 ?_
                have ei : i = 40 := by omega
                subst ei
                refine ⟨_, rfl, ?_⟩
                show @ite _ _ _ _ _
                rw [if_pos c_88, hw]
                refine ⟨if_pos (by omega), ?_⟩
                rw [c_88, he.2.1]
                exact PubM.mk
              · skip
                refine r_aload_0 C dX5_grid_102 ?_
                refine gM_world C q1386 dX5_grid_103 ?_
                refine r_iload_1 C dX5_grid_106 ?_
                refine r_aload_0 C dX5_grid_107 ?_
                refine gM_fresh C q1387 dX5_grid_108 ?_
                refine r_iload_1 C dX5_grid_111 ?_
                refine ldM_fresh C dX5_grid_112 ?_
                refine stM_world C dX5_grid_113 ?_
                refine r_iinc_1 C dX5_grid_114 ?_
                refine r_goto (tgt := 96) C dX5_grid_117 (by decide) ?_
                refine ih _ (show (40 - (i + 1)).toNat < mm by omega) (i + 1) _ (by omega) (by omega) ?_ rfl
                rw [hw]
                funext j
                unfold aset
                by_cases h1 : j = i
                · rw [if_pos h1, if_pos (by omega), h1]
                · rw [if_neg h1]
                  dsimp only
                  by_cases h2 : 0 ≤ j ∧ j < i
                  · rw [if_pos h2, if_pos (by omega)]
                  · rw [if_neg h2, if_neg (by omega)]
            refine r_iconst C dX5_grid_94 ?_
            refine r_istore_1 C dX5_grid_95 ?_
            refine cp _ 0 _ (by omega) (by omega) ?_ rfl
            funext j
            rw [if_neg (by omega)]
          · skip
            refine r_bipush C dX5_grid_91 ?_
            refine r_ireturn C E dX5_grid_93 ?_
            refine ⟨_, rfl, ?_⟩
            show @ite _ _ _ _ _
            rw [if_neg c_88]
            exact ⟨rfl, PubM.mk⟩
        · skip
          exact absurd ⟨c_67, c_74⟩ h1
    | succ j ihj =>
      intro s en sm ho hs hj
      have hok := ho.2.2.2.2.1
      have hot := ho.2.2.1
      obtain ⟨h1, hj⟩ := hj
      have hs1 := hs h1.1
      refine r_aload_0 C dX5_grid_63 ?_
      refine r_cV0i C (c_X5_good hG (by unfold inR; omega)) (q0 := 0) rfl rfl q1543 pkX5_good dX5_grid_64 (fun z w h => ?_)
      obtain ⟨rfl, rfl⟩ := h
      refine r_ifeqB (tgt := 84) C dX5_grid_67 (by decide) (fun c_67 => ?_) (fun c_67 => ?_)
      · skip
        first
          | exact absurd h1.1 c_67
          | exact absurd c_74 h1.2
      · skip
        refine r_aload_0 C dX5_grid_70 ?_
        refine gM_token C q1400 dX5_grid_71 ?_
        refine r_ifeq (tgt := 84) C dX5_grid_74 (by decide) (fun c_74 => ?_) (fun c_74 => ?_)
        · skip
          first
            | exact absurd h1.1 c_67
            | exact absurd c_74 h1.2
        · skip
          refine r_aload_0 C dX5_grid_77 ?_
          refine r_cV0v C (c_X5_readText hG TT GM hn hn0 hT ho hs1.1 hs1.2) (q0 := 0) rfl rfl q1547 pkX5_readText dX5_grid_78 (fun w h => ?_)
          obtain ⟨en2, sm2, hen, rfl⟩ := h
          refine r_goto (tgt := 63) C dX5_grid_81 (by decide) ?_
          exact ihj (rTxt m_tape m_taped s) en2 sm2 (QOk.txt hs1.1.1) (fun h => ⟨(rTxt_ok hn hs1.1 h).1, fun _ => hen h⟩) hj
  have key : ∀ (mm : Nat), ∀ (i : Int) (fr : Int → Int), (0 ≤ i) → (i ≤ 40) → (fr = fun j => if 0 ≤ j ∧ j < i then 0 else m_fresh j) → (40 - i).toNat = mm → AW g K (wM g ρ m_thrown m_world (fr) m_waysBack m_acts m_images m_hasImage m_endOf m_strapMany m_tape (0) m_five (m_taped) (0) m_from m_token m_value (0) (-1) (0) (0) m_deadSet m_unknownOf m_nodeOf m_unknowns m_cells m_whole m_ordered m_drawnBy m_left m_aside m_bestDead m_bestAbove m_bestBelow m_widened m_widenedMany m_fewOf m_drawing ++ ex) 0 0 40 [some (.ref (ρ 0)), some (.int (jI i))] [] := by
    intro mm
    induction mm using Nat.strongRecOn with
    | _ mm ih =>
    intro i fr hi0 hi1 hf hm
    refine r_iload_1 C dX5_grid_40 ?_
    refine r_bipush C dX5_grid_41 ?_
    refine r_if_icmpge (tgt := 59) C dX5_grid_43 (by decide) (fun c_43 => ?_) (fun c_43 => ?_)
    · skip
      have ei : i = 40 := by omega
      subst ei
      refine r_aload_0 C dX5_grid_59 ?_
      refine r_cV0v C (c_X5_advance (q := (0, m_from, m_token, m_value, 0, -1)) hG hn hn0 hT ⟨Int.le_refl _, hn0⟩) (q0 := 0) rfl rfl q1529 pkX5_advance dX5_grid_60 (fun w h => ?_)
      subst h
      have h0 := kl k (rBeg m_tape m_taped 0 m_from m_token m_value m_fresh) m_endOf m_strapMany hb.1.1 (fun _ => ⟨hb.1, fun h => absurd (fZ_z (f := m_fresh) 4 (by omega) (by omega)) h⟩) hr
      rw [hf]
      exact h0
    · skip
      refine r_aload_0 C dX5_grid_46 ?_
      refine gM_fresh C q1387 dX5_grid_47 ?_
      refine r_iload_1 C dX5_grid_50 ?_
      refine r_iconst C dX5_grid_51 ?_
      refine stM_fresh C dX5_grid_52 ?_
      refine r_iinc_1 C dX5_grid_53 ?_
      refine r_goto (tgt := 40) C dX5_grid_56 (by decide) ?_
      refine ih _ (show (40 - (i + 1)).toNat < mm by omega) (i + 1) _ (by omega) (by omega) ?_ rfl
      rw [hf]
      funext j
      unfold aset
      by_cases h1 : j = i
      · rw [if_pos h1, if_pos (by omega)]
      · rw [if_neg h1]
        dsimp only
        by_cases h2 : 0 ≤ j ∧ j < i
        · rw [if_pos h2, if_pos (by omega)]
        · rw [if_neg h2, if_neg (by omega)]
  refine r_aload_0 C dX5_grid_0 ?_
  refine r_aload_0 C dX5_grid_1 ?_
  refine gM_taped C q1395 dX5_grid_2 ?_
  refine pM_size C q1397 dX5_grid_5 ?_
  refine r_aload_0 C dX5_grid_8 ?_
  refine r_iconst C dX5_grid_9 ?_
  refine pM_taped C q1395 dX5_grid_10 ?_
  refine r_aload_0 C dX5_grid_13 ?_
  refine r_iconst C dX5_grid_14 ?_
  refine pM_at C q1398 dX5_grid_15 ?_
  refine r_aload_0 C dX5_grid_18 ?_
  refine r_iconst C dX5_grid_19 ?_
  refine pM_faultKind C q1402 dX5_grid_20 ?_
  refine r_aload_0 C dX5_grid_23 ?_
  refine r_iconst C dX5_grid_24 ?_
  refine pM_faultPlace C q1403 dX5_grid_25 ?_
  refine r_aload_0 C dX5_grid_28 ?_
  refine r_iconst C dX5_grid_29 ?_
  refine pM_budgetsTold C q1404 dX5_grid_30 ?_
  refine r_aload_0 C dX5_grid_33 ?_
  refine r_iconst C dX5_grid_34 ?_
  refine pM_loadsTold C q1405 dX5_grid_35 ?_
  refine r_iconst C dX5_grid_38 ?_
  refine r_istore_1 C dX5_grid_39 ?_
  refine key _ 0 _ (by omega) (by omega) ?_ rfl
  funext j
  rw [if_neg (by omega)]
end M24

