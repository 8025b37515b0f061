/-! what was done: counted, and summed -/
def loLe (L L' : List (Option Value)) : Prop := L'.length = L.length ∧ ∀ (j : Nat) (v : Value), L'[j]? = some (some v) → L[j]? = some (some v)
theorem loLe.z : loLe [] [] := ⟨rfl, fun _ _ h => h⟩
theorem loLe.s {x : Option Value} {L L' : List (Option Value)} (h : loLe L L') : loLe (x :: L) (x :: L') := by
  refine ⟨by simp [h.1], fun j v e => ?_⟩
  cases j with
  | zero => exact e
  | succ j => exact h.2 j v (by simpa using e)
theorem loLe.n {x : Option Value} {L L' : List (Option Value)} (h : loLe L L') : loLe (x :: L) (none :: L') := by
  refine ⟨by simp [h.1], fun j v e => ?_⟩
  cases j with
  | zero => simp at e
  | succ j => exact h.2 j v (by simpa using e)
/-- locals that are let go -/
theorem AW.forget {g : GX} {K : KY} {ws : va_W} {k n pc : Nat} {L L' : List (Option Value)} {st : List Value} (h : loLe L L') (kk : AW g K ws k n pc L' st) : AW g K ws k n pc L st := by
  obtain ⟨l, D, dA, F⟩ := g
  obtain ⟨⟨p, e, R, s, m, args, below, meth, c⟩, A, nL, Q, mc, ms⟩ := K
  intro H locs ls cells slots h1 h2 hP hD hS hL
  refine kk H locs ls cells slots h1 h2 hP hD hS ⟨h.1.trans hL.1, lv_less hL.2 (fun q hq => ?_)⟩
  obtain ⟨i, v⟩ := q
  obtain ⟨j, e1, e2⟩ := (lo_mem L' 0 i v).mp hq
  exact (lo_mem L 0 i v).mpr ⟨j, e1, h.2 j v e2⟩
theorem chCell_0 {x : Chg} (h : x.1 = 0) : chCell x = .inr (6, [.int (jI x.2.1), .int (jI x.2.2)]) := if_pos h
theorem chCell_1 {x : Chg} (h : x.1 = 1) : chCell x = .inr (7, [.int (jI x.2.1)]) := by unfold chCell; rw [if_neg (by omega), if_pos h]
theorem chCell_2 {x : Chg} (h : x.1 = 2) : chCell x = .inr (8, [.int (jI x.2.1), .int (jI x.2.2)]) := by unfold chCell; rw [if_neg (by omega), if_neg (by omega), if_pos h]
theorem chCell_3 {x : Chg} (h : x.1 = 3) : chCell x = .inr (9, [.int (jI x.2.1)]) := by unfold chCell; rw [if_neg (by omega), if_neg (by omega), if_neg (by omega)]
theorem chAns_0 {x : Chg} (h : x.1 = 0) : chAns x = x.2.2 := if_pos h
theorem chAns_1 {x : Chg} (h : x.1 = 1) : chAns x = 0 := by unfold chAns; rw [if_neg (by omega), if_pos h]
theorem chAns_2 {x : Chg} (h : x.1 = 2) : chAns x = x.2.2 := by unfold chAns; rw [if_neg (by omega), if_neg (by omega), if_pos h]
theorem chAns_3 {x : Chg} (h : x.1 = 3) : chAns x = pc12 x.2.1 := by unfold chAns; rw [if_neg (by omega), if_neg (by omega), if_neg (by omega)]
/-- of a kind: how many (what = 0), or what they answered -/
def didX (cs : Int → Chg) (kind what n : Int) : Int := foI (fun k s => if (cs k).1 = kind then s + (if what = 0 then 1 else chAns (cs k)) else s) 0 n
theorem didX_0 {cs : Int → Chg} {kd wt : Int} : didX cs kd wt 0 = 0 := rfl
theorem didX_y {cs : Int → Chg} {kd wt k : Int} (h0 : 0 ≤ k) (h : (cs k).1 = kd) : didX cs kd wt (k + 1) = didX cs kd wt k + (if wt = 0 then 1 else chAns (cs k)) := by
  unfold didX
  rw [foI_s _ _ h0, if_pos h]
theorem didX_n {cs : Int → Chg} {kd wt k : Int} (h0 : 0 ≤ k) (h : (cs k).1 ≠ kd) : didX cs kd wt (k + 1) = didX cs kd wt k := by
  unfold didX
  rw [foI_s _ _ h0, if_neg h]
theorem didX_M {cs : Int → Chg} {wb : Int → Int} {kd wt n : Int} (h : ∀ i, 0 ≤ i → i < n → wb (42 * i + 40) = (cs i).1 ∧ wb (42 * i + 41) = chAns (cs i)) : didX cs kd wt n = didF wb kd wt n := by
  unfold didX didF
  refine foI_cong (fun i x h0 h1 => ?_)
  rw [(h i h0 h1).1, (h i h0 h1).2]
section X20
variable {g : GX} {σ : Nat → Nat} {ex : va_W}
variable {x_tape : Int → Int} {x_taped : Int} {x_faultKind : Int} {x_faultPlace : Int} {x_bestStarved : Int} {x_bestMost : Int} {x_bestWhole : Int} {x_draws : Int → Int} {x_left : Int → Int} {x_mosts : Int → Int} {x_widened : Int → Int} {x_drawn : Int} {x_img : Nat → Option Nat} {n_width : Int → Int} {n_from : Int → Int} {n_to : Int → Int} {n_load : Int → Int} {n_group : Int → Int} {n_budget : Int → Int} {n_columns : Int} {n_rows : Int} {n_limit : Int} {n_wear : Int} {n_straps : Int} {n_pads : Int} {n_lines : Int} {n_mod : Int} {n_asz : Int} {n_el : Nat → Option Nat} {i_width : Int → Int} {i_load : Int → Int} {i_pads : Int} {i_reached : Int} {i_place : Int → Int} {i_table : Int → Int} {i_drop : Int → Int} {i_size : Int} {i_whole : Int} {t_width : Int → Int} {t_load : Int → Int} {t_pads : Int} {t_reached : Int} {t_place : Int → Int} {t_table : Int → Int} {t_drop : Int → Int} {t_size : Int} {t_whole : Int}
theorem c_X0_did (hG : Gok g) {kd wt : Int} {w : Int → Int} {cs : Int → Chg} (N : Gnc g) (hkd : inR kd) (hwt : inR wt) (hW : NW w n_width n_from n_to n_load n_group n_budget n_columns n_rows n_limit n_wear n_straps n_pads n_lines) (ha : 0 ≤ n_asz ∧ n_asz ≤ 20) (hA : ActsX ex n_el n_asz cs) (hk : ∀ i, 0 ≤ i → i < n_asz → (0 ≤ (cs i).1 ∧ (cs i).1 ≤ 3) ∧ ((cs i).1 = 3 → 0 ≤ (cs i).2.1 ∧ (cs i).2.1 < 4096)) : XMet g yX0_did cX0_did 10 (some .int) (4) 0 0 [.ref (σ 0), .int (jI kd), .int (jI wt)] (wX g σ x_tape x_taped x_faultKind x_faultPlace x_bestStarved x_bestMost x_bestWhole x_draws x_left x_mosts x_widened x_drawn x_img n_width n_from n_to n_load n_group n_budget n_columns n_rows n_limit n_wear n_straps n_pads n_lines n_mod n_asz n_el i_width i_load i_pads i_reached i_place i_table i_drop i_size i_whole t_width t_load t_pads t_reached t_place t_table t_drop t_size t_whole ++ ex) (pI (fun z ww => z = (if (0 < w 4 ∧ 0 ≤ kd ∧ kd ≤ 3) ∧ isPb wt = true then didX cs kd wt n_asz else -2) ∧ PubX g σ ex x_tape x_taped x_faultKind x_faultPlace x_img n_width n_from n_to n_load n_group n_budget n_columns n_rows n_limit n_wear n_straps n_pads n_lines n_mod n_asz n_el ww)) := by
  refine XMet.of (L := [some (.ref (σ 0)), some (.int (jI kd)), some (.int (jI wt)), none, none, none, none, none, none, none]) hG (by decide +kernel) (Nat.le_of_ble_eq_true rfl) rfl (fun K C E => ?_)
  refine r_aload_0 C dX0_did_0 ?_
  refine gG_now C q346 dX0_did_1 ?_
  refine r_cV0i C (c_X1_is hG hW.inR4) (q0 := 7) rfl rfl q696 pkX1_is dX0_did_4 (fun z w h => ?_)
  obtain ⟨rfl, rfl⟩ := h
  refine r_ifeqB (tgt := 32) C dX0_did_7 (by decide) (fun c_7 => ?_) (fun c_7 => ?_)
  · skip
    refine r_bipush C dX0_did_32 ?_
    refine r_ireturn C E dX0_did_34 ?_
    rw [hW.ln] at c_7
    refine ⟨_, rfl, ?_, PubX.mk⟩
    rw [if_neg]
    intro h
    have h2 : 0 ≤ wt ∧ wt ≤ 1 := of_decide_eq_true h.2
    first
      | exact c_7 h.1.1
      | exact c_19 h.1.2
      | exact c_29 h2
  · skip
    refine r_iload_1 C dX0_did_10 ?_
    refine r_i2l C dX0_did_11 ?_
    refine r_lconst0 C dX0_did_12 ?_
    refine r_ldc2 C 3 q794 dX0_did_13 ?_
    refine r_cS3i C (c_X0_in hG (inR_L hkd) (by unfold inL; omega) (by unfold inL; omega)) q403 pkX0_in dX0_did_16 (fun z w h => ?_)
    obtain ⟨rfl, rfl⟩ := h
    refine r_ifeqB (tgt := 32) C dX0_did_19 (by decide) (fun c_19 => ?_) (fun c_19 => ?_)
    · skip
      refine r_bipush C dX0_did_32 ?_
      refine r_ireturn C E dX0_did_34 ?_
      rw [hW.ln] at c_7
      refine ⟨_, rfl, ?_, PubX.mk⟩
      rw [if_neg]
      intro h
      have h2 : 0 ≤ wt ∧ wt ≤ 1 := of_decide_eq_true h.2
      first
        | exact c_7 h.1.1
        | exact c_19 h.1.2
        | exact c_29 h2
    · skip
      refine r_iload_2 C dX0_did_22 ?_
      refine r_i2l C dX0_did_23 ?_
      refine r_lconst0 C dX0_did_24 ?_
      refine r_lconst1 C dX0_did_25 ?_
      refine r_cS3i C (c_X0_in hG (inR_L hwt) (by unfold inL; omega) (by unfold inL; omega)) q403 pkX0_in dX0_did_26 (fun z w h => ?_)
      obtain ⟨rfl, rfl⟩ := h
      refine r_ifneB (tgt := 35) C dX0_did_29 (by decide) (fun c_29 => ?_) (fun c_29 => ?_)
      · skip
        rw [hW.ln] at c_7
        have key : ∀ (mm : Nat), ∀ (k n s : Int), (0 ≤ k) → (k ≤ n_asz) → (n = didX cs kd 0 k) → (s = didX cs kd 1 k) → (n_asz - k).toNat = mm → AW g K (wX g σ x_tape x_taped x_faultKind x_faultPlace x_bestStarved x_bestMost x_bestWhole x_draws x_left x_mosts x_widened x_drawn x_img n_width n_from n_to n_load n_group n_budget n_columns n_rows n_limit n_wear n_straps n_pads n_lines n_mod n_asz n_el i_width i_load i_pads i_reached i_place i_table i_drop i_size i_whole t_width t_load t_pads t_reached t_place t_table t_drop t_size t_whole ++ ex) 0 0 43 [some (.ref (σ 0)), some (.int (jI kd)), some (.int (jI wt)), some (.int (jI n)), some (.int (jI s)), some (.int (jI k)), none, none, none, none] [] := by
          intro mm
          induction mm using Nat.strongRecOn with
          | _ mm ih =>
          intro k n s hk0 hk1 en es hm
          refine r_iload_5 C dX0_did_43 ?_
          refine r_aload_0 C dX0_did_45 ?_
          refine gG_now C q346 dX0_did_46 ?_
          refine gTN_acts C q217 dX0_did_49 ?_
          refine r_cV0i C (c_J2_size hG) (q0 := 14) rfl rfl q692 pkJ2_size dX0_did_52 (fun z w h => ?_)
          obtain ⟨hz, rfl⟩ := h
          rw [hz]
          refine r_if_icmpge (tgt := 180) C dX0_did_55 (by decide) (fun c_55 => ?_) (fun c_55 => ?_)
          · skip
            skip
            refine r_iload_2 C dX0_did_180 ?_
            refine r_ifne (tgt := 188) C dX0_did_181 (by decide) (fun c_181 => ?_) (fun c_181 => ?_)
            · skip
              refine r_iload_4 C dX0_did_188 ?_
              refine r_ireturn C E dX0_did_190 ?_
              have e : k = n_asz := by omega
              subst e
              refine ⟨_, rfl, ?_, PubX.mk⟩
              rw [if_pos (And.intro (And.intro c_7 c_19) (show isPb wt = true from decide_eq_true c_29))]
              rcases (show wt = 0 ∨ wt = 1 by omega) with e | e
              · subst e; first | exact en | exact absurd rfl c_181
              · subst e; first | exact es | exact absurd c_181 (by decide)
            · skip
              refine r_iload_3 C dX0_did_184 ?_
              refine r_goto (tgt := 190) C dX0_did_185 (by decide) ?_
              refine r_ireturn C E dX0_did_190 ?_
              have e : k = n_asz := by omega
              subst e
              refine ⟨_, rfl, ?_, PubX.mk⟩
              rw [if_pos (And.intro (And.intro c_7 c_19) (show isPb wt = true from decide_eq_true c_29))]
              rcases (show wt = 0 ∨ wt = 1 by omega) with e | e
              · subst e; first | exact en | exact absurd rfl c_181
              · subst e; first | exact es | exact absurd c_181 (by decide)
          · skip
            obtain ⟨c, qk, hy, hv⟩ := hA k hk0 (by omega)
            have nxt : ∀ (n' s' : Int), n' = didX cs kd 0 (k + 1) → s' = didX cs kd 1 (k + 1) → AW g K (wX g σ x_tape x_taped x_faultKind x_faultPlace x_bestStarved x_bestMost x_bestWhole x_draws x_left x_mosts x_widened x_drawn x_img n_width n_from n_to n_load n_group n_budget n_columns n_rows n_limit n_wear n_straps n_pads n_lines n_mod n_asz n_el i_width i_load i_pads i_reached i_place i_table i_drop i_size i_whole t_width t_load t_pads t_reached t_place t_table t_drop t_size t_whole ++ ex) 0 0 174 [some (.ref (σ 0)), some (.int (jI kd)), some (.int (jI wt)), some (.int (jI n')), some (.int (jI s')), some (.int (jI k)), none, none, none, none] [] := by
              intro n' s' e1 e2
              refine r_iinc_5 C dX0_did_174 ?_
              refine r_goto (tgt := 43) C dX0_did_177 (by decide) ?_
              exact ih _ (show (n_asz - (k + 1)).toNat < mm by omega) (k + 1) n' s' (by omega) (by omega) e1 e2 rfl
            have h3 := hk k hk0 (by omega)
            have LE : ∀ {a0 a1 a2 a3 a4 a5 a6 a7 a8 a9 : Option Value}, loLe [a0, a1, a2, a3, a4, a5, a6, a7, a8, a9] [a0, a1, a2, a3, a4, a5, none, none, none, none] := loLe.s (loLe.s (loLe.s (loLe.s (loLe.s (loLe.s (loLe.n (loLe.n (loLe.n (loLe.n loLe.z)))))))))
            refine r_aload_0 C dX0_did_58 ?_
            refine gG_now C q346 dX0_did_59 ?_
            refine gTN_acts C q217 dX0_did_62 ?_
            refine r_iload_5 C dX0_did_65 ?_
            refine r_cV1a C (c_A_get hG hk0 (by omega) ha.2 hy) (q0 := 14) rfl rfl q1311 pkJ2_get dX0_did_67 (fun z w h => ?_)
            obtain ⟨rfl, rfl⟩ := h
            rcases (show (cs k).1 = 0 ∨ (cs k).1 = 1 ∨ (cs k).1 = 2 ∨ (cs k).1 = 3 by omega) with e | e | e | e
            · rw [chCell_0 e] at hv
              refine r_castY C (qk + 46) (wx_at hv) rfl q1323 pfX8.2.1.2.2.2.2 dX0_did_70 ?_
              refine r_astore_6 C dX0_did_73 ?_
              refine r_aload_6 C dX0_did_75 ?_
              refine r_cS1i C (c_kind_Laid hG N (wx_at hv)) q1324 pkX0_kindOf dX0_did_77 (fun z w h => ?_)
              obtain ⟨rfl, rfl⟩ := h
              refine r_iload_1 C dX0_did_80 ?_
              refine r_if_icmpeq (tgt := 87) C dX0_did_81 (by decide) (fun c_81 => ?_) (fun c_81 => ?_)
              · skip
                refine r_iinc_3 C dX0_did_87 ?_
                refine r_aload_6 C dX0_did_90 ?_
                refine r_instNo C N (qk + 46) (wx_at hv) rfl q1265 (by decide +kernel) (by decide +kernel) (by decide +kernel) dX0_did_92 ?_
                refine r_ifeq (tgt := 121) C dX0_did_95 (by decide) (fun c_95 => ?_) (fun c_95 => ?_)
                · skip
                  refine r_aload_6 C dX0_did_121 ?_
                  refine r_instNo C N (qk + 46) (wx_at hv) rfl q1247 (by decide +kernel) (by decide +kernel) (by decide +kernel) dX0_did_123 ?_
                  refine r_ifeq (tgt := 149) C dX0_did_126 (by decide) (fun c_126 => ?_) (fun c_126 => ?_)
                  · skip
                    refine r_aload_6 C dX0_did_149 ?_
                    refine r_instS C (qk + 46) (wx_at hv) rfl q1160 dX0_did_151 ?_
                    refine r_ifeq (tgt := 174) C dX0_did_154 (by decide) (fun c_154 => ?_) (fun c_154 => ?_)
                    · skip
                      first
                        | exact absurd c_154 (by decide)
                        | exact AW.forget LE (nxt _ _ (by rw [didX_y hk0 (by omega), en]; rfl) (by rw [didX_y hk0 (by omega), es, chAns_0 e]; rfl))
                    · skip
                      refine r_aload_6 C dX0_did_157 ?_
                      refine r_castS C (qk + 46) (wx_at hv) rfl q1160 dX0_did_159 ?_
                      refine r_astore_9 C dX0_did_162 ?_
                      refine r_iload_4 C dX0_did_164 ?_
                      refine r_aload_9 C dX0_did_166 ?_
                      refine r_getN C (qk + 46) (wx_at hv) rfl in_X8 1 (by decide) q1168 rfl rfl dX0_did_168 ?_
                      refine r_iadd C dX0_did_171 ?_
                      refine r_istore_4 C dX0_did_172 ?_
                      first
                        | exact absurd c_154 (by decide)
                        | exact AW.forget LE (nxt _ _ (by rw [didX_y hk0 (by omega), en]; rfl) (by rw [didX_y hk0 (by omega), es, chAns_0 e]; rfl))
                  · skip
                    exact absurd rfl c_126
                · skip
                  exact absurd rfl c_95
              · skip
                refine r_goto (tgt := 174) C dX0_did_84 (by decide) ?_
                exact AW.forget LE (nxt _ _ (by rw [didX_n hk0 (by omega)]; exact en) (by rw [didX_n hk0 (by omega)]; exact es))
            · rw [chCell_1 e] at hv
              refine r_castY C (qk + 46) (wx_at hv) rfl q1323 pfX9.2.1.2.2.2.2 dX0_did_70 ?_
              refine r_astore_6 C dX0_did_73 ?_
              refine r_aload_6 C dX0_did_75 ?_
              refine r_cS1i C (c_kind_Fed1 hG N (wx_at hv)) q1324 pkX0_kindOf dX0_did_77 (fun z w h => ?_)
              obtain ⟨rfl, rfl⟩ := h
              refine r_iload_1 C dX0_did_80 ?_
              refine r_if_icmpeq (tgt := 87) C dX0_did_81 (by decide) (fun c_81 => ?_) (fun c_81 => ?_)
              · skip
                refine r_iinc_3 C dX0_did_87 ?_
                refine r_aload_6 C dX0_did_90 ?_
                refine r_instNo C N (qk + 46) (wx_at hv) rfl q1265 (by decide +kernel) (by decide +kernel) (by decide +kernel) dX0_did_92 ?_
                refine r_ifeq (tgt := 121) C dX0_did_95 (by decide) (fun c_95 => ?_) (fun c_95 => ?_)
                · skip
                  refine r_aload_6 C dX0_did_121 ?_
                  refine r_instNo C N (qk + 46) (wx_at hv) rfl q1247 (by decide +kernel) (by decide +kernel) (by decide +kernel) dX0_did_123 ?_
                  refine r_ifeq (tgt := 149) C dX0_did_126 (by decide) (fun c_126 => ?_) (fun c_126 => ?_)
                  · skip
                    refine r_aload_6 C dX0_did_149 ?_
                    refine r_instNo C N (qk + 46) (wx_at hv) rfl q1160 (by decide +kernel) (by decide +kernel) (by decide +kernel) dX0_did_151 ?_
                    refine r_ifeq (tgt := 174) C dX0_did_154 (by decide) (fun c_154 => ?_) (fun c_154 => ?_)
                    · skip
                      exact AW.forget LE (nxt _ _ (by rw [didX_y hk0 (by omega), en]; rfl) (by rw [didX_y hk0 (by omega), es, chAns_1 e]; show _ = _ + 0; omega))
                    · skip
                      exact absurd rfl c_154
                  · skip
                    exact absurd rfl c_126
                · skip
                  exact absurd rfl c_95
              · skip
                refine r_goto (tgt := 174) C dX0_did_84 (by decide) ?_
                exact AW.forget LE (nxt _ _ (by rw [didX_n hk0 (by omega)]; exact en) (by rw [didX_n hk0 (by omega)]; exact es))
            · rw [chCell_2 e] at hv
              refine r_castY C (qk + 46) (wx_at hv) rfl q1323 pfX10.2.1.2.2.2.2 dX0_did_70 ?_
              refine r_astore_6 C dX0_did_73 ?_
              refine r_aload_6 C dX0_did_75 ?_
              refine r_cS1i C (c_kind_Drawn hG N (wx_at hv)) q1324 pkX0_kindOf dX0_did_77 (fun z w h => ?_)
              obtain ⟨rfl, rfl⟩ := h
              refine r_iload_1 C dX0_did_80 ?_
              refine r_if_icmpeq (tgt := 87) C dX0_did_81 (by decide) (fun c_81 => ?_) (fun c_81 => ?_)
              · skip
                refine r_iinc_3 C dX0_did_87 ?_
                refine r_aload_6 C dX0_did_90 ?_
                refine r_instNo C N (qk + 46) (wx_at hv) rfl q1265 (by decide +kernel) (by decide +kernel) (by decide +kernel) dX0_did_92 ?_
                refine r_ifeq (tgt := 121) C dX0_did_95 (by decide) (fun c_95 => ?_) (fun c_95 => ?_)
                · skip
                  refine r_aload_6 C dX0_did_121 ?_
                  refine r_instS C (qk + 46) (wx_at hv) rfl q1247 dX0_did_123 ?_
                  refine r_ifeq (tgt := 149) C dX0_did_126 (by decide) (fun c_126 => ?_) (fun c_126 => ?_)
                  · skip
                    exact absurd c_126 (by decide)
                  · skip
                    refine r_aload_6 C dX0_did_129 ?_
                    refine r_castS C (qk + 46) (wx_at hv) rfl q1247 dX0_did_131 ?_
                    refine r_astore_8 C dX0_did_134 ?_
                    refine r_iload_4 C dX0_did_136 ?_
                    refine r_aload_8 C dX0_did_138 ?_
                    refine r_getN C (qk + 46) (wx_at hv) rfl in_X10 1 (by decide) q1255 rfl rfl dX0_did_140 ?_
                    refine r_iadd C dX0_did_143 ?_
                    refine r_istore_4 C dX0_did_144 ?_
                    refine r_goto (tgt := 174) C dX0_did_146 (by decide) ?_
                    exact AW.forget LE (nxt _ _ (by rw [didX_y hk0 (by omega), en]; rfl) (by rw [didX_y hk0 (by omega), es, chAns_2 e]; rfl))
                · skip
                  exact absurd rfl c_95
              · skip
                refine r_goto (tgt := 174) C dX0_did_84 (by decide) ?_
                exact AW.forget LE (nxt _ _ (by rw [didX_n hk0 (by omega)]; exact en) (by rw [didX_n hk0 (by omega)]; exact es))
            · rw [chCell_3 e] at hv
              refine r_castY C (qk + 46) (wx_at hv) rfl q1323 pfX11.2.1.2.2.2.2 dX0_did_70 ?_
              refine r_astore_6 C dX0_did_73 ?_
              refine r_aload_6 C dX0_did_75 ?_
              refine r_cS1i C (c_kind_Aged hG N (wx_at hv)) q1324 pkX0_kindOf dX0_did_77 (fun z w h => ?_)
              obtain ⟨rfl, rfl⟩ := h
              refine r_iload_1 C dX0_did_80 ?_
              refine r_if_icmpeq (tgt := 87) C dX0_did_81 (by decide) (fun c_81 => ?_) (fun c_81 => ?_)
              · skip
                refine r_iinc_3 C dX0_did_87 ?_
                refine r_aload_6 C dX0_did_90 ?_
                refine r_instS C (qk + 46) (wx_at hv) rfl q1265 dX0_did_92 ?_
                refine r_ifeq (tgt := 121) C dX0_did_95 (by decide) (fun c_95 => ?_) (fun c_95 => ?_)
                · skip
                  exact absurd c_95 (by decide)
                · skip
                  refine r_aload_6 C dX0_did_98 ?_
                  refine r_castS C (qk + 46) (wx_at hv) rfl q1265 dX0_did_100 ?_
                  refine r_astore_7 C dX0_did_103 ?_
                  refine r_iload_4 C dX0_did_105 ?_
                  refine r_aload_7 C dX0_did_107 ?_
                  refine r_getN C (qk + 46) (wx_at hv) rfl in_X11 0 (by decide) q1272 rfl rfl dX0_did_109 ?_
                  refine r_cS1i C (c_J10_bitCount hG (h3.2 e).1 (h3.2 e).2) q1029 pkJ10_bitCount dX0_did_112 (fun z w h => ?_)
                  obtain ⟨rfl, rfl⟩ := h
                  refine r_iadd C dX0_did_115 ?_
                  refine r_istore_4 C dX0_did_116 ?_
                  refine r_goto (tgt := 174) C dX0_did_118 (by decide) ?_
                  exact AW.forget LE (nxt _ _ (by rw [didX_y hk0 (by omega), en]; rfl) (by rw [didX_y hk0 (by omega), es, chAns_3 e]; rfl))
              · skip
                refine r_goto (tgt := 174) C dX0_did_84 (by decide) ?_
                exact AW.forget LE (nxt _ _ (by rw [didX_n hk0 (by omega)]; exact en) (by rw [didX_n hk0 (by omega)]; exact es))
        refine r_iconst C dX0_did_35 ?_
        refine r_istore_3 C dX0_did_36 ?_
        refine r_iconst C dX0_did_37 ?_
        refine r_istore_4 C dX0_did_38 ?_
        refine r_iconst C dX0_did_40 ?_
        refine r_istore_5 C dX0_did_41 ?_
        exact key _ 0 0 0 (by omega) (by omega) rfl rfl rfl
      · skip
        refine r_bipush C dX0_did_32 ?_
        refine r_ireturn C E dX0_did_34 ?_
        rw [hW.ln] at c_7
        refine ⟨_, rfl, ?_, PubX.mk⟩
        rw [if_neg]
        intro h
        have h2 : 0 ≤ wt ∧ wt ≤ 1 := of_decide_eq_true h.2
        first
          | exact c_7 h.1.1
          | exact c_19 h.1.2
          | exact c_29 h2
end X20

