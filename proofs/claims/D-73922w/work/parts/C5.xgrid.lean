/-! SupplyGrid.grid: a text is read, or a fault is kept -/
/-- other addresses of what is told -/
def sgN (σ τ : Nat → Nat) : Nat → Nat := fun i => cond (Nat.ble 7 i && Nat.ble i 15) (τ (i - 7)) (σ i)
theorem perm5 {α : Type} {r : α} {A N O R : List α} : (r :: (N ++ (A ++ (O ++ R)))).Perm ((r :: O) ++ (A ++ (N ++ R))) := by
  refine List.Perm.cons _ ?_
  refine (List.Perm.append_left N (List.perm_append_comm_assoc A O R)).trans ?_
  refine (List.perm_append_comm_assoc N O _).trans ?_
  exact List.Perm.append_left O (List.perm_append_comm_assoc N A R)
theorem TW.zero {F bu : Int → Int} (hz : Zw F) (hb : ∀ v : Int, 0 ≤ v → v < 4 → bu v = 999) : TW F 0 (fun _ => 0) (fun _ => 0) (fun _ => 0) (fun _ => 0) (fun _ => 0) bu 0 0 0 0 0 0 0 := by
  have h4 := hz 4 (by omega) (by omega)
  refine ⟨⟨Or.inr hz, ⟨(hz 0 (by omega) (by omega)).symm, (hz 1 (by omega) (by omega)).symm, (hz 2 (by omega) (by omega)).symm, (hz 3 (by omega) (by omega)).symm, h4.symm, (hz 5 (by omega) (by omega)).symm⟩, ?_, fun v a b => (hz _ (by omega) (by omega)).symm, fun v a b => (hz _ (by omega) (by omega)).symm, fun z => by omega, fun k a b => (hz _ (by omega) (by omega)).symm, fun z => by omega⟩, fun _ => hb, fun v a b _ => hz _ (by omega) (by omega)⟩
  rw [if_neg (by omega)]
abbrev hhG : List (Nat × Nat × Nat × Nat) := [(0, 40, 47, 92), (0, 40, 74, 0), (47, 67, 74, 0)]
theorem phX0_grid : PkH yX0_grid cX0_grid 4 (some .int) hhG 0 := ⟨q407, q408, q119, q409, by decide, by decide +kernel, by decide +kernel, by decide +kernel⟩
section XG
variable {g : GX} {σ : Nat → Nat} {ex : va_W}
variable {x_tape : Int → Int} {x_taped : Int} {x_faultKind : Int} {x_faultPlace : Int} {x_bestStarved : Int} {x_bestMost : Int} {x_bestWhole : Int} {x_draws : Int → Int} {x_left : Int → Int} {x_mosts : Int → Int} {x_widened : Int → Int} {x_drawn : Int} {x_img : Nat → Option Nat} {n_width : Int → Int} {n_from : Int → Int} {n_to : Int → Int} {n_load : Int → Int} {n_group : Int → Int} {n_budget : Int → Int} {n_columns : Int} {n_rows : Int} {n_limit : Int} {n_wear : Int} {n_straps : Int} {n_pads : Int} {n_lines : Int} {n_mod : Int} {n_asz : Int} {n_el : Nat → Option Nat} {i_width : Int → Int} {i_load : Int → Int} {i_pads : Int} {i_reached : Int} {i_place : Int → Int} {i_table : Int → Int} {i_drop : Int → Int} {i_size : Int} {i_whole : Int} {t_width : Int → Int} {t_load : Int → Int} {t_pads : Int} {t_reached : Int} {t_place : Int → Int} {t_table : Int → Int} {t_drop : Int → Int} {t_size : Int} {t_whole : Int}
theorem wX_sgN {τ : Nat → Nat} {wd fr to ld gr bu : Int → Int} {c rw lm we ss pd ln md sz : Int} {el : Nat → Option Nat} : List.take 7 (wX g (sgN σ τ) x_tape x_taped x_faultKind x_faultPlace x_bestStarved x_bestMost x_bestWhole x_draws x_left x_mosts x_widened x_drawn x_img n_width n_from n_to n_load n_group n_budget n_columns n_rows n_limit n_wear n_straps n_pads n_lines n_mod n_asz n_el i_width i_load i_pads i_reached i_place i_table i_drop i_size i_whole t_width t_load t_pads t_reached t_place t_table t_drop t_size t_whole ++ ex) ++ (wT g τ wd fr to ld gr bu c rw lm we ss pd ln md sz el ++ List.drop 16 (wX g σ x_tape x_taped x_faultKind x_faultPlace x_bestStarved x_bestMost x_bestWhole x_draws x_left x_mosts x_widened x_drawn x_img n_width n_from n_to n_load n_group n_budget n_columns n_rows n_limit n_wear n_straps n_pads n_lines n_mod n_asz n_el i_width i_load i_pads i_reached i_place i_table i_drop i_size i_whole t_width t_load t_pads t_reached t_place t_table t_drop t_size t_whole ++ ex)) = (wX g (sgN σ τ) x_tape x_taped x_faultKind x_faultPlace x_bestStarved x_bestMost x_bestWhole x_draws x_left x_mosts x_widened x_drawn x_img (wd) (fr) (to) (ld) (gr) (bu) (c) (rw) (lm) (we) (ss) (pd) (ln) (md) (sz) (el) i_width i_load i_pads i_reached i_place i_table i_drop i_size i_whole t_width t_load t_pads t_reached t_place t_table t_drop t_size t_whole ++ ex) := by
  have h22 : (fun k => some (sgN σ τ (22 + k))) = fun k => some (σ (22 + k)) := by
    funext k
    unfold sgN
    rw [show Nat.ble (22 + k) 15 = false from Bool.eq_false_iff.mpr (fun z => by have := Nat.le_of_ble_eq_true z; omega), Bool.and_false]
    rfl
  have h37 : (fun k => some (sgN σ τ (37 + k))) = fun k => some (σ (37 + k)) := by
    funext k
    unfold sgN
    rw [show Nat.ble (37 + k) 15 = false from Bool.eq_false_iff.mpr (fun z => by have := Nat.le_of_ble_eq_true z; omega), Bool.and_false]
    rfl
  unfold wX
  rw [h22, h37]
  rfl
theorem c_X0_grid (hG : Gok g) {mi : Nat} (Z : GA g mi) (TT : GT g) (TH : GTh g) {κ : Nat → Nat} (GR : GRs g κ) {e1 e2 : Nat} (W : GEn g e1 e2) (hn0 : 0 ≤ x_taped) (hn : x_taped ≤ 700) (hT : TpOk x_tape) {kk : Nat} {f : RS} {fm tk v0 : Int} {fr : Int → Int} (hr : rRun x_tape x_taped kk (rBeg x_tape x_taped 0 fm tk v0 fr) f) : XMetH g yX0_grid cX0_grid 4 (some .int) hhG 11 11 112 [.ref (σ 0)] (wX g σ x_tape x_taped x_faultKind x_faultPlace x_bestStarved x_bestMost x_bestWhole x_draws x_left x_mosts x_widened x_drawn x_img n_width n_from n_to n_load n_group n_budget n_columns n_rows n_limit n_wear n_straps n_pads n_lines n_mod n_asz n_el i_width i_load i_pads i_reached i_place i_table i_drop i_size i_whole t_width t_load t_pads t_reached t_place t_table t_drop t_size t_whole ++ ex) (pI (fun z ww => (f.1.2.2.2.2.1 = 0 ∧ z = f.2.1 4 ∧ ∃ (τ : Nat → Nat) (wd fr to ld gr bu : Int → Int) (c rw lm we ss pd ln : Int), NW f.2.1 wd fr to ld gr bu c rw lm we ss pd ln ∧ ww = (wX g (sgN σ τ) x_tape (0) (0) (-1) x_bestStarved x_bestMost x_bestWhole x_draws x_left x_mosts x_widened x_drawn x_img (wd) (fr) (to) (ld) (gr) (bu) (c) (rw) (lm) (we) (ss) (pd) (ln) (0) (0) (fun _ => none) i_width i_load i_pads i_reached i_place i_table i_drop i_size i_whole t_width t_load t_pads t_reached t_place t_table t_drop t_size t_whole ++ ex)) ∨ (f.1.2.2.2.2.1 ≠ 0 ∧ z = -4 ∧ ww = (wX g σ x_tape (0) (f.1.2.2.2.2.1) (f.1.2.2.2.2.2) x_bestStarved x_bestMost x_bestWhole x_draws x_left x_mosts x_widened x_drawn x_img n_width n_from n_to n_load n_group n_budget n_columns n_rows n_limit n_wear n_straps n_pads n_lines n_mod n_asz n_el i_width i_load i_pads i_reached i_place i_table i_drop i_size i_whole t_width t_load t_pads t_reached t_place t_table t_drop t_size t_whole ++ ex)))) := by
  have hB := rBeg_ok (T := x_tape) (n := x_taped) (f := fm) (t := tk) (v := v0) (fr := fr) hn0
  refine XMetH.of (L := [some (.ref (σ 0)), none, none, none]) hG (by decide +kernel) (Nat.le_of_ble_eq_true rfl) rfl (fun K C Ht E => ?_)
  refine r_aload_0 C dX0_grid_0 ?_
  refine AW.less (k' := 10 + 1) (n' := 103 + 9) (by omega) (by omega) ?_
  refine r_new (ws := []) (wt := (wX g σ x_tape x_taped x_faultKind x_faultPlace x_bestStarved x_bestMost x_bestWhole x_draws x_left x_mosts x_widened x_drawn x_img n_width n_from n_to n_load n_group n_budget n_columns n_rows n_limit n_wear n_straps n_pads n_lines n_mod n_asz n_el i_width i_load i_pads i_reached i_place i_table i_drop i_size i_whole t_width t_load t_pads t_reached t_place t_table t_drop t_size t_whole ++ ex)) C in_X6 tyX6_ok q411 q412 q128 (ci := 4) (fs := [.null, .int 0, .null, .int 0, .int 0, .int 0, .int 0, .int 0, .int 0]) rfl (fun j hj => by rcases (show j = 0 ∨ j = 1 ∨ j = 2 ∨ j = 3 ∨ j = 4 ∨ j = 5 ∨ j = 6 ∨ j = 7 ∨ j = 8 by omega) with rfl | rfl | rfl | rfl | rfl | rfl | rfl | rfl | rfl <;> rfl) dX0_grid_1 (fun rd => ?_)
  refine r_dup C dX0_grid_4 ?_
  refine AW.perm List.perm_middle.symm ?_
  refine r_aload_0 C dX0_grid_5 ?_
  refine gG_tape C q348 dX0_grid_6 ?_
  refine r_aload_0 C dX0_grid_9 ?_
  refine gG_taped C q349 dX0_grid_10 ?_
  refine AW.perm List.perm_middle ?_
  refine r_callI C (av := [.ref (σ 2), .int (jI x_taped)]) (c_X6_init (qt := 2) hG Z rfl hn0 hn hT) q413 pkX6_initI (by decide) (by omega) (by omega) rfl (Nat.le_of_ble_eq_true rfl) dX0_grid_13 (fun r w h => ?_)
  obtain ⟨rfl, τ, bu, vl', hb0, hvl, rfl⟩ := h
  refine AW.less (k' := 1) (n' := 8) (by omega) (by omega) ?_
  have hM := c_X6_reads (ws := (wX g σ x_tape x_taped x_faultKind x_faultPlace x_bestStarved x_bestMost x_bestWhole x_draws x_left x_mosts x_widened x_drawn x_img n_width n_from n_to n_load n_group n_budget n_columns n_rows n_limit n_wear n_straps n_pads n_lines n_mod n_asz n_el i_width i_load i_pads i_reached i_place i_table i_drop i_size i_whole t_width t_load t_pads t_reached t_place t_table t_drop t_size t_whole ++ ex)) (qt := 2) (tp := σ 2) (r := rd) (τ := τ) (md := 0) (sz := 0) (el := fun _ => none) (vl := vl') (dw := 0) (bd := 0) (q := (tE x_tape x_taped (tB x_tape x_taped 0), tB x_tape x_taped 0, tK x_tape x_taped (tB x_tape x_taped 0), if tK x_tape x_taped (tB x_tape x_taped 0) = 2 then tV x_tape x_taped (tB x_tape x_taped 0) else v0, 0, -1)) (F := fZ fr) hG W TT TH GR rfl hn hT hB.1.1 rfl (fun z => (hvl z).trans (if_pos z).symm) hB.1 (TW.zero fZ_z hb0) hr
  have R := r_callC (pc := 16) (k := 1) (n := 8) (L := [some (.ref (σ 0)), none, none, none]) (rest := [.ref (σ 0)]) C Ht (by decide) (by decide) q410 (nw_in q531 rfl) hM (q0 := 0) rfl rfl q460 pkX6_reads (by decide) (by decide) (by decide) rfl (Nat.le_of_ble_eq_true rfl) dX0_grid_16
  refine R (fun a ww h => ?_) (fun r ww h => ?_)
  · obtain ⟨hk, fs, h6, h7, rfl⟩ := h
    refine AW.perm List.perm_middle.symm ?_
    refine r_astore_1 C dX0_grid_47 ?_
    refine r_aload_0 C dX0_grid_48 ?_
    refine r_aload_1 C dX0_grid_49 ?_
    refine r_getN C 46 rfl rfl in_X7 6 (by decide) q576 rfl h6 dX0_grid_50 ?_
    refine pG_faultKind C q350 dX0_grid_53 ?_
    refine r_aload_0 C dX0_grid_56 ?_
    refine r_aload_1 C dX0_grid_57 ?_
    refine r_getN C 46 rfl rfl in_X7 7 (by decide) q578 rfl h7 dX0_grid_58 ?_
    refine pG_faultPlace C q351 dX0_grid_61 ?_
    refine r_bipush C dX0_grid_64 ?_
    refine r_istore_2 C dX0_grid_66 ?_
    refine r_aload_0 C dX0_grid_67 ?_
    refine r_iconst C dX0_grid_68 ?_
    refine pG_taped C q349 dX0_grid_69 ?_
    refine r_iload_2 C dX0_grid_72 ?_
    refine AW.sub (wd := [(a, .inr (5, fs))]) (ws' := (wX g σ x_tape (0) (f.1.2.2.2.2.1) (f.1.2.2.2.2.2) x_bestStarved x_bestMost x_bestWhole x_draws x_left x_mosts x_widened x_drawn x_img n_width n_from n_to n_load n_group n_budget n_columns n_rows n_limit n_wear n_straps n_pads n_lines n_mod n_asz n_el i_width i_load i_pads i_reached i_place i_table i_drop i_size i_whole t_width t_load t_pads t_reached t_place t_table t_drop t_size t_whole ++ ex)) List.perm_middle ?_
    exact r_ireturn C E dX0_grid_73 ⟨_, rfl, Or.inr ⟨hk, rfl, rfl⟩⟩
  · obtain ⟨_, rfl, rfl, hk, vl2, wd, fr', to, ld, gr, bu', c, rw, lm, we, ss, pd, ln, hW, rfl⟩ := h
    refine r_put C 10 rfl rfl in_X0 tyX0 tyX0_ok nmX0 0 (by decide) q346 rfl rfl (tyX0_ok 0 (by decide)) rfl rfl (Nat.le_of_ble_eq_true rfl) dX0_grid_19 ?_
    refine AW.sub (wd := (rd, .inr (4, [.ref (σ 2), .int (jI x_taped), .ref (τ 0), .int (jI f.1.1), .int (jI f.1.2.1), .int (jI f.1.2.2.1), .int (jI vl2), .int (jI f.2.2.1), .int (jI f.2.2.2)])) :: wT g (fun i => σ (7 + i)) n_width n_from n_to n_load n_group n_budget n_columns n_rows n_limit n_wear n_straps n_pads n_lines n_mod n_asz n_el) (ws' := (wX g (sgN σ τ) x_tape x_taped x_faultKind x_faultPlace x_bestStarved x_bestMost x_bestWhole x_draws x_left x_mosts x_widened x_drawn x_img (wd) (fr') (to) (ld) (gr) (bu') (c) (rw) (lm) (we) (ss) (pd) (ln) (0) (0) (fun _ => none) i_width i_load i_pads i_reached i_place i_table i_drop i_size i_whole t_width t_load t_pads t_reached t_place t_table t_drop t_size t_whole ++ ex)) ?_ ?_
    · have hp := perm5 (r := ((rd, .inr (4, [.ref (σ 2), .int (jI x_taped), .ref (τ 0), .int (jI f.1.1), .int (jI f.1.2.1), .int (jI f.1.2.2.1), .int (jI vl2), .int (jI f.2.2.1), .int (jI f.2.2.2)])) : Nat × va_E)) (O := wT g (fun i => σ (7 + i)) n_width n_from n_to n_load n_group n_budget n_columns n_rows n_limit n_wear n_straps n_pads n_lines n_mod n_asz n_el) (A := List.take 7 (wX g (sgN σ τ) x_tape x_taped x_faultKind x_faultPlace x_bestStarved x_bestMost x_bestWhole x_draws x_left x_mosts x_widened x_drawn x_img n_width n_from n_to n_load n_group n_budget n_columns n_rows n_limit n_wear n_straps n_pads n_lines n_mod n_asz n_el i_width i_load i_pads i_reached i_place i_table i_drop i_size i_whole t_width t_load t_pads t_reached t_place t_table t_drop t_size t_whole ++ ex)) (N := wT g τ wd fr' to ld gr bu' c rw lm we ss pd ln 0 0 (fun _ => none)) (R := List.drop 16 (wX g σ x_tape x_taped x_faultKind x_faultPlace x_bestStarved x_bestMost x_bestWhole x_draws x_left x_mosts x_widened x_drawn x_img n_width n_from n_to n_load n_group n_budget n_columns n_rows n_limit n_wear n_straps n_pads n_lines n_mod n_asz n_el i_width i_load i_pads i_reached i_place i_table i_drop i_size i_whole t_width t_load t_pads t_reached t_place t_table t_drop t_size t_whole ++ ex))
      refine List.Perm.trans (List.Perm.of_eq ?_) (hp.trans (List.Perm.of_eq ?_))
      · rfl
      · rw [wX_sgN]
    refine r_aload_0 C dX0_grid_22 ?_
    refine r_iconst C dX0_grid_23 ?_
    refine pG_faultKind C q350 dX0_grid_24 ?_
    refine r_aload_0 C dX0_grid_27 ?_
    refine r_iconst C dX0_grid_28 ?_
    refine pG_faultPlace C q351 dX0_grid_29 ?_
    refine r_aload_0 C dX0_grid_32 ?_
    refine gG_now C q346 dX0_grid_33 ?_
    refine gTN_lines C q246 dX0_grid_36 ?_
    refine r_istore_1 C dX0_grid_39 ?_
    refine r_aload_0 C dX0_grid_40 ?_
    refine r_iconst C dX0_grid_41 ?_
    refine pG_taped C q349 dX0_grid_42 ?_
    refine r_iload_1 C dX0_grid_45 ?_
    exact AW.less (Nat.zero_le _) (Nat.zero_le _) (r_ireturn C E dX0_grid_46 ⟨_, rfl, Or.inl ⟨hk, hW.1.ln, τ, wd, fr', to, ld, gr, bu', c, rw, lm, we, ss, pd, ln, hW.1, rfl⟩⟩)
end XG

