/-! images: taken, brought back -/
theorem castSelf {C T : String} {U : State} (h : va_Nw (.castable C T) U) : va_Nw (.castable C C) U := by
  obtain ⟨c, t, h1, h2, h3⟩ := Cond.castable_spec h
  unfold va_Nw Cond.before
  simp only [Cond.holds, Cond.value, h1]
  have e : U.vm.assignable c c = true := by
    show U.vm.assignableAux (255 + 1) c c = true
    rw [Vm.assignableAux]
    simp only [beq_self_eq_true, Bool.true_or]
  simp [e]
theorem r_aaldq {g : GX} {K : KY} {d : Nat} {cc : ByteArray} {own : String} {ws : va_W} {k n pc : Nat} {L : List (Option Value)} {st : List Value} (C : Cok g K d cc own) {a N : Nat} {f : Nat → Option Nat} {i : Int} {E : String} (t0 q0 : Nat) (ha : ws[q0]? = some (a, .inl (g.2.2.1 t0, N, .inr (.inr (.inr (.inr f)))))) (ht : (tyA g.2.2.1)[t0]? = some (g.2.2.1 t0, .object E)) (dd : decode cc pc = .ok (.aaload, 1)) (h0 : 0 ≤ i) (h1 : i < N) (hN : N ≤ 2147483647)
    (kk : AW g K ws k n (pc + 1) L (va_rf (f i.toNat) :: st)) : AW g K ws k n pc L (.int (jI i) :: .ref a :: st) :=
  AW.mem C (fun hx hb hown hts hnw hK hP hD hS hF hml hfr hlo w => va_aldq hx hb hK hP q0 t0 ha ht (jI_vp h0 h1 hN) dd (by rw [jI_clamp h0 (by omega)]; exact w _ _ hP hD hS)) kk
theorem r_aastT {g : GX} {K : KY} {d : Nat} {cc : ByteArray} {own : String} {ws : va_W} {k n pc : Nat} {L : List (Option Value)} {st : List Value} (C : Cok g K d cc own) {a N v : Nat} {f : Nat → Option Nat} {i : Int} {vs : List Value} (q0 qk : Nat) (ha : ws[q0]? = some (a, .inl (g.2.2.1 5, N, .inr (.inr (.inr (.inr f)))))) (hv : ws[qk]? = some (v, .inr (1, vs))) (dd : decode cc pc = .ok (.aastore, 1)) (h0 : 0 ≤ i) (h1 : i < N) (hN : N ≤ 2147483647)
    (kk : AW g K (ws.set q0 (a, .inl (g.2.2.1 5, N, .inr (.inr (.inr (.inr (va_up f i.toNat (some v)))))))) k n (pc + 1) L st) : AW g K ws k n pc L (.ref v :: .int (jI i) :: .ref a :: st) :=
  AW.mem C (fun hx hb hown hts hnw hK hP hD hS hF hml hfr hlo w => va_astqO hx hb hK hP hD hS q0 5 qk 1 ha rfl (castSelf (hnw _ (nw_in q2100 rfl))) hv rfl (jI_vp h0 h1 hN) dd (by rw [jI_clamp h0 (by omega)]; exact w)) kk
theorem perm4 {α : Type} {A N O R : List α} : (N ++ (A ++ (O ++ R))).Perm (O ++ (A ++ (N ++ R))) := by
  refine (List.Perm.append_left N (List.perm_append_comm_assoc A O R)).trans ?_
  refine (List.perm_append_comm_assoc N O _).trans ?_
  exact List.Perm.append_left O (List.perm_append_comm_assoc N A R)
theorem chCell_cl (x : Chg) : ∃ (ci : Nat) (vs : List Value) (r : vw_C), chCell x = .inr (ci, vs) ∧ vCl[ci]? = some r ∧ Cond.castable r.1 "java/lang/Object" ∈ nwl ∧ ci ≠ 1 ∧ ci ≠ 10 := by
  unfold chCell
  split
  · exact ⟨6, _, _, rfl, rfl, nw_in q2109 rfl, by decide, by decide⟩
  · split
    · exact ⟨7, _, _, rfl, rfl, nw_in q2110 rfl, by decide, by decide⟩
    · split
      · exact ⟨8, _, _, rfl, rfl, nw_in q2111 rfl, by decide, by decide⟩
      · exact ⟨9, _, _, rfl, rfl, nw_in q2112 rfl, by decide, by decide⟩
theorem ActsX.elok {ex : va_W} {el : Nat → Option Nat} {n : Nat} {cs : Int → Chg} (h : ActsX ex el (n : Int) cs) : ElOk ex el n := by
  intro i y hi hy
  obtain ⟨c, qk, e1, e2⟩ := h (i : Int) (by omega) (by omega)
  rw [Int.toNat_natCast, hy] at e1
  cases e1
  obtain ⟨ci, vs, r, c1, c2, c3, -, -⟩ := chCell_cl (cs i)
  rw [c1] at e2
  exact ⟨qk, ci, vs, r, e2, c2, c3⟩
theorem ActsX.elokT {g : GX} {τ : Nat → Nat} {wd fr to ld gr bu : Int → Int} {c r lm we ss pd ln md sz : Int} {ex rest : va_W} {el el0 : Nat → Option Nat} {n : Nat} {cs : Int → Chg} (h : ActsX ex el (n : Int) cs) (hp : ex.Perm (wT g τ wd fr to ld gr bu c r lm we ss pd ln md sz el0 ++ rest)) : ElOk rest el n := by
  intro i y hi hy
  obtain ⟨c, qk, e1, e2⟩ := h (i : Int) (by omega) (by omega)
  rw [Int.toNat_natCast, hy] at e1
  cases e1
  obtain ⟨ci, vs, r, c1, c2, c3, c4, c5⟩ := chCell_cl (cs i)
  rw [c1] at e2
  have hm := hp.mem_iff.mp (List.mem_of_getElem? e2)
  have hr : (y, Sum.inr (ci, vs)) ∈ rest := by
    rcases List.mem_append.mp hm with h | h
    · exfalso
      simp only [wT, List.mem_cons, List.not_mem_nil, or_false, Prod.mk.injEq, Sum.inr.injEq, reduceCtorEq, and_false, false_or] at h
      rcases h with h | h
      · exact c4 h.2.1
      · exact c5 h.2.1
    · exact h
  obtain ⟨qk2, h2⟩ := List.mem_iff_getElem?.mp hr
  exact ⟨qk2, ci, vs, r, h2, c2, c3⟩
/-- the same numbers are told -/
def TSame (wd fr to ld gr bu wd' fr' to' ld' gr' bu' : Int → Int) : Prop := (∀ k : Int, 0 ≤ k → k < 12 → wd' k = wd k ∧ fr' k = fr k ∧ to' k = to k) ∧ (∀ k : Int, 0 ≤ k → k < 9 → ld' k = ld k ∧ gr' k = gr k) ∧ (∀ k : Int, 0 ≤ k → k < 4 → bu' k = bu k)
theorem NW.same {w wd fr to ld gr bu wd' fr' to' ld' gr' bu' : Int → Int} {c r lm we ss pd ln : Int} (h : NW w wd fr to ld gr bu c r lm we ss pd ln) (hs : TSame wd fr to ld gr bu wd' fr' to' ld' gr' bu') : NW w wd' fr' to' ld' gr' bu' c r lm we ss pd ln := by
  refine ⟨h.1, h.2.1, h.2.2.1, fun v a b => (hs.2.1 v a b).1.trans (h.ld v a b), fun v a b => (hs.2.1 v a b).2.trans (h.gr v a b), fun z v a b => (hs.2.2 v a b).trans (h.bu z v a b), fun k a b => (hs.1 k a b).1.trans (h.wd k a b), fun z k a b => ?_⟩
  have hd : Gd w := h.1.elim id (fun q => by have := q 4 (by omega) (by omega); omega)
  have := hd.s
  have h2 := hs.1 k a (by omega)
  exact ⟨h2.2.1.trans (h.en z k a b).1, h2.2.2.trans (h.en z k a b).2⟩
section XI
variable {g : GX} {σ : Nat → Nat} {ex : va_W}
variable {x_tape : Int → Int} {x_taped : Int} {x_faultKind : Int} {x_faultPlace : Int} {x_bestStarved : Int} {x_bestMost : Int} {x_bestWhole : Int} {x_draws : Int → Int} {x_left : Int → Int} {x_mosts : Int → Int} {x_widened : Int → Int} {x_drawn : Int} {x_img : Nat → Option Nat} {n_width : Int → Int} {n_from : Int → Int} {n_to : Int → Int} {n_load : Int → Int} {n_group : Int → Int} {n_budget : Int → Int} {n_columns : Int} {n_rows : Int} {n_limit : Int} {n_wear : Int} {n_straps : Int} {n_pads : Int} {n_lines : Int} {n_mod : Int} {n_asz : Int} {n_el : Nat → Option Nat} {i_width : Int → Int} {i_load : Int → Int} {i_pads : Int} {i_reached : Int} {i_place : Int → Int} {i_table : Int → Int} {i_drop : Int → Int} {i_size : Int} {i_whole : Int} {t_width : Int → Int} {t_load : Int → Int} {t_pads : Int} {t_reached : Int} {t_place : Int → Int} {t_table : Int → Int} {t_drop : Int → Int} {t_size : Int} {t_whole : Int}
theorem wX_told : (wX g σ x_tape x_taped x_faultKind x_faultPlace x_bestStarved x_bestMost x_bestWhole x_draws x_left x_mosts x_widened x_drawn x_img n_width n_from n_to n_load n_group n_budget n_columns n_rows n_limit n_wear n_straps n_pads n_lines n_mod n_asz n_el i_width i_load i_pads i_reached i_place i_table i_drop i_size i_whole t_width t_load t_pads t_reached t_place t_table t_drop t_size t_whole ++ ex).Perm (wT g (fun i => σ (7 + i)) n_width n_from n_to n_load n_group n_budget n_columns n_rows n_limit n_wear n_straps n_pads n_lines n_mod n_asz n_el ++ (List.take 7 (wX g σ x_tape x_taped x_faultKind x_faultPlace x_bestStarved x_bestMost x_bestWhole x_draws x_left x_mosts x_widened x_drawn x_img n_width n_from n_to n_load n_group n_budget n_columns n_rows n_limit n_wear n_straps n_pads n_lines n_mod n_asz n_el i_width i_load i_pads i_reached i_place i_table i_drop i_size i_whole t_width t_load t_pads t_reached t_place t_table t_drop t_size t_whole ++ ex) ++ List.drop 16 (wX g σ x_tape x_taped x_faultKind x_faultPlace x_bestStarved x_bestMost x_bestWhole x_draws x_left x_mosts x_widened x_drawn x_img n_width n_from n_to n_load n_group n_budget n_columns n_rows n_limit n_wear n_straps n_pads n_lines n_mod n_asz n_el i_width i_load i_pads i_reached i_place i_table i_drop i_size i_whole t_width t_load t_pads t_reached t_place t_table t_drop t_size t_whole ++ ex))) :=
  List.perm_append_comm_assoc (List.take 7 (wX g σ x_tape x_taped x_faultKind x_faultPlace x_bestStarved x_bestMost x_bestWhole x_draws x_left x_mosts x_widened x_drawn x_img n_width n_from n_to n_load n_group n_budget n_columns n_rows n_limit n_wear n_straps n_pads n_lines n_mod n_asz n_el i_width i_load i_pads i_reached i_place i_table i_drop i_size i_whole t_width t_load t_pads t_reached t_place t_table t_drop t_size t_whole ++ ex)) (wT g (fun i => σ (7 + i)) n_width n_from n_to n_load n_group n_budget n_columns n_rows n_limit n_wear n_straps n_pads n_lines n_mod n_asz n_el) (List.drop 16 (wX g σ x_tape x_taped x_faultKind x_faultPlace x_bestStarved x_bestMost x_bestWhole x_draws x_left x_mosts x_widened x_drawn x_img n_width n_from n_to n_load n_group n_budget n_columns n_rows n_limit n_wear n_straps n_pads n_lines n_mod n_asz n_el i_width i_load i_pads i_reached i_place i_table i_drop i_size i_whole t_width t_load t_pads t_reached t_place t_table t_drop t_size t_whole ++ ex))
theorem ElOk.wx {el : Nat → Option Nat} {n : Nat} (h : ElOk ex el n) : ElOk (List.take 7 (wX g σ x_tape x_taped x_faultKind x_faultPlace x_bestStarved x_bestMost x_bestWhole x_draws x_left x_mosts x_widened x_drawn x_img n_width n_from n_to n_load n_group n_budget n_columns n_rows n_limit n_wear n_straps n_pads n_lines n_mod n_asz n_el i_width i_load i_pads i_reached i_place i_table i_drop i_size i_whole t_width t_load t_pads t_reached t_place t_table t_drop t_size t_whole ++ ex) ++ List.drop 16 (wX g σ x_tape x_taped x_faultKind x_faultPlace x_bestStarved x_bestMost x_bestWhole x_draws x_left x_mosts x_widened x_drawn x_img n_width n_from n_to n_load n_group n_budget n_columns n_rows n_limit n_wear n_straps n_pads n_lines n_mod n_asz n_el i_width i_load i_pads i_reached i_place i_table i_drop i_size i_whole t_width t_load t_pads t_reached t_place t_table t_drop t_size t_whole ++ ex)) el n := by
  have e : List.take 7 (wX g σ x_tape x_taped x_faultKind x_faultPlace x_bestStarved x_bestMost x_bestWhole x_draws x_left x_mosts x_widened x_drawn x_img n_width n_from n_to n_load n_group n_budget n_columns n_rows n_limit n_wear n_straps n_pads n_lines n_mod n_asz n_el i_width i_load i_pads i_reached i_place i_table i_drop i_size i_whole t_width t_load t_pads t_reached t_place t_table t_drop t_size t_whole ++ ex) ++ List.drop 16 (wX g σ x_tape x_taped x_faultKind x_faultPlace x_bestStarved x_bestMost x_bestWhole x_draws x_left x_mosts x_widened x_drawn x_img n_width n_from n_to n_load n_group n_budget n_columns n_rows n_limit n_wear n_straps n_pads n_lines n_mod n_asz n_el i_width i_load i_pads i_reached i_place i_table i_drop i_size i_whole t_width t_load t_pads t_reached t_place t_table t_drop t_size t_whole ++ ex) = (List.take 7 (wX g σ x_tape x_taped x_faultKind x_faultPlace x_bestStarved x_bestMost x_bestWhole x_draws x_left x_mosts x_widened x_drawn x_img n_width n_from n_to n_load n_group n_budget n_columns n_rows n_limit n_wear n_straps n_pads n_lines n_mod n_asz n_el i_width i_load i_pads i_reached i_place i_table i_drop i_size i_whole t_width t_load t_pads t_reached t_place t_table t_drop t_size t_whole ++ ex) ++ (List.take 30 (List.drop 16 (wX g σ x_tape x_taped x_faultKind x_faultPlace x_bestStarved x_bestMost x_bestWhole x_draws x_left x_mosts x_widened x_drawn x_img n_width n_from n_to n_load n_group n_budget n_columns n_rows n_limit n_wear n_straps n_pads n_lines n_mod n_asz n_el i_width i_load i_pads i_reached i_place i_table i_drop i_size i_whole t_width t_load t_pads t_reached t_place t_table t_drop t_size t_whole ++ ex)))) ++ ex := rfl
  rw [e]
  exact h.app
theorem c_X0_image (hG : Gok g) {mi : Nat} (Z : GA g mi) {i : Int} (hi : inR i) {n : Nat} (hn : n ≤ 20) (hel : ElOk ex n_el n) : XMet g yX0_image cX0_image 2 (some .int) 6 10 115 [.ref (σ 0), .int (jI i)] (wX g σ x_tape x_taped x_faultKind x_faultPlace x_bestStarved x_bestMost x_bestWhole x_draws x_left x_mosts x_widened x_drawn x_img n_width n_from n_to n_load n_group n_budget n_columns n_rows n_limit n_wear n_straps n_pads n_lines n_mod ((n : Int)) n_el i_width i_load i_pads i_reached i_place i_table i_drop i_size i_whole t_width t_load t_pads t_reached t_place t_table t_drop t_size t_whole ++ ex) (pI (fun z ww => (¬ (0 ≤ i ∧ i ≤ 2) ∧ z = -2 ∧ ww = (wX g σ x_tape x_taped x_faultKind x_faultPlace x_bestStarved x_bestMost x_bestWhole x_draws x_left x_mosts x_widened x_drawn x_img n_width n_from n_to n_load n_group n_budget n_columns n_rows n_limit n_wear n_straps n_pads n_lines n_mod ((n : Int)) n_el i_width i_load i_pads i_reached i_place i_table i_drop i_size i_whole t_width t_load t_pads t_reached t_place t_table t_drop t_size t_whole ++ ex)) ∨ ((0 ≤ i ∧ i ≤ 2) ∧ z = 0 ∧ ∃ (τ : Nat → Nat) (wd fr to ld gr bu : Int → Int) (md : Int) (el : Nat → Option Nat), TSame n_width n_from n_to n_load n_group n_budget wd fr to ld gr bu ∧ (∀ j : Nat, j < n → el j = n_el j) ∧ ww = (wX g σ x_tape x_taped x_faultKind x_faultPlace x_bestStarved x_bestMost x_bestWhole x_draws x_left x_mosts x_widened x_drawn (va_up x_img i.toNat (some (τ 0))) n_width n_from n_to n_load n_group n_budget n_columns n_rows n_limit n_wear n_straps n_pads n_lines n_mod ((n : Int)) n_el i_width i_load i_pads i_reached i_place i_table i_drop i_size i_whole t_width t_load t_pads t_reached t_place t_table t_drop t_size t_whole ++ (wT g τ wd fr to ld gr bu n_columns n_rows n_limit n_wear n_straps n_pads n_lines md n el ++ ex))))) := by
  refine XMet.of (L := [some (.ref (σ 0)), some (.int (jI i))]) hG (by decide +kernel) (Nat.le_of_ble_eq_true rfl) rfl (fun K C E => ?_)
  have hii := hi
  unfold inR at hii
  refine r_iload_1 C dX0_image_0 ?_
  refine r_i2l C dX0_image_1 ?_
  refine r_lconst0 C dX0_image_2 ?_
  refine r_ldc2 C 2 q1280 dX0_image_3 ?_
  refine r_cS3i C (c_X0_in hG (inR_L hi) (by unfold inL; omega) (by unfold inL; omega)) q403 pkX0_in dX0_image_6 (fun z w h => ?_)
  obtain ⟨rfl, rfl⟩ := h
  refine r_ifneB (tgt := 15) C dX0_image_9 (by decide) (fun c_9 => ?_) (fun c_9 => ?_)
  · skip
    have hI : 0 ≤ i ∧ i ≤ 2 := c_9
    refine r_aload_0 C dX0_image_15 ?_
    refine gG_images C q347 dX0_image_16 ?_
    refine r_iload_1 C dX0_image_19 ?_
    refine r_aload_0 C dX0_image_20 ?_
    refine gG_now C q346 dX0_image_21 ?_
    refine AW.perm wX_told ?_
    refine r_callV C (c_X1_same (τ := fun i => σ (7 + i)) hG Z hn hel.wx) (q0 := 0) rfl rfl q1281 pkX1_same (by decide) (by omega) (by omega) (rest := [.int (jI i), .ref (σ 1)]) rfl (Nat.le_of_ble_eq_true rfl) dX0_image_24 (fun r w h => ?_)
    obtain ⟨_, rfl, τ, wd, fr, to, ld, gr, bu, md, el, rfl, hA, hB, hC, hE, rfl⟩ := h
    refine AW.perm (List.Perm.append_left _ (wX_told (n_asz := (n : Int))).symm) ?_
    refine AW.perm (List.perm_append_comm_assoc _ (wX g σ x_tape x_taped x_faultKind x_faultPlace x_bestStarved x_bestMost x_bestWhole x_draws x_left x_mosts x_widened x_drawn x_img n_width n_from n_to n_load n_group n_budget n_columns n_rows n_limit n_wear n_straps n_pads n_lines n_mod n n_el i_width i_load i_pads i_reached i_place i_table i_drop i_size i_whole t_width t_load t_pads t_reached t_place t_table t_drop t_size t_whole) ex) ?_
    refine r_aastT C 1 46 rfl rfl dX0_image_27 hI.1 (by omega) (by decide) ?_
    refine r_iconst C dX0_image_28 ?_
    exact AW.less (Nat.zero_le _) (Nat.zero_le _) (r_ireturn C E dX0_image_29 ⟨_, rfl, Or.inr ⟨hI, rfl, τ, wd, fr, to, ld, gr, bu, md, el, ⟨hA, hB, hC⟩, hE, rfl⟩⟩)
  · skip
    refine r_bipush C dX0_image_12 ?_
    refine r_ireturn C E dX0_image_14 ?_
    exact ⟨_, rfl, Or.inl ⟨c_9, rfl, rfl⟩⟩
theorem c_X0_back (hG : Gok g) {mi : Nat} (Z : GA g mi) {i : Int} (hi : inR i) {τ : Nat → Nat} {wd fr to ld gr bu : Int → Int} {c rw lm we ss pd ln md : Int} {n : Nat} {el : Nat → Option Nat} {rest : va_W} (hI : 0 ≤ i → i ≤ 2 → x_img i.toNat = none ∨ (x_img i.toNat = some (τ 0) ∧ ex.Perm (wT g τ wd fr to ld gr bu c rw lm we ss pd ln md n el ++ rest) ∧ ElOk rest el n ∧ n ≤ 20)) : XMet g yX0_back cX0_back 2 (some .int) 6 10 115 [.ref (σ 0), .int (jI i)] (wX g σ x_tape x_taped x_faultKind x_faultPlace x_bestStarved x_bestMost x_bestWhole x_draws x_left x_mosts x_widened x_drawn x_img n_width n_from n_to n_load n_group n_budget n_columns n_rows n_limit n_wear n_straps n_pads n_lines n_mod n_asz n_el i_width i_load i_pads i_reached i_place i_table i_drop i_size i_whole t_width t_load t_pads t_reached t_place t_table t_drop t_size t_whole ++ ex) (pI (fun z ww => (¬ (0 ≤ i ∧ i ≤ 2) ∧ z = -2 ∧ ww = (wX g σ x_tape x_taped x_faultKind x_faultPlace x_bestStarved x_bestMost x_bestWhole x_draws x_left x_mosts x_widened x_drawn x_img n_width n_from n_to n_load n_group n_budget n_columns n_rows n_limit n_wear n_straps n_pads n_lines n_mod n_asz n_el i_width i_load i_pads i_reached i_place i_table i_drop i_size i_whole t_width t_load t_pads t_reached t_place t_table t_drop t_size t_whole ++ ex)) ∨ ((0 ≤ i ∧ i ≤ 2) ∧ x_img i.toNat = none ∧ z = -6 ∧ ww = (wX g σ x_tape x_taped x_faultKind x_faultPlace x_bestStarved x_bestMost x_bestWhole x_draws x_left x_mosts x_widened x_drawn x_img n_width n_from n_to n_load n_group n_budget n_columns n_rows n_limit n_wear n_straps n_pads n_lines n_mod n_asz n_el i_width i_load i_pads i_reached i_place i_table i_drop i_size i_whole t_width t_load t_pads t_reached t_place t_table t_drop t_size t_whole ++ ex)) ∨ ((0 ≤ i ∧ i ≤ 2) ∧ x_img i.toNat = some (τ 0) ∧ z = 0 ∧ ∃ (τ' : Nat → Nat) (wd' fr' to' ld' gr' bu' : Int → Int) (md' : Int) (el' : Nat → Option Nat), TSame wd fr to ld gr bu wd' fr' to' ld' gr' bu' ∧ (∀ j : Nat, j < n → el' j = el j) ∧ ww = (wX g (sgN σ τ') x_tape x_taped x_faultKind x_faultPlace x_bestStarved x_bestMost x_bestWhole x_draws x_left x_mosts x_widened x_drawn x_img (wd') (fr') (to') (ld') (gr') (bu') (c) (rw) (lm) (we) (ss) (pd) (ln) (md') ((n : Int)) (el') i_width i_load i_pads i_reached i_place i_table i_drop i_size i_whole t_width t_load t_pads t_reached t_place t_table t_drop t_size t_whole ++ ex)))) := by
  refine XMet.of (L := [some (.ref (σ 0)), some (.int (jI i))]) hG (by decide +kernel) (Nat.le_of_ble_eq_true rfl) rfl (fun K C E => ?_)
  have hii := hi
  unfold inR at hii
  refine r_iload_1 C dX0_back_0 ?_
  refine r_i2l C dX0_back_1 ?_
  refine r_lconst0 C dX0_back_2 ?_
  refine r_ldc2 C 2 q1280 dX0_back_3 ?_
  refine r_cS3i C (c_X0_in hG (inR_L hi) (by unfold inL; omega) (by unfold inL; omega)) q403 pkX0_in dX0_back_6 (fun z w h => ?_)
  obtain ⟨rfl, rfl⟩ := h
  refine r_ifneB (tgt := 15) C dX0_back_9 (by decide) (fun c_9 => ?_) (fun c_9 => ?_)
  · skip
    have h03 : 0 ≤ i ∧ i ≤ 2 := c_9
    refine r_aload_0 C dX0_back_15 ?_
    refine gG_images C q347 dX0_back_16 ?_
    refine r_iload_1 C dX0_back_19 ?_
    refine r_aaldq C 5 1 rfl rfl dX0_back_20 h03.1 (by omega) (by decide) ?_
    rcases hI h03.1 h03.2 with hN | ⟨hS, hp, hel, hn⟩
    · rw [hN]
      refine r_ifnonnullN C dX0_back_21 ?_
      refine r_bipush C dX0_back_24 ?_
      exact AW.less (Nat.zero_le _) (Nat.zero_le _) (r_ireturn C E dX0_back_26 ⟨_, rfl, Or.inr (Or.inl ⟨h03, hN, rfl, rfl⟩)⟩)
    · rw [hS]
      refine r_ifnonnullR (tgt := 27) C dX0_back_21 (by decide) ?_
      refine r_aload_0 C dX0_back_27 ?_
      refine r_aload_0 C dX0_back_28 ?_
      refine gG_images C q347 dX0_back_29 ?_
      refine r_iload_1 C dX0_back_32 ?_
      refine r_aaldq C 5 1 rfl rfl dX0_back_33 h03.1 (by omega) (by decide) ?_
      rw [hS]
      refine AW.perm ((List.Perm.append_left _ hp).trans (List.perm_append_comm_assoc _ _ _)) ?_
      refine r_callV C (c_X1_same (τ := τ) hG Z hn hel.app) (q0 := 0) rfl rfl q1281 pkX1_same (by decide) (by omega) (by omega) (rest := [.ref (σ 0)]) rfl (Nat.le_of_ble_eq_true rfl) dX0_back_34 (fun r w h => ?_)
      obtain ⟨_, rfl, τ', wd', fr', to', ld', gr', bu', md', el', rfl, hA, hB, hC, hE, rfl⟩ := h
      refine AW.perm (List.Perm.append_left _ ((List.Perm.append_left _ hp).trans (List.perm_append_comm_assoc _ _ _)).symm) ?_
      refine r_put C 9 rfl rfl in_X0 tyX0 tyX0_ok nmX0 0 (by decide) q346 rfl rfl (tyX0_ok 0 (by decide)) rfl rfl (Nat.le_of_ble_eq_true rfl) dX0_back_37 ?_
      refine AW.sub (wd := wT g (fun i => σ (7 + i)) n_width n_from n_to n_load n_group n_budget n_columns n_rows n_limit n_wear n_straps n_pads n_lines n_mod n_asz n_el) (ws' := (wX g (sgN σ τ') x_tape x_taped x_faultKind x_faultPlace x_bestStarved x_bestMost x_bestWhole x_draws x_left x_mosts x_widened x_drawn x_img (wd') (fr') (to') (ld') (gr') (bu') (c) (rw) (lm) (we) (ss) (pd) (ln) (md') ((n : Int)) (el') i_width i_load i_pads i_reached i_place i_table i_drop i_size i_whole t_width t_load t_pads t_reached t_place t_table t_drop t_size t_whole ++ ex)) ?_ ?_
      · have hp4 := perm4 (O := wT g (fun i => σ (7 + i)) n_width n_from n_to n_load n_group n_budget n_columns n_rows n_limit n_wear n_straps n_pads n_lines n_mod n_asz n_el) (A := List.take 7 (wX g (sgN σ τ') x_tape x_taped x_faultKind x_faultPlace x_bestStarved x_bestMost x_bestWhole x_draws x_left x_mosts x_widened x_drawn x_img n_width n_from n_to n_load n_group n_budget n_columns n_rows n_limit n_wear n_straps n_pads n_lines n_mod n_asz n_el i_width i_load i_pads i_reached i_place i_table i_drop i_size i_whole t_width t_load t_pads t_reached t_place t_table t_drop t_size t_whole ++ ex)) (N := wT g τ' wd' fr' to' ld' gr' bu' c rw lm we ss pd ln md' n el') (R := List.drop 16 (wX g σ x_tape x_taped x_faultKind x_faultPlace x_bestStarved x_bestMost x_bestWhole x_draws x_left x_mosts x_widened x_drawn x_img n_width n_from n_to n_load n_group n_budget n_columns n_rows n_limit n_wear n_straps n_pads n_lines n_mod n_asz n_el i_width i_load i_pads i_reached i_place i_table i_drop i_size i_whole t_width t_load t_pads t_reached t_place t_table t_drop t_size t_whole ++ ex))
        refine List.Perm.trans (List.Perm.of_eq ?_) (hp4.trans (List.Perm.of_eq ?_))
        · rfl
        · rw [wX_sgN]
      refine r_iconst C dX0_back_40 ?_
      exact AW.less (Nat.zero_le _) (Nat.zero_le _) (r_ireturn C E dX0_back_41 ⟨_, rfl, Or.inr (Or.inr ⟨h03, hS, rfl, τ', wd', fr', to', ld', gr', bu', md', el', ⟨hA, hB, hC⟩, hE, rfl⟩)⟩)
  · skip
    refine r_bipush C dX0_back_12 ?_
    refine r_ireturn C E dX0_back_14 ?_
    exact ⟨_, rfl, Or.inl ⟨c_9, rfl, rfl⟩⟩
end XI

