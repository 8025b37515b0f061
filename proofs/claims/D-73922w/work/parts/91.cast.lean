section X14
variable {g : GX} {σ : Nat → Nat} {ex : va_W}
variable {x_tape : Int → Int} {x_taped : Int} {x_faultKind : Int} {x_faultPlace : Int} {x_bestStarved : Int} {x_bestMost : Int} {x_bestWhole : Int} {x_draws : Int → Int} {x_left : Int → Int} {x_mosts : Int → Int} {x_widened : Int → Int} {x_drawn : Int} {x_img : Nat → Option Nat} {n_width : Int → Int} {n_from : Int → Int} {n_to : Int → Int} {n_load : Int → Int} {n_group : Int → Int} {n_budget : Int → Int} {n_columns : Int} {n_rows : Int} {n_limit : Int} {n_wear : Int} {n_straps : Int} {n_pads : Int} {n_lines : Int} {n_mod : Int} {n_asz : Int} {n_el : Nat → Option Nat} {i_width : Int → Int} {i_load : Int → Int} {i_pads : Int} {i_reached : Int} {i_place : Int → Int} {i_table : Int → Int} {i_drop : Int → Int} {i_size : Int} {i_whole : Int} {t_width : Int → Int} {t_load : Int → Int} {t_pads : Int} {t_reached : Int} {t_place : Int → Int} {t_table : Int → Int} {t_drop : Int → Int} {t_size : Int} {t_whole : Int}
theorem wx_at {qk : Nat} {x : Nat × va_E} (hv : ex[qk]? = some x) : (wX g σ x_tape x_taped x_faultKind x_faultPlace x_bestStarved x_bestMost x_bestWhole x_draws x_left x_mosts x_widened x_drawn x_img n_width n_from n_to n_load n_group n_budget n_columns n_rows n_limit n_wear n_straps n_pads n_lines n_mod n_asz n_el i_width i_load i_pads i_reached i_place i_table i_drop i_size i_whole t_width t_load t_pads t_reached t_place t_table t_drop t_size t_whole ++ ex)[qk + 46]? = some x :=
  (List.getElem?_append_right (show 46 ≤ qk + 46 by omega)).trans (by show ex[qk + 46 - 46]? = _; rw [Nat.add_sub_cancel]; exact hv)
theorem c_X8_back (hG : Gok g) {c qk : Nat} {k v : Int} (hv : ex[qk]? = some (c, .inr (6, [.int (jI k), .int (jI v)]))) (hk : 0 ≤ k ∧ k < 12) : XMet g yX8_back cX8_back 2 none 0 0 0 [.ref c, .ref (σ 7)] (wX g σ x_tape x_taped x_faultKind x_faultPlace x_bestStarved x_bestMost x_bestWhole x_draws x_left x_mosts x_widened x_drawn x_img n_width n_from n_to n_load n_group n_budget n_columns n_rows n_limit n_wear n_straps n_pads n_lines n_mod n_asz n_el i_width i_load i_pads i_reached i_place i_table i_drop i_size i_whole t_width t_load t_pads t_reached t_place t_table t_drop t_size t_whole ++ ex) (pV (fun w => w = (wX g σ x_tape x_taped x_faultKind x_faultPlace x_bestStarved x_bestMost x_bestWhole x_draws x_left x_mosts x_widened x_drawn x_img (aset n_width k v) n_from n_to n_load n_group n_budget n_columns n_rows n_limit n_wear n_straps n_pads n_lines n_mod n_asz n_el i_width i_load i_pads i_reached i_place i_table i_drop i_size i_whole t_width t_load t_pads t_reached t_place t_table t_drop t_size t_whole ++ ex))) := by
  refine XMet.of (L := [some (.ref c), some (.ref (σ 7))]) hG (by decide +kernel) (Nat.le_of_ble_eq_true rfl) rfl (fun K C E => ?_)
  refine r_aload_1 C dX8_back_0 ?_
  refine gTN_width C q192 dX8_back_1 ?_
  refine r_aload_0 C dX8_back_4 ?_
  refine r_get C (qk + 46) (wx_at hv) rfl in_X8 0 (by decide) q1166 rfl rfl dX8_back_5 ?_
  refine r_aload_0 C dX8_back_8 ?_
  refine r_get C (qk + 46) (wx_at hv) rfl in_X8 1 (by decide) q1167 rfl rfl dX8_back_9 ?_
  refine st_n_width C dX8_back_12 ?_
  exact r_return C E dX8_back_13 ⟨rfl, rfl⟩
theorem c_X10_back (hG : Gok g) {c qk : Nat} {k v : Int} (hv : ex[qk]? = some (c, .inr (8, [.int (jI k), .int (jI v)]))) (hk : 0 ≤ k ∧ k < 9) : XMet g yX10_back cX10_back 2 none 0 0 0 [.ref c, .ref (σ 7)] (wX g σ x_tape x_taped x_faultKind x_faultPlace x_bestStarved x_bestMost x_bestWhole x_draws x_left x_mosts x_widened x_drawn x_img n_width n_from n_to n_load n_group n_budget n_columns n_rows n_limit n_wear n_straps n_pads n_lines n_mod n_asz n_el i_width i_load i_pads i_reached i_place i_table i_drop i_size i_whole t_width t_load t_pads t_reached t_place t_table t_drop t_size t_whole ++ ex) (pV (fun w => w = (wX g σ x_tape x_taped x_faultKind x_faultPlace x_bestStarved x_bestMost x_bestWhole x_draws x_left x_mosts x_widened x_drawn x_img n_width n_from n_to (aset n_load k v) n_group n_budget n_columns n_rows n_limit n_wear n_straps n_pads n_lines n_mod n_asz n_el i_width i_load i_pads i_reached i_place i_table i_drop i_size i_whole t_width t_load t_pads t_reached t_place t_table t_drop t_size t_whole ++ ex))) := by
  refine XMet.of (L := [some (.ref c), some (.ref (σ 7))]) hG (by decide +kernel) (Nat.le_of_ble_eq_true rfl) rfl (fun K C E => ?_)
  refine r_aload_1 C dX10_back_0 ?_
  refine gTN_load C q206 dX10_back_1 ?_
  refine r_aload_0 C dX10_back_4 ?_
  refine r_get C (qk + 46) (wx_at hv) rfl in_X10 0 (by decide) q1253 rfl rfl dX10_back_5 ?_
  refine r_aload_0 C dX10_back_8 ?_
  refine r_get C (qk + 46) (wx_at hv) rfl in_X10 1 (by decide) q1254 rfl rfl dX10_back_9 ?_
  refine st_n_load C dX10_back_12 ?_
  exact r_return C E dX10_back_13 ⟨rfl, rfl⟩
theorem c_X9_back (hG : Gok g) {c qk : Nat} {v : Int} (hv : ex[qk]? = some (c, .inr (7, [.int (jI v)]))) (hk : 0 ≤ v ∧ v < 9) (hp : 0 ≤ n_pads) : XMet g yX9_back cX9_back 2 none 0 0 0 [.ref c, .ref (σ 7)] (wX g σ x_tape x_taped x_faultKind x_faultPlace x_bestStarved x_bestMost x_bestWhole x_draws x_left x_mosts x_widened x_drawn x_img n_width n_from n_to n_load n_group n_budget n_columns n_rows n_limit n_wear n_straps n_pads n_lines n_mod n_asz n_el i_width i_load i_pads i_reached i_place i_table i_drop i_size i_whole t_width t_load t_pads t_reached t_place t_table t_drop t_size t_whole ++ ex) (pV (fun w => w = (wX g σ x_tape x_taped x_faultKind x_faultPlace x_bestStarved x_bestMost x_bestWhole x_draws x_left x_mosts x_widened x_drawn x_img n_width n_from n_to n_load n_group n_budget n_columns n_rows n_limit n_wear n_straps (bsX n_pads (bsP v)) n_lines n_mod n_asz n_el i_width i_load i_pads i_reached i_place i_table i_drop i_size i_whole t_width t_load t_pads t_reached t_place t_table t_drop t_size t_whole ++ ex))) := by
  refine XMet.of (L := [some (.ref c), some (.ref (σ 7))]) hG (by decide +kernel) (Nat.le_of_ble_eq_true rfl) rfl (fun K C E => ?_)
  have hP0 := bsP_0 (k := v)
  refine r_aload_1 C dX9_back_0 ?_
  refine r_dup C dX9_back_1 ?_
  refine gTN_pads C q240 dX9_back_2 ?_
  refine r_iconst C dX9_back_5 ?_
  refine r_aload_0 C dX9_back_6 ?_
  refine r_get C (qk + 46) (wx_at hv) rfl in_X9 0 (by decide) q1238 rfl rfl dX9_back_7 ?_
  refine r_ishl C _ dX9_back_10 (jI_shl (by omega) (by omega)) ?_
  refine r_ixor C _ dX9_back_11 (jI_xor (by omega) (by omega)) ?_
  refine pTN_pads C q240 dX9_back_12 ?_
  exact r_return C E dX9_back_15 ⟨rfl, rfl⟩
end X14
/-! casts and questions of class -/
def chgs : List String := ["SupplyGrid$Laid", "SupplyGrid$Fed1", "SupplyGrid$Drawn", "SupplyGrid$Aged"]
/-- the static facts hold that no change is of another change's class -/
def Gnc (g : GX) : Prop := ∀ (A : Nat → Prop) (U : State) (H : Heap), g.2.2.2 A U H → ∀ c ∈ chgs, ∀ t ∈ chgs, c ≠ t → va_Nc c t U
theorem r_castY {g : GX} {K : KY} {d : Nat} {cc : ByteArray} {own nm : String} {ws : va_W} {k n pc idx a ci : Nat} {L : List (Option Value)} {st fs : List Value} {r : vw_C} (C : Cok g K d cc own) (q0 : Nat) (he : ws[q0]? = some (a, .inr (ci, fs))) (hc : vCl[ci]? = some r) (q : Cond.classLink own idx nm ∈ lw_all) (hca : Cond.castable r.1 nm ∈ nwl) (dd : decode cc pc = .ok (.checkcast idx, 3)) (kk : AW g K ws k n (pc + 3) L (.ref a :: st)) : AW g K ws k n pc L (.ref a :: st) :=
  AW.mem C (fun hx hb hown hts hnw hK hP hD hS hF hml hfr hlo w => va_castY hx hb hown (hts _ q) (hnw _ hca) (va_recv hK hP hc he) dd (w _ _ hP hD hS)) kk
theorem r_castS {g : GX} {K : KY} {d : Nat} {cc : ByteArray} {own : String} {ws : va_W} {k n pc idx a ci : Nat} {L : List (Option Value)} {st fs : List Value} {r : vw_C} (C : Cok g K d cc own) (q0 : Nat) (he : ws[q0]? = some (a, .inr (ci, fs))) (hc : vCl[ci]? = some r) (q : Cond.classLink own idx r.1 ∈ lw_all) (dd : decode cc pc = .ok (.checkcast idx, 3)) (kk : AW g K ws k n (pc + 3) L (.ref a :: st)) : AW g K ws k n pc L (.ref a :: st) :=
  AW.mem C (fun hx hb hown hts hnw hK hP hD hS hF hml hfr hlo w => va_castS hx hb hown (hts _ q) (hK.1 ci r hc).2 (va_recv hK hP hc he) dd (w _ _ hP hD hS)) kk
theorem r_instS {g : GX} {K : KY} {d : Nat} {cc : ByteArray} {own : String} {ws : va_W} {k n pc idx a ci : Nat} {L : List (Option Value)} {st fs : List Value} {r : vw_C} (C : Cok g K d cc own) (q0 : Nat) (he : ws[q0]? = some (a, .inr (ci, fs))) (hc : vCl[ci]? = some r) (q : Cond.classLink own idx r.1 ∈ lw_all) (dd : decode cc pc = .ok (.instanceof idx, 3)) (kk : AW g K ws k n (pc + 3) L (.int (jI 1) :: st)) : AW g K ws k n pc L (.ref a :: st) :=
  AW.mem C (fun hx hb hown hts hnw hK hP hD hS hF hml hfr hlo w => va_instS hx hb hown (hts _ q) (hK.1 ci r hc).2 (va_recv hK hP hc he) dd (w _ _ hP hD hS)) kk
theorem r_instNo {g : GX} {K : KY} {d : Nat} {cc : ByteArray} {own nm : String} {ws : va_W} {k n pc idx a ci : Nat} {L : List (Option Value)} {st fs : List Value} {r : vw_C} (C : Cok g K d cc own) (N : Gnc g) (q0 : Nat) (he : ws[q0]? = some (a, .inr (ci, fs))) (hc : vCl[ci]? = some r) (q : Cond.classLink own idx nm ∈ lw_all) (h1 : r.1 ∈ chgs) (h2 : nm ∈ chgs) (hne : r.1 ≠ nm) (dd : decode cc pc = .ok (.instanceof idx, 3)) (kk : AW g K ws k n (pc + 3) L (.int (jI 0) :: st)) : AW g K ws k n pc L (.ref a :: st) :=
  AW.mem C (fun hx hb hown hts hnw hK hP hD hS hF hml hfr hlo w => va_instNo hx hb hown (hts _ q) (N _ _ _ hF _ h1 _ h2 hne) (va_recv hK hP hc he) dd (w _ _ hP hD hS)) kk

