/-! the last act is taken back -/
def yChg : MethodName := ⟨"SupplyGrid$Change", "back", "(LSupplyGrid$Told;)V"⟩
theorem pfX8 : PkF "SupplyGrid$Laid" yChg yX8_back cX8_back 2 none 1 := ⟨⟨q1371, q1373, q141, q1375⟩, ⟨nw_in q1350 rfl, nw_in q1349 rfl, nw_in q1374 rfl, nw_in q1372 rfl, nw_in q1370 rfl⟩, by decide, by decide +kernel, by decide +kernel, by decide +kernel⟩
theorem pfX9 : PkF "SupplyGrid$Fed1" yChg yX9_back cX9_back 2 none 1 := ⟨⟨q1365, q1367, q144, q1369⟩, ⟨nw_in q1350 rfl, nw_in q1349 rfl, nw_in q1368 rfl, nw_in q1366 rfl, nw_in q1364 rfl⟩, by decide, by decide +kernel, by decide +kernel, by decide +kernel⟩
theorem pfX10 : PkF "SupplyGrid$Drawn" yChg yX10_back cX10_back 2 none 1 := ⟨⟨q1359, q1361, q145, q1363⟩, ⟨nw_in q1350 rfl, nw_in q1349 rfl, nw_in q1362 rfl, nw_in q1360 rfl, nw_in q1358 rfl⟩, by decide, by decide +kernel, by decide +kernel, by decide +kernel⟩
theorem pfX11 : PkF "SupplyGrid$Aged" yChg yX11_back cX11_back 3 none 1 := ⟨⟨q1352, q1354, q146, q1356⟩, ⟨nw_in q1350 rfl, nw_in q1349 rfl, nw_in q1355 rfl, nw_in q1353 rfl, nw_in q1351 rfl⟩, by decide, by decide +kernel, by decide +kernel, by decide +kernel⟩
section X16
variable {g : GX} {σ : Nat → Nat} {ex : va_W}
variable {x_tape : Int → Int} {x_taped : Int} {x_faultKind : Int} {x_faultPlace : Int} {x_bestStarved : Int} {x_bestMost : Int} {x_bestWhole : Int} {x_draws : Int → Int} {x_left : Int → Int} {x_mosts : Int → Int} {x_widened : Int → Int} {x_drawn : Int} {x_img : Nat → Option Nat} {n_width : Int → Int} {n_from : Int → Int} {n_to : Int → Int} {n_load : Int → Int} {n_group : Int → Int} {n_budget : Int → Int} {n_columns : Int} {n_rows : Int} {n_limit : Int} {n_wear : Int} {n_straps : Int} {n_pads : Int} {n_lines : Int} {n_mod : Int} {n_asz : Int} {n_el : Nat → Option Nat} {i_width : Int → Int} {i_load : Int → Int} {i_pads : Int} {i_reached : Int} {i_place : Int → Int} {i_table : Int → Int} {i_drop : Int → Int} {i_size : Int} {i_whole : Int} {t_width : Int → Int} {t_load : Int → Int} {t_pads : Int} {t_reached : Int} {t_place : Int → Int} {t_table : Int → Int} {t_drop : Int → Int} {t_size : Int} {t_whole : Int}
theorem c_X0_takesBack (hG : Gok g) {c qk ci db : Nat} {fs : List Value} {Cn : String} {T : u_T} {N nL' : Nat} {y : MethodName} {cc' : ByteArray} {f : va_W → Prop} (h0 : 0 < n_asz) (h1 : n_asz ≤ 20) (hy : n_el (n_asz - 1).toNat = some c) (hv : ex[qk]? = some (c, .inr (ci, fs))) (hc : vCl[ci]? = some (Cn, T, N)) (hdb : db ≤ 1) (pk : PkF Cn yChg y cc' nL' none 1) (hB : XMet g y cc' nL' none db 0 0 [.ref c, .ref (σ 7)] (wX g σ x_tape x_taped x_faultKind x_faultPlace x_bestStarved x_bestMost x_bestWhole x_draws x_left x_mosts x_widened x_drawn x_img n_width n_from n_to n_load n_group n_budget n_columns n_rows n_limit n_wear n_straps n_pads n_lines (n_mod + 1) (n_asz - 1) (va_up n_el (n_asz - 1).toNat none) i_width i_load i_pads i_reached i_place i_table i_drop i_size i_whole t_width t_load t_pads t_reached t_place t_table t_drop t_size t_whole ++ ex) (pV f)) : XMet g yX0_takesBack cX0_takesBack 1 none 3 0 0 [.ref (σ 0)] (wX g σ x_tape x_taped x_faultKind x_faultPlace x_bestStarved x_bestMost x_bestWhole x_draws x_left x_mosts x_widened x_drawn x_img n_width n_from n_to n_load n_group n_budget n_columns n_rows n_limit n_wear n_straps n_pads n_lines n_mod n_asz n_el i_width i_load i_pads i_reached i_place i_table i_drop i_size i_whole t_width t_load t_pads t_reached t_place t_table t_drop t_size t_whole ++ ex) (pV f) := by
  refine XMet.of (L := [some (.ref (σ 0))]) hG (by decide +kernel) (Nat.le_of_ble_eq_true rfl) rfl (fun K C E => ?_)
  refine r_aload_0 C dX0_takesBack_0 ?_
  refine gG_now C q346 dX0_takesBack_1 ?_
  refine gTN_acts C q217 dX0_takesBack_4 ?_
  refine r_aload_0 C dX0_takesBack_7 ?_
  refine gG_now C q346 dX0_takesBack_8 ?_
  refine gTN_acts C q217 dX0_takesBack_11 ?_
  refine r_cV0i C (c_J2_size hG) (q0 := 14) rfl rfl q692 pkJ2_size dX0_takesBack_14 (fun z w h => ?_)
  obtain ⟨rfl, rfl⟩ := h
  refine r_iconst C dX0_takesBack_17 ?_
  refine r_isub C dX0_takesBack_18 ?_
  refine r_cV1a C (c_A_remove hG h0 h1 hy) (q0 := 14) rfl rfl q1339 pkJ2_remove dX0_takesBack_19 (fun z w h => ?_)
  obtain ⟨rfl, rfl⟩ := h
  refine r_castY C (qk + 46) (wx_at hv) hc q1323 pk.2.1.2.2.2.2 dX0_takesBack_22 ?_
  refine r_aload_0 C dX0_takesBack_25 ?_
  refine gG_now C q346 dX0_takesBack_26 ?_
  refine r_callF C hB (q0 := qk + 46) (wx_at hv) hc q1348 pk (by omega) (Nat.zero_le _) (Nat.zero_le _) rfl (Nat.le_of_ble_eq_true rfl) dX0_takesBack_29 (fun r w h => ?_)
  obtain ⟨rfl, hf⟩ := h
  exact r_return C E dX0_takesBack_34 ⟨rfl, hf⟩
end X16

