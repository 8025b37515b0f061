/-! Math.min, max, abs over AW -/
theorem r_mmin {g : GX} {K : KY} {d : Nat} {cc : ByteArray} {own : String} {ws : va_W} {k n pc idx : Nat} {L : List (Option Value)} {st : List Value} (C : Cok g K d cc own) {a b : Int} (q : Cond.methodLink own idx Lib.Math.min.name ∈ lw_all) (dd : decode cc pc = .ok (.invokestatic idx, 3)) (kk : AW g K ws k n (pc + 3) L (.int (jI (if a ≤ b then a else b)) :: st)) (hd : 0 < d := by omega) (hrm : (st.map fun v => v.category).sum ≤ 8 := by exact Nat.le_of_ble_eq_true rfl) (ha : inR a := by first | assumption | (unfold inR; omega)) (hb0 : inR b := by first | assumption | (unfold inR; omega)) : AW g K ws k n pc L (.int (jI b) :: .int (jI a) :: st) := by
  obtain ⟨l, D, dA, F⟩ := g
  obtain ⟨⟨p, e, R, s, m, args, below, meth, c⟩, A, nL, Q, mc, ms⟩ := K
  obtain ⟨hG, hx, hb, hml, hown, hts, hK, hF, hA, hlk, hdR, hlo, hmc, hms⟩ := C
  intro H locs ls cells slots h1 h2 hP hD hS hL
  have h9 := kk H locs ls cells slots h1 h2 hP hD hS hL
  refine va_mmin hx hb (hml.trans hL.2.1.symm) hown (hts _ q) (hts _ q430) (hts _ q129) (hts _ q431) (by omega) (by omega) (by omega) (by omega) dd ?_
  refine W.eq (congrArg (fun z => F0 m (pc + 3) ls (z :: st)) (congrArg Value.int ?_)) h9
  simp only [jI_lt hb0 ha, jI_lt ha hb0]
  split <;> split <;> first | rfl | omega | (congr 1; omega)
theorem r_mmax {g : GX} {K : KY} {d : Nat} {cc : ByteArray} {own : String} {ws : va_W} {k n pc idx : Nat} {L : List (Option Value)} {st : List Value} (C : Cok g K d cc own) {a b : Int} (q : Cond.methodLink own idx Lib.Math.max.name ∈ lw_all) (dd : decode cc pc = .ok (.invokestatic idx, 3)) (kk : AW g K ws k n (pc + 3) L (.int (jI (if a ≤ b then b else a)) :: st)) (hd : 0 < d := by omega) (hrm : (st.map fun v => v.category).sum ≤ 8 := by exact Nat.le_of_ble_eq_true rfl) (ha : inR a := by first | assumption | (unfold inR; omega)) (hb0 : inR b := by first | assumption | (unfold inR; omega)) : AW g K ws k n pc L (.int (jI b) :: .int (jI a) :: st) := by
  obtain ⟨l, D, dA, F⟩ := g
  obtain ⟨⟨p, e, R, s, m, args, below, meth, c⟩, A, nL, Q, mc, ms⟩ := K
  obtain ⟨hG, hx, hb, hml, hown, hts, hK, hF, hA, hlk, hdR, hlo, hmc, hms⟩ := C
  intro H locs ls cells slots h1 h2 hP hD hS hL
  have h9 := kk H locs ls cells slots h1 h2 hP hD hS hL
  refine va_mmax hx hb (hml.trans hL.2.1.symm) hown (hts _ q) (hts _ q771) (hts _ q129) (hts _ q772) (by omega) (by omega) (by omega) (by omega) dd ?_
  refine W.eq (congrArg (fun z => F0 m (pc + 3) ls (z :: st)) (congrArg Value.int ?_)) h9
  simp only [jI_lt hb0 ha, jI_lt ha hb0]
  split <;> split <;> first | rfl | omega | (congr 1; omega)
theorem r_mmaxL {g : GX} {K : KY} {d : Nat} {cc : ByteArray} {own : String} {ws : va_W} {k n pc idx : Nat} {L : List (Option Value)} {st : List Value} (C : Cok g K d cc own) {a b : Int} (q : Cond.methodLink own idx Lib.MathLoose.max_long.x ∈ lw_all) (dd : decode cc pc = .ok (.invokestatic idx, 3)) (kk : AW g K ws k n (pc + 3) L (.long (jL (if a ≤ b then b else a)) :: st)) (hd : 0 < d := by omega) (hrm : (st.map fun v => v.category).sum ≤ 8 := by exact Nat.le_of_ble_eq_true rfl) (ha : inL a := by first | assumption | (unfold inL; omega)) (hb0 : inL b := by first | assumption | (unfold inL; omega)) : AW g K ws k n pc L (.long (jL b) :: .long (jL a) :: st) := by
  obtain ⟨l, D, dA, F⟩ := g
  obtain ⟨⟨p, e, R, s, m, args, below, meth, c⟩, A, nL, Q, mc, ms⟩ := K
  obtain ⟨hG, hx, hb, hml, hown, hts, hK, hF, hA, hlk, hdR, hlo, hmc, hms⟩ := C
  intro H locs ls cells slots h1 h2 hP hD hS hL
  have h9 := kk H locs ls cells slots h1 h2 hP hD hS hL
  refine va_mmax_long hx hb (hml.trans hL.2.1.symm) hown (hts _ q) (hts _ q1760) (hts _ q129) (hts _ q1761) (by omega) (by omega) (by omega) (by omega) dd ?_
  refine W.eq (congrArg (fun z => F0 m (pc + 3) ls (z :: st)) (congrArg Value.long ?_)) h9
  simp only [jL_lt hb0 ha, jL_lt ha hb0]
  split <;> split <;> first | rfl | omega | (congr 1; omega)
theorem r_mabsL {g : GX} {K : KY} {d : Nat} {cc : ByteArray} {own : String} {ws : va_W} {k n pc idx : Nat} {L : List (Option Value)} {st : List Value} (C : Cok g K d cc own) {a : Int} (q : Cond.methodLink own idx Lib.MathLoose.abs_long.x ∈ lw_all) (dd : decode cc pc = .ok (.invokestatic idx, 3)) (kk : AW g K ws k n (pc + 3) L (.long (jL ((a.natAbs : Int))) :: st)) (hd : 0 < d := by omega) (hrm : (st.map fun v => v.category).sum ≤ 8 := by exact Nat.le_of_ble_eq_true rfl) (ha : -9223372036854775807 ≤ a ∧ a ≤ 9223372036854775807 := by first | assumption | omega) : AW g K ws k n pc L (.long (jL a) :: st) := by
  obtain ⟨l, D, dA, F⟩ := g
  obtain ⟨⟨p, e, R, s, m, args, below, meth, c⟩, A, nL, Q, mc, ms⟩ := K
  obtain ⟨hG, hx, hb, hml, hown, hts, hK, hF, hA, hlk, hdR, hlo, hmc, hms⟩ := C
  intro H locs ls cells slots h1 h2 hP hD hS hL
  have h9 := kk H locs ls cells slots h1 h2 hP hD hS hL
  refine va_mabs_long hx hb (hml.trans hL.2.1.symm) hown (hts _ q) (hts _ q810) (hts _ q129) (hts _ q811) (by omega) (by omega) (by omega) (by omega) dd ?_
  refine W.eq (congrArg (fun z => F0 m (pc + 3) ls (z :: st)) (congrArg Value.long ?_)) h9
  have e0 : (0 : Int64) = jL 0 := rfl
  rw [e0, jL_neg]
  simp only [jL_lt (show inL 0 by unfold inL; omega) (show inL a by unfold inL; omega)]
  split <;> (congr 1; omega)
