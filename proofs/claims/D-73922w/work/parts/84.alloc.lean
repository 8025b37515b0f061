/-! cells that are made; cells that are let go; room that is left over -/
theorem AW.less {g : GX} {K : KY} {ws : va_W} {k n k' n' pc : Nat} {L : List (Option Value)} {st : List Value} (hk : k' ≤ k) (hn : n' ≤ n) (kk : AW g K ws k' n' pc L st) : AW g K ws k n pc L st := by
  obtain ⟨l, D, dA, F⟩ := g
  obtain ⟨⟨p, e, R, s, m, args, below, meth, c⟩, A, nL, Q, mc, ms⟩ := K
  intro H locs ls cells slots h1 h2 hP hD hS hL
  exact kk H locs ls cells slots (by omega) (by omega) hP hD hS hL
theorem AW.drop {g : GX} {K : KY} {ws : va_W} {x : Nat × va_E} {k n pc : Nat} {L : List (Option Value)} {st : List Value} (kk : AW g K ws k n pc L st) : AW g K (x :: ws) k n pc L st := by
  obtain ⟨l, D, dA, F⟩ := g
  obtain ⟨⟨p, e, R, s, m, args, below, meth, c⟩, A, nL, Q, mc, ms⟩ := K
  intro H locs ls cells slots h1 h2 hP hD hS hL
  refine kk H locs ls cells slots h1 h2 (fun k q hk => hP (k + 1) q (by simpa using hk)) ⟨fun i j p q hi hj e => ?_, fun k q hk => hD.2 (k + 1) q (by simpa using hk)⟩ hS hL
  have := hD.1 (i + 1) (j + 1) p q (by simpa using hi) (by simpa using hj) e
  omega
/-- let go of one within -/
theorem AW.drop1 {g : GX} {K : KY} {ws wt : va_W} {x : Nat × va_E} {k n pc : Nat} {L : List (Option Value)} {st : List Value} (kk : AW g K (ws ++ wt) k n pc L st) : AW g K (ws ++ x :: wt) k n pc L st :=
  AW.perm (List.perm_middle) (AW.drop kk)
/-- a new array of ints -/
theorem r_newarrI {g : GX} {K : KY} {d : Nat} {cc : ByteArray} {own : String} {ws wt : va_W} {k n pc : Nat} {L : List (Option Value)} {st : List Value} (C : Cok g K d cc own) {N : Nat} {z : Int} (q : Cond.arrayClass .int ∈ lw_all) (dd : decode cc pc = .ok (.newarray .int, 2)) (hz : z = N) (hN : N ≤ 1000) (kk : ∀ a : Nat, AW g K (ws ++ (a, .inl (g.2.2.1 0, N, .inl (arI fun _ => 0))) :: wt) k n (pc + 2) L (.ref a :: st)) : AW g K (ws ++ wt) (k + 1) (n + N) pc L (.int (jI z) :: st) := by
  have kp : ∀ a : Nat, AW g K ((ws ++ wt) ++ [(a, .inl (g.2.2.1 0, N, .inl (arI fun _ => 0)))]) k n (pc + 2) L (.ref a :: st) := fun a => AW.perm (by
    rw [List.append_assoc]
    exact (List.perm_append_left_iff ws).mpr (List.perm_append_singleton _ _)) (kk a)
  obtain ⟨l, D, dA, F⟩ := g
  obtain ⟨⟨p, e, R, s, m, args, below, meth, c⟩, A, nL, Q, mc, ms⟩ := K
  obtain ⟨hG, hx, hb, hml, hown, hts, hK, hF, hA, hlk, hdR, hlo, hmc, hms⟩ := C
  intro H locs ls cells slots h1 h2 hP hD hS hL
  subst hz
  have hn0 : ¬ jI (N : Int) < 0 := by
    rw [← jI_0, jI_lt (by unfold inR; omega) (by unfold inR; omega)]
    omega
  have hnN : (jI (N : Int)).toNatClampNeg = N := by
    rw [jI_clamp (by omega) (by omega)]
    omega
  refine va_newa (atype := .int) (N' := N) (a0 := (N, .inl (arI fun _ => 0))) hx hb (hts _ q) rfl hK hP hD hS hA (fun cA => ?_) hn0 hnN (by show N * 4 ≤ _; omega) (by omega) (by omega) dd ?_
  · rfl
  · intro a cA H1 hK1 hP1 hD1 hS1
    have e1 : dA 0 = cA := by
      have r1 := (hK.2 0 (dA 0, .int) rfl).2
      have r2 := (hK1.2 7 (cA, .int) rfl).2
      have r1' : s.vm.findClass ("[" ++ FieldType.int.toString) = some (dA 0) := r1
      have r2' : s.vm.findClass ("[" ++ FieldType.int.toString) = some cA := r2
      rw [r1'] at r2'
      exact Option.some.inj r2'
    subst e1
    exact kp a H1 locs ls (cells + 1) (slots + N) (by omega) (by omega) hP1 hD1 hS1 hL
/-- a new object -/
theorem r_new {g : GX} {K : KY} {d : Nat} {cc : ByteArray} {own : String} {ws wt : va_W} {k n pc : Nat} {L : List (Option Value)} {st : List Value} (C : Cok g K d cc own) {R0 : String} {T : u_T} {N ci idx : Nat} {fs : List Value} {ty : Nat → FieldType} (hin : ∀ w ∈ u_ws R0 T N, w ∈ lw_all) (hty : ∀ k, k < N → parseFieldDescriptor (T k).2.2.1 = some (ty k)) (q1 : Cond.classLink own idx R0 ∈ lw_all) (q2 : Cond.instantiable R0 N ∈ lw_all) (q3 : Cond.initialized R0 ∈ lw_all) (hc : vCl[ci]? = some (R0, T, N)) (hfs : ∀ j, j < N → defaultValue (ty j) = vp_V fs j) (dd : decode cc pc = .ok (.new idx, 3)) (kk : ∀ a : Nat, AW g K (ws ++ (a, .inr (ci, fs)) :: wt) k n (pc + 3) L (.ref a :: st)) : AW g K (ws ++ wt) (k + 1) (n + N) pc L st := by
  have kp : ∀ a : Nat, AW g K ((ws ++ wt) ++ [(a, .inr (ci, fs))]) k n (pc + 3) L (.ref a :: st) := fun a => AW.perm (by
    rw [List.append_assoc]
    exact (List.perm_append_left_iff ws).mpr (List.perm_append_singleton _ _)) (kk a)
  obtain ⟨l, D, dA, F⟩ := g
  obtain ⟨⟨p, e, R, s, m, args, below, meth, c⟩, A, nL, Q, mc, ms⟩ := K
  obtain ⟨hG, hx, hb, hml, hown, hts, hK, hF, hA, hlk, hdR, hlo, hmc, hms⟩ := C
  intro H locs ls cells slots h1 h2 hP hD hS hL
  refine va_new (ci := ci) (fs := fs) (C := R0) (T := T) (N := N) hx hb hts hin ty hty hown (hts _ q1) (hts _ q2) (hts _ q3) hK hP hD hS hA hc hfs (by omega) (by omega) dd ?_
  intro a H1 hP1 hD1 hS1
  exact kp a H1 locs ls (cells + 1) (slots + N) (by omega) (by omega) hP1 hD1 hS1 hL
