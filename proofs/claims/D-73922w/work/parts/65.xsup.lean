/-! a call of what the class two above declares ('super.m(..)', inherited there) -/
theorem x_subc {s : State} {ps pt : ClassId} {k : Class} (hk : s.vm.classes[ps]? = some k) (hs : k.super = some pt) : s.vm.isSubclass ps pt = true := by
  have hz : 0 < s.vm.classes.size := Nat.lt_of_le_of_lt (Nat.zero_le _) (Array.getElem?_eq_some_iff.mp hk).1
  unfold Vm.isSubclass
  obtain ⟨n, hn⟩ : ∃ n, s.vm.classes.size = n + 1 := ⟨s.vm.classes.size - 1, by omega⟩
  rw [hn]
  simp [Vm.isSubclassAux, hk, hs]
theorem r_callSup {g : GX} {K : KY} {d : Nat} {cc : ByteArray} {own : String} {ws : va_W} {k n pc : Nat} {L : List (Option Value)} {st rest : List Value} {post : Option Value → va_W → Prop} {x y : MethodName} {cc' : ByteArray} {nL' : Nat} {ret : Option FieldType} {d' mc' ms' idx : Nat} {av : List Value} {b : Nat} (C : Cok g K d cc own) (hM : XMet g y cc' nL' ret d' mc' ms' (.ref b :: av) ws post) {q0 ci : Nat} {fs : List Value} {T : u_T} {N : Nat} {Cn : String} (he : ws[q0]? = some (b, .inr (ci, fs))) (hc : vCl[ci]? = some (Cn, T, N)) (q : Cond.methodLink own idx x ∈ lw_all) (qs : Cond.sameMethod x.cls y.cls x.name x.desc ∈ lw_all) (q1 : Cond.superclass own x.cls ∈ lw_all) (q2 : Cond.superclass x.cls y.cls ∈ lw_all) (hxy : y = ⟨y.cls, x.name, x.desc⟩) (pi : Cond.instanceMethod y ∈ lw_all) (pn : Cond.initialized y.cls ∈ lw_all) (pc' : Cond.code y cc' nL' ret ∈ lw_all) (hno : x.name ≠ "<init>") (hlen : (parseMethodDescriptor y.desc).map (fun d => d.parameters.length) = some av.length) (hnl : nL' ≤ 45) (hd : d' < d) (hk : mc' ≤ k) (hn : ms' ≤ n) (hst : st = av.reverse ++ .ref b :: rest) (hrm : (rest.map fun v => v.category).sum ≤ 8) (dd : decode cc pc = .ok (.invokespecial idx, 3))
    (kk : ∀ r ws', post r ws' → AW g K ws' (k - mc') (n - ms') (pc + 3) L (r.toList ++ rest)) : AW g K ws k n pc L st := by
  subst hst
  obtain ⟨l, D, dA, F⟩ := g
  obtain ⟨⟨p, e, R, s, m, args, below, meth, c⟩, A, nL, Q, mc, ms⟩ := K
  obtain ⟨hG, hx, hb, hml, hown, hts, hK, hF, hA, hlk, hdR, hlo, hmc, hms⟩ := C
  intro H locs ls cells slots h1 h2 hP hD hS hL
  have hfr := x_free hD hS hA
  have hpre := x_pre (av := .ref b :: av) hG hP hD hS hA hK hF
  have hrun : va_Run p l e R s m args below meth c H locs cells slots mc' ms' (F0 m pc ls (av.reverse ++ .ref b :: rest)) rest (XQc (l, D, dA, F) post (va_A ws H.size) (Value.ref b :: av).toArray) (va_A ws H.size) := by
    have hB : Back l R p e below s args y 3 8 (PreOf R mc' ms' (XPc (l, D, dA, F) (.ref b :: av) ws H.size)) (PostOf (XQc (l, D, dA, F) post (va_A ws H.size)) mc' ms' (va_A ws H.size)) := back_of (bytes := cc') (maxL := nL') (ret := ret) (hM H.size) hpre.1 rfl rfl (show d' + 1 ≤ R.frames by omega) (show 8 + (nL' + 11) + 64 * d' ≤ R.locals by omega) (pay_in hts (lw_meth pc')) List.mem_cons_self (fun a' U hW => word_at hW (Or.inl (by first | rfl | simp [Cond.onTables, Cond.keeps, Cond.steady])) (hts _ pn))
    obtain ⟨cellB, hcB, hoB, hclB⟩ := va_recv hK hP hc he
    obtain ⟨-, hfc, kB, hkB, -⟩ := hK.1 ci _ hc
    have hcls : cellB.cls = D.1 ci := Option.some.inj (hclB.symm.trans hfc)
    rw [← hcls] at hkB
    intro U hU X
    obtain ⟨mk, methM, hnamed, hmethM, hstM, habM⟩ := Cond.instanceMethod_spec (hts _ pi)
    obtain ⟨methM', cM, hmethM', -, -, -, -, -, -, hsigM⟩ := Cond.code_spec hnamed (hts _ pc')
    cases hmethM.symm.trans hmethM'
    obtain ⟨ps, dk, kp, hps, hdk, hkp, hsuper, -, -, hnid⟩ := Cond.superclass_spec hown (hts _ q1)
    obtain ⟨pt, dk2, kp2, hpt, hdk2, -, hsuper2, -⟩ := Cond.superclass_spec hps (hts _ q2)
    have hpm : pt = mk.cls := Option.some.inj (hpt.symm.trans (findClass_of_methodNamed hnamed))
    have hsub : s.vm.isSubclass ps mk.cls = true := by rw [← hpm]; exact x_subc hdk2 hsuper2
    have hn0 : s.methodNamed? ⟨y.cls, x.name, x.desc⟩ = some mk := by rw [← hxy]; exact hnamed
    have hlen2 : ∀ sig, parseMethodDescriptor y.desc = some sig → av.length = sig.parameters.length := by
      intro sig hsig
      rw [hsig] at hlen
      exact (Option.some.inj hlen).symm
    obtain ⟨vm₁, X₁, hstep₁⟩ := X.invokespecialUp hx hown (hts _ q) (hts _ qs) hn0 hmethM hstM habM hno hdk hnid hps hsuper hsub (a := b) (cell := cellB) (by rw [hU]; exact hcB) (fun z h => by rw [h] at hoB; cases hoB) hkB (g := F0 m pc ls (av.reverse ++ .ref b :: rest)) rfl (argsL := av) (rest := rest) (hlen2 _ hsigM) rfl (by rw [hb]; exact dd)
    obtain ⟨v, ⟨U', l2, c2, s2⟩, X', ⟨g', mk', t, L', e1, e2, hq, f1, hL', f2, f3⟩, hsteps⟩ := hB m meth c ⟨U.setVm vm₁, locs, cells, slots⟩ { F0 m pc ls (av.reverse ++ .ref b :: rest) with stack := rest } (.invokespecial idx) mk (Value.ref b :: av).toArray X₁ rfl (hL.2.1.trans hml.symm) (by rw [hb]; exact dd) (mR_sum hrm) (X₁.named hnamed) ⟨by show cells + mc' ≤ R.cells; omega, by show slots + ms' ≤ R.slots; omega, hpre.2 (U.setVm vm₁) hU X₁.warmed⟩
    dsimp only [Pt.U, Pt.locs, Pt.cells, Pt.slots] at X' e1 e2 f1 f2 f3 hsteps
    subst f1; subst f2; subst f3
    exact ⟨v, (U.setVm vm₁).calling g' mk' (Value.ref b :: av).toArray, t, U', L', hU, X', hL', e1, e2, hq, fun target h => hstep₁ _ (by rw [doInvoke_state]; exact hsteps.trans h)⟩
  refine x_call (mc := mc') (ms := ms') hrun hS hfr hfr ?_
  intro r ws' H1 locs1 e1 e2 e3 e4
  exact kk r ws' e1 H1 locs1 ls (cells + mc') (slots + ms') (by omega) (by omega) e2 e3 e4 hL
theorem r_supLive {g : GX} {K : KY} {d : Nat} {cc : ByteArray} {ws : va_W} {k n pc : Nat} {L : List (Option Value)} {st : List Value} (C : Cok g K d cc RX4) {b d' : Nat} {v : Value} {f : Int → va_W → Prop} (hM : XMet g yX2_isLive cX2_isLive 2 (some .boolean) d' 0 0 [.ref b, v] ws (pI f)) {q0 : Nat} {fs : List Value} (he : ws[q0]? = some (b, .inr (2, fs))) (q : Cond.methodLink RX4 28 ⟨"SupplyGrid$Fed", "isLive", "(I)Z"⟩ ∈ lw_all) (dd : decode cc pc = .ok (.invokespecial 28, 3)) (kk : ∀ z w, f z w → AW g K w k n (pc + 3) L (.int (jI z) :: st)) (hd : d' < d := by omega) (hrm : (st.map fun v => v.category).sum ≤ 8 := by exact Nat.le_of_ble_eq_true rfl) : AW g K ws k n pc L (v :: .ref b :: st) := by
  have hl : (parseMethodDescriptor yX2_isLive.desc).map (fun d => d.parameters.length) = some 1 := by decide +kernel
  refine r_callSup C hM he (Cn := RX4) (T := TX4) (N := 12) rfl q q784 q340 q786 rfl q787 q124 q788 (by decide) hl (by decide) hd (Nat.zero_le _) (Nat.zero_le _) (rest := st) rfl hrm dd (fun r w h => ?_)
  obtain ⟨z, rfl, h⟩ := h
  exact kk z w h
