/-! a method that catches: its contract, a call of it, a call that is caught -/
def hTab (c : Code) (hh : List (Nat × Nat × Nat × Nat)) : Prop := c.exceptionTable.toList.map (fun h => (h.startPc, h.endPc, h.handlerPc, h.catchType)) = hh
def Ktab (K : KY) (hh : List (Nat × Nat × Nat × Nat)) : Prop := match K with
  | ((_, _, _, _, _, _, _, _, c), _, _, _, _, _) => hTab c hh
theorem Met_ofWH {l : Launch} {y : MethodName} {ws ws' : List Cond} {rm : Room} {Pc : Array Value → State → Prop} {Qc : Array Value → State → Outcome → State → Prop} {mc ms : Nat} {free : Addr → Prop} {cc : ByteArray} {maxL : Nat} {ret : Option FieldType} {hh : List (Nat × Nat × Nat × Nat)}
    (hy : plainName y.cls = true) (hw : ws = Cond.codeWith y cc maxL ret hh :: ws')
    (body : ∀ p e s m args below meth c s₁, BodyLoose p l y (headSpec ws rm) cc maxL ret e s m args below meth c s₁ → c.maxLocals = maxL → hTab c hh → Pc args s →
      W p l e (headSpec ws rm).room s m args below meth c s.heap [] 0 0 (MQ below Qc args s mc ms free) (entryFrame m args maxL)) : Met l y ws rm Pc Qc mc ms free := by
  refine MetFree.of_bodyS (code := cc) (maxLocals := maxL) (ret := ret) hy ?_ ?_
  · intro args s m h hn
    obtain ⟨m9, meth, c, hn9, h1, h2, h3, h4, -, h5, h6, -⟩ := Cond.codeWith_spec (atoms_spec (ws := ws) h _ (by rw [hw]; exact List.mem_cons_self))
    cases hn.symm.trans hn9
    exact ⟨meth, c, h1, h2, h3, h4, h5, h6⟩
  · intro p e s m args below meth c s₁ B hml hP _
    have hh0 : s₁.heap = s.heap := by rw [B.state]; rfl
    have ht : hTab c hh := by
      obtain ⟨m9, meth9, c9, hn9, h1, h2, h3, h4, h7, -, -, -⟩ := Cond.codeWith_spec (atoms_spec (ws := ws) B.pre _ (by rw [hw]; exact List.mem_cons_self))
      cases Option.some.inj (hn9.symm.trans B.named)
      cases Option.some.inj (h1.symm.trans B.method)
      cases Option.some.inj (h2.symm.trans (Stand.of_body B).code)
      exact h7
    obtain ⟨t, a1, o, b1, b2, b3⟩ := body p e s m args below meth c s₁ B hml ht hP s₁ hh0 (Stand.of_body B)
    exact ⟨t, o, a1, b1, b2, ⟨b3.1, b3.2⟩⟩
def XMetH (g : GX) (y : MethodName) (cc : ByteArray) (nL : Nat) (ret : Option FieldType) (hh : List (Nat × Nat × Nat × Nat)) (d mc ms : Nat) (av : List Value) (ws : va_W) (post : Option Value → va_W → Prop) : Prop :=
  ∀ sz : Nat, Met g.1 y (wsW_ y cc nL ret hh) (rmD d mc ms) (XPc g av ws sz) (XQc g post (va_A ws sz)) mc ms (va_A ws sz)
theorem XMetH.of {g : GX} {y : MethodName} {cc : ByteArray} {nL : Nat} {ret : Option FieldType} {hh : List (Nat × Nat × Nat × Nat)} {d mc ms : Nat} {av : List Value} {ws : va_W} {post : Option Value → va_W → Prop} {L : List (Option Value)} (hG : Gok g) (hy : plainName y.cls = true) (hn : (lg_sl av).length ≤ nL) (hL : lo_av av nL = L)
    (body : ∀ K : KY, Cok g K d cc y.cls → Ktab K hh → Kend g K ret post → AW g K ws mc ms 0 L []) : XMetH g y cc nL ret hh d mc ms av ws post := by
  intro sz
  refine Met_ofWH (cc := cc) (maxL := nL) (ret := ret) (hh := hh) hy rfl ?_
  intro p e s m args below meth c s₁ B hml htab hv
  obtain ⟨rfl, hsz, hP, hD0, hK, hF⟩ := hv
  subst hsz
  subst hL
  obtain ⟨l, D, dA, F⟩ := g
  have hts := atoms_spec (ws := wsW_ y cc nL ret hh) B.pre
  have h1 := body ((p, e, (headSpec (wsW_ y cc nL ret hh) (rmD d mc ms)).room, s, m, av.toArray, below, meth, c), va_A ws s.heap.size, nL, MQ below (XQc (l, D, dA, F) post (va_A ws s.heap.size)) av.toArray s mc ms (va_A ws s.heap.size), mc, ms)
    ⟨hG, B.exec, B.bytes, hml, findClass_of_methodNamed B.named, fun w h => hts w (List.mem_cons_of_mem _ h), hK, hF, fun q h => Or.inr h, B.notSynchronized, Nat.le_refl _, Nat.le_refl _, Nat.le_refl _, Nat.le_refl _⟩ htab ⟨rfl, B.returns⟩
  rw [lg_entry_eq]
  refine h1 s.heap [] _ 0 0 (by omega) (by omega) hP hD0.self va_S.rf ⟨?_, ?_⟩
  · unfold lo_av
    rw [List.length_append, List.length_replicate, lo_len]
    omega
  · unfold lo_av
    rw [lo_ent]
    exact lv_entry av hn
/-- what a call of a method with handlers asks of the words -/
def PkH (y : MethodName) (cc' : ByteArray) (nL' : Nat) (ret : Option FieldType) (hh : List (Nat × Nat × Nat × Nat)) (na : Nat) : Prop := Cond.instanceMethod y ∈ lw_all ∧ Cond.selects y.cls y y ∈ lw_all ∧ Cond.initialized y.cls ∈ lw_all ∧ Cond.codeWith y cc' nL' ret hh ∈ lw_all ∧ nL' ≤ 45 ∧ (y.cls ≠ "java/lang/invoke/MethodHandle" ∧ y.cls ≠ "java/lang/invoke/VarHandle" ∧ (parseMethodDescriptor y.desc).map (fun d => d.parameters.length) = some na)
theorem r_callH {g : GX} {K : KY} {d : Nat} {cc : ByteArray} {own : String} {ws : va_W} {k n pc : Nat} {L : List (Option Value)} {st rest : List Value} {post : Option Value → va_W → Prop} {y : MethodName} {cc' : ByteArray} {nL' : Nat} {ret : Option FieldType} {hh : List (Nat × Nat × Nat × Nat)} {d' mc' ms' idx : Nat} {av : List Value} {b : Nat} (C : Cok g K d cc own) (hM : XMetH g y cc' nL' ret hh d' mc' ms' (.ref b :: av) ws post) {q0 ci : Nat} {fs : List Value} {T : u_T} {N : Nat} (he : ws[q0]? = some (b, .inr (ci, fs))) (hc : vCl[ci]? = some (y.cls, T, N)) (q : Cond.methodLink own idx y ∈ lw_all) (pk : PkH y cc' nL' ret hh av.length) (hd : d' < d) (hk : mc' ≤ k) (hn : ms' ≤ n) (hst : st = av.reverse ++ .ref b :: rest) (hrm : (rest.map fun v => v.category).sum ≤ 8) (dd : decode cc pc = .ok (.invokevirtual idx, 3))
    (kk : ∀ r ws', post r ws' → AW g K ws' (k - mc') (n - ms') (pc + 3) L (r.toList ++ rest)) : AW g K ws k n pc L st := by
  subst hst
  obtain ⟨l, D, dA, F⟩ := g
  obtain ⟨⟨p, e, R, s, m, args, below, meth, c⟩, A, nL, Q, mc, ms⟩ := K
  obtain ⟨hG, hx, hb, hml, hown, hts, hK, hF, hA, hlk, hdR, hlo, hmc, hms⟩ := C
  obtain ⟨p1, p2, p3, p4, p5, p6⟩ := pk
  intro H locs ls cells slots h1 h2 hP hD hS hL
  have hfr := x_free hD hS hA
  have hpre := x_pre (av := .ref b :: av) hG hP hD hS hA hK hF
  refine x_call (mc := mc') (ms := ms') (vx_runVW (As := av) (rest := rest) ⟨hx, hb, hml, hown, hts⟩ (hM H.size) (vx_cwVW av.length hts (lw_VW q p1 p2 p3 p4) rfl rfl rfl ⟨rfl, p6⟩ ⟨show d' + 1 ≤ R.frames by omega, show 8 + (nL' + 11) + 64 * d' ≤ R.locals by omega⟩) ⟨hpre.1, va_recv hK hP hc he, hpre.2⟩ rfl rfl hL.2.1 rfl (mR_sum hrm) dd ⟨by omega, by omega⟩) hS hfr hfr ?_
  intro r ws' H1 locs1 e1 e2 e3 e4
  exact kk r ws' e1 H1 locs1 ls (cells + mc') (slots + ms') (by omega) (by omega) e2 e3 e4 hL
/-- a call that may throw a Fault, with a handler for it -/
theorem r_callC {g : GX} {K : KY} {d : Nat} {cc : ByteArray} {own : String} {ws : va_W} {k n pc a0 b0 h0 ct : Nat} {hs : List (Nat × Nat × Nat × Nat)} {L : List (Option Value)} {st rest : List Value} {post : Option Value → va_W → Prop} {postT : Nat → va_W → Prop} {y : MethodName} {cc' : ByteArray} {nL' : Nat} {ret : Option FieldType} {d' idx : Nat} {av : List Value} {b : Nat} (C : Cok g K d cc own) (Ht : Ktab K ((a0, b0, h0, ct) :: hs)) (hcv : a0 ≤ pc ∧ pc < b0) (hct : ct ≠ 0) (ql : Cond.classLink own ct "SupplyGrid$Fault" ∈ lw_all) (qx : Cond.castable "SupplyGrid$Fault" "SupplyGrid$Fault" ∈ nwl) (hM : XMetT g y cc' nL' ret d' (.ref b :: av) ws post postT) {q0 ci : Nat} {fs : List Value} {T : u_T} {N : Nat} (he : ws[q0]? = some (b, .inr (ci, fs))) (hc : vCl[ci]? = some (y.cls, T, N)) (q : Cond.methodLink own idx y ∈ lw_all) (pk : PkV y cc' nL' ret av.length) (hd : d' < d) (hk : 1 ≤ k) (hn : 8 ≤ n) (hst : st = av.reverse ++ .ref b :: rest) (hrm : (rest.map fun v => v.category).sum ≤ 8) (dd : decode cc pc = .ok (.invokevirtual idx, 3))
    (kx : ∀ a ws', postT a ws' → AW g K ws' (k - 1) (n - 8) h0 L [.ref a]) (kk : ∀ r ws', post r ws' → AW g K ws' k n (pc + 3) L (r.toList ++ rest)) : AW g K ws k n pc L st := by
  subst hst
  obtain ⟨l, D, dA, F⟩ := g
  obtain ⟨⟨p, e, R, s, m, args, below, meth, c⟩, A, nL, Q, mc, ms⟩ := K
  obtain ⟨hG, hx, hb, hml, hown, hts, hK, hF, hA, hlk, hdR, hlo, hmc, hms⟩ := C
  obtain ⟨p1, p2, p3, p4, p5, p6⟩ := pk
  intro H locs ls cells slots h1 h2 hP hD hS hL
  have hfr := x_free hD hS hA
  have hpre := x_pre (av := .ref b :: av) hG hP hD hS hA hK hF
  intro T0 hT X
  rcases vq_runV (As := av) (rest := rest) (g := F0 m pc ls (av.reverse ++ .ref b :: rest)) ⟨hx, hb, hml, hown, hts⟩ (hM H.size) (cwV av.length hts (lw_V q p1 p2 p3 p4) rfl rfl rfl ⟨rfl, p6⟩ ⟨show d' + 1 ≤ R.frames by omega, show 8 + (nL' + 11) + 64 * d' ≤ R.locals by omega⟩) ⟨hpre.1, va_recv hK hP hc he, hpre.2⟩ rfl rfl hL.2.1 rfl (mR_sum hrm) dd ⟨by omega, by omega⟩ T0 hT X with ⟨v, st₀, t, T', L9, h0, X', hL9, e1, e2, ⟨⟨r, ws', hv, hp, hP', hD'⟩, hz, hkk⟩, stp⟩ | ⟨a, st₀, t, T', L9, E9, ce, h0', X', hL9, e1, e2, ⟨rfl, ⟨ws', hp, hP', hD'⟩, hz, hkk⟩, hce, hcv', hcl, stp⟩
  · cases hv
    rw [h0] at hz hkk
    obtain ⟨t2, a1, b1⟩ := kk v ws' hp T'.heap (locs ++ L9) ls (cells + 0) (slots + 0) (by omega) (by omega) (by rw [e1]; exact hP') (hD'.weaken (fun _ q _ h => hfr q.1 h)) ⟨Nat.le_trans hS.1 (by rw [e1]; exact hz), fun q h1 h2 => by rw [e1, hkk q (Nat.lt_of_lt_of_le h1 hS.1) (fun z => h2 (hfr q z))]; exact hS.2.1 q h1 h2, fun q hq => by
      rcases List.mem_append.mp hq with h | h
      · exact hS.2.2 q h
      · exact hfr _ (hL9 q h)⟩ hL T' rfl X'
    exact ⟨t2, stp t2 a1, b1⟩
  · rw [h0'] at hz hkk
    obtain ⟨x, suf, hsp, hx0⟩ : ∃ x suf, c.exceptionTable.toList = x :: suf ∧ (x.startPc, x.endPc, x.handlerPc, x.catchType) = (a0, b0, h0, ct) := by
      have hT9 : c.exceptionTable.toList.map (fun h => (h.startPc, h.endPc, h.handlerPc, h.catchType)) = (a0, b0, h0, ct) :: hs := Ht
      cases hl9 : c.exceptionTable.toList with
      | nil => rw [hl9] at hT9; cases hT9
      | cons x suf => rw [hl9] at hT9; exact ⟨x, suf, rfl, (List.cons.inj hT9).1⟩
    obtain ⟨rfl, y2⟩ := Prod.mk.inj hx0
    obtain ⟨rfl, y3⟩ := Prod.mk.inj y2
    obtain ⟨rfl, rfl⟩ := Prod.mk.inj y3
    have hk9 := kx a ws' hp T'.heap (locs ++ L9) ls (cells + 1) (slots + 8) (by omega) (by omega) (by rw [e1]; exact hP') (hD'.weaken (fun _ q _ h => hfr q.1 h)) ⟨Nat.le_trans hS.1 (by rw [e1]; exact hz), fun q h1 h2 => by rw [e1, hkk q (Nat.lt_of_lt_of_le h1 hS.1) (fun z => h2 (hfr q z))]; exact hS.2.1 q h1 h2, fun q hq => by
      rcases List.mem_append.mp hq with h | h
      · exact hS.2.2 q h
      · exact hfr _ (hL9 q h)⟩ hL
    obtain ⟨t2, a1, b1⟩ := vx_catch (pc := pc) (ls := ls) (rest := rest) (name := "SupplyGrid$Fault") hown [] x suf hsp (fun z hz => nomatch hz) (by unfold covers; rw [Bool.and_eq_true, decide_eq_true_iff, decide_eq_true_iff]; exact hcv) hct (hts _ ql) (va_Nw.use rfl (hG.2.2.2.2 A s _ hF _ qx)) (by rw [e1]; exact hce) hcv' hcl hk9 T' rfl X'
    exact ⟨t2, stp.trans a1, b1⟩
