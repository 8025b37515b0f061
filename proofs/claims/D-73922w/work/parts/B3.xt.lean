/-! contracts of methods that throw a Fault: XMetT -/
def XTc (g : GX) (postT : Nat → va_W → Prop) (A : Nat → Prop) : Addr → String → State → State → Prop := fun q E st t => E = "SupplyGrid$Fault" ∧ (∃ ws' : va_W, postT q ws' ∧ va_P g.2.1 vCl ws' t.heap ∧ va_D A ws') ∧ va_F A st t
def XMetT (g : GX) (y : MethodName) (cc : ByteArray) (nL : Nat) (ret : Option FieldType) (d : Nat) (av : List Value) (ws : va_W) (post : Option Value → va_W → Prop) (postT : Nat → va_W → Prop) : Prop :=
  ∀ sz : Nat, vq_Met g.1 y (ws_ y cc nL ret) (rmD d 1 8) (XPc g av ws sz) (XQc g post (va_A ws sz)) (XTc g postT (va_A ws sz)) 1 8 (va_A ws sz)
def KendT (g : GX) (K : KY) (ret : Option FieldType) (post : Option Value → va_W → Prop) (postT : Nat → va_W → Prop) : Prop := match K with
  | ((_, _, _, s, _, args, below, meth, c), A, _, Q, mc, ms) => (mc = 1 ∧ ms = 8) ∧ Q = vq_MQ below (XQc g post A) (XTc g postT A) args s 1 8 A ∧ meth.sig.returnType = ret ∧ ∀ x ∈ c.exceptionTable.toList, False
theorem XMetT.of {g : GX} {y : MethodName} {cc : ByteArray} {nL : Nat} {ret : Option FieldType} {d : Nat} {av : List Value} {ws : va_W} {post : Option Value → va_W → Prop} {postT : Nat → va_W → Prop} {L : List (Option Value)} (hG : Gok g) (hy : plainName y.cls = true) (hn : (lg_sl av).length ≤ nL) (hL : lo_av av nL = L)
    (body : ∀ K : KY, Cok g K d cc y.cls → KendT g K ret post postT → AW g K ws 1 8 0 L []) : XMetT g y cc nL ret d av ws post postT := by
  intro sz
  refine vq_ofW (cc := cc) (maxL := nL) (ret := ret) hy rfl ?_
  intro p e s m args below meth c s₁ B hml htab hv
  obtain ⟨rfl, hsz, hP, hD0, hK, hF⟩ := hv
  subst hsz
  subst hL
  obtain ⟨l, D, dA, F⟩ := g
  have hts := atoms_spec (ws := ws_ y cc nL ret) B.pre
  have h1 := body ((p, e, (headSpec (ws_ y cc nL ret) (rmD d 1 8)).room, s, m, av.toArray, below, meth, c), va_A ws s.heap.size, nL, vq_MQ below (XQc (l, D, dA, F) post (va_A ws s.heap.size)) (XTc (l, D, dA, F) postT (va_A ws s.heap.size)) av.toArray s 1 8 (va_A ws s.heap.size), 1, 8)
    ⟨hG, B.exec, B.bytes, hml, findClass_of_methodNamed B.named, fun w h => hts w (List.mem_cons_of_mem _ h), hK, hF, fun q h => Or.inr h, B.notSynchronized, Nat.le_refl _, Nat.le_refl _, Nat.le_refl _, Nat.le_refl _⟩ ⟨⟨rfl, rfl⟩, rfl, B.returns, htab⟩
  rw [lg_entry_eq]
  refine h1 s.heap [] _ 0 0 (by omega) (by omega) hP hD0.self va_S.rf ⟨?_, ?_⟩
  · unfold lo_av
    rw [List.length_append, List.length_replicate, lo_len]
    omega
  · unfold lo_av
    rw [lo_ent]
    exact lv_entry av hn
/-- a method that may throw: where it returns -/
theorem KendT.back {g : GX} {K : KY} {ret : Option FieldType} {post : Option Value → va_W → Prop} {postT : Nat → va_W → Prop} (E : KendT g K ret post postT) : ∃ K' : KY, (∀ {d : Nat} {cc : ByteArray} {own : String}, Cok g K d cc own → Cok g K' d cc own) ∧ Kend g K' ret post ∧ ∀ {ws : va_W} {pc : Nat} {L : List (Option Value)} {st : List Value}, AW g K' ws 0 0 pc L st → AW g K ws 1 8 pc L st := by
  obtain ⟨l, D, dA, F⟩ := g
  obtain ⟨⟨p, e, R, s, m, args, below, meth, c⟩, A, nL, Q, mc, ms⟩ := K
  obtain ⟨⟨rfl, rfl⟩, rfl, hr, ht⟩ := E
  refine ⟨((p, e, R, s, m, args, below, meth, c), A, nL, MQ below (XQc (l, D, dA, F) post A) args s 0 0 A, 0, 0), fun C => ?_, ⟨rfl, hr⟩, fun kk => ?_⟩
  · obtain ⟨hG, hx, hb, hml, hown, hts, hK, hF, hA, hlk, hdR, hlo, hmc, hms⟩ := C
    exact ⟨hG, hx, hb, hml, hown, hts, hK, hF, hA, hlk, hdR, hlo, Nat.zero_le _, Nat.zero_le _⟩
  · intro H locs ls cells slots h1 h2 hP hD hS hL
    exact vq_ret (kk H locs ls cells slots (by omega) (by omega) hP hD hS hL)
/-- what throws out of a method with no handler -/
theorem x_out {p : Program} {l : Launch} {e : Env} {R : Room} {s : State} {m : MethodId} {args : Array Value} {below : List Frame} {meth : Method} {c : Code} {H : Heap} {locs : List Loc} {cells slots pc q : Nat} {A : Nat → Prop} {mc ms : Nat} {D : va_G} {dA : Nat → ClassId} {F : FX} {ls : Array Slot} {rest : List Value} {ws : va_W} {post : Option Value → va_W → Prop} {postT : Nat → va_W → Prop} {ce : Cell}
    (ht : ∀ x ∈ c.exceptionTable.toList, False) (hlk : meth.locks = false) (hcell : H[q]? = some ce) (hv : ce.vm = .none) (hcl : s.vm.findClass "SupplyGrid$Fault" = some ce.cls) (hP : va_P D vCl ws H) (hD : va_D A ws) (hS : va_S A s.heap H locs) (h1 : cells ≤ mc) (h2 : slots ≤ ms) (h : postT q ws) :
    vx_W p l e R s m args below meth c H locs cells slots (vq_MQ below (XQc (l, D, dA, F) post A) (XTc (l, D, dA, F) postT A) args s mc ms A) (F0 m pc ls rest) q :=
  vq_out (fun x hx => (ht x hx).elim) hlk hcell hv hcl (fun t ht' _ => ⟨rfl, ⟨ws, h, by rw [ht']; exact hP, hD⟩, hS.F ht'⟩) hS.2.2 h1 h2
/-- athrow: a Fault of the world leaves the method -/
theorem r_athrow {g : GX} {K : KY} {d : Nat} {cc : ByteArray} {own : String} {ws : va_W} {k n pc q : Nat} {L : List (Option Value)} {st fs : List Value} {ret : Option FieldType} {post : Option Value → va_W → Prop} {postT : Nat → va_W → Prop} (C : Cok g K d cc own) (E : KendT g K ret post postT) (q0 : Nat) (he : ws[q0]? = some (q, .inr (5, fs))) (dd : decode cc pc = .ok (.athrow, 1)) (h : postT q ws) : AW g K ws k n pc L (.ref q :: st) := by
  obtain ⟨l, D, dA, F⟩ := g
  obtain ⟨⟨p, e, R, s, m, args, below, meth, c⟩, A, nL, Q, mc, ms⟩ := K
  obtain ⟨hG, hx, hb, hml, hown, hts, hK, hF, hA, hlk, hdR, hlo, hmc, hms⟩ := C
  obtain ⟨⟨rfl, rfl⟩, rfl, hr, ht⟩ := E
  intro H locs ls cells slots h1 h2 hP hD hS hL
  obtain ⟨r', hr', cell, g1, g2, g3, -⟩ := hP q0 _ he
  obtain ⟨cell2, i1, i2, i3⟩ := va_recv hK hP (show vCl[5]? = some (RX7, TX7, 8) from rfl) he
  have i1' : H[q]? = some cell2 := i1
  have g1' : H[q]? = some cell := g1
  rw [g1'] at i1'
  cases i1'
  exact vx_athrow hx hb dd (x_out ht hlk g1 g3 i3 hP hD hS (by omega) (by omega) h)
/-- a call of a method that may throw, out of one with no handler -/
theorem r_callT {g : GX} {K : KY} {d : Nat} {cc : ByteArray} {own : String} {ws : va_W} {pc : Nat} {L : List (Option Value)} {st rest : List Value} {post post0 : Option Value → va_W → Prop} {postT postT0 : Nat → va_W → Prop} {y : MethodName} {cc' : ByteArray} {nL' : Nat} {ret ret0 : Option FieldType} {d' idx : Nat} {av : List Value} {b : Nat} (C : Cok g K d cc own) (E : KendT g K ret0 post0 postT0) (hM : XMetT g y cc' nL' ret d' (.ref b :: av) ws post postT) {q0 ci : Nat} {fs : List Value} {T : u_T} {N : Nat} (he : ws[q0]? = some (b, .inr (ci, fs))) (hc : vCl[ci]? = some (y.cls, T, N)) (q : Cond.methodLink own idx y ∈ lw_all) (pk : PkV y cc' nL' ret av.length) (hd : d' < d) (hst : st = av.reverse ++ .ref b :: rest) (hrm : (rest.map fun v => v.category).sum ≤ 8) (dd : decode cc pc = .ok (.invokevirtual idx, 3))
    (kx : ∀ a ws', postT a ws' → postT0 a ws') (kk : ∀ r ws', post r ws' → AW g K ws' 1 8 (pc + 3) L (r.toList ++ rest)) : AW g K ws 1 8 pc L st := by
  subst hst
  obtain ⟨l, D, dA, F⟩ := g
  obtain ⟨⟨p, e, R, s, m, args, below, meth, c⟩, A, nL, Q, mc, ms⟩ := K
  obtain ⟨hG, hx, hb, hml, hown, hts, hK, hF, hA, hlk, hdR, hlo, hmc, hms⟩ := C
  obtain ⟨⟨rfl, rfl⟩, rfl, hr, ht⟩ := E
  obtain ⟨p1, p2, p3, p4, p5, p6⟩ := pk
  intro H locs ls cells slots h1 h2 hP hD hS hL
  have hfr := x_free hD hS hA
  have hpre := x_pre (av := .ref b :: av) hG hP hD hS hA hK hF
  intro T0 hT X
  rcases vq_runV (As := av) (rest := rest) (g := F0 m pc ls (av.reverse ++ .ref b :: rest)) ⟨hx, hb, hml, hown, hts⟩ (hM H.size) (cwV av.length hts (lw_V q p1 p2 p3 p4) rfl rfl rfl ⟨rfl, p6⟩ ⟨show d' + 1 ≤ R.frames by omega, show 8 + (nL' + 11) + 64 * d' ≤ R.locals by omega⟩) ⟨hpre.1, va_recv hK hP hc he, hpre.2⟩ rfl rfl hL.2.1 rfl (mR_sum hrm) dd ⟨by omega, by omega⟩ T0 hT X with ⟨v, st₀, t, T', L9, h0, X', hL9, e1, e2, ⟨⟨r, ws', hv, hp, hP', hD'⟩, hz, hkk⟩, stp⟩ | ⟨a, st₀, t, T', L9, E9, ce, h0, X', hL9, e1, e2, ⟨rfl, ⟨ws', hp, hP', hD'⟩, hz, hkk⟩, hce, hcv, hcl, stp⟩
  · cases hv
    rw [h0] at hz hkk
    obtain ⟨t2, a1, b1⟩ := kk v ws' hp T'.heap (locs ++ L9) ls (cells + 0) (slots + 0) (by omega) (by omega) (by rw [e1]; exact hP') (hD'.weaken (fun _ q _ h => hfr q.1 h)) ⟨Nat.le_trans hS.1 (by rw [e1]; exact hz), fun q h1 h2 => by rw [e1, hkk q (Nat.lt_of_lt_of_le h1 hS.1) (fun z => h2 (hfr q z))]; exact hS.2.1 q h1 h2, fun q hq => by
      rcases List.mem_append.mp hq with h | h
      · exact hS.2.2 q h
      · exact hfr _ (hL9 q h)⟩ hL T' rfl X'
    exact ⟨t2, stp t2 a1, b1⟩
  · rw [h0] at hz hkk
    obtain ⟨t2, a1, b1⟩ := x_out (p := p) (l := l) (e := e) (R := R) (below := below) (args := args) (pc := pc) (ls := ls) (rest := rest) (mc := 1) (ms := 8) (dA := dA) (F := F) (post := post0) (postT := postT0) (q := a) (cells := cells + 1) (slots := slots + 8) ht hlk (by rw [e1]; exact hce) hcv hcl (ws := ws') (H := T'.heap) (locs := locs ++ L9) (by rw [e1]; exact hP') (hD'.weaken (fun _ q _ h => hfr q.1 h)) ⟨Nat.le_trans hS.1 (by rw [e1]; exact hz), fun q h1 h2 => by rw [e1, hkk q (Nat.lt_of_lt_of_le h1 hS.1) (fun z => h2 (hfr q z))]; exact hS.2.1 q h1 h2, fun q hq => by
      rcases List.mem_append.mp hq with h | h
      · exact hS.2.2 q h
      · exact hfr _ (hL9 q h)⟩ (by omega) (by omega) (kx a ws' hp) T' rfl X'
    exact ⟨t2, stp.trans a1, b1⟩
/-- a world's cells in another order, some of them let go -/
theorem AW.sub {g : GX} {K : KY} {ws ws' wd : va_W} {k n pc : Nat} {L : List (Option Value)} {st : List Value} (hp : ws.Perm (wd ++ ws')) (kk : AW g K ws' k n pc L st) : AW g K ws k n pc L st := by
  refine AW.perm hp ?_
  clear hp
  induction wd with
  | nil => exact kk
  | cons x wd ih => exact AW.drop ih
