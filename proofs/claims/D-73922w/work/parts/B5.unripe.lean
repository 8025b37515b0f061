/-! methods of classes of which no word says that they are initialised (an enum's constants with bodies): called through an object, that is not asked -/
def u_app (S : Spec) (x : MethodName) (pl : Platform) (s : State) (m : MethodId) (args : Array Value) (below : List Frame) : Prop :=
  s.status = .running ∧ s.curStatus? = some .runnable ∧ s.alone = true ∧ s.methodNamed? x = some m ∧ s.hears m below = true ∧ s.hasRoom pl S.room = true ∧ S.pre.before args s = true
def u_Met (l : Launch) (y : MethodName) (ws : List Cond) (rm : Room) (Pc : Array Value → State → Prop) (Qc : Array Value → State → Outcome → State → Prop) (mc ms : Nat) (free : Addr → Prop) : Prop :=
  ∀ (p : Program) e, l.admits e → FairCas e.choices → FairClock e.choices → ∀ s m args below, s.frames = .invoking m args :: below → u_app (headSpec ws rm) y e.platform s m args below → Pc args s →
    ∃ n o, (∀ k, k < n → Within (stepsAlone p.tables e k s) below) ∧ (stepsAlone p.tables e n s).status = .running ∧ Ended (stepsAlone p.tables e n s) below o ∧ (Qc args s o (stepsAlone p.tables e n s) ∧ ∃ L, FrameEnd s o (stepsAlone p.tables e n s) L mc ms ∧ ∀ q ∈ L, free q.base)
theorem u_ofW {l : Launch} {y : MethodName} {ws ws' : List Cond} {rm : Room} {Pc : Array Value → State → Prop} {Qc : Array Value → State → Outcome → State → Prop} {mc ms : Nat} {free : Addr → Prop} {cc : ByteArray} {maxL : Nat} {ret : Option FieldType}
    (hy : plainName y.cls = true) (hw : ws = Cond.code y cc maxL ret :: ws')
    (body : ∀ (p : Program) (e : Env) (s : State) (m : MethodId) (args : Array Value) (below : List Frame) (meth : Method) (c : Code), p.tables.exec = Jvm.exec → c.code = cc → c.maxLocals = maxL → s.methodNamed? y = some m → (headSpec ws rm).pre.before args s = true → meth.locks = false → meth.sig.returnType = ret → Pc args s →
      W p l e (headSpec ws rm).room s m args below meth c s.heap [] 0 0 (MQ below Qc args s mc ms free) (entryFrame m args maxL)) : u_Met l y ws rm Pc Qc mc ms free := by
  intro p e ha hc hk s m args below hf happ hP
  obtain ⟨hrun, hable, halone, hname, hhears, hroom, hpre⟩ := happ
  obtain ⟨meth, c, hmeth, hcode, hbytes, hlocals, hret, hlocks, -, -⟩ := Cond.code_spec hname (atoms_spec (ws := ws) hpre _ (by rw [hw]; exact List.mem_cons_self))
  have hcur := State.cur_lt_of_frames hf
  have hf1 : (s.setFrames (.java (entryFrame m args maxL) :: below)).frames = .java (entryFrame m args maxL) :: below := State.frames_setFrames _ hcur
  have ht1 := State.topJava?_of_frames hf1
  have hplain : (s.setFrames (.java (entryFrame m args maxL) :: below)).plainMethod m := State.plainMethod.of_named (s := s) (plainFor_of_name hy) hname hmeth
  have hAt : At (s.setFrames (.java (entryFrame m args maxL) :: below)) m c below :=
    ⟨by rw [ht1]; rfl, ⟨[], by rw [hf1]; rfl⟩, hrun, by simpa using hable, by simpa using halone, by rw [State.code?_eq]; simp [State.setFrames, hmeth, hcode], hplain⟩
  have hstep : (stepThread p.tables e s).1 = (s.setFrames (.java (entryFrame m args maxL) :: below)).setTop (entryFrame m args maxL) := by
    have hfull : e.platform.stackFull (s.setFrames below).me (s.setFrames below).frames c.maxLocals = false := by
      obtain ⟨-, h1, -, h2⟩ := State.hasRoom_stack hroom
      rw [hf, List.length_cons] at h1
      rw [State.localsInUse_invoking hf hmeth hcode] at h2
      have hw := stackUse_le_stackWeight below
      rw [State.frames_setFrames _ hcur]
      exact Platform.stackFull_eq_false (by rw [State.stackLimits_setFrames]; omega) (by rw [State.stackLimits_setFrames]; omega)
    rw [stepThread_invoking hf, (doInvoke_java (s := s.setFrames below) (e := e) (meth := meth) (code := c) hmeth hcode hlocks hfull).1, State.setTop_self ht1]
    simp only [State.pushFrame, State.frames_setFrames _ hcur, State.setFrames_setFrames, hlocals, entryFrame]
  have hStand : Stand p l e (headSpec ws rm).room s m args below meth c (s.setFrames (.java (entryFrame m args maxL) :: below)) [] 0 0 := by
    obtain ⟨t, ht, -⟩ := State.frames_cons hf
    refine ⟨ha, hc, hk, hf, hroom, hhears, hmeth, hcode, hAt, by rw [hf1]; rfl, State.WarmedH.refl s, by rw [State.stackLimits_setFrames], by rw [State.stackBytes_setFrames], ?_⟩
    exact (State.sameButNew.refl s ht).setFrames (.java (entryFrame m args maxL) :: below) hcur
  obtain ⟨s₂, hs, o, hr, he, hp⟩ := body p e s m args below meth c (by cases p <;> rfl) hbytes hlocals hname hpre hlocks hret hP (s.setFrames (.java (entryFrame m args maxL) :: below)) rfl hStand
  obtain ⟨n, hn, hw⟩ := Steps.head (tb := p.tables) (e := e) ⟨hrun, hable, halone⟩ ⟨[.invoking m args], hf, by simp, by simp⟩ (hstep ▸ hs)
  exact ⟨n, o, hw, hn ▸ hr, hn ▸ he, hn ▸ hp⟩
theorem u_call {l : Launch} {y : MethodName} {ws : List Cond} {rm : Room} {Pc : Array Value → State → Prop} {Qc : Array Value → State → Outcome → State → Prop} {mc ms : Nat} {free : Addr → Prop} {e : Env}
    (hM : u_Met l y ws rm Pc Qc mc ms free) (p : Program) (ha : l.admits e) (hc : FairCas e.choices) (hk : FairClock e.choices)
    {s : State} {m : MethodId} {args : Array Value} {acts : List Action} {mid below : List Frame}
    (hfr : s.frames = mid ++ below) (happ : u_app (headSpec ws rm) y e.platform (s.pushFrame (.invoking m args)) m args s.frames) (hP : Pc args (s.pushFrame (.invoking m args))) :
    ∃ o s₂, Steps p.tables e below (doInvoke e s acts m args).1 s₂ ∧ s₂.status = .running ∧ Ended s₂ s.frames o ∧ (Qc args (s.pushFrame (.invoking m args)) o s₂ ∧ ∃ L, FrameEnd (s.pushFrame (.invoking m args)) o s₂ L mc ms ∧ ∀ q ∈ L, free q.base) := by
  obtain ⟨hrun, hable, halone, -⟩ := id happ
  obtain ⟨t, ht⟩ : ∃ t, s.threads[s.cur]? = some t := by
    cases h : s.threads[s.cur]? with
    | some t => exact ⟨t, rfl⟩
    | none =>
      exfalso
      have h2 := hable
      simp [State.curStatus?, State.pushFrame, State.setFrames, Array.getElem?_modify, h] at h2
  have hlt : s.cur < s.threads.size := (Array.getElem?_eq_some_iff.mp ht).1
  have hf' : (s.pushFrame (.invoking m args)).frames = .invoking m args :: s.frames := State.frames_setFrames _ hlt
  have hgo : (s.pushFrame (.invoking m args)).goesOn := ⟨hrun, hable, halone⟩
  obtain ⟨n, o, hw, hr, he, hp⟩ := hM p e ha hc hk (s.pushFrame (.invoking m args)) m args s.frames hf' happ hP
  have hstep : (stepThread p.tables e (s.pushFrame (.invoking m args))).1 = (doInvoke e s acts m args).1 := by
    rw [stepThread_invoking hf', doInvoke_state e s acts, State.pushFrame, State.setFrames_setFrames, State.setFrames_self ht]
  cases n with
  | zero => exact absurd ⟨[.invoking m args], hf', by simp, by simp⟩ he.not_within
  | succ k =>
    rw [stepsAlone_succ _ hgo, hstep] at hr he hp
    refine ⟨o, _, ⟨k, rfl, fun j hj => ?_⟩, hr, he, hp⟩
    have := hw (j + 1) (by omega)
    rw [stepsAlone_succ _ hgo, hstep, hfr] at this
    exact this.weaken
section UB
variable {l : Launch} {R : Room} {p : Program} {e : Env} {below : List Frame} {s : State} {sargs : Array Value} {y : MethodName} {len W9 : Nat}
theorem u_back {ws : List Cond} {rm : Room} {Pc : Array Value → State → Prop} {Qc : Array Value → State → Outcome → State → Prop} {mc ms : Nat} {free : Addr → Prop} {bytes : ByteArray} {maxL : Nat} {ret : Option FieldType}
    (hM : u_Met l y ws rm Pc Qc mc ms free) (hblind : FrameBlind Pc) (hrc : rm.cells = mc) (hrs : rm.slots = ms)
    (hframes : rm.frames + 1 ≤ R.frames) (hlocals : W9 + (maxL + 11) + rm.locals ≤ R.locals)
    (hws : ∀ w ∈ ws, ∀ a' U, s.WarmedH U.vm → w.before a' U = true) (hcode : Cond.code y bytes maxL ret ∈ ws) :
    Back l R p e below s sargs y len W9 (PreOf R mc ms Pc) (PostOf Qc mc ms free) := by
  intro m meth c A g ig mk a X hg hsize hdg hW hn hp
  have h1 : (headSpec ws rm).pre.before a A.U = true := atoms_intro fun w hw => hws w hw _ _ X.warmed
  have h2 : (Cond.code y bytes maxL ret).before a A.U = true := hws _ hcode _ _ X.warmed
  have h4 : A.cells + (headSpec ws rm).room.cells ≤ R.cells := by rw [show (headSpec ws rm).room.cells = mc from hrc]; exact hp.1
  have h5 : A.slots + (headSpec ws rm).room.slots ≤ R.slots := by rw [show (headSpec ws rm).room.slots = ms from hrs]; exact hp.2.1
  have hPc : Pc a (A.U.calling g mk a) := hblind _ _ _ _ hp.2.2
  obtain ⟨U, Ls, c0, s0⟩ := A
  dsimp only [Pt.U, Pt.locs, Pt.cells, Pt.slots] at h1 h2 h4 h5 X hn hPc ⊢
  obtain ⟨methY, cY, hmY, hcY, -, hlY, -, -, -, -⟩ := Cond.code_spec hn h2
  have h : At U g.method c below := by rw [hg]; exact X.here
  have hlocals9 : W9 + (maxL + 11) + (headSpec ws rm).room.locals ≤ R.locals := hlocals
  have hroom9 := X.room_calling (g := g) (m' := mk) (args' := a) (R' := (headSpec ws rm).room) hsize hmY hcY hframes (by rw [hlY]; omega) h4 h5
  have happ : u_app (headSpec ws rm) y e.platform (U.calling g mk a) mk a (.java g :: U.frames.tail) := by
    have hcode9 : (U.calling g mk a).code? g.method = some c := by
      have := h.code
      rw [State.code?_eq] at this ⊢
      simpa [State.calling, State.pushFrame, State.setFrames] using this
    refine ⟨h.running, ?_, ?_, hn, ?_, hroom9, ?_⟩
    · simpa [State.calling] using h.runnable
    · simpa [State.calling] using h.alone
    · simp [State.hears, hcode9, hdg, Except.toOption]
    · rw [State.calling_eq h.top, Cond.before_setFrames]; exact h1
  obtain ⟨mid, hmid⟩ := h.above
  have hfr : (U.setTop g).frames = (.java g :: mid) ++ below := by rw [State.frames_setTop' g h.top, hmid]; rfl
  obtain ⟨o, s₂, hsteps, -, hend, hq⟩ := u_call hM p X.admits X.cas X.clock (acts := []) hfr (by rw [State.frames_setTop' g h.top]; exact happ) hPc
  have hq' : Qc a (U.calling g mk a) o s₂ ∧ ∃ L, FrameEnd (U.calling g mk a) o s₂ L mc ms ∧ ∀ q ∈ L, free q.base := hq
  rw [State.frames_setTop' g h.top] at hend
  obtain ⟨g₀, hg0⟩ := Option.isSome_iff_exists.mp h.top
  obtain ⟨r, hr⟩ := State.topJava?_eq_some.mp hg0
  have hr' : (({ U with heap := s₂.heap, slotsUsed := s₂.slotsUsed } : State).setVm s₂.vm).frames = .java g₀ :: r := hr
  obtain ⟨hqc, L, hfe, hL⟩ := hq'
  · obtain ⟨⟨v, rfl⟩, hW₂, e2, q2, q3, q4, q5, q6⟩ := id hfe
    have e3 : s₂ = ({ (U.calling g mk a).setFrames s₂.frames with heap := s₂.heap, slotsUsed := s₂.slotsUsed } : State).setVm s₂.vm := by
      have : s₂ = ({ s₂ with vm := (U.calling g mk a).vm } : State).setVm s₂.vm := rfl
      rw [e2] at this
      exact this
    obtain ⟨c₂, i₂, len₂, hc₂, hd₂, hf₂⟩ := hend
    have hW' : U.WarmedH s₂.vm := hW₂
    have hcc : c₂ = c := by
      have h1 : s₂.code? g.method = U.code? g.method := by
        rw [State.code?_eq, State.code?_eq, hW'.alike.method?]
      exact Option.some.inj (hc₂.symm.trans (h1.trans h.code))
    subst hcc
    have hlen : len₂ = len := by rw [hdg] at hd₂; cases hd₂; rfl
    subst hlen
    have hs₂ : s₂ = (({ U with heap := s₂.heap, slotsUsed := s₂.slotsUsed } : State).setVm s₂.vm).setTop { g with pc := g.pc + len₂, stack := v.toList ++ g.stack } := by
      refine e3.trans ?_
      rw [hf₂, State.calling_eq h.top, State.setFrames_setFrames, State.setTop_of_frames _ hr', hr]
      rfl
    have hsame : U.sameButNew ({ U with heap := s₂.heap, slotsUsed := s₂.slotsUsed } : State) L mc ms := by
      refine ⟨?_, q2, q3, q4, q5, q6⟩
      obtain ⟨t, ht, -⟩ := State.frames_cons hr
      show ({ U with heap := s₂.heap, slotsUsed := s₂.slotsUsed } : State) = { U.setFrames U.frames with heap := s₂.heap, slotsUsed := s₂.slotsUsed }
      rw [State.setFrames_self ht]
    subst hg
    refine ⟨v, ⟨(({ U with heap := s₂.heap, slotsUsed := s₂.slotsUsed } : State).setVm s₂.vm), Ls ++ L, c0 + mc, s0 + ms⟩,
      ⟨X.admits, X.cas, X.clock, X.frames, X.room, X.hears, X.method, X.code, (X.here.setHeapUsed s₂.heap s₂.slotsUsed).setVm hW'.alike, X.tail, State.WarmedH.trans X.warmed hW', X.limits, X.bytes, X.same.trans (hsame.setVm s.vm)⟩,
      ⟨g, mk, s₂, L, rfl, rfl, hqc, rfl, hL, rfl, rfl⟩, ?_⟩
    show Steps p.tables e below _ ((({ U with heap := s₂.heap, slotsUsed := s₂.slotsUsed } : State).setVm s₂.vm).setTop { g with pc := g.pc + len₂, stack := v.toList ++ g.stack })
    rw [← hs₂]
    exact hsteps
end UB
def XMetU (g : GX) (y : MethodName) (cc : ByteArray) (nL : Nat) (ret : Option FieldType) (d mc ms : Nat) (av : List Value) (ws : va_W) (post : Option Value → va_W → Prop) : Prop :=
  ∀ sz : Nat, u_Met g.1 y (ws_ y cc nL ret) (rmD d mc ms) (XPc g av ws sz) (XQc g post (va_A ws sz)) mc ms (va_A ws sz)
theorem XMetU.of {g : GX} {y : MethodName} {cc : ByteArray} {nL : Nat} {ret : Option FieldType} {d mc ms : Nat} {av : List Value} {ws : va_W} {post : Option Value → va_W → Prop} {L : List (Option Value)} (hG : Gok g) (hy : plainName y.cls = true) (hn : (lg_sl av).length ≤ nL) (hL : lo_av av nL = L)
    (body : ∀ K : KY, Cok g K d cc y.cls → Kend g K ret post → AW g K ws mc ms 0 L []) : XMetU g y cc nL ret d mc ms av ws post := by
  intro sz
  refine u_ofW (cc := cc) (maxL := nL) (ret := ret) hy rfl ?_
  intro p e s m args below meth c hx hb hml hnm hpre hlk hret hv
  obtain ⟨rfl, hsz, hP, hD0, hK, hF⟩ := hv
  subst hsz
  subst hL
  obtain ⟨l, D, dA, F⟩ := g
  have hts := atoms_spec (ws := ws_ y cc nL ret) hpre
  have h1 := body ((p, e, (headSpec (ws_ y cc nL ret) (rmD d mc ms)).room, s, m, av.toArray, below, meth, c), va_A ws s.heap.size, nL, MQ below (XQc (l, D, dA, F) post (va_A ws s.heap.size)) av.toArray s mc ms (va_A ws s.heap.size), mc, ms)
    ⟨hG, hx, hb, hml, findClass_of_methodNamed hnm, fun w h => hts w (List.mem_cons_of_mem _ h), hK, hF, fun q h => Or.inr h, hlk, Nat.le_refl _, Nat.le_refl _, Nat.le_refl _, Nat.le_refl _⟩ ⟨rfl, hret⟩
  rw [lg_entry_eq]
  refine h1 s.heap [] _ 0 0 (by omega) (by omega) hP hD0.self va_S.rf ⟨?_, ?_⟩
  · unfold lo_av
    rw [List.length_append, List.length_replicate, lo_len]
    omega
  · unfold lo_av
    rw [lo_ent]
    exact lv_entry av hn
def PkA (x y : MethodName) (Cn owner : String) (cc : ByteArray) (nL : Nat) (ret : Option FieldType) (n : Nat) : Prop := (Cond.sameMethod x.cls owner x.name x.desc ∈ lw_all ∧ Cond.selects Cn x y ∈ lw_all ∧ Cond.instanceMethod y ∈ lw_all ∧ Cond.code y cc nL ret ∈ lw_all) ∧ Cond.declares ⟨owner, x.name, x.desc⟩ ∈ nwl ∧ nL ≤ 45 ∧ owner ≠ "java/lang/invoke/MethodHandle" ∧ owner ≠ "java/lang/invoke/VarHandle" ∧ (parseMethodDescriptor x.desc).map (fun d => d.parameters.length) = some n
/-- a call of an abstract method through an object outside -/
theorem r_callAO {g : GX} {K : KY} {d : Nat} {cc : ByteArray} {own : String} {ws : va_W} {k n pc : Nat} {L : List (Option Value)} {st rest : List Value} {post : Option Value → va_W → Prop} {x y : MethodName} {Cn owner : String} {cc' : ByteArray} {nL' : Nat} {ret : Option FieldType} {d' mc' ms' idx : Nat} {av : List Value} {b : Nat} (C : Cok g K d cc own) (hM : XMetU g y cc' nL' ret d' mc' ms' (.ref b :: av) ws post) (hO : ∀ (A : Nat → Prop) (U : State) (H : Heap), g.2.2.2 A U H → va_O Cn b A U H) (q : Cond.methodLink own idx x ∈ lw_all) (pk : PkA x y Cn owner cc' nL' ret av.length) (hd : d' < d) (hk : mc' ≤ k) (hn : ms' ≤ n) (hst : st = av.reverse ++ .ref b :: rest) (hrm : (rest.map fun v => v.category).sum ≤ 8) (dd : decode cc pc = .ok (.invokevirtual idx, 3))
    (kk : ∀ r ws', post r ws' → AW g K ws' (k - mc') (n - ms') (pc + 3) L (r.toList ++ rest)) : AW g K ws k n pc L st := by
  subst hst
  obtain ⟨l, D, dA, F⟩ := g
  obtain ⟨⟨p, e, R, s, m, args, below, meth, c⟩, A, nL, Q, mc, ms⟩ := K
  obtain ⟨hG, hx, hb, hml, hown, hts, hK, hF, hA, hlk, hdR, hlo, hmc, hms⟩ := C
  obtain ⟨⟨p1, p2, p3, p4⟩, pz, p5, p6, p7, p8⟩ := pk
  intro H locs ls cells slots h1 h2 hP hD hS hL
  have hfr := x_free hD hS hA
  have hpre := x_pre (av := .ref b :: av) hG hP hD hS hA hK hF
  obtain ⟨cell, o1, o2, o3, -⟩ := (hO _ _ _ hF).kept hS.2.1
  have hnw := hG.2.2.2.2 A s _ hF
  have hlen : ∀ sig, parseMethodDescriptor x.desc = some sig → av.length = sig.parameters.length := by
    intro sig h
    rw [h] at p8
    exact (Option.some.inj p8).symm
  have hc9 : cells + mc' ≤ R.cells := by omega
  have hs9 : slots + ms' ≤ R.slots := by omega
  have hBk : Back l R p e below s args y 3 8 (PreOf R mc' ms' (XPc (l, D, dA, F) (.ref b :: av) ws H.size)) (PostOf (XQc (l, D, dA, F) post (va_A ws H.size)) mc' ms' (va_A ws H.size)) :=
    u_back (bytes := cc') (maxL := nL') (ret := ret) (hM H.size) hpre.1 rfl rfl (show d' + 1 ≤ R.frames by omega) (show 8 + (nL' + 11) + 64 * d' ≤ R.locals by omega) (pay_in hts (lw_meth p4)) List.mem_cons_self
  have hrun : va_Run p l e R s m args below meth c H locs cells slots mc' ms' (F0 m pc ls (av.reverse ++ .ref b :: rest)) rest (XQc (l, D, dA, F) post (va_A ws H.size) (Value.ref b :: av).toArray) (va_A ws H.size) := by
    intro T hT X
    obtain ⟨v, vm₁, ⟨U', l2, c2, s2⟩, hW₁, X', ⟨g', mk, t, L9, e1, e2, hq, i1, hL9, i2, i3⟩, stp⟩ := va_callVU X hx (C := Cn) (owner := owner) (bytes := cc') (maxL := nL') (ret := ret) hown (hts _ q) (hts _ p1) (va_Decl.abs (hnw _ pz)) ⟨p6, p7⟩ (hts _ p2) (hts _ p3) (hts _ p4) hBk (by rw [hT]; exact o1) o2 o3 (g := F0 m pc ls (av.reverse ++ .ref b :: rest)) rfl (hL.2.1.trans hml.symm) (argsL := av) (rest := rest) hlen rfl (mR_sum hrm) (by rw [hb]; exact dd)
      (fun vm₁ hW₁ => ⟨hc9, hs9, hpre.2 (T.setVm vm₁) hT hW₁⟩)
    dsimp only [Pt.U, Pt.locs, Pt.cells, Pt.slots] at X' e1 e2 i1 i2 i3 stp
    subst i1; subst i2; subst i3
    exact ⟨v, (T.setVm vm₁).calling g' mk (Value.ref b :: av).toArray, t, U', L9, hT, X', hL9, e1, e2, hq, stp⟩
  refine x_call (mc := mc') (ms := ms') hrun hS hfr hfr ?_
  intro r ws' H1 locs1 e1 e2 e3 e4
  exact kk r ws' e1 H1 locs1 ls (cells + mc') (slots + ms') (by omega) (by omega) e2 e3 e4 hL
