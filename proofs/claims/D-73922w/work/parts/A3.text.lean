/-! text constants: objects outside the world; their length and letters -/
/-- static facts: strings are compact; the formatter of checkIndex is some reference -/
def GT (g : GX) : Prop := ∀ (A : Nat → Prop) (U : State) (H : Heap), g.2.2.2 A U H → va_Z "java/lang/String" "COMPACT_STRINGS" "Z" (.int (jI 1)) A U H ∧ va_Zq "jdk/internal/util/Preconditions" "SIOOBE_FORMATTER" "Ljava/util/function/BiFunction;" A U H
/-- the text w is the string at a -/
def StrG (g : GX) (a : Nat) (w : List Int) : Prop := (∀ k : Nat, k < w.length → 0 ≤ w.getD k 0 ∧ w.getD k 0 < 128) ∧ w.length ≤ 100 ∧ ∃ v : Nat, ∀ (A : Nat → Prop) (U : State) (H : Heap), g.2.2.2 A U H → va_O "java/lang/String" a A U H ∧ va_OF "java/lang/String" "coder" "B" (.int (jI 0)) a A U H ∧ va_OF "java/lang/String" "value" "[B" (.ref v) a A U H ∧ va_T .byte v w.length (fun j => .int (jI (w.getD j 0))) A U H
/-- entry k of the class own is the string at a -/
def LdG (g : GX) (own : String) (k a : Nat) : Prop := ∃ tx : String, ∀ (A : Nat → Prop) (U : State) (H : Heap), g.2.2.2 A U H → vk_R own k tx a U
theorem r_ldcS {g : GX} {K : KY} {d : Nat} {cc : ByteArray} {own : String} {ws : va_W} {k n pc idx a : Nat} {L : List (Option Value)} {st : List Value} (C : Cok g K d cc own) (Z : LdG g own idx a) (dd : decode cc pc = .ok (.ldc idx, 2)) (kk : AW g K ws k n (pc + 2) L (.ref a :: st)) : AW g K ws k n pc L st := by
  obtain ⟨tx, hZ⟩ := Z
  exact AW.mem C (fun hx hb hown hts hnw hK hP hD hS hF hml hfr hlo w => va_ldcS hx hb hown (hZ _ _ _ hF) dd (w _ _ hP hD hS)) kk
theorem r_gets {g : GX} {K : KY} {d : Nat} {cc : ByteArray} {own Cn fn fd : String} {ws : va_W} {k n pc idx : Nat} {v : Value} {L : List (Option Value)} {st : List Value} (C : Cok g K d cc own) (hZ : ∀ (A : Nat → Prop) (U : State) (H : Heap), g.2.2.2 A U H → va_Z Cn fn fd v A U H) (q : Cond.fieldLink own idx Cn fn fd ∈ lw_all) (dd : decode cc pc = .ok (.getstatic idx, 3)) (kk : AW g K ws k n (pc + 3) L (v :: st)) : AW g K ws k n pc L st :=
  AW.mem C (fun hx hb hown hts hnw hK hP hD hS hF hml hfr hlo w => va_gets hx hb (hZ _ _ _ hF) hS hown (hts _ q) (fun _ h => h) dd (w _ _ hP hD hS)) kk
theorem r_getsN {g : GX} {K : KY} {d : Nat} {cc : ByteArray} {own Cn fn fd host : String} {ws : va_W} {k n pc idx : Nat} {v : Value} {L : List (Option Value)} {st : List Value} (C : Cok g K d cc own) (hZ : ∀ (A : Nat → Prop) (U : State) (H : Heap), g.2.2.2 A U H → va_Z Cn fn fd v A U H) (q : Cond.fieldLinkNest own idx Cn fn fd host ∈ lw_tbl) (dd : decode cc pc = .ok (.getstatic idx, 3)) (kk : AW g K ws k n (pc + 3) L (v :: st)) : AW g K ws k n pc L st :=
  AW.mem C (fun hx hb hown hts hnw hK hP hD hS hF hml hfr hlo w => va_getsN hx hb (hZ _ _ _ hF) hS hown (va_Nw.use rfl (hnw _ (nw_in q rfl))) (fun _ h => h) dd (w _ _ hP hD hS)) kk
/-- a static that is some reference or null -/
theorem r_getsq {g : GX} {K : KY} {d : Nat} {cc : ByteArray} {own Cn fn fd : String} {ws : va_W} {k n pc idx : Nat} {L : List (Option Value)} {st : List Value} (C : Cok g K d cc own) (hZ : ∀ (A : Nat → Prop) (U : State) (H : Heap), g.2.2.2 A U H → va_Zq Cn fn fd A U H) (q : Cond.fieldLink own idx Cn fn fd ∈ lw_all) (dd : decode cc pc = .ok (.getstatic idx, 3)) (k0 : AW g K ws k n (pc + 3) L (.null :: st)) (k1 : ∀ t : Nat, AW g K ws k n (pc + 3) L (.ref t :: st)) : AW g K ws k n pc L st := by
  obtain ⟨l, D, dA, F⟩ := g
  obtain ⟨⟨p, e, R, s, m, args, below, meth, c⟩, A, nL, Q, mc, ms⟩ := K
  obtain ⟨hG, hx, hb, hml, hown, hts, hK, hF, hA, hlk, hdR, hlo, hmc, hms⟩ := C
  intro H locs ls cells slots h1 h2 hP hD hS hL
  rcases hZ _ _ _ hF with h | ⟨t, h⟩
  · exact va_gets hx hb h hS hown (hts _ q) (fun _ h => h) dd (k0 H locs ls cells slots h1 h2 hP hD hS hL)
  · exact va_gets hx hb h hS hown (hts _ q) (fun _ h => h) dd (k1 t H locs ls cells slots h1 h2 hP hD hS hL)
/-- a field of an object outside -/
theorem r_getO {g : GX} {K : KY} {d : Nat} {cc : ByteArray} {own Cn fn fd : String} {ws : va_W} {k n pc idx a : Nat} {v : Value} {L : List (Option Value)} {st : List Value} (C : Cok g K d cc own) (hZ : ∀ (A : Nat → Prop) (U : State) (H : Heap), g.2.2.2 A U H → va_OF Cn fn fd v a A U H) (q : Cond.fieldLink own idx Cn fn fd ∈ lw_all) (dd : decode cc pc = .ok (.getfield idx, 3)) (kk : AW g K ws k n (pc + 3) L (v :: st)) : AW g K ws k n pc L (.ref a :: st) :=
  AW.mem C (fun hx hb hown hts hnw hK hP hD hS hF hml hfr hlo w => vk_getf hx hb (hZ _ _ _ hF) hS hown (hts _ q) (fun _ h => h) dd (w _ _ hP hD hS)) kk
theorem r_tlen {g : GX} {K : KY} {d : Nat} {cc : ByteArray} {own : String} {ws : va_W} {k n pc a N : Nat} {ty : FieldType} {f : Nat → Value} {L : List (Option Value)} {st : List Value} (C : Cok g K d cc own) (hZ : ∀ (A : Nat → Prop) (U : State) (H : Heap), g.2.2.2 A U H → va_T ty a N f A U H) (dd : decode cc pc = .ok (.arraylength, 1)) (kk : AW g K ws k n (pc + 1) L (.int (jI N) :: st)) : AW g K ws k n pc L (.ref a :: st) :=
  AW.mem C (fun hx hb hown hts hnw hK hP hD hS hF hml hfr hlo w => va_tlen hx hb (hZ _ _ _ hF) hS (jI_nI N).symm dd (w _ _ hP hD hS)) kk
theorem r_tbald {g : GX} {K : KY} {d : Nat} {cc : ByteArray} {own : String} {ws : va_W} {k n pc a N : Nat} {f : Nat → Value} {i z : Int} {L : List (Option Value)} {st : List Value} (C : Cok g K d cc own) (hZ : ∀ (A : Nat → Prop) (U : State) (H : Heap), g.2.2.2 A U H → va_T .byte a N f A U H) (dd : decode cc pc = .ok (.baload, 1)) (h0 : 0 ≤ i) (h1 : i < N) (hN : N ≤ 2147483647) (hz : f i.toNat = .int (jI z)) (kk : AW g K ws k n (pc + 1) L (.int (jI z) :: st)) : AW g K ws k n pc L (.int (jI i) :: .ref a :: st) :=
  AW.mem C (fun hx hb hown hts hnw hK hP hD hS hF hml hfr hlo w => va_tb hx hb (hZ _ _ _ hF) hS (jI_vp h0 h1 hN) (by rw [jI_clamp h0 (by omega)]; exact hz) dd (w _ _ hP hD hS)) kk
theorem r_i2c {g : GX} {K : KY} {d : Nat} {cc : ByteArray} {own : String} {ws : va_W} {k n pc : Nat} {L : List (Option Value)} {st : List Value} (C : Cok g K d cc own) {a : Int} (z : Int) (dd : decode cc pc = .ok (.i2c, 1)) (hz : ((jI a).toUInt32 % 65536).toInt32 = jI z) (kk : AW g K ws k n (pc + 1) L (.int (jI z) :: st)) : AW g K ws k n pc L (.int (jI a) :: st) :=
  AW.op C (fun hx hb hown hts hml hfr hl w => lv_i2c hx hb dd hz w) kk
/-- an answer of another kind of number -/
theorem r_nreturn {g : GX} {K : KY} {d : Nat} {cc : ByteArray} {own : String} {ws : va_W} {k n pc : Nat} {L : List (Option Value)} {post : Option Value → va_W → Prop} {ty : FieldType} (C : Cok g K d cc own) (E : Kend g K (some ty) post) {z : Int} (dd : decode cc pc = .ok (.ireturn, 1)) (hn : narrow ty (.int (jI z)) = .int (jI z)) (h : post (some (.int (jI z))) ws) : AW g K ws k n pc L [.int (jI z)] := by
  obtain ⟨l, D, dA, F⟩ := g
  obtain ⟨⟨p, e, R, s, m, args, below, meth, c⟩, A, nL, Q, mc, ms⟩ := K
  obtain ⟨-, hx, hb, hml, hown, hts, hK, hF, hA, hlk, hd, hlo, hmc, hms⟩ := C
  obtain ⟨rfl, hr⟩ := E
  intro H locs ls cells slots h1 h2 hP hD hS hL
  refine W.widen (k := mc) (n := ms) (by omega) (by omega) ?_
  exact W.zret hx hb hr hn (fun t ht hW => ⟨⟨_, ws, rfl, h, by rw [ht]; exact hP, hD⟩, hS.F ht⟩) hS.2.2 dd hlk
/-- a call through an object outside, of the method's own class -/
theorem r_callVO {g : GX} {K : KY} {d : Nat} {cc : ByteArray} {own : String} {ws : va_W} {k n pc : Nat} {L : List (Option Value)} {st rest : List Value} {post : Option Value → va_W → Prop} {y : MethodName} {cc' : ByteArray} {nL' : Nat} {ret : Option FieldType} {d' mc' ms' idx : Nat} {av : List Value} {b : Nat} (C : Cok g K d cc own) (hM : XMet g y cc' nL' ret d' mc' ms' (.ref b :: av) ws post) (hO : ∀ (A : Nat → Prop) (U : State) (H : Heap), g.2.2.2 A U H → va_O y.cls b A U H) (q : Cond.methodLink own idx y ∈ lw_all) (pk : PkV y cc' nL' ret av.length) (hd : d' < d) (hk : mc' ≤ k) (hn : ms' ≤ n) (hst : st = av.reverse ++ .ref b :: rest) (hrm : (rest.map fun v => v.category).sum ≤ 8) (dd : decode cc pc = .ok (.invokevirtual idx, 3))
    (kk : ∀ r ws', post r ws' → AW g K ws' (k - mc') (n - ms') (pc + 3) L (r.toList ++ rest)) : AW g K ws k n pc L st := by
  subst hst
  obtain ⟨l, D, dA, F⟩ := g
  obtain ⟨⟨p, e, R, s, m, args, below, meth, c⟩, A, nL, Q, mc, ms⟩ := K
  obtain ⟨hG, hx, hb, hml, hown, hts, hK, hF, hA, hlk, hdR, hlo, hmc, hms⟩ := C
  obtain ⟨p1, p2, p3, p4, p5, p6⟩ := pk
  intro H locs ls cells slots h1 h2 hP hD hS hL
  have hfr := x_free hD hS hA
  have hpre := x_pre (av := .ref b :: av) hG hP hD hS hA hK hF
  obtain ⟨cell, o1, o2, o3, -⟩ := (hO _ _ _ hF).kept hS.2.1
  refine x_call (mc := mc') (ms := ms') (va_runV (As := av) (rest := rest) ⟨hx, hb, hml, hown, hts⟩ (hM H.size) (cwV av.length hts (lw_V q p1 p2 p3 p4) rfl rfl rfl ⟨rfl, p6⟩ ⟨show d' + 1 ≤ R.frames by omega, show 8 + (nL' + 11) + 64 * d' ≤ R.locals by omega⟩) ⟨hpre.1, ⟨cell, o1, o2, o3⟩, hpre.2⟩ rfl rfl hL.2.1 rfl (mR_sum hrm) dd ⟨by omega, by omega⟩) hS hfr hfr ?_
  intro r ws' H1 locs1 e1 e2 e3 e4
  exact kk r ws' e1 H1 locs1 ls (cells + mc') (slots + ms') (by omega) (by omega) e2 e3 e4 hL
theorem and255 {b : Int} (h0 : -128 ≤ b) (h1 : b ≤ 127) : jI b &&& jI 255 = jI (if b < 0 then b + 256 else b) := by
  have key : ∀ i : Fin 256, jI ((i.val : Int) - 128) &&& jI 255 = jI (if ((i.val : Int) - 128) < 0 then ((i.val : Int) - 128) + 256 else ((i.val : Int) - 128)) := by decide +kernel
  have h := key ⟨(b + 128).toNat, by omega⟩
  have e : (((b + 128).toNat : Nat) : Int) - 128 = b := by omega
  simp only [e] at h
  exact h
theorem chr_ok {b : Int} (h0 : 0 ≤ b) (h1 : b < 128) : ((jI b).toUInt32 % 65536).toInt32 = jI b := by
  have key : ∀ i : Fin 128, ((jI (i.val : Int)).toUInt32 % 65536).toInt32 = jI (i.val : Int) := by decide +kernel
  have h := key ⟨b.toNat, by omega⟩
  have e : ((b.toNat : Nat) : Int) = b := by omega
  simp only [e] at h
  exact h
theorem nar_chr {b : Int} (h0 : 0 ≤ b) (h1 : b < 128) : narrow .char (.int (jI b)) = .int (jI b) := by
  have key : ∀ i : Fin 128, narrow .char (.int (jI (i.val : Int))) = .int (jI (i.val : Int)) := by
    intro i
    have h2 : ∀ i : Fin 128, ((jI (i.val : Int)).toUInt32 % 65536).toInt32 = jI (i.val : Int) := by decide +kernel
    have := h2 i
    first
      | rfl
      | (show Value.int _ = Value.int _; first | exact congrArg _ this | (congr 1) | simp_all)
  have h := key ⟨b.toNat, by omega⟩
  have e : ((b.toNat : Nat) : Int) = b := by omega
  simp only [e] at h
  exact h
section Text
variable {g : GX} {ws : va_W} {a : Nat} {w : List Int}
theorem c_J4_coder (hG : Gok g) (T : GT g) (S : StrG g a w) : XMet g yJ4_coder cJ4_coder 1 (some .byte) 0 0 0 [.ref a] ws (pI (fun z w' => z = 0 ∧ w' = ws)) := by
  obtain ⟨-, -, v, S⟩ := S
  refine XMet.of (L := [some (.ref a)]) hG (by decide +kernel) (Nat.le_of_ble_eq_true rfl) rfl (fun K C E => ?_)
  refine r_gets C (fun A U H h => (T A U H h).1) q485 dJ4_coder_0 ?_
  refine r_ifeq (tgt := 13) C dJ4_coder_3 (by decide) (fun h => absurd h (by decide)) (fun _ => ?_)
  refine r_aload_0 C dJ4_coder_6 ?_
  refine r_getO C (fun A U H h => (S A U H h).2.1) q2127 dJ4_coder_7 ?_
  refine r_goto (tgt := 14) C dJ4_coder_10 (by decide) ?_
  exact r_nreturn C E dJ4_coder_14 rfl ⟨_, rfl, rfl, rfl⟩
theorem c_J4_isLatin1 (hG : Gok g) (T : GT g) (S : StrG g a w) : XMet g yJ4_isLatin1 cJ4_isLatin1 1 (some .boolean) 0 0 0 [.ref a] ws (pI (fun z w' => z = 1 ∧ w' = ws)) := by
  obtain ⟨-, -, v, S⟩ := S
  refine XMet.of (L := [some (.ref a)]) hG (by decide +kernel) (Nat.le_of_ble_eq_true rfl) rfl (fun K C E => ?_)
  refine r_gets C (fun A U H h => (T A U H h).1) q485 dJ4_isLatin1_0 ?_
  refine r_ifeq (tgt := 17) C dJ4_isLatin1_3 (by decide) (fun h => absurd h (by decide)) (fun _ => ?_)
  refine r_aload_0 C dJ4_isLatin1_6 ?_
  refine r_getO C (fun A U H h => (S A U H h).2.1) q2127 dJ4_isLatin1_7 ?_
  refine r_ifne (tgt := 17) C dJ4_isLatin1_10 (by decide) (fun h => absurd rfl h) (fun _ => ?_)
  refine r_iconst C dJ4_isLatin1_13 ?_
  refine r_goto (tgt := 18) C dJ4_isLatin1_14 (by decide) ?_
  exact r_zreturn C E dJ4_isLatin1_18 (Or.inr rfl) ⟨_, rfl, rfl, rfl⟩
theorem c_J4_length (hG : Gok g) (T : GT g) (S : StrG g a w) : XMet g yJ4_length cJ4_length 1 (some .int) 1 0 0 [.ref a] ws (pI (fun z w' => z = w.length ∧ w' = ws)) := by
  have S0 := S
  obtain ⟨-, hl, v, S⟩ := S
  refine XMet.of (L := [some (.ref a)]) hG (by decide +kernel) (Nat.le_of_ble_eq_true rfl) rfl (fun K C E => ?_)
  refine r_aload_0 C dJ4_length_0 ?_
  refine r_getO C (fun A U H h => (S A U H h).2.2.1) q2126 dJ4_length_1 ?_
  refine r_tlen C (fun A U H h => (S A U H h).2.2.2) dJ4_length_4 ?_
  refine r_aload_0 C dJ4_length_5 ?_
  refine r_callVO C (av := []) (c_J4_coder hG T S0) (fun A U H h => (S A U H h).1) q481 pkJ4_coder (by decide) (Nat.zero_le _) (Nat.zero_le _) rfl (Nat.le_of_ble_eq_true rfl) dJ4_length_6 (fun r w' h => ?_)
  obtain ⟨z, rfl, rfl, rfl⟩ := h
  refine r_ishr C w.length dJ4_length_9 ((jI_shr (by omega) (by omega) (by omega) (by omega)).trans (by simp)) ?_
  exact r_ireturn C E dJ4_length_10 ⟨_, rfl, rfl, rfl⟩
theorem c_J6_checkIndexR (hG : Gok g) {i m : Int} {t : Nat} (h0 : 0 ≤ i) (h1 : i < m) (hm : m ≤ 2147483647) : XMet g yJ6_checkIndex cJ6_checkIndex 3 (some .int) 0 0 0 [.int (jI i), .int (jI m), .ref t] ws (pI (fun z w => z = i ∧ w = ws)) := by
  refine XMet.of (L := [some (.int (jI i)), some (.int (jI m)), some (.ref t)]) hG (by decide +kernel) (Nat.le_of_ble_eq_true rfl) rfl (fun K C E => ?_)
  refine r_iload_0 C dJ6_checkIndex_0 ?_
  refine r_iflt (tgt := 9) C dJ6_checkIndex_1 (by decide) (fun c => ?_) (fun c => ?_) (ha := by unfold inR; omega)
  · exfalso; omega
  · refine r_iload_0 C dJ6_checkIndex_4 ?_
    refine r_iload_1 C dJ6_checkIndex_5 ?_
    refine r_if_icmplt (tgt := 16) C dJ6_checkIndex_6 (by decide) (fun c => ?_) (fun c => ?_) (ha := by unfold inR; omega) (hb0 := by unfold inR; omega)
    · refine r_iload_0 C dJ6_checkIndex_16 ?_
      exact r_ireturn C E dJ6_checkIndex_17 ⟨_, rfl, rfl, rfl⟩
    · exfalso; omega
theorem c_J4_checkIndex (hG : Gok g) (T : GT g) {i m : Int} (h0 : 0 ≤ i) (h1 : i < m) (hm : m ≤ 2147483647) : XMet g yJ4_checkIndex cJ4_checkIndex 2 none 1 0 0 [.int (jI i), .int (jI m)] ws (pV (fun w => w = ws)) := by
  refine XMet.of (L := [some (.int (jI i)), some (.int (jI m))]) hG (by decide +kernel) (Nat.le_of_ble_eq_true rfl) rfl (fun K C E => ?_)
  refine r_iload_0 C dJ4_checkIndex_0 ?_
  refine r_iload_1 C dJ4_checkIndex_1 ?_
  refine r_getsq C (fun A U H h => (T A U H h).2) q501 dJ4_checkIndex_2 ?_ (fun t => ?_)
  · refine r_cS3i C (c_J6_checkIndex hG h0 h1 hm) q503 pkJ6_checkIndex dJ4_checkIndex_5 (fun z w h => ?_)
    obtain ⟨rfl, rfl⟩ := h
    refine r_pop C dJ4_checkIndex_8 ?_
    exact r_return C E dJ4_checkIndex_9 ⟨rfl, rfl⟩
  · refine r_cS3i C (c_J6_checkIndexR hG h0 h1 hm) q503 pkJ6_checkIndex dJ4_checkIndex_5 (fun z w h => ?_)
    obtain ⟨rfl, rfl⟩ := h
    refine r_pop C dJ4_checkIndex_8 ?_
    exact r_return C E dJ4_checkIndex_9 ⟨rfl, rfl⟩
theorem c_J5_charAt (hG : Gok g) (T : GT g) {v N : Nat} {i z0 : Int} {f : Nat → Value} (hZ : ∀ (A : Nat → Prop) (U : State) (H : Heap), g.2.2.2 A U H → va_T .byte v N f A U H) (h0 : 0 ≤ i) (h1 : i < N) (hN : N ≤ 100) (hz : f i.toNat = .int (jI z0)) (hz0 : 0 ≤ z0) (hz1 : z0 < 128) : XMet g yJ5_charAt cJ5_charAt 2 (some .char) 2 0 0 [.ref v, .int (jI i)] ws (pI (fun z w' => z = z0 ∧ w' = ws)) := by
  refine XMet.of (L := [some (.ref v), some (.int (jI i))]) hG (by decide +kernel) (Nat.le_of_ble_eq_true rfl) rfl (fun K C E => ?_)
  refine r_iload_1 C dJ5_charAt_0 ?_
  refine r_aload_0 C dJ5_charAt_1 ?_
  refine r_tlen C hZ dJ5_charAt_2 ?_
  refine r_cS2v C (c_J4_checkIndex hG T h0 h1 (by omega)) q498 pkJ4_checkIndex dJ5_charAt_3 (fun w h => ?_)
  subst h
  refine r_aload_0 C dJ5_charAt_6 ?_
  refine r_iload_1 C dJ5_charAt_7 ?_
  refine r_tbald C hZ dJ5_charAt_8 h0 h1 (by omega) hz ?_
  refine r_sipush C dJ5_charAt_9 ?_
  refine r_iand C z0 dJ5_charAt_12 ((and255 (by omega) (by omega)).trans (by rw [if_neg (by omega)])) ?_
  refine r_i2c C z0 dJ5_charAt_13 (chr_ok hz0 hz1) ?_
  exact r_nreturn C E dJ5_charAt_14 (nar_chr hz0 hz1) ⟨_, rfl, rfl, rfl⟩
theorem c_J4_charAt (hG : Gok g) (T : GT g) (S : StrG g a w) {i : Int} (h0 : 0 ≤ i) (h1 : i < w.length) : XMet g yJ4_charAt cJ4_charAt 2 (some .char) 3 0 0 [.ref a, .int (jI i)] ws (pI (fun z w' => z = w.getD i.toNat 0 ∧ w' = ws)) := by
  have S0 := S
  obtain ⟨hw, hl, v, S⟩ := S
  have hz := hw i.toNat (by omega)
  refine XMet.of (L := [some (.ref a), some (.int (jI i))]) hG (by decide +kernel) (Nat.le_of_ble_eq_true rfl) rfl (fun K C E => ?_)
  refine r_aload_0 C dJ4_charAt_0 ?_
  refine r_callVO C (av := []) (c_J4_isLatin1 hG T S0) (fun A U H h => (S A U H h).1) q491 pkJ4_isLatin1 (by decide) (Nat.zero_le _) (Nat.zero_le _) rfl (Nat.le_of_ble_eq_true rfl) dJ4_charAt_1 (fun r w' h => ?_)
  obtain ⟨z, rfl, rfl, rfl⟩ := h
  refine r_ifeq (tgt := 16) C dJ4_charAt_4 (by decide) (fun h => absurd h (by decide)) (fun _ => ?_)
  refine r_aload_0 C dJ4_charAt_7 ?_
  refine r_getO C (fun A U H h => (S A U H h).2.2.1) q2126 dJ4_charAt_8 ?_
  refine r_iload_1 C dJ4_charAt_11 ?_
  refine r_cS2i C (c_J5_charAt hG T (fun A U H h => (S A U H h).2.2.2) h0 h1 hl rfl hz.1 hz.2) q495 pkJ5_charAt dJ4_charAt_12 (fun z w' h => ?_)
  obtain ⟨rfl, rfl⟩ := h
  exact r_nreturn C E dJ4_charAt_15 (nar_chr hz.1 hz.2) ⟨_, rfl, rfl, rfl⟩
end Text
theorem r_len {g : GX} {K : KY} {d : Nat} {cc : ByteArray} {own : String} {ws : va_W} {k n pc idx a : Nat} {w : List Int} {L : List (Option Value)} {st : List Value} (C : Cok g K d cc own) (hG : Gok g) (T : GT g) (S : StrG g a w) (q : Cond.methodLink own idx yJ4_length ∈ lw_all) (dd : decode cc pc = .ok (.invokevirtual idx, 3)) (kk : AW g K ws k n (pc + 3) L (.int (jI w.length) :: st)) (hd : 1 < d := by omega) (hrm : (st.map fun v => v.category).sum ≤ 8 := by exact Nat.le_of_ble_eq_true rfl) : AW g K ws k n pc L (.ref a :: st) := by
  have S0 := S
  obtain ⟨-, -, v, S⟩ := S
  refine r_callVO C (av := []) (c_J4_length hG T S0) (fun A U H h => (S A U H h).1) q pkJ4_length hd (Nat.zero_le _) (Nat.zero_le _) (rest := st) rfl hrm dd (fun r w' h => ?_)
  obtain ⟨z, rfl, rfl, rfl⟩ := h
  exact kk
theorem r_chr {g : GX} {K : KY} {d : Nat} {cc : ByteArray} {own : String} {ws : va_W} {k n pc idx a : Nat} {w : List Int} {i : Int} {L : List (Option Value)} {st : List Value} (C : Cok g K d cc own) (hG : Gok g) (T : GT g) (S : StrG g a w) (h0 : 0 ≤ i) (h1 : i < w.length) (q : Cond.methodLink own idx yJ4_charAt ∈ lw_all) (dd : decode cc pc = .ok (.invokevirtual idx, 3)) (kk : AW g K ws k n (pc + 3) L (.int (jI (w.getD i.toNat 0)) :: st)) (hd : 3 < d := by omega) (hrm : (st.map fun v => v.category).sum ≤ 8 := by exact Nat.le_of_ble_eq_true rfl) : AW g K ws k n pc L (.int (jI i) :: .ref a :: st) := by
  have S0 := S
  obtain ⟨-, -, v, S⟩ := S
  refine r_callVO C (av := [.int (jI i)]) (c_J4_charAt hG T S0 h0 h1) (fun A U H h => (S A U H h).1) q pkJ4_charAt hd (Nat.zero_le _) (Nat.zero_le _) (rest := st) rfl hrm dd (fun r w' h => ?_)
  obtain ⟨z, rfl, rfl, rfl⟩ := h
  exact kk
