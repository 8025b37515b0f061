/-! the reader: the whole text -/
theorem rPad_q1 {T : Int → Int} {n : Int} {s : RS} : (rPad T n s).1 = (qPlc T n s.2.1 (s.2.1 5) s.1).2 := by
  unfold rPad rPa1
  split
  · rfl
  · rfl
theorem rLod_q1 {T : Int → Int} {n : Int} {s : RS} : (rLod T n s).1 = (qGrp T n (qTld T n kDraws 1 99 (qPlc T n s.2.1 s.2.2.1 s.1).2).2).2 := by
  unfold rLod rLd2 rLd1
  split
  · rfl
  · rfl
theorem rBud_q1 {T : Int → Int} {n : Int} {s : RS} : (rBud T n s).1 = (qTld T n kIs 0 999 (qTak T n 0 3 (qBu1 s.2.2.2 s.1)).2).2 := by
  unfold rBud rBu3 rBu2
  split
  · rfl
  · rfl
section R5
variable {g : GX} {ws : va_W} {T : Int → Int} {qt : Nat}
variable {r tp : Nat} {τ : Nat → Nat} {n ap bg tk vl dw bd : Int} {wd fr to ld gr bu : Int → Int} {c rw lm we ss pd ln md sz : Int} {el : Nat → Option Nat}
theorem c_X6_reads (hG : Gok g) {e1 e2 : Nat} (W : GEn g e1 e2) (TT : GT g) (TH : GTh g) {κ : Nat → Nat} (GR : GRs g κ) {q : Q6} (ht : ws[qt]? = some (tp, .inl (g.2.2.1 2, 700, .inl (arI T)))) (hn : n ≤ 700) (hT : TpOk T) (hq : QOk n q) (hk : q.2.2.2.2.1 = 0) (hv : q.2.2.1 = 2 → vl = q.2.2.2.1) {F : Int → Int} {f : RS} {kk : Nat} (hR : RI n (q, F, dw, bd)) (hW : TW F dw wd fr to ld gr bu c rw lm we ss pd ln) (hr : rRun T n kk (q, F, dw, bd) f) : XMetT g yX6_reads cX6_reads 1 (some (.object "SupplyGrid$Told")) (10) [.ref r] (wRd g r tp τ n (q.1) (q.2.1) (q.2.2.1) vl dw bd wd fr to ld gr bu c rw lm we ss pd ln md sz el ++ ws) (pA (fun a ww => a = τ 0 ∧ f.1.2.2.2.2.1 = 0 ∧ ∃ (vl : Int) (wd fr to ld gr bu : Int → Int) (c rw lm we ss pd ln : Int), TW f.2.1 f.2.2.1 wd fr to ld gr bu c rw lm we ss pd ln ∧ ww = (wRd g r tp τ n ((f.1).1) ((f.1).2.1) ((f.1).2.2.1) vl (f.2.2.1) (f.2.2.2) wd fr to ld gr bu c rw lm we ss pd ln md sz el ++ ws))) (pTq ws f.1) := by
  refine XMetT.of (L := [some (.ref r)]) hG (by decide +kernel) (Nat.le_of_ble_eq_true rfl) rfl (fun K C E => ?_)
  have key : ∀ (kk : Nat) (q : Q6) (F : Int → Int) (dw bd vl : Int) (wd fr to ld gr bu : Int → Int) (c rw lm we ss pd ln : Int), rRun T n kk (q, F, dw, bd) f → q.2.2.2.2.1 = 0 → RI n (q, F, dw, bd) → TW F dw wd fr to ld gr bu c rw lm we ss pd ln → (q.2.2.1 = 2 → vl = q.2.2.2.1) → AW g K (wRd g r tp τ n (q.1) (q.2.1) (q.2.2.1) vl dw bd wd fr to ld gr bu c rw lm we ss pd ln md sz el ++ ws) 1 8 0 [some (.ref r)] [] := by
    intro kk
    induction kk with
    | zero =>
      intro q F dw bd vl wd fr to ld gr bu c rw lm we ss pd ln hr hk hR hW hv
      obtain ⟨hr1, hr2⟩ := hr
      have hqt := hR.1.2.2.1
      have hqt2 : 0 ≤ q.2.2.1 ∧ q.2.2.1 ≤ 4 := hqt
      refine r_aload_0 C dX6_reads_0 ?_
      refine gR_token C q437 dX6_reads_1 ?_
      refine r_ifeq (tgt := 153) C dX6_reads_4 (by decide) (fun c_4 => ?_) (fun c_4 => ?_)
      · skip
        refine r_aload_0 C dX6_reads_153 ?_
        refine gR_t C q434 dX6_reads_154 ?_
        obtain ⟨K', hC', E', hb'⟩ := E.back
        refine hb' (r_areturn (hC' C) E' (Or.inl ⟨_, rfl⟩) dX6_reads_157 ?_)
        rw [hr2]
        exact ⟨_, rfl, rfl, hk, vl, wd, fr, to, ld, gr, bu, c, rw, lm, we, ss, pd, ln, hW, rfl⟩
      · skip
        exact absurd ⟨hk, c_4⟩ hr1
    | succ kk ih =>
      intro q F dw bd vl wd fr to ld gr bu c rw lm we ss pd ln hr hk hR hW hv
      obtain ⟨⟨hr0, hr1⟩, hr2⟩ := hr
      have hq : QOk n q := hR.1
      have hqt : 0 ≤ q.2.2.1 ∧ q.2.2.1 ≤ 4 := hq.2.2.1
      have hqa := hq.1
      have hdw : 0 ≤ dw ∧ dw < 512 := hR.2.1
      have hbd : 0 ≤ bd ∧ bd < 16 := hR.2.2.1
      have hF4 : 0 ≤ F 4 ∧ F 4 ≤ q.1 := hR.2.2.2.1
      have hZ : F 4 = 0 → Zw F := hR.2.2.2.2.1
      have hD : F 4 ≠ 0 → Gd F := hR.2.2.2.2.2
      have hln := hW.1.ln
      have hok := rTxt_ok (T := T) hn hR
      have thr : ∀ s1 : RS, rTxt T n (q, F, dw, bd) = rTx1 T n s1 → ∀ a ww, pTq ws s1.1 a ww → pTq ws f.1 a ww := fun s1 es a ww h => by
        have e1 := rTx1_bad (T := T) (n := n) h.1
        have e2 : f.1 = s1.1 := by rw [rRun_bad hr2 (by rw [es, e1]; exact h.1), es, e1]
        rw [e2]
        exact h
      have j115 : ∀ (s1 : RS) (vl : Int) (wd fr to ld gr bu : Int → Int) (c rw lm we ss pd ln : Int), rTxt T n (q, F, dw, bd) = rTx1 T n s1 → s1.1.2.2.2.2.1 = 0 → QOk n s1.1 → (0 ≤ ln ∧ ln ≤ 1000) → TW (aset s1.2.1 4 (s1.2.1 4 + 1)) s1.2.2.1 wd fr to ld gr bu c rw lm we ss pd (ln + 1) → (s1.1.2.2.1 = 2 → vl = s1.1.2.2.2.1) → AW g K (wRd g r tp τ n ((s1.1).1) ((s1.1).2.1) ((s1.1).2.2.1) vl (s1.2.2.1) (s1.2.2.2) wd fr to ld gr bu c rw lm we ss pd ln md sz el ++ ws) 1 8 115 [some (.ref r)] [] := by
        intro s1 vl wd fr to ld gr bu c rw lm we ss pd ln es hk1 hqo hln hW1 hv1
        have hqt1 := hqo.2.2.1
        have j133 : s1.1.2.2.1 = 3 → AW g K (wRd g r tp τ n ((s1.1).1) ((s1.1).2.1) ((s1.1).2.2.1) vl (s1.2.2.1) (s1.2.2.2) wd fr to ld gr bu c rw lm we ss pd ln md sz el ++ ws) 1 8 133 [some (.ref r)] [] := by
          intro h3
          have eg := rTx1_good (T := T) (n := n) hk1 h3
          rw [es, eg] at hr2 hok
          refine r_aload_0 C dX6_reads_133 ?_
          refine r_cV0v C (c_X6_next hG ht hn hqo.1 hT) (q0 := 0) rfl rfl q419 pkX6_next dX6_reads_134 (fun w h => ?_)
          obtain ⟨vl3, hvl3, rfl⟩ := h
          refine r_aload_0 C dX6_reads_137 ?_
          refine gR_t C q434 dX6_reads_138 ?_
          refine r_dup C dX6_reads_141 ?_
          refine gRT_lines C q247 dX6_reads_142 ?_
          refine r_iconst C dX6_reads_145 ?_
          refine r_iadd C dX6_reads_146 ?_
          refine pRT_lines C q247 dX6_reads_147 ?_
          refine r_goto (tgt := 0) C dX6_reads_150 (by decide) ?_
          exact ih (qAdv T n s1.1) (aset s1.2.1 4 (s1.2.1 4 + 1)) s1.2.2.1 s1.2.2.2 vl3 wd fr to ld gr bu c rw lm we ss pd (ln + 1) hr2 hk1 (hok hk1).1 hW1 (fun z => (hvl3 z).trans (if_pos z).symm)
        refine r_aload_0 C dX6_reads_115 ?_
        refine r_aload_0 C dX6_reads_116 ?_
        refine gR_token C q437 dX6_reads_117 ?_
        refine r_iconst C dX6_reads_120 ?_
        refine r_if_icmpne (tgt := 128) C dX6_reads_121 (by decide) (fun c_121 => ?_) (fun c_121 => ?_)
        · skip
          refine r_iconst C dX6_reads_128 ?_
          refine r_iconst C dX6_reads_129 ?_
          refine r_cT2v C E (c_X6_must hG TH (by first | exact Or.inl rfl | exact Or.inr rfl)) (q0 := 0) rfl rfl q525 pkX6_must dX6_reads_130 (fun a ww h => by
            have hw : s1.1.2.2.1 ≠ 3 := by first | exact c_121 | exact absurd h.1 (by decide)
            have e1 := rTx1_no (T := T) (n := n) hk1 hw
            have e2 : f.1 = qErr 1 s1.1 := by rw [rRun_bad hr2 (by rw [es, e1]; exact qErr_nz hk1 (by decide)), es, e1]
            rw [e2]
            exact pTq_err hk1 (by decide) h.2) (fun w h => ?_)
          obtain ⟨h1, rfl⟩ := h
          first
            | exact absurd h1 (by decide)
            | exact j133 c_121
            | exact j133 (Classical.byContradiction c_121)
        · skip
          refine r_iconst C dX6_reads_124 ?_
          refine r_goto (tgt := 129) C dX6_reads_125 (by decide) ?_
          refine r_iconst C dX6_reads_129 ?_
          refine r_cT2v C E (c_X6_must hG TH (by first | exact Or.inl rfl | exact Or.inr rfl)) (q0 := 0) rfl rfl q525 pkX6_must dX6_reads_130 (fun a ww h => by
            have hw : s1.1.2.2.1 ≠ 3 := by first | exact c_121 | exact absurd h.1 (by decide)
            have e1 := rTx1_no (T := T) (n := n) hk1 hw
            have e2 : f.1 = qErr 1 s1.1 := by rw [rRun_bad hr2 (by rw [es, e1]; exact qErr_nz hk1 (by decide)), es, e1]
            rw [e2]
            exact pTq_err hk1 (by decide) h.2) (fun w h => ?_)
          obtain ⟨h1, rfl⟩ := h
          first
            | exact absurd h1 (by decide)
            | exact j133 c_121
            | exact j133 (Classical.byContradiction c_121)
      have eIs : ∀ w : List Int, qIs T w q = isWb T q.1 q.2.1 q.2.2.1 w := fun w => by
        unfold qIs
        rw [decide_eq_true hk, Bool.true_and]
      have j24 : F 4 ≠ 0 → AW g K (wRd g r tp τ n (q.1) (q.2.1) (q.2.2.1) vl dw bd wd fr to ld gr bu c rw lm we ss pd ln md sz el ++ ws) 1 8 24 [some (.ref r)] [] := by
        intro h40
        have hd := hD h40
        have hg := hd.g
        have h9 := hg.2.2
        have hp5 := hd.p5
        have hcc := hW.1.c
        have hrr := hW.1.r
        have hpp := hW.1.pd
        have hSS : ss = sN (F 0) (F 1) := hW.1.s hd
        have hEN := hW.1.en hd.l.1
        have eT : rTxt T n (q, F, dw, bd) = rTx1 T n (rLin T n (q, F, dw, bd)) := by
          unfold rTxt
          rw [if_neg h40]
        subst hpp
        refine r_aload_0 C dX6_reads_24 ?_
        refine r_ldcS C (GR.at 175 kStrap (by decide)).1 dX6_reads_25 ?_
        refine r_cV1i C (c_X6_is hG TT (GR.at 175 kStrap (by decide)).2 ht hn hT hq.1 hq.2.1 hq.2.2.1) (q0 := 0) rfl rfl q473 pkX6_is dX6_reads_27 (fun z w h => ?_)
        obtain ⟨rfl, rfl⟩ := h
        refine r_ifeqB (tgt := 40) C dX6_reads_30 (by decide) (fun c_30 => ?_) (fun c_30 => ?_)
        · skip
          refine r_aload_0 C dX6_reads_40 ?_
          refine r_ldcS C (GR.at 179 kPad (by decide)).1 dX6_reads_41 ?_
          refine r_cV1i C (c_X6_is hG TT (GR.at 179 kPad (by decide)).2 ht hn hT hq.1 hq.2.1 hq.2.2.1) (q0 := 0) rfl rfl q473 pkX6_is dX6_reads_43 (fun z w h => ?_)
          obtain ⟨rfl, rfl⟩ := h
          refine r_ifeqB (tgt := 77) C dX6_reads_46 (by decide) (fun c_46 => ?_) (fun c_46 => ?_)
          · skip
            refine r_aload_0 C dX6_reads_77 ?_
            refine r_ldcS C (GR.at 184 kLoad (by decide)).1 dX6_reads_78 ?_
            refine r_cV1i C (c_X6_is hG TT (GR.at 184 kLoad (by decide)).2 ht hn hT hq.1 hq.2.1 hq.2.2.1) (q0 := 0) rfl rfl q473 pkX6_is dX6_reads_80 (fun z w h => ?_)
            obtain ⟨rfl, rfl⟩ := h
            refine r_ifeqB (tgt := 93) C dX6_reads_83 (by decide) (fun c_83 => ?_) (fun c_83 => ?_)
            · skip
              refine r_aload_0 C dX6_reads_93 ?_
              refine r_ldcS C (GR.at 187 kBudget (by decide)).1 dX6_reads_94 ?_
              refine r_cV1i C (c_X6_is hG TT (GR.at 187 kBudget (by decide)).2 ht hn hT hq.1 hq.2.1 hq.2.2.1) (q0 := 0) rfl rfl q473 pkX6_is dX6_reads_96 (fun z w h => ?_)
              obtain ⟨rfl, rfl⟩ := h
              refine r_ifeqB (tgt := 109) C dX6_reads_99 (by decide) (fun c_99 => ?_) (fun c_99 => ?_)
              · skip
                have hi1 : ¬ qIs T kStrap q = true := by rw [eIs]; exact c_30
                have hi2 : ¬ qIs T kPad q = true := by rw [eIs]; exact c_46
                have hi3 : ¬ qIs T kLoad q = true := by rw [eIs]; exact c_83
                have hi4 : ¬ qIs T kBudget q = true := by rw [eIs]; exact c_99
                have eL : rLin T n (q, F, dw, bd) = (qErr 1 q, F, dw, bd) := (if_neg hi1).trans ((if_neg hi2).trans ((if_neg hi3).trans (if_neg hi4)))
                rw [eL] at eT
                refine r_aload_0 C dX6_reads_109 ?_
                refine r_iconst C dX6_reads_110 ?_
                refine r_iconst C dX6_reads_111 ?_
                refine r_cT2v C E (c_X6_must hG TH (Or.inl rfl)) (q0 := 0) rfl rfl q525 pkX6_must dX6_reads_112 (fun a ww h => thr _ eT a ww (pTq_err hk (by decide) h.2)) (fun w h => ?_)
                exact absurd h.1 (by decide)
              · skip
                have hi1 : ¬ qIs T kStrap q = true := by rw [eIs]; exact c_30
                have hi2 : ¬ qIs T kPad q = true := by rw [eIs]; exact c_46
                have hi3 : ¬ qIs T kLoad q = true := by rw [eIs]; exact c_83
                have hi : qIs T kBudget q = true := by rw [eIs]; exact c_99
                have eL : rLin T n (q, F, dw, bd) = rBud T n (qAdv T n q, F, dw, bd) := (if_neg hi1).trans ((if_neg hi2).trans ((if_neg hi3).trans (if_pos hi)))
                rw [eL] at eT
                refine r_aload_0 C dX6_reads_102 ?_
                refine r_cT0v C E (c_X6_budget hG TT TH GR ht hn hT hq hk hv hbd) (q0 := 0) rfl rfl q679 pkX6_budget dX6_reads_103 (fun a ww h => thr _ eT a ww (by rw [rBud_q1]; exact h)) (fun w h => ?_)
                obtain ⟨h1, vl2, hv2, rfl⟩ := h
                refine r_goto (tgt := 115) C dX6_reads_106 (by decide) ?_
                have hm1 := qTld_in h1
                have hx := qTak_in hm1.1
                have eP : rBud T n (qAdv T n q, F, dw, bd) = ((qTld T n kIs 0 999 (qTak T n 0 3 (qBu1 bd (qAdv T n q))).2).2, aset F (24 + (qTak T n 0 3 (qBu1 bd (qAdv T n q))).1) (qTld T n kIs 0 999 (qTak T n 0 3 (qBu1 bd (qAdv T n q))).2).1, dw, bsO bd (bsP (qTak T n 0 3 (qBu1 bd (qAdv T n q))).1)) := if_pos h1
                have hx1 : 0 ≤ (qTak T n 0 3 (qBu1 bd (qAdv T n q))).1 ∧ (qTak T n 0 3 (qBu1 bd (qAdv T n q))).1 ≤ 3 := by
                  rw [hx.2.2.2]
                  exact hx.2.2.1
                rw [eP] at eT
                exact j115 _ vl2 wd fr to ld gr _ c rw lm we ss _ ln eT h1 hq.adv.bu1.tak.tld (by omega) (hW.bud hd (by omega) hx1.1 (by omega) hm1.2) hv2
            · skip
              have hi1 : ¬ qIs T kStrap q = true := by rw [eIs]; exact c_30
              have hi2 : ¬ qIs T kPad q = true := by rw [eIs]; exact c_46
              have hi : qIs T kLoad q = true := by rw [eIs]; exact c_83
              have eL : rLin T n (q, F, dw, bd) = rLod T n (qAdv T n q, F, dw, bd) := (if_neg hi1).trans ((if_neg hi2).trans (if_pos hi))
              rw [eL] at eT
              have hpr := qPlc_r (T := T) (n := n) (fr := F) (but := dw) (q := qAdv T n q) hg
              refine r_aload_0 C dX6_reads_86 ?_
              refine r_cT0v C E (c_X6_load hG TT TH GR ht hn hT hq hk hv hdw hcc hrr hg) (q0 := 0) rfl rfl q672 pkX6_load dX6_reads_87 (fun a ww h => thr _ eT a ww (by rw [rLod_q1]; exact h)) (fun w h => ?_)
              obtain ⟨h1, vl2, hv2, rfl⟩ := h
              refine r_goto (tgt := 115) C dX6_reads_90 (by decide) ?_
              have hg1 := qGrp_in h1
              have hm1 := qTld_in hg1.1
              have hp1 := qPlc_in hg.2.1 hm1.1
              have eP : rLod T n (qAdv T n q, F, dw, bd) = ((qGrp T n (qTld T n kDraws 1 99 (qPlc T n F dw (qAdv T n q)).2).2).2, aset (aset F (6 + (qPlc T n F dw (qAdv T n q)).1) (qTld T n kDraws 1 99 (qPlc T n F dw (qAdv T n q)).2).1) (15 + (qPlc T n F dw (qAdv T n q)).1) (qGrp T n (qTld T n kDraws 1 99 (qPlc T n F dw (qAdv T n q)).2).2).1, bsO dw (bsP (qPlc T n F dw (qAdv T n q)).1), bd) := if_pos h1
              rw [eP] at eT
              refine j115 _ vl2 wd fr to _ _ bu c rw lm we ss _ ln eT h1 hq.adv.plc.tld.grp (by omega) (hW.lod hd (by omega) hpr.1 (by omega) (by have := hm1.2; omega) hg1.2 hp1.2 (fun z => ?_)) hv2
              unfold qGrp
              rw [if_neg (by rw [z]; decide)]
          · skip
            have hi1 : ¬ qIs T kStrap q = true := by rw [eIs]; exact c_30
            have hi : qIs T kPad q = true := by rw [eIs]; exact c_46
            have eL : rLin T n (q, F, dw, bd) = rPad T n (qAdv T n q, F, dw, bd) := (if_neg hi1).trans (if_pos hi)
            rw [eL] at eT
            have hpr := qPlc_r (T := T) (n := n) (fr := F) (but := F 5) (q := qAdv T n q) hg
            have hP0 := bsP_0 (k := (qPlc T n F (F 5) (qAdv T n q)).1)
            refine r_aload_0 C dX6_reads_49 ?_
            refine gR_t C q434 dX6_reads_50 ?_
            refine r_dup C dX6_reads_53 ?_
            refine gRT_pads C q243 dX6_reads_54 ?_
            refine r_iconst C dX6_reads_57 ?_
            refine r_aload_0 C dX6_reads_58 ?_
            refine r_aload_0 C dX6_reads_59 ?_
            refine gR_t C q434 dX6_reads_60 ?_
            refine gRT_pads C q243 dX6_reads_63 ?_
            refine r_cT1i C E (c_X6_place hG TT TH GR ht hn hT hq hk hv (by omega) hcc hrr hg) (q0 := 0) rfl rfl q652 pkX6_place dX6_reads_66 (fun a ww h => thr _ eT a ww (by rw [rPad_q1]; exact h)) (fun z w h => ?_)
            obtain ⟨⟨rfl, h1⟩, vl2, hv2, rfl⟩ := h
            refine r_ishl C (bsP (qPlc T n F (F 5) (qAdv T n q)).1) dX6_reads_69 (jI_shl hpr.1 (by omega)) ?_
            refine r_ior C (bsO (F 5) (bsP (qPlc T n F (F 5) (qAdv T n q)).1)) dX6_reads_70 (jI_or hp5.1 (by omega)) ?_
            refine pRT_pads C q243 dX6_reads_71 ?_
            refine r_goto (tgt := 115) C dX6_reads_74 (by decide) ?_
            have eP : rPad T n (qAdv T n q, F, dw, bd) = ((qPlc T n F (F 5) (qAdv T n q)).2, aset F 5 (bsO (F 5) (bsP (qPlc T n F (F 5) (qAdv T n q)).1)), dw, bd) := if_pos h1
            rw [eP] at eT
            exact j115 _ vl2 wd fr to ld gr bu c rw lm we ss _ ln eT h1 hq.adv.plc (by omega) (hW.pad hd (by omega) (NSet.O hd.pads (NSet.P hpr.1 hpr.2))) hv2
        · skip
          have hi : qIs T kStrap q = true := by rw [eIs]; exact c_30
          have eL : rLin T n (q, F, dw, bd) = rStr T n (qAdv T n q, F, dw, bd) := if_pos hi
          rw [eL] at eT
          refine r_aload_0 C dX6_reads_33 ?_
          refine r_cT0v C E (c_X6_strap hG W TT TH GR ht hn hT hq hk hv hcc hrr hg hSS hEN) (q0 := 0) rfl rfl q648 pkX6_strap dX6_reads_34 (fun a ww h => thr _ eT a ww h) (fun w h => ?_)
          obtain ⟨h1, vl2, hv2, rfl⟩ := h
          refine r_goto (tgt := 115) C dX6_reads_37 (by decide) ?_
          have hpr := qPlc_r (T := T) (n := n) (fr := F) (but := 0) (q := qAdv T n q) hg
          have hin := qSt4_in h1
          have hko := kOf_ok hg hpr.1 hpr.2 hin.2.1
          have eF : fSt T n F (qPlc T n F 0 (qAdv T n q)) = aset F (28 + kOf (F 0) (F 1) (qPlc T n F 0 (qAdv T n q)).1 (toW (F 0) (qPlc T n F 0 (qAdv T n q)).1 (qIs T kEast (qPlc T n F 0 (qAdv T n q)).2))) (qSt4 T n F (qPlc T n F 0 (qAdv T n q))).1 := if_pos h1
          refine j115 (rStr T n (qAdv T n q, F, dw, bd)) vl2 _ fr to ld gr bu c rw lm we ss _ ln eT h1 (QOk.str (s := (qAdv T n q, F, dw, bd)) hq.adv) (by omega) ?_ hv2
          show TW (aset (fSt T n F (qPlc T n F 0 (qAdv T n q))) 4 (fSt T n F (qPlc T n F 0 (qAdv T n q)) 4 + 1)) dw _ fr to ld gr bu c rw lm we ss _ (ln + 1)
          rw [eF]
          exact hW.str hd (by omega) hko.1 hko.2 hin.2.2
      refine r_aload_0 C dX6_reads_0 ?_
      refine gR_token C q437 dX6_reads_1 ?_
      refine r_ifeq (tgt := 153) C dX6_reads_4 (by decide) (fun c_4 => ?_) (fun c_4 => ?_)
      · skip
        exact absurd c_4 hr1
      · skip
        refine r_aload_0 C dX6_reads_7 ?_
        refine gR_t C q434 dX6_reads_8 ?_
        refine gRT_lines C q247 dX6_reads_11 ?_
        refine r_ifne (tgt := 24) C dX6_reads_14 (by decide) (fun c_14 => ?_) (fun c_14 => ?_)
        · skip
          exact j24 (fun z => c_14 (hln.trans z))
        · skip
          have h40 : F 4 = 0 := hln.symm.trans c_14
          have hz := hZ h40
          have hss : ss = 0 := by rw [hW.1.st, if_neg (by omega)]
          have eT : rTxt T n (q, F, dw, bd) = rTx1 T n (rFst T n (q, F, dw, bd)) := by
            unfold rTxt
            rw [if_pos h40]
          subst hss
          refine r_aload_0 C dX6_reads_17 ?_
          refine r_cT0v C E (c_X6_grid hG W TT TH GR ht hn hT hq hk hv) (q0 := 0) rfl rfl q464 pkX6_grid dX6_reads_18 (fun a ww h => thr _ eT a ww (by rw [rFst_q1]; exact h)) (fun w h => ?_)
          obtain ⟨h5, vl5, wd', fr', to', hv5, ⟨hA, hB⟩, rfl⟩ := h
          refine r_goto (tgt := 115) C dX6_reads_21 (by decide) ?_
          have i5 := qTld_in h5
          have i4 := qTld_in i5.1
          have i3 := qTld_in i4.1
          have i2' := qFi3_in (T := T) (n := n) (x := qFi2 T n q)
          have i1 : (qFi2 T n q).2.2.2.2.2.1 = 0 := Classical.byContradiction fun z => by
            have := i3.1
            rw [qFi3_bad z] at this
            exact z this
          have i0 := qTld_in (T := T) (n := n) (q := qExp T n kGrid q) i1
          have i2 := i2' i0.2.1 i3.1
          have eF := rFst_q (T := T) (n := n) (s := (q, F, dw, bd)) h5
          rw [eF] at eT
          exact j115 _ vl5 wd' fr' to' ld gr bu _ _ _ _ _ pd ln eT h5 hq.fi2.fi3.tld.tld.tld (by omega) (hW.fst hz i2.2 i3.2 i4.2 i5.2 hA hB) hv5
  exact key kk q F dw bd vl wd fr to ld gr bu c rw lm we ss pd ln hr hk hR hW hv
end R5

