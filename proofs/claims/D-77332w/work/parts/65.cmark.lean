/-! PLAIN LAW: the component marks as the machine does. NAMES: mput mw_ wtA kc_ -/
set_option maxRecDepth 100000
/-- a Marking at p -/
def mput (p hp sk : Nat) (wt : Option Nat) (md ct tp sc ov : Int) (σ : mm_M) : mm_M := sE σ p (.inl (4, [vR (some hp), vR wt, vR (some sk), vI (J md), vI (J ct), vI (J tp), vI (J sc), vI (J ov)]))
theorem sE_sE {σ : mm_M} {p : Nat} {e e' : mm_E} : sE (sE σ p e) p e' = sE σ p e' := by
  unfold sE
  refine Prod.ext ?_ rfl
  funext b
  dsimp only
  by_cases h : b = p
  · rw [if_pos h, if_pos h]
  · rw [if_neg h, if_neg h, if_neg h]
section MW
variable {D : Nat → Int × Int} {c : Int → Int → mm_E} {σ : mm_M} {p hp sk : Nat} {wt : Option Nat} {md ct tp sc ov : Int}
theorem mw_cell (h : (D p).1 = -1) : (cput D c (mput p hp sk wt md ct tp sc ov σ)).1 p = some (.inl (4, [vR (some hp), vR wt, vR (some sk), vI (J md), vI (J ct), vI (J tp), vI (J sc), vI (J ov)])) := by
  rw [cput_o h]
  unfold mput sE
  dsimp only
  rw [if_pos rfl]
theorem mw_g0 (h : (D p).1 = -1) : gA (cput D c (mput p hp sk wt md ct tp sc ov σ)) p 4 0 = some hp := gA_at (mw_cell h) rfl
theorem mw_g1 (h : (D p).1 = -1) : gR (cput D c (mput p hp sk wt md ct tp sc ov σ)) p 4 1 = some wt := gR_at (mw_cell h) rfl
theorem mw_g2 (h : (D p).1 = -1) : gA (cput D c (mput p hp sk wt md ct tp sc ov σ)) p 4 2 = some sk := gA_at (mw_cell h) rfl
theorem mw_g3 (h : (D p).1 = -1) : gI (cput D c (mput p hp sk wt md ct tp sc ov σ)) p 4 3 = some (J md) := gI_at (mw_cell h) rfl
theorem mw_g4 (h : (D p).1 = -1) : gI (cput D c (mput p hp sk wt md ct tp sc ov σ)) p 4 4 = some (J ct) := gI_at (mw_cell h) rfl
theorem mw_g5 (h : (D p).1 = -1) : gI (cput D c (mput p hp sk wt md ct tp sc ov σ)) p 4 5 = some (J tp) := gI_at (mw_cell h) rfl
theorem mw_g6 (h : (D p).1 = -1) : gI (cput D c (mput p hp sk wt md ct tp sc ov σ)) p 4 6 = some (J sc) := gI_at (mw_cell h) rfl
theorem mw_g7 (h : (D p).1 = -1) : gI (cput D c (mput p hp sk wt md ct tp sc ov σ)) p 4 7 = some (J ov) := gI_at (mw_cell h) rfl
theorem mw_ck (h : (D p).1 = -1) : ck (cput D c (mput p hp sk wt md ct tp sc ov σ)) p 4 = some () := ck_at (mw_cell h)
theorem mw_p4 (h : (D p).1 = -1) {v : Int} : pF (cput D c (mput p hp sk wt md ct tp sc ov σ)) p 4 4 (vI (J v)) = some (cput D c (mput p hp sk wt md v tp sc ov σ)) := by
  rw [pF_at (mw_cell h) (by simp), cput_sO h]
  unfold mput
  rw [sE_sE]
  rfl
theorem mw_p5 (h : (D p).1 = -1) {v : Int} : pF (cput D c (mput p hp sk wt md ct tp sc ov σ)) p 4 5 (vI (J v)) = some (cput D c (mput p hp sk wt md ct v sc ov σ)) := by
  rw [pF_at (mw_cell h) (by simp), cput_sO h]
  unfold mput
  rw [sE_sE]
  rfl
theorem mw_p6 (h : (D p).1 = -1) {v : Int} : pF (cput D c (mput p hp sk wt md ct tp sc ov σ)) p 4 6 (vI (J v)) = some (cput D c (mput p hp sk wt md ct tp v ov σ)) := by
  rw [pF_at (mw_cell h) (by simp), cput_sO h]
  unfold mput
  rw [sE_sE]
  rfl
theorem mw_p7 (h : (D p).1 = -1) {v : Int} : pF (cput D c (mput p hp sk wt md ct tp sc ov σ)) p 4 7 (vI (J v)) = some (cput D c (mput p hp sk wt md ct tp sc v σ)) := by
  rw [pF_at (mw_cell h) (by simp), cput_sO h]
  unfold mput
  rw [sE_sE]
  rfl
end MW
/-- the object that is left out -/
def wtA (G : Int → Int → Nat) (w : Int) : Option Nat := if w = -1 then none else some (G 0 w)
/-- the component's stack holds the machine's -/
def SK (G : Int → Int → Nat) (skk : Nat → Option Nat) (A : AM) : Prop := ∀ k, 0 ≤ k → k < A.2.2.1 → skk k.toNat = some (G 0 (A.2.1 k))
section T1
variable {m hd : Int → Int} {adk nfk ndk pnk agk mkk rok wek plk txk : Int → Int} {flk dtk : Int → Int → Int} {hwk dpk alk cok fek lnk tlk rfk : Int} {rpk : Option Nat} {mok : Int32} {eak cpk : Nat} {elk owk skk slk : Nat → Option Nat} {hsk : Int64} {D : Nat → Int × Int} {G : Int → Int → Nat} {σ : mm_M} {p : Nat} {w md sc : Int}
theorem KM.mk {F : Int → Int} {S : Nat → Option Nat} (h : (KM m hd D G adk nfk ndk pnk agk mkk flk dtk hwk dpk alk cok fek rpk rok wek plk mok eak lnk cpk elk owk skk txk tlk rfk slk hsk)) : (KM m hd D G adk nfk ndk pnk agk F flk dtk hwk dpk alk cok fek rpk rok wek plk mok eak lnk cpk elk owk S txk tlk rfk slk hsk) := h
theorem kc_reachA (hg : HU D G) (hu : XU D G) (hp : (D p).1 = -1) (hk : (KM m hd D G adk nfk ndk pnk agk mkk flk dtk hwk dpk alk cok fek rpk rok wek plk mok eak lnk cpk elk owk skk txk tlk rfk slk hsk)) (hw : w = -1 ∨ TH D G w) (hmd : md ≤ 200) {A : AM} (hA : IA m md A) {S : Nat → Option Nat} (hS : SK G S A) {o : Int} (ho : hdr m o) : ∃ S', f_X4_reach p (if o = -1 then none else some (G 0 o)) (cput D (cel G adk nfk ndk pnk agk A.1 flk dtk hwk dpk alk cok fek rpk rok wek plk mok eak lnk cpk elk owk S txk tlk rfk slk hsk) (mput p (G 3 6) (G 3 8) (wtA G w) md A.2.2.1 A.2.2.2.1 sc A.2.2.2.2 σ)) = some (cput D (cel G adk nfk ndk pnk agk ((rcA md w o A).1) flk dtk hwk dpk alk cok fek rpk rok wek plk mok eak lnk cpk elk owk S' txk tlk rfk slk hsk) (mput p (G 3 6) (G 3 8) (wtA G w) md (rcA md w o A).2.2.1 (rcA md w o A).2.2.2.1 sc (rcA md w o A).2.2.2.2 σ)) ∧ SK G S' (rcA md w o A) := by
  obtain ⟨h1, h2, h3, h4, h5, h6⟩ := hA
  unfold f_X4_reach
  by_cases c0 : o = -1
  · have e : rcA md w o A = A := if_pos (Or.inl c0)
    rw [if_pos c0, e]
    exact ⟨S, rfl, hS⟩
  · rcases ho with ho | ⟨o1, o2, o3⟩
    · exact absurd ho c0
    have hth := (hk.th o1 o2 o3).1
    rw [if_neg c0, mt_s]
    by_cases c1 : A.1 o = 1
    · have e : rcA md w o A = A := if_pos (Or.inr (Or.inl c1))
      rw [e]
      refine ⟨S, ?_, hS⟩
      simp (disch := first | assumption | exact HU.lu (by assumption) | exact cw_okn | exact cw_ok3 (by assumption) | exact cw_ok5 (by assumption) | omega) only [J_add, J_sub, J_mul, J_neg, J_lit, J_lt, J_le, J_eq, Option.bind_some, Int.reduceAdd, Int.reduceSub, Int.reduceMul, Int.reduceNeg, Int.reduceEq, Int.reduceLT, Int.reduceLE, reduceIte, Int.zero_add, Int.add_zero, and_self, true_and, and_true, false_and, and_false, or_true, true_or, or_false, false_or, not_true_eq_false, not_false_eq_true, ne_eq, b2_s, cw_gadk, cw_gpnk, cw_gagk, cw_gmkk, cw_gfl, cw_gdt, cw_kth, cw_afl, cw_nfl, cw_adt, cw_ndt, cw_gmok, cw_geak, cw_glnk, cw_k0, cw_k6, cw_k7, cw_aowk, cw_aelk, cw_askk, cw_aslk, cw_nelk, cw_arok, cw_nrok, cw_awek, cw_nwek, cw_aplk, cw_nplk, cw_atxk, cw_ntxk, cw_ghwk, cw_gdpk, cw_galk, cw_gcok, cw_gfek, cw_h2, cw_h3, cw_h4, cw_h5, cw_h10, cw_grpk, cw_x0, cw_x1, cw_x2, cw_x5, cw_gtlk, cw_grfk, cw_ghsk, cw_padk, cw_pagk, cw_pmkk, cw_ppnk, cw_zpnk, cw_sfl, cw_sdt, cw_pmok, cw_peak, cw_plnk, cw_sowk, cw_selk, cw_sskk, cw_sslk, cw_srok, cw_swek, cw_splk, cw_palk, cw_pcok, cw_pfek, cw_prpk, cw_ptlk, cw_prfk, cw_phsk, cw_stxk, cw_ok3, cw_ok5, cw_okn, c1]
    · have c1' : A.1 o = 0 := by have := h1 o o1 o2; omega
      have hinj : (some (G 0 o) = wtA G w) = (o = w) := by
        apply propext
        unfold wtA
        rcases hw with hw | hw
        · rw [if_pos hw]
          exact ⟨fun q => (by cases q), fun q => absurd (q.trans hw) c0⟩
        · by_cases hw1 : w = -1
          · rw [if_pos hw1]
            exact ⟨fun q => (by cases q), fun q => absurd (q.trans hw1) c0⟩
          · rw [if_neg hw1]
            constructor
            · intro q
              have q1 := hth.1
              unfold GU at q1
              rw [Option.some.inj q, hw.1] at q1
              exact (congrArg Prod.snd q1).symm
            · intro q
              rw [q]
      by_cases c2 : o = w
      · have e : rcA md w o A = A := if_pos (Or.inr (Or.inr c2))
        rw [e]
        refine ⟨S, ?_, hS⟩
        simp (disch := first | assumption | exact HU.lu (by assumption) | exact cw_okn | exact cw_ok3 (by assumption) | exact cw_ok5 (by assumption) | omega) only [J_add, J_sub, J_mul, J_neg, J_lit, J_lt, J_le, J_eq, Option.bind_some, Int.reduceAdd, Int.reduceSub, Int.reduceMul, Int.reduceNeg, Int.reduceEq, Int.reduceLT, Int.reduceLE, reduceIte, Int.zero_add, Int.add_zero, and_self, true_and, and_true, false_and, and_false, or_true, true_or, or_false, false_or, not_true_eq_false, not_false_eq_true, ne_eq, b2_s, cw_gadk, cw_gpnk, cw_gagk, cw_gmkk, cw_gfl, cw_gdt, cw_kth, cw_afl, cw_nfl, cw_adt, cw_ndt, cw_gmok, cw_geak, cw_glnk, cw_k0, cw_k6, cw_k7, cw_aowk, cw_aelk, cw_askk, cw_aslk, cw_nelk, cw_arok, cw_nrok, cw_awek, cw_nwek, cw_aplk, cw_nplk, cw_atxk, cw_ntxk, cw_ghwk, cw_gdpk, cw_galk, cw_gcok, cw_gfek, cw_h2, cw_h3, cw_h4, cw_h5, cw_h10, cw_grpk, cw_x0, cw_x1, cw_x2, cw_x5, cw_gtlk, cw_grfk, cw_ghsk, cw_padk, cw_pagk, cw_pmkk, cw_ppnk, cw_zpnk, cw_sfl, cw_sdt, cw_pmok, cw_peak, cw_plnk, cw_sowk, cw_selk, cw_sskk, cw_sslk, cw_srok, cw_swek, cw_splk, cw_palk, cw_pcok, cw_pfek, cw_prpk, cw_ptlk, cw_prfk, cw_phsk, cw_stxk, cw_ok3, cw_ok5, cw_okn, c1', mw_g1 hp, hinj, if_pos c2]
      · have c3 : ¬ (o = -1 ∨ A.1 o = 1 ∨ o = w) := by omega
        have hum := um_up o1 o2 (F := A.1) (by omega)
        have hub := um_b (up A.1 o 1)
        by_cases c4 : A.2.2.1 = md
        · have e : rcA md w o A = _ := (if_neg c3).trans (if_pos c4)
          rw [e]
          refine ⟨S, ?_, hS⟩
          simp (disch := first | assumption | exact HU.lu (by assumption) | exact cw_okn | exact cw_ok3 (by assumption) | exact cw_ok5 (by assumption) | omega) only [J_add, J_sub, J_mul, J_neg, J_lit, J_lt, J_le, J_eq, Option.bind_some, Int.reduceAdd, Int.reduceSub, Int.reduceMul, Int.reduceNeg, Int.reduceEq, Int.reduceLT, Int.reduceLE, reduceIte, Int.zero_add, Int.add_zero, and_self, true_and, and_true, false_and, and_false, or_true, true_or, or_false, false_or, not_true_eq_false, not_false_eq_true, ne_eq, b2_s, cw_gadk, cw_gpnk, cw_gagk, cw_gmkk, cw_gfl, cw_gdt, cw_kth, cw_afl, cw_nfl, cw_adt, cw_ndt, cw_gmok, cw_geak, cw_glnk, cw_k0, cw_k6, cw_k7, cw_aowk, cw_aelk, cw_askk, cw_aslk, cw_nelk, cw_arok, cw_nrok, cw_awek, cw_nwek, cw_aplk, cw_nplk, cw_atxk, cw_ntxk, cw_ghwk, cw_gdpk, cw_galk, cw_gcok, cw_gfek, cw_h2, cw_h3, cw_h4, cw_h5, cw_h10, cw_grpk, cw_x0, cw_x1, cw_x2, cw_x5, cw_gtlk, cw_grfk, cw_ghsk, cw_padk, cw_pagk, cw_pmkk, cw_ppnk, cw_zpnk, cw_sfl, cw_sdt, cw_pmok, cw_peak, cw_plnk, cw_sowk, cw_selk, cw_sskk, cw_sslk, cw_srok, cw_swek, cw_splk, cw_palk, cw_pcok, cw_pfek, cw_prpk, cw_ptlk, cw_prfk, cw_phsk, cw_stxk, cw_ok3, cw_ok5, cw_okn, c1', mw_g1 hp, hinj, if_neg c2, mw_g4 hp, mw_g3 hp, if_pos c4, mw_p7 hp]
        · have e : rcA md w o A = _ := (if_neg c3).trans (if_neg c4)
          rw [e]
          refine ⟨va_up S A.2.2.1.toNat (some (G 0 o)), ?_, fun k k1 k2 => ?_⟩
          · by_cases c5 : A.2.2.2.1 < A.2.2.1 + 1
            · simp (disch := first | assumption | exact HU.lu (by assumption) | exact cw_okn | exact cw_ok3 (by assumption) | exact cw_ok5 (by assumption) | omega) only [J_add, J_sub, J_mul, J_neg, J_lit, J_lt, J_le, J_eq, Option.bind_some, Int.reduceAdd, Int.reduceSub, Int.reduceMul, Int.reduceNeg, Int.reduceEq, Int.reduceLT, Int.reduceLE, reduceIte, Int.zero_add, Int.add_zero, and_self, true_and, and_true, false_and, and_false, or_true, true_or, or_false, false_or, not_true_eq_false, not_false_eq_true, ne_eq, b2_s, cw_gadk, cw_gpnk, cw_gagk, cw_gmkk, cw_gfl, cw_gdt, cw_kth, cw_afl, cw_nfl, cw_adt, cw_ndt, cw_gmok, cw_geak, cw_glnk, cw_k0, cw_k6, cw_k7, cw_aowk, cw_aelk, cw_askk, cw_aslk, cw_nelk, cw_arok, cw_nrok, cw_awek, cw_nwek, cw_aplk, cw_nplk, cw_atxk, cw_ntxk, cw_ghwk, cw_gdpk, cw_galk, cw_gcok, cw_gfek, cw_h2, cw_h3, cw_h4, cw_h5, cw_h10, cw_grpk, cw_x0, cw_x1, cw_x2, cw_x5, cw_gtlk, cw_grfk, cw_ghsk, cw_padk, cw_pagk, cw_pmkk, cw_ppnk, cw_zpnk, cw_sfl, cw_sdt, cw_pmok, cw_peak, cw_plnk, cw_sowk, cw_selk, cw_sskk, cw_sslk, cw_srok, cw_swek, cw_splk, cw_palk, cw_pcok, cw_pfek, cw_prpk, cw_ptlk, cw_prfk, cw_phsk, cw_stxk, cw_ok3, cw_ok5, cw_okn, c1', mw_g1 hp, hinj, if_neg c2, mw_g4 hp, mw_g3 hp, if_neg c4, mw_g2 hp, mw_p4 hp, mw_g5 hp, mw_p5 hp, if_pos c5, if_neg (show ¬ A.2.2.1 + 1 ≤ A.2.2.2.1 by omega)]
            · simp (disch := first | assumption | exact HU.lu (by assumption) | exact cw_okn | exact cw_ok3 (by assumption) | exact cw_ok5 (by assumption) | omega) only [J_add, J_sub, J_mul, J_neg, J_lit, J_lt, J_le, J_eq, Option.bind_some, Int.reduceAdd, Int.reduceSub, Int.reduceMul, Int.reduceNeg, Int.reduceEq, Int.reduceLT, Int.reduceLE, reduceIte, Int.zero_add, Int.add_zero, and_self, true_and, and_true, false_and, and_false, or_true, true_or, or_false, false_or, not_true_eq_false, not_false_eq_true, ne_eq, b2_s, cw_gadk, cw_gpnk, cw_gagk, cw_gmkk, cw_gfl, cw_gdt, cw_kth, cw_afl, cw_nfl, cw_adt, cw_ndt, cw_gmok, cw_geak, cw_glnk, cw_k0, cw_k6, cw_k7, cw_aowk, cw_aelk, cw_askk, cw_aslk, cw_nelk, cw_arok, cw_nrok, cw_awek, cw_nwek, cw_aplk, cw_nplk, cw_atxk, cw_ntxk, cw_ghwk, cw_gdpk, cw_galk, cw_gcok, cw_gfek, cw_h2, cw_h3, cw_h4, cw_h5, cw_h10, cw_grpk, cw_x0, cw_x1, cw_x2, cw_x5, cw_gtlk, cw_grfk, cw_ghsk, cw_padk, cw_pagk, cw_pmkk, cw_ppnk, cw_zpnk, cw_sfl, cw_sdt, cw_pmok, cw_peak, cw_plnk, cw_sowk, cw_selk, cw_sskk, cw_sslk, cw_srok, cw_swek, cw_splk, cw_palk, cw_pcok, cw_pfek, cw_prpk, cw_ptlk, cw_prfk, cw_phsk, cw_stxk, cw_ok3, cw_ok5, cw_okn, c1', mw_g1 hp, hinj, if_neg c2, mw_g4 hp, mw_g3 hp, if_neg c4, mw_g2 hp, mw_p4 hp, mw_g5 hp, mw_p5 hp, if_neg c5, if_pos (show A.2.2.1 + 1 ≤ A.2.2.2.1 by omega)]
          · dsimp only at k2 ⊢
            unfold va_up
            by_cases hk9 : k = A.2.2.1
            · rw [hk9, up_s, if_pos rfl]
            · rw [up_n hk9, if_neg (by omega)]
              exact hS k k1 (by omega)
theorem kc_drainA (hg : HU D G) (hu : XU D G) (hm : WF m) (hp : (D p).1 = -1) (hk : (KM m hd D G adk nfk ndk pnk agk mkk flk dtk hwk dpk alk cok fek rpk rok wek plk mok eak lnk cpk elk owk skk txk tlk rfk slk hsk)) (hw : w = -1 ∨ TH D G w) (hmd : md ≤ 200) {A : AM} (hA : IA m md A) {S : Nat → Option Nat} (hS : SK G S A) : ∃ S', f_X4_drain p (cput D (cel G adk nfk ndk pnk agk A.1 flk dtk hwk dpk alk cok fek rpk rok wek plk mok eak lnk cpk elk owk S txk tlk rfk slk hsk) (mput p (G 3 6) (G 3 8) (wtA G w) md A.2.2.1 A.2.2.2.1 sc A.2.2.2.2 σ)) = some (cput D (cel G adk nfk ndk pnk agk ((drA m md w A).1) flk dtk hwk dpk alk cok fek rpk rok wek plk mok eak lnk cpk elk owk S' txk tlk rfk slk hsk) (mput p (G 3 6) (G 3 8) (wtA G w) md (drA m md w A).2.2.1 (drA m md w A).2.2.2.1 sc (drA m md w A).2.2.2.2 σ)) ∧ SK G S' (drA m md w A) := by
  unfold f_X4_drain
  rw [lgo_l]
  obtain ⟨s', h1, hI, S', hS', rfl⟩ := lpx_fl (f := s_X4_drain p) (c := fun A : AM => 0 < A.2.2.1) (g := popA m md w) (fun A s => IA m md A ∧ ∃ S, SK G S A ∧ s = .inl (cput D (cel G adk nfk ndk pnk agk A.1 flk dtk hwk dpk alk cok fek rpk rok wek plk mok eak lnk cpk elk owk S txk tlk rfk slk hsk) (mput p (G 3 6) (G 3 8) (wtA G w) md A.2.2.1 A.2.2.2.1 sc A.2.2.2.2 σ))) (by
    rintro B s ⟨hB, S, hS, rfl⟩ hc
    have hB0 := hB
    obtain ⟨h1, h2, h3, h4, h5, h6⟩ := hB
    obtain ⟨a1, a2, a3⟩ := h5 (B.2.2.1 - 1) (by omega) (by omega)
    have hF := hm.hf _ a1 a2 a3
    have hum := um_b B.1
    have hsv := hS (B.2.2.1 - 1) (by omega) (by omega)
    have hpg := (popA_g (w := w) hB0 hc).1
    have hI0 : IA m md (B.1, B.2.1, B.2.2.1 - 1, B.2.2.2.1, B.2.2.2.2) := ⟨h1, ⟨by dsimp only; omega, by dsimp only; omega⟩, h3, h4, fun k k1 k2 => h5 k k1 (by dsimp only at k2; omega), by dsimp only; omega⟩
    unfold popA at hpg ⊢
    generalize hav : B.2.1 (B.2.2.1 - 1) = a at a1 a2 a3 hF hsv hpg ⊢
    obtain ⟨t1, t2, t3, t4, t5, t6, t7, t8⟩ := hk.th a1 a2 a3
    obtain ⟨s2, e1, e2, S2, hS2, rfl⟩ := lpx_itr (f := s_X4_drain p) (g := fun f E => rcA md w (oo9 m (m (800 + a + 1 + f))) E) (fun k E s => IA m md E ∧ ∃ S, SK G S E ∧ s = .inr (G 1 a, J (m (200 + a)), J k, (cput D (cel G adk nfk ndk pnk agk E.1 flk dtk hwk dpk alk cok fek rpk rok wek plk mok eak lnk cpk elk owk S txk tlk rfk slk hsk) (mput p (G 3 6) (G 3 8) (wtA G w) md E.2.2.1 E.2.2.2.1 sc E.2.2.2.2 σ)))) (m (200 + a)).toNat (by
      rintro k E s hk9 ⟨hE, S, hS, rfl⟩
      have hr := hm.hq a (1 + k) a1 a2 a3 (by omega) (by omega)
      rw [show 800 + a + (1 + (k : Int)) = 800 + a + 1 + k by omega] at hr
      have hb9 := rf_ir hm hr
      obtain ⟨S', q1, q2⟩ := kc_reachA (σ := σ) (sc := sc) (hd := hd) (adk := adk) (nfk := nfk) (ndk := ndk) (pnk := pnk) (agk := agk) (mkk := mkk) (flk := flk) (dtk := dtk) (hwk := hwk) (dpk := dpk) (alk := alk) (cok := cok) (fek := fek) (rpk := rpk) (rok := rok) (wek := wek) (plk := plk) (owk := owk) (skk := skk) (txk := txk) (tlk := tlk) (rfk := rfk) (slk := slk) (hsk := hsk) (mok := mok) (eak := eak) (lnk := lnk) (cpk := cpk) (elk := elk) hg hu hp hk hw hmd hE hS (oo9_h m (m (800 + a + 1 + k)))
      refine ⟨.inr (G 1 a, J (m (200 + a)), J (k + 1 : Nat), (cput D (cel G adk nfk ndk pnk agk ((rcA md w (oo9 m (m (800 + a + 1 + k))) E).1) flk dtk hwk dpk alk cok fek rpk rok wek plk mok eak lnk cpk elk owk S' txk tlk rfk slk hsk) (mput p (G 3 6) (G 3 8) (wtA G w) md (rcA md w (oo9 m (m (800 + a + 1 + k))) E).2.2.1 (rcA md w (oo9 m (m (800 + a + 1 + k))) E).2.2.2.1 sc (rcA md w (oo9 m (m (800 + a + 1 + k))) E).2.2.2.2 σ))), ?_, (rcA_g hE (oo9_h m _)).1, S', q2, rfl⟩
      refine lpx_n ?_
      have htg : f_X1_target (G 3 6) (J (m (800 + a + 1 + k))) (cput D (cel G adk nfk ndk pnk agk E.1 flk dtk hwk dpk alk cok fek rpk rok wek plk mok eak lnk cpk elk owk S txk tlk rfk slk hsk) (mput p (G 3 6) (G 3 8) (wtA G w) md E.2.2.1 E.2.2.2.1 sc E.2.2.2.2 σ)) = some (if oo9 m (m (800 + a + 1 + k)) = -1 then none else some (G 0 (oo9 m (m (800 + a + 1 + k))))) := kc_target (hd := hd) hg hk.mk hr hb9.1 hb9.2
      unfold s_X4_drain g_X4_drain_38
      dsimp only
      simp (disch := first | assumption | exact HU.lu (by assumption) | exact cw_okn | exact cw_ok3 (by assumption) | exact cw_ok5 (by assumption) | omega) only [J_add, J_sub, J_mul, J_neg, J_lit, J_lt, J_le, J_eq, Option.bind_some, Int.reduceAdd, Int.reduceSub, Int.reduceMul, Int.reduceNeg, Int.reduceEq, Int.reduceLT, Int.reduceLE, reduceIte, Int.zero_add, Int.add_zero, and_self, true_and, and_true, false_and, and_false, or_true, true_or, or_false, false_or, not_true_eq_false, not_false_eq_true, ne_eq, b2_s, cw_gadk, cw_gpnk, cw_gagk, cw_gmkk, cw_gfl, cw_gdt, cw_kth, cw_afl, cw_nfl, cw_adt, cw_ndt, cw_gmok, cw_geak, cw_glnk, cw_k0, cw_k6, cw_k7, cw_aowk, cw_aelk, cw_askk, cw_aslk, cw_nelk, cw_arok, cw_nrok, cw_awek, cw_nwek, cw_aplk, cw_nplk, cw_atxk, cw_ntxk, cw_ghwk, cw_gdpk, cw_galk, cw_gcok, cw_gfek, cw_h2, cw_h3, cw_h4, cw_h5, cw_h10, cw_grpk, cw_x0, cw_x1, cw_x2, cw_x5, cw_gtlk, cw_grfk, cw_ghsk, cw_padk, cw_pagk, cw_pmkk, cw_ppnk, cw_zpnk, cw_sfl, cw_sdt, cw_pmok, cw_peak, cw_plnk, cw_sowk, cw_selk, cw_sskk, cw_sslk, cw_srok, cw_swek, cw_splk, cw_palk, cw_pcok, cw_pfek, cw_prpk, cw_ptlk, cw_prfk, cw_phsk, cw_stxk, cw_ok3, cw_ok5, cw_okn, if_neg (show ¬ m (200 + a) ≤ (k : Int) by omega), t3, t7 k (by omega) (by omega), mw_g0 hp, htg, mw_ck hp, q1]
      rfl) (B.1, B.2.1, B.2.2.1 - 1, B.2.2.2.1, B.2.2.2.2) (.inr (G 1 a, J (m (200 + a)), J 0, (cput D (cel G adk nfk ndk pnk agk (((B.1, B.2.1, B.2.2.1 - 1, B.2.2.2.1, B.2.2.2.2)).1) flk dtk hwk dpk alk cok fek rpk rok wek plk mok eak lnk cpk elk owk S txk tlk rfk slk hsk) (mput p (G 3 6) (G 3 8) (wtA G w) md ((B.1, B.2.1, B.2.2.1 - 1, B.2.2.2.1, B.2.2.2.2)).2.2.1 ((B.1, B.2.1, B.2.2.1 - 1, B.2.2.2.1, B.2.2.2.2)).2.2.2.1 sc ((B.1, B.2.1, B.2.2.1 - 1, B.2.2.2.1, B.2.2.2.2)).2.2.2.2 σ)))) ⟨hI0, S, fun k k1 k2 => hS k k1 (by dsimp only at k2; omega), rfl⟩
    refine ⟨_, ?_, hpg, S2, hS2, rfl⟩
    rw [lpx_n (s' := .inr (G 1 a, J (m (200 + a)), J 0, (cput D (cel G adk nfk ndk pnk agk (((B.1, B.2.1, B.2.2.1 - 1, B.2.2.2.1, B.2.2.2.2)).1) flk dtk hwk dpk alk cok fek rpk rok wek plk mok eak lnk cpk elk owk S txk tlk rfk slk hsk) (mput p (G 3 6) (G 3 8) (wtA G w) md ((B.1, B.2.1, B.2.2.1 - 1, B.2.2.2.1, B.2.2.2.2)).2.2.1 ((B.1, B.2.1, B.2.2.1 - 1, B.2.2.2.1, B.2.2.2.2)).2.2.2.1 sc ((B.1, B.2.1, B.2.2.1 - 1, B.2.2.2.1, B.2.2.2.2)).2.2.2.2 σ)))) (by
      unfold s_X4_drain g_X4_drain_0
      dsimp only
      simp (disch := first | assumption | exact HU.lu (by assumption) | exact cw_okn | exact cw_ok3 (by assumption) | exact cw_ok5 (by assumption) | omega) only [J_add, J_sub, J_mul, J_neg, J_lit, J_lt, J_le, J_eq, Option.bind_some, Int.reduceAdd, Int.reduceSub, Int.reduceMul, Int.reduceNeg, Int.reduceEq, Int.reduceLT, Int.reduceLE, reduceIte, Int.zero_add, Int.add_zero, and_self, true_and, and_true, false_and, and_false, or_true, true_or, or_false, false_or, not_true_eq_false, not_false_eq_true, ne_eq, b2_s, cw_gadk, cw_gpnk, cw_gagk, cw_gmkk, cw_gfl, cw_gdt, cw_kth, cw_afl, cw_nfl, cw_adt, cw_ndt, cw_gmok, cw_geak, cw_glnk, cw_k0, cw_k6, cw_k7, cw_aowk, cw_aelk, cw_askk, cw_aslk, cw_nelk, cw_arok, cw_nrok, cw_awek, cw_nwek, cw_aplk, cw_nplk, cw_atxk, cw_ntxk, cw_ghwk, cw_gdpk, cw_galk, cw_gcok, cw_gfek, cw_h2, cw_h3, cw_h4, cw_h5, cw_h10, cw_grpk, cw_x0, cw_x1, cw_x2, cw_x5, cw_gtlk, cw_grfk, cw_ghsk, cw_padk, cw_pagk, cw_pmkk, cw_ppnk, cw_zpnk, cw_sfl, cw_sdt, cw_pmok, cw_peak, cw_plnk, cw_sowk, cw_selk, cw_sskk, cw_sslk, cw_srok, cw_swek, cw_splk, cw_palk, cw_pcok, cw_pfek, cw_prpk, cw_ptlk, cw_prfk, cw_phsk, cw_stxk, cw_ok3, cw_ok5, cw_okn, mw_g4 hp, if_neg (show ¬ B.2.2.1 ≤ 0 by omega), mw_p4 hp, mw_g2 hp, hsv, t3])]
    rw [e1]
    refine lpx_n ?_
    unfold s_X4_drain g_X4_drain_38
    dsimp only
    simp (disch := first | assumption | exact HU.lu (by assumption) | exact cw_okn | exact cw_ok3 (by assumption) | exact cw_ok5 (by assumption) | omega) only [J_add, J_sub, J_mul, J_neg, J_lit, J_lt, J_le, J_eq, Option.bind_some, Int.reduceAdd, Int.reduceSub, Int.reduceMul, Int.reduceNeg, Int.reduceEq, Int.reduceLT, Int.reduceLE, reduceIte, Int.zero_add, Int.add_zero, and_self, true_and, and_true, false_and, and_false, or_true, true_or, or_false, false_or, not_true_eq_false, not_false_eq_true, ne_eq, b2_s, cw_gadk, cw_gpnk, cw_gagk, cw_gmkk, cw_gfl, cw_gdt, cw_kth, cw_afl, cw_nfl, cw_adt, cw_ndt, cw_gmok, cw_geak, cw_glnk, cw_k0, cw_k6, cw_k7, cw_aowk, cw_aelk, cw_askk, cw_aslk, cw_nelk, cw_arok, cw_nrok, cw_awek, cw_nwek, cw_aplk, cw_nplk, cw_atxk, cw_ntxk, cw_ghwk, cw_gdpk, cw_galk, cw_gcok, cw_gfek, cw_h2, cw_h3, cw_h4, cw_h5, cw_h10, cw_grpk, cw_x0, cw_x1, cw_x2, cw_x5, cw_gtlk, cw_grfk, cw_ghsk, cw_padk, cw_pagk, cw_pmkk, cw_ppnk, cw_zpnk, cw_sfl, cw_sdt, cw_pmok, cw_peak, cw_plnk, cw_sowk, cw_selk, cw_sskk, cw_sslk, cw_srok, cw_swek, cw_splk, cw_palk, cw_pcok, cw_pfek, cw_prpk, cw_ptlk, cw_prfk, cw_phsk, cw_stxk, cw_ok3, cw_ok5, cw_okn, if_pos (show m (200 + a) ≤ ((m (200 + a)).toNat : Int) by omega)]) 1000 A (.inl (cput D (cel G adk nfk ndk pnk agk A.1 flk dtk hwk dpk alk cok fek rpk rok wek plk mok eak lnk cpk elk owk S txk tlk rfk slk hsk) (mput p (G 3 6) (G 3 8) (wtA G w) md A.2.2.1 A.2.2.2.1 sc A.2.2.2.2 σ))) ⟨hA, S, hS, rfl⟩
  refine ⟨S', ?_, hS'⟩
  rw [h1]
  refine lpx_d ?_
  have h9 := (drA_g (w := w) hA).2
  unfold drA at h9 ⊢
  unfold s_X4_drain g_X4_drain_0
  dsimp only
  simp (disch := first | assumption | exact HU.lu (by assumption) | exact cw_okn | exact cw_ok3 (by assumption) | exact cw_ok5 (by assumption) | omega) only [J_add, J_sub, J_mul, J_neg, J_lit, J_lt, J_le, J_eq, Option.bind_some, Int.reduceAdd, Int.reduceSub, Int.reduceMul, Int.reduceNeg, Int.reduceEq, Int.reduceLT, Int.reduceLE, reduceIte, Int.zero_add, Int.add_zero, and_self, true_and, and_true, false_and, and_false, or_true, true_or, or_false, false_or, not_true_eq_false, not_false_eq_true, ne_eq, b2_s, cw_gadk, cw_gpnk, cw_gagk, cw_gmkk, cw_gfl, cw_gdt, cw_kth, cw_afl, cw_nfl, cw_adt, cw_ndt, cw_gmok, cw_geak, cw_glnk, cw_k0, cw_k6, cw_k7, cw_aowk, cw_aelk, cw_askk, cw_aslk, cw_nelk, cw_arok, cw_nrok, cw_awek, cw_nwek, cw_aplk, cw_nplk, cw_atxk, cw_ntxk, cw_ghwk, cw_gdpk, cw_galk, cw_gcok, cw_gfek, cw_h2, cw_h3, cw_h4, cw_h5, cw_h10, cw_grpk, cw_x0, cw_x1, cw_x2, cw_x5, cw_gtlk, cw_grfk, cw_ghsk, cw_padk, cw_pagk, cw_pmkk, cw_ppnk, cw_zpnk, cw_sfl, cw_sdt, cw_pmok, cw_peak, cw_plnk, cw_sowk, cw_selk, cw_sskk, cw_sslk, cw_srok, cw_swek, cw_splk, cw_palk, cw_pcok, cw_pfek, cw_prpk, cw_ptlk, cw_prfk, cw_phsk, cw_stxk, cw_ok3, cw_ok5, cw_okn, mw_g4 hp, h9]
theorem kc_startA (hg : HU D G) (hu : XU D G) (hm : WF m) (hp : (D p).1 = -1) (hk : (KM m hd D G adk nfk ndk pnk agk mkk flk dtk hwk dpk alk cok fek rpk rok wek plk mok eak lnk cpk elk owk skk txk tlk rfk slk hsk)) (hw : w = -1 ∨ TH D G w) (hmd : md ≤ 200) {A : AM} (hA : IA m md A) {S : Nat → Option Nat} (hS : SK G S A) {o : Int} (ho : hdr m o) : ∃ S', f_X4_start p (if o = -1 then none else some (G 0 o)) (cput D (cel G adk nfk ndk pnk agk A.1 flk dtk hwk dpk alk cok fek rpk rok wek plk mok eak lnk cpk elk owk S txk tlk rfk slk hsk) (mput p (G 3 6) (G 3 8) (wtA G w) md A.2.2.1 A.2.2.2.1 sc A.2.2.2.2 σ)) = some (cput D (cel G adk nfk ndk pnk agk ((stA m md w o A).1) flk dtk hwk dpk alk cok fek rpk rok wek plk mok eak lnk cpk elk owk S' txk tlk rfk slk hsk) (mput p (G 3 6) (G 3 8) (wtA G w) md (stA m md w o A).2.2.1 (stA m md w o A).2.2.2.1 sc (stA m md w o A).2.2.2.2 σ)) ∧ SK G S' (stA m md w o A) := by
  obtain ⟨S1, e1, e2⟩ := kc_reachA (σ := σ) (sc := sc) (hd := hd) (adk := adk) (nfk := nfk) (ndk := ndk) (pnk := pnk) (agk := agk) (mkk := mkk) (flk := flk) (dtk := dtk) (hwk := hwk) (dpk := dpk) (alk := alk) (cok := cok) (fek := fek) (rpk := rpk) (rok := rok) (wek := wek) (plk := plk) (owk := owk) (skk := skk) (txk := txk) (tlk := tlk) (rfk := rfk) (slk := slk) (hsk := hsk) (mok := mok) (eak := eak) (lnk := lnk) (cpk := cpk) (elk := elk) hg hu hp hk hw hmd hA hS ho
  obtain ⟨S2, e3, e4⟩ := kc_drainA (σ := σ) (sc := sc) (hd := hd) (adk := adk) (nfk := nfk) (ndk := ndk) (pnk := pnk) (agk := agk) (mkk := mkk) (flk := flk) (dtk := dtk) (hwk := hwk) (dpk := dpk) (alk := alk) (cok := cok) (fek := fek) (rpk := rpk) (rok := rok) (wek := wek) (plk := plk) (owk := owk) (skk := skk) (txk := txk) (tlk := tlk) (rfk := rfk) (slk := slk) (hsk := hsk) (mok := mok) (eak := eak) (lnk := lnk) (cpk := cpk) (elk := elk) hg hu hm hp hk hw hmd (rcA_g (w := w) hA ho).1 e2
  refine ⟨S2, ?_, e4⟩
  unfold f_X4_start
  rw [mw_ck hp, Option.bind_some, e1, Option.bind_some, mw_ck hp, Option.bind_some, e3, Option.bind_some]
  rfl
end T1
