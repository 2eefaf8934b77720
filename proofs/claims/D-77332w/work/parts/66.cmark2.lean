/-! PLAIN LAW: the component's scan and mark. NAMES: kc_ cel_mk -/
set_option maxRecDepth 100000
section T1
variable {m hd : Int → Int} {adk nfk ndk pnk agk mkk rok wek plk txk : Int → Int} {flk dtk : Int → Int → Int} {hwk dpk alk cok fek lnk tlk rfk : Int} {rpk : Option Nat} {mok : Int32} {eak cpk : Nat} {elk owk skk slk : Nat → Option Nat} {hsk : Int64} {D : Nat → Int × Int} {G : Int → Int → Nat} {σ : mm_M} {p : Nat} {w md sc : Int}
theorem cel_mk {F : Int → Int} (h : ∀ b a, D b = (0, a) → mkk a = F a) : (cput D (cel G adk nfk ndk pnk agk mkk flk dtk hwk dpk alk cok fek rpk rok wek plk mok eak lnk cpk elk owk skk txk tlk rfk slk hsk) σ) = (cput D (cel G adk nfk ndk pnk agk F flk dtk hwk dpk alk cok fek rpk rok wek plk mok eak lnk cpk elk owk skk txk tlk rfk slk hsk) σ) := by
  unfold cput
  refine Prod.ext ?_ rfl
  funext b
  dsimp only
  by_cases hb : (D b).1 = -1
  · rw [if_pos hb, if_pos hb]
  · rw [if_neg hb, if_neg hb]
    unfold cel
    by_cases h0 : (D b).1 = 0
    · rw [if_pos h0, if_pos h0, h b (D b).2 (Prod.ext h0 rfl)]
    · rw [if_neg h0, if_neg h0]
theorem kc_scanA (hg : HU D G) (hu : XU D G) (hm : WF m) (hp : (D p).1 = -1) (hk : (KM m hd D G adk nfk ndk pnk agk mkk flk dtk hwk dpk alk cok fek rpk rok wek plk mok eak lnk cpk elk owk skk txk tlk rfk slk hsk)) (hw : w = -1 ∨ TH D G w) (hmd : md ≤ 200) {A : AM} (hA : IE m md A) {S : Nat → Option Nat} (hS : SK G S A) : ∃ S', f_X4_scan p (cput D (cel G adk nfk ndk pnk agk A.1 flk dtk hwk dpk alk cok fek rpk rok wek plk mok eak lnk cpk elk owk S txk tlk rfk slk hsk) (mput p (G 3 6) (G 3 8) (wtA G w) md A.2.2.1 A.2.2.2.1 sc A.2.2.2.2 σ)) = some (cput D (cel G adk nfk ndk pnk agk ((scA m md w A).1) flk dtk hwk dpk alk cok fek rpk rok wek plk mok eak lnk cpk elk owk S' txk tlk rfk slk hsk) (mput p (G 3 6) (G 3 8) (wtA G w) md (scA m md w A).2.2.1 (scA m md w A).2.2.2.1 (sc + 1) (scA m md w A).2.2.2.2 σ)) ∧ SK G S' (scA m md w A) := by
  have hW := hm.hW
  have hls := hk.ls
  have hhd := hk.hs
  have hls0 := hls
  obtain ⟨⟨l1, l2, l3, l4⟩, l5, l6⟩ := hls0
  have hI0 : IE m md (A.1, A.2.1, A.2.2.1, A.2.2.2.1, 0) := ⟨⟨hA.1.1, hA.1.2.1, hA.1.2.2.1, Or.inl rfl, hA.1.2.2.2.2.1, hA.1.2.2.2.2.2⟩, hA.2⟩
  have hsc : scA m md w A = itr (fun k => scO m md w (hd k)) lnk.toNat (A.1, A.2.1, A.2.2.1, A.2.2.2.1, 0) := itr_hd hm hhd l1 (scO m md w) (fun a x _ _ a3 => if_neg (fun q => a3 q.1)) _
  rw [hsc]
  unfold f_X4_scan
  have h0 : g_X4_scan_0 p (cput D (cel G adk nfk ndk pnk agk A.1 flk dtk hwk dpk alk cok fek rpk rok wek plk mok eak lnk cpk elk owk S txk tlk rfk slk hsk) (mput p (G 3 6) (G 3 8) (wtA G w) md A.2.2.1 A.2.2.2.1 sc A.2.2.2.2 σ)) = some (.inl (.inl (J 0, (cput D (cel G adk nfk ndk pnk agk (((A.1, A.2.1, A.2.2.1, A.2.2.2.1, (0 : Int))).1) flk dtk hwk dpk alk cok fek rpk rok wek plk mok eak lnk cpk elk owk S txk tlk rfk slk hsk) (mput p (G 3 6) (G 3 8) (wtA G w) md ((A.1, A.2.1, A.2.2.1, A.2.2.2.1, (0 : Int))).2.2.1 ((A.1, A.2.1, A.2.2.1, A.2.2.2.1, (0 : Int))).2.2.2.1 (sc + 1) ((A.1, A.2.1, A.2.2.1, A.2.2.2.1, (0 : Int))).2.2.2.2 σ))))) := by
    unfold g_X4_scan_0
    simp (disch := first | assumption | exact HU.lu (by assumption) | exact cw_okn | exact cw_ok3 (by assumption) | exact cw_ok5 (by assumption) | omega) only [J_add, J_sub, J_mul, J_neg, J_lit, J_lt, J_le, J_eq, Option.bind_some, Int.reduceAdd, Int.reduceSub, Int.reduceMul, Int.reduceNeg, Int.reduceEq, Int.reduceLT, Int.reduceLE, reduceIte, Int.zero_add, Int.add_zero, and_self, true_and, and_true, false_and, and_false, or_true, true_or, or_false, false_or, not_true_eq_false, not_false_eq_true, ne_eq, b2_s, cw_gadk, cw_gpnk, cw_gagk, cw_gmkk, cw_gfl, cw_gdt, cw_kth, cw_afl, cw_nfl, cw_adt, cw_ndt, cw_gmok, cw_geak, cw_glnk, cw_k0, cw_k6, cw_k7, cw_aowk, cw_aelk, cw_askk, cw_aslk, cw_nelk, cw_arok, cw_nrok, cw_awek, cw_nwek, cw_aplk, cw_nplk, cw_atxk, cw_ntxk, cw_ghwk, cw_gdpk, cw_galk, cw_gcok, cw_gfek, cw_h2, cw_h3, cw_h4, cw_h5, cw_h10, cw_grpk, cw_x0, cw_x1, cw_x2, cw_x5, cw_gtlk, cw_grfk, cw_ghsk, cw_padk, cw_pagk, cw_pmkk, cw_ppnk, cw_zpnk, cw_sfl, cw_sdt, cw_pmok, cw_peak, cw_plnk, cw_sowk, cw_selk, cw_sskk, cw_sslk, cw_srok, cw_swek, cw_splk, cw_palk, cw_pcok, cw_pfek, cw_prpk, cw_ptlk, cw_prfk, cw_phsk, cw_stxk, cw_ok3, cw_ok5, cw_okn, mw_p7 hp, mw_g6 hp, mw_p6 hp]
  rw [h0, lgo_l]
  obtain ⟨s', h1, hI, S', hS', rfl⟩ := lpx_itr (f := s_X4_scan p) (g := fun k => scO m md w (hd k)) (fun k B s => IE m md B ∧ ∃ S, SK G S B ∧ s = .inl (J k, (cput D (cel G adk nfk ndk pnk agk B.1 flk dtk hwk dpk alk cok fek rpk rok wek plk mok eak lnk cpk elk owk S txk tlk rfk slk hsk) (mput p (G 3 6) (G 3 8) (wtA G w) md B.2.2.1 B.2.2.2.1 (sc + 1) B.2.2.2.2 σ)))) lnk.toNat (by
    rintro k B s hk9 ⟨hB, S, hS, rfl⟩
    obtain ⟨d1, d2, d3⟩ := hhd.1 k (by omega) (by omega)
    obtain ⟨t1, t2, t3, t4, t5, t6, t7, t8⟩ := hk.th d1 d2 d3
    have hF := hm.hf _ d1 d2 d3
    have hgg := scO_g (w := w) hB (hd k)
    have hmk := hB.1.1 (hd k) d1 d2
    generalize hda : hd k = a at d1 d2 d3 t1 t2 t3 t4 t5 t6 t7 t8 hF hgg hmk ⊢
    have hn9 : ∀ (F : Int → Int) (S9 : Nat → Option Nat) (τ : mm_M), f_J2_size (G 3 0) (cput D (cel G adk nfk ndk pnk agk F flk dtk hwk dpk alk cok fek rpk rok wek plk mok eak lnk cpk elk owk S9 txk tlk rfk slk hsk) τ) = some (J lnk) := fun F S9 τ => kc_lsize hg
    have hg9 : ∀ (F : Int → Int) (S9 : Nat → Option Nat) (τ : mm_M), f_J2_get (G 3 0) (J k) (cput D (cel G adk nfk ndk pnk agk F flk dtk hwk dpk alk cok fek rpk rok wek plk mok eak lnk cpk elk owk S9 txk tlk rfk slk hsk) τ) = some (some (G 0 a)) := fun F S9 τ => by
      rw [← hda]
      exact kc_get hg hls (by omega) (by omega)
    have e0 : lpx (s_X4_scan p) (.inl (J k, (cput D (cel G adk nfk ndk pnk agk B.1 flk dtk hwk dpk alk cok fek rpk rok wek plk mok eak lnk cpk elk owk S txk tlk rfk slk hsk) (mput p (G 3 6) (G 3 8) (wtA G w) md B.2.2.1 B.2.2.2.1 (sc + 1) B.2.2.2.2 σ)))) = lpx (s_X4_scan p) (.inr (J k, G 0 a, J 0, (cput D (cel G adk nfk ndk pnk agk B.1 flk dtk hwk dpk alk cok fek rpk rok wek plk mok eak lnk cpk elk owk S txk tlk rfk slk hsk) (mput p (G 3 6) (G 3 8) (wtA G w) md B.2.2.1 B.2.2.2.1 (sc + 1) B.2.2.2.2 σ)))) := lpx_n (by
      unfold s_X4_scan g_X4_scan_17
      dsimp only
      simp (disch := first | assumption | exact HU.lu (by assumption) | exact cw_okn | exact cw_ok3 (by assumption) | exact cw_ok5 (by assumption) | omega) only [J_add, J_sub, J_mul, J_neg, J_lit, J_lt, J_le, J_eq, Option.bind_some, Int.reduceAdd, Int.reduceSub, Int.reduceMul, Int.reduceNeg, Int.reduceEq, Int.reduceLT, Int.reduceLE, reduceIte, Int.zero_add, Int.add_zero, and_self, true_and, and_true, false_and, and_false, or_true, true_or, or_false, false_or, not_true_eq_false, not_false_eq_true, ne_eq, b2_s, cw_gadk, cw_gpnk, cw_gagk, cw_gmkk, cw_gfl, cw_gdt, cw_kth, cw_afl, cw_nfl, cw_adt, cw_ndt, cw_gmok, cw_geak, cw_glnk, cw_k0, cw_k6, cw_k7, cw_aowk, cw_aelk, cw_askk, cw_aslk, cw_nelk, cw_arok, cw_nrok, cw_awek, cw_nwek, cw_aplk, cw_nplk, cw_atxk, cw_ntxk, cw_ghwk, cw_gdpk, cw_galk, cw_gcok, cw_gfek, cw_h2, cw_h3, cw_h4, cw_h5, cw_h10, cw_grpk, cw_x0, cw_x1, cw_x2, cw_x5, cw_gtlk, cw_grfk, cw_ghsk, cw_padk, cw_pagk, cw_pmkk, cw_ppnk, cw_zpnk, cw_sfl, cw_sdt, cw_pmok, cw_peak, cw_plnk, cw_sowk, cw_selk, cw_sskk, cw_sslk, cw_srok, cw_swek, cw_splk, cw_palk, cw_pcok, cw_pfek, cw_prpk, cw_ptlk, cw_prfk, cw_phsk, cw_stxk, cw_ok3, cw_ok5, cw_okn, mw_g0 hp, hn9, hg9, if_neg (show ¬ lnk ≤ (k : Int) by omega)])
    unfold scO at hgg ⊢
    by_cases c1 : 0 < m a ∧ B.1 a = 1
    · rw [if_pos c1] at hgg ⊢
      obtain ⟨s2, e1, e2, e3, S2, hS2, rfl⟩ := lpx_itr (f := s_X4_scan p) (g := fun f E => stA m md w (oo9 m (m (800 + a + 1 + f))) E) (fun j E s => IE m md E ∧ E.1 a = 1 ∧ ∃ S, SK G S E ∧ s = .inr (J k, G 0 a, J j, (cput D (cel G adk nfk ndk pnk agk E.1 flk dtk hwk dpk alk cok fek rpk rok wek plk mok eak lnk cpk elk owk S txk tlk rfk slk hsk) (mput p (G 3 6) (G 3 8) (wtA G w) md E.2.2.1 E.2.2.2.1 (sc + 1) E.2.2.2.2 σ)))) (m (200 + a)).toNat (by
        rintro j E s hj ⟨hE, hE1, S, hS, rfl⟩
        have hr := hm.hq a (1 + j) d1 d2 d3 (by omega) (by omega)
        rw [show 800 + a + (1 + (j : Int)) = 800 + a + 1 + j by omega] at hr
        have hb9 := rf_ir hm hr
        have hst := stA_g (w := w) hE.1 (oo9_h m (m (800 + a + 1 + j)))
        obtain ⟨S', q1, q2⟩ := kc_startA (σ := σ) (sc := sc + 1) (hd := hd) (adk := adk) (nfk := nfk) (ndk := ndk) (pnk := pnk) (agk := agk) (mkk := mkk) (flk := flk) (dtk := dtk) (hwk := hwk) (dpk := dpk) (alk := alk) (cok := cok) (fek := fek) (rpk := rpk) (rok := rok) (wek := wek) (plk := plk) (owk := owk) (skk := skk) (txk := txk) (tlk := tlk) (rfk := rfk) (slk := slk) (hsk := hsk) (mok := mok) (eak := eak) (lnk := lnk) (cpk := cpk) (elk := elk) hg hu hm hp hk hw hmd hE.1 hS (oo9_h m (m (800 + a + 1 + j)))
        refine ⟨.inr (J k, G 0 a, J (j + 1 : Nat), (cput D (cel G adk nfk ndk pnk agk ((stA m md w (oo9 m (m (800 + a + 1 + j))) E).1) flk dtk hwk dpk alk cok fek rpk rok wek plk mok eak lnk cpk elk owk S' txk tlk rfk slk hsk) (mput p (G 3 6) (G 3 8) (wtA G w) md (stA m md w (oo9 m (m (800 + a + 1 + j))) E).2.2.1 (stA m md w (oo9 m (m (800 + a + 1 + j))) E).2.2.2.1 (sc + 1) (stA m md w (oo9 m (m (800 + a + 1 + j))) E).2.2.2.2 σ))), ?_, ⟨hst.1.1, hst.2⟩, hst.1.2.1 _ hE1, S', q2, rfl⟩
        refine lpx_n ?_
        have htg : f_X1_target (G 3 6) (J (m (800 + a + 1 + j))) (cput D (cel G adk nfk ndk pnk agk E.1 flk dtk hwk dpk alk cok fek rpk rok wek plk mok eak lnk cpk elk owk S txk tlk rfk slk hsk) (mput p (G 3 6) (G 3 8) (wtA G w) md E.2.2.1 E.2.2.2.1 (sc + 1) E.2.2.2.2 σ)) = some (if oo9 m (m (800 + a + 1 + j)) = -1 then none else some (G 0 (oo9 m (m (800 + a + 1 + j))))) := kc_target (hd := hd) hg hk.mk hr hb9.1 hb9.2
        unfold s_X4_scan g_X4_scan_48
        dsimp only
        simp (disch := first | assumption | exact HU.lu (by assumption) | exact cw_okn | exact cw_ok3 (by assumption) | exact cw_ok5 (by assumption) | omega) only [J_add, J_sub, J_mul, J_neg, J_lit, J_lt, J_le, J_eq, Option.bind_some, Int.reduceAdd, Int.reduceSub, Int.reduceMul, Int.reduceNeg, Int.reduceEq, Int.reduceLT, Int.reduceLE, reduceIte, Int.zero_add, Int.add_zero, and_self, true_and, and_true, false_and, and_false, or_true, true_or, or_false, false_or, not_true_eq_false, not_false_eq_true, ne_eq, b2_s, cw_gadk, cw_gpnk, cw_gagk, cw_gmkk, cw_gfl, cw_gdt, cw_kth, cw_afl, cw_nfl, cw_adt, cw_ndt, cw_gmok, cw_geak, cw_glnk, cw_k0, cw_k6, cw_k7, cw_aowk, cw_aelk, cw_askk, cw_aslk, cw_nelk, cw_arok, cw_nrok, cw_awek, cw_nwek, cw_aplk, cw_nplk, cw_atxk, cw_ntxk, cw_ghwk, cw_gdpk, cw_galk, cw_gcok, cw_gfek, cw_h2, cw_h3, cw_h4, cw_h5, cw_h10, cw_grpk, cw_x0, cw_x1, cw_x2, cw_x5, cw_gtlk, cw_grfk, cw_ghsk, cw_padk, cw_pagk, cw_pmkk, cw_ppnk, cw_zpnk, cw_sfl, cw_sdt, cw_pmok, cw_peak, cw_plnk, cw_sowk, cw_selk, cw_sskk, cw_sslk, cw_srok, cw_swek, cw_splk, cw_palk, cw_pcok, cw_pfek, cw_prpk, cw_ptlk, cw_prfk, cw_phsk, cw_stxk, cw_ok3, cw_ok5, cw_okn, t3, if_neg (show ¬ m (200 + a) ≤ (j : Int) by omega), t7 j (by omega) (by omega), hE1, mw_g0 hp, htg, mw_ck hp, q1]
        rfl) B (.inr (J k, G 0 a, J 0, (cput D (cel G adk nfk ndk pnk agk B.1 flk dtk hwk dpk alk cok fek rpk rok wek plk mok eak lnk cpk elk owk S txk tlk rfk slk hsk) (mput p (G 3 6) (G 3 8) (wtA G w) md B.2.2.1 B.2.2.2.1 (sc + 1) B.2.2.2.2 σ)))) ⟨hB, c1.2, S, hS, rfl⟩
      refine ⟨_, ?_, ⟨hgg.1.1, hgg.2⟩, S2, hS2, rfl⟩
      rw [e0, e1]
      refine lpx_n ?_
      unfold s_X4_scan g_X4_scan_48
      dsimp only
      simp (disch := first | assumption | exact HU.lu (by assumption) | exact cw_okn | exact cw_ok3 (by assumption) | exact cw_ok5 (by assumption) | omega) only [J_add, J_sub, J_mul, J_neg, J_lit, J_lt, J_le, J_eq, Option.bind_some, Int.reduceAdd, Int.reduceSub, Int.reduceMul, Int.reduceNeg, Int.reduceEq, Int.reduceLT, Int.reduceLE, reduceIte, Int.zero_add, Int.add_zero, and_self, true_and, and_true, false_and, and_false, or_true, true_or, or_false, false_or, not_true_eq_false, not_false_eq_true, ne_eq, b2_s, cw_gadk, cw_gpnk, cw_gagk, cw_gmkk, cw_gfl, cw_gdt, cw_kth, cw_afl, cw_nfl, cw_adt, cw_ndt, cw_gmok, cw_geak, cw_glnk, cw_k0, cw_k6, cw_k7, cw_aowk, cw_aelk, cw_askk, cw_aslk, cw_nelk, cw_arok, cw_nrok, cw_awek, cw_nwek, cw_aplk, cw_nplk, cw_atxk, cw_ntxk, cw_ghwk, cw_gdpk, cw_galk, cw_gcok, cw_gfek, cw_h2, cw_h3, cw_h4, cw_h5, cw_h10, cw_grpk, cw_x0, cw_x1, cw_x2, cw_x5, cw_gtlk, cw_grfk, cw_ghsk, cw_padk, cw_pagk, cw_pmkk, cw_ppnk, cw_zpnk, cw_sfl, cw_sdt, cw_pmok, cw_peak, cw_plnk, cw_sowk, cw_selk, cw_sskk, cw_sslk, cw_srok, cw_swek, cw_splk, cw_palk, cw_pcok, cw_pfek, cw_prpk, cw_ptlk, cw_prfk, cw_phsk, cw_stxk, cw_ok3, cw_ok5, cw_okn, t3, if_pos (show m (200 + a) ≤ ((m (200 + a)).toNat : Int) by omega)]
      rfl
    · rw [if_neg c1] at hgg ⊢
      refine ⟨_, ?_, hB, S, hS, rfl⟩
      rw [e0]
      refine lpx_n ?_
      have c4 : B.1 a = 0 := by omega
      unfold s_X4_scan g_X4_scan_48
      dsimp only
      by_cases c2 : m (200 + a) ≤ 0
      · simp (disch := first | assumption | exact HU.lu (by assumption) | exact cw_okn | exact cw_ok3 (by assumption) | exact cw_ok5 (by assumption) | omega) only [J_add, J_sub, J_mul, J_neg, J_lit, J_lt, J_le, J_eq, Option.bind_some, Int.reduceAdd, Int.reduceSub, Int.reduceMul, Int.reduceNeg, Int.reduceEq, Int.reduceLT, Int.reduceLE, reduceIte, Int.zero_add, Int.add_zero, and_self, true_and, and_true, false_and, and_false, or_true, true_or, or_false, false_or, not_true_eq_false, not_false_eq_true, ne_eq, b2_s, cw_gadk, cw_gpnk, cw_gagk, cw_gmkk, cw_gfl, cw_gdt, cw_kth, cw_afl, cw_nfl, cw_adt, cw_ndt, cw_gmok, cw_geak, cw_glnk, cw_k0, cw_k6, cw_k7, cw_aowk, cw_aelk, cw_askk, cw_aslk, cw_nelk, cw_arok, cw_nrok, cw_awek, cw_nwek, cw_aplk, cw_nplk, cw_atxk, cw_ntxk, cw_ghwk, cw_gdpk, cw_galk, cw_gcok, cw_gfek, cw_h2, cw_h3, cw_h4, cw_h5, cw_h10, cw_grpk, cw_x0, cw_x1, cw_x2, cw_x5, cw_gtlk, cw_grfk, cw_ghsk, cw_padk, cw_pagk, cw_pmkk, cw_ppnk, cw_zpnk, cw_sfl, cw_sdt, cw_pmok, cw_peak, cw_plnk, cw_sowk, cw_selk, cw_sskk, cw_sslk, cw_srok, cw_swek, cw_splk, cw_palk, cw_pcok, cw_pfek, cw_prpk, cw_ptlk, cw_prfk, cw_phsk, cw_stxk, cw_ok3, cw_ok5, cw_okn, t3, if_pos c2]
        rfl
      · simp (disch := first | assumption | exact HU.lu (by assumption) | exact cw_okn | exact cw_ok3 (by assumption) | exact cw_ok5 (by assumption) | omega) only [J_add, J_sub, J_mul, J_neg, J_lit, J_lt, J_le, J_eq, Option.bind_some, Int.reduceAdd, Int.reduceSub, Int.reduceMul, Int.reduceNeg, Int.reduceEq, Int.reduceLT, Int.reduceLE, reduceIte, Int.zero_add, Int.add_zero, and_self, true_and, and_true, false_and, and_false, or_true, true_or, or_false, false_or, not_true_eq_false, not_false_eq_true, ne_eq, b2_s, cw_gadk, cw_gpnk, cw_gagk, cw_gmkk, cw_gfl, cw_gdt, cw_kth, cw_afl, cw_nfl, cw_adt, cw_ndt, cw_gmok, cw_geak, cw_glnk, cw_k0, cw_k6, cw_k7, cw_aowk, cw_aelk, cw_askk, cw_aslk, cw_nelk, cw_arok, cw_nrok, cw_awek, cw_nwek, cw_aplk, cw_nplk, cw_atxk, cw_ntxk, cw_ghwk, cw_gdpk, cw_galk, cw_gcok, cw_gfek, cw_h2, cw_h3, cw_h4, cw_h5, cw_h10, cw_grpk, cw_x0, cw_x1, cw_x2, cw_x5, cw_gtlk, cw_grfk, cw_ghsk, cw_padk, cw_pagk, cw_pmkk, cw_ppnk, cw_zpnk, cw_sfl, cw_sdt, cw_pmok, cw_peak, cw_plnk, cw_sowk, cw_selk, cw_sskk, cw_sslk, cw_srok, cw_swek, cw_splk, cw_palk, cw_pcok, cw_pfek, cw_prpk, cw_ptlk, cw_prfk, cw_phsk, cw_stxk, cw_ok3, cw_ok5, cw_okn, t3, if_neg c2, c4]
        rfl) (A.1, A.2.1, A.2.2.1, A.2.2.2.1, 0) (.inl (J 0, (cput D (cel G adk nfk ndk pnk agk (((A.1, A.2.1, A.2.2.1, A.2.2.2.1, (0 : Int))).1) flk dtk hwk dpk alk cok fek rpk rok wek plk mok eak lnk cpk elk owk S txk tlk rfk slk hsk) (mput p (G 3 6) (G 3 8) (wtA G w) md ((A.1, A.2.1, A.2.2.1, A.2.2.2.1, (0 : Int))).2.2.1 ((A.1, A.2.1, A.2.2.1, A.2.2.2.1, (0 : Int))).2.2.2.1 (sc + 1) ((A.1, A.2.1, A.2.2.1, A.2.2.2.1, (0 : Int))).2.2.2.2 σ)))) ⟨hI0, S, fun k k1 k2 => hS k k1 (by dsimp only at k2; omega), rfl⟩
  refine ⟨S', ?_, hS'⟩
  rw [h1]
  refine lpx_d ?_
  have hn9 : ∀ (F : Int → Int) (S9 : Nat → Option Nat) (τ : mm_M), f_J2_size (G 3 0) (cput D (cel G adk nfk ndk pnk agk F flk dtk hwk dpk alk cok fek rpk rok wek plk mok eak lnk cpk elk owk S9 txk tlk rfk slk hsk) τ) = some (J lnk) := fun F S9 τ => kc_lsize hg
  unfold s_X4_scan g_X4_scan_17
  dsimp only
  simp (disch := first | assumption | exact HU.lu (by assumption) | exact cw_okn | exact cw_ok3 (by assumption) | exact cw_ok5 (by assumption) | omega) only [J_add, J_sub, J_mul, J_neg, J_lit, J_lt, J_le, J_eq, Option.bind_some, Int.reduceAdd, Int.reduceSub, Int.reduceMul, Int.reduceNeg, Int.reduceEq, Int.reduceLT, Int.reduceLE, reduceIte, Int.zero_add, Int.add_zero, and_self, true_and, and_true, false_and, and_false, or_true, true_or, or_false, false_or, not_true_eq_false, not_false_eq_true, ne_eq, b2_s, cw_gadk, cw_gpnk, cw_gagk, cw_gmkk, cw_gfl, cw_gdt, cw_kth, cw_afl, cw_nfl, cw_adt, cw_ndt, cw_gmok, cw_geak, cw_glnk, cw_k0, cw_k6, cw_k7, cw_aowk, cw_aelk, cw_askk, cw_aslk, cw_nelk, cw_arok, cw_nrok, cw_awek, cw_nwek, cw_aplk, cw_nplk, cw_atxk, cw_ntxk, cw_ghwk, cw_gdpk, cw_galk, cw_gcok, cw_gfek, cw_h2, cw_h3, cw_h4, cw_h5, cw_h10, cw_grpk, cw_x0, cw_x1, cw_x2, cw_x5, cw_gtlk, cw_grfk, cw_ghsk, cw_padk, cw_pagk, cw_pmkk, cw_ppnk, cw_zpnk, cw_sfl, cw_sdt, cw_pmok, cw_peak, cw_plnk, cw_sowk, cw_selk, cw_sskk, cw_sslk, cw_srok, cw_swek, cw_splk, cw_palk, cw_pcok, cw_pfek, cw_prpk, cw_ptlk, cw_prfk, cw_phsk, cw_stxk, cw_ok3, cw_ok5, cw_okn, mw_g0 hp, hn9, if_pos (show lnk ≤ (lnk.toNat : Int) by omega)]
theorem kc_markA (hg : HU D G) (hu : XU D G) (hm : WF m) (hp : (D p).1 = -1) (hk : (KM m hd D G adk nfk ndk pnk agk mkk flk dtk hwk dpk alk cok fek rpk rok wek plk mok eak lnk cpk elk owk skk txk tlk rfk slk hsk)) (huq : ∀ b k a, D b = (k, a) → 0 ≤ k → k ≤ 2 → 0 ≤ a ∧ a < 200 ∧ 0 < m a) (hw : w = -1 ∨ TH D G w) (hmd0 : 1 ≤ md) (hmd : md ≤ 200) {mk0 stk0 : Int → Int} (hmk0 : ∀ b, 0 ≤ b → b < 200 → mk0 b = 0) : ∃ S', f_X4_mark p (cput D (cel G adk nfk ndk pnk agk mkk flk dtk hwk dpk alk cok fek rpk rok wek plk mok eak lnk cpk elk owk skk txk tlk rfk slk hsk) (mput p (G 3 6) (G 3 8) (wtA G w) md 0 0 0 0 σ)) = some (p, (cput D (cel G adk nfk ndk pnk agk (((mkA m md w (mk0, stk0, 0, 0, 0)).2).1) flk dtk hwk dpk alk cok fek rpk rok wek plk mok eak lnk cpk elk owk S' txk tlk rfk slk hsk) (mput p (G 3 6) (G 3 8) (wtA G w) md ((mkA m md w (mk0, stk0, 0, 0, 0)).2).2.2.1 ((mkA m md w (mk0, stk0, 0, 0, 0)).2).2.2.2.1 ((mkA m md w (mk0, stk0, 0, 0, 0)).1) ((mkA m md w (mk0, stk0, 0, 0, 0)).2).2.2.2.2 σ))) := by
  have hW := hm.hW
  have hls := hk.ls
  have hhd := hk.hs
  have hls0 := hls
  obtain ⟨⟨l1, l2, l3, l4⟩, l5, l6⟩ := hls0
  have hI0 : IE m md (mk0, stk0, 0, 0, 0) := ⟨⟨fun b b1 b2 => Or.inl (hmk0 b b1 b2), ⟨by dsimp only; omega, by dsimp only; omega⟩, ⟨by dsimp only; omega, by dsimp only; omega⟩, Or.inl rfl, fun k k1 k2 => by dsimp only at k2; omega, by have := um_b mk0; dsimp only; omega⟩, rfl⟩
  have hn9 : ∀ (F : Int → Int) (S9 : Nat → Option Nat) (τ : mm_M), f_J2_size (G 3 0) (cput D (cel G adk nfk ndk pnk agk F flk dtk hwk dpk alk cok fek rpk rok wek plk mok eak lnk cpk elk owk S9 txk tlk rfk slk hsk) τ) = some (J lnk) := fun F S9 τ => kc_lsize hg
  have hg9 : ∀ (k : Int) (F : Int → Int) (S9 : Nat → Option Nat) (τ : mm_M), 0 ≤ k → k < lnk → f_J2_get (G 3 0) (J k) (cput D (cel G adk nfk ndk pnk agk F flk dtk hwk dpk alk cok fek rpk rok wek plk mok eak lnk cpk elk owk S9 txk tlk rfk slk hsk) τ) = some (some (G 0 (hd k))) := fun k F S9 τ k1 k2 => kc_get hg hls k1 k2
  unfold f_X4_mark g_X4_mark_0
  rw [lgo_l, show (0 : Int32) = J 0 from J_lit 0]
  rw [lpx_steps2 (f := s_X4_mark p) (fun k => .inl (J k, (cput D (cel G adk nfk ndk pnk agk (itr (fun k F => up F (hd k) 0) k mkk) flk dtk hwk dpk alk cok fek rpk rok wek plk mok eak lnk cpk elk owk skk txk tlk rfk slk hsk) (mput p (G 3 6) (G 3 8) (wtA G w) md 0 0 0 0 σ)))) lnk.toNat (by rfl) (by
    intro k hk9
    obtain ⟨e1, e2⟩ := l6 k (by omega) (by omega)
    unfold s_X4_mark g_X4_mark_2
    dsimp only
    simp (disch := first | assumption | exact HU.lu (by assumption) | exact cw_okn | exact cw_ok3 (by assumption) | exact cw_ok5 (by assumption) | omega) only [J_add, J_sub, J_mul, J_neg, J_lit, J_lt, J_le, J_eq, Option.bind_some, Int.reduceAdd, Int.reduceSub, Int.reduceMul, Int.reduceNeg, Int.reduceEq, Int.reduceLT, Int.reduceLE, reduceIte, Int.zero_add, Int.add_zero, and_self, true_and, and_true, false_and, and_false, or_true, true_or, or_false, false_or, not_true_eq_false, not_false_eq_true, ne_eq, b2_s, cw_gadk, cw_gpnk, cw_gagk, cw_gmkk, cw_gfl, cw_gdt, cw_kth, cw_afl, cw_nfl, cw_adt, cw_ndt, cw_gmok, cw_geak, cw_glnk, cw_k0, cw_k6, cw_k7, cw_aowk, cw_aelk, cw_askk, cw_aslk, cw_nelk, cw_arok, cw_nrok, cw_awek, cw_nwek, cw_aplk, cw_nplk, cw_atxk, cw_ntxk, cw_ghwk, cw_gdpk, cw_galk, cw_gcok, cw_gfek, cw_h2, cw_h3, cw_h4, cw_h5, cw_h10, cw_grpk, cw_x0, cw_x1, cw_x2, cw_x5, cw_gtlk, cw_grfk, cw_ghsk, cw_padk, cw_pagk, cw_pmkk, cw_ppnk, cw_zpnk, cw_sfl, cw_sdt, cw_pmok, cw_peak, cw_plnk, cw_sowk, cw_selk, cw_sskk, cw_sslk, cw_srok, cw_swek, cw_splk, cw_palk, cw_pcok, cw_pfek, cw_prpk, cw_ptlk, cw_prfk, cw_phsk, cw_stxk, cw_ok3, cw_ok5, cw_okn, mw_g0 hp, hn9, hg9, if_neg (show ¬ lnk ≤ (k : Int) by omega), itr_s]
    rfl)]
  rw [cel_mk (mkk := itr (fun k F => up F (hd k) 0) lnk.toNat mkk) (F := mk0) (fun b a hb => by
    obtain ⟨a1, a2, a3⟩ := huq b 0 a hb (by omega) (by omega)
    rw [hmk0 a a1 a2]
    obtain ⟨j, j1, j2, j3⟩ := hhd.2.2 a a1 a2 a3
    have key := itr_inv (g := fun k F => up F (hd k) 0) (fun k F => ∀ i : Int, 0 ≤ i → i < k → F (hd i) = 0) lnk.toNat (fun k F hk9 hF i i1 i2 => by
      by_cases hi : hd i = hd k
      · rw [hi, up_s]
      · rw [up_n hi]
        refine hF i i1 ?_
        by_cases hik : i = k
        · rw [hik] at hi; exact absurd rfl hi
        · omega) mkk (fun i i1 i2 => by omega)
    rw [← j3]
    exact key j j1 (by omega))]
  rw [lpx_n (s' := .inr (.inl (G 3 3, J 6, J 0, (cput D (cel G adk nfk ndk pnk agk (((mk0, stk0, (0 : Int), (0 : Int), (0 : Int))).1) flk dtk hwk dpk alk cok fek rpk rok wek plk mok eak lnk cpk elk owk skk txk tlk rfk slk hsk) (mput p (G 3 6) (G 3 8) (wtA G w) md ((mk0, stk0, (0 : Int), (0 : Int), (0 : Int))).2.2.1 ((mk0, stk0, (0 : Int), (0 : Int), (0 : Int))).2.2.2.1 0 ((mk0, stk0, (0 : Int), (0 : Int), (0 : Int))).2.2.2.2 σ))))) (by
    unfold s_X4_mark g_X4_mark_2
    dsimp only
    simp (disch := first | assumption | exact HU.lu (by assumption) | exact cw_okn | exact cw_ok3 (by assumption) | exact cw_ok5 (by assumption) | omega) only [J_add, J_sub, J_mul, J_neg, J_lit, J_lt, J_le, J_eq, Option.bind_some, Int.reduceAdd, Int.reduceSub, Int.reduceMul, Int.reduceNeg, Int.reduceEq, Int.reduceLT, Int.reduceLE, reduceIte, Int.zero_add, Int.add_zero, and_self, true_and, and_true, false_and, and_false, or_true, true_or, or_false, false_or, not_true_eq_false, not_false_eq_true, ne_eq, b2_s, cw_gadk, cw_gpnk, cw_gagk, cw_gmkk, cw_gfl, cw_gdt, cw_kth, cw_afl, cw_nfl, cw_adt, cw_ndt, cw_gmok, cw_geak, cw_glnk, cw_k0, cw_k6, cw_k7, cw_aowk, cw_aelk, cw_askk, cw_aslk, cw_nelk, cw_arok, cw_nrok, cw_awek, cw_nwek, cw_aplk, cw_nplk, cw_atxk, cw_ntxk, cw_ghwk, cw_gdpk, cw_galk, cw_gcok, cw_gfek, cw_h2, cw_h3, cw_h4, cw_h5, cw_h10, cw_grpk, cw_x0, cw_x1, cw_x2, cw_x5, cw_gtlk, cw_grfk, cw_ghsk, cw_padk, cw_pagk, cw_pmkk, cw_ppnk, cw_zpnk, cw_sfl, cw_sdt, cw_pmok, cw_peak, cw_plnk, cw_sowk, cw_selk, cw_sskk, cw_sslk, cw_srok, cw_swek, cw_splk, cw_palk, cw_pcok, cw_pfek, cw_prpk, cw_ptlk, cw_prfk, cw_phsk, cw_stxk, cw_ok3, cw_ok5, cw_okn, mw_g0 hp, hn9, if_pos (show lnk ≤ (lnk.toNat : Int) by omega)])]
  -- roots
  obtain ⟨s1, h1, hI1, S1, hS1, rfl⟩ := lpx_itr (f := s_X4_mark p) (g := fun k B => stA m md w (oo9 m (m (1200 + k))) B) (fun k B s => IE m md B ∧ ∃ S, SK G S B ∧ s = .inr (.inl (G 3 3, J 6, J k, (cput D (cel G adk nfk ndk pnk agk B.1 flk dtk hwk dpk alk cok fek rpk rok wek plk mok eak lnk cpk elk owk S txk tlk rfk slk hsk) (mput p (G 3 6) (G 3 8) (wtA G w) md B.2.2.1 B.2.2.2.1 0 B.2.2.2.2 σ))))) 6 (by
    rintro k B s hk9 ⟨hB, S, hS, rfl⟩
    have hr := hm.hr k (by omega) (by omega)
    have hb9 := rf_ir hm hr
    have hst := stA_g (w := w) hB.1 (oo9_h m (m (1200 + k)))
    obtain ⟨S', q1, q2⟩ := kc_startA (σ := σ) (sc := 0) (hd := hd) (adk := adk) (nfk := nfk) (ndk := ndk) (pnk := pnk) (agk := agk) (mkk := mkk) (flk := flk) (dtk := dtk) (hwk := hwk) (dpk := dpk) (alk := alk) (cok := cok) (fek := fek) (rpk := rpk) (rok := rok) (wek := wek) (plk := plk) (owk := owk) (skk := skk) (txk := txk) (tlk := tlk) (rfk := rfk) (slk := slk) (hsk := hsk) (mok := mok) (eak := eak) (lnk := lnk) (cpk := cpk) (elk := elk) hg hu hm hp hk hw hmd hB.1 hS (oo9_h m (m (1200 + k)))
    refine ⟨.inr (.inl (G 3 3, J 6, J (k + 1 : Nat), (cput D (cel G adk nfk ndk pnk agk ((stA m md w (oo9 m (m (1200 + k))) B).1) flk dtk hwk dpk alk cok fek rpk rok wek plk mok eak lnk cpk elk owk S' txk tlk rfk slk hsk) (mput p (G 3 6) (G 3 8) (wtA G w) md (stA m md w (oo9 m (m (1200 + k))) B).2.2.1 (stA m md w (oo9 m (m (1200 + k))) B).2.2.2.1 0 (stA m md w (oo9 m (m (1200 + k))) B).2.2.2.2 σ)))), ?_, ⟨hst.1.1, hst.2⟩, S', q2, rfl⟩
    refine lpx_n ?_
    have htg : f_X1_target (G 3 6) (J (m (1200 + k))) (cput D (cel G adk nfk ndk pnk agk B.1 flk dtk hwk dpk alk cok fek rpk rok wek plk mok eak lnk cpk elk owk S txk tlk rfk slk hsk) (mput p (G 3 6) (G 3 8) (wtA G w) md B.2.2.1 B.2.2.2.1 0 B.2.2.2.2 σ)) = some (if oo9 m (m (1200 + k)) = -1 then none else some (G 0 (oo9 m (m (1200 + k))))) := kc_target (hd := hd) hg hk.mk hr hb9.1 hb9.2
    unfold s_X4_mark g_X4_mark_53
    dsimp only
    simp (disch := first | assumption | exact HU.lu (by assumption) | exact cw_okn | exact cw_ok3 (by assumption) | exact cw_ok5 (by assumption) | omega) only [J_add, J_sub, J_mul, J_neg, J_lit, J_lt, J_le, J_eq, Option.bind_some, Int.reduceAdd, Int.reduceSub, Int.reduceMul, Int.reduceNeg, Int.reduceEq, Int.reduceLT, Int.reduceLE, reduceIte, Int.zero_add, Int.add_zero, and_self, true_and, and_true, false_and, and_false, or_true, true_or, or_false, false_or, not_true_eq_false, not_false_eq_true, ne_eq, b2_s, cw_gadk, cw_gpnk, cw_gagk, cw_gmkk, cw_gfl, cw_gdt, cw_kth, cw_afl, cw_nfl, cw_adt, cw_ndt, cw_gmok, cw_geak, cw_glnk, cw_k0, cw_k6, cw_k7, cw_aowk, cw_aelk, cw_askk, cw_aslk, cw_nelk, cw_arok, cw_nrok, cw_awek, cw_nwek, cw_aplk, cw_nplk, cw_atxk, cw_ntxk, cw_ghwk, cw_gdpk, cw_galk, cw_gcok, cw_gfek, cw_h2, cw_h3, cw_h4, cw_h5, cw_h10, cw_grpk, cw_x0, cw_x1, cw_x2, cw_x5, cw_gtlk, cw_grfk, cw_ghsk, cw_padk, cw_pagk, cw_pmkk, cw_ppnk, cw_zpnk, cw_sfl, cw_sdt, cw_pmok, cw_peak, cw_plnk, cw_sowk, cw_selk, cw_sskk, cw_sslk, cw_srok, cw_swek, cw_splk, cw_palk, cw_pcok, cw_pfek, cw_prpk, cw_ptlk, cw_prfk, cw_phsk, cw_stxk, cw_ok3, cw_ok5, cw_okn, if_neg (show ¬ (6 : Int) ≤ k by omega), hk.ro k (by omega) (by omega), mw_g0 hp, htg, mw_ck hp, q1]
    rfl) (mk0, stk0, 0, 0, 0) (.inr (.inl (G 3 3, J 6, J 0, (cput D (cel G adk nfk ndk pnk agk (((mk0, stk0, (0 : Int), (0 : Int), (0 : Int))).1) flk dtk hwk dpk alk cok fek rpk rok wek plk mok eak lnk cpk elk owk skk txk tlk rfk slk hsk) (mput p (G 3 6) (G 3 8) (wtA G w) md ((mk0, stk0, (0 : Int), (0 : Int), (0 : Int))).2.2.1 ((mk0, stk0, (0 : Int), (0 : Int), (0 : Int))).2.2.2.1 0 ((mk0, stk0, (0 : Int), (0 : Int), (0 : Int))).2.2.2.2 σ))))) ⟨hI0, skk, fun k k1 k2 => by dsimp only at k2; omega, rfl⟩
  rw [h1]
  generalize hB1 : itr (fun k B => stA m md w (oo9 m (m (1200 + k))) B) 6 (mk0, stk0, 0, 0, 0) = B1 at hI1 hS1
  rw [lpx_n (s' := .inr (.inr (.inl (J 0, (cput D (cel G adk nfk ndk pnk agk B1.1 flk dtk hwk dpk alk cok fek rpk rok wek plk mok eak lnk cpk elk owk S1 txk tlk rfk slk hsk) (mput p (G 3 6) (G 3 8) (wtA G w) md B1.2.2.1 B1.2.2.2.1 0 B1.2.2.2.2 σ)))))) (by
    unfold s_X4_mark g_X4_mark_53
    dsimp only
    simp (disch := first | assumption | exact HU.lu (by assumption) | exact cw_okn | exact cw_ok3 (by assumption) | exact cw_ok5 (by assumption) | omega) only [J_add, J_sub, J_mul, J_neg, J_lit, J_lt, J_le, J_eq, Option.bind_some, Int.reduceAdd, Int.reduceSub, Int.reduceMul, Int.reduceNeg, Int.reduceEq, Int.reduceLT, Int.reduceLE, reduceIte, Int.zero_add, Int.add_zero, and_self, true_and, and_true, false_and, and_false, or_true, true_or, or_false, false_or, not_true_eq_false, not_false_eq_true, ne_eq, b2_s, cw_gadk, cw_gpnk, cw_gagk, cw_gmkk, cw_gfl, cw_gdt, cw_kth, cw_afl, cw_nfl, cw_adt, cw_ndt, cw_gmok, cw_geak, cw_glnk, cw_k0, cw_k6, cw_k7, cw_aowk, cw_aelk, cw_askk, cw_aslk, cw_nelk, cw_arok, cw_nrok, cw_awek, cw_nwek, cw_aplk, cw_nplk, cw_atxk, cw_ntxk, cw_ghwk, cw_gdpk, cw_galk, cw_gcok, cw_gfek, cw_h2, cw_h3, cw_h4, cw_h5, cw_h10, cw_grpk, cw_x0, cw_x1, cw_x2, cw_x5, cw_gtlk, cw_grfk, cw_ghsk, cw_padk, cw_pagk, cw_pmkk, cw_ppnk, cw_zpnk, cw_sfl, cw_sdt, cw_pmok, cw_peak, cw_plnk, cw_sowk, cw_selk, cw_sskk, cw_sslk, cw_srok, cw_swek, cw_splk, cw_palk, cw_pcok, cw_pfek, cw_prpk, cw_ptlk, cw_prfk, cw_phsk, cw_stxk, cw_ok3, cw_ok5, cw_okn, if_pos (show (6 : Int) ≤ (6 : Nat) by omega)])]
  -- the pinned
  have hbe : beA m md w (mk0, stk0, 0, 0, 0) = itr (fun k => piO m md w (hd k)) lnk.toNat B1 := by
    unfold beA
    rw [hB1]
    exact itr_hd hm hhd l1 (piO m md w) (fun a x _ _ a3 => if_neg a3) _
  obtain ⟨s2, h2, hI2, S2, hS2, rfl⟩ := lpx_itr (f := s_X4_mark p) (g := fun k => piO m md w (hd k)) (fun k B s => IE m md B ∧ ∃ S, SK G S B ∧ s = .inr (.inr (.inl (J k, (cput D (cel G adk nfk ndk pnk agk B.1 flk dtk hwk dpk alk cok fek rpk rok wek plk mok eak lnk cpk elk owk S txk tlk rfk slk hsk) (mput p (G 3 6) (G 3 8) (wtA G w) md B.2.2.1 B.2.2.2.1 0 B.2.2.2.2 σ)))))) lnk.toNat (by
    rintro k B s hk9 ⟨hB, S, hS, rfl⟩
    obtain ⟨d1, d2, d3⟩ := hhd.1 k (by omega) (by omega)
    obtain ⟨t1, t2, t3, t4, t5, t6, t7, t8⟩ := hk.th d1 d2 d3
    have hgg := piO_g (w := w) hB d1 d2
    have hpm := hm.hp _ d1 d2
    unfold piO at hgg ⊢
    rw [if_pos d3] at hgg ⊢
    by_cases c2 : m (400 + hd k) = 1
    · rw [if_pos c2] at hgg ⊢
      obtain ⟨S', q1, q2⟩ := kc_startA (σ := σ) (sc := 0) (hd := hd) (adk := adk) (nfk := nfk) (ndk := ndk) (pnk := pnk) (agk := agk) (mkk := mkk) (flk := flk) (dtk := dtk) (hwk := hwk) (dpk := dpk) (alk := alk) (cok := cok) (fek := fek) (rpk := rpk) (rok := rok) (wek := wek) (plk := plk) (owk := owk) (skk := skk) (txk := txk) (tlk := tlk) (rfk := rfk) (slk := slk) (hsk := hsk) (mok := mok) (eak := eak) (lnk := lnk) (cpk := cpk) (elk := elk) hg hu hm hp hk hw hmd hB.1 hS (o := hd k) (Or.inr ⟨d1, d2, d3⟩)
      rw [if_neg (show ¬ hd k = -1 by omega)] at q1
      refine ⟨_, ?_, ⟨hgg.1.1, hgg.2⟩, S', q2, rfl⟩
      refine lpx_n ?_
      unfold s_X4_mark g_X4_mark_84
      dsimp only
      simp (disch := first | assumption | exact HU.lu (by assumption) | exact cw_okn | exact cw_ok3 (by assumption) | exact cw_ok5 (by assumption) | omega) only [J_add, J_sub, J_mul, J_neg, J_lit, J_lt, J_le, J_eq, Option.bind_some, Int.reduceAdd, Int.reduceSub, Int.reduceMul, Int.reduceNeg, Int.reduceEq, Int.reduceLT, Int.reduceLE, reduceIte, Int.zero_add, Int.add_zero, and_self, true_and, and_true, false_and, and_false, or_true, true_or, or_false, false_or, not_true_eq_false, not_false_eq_true, ne_eq, b2_s, cw_gadk, cw_gpnk, cw_gagk, cw_gmkk, cw_gfl, cw_gdt, cw_kth, cw_afl, cw_nfl, cw_adt, cw_ndt, cw_gmok, cw_geak, cw_glnk, cw_k0, cw_k6, cw_k7, cw_aowk, cw_aelk, cw_askk, cw_aslk, cw_nelk, cw_arok, cw_nrok, cw_awek, cw_nwek, cw_aplk, cw_nplk, cw_atxk, cw_ntxk, cw_ghwk, cw_gdpk, cw_galk, cw_gcok, cw_gfek, cw_h2, cw_h3, cw_h4, cw_h5, cw_h10, cw_grpk, cw_x0, cw_x1, cw_x2, cw_x5, cw_gtlk, cw_grfk, cw_ghsk, cw_padk, cw_pagk, cw_pmkk, cw_ppnk, cw_zpnk, cw_sfl, cw_sdt, cw_pmok, cw_peak, cw_plnk, cw_sowk, cw_selk, cw_sskk, cw_sslk, cw_srok, cw_swek, cw_splk, cw_palk, cw_pcok, cw_pfek, cw_prpk, cw_ptlk, cw_prfk, cw_phsk, cw_stxk, cw_ok3, cw_ok5, cw_okn, mw_g0 hp, hn9, hg9, if_neg (show ¬ lnk ≤ (k : Int) by omega), t5, c2, mw_ck hp, q1]
      rfl
    · rw [if_neg c2] at hgg ⊢
      have c3 : m (400 + hd k) = 0 := by omega
      obtain ⟨S', q1, q2⟩ := kc_startA (σ := σ) (sc := 0) (hd := hd) (adk := adk) (nfk := nfk) (ndk := ndk) (pnk := pnk) (agk := agk) (mkk := mkk) (flk := flk) (dtk := dtk) (hwk := hwk) (dpk := dpk) (alk := alk) (cok := cok) (fek := fek) (rpk := rpk) (rok := rok) (wek := wek) (plk := plk) (owk := owk) (skk := skk) (txk := txk) (tlk := tlk) (rfk := rfk) (slk := slk) (hsk := hsk) (mok := mok) (eak := eak) (lnk := lnk) (cpk := cpk) (elk := elk) hg hu hm hp hk hw hmd hB.1 hS (o := -1) (Or.inl rfl)
      rw [if_pos rfl] at q1
      refine ⟨_, ?_, ⟨hgg.1.1, hgg.2⟩, S', q2, rfl⟩
      refine lpx_n ?_
      unfold s_X4_mark g_X4_mark_84
      dsimp only
      simp (disch := first | assumption | exact HU.lu (by assumption) | exact cw_okn | exact cw_ok3 (by assumption) | exact cw_ok5 (by assumption) | omega) only [J_add, J_sub, J_mul, J_neg, J_lit, J_lt, J_le, J_eq, Option.bind_some, Int.reduceAdd, Int.reduceSub, Int.reduceMul, Int.reduceNeg, Int.reduceEq, Int.reduceLT, Int.reduceLE, reduceIte, Int.zero_add, Int.add_zero, and_self, true_and, and_true, false_and, and_false, or_true, true_or, or_false, false_or, not_true_eq_false, not_false_eq_true, ne_eq, b2_s, cw_gadk, cw_gpnk, cw_gagk, cw_gmkk, cw_gfl, cw_gdt, cw_kth, cw_afl, cw_nfl, cw_adt, cw_ndt, cw_gmok, cw_geak, cw_glnk, cw_k0, cw_k6, cw_k7, cw_aowk, cw_aelk, cw_askk, cw_aslk, cw_nelk, cw_arok, cw_nrok, cw_awek, cw_nwek, cw_aplk, cw_nplk, cw_atxk, cw_ntxk, cw_ghwk, cw_gdpk, cw_galk, cw_gcok, cw_gfek, cw_h2, cw_h3, cw_h4, cw_h5, cw_h10, cw_grpk, cw_x0, cw_x1, cw_x2, cw_x5, cw_gtlk, cw_grfk, cw_ghsk, cw_padk, cw_pagk, cw_pmkk, cw_ppnk, cw_zpnk, cw_sfl, cw_sdt, cw_pmok, cw_peak, cw_plnk, cw_sowk, cw_selk, cw_sskk, cw_sslk, cw_srok, cw_swek, cw_splk, cw_palk, cw_pcok, cw_pfek, cw_prpk, cw_ptlk, cw_prfk, cw_phsk, cw_stxk, cw_ok3, cw_ok5, cw_okn, mw_g0 hp, hn9, hg9, if_neg (show ¬ lnk ≤ (k : Int) by omega), t5, c3, mw_ck hp, q1]
      rfl) B1 (.inr (.inr (.inl (J 0, (cput D (cel G adk nfk ndk pnk agk B1.1 flk dtk hwk dpk alk cok fek rpk rok wek plk mok eak lnk cpk elk owk S1 txk tlk rfk slk hsk) (mput p (G 3 6) (G 3 8) (wtA G w) md B1.2.2.1 B1.2.2.2.1 0 B1.2.2.2.2 σ)))))) ⟨hI1, S1, hS1, rfl⟩
  rw [h2]
  rw [← hbe] at hI2 hS2 ⊢
  rw [lpx_n (s' := .inr (.inr (.inr (cput D (cel G adk nfk ndk pnk agk ((beA m md w (mk0, stk0, 0, 0, 0)).1) flk dtk hwk dpk alk cok fek rpk rok wek plk mok eak lnk cpk elk owk S2 txk tlk rfk slk hsk) (mput p (G 3 6) (G 3 8) (wtA G w) md (beA m md w (mk0, stk0, 0, 0, 0)).2.2.1 (beA m md w (mk0, stk0, 0, 0, 0)).2.2.2.1 0 (beA m md w (mk0, stk0, 0, 0, 0)).2.2.2.2 σ))))) (by
    unfold s_X4_mark g_X4_mark_84
    dsimp only
    simp (disch := first | assumption | exact HU.lu (by assumption) | exact cw_okn | exact cw_ok3 (by assumption) | exact cw_ok5 (by assumption) | omega) only [J_add, J_sub, J_mul, J_neg, J_lit, J_lt, J_le, J_eq, Option.bind_some, Int.reduceAdd, Int.reduceSub, Int.reduceMul, Int.reduceNeg, Int.reduceEq, Int.reduceLT, Int.reduceLE, reduceIte, Int.zero_add, Int.add_zero, and_self, true_and, and_true, false_and, and_false, or_true, true_or, or_false, false_or, not_true_eq_false, not_false_eq_true, ne_eq, b2_s, cw_gadk, cw_gpnk, cw_gagk, cw_gmkk, cw_gfl, cw_gdt, cw_kth, cw_afl, cw_nfl, cw_adt, cw_ndt, cw_gmok, cw_geak, cw_glnk, cw_k0, cw_k6, cw_k7, cw_aowk, cw_aelk, cw_askk, cw_aslk, cw_nelk, cw_arok, cw_nrok, cw_awek, cw_nwek, cw_aplk, cw_nplk, cw_atxk, cw_ntxk, cw_ghwk, cw_gdpk, cw_galk, cw_gcok, cw_gfek, cw_h2, cw_h3, cw_h4, cw_h5, cw_h10, cw_grpk, cw_x0, cw_x1, cw_x2, cw_x5, cw_gtlk, cw_grfk, cw_ghsk, cw_padk, cw_pagk, cw_pmkk, cw_ppnk, cw_zpnk, cw_sfl, cw_sdt, cw_pmok, cw_peak, cw_plnk, cw_sowk, cw_selk, cw_sskk, cw_sslk, cw_srok, cw_swek, cw_splk, cw_palk, cw_pcok, cw_pfek, cw_prpk, cw_ptlk, cw_prfk, cw_phsk, cw_stxk, cw_ok3, cw_ok5, cw_okn, mw_g0 hp, hn9, if_pos (show lnk ≤ (lnk.toNat : Int) by omega)])]
  -- scans
  obtain ⟨s3, h3, ⟨hI3, hN1, hN2⟩, S3, hS3, rfl⟩ := lpx_fl (f := s_X4_mark p) (c := fun B : Int × AM => B.2.2.2.2.2 ≠ 0) (g := fun B => (B.1 + 1, scA m md w B.2)) (fun B s => (IE m md B.2 ∧ 0 ≤ B.1 ∧ B.1 + (2 * um B.2.1 + B.2.2.2.2.2) ≤ 500) ∧ ∃ S, SK G S B.2 ∧ s = .inr (.inr (.inr (cput D (cel G adk nfk ndk pnk agk B.2.1 flk dtk hwk dpk alk cok fek rpk rok wek plk mok eak lnk cpk elk owk S txk tlk rfk slk hsk) (mput p (G 3 6) (G 3 8) (wtA G w) md B.2.2.2.1 B.2.2.2.2.1 B.1 B.2.2.2.2.2 σ))))) (by
    rintro B s ⟨⟨hB, hB1, hB2⟩, S, hS, rfl⟩ hc
    obtain ⟨⟨q1, q2, q3, q4, q5⟩, q6⟩ := scA_g (w := w) hB
    dsimp only at q4
    have hov := hB.1.2.2.2.1
    have hu9 := um_b B.2.1
    obtain ⟨S', r1, r2⟩ := kc_scanA (σ := σ) (sc := B.1) (hd := hd) (adk := adk) (nfk := nfk) (ndk := ndk) (pnk := pnk) (agk := agk) (mkk := mkk) (flk := flk) (dtk := dtk) (hwk := hwk) (dpk := dpk) (alk := alk) (cok := cok) (fek := fek) (rpk := rpk) (rok := rok) (wek := wek) (plk := plk) (owk := owk) (skk := skk) (txk := txk) (tlk := tlk) (rfk := rfk) (slk := slk) (hsk := hsk) (mok := mok) (eak := eak) (lnk := lnk) (cpk := cpk) (elk := elk) hg hu hm hp hk hw hmd hB hS
    refine ⟨.inr (.inr (.inr (cput D (cel G adk nfk ndk pnk agk ((scA m md w B.2).1) flk dtk hwk dpk alk cok fek rpk rok wek plk mok eak lnk cpk elk owk S' txk tlk rfk slk hsk) (mput p (G 3 6) (G 3 8) (wtA G w) md (scA m md w B.2).2.2.1 (scA m md w B.2).2.2.2.1 (B.1 + 1) (scA m md w B.2).2.2.2.2 σ)))), ?_, ⟨⟨q1, q6⟩, by dsimp only; omega, by dsimp only; omega⟩, S', r2, rfl⟩
    refine lpx_n ?_
    unfold s_X4_mark g_X4_mark_135
    dsimp only at hc ⊢
    have hov1 : B.2.2.2.2.2 = 1 := by omega
    rw [hov1] at r1 ⊢
    simp (disch := first | assumption | exact HU.lu (by assumption) | exact cw_okn | exact cw_ok3 (by assumption) | exact cw_ok5 (by assumption) | omega) only [J_add, J_sub, J_mul, J_neg, J_lit, J_lt, J_le, J_eq, Option.bind_some, Int.reduceAdd, Int.reduceSub, Int.reduceMul, Int.reduceNeg, Int.reduceEq, Int.reduceLT, Int.reduceLE, reduceIte, Int.zero_add, Int.add_zero, and_self, true_and, and_true, false_and, and_false, or_true, true_or, or_false, false_or, not_true_eq_false, not_false_eq_true, ne_eq, b2_s, cw_gadk, cw_gpnk, cw_gagk, cw_gmkk, cw_gfl, cw_gdt, cw_kth, cw_afl, cw_nfl, cw_adt, cw_ndt, cw_gmok, cw_geak, cw_glnk, cw_k0, cw_k6, cw_k7, cw_aowk, cw_aelk, cw_askk, cw_aslk, cw_nelk, cw_arok, cw_nrok, cw_awek, cw_nwek, cw_aplk, cw_nplk, cw_atxk, cw_ntxk, cw_ghwk, cw_gdpk, cw_galk, cw_gcok, cw_gfek, cw_h2, cw_h3, cw_h4, cw_h5, cw_h10, cw_grpk, cw_x0, cw_x1, cw_x2, cw_x5, cw_gtlk, cw_grfk, cw_ghsk, cw_padk, cw_pagk, cw_pmkk, cw_ppnk, cw_zpnk, cw_sfl, cw_sdt, cw_pmok, cw_peak, cw_plnk, cw_sowk, cw_selk, cw_sskk, cw_sslk, cw_srok, cw_swek, cw_splk, cw_palk, cw_pcok, cw_pfek, cw_prpk, cw_ptlk, cw_prfk, cw_phsk, cw_stxk, cw_ok3, cw_ok5, cw_okn, mw_g7 hp, mw_ck hp, r1]) 1000 (0, beA m md w (mk0, stk0, 0, 0, 0)) (.inr (.inr (.inr (cput D (cel G adk nfk ndk pnk agk ((beA m md w (mk0, stk0, 0, 0, 0)).1) flk dtk hwk dpk alk cok fek rpk rok wek plk mok eak lnk cpk elk owk S2 txk tlk rfk slk hsk) (mput p (G 3 6) (G 3 8) (wtA G w) md (beA m md w (mk0, stk0, 0, 0, 0)).2.2.1 (beA m md w (mk0, stk0, 0, 0, 0)).2.2.2.1 0 (beA m md w (mk0, stk0, 0, 0, 0)).2.2.2.2 σ))))) ⟨⟨hI2, by dsimp only; omega, by have := um_b (beA m md w (mk0, stk0, 0, 0, 0)).1; have := hI2.1.2.2.2.1; dsimp only; omega⟩, S2, hS2, rfl⟩
  refine ⟨S3, ?_⟩
  rw [h3]
  have hfin := mkA_g (w := w) hm hI0
  refine lpx_d ?_
  unfold mkA at hfin ⊢
  unfold s_X4_mark g_X4_mark_135
  dsimp only
  simp (disch := first | assumption | exact HU.lu (by assumption) | exact cw_okn | exact cw_ok3 (by assumption) | exact cw_ok5 (by assumption) | omega) only [J_add, J_sub, J_mul, J_neg, J_lit, J_lt, J_le, J_eq, Option.bind_some, Int.reduceAdd, Int.reduceSub, Int.reduceMul, Int.reduceNeg, Int.reduceEq, Int.reduceLT, Int.reduceLE, reduceIte, Int.zero_add, Int.add_zero, and_self, true_and, and_true, false_and, and_false, or_true, true_or, or_false, false_or, not_true_eq_false, not_false_eq_true, ne_eq, b2_s, cw_gadk, cw_gpnk, cw_gagk, cw_gmkk, cw_gfl, cw_gdt, cw_kth, cw_afl, cw_nfl, cw_adt, cw_ndt, cw_gmok, cw_geak, cw_glnk, cw_k0, cw_k6, cw_k7, cw_aowk, cw_aelk, cw_askk, cw_aslk, cw_nelk, cw_arok, cw_nrok, cw_awek, cw_nwek, cw_aplk, cw_nplk, cw_atxk, cw_ntxk, cw_ghwk, cw_gdpk, cw_galk, cw_gcok, cw_gfek, cw_h2, cw_h3, cw_h4, cw_h5, cw_h10, cw_grpk, cw_x0, cw_x1, cw_x2, cw_x5, cw_gtlk, cw_grfk, cw_ghsk, cw_padk, cw_pagk, cw_pmkk, cw_ppnk, cw_zpnk, cw_sfl, cw_sdt, cw_pmok, cw_peak, cw_plnk, cw_sowk, cw_selk, cw_sskk, cw_sslk, cw_srok, cw_swek, cw_splk, cw_palk, cw_pcok, cw_pfek, cw_prpk, cw_ptlk, cw_prfk, cw_phsk, cw_stxk, cw_ok3, cw_ok5, cw_okn, mw_g7 hp, hfin.2.1]
end T1
