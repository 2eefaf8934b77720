/-! PLAIN LAW: the component's references, parts of objects, holes. NAMES: kc_, isHE -/
set_option maxRecDepth 100000
section T1
variable {m hd : Int → Int} {adk nfk ndk pnk agk mkk rok wek plk txk : Int → Int} {flk dtk : Int → Int → Int} {hwk dpk alk cok fek lnk tlk rfk : Int} {rpk : Option Nat} {mok : Int32} {eak cpk : Nat} {elk owk skk slk : Nat → Option Nat} {hsk : Int64} {D : Nat → Int × Int} {G : Int → Int → Nat} {σ : mm_M}
theorem in_ob (hm : WF m) {a r : Int} (a1 : 0 ≤ a) (a2 : a < 200) (a3 : 0 < m a) (hr : rf m r) : (r ≠ -1 ∧ a ≤ r ∧ r < a + m a) ↔ (r ≠ -1 ∧ ob m r = a) := by
  constructor
  · rintro ⟨q1, q2, q3⟩
    exact ⟨q1, ob_e hm ⟨a1, a2, a3, q2, q3⟩⟩
  · rintro ⟨q1, q2⟩
    have h := ob_of_rf hr q1
    rw [q2] at h
    exact ⟨q1, h.2.2.2.1, h.2.2.2.2⟩
theorem kc_references (hg : HU D G) (hm : WF m) (h : (KM m hd D G adk nfk ndk pnk agk mkk flk dtk hwk dpk alk cok fek rpk rok wek plk mok eak lnk cpk elk owk skk txk tlk rfk slk hsk)) {a : Int} (a1 : 0 ≤ a) (a2 : a < 200) (a3 : 0 < m a) : f_X1_references (G 3 6) (G 0 a) (cput D (cel G adk nfk ndk pnk agk mkk flk dtk hwk dpk alk cok fek rpk rok wek plk mok eak lnk cpk elk owk skk txk tlk rfk slk hsk) σ) = some (J (rfc m a)) := by
  have hW := hm.hW
  have hE := hm.he a a1 a2 a3
  have hF := hm.hf a a1 a2 a3
  have hl := h.ls
  have hl0 := hl
  have hh := h.hs
  obtain ⟨⟨l1, l2, l3, l4⟩, -, l6⟩ := hl0
  obtain ⟨t1, t2, t3, t4, t5, t6, t7, t8⟩ := h.th a1 a2 a3
  have hro : f_X1_countOf (G 3 3) (G 0 a) (cput D (cel G adk nfk ndk pnk agk mkk flk dtk hwk dpk alk cok fek rpk rok wek plk mok eak lnk cpk elk owk skk txk tlk rfk slk hsk) σ) = some (J (sm (fun k => if m (1200 + k) ≠ -1 ∧ ob m (m (1200 + k)) = a then 1 else 0) 6)) := by
    rw [kc_countOf (cc_3 hg) (by omega) t1 (by omega) (by omega) t2 (e := a + m a) (by omega) (by omega) (by omega) (fun k k1 k2 => by rw [h.ro k k1 (by omega)]; exact rf_ir hm (hm.hr k k1 (by omega)))]
    refine congrArg (fun z => some (J z)) (sm_congr _ (fun k hk => ?_))
    rw [h.ro k (by omega) (by omega)]
    simp only [in_ob hm a1 a2 a3 (hm.hr k (by omega) (by omega))]
  have hwe : f_X1_countOf (G 3 4) (G 0 a) (cput D (cel G adk nfk ndk pnk agk mkk flk dtk hwk dpk alk cok fek rpk rok wek plk mok eak lnk cpk elk owk skk txk tlk rfk slk hsk) σ) = some (J (sm (fun k => if m (1206 + k) ≠ -1 ∧ ob m (m (1206 + k)) = a then 1 else 0) 4)) := by
    have hr9 : ∀ k : Int, 0 ≤ k → k < 4 → rf m (m (1206 + k)) := fun k k1 k2 => by
      have := hm.hr (6 + k) (by omega) (by omega)
      rwa [show (1200 : Int) + (6 + k) = 1206 + k by omega] at this
    rw [kc_countOf (cc_4 hg) (by omega) t1 (by omega) (by omega) t2 (e := a + m a) (by omega) (by omega) (by omega) (fun k k1 k2 => by rw [h.we k k1 (by omega)]; exact rf_ir hm (hr9 k k1 (by omega)))]
    refine congrArg (fun z => some (J z)) (sm_congr _ (fun k hk => ?_))
    rw [h.we k (by omega) (by omega)]
    simp only [in_ob hm a1 a2 a3 (hr9 k (by omega) (by omega))]
  have hsum : sm (fun k => if m (1200 + k) ≠ -1 ∧ ob m (m (1200 + k)) = a then 1 else 0) 10 = sm (fun k => if m (1200 + k) ≠ -1 ∧ ob m (m (1200 + k)) = a then 1 else 0) 6 + sm (fun k => if m (1206 + k) ≠ -1 ∧ ob m (m (1206 + k)) = a then 1 else 0) 4 := by
    have h9 := sm_add (fun k => if m (1200 + k) ≠ -1 ∧ ob m (m (1200 + k)) = a then 1 else 0) 6 4
    refine h9.trans ?_
    have h8 : ∀ k : Int, (1200 : Int) + (((6 : Nat) : Int) + k) = 1206 + k := fun k => by omega
    simp only [h8]
  unfold f_X1_references g_X1_references_0 rfc
  rw [cw_h4 hg, Option.bind_some, hro, Option.bind_some, cw_h5 hg, Option.bind_some, hwe, Option.bind_some, J_add, ← hsum, lgo_l]
  generalize sm (fun k => if m (1200 + k) ≠ -1 ∧ ob m (m (1200 + k)) = a then 1 else 0) 10 = S
  rw [sm_hd hm hh l1 _ (fun b b1 b2 b3 => if_neg b3)]
  have key := lpx_seq (f := s_X1_references (G 3 6) (G 0 a) (cput D (cel G adk nfk ndk pnk agk mkk flk dtk hwk dpk alk cok fek rpk rok wek plk mok eak lnk cpk elk owk skk txk tlk rfk slk hsk) σ)) (fun k => (J (S + sm (fun k => if 0 < m (hd k) then sm (fun f => if m (800 + hd k + (1 + f)) ≠ -1 ∧ ob m (m (800 + hd k + (1 + f))) = a then 1 else 0) (m (200 + hd k)).toNat else 0) k), J k)) lnk.toNat (r := J (S + sm (fun k => if 0 < m (hd k) then sm (fun f => if m (800 + hd k + (1 + f)) ≠ -1 ∧ ob m (m (800 + hd k + (1 + f))) = a then 1 else 0) (m (200 + hd k)).toNat else 0) lnk.toNat)) ?_ ?_
  · simp only [sm, Int.add_zero] at key
    exact key
  · intro k hk
    obtain ⟨e1, e2⟩ := l6 k (by omega) (by omega)
    obtain ⟨d1, d2, d3⟩ := hh.1 k (by omega) (by omega)
    obtain ⟨s1, s2, s3, s4, s5, s6, s7, s8⟩ := h.th d1 d2 d3
    have hFd := hm.hf _ d1 d2 d3
    have hc : f_X1_countOf (G 1 (hd k)) (G 0 a) (cput D (cel G adk nfk ndk pnk agk mkk flk dtk hwk dpk alk cok fek rpk rok wek plk mok eak lnk cpk elk owk skk txk tlk rfk slk hsk) σ) = some (J (sm (fun f => if m (800 + hd k + (1 + f)) ≠ -1 ∧ ob m (m (800 + hd k + (1 + f))) = a then 1 else 0) (m (200 + hd k)).toNat)) := by
      have hcell := cc_fl (σ := σ) (adk := adk) (nfk := nfk) (ndk := ndk) (pnk := pnk) (agk := agk) (mkk := mkk) (flk := flk) (dtk := dtk) (hwk := hwk) (dpk := dpk) (alk := alk) (cok := cok) (fek := fek) (rpk := rpk) (rok := rok) (wek := wek) (plk := plk) (mok := mok) (eak := eak) (lnk := lnk) (cpk := cpk) (elk := elk) (owk := owk) (skk := skk) (txk := txk) (tlk := tlk) (rfk := rfk) (slk := slk) (hsk := hsk) s1
      have hrf : ∀ f : Int, 0 ≤ f → f < m (200 + hd k) → rf m (m (800 + hd k + (1 + f))) := fun f f1 f2 => hm.hq (hd k) (1 + f) d1 d2 d3 (by omega) (by omega)
      rw [kc_countOf hcell (by omega) t1 (by omega) (by omega) t2 (e := a + m a) (by omega) (by omega) (by omega) (fun f f1 f2 => by rw [s7 f f1 (by omega), show 800 + hd k + 1 + f = 800 + hd k + (1 + f) by omega]; exact rf_ir hm (hrf f f1 (by omega)))]
      rw [s3]
      refine congrArg (fun z => some (J z)) (sm_congr _ (fun f hf => ?_))
      rw [s7 f (by omega) (by omega), show 800 + hd k + 1 + (f : Int) = 800 + hd k + (1 + f) by omega]
      simp only [in_ob hm a1 a2 a3 (hrf f (by omega) (by omega))]
    rw [sm_s, if_pos d3]
    unfold s_X1_references g_X1_references_20
    simp (disch := first | assumption | exact HU.lu (by assumption) | exact cw_okn | exact cw_ok3 (by assumption) | exact cw_ok5 (by assumption) | omega) only [J_add, J_sub, J_mul, J_neg, J_lit, J_lt, J_le, J_eq, Option.bind_some, Int.reduceAdd, Int.reduceSub, Int.reduceMul, Int.reduceNeg, Int.reduceEq, Int.reduceLT, Int.reduceLE, reduceIte, Int.zero_add, Int.add_zero, and_self, true_and, and_true, false_and, and_false, or_true, true_or, or_false, false_or, not_true_eq_false, not_false_eq_true, ne_eq, b2_s, cw_gadk, cw_gpnk, cw_gagk, cw_gmkk, cw_gfl, cw_gdt, cw_kth, cw_afl, cw_nfl, cw_adt, cw_ndt, cw_gmok, cw_geak, cw_glnk, cw_k0, cw_k6, cw_k7, cw_aowk, cw_aelk, cw_askk, cw_aslk, cw_nelk, cw_arok, cw_nrok, cw_awek, cw_nwek, cw_aplk, cw_nplk, cw_atxk, cw_ntxk, cw_ghwk, cw_gdpk, cw_galk, cw_gcok, cw_gfek, cw_h2, cw_h3, cw_h4, cw_h5, cw_h10, cw_grpk, cw_x0, cw_x1, cw_x2, cw_x5, cw_gtlk, cw_grfk, cw_ghsk, cw_padk, cw_pagk, cw_pmkk, cw_ppnk, cw_zpnk, cw_sfl, cw_sdt, cw_pmok, cw_peak, cw_plnk, cw_sowk, cw_selk, cw_sskk, cw_sslk, cw_srok, cw_swek, cw_splk, cw_palk, cw_pcok, cw_pfek, cw_prpk, cw_ptlk, cw_prfk, cw_phsk, cw_stxk, cw_ok3, cw_ok5, cw_okn, kc_lsize hg, kc_get hg hl, if_neg (show ¬ (lnk ≤ (k : Int)) by omega)]
    rw [hc, Option.bind_some, J_add, Int.add_assoc]
    rfl
  · unfold s_X1_references g_X1_references_20
    simp (disch := first | assumption | exact HU.lu (by assumption) | exact cw_okn | exact cw_ok3 (by assumption) | exact cw_ok5 (by assumption) | omega) only [J_add, J_sub, J_mul, J_neg, J_lit, J_lt, J_le, J_eq, Option.bind_some, Int.reduceAdd, Int.reduceSub, Int.reduceMul, Int.reduceNeg, Int.reduceEq, Int.reduceLT, Int.reduceLE, reduceIte, Int.zero_add, Int.add_zero, and_self, true_and, and_true, false_and, and_false, or_true, true_or, or_false, false_or, not_true_eq_false, not_false_eq_true, ne_eq, b2_s, cw_gadk, cw_gpnk, cw_gagk, cw_gmkk, cw_gfl, cw_gdt, cw_kth, cw_afl, cw_nfl, cw_adt, cw_ndt, cw_gmok, cw_geak, cw_glnk, cw_k0, cw_k6, cw_k7, cw_aowk, cw_aelk, cw_askk, cw_aslk, cw_nelk, cw_arok, cw_nrok, cw_awek, cw_nwek, cw_aplk, cw_nplk, cw_atxk, cw_ntxk, cw_ghwk, cw_gdpk, cw_galk, cw_gcok, cw_gfek, cw_h2, cw_h3, cw_h4, cw_h5, cw_h10, cw_grpk, cw_x0, cw_x1, cw_x2, cw_x5, cw_gtlk, cw_grfk, cw_ghsk, cw_padk, cw_pagk, cw_pmkk, cw_ppnk, cw_zpnk, cw_sfl, cw_sdt, cw_pmok, cw_peak, cw_plnk, cw_sowk, cw_selk, cw_sskk, cw_sslk, cw_srok, cw_swek, cw_splk, cw_palk, cw_pcok, cw_pfek, cw_prpk, cw_ptlk, cw_prfk, cw_phsk, cw_stxk, cw_ok3, cw_ok5, cw_okn, kc_lsize hg, Int.toNat_of_nonneg l1, if_pos (show lnk ≤ lnk by omega)]
theorem kc_part {y : Int} (h1 : 0 ≤ y) (h2 : y ≤ 7) : f_X0_part (J y) σ = some y.toNat := by
  unfold f_X0_part
  rcases (show y = 0 ∨ y = 1 ∨ y = 2 ∨ y = 3 ∨ y = 4 ∨ y = 5 ∨ y = 6 ∨ y = 7 by omega) with rfl | rfl | rfl | rfl | rfl | rfl | rfl | rfl <;> rfl
theorem kc_of (hg : HU D G) (hu : XU D G) (hm : WF m) (h : (KM m hd D G adk nfk ndk pnk agk mkk flk dtk hwk dpk alk cok fek rpk rok wek plk mok eak lnk cpk elk owk skk txk tlk rfk slk hsk)) {a y : Int} (a1 : 0 ≤ a) (a2 : a < 200) (a3 : 0 < m a) (h1 : 0 ≤ y) (h2 : y ≤ 6) : f_of y.toNat (G 3 7) (G 0 a) (cput D (cel G adk nfk ndk pnk agk mkk flk dtk hwk dpk alk cok fek rpk rok wek plk mok eak lnk cpk elk owk skk txk tlk rfk slk hsk) σ) = some (J (par9 m a y), (cput D (cel G adk nfk ndk pnk agk mkk flk dtk hwk dpk alk cok fek rpk rok wek plk mok eak lnk cpk elk owk skk txk tlk rfk slk hsk) σ)) := by
  have hF := hm.hf a a1 a2 a3
  obtain ⟨t1, t2, t3, t4, t5, t6, t7, t8⟩ := h.th a1 a2 a3
  unfold f_of par9
  rcases (show y = 0 ∨ y = 1 ∨ y = 2 ∨ y = 3 ∨ y = 4 ∨ y = 5 ∨ y = 6 by omega) with rfl | rfl | rfl | rfl | rfl | rfl | rfl
  · unfold f_X16_of
    simp (disch := first | assumption | exact HU.lu (by assumption) | exact cw_okn | exact cw_ok3 (by assumption) | exact cw_ok5 (by assumption) | omega) only [J_add, J_sub, J_mul, J_neg, J_lit, J_lt, J_le, J_eq, Option.bind_some, Int.reduceAdd, Int.reduceSub, Int.reduceMul, Int.reduceNeg, Int.reduceEq, Int.reduceLT, Int.reduceLE, reduceIte, Int.zero_add, Int.add_zero, and_self, true_and, and_true, false_and, and_false, or_true, true_or, or_false, false_or, not_true_eq_false, not_false_eq_true, ne_eq, b2_s, cw_gadk, cw_gpnk, cw_gagk, cw_gmkk, cw_gfl, cw_gdt, cw_kth, cw_afl, cw_nfl, cw_adt, cw_ndt, cw_gmok, cw_geak, cw_glnk, cw_k0, cw_k6, cw_k7, cw_aowk, cw_aelk, cw_askk, cw_aslk, cw_nelk, cw_arok, cw_nrok, cw_awek, cw_nwek, cw_aplk, cw_nplk, cw_atxk, cw_ntxk, cw_ghwk, cw_gdpk, cw_galk, cw_gcok, cw_gfek, cw_h2, cw_h3, cw_h4, cw_h5, cw_h10, cw_grpk, cw_x0, cw_x1, cw_x2, cw_x5, cw_gtlk, cw_grfk, cw_ghsk, cw_padk, cw_pagk, cw_pmkk, cw_ppnk, cw_zpnk, cw_sfl, cw_sdt, cw_pmok, cw_peak, cw_plnk, cw_sowk, cw_selk, cw_sskk, cw_sslk, cw_srok, cw_swek, cw_splk, cw_palk, cw_pcok, cw_pfek, cw_prpk, cw_ptlk, cw_prfk, cw_phsk, cw_stxk, cw_ok3, cw_ok5, cw_okn, t2]
    rfl
  · unfold f_X22_of
    simp (disch := first | assumption | exact HU.lu (by assumption) | exact cw_okn | exact cw_ok3 (by assumption) | exact cw_ok5 (by assumption) | omega) only [J_add, J_sub, J_mul, J_neg, J_lit, J_lt, J_le, J_eq, Option.bind_some, Int.reduceAdd, Int.reduceSub, Int.reduceMul, Int.reduceNeg, Int.reduceEq, Int.reduceLT, Int.reduceLE, reduceIte, Int.zero_add, Int.add_zero, and_self, true_and, and_true, false_and, and_false, or_true, true_or, or_false, false_or, not_true_eq_false, not_false_eq_true, ne_eq, b2_s, cw_gadk, cw_gpnk, cw_gagk, cw_gmkk, cw_gfl, cw_gdt, cw_kth, cw_afl, cw_nfl, cw_adt, cw_ndt, cw_gmok, cw_geak, cw_glnk, cw_k0, cw_k6, cw_k7, cw_aowk, cw_aelk, cw_askk, cw_aslk, cw_nelk, cw_arok, cw_nrok, cw_awek, cw_nwek, cw_aplk, cw_nplk, cw_atxk, cw_ntxk, cw_ghwk, cw_gdpk, cw_galk, cw_gcok, cw_gfek, cw_h2, cw_h3, cw_h4, cw_h5, cw_h10, cw_grpk, cw_x0, cw_x1, cw_x2, cw_x5, cw_gtlk, cw_grfk, cw_ghsk, cw_padk, cw_pagk, cw_pmkk, cw_ppnk, cw_zpnk, cw_sfl, cw_sdt, cw_pmok, cw_peak, cw_plnk, cw_sowk, cw_selk, cw_sskk, cw_sslk, cw_srok, cw_swek, cw_splk, cw_palk, cw_pcok, cw_pfek, cw_prpk, cw_ptlk, cw_prfk, cw_phsk, cw_stxk, cw_ok3, cw_ok5, cw_okn, kc_sizeK hm h a1 a2 a3]
    rfl
  · unfold f_X17_of
    simp (disch := first | assumption | exact HU.lu (by assumption) | exact cw_okn | exact cw_ok3 (by assumption) | exact cw_ok5 (by assumption) | omega) only [J_add, J_sub, J_mul, J_neg, J_lit, J_lt, J_le, J_eq, Option.bind_some, Int.reduceAdd, Int.reduceSub, Int.reduceMul, Int.reduceNeg, Int.reduceEq, Int.reduceLT, Int.reduceLE, reduceIte, Int.zero_add, Int.add_zero, and_self, true_and, and_true, false_and, and_false, or_true, true_or, or_false, false_or, not_true_eq_false, not_false_eq_true, ne_eq, b2_s, cw_gadk, cw_gpnk, cw_gagk, cw_gmkk, cw_gfl, cw_gdt, cw_kth, cw_afl, cw_nfl, cw_adt, cw_ndt, cw_gmok, cw_geak, cw_glnk, cw_k0, cw_k6, cw_k7, cw_aowk, cw_aelk, cw_askk, cw_aslk, cw_nelk, cw_arok, cw_nrok, cw_awek, cw_nwek, cw_aplk, cw_nplk, cw_atxk, cw_ntxk, cw_ghwk, cw_gdpk, cw_galk, cw_gcok, cw_gfek, cw_h2, cw_h3, cw_h4, cw_h5, cw_h10, cw_grpk, cw_x0, cw_x1, cw_x2, cw_x5, cw_gtlk, cw_grfk, cw_ghsk, cw_padk, cw_pagk, cw_pmkk, cw_ppnk, cw_zpnk, cw_sfl, cw_sdt, cw_pmok, cw_peak, cw_plnk, cw_sowk, cw_selk, cw_sskk, cw_sslk, cw_srok, cw_swek, cw_splk, cw_palk, cw_pcok, cw_pfek, cw_prpk, cw_ptlk, cw_prfk, cw_phsk, cw_stxk, cw_ok3, cw_ok5, cw_okn, t3]
    rfl
  · unfold f_X18_of
    simp (disch := first | assumption | exact HU.lu (by assumption) | exact cw_okn | exact cw_ok3 (by assumption) | exact cw_ok5 (by assumption) | omega) only [J_add, J_sub, J_mul, J_neg, J_lit, J_lt, J_le, J_eq, Option.bind_some, Int.reduceAdd, Int.reduceSub, Int.reduceMul, Int.reduceNeg, Int.reduceEq, Int.reduceLT, Int.reduceLE, reduceIte, Int.zero_add, Int.add_zero, and_self, true_and, and_true, false_and, and_false, or_true, true_or, or_false, false_or, not_true_eq_false, not_false_eq_true, ne_eq, b2_s, cw_gadk, cw_gpnk, cw_gagk, cw_gmkk, cw_gfl, cw_gdt, cw_kth, cw_afl, cw_nfl, cw_adt, cw_ndt, cw_gmok, cw_geak, cw_glnk, cw_k0, cw_k6, cw_k7, cw_aowk, cw_aelk, cw_askk, cw_aslk, cw_nelk, cw_arok, cw_nrok, cw_awek, cw_nwek, cw_aplk, cw_nplk, cw_atxk, cw_ntxk, cw_ghwk, cw_gdpk, cw_galk, cw_gcok, cw_gfek, cw_h2, cw_h3, cw_h4, cw_h5, cw_h10, cw_grpk, cw_x0, cw_x1, cw_x2, cw_x5, cw_gtlk, cw_grfk, cw_ghsk, cw_padk, cw_pagk, cw_pmkk, cw_ppnk, cw_zpnk, cw_sfl, cw_sdt, cw_pmok, cw_peak, cw_plnk, cw_sowk, cw_selk, cw_sskk, cw_sslk, cw_srok, cw_swek, cw_splk, cw_palk, cw_pcok, cw_pfek, cw_prpk, cw_ptlk, cw_prfk, cw_phsk, cw_stxk, cw_ok3, cw_ok5, cw_okn, t4]
    rfl
  · unfold f_X19_of
    rcases hm.hp a a1 a2 with q | q
    · simp (disch := first | assumption | exact HU.lu (by assumption) | exact cw_okn | exact cw_ok3 (by assumption) | exact cw_ok5 (by assumption) | omega) only [J_add, J_sub, J_mul, J_neg, J_lit, J_lt, J_le, J_eq, Option.bind_some, Int.reduceAdd, Int.reduceSub, Int.reduceMul, Int.reduceNeg, Int.reduceEq, Int.reduceLT, Int.reduceLE, reduceIte, Int.zero_add, Int.add_zero, and_self, true_and, and_true, false_and, and_false, or_true, true_or, or_false, false_or, not_true_eq_false, not_false_eq_true, ne_eq, b2_s, cw_gadk, cw_gpnk, cw_gagk, cw_gmkk, cw_gfl, cw_gdt, cw_kth, cw_afl, cw_nfl, cw_adt, cw_ndt, cw_gmok, cw_geak, cw_glnk, cw_k0, cw_k6, cw_k7, cw_aowk, cw_aelk, cw_askk, cw_aslk, cw_nelk, cw_arok, cw_nrok, cw_awek, cw_nwek, cw_aplk, cw_nplk, cw_atxk, cw_ntxk, cw_ghwk, cw_gdpk, cw_galk, cw_gcok, cw_gfek, cw_h2, cw_h3, cw_h4, cw_h5, cw_h10, cw_grpk, cw_x0, cw_x1, cw_x2, cw_x5, cw_gtlk, cw_grfk, cw_ghsk, cw_padk, cw_pagk, cw_pmkk, cw_ppnk, cw_zpnk, cw_sfl, cw_sdt, cw_pmok, cw_peak, cw_plnk, cw_sowk, cw_selk, cw_sskk, cw_sslk, cw_srok, cw_swek, cw_splk, cw_palk, cw_pcok, cw_pfek, cw_prpk, cw_ptlk, cw_prfk, cw_phsk, cw_stxk, cw_ok3, cw_ok5, cw_okn, t5, q]
      rfl
    · simp (disch := first | assumption | exact HU.lu (by assumption) | exact cw_okn | exact cw_ok3 (by assumption) | exact cw_ok5 (by assumption) | omega) only [J_add, J_sub, J_mul, J_neg, J_lit, J_lt, J_le, J_eq, Option.bind_some, Int.reduceAdd, Int.reduceSub, Int.reduceMul, Int.reduceNeg, Int.reduceEq, Int.reduceLT, Int.reduceLE, reduceIte, Int.zero_add, Int.add_zero, and_self, true_and, and_true, false_and, and_false, or_true, true_or, or_false, false_or, not_true_eq_false, not_false_eq_true, ne_eq, b2_s, cw_gadk, cw_gpnk, cw_gagk, cw_gmkk, cw_gfl, cw_gdt, cw_kth, cw_afl, cw_nfl, cw_adt, cw_ndt, cw_gmok, cw_geak, cw_glnk, cw_k0, cw_k6, cw_k7, cw_aowk, cw_aelk, cw_askk, cw_aslk, cw_nelk, cw_arok, cw_nrok, cw_awek, cw_nwek, cw_aplk, cw_nplk, cw_atxk, cw_ntxk, cw_ghwk, cw_gdpk, cw_galk, cw_gcok, cw_gfek, cw_h2, cw_h3, cw_h4, cw_h5, cw_h10, cw_grpk, cw_x0, cw_x1, cw_x2, cw_x5, cw_gtlk, cw_grfk, cw_ghsk, cw_padk, cw_pagk, cw_pmkk, cw_ppnk, cw_zpnk, cw_sfl, cw_sdt, cw_pmok, cw_peak, cw_plnk, cw_sowk, cw_selk, cw_sskk, cw_sslk, cw_srok, cw_swek, cw_splk, cw_palk, cw_pcok, cw_pfek, cw_prpk, cw_ptlk, cw_prfk, cw_phsk, cw_stxk, cw_ok3, cw_ok5, cw_okn, t5, q]
      rfl
  · unfold f_X20_of
    simp (disch := first | assumption | exact HU.lu (by assumption) | exact cw_okn | exact cw_ok3 (by assumption) | exact cw_ok5 (by assumption) | omega) only [J_add, J_sub, J_mul, J_neg, J_lit, J_lt, J_le, J_eq, Option.bind_some, Int.reduceAdd, Int.reduceSub, Int.reduceMul, Int.reduceNeg, Int.reduceEq, Int.reduceLT, Int.reduceLE, reduceIte, Int.zero_add, Int.add_zero, and_self, true_and, and_true, false_and, and_false, or_true, true_or, or_false, false_or, not_true_eq_false, not_false_eq_true, ne_eq, b2_s, cw_gadk, cw_gpnk, cw_gagk, cw_gmkk, cw_gfl, cw_gdt, cw_kth, cw_afl, cw_nfl, cw_adt, cw_ndt, cw_gmok, cw_geak, cw_glnk, cw_k0, cw_k6, cw_k7, cw_aowk, cw_aelk, cw_askk, cw_aslk, cw_nelk, cw_arok, cw_nrok, cw_awek, cw_nwek, cw_aplk, cw_nplk, cw_atxk, cw_ntxk, cw_ghwk, cw_gdpk, cw_galk, cw_gcok, cw_gfek, cw_h2, cw_h3, cw_h4, cw_h5, cw_h10, cw_grpk, cw_x0, cw_x1, cw_x2, cw_x5, cw_gtlk, cw_grfk, cw_ghsk, cw_padk, cw_pagk, cw_pmkk, cw_ppnk, cw_zpnk, cw_sfl, cw_sdt, cw_pmok, cw_peak, cw_plnk, cw_sowk, cw_selk, cw_sskk, cw_sslk, cw_srok, cw_swek, cw_splk, cw_palk, cw_pcok, cw_pfek, cw_prpk, cw_ptlk, cw_prfk, cw_phsk, cw_stxk, cw_ok3, cw_ok5, cw_okn, t6]
    rfl
  · unfold f_X15_of
    simp (disch := first | assumption | exact HU.lu (by assumption) | exact cw_okn | exact cw_ok3 (by assumption) | exact cw_ok5 (by assumption) | omega) only [J_add, J_sub, J_mul, J_neg, J_lit, J_lt, J_le, J_eq, Option.bind_some, Int.reduceAdd, Int.reduceSub, Int.reduceMul, Int.reduceNeg, Int.reduceEq, Int.reduceLT, Int.reduceLE, reduceIte, Int.zero_add, Int.add_zero, and_self, true_and, and_true, false_and, and_false, or_true, true_or, or_false, false_or, not_true_eq_false, not_false_eq_true, ne_eq, b2_s, cw_gadk, cw_gpnk, cw_gagk, cw_gmkk, cw_gfl, cw_gdt, cw_kth, cw_afl, cw_nfl, cw_adt, cw_ndt, cw_gmok, cw_geak, cw_glnk, cw_k0, cw_k6, cw_k7, cw_aowk, cw_aelk, cw_askk, cw_aslk, cw_nelk, cw_arok, cw_nrok, cw_awek, cw_nwek, cw_aplk, cw_nplk, cw_atxk, cw_ntxk, cw_ghwk, cw_gdpk, cw_galk, cw_gcok, cw_gfek, cw_h2, cw_h3, cw_h4, cw_h5, cw_h10, cw_grpk, cw_x0, cw_x1, cw_x2, cw_x5, cw_gtlk, cw_grfk, cw_ghsk, cw_padk, cw_pagk, cw_pmkk, cw_ppnk, cw_zpnk, cw_sfl, cw_sdt, cw_pmok, cw_peak, cw_plnk, cw_sowk, cw_selk, cw_sskk, cw_sslk, cw_srok, cw_swek, cw_splk, cw_palk, cw_pcok, cw_pfek, cw_prpk, cw_ptlk, cw_prfk, cw_phsk, cw_stxk, cw_ok3, cw_ok5, cw_okn, kc_references hg hm h a1 a2 a3]
    rfl
theorem kc_object6 (hg : HU D G) (hu : XU D G) (hm : WF m) (h : (KM m hd D G adk nfk ndk pnk agk mkk flk dtk hwk dpk alk cok fek rpk rok wek plk mok eak lnk cpk elk owk skk txk tlk rfk slk hsk)) {x y : Int} (hx : ir x) (hy : ir y) : (¬ (ob m x ≠ -1 ∧ 0 ≤ y ∧ y ≤ 7) → f_X0_object (G 3 7) (J x) (J y) (cput D (cel G adk nfk ndk pnk agk mkk flk dtk hwk dpk alk cok fek rpk rok wek plk mok eak lnk cpk elk owk skk txk tlk rfk slk hsk) σ) = some (J (-1000002), (cput D (cel G adk nfk ndk pnk agk mkk flk dtk hwk dpk alk cok fek rpk rok wek plk mok eak lnk cpk elk owk skk txk tlk rfk slk hsk) σ))) ∧ (ob m x ≠ -1 → 0 ≤ y → y ≤ 6 → f_X0_object (G 3 7) (J x) (J y) (cput D (cel G adk nfk ndk pnk agk mkk flk dtk hwk dpk alk cok fek rpk rok wek plk mok eak lnk cpk elk owk skk txk tlk rfk slk hsk) σ) = some (J (par9 m (ob m x) y), (cput D (cel G adk nfk ndk pnk agk mkk flk dtk hwk dpk alk cok fek rpk rok wek plk mok eak lnk cpk elk owk skk txk tlk rfk slk hsk) σ))) := by
  have hy' := hy
  obtain ⟨y1, y2⟩ := hy
  have hin := kc_in (σ := (cput D (cel G adk nfk ndk pnk agk mkk flk dtk hwk dpk alk cok fek rpk rok wek plk mok eak lnk cpk elk owk skk txk tlk rfk slk hsk) σ)) hy' (show ir 0 by unfold ir; omega) (show ir 7 by unfold ir; omega)
  unfold f_X0_object
  rcases ob_r (m := m) x with h9 | ⟨a1, a2, a3, -⟩
  · constructor
    · intro _
      simp (disch := first | assumption | exact HU.lu (by assumption) | exact cw_okn | exact cw_ok3 (by assumption) | exact cw_ok5 (by assumption) | omega) only [J_add, J_sub, J_mul, J_neg, J_lit, J_lt, J_le, J_eq, Option.bind_some, Int.reduceAdd, Int.reduceSub, Int.reduceMul, Int.reduceNeg, Int.reduceEq, Int.reduceLT, Int.reduceLE, reduceIte, Int.zero_add, Int.add_zero, and_self, true_and, and_true, false_and, and_false, or_true, true_or, or_false, false_or, not_true_eq_false, not_false_eq_true, ne_eq, b2_s, cw_gadk, cw_gpnk, cw_gagk, cw_gmkk, cw_gfl, cw_gdt, cw_kth, cw_afl, cw_nfl, cw_adt, cw_ndt, cw_gmok, cw_geak, cw_glnk, cw_k0, cw_k6, cw_k7, cw_aowk, cw_aelk, cw_askk, cw_aslk, cw_nelk, cw_arok, cw_nrok, cw_awek, cw_nwek, cw_aplk, cw_nplk, cw_atxk, cw_ntxk, cw_ghwk, cw_gdpk, cw_galk, cw_gcok, cw_gfek, cw_h2, cw_h3, cw_h4, cw_h5, cw_h10, cw_grpk, cw_x0, cw_x1, cw_x2, cw_x5, cw_gtlk, cw_grfk, cw_ghsk, cw_padk, cw_pagk, cw_pmkk, cw_ppnk, cw_zpnk, cw_sfl, cw_sdt, cw_pmok, cw_peak, cw_plnk, cw_sowk, cw_selk, cw_sskk, cw_sslk, cw_srok, cw_swek, cw_splk, cw_palk, cw_pcok, cw_pfek, cw_prpk, cw_ptlk, cw_prfk, cw_phsk, cw_stxk, cw_ok3, cw_ok5, cw_okn, kc_at hg hm h hx, if_pos h9, mt_n]
    · intro q
      exact absurd h9 q
  · constructor
    · intro hc
      have hc2 : ¬ (0 ≤ y ∧ y ≤ 7) := fun q => hc ⟨by omega, q⟩
      simp (disch := first | assumption | exact HU.lu (by assumption) | exact cw_okn | exact cw_ok3 (by assumption) | exact cw_ok5 (by assumption) | omega) only [J_add, J_sub, J_mul, J_neg, J_lit, J_lt, J_le, J_eq, Option.bind_some, Int.reduceAdd, Int.reduceSub, Int.reduceMul, Int.reduceNeg, Int.reduceEq, Int.reduceLT, Int.reduceLE, reduceIte, Int.zero_add, Int.add_zero, and_self, true_and, and_true, false_and, and_false, or_true, true_or, or_false, false_or, not_true_eq_false, not_false_eq_true, ne_eq, b2_s, cw_gadk, cw_gpnk, cw_gagk, cw_gmkk, cw_gfl, cw_gdt, cw_kth, cw_afl, cw_nfl, cw_adt, cw_ndt, cw_gmok, cw_geak, cw_glnk, cw_k0, cw_k6, cw_k7, cw_aowk, cw_aelk, cw_askk, cw_aslk, cw_nelk, cw_arok, cw_nrok, cw_awek, cw_nwek, cw_aplk, cw_nplk, cw_atxk, cw_ntxk, cw_ghwk, cw_gdpk, cw_galk, cw_gcok, cw_gfek, cw_h2, cw_h3, cw_h4, cw_h5, cw_h10, cw_grpk, cw_x0, cw_x1, cw_x2, cw_x5, cw_gtlk, cw_grfk, cw_ghsk, cw_padk, cw_pagk, cw_pmkk, cw_ppnk, cw_zpnk, cw_sfl, cw_sdt, cw_pmok, cw_peak, cw_plnk, cw_sowk, cw_selk, cw_sskk, cw_sslk, cw_srok, cw_swek, cw_splk, cw_palk, cw_pcok, cw_pfek, cw_prpk, cw_ptlk, cw_prfk, cw_phsk, cw_stxk, cw_ok3, cw_ok5, cw_okn, kc_at hg hm h hx, if_neg (show ¬ ob m x = -1 by omega), mt_s, hin, if_neg hc2]
    · intro _ h1 h2
      simp (disch := first | assumption | exact HU.lu (by assumption) | exact cw_okn | exact cw_ok3 (by assumption) | exact cw_ok5 (by assumption) | omega) only [J_add, J_sub, J_mul, J_neg, J_lit, J_lt, J_le, J_eq, Option.bind_some, Int.reduceAdd, Int.reduceSub, Int.reduceMul, Int.reduceNeg, Int.reduceEq, Int.reduceLT, Int.reduceLE, reduceIte, Int.zero_add, Int.add_zero, and_self, true_and, and_true, false_and, and_false, or_true, true_or, or_false, false_or, not_true_eq_false, not_false_eq_true, ne_eq, b2_s, cw_gadk, cw_gpnk, cw_gagk, cw_gmkk, cw_gfl, cw_gdt, cw_kth, cw_afl, cw_nfl, cw_adt, cw_ndt, cw_gmok, cw_geak, cw_glnk, cw_k0, cw_k6, cw_k7, cw_aowk, cw_aelk, cw_askk, cw_aslk, cw_nelk, cw_arok, cw_nrok, cw_awek, cw_nwek, cw_aplk, cw_nplk, cw_atxk, cw_ntxk, cw_ghwk, cw_gdpk, cw_galk, cw_gcok, cw_gfek, cw_h2, cw_h3, cw_h4, cw_h5, cw_h10, cw_grpk, cw_x0, cw_x1, cw_x2, cw_x5, cw_gtlk, cw_grfk, cw_ghsk, cw_padk, cw_pagk, cw_pmkk, cw_ppnk, cw_zpnk, cw_sfl, cw_sdt, cw_pmok, cw_peak, cw_plnk, cw_sowk, cw_selk, cw_sskk, cw_sslk, cw_srok, cw_swek, cw_splk, cw_palk, cw_pcok, cw_pfek, cw_prpk, cw_ptlk, cw_prfk, cw_phsk, cw_stxk, cw_ok3, cw_ok5, cw_okn, kc_at hg hm h hx, if_neg (show ¬ ob m x = -1 by omega), mt_s, hin, if_pos (show 0 ≤ y ∧ y ≤ 7 by omega), kc_part h1 (show y ≤ 7 by omega), kc_of hg hu hm h a1 a2 a3 h1 h2]
/-- r ends the hole that begins at a -/
def isHE (m : Int → Int) (a r : Int) : Prop := a ≤ r ∧ (∀ k, a ≤ k → k < r → ob m k = -1) ∧ (r < m 1216 → ob m r ≠ -1) ∧ (r ≤ m 1216 ∨ r = a)
theorem kc_holeEnd (hg : HU D G) (hm : WF m) (h : (KM m hd D G adk nfk ndk pnk agk mkk flk dtk hwk dpk alk cok fek rpk rok wek plk mok eak lnk cpk elk owk skk txk tlk rfk slk hsk)) {a : Int} (a1 : 0 ≤ a) (a2 : a ≤ 300) : ∃ r, f_X1_holeEnd (G 3 6) (J a) (cput D (cel G adk nfk ndk pnk agk mkk flk dtk hwk dpk alk cok fek rpk rok wek plk mok eak lnk cpk elk owk skk txk tlk rfk slk hsk) σ) = some (J r) ∧ isHE m a r := by
  have hW := hm.hW
  have how := h.ow
  obtain ⟨n1, -⟩ := h.nu
  unfold f_X1_holeEnd g_X1_holeEnd_0
  rw [lgo_l]
  obtain ⟨r, h1, r', h2, h3⟩ := lpx_is (f := s_X1_holeEnd (G 3 6) (J a) (cput D (cel G adk nfk ndk pnk agk mkk flk dtk hwk dpk alk cok fek rpk rok wek plk mok eak lnk cpk elk owk skk txk tlk rfk slk hsk) σ)) (fun s => ∃ c, s = J c ∧ a ≤ c ∧ c ≤ 300 ∧ (c ≤ m 1216 ∨ c = a) ∧ ∀ b, a ≤ b → b < c → ob m b = -1) (fun s => (300 - s.toInt).toNat) (fun r => ∃ r', r = J r' ∧ isHE m a r') (s := J a) ⟨a, rfl, by omega, by omega, Or.inr rfl, fun b h1 h2 => by omega⟩ (by
    rintro s ⟨c, rfl, c1, c2, c3, c4⟩
    unfold s_X1_holeEnd g_X1_holeEnd_2
    by_cases hc : m 1216 ≤ c
    · simp (disch := first | assumption | exact HU.lu (by assumption) | exact cw_okn | exact cw_ok3 (by assumption) | exact cw_ok5 (by assumption) | omega) only [J_add, J_sub, J_mul, J_neg, J_lit, J_lt, J_le, J_eq, Option.bind_some, Int.reduceAdd, Int.reduceSub, Int.reduceMul, Int.reduceNeg, Int.reduceEq, Int.reduceLT, Int.reduceLE, reduceIte, Int.zero_add, Int.add_zero, and_self, true_and, and_true, false_and, and_false, or_true, true_or, or_false, false_or, not_true_eq_false, not_false_eq_true, ne_eq, b2_s, cw_gadk, cw_gpnk, cw_gagk, cw_gmkk, cw_gfl, cw_gdt, cw_kth, cw_afl, cw_nfl, cw_adt, cw_ndt, cw_gmok, cw_geak, cw_glnk, cw_k0, cw_k6, cw_k7, cw_aowk, cw_aelk, cw_askk, cw_aslk, cw_nelk, cw_arok, cw_nrok, cw_awek, cw_nwek, cw_aplk, cw_nplk, cw_atxk, cw_ntxk, cw_ghwk, cw_gdpk, cw_galk, cw_gcok, cw_gfek, cw_h2, cw_h3, cw_h4, cw_h5, cw_h10, cw_grpk, cw_x0, cw_x1, cw_x2, cw_x5, cw_gtlk, cw_grfk, cw_ghsk, cw_padk, cw_pagk, cw_pmkk, cw_ppnk, cw_zpnk, cw_sfl, cw_sdt, cw_pmok, cw_peak, cw_plnk, cw_sowk, cw_selk, cw_sskk, cw_sslk, cw_srok, cw_swek, cw_splk, cw_palk, cw_pcok, cw_pfek, cw_prpk, cw_ptlk, cw_prfk, cw_phsk, cw_stxk, cw_ok3, cw_ok5, cw_okn, n1, if_pos hc]
      exact Or.inl ⟨_, rfl, c, rfl, c1, c4, fun q => by omega, c3⟩
    · have ho := how c (by omega) (by omega)
      by_cases h9 : ob m c = -1
      · rw [if_pos h9] at ho
        simp (disch := first | assumption | exact HU.lu (by assumption) | exact cw_okn | exact cw_ok3 (by assumption) | exact cw_ok5 (by assumption) | omega) only [J_add, J_sub, J_mul, J_neg, J_lit, J_lt, J_le, J_eq, Option.bind_some, Int.reduceAdd, Int.reduceSub, Int.reduceMul, Int.reduceNeg, Int.reduceEq, Int.reduceLT, Int.reduceLE, reduceIte, Int.zero_add, Int.add_zero, and_self, true_and, and_true, false_and, and_false, or_true, true_or, or_false, false_or, not_true_eq_false, not_false_eq_true, ne_eq, b2_s, cw_gadk, cw_gpnk, cw_gagk, cw_gmkk, cw_gfl, cw_gdt, cw_kth, cw_afl, cw_nfl, cw_adt, cw_ndt, cw_gmok, cw_geak, cw_glnk, cw_k0, cw_k6, cw_k7, cw_aowk, cw_aelk, cw_askk, cw_aslk, cw_nelk, cw_arok, cw_nrok, cw_awek, cw_nwek, cw_aplk, cw_nplk, cw_atxk, cw_ntxk, cw_ghwk, cw_gdpk, cw_galk, cw_gcok, cw_gfek, cw_h2, cw_h3, cw_h4, cw_h5, cw_h10, cw_grpk, cw_x0, cw_x1, cw_x2, cw_x5, cw_gtlk, cw_grfk, cw_ghsk, cw_padk, cw_pagk, cw_pmkk, cw_ppnk, cw_zpnk, cw_sfl, cw_sdt, cw_pmok, cw_peak, cw_plnk, cw_sowk, cw_selk, cw_sskk, cw_sslk, cw_srok, cw_swek, cw_splk, cw_palk, cw_pcok, cw_pfek, cw_prpk, cw_ptlk, cw_prfk, cw_phsk, cw_stxk, cw_ok3, cw_ok5, cw_okn, n1, if_neg hc, ho, mt_n]
        refine Or.inr ⟨_, rfl, ⟨c + 1, rfl, by omega, by omega, by omega, fun b b1 b2 => ?_⟩, ?_⟩
        · by_cases hbc : b = c
          · rw [hbc]; exact h9
          · exact c4 b b1 (by omega)
        · rw [J_toInt (by omega) (by omega), J_toInt (by omega) (by omega)]
          omega
      · rw [if_neg h9] at ho
        simp (disch := first | assumption | exact HU.lu (by assumption) | exact cw_okn | exact cw_ok3 (by assumption) | exact cw_ok5 (by assumption) | omega) only [J_add, J_sub, J_mul, J_neg, J_lit, J_lt, J_le, J_eq, Option.bind_some, Int.reduceAdd, Int.reduceSub, Int.reduceMul, Int.reduceNeg, Int.reduceEq, Int.reduceLT, Int.reduceLE, reduceIte, Int.zero_add, Int.add_zero, and_self, true_and, and_true, false_and, and_false, or_true, true_or, or_false, false_or, not_true_eq_false, not_false_eq_true, ne_eq, b2_s, cw_gadk, cw_gpnk, cw_gagk, cw_gmkk, cw_gfl, cw_gdt, cw_kth, cw_afl, cw_nfl, cw_adt, cw_ndt, cw_gmok, cw_geak, cw_glnk, cw_k0, cw_k6, cw_k7, cw_aowk, cw_aelk, cw_askk, cw_aslk, cw_nelk, cw_arok, cw_nrok, cw_awek, cw_nwek, cw_aplk, cw_nplk, cw_atxk, cw_ntxk, cw_ghwk, cw_gdpk, cw_galk, cw_gcok, cw_gfek, cw_h2, cw_h3, cw_h4, cw_h5, cw_h10, cw_grpk, cw_x0, cw_x1, cw_x2, cw_x5, cw_gtlk, cw_grfk, cw_ghsk, cw_padk, cw_pagk, cw_pmkk, cw_ppnk, cw_zpnk, cw_sfl, cw_sdt, cw_pmok, cw_peak, cw_plnk, cw_sowk, cw_selk, cw_sskk, cw_sslk, cw_srok, cw_swek, cw_splk, cw_palk, cw_pcok, cw_pfek, cw_prpk, cw_ptlk, cw_prfk, cw_phsk, cw_stxk, cw_ok3, cw_ok5, cw_okn, n1, if_neg hc, ho, mt_s]
        exact Or.inl ⟨_, rfl, c, rfl, c1, c4, fun _ => h9, by omega⟩)
  exact ⟨r', by rw [h1, h2], h3⟩
theorem kc_firstHole (hg : HU D G) (hm : WF m) (h : (KM m hd D G adk nfk ndk pnk agk mkk flk dtk hwk dpk alk cok fek rpk rok wek plk mok eak lnk cpk elk owk skk txk tlk rfk slk hsk)) {z : Int} (z1 : 1 ≤ z) (z2 : z ≤ 13) : ∃ r, f_X1_firstHole (G 3 6) (J z) (cput D (cel G adk nfk ndk pnk agk mkk flk dtk hwk dpk alk cok fek rpk rok wek plk mok eak lnk cpk elk owk skk txk tlk rfk slk hsk) σ) = some (J r) ∧ isFH m z r := by
  have hW := hm.hW
  have how := h.ow
  have hho : ∀ a, 0 ≤ a → a ≤ 300 → ∃ r, f_X1_holeEnd (G 3 6) (J a) (cput D (cel G adk nfk ndk pnk agk mkk flk dtk hwk dpk alk cok fek rpk rok wek plk mok eak lnk cpk elk owk skk txk tlk rfk slk hsk) σ) = some (J r) ∧ isHE m a r := fun a a1 a2 => kc_holeEnd hg hm h a1 a2
  obtain ⟨rfl, -⟩ := h.nu
  unfold f_X1_firstHole g_X1_firstHole_0
  rw [lgo_l, show (0 : Int32) = J 0 from J_lit 0]
  obtain ⟨r, h1, r', h2, h3⟩ := lpx_is (f := s_X1_firstHole (G 3 6) (J z) (cput D (cel G adk nfk ndk pnk agk mkk flk dtk (m 1216) dpk alk cok fek rpk rok wek plk mok eak lnk cpk elk owk skk txk tlk rfk slk hsk) σ)) (fun s => ∃ c, s = J c ∧ 0 ≤ c ∧ c ≤ 200 ∧ ∀ b, b < c → ¬ fr m z b) (fun s => (200 - s.toInt).toNat) (fun r => ∃ r', r = J r' ∧ isFH m z r') (s := J 0) ⟨0, rfl, by omega, by omega, fun b h1 h2 => by have := h2.1; omega⟩ (by
    rintro s ⟨c, rfl, c1, c2, c3⟩
    unfold s_X1_firstHole g_X1_firstHole_2
    by_cases hc : m 1216 ≤ c
    · simp (disch := first | assumption | exact HU.lu (by assumption) | exact cw_okn | exact cw_ok3 (by assumption) | exact cw_ok5 (by assumption) | omega) only [J_add, J_sub, J_mul, J_neg, J_lit, J_lt, J_le, J_eq, Option.bind_some, Int.reduceAdd, Int.reduceSub, Int.reduceMul, Int.reduceNeg, Int.reduceEq, Int.reduceLT, Int.reduceLE, reduceIte, Int.zero_add, Int.add_zero, and_self, true_and, and_true, false_and, and_false, or_true, true_or, or_false, false_or, not_true_eq_false, not_false_eq_true, ne_eq, b2_s, cw_gadk, cw_gpnk, cw_gagk, cw_gmkk, cw_gfl, cw_gdt, cw_kth, cw_afl, cw_nfl, cw_adt, cw_ndt, cw_gmok, cw_geak, cw_glnk, cw_k0, cw_k6, cw_k7, cw_aowk, cw_aelk, cw_askk, cw_aslk, cw_nelk, cw_arok, cw_nrok, cw_awek, cw_nwek, cw_aplk, cw_nplk, cw_atxk, cw_ntxk, cw_ghwk, cw_gdpk, cw_galk, cw_gcok, cw_gfek, cw_h2, cw_h3, cw_h4, cw_h5, cw_h10, cw_grpk, cw_x0, cw_x1, cw_x2, cw_x5, cw_gtlk, cw_grfk, cw_ghsk, cw_padk, cw_pagk, cw_pmkk, cw_ppnk, cw_zpnk, cw_sfl, cw_sdt, cw_pmok, cw_peak, cw_plnk, cw_sowk, cw_selk, cw_sskk, cw_sslk, cw_srok, cw_swek, cw_splk, cw_palk, cw_pcok, cw_pfek, cw_prpk, cw_ptlk, cw_prfk, cw_phsk, cw_stxk, cw_ok3, cw_ok5, cw_okn, if_pos hc]
      refine Or.inl ⟨_, rfl, -1, rfl, Or.inl ⟨rfl, fun b hb => ?_⟩⟩
      by_cases hbc : b < c
      · exact c3 b hbc hb
      · have := hb.2.1
        omega
    · obtain ⟨e, e1, e2, e3, e4, e5⟩ := hho c c1 (by omega)
      by_cases h8 : e - c < z
      · by_cases h7 : e = c
        · have h9 : ob m c ≠ -1 := by rw [← h7]; exact e4 (by omega)
          have ho := how c (by omega) (by omega)
          rw [if_neg h9] at ho
          rcases ob_r (m := m) c with q | ⟨a1, a2, a3, a4, a5⟩
          · exact absurd q h9
          · have hE := hm.he _ a1 a2 a3
            have ht := (h.th a1 a2 a3).1
            rw [h7] at e1 h8
            simp (disch := first | assumption | exact HU.lu (by assumption) | exact cw_okn | exact cw_ok3 (by assumption) | exact cw_ok5 (by assumption) | omega) only [J_add, J_sub, J_mul, J_neg, J_lit, J_lt, J_le, J_eq, Option.bind_some, Int.reduceAdd, Int.reduceSub, Int.reduceMul, Int.reduceNeg, Int.reduceEq, Int.reduceLT, Int.reduceLE, reduceIte, Int.zero_add, Int.add_zero, and_self, true_and, and_true, false_and, and_false, or_true, true_or, or_false, false_or, not_true_eq_false, not_false_eq_true, ne_eq, b2_s, cw_gadk, cw_gpnk, cw_gagk, cw_gmkk, cw_gfl, cw_gdt, cw_kth, cw_afl, cw_nfl, cw_adt, cw_ndt, cw_gmok, cw_geak, cw_glnk, cw_k0, cw_k6, cw_k7, cw_aowk, cw_aelk, cw_askk, cw_aslk, cw_nelk, cw_arok, cw_nrok, cw_awek, cw_nwek, cw_aplk, cw_nplk, cw_atxk, cw_ntxk, cw_ghwk, cw_gdpk, cw_galk, cw_gcok, cw_gfek, cw_h2, cw_h3, cw_h4, cw_h5, cw_h10, cw_grpk, cw_x0, cw_x1, cw_x2, cw_x5, cw_gtlk, cw_grfk, cw_ghsk, cw_padk, cw_pagk, cw_pmkk, cw_ppnk, cw_zpnk, cw_sfl, cw_sdt, cw_pmok, cw_peak, cw_plnk, cw_sowk, cw_selk, cw_sskk, cw_sslk, cw_srok, cw_swek, cw_splk, cw_palk, cw_pcok, cw_pfek, cw_prpk, cw_ptlk, cw_prfk, cw_phsk, cw_stxk, cw_ok3, cw_ok5, cw_okn, if_neg hc, e1, if_pos h8, ho, kc_endK hm h a1 a2 a3]
            refine Or.inr ⟨_, rfl, ⟨_, rfl, by omega, by omega, fun b b1 b2 => ?_⟩, ?_⟩
            · by_cases hbc : b < c
              · exact c3 b hbc b2
              · obtain ⟨f1, f2, f3⟩ := b2
                exact f3 b (ob m c) (by omega) (by omega) ⟨a1, a2, a3, by omega, b1⟩
            · rw [J_toInt (by omega) (by omega), J_toInt (by omega) (by omega)]
              omega
        · simp (disch := first | assumption | exact HU.lu (by assumption) | exact cw_okn | exact cw_ok3 (by assumption) | exact cw_ok5 (by assumption) | omega) only [J_add, J_sub, J_mul, J_neg, J_lit, J_lt, J_le, J_eq, Option.bind_some, Int.reduceAdd, Int.reduceSub, Int.reduceMul, Int.reduceNeg, Int.reduceEq, Int.reduceLT, Int.reduceLE, reduceIte, Int.zero_add, Int.add_zero, and_self, true_and, and_true, false_and, and_false, or_true, true_or, or_false, false_or, not_true_eq_false, not_false_eq_true, ne_eq, b2_s, cw_gadk, cw_gpnk, cw_gagk, cw_gmkk, cw_gfl, cw_gdt, cw_kth, cw_afl, cw_nfl, cw_adt, cw_ndt, cw_gmok, cw_geak, cw_glnk, cw_k0, cw_k6, cw_k7, cw_aowk, cw_aelk, cw_askk, cw_aslk, cw_nelk, cw_arok, cw_nrok, cw_awek, cw_nwek, cw_aplk, cw_nplk, cw_atxk, cw_ntxk, cw_ghwk, cw_gdpk, cw_galk, cw_gcok, cw_gfek, cw_h2, cw_h3, cw_h4, cw_h5, cw_h10, cw_grpk, cw_x0, cw_x1, cw_x2, cw_x5, cw_gtlk, cw_grfk, cw_ghsk, cw_padk, cw_pagk, cw_pmkk, cw_ppnk, cw_zpnk, cw_sfl, cw_sdt, cw_pmok, cw_peak, cw_plnk, cw_sowk, cw_selk, cw_sskk, cw_sslk, cw_srok, cw_swek, cw_splk, cw_palk, cw_pcok, cw_pfek, cw_prpk, cw_ptlk, cw_prfk, cw_phsk, cw_stxk, cw_ok3, cw_ok5, cw_okn, if_neg hc, e1, if_pos h8, if_neg h7]
          refine Or.inr ⟨_, rfl, ⟨_, rfl, by omega, by omega, fun b b1 b2 => ?_⟩, ?_⟩
          · by_cases hbc : b < c
            · exact c3 b hbc b2
            · obtain ⟨f1, f2, f3⟩ := b2
              rcases ob_c (m := m) e with ⟨q, -⟩ | q
              · exact absurd q (e4 (by omega))
              · exact f3 e (ob m e) (by omega) (by omega) q
          · rw [J_toInt (by omega) (by omega), J_toInt (by omega) (by omega)]
            omega
      · simp (disch := first | assumption | exact HU.lu (by assumption) | exact cw_okn | exact cw_ok3 (by assumption) | exact cw_ok5 (by assumption) | omega) only [J_add, J_sub, J_mul, J_neg, J_lit, J_lt, J_le, J_eq, Option.bind_some, Int.reduceAdd, Int.reduceSub, Int.reduceMul, Int.reduceNeg, Int.reduceEq, Int.reduceLT, Int.reduceLE, reduceIte, Int.zero_add, Int.add_zero, and_self, true_and, and_true, false_and, and_false, or_true, true_or, or_false, false_or, not_true_eq_false, not_false_eq_true, ne_eq, b2_s, cw_gadk, cw_gpnk, cw_gagk, cw_gmkk, cw_gfl, cw_gdt, cw_kth, cw_afl, cw_nfl, cw_adt, cw_ndt, cw_gmok, cw_geak, cw_glnk, cw_k0, cw_k6, cw_k7, cw_aowk, cw_aelk, cw_askk, cw_aslk, cw_nelk, cw_arok, cw_nrok, cw_awek, cw_nwek, cw_aplk, cw_nplk, cw_atxk, cw_ntxk, cw_ghwk, cw_gdpk, cw_galk, cw_gcok, cw_gfek, cw_h2, cw_h3, cw_h4, cw_h5, cw_h10, cw_grpk, cw_x0, cw_x1, cw_x2, cw_x5, cw_gtlk, cw_grfk, cw_ghsk, cw_padk, cw_pagk, cw_pmkk, cw_ppnk, cw_zpnk, cw_sfl, cw_sdt, cw_pmok, cw_peak, cw_plnk, cw_sowk, cw_selk, cw_sskk, cw_sslk, cw_srok, cw_swek, cw_splk, cw_palk, cw_pcok, cw_pfek, cw_prpk, cw_ptlk, cw_prfk, cw_phsk, cw_stxk, cw_ok3, cw_ok5, cw_okn, if_neg hc, e1, if_neg h8]
        refine Or.inl ⟨_, rfl, c, rfl, Or.inr ⟨⟨c1, by omega, fun w b w1 w2 hb => ?_⟩, c3⟩⟩
        have := e3 w w1 (by omega)
        rw [ob_e hm hb] at this
        have := hb.1
        omega)
  exact ⟨r', by rw [h1, h2], h3⟩
end T1
