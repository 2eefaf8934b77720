/-! PLAIN LAW: questions: garbage, retained, live. NAMES: kc_ -/
set_option maxRecDepth 100000
section T0
variable {m : Int → Int} {w : Int}
/-- marked is reached -/
theorem mk_far (hm : WF m) {mk0 stk0 F : Int → Int} (hmk0 : ∀ b, 0 ≤ b → b < 200 → mk0 b = 0) (hF : FAR m w F) : ∀ b, 0 ≤ b → b < 200 → ((mkA m 200 w (mk0, stk0, 0, 0, 0)).2.1 b = 0 ∧ F b = -1) ∨ ((mkA m 200 w (mk0, stk0, 0, 0, 0)).2.1 b = 1 ∧ F b ≠ -1) := by
  intro b b1 b2
  rcases mkL (w := w) (stk0 := stk0) hm hmk0 b b1 b2 with ⟨h1, k, h2⟩ | ⟨h1, h2⟩
  · rcases hF b b1 b2 with ⟨f1, f2⟩ | ⟨f1, -⟩
    · exact absurd h2 (f2 k)
    · exact Or.inr ⟨h1, by omega⟩
  · rcases hF b b1 b2 with ⟨f1, f2⟩ | ⟨f1, -, f3, -⟩
    · exact Or.inl ⟨h1, f1⟩
    · exact absurd f3 (h2 _)
end T0
section T1
variable {m hd : Int → Int} {adk nfk ndk pnk agk mkk rok wek plk txk : Int → Int} {flk dtk : Int → Int → Int} {hwk dpk alk cok fek lnk tlk rfk : Int} {rpk : Option Nat} {mok : Int32} {eak cpk : Nat} {elk owk skk slk : Nat → Option Nat} {hsk : Int64} {D : Nat → Int × Int} {G : Int → Int → Nat} {σ : mm_M} {p : Nat} {w md sc : Int}
theorem CG.st {F : Int → Int} {S : Nat → Option Nat} {σ' : mm_M} (h : (CG m hd D G adk nfk ndk pnk agk mkk flk dtk hwk dpk alk cok fek rpk rok wek plk mok eak lnk cpk elk owk skk txk tlk rfk slk hsk σ)) (e : EX D σ D σ') : (CG m hd D G adk nfk ndk pnk agk F flk dtk hwk dpk alk cok fek rpk rok wek plk mok eak lnk cpk elk owk S txk tlk rfk slk hsk σ') :=
  ⟨⟨h.hu, h.xu, h.km⟩, ⟨e.2.2.2.2, h.ce.ex e, fun q => by rw [e.2.1]; exact h.le q, h.ca⟩, h.uq, h.rp.cg e (fun _ _ _ => rfl) rfl⟩
theorem OPK.st {F : Int → Int} {S : Nat → Option Nat} {σ' : mm_M} (h : (CG m hd D G adk nfk ndk pnk agk mkk flk dtk hwk dpk alk cok fek rpk rok wek plk mok eak lnk cpk elk owk skk txk tlk rfk slk hsk σ)) (e : EX D σ D σ') : OPK D σ (G 3 7) txk tlk rfk slk hsk m (cput D (cel G adk nfk ndk pnk agk F flk dtk hwk dpk alk cok fek rpk rok wek plk mok eak lnk cpk elk owk S txk tlk rfk slk hsk) σ') := ⟨hd, D, G, adk, nfk, ndk, pnk, agk, F, flk, dtk, hwk, dpk, alk, cok, fek, rpk, rok, wek, plk, mok, eak, lnk, cpk, elk, owk, S, σ', rfl, h.st e, e, rfl⟩
theorem kc_minit {c : Int → Int → mm_E} {q hp sk : Nat} {wt : Option Nat} (hq : (D q).1 = -1) (h0 : σ.1 q = some (.inl (4, df_4))) : f_X4_init q hp sk (J md) wt (cput D c σ) = some (cput D c (mput q hp sk wt md 0 0 0 0 σ)) := by
  have e1 : ∀ (fs : List mm_V), (cput D c (sE σ q (.inl (4, fs)))).1 q = some (.inl (4, fs)) := fun fs => by
    rw [cput_o hq]
    unfold sE
    dsimp only
    rw [if_pos rfl]
  unfold f_X4_init
  rw [pF_at (show (cput D c σ).1 q = _ by rw [cput_o hq]; exact h0) (by simp), Option.bind_some, cput_sO hq, pF_at (e1 _) (by simp), Option.bind_some, cput_sO hq, sE_sE, pF_at (e1 _) (by simp), Option.bind_some, cput_sO hq, sE_sE, pF_at (e1 _) (by simp), Option.bind_some, cput_sO hq, sE_sE]
  rfl
theorem mput_ex {hp sk : Nat} {wt : Option Nat} {ct tp ov : Int} {e : mm_E} (hb : DB D σ) : EX D σ D (mput σ.2.1 hp sk wt md ct tp sc ov (nE σ e)) := by
  refine ⟨by show σ.2.1 ≤ σ.2.1 + 1; omega, rfl, fun b b1 b2 => ⟨b2, ?_⟩, fun b b1 => Or.inl b1, fun b b1 => by have := hb b b1; show b < σ.2.1 + 1; omega⟩
  unfold mput sE nE
  dsimp only
  rw [if_neg (by omega), if_neg (by omega)]
theorem kc_live (hm : WF m) (h : (CG m hd D G adk nfk ndk pnk agk mkk flk dtk hwk dpk alk cok fek rpk rok wek plk mok eak lnk cpk elk owk skk txk tlk rfk slk hsk σ)) (hw : w = -1 ∨ TH D G w) : ∃ (S' : Nat → Option Nat) (ct tp ov sc : Int), f_X0_live (G 3 7) (wtA G w) (cput D (cel G adk nfk ndk pnk agk mkk flk dtk hwk dpk alk cok fek rpk rok wek plk mok eak lnk cpk elk owk skk txk tlk rfk slk hsk) σ) = some (σ.2.1, (cput D (cel G adk nfk ndk pnk agk ((mkA m 200 w (fun _ => 0, fun _ => 0, 0, 0, 0)).2.1) flk dtk hwk dpk alk cok fek rpk rok wek plk mok eak lnk cpk elk owk S' txk tlk rfk slk hsk) (mput σ.2.1 (G 3 6) (G 3 8) (wtA G w) 200 ct tp sc ov (nE σ (.inl (4, df_4)))))) := by
  have hg := h.hu
  have hu := h.xu
  have hq : (D σ.2.1).1 = -1 := by
    by_cases q : (D σ.2.1).1 = -1
    · exact q
    · have := h.db _ q; omega
  obtain ⟨S', e1⟩ := kc_markA (σ := nE σ (.inl (4, df_4))) (p := σ.2.1) (md := 200) (stk0 := fun _ => 0) (mk0 := fun _ => 0) hg hu hm hq h.km h.uq hw (by omega) (by omega) (fun _ _ _ => rfl)
  refine ⟨S', (mkA m 200 w (fun _ => 0, fun _ => 0, 0, 0, 0)).2.2.2.1, (mkA m 200 w (fun _ => 0, fun _ => 0, 0, 0, 0)).2.2.2.2.1, (mkA m 200 w (fun _ => 0, fun _ => 0, 0, 0, 0)).2.2.2.2.2, (mkA m 200 w (fun _ => 0, fun _ => 0, 0, 0, 0)).1, ?_⟩
  · unfold f_X0_live
    rw [ko_nO hq, b2_s]
    have hmi := kc_minit (σ := nE σ (.inl (4, df_4))) (D := D) (md := 200) (q := σ.2.1) (hp := G 3 6) (sk := G 3 8) (wt := wtA G w) (c := cel G adk nfk ndk pnk agk mkk flk dtk hwk dpk alk cok fek rpk rok wek plk mok eak lnk cpk elk owk skk txk tlk rfk slk hsk) hq (by
      unfold nE
      dsimp only
      rw [if_pos rfl])
    simp (disch := first | assumption | exact HU.lu (by assumption) | exact cw_okn | exact cw_ok3 (by assumption) | exact cw_ok5 (by assumption) | omega) only [J_add, J_sub, J_mul, J_neg, J_lit, J_lt, J_le, J_eq, Option.bind_some, Int.reduceAdd, Int.reduceSub, Int.reduceMul, Int.reduceNeg, Int.reduceEq, Int.reduceLT, Int.reduceLE, reduceIte, Int.zero_add, Int.add_zero, and_self, true_and, and_true, false_and, and_false, or_true, true_or, or_false, false_or, not_true_eq_false, not_false_eq_true, ne_eq, b2_s, cw_gadk, cw_gpnk, cw_gagk, cw_gmkk, cw_gfl, cw_gdt, cw_kth, cw_afl, cw_nfl, cw_adt, cw_ndt, cw_gmok, cw_geak, cw_glnk, cw_k0, cw_k6, cw_k7, cw_aowk, cw_aelk, cw_askk, cw_aslk, cw_nelk, cw_arok, cw_nrok, cw_awek, cw_nwek, cw_aplk, cw_nplk, cw_atxk, cw_ntxk, cw_ghwk, cw_gdpk, cw_galk, cw_gcok, cw_gfek, cw_h2, cw_h3, cw_h4, cw_h5, cw_h10, cw_grpk, cw_x0, cw_x1, cw_x2, cw_x5, cw_gtlk, cw_grfk, cw_ghsk, cw_padk, cw_pagk, cw_pmkk, cw_ppnk, cw_zpnk, cw_sfl, cw_sdt, cw_pmok, cw_peak, cw_plnk, cw_sowk, cw_selk, cw_sskk, cw_sslk, cw_srok, cw_swek, cw_splk, cw_palk, cw_pcok, cw_pfek, cw_prpk, cw_ptlk, cw_prfk, cw_phsk, cw_stxk, cw_ok3, cw_ok5, cw_okn, hmi, mw_ck hq, e1]
theorem kc_words (hg : HU D G) (hp : (D p).1 = -1) (hm : WF m) (h : (KM m hd D G adk nfk ndk pnk agk mkk flk dtk hwk dpk alk cok fek rpk rok wek plk mok eak lnk cpk elk owk skk txk tlk rfk slk hsk)) {hp9 : Nat} {wt : Option Nat} {ct tp ov : Int} (hF : ∀ b, 0 ≤ b → b < 200 → mkk b = 0 ∨ mkk b = 1) : f_X4_words p (cput D (cel G adk nfk ndk pnk agk mkk flk dtk hwk dpk alk cok fek rpk rok wek plk mok eak lnk cpk elk owk skk txk tlk rfk slk hsk) (mput p (G 3 6) hp9 wt md ct tp sc ov σ)) = some (J (sm (fun a => if mkk a = 0 then 0 else m a) (m 1216).toNat)) := by
  have hl := h.ls
  have hh := h.hs
  have hl0 := hl
  obtain ⟨⟨l1, l2, l3, l4⟩, -, l6⟩ := hl0
  rw [sm_hd hm hh l1 _ (fun a a1 a2 a3 => by have hW := hm.hW; have := hm.hs a a1 (by omega); split <;> omega)]
  unfold f_X4_words g_X4_words_0
  rw [lgo_l]
  refine lpx_seq (f := s_X4_words p (cput D (cel G adk nfk ndk pnk agk mkk flk dtk hwk dpk alk cok fek rpk rok wek plk mok eak lnk cpk elk owk skk txk tlk rfk slk hsk) (mput p (G 3 6) hp9 wt md ct tp sc ov σ))) (fun k => (J (sm (fun k => if mkk (hd k) = 0 then 0 else m (hd k)) k), J k)) lnk.toNat ?_ ?_
  · intro k hk
    obtain ⟨e1, e2⟩ := l6 k (by omega) (by omega)
    obtain ⟨d1, d2, d3⟩ := hh.1 k (by omega) (by omega)
    unfold s_X4_words g_X4_words_4
    rcases hF (hd k) d1 d2 with q | q
    · simp (disch := first | assumption | exact HU.lu (by assumption) | exact cw_okn | exact cw_ok3 (by assumption) | exact cw_ok5 (by assumption) | omega) only [J_add, J_sub, J_mul, J_neg, J_lit, J_lt, J_le, J_eq, Option.bind_some, Int.reduceAdd, Int.reduceSub, Int.reduceMul, Int.reduceNeg, Int.reduceEq, Int.reduceLT, Int.reduceLE, reduceIte, Int.zero_add, Int.add_zero, and_self, true_and, and_true, false_and, and_false, or_true, true_or, or_false, false_or, not_true_eq_false, not_false_eq_true, ne_eq, b2_s, cw_gadk, cw_gpnk, cw_gagk, cw_gmkk, cw_gfl, cw_gdt, cw_kth, cw_afl, cw_nfl, cw_adt, cw_ndt, cw_gmok, cw_geak, cw_glnk, cw_k0, cw_k6, cw_k7, cw_aowk, cw_aelk, cw_askk, cw_aslk, cw_nelk, cw_arok, cw_nrok, cw_awek, cw_nwek, cw_aplk, cw_nplk, cw_atxk, cw_ntxk, cw_ghwk, cw_gdpk, cw_galk, cw_gcok, cw_gfek, cw_h2, cw_h3, cw_h4, cw_h5, cw_h10, cw_grpk, cw_x0, cw_x1, cw_x2, cw_x5, cw_gtlk, cw_grfk, cw_ghsk, cw_padk, cw_pagk, cw_pmkk, cw_ppnk, cw_zpnk, cw_sfl, cw_sdt, cw_pmok, cw_peak, cw_plnk, cw_sowk, cw_selk, cw_sskk, cw_sslk, cw_srok, cw_swek, cw_splk, cw_palk, cw_pcok, cw_pfek, cw_prpk, cw_ptlk, cw_prfk, cw_phsk, cw_stxk, cw_ok3, cw_ok5, cw_okn, sm_s, mw_g0 hp, kc_lsize hg, kc_get hg hl, if_neg (show ¬ (lnk ≤ (k : Int)) by omega), q]
      simp
    · simp (disch := first | assumption | exact HU.lu (by assumption) | exact cw_okn | exact cw_ok3 (by assumption) | exact cw_ok5 (by assumption) | omega) only [J_add, J_sub, J_mul, J_neg, J_lit, J_lt, J_le, J_eq, Option.bind_some, Int.reduceAdd, Int.reduceSub, Int.reduceMul, Int.reduceNeg, Int.reduceEq, Int.reduceLT, Int.reduceLE, reduceIte, Int.zero_add, Int.add_zero, and_self, true_and, and_true, false_and, and_false, or_true, true_or, or_false, false_or, not_true_eq_false, not_false_eq_true, ne_eq, b2_s, cw_gadk, cw_gpnk, cw_gagk, cw_gmkk, cw_gfl, cw_gdt, cw_kth, cw_afl, cw_nfl, cw_adt, cw_ndt, cw_gmok, cw_geak, cw_glnk, cw_k0, cw_k6, cw_k7, cw_aowk, cw_aelk, cw_askk, cw_aslk, cw_nelk, cw_arok, cw_nrok, cw_awek, cw_nwek, cw_aplk, cw_nplk, cw_atxk, cw_ntxk, cw_ghwk, cw_gdpk, cw_galk, cw_gcok, cw_gfek, cw_h2, cw_h3, cw_h4, cw_h5, cw_h10, cw_grpk, cw_x0, cw_x1, cw_x2, cw_x5, cw_gtlk, cw_grfk, cw_ghsk, cw_padk, cw_pagk, cw_pmkk, cw_ppnk, cw_zpnk, cw_sfl, cw_sdt, cw_pmok, cw_peak, cw_plnk, cw_sowk, cw_selk, cw_sskk, cw_sslk, cw_srok, cw_swek, cw_splk, cw_palk, cw_pcok, cw_pfek, cw_prpk, cw_ptlk, cw_prfk, cw_phsk, cw_stxk, cw_ok3, cw_ok5, cw_okn, sm_s, mw_g0 hp, kc_lsize hg, kc_get hg hl, if_neg (show ¬ (lnk ≤ (k : Int)) by omega), q, kc_sizeK hm h]
      simp
  · unfold s_X4_words g_X4_words_4
    simp (disch := first | assumption | exact HU.lu (by assumption) | exact cw_okn | exact cw_ok3 (by assumption) | exact cw_ok5 (by assumption) | omega) only [J_add, J_sub, J_mul, J_neg, J_lit, J_lt, J_le, J_eq, Option.bind_some, Int.reduceAdd, Int.reduceSub, Int.reduceMul, Int.reduceNeg, Int.reduceEq, Int.reduceLT, Int.reduceLE, reduceIte, Int.zero_add, Int.add_zero, and_self, true_and, and_true, false_and, and_false, or_true, true_or, or_false, false_or, not_true_eq_false, not_false_eq_true, ne_eq, b2_s, cw_gadk, cw_gpnk, cw_gagk, cw_gmkk, cw_gfl, cw_gdt, cw_kth, cw_afl, cw_nfl, cw_adt, cw_ndt, cw_gmok, cw_geak, cw_glnk, cw_k0, cw_k6, cw_k7, cw_aowk, cw_aelk, cw_askk, cw_aslk, cw_nelk, cw_arok, cw_nrok, cw_awek, cw_nwek, cw_aplk, cw_nplk, cw_atxk, cw_ntxk, cw_ghwk, cw_gdpk, cw_galk, cw_gcok, cw_gfek, cw_h2, cw_h3, cw_h4, cw_h5, cw_h10, cw_grpk, cw_x0, cw_x1, cw_x2, cw_x5, cw_gtlk, cw_grfk, cw_ghsk, cw_padk, cw_pagk, cw_pmkk, cw_ppnk, cw_zpnk, cw_sfl, cw_sdt, cw_pmok, cw_peak, cw_plnk, cw_sowk, cw_selk, cw_sskk, cw_sslk, cw_srok, cw_swek, cw_splk, cw_palk, cw_pcok, cw_pfek, cw_prpk, cw_ptlk, cw_prfk, cw_phsk, cw_stxk, cw_ok3, cw_ok5, cw_okn, mw_g0 hp, kc_lsize hg, Int.toNat_of_nonneg l1, if_pos (show lnk ≤ lnk by omega)]
theorem lw_far (hm : WF m) {mk0 stk0 F : Int → Int} (hmk0 : ∀ b, 0 ≤ b → b < 200 → mk0 b = 0) (hF : FAR m w F) : sm (fun a => if (mkA m 200 w (mk0, stk0, 0, 0, 0)).2.1 a = 0 then 0 else m a) (m 1216).toNat = lw9 m F := by
  have hW := hm.hW
  refine sm_congr _ (fun k hk => ?_)
  rcases mk_far (stk0 := stk0) hm hmk0 hF k (by omega) (by omega) with ⟨h1, h2⟩ | ⟨h1, h2⟩
  · rw [if_pos h1, if_pos h2]
  · rw [if_neg (by omega), if_neg h2]
theorem kc_garbage (hm : WF m) (h : (CG m hd D G adk nfk ndk pnk agk mkk flk dtk hwk dpk alk cok fek rpk rok wek plk mok eak lnk cpk elk owk skk txk tlk rfk slk hsk σ)) {F : Int → Int} (hF : FAR m (-1) F) : ∃ M', f_X0_garbage (G 3 7) (cput D (cel G adk nfk ndk pnk agk mkk flk dtk hwk dpk alk cok fek rpk rok wek plk mok eak lnk cpk elk owk skk txk tlk rfk slk hsk) σ) = some (J (sm m (m 1216).toNat - lw9 m F), M') ∧ OPK D σ (G 3 7) txk tlk rfk slk hsk m M' := by
  have hg := h.hu
  have hu := h.xu
  have hq : (D σ.2.1).1 = -1 := by
    by_cases q : (D σ.2.1).1 = -1
    · exact q
    · have := h.db _ q; omega
  obtain ⟨S', ct, tp, ov, sc, e1⟩ := kc_live (w := -1) hm h (Or.inl rfl)
  have hO := OPK.st (F := (mkA m 200 (-1) (fun _ => 0, fun _ => 0, 0, 0, 0)).2.1) (S := S') h (mput_ex (md := 200) (sc := sc) (hp := G 3 6) (sk := G 3 8) (wt := none) (ct := ct) (tp := tp) (ov := ov) (e := .inl (4, df_4)) h.db)
  refine ⟨_, ?_, hO⟩
  rw [show wtA G (-1) = none from if_pos rfl] at e1
  have hw9 := kc_words (σ := nE σ (.inl (4, df_4))) (p := σ.2.1) (hp9 := G 3 8) (wt := none) (md := 200) (ct := ct) (tp := tp) (sc := sc) (ov := ov) hg hq hm (h.km.mk (F := (mkA m 200 (-1) (fun _ => 0, fun _ => 0, 0, 0, 0)).2.1) (S := S')) (fun b b1 b2 => by
    rcases mk_far (stk0 := fun _ => 0) (mk0 := fun _ => 0) hm (fun _ _ _ => rfl) hF b b1 b2 with q | q
    · exact Or.inl q.1
    · exact Or.inr q.1)
  rw [lw_far hm (fun _ _ _ => rfl) hF] at hw9
  unfold f_X0_garbage
  simp (disch := first | assumption | exact HU.lu (by assumption) | exact cw_okn | exact cw_ok3 (by assumption) | exact cw_ok5 (by assumption) | omega) only [J_add, J_sub, J_mul, J_neg, J_lit, J_lt, J_le, J_eq, Option.bind_some, Int.reduceAdd, Int.reduceSub, Int.reduceMul, Int.reduceNeg, Int.reduceEq, Int.reduceLT, Int.reduceLE, reduceIte, Int.zero_add, Int.add_zero, and_self, true_and, and_true, false_and, and_false, or_true, true_or, or_false, false_or, not_true_eq_false, not_false_eq_true, ne_eq, b2_s, cw_gadk, cw_gpnk, cw_gagk, cw_gmkk, cw_gfl, cw_gdt, cw_kth, cw_afl, cw_nfl, cw_adt, cw_ndt, cw_gmok, cw_geak, cw_glnk, cw_k0, cw_k6, cw_k7, cw_aowk, cw_aelk, cw_askk, cw_aslk, cw_nelk, cw_arok, cw_nrok, cw_awek, cw_nwek, cw_aplk, cw_nplk, cw_atxk, cw_ntxk, cw_ghwk, cw_gdpk, cw_galk, cw_gcok, cw_gfek, cw_h2, cw_h3, cw_h4, cw_h5, cw_h10, cw_grpk, cw_x0, cw_x1, cw_x2, cw_x5, cw_gtlk, cw_grfk, cw_ghsk, cw_padk, cw_pagk, cw_pmkk, cw_ppnk, cw_zpnk, cw_sfl, cw_sdt, cw_pmok, cw_peak, cw_plnk, cw_sowk, cw_selk, cw_sskk, cw_sslk, cw_srok, cw_swek, cw_splk, cw_palk, cw_pcok, cw_pfek, cw_prpk, cw_ptlk, cw_prfk, cw_phsk, cw_stxk, cw_ok3, cw_ok5, cw_okn, kc_occupied hg hu hm h.km, e1, mw_ck hq, hw9]
theorem kc_object7 (hm : WF m) (h : (CG m hd D G adk nfk ndk pnk agk mkk flk dtk hwk dpk alk cok fek rpk rok wek plk mok eak lnk cpk elk owk skk txk tlk rfk slk hsk σ)) {x : Int} (hx : ir x) (ho : ob m x ≠ -1) {F : Int → Int} (hF : FAR m (-1) F) : ∃ M', f_X0_object (G 3 7) (J x) (J 7) (cput D (cel G adk nfk ndk pnk agk mkk flk dtk hwk dpk alk cok fek rpk rok wek plk mok eak lnk cpk elk owk skk txk tlk rfk slk hsk) σ) = some (J (if F (ob m x) = -1 then 0 else 1), M') ∧ OPK D σ (G 3 7) txk tlk rfk slk hsk m M' := by
  have hg := h.hu
  have hu := h.xu
  have hq : (D σ.2.1).1 = -1 := by
    by_cases q : (D σ.2.1).1 = -1
    · exact q
    · have := h.db _ q; omega
  rcases ob_r (m := m) x with h9 | ⟨a1, a2, a3, -⟩
  · exact absurd h9 ho
  have ht := (h.km.th a1 a2 a3).1
  have hin := kc_in (σ := (cput D (cel G adk nfk ndk pnk agk mkk flk dtk hwk dpk alk cok fek rpk rok wek plk mok eak lnk cpk elk owk skk txk tlk rfk slk hsk) σ)) (show ir 7 by unfold ir; omega) (show ir 0 by unfold ir; omega) (show ir 7 by unfold ir; omega)
  obtain ⟨S', ct, tp, ov, sc, e1⟩ := kc_live (w := -1) hm h (Or.inl rfl)
  have hO := OPK.st (F := (mkA m 200 (-1) (fun _ => 0, fun _ => 0, 0, 0, 0)).2.1) (S := S') h (mput_ex (md := 200) (sc := sc) (hp := G 3 6) (sk := G 3 8) (wt := none) (ct := ct) (tp := tp) (ov := ov) (e := .inl (4, df_4)) h.db)
  refine ⟨_, ?_, hO⟩
  rw [show wtA G (-1) = none from if_pos rfl] at e1
  have hof : f_of 7 (G 3 7) (G 0 (ob m x)) (cput D (cel G adk nfk ndk pnk agk mkk flk dtk hwk dpk alk cok fek rpk rok wek plk mok eak lnk cpk elk owk skk txk tlk rfk slk hsk) σ) = f_X21_of (G 3 7) (G 0 (ob m x)) (cput D (cel G adk nfk ndk pnk agk mkk flk dtk hwk dpk alk cok fek rpk rok wek plk mok eak lnk cpk elk owk skk txk tlk rfk slk hsk) σ) := rfl
  unfold f_X0_object
  rcases mk_far (stk0 := fun _ => 0) (mk0 := fun _ => 0) hm (fun _ _ _ => rfl) hF _ a1 a2 with ⟨q1, q2⟩ | ⟨q1, q2⟩
  · rw [if_pos q2]
    simp (disch := first | assumption | exact HU.lu (by assumption) | exact cw_okn | exact cw_ok3 (by assumption) | exact cw_ok5 (by assumption) | omega) only [J_add, J_sub, J_mul, J_neg, J_lit, J_lt, J_le, J_eq, Option.bind_some, Int.reduceAdd, Int.reduceSub, Int.reduceMul, Int.reduceNeg, Int.reduceEq, Int.reduceLT, Int.reduceLE, reduceIte, Int.zero_add, Int.add_zero, and_self, true_and, and_true, false_and, and_false, or_true, true_or, or_false, false_or, not_true_eq_false, not_false_eq_true, ne_eq, b2_s, cw_gadk, cw_gpnk, cw_gagk, cw_gmkk, cw_gfl, cw_gdt, cw_kth, cw_afl, cw_nfl, cw_adt, cw_ndt, cw_gmok, cw_geak, cw_glnk, cw_k0, cw_k6, cw_k7, cw_aowk, cw_aelk, cw_askk, cw_aslk, cw_nelk, cw_arok, cw_nrok, cw_awek, cw_nwek, cw_aplk, cw_nplk, cw_atxk, cw_ntxk, cw_ghwk, cw_gdpk, cw_galk, cw_gcok, cw_gfek, cw_h2, cw_h3, cw_h4, cw_h5, cw_h10, cw_grpk, cw_x0, cw_x1, cw_x2, cw_x5, cw_gtlk, cw_grfk, cw_ghsk, cw_padk, cw_pagk, cw_pmkk, cw_ppnk, cw_zpnk, cw_sfl, cw_sdt, cw_pmok, cw_peak, cw_plnk, cw_sowk, cw_selk, cw_sskk, cw_sslk, cw_srok, cw_swek, cw_splk, cw_palk, cw_pcok, cw_pfek, cw_prpk, cw_ptlk, cw_prfk, cw_phsk, cw_stxk, cw_ok3, cw_ok5, cw_okn, kc_at hg hm h.km hx, if_neg ho, mt_s, hin, kc_part (show (0 : Int) ≤ 7 by omega) (show (7 : Int) ≤ 7 by omega)]
    show b2 (f_of 7 _ _ _) _ = _
    rw [hof]
    unfold f_X21_of
    simp (disch := first | assumption | exact HU.lu (by assumption) | exact cw_okn | exact cw_ok3 (by assumption) | exact cw_ok5 (by assumption) | omega) only [J_add, J_sub, J_mul, J_neg, J_lit, J_lt, J_le, J_eq, Option.bind_some, Int.reduceAdd, Int.reduceSub, Int.reduceMul, Int.reduceNeg, Int.reduceEq, Int.reduceLT, Int.reduceLE, reduceIte, Int.zero_add, Int.add_zero, and_self, true_and, and_true, false_and, and_false, or_true, true_or, or_false, false_or, not_true_eq_false, not_false_eq_true, ne_eq, b2_s, cw_gadk, cw_gpnk, cw_gagk, cw_gmkk, cw_gfl, cw_gdt, cw_kth, cw_afl, cw_nfl, cw_adt, cw_ndt, cw_gmok, cw_geak, cw_glnk, cw_k0, cw_k6, cw_k7, cw_aowk, cw_aelk, cw_askk, cw_aslk, cw_nelk, cw_arok, cw_nrok, cw_awek, cw_nwek, cw_aplk, cw_nplk, cw_atxk, cw_ntxk, cw_ghwk, cw_gdpk, cw_galk, cw_gcok, cw_gfek, cw_h2, cw_h3, cw_h4, cw_h5, cw_h10, cw_grpk, cw_x0, cw_x1, cw_x2, cw_x5, cw_gtlk, cw_grfk, cw_ghsk, cw_padk, cw_pagk, cw_pmkk, cw_ppnk, cw_zpnk, cw_sfl, cw_sdt, cw_pmok, cw_peak, cw_plnk, cw_sowk, cw_selk, cw_sskk, cw_sslk, cw_srok, cw_swek, cw_splk, cw_palk, cw_pcok, cw_pfek, cw_prpk, cw_ptlk, cw_prfk, cw_phsk, cw_stxk, cw_ok3, cw_ok5, cw_okn, e1, q1]
  · rw [if_neg q2]
    simp (disch := first | assumption | exact HU.lu (by assumption) | exact cw_okn | exact cw_ok3 (by assumption) | exact cw_ok5 (by assumption) | omega) only [J_add, J_sub, J_mul, J_neg, J_lit, J_lt, J_le, J_eq, Option.bind_some, Int.reduceAdd, Int.reduceSub, Int.reduceMul, Int.reduceNeg, Int.reduceEq, Int.reduceLT, Int.reduceLE, reduceIte, Int.zero_add, Int.add_zero, and_self, true_and, and_true, false_and, and_false, or_true, true_or, or_false, false_or, not_true_eq_false, not_false_eq_true, ne_eq, b2_s, cw_gadk, cw_gpnk, cw_gagk, cw_gmkk, cw_gfl, cw_gdt, cw_kth, cw_afl, cw_nfl, cw_adt, cw_ndt, cw_gmok, cw_geak, cw_glnk, cw_k0, cw_k6, cw_k7, cw_aowk, cw_aelk, cw_askk, cw_aslk, cw_nelk, cw_arok, cw_nrok, cw_awek, cw_nwek, cw_aplk, cw_nplk, cw_atxk, cw_ntxk, cw_ghwk, cw_gdpk, cw_galk, cw_gcok, cw_gfek, cw_h2, cw_h3, cw_h4, cw_h5, cw_h10, cw_grpk, cw_x0, cw_x1, cw_x2, cw_x5, cw_gtlk, cw_grfk, cw_ghsk, cw_padk, cw_pagk, cw_pmkk, cw_ppnk, cw_zpnk, cw_sfl, cw_sdt, cw_pmok, cw_peak, cw_plnk, cw_sowk, cw_selk, cw_sskk, cw_sslk, cw_srok, cw_swek, cw_splk, cw_palk, cw_pcok, cw_pfek, cw_prpk, cw_ptlk, cw_prfk, cw_phsk, cw_stxk, cw_ok3, cw_ok5, cw_okn, kc_at hg hm h.km hx, if_neg ho, mt_s, hin, kc_part (show (0 : Int) ≤ 7 by omega) (show (7 : Int) ≤ 7 by omega)]
    show b2 (f_of 7 _ _ _) _ = _
    rw [hof]
    unfold f_X21_of
    simp (disch := first | assumption | exact HU.lu (by assumption) | exact cw_okn | exact cw_ok3 (by assumption) | exact cw_ok5 (by assumption) | omega) only [J_add, J_sub, J_mul, J_neg, J_lit, J_lt, J_le, J_eq, Option.bind_some, Int.reduceAdd, Int.reduceSub, Int.reduceMul, Int.reduceNeg, Int.reduceEq, Int.reduceLT, Int.reduceLE, reduceIte, Int.zero_add, Int.add_zero, and_self, true_and, and_true, false_and, and_false, or_true, true_or, or_false, false_or, not_true_eq_false, not_false_eq_true, ne_eq, b2_s, cw_gadk, cw_gpnk, cw_gagk, cw_gmkk, cw_gfl, cw_gdt, cw_kth, cw_afl, cw_nfl, cw_adt, cw_ndt, cw_gmok, cw_geak, cw_glnk, cw_k0, cw_k6, cw_k7, cw_aowk, cw_aelk, cw_askk, cw_aslk, cw_nelk, cw_arok, cw_nrok, cw_awek, cw_nwek, cw_aplk, cw_nplk, cw_atxk, cw_ntxk, cw_ghwk, cw_gdpk, cw_galk, cw_gcok, cw_gfek, cw_h2, cw_h3, cw_h4, cw_h5, cw_h10, cw_grpk, cw_x0, cw_x1, cw_x2, cw_x5, cw_gtlk, cw_grfk, cw_ghsk, cw_padk, cw_pagk, cw_pmkk, cw_ppnk, cw_zpnk, cw_sfl, cw_sdt, cw_pmok, cw_peak, cw_plnk, cw_sowk, cw_selk, cw_sskk, cw_sslk, cw_srok, cw_swek, cw_splk, cw_palk, cw_pcok, cw_pfek, cw_prpk, cw_ptlk, cw_prfk, cw_phsk, cw_stxk, cw_ok3, cw_ok5, cw_okn, e1, q1]
theorem kc_retained (hm : WF m) (h : (CG m hd D G adk nfk ndk pnk agk mkk flk dtk hwk dpk alk cok fek rpk rok wek plk mok eak lnk cpk elk owk skk txk tlk rfk slk hsk σ)) {x : Int} (hx : ir x) : (ob m x = -1 → f_X0_retained (G 3 7) (J x) (cput D (cel G adk nfk ndk pnk agk mkk flk dtk hwk dpk alk cok fek rpk rok wek plk mok eak lnk cpk elk owk skk txk tlk rfk slk hsk) σ) = some (J (-1000002), (cput D (cel G adk nfk ndk pnk agk mkk flk dtk hwk dpk alk cok fek rpk rok wek plk mok eak lnk cpk elk owk skk txk tlk rfk slk hsk) σ))) ∧ (ob m x ≠ -1 → ∀ F, FAR m (-1) F → (F (ob m x) = -1 → ∃ M', f_X0_retained (G 3 7) (J x) (cput D (cel G adk nfk ndk pnk agk mkk flk dtk hwk dpk alk cok fek rpk rok wek plk mok eak lnk cpk elk owk skk txk tlk rfk slk hsk) σ) = some (J 0, M') ∧ OPK D σ (G 3 7) txk tlk rfk slk hsk m M') ∧ (F (ob m x) ≠ -1 → ∀ F', FAR m (ob m x) F' → ∃ M', f_X0_retained (G 3 7) (J x) (cput D (cel G adk nfk ndk pnk agk mkk flk dtk hwk dpk alk cok fek rpk rok wek plk mok eak lnk cpk elk owk skk txk tlk rfk slk hsk) σ) = some (J (lw9 m F - lw9 m F'), M') ∧ OPK D σ (G 3 7) txk tlk rfk slk hsk m M')) := by
  have hg := h.hu
  have hu := h.xu
  have hq : (D σ.2.1).1 = -1 := by
    by_cases q : (D σ.2.1).1 = -1
    · exact q
    · have := h.db _ q; omega
  unfold f_X0_retained
  constructor
  · intro ho
    simp (disch := first | assumption | exact HU.lu (by assumption) | exact cw_okn | exact cw_ok3 (by assumption) | exact cw_ok5 (by assumption) | omega) only [J_add, J_sub, J_mul, J_neg, J_lit, J_lt, J_le, J_eq, Option.bind_some, Int.reduceAdd, Int.reduceSub, Int.reduceMul, Int.reduceNeg, Int.reduceEq, Int.reduceLT, Int.reduceLE, reduceIte, Int.zero_add, Int.add_zero, and_self, true_and, and_true, false_and, and_false, or_true, true_or, or_false, false_or, not_true_eq_false, not_false_eq_true, ne_eq, b2_s, cw_gadk, cw_gpnk, cw_gagk, cw_gmkk, cw_gfl, cw_gdt, cw_kth, cw_afl, cw_nfl, cw_adt, cw_ndt, cw_gmok, cw_geak, cw_glnk, cw_k0, cw_k6, cw_k7, cw_aowk, cw_aelk, cw_askk, cw_aslk, cw_nelk, cw_arok, cw_nrok, cw_awek, cw_nwek, cw_aplk, cw_nplk, cw_atxk, cw_ntxk, cw_ghwk, cw_gdpk, cw_galk, cw_gcok, cw_gfek, cw_h2, cw_h3, cw_h4, cw_h5, cw_h10, cw_grpk, cw_x0, cw_x1, cw_x2, cw_x5, cw_gtlk, cw_grfk, cw_ghsk, cw_padk, cw_pagk, cw_pmkk, cw_ppnk, cw_zpnk, cw_sfl, cw_sdt, cw_pmok, cw_peak, cw_plnk, cw_sowk, cw_selk, cw_sskk, cw_sslk, cw_srok, cw_swek, cw_splk, cw_palk, cw_pcok, cw_pfek, cw_prpk, cw_ptlk, cw_prfk, cw_phsk, cw_stxk, cw_ok3, cw_ok5, cw_okn, kc_at hg hm h.km hx, if_pos ho, mt_n]
  · intro ho F hF
    rcases ob_r (m := m) x with h9 | ⟨a1, a2, a3, -⟩
    · exact absurd h9 ho
    have ht := (h.km.th a1 a2 a3).1
    obtain ⟨S', ct, tp, ov, sc, e1⟩ := kc_live (w := -1) hm h (Or.inl rfl)
    have hex := mput_ex (md := 200) (sc := sc) (hp := G 3 6) (sk := G 3 8) (wt := wtA G (-1)) (ct := ct) (tp := tp) (ov := ov) (e := .inl (4, df_4)) h.db
    have h2 : (CG m hd D G adk nfk ndk pnk agk ((mkA m 200 (-1) (fun _ => 0, fun _ => 0, 0, 0, 0)).2.1) flk dtk hwk dpk alk cok fek rpk rok wek plk mok eak lnk cpk elk owk S' txk tlk rfk slk hsk (mput σ.2.1 (G 3 6) (G 3 8) (wtA G (-1)) 200 ct tp sc ov (nE σ (.inl (4, df_4))))) := h.st hex
    rw [show wtA G (-1) = none from if_pos rfl] at e1 hex h2
    have hw9 := kc_words (σ := nE σ (.inl (4, df_4))) (p := σ.2.1) (hp9 := G 3 8) (wt := none) (md := 200) (ct := ct) (tp := tp) (sc := sc) (ov := ov) hg hq hm (h.km.mk (F := (mkA m 200 (-1) (fun _ => 0, fun _ => 0, 0, 0, 0)).2.1) (S := S')) (fun b b1 b2 => by
      rcases mk_far (stk0 := fun _ => 0) (mk0 := fun _ => 0) hm (fun _ _ _ => rfl) hF b b1 b2 with q | q
      · exact Or.inl q.1
      · exact Or.inr q.1)
    rw [lw_far hm (fun _ _ _ => rfl) hF] at hw9
    constructor
    · intro hF0
      refine ⟨_, ?_, OPK.st (F := (mkA m 200 (-1) (fun _ => 0, fun _ => 0, 0, 0, 0)).2.1) (S := S') h hex⟩
      rcases mk_far (stk0 := fun _ => 0) (mk0 := fun _ => 0) hm (fun _ _ _ => rfl) hF _ a1 a2 with ⟨q1, q2⟩ | ⟨q1, q2⟩
      · simp (disch := first | assumption | exact HU.lu (by assumption) | exact cw_okn | exact cw_ok3 (by assumption) | exact cw_ok5 (by assumption) | omega) only [J_add, J_sub, J_mul, J_neg, J_lit, J_lt, J_le, J_eq, Option.bind_some, Int.reduceAdd, Int.reduceSub, Int.reduceMul, Int.reduceNeg, Int.reduceEq, Int.reduceLT, Int.reduceLE, reduceIte, Int.zero_add, Int.add_zero, and_self, true_and, and_true, false_and, and_false, or_true, true_or, or_false, false_or, not_true_eq_false, not_false_eq_true, ne_eq, b2_s, cw_gadk, cw_gpnk, cw_gagk, cw_gmkk, cw_gfl, cw_gdt, cw_kth, cw_afl, cw_nfl, cw_adt, cw_ndt, cw_gmok, cw_geak, cw_glnk, cw_k0, cw_k6, cw_k7, cw_aowk, cw_aelk, cw_askk, cw_aslk, cw_nelk, cw_arok, cw_nrok, cw_awek, cw_nwek, cw_aplk, cw_nplk, cw_atxk, cw_ntxk, cw_ghwk, cw_gdpk, cw_galk, cw_gcok, cw_gfek, cw_h2, cw_h3, cw_h4, cw_h5, cw_h10, cw_grpk, cw_x0, cw_x1, cw_x2, cw_x5, cw_gtlk, cw_grfk, cw_ghsk, cw_padk, cw_pagk, cw_pmkk, cw_ppnk, cw_zpnk, cw_sfl, cw_sdt, cw_pmok, cw_peak, cw_plnk, cw_sowk, cw_selk, cw_sskk, cw_sslk, cw_srok, cw_swek, cw_splk, cw_palk, cw_pcok, cw_pfek, cw_prpk, cw_ptlk, cw_prfk, cw_phsk, cw_stxk, cw_ok3, cw_ok5, cw_okn, kc_at hg hm h.km hx, if_neg ho, mt_s, e1, mw_ck hq, hw9, q1]
      · exact absurd hF0 q2
    · intro hF0 F' hF'
      rcases mk_far (stk0 := fun _ => 0) (mk0 := fun _ => 0) hm (fun _ _ _ => rfl) hF _ a1 a2 with ⟨q1, q2⟩ | ⟨q1, q2⟩
      · exact absurd q2 hF0
      generalize hσ1 : mput σ.2.1 (G 3 6) (G 3 8) none 200 ct tp sc ov (nE σ (.inl (4, df_4))) = σ1 at e1 hex h2 hw9
      obtain ⟨S2, ct2, tp2, ov2, sc2, e2⟩ := kc_live (w := ob m x) hm h2 (Or.inr ht)
      have hex2 := mput_ex (md := 200) (sc := sc2) (hp := G 3 6) (sk := G 3 8) (wt := wtA G (ob m x)) (ct := ct2) (tp := tp2) (ov := ov2) (e := .inl (4, df_4)) h2.db
      have hq2 : (D σ1.2.1).1 = -1 := by
        by_cases q : (D σ1.2.1).1 = -1
        · exact q
        · have := h2.db _ q; omega
      have hmck : ck (cput D (cel G adk nfk ndk pnk agk ((mkA m 200 (-1) (fun _ => 0, fun _ => 0, 0, 0, 0)).2.1) flk dtk hwk dpk alk cok fek rpk rok wek plk mok eak lnk cpk elk owk S' txk tlk rfk slk hsk) σ1) σ.2.1 4 = some () := by
        rw [← hσ1]
        exact mw_ck hq
      have hw8 := kc_words (σ := nE σ1 (.inl (4, df_4))) (p := σ1.2.1) (hp9 := G 3 8) (wt := wtA G (ob m x)) (md := 200) (ct := ct2) (tp := tp2) (sc := sc2) (ov := ov2) hg hq2 hm (h.km.mk (F := (mkA m 200 (ob m x) (fun _ => 0, fun _ => 0, 0, 0, 0)).2.1) (S := S2)) (fun b b1 b2 => by
        rcases mk_far (stk0 := fun _ => 0) (mk0 := fun _ => 0) hm (fun _ _ _ => rfl) hF' b b1 b2 with q | q
        · exact Or.inl q.1
        · exact Or.inr q.1)
      rw [lw_far hm (fun _ _ _ => rfl) hF'] at hw8
      refine ⟨_, ?_, OPK.st (F := (mkA m 200 (ob m x) (fun _ => 0, fun _ => 0, 0, 0, 0)).2.1) (S := S2) h (hex.tr hex2)⟩
      rw [show wtA G (ob m x) = some (G 0 (ob m x)) from if_neg ho] at e2 hw8 ⊢
      simp (disch := first | assumption | exact HU.lu (by assumption) | exact cw_okn | exact cw_ok3 (by assumption) | exact cw_ok5 (by assumption) | omega) only [J_add, J_sub, J_mul, J_neg, J_lit, J_lt, J_le, J_eq, Option.bind_some, Int.reduceAdd, Int.reduceSub, Int.reduceMul, Int.reduceNeg, Int.reduceEq, Int.reduceLT, Int.reduceLE, reduceIte, Int.zero_add, Int.add_zero, and_self, true_and, and_true, false_and, and_false, or_true, true_or, or_false, false_or, not_true_eq_false, not_false_eq_true, ne_eq, b2_s, cw_gadk, cw_gpnk, cw_gagk, cw_gmkk, cw_gfl, cw_gdt, cw_kth, cw_afl, cw_nfl, cw_adt, cw_ndt, cw_gmok, cw_geak, cw_glnk, cw_k0, cw_k6, cw_k7, cw_aowk, cw_aelk, cw_askk, cw_aslk, cw_nelk, cw_arok, cw_nrok, cw_awek, cw_nwek, cw_aplk, cw_nplk, cw_atxk, cw_ntxk, cw_ghwk, cw_gdpk, cw_galk, cw_gcok, cw_gfek, cw_h2, cw_h3, cw_h4, cw_h5, cw_h10, cw_grpk, cw_x0, cw_x1, cw_x2, cw_x5, cw_gtlk, cw_grfk, cw_ghsk, cw_padk, cw_pagk, cw_pmkk, cw_ppnk, cw_zpnk, cw_sfl, cw_sdt, cw_pmok, cw_peak, cw_plnk, cw_sowk, cw_selk, cw_sskk, cw_sslk, cw_srok, cw_swek, cw_splk, cw_palk, cw_pcok, cw_pfek, cw_prpk, cw_ptlk, cw_prfk, cw_phsk, cw_stxk, cw_ok3, cw_ok5, cw_okn, kc_at hg hm h.km hx, if_neg ho, mt_s, e1, hmck, hw9, q1, e2, mw_ck hq2, hw8]
end T1
