/-! PLAIN LAW: digest. NAMES: mx9 rch9 ob8 hO9 dig9 kc_ tm_digest -/
set_option maxRecDepth 100000
def mx9 (h : Int64) (x : Int) : Int64 := 31 * h + (J x).toInt64
/-- reached from outside -/
noncomputable def rch9 (m : Int → Int) (a : Int) : Int := @ite Int (∃ k, rd m (-1) k a) (Classical.propDecidable _) 1 0
noncomputable def ob8 (m : Int → Int) (a k : Int) : Int := if k = 7 then rch9 m a else par9 m a k
noncomputable def hO9 (m : Int → Int) (a : Int) (h : Int64) : Int64 := if 0 < m a then itr (fun k h => mx9 h (m (800 + a + 1 + k))) (m a - 1).toNat (itr (fun k h => mx9 h (ob8 m a k)) 8 h) else h
noncomputable def dg1 (m : Int → Int) (tl : Int) : Int64 := itr (fun k h => mx9 h (cnt m tl k)) 8 47
noncomputable def dg2 (m : Int → Int) (tl : Int) : Int64 := itr (fun k h => mx9 h (m (1200 + k))) 10 (dg1 m tl)
noncomputable def dg3 (m : Int → Int) (tl : Int) : Int64 := itr (hO9 m) (m 1216).toNat (dg2 m tl)
noncomputable def dg4 (m : Int → Int) (tl : Int) : Int64 := itr (fun k h => mx9 h (fre m k)) 5 (dg3 m tl)
noncomputable def dg5 (m : Int → Int) (tl : Int) : Int64 := if m 1221 = 1 then itr (fun k h => mx9 h (m (1210 + k))) 6 (dg4 m tl) else dg4 m tl
noncomputable def dig9 (m text : Int → Int) (tl : Int) : Int64 := itr (fun k h => mx9 h (text k)) tl.toNat (dg5 m tl)
theorem rch_F {m F : Int → Int} (hF : FAR m (-1) F) {a : Int} (a1 : 0 ≤ a) (a2 : a < 200) : (if F a = -1 then 0 else 1) = rch9 m a := by
  unfold rch9
  rcases hF a a1 a2 with ⟨f1, f2⟩ | ⟨f1, -, f3, -⟩
  · rw [if_pos f1, if_neg (fun ⟨k, q⟩ => f2 k q)]
  · rw [if_neg (by omega), if_pos ⟨_, f3⟩]
theorem itr_add {X : Type} {g : Int → X → X} (p q : Nat) (x : X) : itr g (p + q) x = itr (fun k => g (p + k)) q (itr g p x) := by
  induction q with
  | zero => rfl
  | succ q ih =>
    rw [← Nat.add_assoc, itr_s, itr_s, ih]
    rfl
section T1
variable {m hd : Int → Int} {adk nfk ndk pnk agk mkk rok wek plk txk : Int → Int} {flk dtk : Int → Int → Int} {hwk dpk alk cok fek lnk tlk rfk : Int} {rpk : Option Nat} {mok : Int32} {eak cpk : Nat} {elk owk skk slk : Nat → Option Nat} {hsk : Int64} {D : Nat → Int × Int} {G : Int → Int → Nat} {σ : mm_M}
theorem kc_mixk (hg : HU D G) (hu : XU D G) {z : Int32} : f_X0_mix (G 3 7) z.toInt64 (cput D (cel G adk nfk ndk pnk agk mkk flk dtk hwk dpk alk cok fek rpk rok wek plk mok eak lnk cpk elk owk skk txk tlk rfk slk hsk) σ) = some (cput D (cel G adk nfk ndk pnk agk mkk flk dtk hwk dpk alk cok fek rpk rok wek plk mok eak lnk cpk elk owk skk txk tlk rfk slk (31 * hsk + z.toInt64)) σ) := by
  unfold f_X0_mix
  rw [cw_ghsk hu, Option.bind_some, cw_phsk hg hu, Option.bind_some]
theorem kc_mixRow (hg : HU D G) (hu : XU D G) {q n : Nat} {r : Int → Int} (hq : ∀ h, (cput D (cel G adk nfk ndk pnk agk mkk flk dtk hwk dpk alk cok fek rpk rok wek plk mok eak lnk cpk elk owk skk txk tlk rfk slk h) σ).1 q = some (.inr (.inl (0, n, rw_ r)))) (hn : n ≤ 250) : f_X0_mixRow (G 3 7) q (cput D (cel G adk nfk ndk pnk agk mkk flk dtk hwk dpk alk cok fek rpk rok wek plk mok eak lnk cpk elk owk skk txk tlk rfk slk hsk) σ) = some (cput D (cel G adk nfk ndk pnk agk mkk flk dtk hwk dpk alk cok fek rpk rok wek plk mok eak lnk cpk elk owk skk txk tlk rfk slk (itr (fun k h => mx9 h (r k)) n hsk)) σ) := by
  unfold f_X0_mixRow g_X0_mixRow_0
  rw [aN_i0 (hq hsk) (by decide), Option.bind_some, lgo_l]
  obtain ⟨s', e, rfl⟩ := lpx_itr (f := s_X0_mixRow (G 3 7) q) (g := fun k h => mx9 h (r k)) (fun k h s => s = (q, J n, J k, (cput D (cel G adk nfk ndk pnk agk mkk flk dtk hwk dpk alk cok fek rpk rok wek plk mok eak lnk cpk elk owk skk txk tlk rfk slk h) σ))) n (by
    rintro k h s hk rfl
    refine ⟨_, lpx_n (s' := (q, J n, J (k + 1 : Nat), (cput D (cel G adk nfk ndk pnk agk mkk flk dtk hwk dpk alk cok fek rpk rok wek plk mok eak lnk cpk elk owk skk txk tlk rfk slk (mx9 h (r k))) σ))) ?_, rfl⟩
    unfold s_X0_mixRow g_X0_mixRow_8
    dsimp only
    rw [if_neg (by rw [J_le (by omega) (by omega) (by omega) (by omega)]; omega), aI_rw (hq h) (by omega) (by omega) (by omega), Option.bind_some, cw_k7 hu, Option.bind_some, kc_mixk hg hu, Option.bind_some, show (1 : Int32) = J 1 from J_lit 1, J_add]
    rfl) hsk (q, J n, J 0, (cput D (cel G adk nfk ndk pnk agk mkk flk dtk hwk dpk alk cok fek rpk rok wek plk mok eak lnk cpk elk owk skk txk tlk rfk slk hsk) σ)) rfl
  rw [show (0 : Int32) = J 0 from rfl, e]
  refine lpx_d ?_
  unfold s_X0_mixRow g_X0_mixRow_8
  dsimp only
  rw [if_pos (by rw [J_le (by omega) (by omega) (by omega) (by omega)]; omega)]
theorem kc_object8 (hm : WF m) (h : (CG m hd D G adk nfk ndk pnk agk mkk flk dtk hwk dpk alk cok fek rpk rok wek plk mok eak lnk cpk elk owk skk txk tlk rfk slk hsk σ)) {a k : Int} (a1 : 0 ≤ a) (a2 : a < 200) (a3 : 0 < m a) (k1 : 0 ≤ k) (k2 : k ≤ 7) : ∃ F S σ', f_X0_object (G 3 7) (J a) (J k) (cput D (cel G adk nfk ndk pnk agk mkk flk dtk hwk dpk alk cok fek rpk rok wek plk mok eak lnk cpk elk owk skk txk tlk rfk slk hsk) σ) = some (J (ob8 m a k), (cput D (cel G adk nfk ndk pnk agk F flk dtk hwk dpk alk cok fek rpk rok wek plk mok eak lnk cpk elk owk S txk tlk rfk slk hsk) σ')) ∧ EX D σ D σ' := by
  have hg := h.hu
  have hu := h.xu
  have hW := hm.hW
  have hx : ir a := by unfold ir; omega
  have hoa : ob m a = a := ob_e hm ⟨a1, a2, a3, by omega, by omega⟩
  by_cases c : k = 7
  · subst c
    obtain ⟨F, hF, -⟩ := tm_garbage (t := 0) (m := m) (old := m) (saved := m) (isS := m) (text := m) (tl := 0) (rf_ := 0) (far := m) (mk := m) (stk := m) (top := 0) (hi := 0) (ov := 0) (cmd := m) (cm := 0) (at_ := 0) (ft := 0) (hs := 0) (σ := σ) hm
    have hq := kr_new h.db
    have ht := (h.km.th a1 a2 a3).1
    have hin := kc_in (σ := (cput D (cel G adk nfk ndk pnk agk mkk flk dtk hwk dpk alk cok fek rpk rok wek plk mok eak lnk cpk elk owk skk txk tlk rfk slk hsk) σ)) (show ir 7 by unfold ir; omega) (show ir 0 by unfold ir; omega) (show ir 7 by unfold ir; omega)
    obtain ⟨S', ct, tp, ov, sc, e1⟩ := kc_live (w := -1) hm h (Or.inl rfl)
    have hE := mput_ex (md := 200) (sc := sc) (hp := G 3 6) (sk := G 3 8) (wt := none) (ct := ct) (tp := tp) (ov := ov) (e := .inl (4, df_4)) h.db
    refine ⟨(mkA m 200 (-1) (fun _ => 0, fun _ => 0, 0, 0, 0)).2.1, S', _, ?_, hE⟩
    rw [show wtA G (-1) = none from if_pos rfl] at e1
    have hof : f_of 7 (G 3 7) (G 0 (ob m a)) (cput D (cel G adk nfk ndk pnk agk mkk flk dtk hwk dpk alk cok fek rpk rok wek plk mok eak lnk cpk elk owk skk txk tlk rfk slk hsk) σ) = f_X21_of (G 3 7) (G 0 (ob m a)) (cput D (cel G adk nfk ndk pnk agk mkk flk dtk hwk dpk alk cok fek rpk rok wek plk mok eak lnk cpk elk owk skk txk tlk rfk slk hsk) σ) := rfl
    have ho : ob m a ≠ -1 := by omega
    unfold f_X0_object ob8
    rw [← rch_F hF a1 a2]
    rcases mk_far (stk0 := fun _ => 0) (mk0 := fun _ => 0) hm (fun _ _ _ => rfl) hF _ a1 a2 with ⟨q1, q2⟩ | ⟨q1, q2⟩
    · rw [if_pos rfl, if_pos q2]
      rw [← hoa] at q1 ht
      simp (disch := first | assumption | exact HU.lu (by assumption) | exact cw_okn | exact cw_ok3 (by assumption) | exact cw_ok5 (by assumption) | omega) only [J_add, J_sub, J_mul, J_neg, J_lit, J_lt, J_le, J_eq, Option.bind_some, Int.reduceAdd, Int.reduceSub, Int.reduceMul, Int.reduceNeg, Int.reduceEq, Int.reduceLT, Int.reduceLE, reduceIte, Int.zero_add, Int.add_zero, and_self, true_and, and_true, false_and, and_false, or_true, true_or, or_false, false_or, not_true_eq_false, not_false_eq_true, ne_eq, b2_s, cw_gadk, cw_gpnk, cw_gagk, cw_gmkk, cw_gfl, cw_gdt, cw_kth, cw_afl, cw_nfl, cw_adt, cw_ndt, cw_gmok, cw_geak, cw_glnk, cw_k0, cw_k6, cw_k7, cw_aowk, cw_aelk, cw_askk, cw_aslk, cw_nelk, cw_arok, cw_nrok, cw_awek, cw_nwek, cw_aplk, cw_nplk, cw_atxk, cw_ntxk, cw_ghwk, cw_gdpk, cw_galk, cw_gcok, cw_gfek, cw_h2, cw_h3, cw_h4, cw_h5, cw_h10, cw_grpk, cw_x0, cw_x1, cw_x2, cw_x5, cw_gtlk, cw_grfk, cw_ghsk, cw_padk, cw_pagk, cw_pmkk, cw_ppnk, cw_zpnk, cw_sfl, cw_sdt, cw_pmok, cw_peak, cw_plnk, cw_sowk, cw_selk, cw_sskk, cw_sslk, cw_srok, cw_swek, cw_splk, cw_palk, cw_pcok, cw_pfek, cw_prpk, cw_ptlk, cw_prfk, cw_phsk, cw_stxk, cw_ok3, cw_ok5, cw_okn, kc_at hg hm h.km hx, if_neg ho, mt_s, hin, kc_part (show (0 : Int) ≤ 7 by omega) (show (7 : Int) ≤ 7 by omega)]
      show b2 (f_of 7 _ _ _) _ = _
      rw [hof]
      unfold f_X21_of
      simp (disch := first | assumption | exact HU.lu (by assumption) | exact cw_okn | exact cw_ok3 (by assumption) | exact cw_ok5 (by assumption) | omega) only [J_add, J_sub, J_mul, J_neg, J_lit, J_lt, J_le, J_eq, Option.bind_some, Int.reduceAdd, Int.reduceSub, Int.reduceMul, Int.reduceNeg, Int.reduceEq, Int.reduceLT, Int.reduceLE, reduceIte, Int.zero_add, Int.add_zero, and_self, true_and, and_true, false_and, and_false, or_true, true_or, or_false, false_or, not_true_eq_false, not_false_eq_true, ne_eq, b2_s, cw_gadk, cw_gpnk, cw_gagk, cw_gmkk, cw_gfl, cw_gdt, cw_kth, cw_afl, cw_nfl, cw_adt, cw_ndt, cw_gmok, cw_geak, cw_glnk, cw_k0, cw_k6, cw_k7, cw_aowk, cw_aelk, cw_askk, cw_aslk, cw_nelk, cw_arok, cw_nrok, cw_awek, cw_nwek, cw_aplk, cw_nplk, cw_atxk, cw_ntxk, cw_ghwk, cw_gdpk, cw_galk, cw_gcok, cw_gfek, cw_h2, cw_h3, cw_h4, cw_h5, cw_h10, cw_grpk, cw_x0, cw_x1, cw_x2, cw_x5, cw_gtlk, cw_grfk, cw_ghsk, cw_padk, cw_pagk, cw_pmkk, cw_ppnk, cw_zpnk, cw_sfl, cw_sdt, cw_pmok, cw_peak, cw_plnk, cw_sowk, cw_selk, cw_sskk, cw_sslk, cw_srok, cw_swek, cw_splk, cw_palk, cw_pcok, cw_pfek, cw_prpk, cw_ptlk, cw_prfk, cw_phsk, cw_stxk, cw_ok3, cw_ok5, cw_okn, e1, q1]
    · rw [if_pos rfl, if_neg q2]
      rw [← hoa] at q1 ht
      simp (disch := first | assumption | exact HU.lu (by assumption) | exact cw_okn | exact cw_ok3 (by assumption) | exact cw_ok5 (by assumption) | omega) only [J_add, J_sub, J_mul, J_neg, J_lit, J_lt, J_le, J_eq, Option.bind_some, Int.reduceAdd, Int.reduceSub, Int.reduceMul, Int.reduceNeg, Int.reduceEq, Int.reduceLT, Int.reduceLE, reduceIte, Int.zero_add, Int.add_zero, and_self, true_and, and_true, false_and, and_false, or_true, true_or, or_false, false_or, not_true_eq_false, not_false_eq_true, ne_eq, b2_s, cw_gadk, cw_gpnk, cw_gagk, cw_gmkk, cw_gfl, cw_gdt, cw_kth, cw_afl, cw_nfl, cw_adt, cw_ndt, cw_gmok, cw_geak, cw_glnk, cw_k0, cw_k6, cw_k7, cw_aowk, cw_aelk, cw_askk, cw_aslk, cw_nelk, cw_arok, cw_nrok, cw_awek, cw_nwek, cw_aplk, cw_nplk, cw_atxk, cw_ntxk, cw_ghwk, cw_gdpk, cw_galk, cw_gcok, cw_gfek, cw_h2, cw_h3, cw_h4, cw_h5, cw_h10, cw_grpk, cw_x0, cw_x1, cw_x2, cw_x5, cw_gtlk, cw_grfk, cw_ghsk, cw_padk, cw_pagk, cw_pmkk, cw_ppnk, cw_zpnk, cw_sfl, cw_sdt, cw_pmok, cw_peak, cw_plnk, cw_sowk, cw_selk, cw_sskk, cw_sslk, cw_srok, cw_swek, cw_splk, cw_palk, cw_pcok, cw_pfek, cw_prpk, cw_ptlk, cw_prfk, cw_phsk, cw_stxk, cw_ok3, cw_ok5, cw_okn, kc_at hg hm h.km hx, if_neg ho, mt_s, hin, kc_part (show (0 : Int) ≤ 7 by omega) (show (7 : Int) ≤ 7 by omega)]
      show b2 (f_of 7 _ _ _) _ = _
      rw [hof]
      unfold f_X21_of
      simp (disch := first | assumption | exact HU.lu (by assumption) | exact cw_okn | exact cw_ok3 (by assumption) | exact cw_ok5 (by assumption) | omega) only [J_add, J_sub, J_mul, J_neg, J_lit, J_lt, J_le, J_eq, Option.bind_some, Int.reduceAdd, Int.reduceSub, Int.reduceMul, Int.reduceNeg, Int.reduceEq, Int.reduceLT, Int.reduceLE, reduceIte, Int.zero_add, Int.add_zero, and_self, true_and, and_true, false_and, and_false, or_true, true_or, or_false, false_or, not_true_eq_false, not_false_eq_true, ne_eq, b2_s, cw_gadk, cw_gpnk, cw_gagk, cw_gmkk, cw_gfl, cw_gdt, cw_kth, cw_afl, cw_nfl, cw_adt, cw_ndt, cw_gmok, cw_geak, cw_glnk, cw_k0, cw_k6, cw_k7, cw_aowk, cw_aelk, cw_askk, cw_aslk, cw_nelk, cw_arok, cw_nrok, cw_awek, cw_nwek, cw_aplk, cw_nplk, cw_atxk, cw_ntxk, cw_ghwk, cw_gdpk, cw_galk, cw_gcok, cw_gfek, cw_h2, cw_h3, cw_h4, cw_h5, cw_h10, cw_grpk, cw_x0, cw_x1, cw_x2, cw_x5, cw_gtlk, cw_grfk, cw_ghsk, cw_padk, cw_pagk, cw_pmkk, cw_ppnk, cw_zpnk, cw_sfl, cw_sdt, cw_pmok, cw_peak, cw_plnk, cw_sowk, cw_selk, cw_sskk, cw_sslk, cw_srok, cw_swek, cw_splk, cw_palk, cw_pcok, cw_pfek, cw_prpk, cw_ptlk, cw_prfk, cw_phsk, cw_stxk, cw_ok3, cw_ok5, cw_okn, e1, q1]
  · have e := (kc_object6 (σ := σ) hg hu hm h.km hx (y := k) (by unfold ir; omega)).2 (by omega) k1 (by omega)
    rw [hoa] at e
    refine ⟨mkk, skk, σ, ?_, EX.rfl' h.db⟩
    unfold ob8
    rw [if_neg c]
    exact e
theorem CG.hq9 {h9 : Int64} (h : (CG m hd D G adk nfk ndk pnk agk mkk flk dtk hwk dpk alk cok fek rpk rok wek plk mok eak lnk cpk elk owk skk txk tlk rfk slk hsk σ)) : (CG m hd D G adk nfk ndk pnk agk mkk flk dtk hwk dpk alk cok fek rpk rok wek plk mok eak lnk cpk elk owk skk txk tlk rfk slk h9 σ) := ⟨⟨h.hu, h.xu, h.km⟩, ⟨h.db, h.ce, h.le, h.ca⟩, h.uq, h.rp⟩
theorem kc_mixThing (hm : WF m) (h : (CG m hd D G adk nfk ndk pnk agk mkk flk dtk hwk dpk alk cok fek rpk rok wek plk mok eak lnk cpk elk owk skk txk tlk rfk slk hsk σ)) {a : Int} (a1 : 0 ≤ a) (a2 : a < 200) (a3 : 0 < m a) : ∃ F S σ', f_X0_mixThing (G 3 7) (G 0 a) (cput D (cel G adk nfk ndk pnk agk mkk flk dtk hwk dpk alk cok fek rpk rok wek plk mok eak lnk cpk elk owk skk txk tlk rfk slk hsk) σ) = some (cput D (cel G adk nfk ndk pnk agk F flk dtk hwk dpk alk cok fek rpk rok wek plk mok eak lnk cpk elk owk S txk tlk rfk slk (hO9 m a hsk)) σ') ∧ EX D σ D σ' := by
  have hg := h.hu
  have hu := h.xu
  obtain ⟨t1, t2, t3, t4, t5, t6, t7, t8⟩ := h.km.th a1 a2 a3
  have hF9 := hm.hf _ a1 a2 a3
  unfold f_X0_mixThing g_X0_mixThing_0
  rw [lgo_l]
  obtain ⟨s', e, F, S, σ', hE, rfl⟩ := lpx_itr (f := s_X0_mixThing (G 3 7) (G 0 a)) (g := fun k h => mx9 h (ob8 m a k)) (fun k h s => ∃ F S σ', EX D σ D σ' ∧ s = (J k, k, 8 * k, (cput D (cel G adk nfk ndk pnk agk F flk dtk hwk dpk alk cok fek rpk rok wek plk mok eak lnk cpk elk owk S txk tlk rfk slk h) σ'))) 8 (by
    rintro k h9 s hk ⟨F, S, σ', hE, rfl⟩
    have hQ := (h.st (F := F) (S := S) hE).hq9 (h9 := h9)
    obtain ⟨F2, S2, σ2, e2, hE2⟩ := kc_object8 (k := k) hm hQ a1 a2 a3 (by omega) (by omega)
    refine ⟨_, lpx_n (s' := (J (k + 1 : Nat), k + 1, 8 * (k + 1), (cput D (cel G adk nfk ndk pnk agk F2 flk dtk hwk dpk alk cok fek rpk rok wek plk mok eak lnk cpk elk owk S2 txk tlk rfk slk (mx9 h9 (ob8 m a k))) σ2))) ?_, F2, S2, σ2, hE.tr hE2, rfl⟩
    unfold s_X0_mixThing g_X0_mixThing_2
    dsimp only
    rw [grd_s (by omega), Option.bind_some, show (8 : Int32) = J 8 from J_lit 8, if_neg (by rw [J_le (by omega) (by omega) (by omega) (by omega)]; omega), cw_gadk t1, Option.bind_some, cw_k7 hu, Option.bind_some, grd_s (by omega), Option.bind_some, t2, e2, b2_s, cw_k7 hu, Option.bind_some, kc_mixk hg hu, Option.bind_some, show (1 : Int32) = J 1 from J_lit 1, J_add]
    rfl) hsk (J 0, 0, 0, (cput D (cel G adk nfk ndk pnk agk mkk flk dtk hwk dpk alk cok fek rpk rok wek plk mok eak lnk cpk elk owk skk txk tlk rfk slk hsk) σ)) ⟨mkk, skk, σ, EX.rfl' h.db, rfl⟩
  refine ⟨F, S, σ', ?_, hE⟩
  rw [show (0 : Int32) = J 0 from rfl, e]
  have hr1 := kc_mixRow (mkk := F) (skk := S) (σ := σ') (hsk := itr (fun k h => mx9 h (ob8 m a k)) 8 hsk) (q := G 1 a) (n := (nfk a).toNat) (r := flk a) (adk := adk) (nfk := nfk) (ndk := ndk) (pnk := pnk) (agk := agk) (flk := flk) (dtk := dtk) (hwk := hwk) (dpk := dpk) (alk := alk) (cok := cok) (fek := fek) (rpk := rpk) (rok := rok) (wek := wek) (plk := plk) (mok := mok) (eak := eak) (lnk := lnk) (cpk := cpk) (elk := elk) (owk := owk) (txk := txk) (tlk := tlk) (rfk := rfk) (slk := slk) hg hu (fun h => cc_fl t1) (by omega)
  have hr2 := kc_mixRow (mkk := F) (skk := S) (σ := σ') (hsk := itr (fun k h => mx9 h (flk a k)) (nfk a).toNat (itr (fun k h => mx9 h (ob8 m a k)) 8 hsk)) (q := G 2 a) (n := (ndk a).toNat) (r := dtk a) (adk := adk) (nfk := nfk) (ndk := ndk) (pnk := pnk) (agk := agk) (flk := flk) (dtk := dtk) (hwk := hwk) (dpk := dpk) (alk := alk) (cok := cok) (fek := fek) (rpk := rpk) (rok := rok) (wek := wek) (plk := plk) (mok := mok) (eak := eak) (lnk := lnk) (cpk := cpk) (elk := elk) (owk := owk) (txk := txk) (tlk := tlk) (rfk := rfk) (slk := slk) hg hu (fun h => cc_dt t1) (by omega)
  refine lpx_d ?_
  unfold s_X0_mixThing g_X0_mixThing_2
  dsimp only
  rw [grd_s (by omega), Option.bind_some, show (8 : Int32) = J 8 from J_lit 8, if_pos (by rw [J_le (by omega) (by omega) (by omega) (by omega)]; omega), cw_gfl t1, Option.bind_some, cw_k7 hu, Option.bind_some, hr1, Option.bind_some, cw_gdt t1, Option.bind_some, cw_k7 hu, Option.bind_some, hr2, Option.bind_some]
  have hh : itr (fun k h => mx9 h (dtk a k)) (ndk a).toNat (itr (fun k h => mx9 h (flk a k)) (nfk a).toNat (itr (fun k h => mx9 h (ob8 m a k)) 8 hsk)) = hO9 m a hsk := by
    unfold hO9
    rw [if_pos a3, show (m a - 1).toNat = (nfk a).toNat + (ndk a).toNat by omega, itr_add]
    rw [itr_c (g := fun k h => mx9 h (flk a k)) (f := fun k h => mx9 h (m (800 + a + 1 + k))) (nfk a).toNat _ (fun k y k1 k2 => by rw [t7 k k1 (by omega)])]
    exact itr_c _ _ (fun k y k1 k2 => by rw [t8 k k1 (by omega), show 800 + a + 1 + (((nfk a).toNat : Int) + k) = 800 + a + 1 + m (200 + a) + k by omega])
  rw [hh]
end T1
noncomputable def dgT (m text : Int → Int) (tl : Int) (h : Int64) : Int64 := itr (fun k h => mx9 h (text k)) tl.toNat (if m 1221 = 1 then itr (fun k h => mx9 h (m (1210 + k))) 6 (itr (fun k h => mx9 h (fre m k)) 5 h) else itr (fun k h => mx9 h (fre m k)) 5 h)
theorem dgT_9 (m text : Int → Int) (tl : Int) : dig9 m text tl = dgT m text tl (dg3 m tl) := rfl
section T2
variable {m hd : Int → Int} {adk nfk ndk pnk agk mkk rok wek plk txk : Int → Int} {flk dtk : Int → Int → Int} {hwk dpk alk cok fek lnk tlk rfk : Int} {rpk : Option Nat} {mok : Int32} {eak cpk : Nat} {elk owk skk slk : Nat → Option Nat} {hsk : Int64} {D : Nat → Int × Int} {G : Int → Int → Nat} {σ : mm_M}
theorem kc_digX (hg : HU D G) (hu : XU D G) (htx : tx9 txk tlk) {cn cs : Nat} (hc : cn ≤ 1700 ∧ cs ≤ 13000) : lpx (s_X0_digest (G 3 7)) (.inr (.inr (.inr (.inr (J 0, cn, cs, (cput D (cel G adk nfk ndk pnk agk mkk flk dtk hwk dpk alk cok fek rpk rok wek plk mok eak lnk cpk elk owk skk txk tlk rfk slk hsk) σ)))))) = some (itr (fun k h => mx9 h (txk k)) tlk.toNat hsk, (cput D (cel G adk nfk ndk pnk agk mkk flk dtk hwk dpk alk cok fek rpk rok wek plk mok eak lnk cpk elk owk skk txk tlk rfk slk (itr (fun k h => mx9 h (txk k)) tlk.toNat hsk)) σ)) := by
  obtain ⟨x1, x2, x3⟩ := htx
  obtain ⟨s', e, rfl⟩ := lpx_itr (f := s_X0_digest (G 3 7)) (g := fun k h => mx9 h (txk k)) (fun k h s => s = .inr (.inr (.inr (.inr (J k, cn, cs, (cput D (cel G adk nfk ndk pnk agk mkk flk dtk hwk dpk alk cok fek rpk rok wek plk mok eak lnk cpk elk owk skk txk tlk rfk slk h) σ)))))) tlk.toNat (by
    rintro k h9 s hk rfl
    refine ⟨_, lpx_n (s' := .inr (.inr (.inr (.inr (J (k + 1 : Nat), cn, cs, (cput D (cel G adk nfk ndk pnk agk mkk flk dtk hwk dpk alk cok fek rpk rok wek plk mok eak lnk cpk elk owk skk txk tlk rfk slk (mx9 h9 (txk k))) σ)))))) ?_, rfl⟩
    unfold s_X0_digest g_X0_digest_151
    dsimp only
    rw [grd_s hc, Option.bind_some, cw_gtlk hu, Option.bind_some, if_neg (by rw [J_le (by omega) (by omega) (by omega) (by omega)]; omega), cw_x2 hu, Option.bind_some, cw_atxk hu (by omega) (by omega), Option.bind_some, cw_k7 hu, Option.bind_some, kc_mixk hg hu, Option.bind_some, show (1 : Int32) = J 1 from J_lit 1, J_add]
    rfl) hsk (.inr (.inr (.inr (.inr (J 0, cn, cs, (cput D (cel G adk nfk ndk pnk agk mkk flk dtk hwk dpk alk cok fek rpk rok wek plk mok eak lnk cpk elk owk skk txk tlk rfk slk hsk) σ)))))) rfl
  rw [e]
  refine lpx_d ?_
  unfold s_X0_digest g_X0_digest_151
  dsimp only
  rw [grd_s hc, Option.bind_some, cw_gtlk hu, Option.bind_some, if_pos (by rw [J_le (by omega) (by omega) (by omega) (by omega)]; omega), cw_ghsk hu, Option.bind_some]
theorem kc_digR (hm : WF m) (h : (CG m hd D G adk nfk ndk pnk agk mkk flk dtk hwk dpk alk cok fek rpk rok wek plk mok eak lnk cpk elk owk skk txk tlk rfk slk hsk σ)) (htx : tx9 txk tlk) {cn cs : Nat} (hc : cn ≤ 1700 ∧ cs ≤ 13000) : lpx (s_X0_digest (G 3 7)) (.inr (.inr (.inr (.inl (J 0, cn, cs, (cput D (cel G adk nfk ndk pnk agk mkk flk dtk hwk dpk alk cok fek rpk rok wek plk mok eak lnk cpk elk owk skk txk tlk rfk slk hsk) σ)))))) = some (itr (fun k h => mx9 h (txk k)) tlk.toNat (if m 1221 = 1 then itr (fun k h => mx9 h (m (1210 + k))) 6 hsk else hsk), (cput D (cel G adk nfk ndk pnk agk mkk flk dtk hwk dpk alk cok fek rpk rok wek plk mok eak lnk cpk elk owk skk txk tlk rfk slk (itr (fun k h => mx9 h (txk k)) tlk.toNat (if m 1221 = 1 then itr (fun k h => mx9 h (m (1210 + k))) 6 hsk else hsk))) σ)) := by
  have hg := h.hu
  have hu := h.xu
  have e5 : (5 : Int32) = J 5 := J_lit 5
  rcases h.rp with ⟨r1, r2⟩ | ⟨r1, p, r2, -⟩
  · rw [if_neg (by omega), lpx_n (s' := .inr (.inr (.inr (.inr (J 0, cn, cs, (cput D (cel G adk nfk ndk pnk agk mkk flk dtk hwk dpk alk cok fek rpk rok wek plk mok eak lnk cpk elk owk skk txk tlk rfk slk hsk) σ)))))) (by
      unfold s_X0_digest g_X0_digest_118
      dsimp only
      rw [grd_s hc, Option.bind_some, e5, if_neg (by rw [J_lt (by omega) (by omega) (by omega) (by omega)]; omega), cw_x0 hu, Option.bind_some, cw_grpk hg, Option.bind_some, r2, mt_n]
      rfl)]
    exact kc_digX hg hu htx hc
  · rw [if_pos r1]
    obtain ⟨s', e, rfl⟩ := lpx_itr (f := s_X0_digest (G 3 7)) (g := fun k h => mx9 h (m (1210 + k))) (fun k h s => s = .inr (.inr (.inr (.inl (J k, cn, cs, (cput D (cel G adk nfk ndk pnk agk mkk flk dtk hwk dpk alk cok fek rpk rok wek plk mok eak lnk cpk elk owk skk txk tlk rfk slk h) σ)))))) 6 (by
      rintro k h9 s hk rfl
      have hQ := h.hq9 (h9 := h9)
      have hrep := kc_report (x := k) hg hu hm hQ.rp (by unfold ir; omega) (σ := σ) (hsk := h9) (adk := adk) (nfk := nfk) (ndk := ndk) (pnk := pnk) (agk := agk) (mkk := mkk) (flk := flk) (dtk := dtk) (hwk := hwk) (dpk := dpk) (alk := alk) (cok := cok) (fek := fek) (rok := rok) (wek := wek) (plk := plk) (mok := mok) (eak := eak) (lnk := lnk) (cpk := cpk) (elk := elk) (owk := owk) (skk := skk) (txk := txk) (tlk := tlk) (rfk := rfk) (slk := slk)
      rw [if_pos (by omega), if_pos r1] at hrep
      refine ⟨_, lpx_n (s' := .inr (.inr (.inr (.inl (J (k + 1 : Nat), cn, cs, (cput D (cel G adk nfk ndk pnk agk mkk flk dtk hwk dpk alk cok fek rpk rok wek plk mok eak lnk cpk elk owk skk txk tlk rfk slk (mx9 h9 (m (1210 + k)))) σ)))))) ?_, rfl⟩
      unfold s_X0_digest g_X0_digest_118
      dsimp only
      rw [grd_s hc, Option.bind_some, e5, if_neg (by rw [J_lt (by omega) (by omega) (by omega) (by omega)]; omega), cw_x0 hu, Option.bind_some, cw_grpk hg, Option.bind_some, r2, mt_s, cw_k7 hu, Option.bind_some, ← r2, hrep, Option.bind_some, Option.bind_some, kc_mixk hg hu, Option.bind_some, show (1 : Int32) = J 1 from J_lit 1, J_add]
      rfl) hsk (.inr (.inr (.inr (.inl (J 0, cn, cs, (cput D (cel G adk nfk ndk pnk agk mkk flk dtk hwk dpk alk cok fek rpk rok wek plk mok eak lnk cpk elk owk skk txk tlk rfk slk hsk) σ)))))) rfl
    rw [e, lpx_n (s' := .inr (.inr (.inr (.inr (J 0, cn, cs, (cput D (cel G adk nfk ndk pnk agk mkk flk dtk hwk dpk alk cok fek rpk rok wek plk mok eak lnk cpk elk owk skk txk tlk rfk slk (itr (fun k h => mx9 h (m (1210 + k))) 6 hsk)) σ)))))) (by
      unfold s_X0_digest g_X0_digest_118
      dsimp only
      rw [grd_s hc, Option.bind_some, e5, if_pos (by rw [J_lt (by omega) (by omega) (by omega) (by omega)]; omega)]
      rfl)]
    exact kc_digX hg hu htx hc
theorem kc_digT (hm : WF m) (h : (CG m hd D G adk nfk ndk pnk agk mkk flk dtk hwk dpk alk cok fek rpk rok wek plk mok eak lnk cpk elk owk skk txk tlk rfk slk hsk σ)) (htx : tx9 txk tlk) {cn cs : Nat} (hc : cn ≤ 1700 ∧ cs ≤ 13000) : lpx (s_X0_digest (G 3 7)) (.inr (.inr (.inl (J 0, cn, cs, (cput D (cel G adk nfk ndk pnk agk mkk flk dtk hwk dpk alk cok fek rpk rok wek plk mok eak lnk cpk elk owk skk txk tlk rfk slk hsk) σ))))) = some (dgT m txk tlk hsk, (cput D (cel G adk nfk ndk pnk agk mkk flk dtk hwk dpk alk cok fek rpk rok wek plk mok eak lnk cpk elk owk skk txk tlk rfk slk (dgT m txk tlk hsk)) σ)) := by
  have hg := h.hu
  have hu := h.xu
  have e4 : (4 : Int32) = J 4 := J_lit 4
  obtain ⟨s', e, rfl⟩ := lpx_itr (f := s_X0_digest (G 3 7)) (g := fun k h => mx9 h (fre m k)) (fun k h s => s = .inr (.inr (.inl (J k, cn, cs, (cput D (cel G adk nfk ndk pnk agk mkk flk dtk hwk dpk alk cok fek rpk rok wek plk mok eak lnk cpk elk owk skk txk tlk rfk slk h) σ))))) 5 (by
    rintro k h9 s hk rfl
    have hQ := h.hq9 (h9 := h9)
    refine ⟨_, lpx_n (s' := .inr (.inr (.inl (J (k + 1 : Nat), cn, cs, (cput D (cel G adk nfk ndk pnk agk mkk flk dtk hwk dpk alk cok fek rpk rok wek plk mok eak lnk cpk elk owk skk txk tlk rfk slk (mx9 h9 (fre m k))) σ))))) ?_, rfl⟩
    unfold s_X0_digest g_X0_digest_95
    dsimp only
    rw [grd_s hc, Option.bind_some, e4, if_neg (by rw [J_lt (by omega) (by omega) (by omega) (by omega)]; omega), cw_k7 hu, Option.bind_some, kc_free hg hu hm hQ.km (by unfold ir; omega), Option.bind_some, Option.bind_some, kc_mixk hg hu, Option.bind_some, show (1 : Int32) = J 1 from J_lit 1, J_add]
    rfl) hsk (.inr (.inr (.inl (J 0, cn, cs, (cput D (cel G adk nfk ndk pnk agk mkk flk dtk hwk dpk alk cok fek rpk rok wek plk mok eak lnk cpk elk owk skk txk tlk rfk slk hsk) σ))))) rfl
  rw [e, lpx_n (s' := .inr (.inr (.inr (.inl (J 0, cn, cs, (cput D (cel G adk nfk ndk pnk agk mkk flk dtk hwk dpk alk cok fek rpk rok wek plk mok eak lnk cpk elk owk skk txk tlk rfk slk (itr (fun k h => mx9 h (fre m k)) 5 hsk)) σ)))))) (by
    unfold s_X0_digest g_X0_digest_95
    dsimp only
    rw [grd_s hc, Option.bind_some, e4, if_pos (by rw [J_lt (by omega) (by omega) (by omega) (by omega)]; omega)]
    rfl)]
  exact kc_digR hm h.hq9 htx hc
set_option maxHeartbeats 1000000 in
theorem kc_digest (hm : WF m) (h : (CG m hd D G adk nfk ndk pnk agk mkk flk dtk hwk dpk alk cok fek rpk rok wek plk mok eak lnk cpk elk owk skk txk tlk rfk slk hsk σ)) (htx : tx9 txk tlk) : ∃ F S σ', f_X0_digest (G 3 7) (cput D (cel G adk nfk ndk pnk agk mkk flk dtk hwk dpk alk cok fek rpk rok wek plk mok eak lnk cpk elk owk skk txk tlk rfk slk hsk) σ) = some (dig9 m txk tlk, (cput D (cel G adk nfk ndk pnk agk F flk dtk hwk dpk alk cok fek rpk rok wek plk mok eak lnk cpk elk owk S txk tlk rfk slk (dig9 m txk tlk)) σ')) ∧ EX D σ D σ' := by
  have hg := h.hu
  have hu := h.xu
  have hls := h.km.ls
  have hhd := h.km.hs
  have hls0 := hls
  obtain ⟨⟨l1, l2, l3, l4⟩, l5, l6⟩ := hls0
  have e7 : (7 : Int32) = J 7 := J_lit 7
  unfold f_X0_digest g_X0_digest_0
  rw [cw_phsk hg hu, Option.bind_some, lgo_l]
  obtain ⟨s', e, rfl⟩ := lpx_itr (f := s_X0_digest (G 3 7)) (g := fun k h => mx9 h (cnt m tlk k)) (fun k h s => s = .inl (J k, 0, 0, (cput D (cel G adk nfk ndk pnk agk mkk flk dtk hwk dpk alk cok fek rpk rok wek plk mok eak lnk cpk elk owk skk txk tlk rfk slk h) σ))) 8 (by
    rintro k h9 s hk rfl
    have hQ := h.hq9 (h9 := h9)
    refine ⟨_, lpx_n (s' := .inl (J (k + 1 : Nat), 0, 0, (cput D (cel G adk nfk ndk pnk agk mkk flk dtk hwk dpk alk cok fek rpk rok wek plk mok eak lnk cpk elk owk skk txk tlk rfk slk (mx9 h9 (cnt m tlk k))) σ))) ?_, rfl⟩
    unfold s_X0_digest g_X0_digest_9
    dsimp only
    rw [grd_s (by omega), Option.bind_some, e7, if_neg (by rw [J_lt (by omega) (by omega) (by omega) (by omega)]; omega), cw_k7 hu, Option.bind_some, kc_count hg hu hm hQ.km (by unfold ir; omega), Option.bind_some, Option.bind_some, kc_mixk hg hu, Option.bind_some, show (1 : Int32) = J 1 from J_lit 1, J_add]
    rfl) 47 (.inl (J 0, 0, 0, (cput D (cel G adk nfk ndk pnk agk mkk flk dtk hwk dpk alk cok fek rpk rok wek plk mok eak lnk cpk elk owk skk txk tlk rfk slk 47) σ))) rfl
  rw [show (0 : Int32) = J 0 from rfl, e]
  have hr1 := kc_mixRow (mkk := mkk) (skk := skk) (σ := σ) (hsk := dg1 m tlk) (q := G 3 3) (n := 6) (r := rok) (adk := adk) (nfk := nfk) (ndk := ndk) (pnk := pnk) (agk := agk) (flk := flk) (dtk := dtk) (hwk := hwk) (dpk := dpk) (alk := alk) (cok := cok) (fek := fek) (rpk := rpk) (rok := rok) (wek := wek) (plk := plk) (mok := mok) (eak := eak) (lnk := lnk) (cpk := cpk) (elk := elk) (owk := owk) (txk := txk) (tlk := tlk) (rfk := rfk) (slk := slk) hg hu (fun h => cc_3 hg) (by omega)
  have hr2 := kc_mixRow (mkk := mkk) (skk := skk) (σ := σ) (hsk := itr (fun k h => mx9 h (rok k)) 6 (dg1 m tlk)) (q := G 3 4) (n := 4) (r := wek) (adk := adk) (nfk := nfk) (ndk := ndk) (pnk := pnk) (agk := agk) (flk := flk) (dtk := dtk) (hwk := hwk) (dpk := dpk) (alk := alk) (cok := cok) (fek := fek) (rpk := rpk) (rok := rok) (wek := wek) (plk := plk) (mok := mok) (eak := eak) (lnk := lnk) (cpk := cpk) (elk := elk) (owk := owk) (txk := txk) (tlk := tlk) (rfk := rfk) (slk := slk) hg hu (fun h => cc_4 hg) (by omega)
  have hh2 : itr (fun k h => mx9 h (wek k)) 4 (itr (fun k h => mx9 h (rok k)) 6 (dg1 m tlk)) = dg2 m tlk := by
    unfold dg2
    rw [show (10 : Nat) = 6 + 4 from rfl, itr_add]
    rw [itr_c (g := fun k h => mx9 h (rok k)) (f := fun k h => mx9 h (m (1200 + k))) 6 _ (fun k y k1 k2 => by rw [h.km.ro k k1 (by omega)])]
    exact itr_c _ _ (fun k y k1 k2 => by rw [h.km.we k k1 (by omega), show (1200 : Int) + (((6 : Nat) : Int) + k) = 1206 + k by omega])
  rw [lpx_n (s' := .inr (.inl (J 0, 0, 0, (cput D (cel G adk nfk ndk pnk agk mkk flk dtk hwk dpk alk cok fek rpk rok wek plk mok eak lnk cpk elk owk skk txk tlk rfk slk (dg2 m tlk)) σ)))) (by
    unfold s_X0_digest g_X0_digest_9
    dsimp only
    rw [grd_s (by omega), Option.bind_some, e7, if_pos (by rw [J_lt (by omega) (by omega) (by omega) (by omega)]; omega), cw_x0 hu, Option.bind_some, cw_h4 hg, Option.bind_some, cw_k7 hu, Option.bind_some]
    have hr1' : f_X0_mixRow (G 3 7) (G 3 3) (cput D (cel G adk nfk ndk pnk agk mkk flk dtk hwk dpk alk cok fek rpk rok wek plk mok eak lnk cpk elk owk skk txk tlk rfk slk (itr (fun k h => mx9 h (cnt m tlk k)) 8 47)) σ) = _ := hr1
    rw [hr1', Option.bind_some, cw_x0 hu, Option.bind_some, cw_h5 hg, Option.bind_some, cw_k7 hu, Option.bind_some, hr2, Option.bind_some, hh2]
    rfl)]
  obtain ⟨s', e', F, S, σ', hE, rfl⟩ := lpx_itr (f := s_X0_digest (G 3 7)) (g := fun k h => hO9 m (hd k) h) (fun k h s => ∃ F S σ', EX D σ D σ' ∧ s = .inr (.inl (J k, 8 * k, 64 * k, (cput D (cel G adk nfk ndk pnk agk F flk dtk hwk dpk alk cok fek rpk rok wek plk mok eak lnk cpk elk owk S txk tlk rfk slk h) σ')))) lnk.toNat (by
    rintro k h9 s hk ⟨F, S, σ', hE, rfl⟩
    have hQ := (h.st (F := F) (S := S) hE).hq9 (h9 := h9)
    obtain ⟨d1, d2, d3⟩ := hhd.1 k (by omega) (by omega)
    obtain ⟨-, hth⟩ := l6 k (by omega) (by omega)
    obtain ⟨F2, S2, σ2, e2, hE2⟩ := kc_mixThing hm hQ d1 d2 d3
    refine ⟨_, lpx_n (s' := .inr (.inl (J (k + 1 : Nat), 8 * (k + 1), 64 * (k + 1), (cput D (cel G adk nfk ndk pnk agk F2 flk dtk hwk dpk alk cok fek rpk rok wek plk mok eak lnk cpk elk owk S2 txk tlk rfk slk (hO9 m (hd k) h9)) σ2)))) ?_, F2, S2, σ2, hE.tr hE2, rfl⟩
    unfold s_X0_digest g_X0_digest_55
    dsimp only
    rw [grd_s (by omega), Option.bind_some, cw_x0 hu, Option.bind_some, cw_h2 hg, Option.bind_some, cw_k0 hg.lu, Option.bind_some, kc_lsize hg, Option.bind_some, if_neg (by rw [J_le (by omega) (by omega) (by omega) (by omega)]; omega), Option.bind_some, cw_h2 hg, Option.bind_some, cw_k0 hg.lu, Option.bind_some, kc_get hg hls (by omega) (by omega), Option.bind_some, Option.bind_some, cw_kth hth, Option.bind_some, cw_k7 hu, Option.bind_some, grd_s (by omega), Option.bind_some, e2, Option.bind_some, show (1 : Int32) = J 1 from J_lit 1, J_add]
    rfl) (dg2 m tlk) (.inr (.inl (J 0, 0, 0, (cput D (cel G adk nfk ndk pnk agk mkk flk dtk hwk dpk alk cok fek rpk rok wek plk mok eak lnk cpk elk owk skk txk tlk rfk slk (dg2 m tlk)) σ)))) ⟨mkk, skk, σ, EX.rfl' h.db, rfl⟩
  rw [e']
  have hh3 : itr (fun k h => hO9 m (hd k) h) lnk.toNat (dg2 m tlk) = dg3 m tlk := (itr_hd hm hhd l1 (hO9 m) (fun a y a1 a2 a3 => by unfold hO9; rw [if_neg a3]) (dg2 m tlk)).symm
  rw [hh3]
  have hQ := (h.st (F := F) (S := S) hE).hq9 (h9 := dg3 m tlk)
  rw [lpx_n (s' := .inr (.inr (.inl (J 0, 8 * lnk.toNat, 64 * lnk.toNat, (cput D (cel G adk nfk ndk pnk agk F flk dtk hwk dpk alk cok fek rpk rok wek plk mok eak lnk cpk elk owk S txk tlk rfk slk (dg3 m tlk)) σ'))))) (by
    unfold s_X0_digest g_X0_digest_55
    dsimp only
    rw [grd_s (by omega), Option.bind_some, cw_x0 hu, Option.bind_some, cw_h2 hg, Option.bind_some, cw_k0 hg.lu, Option.bind_some, kc_lsize hg, Option.bind_some, if_pos (by rw [J_le (by omega) (by omega) (by omega) (by omega)]; omega)]
    rfl)]
  refine ⟨F, S, σ', ?_, hE⟩
  rw [dgT_9]
  exact kc_digT hm hQ htx (by omega)
end T2
