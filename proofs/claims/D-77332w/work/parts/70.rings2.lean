/-! PLAIN LAW: distance, the component's walk. NAMES: PI9 kc_dist -/
set_option maxRecDepth 100000
/-- nothing marked -/
abbrev A09 : AM := (fun _ => 0, fun _ => 0, 0, 0, 0)
def PI9 (m : Int → Int) (A : AM) : Prop := IA m 200 A ∧ (∀ k, 0 ≤ k → k < A.2.2.1 → A.1 (A.2.1 k) = 1) ∧ (∀ b, 0 ≤ b → b < 200 → A.1 b = 1 → ∃ k, 0 ≤ k ∧ k < A.2.2.1 ∧ A.2.1 k = b) ∧ (∀ b, 0 ≤ b → b < 200 → A.1 b = 1 → sta m b)
theorem PI9.add {m : Int → Int} {A : AM} (h : PI9 m A) {o : Int} (ho : hdr m o) (hs : o = -1 ∨ sta m o) : PI9 m (rcA 200 (-1) o A) ∧ (∀ b, A.1 b = 1 → (rcA 200 (-1) o A).1 b = 1) ∧ (o = -1 ∨ (rcA 200 (-1) o A).1 o = 1) := by
  obtain ⟨h1, h2, h3, h4⟩ := h
  have hga := rcA_g (w := -1) h1 ho
  obtain ⟨q1, q2, q3, q4, q5, q6⟩ := rcA_k h1 ho
  refine ⟨⟨hga.1, q4 h2, q5 h3, fun b b1 b2 b3 => ?_⟩, hga.2.1, q1⟩
  rcases q6 b b3 with q | q
  · exact h4 b b1 b2 q
  · rcases hs with hs | hs
    · omega
    · rw [q]; exact hs
section T1
variable {m hd : Int → Int} {adk nfk ndk pnk agk mkk rok wek plk txk : Int → Int} {flk dtk : Int → Int → Int} {hwk dpk alk cok fek lnk tlk rfk : Int} {rpk : Option Nat} {mok : Int32} {eak cpk : Nat} {elk owk skk slk : Nat → Option Nat} {hsk : Int64} {D : Nat → Int × Int} {G : Int → Int → Nat} {σ : mm_M} {p : Nat}
theorem kc_rounds (hg : HU D G) (hu : XU D G) (hm : WF m) (hp : (D p).1 = -1) (hk : (KM m hd D G adk nfk ndk pnk agk mkk flk dtk hwk dpk alk cok fek rpk rok wek plk mok eak lnk cpk elk owk skk txk tlk rfk slk hsk)) {t : Int} (t0 : 0 ≤ t) (t9 : t < 200) (ht : 0 < m t) {F : Int → Int} (hF : FAR m (-1) F) : ∀ (n : Nat) (A : AM) (d : Nat) (fr : Int) (S : Nat → Option Nat), RG9 m A d A.2.2.1 fr 0 → (d : Int) ≤ fr → (∀ k : Nat, k < d → ¬ rd m (-1) k t) → SK G S A → 200 - fr < n → ∃ (A' : AM) (S' : Nat → Option Nat), lpx (s_X6_distanceOf p (G 0 t)) (.inr (.inr (.inr (.inl (J fr, J d, (cput D (cel G adk nfk ndk pnk agk A.1 flk dtk hwk dpk alk cok fek rpk rok wek plk mok eak lnk cpk elk owk S txk tlk rfk slk hsk) (rput p (G 3 8) A.2.2.1 (G 3 7) σ))))))) = some (J (F t), (cput D (cel G adk nfk ndk pnk agk A'.1 flk dtk hwk dpk alk cok fek rpk rok wek plk mok eak lnk cpk elk owk S' txk tlk rfk slk hsk) (rput p (G 3 8) A'.2.2.1 (G 3 7) σ))) := by
  intro n
  induction n with
  | zero =>
    intro A d fr S h hd9 hno hS hn
    have := h.1.2.1.2
    have := h.2.2.2.2.2.2.1
    omega
  | succ n ih =>
    intro A d fr S h hd9 hno hS hn
    have h0 := h
    obtain ⟨h1, h2, h3, h4, h5, h6, h7, h8⟩ := h
    have htop := h1.2.1
    have hth := (hk.th t0 t9 ht).1
    have hmt := h1.1 t t0 t9
    have hmkd : A.1 t = 1 → F t = d := fun q => by
      obtain ⟨k, k1, k2, k3⟩ := h3 t t0 t9 q
      have hr := h6 k k1 k2
      rw [k3] at hr
      rcases hF t t0 t9 with ⟨f1, f2⟩ | ⟨f1, f2, f3, f4⟩
      · exact absurd hr (f2 d)
      · have g1 : ¬ (d : Int) < F t := fun q9 => f4 d q9 hr
        have g2 : ¬ (F t).toNat < d := fun q9 => hno _ q9 f3
        omega
    by_cases hc : A.2.2.1 ≤ fr
    · refine ⟨A, S, ?_⟩
      have hfr : fr = A.2.2.1 := by omega
      refine lpx_d ?_
      unfold s_X6_distanceOf g_X6_distanceOf_174
      dsimp only
      by_cases hm1 : A.1 t = 1
      · rw [hmkd hm1]
        simp (disch := first | assumption | exact HU.lu (by assumption) | exact cw_okn | exact cw_ok3 (by assumption) | exact cw_ok5 (by assumption) | omega) only [J_add, J_sub, J_mul, J_neg, J_lit, J_lt, J_le, J_eq, Option.bind_some, Int.reduceAdd, Int.reduceSub, Int.reduceMul, Int.reduceNeg, Int.reduceEq, Int.reduceLT, Int.reduceLE, reduceIte, Int.zero_add, Int.add_zero, and_self, true_and, and_true, false_and, and_false, or_true, true_or, or_false, false_or, not_true_eq_false, not_false_eq_true, ne_eq, b2_s, cw_gadk, cw_gpnk, cw_gagk, cw_gmkk, cw_gfl, cw_gdt, cw_kth, cw_afl, cw_nfl, cw_adt, cw_ndt, cw_gmok, cw_geak, cw_glnk, cw_k0, cw_k6, cw_k7, cw_aowk, cw_aelk, cw_askk, cw_aslk, cw_nelk, cw_arok, cw_nrok, cw_awek, cw_nwek, cw_aplk, cw_nplk, cw_atxk, cw_ntxk, cw_ghwk, cw_gdpk, cw_galk, cw_gcok, cw_gfek, cw_h2, cw_h3, cw_h4, cw_h5, cw_h10, cw_grpk, cw_x0, cw_x1, cw_x2, cw_x5, cw_gtlk, cw_grfk, cw_ghsk, cw_padk, cw_pagk, cw_pmkk, cw_ppnk, cw_zpnk, cw_sfl, cw_sdt, cw_pmok, cw_peak, cw_plnk, cw_sowk, cw_selk, cw_sskk, cw_sslk, cw_srok, cw_swek, cw_splk, cw_palk, cw_pcok, cw_pfek, cw_prpk, cw_ptlk, cw_prfk, cw_phsk, cw_stxk, cw_ok3, cw_ok5, cw_okn, rw_g1 hp, if_pos hc, hm1]
      · have hm0 : A.1 t = 0 := by omega
        have hdone := RG9.done (d := d) (by rw [hfr] at h0; exact h0)
        have hFt : F t = -1 := by
          rcases hF t t0 t9 with ⟨f1, f2⟩ | ⟨f1, f2, f3, f4⟩
          · exact f1
          · exact absurd (h5 t (hdone _ _ f3)).1 hm1
        rw [hFt]
        simp (disch := first | assumption | exact HU.lu (by assumption) | exact cw_okn | exact cw_ok3 (by assumption) | exact cw_ok5 (by assumption) | omega) only [J_add, J_sub, J_mul, J_neg, J_lit, J_lt, J_le, J_eq, Option.bind_some, Int.reduceAdd, Int.reduceSub, Int.reduceMul, Int.reduceNeg, Int.reduceEq, Int.reduceLT, Int.reduceLE, reduceIte, Int.zero_add, Int.add_zero, and_self, true_and, and_true, false_and, and_false, or_true, true_or, or_false, false_or, not_true_eq_false, not_false_eq_true, ne_eq, b2_s, cw_gadk, cw_gpnk, cw_gagk, cw_gmkk, cw_gfl, cw_gdt, cw_kth, cw_afl, cw_nfl, cw_adt, cw_ndt, cw_gmok, cw_geak, cw_glnk, cw_k0, cw_k6, cw_k7, cw_aowk, cw_aelk, cw_askk, cw_aslk, cw_nelk, cw_arok, cw_nrok, cw_awek, cw_nwek, cw_aplk, cw_nplk, cw_atxk, cw_ntxk, cw_ghwk, cw_gdpk, cw_galk, cw_gcok, cw_gfek, cw_h2, cw_h3, cw_h4, cw_h5, cw_h10, cw_grpk, cw_x0, cw_x1, cw_x2, cw_x5, cw_gtlk, cw_grfk, cw_ghsk, cw_padk, cw_pagk, cw_pmkk, cw_ppnk, cw_zpnk, cw_sfl, cw_sdt, cw_pmok, cw_peak, cw_plnk, cw_sowk, cw_selk, cw_sskk, cw_sslk, cw_srok, cw_swek, cw_splk, cw_palk, cw_pcok, cw_pfek, cw_prpk, cw_ptlk, cw_prfk, cw_phsk, cw_stxk, cw_ok3, cw_ok5, cw_okn, rw_g1 hp, if_pos hc, hm0]
    · by_cases hm1 : A.1 t = 1
      · refine ⟨A, S, ?_⟩
        refine lpx_d ?_
        unfold s_X6_distanceOf g_X6_distanceOf_174
        dsimp only
        rw [hmkd hm1]
        simp (disch := first | assumption | exact HU.lu (by assumption) | exact cw_okn | exact cw_ok3 (by assumption) | exact cw_ok5 (by assumption) | omega) only [J_add, J_sub, J_mul, J_neg, J_lit, J_lt, J_le, J_eq, Option.bind_some, Int.reduceAdd, Int.reduceSub, Int.reduceMul, Int.reduceNeg, Int.reduceEq, Int.reduceLT, Int.reduceLE, reduceIte, Int.zero_add, Int.add_zero, and_self, true_and, and_true, false_and, and_false, or_true, true_or, or_false, false_or, not_true_eq_false, not_false_eq_true, ne_eq, b2_s, cw_gadk, cw_gpnk, cw_gagk, cw_gmkk, cw_gfl, cw_gdt, cw_kth, cw_afl, cw_nfl, cw_adt, cw_ndt, cw_gmok, cw_geak, cw_glnk, cw_k0, cw_k6, cw_k7, cw_aowk, cw_aelk, cw_askk, cw_aslk, cw_nelk, cw_arok, cw_nrok, cw_awek, cw_nwek, cw_aplk, cw_nplk, cw_atxk, cw_ntxk, cw_ghwk, cw_gdpk, cw_galk, cw_gcok, cw_gfek, cw_h2, cw_h3, cw_h4, cw_h5, cw_h10, cw_grpk, cw_x0, cw_x1, cw_x2, cw_x5, cw_gtlk, cw_grfk, cw_ghsk, cw_padk, cw_pagk, cw_pmkk, cw_ppnk, cw_zpnk, cw_sfl, cw_sdt, cw_pmok, cw_peak, cw_plnk, cw_sowk, cw_selk, cw_sskk, cw_sslk, cw_srok, cw_swek, cw_splk, cw_palk, cw_pcok, cw_pfek, cw_prpk, cw_ptlk, cw_prfk, cw_phsk, cw_stxk, cw_ok3, cw_ok5, cw_okn, rw_g1 hp, if_neg hc, hm1]
      · have hm0 : A.1 t = 0 := by omega
        rw [lpx_n (s' := .inr (.inr (.inr (.inr (.inl (J fr, J d, J A.2.2.1, (cput D (cel G adk nfk ndk pnk agk A.1 flk dtk hwk dpk alk cok fek rpk rok wek plk mok eak lnk cpk elk owk S txk tlk rfk slk hsk) (rput p (G 3 8) A.2.2.1 (G 3 7) σ)))))))) (by
          unfold s_X6_distanceOf g_X6_distanceOf_174
          dsimp only
          simp (disch := first | assumption | exact HU.lu (by assumption) | exact cw_okn | exact cw_ok3 (by assumption) | exact cw_ok5 (by assumption) | omega) only [J_add, J_sub, J_mul, J_neg, J_lit, J_lt, J_le, J_eq, Option.bind_some, Int.reduceAdd, Int.reduceSub, Int.reduceMul, Int.reduceNeg, Int.reduceEq, Int.reduceLT, Int.reduceLE, reduceIte, Int.zero_add, Int.add_zero, and_self, true_and, and_true, false_and, and_false, or_true, true_or, or_false, false_or, not_true_eq_false, not_false_eq_true, ne_eq, b2_s, cw_gadk, cw_gpnk, cw_gagk, cw_gmkk, cw_gfl, cw_gdt, cw_kth, cw_afl, cw_nfl, cw_adt, cw_ndt, cw_gmok, cw_geak, cw_glnk, cw_k0, cw_k6, cw_k7, cw_aowk, cw_aelk, cw_askk, cw_aslk, cw_nelk, cw_arok, cw_nrok, cw_awek, cw_nwek, cw_aplk, cw_nplk, cw_atxk, cw_ntxk, cw_ghwk, cw_gdpk, cw_galk, cw_gcok, cw_gfek, cw_h2, cw_h3, cw_h4, cw_h5, cw_h10, cw_grpk, cw_x0, cw_x1, cw_x2, cw_x5, cw_gtlk, cw_grfk, cw_ghsk, cw_padk, cw_pagk, cw_pmkk, cw_ppnk, cw_zpnk, cw_sfl, cw_sdt, cw_pmok, cw_peak, cw_plnk, cw_sowk, cw_selk, cw_sskk, cw_sslk, cw_srok, cw_swek, cw_splk, cw_palk, cw_pcok, cw_pfek, cw_prpk, cw_ptlk, cw_prfk, cw_phsk, cw_stxk, cw_ok3, cw_ok5, cw_okn, rw_g1 hp, if_neg hc, hm0])]
        -- the round
        have hround : ∀ (j : Nat), fr + j ≤ A.2.2.1 → ∃ (B : AM) (S' : Nat → Option Nat), lpx (s_X6_distanceOf p (G 0 t)) (.inr (.inr (.inr (.inr (.inl (J fr, J d, J A.2.2.1, (cput D (cel G adk nfk ndk pnk agk A.1 flk dtk hwk dpk alk cok fek rpk rok wek plk mok eak lnk cpk elk owk S txk tlk rfk slk hsk) (rput p (G 3 8) A.2.2.1 (G 3 7) σ)))))))) = lpx (s_X6_distanceOf p (G 0 t)) (.inr (.inr (.inr (.inr (.inl (J (fr + j), J d, J A.2.2.1, (cput D (cel G adk nfk ndk pnk agk B.1 flk dtk hwk dpk alk cok fek rpk rok wek plk mok eak lnk cpk elk owk S' txk tlk rfk slk hsk) (rput p (G 3 8) B.2.2.1 (G 3 7) σ)))))))) ∧ RG9 m B d A.2.2.1 (fr + j) 0 ∧ SK G S' B := by
          intro j
          induction j with
          | zero => exact fun _ => ⟨A, S, by simp, by simpa using h0, hS⟩
          | succ j ih2 =>
            intro hj
            obtain ⟨B, S1, e1, e2, e3⟩ := ih2 (by omega)
            have hBt := e2.2.2.2.2.2.2.1
            obtain ⟨a1, a2, a3⟩ := e2.1.2.2.2.2.1 (fr + j) (by omega) (by omega)
            have hsv := e3 (fr + j) (by omega) (by omega)
            have hF9 := hm.hf _ a1 a2 a3
            have hBb := e2.1.2.1
            generalize hav : B.2.1 (fr + j) = a at a1 a2 a3 hsv hF9
            obtain ⟨t1, t2, t3, t4, t5, t6, t7, t8⟩ := hk.th a1 a2 a3
            obtain ⟨s2, q1, q2, q3, S2, q4, rfl⟩ := lpx_itr (f := s_X6_distanceOf p (G 0 t)) (g := fun f E => rcA 200 (-1) (oo9 m (m (800 + a + 1 + f))) E) (fun i E s => RG9 m E d A.2.2.1 (fr + j) i ∧ E.2.1 (fr + j) = a ∧ ∃ S, SK G S E ∧ s = .inr (.inr (.inr (.inr (.inr (J (fr + j), J d, J A.2.2.1, G 1 a, J (m (200 + a)), J i, (cput D (cel G adk nfk ndk pnk agk E.1 flk dtk hwk dpk alk cok fek rpk rok wek plk mok eak lnk cpk elk owk S txk tlk rfk slk hsk) (rput p (G 3 8) E.2.2.1 (G 3 7) σ)))))))) (m (200 + a)).toNat (by
              rintro i E s hi ⟨hE, hEa, S, hS, rfl⟩
              have hr := hm.hq a (1 + i) a1 a2 a3 (by omega) (by omega)
              rw [show 800 + a + (1 + (i : Int)) = 800 + a + 1 + i by omega] at hr
              have hb9 := rf_ir hm hr
              have hEi : (i : Int) < m (200 + E.2.1 (fr + j)) := by rw [hEa]; omega
              have hfe := RG9.field hm hE (by omega) (by omega) hEi
              rw [hEa] at hfe
              obtain ⟨S', r1, r2⟩ := kc_addA (σ := σ) (hd := hd) (adk := adk) (nfk := nfk) (ndk := ndk) (pnk := pnk) (agk := agk) (mkk := mkk) (flk := flk) (dtk := dtk) (hwk := hwk) (dpk := dpk) (alk := alk) (cok := cok) (fek := fek) (rpk := rpk) (rok := rok) (wek := wek) (plk := plk) (owk := owk) (skk := skk) (txk := txk) (tlk := tlk) (rfk := rfk) (slk := slk) (hsk := hsk) (mok := mok) (eak := eak) (lnk := lnk) (cpk := cpk) (elk := elk) hg hu hp hk hE.1 hS (oo9_h m (m (800 + a + 1 + i)))
              refine ⟨.inr (.inr (.inr (.inr (.inr (J (fr + j), J d, J A.2.2.1, G 1 a, J (m (200 + a)), J (i + 1 : Nat), (cput D (cel G adk nfk ndk pnk agk ((rcA 200 (-1) (oo9 m (m (800 + a + 1 + i))) E).1) flk dtk hwk dpk alk cok fek rpk rok wek plk mok eak lnk cpk elk owk S' txk tlk rfk slk hsk) (rput p (G 3 8) (rcA 200 (-1) (oo9 m (m (800 + a + 1 + i))) E).2.2.1 (G 3 7) σ))))))), ?_, ⟨by rw [show (((i + 1 : Nat)) : Int) = (i : Int) + 1 by omega]; exact hfe.1, hfe.2, S', r2, rfl⟩⟩
              refine lpx_n ?_
              have htg : f_X1_target (G 3 6) (J (m (800 + a + 1 + i))) (cput D (cel G adk nfk ndk pnk agk E.1 flk dtk hwk dpk alk cok fek rpk rok wek plk mok eak lnk cpk elk owk S txk tlk rfk slk hsk) (rput p (G 3 8) E.2.2.1 (G 3 7) σ)) = some (if oo9 m (m (800 + a + 1 + i)) = -1 then none else some (G 0 (oo9 m (m (800 + a + 1 + i))))) := kc_target (hd := hd) hg hk.mk hr hb9.1 hb9.2
              unfold s_X6_distanceOf g_X6_distanceOf_220
              dsimp only
              simp (disch := first | assumption | exact HU.lu (by assumption) | exact cw_okn | exact cw_ok3 (by assumption) | exact cw_ok5 (by assumption) | omega) only [J_add, J_sub, J_mul, J_neg, J_lit, J_lt, J_le, J_eq, Option.bind_some, Int.reduceAdd, Int.reduceSub, Int.reduceMul, Int.reduceNeg, Int.reduceEq, Int.reduceLT, Int.reduceLE, reduceIte, Int.zero_add, Int.add_zero, and_self, true_and, and_true, false_and, and_false, or_true, true_or, or_false, false_or, not_true_eq_false, not_false_eq_true, ne_eq, b2_s, cw_gadk, cw_gpnk, cw_gagk, cw_gmkk, cw_gfl, cw_gdt, cw_kth, cw_afl, cw_nfl, cw_adt, cw_ndt, cw_gmok, cw_geak, cw_glnk, cw_k0, cw_k6, cw_k7, cw_aowk, cw_aelk, cw_askk, cw_aslk, cw_nelk, cw_arok, cw_nrok, cw_awek, cw_nwek, cw_aplk, cw_nplk, cw_atxk, cw_ntxk, cw_ghwk, cw_gdpk, cw_galk, cw_gcok, cw_gfek, cw_h2, cw_h3, cw_h4, cw_h5, cw_h10, cw_grpk, cw_x0, cw_x1, cw_x2, cw_x5, cw_gtlk, cw_grfk, cw_ghsk, cw_padk, cw_pagk, cw_pmkk, cw_ppnk, cw_zpnk, cw_sfl, cw_sdt, cw_pmok, cw_peak, cw_plnk, cw_sowk, cw_selk, cw_sskk, cw_sslk, cw_srok, cw_swek, cw_splk, cw_palk, cw_pcok, cw_pfek, cw_prpk, cw_ptlk, cw_prfk, cw_phsk, cw_stxk, cw_ok3, cw_ok5, cw_okn, if_neg (show ¬ m (200 + a) ≤ (i : Int) by omega), t3, t7 i (by omega) (by omega), rw_g2 hp, htg, rw_ck hp, r1]
              rfl) B (.inr (.inr (.inr (.inr (.inr (J (fr + j), J d, J A.2.2.1, G 1 a, J (m (200 + a)), J 0, (cput D (cel G adk nfk ndk pnk agk B.1 flk dtk hwk dpk alk cok fek rpk rok wek plk mok eak lnk cpk elk owk S1 txk tlk rfk slk hsk) (rput p (G 3 8) B.2.2.1 (G 3 7) σ)))))))) ⟨e2, hav, S1, e3, rfl⟩
            generalize itr (fun f E => rcA 200 (-1) (oo9 m (m (800 + a + 1 + f))) E) (m (200 + a)).toNat B = B2 at q1 q2 q3 q4
            refine ⟨B2, S2, ?_, ?_, q4⟩
            · rw [e1]
              rw [lpx_n (s' := .inr (.inr (.inr (.inr (.inr (J (fr + j), J d, J A.2.2.1, G 1 a, J (m (200 + a)), J 0, (cput D (cel G adk nfk ndk pnk agk B.1 flk dtk hwk dpk alk cok fek rpk rok wek plk mok eak lnk cpk elk owk S1 txk tlk rfk slk hsk) (rput p (G 3 8) B.2.2.1 (G 3 7) σ)))))))) (by
                unfold s_X6_distanceOf g_X6_distanceOf_195
                dsimp only
                simp (disch := first | assumption | exact HU.lu (by assumption) | exact cw_okn | exact cw_ok3 (by assumption) | exact cw_ok5 (by assumption) | omega) only [J_add, J_sub, J_mul, J_neg, J_lit, J_lt, J_le, J_eq, Option.bind_some, Int.reduceAdd, Int.reduceSub, Int.reduceMul, Int.reduceNeg, Int.reduceEq, Int.reduceLT, Int.reduceLE, reduceIte, Int.zero_add, Int.add_zero, and_self, true_and, and_true, false_and, and_false, or_true, true_or, or_false, false_or, not_true_eq_false, not_false_eq_true, ne_eq, b2_s, cw_gadk, cw_gpnk, cw_gagk, cw_gmkk, cw_gfl, cw_gdt, cw_kth, cw_afl, cw_nfl, cw_adt, cw_ndt, cw_gmok, cw_geak, cw_glnk, cw_k0, cw_k6, cw_k7, cw_aowk, cw_aelk, cw_askk, cw_aslk, cw_nelk, cw_arok, cw_nrok, cw_awek, cw_nwek, cw_aplk, cw_nplk, cw_atxk, cw_ntxk, cw_ghwk, cw_gdpk, cw_galk, cw_gcok, cw_gfek, cw_h2, cw_h3, cw_h4, cw_h5, cw_h10, cw_grpk, cw_x0, cw_x1, cw_x2, cw_x5, cw_gtlk, cw_grfk, cw_ghsk, cw_padk, cw_pagk, cw_pmkk, cw_ppnk, cw_zpnk, cw_sfl, cw_sdt, cw_pmok, cw_peak, cw_plnk, cw_sowk, cw_selk, cw_sskk, cw_sslk, cw_srok, cw_swek, cw_splk, cw_palk, cw_pcok, cw_pfek, cw_prpk, cw_ptlk, cw_prfk, cw_phsk, cw_stxk, cw_ok3, cw_ok5, cw_okn, if_neg (show ¬ A.2.2.1 ≤ fr + (j : Int) by omega), rw_g0 hp, hsv, t3])]
              rw [q1]
              refine lpx_n ?_
              unfold s_X6_distanceOf g_X6_distanceOf_220
              dsimp only
              simp (disch := first | assumption | exact HU.lu (by assumption) | exact cw_okn | exact cw_ok3 (by assumption) | exact cw_ok5 (by assumption) | omega) only [J_add, J_sub, J_mul, J_neg, J_lit, J_lt, J_le, J_eq, Option.bind_some, Int.reduceAdd, Int.reduceSub, Int.reduceMul, Int.reduceNeg, Int.reduceEq, Int.reduceLT, Int.reduceLE, reduceIte, Int.zero_add, Int.add_zero, and_self, true_and, and_true, false_and, and_false, or_true, true_or, or_false, false_or, not_true_eq_false, not_false_eq_true, ne_eq, b2_s, cw_gadk, cw_gpnk, cw_gagk, cw_gmkk, cw_gfl, cw_gdt, cw_kth, cw_afl, cw_nfl, cw_adt, cw_ndt, cw_gmok, cw_geak, cw_glnk, cw_k0, cw_k6, cw_k7, cw_aowk, cw_aelk, cw_askk, cw_aslk, cw_nelk, cw_arok, cw_nrok, cw_awek, cw_nwek, cw_aplk, cw_nplk, cw_atxk, cw_ntxk, cw_ghwk, cw_gdpk, cw_galk, cw_gcok, cw_gfek, cw_h2, cw_h3, cw_h4, cw_h5, cw_h10, cw_grpk, cw_x0, cw_x1, cw_x2, cw_x5, cw_gtlk, cw_grfk, cw_ghsk, cw_padk, cw_pagk, cw_pmkk, cw_ppnk, cw_zpnk, cw_sfl, cw_sdt, cw_pmok, cw_peak, cw_plnk, cw_sowk, cw_selk, cw_sskk, cw_sslk, cw_srok, cw_swek, cw_splk, cw_palk, cw_pcok, cw_pfek, cw_prpk, cw_ptlk, cw_prfk, cw_phsk, cw_stxk, cw_ok3, cw_ok5, cw_okn, if_pos (show m (200 + a) ≤ ((m (200 + a)).toNat : Int) by omega)]
              rw [show fr + (j : Int) + 1 = fr + ((j + 1 : Nat) : Int) by omega]
            · obtain ⟨z1, z2, z3, z4, z5, z6, z7, z8⟩ := q2
              refine ⟨z1, z2, z3, z4, z5, z6, ⟨by omega, by omega, z7.2.2⟩, fun k f k1 f1 f2 hk9 => ?_⟩
              by_cases hki : k = fr + j
              · refine z8 k f k1 f1 f2 (Or.inr ⟨hki, by omega, ?_⟩)
                rw [hki, q3] at f2
                omega
              · exact z8 k f k1 f1 f2 (Or.inl (by omega))
        obtain ⟨B, S1, e1, e2, e3⟩ := hround (A.2.2.1 - fr).toNat (by omega)
        rw [show fr + ((A.2.2.1 - fr).toNat : Int) = A.2.2.1 by omega] at e1 e2
        obtain ⟨A', S', r1⟩ := ih B (d + 1) A.2.2.1 S1 (RG9.next hm e2) (by omega) (fun k hk9 => by
          by_cases hkd : k = d
          · rw [hkd]
            exact fun q => hm1 (h5 t q).1
          · exact hno k (by omega)) e3 (by omega)
        refine ⟨A', S', ?_⟩
        rw [e1, ← r1]
        refine lpx_n ?_
        have := e2.1.2.1
        unfold s_X6_distanceOf g_X6_distanceOf_195
        dsimp only
        simp (disch := first | assumption | exact HU.lu (by assumption) | exact cw_okn | exact cw_ok3 (by assumption) | exact cw_ok5 (by assumption) | omega) only [J_add, J_sub, J_mul, J_neg, J_lit, J_lt, J_le, J_eq, Option.bind_some, Int.reduceAdd, Int.reduceSub, Int.reduceMul, Int.reduceNeg, Int.reduceEq, Int.reduceLT, Int.reduceLE, reduceIte, Int.zero_add, Int.add_zero, and_self, true_and, and_true, false_and, and_false, or_true, true_or, or_false, false_or, not_true_eq_false, not_false_eq_true, ne_eq, b2_s, cw_gadk, cw_gpnk, cw_gagk, cw_gmkk, cw_gfl, cw_gdt, cw_kth, cw_afl, cw_nfl, cw_adt, cw_ndt, cw_gmok, cw_geak, cw_glnk, cw_k0, cw_k6, cw_k7, cw_aowk, cw_aelk, cw_askk, cw_aslk, cw_nelk, cw_arok, cw_nrok, cw_awek, cw_nwek, cw_aplk, cw_nplk, cw_atxk, cw_ntxk, cw_ghwk, cw_gdpk, cw_galk, cw_gcok, cw_gfek, cw_h2, cw_h3, cw_h4, cw_h5, cw_h10, cw_grpk, cw_x0, cw_x1, cw_x2, cw_x5, cw_gtlk, cw_grfk, cw_ghsk, cw_padk, cw_pagk, cw_pmkk, cw_ppnk, cw_zpnk, cw_sfl, cw_sdt, cw_pmok, cw_peak, cw_plnk, cw_sowk, cw_selk, cw_sskk, cw_sslk, cw_srok, cw_swek, cw_splk, cw_palk, cw_pcok, cw_pfek, cw_prpk, cw_ptlk, cw_prfk, cw_phsk, cw_stxk, cw_ok3, cw_ok5, cw_okn, if_pos (show A.2.2.1 ≤ A.2.2.1 by omega)]
        rfl
theorem kc_distOf (hg : HU D G) (hu : XU D G) (hm : WF m) (hp : (D p).1 = -1) (hk : (KM m hd D G adk nfk ndk pnk agk mkk flk dtk hwk dpk alk cok fek rpk rok wek plk mok eak lnk cpk elk owk skk txk tlk rfk slk hsk)) (huq : ∀ b k a, D b = (k, a) → 0 ≤ k → k ≤ 2 → 0 ≤ a ∧ a < 200 ∧ 0 < m a) {t : Int} (t0 : 0 ≤ t) (t9 : t < 200) (ht : 0 < m t) {F : Int → Int} (hF : FAR m (-1) F) : ∃ (A' : AM) (S' : Nat → Option Nat), f_X6_distanceOf p (G 0 t) (cput D (cel G adk nfk ndk pnk agk mkk flk dtk hwk dpk alk cok fek rpk rok wek plk mok eak lnk cpk elk owk skk txk tlk rfk slk hsk) (rput p (G 3 8) 0 (G 3 7) σ)) = some (J (F t), (cput D (cel G adk nfk ndk pnk agk A'.1 flk dtk hwk dpk alk cok fek rpk rok wek plk mok eak lnk cpk elk owk S' txk tlk rfk slk hsk) (rput p (G 3 8) A'.2.2.1 (G 3 7) σ))) := by
  have hW := hm.hW
  have hls := hk.ls
  have hhd := hk.hs
  have hls0 := hls
  obtain ⟨⟨l1, l2, l3, l4⟩, l5, l6⟩ := hls0
  have hmk0 : ∀ b : Int, 0 ≤ b → b < 200 → (fun _ : Int => (0 : Int)) b = 0 := fun _ _ _ => rfl
  have hI0 : PI9 m A09 := ⟨⟨fun b b1 b2 => Or.inl rfl, ⟨by dsimp only; omega, by dsimp only; omega⟩, ⟨by dsimp only; omega, by dsimp only; omega⟩, Or.inl rfl, fun k k1 k2 => by dsimp only at k2; omega, by have := um_b (fun _ => 0); dsimp only; omega⟩, fun k k1 k2 => by dsimp only at k2; omega, fun b b1 b2 b3 => by dsimp only at b3; omega, fun b b1 b2 b3 => by dsimp only at b3; omega⟩
  have hn9 : ∀ (F : Int → Int) (S9 : Nat → Option Nat) (τ : mm_M), f_J2_size (G 3 0) (cput D (cel G adk nfk ndk pnk agk F flk dtk hwk dpk alk cok fek rpk rok wek plk mok eak lnk cpk elk owk S9 txk tlk rfk slk hsk) τ) = some (J lnk) := fun F S9 τ => kc_lsize hg
  have hg9 : ∀ (k : Int) (F : Int → Int) (S9 : Nat → Option Nat) (τ : mm_M), 0 ≤ k → k < lnk → f_J2_get (G 3 0) (J k) (cput D (cel G adk nfk ndk pnk agk F flk dtk hwk dpk alk cok fek rpk rok wek plk mok eak lnk cpk elk owk S9 txk tlk rfk slk hsk) τ) = some (some (G 0 (hd k))) := fun k F S9 τ k1 k2 => kc_get hg hls k1 k2
  unfold f_X6_distanceOf g_X6_distanceOf_0
  rw [lgo_l, show (0 : Int32) = J 0 from J_lit 0]
  rw [lpx_steps2 (f := s_X6_distanceOf p (G 0 t)) (fun k => .inl (J k, (cput D (cel G adk nfk ndk pnk agk (itr (fun k F => up F (hd k) 0) k mkk) flk dtk hwk dpk alk cok fek rpk rok wek plk mok eak lnk cpk elk owk skk txk tlk rfk slk hsk) (rput p (G 3 8) 0 (G 3 7) σ)))) lnk.toNat (by rfl) (by
    intro k hk9
    obtain ⟨e1, e2⟩ := l6 k (by omega) (by omega)
    unfold s_X6_distanceOf g_X6_distanceOf_2
    dsimp only
    simp (disch := first | assumption | exact HU.lu (by assumption) | exact cw_okn | exact cw_ok3 (by assumption) | exact cw_ok5 (by assumption) | omega) only [J_add, J_sub, J_mul, J_neg, J_lit, J_lt, J_le, J_eq, Option.bind_some, Int.reduceAdd, Int.reduceSub, Int.reduceMul, Int.reduceNeg, Int.reduceEq, Int.reduceLT, Int.reduceLE, reduceIte, Int.zero_add, Int.add_zero, and_self, true_and, and_true, false_and, and_false, or_true, true_or, or_false, false_or, not_true_eq_false, not_false_eq_true, ne_eq, b2_s, cw_gadk, cw_gpnk, cw_gagk, cw_gmkk, cw_gfl, cw_gdt, cw_kth, cw_afl, cw_nfl, cw_adt, cw_ndt, cw_gmok, cw_geak, cw_glnk, cw_k0, cw_k6, cw_k7, cw_aowk, cw_aelk, cw_askk, cw_aslk, cw_nelk, cw_arok, cw_nrok, cw_awek, cw_nwek, cw_aplk, cw_nplk, cw_atxk, cw_ntxk, cw_ghwk, cw_gdpk, cw_galk, cw_gcok, cw_gfek, cw_h2, cw_h3, cw_h4, cw_h5, cw_h10, cw_grpk, cw_x0, cw_x1, cw_x2, cw_x5, cw_gtlk, cw_grfk, cw_ghsk, cw_padk, cw_pagk, cw_pmkk, cw_ppnk, cw_zpnk, cw_sfl, cw_sdt, cw_pmok, cw_peak, cw_plnk, cw_sowk, cw_selk, cw_sskk, cw_sslk, cw_srok, cw_swek, cw_splk, cw_palk, cw_pcok, cw_pfek, cw_prpk, cw_ptlk, cw_prfk, cw_phsk, cw_stxk, cw_ok3, cw_ok5, cw_okn, rw_g2 hp, hn9, hg9, if_neg (show ¬ lnk ≤ (k : Int) by omega), itr_s]
    rfl)]
  rw [cel_mk (mkk := itr (fun k F => up F (hd k) 0) lnk.toNat mkk) (F := fun _ => 0) (fun b a hb => by
    obtain ⟨a1, a2, a3⟩ := huq b 0 a hb (by omega) (by omega)
    obtain ⟨j, j1, j2, j3⟩ := hhd.2.2 a a1 a2 a3
    have key := itr_inv (g := fun k F => up F (hd k) 0) (fun k F => ∀ i : Int, 0 ≤ i → i < k → F (hd i) = 0) lnk.toNat (fun k F hk9 hF i i1 i2 => by
      by_cases hi : hd i = hd k
      · rw [hi, up_s]
      · rw [up_n hi]
        refine hF i i1 ?_
        by_cases hik : i = k
        · rw [hik] at hi; exact absurd rfl hi
        · omega) mkk (fun i i1 i2 => by omega)
    rw [← j3]
    exact key j j1 (by omega))]
  rw [lpx_n (s' := .inr (.inl (G 3 3, J 6, J 0, (cput D (cel G adk nfk ndk pnk agk A09.1 flk dtk hwk dpk alk cok fek rpk rok wek plk mok eak lnk cpk elk owk skk txk tlk rfk slk hsk) (rput p (G 3 8) A09.2.2.1 (G 3 7) σ))))) (by
    unfold s_X6_distanceOf g_X6_distanceOf_2
    dsimp only
    simp (disch := first | assumption | exact HU.lu (by assumption) | exact cw_okn | exact cw_ok3 (by assumption) | exact cw_ok5 (by assumption) | omega) only [J_add, J_sub, J_mul, J_neg, J_lit, J_lt, J_le, J_eq, Option.bind_some, Int.reduceAdd, Int.reduceSub, Int.reduceMul, Int.reduceNeg, Int.reduceEq, Int.reduceLT, Int.reduceLE, reduceIte, Int.zero_add, Int.add_zero, and_self, true_and, and_true, false_and, and_false, or_true, true_or, or_false, false_or, not_true_eq_false, not_false_eq_true, ne_eq, b2_s, cw_gadk, cw_gpnk, cw_gagk, cw_gmkk, cw_gfl, cw_gdt, cw_kth, cw_afl, cw_nfl, cw_adt, cw_ndt, cw_gmok, cw_geak, cw_glnk, cw_k0, cw_k6, cw_k7, cw_aowk, cw_aelk, cw_askk, cw_aslk, cw_nelk, cw_arok, cw_nrok, cw_awek, cw_nwek, cw_aplk, cw_nplk, cw_atxk, cw_ntxk, cw_ghwk, cw_gdpk, cw_galk, cw_gcok, cw_gfek, cw_h2, cw_h3, cw_h4, cw_h5, cw_h10, cw_grpk, cw_x0, cw_x1, cw_x2, cw_x5, cw_gtlk, cw_grfk, cw_ghsk, cw_padk, cw_pagk, cw_pmkk, cw_ppnk, cw_zpnk, cw_sfl, cw_sdt, cw_pmok, cw_peak, cw_plnk, cw_sowk, cw_selk, cw_sskk, cw_sslk, cw_srok, cw_swek, cw_splk, cw_palk, cw_pcok, cw_pfek, cw_prpk, cw_ptlk, cw_prfk, cw_phsk, cw_stxk, cw_ok3, cw_ok5, cw_okn, rw_g2 hp, hn9, if_pos (show lnk ≤ (lnk.toNat : Int) by omega)]
    try rfl)]
  obtain ⟨s1, h1, hI1, hR1, S1, hS1, rfl⟩ := lpx_itr (f := s_X6_distanceOf p (G 0 t)) (g := fun k B => rcA 200 (-1) (oo9 m (m (1200 + k))) B) (fun k B s => PI9 m B ∧ (∀ i : Int, 0 ≤ i → i < k → oo9 m (m (1200 + i)) = -1 ∨ B.1 (oo9 m (m (1200 + i))) = 1) ∧ ∃ S, SK G S B ∧ s = .inr (.inl (G 3 3, J 6, J k, (cput D (cel G adk nfk ndk pnk agk B.1 flk dtk hwk dpk alk cok fek rpk rok wek plk mok eak lnk cpk elk owk S txk tlk rfk slk hsk) (rput p (G 3 8) B.2.2.1 (G 3 7) σ))))) 6 (by
    rintro k B s hk9 ⟨hB, hB2, S, hS, rfl⟩
    have hr := hm.hr k (by omega) (by omega)
    have hb9 := rf_ir hm hr
    have hsta : oo9 m (m (1200 + k)) = -1 ∨ sta m (oo9 m (m (1200 + k))) := by
      by_cases hx : m (1200 + (k : Int)) = -1
      · exact Or.inl (if_pos hx)
      · refine Or.inr (Or.inl ⟨k, by omega, by omega, hx, ?_⟩)
        exact (if_neg hx).symm
    obtain ⟨q1, q2, q3⟩ := hB.add (oo9_h m _) hsta
    obtain ⟨S', r1, r2⟩ := kc_addA (σ := σ) (hd := hd) (adk := adk) (nfk := nfk) (ndk := ndk) (pnk := pnk) (agk := agk) (mkk := mkk) (flk := flk) (dtk := dtk) (hwk := hwk) (dpk := dpk) (alk := alk) (cok := cok) (fek := fek) (rpk := rpk) (rok := rok) (wek := wek) (plk := plk) (owk := owk) (skk := skk) (txk := txk) (tlk := tlk) (rfk := rfk) (slk := slk) (hsk := hsk) (mok := mok) (eak := eak) (lnk := lnk) (cpk := cpk) (elk := elk) hg hu hp hk hB.1 hS (oo9_h m (m (1200 + k)))
    refine ⟨.inr (.inl (G 3 3, J 6, J (k + 1 : Nat), (cput D (cel G adk nfk ndk pnk agk ((rcA 200 (-1) (oo9 m (m (1200 + k))) B).1) flk dtk hwk dpk alk cok fek rpk rok wek plk mok eak lnk cpk elk owk S' txk tlk rfk slk hsk) (rput p (G 3 8) (rcA 200 (-1) (oo9 m (m (1200 + k))) B).2.2.1 (G 3 7) σ)))), ?_, q1, fun i i1 i2 => ?_, S', r2, rfl⟩
    · refine lpx_n ?_
      have htg : f_X1_target (G 3 6) (J (m (1200 + k))) (cput D (cel G adk nfk ndk pnk agk B.1 flk dtk hwk dpk alk cok fek rpk rok wek plk mok eak lnk cpk elk owk S txk tlk rfk slk hsk) (rput p (G 3 8) B.2.2.1 (G 3 7) σ)) = some (if oo9 m (m (1200 + k)) = -1 then none else some (G 0 (oo9 m (m (1200 + k))))) := kc_target (hd := hd) hg hk.mk hr hb9.1 hb9.2
      unfold s_X6_distanceOf g_X6_distanceOf_63
      dsimp only
      simp (disch := first | assumption | exact HU.lu (by assumption) | exact cw_okn | exact cw_ok3 (by assumption) | exact cw_ok5 (by assumption) | omega) only [J_add, J_sub, J_mul, J_neg, J_lit, J_lt, J_le, J_eq, Option.bind_some, Int.reduceAdd, Int.reduceSub, Int.reduceMul, Int.reduceNeg, Int.reduceEq, Int.reduceLT, Int.reduceLE, reduceIte, Int.zero_add, Int.add_zero, and_self, true_and, and_true, false_and, and_false, or_true, true_or, or_false, false_or, not_true_eq_false, not_false_eq_true, ne_eq, b2_s, cw_gadk, cw_gpnk, cw_gagk, cw_gmkk, cw_gfl, cw_gdt, cw_kth, cw_afl, cw_nfl, cw_adt, cw_ndt, cw_gmok, cw_geak, cw_glnk, cw_k0, cw_k6, cw_k7, cw_aowk, cw_aelk, cw_askk, cw_aslk, cw_nelk, cw_arok, cw_nrok, cw_awek, cw_nwek, cw_aplk, cw_nplk, cw_atxk, cw_ntxk, cw_ghwk, cw_gdpk, cw_galk, cw_gcok, cw_gfek, cw_h2, cw_h3, cw_h4, cw_h5, cw_h10, cw_grpk, cw_x0, cw_x1, cw_x2, cw_x5, cw_gtlk, cw_grfk, cw_ghsk, cw_padk, cw_pagk, cw_pmkk, cw_ppnk, cw_zpnk, cw_sfl, cw_sdt, cw_pmok, cw_peak, cw_plnk, cw_sowk, cw_selk, cw_sskk, cw_sslk, cw_srok, cw_swek, cw_splk, cw_palk, cw_pcok, cw_pfek, cw_prpk, cw_ptlk, cw_prfk, cw_phsk, cw_stxk, cw_ok3, cw_ok5, cw_okn, if_neg (show ¬ (6 : Int) ≤ k by omega), hk.ro k (by omega) (by omega), rw_g2 hp, htg, rw_ck hp, r1]
      rfl
    · by_cases hik : i = k
      · rw [hik]; exact q3
      · rcases hB2 i i1 (by omega) with q | q
        · exact Or.inl q
        · exact Or.inr (q2 _ q)) A09 (.inr (.inl (G 3 3, J 6, J 0, (cput D (cel G adk nfk ndk pnk agk A09.1 flk dtk hwk dpk alk cok fek rpk rok wek plk mok eak lnk cpk elk owk skk txk tlk rfk slk hsk) (rput p (G 3 8) A09.2.2.1 (G 3 7) σ))))) ⟨hI0, fun i i1 i2 => by omega, skk, fun k k1 k2 => by dsimp only at k2; omega, rfl⟩
  rw [h1]
  generalize itr (fun k B => rcA 200 (-1) (oo9 m (m (1200 + k))) B) 6 A09 = B1 at hI1 hR1 hS1 ⊢
  rw [lpx_n (s' := .inr (.inr (.inl (J 0, (cput D (cel G adk nfk ndk pnk agk B1.1 flk dtk hwk dpk alk cok fek rpk rok wek plk mok eak lnk cpk elk owk S1 txk tlk rfk slk hsk) (rput p (G 3 8) B1.2.2.1 (G 3 7) σ)))))) (by
    unfold s_X6_distanceOf g_X6_distanceOf_63
    dsimp only
    simp (disch := first | assumption | exact HU.lu (by assumption) | exact cw_okn | exact cw_ok3 (by assumption) | exact cw_ok5 (by assumption) | omega) only [J_add, J_sub, J_mul, J_neg, J_lit, J_lt, J_le, J_eq, Option.bind_some, Int.reduceAdd, Int.reduceSub, Int.reduceMul, Int.reduceNeg, Int.reduceEq, Int.reduceLT, Int.reduceLE, reduceIte, Int.zero_add, Int.add_zero, and_self, true_and, and_true, false_and, and_false, or_true, true_or, or_false, false_or, not_true_eq_false, not_false_eq_true, ne_eq, b2_s, cw_gadk, cw_gpnk, cw_gagk, cw_gmkk, cw_gfl, cw_gdt, cw_kth, cw_afl, cw_nfl, cw_adt, cw_ndt, cw_gmok, cw_geak, cw_glnk, cw_k0, cw_k6, cw_k7, cw_aowk, cw_aelk, cw_askk, cw_aslk, cw_nelk, cw_arok, cw_nrok, cw_awek, cw_nwek, cw_aplk, cw_nplk, cw_atxk, cw_ntxk, cw_ghwk, cw_gdpk, cw_galk, cw_gcok, cw_gfek, cw_h2, cw_h3, cw_h4, cw_h5, cw_h10, cw_grpk, cw_x0, cw_x1, cw_x2, cw_x5, cw_gtlk, cw_grfk, cw_ghsk, cw_padk, cw_pagk, cw_pmkk, cw_ppnk, cw_zpnk, cw_sfl, cw_sdt, cw_pmok, cw_peak, cw_plnk, cw_sowk, cw_selk, cw_sskk, cw_sslk, cw_srok, cw_swek, cw_splk, cw_palk, cw_pcok, cw_pfek, cw_prpk, cw_ptlk, cw_prfk, cw_phsk, cw_stxk, cw_ok3, cw_ok5, cw_okn, if_pos (show (6 : Int) ≤ (6 : Nat) by omega)])]
  obtain ⟨s2, h2, hI2, hR2, hP2, S2, hS2, rfl⟩ := lpx_itr (f := s_X6_distanceOf p (G 0 t)) (g := fun k B => rcA 200 (-1) (if m (400 + hd k) = 1 then hd k else -1) B) (fun k B s => PI9 m B ∧ (∀ b, B1.1 b = 1 → B.1 b = 1) ∧ (∀ i : Int, 0 ≤ i → i < k → m (400 + hd i) = 1 → B.1 (hd i) = 1) ∧ ∃ S, SK G S B ∧ s = .inr (.inr (.inl (J k, (cput D (cel G adk nfk ndk pnk agk B.1 flk dtk hwk dpk alk cok fek rpk rok wek plk mok eak lnk cpk elk owk S txk tlk rfk slk hsk) (rput p (G 3 8) B.2.2.1 (G 3 7) σ)))))) lnk.toNat (by
    rintro k B s hk9 ⟨hB, hB1, hB2, S, hS, rfl⟩
    obtain ⟨d1, d2, d3⟩ := hhd.1 k (by omega) (by omega)
    obtain ⟨t1, t2, t3, t4, t5, t6, t7, t8⟩ := hk.th d1 d2 d3
    have hpm := hm.hp _ d1 d2
    by_cases c2 : m (400 + hd k) = 1
    · rw [if_pos c2]
      obtain ⟨q1, q2, q3⟩ := hB.add (o := hd k) (Or.inr ⟨d1, d2, d3⟩) (Or.inr (Or.inr ⟨d1, d2, d3, c2⟩))
      obtain ⟨S', r1, r2⟩ := kc_addA (σ := σ) (hd := hd) (adk := adk) (nfk := nfk) (ndk := ndk) (pnk := pnk) (agk := agk) (mkk := mkk) (flk := flk) (dtk := dtk) (hwk := hwk) (dpk := dpk) (alk := alk) (cok := cok) (fek := fek) (rpk := rpk) (rok := rok) (wek := wek) (plk := plk) (owk := owk) (skk := skk) (txk := txk) (tlk := tlk) (rfk := rfk) (slk := slk) (hsk := hsk) (mok := mok) (eak := eak) (lnk := lnk) (cpk := cpk) (elk := elk) hg hu hp hk hB.1 hS (o := hd k) (Or.inr ⟨d1, d2, d3⟩)
      rw [if_neg (show ¬ hd k = -1 by omega)] at r1
      refine ⟨_, ?_, q1, fun b hb => q2 _ (hB1 b hb), fun i i1 i2 i3 => ?_, S', r2, rfl⟩
      · refine lpx_n ?_
        unfold s_X6_distanceOf g_X6_distanceOf_99
        dsimp only
        simp (disch := first | assumption | exact HU.lu (by assumption) | exact cw_okn | exact cw_ok3 (by assumption) | exact cw_ok5 (by assumption) | omega) only [J_add, J_sub, J_mul, J_neg, J_lit, J_lt, J_le, J_eq, Option.bind_some, Int.reduceAdd, Int.reduceSub, Int.reduceMul, Int.reduceNeg, Int.reduceEq, Int.reduceLT, Int.reduceLE, reduceIte, Int.zero_add, Int.add_zero, and_self, true_and, and_true, false_and, and_false, or_true, true_or, or_false, false_or, not_true_eq_false, not_false_eq_true, ne_eq, b2_s, cw_gadk, cw_gpnk, cw_gagk, cw_gmkk, cw_gfl, cw_gdt, cw_kth, cw_afl, cw_nfl, cw_adt, cw_ndt, cw_gmok, cw_geak, cw_glnk, cw_k0, cw_k6, cw_k7, cw_aowk, cw_aelk, cw_askk, cw_aslk, cw_nelk, cw_arok, cw_nrok, cw_awek, cw_nwek, cw_aplk, cw_nplk, cw_atxk, cw_ntxk, cw_ghwk, cw_gdpk, cw_galk, cw_gcok, cw_gfek, cw_h2, cw_h3, cw_h4, cw_h5, cw_h10, cw_grpk, cw_x0, cw_x1, cw_x2, cw_x5, cw_gtlk, cw_grfk, cw_ghsk, cw_padk, cw_pagk, cw_pmkk, cw_ppnk, cw_zpnk, cw_sfl, cw_sdt, cw_pmok, cw_peak, cw_plnk, cw_sowk, cw_selk, cw_sskk, cw_sslk, cw_srok, cw_swek, cw_splk, cw_palk, cw_pcok, cw_pfek, cw_prpk, cw_ptlk, cw_prfk, cw_phsk, cw_stxk, cw_ok3, cw_ok5, cw_okn, rw_g2 hp, hn9, hg9, if_neg (show ¬ lnk ≤ (k : Int) by omega), t5, c2, rw_ck hp, r1]
        rfl
      · by_cases hik : i = k
        · rw [hik]; rcases q3 with q | q
          · omega
          · exact q
        · exact q2 _ (hB2 i i1 (by omega) i3)
    · rw [if_neg c2]
      have c3 : m (400 + hd k) = 0 := by omega
      obtain ⟨q1, q2, q3⟩ := hB.add (o := -1) (Or.inl rfl) (Or.inl rfl)
      obtain ⟨S', r1, r2⟩ := kc_addA (σ := σ) (hd := hd) (adk := adk) (nfk := nfk) (ndk := ndk) (pnk := pnk) (agk := agk) (mkk := mkk) (flk := flk) (dtk := dtk) (hwk := hwk) (dpk := dpk) (alk := alk) (cok := cok) (fek := fek) (rpk := rpk) (rok := rok) (wek := wek) (plk := plk) (owk := owk) (skk := skk) (txk := txk) (tlk := tlk) (rfk := rfk) (slk := slk) (hsk := hsk) (mok := mok) (eak := eak) (lnk := lnk) (cpk := cpk) (elk := elk) hg hu hp hk hB.1 hS (o := -1) (Or.inl rfl)
      rw [if_pos rfl] at r1
      refine ⟨_, ?_, q1, fun b hb => q2 _ (hB1 b hb), fun i i1 i2 i3 => ?_, S', r2, rfl⟩
      · refine lpx_n ?_
        unfold s_X6_distanceOf g_X6_distanceOf_99
        dsimp only
        simp (disch := first | assumption | exact HU.lu (by assumption) | exact cw_okn | exact cw_ok3 (by assumption) | exact cw_ok5 (by assumption) | omega) only [J_add, J_sub, J_mul, J_neg, J_lit, J_lt, J_le, J_eq, Option.bind_some, Int.reduceAdd, Int.reduceSub, Int.reduceMul, Int.reduceNeg, Int.reduceEq, Int.reduceLT, Int.reduceLE, reduceIte, Int.zero_add, Int.add_zero, and_self, true_and, and_true, false_and, and_false, or_true, true_or, or_false, false_or, not_true_eq_false, not_false_eq_true, ne_eq, b2_s, cw_gadk, cw_gpnk, cw_gagk, cw_gmkk, cw_gfl, cw_gdt, cw_kth, cw_afl, cw_nfl, cw_adt, cw_ndt, cw_gmok, cw_geak, cw_glnk, cw_k0, cw_k6, cw_k7, cw_aowk, cw_aelk, cw_askk, cw_aslk, cw_nelk, cw_arok, cw_nrok, cw_awek, cw_nwek, cw_aplk, cw_nplk, cw_atxk, cw_ntxk, cw_ghwk, cw_gdpk, cw_galk, cw_gcok, cw_gfek, cw_h2, cw_h3, cw_h4, cw_h5, cw_h10, cw_grpk, cw_x0, cw_x1, cw_x2, cw_x5, cw_gtlk, cw_grfk, cw_ghsk, cw_padk, cw_pagk, cw_pmkk, cw_ppnk, cw_zpnk, cw_sfl, cw_sdt, cw_pmok, cw_peak, cw_plnk, cw_sowk, cw_selk, cw_sskk, cw_sslk, cw_srok, cw_swek, cw_splk, cw_palk, cw_pcok, cw_pfek, cw_prpk, cw_ptlk, cw_prfk, cw_phsk, cw_stxk, cw_ok3, cw_ok5, cw_okn, rw_g2 hp, hn9, hg9, if_neg (show ¬ lnk ≤ (k : Int) by omega), t5, c3, rw_ck hp, r1]
        rfl
      · by_cases hik : i = k
        · rw [hik] at i3; exact absurd i3 c2
        · exact q2 _ (hB2 i i1 (by omega) i3)) B1 (.inr (.inr (.inl (J 0, (cput D (cel G adk nfk ndk pnk agk B1.1 flk dtk hwk dpk alk cok fek rpk rok wek plk mok eak lnk cpk elk owk S1 txk tlk rfk slk hsk) (rput p (G 3 8) B1.2.2.1 (G 3 7) σ)))))) ⟨hI1, fun b q => q, fun i i1 i2 => by omega, S1, hS1, rfl⟩
  rw [h2]
  generalize itr (fun k B => rcA 200 (-1) (if m (400 + hd k) = 1 then hd k else -1) B) lnk.toNat B1 = B2 at hI2 hR2 hP2 hS2 ⊢
  rw [lpx_n (s' := .inr (.inr (.inr (.inl (J 0, J 0, (cput D (cel G adk nfk ndk pnk agk B2.1 flk dtk hwk dpk alk cok fek rpk rok wek plk mok eak lnk cpk elk owk S2 txk tlk rfk slk hsk) (rput p (G 3 8) B2.2.2.1 (G 3 7) σ))))))) (by
    unfold s_X6_distanceOf g_X6_distanceOf_99
    dsimp only
    simp (disch := first | assumption | exact HU.lu (by assumption) | exact cw_okn | exact cw_ok3 (by assumption) | exact cw_ok5 (by assumption) | omega) only [J_add, J_sub, J_mul, J_neg, J_lit, J_lt, J_le, J_eq, Option.bind_some, Int.reduceAdd, Int.reduceSub, Int.reduceMul, Int.reduceNeg, Int.reduceEq, Int.reduceLT, Int.reduceLE, reduceIte, Int.zero_add, Int.add_zero, and_self, true_and, and_true, false_and, and_false, or_true, true_or, or_false, false_or, not_true_eq_false, not_false_eq_true, ne_eq, b2_s, cw_gadk, cw_gpnk, cw_gagk, cw_gmkk, cw_gfl, cw_gdt, cw_kth, cw_afl, cw_nfl, cw_adt, cw_ndt, cw_gmok, cw_geak, cw_glnk, cw_k0, cw_k6, cw_k7, cw_aowk, cw_aelk, cw_askk, cw_aslk, cw_nelk, cw_arok, cw_nrok, cw_awek, cw_nwek, cw_aplk, cw_nplk, cw_atxk, cw_ntxk, cw_ghwk, cw_gdpk, cw_galk, cw_gcok, cw_gfek, cw_h2, cw_h3, cw_h4, cw_h5, cw_h10, cw_grpk, cw_x0, cw_x1, cw_x2, cw_x5, cw_gtlk, cw_grfk, cw_ghsk, cw_padk, cw_pagk, cw_pmkk, cw_ppnk, cw_zpnk, cw_sfl, cw_sdt, cw_pmok, cw_peak, cw_plnk, cw_sowk, cw_selk, cw_sskk, cw_sslk, cw_srok, cw_swek, cw_splk, cw_palk, cw_pcok, cw_pfek, cw_prpk, cw_ptlk, cw_prfk, cw_phsk, cw_stxk, cw_ok3, cw_ok5, cw_okn, rw_g2 hp, hn9, if_pos (show lnk ≤ (lnk.toNat : Int) by omega)])]
  obtain ⟨p1, p2, p3, p4⟩ := hI2
  have hRG : RG9 m B2 0 B2.2.2.1 0 0 := by
    refine ⟨p1, p2, p3, fun b b1 b2 b3 => Or.inl ⟨p4 b b1 b2 b3, by omega⟩, fun b hb => ?_, fun k k1 k2 => ?_, ⟨by omega, p1.2.1.1, by omega⟩, fun k f k1 f1 f2 hk9 => by omega⟩
    · obtain ⟨hs, hb1⟩ := hb
      have hb0 := sta_in hm hs
      have hmk : B2.1 b = 1 := by
        rcases hs with ⟨k, k1, k2, k3, k4⟩ | ⟨q1, q2, q3, q4⟩
        · have e9 : oo9 m (m (1200 + k)) = b := (if_neg k3).trans k4
          rcases hR1 k k1 k2 with q | q
          · omega
          · rw [e9] at q
            exact hR2 _ q
        · obtain ⟨k, k1, k2, k3⟩ := hhd.2.2 b q1 q2 q3
          have := hP2 k k1 (by omega) (by rw [k3]; exact q4)
          rwa [k3] at this
      exact ⟨hmk, p3 b hb0.1 hb0.2.1 hmk⟩
    · obtain ⟨a1, a2, a3⟩ := p1.2.2.2.2.1 k k1 k2
      exact ⟨p4 _ a1 a2 (p2 k k1 k2), by omega⟩
  exact kc_rounds hg hu hm hp hk t0 t9 ht hF 201 B2 0 0 S2 hRG (by omega) (fun k hk9 => by omega) hS2 (by omega)
theorem kc_distance (hm : WF m) (h : (CG m hd D G adk nfk ndk pnk agk mkk flk dtk hwk dpk alk cok fek rpk rok wek plk mok eak lnk cpk elk owk skk txk tlk rfk slk hsk σ)) {x : Int} (hx : ir x) : (ob m x = -1 → f_X0_distance (G 3 7) (J x) (cput D (cel G adk nfk ndk pnk agk mkk flk dtk hwk dpk alk cok fek rpk rok wek plk mok eak lnk cpk elk owk skk txk tlk rfk slk hsk) σ) = some (J (-1000002), (cput D (cel G adk nfk ndk pnk agk mkk flk dtk hwk dpk alk cok fek rpk rok wek plk mok eak lnk cpk elk owk skk txk tlk rfk slk hsk) σ))) ∧ (ob m x ≠ -1 → ∀ F, FAR m (-1) F → ∃ M', f_X0_distance (G 3 7) (J x) (cput D (cel G adk nfk ndk pnk agk mkk flk dtk hwk dpk alk cok fek rpk rok wek plk mok eak lnk cpk elk owk skk txk tlk rfk slk hsk) σ) = some (J (F (ob m x)), M') ∧ OPK D σ (G 3 7) txk tlk rfk slk hsk m M') := by
  have hg := h.hu
  have hu := h.xu
  have hq : (D σ.2.1).1 = -1 := by
    by_cases q : (D σ.2.1).1 = -1
    · exact q
    · have := h.db _ q; omega
  unfold f_X0_distance
  constructor
  · intro ho
    simp (disch := first | assumption | exact HU.lu (by assumption) | exact cw_okn | exact cw_ok3 (by assumption) | exact cw_ok5 (by assumption) | omega) only [J_add, J_sub, J_mul, J_neg, J_lit, J_lt, J_le, J_eq, Option.bind_some, Int.reduceAdd, Int.reduceSub, Int.reduceMul, Int.reduceNeg, Int.reduceEq, Int.reduceLT, Int.reduceLE, reduceIte, Int.zero_add, Int.add_zero, and_self, true_and, and_true, false_and, and_false, or_true, true_or, or_false, false_or, not_true_eq_false, not_false_eq_true, ne_eq, b2_s, cw_gadk, cw_gpnk, cw_gagk, cw_gmkk, cw_gfl, cw_gdt, cw_kth, cw_afl, cw_nfl, cw_adt, cw_ndt, cw_gmok, cw_geak, cw_glnk, cw_k0, cw_k6, cw_k7, cw_aowk, cw_aelk, cw_askk, cw_aslk, cw_nelk, cw_arok, cw_nrok, cw_awek, cw_nwek, cw_aplk, cw_nplk, cw_atxk, cw_ntxk, cw_ghwk, cw_gdpk, cw_galk, cw_gcok, cw_gfek, cw_h2, cw_h3, cw_h4, cw_h5, cw_h10, cw_grpk, cw_x0, cw_x1, cw_x2, cw_x5, cw_gtlk, cw_grfk, cw_ghsk, cw_padk, cw_pagk, cw_pmkk, cw_ppnk, cw_zpnk, cw_sfl, cw_sdt, cw_pmok, cw_peak, cw_plnk, cw_sowk, cw_selk, cw_sskk, cw_sslk, cw_srok, cw_swek, cw_splk, cw_palk, cw_pcok, cw_pfek, cw_prpk, cw_ptlk, cw_prfk, cw_phsk, cw_stxk, cw_ok3, cw_ok5, cw_okn, kc_at hg hm h.km hx, if_pos ho, mt_n]
  · intro ho F hF
    rcases ob_r (m := m) x with h9 | ⟨a1, a2, a3, -⟩
    · exact absurd h9 ho
    obtain ⟨A', S', e1⟩ := kc_distOf (σ := nE σ (.inl (6, df_6))) (p := σ.2.1) hg hu hm hq h.km h.uq a1 a2 a3 hF
    have hex : EX D σ D (rput σ.2.1 (G 3 8) A'.2.2.1 (G 3 7) (nE σ (.inl (6, df_6)))) := by
      refine ⟨by show σ.2.1 ≤ σ.2.1 + 1; omega, rfl, fun b b1 b2 => ⟨b2, ?_⟩, fun b b1 => Or.inl b1, fun b b1 => by have := h.db b b1; show b < σ.2.1 + 1; omega⟩
      unfold rput sE nE
      dsimp only
      rw [if_neg (by omega), if_neg (by omega)]
    refine ⟨_, ?_, OPK.st (F := A'.1) (S := S') h hex⟩
    have hcell : ∀ (fs : List mm_V), (cput D (cel G adk nfk ndk pnk agk mkk flk dtk hwk dpk alk cok fek rpk rok wek plk mok eak lnk cpk elk owk skk txk tlk rfk slk hsk) (sE (nE σ (.inl (6, df_6))) σ.2.1 (.inl (6, fs)))).1 σ.2.1 = some (.inl (6, fs)) := fun fs => by
      rw [cput_o hq]
      unfold sE
      dsimp only
      rw [if_pos rfl]
    have hc0 : (cput D (cel G adk nfk ndk pnk agk mkk flk dtk hwk dpk alk cok fek rpk rok wek plk mok eak lnk cpk elk owk skk txk tlk rfk slk hsk) (nE σ (.inl (6, df_6)))).1 σ.2.1 = some (.inl (6, df_6)) := by
      rw [cput_o hq]
      unfold nE
      dsimp only
      rw [if_pos rfl]
    have hin : f_X6_init σ.2.1 (G 3 7) (cput D (cel G adk nfk ndk pnk agk mkk flk dtk hwk dpk alk cok fek rpk rok wek plk mok eak lnk cpk elk owk skk txk tlk rfk slk hsk) (nE σ (.inl (6, df_6)))) = some (cput D (cel G adk nfk ndk pnk agk mkk flk dtk hwk dpk alk cok fek rpk rok wek plk mok eak lnk cpk elk owk skk txk tlk rfk slk hsk) (rput σ.2.1 (G 3 8) 0 (G 3 7) (nE σ (.inl (6, df_6))))) := by
      unfold f_X6_init
      rw [pF_at hc0 (by simp), Option.bind_some, cput_sO hq, gA_at (hcell _) (r := G 3 7) rfl, Option.bind_some]
      rw [cw_x1 hu, Option.bind_some, pF_at (hcell _) (by simp), Option.bind_some, cput_sO hq, sE_sE]
      rfl
    simp (disch := first | assumption | exact HU.lu (by assumption) | exact cw_okn | exact cw_ok3 (by assumption) | exact cw_ok5 (by assumption) | omega) only [J_add, J_sub, J_mul, J_neg, J_lit, J_lt, J_le, J_eq, Option.bind_some, Int.reduceAdd, Int.reduceSub, Int.reduceMul, Int.reduceNeg, Int.reduceEq, Int.reduceLT, Int.reduceLE, reduceIte, Int.zero_add, Int.add_zero, and_self, true_and, and_true, false_and, and_false, or_true, true_or, or_false, false_or, not_true_eq_false, not_false_eq_true, ne_eq, b2_s, cw_gadk, cw_gpnk, cw_gagk, cw_gmkk, cw_gfl, cw_gdt, cw_kth, cw_afl, cw_nfl, cw_adt, cw_ndt, cw_gmok, cw_geak, cw_glnk, cw_k0, cw_k6, cw_k7, cw_aowk, cw_aelk, cw_askk, cw_aslk, cw_nelk, cw_arok, cw_nrok, cw_awek, cw_nwek, cw_aplk, cw_nplk, cw_atxk, cw_ntxk, cw_ghwk, cw_gdpk, cw_galk, cw_gcok, cw_gfek, cw_h2, cw_h3, cw_h4, cw_h5, cw_h10, cw_grpk, cw_x0, cw_x1, cw_x2, cw_x5, cw_gtlk, cw_grfk, cw_ghsk, cw_padk, cw_pagk, cw_pmkk, cw_ppnk, cw_zpnk, cw_sfl, cw_sdt, cw_pmok, cw_peak, cw_plnk, cw_sowk, cw_selk, cw_sskk, cw_sslk, cw_srok, cw_swek, cw_splk, cw_palk, cw_pcok, cw_pfek, cw_prpk, cw_ptlk, cw_prfk, cw_phsk, cw_stxk, cw_ok3, cw_ok5, cw_okn, kc_at hg hm h.km hx, if_neg ho, mt_s, ko_nO hq, hin, rw_ck hq, e1]
end T1
