/-! PLAIN LAW: free, the component's side. NAMES: kc_free -/
set_option maxRecDepth 100000
theorem fi9_f {m : Int → Int} {a0 : Nat} (h1 : ∀ b : Int, 0 ≤ b → b < a0 → ob m b ≠ -1) (h2 : ob m a0 = -1) (n : Nat) : (fi9 m n).2.2.2.1 = if n ≤ a0 then -1 else (a0 : Int) := by
  induction n with
  | zero => simp [fi9, itr]
  | succ n ih =>
    unfold fi9 at ih ⊢
    rw [itr_s]
    generalize itr (fs9 m) n (0, 0, 0, -1, 0, 0) = s at ih ⊢
    unfold fs9
    by_cases h : ob m n = -1
    · rw [if_pos h]
      dsimp only
      rw [ih]
      have h3 : ¬ n < a0 := fun q => h1 n (by omega) (by omega) h
      by_cases h4 : n = a0
      · rw [if_pos (show n ≤ a0 by omega), if_neg (show ¬ n + 1 ≤ a0 by omega), if_pos rfl, h4]
      · rw [if_neg (show ¬ n ≤ a0 by omega), if_neg (show ¬ n + 1 ≤ a0 by omega), if_neg (show ¬ (a0 : Int) = -1 by omega)]
    · rw [if_neg h]
      dsimp only
      rw [ih]
      by_cases h4 : n = a0
      · rw [h4] at h
        exact absurd h2 h
      · by_cases h5 : n ≤ a0
        · rw [if_pos h5, if_pos (show n + 1 ≤ a0 by omega)]
        · rw [if_neg h5, if_neg (show ¬ n + 1 ≤ a0 by omega)]
section T1
variable {m hd : Int → Int} {adk nfk ndk pnk agk mkk rok wek plk txk : Int → Int} {flk dtk : Int → Int → Int} {hwk dpk alk cok fek lnk tlk rfk : Int} {rpk : Option Nat} {mok : Int32} {eak cpk : Nat} {elk owk skk slk : Nat → Option Nat} {hsk : Int64} {D : Nat → Int × Int} {G : Int → Int → Nat} {σ : mm_M}
set_option maxHeartbeats 4000000 in
theorem kc_free (hg : HU D G) (hu : XU D G) (hm : WF m) (h : (KM m hd D G adk nfk ndk pnk agk mkk flk dtk hwk dpk alk cok fek rpk rok wek plk mok eak lnk cpk elk owk skk txk tlk rfk slk hsk)) {x : Int} (hx : ir x) : f_X0_free (G 3 7) (J x) (cput D (cel G adk nfk ndk pnk agk mkk flk dtk hwk dpk alk cok fek rpk rok wek plk mok eak lnk cpk elk owk skk txk tlk rfk slk hsk) σ) = some (J (fre m x)) := by
  have hW := hm.hW
  have how := h.ow
  have hfh : ∃ r, f_X1_firstHole (G 3 6) (J 1) (cput D (cel G adk nfk ndk pnk agk mkk flk dtk hwk dpk alk cok fek rpk rok wek plk mok eak lnk cpk elk owk skk txk tlk rfk slk hsk) σ) = some (J r) ∧ isFH m 1 r := kc_firstHole hg hm h (by omega) (by omega)
  have hho : ∀ a, 0 ≤ a → a ≤ 300 → ∃ r, f_X1_holeEnd (G 3 6) (J a) (cput D (cel G adk nfk ndk pnk agk mkk flk dtk hwk dpk alk cok fek rpk rok wek plk mok eak lnk cpk elk owk skk txk tlk rfk slk hsk) σ) = some (J r) ∧ isHE m a r := fun a a1 a2 => kc_holeEnd hg hm h a1 a2
  obtain ⟨rfl, -⟩ := h.nu
  obtain ⟨a0, hf1, hf2⟩ := hfh
  obtain ⟨x1, x2⟩ := hx
  have hans : ∀ (w hh g f q r a1 : Int), fi9 m (m 1216).toNat = (w, hh, g, f, q, r) → f = a1 → -1 ≤ w → w ≤ 300 → -1 ≤ hh → hh ≤ 300 → g_X0_free_123 (G 3 7) (J x) (J w) (J hh) (J g) (J q) (J a1) (cput D (cel G adk nfk ndk pnk agk mkk flk dtk (m 1216) dpk alk cok fek rpk rok wek plk mok eak lnk cpk elk owk skk txk tlk rfk slk hsk) σ) = some (.inr (J (fre m x))) := by
    intro w hh g f q r a1 e0 e1 w1 w2 hh1 hh2
    subst e1
    unfold g_X0_free_123 fre
    rw [e0]
    by_cases c0 : x = 0
    · simp (disch := omega) only [J_add, J_sub, J_mul, J_neg, J_lit, J_lt, J_le, J_eq, Option.bind_some, Int.reduceAdd, Int.reduceSub, Int.reduceMul, Int.reduceNeg, Int.reduceEq, Int.reduceLT, Int.reduceLE, reduceIte, Int.zero_add, Int.add_zero, and_self, true_and, and_true, false_and, and_false, or_true, true_or, or_false, false_or, not_true_eq_false, not_false_eq_true, ne_eq, b2_s, if_pos c0]
    by_cases c1 : x = 1
    · simp (disch := omega) only [J_add, J_sub, J_mul, J_neg, J_lit, J_lt, J_le, J_eq, Option.bind_some, Int.reduceAdd, Int.reduceSub, Int.reduceMul, Int.reduceNeg, Int.reduceEq, Int.reduceLT, Int.reduceLE, reduceIte, Int.zero_add, Int.add_zero, and_self, true_and, and_true, false_and, and_false, or_true, true_or, or_false, false_or, not_true_eq_false, not_false_eq_true, ne_eq, b2_s, if_neg c0, if_pos c1]
    by_cases c2 : x = 2
    · simp (disch := omega) only [J_add, J_sub, J_mul, J_neg, J_lit, J_lt, J_le, J_eq, Option.bind_some, Int.reduceAdd, Int.reduceSub, Int.reduceMul, Int.reduceNeg, Int.reduceEq, Int.reduceLT, Int.reduceLE, reduceIte, Int.zero_add, Int.add_zero, and_self, true_and, and_true, false_and, and_false, or_true, true_or, or_false, false_or, not_true_eq_false, not_false_eq_true, ne_eq, b2_s, if_neg c0, if_neg c1, if_pos c2]
    by_cases c3 : x = 3
    · simp (disch := omega) only [J_add, J_sub, J_mul, J_neg, J_lit, J_lt, J_le, J_eq, Option.bind_some, Int.reduceAdd, Int.reduceSub, Int.reduceMul, Int.reduceNeg, Int.reduceEq, Int.reduceLT, Int.reduceLE, reduceIte, Int.zero_add, Int.add_zero, and_self, true_and, and_true, false_and, and_false, or_true, true_or, or_false, false_or, not_true_eq_false, not_false_eq_true, ne_eq, b2_s, if_neg c0, if_neg c1, if_neg c2, if_pos c3]
    by_cases c4 : x = 4
    · simp (disch := omega) only [J_add, J_sub, J_mul, J_neg, J_lit, J_lt, J_le, J_eq, Option.bind_some, Int.reduceAdd, Int.reduceSub, Int.reduceMul, Int.reduceNeg, Int.reduceEq, Int.reduceLT, Int.reduceLE, reduceIte, Int.zero_add, Int.add_zero, and_self, true_and, and_true, false_and, and_false, or_true, true_or, or_false, false_or, not_true_eq_false, not_false_eq_true, ne_eq, b2_s, if_neg c0, if_neg c1, if_neg c2, if_neg c3, if_pos c4]
    simp (disch := omega) only [J_add, J_sub, J_mul, J_neg, J_lit, J_lt, J_le, J_eq, Option.bind_some, Int.reduceAdd, Int.reduceSub, Int.reduceMul, Int.reduceNeg, Int.reduceEq, Int.reduceLT, Int.reduceLE, reduceIte, Int.zero_add, Int.add_zero, and_self, true_and, and_true, false_and, and_false, or_true, true_or, or_false, false_or, not_true_eq_false, not_false_eq_true, ne_eq, b2_s, if_neg c0, if_neg c1, if_neg c2, if_neg c3, if_neg c4]
  unfold f_X0_free g_X0_free_0
  rw [show (1 : Int32) = J 1 from J_lit 1, show (0 : Int32) = J 0 from J_lit 0]
  simp (disch := first | assumption | exact HU.lu (by assumption) | exact cw_okn | exact cw_ok3 (by assumption) | exact cw_ok5 (by assumption) | omega) only [J_add, J_sub, J_mul, J_neg, J_lit, J_lt, J_le, J_eq, Option.bind_some, Int.reduceAdd, Int.reduceSub, Int.reduceMul, Int.reduceNeg, Int.reduceEq, Int.reduceLT, Int.reduceLE, reduceIte, Int.zero_add, Int.add_zero, and_self, true_and, and_true, false_and, and_false, or_true, true_or, or_false, false_or, not_true_eq_false, not_false_eq_true, ne_eq, b2_s, cw_gadk, cw_gpnk, cw_gagk, cw_gmkk, cw_gfl, cw_gdt, cw_kth, cw_afl, cw_nfl, cw_adt, cw_ndt, cw_gmok, cw_geak, cw_glnk, cw_k0, cw_k6, cw_k7, cw_aowk, cw_aelk, cw_askk, cw_aslk, cw_nelk, cw_arok, cw_nrok, cw_awek, cw_nwek, cw_aplk, cw_nplk, cw_atxk, cw_ntxk, cw_ghwk, cw_gdpk, cw_galk, cw_gcok, cw_gfek, cw_h2, cw_h3, cw_h4, cw_h5, cw_h10, cw_grpk, cw_x0, cw_x1, cw_x2, cw_x5, cw_gtlk, cw_grfk, cw_ghsk, cw_padk, cw_pagk, cw_pmkk, cw_ppnk, cw_zpnk, cw_sfl, cw_sdt, cw_pmok, cw_peak, cw_plnk, cw_sowk, cw_selk, cw_sskk, cw_sslk, cw_srok, cw_swek, cw_splk, cw_palk, cw_pcok, cw_pfek, cw_prpk, cw_ptlk, cw_prfk, cw_phsk, cw_stxk, cw_ok3, cw_ok5, cw_okn, hf1]
  rw [lgo_l]
  rcases hf2 with ⟨rfl, hf3⟩ | ⟨hf3, hf4⟩
  · -- no hole
    have hno : ∀ j : Nat, (j : Int) < m 1216 → ob m j ≠ -1 := fun j hj q => hf3 j ⟨by omega, by omega, fun w b w1 w2 hb => by
      have h8 := ob_e hm hb
      rw [show w = (j : Int) by omega, q] at h8
      have := hb.1
      omega⟩
    have hv := fi9_o (m := m) (a := 0) (w := 0) (h := 0) (g := 0) (f := -1) (q := 0) (r := 0) rfl (m 1216).toNat (fun j hj => by simpa using hno j (by omega))
    rw [if_neg (by omega), Nat.zero_add] at hv
    refine lpx_d ?_
    unfold s_X0_free g_X0_free_24
    dsimp only
    simp (disch := omega) only [J_add, J_sub, J_mul, J_neg, J_lit, J_lt, J_le, J_eq, Option.bind_some, Int.reduceAdd, Int.reduceSub, Int.reduceMul, Int.reduceNeg, Int.reduceEq, Int.reduceLT, Int.reduceLE, reduceIte, Int.zero_add, Int.add_zero, and_self, true_and, and_true, false_and, and_false, or_true, true_or, or_false, false_or, not_true_eq_false, not_false_eq_true, ne_eq, b2_s]
    exact hans 0 0 0 (-1) 0 0 (-1) hv rfl (by omega) (by omega) (by omega) (by omega)
  · obtain ⟨z1, z2, z3⟩ := hf3
    have hfree : ob m a0 = -1 := ob_n (fun b hb => z3 a0 b (by omega) (by omega) hb)
    have hbef : ∀ b : Int, 0 ≤ b → b < a0 → ob m b ≠ -1 := fun b b1 b2 q => hf4 b b2 ⟨b1, by omega, fun w c w1 w2 hc => by
      have h8 := ob_e hm hc
      rw [show w = b by omega, q] at h8
      have := hc.1
      omega⟩
    have hff := fi9_f (m := m) (a0 := a0.toNat) (fun b b1 b2 => hbef b b1 (by omega)) (by rw [show ((a0.toNat : Nat) : Int) = a0 by omega]; exact hfree)
    have h0 : fi9 m a0.toNat = (0, 0, 0, -1, 0, 0) := by
      have hv := fi9_o (m := m) (a := 0) (w := 0) (h := 0) (g := 0) (f := -1) (q := 0) (r := 0) rfl a0.toNat (fun j hj => by simpa using hbef j (by omega) (by omega))
      rw [Nat.zero_add] at hv
      rw [hv]
      split <;> rfl
    obtain ⟨r, h1, h2⟩ := lpx_is (f := s_X0_free (G 3 7) (J x) (cput D (cel G adk nfk ndk pnk agk mkk flk dtk (m 1216) dpk alk cok fek rpk rok wek plk mok eak lnk cpk elk owk skk txk tlk rfk slk hsk) σ)) (fun s => ∃ (a : Nat) (w h g f q r : Int), s = (J w, J h, J g, J q, J a, J a0) ∧ (a : Int) ≤ m 1216 ∧ fi9 m a = (w, h, g, f, q, r) ∧ ((a : Int) < m 1216 → ob m a = -1 → r = 0)) (fun s => (m 1216 - s.2.2.2.2.1.toInt).toNat) (fun r => r = J (fre m x)) (s := (J 0, J 0, J 0, J 0, J a0, J a0)) ⟨a0.toNat, 0, 0, 0, -1, 0, 0, by rw [show ((a0.toNat : Nat) : Int) = a0 by omega], by omega, h0, fun _ _ => rfl⟩ (by
      rintro s ⟨a, w, h9, g, f, q, r, rfl, i1, i2, i3⟩
      have hb := fi9_b m a
      rw [i2] at hb
      dsimp only at hb
      obtain ⟨⟨a1, a2⟩, ⟨b1, b2⟩, ⟨c1, c2⟩, ⟨d1, d2⟩, ⟨e1, e2⟩, -⟩ := hb
      unfold s_X0_free g_X0_free_24 g_X0_free_72
      dsimp only
      by_cases hz : m 1216 ≤ (a : Int)
      · have hk : (m 1216).toNat = a := by omega
        refine Or.inl ⟨_, ?_, rfl⟩
        simp (disch := first | assumption | exact HU.lu (by assumption) | exact cw_okn | exact cw_ok3 (by assumption) | exact cw_ok5 (by assumption) | omega) only [J_add, J_sub, J_mul, J_neg, J_lit, J_lt, J_le, J_eq, Option.bind_some, Int.reduceAdd, Int.reduceSub, Int.reduceMul, Int.reduceNeg, Int.reduceEq, Int.reduceLT, Int.reduceLE, reduceIte, Int.zero_add, Int.add_zero, and_self, true_and, and_true, false_and, and_false, or_true, true_or, or_false, false_or, not_true_eq_false, not_false_eq_true, ne_eq, b2_s, cw_gadk, cw_gpnk, cw_gagk, cw_gmkk, cw_gfl, cw_gdt, cw_kth, cw_afl, cw_nfl, cw_adt, cw_ndt, cw_gmok, cw_geak, cw_glnk, cw_k0, cw_k6, cw_k7, cw_aowk, cw_aelk, cw_askk, cw_aslk, cw_nelk, cw_arok, cw_nrok, cw_awek, cw_nwek, cw_aplk, cw_nplk, cw_atxk, cw_ntxk, cw_ghwk, cw_gdpk, cw_galk, cw_gcok, cw_gfek, cw_h2, cw_h3, cw_h4, cw_h5, cw_h10, cw_grpk, cw_x0, cw_x1, cw_x2, cw_x5, cw_gtlk, cw_grfk, cw_ghsk, cw_padk, cw_pagk, cw_pmkk, cw_ppnk, cw_zpnk, cw_sfl, cw_sdt, cw_pmok, cw_peak, cw_plnk, cw_sowk, cw_selk, cw_sskk, cw_sslk, cw_srok, cw_swek, cw_splk, cw_palk, cw_pcok, cw_pfek, cw_prpk, cw_ptlk, cw_prfk, cw_phsk, cw_stxk, cw_ok3, cw_ok5, cw_okn, if_neg (show ¬ (a : Int) = -1 by omega), if_pos hz]
        refine hans w h9 g f q r a0 (by rw [hk]; exact i2) ?_ (by omega) (by omega) (by omega) (by omega)
        have h8 := hff a
        rw [i2, if_neg (by omega)] at h8
        dsimp only at h8
        omega
      · obtain ⟨e, g1, g2, g3, g4, g5⟩ := hho a (by omega) (by omega)
        have hmu : (J (a : Int)).toInt = a := J_toInt (by omega) (by omega)
        by_cases hs : e - (a : Int) ≤ 0
        · have he : e = a := by omega
          subst he
          have hob := g4 (by omega)
          rcases ob_r (m := m) (a : Int) with q0 | ⟨o1, o2, o3, o4, o5⟩
          · exact absurd q0 hob
          · have hE := hm.he _ o1 o2 o3
            have ht := (h.th o1 o2 o3).1
            have hoa := how a (by omega) (by omega)
            rw [if_neg hob] at hoa
            have hv := fi9_o i2 (ob m a + m (ob m a) - a).toNat (fun j hj => by
              rw [ob_e hm (a := ob m a) ⟨o1, o2, o3, by omega, by omega⟩]
              exact hob)
            rw [if_neg (by omega)] at hv
            have hdv : J ((a : Int) - a) / J 4 = J (((a : Int) - a) / 4) := pl_div4 (by omega) (by omega)
            refine Or.inr ⟨(J w, J h9, J g, J q, J (ob m a + m (ob m a)), J a0), ?_, ⟨a + (ob m a + m (ob m a) - a).toNat, w, h9, g, f, q, 0, ?_, by omega, hv, fun _ _ => rfl⟩, ?_⟩
            · simp (disch := first | assumption | exact HU.lu (by assumption) | exact cw_okn | exact cw_ok3 (by assumption) | exact cw_ok5 (by assumption) | omega) only [J_add, J_sub, J_mul, J_neg, J_lit, J_lt, J_le, J_eq, Option.bind_some, Int.reduceAdd, Int.reduceSub, Int.reduceMul, Int.reduceNeg, Int.reduceEq, Int.reduceLT, Int.reduceLE, reduceIte, Int.zero_add, Int.add_zero, and_self, true_and, and_true, false_and, and_false, or_true, true_or, or_false, false_or, not_true_eq_false, not_false_eq_true, ne_eq, b2_s, cw_gadk, cw_gpnk, cw_gagk, cw_gmkk, cw_gfl, cw_gdt, cw_kth, cw_afl, cw_nfl, cw_adt, cw_ndt, cw_gmok, cw_geak, cw_glnk, cw_k0, cw_k6, cw_k7, cw_aowk, cw_aelk, cw_askk, cw_aslk, cw_nelk, cw_arok, cw_nrok, cw_awek, cw_nwek, cw_aplk, cw_nplk, cw_atxk, cw_ntxk, cw_ghwk, cw_gdpk, cw_galk, cw_gcok, cw_gfek, cw_h2, cw_h3, cw_h4, cw_h5, cw_h10, cw_grpk, cw_x0, cw_x1, cw_x2, cw_x5, cw_gtlk, cw_grfk, cw_ghsk, cw_padk, cw_pagk, cw_pmkk, cw_ppnk, cw_zpnk, cw_sfl, cw_sdt, cw_pmok, cw_peak, cw_plnk, cw_sowk, cw_selk, cw_sskk, cw_sslk, cw_srok, cw_swek, cw_splk, cw_palk, cw_pcok, cw_pfek, cw_prpk, cw_ptlk, cw_prfk, cw_phsk, cw_stxk, cw_ok3, cw_ok5, cw_okn, if_neg (show ¬ (a : Int) = -1 by omega), if_neg hz, g1, if_pos hs, hoa, kc_endK hm h o1 o2 o3, if_neg (show ¬ g < (a : Int) - a by omega), hdv]
              simp
            · rw [show (((a + (ob m a + m (ob m a) - a).toNat : Nat)) : Int) = ob m a + m (ob m a) by omega]
            · dsimp only
              rw [hmu, J_toInt (by omega) (by omega)]
              omega
        · have hob := g3 a (by omega) (by omega)
          have hr0 := i3 (by omega) hob
          subst hr0
          have hv := fi9_h i2 (e - a).toNat (fun j hj => g3 _ (by omega) (by omega))
          rw [if_neg (by omega), show (((e - a).toNat : Nat) : Int) = e - a by omega] at hv
          have hdv : J (e - (a : Int)) / J 4 = J ((e - (a : Int)) / 4) := pl_div4 (by omega) (by omega)
          refine Or.inr ⟨(J (w + (e - a)), J (h9 + 1), J (if g < e - a then e - a else g), J (q + (e - a) / 4), J (a + (e - a)), J a0), ?_, ⟨a + (e - a).toNat, w + (e - a), h9 + 1, (if g < e - a then e - a else g), (if f = -1 then (a : Int) else f), q + (e - a) / 4, e - a, ?_, by omega, hv, fun q1 q2 => ?_⟩, ?_⟩
          · by_cases hg9 : g < e - (a : Int)
            · simp (disch := first | assumption | exact HU.lu (by assumption) | exact cw_okn | exact cw_ok3 (by assumption) | exact cw_ok5 (by assumption) | omega) only [J_add, J_sub, J_mul, J_neg, J_lit, J_lt, J_le, J_eq, Option.bind_some, Int.reduceAdd, Int.reduceSub, Int.reduceMul, Int.reduceNeg, Int.reduceEq, Int.reduceLT, Int.reduceLE, reduceIte, Int.zero_add, Int.add_zero, and_self, true_and, and_true, false_and, and_false, or_true, true_or, or_false, false_or, not_true_eq_false, not_false_eq_true, ne_eq, b2_s, cw_gadk, cw_gpnk, cw_gagk, cw_gmkk, cw_gfl, cw_gdt, cw_kth, cw_afl, cw_nfl, cw_adt, cw_ndt, cw_gmok, cw_geak, cw_glnk, cw_k0, cw_k6, cw_k7, cw_aowk, cw_aelk, cw_askk, cw_aslk, cw_nelk, cw_arok, cw_nrok, cw_awek, cw_nwek, cw_aplk, cw_nplk, cw_atxk, cw_ntxk, cw_ghwk, cw_gdpk, cw_galk, cw_gcok, cw_gfek, cw_h2, cw_h3, cw_h4, cw_h5, cw_h10, cw_grpk, cw_x0, cw_x1, cw_x2, cw_x5, cw_gtlk, cw_grfk, cw_ghsk, cw_padk, cw_pagk, cw_pmkk, cw_ppnk, cw_zpnk, cw_sfl, cw_sdt, cw_pmok, cw_peak, cw_plnk, cw_sowk, cw_selk, cw_sskk, cw_sslk, cw_srok, cw_swek, cw_splk, cw_palk, cw_pcok, cw_pfek, cw_prpk, cw_ptlk, cw_prfk, cw_phsk, cw_stxk, cw_ok3, cw_ok5, cw_okn, if_neg (show ¬ (a : Int) = -1 by omega), if_neg hz, g1, if_neg hs, if_pos hg9, hdv]
            · simp (disch := first | assumption | exact HU.lu (by assumption) | exact cw_okn | exact cw_ok3 (by assumption) | exact cw_ok5 (by assumption) | omega) only [J_add, J_sub, J_mul, J_neg, J_lit, J_lt, J_le, J_eq, Option.bind_some, Int.reduceAdd, Int.reduceSub, Int.reduceMul, Int.reduceNeg, Int.reduceEq, Int.reduceLT, Int.reduceLE, reduceIte, Int.zero_add, Int.add_zero, and_self, true_and, and_true, false_and, and_false, or_true, true_or, or_false, false_or, not_true_eq_false, not_false_eq_true, ne_eq, b2_s, cw_gadk, cw_gpnk, cw_gagk, cw_gmkk, cw_gfl, cw_gdt, cw_kth, cw_afl, cw_nfl, cw_adt, cw_ndt, cw_gmok, cw_geak, cw_glnk, cw_k0, cw_k6, cw_k7, cw_aowk, cw_aelk, cw_askk, cw_aslk, cw_nelk, cw_arok, cw_nrok, cw_awek, cw_nwek, cw_aplk, cw_nplk, cw_atxk, cw_ntxk, cw_ghwk, cw_gdpk, cw_galk, cw_gcok, cw_gfek, cw_h2, cw_h3, cw_h4, cw_h5, cw_h10, cw_grpk, cw_x0, cw_x1, cw_x2, cw_x5, cw_gtlk, cw_grfk, cw_ghsk, cw_padk, cw_pagk, cw_pmkk, cw_ppnk, cw_zpnk, cw_sfl, cw_sdt, cw_pmok, cw_peak, cw_plnk, cw_sowk, cw_selk, cw_sskk, cw_sslk, cw_srok, cw_swek, cw_splk, cw_palk, cw_pcok, cw_pfek, cw_prpk, cw_ptlk, cw_prfk, cw_phsk, cw_stxk, cw_ok3, cw_ok5, cw_okn, if_neg (show ¬ (a : Int) = -1 by omega), if_neg hz, g1, if_neg hs, if_neg hg9, hdv]
          · rw [show (((a + (e - a).toNat : Nat)) : Int) = a + (e - a) by omega]
          · rw [show (((a + (e - a).toNat : Nat)) : Int) = e by omega] at q1 q2
            exact absurd q2 (g4 q1)
          · dsimp only
            rw [hmu, J_toInt (by omega) (by omega)]
            omega)
    rw [h1, h2]
end T1
