/-! PLAIN LAW: the component collects: slide. NAMES: kc_slide -/
set_option maxRecDepth 100000
section T1
variable {m hd : Int → Int} {adk nfk ndk pnk agk mkk rok wek plk txk : Int → Int} {flk dtk : Int → Int → Int} {hwk dpk alk cok fek lnk tlk rfk : Int} {rpk : Option Nat} {mok : Int32} {eak cpk : Nat} {elk owk skk slk : Nat → Option Nat} {hsk : Int64} {D : Nat → Int × Int} {G : Int → Int → Nat} {σ : mm_M} {p : Nat} {sc hi9 : Int}
set_option maxHeartbeats 1000000 in
theorem kc_slide (hg : HU D G) (hm : WF m) (hk : (KM m hd D G adk nfk ndk pnk agk mkk flk dtk hwk dpk alk cok fek rpk rok wek plk mok eak lnk cpk elk owk skk txk tlk rfk slk hsk)) (hp : (D p).1 = -1) (hF : ∀ b, 0 ≤ b → b < 200 → mkk b = 0 ∨ mkk b = 1) : ∃ (hd' : Int → Int) (ln' : Int) (el' : Nat → Option Nat) (mo' : Int32) (AD AG : Int → Int) (FL : Int → Int → Int) (OW : Nat → Option Nat), f_X1_slide (G 3 6) p (cput D (cel G adk nfk ndk pnk agk mkk flk dtk hwk dpk alk cok fek rpk rok wek plk mok eak lnk cpk elk owk skk txk tlk rfk slk hsk) (pput p 0 0 sc hi9 0 0 σ)) = some (J (sm m (m 1216).toNat - (slA m mkk).2.2.2.1), (cput D (cel G AD nfk ndk pnk AG mkk FL dtk hwk dpk alk cok fek rpk (cr9 (slA m mkk).1 6 rok) (cr9 (slA m mkk).1 4 wek) (PL9 (slA m mkk).1 plk) mo' eak ln' cpk el' OW skk txk tlk rfk slk hsk) (pput p (slA m mkk).2.2.1 (slA m mkk).2.2.2.1 sc hi9 (slA m mkk).2.2.2.2.1 (slA m mkk).2.2.2.2.2 σ))) ∧ LV9 G mkk hd lnk (-1) hd' ln' el' ∧ (∀ i, 0 ≤ i → i < ln' → AD (hd' i) = (slA m mkk).1 (hd' i) ∧ AG (hd' i) = m (600 + hd' i) + 1 ∧ ∀ j, 0 ≤ j → j < m (200 + hd' i) → FL (hd' i) j = goA (slA m mkk).1 (m (800 + hd' i + 1 + j))) ∧ ∀ j : Int, 0 ≤ j → j < 200 → (∃ i, 0 ≤ i ∧ i < ln' ∧ ((slA m mkk).1 (hd' i) ≤ j ∧ j < (slA m mkk).1 (hd' i) + m (hd' i)) ∧ OW j.toNat = some (G 0 (hd' i))) ∨ ((∀ i, 0 ≤ i → i < ln' → ¬ ((slA m mkk).1 (hd' i) ≤ j ∧ j < (slA m mkk).1 (hd' i) + m (hd' i))) ∧ OW j.toNat = none) := by
  have hW := hm.hW
  have hls := hk.ls
  have hhd := hk.hs
  have how := hk.ow
  have hls0 := hls
  obtain ⟨⟨l1, l2, l3, l4⟩, l5, l6⟩ := hls0
  unfold f_X1_slide g_X1_slide_0
  rw [lgo_l, show (0 : Int32) = J 0 from J_lit 0]
  rw [lpx_steps2 (f := s_X1_slide (G 3 6) p) (fun k => .inl (J (sm (fun a => if ob m a = -1 then 0 else 1) k), J k, (cput D (cel G adk nfk ndk pnk agk mkk flk dtk hwk dpk alk cok fek rpk rok wek (fun j => if 0 ≤ j ∧ j < (k : Int) then -1 else plk j) mok eak lnk cpk elk owk skk txk tlk rfk slk hsk) (pput p 0 0 sc hi9 0 0 σ)))) 200 (by
    have h0 : (fun j : Int => if 0 ≤ j ∧ j < ((0 : Nat) : Int) then -1 else plk j) = plk := by
      funext j
      rw [if_neg (by omega)]
    simp only [h0]
    rfl) (by
    intro k hk9
    have h0 : up (fun j : Int => if 0 ≤ j ∧ j < (k : Int) then -1 else plk j) k (-1) = fun j : Int => if 0 ≤ j ∧ j < ((k + 1 : Nat) : Int) then -1 else plk j := by
      funext j
      unfold up
      grind
    have hok := how k (by omega) (by omega)
    rw [sm_s]
    generalize sm (fun a => if ob m a = -1 then 0 else 1) k = S9
    unfold s_X1_slide g_X1_slide_4
    dsimp only
    by_cases c : ob m k = -1
    · rw [if_pos c] at hok ⊢
      simp (disch := first | assumption | exact HU.lu (by assumption) | exact cw_okn | exact cw_ok3 (by assumption) | exact cw_ok5 (by assumption) | omega) only [J_add, J_sub, J_mul, J_neg, J_lit, J_lt, J_le, J_eq, Option.bind_some, Int.reduceAdd, Int.reduceSub, Int.reduceMul, Int.reduceNeg, Int.reduceEq, Int.reduceLT, Int.reduceLE, reduceIte, Int.zero_add, Int.add_zero, and_self, true_and, and_true, false_and, and_false, or_true, true_or, or_false, false_or, not_true_eq_false, not_false_eq_true, ne_eq, b2_s, cw_gadk, cw_gpnk, cw_gagk, cw_gmkk, cw_gfl, cw_gdt, cw_kth, cw_afl, cw_nfl, cw_adt, cw_ndt, cw_gmok, cw_geak, cw_glnk, cw_k0, cw_k6, cw_k7, cw_aowk, cw_aelk, cw_askk, cw_aslk, cw_nelk, cw_arok, cw_nrok, cw_awek, cw_nwek, cw_aplk, cw_nplk, cw_atxk, cw_ntxk, cw_ghwk, cw_gdpk, cw_galk, cw_gcok, cw_gfek, cw_h2, cw_h3, cw_h4, cw_h5, cw_h10, cw_grpk, cw_x0, cw_x1, cw_x2, cw_x5, cw_gtlk, cw_grfk, cw_ghsk, cw_padk, cw_pagk, cw_pmkk, cw_ppnk, cw_zpnk, cw_sfl, cw_sdt, cw_pmok, cw_peak, cw_plnk, cw_sowk, cw_selk, cw_sskk, cw_sslk, cw_srok, cw_swek, cw_splk, cw_palk, cw_pcok, cw_pfek, cw_prpk, cw_ptlk, cw_prfk, cw_phsk, cw_stxk, cw_ok3, cw_ok5, cw_okn, if_neg (show ¬ (200 : Int) ≤ (k : Int) by omega), hok, mt_n, h0]
      rfl
    · rw [if_neg c] at hok ⊢
      simp (disch := first | assumption | exact HU.lu (by assumption) | exact cw_okn | exact cw_ok3 (by assumption) | exact cw_ok5 (by assumption) | omega) only [J_add, J_sub, J_mul, J_neg, J_lit, J_lt, J_le, J_eq, Option.bind_some, Int.reduceAdd, Int.reduceSub, Int.reduceMul, Int.reduceNeg, Int.reduceEq, Int.reduceLT, Int.reduceLE, reduceIte, Int.zero_add, Int.add_zero, and_self, true_and, and_true, false_and, and_false, or_true, true_or, or_false, false_or, not_true_eq_false, not_false_eq_true, ne_eq, b2_s, cw_gadk, cw_gpnk, cw_gagk, cw_gmkk, cw_gfl, cw_gdt, cw_kth, cw_afl, cw_nfl, cw_adt, cw_ndt, cw_gmok, cw_geak, cw_glnk, cw_k0, cw_k6, cw_k7, cw_aowk, cw_aelk, cw_askk, cw_aslk, cw_nelk, cw_arok, cw_nrok, cw_awek, cw_nwek, cw_aplk, cw_nplk, cw_atxk, cw_ntxk, cw_ghwk, cw_gdpk, cw_galk, cw_gcok, cw_gfek, cw_h2, cw_h3, cw_h4, cw_h5, cw_h10, cw_grpk, cw_x0, cw_x1, cw_x2, cw_x5, cw_gtlk, cw_grfk, cw_ghsk, cw_padk, cw_pagk, cw_pmkk, cw_ppnk, cw_zpnk, cw_sfl, cw_sdt, cw_pmok, cw_peak, cw_plnk, cw_sowk, cw_selk, cw_sskk, cw_sslk, cw_srok, cw_swek, cw_splk, cw_palk, cw_pcok, cw_pfek, cw_prpk, cw_ptlk, cw_prfk, cw_phsk, cw_stxk, cw_ok3, cw_ok5, cw_okn, if_neg (show ¬ (200 : Int) ≤ (k : Int) by omega), hok, mt_s, h0]
      rfl)]
  rw [occ_sm hm]
  generalize hbf : sm m (m 1216).toNat = bf
  have hrow : (fun j : Int => if 0 ≤ j ∧ j < ((200 : Nat) : Int) then -1 else plk j) = PL9 (fun _ => -1) plk := rfl
  rw [hrow]
  rw [lpx_n (s' := .inr (J bf, J 0, J 0, (cput D (cel G adk nfk ndk pnk agk mkk flk dtk hwk dpk alk cok fek rpk rok wek (PL9 (fun _ => -1) plk) mok eak lnk cpk elk owk skk txk tlk rfk slk hsk) (pput p 0 0 sc hi9 0 0 σ)))) (by
    unfold s_X1_slide g_X1_slide_4
    dsimp only
    simp (disch := first | assumption | exact HU.lu (by assumption) | exact cw_okn | exact cw_ok3 (by assumption) | exact cw_ok5 (by assumption) | omega) only [J_add, J_sub, J_mul, J_neg, J_lit, J_lt, J_le, J_eq, Option.bind_some, Int.reduceAdd, Int.reduceSub, Int.reduceMul, Int.reduceNeg, Int.reduceEq, Int.reduceLT, Int.reduceLE, reduceIte, Int.zero_add, Int.add_zero, and_self, true_and, and_true, false_and, and_false, or_true, true_or, or_false, false_or, not_true_eq_false, not_false_eq_true, ne_eq, b2_s, cw_gadk, cw_gpnk, cw_gagk, cw_gmkk, cw_gfl, cw_gdt, cw_kth, cw_afl, cw_nfl, cw_adt, cw_ndt, cw_gmok, cw_geak, cw_glnk, cw_k0, cw_k6, cw_k7, cw_aowk, cw_aelk, cw_askk, cw_aslk, cw_nelk, cw_arok, cw_nrok, cw_awek, cw_nwek, cw_aplk, cw_nplk, cw_atxk, cw_ntxk, cw_ghwk, cw_gdpk, cw_galk, cw_gcok, cw_gfek, cw_h2, cw_h3, cw_h4, cw_h5, cw_h10, cw_grpk, cw_x0, cw_x1, cw_x2, cw_x5, cw_gtlk, cw_grfk, cw_ghsk, cw_padk, cw_pagk, cw_pmkk, cw_ppnk, cw_zpnk, cw_sfl, cw_sdt, cw_pmok, cw_peak, cw_plnk, cw_sowk, cw_selk, cw_sskk, cw_sslk, cw_srok, cw_swek, cw_splk, cw_palk, cw_pcok, cw_pfek, cw_prpk, cw_ptlk, cw_prfk, cw_phsk, cw_stxk, cw_ok3, cw_ok5, cw_okn, if_pos (show (200 : Int) ≤ ((200 : Nat) : Int) by omega)])]
  have hsl : slA m mkk = itr (fun k => slO m mkk (hd k)) lnk.toNat sl0 := itr_hd hm hhd l1 (slO m mkk) (fun a x _ _ a3 => if_neg (fun q => a3 q.1)) _
  -- what the machine has on its way, by the list
  have hinv : ∀ k : Nat, (k : Int) ≤ lnk → ∃ n : Int, 0 ≤ n ∧ (∀ i, (k : Int) ≤ i → i < lnk → n ≤ hd i) ∧ (∀ i, 0 ≤ i → i < (k : Int) → hd i < n) ∧ SI9 m mkk n (itr (fun k => slO m mkk (hd k)) k sl0) := by
    intro k
    induction k with
    | zero => exact fun _ => ⟨0, Int.le_refl _, fun i i1 i2 => (hhd.1 i (by omega) i2).1, fun i i1 i2 => by omega, ⟨Int.le_refl _, fun b b1 b2 b3 b4 => b1⟩, fun a ha h9 => by have := ha.1; omega, fun a b ha hb hab h9 => by have := hb.1; omega, fun j _ => rfl⟩
    | succ k ih =>
      intro hk9
      obtain ⟨n, n1, n2, n5, n3⟩ := ih (by omega)
      obtain ⟨d1, d2, d3⟩ := hhd.1 k (by omega) (by omega)
      have hE := hm.he _ d1 d2 d3
      have hnk := n2 k (by omega) (by omega)
      have n4 : SI9 m mkk (hd k) (itr (fun k => slO m mkk (hd k)) k sl0) := by
        obtain ⟨⟨q1, q2⟩, q3, q4, q5⟩ := n3
        have hno : ∀ a, lvO m mkk a → a < hd k → a < n := fun a ha h9 => by
          obtain ⟨j, j1, j2, j3⟩ := hhd.2.2 a ha.1 (by have := ha.2.1; omega) ha.2.2.1
          by_cases hjk : j < k
          · have := n5 j j1 hjk
            omega
          · by_cases hjk2 : j = k
            · rw [hjk2] at j3; omega
            · have := hhd.2.1 k j (by omega) (by omega) j2
              omega
        exact ⟨⟨q1, fun b b1 b2 b3 b4 => q2 b b1 b2 b3 (by omega)⟩, fun a ha h9 => q3 a ha (hno a ha h9), fun a b ha hb hab h9 => q4 a b ha hb hab (hno b hb h9), fun j hj => q5 j (fun a ha h9 => hj a ha (by omega))⟩
      refine ⟨hd k + 1, by omega, fun i i1 i2 => by have := hhd.2.1 k i (by omega) (by omega) i2; omega, fun i i1 i2 => ?_, ?_⟩
      · by_cases hik : i = k
        · rw [hik]; omega
        · have := hhd.2.1 i k i1 (by omega) (by omega)
          omega
      · rw [itr_s]
        exact slO_i hm n4 d1 (by omega)
  obtain ⟨s', e1, -, rfl⟩ := lpx_itr (f := s_X1_slide (G 3 6) p) (g := fun k => slO m mkk (hd k)) (fun k s z => s = itr (fun k => slO m mkk (hd k)) k sl0 ∧ z = .inr (J bf, J s.2.1, J k, (cput D (cel G adk nfk ndk pnk agk mkk flk dtk hwk dpk alk cok fek rpk rok wek (PL9 s.1 plk) mok eak lnk cpk elk owk skk txk tlk rfk slk hsk) (pput p s.2.2.1 s.2.2.2.1 sc hi9 s.2.2.2.2.1 s.2.2.2.2.2 σ)))) lnk.toNat (by
    rintro k s z hk9 ⟨hs, rfl⟩
    obtain ⟨d1, d2, d3⟩ := hhd.1 k (by omega) (by omega)
    obtain ⟨t1, t2, t3, t4, t5, t6, t7, t8⟩ := hk.th d1 d2 d3
    have hE := hm.he _ d1 d2 d3
    have hF9 := hm.hf _ d1 d2 d3
    have hpm := hm.hp _ d1 d2
    obtain ⟨n, n1, n2, n5, n3⟩ := hinv k (by omega)
    rw [← hs] at n3
    have hpl := n3.1
    have hpk := hpl.2 (hd k) d1 d2 d3 (n2 k (by omega) (by omega))
    refine ⟨_, ?_, by rw [itr_s, ← hs], rfl⟩
    have hlz : ∀ (P : Int → Int) (τ : mm_M), f_J2_size (G 3 0) (cput D (cel G adk nfk ndk pnk agk mkk flk dtk hwk dpk alk cok fek rpk rok wek P mok eak lnk cpk elk owk skk txk tlk rfk slk hsk) τ) = some (J lnk) := fun P τ => kc_lsize hg
    have hget : ∀ (P : Int → Int) (τ : mm_M), f_J2_get (G 3 0) (J k) (cput D (cel G adk nfk ndk pnk agk mkk flk dtk hwk dpk alk cok fek rpk rok wek P mok eak lnk cpk elk owk skk txk tlk rfk slk hsk) τ) = some (some (G 0 (hd k))) := fun P τ => kc_get hg hls (by omega) (by omega)
    have hsz9 : 1 + nfk (hd k) + ndk (hd k) = m (hd k) := by omega
    have hsz : ∀ (P : Int → Int) (τ : mm_M), f_X3_size (G 0 (hd k)) (cput D (cel G adk nfk ndk pnk agk mkk flk dtk hwk dpk alk cok fek rpk rok wek P mok eak lnk cpk elk owk skk txk tlk rfk slk hsk) τ) = some (J (m (hd k))) := fun P τ => by
      rw [← hsz9]
      exact kc_size t1 (by omega) (by omega)
    unfold slO
    rcases hF (hd k) d1 d2 with c | c
    · rw [if_neg (by omega)]
      refine lpx_n ?_
      unfold s_X1_slide g_X1_slide_46
      dsimp only
      simp (disch := first | assumption | exact HU.lu (by assumption) | exact cw_okn | exact cw_ok3 (by assumption) | exact cw_ok5 (by assumption) | omega) only [J_add, J_sub, J_mul, J_neg, J_lit, J_lt, J_le, J_eq, Option.bind_some, Int.reduceAdd, Int.reduceSub, Int.reduceMul, Int.reduceNeg, Int.reduceEq, Int.reduceLT, Int.reduceLE, reduceIte, Int.zero_add, Int.add_zero, and_self, true_and, and_true, false_and, and_false, or_true, true_or, or_false, false_or, not_true_eq_false, not_false_eq_true, ne_eq, b2_s, cw_gadk, cw_gpnk, cw_gagk, cw_gmkk, cw_gfl, cw_gdt, cw_kth, cw_afl, cw_nfl, cw_adt, cw_ndt, cw_gmok, cw_geak, cw_glnk, cw_k0, cw_k6, cw_k7, cw_aowk, cw_aelk, cw_askk, cw_aslk, cw_nelk, cw_arok, cw_nrok, cw_awek, cw_nwek, cw_aplk, cw_nplk, cw_atxk, cw_ntxk, cw_ghwk, cw_gdpk, cw_galk, cw_gcok, cw_gfek, cw_h2, cw_h3, cw_h4, cw_h5, cw_h10, cw_grpk, cw_x0, cw_x1, cw_x2, cw_x5, cw_gtlk, cw_grfk, cw_ghsk, cw_padk, cw_pagk, cw_pmkk, cw_ppnk, cw_zpnk, cw_sfl, cw_sdt, cw_pmok, cw_peak, cw_plnk, cw_sowk, cw_selk, cw_sskk, cw_sslk, cw_srok, cw_swek, cw_splk, cw_palk, cw_pcok, cw_pfek, cw_prpk, cw_ptlk, cw_prfk, cw_phsk, cw_stxk, cw_ok3, cw_ok5, cw_okn, hlz, hget, if_neg (show ¬ lnk ≤ (k : Int) by omega), c]
      rfl
    · rw [if_pos ⟨d3, c⟩]
      have hto : 0 ≤ toO m s.2.1 (hd k) ∧ toO m s.2.1 (hd k) ≤ 200 := by
        unfold toO
        split <;> omega
      have hnote := kc_note (to := toO m s.2.1 (hd k)) (w := s.1) (x0 := s.2.2.1) (x1 := s.2.2.2.1) (x2 := sc) (x3 := hi9) (x4 := s.2.2.2.2.1) (x5 := s.2.2.2.2.2) (σ := σ) (adk := adk) (nfk := nfk) (ndk := ndk) (pnk := pnk) (agk := agk) (mkk := mkk) (flk := flk) (dtk := dtk) (hwk := hwk) (dpk := dpk) (alk := alk) (cok := cok) (fek := fek) (rpk := rpk) (rok := rok) (wek := wek) (plk := plk) (owk := owk) (skk := skk) (txk := txk) (tlk := tlk) (rfk := rfk) (slk := slk) (hsk := hsk) (mok := mok) (eak := eak) (lnk := lnk) (cpk := cpk) (elk := elk) hg hp t1 t2 (by omega) (by omega) d1 (by omega) hto.1 hto.2
      rw [hsz9] at hnote
      refine lpx_n ?_
      unfold s_X1_slide g_X1_slide_46 g_X1_slide_97
      dsimp only
      unfold toO at hnote ⊢
      by_cases c4 : m (400 + hd k) = 1
      · rw [if_pos c4] at hnote ⊢
        simp (disch := first | assumption | exact HU.lu (by assumption) | exact cw_okn | exact cw_ok3 (by assumption) | exact cw_ok5 (by assumption) | omega) only [J_add, J_sub, J_mul, J_neg, J_lit, J_lt, J_le, J_eq, Option.bind_some, Int.reduceAdd, Int.reduceSub, Int.reduceMul, Int.reduceNeg, Int.reduceEq, Int.reduceLT, Int.reduceLE, reduceIte, Int.zero_add, Int.add_zero, and_self, true_and, and_true, false_and, and_false, or_true, true_or, or_false, false_or, not_true_eq_false, not_false_eq_true, ne_eq, b2_s, cw_gadk, cw_gpnk, cw_gagk, cw_gmkk, cw_gfl, cw_gdt, cw_kth, cw_afl, cw_nfl, cw_adt, cw_ndt, cw_gmok, cw_geak, cw_glnk, cw_k0, cw_k6, cw_k7, cw_aowk, cw_aelk, cw_askk, cw_aslk, cw_nelk, cw_arok, cw_nrok, cw_awek, cw_nwek, cw_aplk, cw_nplk, cw_atxk, cw_ntxk, cw_ghwk, cw_gdpk, cw_galk, cw_gcok, cw_gfek, cw_h2, cw_h3, cw_h4, cw_h5, cw_h10, cw_grpk, cw_x0, cw_x1, cw_x2, cw_x5, cw_gtlk, cw_grfk, cw_ghsk, cw_padk, cw_pagk, cw_pmkk, cw_ppnk, cw_zpnk, cw_sfl, cw_sdt, cw_pmok, cw_peak, cw_plnk, cw_sowk, cw_selk, cw_sskk, cw_sslk, cw_srok, cw_swek, cw_splk, cw_palk, cw_pcok, cw_pfek, cw_prpk, cw_ptlk, cw_prfk, cw_phsk, cw_stxk, cw_ok3, cw_ok5, cw_okn, hlz, hget, if_neg (show ¬ lnk ≤ (k : Int) by omega), c, t5, c4, t2, hsz, hnote]
        rfl
      · rw [if_neg c4] at hnote ⊢
        have c5 : m (400 + hd k) = 0 := by omega
        simp (disch := first | assumption | exact HU.lu (by assumption) | exact cw_okn | exact cw_ok3 (by assumption) | exact cw_ok5 (by assumption) | omega) only [J_add, J_sub, J_mul, J_neg, J_lit, J_lt, J_le, J_eq, Option.bind_some, Int.reduceAdd, Int.reduceSub, Int.reduceMul, Int.reduceNeg, Int.reduceEq, Int.reduceLT, Int.reduceLE, reduceIte, Int.zero_add, Int.add_zero, and_self, true_and, and_true, false_and, and_false, or_true, true_or, or_false, false_or, not_true_eq_false, not_false_eq_true, ne_eq, b2_s, cw_gadk, cw_gpnk, cw_gagk, cw_gmkk, cw_gfl, cw_gdt, cw_kth, cw_afl, cw_nfl, cw_adt, cw_ndt, cw_gmok, cw_geak, cw_glnk, cw_k0, cw_k6, cw_k7, cw_aowk, cw_aelk, cw_askk, cw_aslk, cw_nelk, cw_arok, cw_nrok, cw_awek, cw_nwek, cw_aplk, cw_nplk, cw_atxk, cw_ntxk, cw_ghwk, cw_gdpk, cw_galk, cw_gcok, cw_gfek, cw_h2, cw_h3, cw_h4, cw_h5, cw_h10, cw_grpk, cw_x0, cw_x1, cw_x2, cw_x5, cw_gtlk, cw_grfk, cw_ghsk, cw_padk, cw_pagk, cw_pmkk, cw_ppnk, cw_zpnk, cw_sfl, cw_sdt, cw_pmok, cw_peak, cw_plnk, cw_sowk, cw_selk, cw_sskk, cw_sslk, cw_srok, cw_swek, cw_splk, cw_palk, cw_pcok, cw_pfek, cw_prpk, cw_ptlk, cw_prfk, cw_phsk, cw_stxk, cw_ok3, cw_ok5, cw_okn, hlz, hget, if_neg (show ¬ lnk ≤ (k : Int) by omega), c, t5, c5, hsz, hnote]
        rfl) sl0 (.inr (J bf, J 0, J 0, (cput D (cel G adk nfk ndk pnk agk mkk flk dtk hwk dpk alk cok fek rpk rok wek (PL9 (fun _ => -1) plk) mok eak lnk cpk elk owk skk txk tlk rfk slk hsk) (pput p 0 0 sc hi9 0 0 σ)))) ⟨rfl, rfl⟩
  rw [e1, ← hsl]
  obtain ⟨hd', ln', el', mo', AD, AG, FL, q1, q2, q3⟩ := kc_settle (σ := pput p (slA m mkk).2.2.1 (slA m mkk).2.2.2.1 sc hi9 (slA m mkk).2.2.2.2.1 (slA m mkk).2.2.2.2.2 σ) hg hm hk hF (w := (slA m mkk).1)
  have hV0 := q2
  obtain ⟨⟨v1, v2⟩, v3, v4, v5, v6, v7⟩ := q2
  have hd9 : ∀ i, 0 ≤ i → i < ln' → lvO m mkk (hd' i) ∧ TH D G (hd' i) := fun i i1 i2 => by
    obtain ⟨j, j1, j2, j3, j4⟩ := v4 i (by omega) i2
    obtain ⟨d1, d2, d3⟩ := hhd.1 j (by omega) j2
    have hE := hm.he _ d1 d2 d3
    rw [j3]
    exact ⟨⟨d1, by omega, d3, j4⟩, (l6 j (by omega) j2).2⟩
  have hsz9 : ∀ i, 0 ≤ i → i < ln' → 1 + nfk (hd' i) + ndk (hd' i) = m (hd' i) ∧ 0 ≤ nfk (hd' i) ∧ 0 ≤ ndk (hd' i) := fun i i1 i2 => by
    have hl := (hd9 i i1 i2).1
    have h200 := (lv_w hm hl).2.2.2.2.2
    obtain ⟨-, -, t3, t4, -⟩ := hk.th hl.1 h200 hl.2.2.1
    have := hm.hf _ hl.1 h200 hl.2.2.1
    omega
  obtain ⟨OW, r1, r2⟩ := kc_occupy (σ := pput p (slA m mkk).2.2.1 (slA m mkk).2.2.2.1 sc hi9 (slA m mkk).2.2.2.2.1 (slA m mkk).2.2.2.2.2 σ) (plk := PL9 (slA m mkk).1 plk) (mok := mo') (elk := el') (lnk := ln') (adk := AD) (agk := AG) (flk := FL) (rok := cr9 (slA m mkk).1 6 rok) (wek := cr9 (slA m mkk).1 4 wek) (nfk := nfk) (ndk := ndk) (pnk := pnk) (mkk := mkk) (dtk := dtk) (hwk := hwk) (dpk := dpk) (alk := alk) (cok := cok) (fek := fek) (rpk := rpk) (eak := eak) (cpk := cpk) (owk := owk) (skk := skk) (txk := txk) (tlk := tlk) (rfk := rfk) (slk := slk) (hsk := hsk) (W := 0) (hd' := hd') hg (by omega) (by omega) l4 (fun q => l5 (by omega)) (fun k k1 k2 => ⟨v7 k k1 k2, (hd9 k k1 k2).2⟩) (fun k k1 k2 => by
    have hl := (hd9 k k1 k2).1
    obtain ⟨c1, c2, c3, c4, c5, c6⟩ := lv_w hm hl
    obtain ⟨z1, z2, z3⟩ := hsz9 k k1 k2
    rw [(q3 k k1 k2).1, z1]
    exact ⟨z2, z3, c1, by omega⟩)
  refine ⟨hd', ln', el', mo', AD, AG, FL, OW, ?_, hV0, q3, fun j j1 j2 => ?_⟩
  · refine lpx_d ?_
    have hlz : ∀ (P : Int → Int) (τ : mm_M), f_J2_size (G 3 0) (cput D (cel G adk nfk ndk pnk agk mkk flk dtk hwk dpk alk cok fek rpk rok wek P mok eak lnk cpk elk owk skk txk tlk rfk slk hsk) τ) = some (J lnk) := fun P τ => kc_lsize hg
    unfold s_X1_slide g_X1_slide_46
    dsimp only
    simp (disch := first | assumption | exact HU.lu (by assumption) | exact cw_okn | exact cw_ok3 (by assumption) | exact cw_ok5 (by assumption) | omega) only [J_add, J_sub, J_mul, J_neg, J_lit, J_lt, J_le, J_eq, Option.bind_some, Int.reduceAdd, Int.reduceSub, Int.reduceMul, Int.reduceNeg, Int.reduceEq, Int.reduceLT, Int.reduceLE, reduceIte, Int.zero_add, Int.add_zero, and_self, true_and, and_true, false_and, and_false, or_true, true_or, or_false, false_or, not_true_eq_false, not_false_eq_true, ne_eq, b2_s, cw_gadk, cw_gpnk, cw_gagk, cw_gmkk, cw_gfl, cw_gdt, cw_kth, cw_afl, cw_nfl, cw_adt, cw_ndt, cw_gmok, cw_geak, cw_glnk, cw_k0, cw_k6, cw_k7, cw_aowk, cw_aelk, cw_askk, cw_aslk, cw_nelk, cw_arok, cw_nrok, cw_awek, cw_nwek, cw_aplk, cw_nplk, cw_atxk, cw_ntxk, cw_ghwk, cw_gdpk, cw_galk, cw_gcok, cw_gfek, cw_h2, cw_h3, cw_h4, cw_h5, cw_h10, cw_grpk, cw_x0, cw_x1, cw_x2, cw_x5, cw_gtlk, cw_grfk, cw_ghsk, cw_padk, cw_pagk, cw_pmkk, cw_ppnk, cw_zpnk, cw_sfl, cw_sdt, cw_pmok, cw_peak, cw_plnk, cw_sowk, cw_selk, cw_sskk, cw_sslk, cw_srok, cw_swek, cw_splk, cw_palk, cw_pcok, cw_pfek, cw_prpk, cw_ptlk, cw_prfk, cw_phsk, cw_stxk, cw_ok3, cw_ok5, cw_okn, hlz, if_pos (show lnk ≤ (lnk.toNat : Int) by omega), q1, r1, pw_g1 hp]
  · rcases r2 j j1 j2 with ⟨i, i1, i2, i3, i4⟩ | ⟨z1, z2⟩
    · rw [(q3 i i1 i2).1, (hsz9 i i1 i2).1] at i3
      exact Or.inl ⟨i, i1, i2, i3, i4⟩
    · refine Or.inr ⟨fun i i1 i2 => ?_, z2⟩
      have := z1 i i1 i2
      rw [(q3 i i1 i2).1, (hsz9 i i1 i2).1] at this
      exact this
end T1
