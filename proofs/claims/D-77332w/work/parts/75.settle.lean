/-! PLAIN LAW: the component collects: settle, occupy. NAMES: LV9 kc_ -/
set_option maxRecDepth 100000
/-- the list, while what isn't marked leaves it from behind: those above k are through -/
def LV9 (G : Int → Int → Nat) (F hd : Int → Int) (lnk k : Int) (hd' : Int → Int) (ln' : Int) (el' : Nat → Option Nat) : Prop := (k + 1 ≤ ln' ∧ ln' ≤ lnk) ∧ (∀ i, 0 ≤ i → i ≤ k → hd' i = hd i) ∧ (∀ i, k < i → i < ln' → ∃ j, k < j ∧ j < lnk ∧ hd' i = hd j ∧ F (hd j) = 1) ∧ (∀ i j, 0 ≤ i → i < j → j < ln' → hd' i < hd' j) ∧ (∀ j, k < j → j < lnk → F (hd j) = 1 → ∃ i, k < i ∧ i < ln' ∧ hd' i = hd j) ∧ ∀ i, 0 ≤ i → i < ln' → el' i.toNat = some (G 0 (hd' i))
section T1
variable {m hd : Int → Int} {adk nfk ndk pnk agk mkk rok wek plk txk : Int → Int} {flk dtk : Int → Int → Int} {hwk dpk alk cok fek lnk tlk rfk : Int} {rpk : Option Nat} {mok : Int32} {eak cpk : Nat} {elk owk skk slk : Nat → Option Nat} {hsk : Int64} {D : Nat → Int × Int} {G : Int → Int → Nat} {σ : mm_M} {p : Nat}
theorem kl_removeE (hL : LU D G) (e1 : eak = G 3 2) (e2 : GU D G 3 2) (l2 : lnk ≤ 200) (l3 : lnk ≤ cpk) (l4 : cpk ≤ 250) (hok : ∀ i : Nat, (i : Int) < lnk → okR (cput D (cel G adk nfk ndk pnk agk mkk flk dtk hwk dpk alk cok fek rpk rok wek plk mok eak lnk cpk elk owk skk txk tlk rfk slk hsk) σ) 5 (elk i) = true) {k : Int} (k1 : 0 ≤ k) (k2 : k < lnk) : ∃ el', f_J2_remove (G 3 0) (J k) (cput D (cel G adk nfk ndk pnk agk mkk flk dtk hwk dpk alk cok fek rpk rok wek plk mok eak lnk cpk elk owk skk txk tlk rfk slk hsk) σ) = some (elk k.toNat, (cput D (cel G adk nfk ndk pnk agk mkk flk dtk hwk dpk alk cok fek rpk rok wek plk (mok + J 1) eak (lnk - 1) cpk el' owk skk txk tlk rfk slk hsk) σ)) ∧ ∀ i : Int, 0 ≤ i → i < lnk - 1 → el' i.toNat = if i < k then elk i.toNat else elk (i + 1).toNat := by
  subst e1
  exact kl_remove hL e2 l2 l3 l4 hok k1 k2
set_option maxHeartbeats 1000000 in
theorem kc_settle1 (hg : HU D G) (hls : LSK D G eak lnk cpk elk hd) (hhd : HDS m hd lnk) (hF : ∀ b, 0 ≤ b → b < 200 → mkk b = 0 ∨ mkk b = 1) : ∃ (hd' : Int → Int) (ln' : Int) (el' : Nat → Option Nat) (mo' : Int32), lgo (s_X1_settle (G 3 6)) (g_X1_settle_0 (G 3 6) (cput D (cel G adk nfk ndk pnk agk mkk flk dtk hwk dpk alk cok fek rpk rok wek plk mok eak lnk cpk elk owk skk txk tlk rfk slk hsk) σ)) = lpx (s_X1_settle (G 3 6)) (.inr (J 0, (cput D (cel G adk nfk ndk pnk agk mkk flk dtk hwk dpk alk cok fek rpk rok wek plk mo' eak ln' cpk el' owk skk txk tlk rfk slk hsk) σ))) ∧ LV9 G mkk hd lnk (-1) hd' ln' el' := by
  have hls0 := hls
  obtain ⟨⟨l1, l2, l3, l4⟩, l5, l6⟩ := hls0
  have h0 : g_X1_settle_0 (G 3 6) (cput D (cel G adk nfk ndk pnk agk mkk flk dtk hwk dpk alk cok fek rpk rok wek plk mok eak lnk cpk elk owk skk txk tlk rfk slk hsk) σ) = some (.inl (.inl (J (lnk - 1), (cput D (cel G adk nfk ndk pnk agk mkk flk dtk hwk dpk alk cok fek rpk rok wek plk mok eak lnk cpk elk owk skk txk tlk rfk slk hsk) σ)))) := by
    unfold g_X1_settle_0
    simp (disch := first | assumption | exact HU.lu (by assumption) | exact cw_okn | exact cw_ok3 (by assumption) | exact cw_ok5 (by assumption) | omega) only [J_add, J_sub, J_mul, J_neg, J_lit, J_lt, J_le, J_eq, Option.bind_some, Int.reduceAdd, Int.reduceSub, Int.reduceMul, Int.reduceNeg, Int.reduceEq, Int.reduceLT, Int.reduceLE, reduceIte, Int.zero_add, Int.add_zero, and_self, true_and, and_true, false_and, and_false, or_true, true_or, or_false, false_or, not_true_eq_false, not_false_eq_true, ne_eq, b2_s, cw_gadk, cw_gpnk, cw_gagk, cw_gmkk, cw_gfl, cw_gdt, cw_kth, cw_afl, cw_nfl, cw_adt, cw_ndt, cw_gmok, cw_geak, cw_glnk, cw_k0, cw_k6, cw_k7, cw_aowk, cw_aelk, cw_askk, cw_aslk, cw_nelk, cw_arok, cw_nrok, cw_awek, cw_nwek, cw_aplk, cw_nplk, cw_atxk, cw_ntxk, cw_ghwk, cw_gdpk, cw_galk, cw_gcok, cw_gfek, cw_h2, cw_h3, cw_h4, cw_h5, cw_h10, cw_grpk, cw_x0, cw_x1, cw_x2, cw_x5, cw_gtlk, cw_grfk, cw_ghsk, cw_padk, cw_pagk, cw_pmkk, cw_ppnk, cw_zpnk, cw_sfl, cw_sdt, cw_pmok, cw_peak, cw_plnk, cw_sowk, cw_selk, cw_sskk, cw_sslk, cw_srok, cw_swek, cw_splk, cw_palk, cw_pcok, cw_pfek, cw_prpk, cw_ptlk, cw_prfk, cw_phsk, cw_stxk, cw_ok3, cw_ok5, cw_okn, kc_lsize hg]
  rw [h0, lgo_l]
  have hstart : LV9 G mkk hd lnk (lnk - 1) hd lnk elk := ⟨⟨by omega, by omega⟩, fun i _ _ => rfl, fun i i1 i2 => by omega, fun i j i1 i2 i3 => hhd.2.1 i j i1 i2 i3, fun j j1 j2 => by omega, fun i i1 i2 => (l6 i i1 i2).1⟩
  obtain ⟨s', h1, hd', ln', el', mo', hV, rfl⟩ := lpx_itr (X := Unit) (f := s_X1_settle (G 3 6)) (g := fun _ _ => ()) (fun n _ s => ∃ (hd' : Int → Int) (ln' : Int) (el' : Nat → Option Nat) (mo' : Int32), LV9 G mkk hd lnk (lnk - 1 - n) hd' ln' el' ∧ s = .inl (J (lnk - 1 - n), (cput D (cel G adk nfk ndk pnk agk mkk flk dtk hwk dpk alk cok fek rpk rok wek plk mo' eak ln' cpk el' owk skk txk tlk rfk slk hsk) σ))) lnk.toNat (by
    rintro n _ s hn ⟨hd', ln', el', mo', hV, rfl⟩
    obtain ⟨⟨v1, v2⟩, v3, v4, v5, v6, v7⟩ := hV
    have hnn : (((n + 1 : Nat)) : Int) = n + 1 := by omega
    rw [hnn, show lnk - 1 - ((n : Int) + 1) = lnk - 1 - n - 1 by omega]
    generalize hke : lnk - 1 - (n : Int) = k at v1 v3 v4 v6 ⊢
    have hk0 : 0 ≤ k ∧ k < lnk := by omega
    obtain ⟨e1, e2⟩ := l5 (by omega)
    obtain ⟨d1, d2, d3⟩ := hhd.1 k hk0.1 hk0.2
    obtain ⟨-, t1⟩ := l6 k hk0.1 hk0.2
    have hek := v7 k hk0.1 (by omega)
    rw [v3 k hk0.1 (by omega)] at hek
    have hget : f_J2_get (G 3 0) (J k) (cput D (cel G adk nfk ndk pnk agk mkk flk dtk hwk dpk alk cok fek rpk rok wek plk mo' eak ln' cpk el' owk skk txk tlk rfk slk hsk) σ) = some (some (G 0 (hd k))) := kl_get hg.lu hk0.1 (by omega) (by omega) l4 e1 e2 hek
    rcases hF (hd k) d1 d2 with c | c
    · -- it leaves
      have hok : ∀ i : Nat, (i : Int) < ln' → okR (cput D (cel G adk nfk ndk pnk agk mkk flk dtk hwk dpk alk cok fek rpk rok wek plk mo' eak ln' cpk el' owk skk txk tlk rfk slk hsk) σ) 5 (el' i) = true := fun i hi => by
        have e9 := v7 i (by omega) hi
        rw [show ((i : Int)).toNat = i by omega] at e9
        have hth : TH D G (hd' i) := by
          by_cases hik : (i : Int) ≤ k
          · rw [v3 i (by omega) hik]
            exact (l6 i (by omega) (by omega)).2
          · obtain ⟨j, j1, j2, j3, j4⟩ := v4 i (by omega) hi
            rw [j3]
            exact (l6 j (by omega) j2).2
        rw [e9]
        exact cw_ok5 hth
      obtain ⟨el2, r1, r2⟩ := kl_removeE (mok := mo') (elk := el') (lnk := ln') (adk := adk) (nfk := nfk) (ndk := ndk) (pnk := pnk) (agk := agk) (mkk := mkk) (flk := flk) (dtk := dtk) (hwk := hwk) (dpk := dpk) (alk := alk) (cok := cok) (fek := fek) (rpk := rpk) (rok := rok) (wek := wek) (plk := plk) (owk := owk) (skk := skk) (txk := txk) (tlk := tlk) (rfk := rfk) (slk := slk) (hsk := hsk) hg.lu e1 e2 (by omega) (by omega) l4 hok hk0.1 (show k < ln' by omega)
      refine ⟨.inl (J (k - 1), (cput D (cel G adk nfk ndk pnk agk mkk flk dtk hwk dpk alk cok fek rpk rok wek plk (mo' + J 1) eak (ln' - 1) cpk el2 owk skk txk tlk rfk slk hsk) σ)), ?_, fun i => if i < k then hd' i else hd' (i + 1), ln' - 1, el2, mo' + J 1, ⟨⟨by omega, by omega⟩, fun i i1 i2 => ?_, fun i i1 i2 => ?_, fun i j i1 i2 i3 => ?_, fun j j1 j2 j3 => ?_, fun i i1 i2 => ?_⟩, rfl⟩
      · refine lpx_n ?_
        unfold s_X1_settle g_X1_settle_10
        dsimp only
        simp (disch := first | assumption | exact HU.lu (by assumption) | exact cw_okn | exact cw_ok3 (by assumption) | exact cw_ok5 (by assumption) | omega) only [J_add, J_sub, J_mul, J_neg, J_lit, J_lt, J_le, J_eq, Option.bind_some, Int.reduceAdd, Int.reduceSub, Int.reduceMul, Int.reduceNeg, Int.reduceEq, Int.reduceLT, Int.reduceLE, reduceIte, Int.zero_add, Int.add_zero, and_self, true_and, and_true, false_and, and_false, or_true, true_or, or_false, false_or, not_true_eq_false, not_false_eq_true, ne_eq, b2_s, cw_gadk, cw_gpnk, cw_gagk, cw_gmkk, cw_gfl, cw_gdt, cw_kth, cw_afl, cw_nfl, cw_adt, cw_ndt, cw_gmok, cw_geak, cw_glnk, cw_k0, cw_k6, cw_k7, cw_aowk, cw_aelk, cw_askk, cw_aslk, cw_nelk, cw_arok, cw_nrok, cw_awek, cw_nwek, cw_aplk, cw_nplk, cw_atxk, cw_ntxk, cw_ghwk, cw_gdpk, cw_galk, cw_gcok, cw_gfek, cw_h2, cw_h3, cw_h4, cw_h5, cw_h10, cw_grpk, cw_x0, cw_x1, cw_x2, cw_x5, cw_gtlk, cw_grfk, cw_ghsk, cw_padk, cw_pagk, cw_pmkk, cw_ppnk, cw_zpnk, cw_sfl, cw_sdt, cw_pmok, cw_peak, cw_plnk, cw_sowk, cw_selk, cw_sskk, cw_sslk, cw_srok, cw_swek, cw_splk, cw_palk, cw_pcok, cw_pfek, cw_prpk, cw_ptlk, cw_prfk, cw_phsk, cw_stxk, cw_ok3, cw_ok5, cw_okn, if_neg (show ¬ k < 0 by omega), hget, c, r1]
        rfl
      · dsimp only
        rw [if_pos (by omega)]
        exact v3 i i1 (by omega)
      · dsimp only
        rw [if_neg (by omega)]
        obtain ⟨j, j1, j2, j3, j4⟩ := v4 (i + 1) (by omega) (by omega)
        exact ⟨j, by omega, j2, j3, j4⟩
      · dsimp only
        split
        · split
          · exact v5 _ _ i1 i2 (by omega)
          · exact v5 _ _ i1 (by omega) (by omega)
        · rw [if_neg (by omega)]
          exact v5 _ _ (by omega) (by omega) (by omega)
      · by_cases hjk : j = k
        · rw [hjk, c] at j3
          omega
        · obtain ⟨i, i1, i2, i3⟩ := v6 j (by omega) j2 j3
          refine ⟨i - 1, by omega, by omega, ?_⟩
          dsimp only
          rw [if_neg (by omega), show i - 1 + 1 = i by omega]
          exact i3
      · rw [r2 i i1 i2]
        dsimp only
        by_cases hik : i < k
        · rw [if_pos hik, if_pos hik]
          exact v7 i i1 (by omega)
        · rw [if_neg hik, if_neg hik]
          exact v7 (i + 1) (by omega) (by omega)
    · refine ⟨.inl (J (k - 1), (cput D (cel G adk nfk ndk pnk agk mkk flk dtk hwk dpk alk cok fek rpk rok wek plk mo' eak ln' cpk el' owk skk txk tlk rfk slk hsk) σ)), ?_, hd', ln', el', mo', ⟨⟨by omega, by omega⟩, fun i i1 i2 => v3 i i1 (by omega), fun i i1 i2 => ?_, v5, fun j j1 j2 j3 => ?_, v7⟩, rfl⟩
      · refine lpx_n ?_
        unfold s_X1_settle g_X1_settle_10
        dsimp only
        simp (disch := first | assumption | exact HU.lu (by assumption) | exact cw_okn | exact cw_ok3 (by assumption) | exact cw_ok5 (by assumption) | omega) only [J_add, J_sub, J_mul, J_neg, J_lit, J_lt, J_le, J_eq, Option.bind_some, Int.reduceAdd, Int.reduceSub, Int.reduceMul, Int.reduceNeg, Int.reduceEq, Int.reduceLT, Int.reduceLE, reduceIte, Int.zero_add, Int.add_zero, and_self, true_and, and_true, false_and, and_false, or_true, true_or, or_false, false_or, not_true_eq_false, not_false_eq_true, ne_eq, b2_s, cw_gadk, cw_gpnk, cw_gagk, cw_gmkk, cw_gfl, cw_gdt, cw_kth, cw_afl, cw_nfl, cw_adt, cw_ndt, cw_gmok, cw_geak, cw_glnk, cw_k0, cw_k6, cw_k7, cw_aowk, cw_aelk, cw_askk, cw_aslk, cw_nelk, cw_arok, cw_nrok, cw_awek, cw_nwek, cw_aplk, cw_nplk, cw_atxk, cw_ntxk, cw_ghwk, cw_gdpk, cw_galk, cw_gcok, cw_gfek, cw_h2, cw_h3, cw_h4, cw_h5, cw_h10, cw_grpk, cw_x0, cw_x1, cw_x2, cw_x5, cw_gtlk, cw_grfk, cw_ghsk, cw_padk, cw_pagk, cw_pmkk, cw_ppnk, cw_zpnk, cw_sfl, cw_sdt, cw_pmok, cw_peak, cw_plnk, cw_sowk, cw_selk, cw_sskk, cw_sslk, cw_srok, cw_swek, cw_splk, cw_palk, cw_pcok, cw_pfek, cw_prpk, cw_ptlk, cw_prfk, cw_phsk, cw_stxk, cw_ok3, cw_ok5, cw_okn, if_neg (show ¬ k < 0 by omega), hget, c]
        rfl
      · by_cases hik : i = k
        · exact ⟨k, by omega, hk0.2, by rw [hik]; exact v3 k hk0.1 (by omega), c⟩
        · obtain ⟨j, j1, j2, j3, j4⟩ := v4 i (by omega) i2
          exact ⟨j, by omega, j2, j3, j4⟩
      · by_cases hjk : j = k
        · exact ⟨k, by omega, by omega, by rw [hjk]; exact v3 k hk0.1 (by omega)⟩
        · obtain ⟨i, i1, i2, i3⟩ := v6 j (by omega) j2 j3
          exact ⟨i, by omega, i2, i3⟩) () (.inl (J (lnk - 1), (cput D (cel G adk nfk ndk pnk agk mkk flk dtk hwk dpk alk cok fek rpk rok wek plk mok eak lnk cpk elk owk skk txk tlk rfk slk hsk) σ))) ⟨hd, lnk, elk, mok, by simpa using hstart, by simp⟩
  rw [show lnk - 1 - (lnk.toNat : Int) = -1 by omega] at hV h1
  refine ⟨hd', ln', el', mo', ?_, hV⟩
  rw [h1]
  refine lpx_n ?_
  unfold s_X1_settle g_X1_settle_10
  dsimp only
  simp (disch := first | assumption | exact HU.lu (by assumption) | exact cw_okn | exact cw_ok3 (by assumption) | exact cw_ok5 (by assumption) | omega) only [J_add, J_sub, J_mul, J_neg, J_lit, J_lt, J_le, J_eq, Option.bind_some, Int.reduceAdd, Int.reduceSub, Int.reduceMul, Int.reduceNeg, Int.reduceEq, Int.reduceLT, Int.reduceLE, reduceIte, Int.zero_add, Int.add_zero, and_self, true_and, and_true, false_and, and_false, or_true, true_or, or_false, false_or, not_true_eq_false, not_false_eq_true, ne_eq, b2_s, cw_gadk, cw_gpnk, cw_gagk, cw_gmkk, cw_gfl, cw_gdt, cw_kth, cw_afl, cw_nfl, cw_adt, cw_ndt, cw_gmok, cw_geak, cw_glnk, cw_k0, cw_k6, cw_k7, cw_aowk, cw_aelk, cw_askk, cw_aslk, cw_nelk, cw_arok, cw_nrok, cw_awek, cw_nwek, cw_aplk, cw_nplk, cw_atxk, cw_ntxk, cw_ghwk, cw_gdpk, cw_galk, cw_gcok, cw_gfek, cw_h2, cw_h3, cw_h4, cw_h5, cw_h10, cw_grpk, cw_x0, cw_x1, cw_x2, cw_x5, cw_gtlk, cw_grfk, cw_ghsk, cw_padk, cw_pagk, cw_pmkk, cw_ppnk, cw_zpnk, cw_sfl, cw_sdt, cw_pmok, cw_peak, cw_plnk, cw_sowk, cw_selk, cw_sskk, cw_sslk, cw_srok, cw_swek, cw_splk, cw_palk, cw_pcok, cw_pfek, cw_prpk, cw_ptlk, cw_prfk, cw_phsk, cw_stxk, cw_ok3, cw_ok5, cw_okn, if_pos (show (-1 : Int) < 0 by omega)]
set_option maxHeartbeats 1000000 in
theorem kc_settle (hg : HU D G) (hm : WF m) (hk : (KM m hd D G adk nfk ndk pnk agk mkk flk dtk hwk dpk alk cok fek rpk rok wek plk mok eak lnk cpk elk owk skk txk tlk rfk slk hsk)) (hF : ∀ b, 0 ≤ b → b < 200 → mkk b = 0 ∨ mkk b = 1) {w : Int → Int} : ∃ (hd' : Int → Int) (ln' : Int) (el' : Nat → Option Nat) (mo' : Int32) (AD AG : Int → Int) (FL : Int → Int → Int), f_X1_settle (G 3 6) (cput D (cel G adk nfk ndk pnk agk mkk flk dtk hwk dpk alk cok fek rpk rok wek (PL9 w plk) mok eak lnk cpk elk owk skk txk tlk rfk slk hsk) σ) = some (cput D (cel G AD nfk ndk pnk AG mkk FL dtk hwk dpk alk cok fek rpk (cr9 w 6 rok) (cr9 w 4 wek) (PL9 w plk) mo' eak ln' cpk el' owk skk txk tlk rfk slk hsk) σ) ∧ LV9 G mkk hd lnk (-1) hd' ln' el' ∧ ∀ i, 0 ≤ i → i < ln' → AD (hd' i) = w (hd' i) ∧ AG (hd' i) = m (600 + hd' i) + 1 ∧ ∀ j, 0 ≤ j → j < m (200 + hd' i) → FL (hd' i) j = goA w (m (800 + hd' i + 1 + j)) := by
  have hls := hk.ls
  have hhd := hk.hs
  have hls0 := hls
  obtain ⟨⟨l1, l2, l3, l4⟩, l5, l6⟩ := hls0
  obtain ⟨hd', ln', el', mo', h1, hV⟩ := kc_settle1 (σ := σ) (plk := PL9 w plk) (adk := adk) (nfk := nfk) (ndk := ndk) (pnk := pnk) (agk := agk) (flk := flk) (dtk := dtk) (hwk := hwk) (dpk := dpk) (alk := alk) (cok := cok) (fek := fek) (rpk := rpk) (rok := rok) (wek := wek) (mok := mok) (owk := owk) (skk := skk) (txk := txk) (tlk := tlk) (rfk := rfk) (slk := slk) (hsk := hsk) hg hls hhd hF
  have hV0 := hV
  obtain ⟨⟨v1, v2⟩, v3, v4, v5, v6, v7⟩ := hV
  have hd9 : ∀ i, 0 ≤ i → i < ln' → 0 ≤ hd' i ∧ hd' i < 200 ∧ 0 < m (hd' i) ∧ TH D G (hd' i) := fun i i1 i2 => by
    obtain ⟨j, j1, j2, j3, -⟩ := v4 i (by omega) i2
    obtain ⟨d1, d2, d3⟩ := hhd.1 j (by omega) j2
    rw [j3]
    exact ⟨d1, d2, d3, (l6 j (by omega) j2).2⟩
  have hinj : ∀ i j, 0 ≤ i → i < ln' → 0 ≤ j → j < ln' → hd' i = hd' j → i = j := fun i j i1 i2 j1 j2 q => by
    rcases Int.lt_trichotomy i j with z | z | z
    · have := v5 i j i1 z j2; omega
    · exact z
    · have := v5 j i j1 z i2; omega
  unfold f_X1_settle
  rw [h1]
  obtain ⟨s', e1, AD, AG, FL, r1, r2, rfl⟩ := lpx_itr (X := Unit) (f := s_X1_settle (G 3 6)) (g := fun _ _ => ()) (fun n _ s => ∃ (AD AG : Int → Int) (FL : Int → Int → Int), (∀ i : Int, 0 ≤ i → i < n → AD (hd' i) = w (hd' i) ∧ AG (hd' i) = m (600 + hd' i) + 1 ∧ ∀ j, 0 ≤ j → j < m (200 + hd' i) → FL (hd' i) j = goA w (m (800 + hd' i + 1 + j))) ∧ (∀ a, (∀ i : Int, 0 ≤ i → i < n → hd' i ≠ a) → AD a = adk a ∧ AG a = agk a ∧ FL a = flk a) ∧ s = .inr (J n, (cput D (cel G AD nfk ndk pnk AG mkk FL dtk hwk dpk alk cok fek rpk rok wek (PL9 w plk) mo' eak ln' cpk el' owk skk txk tlk rfk slk hsk) σ))) ln'.toNat (by
    rintro n _ s hn ⟨AD, AG, FL, r1, r2, rfl⟩
    obtain ⟨d1, d2, d3, d4⟩ := hd9 n (by omega) (by omega)
    obtain ⟨t1, t2, t3, t4, t5, t6, t7, t8⟩ := hk.th d1 d2 d3
    have hF9 := hm.hf _ d1 d2 d3
    obtain ⟨f1, f2, f3⟩ := r2 (hd' n) (fun i i1 i2 q => by have := hinj i n i1 (by omega) (by omega) (by omega) q; omega)
    obtain ⟨e1, e2⟩ := l5 (by omega)
    have hget : f_J2_get (G 3 0) (J n) (cput D (cel G AD nfk ndk pnk AG mkk FL dtk hwk dpk alk cok fek rpk rok wek (PL9 w plk) mo' eak ln' cpk el' owk skk txk tlk rfk slk hsk) σ) = some (some (G 0 (hd' n))) := kl_get hg.lu (by omega) (by omega) (by omega) l4 e1 e2 (v7 n (by omega) (by omega))
    have hlz : f_J2_size (G 3 0) (cput D (cel G AD nfk ndk pnk AG mkk FL dtk hwk dpk alk cok fek rpk rok wek (PL9 w plk) mo' eak ln' cpk el' owk skk txk tlk rfk slk hsk) σ) = some (J ln') := kc_lsize hg
    have hcor := kc_corrF (σ := σ) (w := w) (adk := up AD (hd' n) (w (hd' n))) (agk := up AG (hd' n) (AG (hd' n) + 1)) (flk := FL) (mok := mo') (elk := el') (lnk := ln') (nfk := nfk) (ndk := ndk) (pnk := pnk) (mkk := mkk) (dtk := dtk) (hwk := hwk) (dpk := dpk) (alk := alk) (cok := cok) (fek := fek) (rpk := rpk) (rok := rok) (wek := wek) (plk := plk) (eak := eak) (cpk := cpk) (owk := owk) (skk := skk) (txk := txk) (tlk := tlk) (rfk := rfk) (slk := slk) (hsk := hsk) hg t1 (by omega) (by omega) (fun j j1 j2 => by
      rw [f3, t7 j j1 (by omega), Int.add_assoc]
      exact rf_ir hm (hm.hq _ (1 + j) d1 d2 d3 (by omega) (by omega)))
    refine ⟨.inr (J (n + 1 : Nat), (cput D (cel G (up AD (hd' n) (w (hd' n))) nfk ndk pnk (up AG (hd' n) (AG (hd' n) + 1)) mkk (up2 FL (hd' n) (cr9 w (nfk (hd' n)) (FL (hd' n)))) dtk hwk dpk alk cok fek rpk rok wek (PL9 w plk) mo' eak ln' cpk el' owk skk txk tlk rfk slk hsk) σ)), ?_, _, _, _, fun i i1 i2 => ?_, fun a ha => ?_, rfl⟩
    · refine lpx_n ?_
      have hpl : PL9 w plk (hd' n) = w (hd' n) := by unfold PL9; rw [if_pos ⟨d1, d2⟩]
      unfold s_X1_settle g_X1_settle_48
      dsimp only
      simp (disch := first | assumption | exact HU.lu (by assumption) | exact cw_okn | exact cw_ok3 (by assumption) | exact cw_ok5 (by assumption) | omega) only [J_add, J_sub, J_mul, J_neg, J_lit, J_lt, J_le, J_eq, Option.bind_some, Int.reduceAdd, Int.reduceSub, Int.reduceMul, Int.reduceNeg, Int.reduceEq, Int.reduceLT, Int.reduceLE, reduceIte, Int.zero_add, Int.add_zero, and_self, true_and, and_true, false_and, and_false, or_true, true_or, or_false, false_or, not_true_eq_false, not_false_eq_true, ne_eq, b2_s, cw_gadk, cw_gpnk, cw_gagk, cw_gmkk, cw_gfl, cw_gdt, cw_kth, cw_afl, cw_nfl, cw_adt, cw_ndt, cw_gmok, cw_geak, cw_glnk, cw_k0, cw_k6, cw_k7, cw_aowk, cw_aelk, cw_askk, cw_aslk, cw_nelk, cw_arok, cw_nrok, cw_awek, cw_nwek, cw_aplk, cw_nplk, cw_atxk, cw_ntxk, cw_ghwk, cw_gdpk, cw_galk, cw_gcok, cw_gfek, cw_h2, cw_h3, cw_h4, cw_h5, cw_h10, cw_grpk, cw_x0, cw_x1, cw_x2, cw_x5, cw_gtlk, cw_grfk, cw_ghsk, cw_padk, cw_pagk, cw_pmkk, cw_ppnk, cw_zpnk, cw_sfl, cw_sdt, cw_pmok, cw_peak, cw_plnk, cw_sowk, cw_selk, cw_sskk, cw_sslk, cw_srok, cw_swek, cw_splk, cw_palk, cw_pcok, cw_pfek, cw_prpk, cw_ptlk, cw_prfk, cw_phsk, cw_stxk, cw_ok3, cw_ok5, cw_okn, hlz, hget, if_neg (show ¬ ln' ≤ (n : Int) by omega), f1, t2, hpl, hcor]
      rfl
    · by_cases hin : i = n
      · subst hin
        refine ⟨up_s _ _ _, by rw [up_s, f2, t6], fun j j1 j2 => ?_⟩
        rw [up2_s]
        unfold cr9
        rw [if_pos (by omega), f3, t7 j j1 j2]
      · have hne : hd' i ≠ hd' n := fun q => hin (hinj i n i1 (by omega) (by omega) (by omega) q)
        obtain ⟨q1, q2, q3⟩ := r1 i i1 (by omega)
        refine ⟨by rw [up_n hne]; exact q1, by rw [up_n hne]; exact q2, fun j j1 j2 => ?_⟩
        unfold up2
        rw [if_neg hne]
        exact q3 j j1 j2
    · have hne : a ≠ hd' n := fun q => ha n (by omega) (by omega) q.symm
      obtain ⟨q1, q2, q3⟩ := r2 a (fun i i1 i2 => ha i i1 (by omega))
      refine ⟨by rw [up_n hne]; exact q1, by rw [up_n hne]; exact q2, ?_⟩
      unfold up2
      rw [if_neg hne]
      exact q3) () (.inr (J 0, (cput D (cel G adk nfk ndk pnk agk mkk flk dtk hwk dpk alk cok fek rpk rok wek (PL9 w plk) mo' eak ln' cpk el' owk skk txk tlk rfk slk hsk) σ))) ⟨adk, agk, flk, fun i i1 i2 => by omega, fun a _ => ⟨rfl, rfl, rfl⟩, rfl⟩
  refine ⟨hd', ln', el', mo', AD, AG, FL, ?_, hV0, fun i i1 i2 => r1 i i1 (by omega)⟩
  rw [e1]
  refine lpx_d ?_
  have hlz : f_J2_size (G 3 0) (cput D (cel G AD nfk ndk pnk AG mkk FL dtk hwk dpk alk cok fek rpk rok wek (PL9 w plk) mo' eak ln' cpk el' owk skk txk tlk rfk slk hsk) σ) = some (J ln') := kc_lsize hg
  have hcR := kc_corrR (σ := σ) (w := w) (adk := AD) (agk := AG) (flk := FL) (mok := mo') (elk := el') (lnk := ln') (nfk := nfk) (ndk := ndk) (pnk := pnk) (mkk := mkk) (dtk := dtk) (hwk := hwk) (dpk := dpk) (alk := alk) (cok := cok) (fek := fek) (rpk := rpk) (rok := rok) (wek := wek) (plk := plk) (eak := eak) (cpk := cpk) (owk := owk) (skk := skk) (txk := txk) (tlk := tlk) (rfk := rfk) (slk := slk) (hsk := hsk) hg (fun j j1 j2 => by rw [hk.ro j j1 j2]; exact rf_ir hm (hm.hr j j1 (by omega)))
  have hcW := kc_corrW (σ := σ) (w := w) (adk := AD) (agk := AG) (flk := FL) (mok := mo') (elk := el') (lnk := ln') (nfk := nfk) (ndk := ndk) (pnk := pnk) (mkk := mkk) (dtk := dtk) (hwk := hwk) (dpk := dpk) (alk := alk) (cok := cok) (fek := fek) (rpk := rpk) (rok := cr9 w 6 rok) (wek := wek) (plk := plk) (eak := eak) (cpk := cpk) (owk := owk) (skk := skk) (txk := txk) (tlk := tlk) (rfk := rfk) (slk := slk) (hsk := hsk) hg (fun j j1 j2 => by
    rw [hk.we j j1 j2]
    have := hm.hr (6 + j) (by omega) (by omega)
    rw [show (1200 : Int) + (6 + j) = 1206 + j by omega] at this
    exact rf_ir hm this)
  unfold s_X1_settle g_X1_settle_48
  dsimp only
  simp (disch := first | assumption | exact HU.lu (by assumption) | exact cw_okn | exact cw_ok3 (by assumption) | exact cw_ok5 (by assumption) | omega) only [J_add, J_sub, J_mul, J_neg, J_lit, J_lt, J_le, J_eq, Option.bind_some, Int.reduceAdd, Int.reduceSub, Int.reduceMul, Int.reduceNeg, Int.reduceEq, Int.reduceLT, Int.reduceLE, reduceIte, Int.zero_add, Int.add_zero, and_self, true_and, and_true, false_and, and_false, or_true, true_or, or_false, false_or, not_true_eq_false, not_false_eq_true, ne_eq, b2_s, cw_gadk, cw_gpnk, cw_gagk, cw_gmkk, cw_gfl, cw_gdt, cw_kth, cw_afl, cw_nfl, cw_adt, cw_ndt, cw_gmok, cw_geak, cw_glnk, cw_k0, cw_k6, cw_k7, cw_aowk, cw_aelk, cw_askk, cw_aslk, cw_nelk, cw_arok, cw_nrok, cw_awek, cw_nwek, cw_aplk, cw_nplk, cw_atxk, cw_ntxk, cw_ghwk, cw_gdpk, cw_galk, cw_gcok, cw_gfek, cw_h2, cw_h3, cw_h4, cw_h5, cw_h10, cw_grpk, cw_x0, cw_x1, cw_x2, cw_x5, cw_gtlk, cw_grfk, cw_ghsk, cw_padk, cw_pagk, cw_pmkk, cw_ppnk, cw_zpnk, cw_sfl, cw_sdt, cw_pmok, cw_peak, cw_plnk, cw_sowk, cw_selk, cw_sskk, cw_sslk, cw_srok, cw_swek, cw_splk, cw_palk, cw_pcok, cw_pfek, cw_prpk, cw_ptlk, cw_prfk, cw_phsk, cw_stxk, cw_ok3, cw_ok5, cw_okn, hlz, if_pos (show ln' ≤ (ln'.toNat : Int) by omega), hcR, hcW]
/-- the owners, told anew -/
theorem kc_occupy (hg : HU D G) {W : Int} {hd' : Int → Int} (l1 : 0 ≤ lnk) (l3 : lnk ≤ cpk) (l4 : cpk ≤ 250) (l5 : 0 < lnk → eak = G 3 2 ∧ GU D G 3 2) (l6 : ∀ k, 0 ≤ k → k < lnk → elk k.toNat = some (G 0 (hd' k)) ∧ TH D G (hd' k)) (hn : ∀ k, 0 ≤ k → k < lnk → 0 ≤ nfk (hd' k) ∧ 0 ≤ ndk (hd' k) ∧ 0 ≤ adk (hd' k) ∧ adk (hd' k) + (1 + nfk (hd' k) + ndk (hd' k)) ≤ 200) : ∃ OW, f_X1_occupy (G 3 6) (cput D (cel G adk nfk ndk pnk agk mkk flk dtk hwk dpk alk cok fek rpk rok wek plk mok eak lnk cpk elk owk skk txk tlk rfk slk hsk) σ) = some (cput D (cel G adk nfk ndk pnk agk mkk flk dtk hwk dpk alk cok fek rpk rok wek plk mok eak lnk cpk elk OW skk txk tlk rfk slk hsk) σ) ∧ ∀ j : Int, 0 ≤ j → j < 200 → (∃ i, 0 ≤ i ∧ i < lnk ∧ (adk (hd' i) ≤ j ∧ j < adk (hd' i) + (1 + nfk (hd' i) + ndk (hd' i))) ∧ OW j.toNat = some (G 0 (hd' i))) ∨ ((∀ i, 0 ≤ i → i < lnk → ¬ (adk (hd' i) ≤ j ∧ j < adk (hd' i) + (1 + nfk (hd' i) + ndk (hd' i)))) ∧ OW j.toNat = none) := by
  unfold f_X1_occupy g_X1_occupy_0
  rw [lgo_l, show (0 : Int32) = J 0 from J_lit 0]
  rw [lpx_steps2 (f := s_X1_occupy (G 3 6)) (fun k => .inl (J k, (cput D (cel G adk nfk ndk pnk agk mkk flk dtk hwk dpk alk cok fek rpk rok wek plk mok eak lnk cpk elk (fun j => if j < k then none else owk j) skk txk tlk rfk slk hsk) σ))) 200 (by
    have h0 : (fun j : Nat => if j < 0 then none else owk j) = owk := by
      funext j
      rw [if_neg (by omega)]
    rw [h0]
    rfl) (by
    intro k hk
    have h0 : va_up (fun j : Nat => if j < k then none else owk j) ((k : Int)).toNat none = (fun j : Nat => if j < k + 1 then none else owk j) := by
      funext j
      unfold va_up
      dsimp only
      by_cases hj : j = k
      · rw [if_pos (by omega), if_pos (by omega)]
      · rw [if_neg (by omega)]
        by_cases hj2 : j < k
        · rw [if_pos hj2, if_pos (by omega)]
        · rw [if_neg hj2, if_neg (by omega)]
    unfold s_X1_occupy g_X1_occupy_2
    dsimp only
    simp (disch := first | assumption | exact HU.lu (by assumption) | exact cw_okn | exact cw_ok3 (by assumption) | exact cw_ok5 (by assumption) | omega) only [J_add, J_sub, J_mul, J_neg, J_lit, J_lt, J_le, J_eq, Option.bind_some, Int.reduceAdd, Int.reduceSub, Int.reduceMul, Int.reduceNeg, Int.reduceEq, Int.reduceLT, Int.reduceLE, reduceIte, Int.zero_add, Int.add_zero, and_self, true_and, and_true, false_and, and_false, or_true, true_or, or_false, false_or, not_true_eq_false, not_false_eq_true, ne_eq, b2_s, cw_gadk, cw_gpnk, cw_gagk, cw_gmkk, cw_gfl, cw_gdt, cw_kth, cw_afl, cw_nfl, cw_adt, cw_ndt, cw_gmok, cw_geak, cw_glnk, cw_k0, cw_k6, cw_k7, cw_aowk, cw_aelk, cw_askk, cw_aslk, cw_nelk, cw_arok, cw_nrok, cw_awek, cw_nwek, cw_aplk, cw_nplk, cw_atxk, cw_ntxk, cw_ghwk, cw_gdpk, cw_galk, cw_gcok, cw_gfek, cw_h2, cw_h3, cw_h4, cw_h5, cw_h10, cw_grpk, cw_x0, cw_x1, cw_x2, cw_x5, cw_gtlk, cw_grfk, cw_ghsk, cw_padk, cw_pagk, cw_pmkk, cw_ppnk, cw_zpnk, cw_sfl, cw_sdt, cw_pmok, cw_peak, cw_plnk, cw_sowk, cw_selk, cw_sskk, cw_sslk, cw_srok, cw_swek, cw_splk, cw_palk, cw_pcok, cw_pfek, cw_prpk, cw_ptlk, cw_prfk, cw_phsk, cw_stxk, cw_ok3, cw_ok5, cw_okn, if_neg (show ¬ (200 : Int) ≤ (k : Int) by omega), h0]
    rfl)]
  rw [lpx_n (s' := .inr (.inl (J 0, (cput D (cel G adk nfk ndk pnk agk mkk flk dtk hwk dpk alk cok fek rpk rok wek plk mok eak lnk cpk elk (fun j => if j < 200 then none else owk j) skk txk tlk rfk slk hsk) σ)))) (by
    unfold s_X1_occupy g_X1_occupy_2
    dsimp only
    simp (disch := first | assumption | exact HU.lu (by assumption) | exact cw_okn | exact cw_ok3 (by assumption) | exact cw_ok5 (by assumption) | omega) only [J_add, J_sub, J_mul, J_neg, J_lit, J_lt, J_le, J_eq, Option.bind_some, Int.reduceAdd, Int.reduceSub, Int.reduceMul, Int.reduceNeg, Int.reduceEq, Int.reduceLT, Int.reduceLE, reduceIte, Int.zero_add, Int.add_zero, and_self, true_and, and_true, false_and, and_false, or_true, true_or, or_false, false_or, not_true_eq_false, not_false_eq_true, ne_eq, b2_s, cw_gadk, cw_gpnk, cw_gagk, cw_gmkk, cw_gfl, cw_gdt, cw_kth, cw_afl, cw_nfl, cw_adt, cw_ndt, cw_gmok, cw_geak, cw_glnk, cw_k0, cw_k6, cw_k7, cw_aowk, cw_aelk, cw_askk, cw_aslk, cw_nelk, cw_arok, cw_nrok, cw_awek, cw_nwek, cw_aplk, cw_nplk, cw_atxk, cw_ntxk, cw_ghwk, cw_gdpk, cw_galk, cw_gcok, cw_gfek, cw_h2, cw_h3, cw_h4, cw_h5, cw_h10, cw_grpk, cw_x0, cw_x1, cw_x2, cw_x5, cw_gtlk, cw_grfk, cw_ghsk, cw_padk, cw_pagk, cw_pmkk, cw_ppnk, cw_zpnk, cw_sfl, cw_sdt, cw_pmok, cw_peak, cw_plnk, cw_sowk, cw_selk, cw_sskk, cw_sslk, cw_srok, cw_swek, cw_splk, cw_palk, cw_pcok, cw_pfek, cw_prpk, cw_ptlk, cw_prfk, cw_phsk, cw_stxk, cw_ok3, cw_ok5, cw_okn, if_pos (show (200 : Int) ≤ ((200 : Nat) : Int) by omega)])]
  obtain ⟨s', e1, OW, r1, rfl⟩ := lpx_itr (X := Unit) (f := s_X1_occupy (G 3 6)) (g := fun _ _ => ()) (fun n _ s => ∃ OW : Nat → Option Nat, (∀ j : Int, 0 ≤ j → j < 200 → (∃ i : Int, 0 ≤ i ∧ i < n ∧ (adk (hd' i) ≤ j ∧ j < adk (hd' i) + (1 + nfk (hd' i) + ndk (hd' i))) ∧ OW j.toNat = some (G 0 (hd' i))) ∨ ((∀ i : Int, 0 ≤ i → i < n → ¬ (adk (hd' i) ≤ j ∧ j < adk (hd' i) + (1 + nfk (hd' i) + ndk (hd' i)))) ∧ OW j.toNat = none)) ∧ s = .inr (.inl (J n, (cput D (cel G adk nfk ndk pnk agk mkk flk dtk hwk dpk alk cok fek rpk rok wek plk mok eak lnk cpk elk OW skk txk tlk rfk slk hsk) σ)))) lnk.toNat (by
    rintro n _ s hn9 ⟨OW, r1, rfl⟩
    obtain ⟨e3, e4⟩ := l6 n (by omega) (by omega)
    obtain ⟨e1, e2⟩ := l5 (by omega)
    obtain ⟨n1, n2, n3, n4⟩ := hn n (by omega) (by omega)
    generalize hda : hd' n = a at e3 e4 n1 n2 n3 n4
    generalize hS : 1 + nfk a + ndk a = S at n4
    have hlz : f_J2_size (G 3 0) (cput D (cel G adk nfk ndk pnk agk mkk flk dtk hwk dpk alk cok fek rpk rok wek plk mok eak lnk cpk elk OW skk txk tlk rfk slk hsk) σ) = some (J lnk) := kc_lsize hg
    have hget : f_J2_get (G 3 0) (J n) (cput D (cel G adk nfk ndk pnk agk mkk flk dtk hwk dpk alk cok fek rpk rok wek plk mok eak lnk cpk elk OW skk txk tlk rfk slk hsk) σ) = some (some (G 0 a)) := kl_get hg.lu (by omega) (by omega) l3 l4 e1 e2 e3
    have hend : ∀ O9 : Nat → Option Nat, f_X3_end (G 0 a) (cput D (cel G adk nfk ndk pnk agk mkk flk dtk hwk dpk alk cok fek rpk rok wek plk mok eak lnk cpk elk O9 skk txk tlk rfk slk hsk) σ) = some (J (adk a + S)) := fun O9 => by
      rw [← hS]
      exact kc_end e4 n1 n2
    refine ⟨.inr (.inl (J (n + 1 : Nat), (cput D (cel G adk nfk ndk pnk agk mkk flk dtk hwk dpk alk cok fek rpk rok wek plk mok eak lnk cpk elk (fun j => if adk a ≤ (j : Int) ∧ (j : Int) < adk a + S then some (G 0 a) else OW j) skk txk tlk rfk slk hsk) σ))), ?_, _, fun j j1 j2 => ?_, rfl⟩
    · rw [lpx_n (s' := .inr (.inr (J n, G 0 a, J (adk a), (cput D (cel G adk nfk ndk pnk agk mkk flk dtk hwk dpk alk cok fek rpk rok wek plk mok eak lnk cpk elk OW skk txk tlk rfk slk hsk) σ)))) (by
        unfold s_X1_occupy g_X1_occupy_24
        dsimp only
        simp (disch := first | assumption | exact HU.lu (by assumption) | exact cw_okn | exact cw_ok3 (by assumption) | exact cw_ok5 (by assumption) | omega) only [J_add, J_sub, J_mul, J_neg, J_lit, J_lt, J_le, J_eq, Option.bind_some, Int.reduceAdd, Int.reduceSub, Int.reduceMul, Int.reduceNeg, Int.reduceEq, Int.reduceLT, Int.reduceLE, reduceIte, Int.zero_add, Int.add_zero, and_self, true_and, and_true, false_and, and_false, or_true, true_or, or_false, false_or, not_true_eq_false, not_false_eq_true, ne_eq, b2_s, cw_gadk, cw_gpnk, cw_gagk, cw_gmkk, cw_gfl, cw_gdt, cw_kth, cw_afl, cw_nfl, cw_adt, cw_ndt, cw_gmok, cw_geak, cw_glnk, cw_k0, cw_k6, cw_k7, cw_aowk, cw_aelk, cw_askk, cw_aslk, cw_nelk, cw_arok, cw_nrok, cw_awek, cw_nwek, cw_aplk, cw_nplk, cw_atxk, cw_ntxk, cw_ghwk, cw_gdpk, cw_galk, cw_gcok, cw_gfek, cw_h2, cw_h3, cw_h4, cw_h5, cw_h10, cw_grpk, cw_x0, cw_x1, cw_x2, cw_x5, cw_gtlk, cw_grfk, cw_ghsk, cw_padk, cw_pagk, cw_pmkk, cw_ppnk, cw_zpnk, cw_sfl, cw_sdt, cw_pmok, cw_peak, cw_plnk, cw_sowk, cw_selk, cw_sskk, cw_sslk, cw_srok, cw_swek, cw_splk, cw_palk, cw_pcok, cw_pfek, cw_prpk, cw_ptlk, cw_prfk, cw_phsk, cw_stxk, cw_ok3, cw_ok5, cw_okn, hlz, hget, if_neg (show ¬ lnk ≤ (n : Int) by omega)])]
      rw [lpx_steps2 (f := s_X1_occupy (G 3 6)) (fun k => .inr (.inr (J n, G 0 a, J (adk a + k), (cput D (cel G adk nfk ndk pnk agk mkk flk dtk hwk dpk alk cok fek rpk rok wek plk mok eak lnk cpk elk (fun j => if adk a ≤ (j : Int) ∧ (j : Int) < adk a + k then some (G 0 a) else OW j) skk txk tlk rfk slk hsk) σ)))) S.toNat (by
        have h0 : (fun j : Nat => if adk a ≤ (j : Int) ∧ (j : Int) < adk a + ((0 : Nat) : Int) then some (G 0 a) else OW j) = OW := by
          funext j
          rw [if_neg (by omega)]
        simp only [h0]
        simp) (by
        intro k hk
        have h0 : va_up (fun j : Nat => if adk a ≤ (j : Int) ∧ (j : Int) < adk a + (k : Int) then some (G 0 a) else OW j) (adk a + k).toNat (some (G 0 a)) = (fun j : Nat => if adk a ≤ (j : Int) ∧ (j : Int) < adk a + ((k + 1 : Nat) : Int) then some (G 0 a) else OW j) := by
          funext j
          unfold va_up
          dsimp only
          by_cases hj : j = (adk a + k).toNat
          · rw [if_pos hj, if_pos (by omega)]
          · rw [if_neg hj]
            by_cases hj2 : adk a ≤ (j : Int) ∧ (j : Int) < adk a + (k : Int)
            · rw [if_pos hj2, if_pos (by omega)]
            · rw [if_neg hj2, if_neg (by omega)]
        generalize (fun j : Nat => if adk a ≤ (j : Int) ∧ (j : Int) < adk a + (k : Int) then some (G 0 a) else OW j) = O9 at h0 ⊢
        unfold s_X1_occupy g_X1_occupy_52
        dsimp only
        simp (disch := first | assumption | exact HU.lu (by assumption) | exact cw_okn | exact cw_ok3 (by assumption) | exact cw_ok5 (by assumption) | omega) only [J_add, J_sub, J_mul, J_neg, J_lit, J_lt, J_le, J_eq, Option.bind_some, Int.reduceAdd, Int.reduceSub, Int.reduceMul, Int.reduceNeg, Int.reduceEq, Int.reduceLT, Int.reduceLE, reduceIte, Int.zero_add, Int.add_zero, and_self, true_and, and_true, false_and, and_false, or_true, true_or, or_false, false_or, not_true_eq_false, not_false_eq_true, ne_eq, b2_s, cw_gadk, cw_gpnk, cw_gagk, cw_gmkk, cw_gfl, cw_gdt, cw_kth, cw_afl, cw_nfl, cw_adt, cw_ndt, cw_gmok, cw_geak, cw_glnk, cw_k0, cw_k6, cw_k7, cw_aowk, cw_aelk, cw_askk, cw_aslk, cw_nelk, cw_arok, cw_nrok, cw_awek, cw_nwek, cw_aplk, cw_nplk, cw_atxk, cw_ntxk, cw_ghwk, cw_gdpk, cw_galk, cw_gcok, cw_gfek, cw_h2, cw_h3, cw_h4, cw_h5, cw_h10, cw_grpk, cw_x0, cw_x1, cw_x2, cw_x5, cw_gtlk, cw_grfk, cw_ghsk, cw_padk, cw_pagk, cw_pmkk, cw_ppnk, cw_zpnk, cw_sfl, cw_sdt, cw_pmok, cw_peak, cw_plnk, cw_sowk, cw_selk, cw_sskk, cw_sslk, cw_srok, cw_swek, cw_splk, cw_palk, cw_pcok, cw_pfek, cw_prpk, cw_ptlk, cw_prfk, cw_phsk, cw_stxk, cw_ok3, cw_ok5, cw_okn, hend, if_neg (show ¬ adk a + S ≤ adk a + (k : Int) by omega), h0]
        rw [show adk a + (k : Int) + 1 = adk a + ((k + 1 : Nat) : Int) by omega])]
      rw [show ((S.toNat : Nat) : Int) = S by omega]
      generalize (fun j : Nat => if adk a ≤ (j : Int) ∧ (j : Int) < adk a + S then some (G 0 a) else OW j) = O9
      refine lpx_n ?_
      unfold s_X1_occupy g_X1_occupy_52
      dsimp only
      simp (disch := first | assumption | exact HU.lu (by assumption) | exact cw_okn | exact cw_ok3 (by assumption) | exact cw_ok5 (by assumption) | omega) only [J_add, J_sub, J_mul, J_neg, J_lit, J_lt, J_le, J_eq, Option.bind_some, Int.reduceAdd, Int.reduceSub, Int.reduceMul, Int.reduceNeg, Int.reduceEq, Int.reduceLT, Int.reduceLE, reduceIte, Int.zero_add, Int.add_zero, and_self, true_and, and_true, false_and, and_false, or_true, true_or, or_false, false_or, not_true_eq_false, not_false_eq_true, ne_eq, b2_s, cw_gadk, cw_gpnk, cw_gagk, cw_gmkk, cw_gfl, cw_gdt, cw_kth, cw_afl, cw_nfl, cw_adt, cw_ndt, cw_gmok, cw_geak, cw_glnk, cw_k0, cw_k6, cw_k7, cw_aowk, cw_aelk, cw_askk, cw_aslk, cw_nelk, cw_arok, cw_nrok, cw_awek, cw_nwek, cw_aplk, cw_nplk, cw_atxk, cw_ntxk, cw_ghwk, cw_gdpk, cw_galk, cw_gcok, cw_gfek, cw_h2, cw_h3, cw_h4, cw_h5, cw_h10, cw_grpk, cw_x0, cw_x1, cw_x2, cw_x5, cw_gtlk, cw_grfk, cw_ghsk, cw_padk, cw_pagk, cw_pmkk, cw_ppnk, cw_zpnk, cw_sfl, cw_sdt, cw_pmok, cw_peak, cw_plnk, cw_sowk, cw_selk, cw_sskk, cw_sslk, cw_srok, cw_swek, cw_splk, cw_palk, cw_pcok, cw_pfek, cw_prpk, cw_ptlk, cw_prfk, cw_phsk, cw_stxk, cw_ok3, cw_ok5, cw_okn, hend, if_pos (show adk a + S ≤ adk a + S by omega)]
      rfl
    · by_cases hj : adk a ≤ j ∧ j < adk a + S
      · refine Or.inl ⟨n, by omega, by omega, by rw [hda, hS]; exact hj, ?_⟩
        rw [if_pos (by omega), hda]
      · rw [if_neg (by omega)]
        rcases r1 j j1 j2 with ⟨i, i1, i2, i3, i4⟩ | ⟨q1, q2⟩
        · exact Or.inl ⟨i, i1, by omega, i3, i4⟩
        · refine Or.inr ⟨fun i i1 i2 => ?_, q2⟩
          by_cases hin : i = n
          · rw [hin, hda, hS]; exact hj
          · exact q1 i i1 (by omega)) () (.inr (.inl (J 0, (cput D (cel G adk nfk ndk pnk agk mkk flk dtk hwk dpk alk cok fek rpk rok wek plk mok eak lnk cpk elk (fun j => if j < 200 then none else owk j) skk txk tlk rfk slk hsk) σ)))) ⟨_, fun j j1 j2 => Or.inr ⟨fun i i1 i2 => by omega, if_pos (by omega)⟩, rfl⟩
  refine ⟨OW, ?_, fun j j1 j2 => ?_⟩
  · rw [e1]
    refine lpx_d ?_
    have hlz : f_J2_size (G 3 0) (cput D (cel G adk nfk ndk pnk agk mkk flk dtk hwk dpk alk cok fek rpk rok wek plk mok eak lnk cpk elk OW skk txk tlk rfk slk hsk) σ) = some (J lnk) := kc_lsize hg
    unfold s_X1_occupy g_X1_occupy_24
    dsimp only
    simp (disch := first | assumption | exact HU.lu (by assumption) | exact cw_okn | exact cw_ok3 (by assumption) | exact cw_ok5 (by assumption) | omega) only [J_add, J_sub, J_mul, J_neg, J_lit, J_lt, J_le, J_eq, Option.bind_some, Int.reduceAdd, Int.reduceSub, Int.reduceMul, Int.reduceNeg, Int.reduceEq, Int.reduceLT, Int.reduceLE, reduceIte, Int.zero_add, Int.add_zero, and_self, true_and, and_true, false_and, and_false, or_true, true_or, or_false, false_or, not_true_eq_false, not_false_eq_true, ne_eq, b2_s, cw_gadk, cw_gpnk, cw_gagk, cw_gmkk, cw_gfl, cw_gdt, cw_kth, cw_afl, cw_nfl, cw_adt, cw_ndt, cw_gmok, cw_geak, cw_glnk, cw_k0, cw_k6, cw_k7, cw_aowk, cw_aelk, cw_askk, cw_aslk, cw_nelk, cw_arok, cw_nrok, cw_awek, cw_nwek, cw_aplk, cw_nplk, cw_atxk, cw_ntxk, cw_ghwk, cw_gdpk, cw_galk, cw_gcok, cw_gfek, cw_h2, cw_h3, cw_h4, cw_h5, cw_h10, cw_grpk, cw_x0, cw_x1, cw_x2, cw_x5, cw_gtlk, cw_grfk, cw_ghsk, cw_padk, cw_pagk, cw_pmkk, cw_ppnk, cw_zpnk, cw_sfl, cw_sdt, cw_pmok, cw_peak, cw_plnk, cw_sowk, cw_selk, cw_sskk, cw_sslk, cw_srok, cw_swek, cw_splk, cw_palk, cw_pcok, cw_pfek, cw_prpk, cw_ptlk, cw_prfk, cw_phsk, cw_stxk, cw_ok3, cw_ok5, cw_okn, hlz, if_pos (show lnk ≤ (lnk.toNat : Int) by omega)]
  · have := r1 j j1 j2
    rwa [Int.toNat_of_nonneg l1] at this
end T1
