/-! PLAIN LAW: lists: append, remove. NAMES: kl_ -/
set_option maxRecDepth 100000
section T1
variable {adk nfk ndk pnk agk mkk rok wek plk txk : Int → Int} {flk dtk : Int → Int → Int} {hwk dpk alk cok fek lnk tlk rfk : Int} {rpk : Option Nat} {mok : Int32} {eak cpk : Nat} {elk owk skk slk : Nat → Option Nat} {hsk : Int64} {D : Nat → Int × Int} {G : Int → Int → Nat} {σ : mm_M}
theorem kl_okN {cp' : Nat} {el' : Nat → Option Nat} {σ' : mm_M} (hL : LU D G) (h6 : EX D σ (dN D 3 2 σ.2.1) σ') {y : Nat} (y1 : y < σ.2.1) (y2 : okR (cput D (cel G adk nfk ndk pnk agk mkk flk dtk hwk dpk alk cok fek rpk rok wek plk mok eak lnk cpk elk owk skk txk tlk rfk slk hsk) σ) 5 (some y) = true) : okR (cput (dN D 3 2 σ.2.1) (cel (gN G 3 2 σ.2.1) adk nfk ndk pnk agk mkk flk dtk hwk dpk alk cok fek rpk rok wek plk mok σ.2.1 lnk cp' el' owk skk txk tlk rfk slk hsk) σ') 5 (some y) = true := by
  unfold okR at y2 ⊢
  dsimp only at y2 ⊢
  obtain ⟨x1, x2, x3, x4, x5⟩ := h6
  by_cases hy0 : (D y).1 = -1
  · obtain ⟨z1, z2⟩ := x3 y y1 hy0
    rw [cput_o z1, z2]
    rw [cput_o hy0] at y2
    exact y2
  · by_cases hy2 : D y = (3, 2)
    · have := hL.1 y hy0
      rw [hy2] at this
      dsimp only at this
      have e9 : GU D G 3 2 := by unfold GU; rw [this, hy2]
      rw [← this, cc_2 e9] at y2
      cases y2
    · have hy3 : dN D 3 2 σ.2.1 y = D y := by
        unfold dN
        rw [if_neg (by omega), if_neg hy2]
      have hy4 : ∀ (c : Int → Int → mm_E) (τ : mm_M) (Δ : Nat → Int × Int), Δ y = D y → (cput Δ c τ).1 y = some (c (D y).1 (D y).2) := by
        intro c τ Δ hΔ
        unfold cput
        dsimp only
        rw [hΔ, if_neg hy0]
      by_cases hy5 : D y = (3, 0)
      · have := hL.1 y hy0
        rw [hy5] at this
        dsimp only at this
        rw [← this, cc_0 hL] at y2
        exact absurd y2 (by simp)
      · have hc9 : (cel (gN G 3 2 σ.2.1) adk nfk ndk pnk agk mkk flk dtk hwk dpk alk cok fek rpk rok wek plk mok σ.2.1 lnk cp' el' owk skk txk tlk rfk slk hsk) (D y).1 (D y).2 = (cel (gN G 3 2 σ.2.1) adk nfk ndk pnk agk mkk flk dtk hwk dpk alk cok fek rpk rok wek plk mok eak lnk cp' el' owk skk txk tlk rfk slk hsk) (D y).1 (D y).2 := by
          have h9 : ¬ ((D y).1 = 3 ∧ (D y).2 = 0) := fun e => hy5 (Prod.ext e.1 e.2)
          simp only [cel, if_neg h9]
        rw [hy4 _ _ _ rfl] at y2
        rw [hy4 _ _ _ hy3, hc9, cel_gN (v := cpk) (elk := elk) (G := G) _ _ (fun e => hy2 (Prod.ext e.1 e.2))]
        exact y2
theorem kl_okM (hL : LU D G) {v : Int32} {y : Nat} (hy : okR (cput D (cel G adk nfk ndk pnk agk mkk flk dtk hwk dpk alk cok fek rpk rok wek plk mok eak lnk cpk elk owk skk txk tlk rfk slk hsk) σ) 5 (some y) = true) : okR (cput D (cel G adk nfk ndk pnk agk mkk flk dtk hwk dpk alk cok fek rpk rok wek plk v eak lnk cpk elk owk skk txk tlk rfk slk hsk) σ) 5 (some y) = true := by
  have hw : sE (cput D (cel G adk nfk ndk pnk agk mkk flk dtk hwk dpk alk cok fek rpk rok wek plk mok eak lnk cpk elk owk skk txk tlk rfk slk hsk) σ) (G 3 0) (eO 15 [vI v, vR (some eak), vI (J lnk)]) = (cput D (cel G adk nfk ndk pnk agk mkk flk dtk hwk dpk alk cok fek rpk rok wek plk v eak lnk cpk elk owk skk txk tlk rfk slk hsk) σ) := cput_sE hL.1 hL.2 (by omega) (by simp [cel]) (by
    intro k' a' hn
    simp only [cel, if_neg hn])
  rw [← hw]
  unfold okR at hy ⊢
  dsimp only at hy ⊢
  unfold sE
  dsimp only
  by_cases hq0 : y = G 3 0
  · subst hq0
    rw [cc_0 hL] at hy
    exact absurd hy (by simp)
  · rw [if_neg hq0]
    exact hy
theorem kl_add2 (hL : LU D G) (hb : DB D σ) (hc : CAPS cpk) (hE : cpk = 0 → eak = σ.2.2.1) (hCE : CE D σ) (hU : 0 < cpk → eak = G 3 2 ∧ GU D G 3 2) (l1 : 0 ≤ lnk) (l2 : lnk < 200) (l3 : lnk ≤ cpk) (l4 : cpk ≤ 250) (hok : ∀ i : Nat, (i : Int) < lnk → ∃ y, elk i = some y ∧ y < σ.2.1 ∧ okR (cput D (cel G adk nfk ndk pnk agk mkk flk dtk hwk dpk alk cok fek rpk rok wek plk mok eak lnk cpk elk owk skk txk tlk rfk slk hsk) σ) 5 (some y) = true) {q : Nat} (hq : okR (cput D (cel G adk nfk ndk pnk agk mkk flk dtk hwk dpk alk cok fek rpk rok wek plk mok eak lnk cpk elk owk skk txk tlk rfk slk hsk) σ) 5 (some q) = true) (hq2 : q < σ.2.1) : ∃ (D' : Nat → Int × Int) (G' : Int → Int → Nat) (cp' : Nat) (el' : Nat → Option Nat) (σ' : mm_M), f_J2_add_2 (G 3 0) q (cput D (cel G adk nfk ndk pnk agk mkk flk dtk hwk dpk alk cok fek rpk rok wek plk mok eak lnk cpk elk owk skk txk tlk rfk slk hsk) σ) = some (J 1, (cput D' (cel G' adk nfk ndk pnk agk mkk flk dtk hwk dpk alk cok fek rpk rok wek plk (mok + J 1) (G' 3 2) (lnk + 1) cp' el' owk skk txk tlk rfk slk hsk) σ')) ∧ CAPS cp' ∧ lnk + 1 ≤ cp' ∧ cp' ≤ 250 ∧ GU D' G' 3 2 ∧ EX D σ D' σ' ∧ KP D G D' G' ∧ KQ D D' ∧ ∀ i : Int, 0 ≤ i → i ≤ lnk → el' i.toNat = if i < lnk then elk i.toNat else some q := by
  have hval : ∀ (el : Nat → Option Nat) (i : Int), 0 ≤ i → i ≤ lnk → (∀ j : Nat, (j : Int) < lnk → el j = elk j) → va_up el lnk.toNat (some q) i.toNat = if i < lnk then elk i.toNat else some q := by
    intro el i i1 i2 he
    unfold va_up
    by_cases h1 : i < lnk
    · rw [if_neg (by omega), if_pos h1, he _ (by omega)]
    · rw [if_pos (by omega), if_neg h1]
  have hN := kl_aN (mok := mok + J 1) (elk := elk) (lnk := lnk) (adk := adk) (nfk := nfk) (ndk := ndk) (pnk := pnk) (agk := agk) (mkk := mkk) (flk := flk) (dtk := dtk) (hwk := hwk) (dpk := dpk) (alk := alk) (cok := cok) (fek := fek) (rpk := rpk) (rok := rok) (wek := wek) (plk := plk) (owk := owk) (skk := skk) (txk := txk) (tlk := tlk) (rfk := rfk) (slk := slk) (hsk := hsk) hb hCE hE hU
  unfold f_J2_add_2 f_J2_add_3
  simp (disch := first | assumption | exact HU.lu (by assumption) | exact cw_okn | exact cw_ok3 (by assumption) | exact cw_ok5 (by assumption) | omega) only [J_add, J_sub, J_mul, J_neg, J_lit, J_lt, J_le, J_eq, Option.bind_some, Int.reduceAdd, Int.reduceSub, Int.reduceMul, Int.reduceNeg, Int.reduceEq, Int.reduceLT, Int.reduceLE, reduceIte, Int.zero_add, Int.add_zero, and_self, true_and, and_true, false_and, and_false, or_true, true_or, or_false, false_or, not_true_eq_false, not_false_eq_true, ne_eq, b2_s, cw_gadk, cw_gpnk, cw_gagk, cw_gmkk, cw_gfl, cw_gdt, cw_kth, cw_afl, cw_nfl, cw_adt, cw_ndt, cw_gmok, cw_geak, cw_glnk, cw_k0, cw_k6, cw_k7, cw_aowk, cw_aelk, cw_askk, cw_aslk, cw_nelk, cw_arok, cw_nrok, cw_awek, cw_nwek, cw_aplk, cw_nplk, cw_atxk, cw_ntxk, cw_ghwk, cw_gdpk, cw_galk, cw_gcok, cw_gfek, cw_h2, cw_h3, cw_h4, cw_h5, cw_h10, cw_grpk, cw_x0, cw_x1, cw_x2, cw_x5, cw_gtlk, cw_grfk, cw_ghsk, cw_padk, cw_pagk, cw_pmkk, cw_ppnk, cw_zpnk, cw_sfl, cw_sdt, cw_pmok, cw_peak, cw_plnk, cw_sowk, cw_selk, cw_sskk, cw_sslk, cw_srok, cw_swek, cw_splk, cw_palk, cw_pcok, cw_pfek, cw_prpk, cw_ptlk, cw_prfk, cw_phsk, cw_stxk, cw_ok3, cw_ok5, cw_okn]
  rw [hN, Option.bind_some]
  simp (disch := omega) only [J_eq]
  by_cases hn : lnk = cpk
  · obtain ⟨cp', el', σ', h1, h2, h3, h4, h5, h6⟩ := kl_grow (mok := mok + J 1) (adk := adk) (nfk := nfk) (ndk := ndk) (pnk := pnk) (agk := agk) (mkk := mkk) (flk := flk) (dtk := dtk) (hwk := hwk) (dpk := dpk) (alk := alk) (cok := cok) (fek := fek) (rpk := rpk) (rok := rok) (wek := wek) (plk := plk) (owk := owk) (skk := skk) (txk := txk) (tlk := tlk) (rfk := rfk) (slk := slk) (hsk := hsk) hL hb hc hE hCE hU hn (by omega) (fun i hi => by
      obtain ⟨y, y1, y2, y3⟩ := hok i (by omega)
      exact ⟨y, y1, y2, kl_okM hL y3⟩)
    have hkp : KP D G (dN D 3 2 σ.2.1) (gN G 3 2 σ.2.1) := KP.new hL.1 hb
    have hL' : LU (dN D 3 2 σ.2.1) (gN G 3 2 σ.2.1) := ⟨hkp.1, (hkp.2 _ _ (by omega) (by omega) hL.2).1⟩
    have hU' : GU (dN D 3 2 σ.2.1) (gN G 3 2 σ.2.1) 3 2 := GU_dN_s
    have hg30 : gN G 3 2 σ.2.1 3 0 = G 3 0 := gN_n (by omega)
    have hg32 : gN G 3 2 σ.2.1 3 2 = σ.2.1 := gN_s
    have hq9 := kl_okN (cp' := cp') (el' := el') hL h6 hq2 (kl_okM (v := mok + J 1) hL hq)
    refine ⟨dN D 3 2 σ.2.1, gN G 3 2 σ.2.1, cp', va_up el' lnk.toNat (some q), σ', ?_, h2, by omega, h4, GU_dN_s, h6, hkp, KQ.new, fun i i1 i2 => hval el' i i1 i2 (fun j hj => h5 j (by omega))⟩
    rw [if_pos hn, h1, b2_s]
    unfold g_J2_add_3_11
    have e1 := cw_selk (σ := σ') (eak := σ.2.1) (cpk := cp') (elk := el') (lnk := lnk) (mok := mok + J 1) (r := some q) (z := lnk) (adk := adk) (nfk := nfk) (ndk := ndk) (pnk := pnk) (agk := agk) (mkk := mkk) (flk := flk) (dtk := dtk) (hwk := hwk) (dpk := dpk) (alk := alk) (cok := cok) (fek := fek) (rpk := rpk) (rok := rok) (wek := wek) (plk := plk) (owk := owk) (skk := skk) (txk := txk) (tlk := tlk) (rfk := rfk) (slk := slk) (hsk := hsk) hL' hU' l1 (by omega) (by omega) hq9
    rw [hg32] at e1
    rw [e1, Option.bind_some, ← hg30]
    simp (disch := first | assumption | exact HU.lu (by assumption) | exact cw_okn | exact cw_ok3 (by assumption) | exact cw_ok5 (by assumption) | omega) only [J_add, J_sub, J_mul, J_neg, J_lit, J_lt, J_le, J_eq, Option.bind_some, Int.reduceAdd, Int.reduceSub, Int.reduceMul, Int.reduceNeg, Int.reduceEq, Int.reduceLT, Int.reduceLE, reduceIte, Int.zero_add, Int.add_zero, and_self, true_and, and_true, false_and, and_false, or_true, true_or, or_false, false_or, not_true_eq_false, not_false_eq_true, ne_eq, b2_s, cw_gadk, cw_gpnk, cw_gagk, cw_gmkk, cw_gfl, cw_gdt, cw_kth, cw_afl, cw_nfl, cw_adt, cw_ndt, cw_gmok, cw_geak, cw_glnk, cw_k0, cw_k6, cw_k7, cw_aowk, cw_aelk, cw_askk, cw_aslk, cw_nelk, cw_arok, cw_nrok, cw_awek, cw_nwek, cw_aplk, cw_nplk, cw_atxk, cw_ntxk, cw_ghwk, cw_gdpk, cw_galk, cw_gcok, cw_gfek, cw_h2, cw_h3, cw_h4, cw_h5, cw_h10, cw_grpk, cw_x0, cw_x1, cw_x2, cw_x5, cw_gtlk, cw_grfk, cw_ghsk, cw_padk, cw_pagk, cw_pmkk, cw_ppnk, cw_zpnk, cw_sfl, cw_sdt, cw_pmok, cw_peak, cw_plnk, cw_sowk, cw_selk, cw_sskk, cw_sslk, cw_srok, cw_swek, cw_splk, cw_palk, cw_pcok, cw_pfek, cw_prpk, cw_ptlk, cw_prfk, cw_phsk, cw_stxk, cw_ok3, cw_ok5, cw_okn, hg32]
  · have hp : 0 < cpk := by omega
    obtain ⟨e1, e2⟩ := hU hp
    subst e1
    refine ⟨D, G, cpk, va_up elk lnk.toNat (some q), σ, ?_, hc, by omega, l4, e2, EX.rfl' hb, KP.rfl' hL.1, KQ.rfl', fun i i1 i2 => hval elk i i1 i2 (fun _ _ => rfl)⟩
    have hq9 := kl_okM (v := mok + J 1) hL hq
    unfold g_J2_add_3_11
    simp (disch := first | assumption | exact HU.lu (by assumption) | exact cw_okn | exact cw_ok3 (by assumption) | exact cw_ok5 (by assumption) | omega) only [J_add, J_sub, J_mul, J_neg, J_lit, J_lt, J_le, J_eq, Option.bind_some, Int.reduceAdd, Int.reduceSub, Int.reduceMul, Int.reduceNeg, Int.reduceEq, Int.reduceLT, Int.reduceLE, reduceIte, Int.zero_add, Int.add_zero, and_self, true_and, and_true, false_and, and_false, or_true, true_or, or_false, false_or, not_true_eq_false, not_false_eq_true, ne_eq, b2_s, cw_gadk, cw_gpnk, cw_gagk, cw_gmkk, cw_gfl, cw_gdt, cw_kth, cw_afl, cw_nfl, cw_adt, cw_ndt, cw_gmok, cw_geak, cw_glnk, cw_k0, cw_k6, cw_k7, cw_aowk, cw_aelk, cw_askk, cw_aslk, cw_nelk, cw_arok, cw_nrok, cw_awek, cw_nwek, cw_aplk, cw_nplk, cw_atxk, cw_ntxk, cw_ghwk, cw_gdpk, cw_galk, cw_gcok, cw_gfek, cw_h2, cw_h3, cw_h4, cw_h5, cw_h10, cw_grpk, cw_x0, cw_x1, cw_x2, cw_x5, cw_gtlk, cw_grfk, cw_ghsk, cw_padk, cw_pagk, cw_pmkk, cw_ppnk, cw_zpnk, cw_sfl, cw_sdt, cw_pmok, cw_peak, cw_plnk, cw_sowk, cw_selk, cw_sskk, cw_sslk, cw_srok, cw_swek, cw_splk, cw_palk, cw_pcok, cw_pfek, cw_prpk, cw_ptlk, cw_prfk, cw_phsk, cw_stxk, cw_ok3, cw_ok5, cw_okn, if_neg hn]
theorem kl_remove (hL : LU D G) (e2 : GU D G 3 2) (l2 : lnk ≤ 200) (l3 : lnk ≤ cpk) (l4 : cpk ≤ 250) (hok : ∀ i : Nat, (i : Int) < lnk → okR (cput D (cel G adk nfk ndk pnk agk mkk flk dtk hwk dpk alk cok fek rpk rok wek plk mok (G 3 2) lnk cpk elk owk skk txk tlk rfk slk hsk) σ) 5 (elk i) = true) {k : Int} (k1 : 0 ≤ k) (k2 : k < lnk) : ∃ el', f_J2_remove (G 3 0) (J k) (cput D (cel G adk nfk ndk pnk agk mkk flk dtk hwk dpk alk cok fek rpk rok wek plk mok (G 3 2) lnk cpk elk owk skk txk tlk rfk slk hsk) σ) = some (elk k.toNat, (cput D (cel G adk nfk ndk pnk agk mkk flk dtk hwk dpk alk cok fek rpk rok wek plk (mok + J 1) (G 3 2) (lnk - 1) cpk el' owk skk txk tlk rfk slk hsk) σ)) ∧ ∀ i : Int, 0 ≤ i → i < lnk - 1 → el' i.toNat = if i < k then elk i.toNat else elk (i + 1).toNat := by
  unfold f_J2_remove f_J3_checkIndex f_J4_checkIndex f_J2_fastRemove
  by_cases hk : lnk - 1 ≤ k
  · refine ⟨va_up elk (lnk - 1).toNat none, ?_, fun i i1 i2 => ?_⟩
    · simp (disch := first | assumption | exact HU.lu (by assumption) | exact cw_okn | exact cw_ok3 (by assumption) | exact cw_ok5 (by assumption) | omega) only [J_add, J_sub, J_mul, J_neg, J_lit, J_lt, J_le, J_eq, Option.bind_some, Int.reduceAdd, Int.reduceSub, Int.reduceMul, Int.reduceNeg, Int.reduceEq, Int.reduceLT, Int.reduceLE, reduceIte, Int.zero_add, Int.add_zero, and_self, true_and, and_true, false_and, and_false, or_true, true_or, or_false, false_or, not_true_eq_false, not_false_eq_true, ne_eq, b2_s, cw_gadk, cw_gpnk, cw_gagk, cw_gmkk, cw_gfl, cw_gdt, cw_kth, cw_afl, cw_nfl, cw_adt, cw_ndt, cw_gmok, cw_geak, cw_glnk, cw_k0, cw_k6, cw_k7, cw_aowk, cw_aelk, cw_askk, cw_aslk, cw_nelk, cw_arok, cw_nrok, cw_awek, cw_nwek, cw_aplk, cw_nplk, cw_atxk, cw_ntxk, cw_ghwk, cw_gdpk, cw_galk, cw_gcok, cw_gfek, cw_h2, cw_h3, cw_h4, cw_h5, cw_h10, cw_grpk, cw_x0, cw_x1, cw_x2, cw_x5, cw_gtlk, cw_grfk, cw_ghsk, cw_padk, cw_pagk, cw_pmkk, cw_ppnk, cw_zpnk, cw_sfl, cw_sdt, cw_pmok, cw_peak, cw_plnk, cw_sowk, cw_selk, cw_sskk, cw_sslk, cw_srok, cw_swek, cw_splk, cw_palk, cw_pcok, cw_pfek, cw_prpk, cw_ptlk, cw_prfk, cw_phsk, cw_stxk, cw_ok3, cw_ok5, cw_okn, if_neg (show ¬ k < 0 by omega), if_pos k2, if_pos hk]
    · unfold va_up
      rw [if_neg (by omega), if_pos (by omega)]
  · refine ⟨va_up (va_cpy elk elk (k + 1).toNat k.toNat (lnk - 1 - k).toNat) (lnk - 1).toNat none, ?_, fun i i1 i2 => ?_⟩
    · have h0 : (cput D (cel G adk nfk ndk pnk agk mkk flk dtk hwk dpk alk cok fek rpk rok wek plk (mok + J 1) (G 3 2) lnk cpk elk owk skk txk tlk rfk slk hsk) σ).1 (G 3 2) = _ := cc_2 e2
      have hcr := cR_at (sp := k + 1) (dp := k) (n := lnk - 1 - k) h0 h0 (by omega) (by omega) (by omega) (by omega) (by omega) (by omega) (by omega) (by omega) (by omega) (fun i hi => by
        have h8 := hok ((k + 1).toNat + i) (by omega)
        cases hy : elk ((k + 1).toNat + i) with
        | none => rfl
        | some y =>
          rw [hy] at h8
          exact kl_okM hL h8)
      have hw : sE (cput D (cel G adk nfk ndk pnk agk mkk flk dtk hwk dpk alk cok fek rpk rok wek plk (mok + J 1) (G 3 2) lnk cpk elk owk skk txk tlk rfk slk hsk) σ) (G 3 2) (.inr (.inr (5, cpk, va_cpy elk elk (k + 1).toNat k.toNat (lnk - 1 - k).toNat))) = (cput D (cel G adk nfk ndk pnk agk mkk flk dtk hwk dpk alk cok fek rpk rok wek plk (mok + J 1) (G 3 2) lnk cpk (va_cpy elk elk (k + 1).toNat k.toNat (lnk - 1 - k).toNat) owk skk txk tlk rfk slk hsk) σ) := cput_sE hL.1 e2 (by omega) (by simp [cel]) (by
        intro k' a' hn
        simp only [cel, if_neg hn])
      rw [hw] at hcr
      simp (disch := first | assumption | exact HU.lu (by assumption) | exact cw_okn | exact cw_ok3 (by assumption) | exact cw_ok5 (by assumption) | omega) only [J_add, J_sub, J_mul, J_neg, J_lit, J_lt, J_le, J_eq, Option.bind_some, Int.reduceAdd, Int.reduceSub, Int.reduceMul, Int.reduceNeg, Int.reduceEq, Int.reduceLT, Int.reduceLE, reduceIte, Int.zero_add, Int.add_zero, and_self, true_and, and_true, false_and, and_false, or_true, true_or, or_false, false_or, not_true_eq_false, not_false_eq_true, ne_eq, b2_s, cw_gadk, cw_gpnk, cw_gagk, cw_gmkk, cw_gfl, cw_gdt, cw_kth, cw_afl, cw_nfl, cw_adt, cw_ndt, cw_gmok, cw_geak, cw_glnk, cw_k0, cw_k6, cw_k7, cw_aowk, cw_aelk, cw_askk, cw_aslk, cw_nelk, cw_arok, cw_nrok, cw_awek, cw_nwek, cw_aplk, cw_nplk, cw_atxk, cw_ntxk, cw_ghwk, cw_gdpk, cw_galk, cw_gcok, cw_gfek, cw_h2, cw_h3, cw_h4, cw_h5, cw_h10, cw_grpk, cw_x0, cw_x1, cw_x2, cw_x5, cw_gtlk, cw_grfk, cw_ghsk, cw_padk, cw_pagk, cw_pmkk, cw_ppnk, cw_zpnk, cw_sfl, cw_sdt, cw_pmok, cw_peak, cw_plnk, cw_sowk, cw_selk, cw_sskk, cw_sslk, cw_srok, cw_swek, cw_splk, cw_palk, cw_pcok, cw_pfek, cw_prpk, cw_ptlk, cw_prfk, cw_phsk, cw_stxk, cw_ok3, cw_ok5, cw_okn, if_neg (show ¬ k < 0 by omega), if_pos k2, if_neg hk, hcr]
    · unfold va_up va_cpy
      rw [if_neg (by omega)]
      by_cases h1 : i < k
      · rw [if_neg (by omega), if_pos h1]
      · rw [if_pos (by omega), if_neg h1]
        congr 1
        omega
end T1
