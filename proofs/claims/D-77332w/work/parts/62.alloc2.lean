/-! PLAIN LAW: alloc, the component's side, whole. NAMES: kc_alloc -/
set_option maxRecDepth 100000
theorem hd_bounds {m hd : Int → Int} {lnk : Int} (h : HDS m hd lnk) (l1 : lnk ≤ 200) : ∀ k : Nat, (k : Int) < lnk → (k : Int) ≤ hd k := by
  intro k
  induction k with
  | zero => exact fun q => (h.1 0 (by omega) q).1
  | succ k ih =>
    intro q
    have h1 := ih (by omega)
    have h2 := h.2.1 k (k + 1 : Nat) (by omega) (by omega) q
    omega
theorem hd_bounds2 {m hd : Int → Int} {lnk : Int} (h : HDS m hd lnk) : ∀ j : Nat, (j : Int) < lnk → hd (lnk - 1 - j) ≤ 199 - j := by
  intro j
  induction j with
  | zero => exact fun q => by have := h.1 (lnk - 1 - (0 : Nat)) (by omega) (by omega); omega
  | succ j ih =>
    intro q
    have h1 := ih (by omega)
    have h2 := h.2.1 (lnk - 1 - (j + 1 : Nat)) (lnk - 1 - j) (by omega) (by omega) (by omega)
    omega
/-- a word that is no header: not all 200 are headers -/
theorem hd_200 {m hd : Int → Int} {lnk r : Int} (h : HDS m hd lnk) (l0 : 0 ≤ lnk) (l1 : lnk ≤ 200) (r1 : 0 ≤ r) (r2 : r < 200) (hr : ¬ 0 < m r) : lnk < 200 := by
  by_cases hl : lnk < 200
  · exact hl
  · have e : lnk = 200 := by omega
    subst e
    have h1 := hd_bounds h (by omega) r.toNat (by omega)
    have h2 := hd_bounds2 h (199 - r).toNat (by omega)
    rw [show (200 : Int) - 1 - ((199 - r).toNat : Int) = r by omega] at h2
    rw [show ((r.toNat : Nat) : Int) = r by omega] at h1
    have h3 : hd r = r := by omega
    have h4 := (h.1 r r1 (by omega)).2.2
    rw [h3] at h4
    exact absurd h4 hr
/-- where an address stands among the headers -/
theorem hd_pos (hd : Int → Int) (lnk r : Int) (l0 : 0 ≤ lnk) : ∃ p, 0 ≤ p ∧ p ≤ lnk ∧ (∀ k, 0 ≤ k → k < p → hd k < r) ∧ (p < lnk → r ≤ hd p) := by
  have key : ∀ n : Nat, (n : Int) ≤ lnk → (∀ k : Int, 0 ≤ k → k < n → hd k < r) ∨ ∃ p : Int, 0 ≤ p ∧ p < n ∧ (∀ k, 0 ≤ k → k < p → hd k < r) ∧ r ≤ hd p := by
    intro n
    induction n with
    | zero => exact fun _ => Or.inl (fun k k1 k2 => by omega)
    | succ n ih =>
      intro hn
      rcases ih (by omega) with h | ⟨p, p1, p2, p3, p4⟩
      · by_cases hr : hd n < r
        · refine Or.inl (fun k k1 k2 => ?_)
          by_cases hk : k = n
          · rw [hk]; exact hr
          · exact h k k1 (by omega)
        · exact Or.inr ⟨n, by omega, by omega, h, by omega⟩
      · exact Or.inr ⟨p, p1, by omega, p3, p4⟩
  rcases key lnk.toNat (by omega) with h | ⟨p, p1, p2, p3, p4⟩
  · exact ⟨lnk, l0, by omega, fun k k1 k2 => h k k1 (by omega), fun q => by omega⟩
  · exact ⟨p, p1, by omega, p3, fun _ => p4⟩
section T1
variable {m hd : Int → Int} {adk nfk ndk pnk agk mkk rok wek plk txk : Int → Int} {flk dtk : Int → Int → Int} {hwk dpk alk cok fek lnk tlk rfk : Int} {rpk : Option Nat} {mok : Int32} {eak cpk : Nat} {elk owk skk slk : Nat → Option Nat} {hsk : Int64} {D : Nat → Int × Int} {G : Int → Int → Nat} {σ : mm_M}
set_option maxHeartbeats 1000000 in
theorem kc_alloc (hm : WF m) (h : (CG m hd D G adk nfk ndk pnk agk mkk flk dtk hwk dpk alk cok fek rpk rok wek plk mok eak lnk cpk elk owk skk txk tlk rfk slk hsk σ)) {f d : Int} (hf : ir f) (hd0 : ir d) : (¬ ((0 ≤ f ∧ f ≤ 6) ∧ (0 ≤ d ∧ d ≤ 6)) → f_X0_alloc (G 3 7) (J f) (J d) (cput D (cel G adk nfk ndk pnk agk mkk flk dtk hwk dpk alk cok fek rpk rok wek plk mok eak lnk cpk elk owk skk txk tlk rfk slk hsk) σ) = some (J (-1000002), (cput D (cel G adk nfk ndk pnk agk mkk flk dtk hwk dpk alk cok fek rpk rok wek plk mok eak lnk cpk elk owk skk txk tlk rfk slk hsk) σ))) ∧ ((0 ≤ f ∧ f ≤ 6) → (0 ≤ d ∧ d ≤ 6) → ∃ r M', isFH m (1 + f + d) r ∧ f_X0_alloc (G 3 7) (J f) (J d) (cput D (cel G adk nfk ndk pnk agk mkk flk dtk hwk dpk alk cok fek rpk rok wek plk mok eak lnk cpk elk owk skk txk tlk rfk slk hsk) σ) = some (J (if r = -1 then -1000004 else r), M') ∧ OPK D σ (G 3 7) txk tlk rfk slk hsk (if r = -1 then m else mL m r f d) M') := by
  have hg := h.hu
  have hu := h.xu
  have h1 := kc_in hf (show ir 0 by unfold ir; omega) (show ir 6 by unfold ir; omega) (σ := (cput D (cel G adk nfk ndk pnk agk mkk flk dtk hwk dpk alk cok fek rpk rok wek plk mok eak lnk cpk elk owk skk txk tlk rfk slk hsk) σ))
  have h2 := kc_in hd0 (show ir 0 by unfold ir; omega) (show ir 6 by unfold ir; omega) (σ := (cput D (cel G adk nfk ndk pnk agk mkk flk dtk hwk dpk alk cok fek rpk rok wek plk mok eak lnk cpk elk owk skk txk tlk rfk slk hsk) σ))
  unfold f_X0_alloc
  constructor
  · intro hc
    by_cases c1 : 0 ≤ f ∧ f ≤ 6
    · have c2 : ¬ (0 ≤ d ∧ d ≤ 6) := fun q => hc ⟨c1, q⟩
      simp (disch := first | assumption | exact HU.lu (by assumption) | exact cw_okn | exact cw_ok3 (by assumption) | exact cw_ok5 (by assumption) | omega) only [J_add, J_sub, J_mul, J_neg, J_lit, J_lt, J_le, J_eq, Option.bind_some, Int.reduceAdd, Int.reduceSub, Int.reduceMul, Int.reduceNeg, Int.reduceEq, Int.reduceLT, Int.reduceLE, reduceIte, Int.zero_add, Int.add_zero, and_self, true_and, and_true, false_and, and_false, or_true, true_or, or_false, false_or, not_true_eq_false, not_false_eq_true, ne_eq, b2_s, cw_gadk, cw_gpnk, cw_gagk, cw_gmkk, cw_gfl, cw_gdt, cw_kth, cw_afl, cw_nfl, cw_adt, cw_ndt, cw_gmok, cw_geak, cw_glnk, cw_k0, cw_k6, cw_k7, cw_aowk, cw_aelk, cw_askk, cw_aslk, cw_nelk, cw_arok, cw_nrok, cw_awek, cw_nwek, cw_aplk, cw_nplk, cw_atxk, cw_ntxk, cw_ghwk, cw_gdpk, cw_galk, cw_gcok, cw_gfek, cw_h2, cw_h3, cw_h4, cw_h5, cw_h10, cw_grpk, cw_x0, cw_x1, cw_x2, cw_x5, cw_gtlk, cw_grfk, cw_ghsk, cw_padk, cw_pagk, cw_pmkk, cw_ppnk, cw_zpnk, cw_sfl, cw_sdt, cw_pmok, cw_peak, cw_plnk, cw_sowk, cw_selk, cw_sskk, cw_sslk, cw_srok, cw_swek, cw_splk, cw_palk, cw_pcok, cw_pfek, cw_prpk, cw_ptlk, cw_prfk, cw_phsk, cw_stxk, cw_ok3, cw_ok5, cw_okn, h1, h2, if_pos c1, if_neg c2]
    · simp (disch := first | assumption | exact HU.lu (by assumption) | exact cw_okn | exact cw_ok3 (by assumption) | exact cw_ok5 (by assumption) | omega) only [J_add, J_sub, J_mul, J_neg, J_lit, J_lt, J_le, J_eq, Option.bind_some, Int.reduceAdd, Int.reduceSub, Int.reduceMul, Int.reduceNeg, Int.reduceEq, Int.reduceLT, Int.reduceLE, reduceIte, Int.zero_add, Int.add_zero, and_self, true_and, and_true, false_and, and_false, or_true, true_or, or_false, false_or, not_true_eq_false, not_false_eq_true, ne_eq, b2_s, cw_gadk, cw_gpnk, cw_gagk, cw_gmkk, cw_gfl, cw_gdt, cw_kth, cw_afl, cw_nfl, cw_adt, cw_ndt, cw_gmok, cw_geak, cw_glnk, cw_k0, cw_k6, cw_k7, cw_aowk, cw_aelk, cw_askk, cw_aslk, cw_nelk, cw_arok, cw_nrok, cw_awek, cw_nwek, cw_aplk, cw_nplk, cw_atxk, cw_ntxk, cw_ghwk, cw_gdpk, cw_galk, cw_gcok, cw_gfek, cw_h2, cw_h3, cw_h4, cw_h5, cw_h10, cw_grpk, cw_x0, cw_x1, cw_x2, cw_x5, cw_gtlk, cw_grfk, cw_ghsk, cw_padk, cw_pagk, cw_pmkk, cw_ppnk, cw_zpnk, cw_sfl, cw_sdt, cw_pmok, cw_peak, cw_plnk, cw_sowk, cw_selk, cw_sskk, cw_sslk, cw_srok, cw_swek, cw_splk, cw_palk, cw_pcok, cw_pfek, cw_prpk, cw_ptlk, cw_prfk, cw_phsk, cw_stxk, cw_ok3, cw_ok5, cw_okn, h1, if_neg c1]
  · rintro ⟨f1, f2⟩ ⟨d1, d2⟩
    have hk := h.km
    obtain ⟨r, e1, e2⟩ := kc_firstHole hg hm hk (z := 1 + f + d) (by omega) (by omega)
    simp (disch := first | assumption | exact HU.lu (by assumption) | exact cw_okn | exact cw_ok3 (by assumption) | exact cw_ok5 (by assumption) | omega) only [J_add, J_sub, J_mul, J_neg, J_lit, J_lt, J_le, J_eq, Option.bind_some, Int.reduceAdd, Int.reduceSub, Int.reduceMul, Int.reduceNeg, Int.reduceEq, Int.reduceLT, Int.reduceLE, reduceIte, Int.zero_add, Int.add_zero, and_self, true_and, and_true, false_and, and_false, or_true, true_or, or_false, false_or, not_true_eq_false, not_false_eq_true, ne_eq, b2_s, cw_gadk, cw_gpnk, cw_gagk, cw_gmkk, cw_gfl, cw_gdt, cw_kth, cw_afl, cw_nfl, cw_adt, cw_ndt, cw_gmok, cw_geak, cw_glnk, cw_k0, cw_k6, cw_k7, cw_aowk, cw_aelk, cw_askk, cw_aslk, cw_nelk, cw_arok, cw_nrok, cw_awek, cw_nwek, cw_aplk, cw_nplk, cw_atxk, cw_ntxk, cw_ghwk, cw_gdpk, cw_galk, cw_gcok, cw_gfek, cw_h2, cw_h3, cw_h4, cw_h5, cw_h10, cw_grpk, cw_x0, cw_x1, cw_x2, cw_x5, cw_gtlk, cw_grfk, cw_ghsk, cw_padk, cw_pagk, cw_pmkk, cw_ppnk, cw_zpnk, cw_sfl, cw_sdt, cw_pmok, cw_peak, cw_plnk, cw_sowk, cw_selk, cw_sskk, cw_sslk, cw_srok, cw_swek, cw_splk, cw_palk, cw_pcok, cw_pfek, cw_prpk, cw_ptlk, cw_prfk, cw_phsk, cw_stxk, cw_ok3, cw_ok5, cw_okn, h1, h2, if_pos (show 0 ≤ f ∧ f ≤ 6 from ⟨f1, f2⟩), if_pos (show 0 ≤ d ∧ d ≤ 6 from ⟨d1, d2⟩)]
    unfold f_X1_alloc g_X1_alloc_0
    by_cases hr : r = -1
    · subst hr
      refine ⟨-1, (cput D (cel G adk nfk ndk pnk agk mkk flk dtk hwk dpk alk cok fek rpk rok wek plk mok eak lnk cpk elk owk skk txk tlk rfk slk hsk) σ), e2, ?_, ?_⟩
      · simp (disch := first | assumption | exact HU.lu (by assumption) | exact cw_okn | exact cw_ok3 (by assumption) | exact cw_ok5 (by assumption) | omega) only [J_add, J_sub, J_mul, J_neg, J_lit, J_lt, J_le, J_eq, Option.bind_some, Int.reduceAdd, Int.reduceSub, Int.reduceMul, Int.reduceNeg, Int.reduceEq, Int.reduceLT, Int.reduceLE, reduceIte, Int.zero_add, Int.add_zero, and_self, true_and, and_true, false_and, and_false, or_true, true_or, or_false, false_or, not_true_eq_false, not_false_eq_true, ne_eq, b2_s, cw_gadk, cw_gpnk, cw_gagk, cw_gmkk, cw_gfl, cw_gdt, cw_kth, cw_afl, cw_nfl, cw_adt, cw_ndt, cw_gmok, cw_geak, cw_glnk, cw_k0, cw_k6, cw_k7, cw_aowk, cw_aelk, cw_askk, cw_aslk, cw_nelk, cw_arok, cw_nrok, cw_awek, cw_nwek, cw_aplk, cw_nplk, cw_atxk, cw_ntxk, cw_ghwk, cw_gdpk, cw_galk, cw_gcok, cw_gfek, cw_h2, cw_h3, cw_h4, cw_h5, cw_h10, cw_grpk, cw_x0, cw_x1, cw_x2, cw_x5, cw_gtlk, cw_grfk, cw_ghsk, cw_padk, cw_pagk, cw_pmkk, cw_ppnk, cw_zpnk, cw_sfl, cw_sdt, cw_pmok, cw_peak, cw_plnk, cw_sowk, cw_selk, cw_sskk, cw_sslk, cw_srok, cw_swek, cw_splk, cw_palk, cw_pcok, cw_pfek, cw_prpk, cw_ptlk, cw_prfk, cw_phsk, cw_stxk, cw_ok3, cw_ok5, cw_okn]
        rw [e1, Option.bind_some, if_pos rfl, lgo_r]
        rfl
      · rw [if_pos rfl]
        exact OPK.id h
    · rcases e2 with ⟨q, -⟩ | ⟨e2, e3⟩
      · exact absurd q hr
      have hW := hm.hW
      have hfr := e2
      obtain ⟨g1, g2, g3⟩ := e2
      have hr0 := mL_0 hm hfr f1 d1 0 (by omega) (by omega)
      rw [Int.add_zero] at hr0
      have hls := hk.ls
      have hhd := hk.hs
      have hls0 := hls
      obtain ⟨⟨l1, l2, l3, l4⟩, l5, l6⟩ := hls0
      have hl200 := hd_200 hhd l1 l2 g1 (by omega) (show ¬ 0 < m r by omega)
      have hD : ∀ b, σ.2.1 ≤ b → (D b).1 = -1 := fun b hb => by
        by_cases q : (D b).1 = -1
        · exact q
        · have := h.db b q; omega
      -- the thing, made
      have hnO := ko_nO (σ := σ) (D := D) (c := cel G adk nfk ndk pnk agk mkk flk dtk hwk dpk alk cok fek rpk rok wek plk mok eak lnk cpk elk owk skk txk tlk rfk slk hsk) (x := 3) (fs := df_3) (hD _ (Nat.le_refl _))
      have hth := kc_thinit (M := (cput D (cel G adk nfk ndk pnk agk mkk flk dtk hwk dpk alk cok fek rpk rok wek plk mok eak lnk cpk elk owk skk txk tlk rfk slk hsk) (nE σ (.inl (3, df_3))))) (h0 := σ.2.1) (a := r) (f := f) (d := d) (by
        rw [cput_o (hD _ (Nat.le_refl _))]
        unfold nE
        dsimp only
        rw [if_pos rfl]) (by show σ.2.1 < σ.2.1 + 1; omega) f1 f2 d1 d2
      rw [th9_cput (hD _ (Nat.le_refl _)) (hD _ (by show σ.2.1 ≤ σ.2.1 + 1; omega)) (hD _ (by show σ.2.1 ≤ σ.2.1 + 1 + 1; omega))] at hth
      have hnk : ∀ b k, 0 ≤ k → k ≤ 2 → D b ≠ (k, r) := fun b k k1 k2 q => by
        have := (h.uq b k r q k1 k2).2.2
        omega
      have hT := TH_dT (D := D) (G := G) (r := r) (q := σ.2.1)
      obtain ⟨hT1, hT2, hT3, hT4⟩ := hT
      generalize hσ2 : th9 (nE σ (.inl (3, df_3))) σ.2.1 r f d (fun j => if 0 ≤ j ∧ j < f then -1 else 0) = σ2 at hth
      have s0 : σ2.1 σ.2.1 = some (.inl (3, [vI (J r), vR (some (σ.2.1 + 1)), vR (some (σ.2.1 + 2)), vI (J 0), vI (J 0), vI (J 0)])) := by
        rw [← hσ2]
        unfold th9 nE
        dsimp only
        rw [if_neg (by omega), if_neg (by omega), if_pos rfl]
      have s1 : σ2.1 (σ.2.1 + 1) = some (.inr (.inl (0, f.toNat, rw_ (fun j => if 0 ≤ j ∧ j < f then -1 else 0)))) := by
        rw [← hσ2]
        unfold th9 nE
        dsimp only
        rw [if_neg (by omega), if_pos rfl]
      have s2 : σ2.1 (σ.2.1 + 2) = some (.inr (.inl (0, d.toNat, rw_ (fun _ => 0)))) := by
        rw [← hσ2]
        unfold th9 nE
        dsimp only
        rw [if_pos (by omega)]
      have s3 : ∀ b, b < σ.2.1 → σ2.1 b = σ.1 b := fun b hb => by
        rw [← hσ2]
        unfold th9 nE
        dsimp only
        rw [if_neg (by omega), if_neg (by omega), if_neg (by omega), if_neg (by omega)]
      have s4 : σ2.2.1 = σ.2.1 + 3 ∧ σ2.2.2 = σ.2.2 := by
        rw [← hσ2]
        exact ⟨rfl, rfl⟩
      have had := cput_adopt3 (σ := σ2) (D := D) (r := r) (q := σ.2.1) (c := cel G adk nfk ndk pnk agk mkk flk dtk hwk dpk alk cok fek rpk rok wek plk mok eak lnk cpk elk owk skk txk tlk rfk slk hsk) (c' := cel (gT G r σ.2.1) (up adk r r) (up nfk r f) (up ndk r d) (up pnk r 0) (up agk r 0) (up mkk r 0) (up2 flk r (fun j => if 0 ≤ j ∧ j < f then -1 else 0)) (up2 dtk r (fun _ => 0)) hwk dpk alk cok fek rpk rok wek plk mok eak lnk cpk elk owk skk txk tlk rfk slk hsk) (hD _ (by omega)) (hD _ (by omega)) (hD _ (by omega)) s0 s1 s2 (by simp [cel, up_s, hT3, hT4]) (by simp [cel, up_s, up2_s]) (by simp [cel, up_s, up2_s]) (fun b hb => by
        generalize hDb : D b = ka at hb ⊢
        obtain ⟨k, a⟩ := ka
        dsimp only at hb ⊢
        by_cases hk3 : 0 ≤ k ∧ k ≤ 2
        · have har : ¬ a = r := fun q => hnk b k hk3.1 hk3.2 (by rw [hDb, q])
          have hnn : ∀ j, gT G r σ.2.1 j a = G j a := fun j => gT_n (Or.inr har)
          have k3 : ¬ k = 3 := by omega
          simp only [cel, up, up2, if_neg har, hnn, k3, false_and, if_false]
        · have k0 : ¬ k = 0 := by omega
          have k1 : ¬ k = 1 := by omega
          have k2 : ¬ k = 2 := by omega
          have hnn : ∀ j, gT G r σ.2.1 3 j = G 3 j := fun j => gT_n (Or.inl rfl)
          simp only [cel, if_neg k0, if_neg k1, if_neg k2, hnn])
      have hEX : EX D σ (dT D r σ.2.1) σ2 := by
        refine ⟨by omega, s4.2, fun b b1 b2 => ⟨?_, s3 b b1⟩, fun b b1 => ?_, fun b b1 => ?_⟩
        · unfold dT
          rw [if_neg (by omega), if_neg (by omega), if_neg (by omega)]
          exact b2
        · by_cases hb : σ.2.1 ≤ b
          · exact Or.inr hb
          · unfold dT at b1
            rw [if_neg (by omega), if_neg (by omega), if_neg (by omega)] at b1
            exact Or.inl b1
        · rw [s4.1]
          unfold dT at b1
          by_cases q0 : b = σ.2.1
          · omega
          · by_cases q1 : b = σ.2.1 + 1
            · omega
            · by_cases q2 : b = σ.2.1 + 2
              · omega
              · rw [if_neg q0, if_neg q1, if_neg q2] at b1
                have := h.db b b1
                omega
      have hGU : ∀ {k a : Int}, GU D G k a → k ≠ -1 → (k = 3 ∨ a ≠ r) → GU (dT D r σ.2.1) (gT G r σ.2.1) k a := fun q q1 q2 => by
        have := q.lt h.db q1
        exact GU_dT q q2 (by omega) (by omega) (by omega)
      have hg1 : HU (dT D r σ.2.1) (gT G r σ.2.1) := ⟨GI_dT hg.1 hnk, hGU hg.2.1 (by omega) (Or.inl rfl), hGU hg.2.2.1 (by omega) (Or.inl rfl), hGU hg.2.2.2.1 (by omega) (Or.inl rfl), hGU hg.2.2.2.2.1 (by omega) (Or.inl rfl), hGU hg.2.2.2.2.2.1 (by omega) (Or.inl rfl), hGU hg.2.2.2.2.2.2 (by omega) (Or.inl rfl)⟩
      have hu1 : XU (dT D r σ.2.1) (gT G r σ.2.1) := ⟨hGU hu.1 (by omega) (Or.inl rfl), hGU hu.2.1 (by omega) (Or.inl rfl), hGU hu.2.2.1 (by omega) (Or.inl rfl), hGU hu.2.2.2 (by omega) (Or.inl rfl)⟩
      have hTH : ∀ {a : Int}, TH D G a → a ≠ r → TH (dT D r σ.2.1) (gT G r σ.2.1) a := fun q q1 => ⟨hGU q.1 (by omega) (Or.inr q1), hGU q.2.1 (by omega) (Or.inr q1), hGU q.2.2 (by omega) (Or.inr q1)⟩
      have hG3 : ∀ j, gT G r σ.2.1 3 j = G 3 j := fun j => gT_n (Or.inl rfl)
      have hGa : ∀ k a, a ≠ r → gT G r σ.2.1 k a = G k a := fun k a q => gT_n (Or.inr q)
      have hne : ∀ k, 0 ≤ k → k < lnk → hd k ≠ r := fun k k1 k2 q => by
        have := (hhd.1 k k1 k2).2.2
        rw [q] at this
        omega
      have hls1 : LSK (dT D r σ.2.1) (gT G r σ.2.1) eak lnk cpk elk hd := ⟨⟨l1, l2, l3, l4⟩, fun q => ⟨by rw [hG3]; exact (l5 q).1, hGU (l5 q).2 (by omega) (Or.inl rfl)⟩, fun k k1 k2 => ⟨by rw [hGa 0 _ (hne k k1 k2)]; exact (l6 k k1 k2).1, hTH (l6 k k1 k2).2 (hne k k1 k2)⟩⟩
      obtain ⟨p, p1, p2, p3, p4⟩ := hd_pos hd lnk r l1
      have hadk : ∀ k, 0 ≤ k → k < lnk → up adk r r (hd k) = hd k := fun k k1 k2 => by
        rw [up_n (hne k k1 k2)]
        obtain ⟨z1, z2, z3⟩ := hhd.1 k k1 k2
        exact (hk.th z1 z2 z3).2.1
      obtain ⟨D', G', cp', el', σ', b1, b2, b3, b4, b5, b6, b8, b7, b9⟩ := kc_alloc2 (adk := up adk r r) (nfk := up nfk r f) (ndk := up ndk r d) (pnk := up pnk r 0) (agk := up agk r 0) (mkk := up mkk r 0) (flk := up2 flk r (fun j => if 0 ≤ j ∧ j < f then -1 else 0)) (dtk := up2 dtk r (fun _ => 0)) (hwk := hwk) (dpk := dpk) (alk := alk) (cok := cok) (fek := fek) (rpk := rpk) (rok := rok) (wek := wek) (plk := plk) (mok := mok) (owk := owk) (skk := skk) (txk := txk) (tlk := tlk) (rfk := rfk) (slk := slk) (hsk := hsk) (y1 := J f) (y2 := J d) (f := f) (d := d) (r := r) (p := p) hg1 hEX.2.2.2.2 (h.ce.ex hEX) (fun q => by rw [s4.2]; exact h.le q) h.ca hls1 hl200 hT1 (up_s _ _ _) (up_s _ _ _) (up_s _ _ _) f1 d1 g1 (by omega) p1 p2 (fun k k1 k2 => by rw [hadk k k1 (by omega)]; exact p3 k k1 k2) (fun q => by rw [hadk p p1 q]; exact p4 q) (fun k k1 k2 => by rw [hadk k k1 k2]; have := hhd.1 k k1 k2; omega)
      refine ⟨r, (cput D' (cel G' (up adk r r) (up nfk r f) (up ndk r d) (up pnk r 0) (up agk r 0) (up mkk r 0) (up2 flk r (fun j => if 0 ≤ j ∧ j < f then -1 else 0)) (up2 dtk r (fun _ => 0)) hwk dpk (alk + 1) cok fek rpk rok wek plk (mok + J 1) (G' 3 2) (lnk + 1) cp' el' (fun j => if r ≤ (j : Int) ∧ (j : Int) < r + (1 + f + d) then some (gT G r σ.2.1 0 r) else owk j) skk txk tlk rfk slk hsk) σ'), Or.inr ⟨hfr, e3⟩, ?_, ?_⟩
      · rw [if_neg hr]
        simp (disch := first | assumption | exact HU.lu (by assumption) | exact cw_okn | exact cw_ok3 (by assumption) | exact cw_ok5 (by assumption) | omega) only [J_add, J_sub, J_mul, J_neg, J_lit, J_lt, J_le, J_eq, Option.bind_some, Int.reduceAdd, Int.reduceSub, Int.reduceMul, Int.reduceNeg, Int.reduceEq, Int.reduceLT, Int.reduceLE, reduceIte, Int.zero_add, Int.add_zero, and_self, true_and, and_true, false_and, and_false, or_true, true_or, or_false, false_or, not_true_eq_false, not_false_eq_true, ne_eq, b2_s, cw_gadk, cw_gpnk, cw_gagk, cw_gmkk, cw_gfl, cw_gdt, cw_kth, cw_afl, cw_nfl, cw_adt, cw_ndt, cw_gmok, cw_geak, cw_glnk, cw_k0, cw_k6, cw_k7, cw_aowk, cw_aelk, cw_askk, cw_aslk, cw_nelk, cw_arok, cw_nrok, cw_awek, cw_nwek, cw_aplk, cw_nplk, cw_atxk, cw_ntxk, cw_ghwk, cw_gdpk, cw_galk, cw_gcok, cw_gfek, cw_h2, cw_h3, cw_h4, cw_h5, cw_h10, cw_grpk, cw_x0, cw_x1, cw_x2, cw_x5, cw_gtlk, cw_grfk, cw_ghsk, cw_padk, cw_pagk, cw_pmkk, cw_ppnk, cw_zpnk, cw_sfl, cw_sdt, cw_pmok, cw_peak, cw_plnk, cw_sowk, cw_selk, cw_sskk, cw_sslk, cw_srok, cw_swek, cw_splk, cw_palk, cw_pcok, cw_pfek, cw_prpk, cw_ptlk, cw_prfk, cw_phsk, cw_stxk, cw_ok3, cw_ok5, cw_okn]
        rw [e1, Option.bind_some]
        simp (disch := omega) only [J_eq, if_neg hr]
        rw [hnO, b2_s, hth, Option.bind_some, lgo_l, had]
        rw [hG3, hT2] at b1
        rw [b1, b2_s, hT2]
      · rw [if_neg hr]
        have w1 : ∀ {b : Int}, 0 ≤ b → b < 200 → mL m r f d b = if b = r then 1 + f + d else m b := fun q1 q2 => mL_s g1 (by omega) f1 d1 q1 q2
        have w2 : ∀ {b : Int}, 0 ≤ b → b < 200 → mL m r f d (200 + b) = if b = r then f else m (200 + b) := fun q1 q2 => mL_f g1 (by omega) f1 d1 q1 q2
        have w4 : ∀ {b : Int}, 0 ≤ b → b < 200 → mL m r f d (400 + b) = if b = r then 0 else m (400 + b) := fun q1 q2 => mL_p g1 (by omega) f1 d1 q1 q2
        have w6 : ∀ {b : Int}, 0 ≤ b → b < 200 → mL m r f d (600 + b) = if b = r then 0 else m (600 + b) := fun q1 q2 => mL_a g1 (by omega) f1 d1 q1 q2
        have w8 : ∀ {b : Int}, 0 ≤ b → b < 200 → mL m r f d (800 + b) = if r < b ∧ b ≤ r + f + d then (if b ≤ r + f then -1 else 0) else m (800 + b) := fun q1 q2 => mL_w g1 (by omega) f1 d1 q1 q2
        have wh : ∀ {j : Int}, 1000 ≤ j → j ≠ 1218 → mL m r f d j = m j := fun q1 q2 => by rw [mL_h g1 (by omega) f1 d1 q1, if_neg q2]
        have hG' : ∀ {k a : Int}, 0 ≤ k → k ≤ 2 → TH (dT D r σ.2.1) (gT G r σ.2.1) a → G' k a = gT G r σ.2.1 k a := fun {k a} q1 q2 q3 => by
          obtain ⟨z1, z2, z3, z4⟩ := b8.th q3
          rcases (show k = 0 ∨ k = 1 ∨ k = 2 by omega) with rfl | rfl | rfl
          · exact z2
          · exact z3
          · exact z4
        refine ⟨fun i => if i < p then hd i else if i = p then r else hd (i - 1), D', G', up adk r r, up nfk r f, up ndk r d, up pnk r 0, up agk r 0, up mkk r 0, up2 flk r (fun j => if 0 ≤ j ∧ j < f then -1 else 0), up2 dtk r (fun _ => 0), hwk, dpk, alk + 1, cok, fek, rpk, rok, wek, plk, mok + J 1, G' 3 2, lnk + 1, cp', el', _, skk, σ', rfl, ⟨⟨b8.hu hg1, b8.xu hu1, ?_⟩, ⟨b6.2.2.2.2, (h.ce.ex hEX).ex b6, fun q => by omega, b2⟩, ?_, ?_⟩, hEX.tr b6, ?_⟩
        · have hwd : ∀ {b i : Int}, 0 ≤ b → b < 200 → 0 < m b → 0 ≤ i → i < m b → ¬ (r < b + i ∧ b + i ≤ r + f + d) := fun {b i} q1 q2 q3 q4 q5 ⟨q6, q7⟩ => g3 (b + i) b (by omega) (by omega) ⟨q1, q2, q3, by omega, by omega⟩
          refine ⟨fun b v1 v2 v3 => ?_, ?_, fun j j1 j2 => ?_, fun j j1 j2 => ?_, fun j j1 j2 => ?_, fun b q1 q2 => ?_, ⟨⟨by omega, by omega, by omega, by omega⟩, fun _ => ⟨rfl, b5⟩, fun i i1 i2 => ?_⟩, ⟨fun i i1 i2 => ?_, fun i j i1 i2 i3 => ?_, fun b v1 v2 v3 => ?_⟩⟩
          · rw [w1 v1 v2] at v3
            by_cases hb : b = r
            · subst hb
              rw [w1 v1 v2, w2 v1 v2, w4 v1 v2, w6 v1 v2, if_pos rfl, if_pos rfl, if_pos rfl, if_pos rfl]
              refine ⟨(b8.th hT1).1, up_s _ _ _, up_s _ _ _, by rw [up_s]; omega, up_s _ _ _, up_s _ _ _, fun j j1 j2 => ?_, fun j j1 j2 => ?_⟩
              · rw [up2_s, show 800 + b + 1 + j = 800 + (b + 1 + j) by omega, w8 (by omega) (by omega), if_pos (by omega), if_pos (by omega), if_pos (by omega)]
              · rw [up2_s, show 800 + b + 1 + f + j = 800 + (b + 1 + f + j) by omega, w8 (by omega) (by omega), if_pos (by omega), if_neg (by omega)]
            · rw [if_neg hb] at v3
              have hE := hm.he b v1 v2 v3
              have hF := hm.hf b v1 v2 v3
              obtain ⟨t1, t2, t3, t4, t5, t6, t7, t8⟩ := hk.th v1 v2 v3
              rw [w1 v1 v2, w2 v1 v2, w4 v1 v2, w6 v1 v2, if_neg hb, if_neg hb, if_neg hb, if_neg hb]
              refine ⟨(b8.th (hTH t1 hb)).1, by rw [up_n hb]; exact t2, by rw [up_n hb]; exact t3, by rw [up_n hb]; exact t4, by rw [up_n hb]; exact t5, by rw [up_n hb]; exact t6, fun j j1 j2 => ?_, fun j j1 j2 => ?_⟩
              · unfold up2
                rw [if_neg hb, show 800 + b + 1 + j = 800 + (b + (1 + j)) by omega, w8 (by omega) (by omega), if_neg (hwd v1 v2 v3 (by omega) (by omega)), t7 j j1 j2]
                congr 1; omega
              · unfold up2
                rw [if_neg hb, show 800 + b + 1 + m (200 + b) + j = 800 + (b + (1 + m (200 + b) + j)) by omega, w8 (by omega) (by omega), if_neg (hwd v1 v2 v3 (by omega) (by omega)), t8 j j1 j2]
                congr 1; omega
          · obtain ⟨n1, n2, n3, n4, n5⟩ := hk.nu
            rw [wh (j := 1216) (by omega) (by omega), wh (j := 1217) (by omega) (by omega), wh (j := 1219) (by omega) (by omega), wh (j := 1220) (by omega) (by omega), mL_h (j := 1218) g1 (by omega) f1 d1 (by omega), if_pos rfl]
            exact ⟨n1, n2, by omega, n4, n5⟩
          · rw [wh (by omega) (by omega)]; exact hk.ro j j1 j2
          · rw [wh (by omega) (by omega)]; exact hk.we j j1 j2
          · rw [wh (by omega) (by omega)]; exact hk.pl j j1 j2
          · dsimp only
            rw [mL_ob hm hfr f1 f2 d1 d2]
            by_cases hb : r ≤ b ∧ b < r + (1 + f + d)
            · rw [if_pos (by omega), if_pos hb, if_neg (by omega), hG' (by omega) (by omega) hT1]
            · rw [if_neg (by omega), if_neg hb, hk.ow b q1 q2]
              rcases ob_r (m := m) b with o1 | ⟨o1, o2, o3, o4, o5⟩
              · rw [if_pos o1, if_pos o1]
              · have hne9 : ob m b ≠ r := fun q => by rw [q] at o3; omega
                rw [if_neg (by omega), if_neg (by omega), hG' (by omega) (by omega) (hTH (hk.th o1 o2 o3).1 hne9), hGa _ _ hne9]
          · rw [b9 i i1 (by omega)]
            dsimp only
            by_cases z1 : i < p
            · rw [if_pos z1, if_pos z1]
              have q1 := (l6 i i1 (by omega)).2
              have q2 := hne i i1 (by omega)
              rw [(l6 i i1 (by omega)).1, hG' (by omega) (by omega) (hTH q1 q2), hGa _ _ q2]
              exact ⟨rfl, (b8.th (hTH q1 q2)).1⟩
            · rw [if_neg z1, if_neg z1]
              by_cases z2 : i = p
              · rw [if_pos z2, if_pos z2, hG' (by omega) (by omega) hT1]
                exact ⟨rfl, (b8.th hT1).1⟩
              · rw [if_neg z2, if_neg z2]
                have q1 := (l6 (i - 1) (by omega) (by omega)).2
                have q2 := hne (i - 1) (by omega) (by omega)
                rw [(l6 (i - 1) (by omega) (by omega)).1, hG' (by omega) (by omega) (hTH q1 q2), hGa _ _ q2]
                exact ⟨rfl, (b8.th (hTH q1 q2)).1⟩
          · dsimp only
            by_cases z1 : i < p
            · rw [if_pos z1]
              obtain ⟨q1, q2, q3⟩ := hhd.1 i i1 (by omega)
              rw [w1 q1 q2, if_neg (hne i i1 (by omega))]
              exact ⟨q1, q2, q3⟩
            · rw [if_neg z1]
              by_cases z2 : i = p
              · rw [if_pos z2, w1 g1 (by omega), if_pos rfl]
                omega
              · rw [if_neg z2]
                obtain ⟨q1, q2, q3⟩ := hhd.1 (i - 1) (by omega) (by omega)
                rw [w1 q1 q2, if_neg (hne (i - 1) (by omega) (by omega))]
                exact ⟨q1, q2, q3⟩
          · dsimp only
            have hmono : ∀ i j, 0 ≤ i → i < j → j < lnk → hd i < hd j := hhd.2.1
            by_cases z1 : i < p
            · rw [if_pos z1]
              have y1 := p3 i i1 z1
              by_cases z2 : j < p
              · rw [if_pos z2]; exact hmono i j i1 i2 (by omega)
              · rw [if_neg z2]
                by_cases z3 : j = p
                · rw [if_pos z3]; exact y1
                · rw [if_neg z3]
                  have y2 := p4 (by omega)
                  by_cases z4 : j - 1 = p
                  · rw [z4]; omega
                  · have := hmono p (j - 1) p1 (by omega) (by omega)
                    omega
            · rw [if_neg z1, if_neg (show ¬ j < p by omega), if_neg (show ¬ j = p by omega)]
              have y2 := p4 (by omega)
              have y3 := hne p p1 (by omega)
              by_cases z2 : i = p
              · rw [if_pos z2]
                by_cases z4 : j - 1 = p
                · rw [z4]; omega
                · have := hmono p (j - 1) p1 (by omega) (by omega)
                  omega
              · rw [if_neg z2]
                exact hmono _ _ (by omega) (by omega) (by omega)
          · rw [w1 v1 v2] at v3
            by_cases hb : b = r
            · exact ⟨p, p1, by omega, by dsimp only; rw [if_neg (by omega), if_pos rfl, hb]⟩
            · rw [if_neg hb] at v3
              obtain ⟨k, k1, k2, k3⟩ := hhd.2.2 b v1 v2 v3
              by_cases z1 : k < p
              · exact ⟨k, k1, by omega, by dsimp only; rw [if_pos z1]; exact k3⟩
              · exact ⟨k + 1, by omega, by omega, by dsimp only; rw [if_neg (by omega), if_neg (by omega), show k + 1 - 1 = k by omega]; exact k3⟩
        · intro b k a q1 q2 q3
          have q4 := b7 b k a q1 (by omega) (by omega)
          unfold dT at q4
          by_cases z0 : b = σ.2.1
          · rw [if_pos z0] at q4
            cases q4
            rw [w1 g1 (by omega), if_pos rfl]; omega
          · rw [if_neg z0] at q4
            by_cases z1 : b = σ.2.1 + 1
            · rw [if_pos z1] at q4
              cases q4
              rw [w1 g1 (by omega), if_pos rfl]; omega
            · rw [if_neg z1] at q4
              by_cases z2 : b = σ.2.1 + 2
              · rw [if_pos z2] at q4
                cases q4
                rw [w1 g1 (by omega), if_pos rfl]; omega
              · rw [if_neg z2] at q4
                have q5 := h.uq b k a q4 q2 q3
                rw [w1 q5.1 q5.2.1]
                split <;> omega
        · exact h.rp.cg (hEX.tr b6) (fun k k1 k2 => wh (by omega) (by omega)) (wh (by omega) (by omega))
        · rw [b8.eq (by omega) (by omega) hu1.1, hG3]
end T1
