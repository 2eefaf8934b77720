/-! PLAIN LAW: alloc, the component's side. NAMES: mL_ kc_alloc -/
set_option maxRecDepth 100000
section L1
variable {m : Int → Int} {a f d : Int}
theorem mL_s (h1 : 0 ≤ a) (h2 : a + 1 + f + d ≤ 200) (f1 : 0 ≤ f) (d1 : 0 ≤ d) {b : Int} (b1 : 0 ≤ b) (b2 : b < 200) : mL m a f d b = if b = a then 1 + f + d else m b := by unfold mL; grind
theorem mL_f (h1 : 0 ≤ a) (h2 : a + 1 + f + d ≤ 200) (f1 : 0 ≤ f) (d1 : 0 ≤ d) {b : Int} (b1 : 0 ≤ b) (b2 : b < 200) : mL m a f d (200 + b) = if b = a then f else m (200 + b) := by unfold mL; grind
theorem mL_p (h1 : 0 ≤ a) (h2 : a + 1 + f + d ≤ 200) (f1 : 0 ≤ f) (d1 : 0 ≤ d) {b : Int} (b1 : 0 ≤ b) (b2 : b < 200) : mL m a f d (400 + b) = if b = a then 0 else m (400 + b) := by unfold mL; grind
theorem mL_a (h1 : 0 ≤ a) (h2 : a + 1 + f + d ≤ 200) (f1 : 0 ≤ f) (d1 : 0 ≤ d) {b : Int} (b1 : 0 ≤ b) (b2 : b < 200) : mL m a f d (600 + b) = if b = a then 0 else m (600 + b) := by unfold mL; grind
theorem mL_w (h1 : 0 ≤ a) (h2 : a + 1 + f + d ≤ 200) (f1 : 0 ≤ f) (d1 : 0 ≤ d) {b : Int} (b1 : 0 ≤ b) (b2 : b < 200) : mL m a f d (800 + b) = if a < b ∧ b ≤ a + f + d then (if b ≤ a + f then -1 else 0) else m (800 + b) := by unfold mL; grind
theorem mL_h (h1 : 0 ≤ a) (h2 : a + 1 + f + d ≤ 200) (f1 : 0 ≤ f) (d1 : 0 ≤ d) {j : Int} (j1 : 1000 ≤ j) : mL m a f d j = if j = 1218 then m 1218 + 1 else m j := by unfold mL; grind
theorem mL_oc (hm : WF m) (hf : fr m (1 + f + d) a) (f1 : 0 ≤ f) (d1 : 0 ≤ d) : ∀ b r, oc (mL m a f d) b r ↔ (oc m b r ∧ b ≠ a) ∨ (b = a ∧ a ≤ r ∧ r < a + (1 + f + d)) := by
  have hW := hm.hW
  obtain ⟨g1, g2, g3⟩ := hf
  intro b r
  unfold oc
  constructor
  · rintro ⟨q1, q2, q3, q4, q5⟩
    rw [mL_s g1 (by omega) f1 d1 q1 q2] at q3 q5
    by_cases hb : b = a
    · rw [if_pos hb] at q5
      exact Or.inr ⟨hb, by omega, by omega⟩
    · rw [if_neg hb] at q3 q5
      exact Or.inl ⟨⟨q1, q2, q3, q4, q5⟩, hb⟩
  · rintro (⟨⟨q1, q2, q3, q4, q5⟩, hb⟩ | ⟨hb, q1, q2⟩)
    · rw [mL_s g1 (by omega) f1 d1 q1 q2, if_neg hb]
      exact ⟨q1, q2, q3, q4, q5⟩
    · subst hb
      rw [mL_s g1 (by omega) f1 d1 g1 (by omega), if_pos rfl]
      exact ⟨g1, by omega, by omega, q1, by omega⟩
theorem mL_0 (hm : WF m) (hf : fr m (1 + f + d) a) (f1 : 0 ≤ f) (d1 : 0 ≤ d) : ∀ k, 0 ≤ k → k < 1 + f + d → m (a + k) = 0 := fun k k1 k2 => by
  have hW := hm.hW
  obtain ⟨g1, g2, g3⟩ := hf
  have := hm.hs (a + k) (by omega) (by omega)
  by_cases h : m (a + k) = 0
  · exact h
  · exact absurd ⟨by omega, by omega, by omega, by omega, by omega⟩ (g3 (a + k) (a + k) (by omega) (by omega))
theorem mL_rf (hm : WF m) (hf : fr m (1 + f + d) a) (f1 : 0 ≤ f) (d1 : 0 ≤ d) {r : Int} (h : rf m r) : rf (mL m a f d) r := by
  rcases h with h | ⟨b, h⟩
  · exact Or.inl h
  · refine Or.inr ⟨b, (mL_oc hm hf f1 d1 b r).mpr (Or.inl ⟨h, fun e => ?_⟩)⟩
    subst e
    have h0 := mL_0 hm hf f1 d1 0 (by omega) (by omega)
    have h3 := h.2.2.1
    rw [Int.add_zero] at h0
    omega
theorem WF.lays (hm : WF m) (hf : fr m (1 + f + d) a) (f1 : 0 ≤ f) (f2 : f ≤ 6) (d1 : 0 ≤ d) (d2 : d ≤ 6) : WF (mL m a f d) := by
  have hW := hm.hW
  have h0 := mL_0 hm hf f1 d1
  have hrf := fun {r : Int} (h : rf m r) => mL_rf hm hf f1 d1 h
  obtain ⟨g1, g2, g3⟩ := hf
  have es := fun {b : Int} (b1 : 0 ≤ b) (b2 : b < 200) => mL_s (m := m) g1 (show a + 1 + f + d ≤ 200 by omega) f1 d1 b1 b2
  have ef := fun {b : Int} (b1 : 0 ≤ b) (b2 : b < 200) => mL_f (m := m) g1 (show a + 1 + f + d ≤ 200 by omega) f1 d1 b1 b2
  have ep := fun {b : Int} (b1 : 0 ≤ b) (b2 : b < 200) => mL_p (m := m) g1 (show a + 1 + f + d ≤ 200 by omega) f1 d1 b1 b2
  have ew := fun {b : Int} (b1 : 0 ≤ b) (b2 : b < 200) => mL_w (m := m) g1 (show a + 1 + f + d ≤ 200 by omega) f1 d1 b1 b2
  have eh := fun {j : Int} (j1 : 1000 ≤ j) => mL_h (m := m) (f := f) (d := d) g1 (show a + 1 + f + d ≤ 200 by omega) f1 d1 j1
  refine ⟨?_, ?_, fun b b1 b2 => ?_, fun b b1 b2 b3 => ?_, fun b k b1 b2 b3 b4 => ?_, fun b b1 b2 b3 => ?_, fun b b1 b2 => ?_, fun k k1 k2 => ?_, fun b g b1 b2 b3 b4 b5 => ?_, ?_, fun b b1 b2 => ?_⟩
  · rw [eh (by omega), if_neg (by omega)]; exact hm.hW
  · rw [eh (by omega), if_neg (by omega)]; exact hm.hD
  · rw [es b1 b2]
    have := hm.hs b b1 b2
    split <;> omega
  · have e16 : mL m a f d 1216 = m 1216 := by rw [eh (by omega), if_neg (by omega)]
    rw [es b1 b2] at b3 ⊢
    rw [e16]
    by_cases hb : b = a
    · rw [if_pos hb]; omega
    · rw [if_neg hb] at b3 ⊢
      exact hm.he b b1 b2 b3
  · rw [es b1 b2] at b4
    by_cases hb : b = a
    · rw [if_pos hb] at b4
      rw [es (by omega) (by omega), if_neg (by omega), hb]
      exact h0 k (by omega) b4
    · rw [if_neg hb] at b4
      have hE := hm.he b b1 b2 (by omega)
      rw [es (by omega) (by omega)]
      by_cases hba : b + k = a
      · exact absurd ⟨b1, b2, by omega, by omega, by omega⟩ (g3 a b (by omega) (by omega))
      · rw [if_neg hba]
        exact hm.hi b k b1 b2 b3 b4
  · rw [es b1 b2] at b3 ⊢
    rw [ef b1 b2]
    by_cases hb : b = a
    · rw [if_pos hb, if_pos hb]; omega
    · rw [if_neg hb] at b3 ⊢
      rw [if_neg hb]
      exact hm.hf b b1 b2 b3
  · rw [ep b1 b2]
    have := hm.hp b b1 b2
    split <;> omega
  · rw [eh (by omega), if_neg (by omega)]
    exact hrf (hm.hr k k1 k2)
  · rw [es b1 b2] at b3
    rw [ef b1 b2] at b5
    by_cases hb : b = a
    · rw [if_pos hb] at b5
      rw [Int.add_assoc, ew (by omega) (by omega), if_pos (by omega), if_pos (by omega)]
      exact Or.inl rfl
    · rw [if_neg hb] at b3 b5
      have hE := hm.he b b1 b2 b3
      have hF := hm.hf b b1 b2 b3
      rw [Int.add_assoc, ew (by omega) (by omega), if_neg, ← Int.add_assoc]
      · exact hrf (hm.hq b g b1 b2 b3 b4 b5)
      · rintro ⟨q1, q2⟩
        exact g3 (b + g) b (by omega) (by omega) ⟨b1, b2, b3, by omega, by omega⟩
  · rw [eh (by omega), if_neg (by omega)]; exact hm.hh
  · rw [ef b1 b2]
    have := hm.hF b b1 b2
    split <;> omega
theorem mL_ob (hm : WF m) (hf : fr m (1 + f + d) a) (f1 : 0 ≤ f) (f2 : f ≤ 6) (d1 : 0 ≤ d) (d2 : d ≤ 6) (r : Int) : ob (mL m a f d) r = if a ≤ r ∧ r < a + (1 + f + d) then a else ob m r := by
  have hw := hm.lays hf f1 f2 d1 d2
  have ho := mL_oc hm hf f1 d1
  by_cases h : a ≤ r ∧ r < a + (1 + f + d)
  · rw [if_pos h]
    exact ob_e hw ((ho a r).mpr (Or.inr ⟨rfl, h.1, h.2⟩))
  · rw [if_neg h]
    rcases ob_c (m := m) r with ⟨q1, q2⟩ | q
    · rw [q1]
      refine ob_n (fun b hb => ?_)
      rcases (ho b r).mp hb with ⟨q3, -⟩ | ⟨-, q3, q4⟩
      · exact q2 b q3
      · exact h ⟨q3, q4⟩
    · refine ob_e hw ((ho _ r).mpr (Or.inl ⟨q, fun e => ?_⟩))
      have h0 := mL_0 hm hf f1 d1 0 (by omega) (by omega)
      rw [Int.add_zero, ← e] at h0
      have := q.2.2.1
      omega
end L1
section T1
variable {m hd : Int → Int} {adk nfk ndk pnk agk mkk rok wek plk txk : Int → Int} {flk dtk : Int → Int → Int} {hwk dpk alk cok fek lnk tlk rfk : Int} {rpk : Option Nat} {mok : Int32} {eak cpk : Nat} {elk owk skk slk : Nat → Option Nat} {hsk : Int64} {D : Nat → Int × Int} {G : Int → Int → Nat} {σ : mm_M}
theorem kc_alloc2 {f d r p : Int} {y1 y2 : Int32} (hg : HU D G) (hb : DB D σ) (hce : CE D σ) (hE : cpk = 0 → eak = σ.2.2.1) (hca : CAPS cpk) (hl : LSK D G eak lnk cpk elk hd) (hn : lnk < 200) (ht : TH D G r) (t1 : adk r = r) (t2 : nfk r = f) (t3 : ndk r = d) (f1 : 0 ≤ f) (d1 : 0 ≤ d) (r1 : 0 ≤ r) (r2 : r + (1 + f + d) ≤ 200) (p1 : 0 ≤ p) (p2 : p ≤ lnk) (p3 : ∀ k, 0 ≤ k → k < p → adk (hd k) < r) (p4 : p < lnk → r ≤ adk (hd p)) (p5 : ∀ k, 0 ≤ k → k < lnk → 0 ≤ adk (hd k) ∧ adk (hd k) < 200) : ∃ (D' : Nat → Int × Int) (G' : Int → Int → Nat) (cp' : Nat) (el' : Nat → Option Nat) (σ' : mm_M), lpx (s_X1_alloc (G 3 6) y1 y2) (.inl (J r, G 0 r, J 0, (cput D (cel G adk nfk ndk pnk agk mkk flk dtk hwk dpk alk cok fek rpk rok wek plk mok eak lnk cpk elk owk skk txk tlk rfk slk hsk) σ))) = some (J r, (cput D' (cel G' adk nfk ndk pnk agk mkk flk dtk hwk dpk (alk + 1) cok fek rpk rok wek plk (mok + J 1) (G' 3 2) (lnk + 1) cp' el' (fun j => if r ≤ (j : Int) ∧ (j : Int) < r + (1 + f + d) then some (G 0 r) else owk j) skk txk tlk rfk slk hsk) σ')) ∧ CAPS cp' ∧ lnk + 1 ≤ cp' ∧ cp' ≤ 250 ∧ GU D' G' 3 2 ∧ EX D σ D' σ' ∧ KP D G D' G' ∧ KQ D D' ∧ ∀ i : Int, 0 ≤ i → i ≤ lnk → el' i.toNat = if i < p then elk i.toNat else if i = p then some (G 0 r) else elk (i - 1).toNat := by
  have hl0 := hl
  obtain ⟨⟨l1, l2, l3, l4⟩, l5, l6⟩ := hl0
  have hok : ∀ i : Nat, (i : Int) < lnk → ∃ y, elk i = some y ∧ y < σ.2.1 ∧ okR (cput D (cel G adk nfk ndk pnk agk mkk flk dtk hwk dpk alk cok fek rpk rok wek plk mok eak lnk cpk elk owk skk txk tlk rfk slk hsk) σ) 5 (some y) = true := fun i hi => by
    obtain ⟨e1, e2⟩ := l6 i (by omega) hi
    exact ⟨_, e1, e2.1.lt hb (by omega), cw_ok5 e2⟩
  obtain ⟨D', G', cp', el', σ', a1, a2, a3, a4, a5, a6, a7, a9, a8⟩ := kl_add (mok := mok) (adk := adk) (nfk := nfk) (ndk := ndk) (pnk := pnk) (agk := agk) (mkk := mkk) (flk := flk) (dtk := dtk) (hwk := hwk) (dpk := dpk) (alk := alk) (cok := cok) (fek := fek) (rpk := rpk) (rok := rok) (wek := wek) (plk := plk) (owk := owk) (skk := skk) (txk := txk) (tlk := tlk) (rfk := rfk) (slk := slk) (hsk := hsk) hg.lu hb hca hE hce l5 l1 hn l3 l4 hok (cw_ok5 ht) (ht.1.lt hb (by omega)) p1 p2
  refine ⟨D', G', cp', el', σ', ?_, a2, a3, a4, a5, a6, a7, a9, a8⟩
  have hg' := a7.hu hg
  have ht' := a7.th ht
  have e36 : G' 3 6 = G 3 6 := a7.eq (by omega) (by omega) hg.2.2.2.2.2.2
  rw [lpx_steps2 (f := s_X1_alloc (G 3 6) y1 y2) (fun k => .inl (J r, G 0 r, J k, (cput D (cel G adk nfk ndk pnk agk mkk flk dtk hwk dpk alk cok fek rpk rok wek plk mok eak lnk cpk elk owk skk txk tlk rfk slk hsk) σ))) p.toNat (by rfl) (by
    intro k hk
    have := p3 k (by omega) (by omega)
    have := p5 k (by omega) (by omega)
    obtain ⟨e1, e2⟩ := l6 k (by omega) (by omega)
    unfold s_X1_alloc g_X1_alloc_33
    dsimp only
    simp (disch := first | assumption | exact HU.lu (by assumption) | exact cw_okn | exact cw_ok3 (by assumption) | exact cw_ok5 (by assumption) | omega) only [J_add, J_sub, J_mul, J_neg, J_lit, J_lt, J_le, J_eq, Option.bind_some, Int.reduceAdd, Int.reduceSub, Int.reduceMul, Int.reduceNeg, Int.reduceEq, Int.reduceLT, Int.reduceLE, reduceIte, Int.zero_add, Int.add_zero, and_self, true_and, and_true, false_and, and_false, or_true, true_or, or_false, false_or, not_true_eq_false, not_false_eq_true, ne_eq, b2_s, cw_gadk, cw_gpnk, cw_gagk, cw_gmkk, cw_gfl, cw_gdt, cw_kth, cw_afl, cw_nfl, cw_adt, cw_ndt, cw_gmok, cw_geak, cw_glnk, cw_k0, cw_k6, cw_k7, cw_aowk, cw_aelk, cw_askk, cw_aslk, cw_nelk, cw_arok, cw_nrok, cw_awek, cw_nwek, cw_aplk, cw_nplk, cw_atxk, cw_ntxk, cw_ghwk, cw_gdpk, cw_galk, cw_gcok, cw_gfek, cw_h2, cw_h3, cw_h4, cw_h5, cw_h10, cw_grpk, cw_x0, cw_x1, cw_x2, cw_x5, cw_gtlk, cw_grfk, cw_ghsk, cw_padk, cw_pagk, cw_pmkk, cw_ppnk, cw_zpnk, cw_sfl, cw_sdt, cw_pmok, cw_peak, cw_plnk, cw_sowk, cw_selk, cw_sskk, cw_sslk, cw_srok, cw_swek, cw_splk, cw_palk, cw_pcok, cw_pfek, cw_prpk, cw_ptlk, cw_prfk, cw_phsk, cw_stxk, cw_ok3, cw_ok5, cw_okn, kc_lsize hg, kc_get hg hl, if_neg (show ¬ (lnk ≤ (k : Int)) by omega), if_neg (show ¬ (r ≤ adk (hd k)) by omega)]
    rfl)]
  rw [lpx_n (s' := .inr (J r, G 0 r, J r, (cput D' (cel G' adk nfk ndk pnk agk mkk flk dtk hwk dpk alk cok fek rpk rok wek plk (mok + J 1) (G' 3 2) (lnk + 1) cp' el' owk skk txk tlk rfk slk hsk) σ'))) (by
    unfold s_X1_alloc g_X1_alloc_33
    dsimp only
    rw [show ((p.toNat : Nat) : Int) = p by omega]
    by_cases hp : lnk ≤ p
    · simp (disch := first | assumption | exact HU.lu (by assumption) | exact cw_okn | exact cw_ok3 (by assumption) | exact cw_ok5 (by assumption) | omega) only [J_add, J_sub, J_mul, J_neg, J_lit, J_lt, J_le, J_eq, Option.bind_some, Int.reduceAdd, Int.reduceSub, Int.reduceMul, Int.reduceNeg, Int.reduceEq, Int.reduceLT, Int.reduceLE, reduceIte, Int.zero_add, Int.add_zero, and_self, true_and, and_true, false_and, and_false, or_true, true_or, or_false, false_or, not_true_eq_false, not_false_eq_true, ne_eq, b2_s, cw_gadk, cw_gpnk, cw_gagk, cw_gmkk, cw_gfl, cw_gdt, cw_kth, cw_afl, cw_nfl, cw_adt, cw_ndt, cw_gmok, cw_geak, cw_glnk, cw_k0, cw_k6, cw_k7, cw_aowk, cw_aelk, cw_askk, cw_aslk, cw_nelk, cw_arok, cw_nrok, cw_awek, cw_nwek, cw_aplk, cw_nplk, cw_atxk, cw_ntxk, cw_ghwk, cw_gdpk, cw_galk, cw_gcok, cw_gfek, cw_h2, cw_h3, cw_h4, cw_h5, cw_h10, cw_grpk, cw_x0, cw_x1, cw_x2, cw_x5, cw_gtlk, cw_grfk, cw_ghsk, cw_padk, cw_pagk, cw_pmkk, cw_ppnk, cw_zpnk, cw_sfl, cw_sdt, cw_pmok, cw_peak, cw_plnk, cw_sowk, cw_selk, cw_sskk, cw_sslk, cw_srok, cw_swek, cw_splk, cw_palk, cw_pcok, cw_pfek, cw_prpk, cw_ptlk, cw_prfk, cw_phsk, cw_stxk, cw_ok3, cw_ok5, cw_okn, kc_lsize hg, if_pos hp, a1]
    · have := p5 p p1 (by omega)
      have := p4 (by omega)
      obtain ⟨e1, e2⟩ := l6 p (by omega) (by omega)
      simp (disch := first | assumption | exact HU.lu (by assumption) | exact cw_okn | exact cw_ok3 (by assumption) | exact cw_ok5 (by assumption) | omega) only [J_add, J_sub, J_mul, J_neg, J_lit, J_lt, J_le, J_eq, Option.bind_some, Int.reduceAdd, Int.reduceSub, Int.reduceMul, Int.reduceNeg, Int.reduceEq, Int.reduceLT, Int.reduceLE, reduceIte, Int.zero_add, Int.add_zero, and_self, true_and, and_true, false_and, and_false, or_true, true_or, or_false, false_or, not_true_eq_false, not_false_eq_true, ne_eq, b2_s, cw_gadk, cw_gpnk, cw_gagk, cw_gmkk, cw_gfl, cw_gdt, cw_kth, cw_afl, cw_nfl, cw_adt, cw_ndt, cw_gmok, cw_geak, cw_glnk, cw_k0, cw_k6, cw_k7, cw_aowk, cw_aelk, cw_askk, cw_aslk, cw_nelk, cw_arok, cw_nrok, cw_awek, cw_nwek, cw_aplk, cw_nplk, cw_atxk, cw_ntxk, cw_ghwk, cw_gdpk, cw_galk, cw_gcok, cw_gfek, cw_h2, cw_h3, cw_h4, cw_h5, cw_h10, cw_grpk, cw_x0, cw_x1, cw_x2, cw_x5, cw_gtlk, cw_grfk, cw_ghsk, cw_padk, cw_pagk, cw_pmkk, cw_ppnk, cw_zpnk, cw_sfl, cw_sdt, cw_pmok, cw_peak, cw_plnk, cw_sowk, cw_selk, cw_sskk, cw_sslk, cw_srok, cw_swek, cw_splk, cw_palk, cw_pcok, cw_pfek, cw_prpk, cw_ptlk, cw_prfk, cw_phsk, cw_stxk, cw_ok3, cw_ok5, cw_okn, kc_lsize hg, kc_get hg hl, if_neg hp, if_pos (show (r ≤ adk (hd p)) by omega), a1])]
  rw [← e36, ← ht'.2.1]
  have hs : ∀ k : Nat, (fun j : Nat => if r ≤ (j : Int) ∧ (j : Int) < r + (k + 1 : Nat) then some (G' 0 r) else owk j) = va_up (fun j : Nat => if r ≤ (j : Int) ∧ (j : Int) < r + (k : Nat) then some (G' 0 r) else owk j) (r + k).toNat (some (G' 0 r)) := by
    intro k
    funext j
    unfold va_up
    by_cases hj : j = (r + k).toNat
    · rw [if_pos hj, if_pos (by omega)]
    · rw [if_neg hj]
      dsimp only
      by_cases h : r ≤ (j : Int) ∧ (j : Int) < r + (k : Nat)
      · rw [if_pos h, if_pos (by omega)]
      · rw [if_neg h, if_neg (by omega)]
  rw [lpx_steps2 (f := s_X1_alloc (G' 3 6) y1 y2) (fun k => .inr (J r, G' 0 r, J (r + k), (cput D' (cel G' adk nfk ndk pnk agk mkk flk dtk hwk dpk alk cok fek rpk rok wek plk (mok + J 1) (G' 3 2) (lnk + 1) cp' el' (fun j => if r ≤ (j : Int) ∧ (j : Int) < r + k then some (G' 0 r) else owk j) skk txk tlk rfk slk hsk) σ'))) (1 + f + d).toNat (by
    have h0 : (fun j : Nat => if r ≤ (j : Int) ∧ (j : Int) < r + ((0 : Nat) : Int) then some (G' 0 r) else owk j) = owk := by
      funext j
      rw [if_neg (by omega)]
    simp only [h0]
    simp) (by
    intro k hk
    have ht9 := ht'.1
    unfold s_X1_alloc g_X1_alloc_84
    dsimp only
    rw [hs k]
    generalize (fun j : Nat => if r ≤ (j : Int) ∧ (j : Int) < r + (k : Nat) then some (G' 0 r) else owk j) = ow9
    have hend := kc_end (σ := σ') (D := D') (G := G') (mok := mok + J 1) (eak := G' 3 2) (cpk := cp') (elk := el') (lnk := lnk + 1) (owk := ow9) (adk := adk) (nfk := nfk) (ndk := ndk) (pnk := pnk) (agk := agk) (mkk := mkk) (flk := flk) (dtk := dtk) (hwk := hwk) (dpk := dpk) (alk := alk) (cok := cok) (fek := fek) (rpk := rpk) (rok := rok) (wek := wek) (plk := plk) (skk := skk) (txk := txk) (tlk := tlk) (rfk := rfk) (slk := slk) (hsk := hsk) ht9 (by omega) (by omega)
    rw [t1, t2, t3] at hend
    simp (disch := first | assumption | exact HU.lu (by assumption) | exact cw_okn | exact cw_ok3 (by assumption) | exact cw_ok5 (by assumption) | omega) only [J_add, J_sub, J_mul, J_neg, J_lit, J_lt, J_le, J_eq, Option.bind_some, Int.reduceAdd, Int.reduceSub, Int.reduceMul, Int.reduceNeg, Int.reduceEq, Int.reduceLT, Int.reduceLE, reduceIte, Int.zero_add, Int.add_zero, and_self, true_and, and_true, false_and, and_false, or_true, true_or, or_false, false_or, not_true_eq_false, not_false_eq_true, ne_eq, b2_s, cw_gadk, cw_gpnk, cw_gagk, cw_gmkk, cw_gfl, cw_gdt, cw_kth, cw_afl, cw_nfl, cw_adt, cw_ndt, cw_gmok, cw_geak, cw_glnk, cw_k0, cw_k6, cw_k7, cw_aowk, cw_aelk, cw_askk, cw_aslk, cw_nelk, cw_arok, cw_nrok, cw_awek, cw_nwek, cw_aplk, cw_nplk, cw_atxk, cw_ntxk, cw_ghwk, cw_gdpk, cw_galk, cw_gcok, cw_gfek, cw_h2, cw_h3, cw_h4, cw_h5, cw_h10, cw_grpk, cw_x0, cw_x1, cw_x2, cw_x5, cw_gtlk, cw_grfk, cw_ghsk, cw_padk, cw_pagk, cw_pmkk, cw_ppnk, cw_zpnk, cw_sfl, cw_sdt, cw_pmok, cw_peak, cw_plnk, cw_sowk, cw_selk, cw_sskk, cw_sslk, cw_srok, cw_swek, cw_splk, cw_palk, cw_pcok, cw_pfek, cw_prpk, cw_ptlk, cw_prfk, cw_phsk, cw_stxk, cw_ok3, cw_ok5, cw_okn, hend, if_neg (show ¬ (r + (1 + f + d) ≤ r + (k : Int)) by omega)]
    rw [show r + (k : Int) + 1 = r + ((k + 1 : Nat) : Int) by omega])]
  refine lpx_d ?_
  rw [show (((1 + f + d).toNat : Nat) : Int) = 1 + f + d by omega]
  have ht9 := ht'.1
  unfold s_X1_alloc g_X1_alloc_84
  dsimp only
  generalize (fun j : Nat => if r ≤ (j : Int) ∧ (j : Int) < r + (1 + f + d) then some (G' 0 r) else owk j) = ow9
  have hend := kc_end (σ := σ') (D := D') (G := G') (mok := mok + J 1) (eak := G' 3 2) (cpk := cp') (elk := el') (lnk := lnk + 1) (owk := ow9) (adk := adk) (nfk := nfk) (ndk := ndk) (pnk := pnk) (agk := agk) (mkk := mkk) (flk := flk) (dtk := dtk) (hwk := hwk) (dpk := dpk) (alk := alk) (cok := cok) (fek := fek) (rpk := rpk) (rok := rok) (wek := wek) (plk := plk) (skk := skk) (txk := txk) (tlk := tlk) (rfk := rfk) (slk := slk) (hsk := hsk) ht9 (by omega) (by omega)
  rw [t1, t2, t3] at hend
  simp (disch := first | assumption | exact HU.lu (by assumption) | exact cw_okn | exact cw_ok3 (by assumption) | exact cw_ok5 (by assumption) | omega) only [J_add, J_sub, J_mul, J_neg, J_lit, J_lt, J_le, J_eq, Option.bind_some, Int.reduceAdd, Int.reduceSub, Int.reduceMul, Int.reduceNeg, Int.reduceEq, Int.reduceLT, Int.reduceLE, reduceIte, Int.zero_add, Int.add_zero, and_self, true_and, and_true, false_and, and_false, or_true, true_or, or_false, false_or, not_true_eq_false, not_false_eq_true, ne_eq, b2_s, cw_gadk, cw_gpnk, cw_gagk, cw_gmkk, cw_gfl, cw_gdt, cw_kth, cw_afl, cw_nfl, cw_adt, cw_ndt, cw_gmok, cw_geak, cw_glnk, cw_k0, cw_k6, cw_k7, cw_aowk, cw_aelk, cw_askk, cw_aslk, cw_nelk, cw_arok, cw_nrok, cw_awek, cw_nwek, cw_aplk, cw_nplk, cw_atxk, cw_ntxk, cw_ghwk, cw_gdpk, cw_galk, cw_gcok, cw_gfek, cw_h2, cw_h3, cw_h4, cw_h5, cw_h10, cw_grpk, cw_x0, cw_x1, cw_x2, cw_x5, cw_gtlk, cw_grfk, cw_ghsk, cw_padk, cw_pagk, cw_pmkk, cw_ppnk, cw_zpnk, cw_sfl, cw_sdt, cw_pmok, cw_peak, cw_plnk, cw_sowk, cw_selk, cw_sskk, cw_sslk, cw_srok, cw_swek, cw_splk, cw_palk, cw_pcok, cw_pfek, cw_prpk, cw_ptlk, cw_prfk, cw_phsk, cw_stxk, cw_ok3, cw_ok5, cw_okn, hend, if_pos (show (r + (1 + f + d) ≤ r + (1 + f + d)) by omega)]
end T1
