/-! PLAIN LAW: the component collects, first part. NAMES: pput pw_ PL9 cr9 kc_ -/
set_option maxRecDepth 100000
/-- a Report at p -/
def pput (p : Nat) (a b c d e f : Int) (σ : mm_M) : mm_M := sE σ p (.inl (5, [vI (J a), vI (J b), vI (J c), vI (J d), vI (J e), vI (J f)]))
section PW
variable {D : Nat → Int × Int} {c : Int → Int → mm_E} {σ : mm_M} {p : Nat} {x0 x1 x2 x3 x4 x5 : Int}
theorem pw_cell (h : (D p).1 = -1) : (cput D c (pput p x0 x1 x2 x3 x4 x5 σ)).1 p = some (.inl (5, [vI (J x0), vI (J x1), vI (J x2), vI (J x3), vI (J x4), vI (J x5)])) := by
  rw [cput_o h]
  unfold pput sE
  dsimp only
  rw [if_pos rfl]
theorem pw_g0 (h : (D p).1 = -1) : gI (cput D c (pput p x0 x1 x2 x3 x4 x5 σ)) p 5 0 = some (J x0) := gI_at (pw_cell h) rfl
theorem pw_g1 (h : (D p).1 = -1) : gI (cput D c (pput p x0 x1 x2 x3 x4 x5 σ)) p 5 1 = some (J x1) := gI_at (pw_cell h) rfl
theorem pw_g4 (h : (D p).1 = -1) : gI (cput D c (pput p x0 x1 x2 x3 x4 x5 σ)) p 5 4 = some (J x4) := gI_at (pw_cell h) rfl
theorem pw_g5 (h : (D p).1 = -1) : gI (cput D c (pput p x0 x1 x2 x3 x4 x5 σ)) p 5 5 = some (J x5) := gI_at (pw_cell h) rfl
theorem pw_p0 (h : (D p).1 = -1) {v : Int} : pF (cput D c (pput p x0 x1 x2 x3 x4 x5 σ)) p 5 0 (vI (J v)) = some (cput D c (pput p v x1 x2 x3 x4 x5 σ)) := by
  rw [pF_at (pw_cell h) (by simp), cput_sO h]
  unfold pput
  rw [sE_sE]
  rfl
theorem pw_p1 (h : (D p).1 = -1) {v : Int} : pF (cput D c (pput p x0 x1 x2 x3 x4 x5 σ)) p 5 1 (vI (J v)) = some (cput D c (pput p x0 v x2 x3 x4 x5 σ)) := by
  rw [pF_at (pw_cell h) (by simp), cput_sO h]
  unfold pput
  rw [sE_sE]
  rfl
theorem pw_p2 (h : (D p).1 = -1) {v : Int} : pF (cput D c (pput p x0 x1 x2 x3 x4 x5 σ)) p 5 2 (vI (J v)) = some (cput D c (pput p x0 x1 v x3 x4 x5 σ)) := by
  rw [pF_at (pw_cell h) (by simp), cput_sO h]
  unfold pput
  rw [sE_sE]
  rfl
theorem pw_p3 (h : (D p).1 = -1) {v : Int} : pF (cput D c (pput p x0 x1 x2 x3 x4 x5 σ)) p 5 3 (vI (J v)) = some (cput D c (pput p x0 x1 x2 v x4 x5 σ)) := by
  rw [pF_at (pw_cell h) (by simp), cput_sO h]
  unfold pput
  rw [sE_sE]
  rfl
theorem pw_p4 (h : (D p).1 = -1) {v : Int} : pF (cput D c (pput p x0 x1 x2 x3 x4 x5 σ)) p 5 4 (vI (J v)) = some (cput D c (pput p x0 x1 x2 x3 v x5 σ)) := by
  rw [pF_at (pw_cell h) (by simp), cput_sO h]
  unfold pput
  rw [sE_sE]
  rfl
theorem pw_p5 (h : (D p).1 = -1) {v : Int} : pF (cput D c (pput p x0 x1 x2 x3 x4 x5 σ)) p 5 5 (vI (J v)) = some (cput D c (pput p x0 x1 x2 x3 x4 v σ)) := by
  rw [pF_at (pw_cell h) (by simp), cput_sO h]
  unfold pput
  rw [sE_sE]
  rfl
end PW
/-- words of objects are as many as their sizes say -/
theorem occ_sm {m : Int → Int} (hm : WF m) : sm (fun a => if ob m a = -1 then 0 else 1) 200 = sm m (m 1216).toNat := by
  have hW := hm.hW
  have key : ∀ n : Nat, (n : Int) ≤ 200 → sm (fun a => if ob m a = -1 then 0 else 1) n + (if ob m n = -1 ∨ ob m n = n then 0 else ob m n + m (ob m n) - n) = sm m n := by
    intro n
    induction n with
    | zero =>
      intro _
      rcases ob_r (m := m) (0 : Nat) with q | ⟨q1, q2, q3, q4, q5⟩
      · rw [if_pos (Or.inl q)]; rfl
      · rw [if_pos (Or.inr (by omega))]; rfl
    | succ n ih =>
      intro hn
      have ih := ih (by omega)
      rw [sm_s, sm_s, ← ih]
      have hsn := hm.hs n (by omega) (by omega)
      rcases ob_r (m := m) (n : Int) with q | ⟨q1, q2, q3, q4, q5⟩
      · rw [if_pos q, if_pos (Or.inl q)]
        have hmn : m n = 0 := by
          by_cases hx : 0 < m (n : Int)
          · have := ob_e hm (a := n) (r := n) ⟨by omega, by omega, hx, by omega, by omega⟩
            omega
          · omega
        have h9 : ob m ((n + 1 : Nat) : Int) = -1 ∨ ob m ((n + 1 : Nat) : Int) = ((n + 1 : Nat) : Int) := by
          rcases ob_r (m := m) ((n + 1 : Nat) : Int) with z | ⟨z1, z2, z3, z4, z5⟩
          · exact Or.inl z
          · by_cases hz : ob m ((n + 1 : Nat) : Int) = ((n + 1 : Nat) : Int)
            · exact Or.inr hz
            · have := ob_e hm (a := ob m ((n + 1 : Nat) : Int)) (r := n) ⟨z1, z2, z3, by omega, by omega⟩
              omega
        rw [if_pos h9]
        omega
      · rw [if_neg (show ¬ ob m (n : Int) = -1 by omega)]
        by_cases hh : ob m n = n
        · rw [if_pos (Or.inr hh)]
          rw [hh] at q3 q5
          by_cases h1 : m (n : Int) = 1
          · have h9 : ob m ((n + 1 : Nat) : Int) = -1 ∨ ob m ((n + 1 : Nat) : Int) = ((n + 1 : Nat) : Int) := by
              rcases ob_r (m := m) ((n + 1 : Nat) : Int) with z | ⟨z1, z2, z3, z4, z5⟩
              · exact Or.inl z
              · by_cases hz : ob m ((n + 1 : Nat) : Int) = ((n + 1 : Nat) : Int)
                · exact Or.inr hz
                · have := ob_e hm (a := ob m ((n + 1 : Nat) : Int)) (r := n) ⟨z1, z2, z3, by omega, by omega⟩
                  rw [hh] at this
                  rw [← this] at z5
                  omega
            rw [if_pos h9]
            omega
          · have := ob_e hm (a := n) (r := ((n + 1 : Nat) : Int)) ⟨by omega, by omega, q3, by omega, by omega⟩
            rw [if_neg (show ¬ (ob m ((n + 1 : Nat) : Int) = -1 ∨ ob m ((n + 1 : Nat) : Int) = ((n + 1 : Nat) : Int)) by omega), this]
            omega
        · rw [if_neg (show ¬ (ob m (n : Int) = -1 ∨ ob m (n : Int) = n) by omega)]
          have hmn : m n = 0 := by
            have := hm.hi (ob m n) (n - ob m n) q1 q2 (by omega) (by omega)
            rwa [show ob m n + (n - ob m n) = (n : Int) by omega] at this
          by_cases h1 : ob m n + m (ob m n) = n + 1
          · have h9 : ob m ((n + 1 : Nat) : Int) = -1 ∨ ob m ((n + 1 : Nat) : Int) = ((n + 1 : Nat) : Int) := by
              rcases ob_r (m := m) ((n + 1 : Nat) : Int) with z | ⟨z1, z2, z3, z4, z5⟩
              · exact Or.inl z
              · by_cases hz : ob m ((n + 1 : Nat) : Int) = ((n + 1 : Nat) : Int)
                · exact Or.inr hz
                · have := ob_e hm (a := ob m ((n + 1 : Nat) : Int)) (r := n) ⟨z1, z2, z3, by omega, by omega⟩
                  rw [← this] at z5
                  omega
            rw [if_pos h9]
            omega
          · have := ob_e hm (a := ob m n) (r := ((n + 1 : Nat) : Int)) ⟨q1, q2, q3, by omega, by omega⟩
            rw [if_neg (show ¬ (ob m ((n + 1 : Nat) : Int) = -1 ∨ ob m ((n + 1 : Nat) : Int) = ((n + 1 : Nat) : Int)) by omega), this]
            omega
  have k1 := key 200 (by omega)
  have h2 : ob m ((200 : Nat) : Int) = -1 := ob_out hm (by omega)
  rw [if_pos (Or.inl h2), Int.add_zero] at k1
  rw [k1]
  have h3 : ∀ j : Nat, (m 1216).toNat + j ≤ 200 → sm m ((m 1216).toNat + j) = sm m (m 1216).toNat := by
    intro j
    induction j with
    | zero => exact fun _ => rfl
    | succ j ih =>
      intro hj
      rw [← Nat.add_assoc, sm_s, ih (by omega)]
      have hs := hm.hs ((m 1216).toNat + j : Nat) (by omega) (by omega)
      have he := hm.he ((m 1216).toNat + j : Nat) (by omega) (by omega)
      by_cases hx : 0 < m ((m 1216).toNat + j : Nat)
      · have := he hx
        omega
      · omega
  have h4 := h3 (200 - (m 1216).toNat) (by omega)
  rwa [show (m 1216).toNat + (200 - (m 1216).toNat) = 200 by omega] at h4
/-- where words went, in the component's row -/
def PL9 (w pl : Int → Int) : Int → Int := fun j => if 0 ≤ j ∧ j < 200 then w j else pl j
/-- a row of references, corrected -/
def cr9 (w : Int → Int) (n : Int) (r : Int → Int) : Int → Int := fun j => if 0 ≤ j ∧ j < n then goA w (r j) else r j
section T1
variable {m hd : Int → Int} {adk nfk ndk pnk agk mkk rok wek plk txk : Int → Int} {flk dtk : Int → Int → Int} {hwk dpk alk cok fek lnk tlk rfk : Int} {rpk : Option Nat} {mok : Int32} {eak cpk : Nat} {elk owk skk slk : Nat → Option Nat} {hsk : Int64} {D : Nat → Int × Int} {G : Int → Int → Nat} {σ : mm_M} {p : Nat}
theorem kc_note (hg : HU D G) (hp : (D p).1 = -1) {a to : Int} (ht : TH D G a) (h1 : adk a = a) (h2 : 0 ≤ nfk a) (h3 : 0 ≤ ndk a) (a1 : 0 ≤ a) (a2 : a + (1 + nfk a + ndk a) ≤ 200) (b1 : 0 ≤ to) (b2 : to ≤ 200) {w : Int → Int} {x0 x1 x2 x3 x4 x5 : Int} : f_X1_note (G 3 6) (G 0 a) (J to) p (cput D (cel G adk nfk ndk pnk agk mkk flk dtk hwk dpk alk cok fek rpk rok wek (PL9 w plk) mok eak lnk cpk elk owk skk txk tlk rfk slk hsk) (pput p x0 x1 x2 x3 x4 x5 σ)) = some (cput D (cel G adk nfk ndk pnk agk mkk flk dtk hwk dpk alk cok fek rpk rok wek (PL9 (fun j => if a ≤ j ∧ j < a + (1 + nfk a + ndk a) then to + (j - a) else w j) plk) mok eak lnk cpk elk owk skk txk tlk rfk slk hsk) (pput p (x0 + 1) (x1 + (1 + nfk a + ndk a)) x2 x3 (x4 + (if to = a then 0 else 1)) (x5 + (a - to) * (1 + nfk a + ndk a)) σ)) := by
  have hsz : ∀ (P : Int → Int) (τ : mm_M), f_X3_size (G 0 a) (cput D (cel G adk nfk ndk pnk agk mkk flk dtk hwk dpk alk cok fek rpk rok wek P mok eak lnk cpk elk owk skk txk tlk rfk slk hsk) τ) = some (J (1 + nfk a + ndk a)) := fun P τ => kc_size ht h2 h3
  generalize hS : 1 + nfk a + ndk a = S at a2 hsz
  unfold f_X1_note g_X1_note_0
  rw [lgo_l, show (0 : Int32) = J 0 from J_lit 0]
  rw [lpx_steps2 (f := s_X1_note (G 3 6) (G 0 a) (J to) p) (fun k => (J k, (cput D (cel G adk nfk ndk pnk agk mkk flk dtk hwk dpk alk cok fek rpk rok wek (PL9 (fun j => if a ≤ j ∧ j < a + (k : Int) then to + (j - a) else w j) plk) mok eak lnk cpk elk owk skk txk tlk rfk slk hsk) (pput p x0 x1 x2 x3 x4 x5 σ)))) S.toNat (by
    have h0 : (fun j : Int => if a ≤ j ∧ j < a + ((0 : Nat) : Int) then to + (j - a) else w j) = w := by
      funext j
      rw [if_neg (by omega)]
    simp only [h0]
    rfl) (by
    intro k hk
    have hup : up (PL9 (fun j => if a ≤ j ∧ j < a + (k : Int) then to + (j - a) else w j) plk) (a + k) (to + k) = PL9 (fun j => if a ≤ j ∧ j < a + ((k + 1 : Nat) : Int) then to + (j - a) else w j) plk := by
      funext j
      unfold up PL9
      dsimp only
      by_cases hj : j = a + (k : Int)
      · rw [if_pos hj, if_pos (by omega), if_pos (by omega)]
        omega
      · rw [if_neg hj]
        by_cases hj2 : 0 ≤ j ∧ j < 200
        · rw [if_pos hj2, if_pos hj2]
          by_cases hj3 : a ≤ j ∧ j < a + (k : Int)
          · rw [if_pos hj3, if_pos (by omega)]
          · rw [if_neg hj3, if_neg (by omega)]
        · rw [if_neg hj2, if_neg hj2]
    generalize PL9 (fun j => if a ≤ j ∧ j < a + (k : Int) then to + (j - a) else w j) plk = row at hup ⊢
    unfold s_X1_note g_X1_note_3
    dsimp only
    simp (disch := first | assumption | exact HU.lu (by assumption) | exact cw_okn | exact cw_ok3 (by assumption) | exact cw_ok5 (by assumption) | omega) only [J_add, J_sub, J_mul, J_neg, J_lit, J_lt, J_le, J_eq, Option.bind_some, Int.reduceAdd, Int.reduceSub, Int.reduceMul, Int.reduceNeg, Int.reduceEq, Int.reduceLT, Int.reduceLE, reduceIte, Int.zero_add, Int.add_zero, and_self, true_and, and_true, false_and, and_false, or_true, true_or, or_false, false_or, not_true_eq_false, not_false_eq_true, ne_eq, b2_s, cw_gadk, cw_gpnk, cw_gagk, cw_gmkk, cw_gfl, cw_gdt, cw_kth, cw_afl, cw_nfl, cw_adt, cw_ndt, cw_gmok, cw_geak, cw_glnk, cw_k0, cw_k6, cw_k7, cw_aowk, cw_aelk, cw_askk, cw_aslk, cw_nelk, cw_arok, cw_nrok, cw_awek, cw_nwek, cw_aplk, cw_nplk, cw_atxk, cw_ntxk, cw_ghwk, cw_gdpk, cw_galk, cw_gcok, cw_gfek, cw_h2, cw_h3, cw_h4, cw_h5, cw_h10, cw_grpk, cw_x0, cw_x1, cw_x2, cw_x5, cw_gtlk, cw_grfk, cw_ghsk, cw_padk, cw_pagk, cw_pmkk, cw_ppnk, cw_zpnk, cw_sfl, cw_sdt, cw_pmok, cw_peak, cw_plnk, cw_sowk, cw_selk, cw_sskk, cw_sslk, cw_srok, cw_swek, cw_splk, cw_palk, cw_pcok, cw_pfek, cw_prpk, cw_ptlk, cw_prfk, cw_phsk, cw_stxk, cw_ok3, cw_ok5, cw_okn, hsz, if_neg (show ¬ S ≤ (k : Int) by omega), h1, hup]
    rfl)]
  refine lpx_d ?_
  rw [show ((S.toNat : Nat) : Int) = S by omega]
  generalize PL9 (fun j => if a ≤ j ∧ j < a + S then to + (j - a) else w j) plk = row
  unfold s_X1_note g_X1_note_3 g_X1_note_75
  dsimp only
  by_cases c : to = a
  · simp (disch := first | assumption | exact HU.lu (by assumption) | exact cw_okn | exact cw_ok3 (by assumption) | exact cw_ok5 (by assumption) | omega) only [J_add, J_sub, J_mul, J_neg, J_lit, J_lt, J_le, J_eq, Option.bind_some, Int.reduceAdd, Int.reduceSub, Int.reduceMul, Int.reduceNeg, Int.reduceEq, Int.reduceLT, Int.reduceLE, reduceIte, Int.zero_add, Int.add_zero, and_self, true_and, and_true, false_and, and_false, or_true, true_or, or_false, false_or, not_true_eq_false, not_false_eq_true, ne_eq, b2_s, cw_gadk, cw_gpnk, cw_gagk, cw_gmkk, cw_gfl, cw_gdt, cw_kth, cw_afl, cw_nfl, cw_adt, cw_ndt, cw_gmok, cw_geak, cw_glnk, cw_k0, cw_k6, cw_k7, cw_aowk, cw_aelk, cw_askk, cw_aslk, cw_nelk, cw_arok, cw_nrok, cw_awek, cw_nwek, cw_aplk, cw_nplk, cw_atxk, cw_ntxk, cw_ghwk, cw_gdpk, cw_galk, cw_gcok, cw_gfek, cw_h2, cw_h3, cw_h4, cw_h5, cw_h10, cw_grpk, cw_x0, cw_x1, cw_x2, cw_x5, cw_gtlk, cw_grfk, cw_ghsk, cw_padk, cw_pagk, cw_pmkk, cw_ppnk, cw_zpnk, cw_sfl, cw_sdt, cw_pmok, cw_peak, cw_plnk, cw_sowk, cw_selk, cw_sskk, cw_sslk, cw_srok, cw_swek, cw_splk, cw_palk, cw_pcok, cw_pfek, cw_prpk, cw_ptlk, cw_prfk, cw_phsk, cw_stxk, cw_ok3, cw_ok5, cw_okn, hsz, if_pos (show S ≤ S by omega), h1, pw_g0 hp, pw_p0 hp, pw_g1 hp, pw_p1 hp, pw_g4 hp, pw_p4 hp, pw_g5 hp, pw_p5 hp, if_pos c, Int.mul_comm S]
  · simp (disch := first | assumption | exact HU.lu (by assumption) | exact cw_okn | exact cw_ok3 (by assumption) | exact cw_ok5 (by assumption) | omega) only [J_add, J_sub, J_mul, J_neg, J_lit, J_lt, J_le, J_eq, Option.bind_some, Int.reduceAdd, Int.reduceSub, Int.reduceMul, Int.reduceNeg, Int.reduceEq, Int.reduceLT, Int.reduceLE, reduceIte, Int.zero_add, Int.add_zero, and_self, true_and, and_true, false_and, and_false, or_true, true_or, or_false, false_or, not_true_eq_false, not_false_eq_true, ne_eq, b2_s, cw_gadk, cw_gpnk, cw_gagk, cw_gmkk, cw_gfl, cw_gdt, cw_kth, cw_afl, cw_nfl, cw_adt, cw_ndt, cw_gmok, cw_geak, cw_glnk, cw_k0, cw_k6, cw_k7, cw_aowk, cw_aelk, cw_askk, cw_aslk, cw_nelk, cw_arok, cw_nrok, cw_awek, cw_nwek, cw_aplk, cw_nplk, cw_atxk, cw_ntxk, cw_ghwk, cw_gdpk, cw_galk, cw_gcok, cw_gfek, cw_h2, cw_h3, cw_h4, cw_h5, cw_h10, cw_grpk, cw_x0, cw_x1, cw_x2, cw_x5, cw_gtlk, cw_grfk, cw_ghsk, cw_padk, cw_pagk, cw_pmkk, cw_ppnk, cw_zpnk, cw_sfl, cw_sdt, cw_pmok, cw_peak, cw_plnk, cw_sowk, cw_selk, cw_sskk, cw_sslk, cw_srok, cw_swek, cw_splk, cw_palk, cw_pcok, cw_pfek, cw_prpk, cw_ptlk, cw_prfk, cw_phsk, cw_stxk, cw_ok3, cw_ok5, cw_okn, hsz, if_pos (show S ≤ S by omega), h1, pw_g0 hp, pw_p0 hp, pw_g1 hp, pw_p1 hp, pw_g4 hp, pw_p4 hp, pw_g5 hp, pw_p5 hp, if_neg c, Int.mul_comm S]
theorem kc_corrF (hg : HU D G) {a : Int} (ht : TH D G a) (h0 : 0 ≤ nfk a) (h6 : nfk a ≤ 6) {w : Int → Int} (hr : ∀ j, 0 ≤ j → j < nfk a → -1 ≤ flk a j ∧ flk a j < 200) : f_X1_correct (G 3 6) (G 1 a) (cput D (cel G adk nfk ndk pnk agk mkk flk dtk hwk dpk alk cok fek rpk rok wek (PL9 w plk) mok eak lnk cpk elk owk skk txk tlk rfk slk hsk) σ) = some (cput D (cel G adk nfk ndk pnk agk mkk (up2 flk a (cr9 w (nfk a) (flk a))) dtk hwk dpk alk cok fek rpk rok wek (PL9 w plk) mok eak lnk cpk elk owk skk txk tlk rfk slk hsk) σ) := by
  unfold f_X1_correct g_X1_correct_0
  rw [lgo_l, show (0 : Int32) = J 0 from J_lit 0]
  have hz : up2 flk a (fun j => if 0 ≤ j ∧ j < ((0 : Nat) : Int) then goA w (flk a j) else flk a j) = flk := by
    funext b j
    unfold up2
    by_cases hb : b = a
    · rw [if_pos hb, if_neg (by omega), hb]
    · rw [if_neg hb]
  have key := lpx_seq (f := s_X1_correct (G 3 6) (G 1 a)) (fun k => (J k, (cput D (cel G adk nfk ndk pnk agk mkk (up2 flk a (fun j => if 0 ≤ j ∧ j < (k : Int) then goA w (flk a j) else flk a j)) dtk hwk dpk alk cok fek rpk rok wek (PL9 w plk) mok eak lnk cpk elk owk skk txk tlk rfk slk hsk) σ))) (nfk a).toNat (r := (cput D (cel G adk nfk ndk pnk agk mkk (up2 flk a (cr9 w (nfk a) (flk a))) dtk hwk dpk alk cok fek rpk rok wek (PL9 w plk) mok eak lnk cpk elk owk skk txk tlk rfk slk hsk) σ)) (by
    intro k hk
    have hrk := hr k (by omega) (by omega)
    have hup : ∀ v, v = goA w (flk a k) → up2 (up2 flk a (fun j => if 0 ≤ j ∧ j < (k : Int) then goA w (flk a j) else flk a j)) a (up (up2 flk a (fun j => if 0 ≤ j ∧ j < (k : Int) then goA w (flk a j) else flk a j) a) k v) = up2 flk a (fun j => if 0 ≤ j ∧ j < ((k + 1 : Nat) : Int) then goA w (flk a j) else flk a j) := by
      intro v hv
      funext b j
      unfold up2
      by_cases hb : b = a
      · rw [if_pos hb, if_pos hb, if_pos rfl]
        unfold up
        dsimp only
        by_cases hj : j = k
        · rw [if_pos hj, if_pos (by omega), hv, hj]
        · rw [if_neg hj]
          by_cases hj2 : 0 ≤ j ∧ j < (k : Int)
          · rw [if_pos hj2, if_pos (by omega)]
          · rw [if_neg hj2, if_neg (by omega)]
      · rw [if_neg hb, if_neg hb, if_neg hb]
    have hv : (up2 flk a (fun j => if 0 ≤ j ∧ j < (k : Int) then goA w (flk a j) else flk a j)) a k = flk a k := by
      rw [up2_s, if_neg (by omega)]
    generalize (up2 flk a (fun j => if 0 ≤ j ∧ j < (k : Int) then goA w (flk a j) else flk a j)) = fl9 at hup hv ⊢
    unfold s_X1_correct g_X1_correct_2
    dsimp only
    by_cases hx : flk a k = -1
    · simp (disch := first | assumption | exact HU.lu (by assumption) | exact cw_okn | exact cw_ok3 (by assumption) | exact cw_ok5 (by assumption) | omega) only [J_add, J_sub, J_mul, J_neg, J_lit, J_lt, J_le, J_eq, Option.bind_some, Int.reduceAdd, Int.reduceSub, Int.reduceMul, Int.reduceNeg, Int.reduceEq, Int.reduceLT, Int.reduceLE, reduceIte, Int.zero_add, Int.add_zero, and_self, true_and, and_true, false_and, and_false, or_true, true_or, or_false, false_or, not_true_eq_false, not_false_eq_true, ne_eq, b2_s, cw_gadk, cw_gpnk, cw_gagk, cw_gmkk, cw_gfl, cw_gdt, cw_kth, cw_afl, cw_nfl, cw_adt, cw_ndt, cw_gmok, cw_geak, cw_glnk, cw_k0, cw_k6, cw_k7, cw_aowk, cw_aelk, cw_askk, cw_aslk, cw_nelk, cw_arok, cw_nrok, cw_awek, cw_nwek, cw_aplk, cw_nplk, cw_atxk, cw_ntxk, cw_ghwk, cw_gdpk, cw_galk, cw_gcok, cw_gfek, cw_h2, cw_h3, cw_h4, cw_h5, cw_h10, cw_grpk, cw_x0, cw_x1, cw_x2, cw_x5, cw_gtlk, cw_grfk, cw_ghsk, cw_padk, cw_pagk, cw_pmkk, cw_ppnk, cw_zpnk, cw_sfl, cw_sdt, cw_pmok, cw_peak, cw_plnk, cw_sowk, cw_selk, cw_sskk, cw_sslk, cw_srok, cw_swek, cw_splk, cw_palk, cw_pcok, cw_pfek, cw_prpk, cw_ptlk, cw_prfk, cw_phsk, cw_stxk, cw_ok3, cw_ok5, cw_okn, if_neg (show ¬ nfk a ≤ (k : Int) by omega), hv, if_pos hx, hup (-1) (by unfold goA; rw [if_pos hx])]
      rfl
    · have hpl : PL9 w plk (flk a k) = w (flk a k) := by unfold PL9; rw [if_pos (by omega)]
      simp (disch := first | assumption | exact HU.lu (by assumption) | exact cw_okn | exact cw_ok3 (by assumption) | exact cw_ok5 (by assumption) | omega) only [J_add, J_sub, J_mul, J_neg, J_lit, J_lt, J_le, J_eq, Option.bind_some, Int.reduceAdd, Int.reduceSub, Int.reduceMul, Int.reduceNeg, Int.reduceEq, Int.reduceLT, Int.reduceLE, reduceIte, Int.zero_add, Int.add_zero, and_self, true_and, and_true, false_and, and_false, or_true, true_or, or_false, false_or, not_true_eq_false, not_false_eq_true, ne_eq, b2_s, cw_gadk, cw_gpnk, cw_gagk, cw_gmkk, cw_gfl, cw_gdt, cw_kth, cw_afl, cw_nfl, cw_adt, cw_ndt, cw_gmok, cw_geak, cw_glnk, cw_k0, cw_k6, cw_k7, cw_aowk, cw_aelk, cw_askk, cw_aslk, cw_nelk, cw_arok, cw_nrok, cw_awek, cw_nwek, cw_aplk, cw_nplk, cw_atxk, cw_ntxk, cw_ghwk, cw_gdpk, cw_galk, cw_gcok, cw_gfek, cw_h2, cw_h3, cw_h4, cw_h5, cw_h10, cw_grpk, cw_x0, cw_x1, cw_x2, cw_x5, cw_gtlk, cw_grfk, cw_ghsk, cw_padk, cw_pagk, cw_pmkk, cw_ppnk, cw_zpnk, cw_sfl, cw_sdt, cw_pmok, cw_peak, cw_plnk, cw_sowk, cw_selk, cw_sskk, cw_sslk, cw_srok, cw_swek, cw_splk, cw_palk, cw_pcok, cw_pfek, cw_prpk, cw_ptlk, cw_prfk, cw_phsk, cw_stxk, cw_ok3, cw_ok5, cw_okn, if_neg (show ¬ nfk a ≤ (k : Int) by omega), hv, if_neg hx, hpl, hup (w (flk a k)) (by unfold goA; rw [if_neg hx])]
      rfl) (by
    unfold s_X1_correct g_X1_correct_2
    dsimp only
    rw [show (((nfk a).toNat : Nat) : Int) = nfk a by omega]
    show _ = some (Sum.inr (cput D (cel G adk nfk ndk pnk agk mkk (up2 flk a (fun j => if 0 ≤ j ∧ j < nfk a then goA w (flk a j) else flk a j)) dtk hwk dpk alk cok fek rpk rok wek (PL9 w plk) mok eak lnk cpk elk owk skk txk tlk rfk slk hsk) σ))
    generalize (up2 flk a (fun j => if 0 ≤ j ∧ j < nfk a then goA w (flk a j) else flk a j)) = fl9
    simp (disch := first | assumption | exact HU.lu (by assumption) | exact cw_okn | exact cw_ok3 (by assumption) | exact cw_ok5 (by assumption) | omega) only [J_add, J_sub, J_mul, J_neg, J_lit, J_lt, J_le, J_eq, Option.bind_some, Int.reduceAdd, Int.reduceSub, Int.reduceMul, Int.reduceNeg, Int.reduceEq, Int.reduceLT, Int.reduceLE, reduceIte, Int.zero_add, Int.add_zero, and_self, true_and, and_true, false_and, and_false, or_true, true_or, or_false, false_or, not_true_eq_false, not_false_eq_true, ne_eq, b2_s, cw_gadk, cw_gpnk, cw_gagk, cw_gmkk, cw_gfl, cw_gdt, cw_kth, cw_afl, cw_nfl, cw_adt, cw_ndt, cw_gmok, cw_geak, cw_glnk, cw_k0, cw_k6, cw_k7, cw_aowk, cw_aelk, cw_askk, cw_aslk, cw_nelk, cw_arok, cw_nrok, cw_awek, cw_nwek, cw_aplk, cw_nplk, cw_atxk, cw_ntxk, cw_ghwk, cw_gdpk, cw_galk, cw_gcok, cw_gfek, cw_h2, cw_h3, cw_h4, cw_h5, cw_h10, cw_grpk, cw_x0, cw_x1, cw_x2, cw_x5, cw_gtlk, cw_grfk, cw_ghsk, cw_padk, cw_pagk, cw_pmkk, cw_ppnk, cw_zpnk, cw_sfl, cw_sdt, cw_pmok, cw_peak, cw_plnk, cw_sowk, cw_selk, cw_sskk, cw_sslk, cw_srok, cw_swek, cw_splk, cw_palk, cw_pcok, cw_pfek, cw_prpk, cw_ptlk, cw_prfk, cw_phsk, cw_stxk, cw_ok3, cw_ok5, cw_okn, if_pos (show nfk a ≤ nfk a by omega)])
  rw [hz] at key
  exact key
theorem kc_corrR (hg : HU D G) {w : Int → Int} (hr : ∀ j, 0 ≤ j → j < 6 → -1 ≤ rok j ∧ rok j < 200) : f_X1_correct (G 3 6) (G 3 3) (cput D (cel G adk nfk ndk pnk agk mkk flk dtk hwk dpk alk cok fek rpk rok wek (PL9 w plk) mok eak lnk cpk elk owk skk txk tlk rfk slk hsk) σ) = some (cput D (cel G adk nfk ndk pnk agk mkk flk dtk hwk dpk alk cok fek rpk (cr9 w 6 rok) wek (PL9 w plk) mok eak lnk cpk elk owk skk txk tlk rfk slk hsk) σ) := by
  unfold f_X1_correct g_X1_correct_0
  rw [lgo_l, show (0 : Int32) = J 0 from J_lit 0]
  have hz : (fun j => if 0 ≤ j ∧ j < ((0 : Nat) : Int) then goA w (rok j) else rok j) = rok := by
    funext j
    rw [if_neg (by omega)]
  have key := lpx_seq (f := s_X1_correct (G 3 6) (G 3 3)) (fun k => (J k, (cput D (cel G adk nfk ndk pnk agk mkk flk dtk hwk dpk alk cok fek rpk (fun j => if 0 ≤ j ∧ j < (k : Int) then goA w (rok j) else rok j) wek (PL9 w plk) mok eak lnk cpk elk owk skk txk tlk rfk slk hsk) σ))) 6 (r := (cput D (cel G adk nfk ndk pnk agk mkk flk dtk hwk dpk alk cok fek rpk (cr9 w 6 rok) wek (PL9 w plk) mok eak lnk cpk elk owk skk txk tlk rfk slk hsk) σ)) (by
    intro k hk
    have hrk := hr k (by omega) (by omega)
    have hup : ∀ v, v = goA w (rok k) → up (fun j => if 0 ≤ j ∧ j < (k : Int) then goA w (rok j) else rok j) k v = (fun j => if 0 ≤ j ∧ j < ((k + 1 : Nat) : Int) then goA w (rok j) else rok j) := by
      intro v hv
      funext j
      unfold up
      dsimp only
      by_cases hj : j = k
      · rw [if_pos hj, if_pos (by omega), hv, hj]
      · rw [if_neg hj]
        by_cases hj2 : 0 ≤ j ∧ j < (k : Int)
        · rw [if_pos hj2, if_pos (by omega)]
        · rw [if_neg hj2, if_neg (by omega)]
    have hv : (fun j => if 0 ≤ j ∧ j < (k : Int) then goA w (rok j) else rok j) k = rok k := by
      dsimp only
      rw [if_neg (by omega)]
    generalize (fun j => if 0 ≤ j ∧ j < (k : Int) then goA w (rok j) else rok j) = ro9 at hup hv ⊢
    unfold s_X1_correct g_X1_correct_2
    dsimp only
    by_cases hx : rok k = -1
    · simp (disch := first | assumption | exact HU.lu (by assumption) | exact cw_okn | exact cw_ok3 (by assumption) | exact cw_ok5 (by assumption) | omega) only [J_add, J_sub, J_mul, J_neg, J_lit, J_lt, J_le, J_eq, Option.bind_some, Int.reduceAdd, Int.reduceSub, Int.reduceMul, Int.reduceNeg, Int.reduceEq, Int.reduceLT, Int.reduceLE, reduceIte, Int.zero_add, Int.add_zero, and_self, true_and, and_true, false_and, and_false, or_true, true_or, or_false, false_or, not_true_eq_false, not_false_eq_true, ne_eq, b2_s, cw_gadk, cw_gpnk, cw_gagk, cw_gmkk, cw_gfl, cw_gdt, cw_kth, cw_afl, cw_nfl, cw_adt, cw_ndt, cw_gmok, cw_geak, cw_glnk, cw_k0, cw_k6, cw_k7, cw_aowk, cw_aelk, cw_askk, cw_aslk, cw_nelk, cw_arok, cw_nrok, cw_awek, cw_nwek, cw_aplk, cw_nplk, cw_atxk, cw_ntxk, cw_ghwk, cw_gdpk, cw_galk, cw_gcok, cw_gfek, cw_h2, cw_h3, cw_h4, cw_h5, cw_h10, cw_grpk, cw_x0, cw_x1, cw_x2, cw_x5, cw_gtlk, cw_grfk, cw_ghsk, cw_padk, cw_pagk, cw_pmkk, cw_ppnk, cw_zpnk, cw_sfl, cw_sdt, cw_pmok, cw_peak, cw_plnk, cw_sowk, cw_selk, cw_sskk, cw_sslk, cw_srok, cw_swek, cw_splk, cw_palk, cw_pcok, cw_pfek, cw_prpk, cw_ptlk, cw_prfk, cw_phsk, cw_stxk, cw_ok3, cw_ok5, cw_okn, if_neg (show ¬ (6 : Int) ≤ (k : Int) by omega), hv, if_pos hx, hup (-1) (by unfold goA; rw [if_pos hx])]
      rfl
    · have hpl : PL9 w plk (rok k) = w (rok k) := by unfold PL9; rw [if_pos (by omega)]
      simp (disch := first | assumption | exact HU.lu (by assumption) | exact cw_okn | exact cw_ok3 (by assumption) | exact cw_ok5 (by assumption) | omega) only [J_add, J_sub, J_mul, J_neg, J_lit, J_lt, J_le, J_eq, Option.bind_some, Int.reduceAdd, Int.reduceSub, Int.reduceMul, Int.reduceNeg, Int.reduceEq, Int.reduceLT, Int.reduceLE, reduceIte, Int.zero_add, Int.add_zero, and_self, true_and, and_true, false_and, and_false, or_true, true_or, or_false, false_or, not_true_eq_false, not_false_eq_true, ne_eq, b2_s, cw_gadk, cw_gpnk, cw_gagk, cw_gmkk, cw_gfl, cw_gdt, cw_kth, cw_afl, cw_nfl, cw_adt, cw_ndt, cw_gmok, cw_geak, cw_glnk, cw_k0, cw_k6, cw_k7, cw_aowk, cw_aelk, cw_askk, cw_aslk, cw_nelk, cw_arok, cw_nrok, cw_awek, cw_nwek, cw_aplk, cw_nplk, cw_atxk, cw_ntxk, cw_ghwk, cw_gdpk, cw_galk, cw_gcok, cw_gfek, cw_h2, cw_h3, cw_h4, cw_h5, cw_h10, cw_grpk, cw_x0, cw_x1, cw_x2, cw_x5, cw_gtlk, cw_grfk, cw_ghsk, cw_padk, cw_pagk, cw_pmkk, cw_ppnk, cw_zpnk, cw_sfl, cw_sdt, cw_pmok, cw_peak, cw_plnk, cw_sowk, cw_selk, cw_sskk, cw_sslk, cw_srok, cw_swek, cw_splk, cw_palk, cw_pcok, cw_pfek, cw_prpk, cw_ptlk, cw_prfk, cw_phsk, cw_stxk, cw_ok3, cw_ok5, cw_okn, if_neg (show ¬ (6 : Int) ≤ (k : Int) by omega), hv, if_neg hx, hpl, hup (w (rok k)) (by unfold goA; rw [if_neg hx])]
      rfl) (by
    unfold s_X1_correct g_X1_correct_2
    dsimp only
    show _ = some (Sum.inr (cput D (cel G adk nfk ndk pnk agk mkk flk dtk hwk dpk alk cok fek rpk (fun j => if 0 ≤ j ∧ j < ((6 : Nat) : Int) then goA w (rok j) else rok j) wek (PL9 w plk) mok eak lnk cpk elk owk skk txk tlk rfk slk hsk) σ))
    generalize (fun j => if 0 ≤ j ∧ j < ((6 : Nat) : Int) then goA w (rok j) else rok j) = ro9
    simp (disch := first | assumption | exact HU.lu (by assumption) | exact cw_okn | exact cw_ok3 (by assumption) | exact cw_ok5 (by assumption) | omega) only [J_add, J_sub, J_mul, J_neg, J_lit, J_lt, J_le, J_eq, Option.bind_some, Int.reduceAdd, Int.reduceSub, Int.reduceMul, Int.reduceNeg, Int.reduceEq, Int.reduceLT, Int.reduceLE, reduceIte, Int.zero_add, Int.add_zero, and_self, true_and, and_true, false_and, and_false, or_true, true_or, or_false, false_or, not_true_eq_false, not_false_eq_true, ne_eq, b2_s, cw_gadk, cw_gpnk, cw_gagk, cw_gmkk, cw_gfl, cw_gdt, cw_kth, cw_afl, cw_nfl, cw_adt, cw_ndt, cw_gmok, cw_geak, cw_glnk, cw_k0, cw_k6, cw_k7, cw_aowk, cw_aelk, cw_askk, cw_aslk, cw_nelk, cw_arok, cw_nrok, cw_awek, cw_nwek, cw_aplk, cw_nplk, cw_atxk, cw_ntxk, cw_ghwk, cw_gdpk, cw_galk, cw_gcok, cw_gfek, cw_h2, cw_h3, cw_h4, cw_h5, cw_h10, cw_grpk, cw_x0, cw_x1, cw_x2, cw_x5, cw_gtlk, cw_grfk, cw_ghsk, cw_padk, cw_pagk, cw_pmkk, cw_ppnk, cw_zpnk, cw_sfl, cw_sdt, cw_pmok, cw_peak, cw_plnk, cw_sowk, cw_selk, cw_sskk, cw_sslk, cw_srok, cw_swek, cw_splk, cw_palk, cw_pcok, cw_pfek, cw_prpk, cw_ptlk, cw_prfk, cw_phsk, cw_stxk, cw_ok3, cw_ok5, cw_okn, if_pos (show (6 : Int) ≤ (6 : Nat) by omega)])
  rw [hz] at key
  exact key
theorem kc_corrW (hg : HU D G) {w : Int → Int} (hr : ∀ j, 0 ≤ j → j < 4 → -1 ≤ wek j ∧ wek j < 200) : f_X1_correct (G 3 6) (G 3 4) (cput D (cel G adk nfk ndk pnk agk mkk flk dtk hwk dpk alk cok fek rpk rok wek (PL9 w plk) mok eak lnk cpk elk owk skk txk tlk rfk slk hsk) σ) = some (cput D (cel G adk nfk ndk pnk agk mkk flk dtk hwk dpk alk cok fek rpk rok (cr9 w 4 wek) (PL9 w plk) mok eak lnk cpk elk owk skk txk tlk rfk slk hsk) σ) := by
  unfold f_X1_correct g_X1_correct_0
  rw [lgo_l, show (0 : Int32) = J 0 from J_lit 0]
  have hz : (fun j => if 0 ≤ j ∧ j < ((0 : Nat) : Int) then goA w (wek j) else wek j) = wek := by
    funext j
    rw [if_neg (by omega)]
  have key := lpx_seq (f := s_X1_correct (G 3 6) (G 3 4)) (fun k => (J k, (cput D (cel G adk nfk ndk pnk agk mkk flk dtk hwk dpk alk cok fek rpk rok (fun j => if 0 ≤ j ∧ j < (k : Int) then goA w (wek j) else wek j) (PL9 w plk) mok eak lnk cpk elk owk skk txk tlk rfk slk hsk) σ))) 4 (r := (cput D (cel G adk nfk ndk pnk agk mkk flk dtk hwk dpk alk cok fek rpk rok (cr9 w 4 wek) (PL9 w plk) mok eak lnk cpk elk owk skk txk tlk rfk slk hsk) σ)) (by
    intro k hk
    have hrk := hr k (by omega) (by omega)
    have hup : ∀ v, v = goA w (wek k) → up (fun j => if 0 ≤ j ∧ j < (k : Int) then goA w (wek j) else wek j) k v = (fun j => if 0 ≤ j ∧ j < ((k + 1 : Nat) : Int) then goA w (wek j) else wek j) := by
      intro v hv
      funext j
      unfold up
      dsimp only
      by_cases hj : j = k
      · rw [if_pos hj, if_pos (by omega), hv, hj]
      · rw [if_neg hj]
        by_cases hj2 : 0 ≤ j ∧ j < (k : Int)
        · rw [if_pos hj2, if_pos (by omega)]
        · rw [if_neg hj2, if_neg (by omega)]
    have hv : (fun j => if 0 ≤ j ∧ j < (k : Int) then goA w (wek j) else wek j) k = wek k := by
      dsimp only
      rw [if_neg (by omega)]
    generalize (fun j => if 0 ≤ j ∧ j < (k : Int) then goA w (wek j) else wek j) = ro9 at hup hv ⊢
    unfold s_X1_correct g_X1_correct_2
    dsimp only
    by_cases hx : wek k = -1
    · simp (disch := first | assumption | exact HU.lu (by assumption) | exact cw_okn | exact cw_ok3 (by assumption) | exact cw_ok5 (by assumption) | omega) only [J_add, J_sub, J_mul, J_neg, J_lit, J_lt, J_le, J_eq, Option.bind_some, Int.reduceAdd, Int.reduceSub, Int.reduceMul, Int.reduceNeg, Int.reduceEq, Int.reduceLT, Int.reduceLE, reduceIte, Int.zero_add, Int.add_zero, and_self, true_and, and_true, false_and, and_false, or_true, true_or, or_false, false_or, not_true_eq_false, not_false_eq_true, ne_eq, b2_s, cw_gadk, cw_gpnk, cw_gagk, cw_gmkk, cw_gfl, cw_gdt, cw_kth, cw_afl, cw_nfl, cw_adt, cw_ndt, cw_gmok, cw_geak, cw_glnk, cw_k0, cw_k6, cw_k7, cw_aowk, cw_aelk, cw_askk, cw_aslk, cw_nelk, cw_arok, cw_nrok, cw_awek, cw_nwek, cw_aplk, cw_nplk, cw_atxk, cw_ntxk, cw_ghwk, cw_gdpk, cw_galk, cw_gcok, cw_gfek, cw_h2, cw_h3, cw_h4, cw_h5, cw_h10, cw_grpk, cw_x0, cw_x1, cw_x2, cw_x5, cw_gtlk, cw_grfk, cw_ghsk, cw_padk, cw_pagk, cw_pmkk, cw_ppnk, cw_zpnk, cw_sfl, cw_sdt, cw_pmok, cw_peak, cw_plnk, cw_sowk, cw_selk, cw_sskk, cw_sslk, cw_srok, cw_swek, cw_splk, cw_palk, cw_pcok, cw_pfek, cw_prpk, cw_ptlk, cw_prfk, cw_phsk, cw_stxk, cw_ok3, cw_ok5, cw_okn, if_neg (show ¬ (4 : Int) ≤ (k : Int) by omega), hv, if_pos hx, hup (-1) (by unfold goA; rw [if_pos hx])]
      rfl
    · have hpl : PL9 w plk (wek k) = w (wek k) := by unfold PL9; rw [if_pos (by omega)]
      simp (disch := first | assumption | exact HU.lu (by assumption) | exact cw_okn | exact cw_ok3 (by assumption) | exact cw_ok5 (by assumption) | omega) only [J_add, J_sub, J_mul, J_neg, J_lit, J_lt, J_le, J_eq, Option.bind_some, Int.reduceAdd, Int.reduceSub, Int.reduceMul, Int.reduceNeg, Int.reduceEq, Int.reduceLT, Int.reduceLE, reduceIte, Int.zero_add, Int.add_zero, and_self, true_and, and_true, false_and, and_false, or_true, true_or, or_false, false_or, not_true_eq_false, not_false_eq_true, ne_eq, b2_s, cw_gadk, cw_gpnk, cw_gagk, cw_gmkk, cw_gfl, cw_gdt, cw_kth, cw_afl, cw_nfl, cw_adt, cw_ndt, cw_gmok, cw_geak, cw_glnk, cw_k0, cw_k6, cw_k7, cw_aowk, cw_aelk, cw_askk, cw_aslk, cw_nelk, cw_arok, cw_nrok, cw_awek, cw_nwek, cw_aplk, cw_nplk, cw_atxk, cw_ntxk, cw_ghwk, cw_gdpk, cw_galk, cw_gcok, cw_gfek, cw_h2, cw_h3, cw_h4, cw_h5, cw_h10, cw_grpk, cw_x0, cw_x1, cw_x2, cw_x5, cw_gtlk, cw_grfk, cw_ghsk, cw_padk, cw_pagk, cw_pmkk, cw_ppnk, cw_zpnk, cw_sfl, cw_sdt, cw_pmok, cw_peak, cw_plnk, cw_sowk, cw_selk, cw_sskk, cw_sslk, cw_srok, cw_swek, cw_splk, cw_palk, cw_pcok, cw_pfek, cw_prpk, cw_ptlk, cw_prfk, cw_phsk, cw_stxk, cw_ok3, cw_ok5, cw_okn, if_neg (show ¬ (4 : Int) ≤ (k : Int) by omega), hv, if_neg hx, hpl, hup (w (wek k)) (by unfold goA; rw [if_neg hx])]
      rfl) (by
    unfold s_X1_correct g_X1_correct_2
    dsimp only
    show _ = some (Sum.inr (cput D (cel G adk nfk ndk pnk agk mkk flk dtk hwk dpk alk cok fek rpk rok (fun j => if 0 ≤ j ∧ j < ((4 : Nat) : Int) then goA w (wek j) else wek j) (PL9 w plk) mok eak lnk cpk elk owk skk txk tlk rfk slk hsk) σ))
    generalize (fun j => if 0 ≤ j ∧ j < ((4 : Nat) : Int) then goA w (wek j) else wek j) = ro9
    simp (disch := first | assumption | exact HU.lu (by assumption) | exact cw_okn | exact cw_ok3 (by assumption) | exact cw_ok5 (by assumption) | omega) only [J_add, J_sub, J_mul, J_neg, J_lit, J_lt, J_le, J_eq, Option.bind_some, Int.reduceAdd, Int.reduceSub, Int.reduceMul, Int.reduceNeg, Int.reduceEq, Int.reduceLT, Int.reduceLE, reduceIte, Int.zero_add, Int.add_zero, and_self, true_and, and_true, false_and, and_false, or_true, true_or, or_false, false_or, not_true_eq_false, not_false_eq_true, ne_eq, b2_s, cw_gadk, cw_gpnk, cw_gagk, cw_gmkk, cw_gfl, cw_gdt, cw_kth, cw_afl, cw_nfl, cw_adt, cw_ndt, cw_gmok, cw_geak, cw_glnk, cw_k0, cw_k6, cw_k7, cw_aowk, cw_aelk, cw_askk, cw_aslk, cw_nelk, cw_arok, cw_nrok, cw_awek, cw_nwek, cw_aplk, cw_nplk, cw_atxk, cw_ntxk, cw_ghwk, cw_gdpk, cw_galk, cw_gcok, cw_gfek, cw_h2, cw_h3, cw_h4, cw_h5, cw_h10, cw_grpk, cw_x0, cw_x1, cw_x2, cw_x5, cw_gtlk, cw_grfk, cw_ghsk, cw_padk, cw_pagk, cw_pmkk, cw_ppnk, cw_zpnk, cw_sfl, cw_sdt, cw_pmok, cw_peak, cw_plnk, cw_sowk, cw_selk, cw_sskk, cw_sslk, cw_srok, cw_swek, cw_splk, cw_palk, cw_pcok, cw_pfek, cw_prpk, cw_ptlk, cw_prfk, cw_phsk, cw_stxk, cw_ok3, cw_ok5, cw_okn, if_pos (show (4 : Int) ≤ (4 : Nat) by omega)])
  rw [hz] at key
  exact key
end T1
