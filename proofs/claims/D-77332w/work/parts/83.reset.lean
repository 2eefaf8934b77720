/-! PLAIN LAW: reset, save, restore. NAMES: mB_ kc_fresh kc_reset kc_save kc_restore -/
set_option maxRecDepth 100000
section B1
variable {m : Int → Int} {w d : Int}
theorem mB_lo {j : Int} (h1 : 0 ≤ j) (h2 : j < 1200) : mB m w d j = 0 := by unfold mB; rw [if_neg (by omega), if_neg (by omega), if_neg (by omega), if_pos (by omega)]
theorem mB_oc : ∀ b r, ¬ oc (mB m w d) b r := fun b r h => by
  obtain ⟨h1, h2, h3, h4, h5⟩ := h
  rw [mB_lo h1 (by omega)] at h3
  omega
theorem mB_ob (r : Int) : ob (mB m w d) r = -1 := ob_n (fun b => mB_oc b r)
theorem WF.begins (hw : 8 ≤ w ∧ w ≤ 200) (hd : 1 ≤ d ∧ d ≤ 20) : WF (mB m w d) := by
  have z : ∀ j, 0 ≤ j → j < 1200 → mB m w d j = 0 := fun j h1 h2 => mB_lo h1 h2
  have e16 : mB m w d 1216 = w := by unfold mB; rw [if_pos rfl]
  have e17 : mB m w d 1217 = d := by unfold mB; rw [if_neg (by omega), if_pos rfl]
  have e21 : mB m w d 1221 = 0 := by unfold mB; rw [if_neg (by omega), if_neg (by omega), if_neg (by omega), if_pos (by omega)]
  refine ⟨by rw [e16]; exact hw, by rw [e17]; exact hd, fun a a1 a2 => by rw [z a a1 (by omega)]; omega, fun a a1 a2 a3 => ?_, fun a k a1 a2 a3 a4 => ?_, fun a a1 a2 a3 => ?_, fun a a1 a2 => Or.inl (z _ (by omega) (by omega)), fun k k1 k2 => Or.inl ?_, fun a f a1 a2 a3 => ?_, Or.inl e21, fun a a1 a2 => by rw [z _ (by omega) (by omega)]; omega⟩
  · rw [z a a1 (by omega)] at a3; omega
  · rw [z a a1 (by omega)] at a4; omega
  · rw [z a a1 (by omega)] at a3; omega
  · unfold mB; rw [if_neg (by omega), if_neg (by omega), if_pos (by omega)]
  · rw [z a a1 (by omega)] at a3; omega
end B1
section T1
variable {m hd : Int → Int} {adk nfk ndk pnk agk mkk rok wek plk txk : Int → Int} {flk dtk : Int → Int → Int} {hwk dpk alk cok fek lnk tlk rfk : Int} {rpk : Option Nat} {mok : Int32} {eak cpk : Nat} {elk owk skk slk : Nat → Option Nat} {hsk : Int64} {D : Nat → Int × Int} {G : Int → Int → Nat} {σ : mm_M} {h0 : Nat}
theorem kc_fresh9 (hq2 : h0 < σ.2.1) : HLD (dH9 h0 σ.2.1) (cel (gH9 h0 σ.2.1) adk nfk ndk pnk agk mkk flk dtk hwk dpk 0 0 0 none (fun j => if 0 ≤ j ∧ j < 6 then -1 else 0) (fun j => if 0 ≤ j ∧ j < 4 then -1 else 0) (fun _ => 0) 0 σ.2.2.1 (((0 : Nat) : Int)) 0 (fun _ => none) (fun _ => none) skk txk tlk rfk slk hsk) (nh9 σ h0 hwk dpk (fun j => if 0 ≤ j ∧ j < 6 then -1 else 0) (fun j => if 0 ≤ j ∧ j < 4 then -1 else 0)) := by
  intro b hb
  have g0 : gH9 h0 σ.2.1 3 0 = σ.2.1 := by simp [gH9]
  have g1 : gH9 h0 σ.2.1 3 1 = σ.2.1 + 1 := by simp [gH9]
  have g3 : gH9 h0 σ.2.1 3 3 = σ.2.1 + 2 := by simp [gH9]
  have g4 : gH9 h0 σ.2.1 3 4 = σ.2.1 + 3 := by simp [gH9]
  have g5 : gH9 h0 σ.2.1 3 5 = σ.2.1 + 4 := by simp [gH9]
  have hsh : ∀ k a e, dH9 h0 σ.2.1 b = (k, a) → (nh9 σ h0 hwk dpk (fun j => if 0 ≤ j ∧ j < 6 then -1 else 0) (fun j => if 0 ≤ j ∧ j < 4 then -1 else 0)).1 b = some e → e = (cel (gH9 h0 σ.2.1) adk nfk ndk pnk agk mkk flk dtk hwk dpk 0 0 0 none (fun j => if 0 ≤ j ∧ j < 6 then -1 else 0) (fun j => if 0 ≤ j ∧ j < 4 then -1 else 0) (fun _ => 0) 0 σ.2.2.1 (((0 : Nat) : Int)) 0 (fun _ => none) (fun _ => none) skk txk tlk rfk slk hsk) k a → (nh9 σ h0 hwk dpk (fun j => if 0 ≤ j ∧ j < 6 then -1 else 0) (fun j => if 0 ≤ j ∧ j < 4 then -1 else 0)).1 b = some ((cel (gH9 h0 σ.2.1) adk nfk ndk pnk agk mkk flk dtk hwk dpk 0 0 0 none (fun j => if 0 ≤ j ∧ j < 6 then -1 else 0) (fun j => if 0 ≤ j ∧ j < 4 then -1 else 0) (fun _ => 0) 0 σ.2.2.1 (((0 : Nat) : Int)) 0 (fun _ => none) (fun _ => none) skk txk tlk rfk slk hsk) (dH9 h0 σ.2.1 b).1 (dH9 h0 σ.2.1 b).2) := fun k a e q1 q2 q3 => by rw [q1, q2, q3]
  by_cases z0 : b = h0
  · exact hsh 3 6 (.inl (1, [vI (J hwk), vI (J dpk), vR (some σ.2.1), vR (some (σ.2.1 + 1)), vR (some (σ.2.1 + 2)), vR (some (σ.2.1 + 3)), vI (J 0), vI (J 0), vI (J 0), vR none, vR (some (σ.2.1 + 4))])) (by unfold dH9; rw [if_pos z0]) (by unfold nh9; dsimp only; rw [if_neg (by omega), if_neg (by omega), if_neg (by omega), if_neg (by omega), if_neg (by omega), if_pos z0]) (by simp [cel, g0, g1, g3, g4, g5])
  by_cases z1 : b = σ.2.1
  · exact hsh 3 0 (.inl (15, [vI 0, vR (some σ.2.2.1), vI (J 0)])) (by unfold dH9; rw [if_neg z0, if_pos z1]) (by unfold nh9; dsimp only; rw [if_neg (by omega), if_neg (by omega), if_neg (by omega), if_neg (by omega), if_pos z1]) (by simp [cel, g0, g1, g3, g4, g5])
  by_cases z2 : b = σ.2.1 + 1
  · exact hsh 3 1 (.inr (.inr (3, 200, fun _ => none))) (by unfold dH9; rw [if_neg z0, if_neg z1, if_pos z2]) (by unfold nh9; dsimp only; rw [if_neg (by omega), if_neg (by omega), if_neg (by omega), if_pos z2]) (by simp [cel, g0, g1, g3, g4, g5])
  by_cases z3 : b = σ.2.1 + 2
  · exact hsh 3 3 (.inr (.inl (0, 6, rw_ (fun j => if 0 ≤ j ∧ j < 6 then -1 else 0)))) (by unfold dH9; rw [if_neg z0, if_neg z1, if_neg z2, if_pos z3]) (by unfold nh9; dsimp only; rw [if_neg (by omega), if_neg (by omega), if_pos z3]) (by simp [cel, g0, g1, g3, g4, g5])
  by_cases z4 : b = σ.2.1 + 3
  · exact hsh 3 4 (.inr (.inl (0, 4, rw_ (fun j => if 0 ≤ j ∧ j < 4 then -1 else 0)))) (by unfold dH9; rw [if_neg z0, if_neg z1, if_neg z2, if_neg z3, if_pos z4]) (by unfold nh9; dsimp only; rw [if_neg (by omega), if_pos z4]) (by simp [cel, g0, g1, g3, g4, g5])
  by_cases z5 : b = σ.2.1 + 4
  · exact hsh 3 5 (.inr (.inl (0, 200, rw_ (fun _ => 0)))) (by unfold dH9; rw [if_neg z0, if_neg z1, if_neg z2, if_neg z3, if_neg z4, if_pos z5]) (by unfold nh9; dsimp only; rw [if_pos z5]) (by simp [cel, g0, g1, g3, g4, g5])
  exfalso
  unfold dH9 at hb
  rw [if_neg z0, if_neg z1, if_neg z2, if_neg z3, if_neg z4, if_neg z5] at hb
  exact hb rfl
theorem kc_fresh (hq2 : h0 < σ.2.1) (hE1 : σ.2.2.1 < σ.2.1) (hE2 : σ.2.2.1 ≠ h0) {w d : Int} {R : Nat → Prop} : HPX (mB m w d) h0 (fun b => b = h0 ∨ σ.2.1 ≤ b) R (nh9 σ h0 w d (fun j => if 0 ≤ j ∧ j < 6 then -1 else 0) (fun j => if 0 ≤ j ∧ j < 4 then -1 else 0)) := by
  have hdom : ∀ b, (dH9 h0 σ.2.1 b).1 ≠ -1 → b = h0 ∨ (σ.2.1 ≤ b ∧ b < σ.2.1 + 5) := fun b b1 => by
    unfold dH9 at b1
    by_cases z0 : b = h0
    · exact Or.inl z0
    · by_cases z1 : b = σ.2.1 ∨ b = σ.2.1 + 1 ∨ b = σ.2.1 + 2 ∨ b = σ.2.1 + 3 ∨ b = σ.2.1 + 4
      · exact Or.inr (by omega)
      · rw [if_neg z0, if_neg (by omega), if_neg (by omega), if_neg (by omega), if_neg (by omega), if_neg (by omega)] at b1
        exact absurd rfl b1
  have h3 : ∀ b, (dH9 h0 σ.2.1 b).1 = -1 ∨ (dH9 h0 σ.2.1 b).1 = 3 := fun b => by
    unfold dH9
    split
    · exact Or.inr rfl
    · split
      · exact Or.inr rfl
      · split
        · exact Or.inr rfl
        · split
          · exact Or.inr rfl
          · split
            · exact Or.inr rfl
            · split
              · exact Or.inr rfl
              · exact Or.inl rfl
  have hr : ∀ j, 1200 ≤ j → j < 1210 → mB m w d j = -1 := fun j j1 j2 => by unfold mB; rw [if_neg (by omega), if_neg (by omega), if_pos (by omega)]
  have hz : ∀ j, 1218 ≤ j → j < 1222 → mB m w d j = 0 := fun j j1 j2 => by unfold mB; rw [if_neg (by omega), if_neg (by omega), if_neg (by omega), if_pos (by omega)]
  refine ⟨fun _ => 0, dH9 h0 σ.2.1, gH9 h0 σ.2.1, fun _ => 0, fun _ => 0, fun _ => 0, fun _ => 0, fun _ => 0, fun _ => 0, fun _ _ => 0, fun _ _ => 0, w, d, 0, 0, 0, none, fun j => if 0 ≤ j ∧ j < 6 then -1 else 0, fun j => if 0 ≤ j ∧ j < 4 then -1 else 0, fun _ => 0, 0, σ.2.2.1, 0, 0, fun _ => none, fun _ => none, fun _ => none, fun _ => 0, 0, 0, fun _ => none, 0, HU_H hq2, kc_fresh9 hq2, ⟨fun a a1 a2 a3 => ?_, ⟨?_, ?_, ?_, ?_, ?_⟩, fun j j1 j2 => ?_, fun j j1 j2 => ?_, fun j j1 j2 => ?_, fun j j1 j2 => ?_, ⟨⟨by omega, by omega, by omega, by omega⟩, fun q => by omega, fun j j1 j2 => by omega⟩, ⟨fun k k1 k2 => by omega, fun i j i1 i2 i3 => by omega, fun a a1 a2 a3 => ?_⟩⟩, fun b hb => ?_, fun _ => rfl, Or.inl rfl, fun b k a q1 q2 q3 => ?_, Or.inl ⟨hz 1221 (by omega) (by omega), rfl⟩, ?_, fun b hb => ?_, (fun r hr => by cases hr), ?_⟩
  · rw [mB_lo a1 (by omega)] at a3; omega
  · unfold mB; rw [if_pos rfl]
  · unfold mB; rw [if_neg (by omega), if_pos rfl]
  · exact (hz 1218 (by omega) (by omega)).symm
  · exact (hz 1219 (by omega) (by omega)).symm
  · exact (hz 1220 (by omega) (by omega)).symm
  · rw [hr _ (by omega) (by omega)]; exact if_pos ⟨j1, j2⟩
  · rw [hr _ (by omega) (by omega)]; exact if_pos ⟨j1, j2⟩
  · rw [mB_lo (by omega) (by omega)]
  · rw [mB_ob, if_pos rfl]
  · rw [mB_lo a1 (by omega)] at a3; omega
  · show b < σ.2.1 + 5
    rcases hdom b hb with z | z <;> omega
  · exfalso
    have e := congrArg Prod.fst q1
    dsimp only at e
    rcases h3 b with z | z <;> omega
  · unfold gH9
    rw [if_pos ⟨rfl, rfl⟩]
  · rcases hdom b hb with z | z
    · exact Or.inl z
    · exact Or.inr z.1
  · show (dH9 h0 σ.2.1 σ.2.2.1).1 = -1
    by_cases q : (dH9 h0 σ.2.1 σ.2.2.1).1 = -1
    · exact q
    · rcases hdom _ q with z | z
      · exact absurd z hE2
      · omega
theorem HPX.mono {p : Nat} {Z Z' R R' : Nat → Prop} {μ : mm_M} (h : HPX m p Z R μ) (h1 : ∀ b, Z b → Z' b) (h2 : ∀ b, R b → R' b) : HPX m p Z' R' μ := by
  obtain ⟨hd, D1, G1, adk, nfk, ndk, pnk, agk, mkk, flk, dtk, hwk, dpk, alk, cok, fek, rpk, rok, wek, plk, mok, eak, lnk, cpk, elk, owk, skk, txk, tlk, rfk, slk, hsk, a1, a2, a3, a4, a5, a6, a7, a8, a9, a10, a11, a12⟩ := h
  exact ⟨hd, D1, G1, adk, nfk, ndk, pnk, agk, mkk, flk, dtk, hwk, dpk, alk, cok, fek, rpk, rok, wek, plk, mok, eak, lnk, cpk, elk, owk, skk, txk, tlk, rfk, slk, hsk, a1, a2, a3, a4, a5, a6, a7, a8, a9, fun b hb => h1 b (a10 b hb), fun r hr => h2 r (a11 r hr), a12⟩
theorem kc_out (h : (CG m hd D G adk nfk ndk pnk agk mkk flk dtk hwk dpk alk cok fek rpk rok wek plk mok eak lnk cpk elk owk skk txk tlk rfk slk hsk σ)) : ∀ b, σ.2.1 ≤ b → (D b).1 = -1 := fun b hb => by
  by_cases q : (D b).1 = -1
  · exact q
  · have := h.db b q; omega
theorem kc_reset (h : (CG m hd D G adk nfk ndk pnk agk mkk flk dtk hwk dpk alk cok fek rpk rok wek plk mok eak lnk cpk elk owk skk txk tlk rfk slk hsk σ)) {w d : Int} (hw : ir w) (hd0 : ir d) : (¬ ((8 ≤ w ∧ w ≤ 200) ∧ (1 ≤ d ∧ d ≤ 20)) → f_X0_reset (G 3 7) (J w) (J d) (cput D (cel G adk nfk ndk pnk agk mkk flk dtk hwk dpk alk cok fek rpk rok wek plk mok eak lnk cpk elk owk skk txk tlk rfk slk hsk) σ) = some (J (-1000002), (cput D (cel G adk nfk ndk pnk agk mkk flk dtk hwk dpk alk cok fek rpk rok wek plk mok eak lnk cpk elk owk skk txk tlk rfk slk hsk) σ))) ∧ ((8 ≤ w ∧ w ≤ 200) → (1 ≤ d ∧ d ≤ 20) → ∃ M', f_X0_reset (G 3 7) (J w) (J d) (cput D (cel G adk nfk ndk pnk agk mkk flk dtk hwk dpk alk cok fek rpk rok wek plk mok eak lnk cpk elk owk skk txk tlk rfk slk hsk) σ) = some (J w, M') ∧ OPK D σ (G 3 7) txk tlk rfk slk hsk (mB m w d) M') := by
  have h1 := kc_in hw (show ir 8 by unfold ir; omega) (show ir 200 by unfold ir; omega) (σ := (cput D (cel G adk nfk ndk pnk agk mkk flk dtk hwk dpk alk cok fek rpk rok wek plk mok eak lnk cpk elk owk skk txk tlk rfk slk hsk) σ))
  have h2 := kc_in hd0 (show ir 1 by unfold ir; omega) (show ir 20 by unfold ir; omega) (σ := (cput D (cel G adk nfk ndk pnk agk mkk flk dtk hwk dpk alk cok fek rpk rok wek plk mok eak lnk cpk elk owk skk txk tlk rfk slk hsk) σ))
  have hout := kc_out h
  unfold f_X0_reset
  constructor
  · intro hc
    by_cases c1 : 8 ≤ w ∧ w ≤ 200
    · have c2 : ¬ (1 ≤ d ∧ d ≤ 20) := fun q => hc ⟨c1, q⟩
      simp (disch := first | assumption | exact HU.lu (by assumption) | exact cw_okn | exact cw_ok3 (by assumption) | exact cw_ok5 (by assumption) | omega) only [J_add, J_sub, J_mul, J_neg, J_lit, J_lt, J_le, J_eq, Option.bind_some, Int.reduceAdd, Int.reduceSub, Int.reduceMul, Int.reduceNeg, Int.reduceEq, Int.reduceLT, Int.reduceLE, reduceIte, Int.zero_add, Int.add_zero, and_self, true_and, and_true, false_and, and_false, or_true, true_or, or_false, false_or, not_true_eq_false, not_false_eq_true, ne_eq, b2_s, cw_gadk, cw_gpnk, cw_gagk, cw_gmkk, cw_gfl, cw_gdt, cw_kth, cw_afl, cw_nfl, cw_adt, cw_ndt, cw_gmok, cw_geak, cw_glnk, cw_k0, cw_k6, cw_k7, cw_aowk, cw_aelk, cw_askk, cw_aslk, cw_nelk, cw_arok, cw_nrok, cw_awek, cw_nwek, cw_aplk, cw_nplk, cw_atxk, cw_ntxk, cw_ghwk, cw_gdpk, cw_galk, cw_gcok, cw_gfek, cw_h2, cw_h3, cw_h4, cw_h5, cw_h10, cw_grpk, cw_x0, cw_x1, cw_x2, cw_x5, cw_gtlk, cw_grfk, cw_ghsk, cw_padk, cw_pagk, cw_pmkk, cw_ppnk, cw_zpnk, cw_sfl, cw_sdt, cw_pmok, cw_peak, cw_plnk, cw_sowk, cw_selk, cw_sskk, cw_sslk, cw_srok, cw_swek, cw_splk, cw_palk, cw_pcok, cw_pfek, cw_prpk, cw_ptlk, cw_prfk, cw_phsk, cw_stxk, cw_ok3, cw_ok5, cw_okn, h1, h2, if_pos c1, if_neg c2]
    · simp (disch := first | assumption | exact HU.lu (by assumption) | exact cw_okn | exact cw_ok3 (by assumption) | exact cw_ok5 (by assumption) | omega) only [J_add, J_sub, J_mul, J_neg, J_lit, J_lt, J_le, J_eq, Option.bind_some, Int.reduceAdd, Int.reduceSub, Int.reduceMul, Int.reduceNeg, Int.reduceEq, Int.reduceLT, Int.reduceLE, reduceIte, Int.zero_add, Int.add_zero, and_self, true_and, and_true, false_and, and_false, or_true, true_or, or_false, false_or, not_true_eq_false, not_false_eq_true, ne_eq, b2_s, cw_gadk, cw_gpnk, cw_gagk, cw_gmkk, cw_gfl, cw_gdt, cw_kth, cw_afl, cw_nfl, cw_adt, cw_ndt, cw_gmok, cw_geak, cw_glnk, cw_k0, cw_k6, cw_k7, cw_aowk, cw_aelk, cw_askk, cw_aslk, cw_nelk, cw_arok, cw_nrok, cw_awek, cw_nwek, cw_aplk, cw_nplk, cw_atxk, cw_ntxk, cw_ghwk, cw_gdpk, cw_galk, cw_gcok, cw_gfek, cw_h2, cw_h3, cw_h4, cw_h5, cw_h10, cw_grpk, cw_x0, cw_x1, cw_x2, cw_x5, cw_gtlk, cw_grfk, cw_ghsk, cw_padk, cw_pagk, cw_pmkk, cw_ppnk, cw_zpnk, cw_sfl, cw_sdt, cw_pmok, cw_peak, cw_plnk, cw_sowk, cw_selk, cw_sskk, cw_sslk, cw_srok, cw_swek, cw_splk, cw_palk, cw_pcok, cw_pfek, cw_prpk, cw_ptlk, cw_prfk, cw_phsk, cw_stxk, cw_ok3, cw_ok5, cw_okn, h1, if_neg c1]
  · intro c1 c2
    have hini := kc_hinit (M := (cput D (cel G adk nfk ndk pnk agk mkk flk dtk hwk dpk alk cok fek rpk rok wek plk mok eak lnk cpk elk owk skk txk tlk rfk slk hsk) (nE σ (.inl (1, df_1))))) (h0 := σ.2.1) (w := w) (d := d) (by rw [cput_o (hout _ (Nat.le_refl _))]; exact m_ne rfl) (by show σ.2.1 < σ.2.1 + 1; omega)
    have hfr := kc_fresh (m := m) (σ := (cput D (cel G adk nfk ndk pnk agk mkk flk dtk hwk dpk alk cok fek rpk rok wek plk mok eak lnk cpk elk owk skk txk tlk rfk slk hsk) (nE σ (.inl (1, df_1))))) (h0 := σ.2.1) (w := w) (d := d) (R := fun r => (D r).1 = -1 ∨ σ.2.1 ≤ r) (by show σ.2.1 < σ.2.1 + 1; omega) (by have := h.ce.2.1; show σ.2.2.1 < σ.2.1 + 1; omega) (by have := h.ce.2.1; show σ.2.2.1 ≠ σ.2.1; omega)
    have hfr2 := hfr.mono (Z' := fun b => σ.2.1 ≤ b) (R' := fun r => (D r).1 = -1 ∨ σ.2.1 ≤ r) (fun b hb => by
      rcases hb with z | z
      · omega
      · have : σ.2.1 + 1 ≤ b := z
        omega) (fun _ q => q)
    obtain ⟨M', e1, e2⟩ := kc_install h hfr2 (fun b hb => by
      unfold nh9
      dsimp only
      have e : (cput D (cel G adk nfk ndk pnk agk mkk flk dtk hwk dpk alk cok fek rpk rok wek plk mok eak lnk cpk elk owk skk txk tlk rfk slk hsk) (nE σ (.inl (1, df_1)))).2.1 = σ.2.1 + 1 := rfl
      rw [e, if_neg (by omega), if_neg (by omega), if_neg (by omega), if_neg (by omega), if_neg (by omega), if_neg (by omega)]
      unfold cput
      dsimp only
      by_cases z : (D b).1 = -1
      · rw [if_pos z, if_pos z, m_nn (by omega)]
      · rw [if_neg z, if_neg z]) (by show σ.2.1 ≤ σ.2.1 + 1 + 5; omega) rfl
    refine ⟨M', ?_, e2⟩
    simp (disch := first | assumption | exact HU.lu (by assumption) | exact cw_okn | exact cw_ok3 (by assumption) | exact cw_ok5 (by assumption) | omega) only [J_add, J_sub, J_mul, J_neg, J_lit, J_lt, J_le, J_eq, Option.bind_some, Int.reduceAdd, Int.reduceSub, Int.reduceMul, Int.reduceNeg, Int.reduceEq, Int.reduceLT, Int.reduceLE, reduceIte, Int.zero_add, Int.add_zero, and_self, true_and, and_true, false_and, and_false, or_true, true_or, or_false, false_or, not_true_eq_false, not_false_eq_true, ne_eq, b2_s, cw_gadk, cw_gpnk, cw_gagk, cw_gmkk, cw_gfl, cw_gdt, cw_kth, cw_afl, cw_nfl, cw_adt, cw_ndt, cw_gmok, cw_geak, cw_glnk, cw_k0, cw_k6, cw_k7, cw_aowk, cw_aelk, cw_askk, cw_aslk, cw_nelk, cw_arok, cw_nrok, cw_awek, cw_nwek, cw_aplk, cw_nplk, cw_atxk, cw_ntxk, cw_ghwk, cw_gdpk, cw_galk, cw_gcok, cw_gfek, cw_h2, cw_h3, cw_h4, cw_h5, cw_h10, cw_grpk, cw_x0, cw_x1, cw_x2, cw_x5, cw_gtlk, cw_grfk, cw_ghsk, cw_padk, cw_pagk, cw_pmkk, cw_ppnk, cw_zpnk, cw_sfl, cw_sdt, cw_pmok, cw_peak, cw_plnk, cw_sowk, cw_selk, cw_sskk, cw_sslk, cw_srok, cw_swek, cw_splk, cw_palk, cw_pcok, cw_pfek, cw_prpk, cw_ptlk, cw_prfk, cw_phsk, cw_stxk, cw_ok3, cw_ok5, cw_okn, h1, h2, if_pos c1, if_pos c2]
    rw [ko_nO (hout _ (Nat.le_refl _)), b2_s, hini, Option.bind_some, e1, Option.bind_some]
theorem cnt_2 (σ : mm_M) (hg : HU D G) (hu : XU D G) (hm : WF m) (h : (KM m hd D G adk nfk ndk pnk agk mkk flk dtk hwk dpk alk cok fek rpk rok wek plk mok eak lnk cpk elk owk skk txk tlk rfk slk hsk)) : J lnk = J (cnt m tlk 2) := by
  have h1 := kc_count (σ := σ) hg hu hm h (x := 2) (by unfold ir; omega)
  have h2 : f_X0_count (G 3 7) (J 2) (cput D (cel G adk nfk ndk pnk agk mkk flk dtk hwk dpk alk cok fek rpk rok wek plk mok eak lnk cpk elk owk skk txk tlk rfk slk hsk) σ) = some (J lnk) := by
    unfold f_X0_count
    simp (disch := first | assumption | exact HU.lu (by assumption) | exact cw_okn | exact cw_ok3 (by assumption) | exact cw_ok5 (by assumption) | omega) only [J_add, J_sub, J_mul, J_neg, J_lit, J_lt, J_le, J_eq, Option.bind_some, Int.reduceAdd, Int.reduceSub, Int.reduceMul, Int.reduceNeg, Int.reduceEq, Int.reduceLT, Int.reduceLE, reduceIte, Int.zero_add, Int.add_zero, and_self, true_and, and_true, false_and, and_false, or_true, true_or, or_false, false_or, not_true_eq_false, not_false_eq_true, ne_eq, b2_s, cw_gadk, cw_gpnk, cw_gagk, cw_gmkk, cw_gfl, cw_gdt, cw_kth, cw_afl, cw_nfl, cw_adt, cw_ndt, cw_gmok, cw_geak, cw_glnk, cw_k0, cw_k6, cw_k7, cw_aowk, cw_aelk, cw_askk, cw_aslk, cw_nelk, cw_arok, cw_nrok, cw_awek, cw_nwek, cw_aplk, cw_nplk, cw_atxk, cw_ntxk, cw_ghwk, cw_gdpk, cw_galk, cw_gcok, cw_gfek, cw_h2, cw_h3, cw_h4, cw_h5, cw_h10, cw_grpk, cw_x0, cw_x1, cw_x2, cw_x5, cw_gtlk, cw_grfk, cw_ghsk, cw_padk, cw_pagk, cw_pmkk, cw_ppnk, cw_zpnk, cw_sfl, cw_sdt, cw_pmok, cw_peak, cw_plnk, cw_sowk, cw_selk, cw_sskk, cw_sslk, cw_srok, cw_swek, cw_splk, cw_palk, cw_pcok, cw_pfek, cw_prpk, cw_ptlk, cw_prfk, cw_phsk, cw_stxk, cw_ok3, cw_ok5, cw_okn, kc_lsize hg]
  rw [h2] at h1
  exact Option.some.inj h1
theorem cnt_tl {a b : Int} : cnt m a 2 = cnt m b 2 := by unfold cnt; simp
set_option maxHeartbeats 1000000 in
theorem kc_save (hm : WF m) (h : (CG m hd D G adk nfk ndk pnk agk mkk flk dtk hwk dpk alk cok fek rpk rok wek plk mok eak lnk cpk elk owk skk txk tlk rfk slk hsk σ)) {x : Int} (hx : ir x) : (¬ (0 ≤ x ∧ x ≤ 1) → f_X0_save (G 3 7) (J x) (cput D (cel G adk nfk ndk pnk agk mkk flk dtk hwk dpk alk cok fek rpk rok wek plk mok eak lnk cpk elk owk skk txk tlk rfk slk hsk) σ) = some (J (-1000002), (cput D (cel G adk nfk ndk pnk agk mkk flk dtk hwk dpk alk cok fek rpk rok wek plk mok eak lnk cpk elk owk skk txk tlk rfk slk hsk) σ))) ∧ (0 ≤ x → x ≤ 1 → ∃ (q : Nat) (σ' : mm_M), f_X0_save (G 3 7) (J x) (cput D (cel G adk nfk ndk pnk agk mkk flk dtk hwk dpk alk cok fek rpk rok wek plk mok eak lnk cpk elk owk skk txk tlk rfk slk hsk) σ) = some (J (cnt m tlk 2), (cput D (cel G adk nfk ndk pnk agk mkk flk dtk hwk dpk alk cok fek rpk rok wek plk mok eak lnk cpk elk owk skk txk tlk rfk (va_up slk x.toNat (some q)) hsk) σ')) ∧ EX D σ D σ' ∧ (CG m hd D G adk nfk ndk pnk agk mkk flk dtk hwk dpk alk cok fek rpk rok wek plk mok eak lnk cpk elk owk skk txk tlk rfk (va_up slk x.toNat (some q)) hsk σ') ∧ SVP m q D σ') := by
  have hg := h.hu
  have hu := h.xu
  have h1 := kc_in hx (show ir 0 by unfold ir; omega) (show ir 1 by unfold ir; omega) (σ := (cput D (cel G adk nfk ndk pnk agk mkk flk dtk hwk dpk alk cok fek rpk rok wek plk mok eak lnk cpk elk owk skk txk tlk rfk slk hsk) σ))
  have hout := kc_out h
  unfold f_X0_save
  constructor
  · intro hc
    simp (disch := first | assumption | exact HU.lu (by assumption) | exact cw_okn | exact cw_ok3 (by assumption) | exact cw_ok5 (by assumption) | omega) only [J_add, J_sub, J_mul, J_neg, J_lit, J_lt, J_le, J_eq, Option.bind_some, Int.reduceAdd, Int.reduceSub, Int.reduceMul, Int.reduceNeg, Int.reduceEq, Int.reduceLT, Int.reduceLE, reduceIte, Int.zero_add, Int.add_zero, and_self, true_and, and_true, false_and, and_false, or_true, true_or, or_false, false_or, not_true_eq_false, not_false_eq_true, ne_eq, b2_s, cw_gadk, cw_gpnk, cw_gagk, cw_gmkk, cw_gfl, cw_gdt, cw_kth, cw_afl, cw_nfl, cw_adt, cw_ndt, cw_gmok, cw_geak, cw_glnk, cw_k0, cw_k6, cw_k7, cw_aowk, cw_aelk, cw_askk, cw_aslk, cw_nelk, cw_arok, cw_nrok, cw_awek, cw_nwek, cw_aplk, cw_nplk, cw_atxk, cw_ntxk, cw_ghwk, cw_gdpk, cw_galk, cw_gcok, cw_gfek, cw_h2, cw_h3, cw_h4, cw_h5, cw_h10, cw_grpk, cw_x0, cw_x1, cw_x2, cw_x5, cw_gtlk, cw_grfk, cw_ghsk, cw_padk, cw_pagk, cw_pmkk, cw_ppnk, cw_zpnk, cw_sfl, cw_sdt, cw_pmok, cw_peak, cw_plnk, cw_sowk, cw_selk, cw_sskk, cw_sslk, cw_srok, cw_swek, cw_splk, cw_palk, cw_pcok, cw_pfek, cw_prpk, cw_ptlk, cw_prfk, cw_phsk, cw_stxk, cw_ok3, cw_ok5, cw_okn, h1, if_neg hc]
  · intro x1 x2
    have hq := hout _ (Nat.le_refl _)
    have hE := h.ce.2.1
    have hex0 : EX D σ D (nE σ (.inl (1, df_1))) := ⟨by show σ.2.1 ≤ σ.2.1 + 1; omega, rfl, fun b b1 b2 => ⟨b2, m_nn (by omega)⟩, fun b b1 => Or.inl b1, fun b b1 => by have := h.db b b1; show b < σ.2.1 + 1; omega⟩
    have h9 : (CG m hd D G adk nfk ndk pnk agk mkk flk dtk hwk dpk alk cok fek rpk rok wek plk mok eak lnk cpk elk owk skk txk tlk rfk slk hsk (nE σ (.inl (1, df_1)))) := h.st hex0
    have hrne : rpk ≠ some σ.2.1 := fun q => by
      rcases h.rp with ⟨-, z⟩ | ⟨-, r, z, -, -, z2⟩
      · rw [z] at q; cases q
      · rw [z] at q
        cases q
        omega
    obtain ⟨μ, e1, e2, e3, e4, e5⟩ := kc_hcopy (σ := nE σ (.inl (1, df_1))) (h0 := σ.2.1) (R := fun r => (D r).1 = -1) hg hm h.km h9.db h9.ce hq (by show σ.2.1 < σ.2.1 + 1; omega) (by show σ.2.2.1 ≠ σ.2.1; omega) (m_ne rfl) h9.rp hrne (fun r hr => by
      rcases h.rp with ⟨-, z⟩ | ⟨-, r', z, z1, -⟩
      · rw [z] at hr; cases hr
      · rw [z] at hr
        cases hr
        exact z1)
    have e4' : σ.2.1 + 1 ≤ μ.2.1 := e4
    have hHL : HLD D (cel G adk nfk ndk pnk agk mkk flk dtk hwk dpk alk cok fek rpk rok wek plk mok eak lnk cpk elk owk skk txk tlk rfk slk hsk) μ := fun b hb => by
      have hb1 := h.db b hb
      rw [e3 b (by show b < σ.2.1 + 1; omega) (by omega)]
      unfold cput
      dsimp only
      rw [if_neg hb]
    have hex : EX D σ D μ := ⟨by omega, e5, fun b b1 b2 => ⟨b2, by rw [e3 b (by show b < σ.2.1 + 1; omega) (by omega), cput_o b2, m_nn (by omega)]⟩, fun b b1 => Or.inl b1, fun b b1 => by have := h.db b b1; omega⟩
    have hQ : (CG m hd D G adk nfk ndk pnk agk mkk flk dtk hwk dpk alk cok fek rpk rok wek plk mok eak lnk cpk elk owk skk txk tlk rfk slk hsk μ) := h.st hex
    have hok : okR (cput D (cel G adk nfk ndk pnk agk mkk flk dtk hwk dpk alk cok fek rpk rok wek plk mok eak lnk cpk elk owk skk txk tlk rfk slk hsk) μ) 4 (some σ.2.1) = true := by
      have hc : μ.1 σ.2.1 = some (.inl (1, (match μ.1 σ.2.1 with | some (.inl o) => o.2 | _ => []))) := by
        obtain ⟨hd1, DN, GN, ad1, nf1, nd1, pn1, ag1, mk1, fl1, dt1, hw1, dp1, al1, co1, fe1, rp1, ro1, we1, pl1, mo1, ea1, ln1, cp1, el1, ow1, sk1, tx1, tl1, rf1, sl1, hs1, n1, n2, n3, n4, n5, n6, n7, n8, n9, n10, n11, n12⟩ := e2
        have z := n1.2.2.2.2.2.2
        unfold GU at z
        rw [n9] at z
        have z2 := n2 σ.2.1 (by rw [z]; dsimp only; omega)
        rw [z] at z2
        rw [z2]
        simp [cel]
      unfold okR
      dsimp only
      rw [cput_o hq, hc]
      rfl
    refine ⟨σ.2.1, μ, ?_, hex, ⟨⟨hQ.hu, hQ.xu, hQ.km⟩, ⟨hQ.db, hQ.ce, hQ.le, hQ.ca⟩, hQ.uq, hQ.rp⟩, e2.mono (fun b hb => by
      rcases hb with z | z
      · rw [z]; exact hq
      · exact hout b (by
          have : σ.2.1 + 1 ≤ b := z
          omega)) (fun _ q => q)⟩
    rw [← cnt_2 σ hg hu hm h.km]
    simp (disch := first | assumption | exact HU.lu (by assumption) | exact cw_okn | exact cw_ok3 (by assumption) | exact cw_ok5 (by assumption) | omega) only [J_add, J_sub, J_mul, J_neg, J_lit, J_lt, J_le, J_eq, Option.bind_some, Int.reduceAdd, Int.reduceSub, Int.reduceMul, Int.reduceNeg, Int.reduceEq, Int.reduceLT, Int.reduceLE, reduceIte, Int.zero_add, Int.add_zero, and_self, true_and, and_true, false_and, and_false, or_true, true_or, or_false, false_or, not_true_eq_false, not_false_eq_true, ne_eq, b2_s, cw_gadk, cw_gpnk, cw_gagk, cw_gmkk, cw_gfl, cw_gdt, cw_kth, cw_afl, cw_nfl, cw_adt, cw_ndt, cw_gmok, cw_geak, cw_glnk, cw_k0, cw_k6, cw_k7, cw_aowk, cw_aelk, cw_askk, cw_aslk, cw_nelk, cw_arok, cw_nrok, cw_awek, cw_nwek, cw_aplk, cw_nplk, cw_atxk, cw_ntxk, cw_ghwk, cw_gdpk, cw_galk, cw_gcok, cw_gfek, cw_h2, cw_h3, cw_h4, cw_h5, cw_h10, cw_grpk, cw_x0, cw_x1, cw_x2, cw_x5, cw_gtlk, cw_grfk, cw_ghsk, cw_padk, cw_pagk, cw_pmkk, cw_ppnk, cw_zpnk, cw_sfl, cw_sdt, cw_pmok, cw_peak, cw_plnk, cw_sowk, cw_selk, cw_sskk, cw_sslk, cw_srok, cw_swek, cw_splk, cw_palk, cw_pcok, cw_pfek, cw_prpk, cw_ptlk, cw_prfk, cw_phsk, cw_stxk, cw_ok3, cw_ok5, cw_okn, h1, if_pos (show 0 ≤ x ∧ x ≤ 1 from ⟨x1, x2⟩), ko_nO hq, e1]
    have hs := cw_sslk (σ := μ) (D := D) (G := G) (z := x) (r := some σ.2.1) (adk := adk) (nfk := nfk) (ndk := ndk) (pnk := pnk) (agk := agk) (mkk := mkk) (flk := flk) (dtk := dtk) (hwk := hwk) (dpk := dpk) (alk := alk) (cok := cok) (fek := fek) (rpk := rpk) (rok := rok) (wek := wek) (plk := plk) (owk := owk) (skk := skk) (txk := txk) (tlk := tlk) (rfk := rfk) (slk := slk) (hsk := hsk) (mok := mok) (eak := eak) (lnk := lnk) (cpk := cpk) (elk := elk) hg hu x1 (by omega) (by omega) hok
    rw [← hHL.eq] at hs
    simp (disch := first | assumption | exact HU.lu (by assumption) | exact cw_okn | exact cw_ok3 (by assumption) | exact cw_ok5 (by assumption) | omega) only [J_add, J_sub, J_mul, J_neg, J_lit, J_lt, J_le, J_eq, Option.bind_some, Int.reduceAdd, Int.reduceSub, Int.reduceMul, Int.reduceNeg, Int.reduceEq, Int.reduceLT, Int.reduceLE, reduceIte, Int.zero_add, Int.add_zero, and_self, true_and, and_true, false_and, and_false, or_true, true_or, or_false, false_or, not_true_eq_false, not_false_eq_true, ne_eq, b2_s, cw_gadk, cw_gpnk, cw_gagk, cw_gmkk, cw_gfl, cw_gdt, cw_kth, cw_afl, cw_nfl, cw_adt, cw_ndt, cw_gmok, cw_geak, cw_glnk, cw_k0, cw_k6, cw_k7, cw_aowk, cw_aelk, cw_askk, cw_aslk, cw_nelk, cw_arok, cw_nrok, cw_awek, cw_nwek, cw_aplk, cw_nplk, cw_atxk, cw_ntxk, cw_ghwk, cw_gdpk, cw_galk, cw_gcok, cw_gfek, cw_h2, cw_h3, cw_h4, cw_h5, cw_h10, cw_grpk, cw_x0, cw_x1, cw_x2, cw_x5, cw_gtlk, cw_grfk, cw_ghsk, cw_padk, cw_pagk, cw_pmkk, cw_ppnk, cw_zpnk, cw_sfl, cw_sdt, cw_pmok, cw_peak, cw_plnk, cw_sowk, cw_selk, cw_sskk, cw_sslk, cw_srok, cw_swek, cw_splk, cw_palk, cw_pcok, cw_pfek, cw_prpk, cw_ptlk, cw_prfk, cw_phsk, cw_stxk, cw_ok3, cw_ok5, cw_okn, hs, kc_lsize hg]
set_option maxHeartbeats 1000000 in
theorem kc_restore (hm : WF m) (h : (CG m hd D G adk nfk ndk pnk agk mkk flk dtk hwk dpk alk cok fek rpk rok wek plk mok eak lnk cpk elk owk skk txk tlk rfk slk hsk σ)) {x : Int} (hx : ir x) : (¬ (0 ≤ x ∧ x ≤ 1) → f_X0_restore (G 3 7) (J x) (cput D (cel G adk nfk ndk pnk agk mkk flk dtk hwk dpk alk cok fek rpk rok wek plk mok eak lnk cpk elk owk skk txk tlk rfk slk hsk) σ) = some (J (-1000002), (cput D (cel G adk nfk ndk pnk agk mkk flk dtk hwk dpk alk cok fek rpk rok wek plk mok eak lnk cpk elk owk skk txk tlk rfk slk hsk) σ))) ∧ (0 ≤ x → x ≤ 1 → slk x.toNat = none → f_X0_restore (G 3 7) (J x) (cput D (cel G adk nfk ndk pnk agk mkk flk dtk hwk dpk alk cok fek rpk rok wek plk mok eak lnk cpk elk owk skk txk tlk rfk slk hsk) σ) = some (J (-1000003), (cput D (cel G adk nfk ndk pnk agk mkk flk dtk hwk dpk alk cok fek rpk rok wek plk mok eak lnk cpk elk owk skk txk tlk rfk slk hsk) σ))) ∧ (0 ≤ x → x ≤ 1 → ∀ p m1, slk x.toNat = some p → WF m1 → SVP m1 p D σ → ∃ M', f_X0_restore (G 3 7) (J x) (cput D (cel G adk nfk ndk pnk agk mkk flk dtk hwk dpk alk cok fek rpk rok wek plk mok eak lnk cpk elk owk skk txk tlk rfk slk hsk) σ) = some (J (cnt m1 0 2), M') ∧ OPK D σ (G 3 7) txk tlk rfk slk hsk m1 M') := by
  have hg := h.hu
  have hu := h.xu
  have h1 := kc_in hx (show ir 0 by unfold ir; omega) (show ir 1 by unfold ir; omega) (σ := (cput D (cel G adk nfk ndk pnk agk mkk flk dtk hwk dpk alk cok fek rpk rok wek plk mok eak lnk cpk elk owk skk txk tlk rfk slk hsk) σ))
  have hout := kc_out h
  unfold f_X0_restore
  refine ⟨fun hc => ?_, fun x1 x2 hn => ?_, fun x1 x2 p m1 hs hm1 hV => ?_⟩
  · simp (disch := first | assumption | exact HU.lu (by assumption) | exact cw_okn | exact cw_ok3 (by assumption) | exact cw_ok5 (by assumption) | omega) only [J_add, J_sub, J_mul, J_neg, J_lit, J_lt, J_le, J_eq, Option.bind_some, Int.reduceAdd, Int.reduceSub, Int.reduceMul, Int.reduceNeg, Int.reduceEq, Int.reduceLT, Int.reduceLE, reduceIte, Int.zero_add, Int.add_zero, and_self, true_and, and_true, false_and, and_false, or_true, true_or, or_false, false_or, not_true_eq_false, not_false_eq_true, ne_eq, b2_s, cw_gadk, cw_gpnk, cw_gagk, cw_gmkk, cw_gfl, cw_gdt, cw_kth, cw_afl, cw_nfl, cw_adt, cw_ndt, cw_gmok, cw_geak, cw_glnk, cw_k0, cw_k6, cw_k7, cw_aowk, cw_aelk, cw_askk, cw_aslk, cw_nelk, cw_arok, cw_nrok, cw_awek, cw_nwek, cw_aplk, cw_nplk, cw_atxk, cw_ntxk, cw_ghwk, cw_gdpk, cw_galk, cw_gcok, cw_gfek, cw_h2, cw_h3, cw_h4, cw_h5, cw_h10, cw_grpk, cw_x0, cw_x1, cw_x2, cw_x5, cw_gtlk, cw_grfk, cw_ghsk, cw_padk, cw_pagk, cw_pmkk, cw_ppnk, cw_zpnk, cw_sfl, cw_sdt, cw_pmok, cw_peak, cw_plnk, cw_sowk, cw_selk, cw_sskk, cw_sslk, cw_srok, cw_swek, cw_splk, cw_palk, cw_pcok, cw_pfek, cw_prpk, cw_ptlk, cw_prfk, cw_phsk, cw_stxk, cw_ok3, cw_ok5, cw_okn, h1, if_neg hc]
  · simp (disch := first | assumption | exact HU.lu (by assumption) | exact cw_okn | exact cw_ok3 (by assumption) | exact cw_ok5 (by assumption) | omega) only [J_add, J_sub, J_mul, J_neg, J_lit, J_lt, J_le, J_eq, Option.bind_some, Int.reduceAdd, Int.reduceSub, Int.reduceMul, Int.reduceNeg, Int.reduceEq, Int.reduceLT, Int.reduceLE, reduceIte, Int.zero_add, Int.add_zero, and_self, true_and, and_true, false_and, and_false, or_true, true_or, or_false, false_or, not_true_eq_false, not_false_eq_true, ne_eq, b2_s, cw_gadk, cw_gpnk, cw_gagk, cw_gmkk, cw_gfl, cw_gdt, cw_kth, cw_afl, cw_nfl, cw_adt, cw_ndt, cw_gmok, cw_geak, cw_glnk, cw_k0, cw_k6, cw_k7, cw_aowk, cw_aelk, cw_askk, cw_aslk, cw_nelk, cw_arok, cw_nrok, cw_awek, cw_nwek, cw_aplk, cw_nplk, cw_atxk, cw_ntxk, cw_ghwk, cw_gdpk, cw_galk, cw_gcok, cw_gfek, cw_h2, cw_h3, cw_h4, cw_h5, cw_h10, cw_grpk, cw_x0, cw_x1, cw_x2, cw_x5, cw_gtlk, cw_grfk, cw_ghsk, cw_padk, cw_pagk, cw_pmkk, cw_ppnk, cw_zpnk, cw_sfl, cw_sdt, cw_pmok, cw_peak, cw_plnk, cw_sowk, cw_selk, cw_sskk, cw_sslk, cw_srok, cw_swek, cw_splk, cw_palk, cw_pcok, cw_pfek, cw_prpk, cw_ptlk, cw_prfk, cw_phsk, cw_stxk, cw_ok3, cw_ok5, cw_okn, h1, if_pos (show 0 ≤ x ∧ x ≤ 1 from ⟨x1, x2⟩), hn, mt_n]
  · have hq := hout _ (Nat.le_refl _)
    have hE := h.ce.2.1
    obtain ⟨hd1, D1, G1, ad1, nf1, nd1, pn1, ag1, mk1, fl1, dt1, hw1, dp1, al1, co1, fe1, rp1, ro1, we1, pl1, mo1, ea1, ln1, cp1, el1, ow1, sk1, tx1, tl1, rf1, sl1, hs1, n1, n2, n3, n4, n5, n6, n7, n8, n9, n10, n11, n12⟩ := hV
    generalize hM : (cput D (cel G adk nfk ndk pnk agk mkk flk dtk hwk dpk alk cok fek rpk rok wek plk mok eak lnk cpk elk owk skk txk tlk rfk slk hsk) (nE σ (.inl (1, df_1)))) = M
    have hM2 : M.2.1 = σ.2.1 + 1 ∧ M.2.2 = σ.2.2 := by rw [← hM]; exact ⟨rfl, rfl⟩
    have hMo : ∀ b, b < σ.2.1 → (D b).1 = -1 → M.1 b = σ.1 b := fun b b1 b2 => by rw [← hM, cput_o b2, m_nn (by omega)]
    have hMn : ∀ b, b < σ.2.1 → M.1 b = (cput D (cel G adk nfk ndk pnk agk mkk flk dtk hwk dpk alk cok fek rpk rok wek plk mok eak lnk cpk elk owk skk txk tlk rfk slk hsk) σ).1 b := fun b b1 => by
      rw [← hM]
      unfold cput
      dsimp only
      by_cases z : (D b).1 = -1
      · rw [if_pos z, if_pos z, m_nn (by omega)]
      · rw [if_neg z, if_neg z]
    have hMq : M.1 σ.2.1 = some (.inl (1, df_1)) := by rw [← hM, cput_o hq]; exact m_ne rfl
    have hq1 : (D1 σ.2.1).1 = -1 := by
      by_cases z : (D1 σ.2.1).1 = -1
      · exact z
      · have := n4 _ z; omega
    have hHL : HLD D1 (cel G1 ad1 nf1 nd1 pn1 ag1 mk1 fl1 dt1 hw1 dp1 al1 co1 fe1 rp1 ro1 we1 pl1 mo1 ea1 ln1 cp1 el1 ow1 sk1 tx1 tl1 rf1 sl1 hs1) M := fun b hb => by
      rw [hMo b (n4 b hb) (n10 b hb)]
      exact n2 b hb
    have hCE1 : CE D1 M := by
      obtain ⟨y1, y2, f, y3⟩ := h.ce
      unfold CE
      rw [hM2.2]
      exact ⟨n12, by rw [hM2.1]; omega, f, by rw [hMo _ y2 y1]; exact y3⟩
    have hRP1 : RPK m1 rp1 D1 M := by
      rcases n8 with ⟨x1, x2⟩ | ⟨x1, r, x2, x3, x4, x5⟩
      · exact Or.inl ⟨x1, x2⟩
      · exact Or.inr ⟨x1, r, x2, x3, by rw [hMo r x5 (n11 r x2)]; exact x4, by rw [hM2.1]; omega⟩
    have hrne : rp1 ≠ some σ.2.1 := fun q => by
      rcases n8 with ⟨x1, x2⟩ | ⟨x1, r, x2, x3, x4, x5⟩
      · rw [x2] at q; cases q
      · rw [x2] at q
        cases q
        omega
    obtain ⟨μ, e1, e2, e3, e4, e5⟩ := kc_hcopy (σ := M) (D := D1) (G := G1) (m := m1) (hd := hd1) (h0 := σ.2.1) (R := fun r => (D r).1 = -1 ∨ σ.2.1 ≤ r) (adk := ad1) (nfk := nf1) (ndk := nd1) (pnk := pn1) (agk := ag1) (mkk := mk1) (flk := fl1) (dtk := dt1) (hwk := hw1) (dpk := dp1) (alk := al1) (cok := co1) (fek := fe1) (rpk := rp1) (rok := ro1) (wek := we1) (plk := pl1) (mok := mo1) (eak := ea1) (lnk := ln1) (cpk := cp1) (elk := el1) (owk := ow1) (skk := sk1) (txk := tx1) (tlk := tl1) (rfk := rf1) (slk := sl1) (hsk := hs1) n1 hm1 n3 (fun b hb => by have := n4 b hb; rw [hM2.1]; omega) hCE1 hq1 (by rw [hM2.1]; omega) (by rw [hM2.2]; omega) hMq hRP1 hrne (fun r hr => Or.inl (n11 r hr))
    rw [← hHL.eq] at e1 e3
    have hHX := e2.mono (Z' := fun b => σ.2.1 ≤ b) (R' := fun r => (D r).1 = -1 ∨ σ.2.1 ≤ r) (fun b hb => by
      rcases hb with z | z
      · omega
      · rw [hM2.1] at z; omega) (fun _ q => q)
    rw [hM2.1] at e3 e4
    rw [hM2.2] at e5
    obtain ⟨M', r1, r2⟩ := kc_install h hHX (fun b hb => by rw [e3 b (by omega) (by omega)]; exact hMn b hb) (by omega) e5
    have r2' := r2
    obtain ⟨hd2, D2, G2, ad2, nf2, nd2, pn2, ag2, mk2, fl2, dt2, hw2, dp2, al2, co2, fe2, rp2, ro2, we2, pl2, mo2, ea2, ln2, cp2, el2, ow2, sk2, σ2, hM', hQ', -, hx'⟩ := r2'
    have s1 : gA M' (G 3 7) 0 0 = some (G2 3 6) := by rw [hM', ← hx']; exact cw_x0 hQ'.xu
    have s2 : gA M' (G2 3 6) 1 2 = some (G2 3 0) := by rw [hM']; exact cw_h2 hQ'.hu
    have s3 : ck M' (G2 3 0) 15 = some () := by rw [hM']; exact cw_k0 hQ'.hu.lu
    have s4 : f_J2_size (G2 3 0) M' = some (J (cnt m1 0 2)) := by
      rw [hM', kc_lsize hQ'.hu, cnt_2 σ hQ'.hu hQ'.xu hm1 hQ'.km]
      exact congrArg (fun z => some (J z)) cnt_tl
    refine ⟨M', ?_, r2⟩
    have t1 : gA M (G 3 7) 0 5 = some (G 3 10) := by rw [← hM]; exact cw_x5 hu
    have t2 : aR M (G 3 10) 4 (J x) = some (some p) := by
      rw [← hM, cw_aslk hu x1 (by omega) (by omega), hs]
    simp (disch := first | assumption | exact HU.lu (by assumption) | exact cw_okn | exact cw_ok3 (by assumption) | exact cw_ok5 (by assumption) | omega) only [J_add, J_sub, J_mul, J_neg, J_lit, J_lt, J_le, J_eq, Option.bind_some, Int.reduceAdd, Int.reduceSub, Int.reduceMul, Int.reduceNeg, Int.reduceEq, Int.reduceLT, Int.reduceLE, reduceIte, Int.zero_add, Int.add_zero, and_self, true_and, and_true, false_and, and_false, or_true, true_or, or_false, false_or, not_true_eq_false, not_false_eq_true, ne_eq, b2_s, cw_gadk, cw_gpnk, cw_gagk, cw_gmkk, cw_gfl, cw_gdt, cw_kth, cw_afl, cw_nfl, cw_adt, cw_ndt, cw_gmok, cw_geak, cw_glnk, cw_k0, cw_k6, cw_k7, cw_aowk, cw_aelk, cw_askk, cw_aslk, cw_nelk, cw_arok, cw_nrok, cw_awek, cw_nwek, cw_aplk, cw_nplk, cw_atxk, cw_ntxk, cw_ghwk, cw_gdpk, cw_galk, cw_gcok, cw_gfek, cw_h2, cw_h3, cw_h4, cw_h5, cw_h10, cw_grpk, cw_x0, cw_x1, cw_x2, cw_x5, cw_gtlk, cw_grfk, cw_ghsk, cw_padk, cw_pagk, cw_pmkk, cw_ppnk, cw_zpnk, cw_sfl, cw_sdt, cw_pmok, cw_peak, cw_plnk, cw_sowk, cw_selk, cw_sskk, cw_sslk, cw_srok, cw_swek, cw_splk, cw_palk, cw_pcok, cw_pfek, cw_prpk, cw_ptlk, cw_prfk, cw_phsk, cw_stxk, cw_ok3, cw_ok5, cw_okn, h1, if_pos (show 0 ≤ x ∧ x ≤ 1 from ⟨x1, x2⟩), hs, mt_s]
    rw [ko_nO hq, hM, b2_s, t1, Option.bind_some, t2, Option.bind_some, Option.bind_some, ← n9, e1, Option.bind_some, r1, Option.bind_some]
    simp only [s1, s2, s3, s4, Option.bind_some]
end T1
