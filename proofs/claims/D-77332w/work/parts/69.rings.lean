/-! PLAIN LAW: distance, the component's side. NAMES: rput rw_ exA RG9 kc_ -/
set_option maxRecDepth 100000
/-- a Rings at p -/
def rput (p sk : Nat) (ct : Int) (x : Nat) (σ : mm_M) : mm_M := sE σ p (.inl (6, [vR (some sk), vI (J ct), vR (some x)]))
section RW
variable {D : Nat → Int × Int} {c : Int → Int → mm_E} {σ : mm_M} {p sk x : Nat} {ct : Int}
theorem rw_cell (h : (D p).1 = -1) : (cput D c (rput p sk ct x σ)).1 p = some (.inl (6, [vR (some sk), vI (J ct), vR (some x)])) := by
  rw [cput_o h]
  unfold rput sE
  dsimp only
  rw [if_pos rfl]
theorem rw_g0 (h : (D p).1 = -1) : gA (cput D c (rput p sk ct x σ)) p 6 0 = some sk := gA_at (rw_cell h) rfl
theorem rw_g1 (h : (D p).1 = -1) : gI (cput D c (rput p sk ct x σ)) p 6 1 = some (J ct) := gI_at (rw_cell h) rfl
theorem rw_g2 (h : (D p).1 = -1) : gA (cput D c (rput p sk ct x σ)) p 6 2 = some x := gA_at (rw_cell h) rfl
theorem rw_ck (h : (D p).1 = -1) : ck (cput D c (rput p sk ct x σ)) p 6 = some () := ck_at (rw_cell h)
theorem rw_p1 (h : (D p).1 = -1) {v : Int} : pF (cput D c (rput p sk ct x σ)) p 6 1 (vI (J v)) = some (cput D c (rput p sk v x σ)) := by
  rw [pF_at (rw_cell h) (by simp), cput_sO h]
  unfold rput
  rw [sE_sE]
  rfl
end RW
/-- the fields of a thing -/
noncomputable def exA (m : Int → Int) (a : Int) (A : AM) : AM := itr (fun f B => rcA 200 (-1) (oo9 m (m (800 + a + 1 + f))) B) (m (200 + a)).toNat A
/-- within a round: what is marked is reached in d + 1 steps, what is reached in d is marked; things below i are done, and j fields of the next -/
def RG9 (m : Int → Int) (A : AM) (d : Nat) (e i j : Int) : Prop := IA m 200 A ∧ (∀ k, 0 ≤ k → k < A.2.2.1 → A.1 (A.2.1 k) = 1) ∧ (∀ b, 0 ≤ b → b < 200 → A.1 b = 1 → ∃ k, 0 ≤ k ∧ k < A.2.2.1 ∧ A.2.1 k = b) ∧ (∀ b, 0 ≤ b → b < 200 → A.1 b = 1 → rd m (-1) (d + 1) b) ∧ (∀ b, rd m (-1) d b → A.1 b = 1 ∧ ∃ k, 0 ≤ k ∧ k < e ∧ A.2.1 k = b) ∧ (∀ k, 0 ≤ k → k < e → rd m (-1) d (A.2.1 k)) ∧ (0 ≤ i ∧ i ≤ e ∧ e ≤ A.2.2.1) ∧ (∀ k f, 0 ≤ k → 0 ≤ f → f < m (200 + A.2.1 k) → k < i ∨ (k = i ∧ k < e ∧ f < j) → cf9 m (-1) A.1 (A.2.1 k) f)
section M1
variable {m : Int → Int} {A : AM} {d : Nat} {e i j : Int}
/-- reaching keeps what stands -/
theorem rcA_k (h : IA m 200 A) {o : Int} (ho : hdr m o) : (o = -1 ∨ (rcA 200 (-1) o A).1 o = 1) ∧ (∀ k, 0 ≤ k → k < A.2.2.1 → (rcA 200 (-1) o A).2.1 k = A.2.1 k) ∧ A.2.2.1 ≤ (rcA 200 (-1) o A).2.2.1 ∧ ((∀ k, 0 ≤ k → k < A.2.2.1 → A.1 (A.2.1 k) = 1) → ∀ k, 0 ≤ k → k < (rcA 200 (-1) o A).2.2.1 → (rcA 200 (-1) o A).1 ((rcA 200 (-1) o A).2.1 k) = 1) ∧ ((∀ b, 0 ≤ b → b < 200 → A.1 b = 1 → ∃ k, 0 ≤ k ∧ k < A.2.2.1 ∧ A.2.1 k = b) → ∀ b, 0 ≤ b → b < 200 → (rcA 200 (-1) o A).1 b = 1 → ∃ k, 0 ≤ k ∧ k < (rcA 200 (-1) o A).2.2.1 ∧ (rcA 200 (-1) o A).2.1 k = b) ∧ (∀ b, (rcA 200 (-1) o A).1 b = 1 → A.1 b = 1 ∨ b = o) := by
  by_cases c1 : o = -1 ∨ A.1 o = 1 ∨ o = -1
  · have q : rcA 200 (-1) o A = A := if_pos c1
    rw [q]
    exact ⟨by omega, fun k _ _ => rfl, Int.le_refl _, fun q => q, fun q => q, fun b q => Or.inl q⟩
  · rcases ho with ho | ⟨o1, o2, o3⟩
    · exact absurd (Or.inl ho) c1
    have hum := um_up o1 o2 (F := A.1) (by omega)
    have hub := um_b (up A.1 o 1)
    have h16 := h.2.2.2.2.2
    have c2 : ¬ A.2.2.1 = 200 := by omega
    have q : rcA 200 (-1) o A = _ := (if_neg c1).trans (if_neg c2)
    rw [q]
    have h20 := h.2.1.1
    dsimp only
    refine ⟨Or.inr (up_s _ _ _), fun k k1 k2 => up_n (by omega), by omega, fun hs k k1 k2 => ?_, fun hs b b1 b2 b3 => ?_, fun b b1 => ?_⟩
    · by_cases hk : k = A.2.2.1
      · rw [hk, up_s A.2.1, up_s]
      · rw [up_n (f := A.2.1) hk]
        by_cases hko : A.2.1 k = o
        · rw [hko, up_s]
        · rw [up_n hko]
          exact hs k k1 (by omega)
    · by_cases hb : b = o
      · exact ⟨A.2.2.1, h20, by omega, by rw [up_s, hb]⟩
      · rw [up_n hb] at b3
        obtain ⟨k, k1, k2, k3⟩ := hs b b1 b2 b3
        exact ⟨k, k1, by omega, by rw [up_n (by omega)]; exact k3⟩
    · by_cases hb : b = o
      · exact Or.inr hb
      · rw [up_n hb] at b1
        exact Or.inl b1
theorem RG9.field (hm : WF m) (h : RG9 m A d e i j) (hi : i < e) (j0 : 0 ≤ j) (hj : j < m (200 + A.2.1 i)) : RG9 m (rcA 200 (-1) (oo9 m (m (800 + A.2.1 i + 1 + j))) A) d e i (j + 1) ∧ (rcA 200 (-1) (oo9 m (m (800 + A.2.1 i + 1 + j))) A).2.1 i = A.2.1 i := by
  obtain ⟨h1, h2, h3, h4, h5, h6, h7, h8⟩ := h
  have hhd := oo9_h m (m (800 + A.2.1 i + 1 + j))
  obtain ⟨a1, a2, a3⟩ := h1.2.2.2.2.1 i (by omega) (by omega)
  have hga := rcA_g (w := -1) h1 hhd
  obtain ⟨q1, q2, q3, q4, q5, q6⟩ := rcA_k h1 hhd
  have hed := ed_of (w := -1) hm a1 a2 a3 j0 hj ⟨d, h6 i (by omega) hi⟩
  have hrd : ∀ b, 0 ≤ b → b < 200 → (rcA 200 (-1) (oo9 m (m (800 + A.2.1 i + 1 + j))) A).1 b = 1 → rd m (-1) (d + 1) b := fun b b1 b2 b3 => by
    rcases q6 b b3 with q | q
    · exact h4 b b1 b2 q
    · by_cases hx : m (800 + A.2.1 i + 1 + j) = -1
      · have e9 : oo9 m (m (800 + A.2.1 i + 1 + j)) = -1 := if_pos hx
        omega
      · have e9 : oo9 m (m (800 + A.2.1 i + 1 + j)) = ob m (m (800 + A.2.1 i + 1 + j)) := if_neg hx
        rw [e9] at q
        refine Or.inr ⟨A.2.1 i, h6 i (by omega) hi, ⟨a1, a2, a3, 1 + j, by omega, by omega, ?_, ?_⟩, by omega⟩
        · rw [show 800 + A.2.1 i + (1 + j) = 800 + A.2.1 i + 1 + j by omega]; exact hx
        · rw [show 800 + A.2.1 i + (1 + j) = 800 + A.2.1 i + 1 + j by omega]; exact q.symm
  have hcf : ∀ c f, cf9 m (-1) A.1 c f → cf9 m (-1) (rcA 200 (-1) (oo9 m (m (800 + A.2.1 i + 1 + j))) A).1 c f := fun c f q => by
    rcases q with q | q | q
    · exact Or.inl q
    · exact Or.inr (Or.inl (hga.2.1 _ q))
    · exact Or.inr (Or.inr q)
  refine ⟨⟨hga.1, q4 h2, q5 h3, hrd, fun b hb => ?_, fun k k1 k2 => ?_, ⟨h7.1, h7.2.1, by omega⟩, fun k f k1 f1 f2 hk => ?_⟩, q2 i (by omega) (by omega)⟩
  · obtain ⟨z1, k, z2, z3, z4⟩ := h5 b hb
    exact ⟨hga.2.1 _ z1, k, z2, z3, by rw [q2 k z2 (by omega)]; exact z4⟩
  · rw [q2 k k1 (by omega)]
    exact h6 k k1 k2
  · have hkt : k < A.2.2.1 := by omega
    rw [q2 k k1 hkt] at f2 ⊢
    by_cases hz : k = i ∧ f = j
    · rw [hz.1, hz.2]
      rcases q1 with q | q
      · exact Or.inl q
      · exact Or.inr (Or.inl q)
    · exact hcf _ _ (h8 k f k1 f1 f2 (by omega))
/-- a round's end -/
theorem RG9.next (hm : WF m) (h : RG9 m A d e e 0) : RG9 m A (d + 1) A.2.2.1 e 0 := by
  obtain ⟨h1, h2, h3, h4, h5, h6, h7, h8⟩ := h
  refine ⟨h1, h2, h3, fun b b1 b2 b3 => Or.inl (h4 b b1 b2 b3), fun b hb => ?_, fun k k1 k2 => ?_, ⟨by omega, by omega, by omega⟩, fun k f k1 f1 f2 hk => h8 k f k1 f1 f2 (by omega)⟩
  · have hb0 := rd_in hm hb
    have hmk : A.1 b = 1 := by
      rcases hb with hb | ⟨a, ha, ⟨e1, e2, e3, f, f1, f2, f3, f4⟩, hbw⟩
      · exact (h5 b hb).1
      · obtain ⟨-, k, k1, k2, k3⟩ := h5 a ha
        have h9 := h8 k (f - 1) k1 (by omega) (by rw [k3]; omega) (by omega)
        unfold cf9 at h9
        rw [k3, show 800 + a + 1 + (f - 1) = 800 + a + f by omega] at h9
        have e9 : oo9 m (m (800 + a + f)) = b := (if_neg f3).trans f4
        rw [e9] at h9
        omega
    exact ⟨hmk, h3 b hb0.1 hb0.2.1 hmk⟩
  · obtain ⟨a1, a2, a3⟩ := h1.2.2.2.2.1 k k1 k2
    exact h4 _ a1 a2 (h2 k k1 k2)
/-- all is done: what is not marked is never reached -/
theorem RG9.done (h : RG9 m A d A.2.2.1 A.2.2.1 0) : ∀ n b, rd m (-1) n b → rd m (-1) d b := by
  obtain ⟨h1, h2, h3, h4, h5, h6, h7, h8⟩ := h
  intro n
  induction n with
  | zero => exact fun b hb => rd_mono hb (Nat.zero_le _)
  | succ n ih =>
    intro b hb
    rcases hb with hb | ⟨a, ha, ⟨e1, e2, e3, f, f1, f2, f3, f4⟩, hbw⟩
    · exact ih b hb
    · obtain ⟨-, k, k1, k2, k3⟩ := h5 a (ih a ha)
      have h9 := h8 k (f - 1) k1 (by omega) (by rw [k3]; omega) (by omega)
      unfold cf9 at h9
      rw [k3, show 800 + a + 1 + (f - 1) = 800 + a + f by omega] at h9
      have e9 : oo9 m (m (800 + a + f)) = b := (if_neg f3).trans f4
      rw [e9] at h9
      rcases h9 with q | q | q
      · exact absurd q hbw
      · have hb0 : 0 ≤ b ∧ b < 200 := by
          rcases ob_r (m := m) (m (800 + a + f)) with z | z
          · rw [f4] at z; exact absurd z hbw
          · rw [f4] at z; exact ⟨z.1, z.2.1⟩
        obtain ⟨k', k1', k2', k3'⟩ := h3 b hb0.1 hb0.2 q
        have := h6 k' k1' k2'
        rwa [k3'] at this
      · exact absurd q hbw
end M1
section T1
variable {m hd : Int → Int} {adk nfk ndk pnk agk mkk rok wek plk txk : Int → Int} {flk dtk : Int → Int → Int} {hwk dpk alk cok fek lnk tlk rfk : Int} {rpk : Option Nat} {mok : Int32} {eak cpk : Nat} {elk owk skk slk : Nat → Option Nat} {hsk : Int64} {D : Nat → Int × Int} {G : Int → Int → Nat} {σ : mm_M} {p : Nat}
theorem kc_addA (hg : HU D G) (hu : XU D G) (hp : (D p).1 = -1) (hk : (KM m hd D G adk nfk ndk pnk agk mkk flk dtk hwk dpk alk cok fek rpk rok wek plk mok eak lnk cpk elk owk skk txk tlk rfk slk hsk)) {A : AM} (hA : IA m 200 A) {S : Nat → Option Nat} (hS : SK G S A) {o : Int} (ho : hdr m o) : ∃ S', f_X6_add p (if o = -1 then none else some (G 0 o)) (cput D (cel G adk nfk ndk pnk agk A.1 flk dtk hwk dpk alk cok fek rpk rok wek plk mok eak lnk cpk elk owk S txk tlk rfk slk hsk) (rput p (G 3 8) A.2.2.1 (G 3 7) σ)) = some (cput D (cel G adk nfk ndk pnk agk ((rcA 200 (-1) o A).1) flk dtk hwk dpk alk cok fek rpk rok wek plk mok eak lnk cpk elk owk S' txk tlk rfk slk hsk) (rput p (G 3 8) (rcA 200 (-1) o A).2.2.1 (G 3 7) σ)) ∧ SK G S' (rcA 200 (-1) o A) := by
  obtain ⟨h1, h2, h3, h4, h5, h6⟩ := hA
  unfold f_X6_add
  by_cases c0 : o = -1
  · have e : rcA 200 (-1) o A = A := if_pos (Or.inl c0)
    rw [if_pos c0, e]
    exact ⟨S, rfl, hS⟩
  · rcases ho with ho | ⟨o1, o2, o3⟩
    · exact absurd ho c0
    have hth := (hk.th o1 o2 o3).1
    rw [if_neg c0, mt_s]
    by_cases c1 : A.1 o = 1
    · have e : rcA 200 (-1) o A = A := if_pos (Or.inr (Or.inl c1))
      rw [e]
      refine ⟨S, ?_, hS⟩
      simp (disch := first | assumption | exact HU.lu (by assumption) | exact cw_okn | exact cw_ok3 (by assumption) | exact cw_ok5 (by assumption) | omega) only [J_add, J_sub, J_mul, J_neg, J_lit, J_lt, J_le, J_eq, Option.bind_some, Int.reduceAdd, Int.reduceSub, Int.reduceMul, Int.reduceNeg, Int.reduceEq, Int.reduceLT, Int.reduceLE, reduceIte, Int.zero_add, Int.add_zero, and_self, true_and, and_true, false_and, and_false, or_true, true_or, or_false, false_or, not_true_eq_false, not_false_eq_true, ne_eq, b2_s, cw_gadk, cw_gpnk, cw_gagk, cw_gmkk, cw_gfl, cw_gdt, cw_kth, cw_afl, cw_nfl, cw_adt, cw_ndt, cw_gmok, cw_geak, cw_glnk, cw_k0, cw_k6, cw_k7, cw_aowk, cw_aelk, cw_askk, cw_aslk, cw_nelk, cw_arok, cw_nrok, cw_awek, cw_nwek, cw_aplk, cw_nplk, cw_atxk, cw_ntxk, cw_ghwk, cw_gdpk, cw_galk, cw_gcok, cw_gfek, cw_h2, cw_h3, cw_h4, cw_h5, cw_h10, cw_grpk, cw_x0, cw_x1, cw_x2, cw_x5, cw_gtlk, cw_grfk, cw_ghsk, cw_padk, cw_pagk, cw_pmkk, cw_ppnk, cw_zpnk, cw_sfl, cw_sdt, cw_pmok, cw_peak, cw_plnk, cw_sowk, cw_selk, cw_sskk, cw_sslk, cw_srok, cw_swek, cw_splk, cw_palk, cw_pcok, cw_pfek, cw_prpk, cw_ptlk, cw_prfk, cw_phsk, cw_stxk, cw_ok3, cw_ok5, cw_okn, c1]
    · have c1' : A.1 o = 0 := by have := h1 o o1 o2; omega
      have c3 : ¬ (o = -1 ∨ A.1 o = 1 ∨ o = -1) := by omega
      have hum := um_up o1 o2 (F := A.1) (by omega)
      have hub := um_b (up A.1 o 1)
      have c4 : ¬ A.2.2.1 = 200 := by omega
      have e : rcA 200 (-1) o A = _ := (if_neg c3).trans (if_neg c4)
      rw [e]
      refine ⟨va_up S A.2.2.1.toNat (some (G 0 o)), ?_, fun k k1 k2 => ?_⟩
      · simp (disch := first | assumption | exact HU.lu (by assumption) | exact cw_okn | exact cw_ok3 (by assumption) | exact cw_ok5 (by assumption) | omega) only [J_add, J_sub, J_mul, J_neg, J_lit, J_lt, J_le, J_eq, Option.bind_some, Int.reduceAdd, Int.reduceSub, Int.reduceMul, Int.reduceNeg, Int.reduceEq, Int.reduceLT, Int.reduceLE, reduceIte, Int.zero_add, Int.add_zero, and_self, true_and, and_true, false_and, and_false, or_true, true_or, or_false, false_or, not_true_eq_false, not_false_eq_true, ne_eq, b2_s, cw_gadk, cw_gpnk, cw_gagk, cw_gmkk, cw_gfl, cw_gdt, cw_kth, cw_afl, cw_nfl, cw_adt, cw_ndt, cw_gmok, cw_geak, cw_glnk, cw_k0, cw_k6, cw_k7, cw_aowk, cw_aelk, cw_askk, cw_aslk, cw_nelk, cw_arok, cw_nrok, cw_awek, cw_nwek, cw_aplk, cw_nplk, cw_atxk, cw_ntxk, cw_ghwk, cw_gdpk, cw_galk, cw_gcok, cw_gfek, cw_h2, cw_h3, cw_h4, cw_h5, cw_h10, cw_grpk, cw_x0, cw_x1, cw_x2, cw_x5, cw_gtlk, cw_grfk, cw_ghsk, cw_padk, cw_pagk, cw_pmkk, cw_ppnk, cw_zpnk, cw_sfl, cw_sdt, cw_pmok, cw_peak, cw_plnk, cw_sowk, cw_selk, cw_sskk, cw_sslk, cw_srok, cw_swek, cw_splk, cw_palk, cw_pcok, cw_pfek, cw_prpk, cw_ptlk, cw_prfk, cw_phsk, cw_stxk, cw_ok3, cw_ok5, cw_okn, c1', rw_g0 hp, rw_g1 hp, rw_p1 hp]
      · dsimp only at k2 ⊢
        unfold va_up
        by_cases hk9 : k = A.2.2.1
        · rw [hk9, up_s, if_pos rfl]
        · rw [up_n hk9, if_neg (by omega)]
          exact hS k k1 (by omega)
end T1
