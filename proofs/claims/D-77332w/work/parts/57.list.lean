/-! PLAIN LAW: roles that come and go; lists. NAMES: DB EX CE gN dN sN kl_ -/
set_option maxRecDepth 100000
def CAPS (c : Nat) : Prop := c = 0 ∨ c = 10 ∨ c = 15 ∨ c = 22 ∨ c = 33 ∨ c = 49 ∨ c = 73 ∨ c = 109 ∨ c = 163 ∨ c = 244
/-- the cells of the overlay are old -/
def DB (D : Nat → Int × Int) (σ : mm_M) : Prop := ∀ b, (D b).1 ≠ -1 → b < σ.2.1
/-- what is not of the overlay stays, and stays outside; what comes to it is new -/
def EX (D : Nat → Int × Int) (σ : mm_M) (D' : Nat → Int × Int) (σ' : mm_M) : Prop :=
  σ.2.1 ≤ σ'.2.1 ∧ σ'.2.2 = σ.2.2 ∧ (∀ b, b < σ.2.1 → (D b).1 = -1 → (D' b).1 = -1 ∧ σ'.1 b = σ.1 b) ∧ (∀ b, (D' b).1 ≠ -1 → (D b).1 ≠ -1 ∨ σ.2.1 ≤ b) ∧ DB D' σ'
theorem EX.rfl' {D : Nat → Int × Int} {σ : mm_M} (h : DB D σ) : EX D σ D σ := ⟨Nat.le_refl _, rfl, fun b _ h1 => ⟨h1, rfl⟩, fun b h1 => Or.inl h1, h⟩
theorem EX.tr {D D' D'' : Nat → Int × Int} {σ σ' σ'' : mm_M} (h1 : EX D σ D' σ') (h2 : EX D' σ' D'' σ'') : EX D σ D'' σ'' := by
  obtain ⟨a1, a2, a3, a4, a5⟩ := h1
  obtain ⟨b1, b2, b3, b4, b5⟩ := h2
  refine ⟨Nat.le_trans a1 b1, by rw [b2, a2], fun b h1 h2 => ?_, fun b h1 => ?_, b5⟩
  · obtain ⟨c1, c2⟩ := a3 b h1 h2
    obtain ⟨d1, d2⟩ := b3 b (by omega) c1
    exact ⟨d1, by rw [d2, c2]⟩
  · rcases b4 b h1 with h | h
    · exact a4 b h
    · exact Or.inr (by omega)
/-- the lists' common empty array -/
def CE (D : Nat → Int × Int) (σ : mm_M) : Prop := (D σ.2.2.1).1 = -1 ∧ σ.2.2.1 < σ.2.1 ∧ ∃ f, σ.1 σ.2.2.1 = some (.inr (.inr (5, 0, f)))
theorem CE.ex {D D' : Nat → Int × Int} {σ σ' : mm_M} (h : CE D σ) (e : EX D σ D' σ') : CE D' σ' := by
  obtain ⟨h1, h2, f, h3⟩ := h
  obtain ⟨e1, e2, e3, e4, e5⟩ := e
  unfold CE
  rw [e2]
  obtain ⟨x1, x2⟩ := e3 _ h2 h1
  exact ⟨x1, by omega, f, by rw [x2]; exact h3⟩
def gN (G : Int → Int → Nat) (k a : Int) (q : Nat) : Int → Int → Nat := fun k' a' => if k' = k ∧ a' = a then q else G k' a'
def dN (D : Nat → Int × Int) (k a : Int) (q : Nat) : Nat → Int × Int := fun b => if b = q then (k, a) else if D b = (k, a) then (-1, 0) else D b
def sN (D : Nat → Int × Int) (c : Int → Int → mm_E) (k a : Int) (σ : mm_M) (e : mm_E) : mm_M := (fun b => if D b = (k, a) ∧ b ≠ σ.2.1 then some (c k a) else (nE σ e).1 b, (nE σ e).2)
section N1
variable {D : Nat → Int × Int} {G : Int → Int → Nat} {c c' : Int → Int → mm_E} {σ : mm_M} {k a : Int} {q : Nat} {e : mm_E}
theorem gN_s : gN G k a q k a = q := by unfold gN; rw [if_pos ⟨rfl, rfl⟩]
theorem gN_n {k' a' : Int} (h : ¬ (k' = k ∧ a' = a)) : gN G k a q k' a' = G k' a' := by unfold gN; rw [if_neg h]
theorem cput_new (hk : k ≠ -1) (h1 : c' k a = e) (h2 : ∀ b, (D b).1 ≠ -1 → ¬ D b = (k, a) → c' (D b).1 (D b).2 = c (D b).1 (D b).2) : nE (cput D c σ) e = cput (dN D k a σ.2.1) c' (sN D c k a σ e) := by
  unfold cput sN nE dN
  refine Prod.ext ?_ rfl
  funext b
  dsimp only
  by_cases hb : b = σ.2.1
  · rw [if_pos hb, if_pos hb]
    dsimp only
    rw [if_neg hk, h1]
  · rw [if_neg hb, if_neg hb]
    by_cases hd : D b = (k, a)
    · rw [if_pos hd]
      dsimp only
      rw [if_pos rfl, hd, if_neg hk, if_pos ⟨rfl, hb⟩]
    · rw [if_neg hd, if_neg (c := D b = (k, a) ∧ b ≠ σ.2.1) (fun q => hd q.1), if_neg hb]
      by_cases hm : (D b).1 = -1
      · rw [if_pos hm, if_pos hm]
      · rw [if_neg hm, if_neg hm, h2 b hm hd]
/-- an outer cell comes to the overlay -/
theorem cput_adopt (hk : k ≠ -1) (hq : (D q).1 = -1) (hn : ∀ b, D b ≠ (k, a)) (h0 : σ.1 q = some e) (h1 : c' k a = e) (h2 : ∀ b, (D b).1 ≠ -1 → c' (D b).1 (D b).2 = c (D b).1 (D b).2) : cput D c σ = cput (dN D k a q) c' σ := by
  unfold cput dN
  refine Prod.ext ?_ rfl
  funext b
  dsimp only
  by_cases hb : b = q
  · subst hb
    rw [if_pos hq, if_pos rfl]
    dsimp only
    rw [if_neg hk, h1, h0]
  · rw [if_neg hb, if_neg (hn b)]
    by_cases hm : (D b).1 = -1
    · rw [if_pos hm, if_pos hm]
    · rw [if_neg hm, if_neg hm, h2 b hm]
theorem GI_dN (hg : GI D G) : GI (dN D k a q) (gN G k a q) := by
  intro b hb
  unfold dN at hb ⊢
  by_cases h : b = q
  · rw [if_pos h]
    dsimp only
    rw [gN_s, h]
  · rw [if_neg h] at hb ⊢
    by_cases hd : D b = (k, a)
    · rw [if_pos hd] at hb
      exact absurd rfl hb
    · rw [if_neg hd] at hb ⊢
      rw [gN_n (fun q => hd (Prod.ext q.1 q.2)), hg b hb]
theorem GU_dN_s : GU (dN D k a q) (gN G k a q) k a := by
  unfold GU
  rw [gN_s]
  unfold dN
  rw [if_pos rfl]
theorem GU_dN {k' a' : Int} (h : GU D G k' a') (hk : k' ≠ -1) (hn : ¬ (k' = k ∧ a' = a)) (hq : G k' a' ≠ q) : GU (dN D k a q) (gN G k a q) k' a' := by
  unfold GU at h ⊢
  rw [gN_n hn]
  unfold dN
  rw [if_neg hq, h, if_neg (fun e => hn ⟨congrArg Prod.fst e, congrArg Prod.snd e⟩)]
theorem GU.lt {k' a' : Int} (h : GU D G k' a') (hb : DB D σ) (hk : k' ≠ -1) : G k' a' < σ.2.1 := hb _ (by rw [h]; exact hk)
theorem sN_2 : (sN D c k a σ e).2 = (σ.2.1 + 1, σ.2.2) := rfl
theorem EX.new (hb : DB D σ) (hk : k ≠ -1) : EX D σ (dN D k a σ.2.1) (sN D c k a σ e) := by
  refine ⟨by rw [sN_2]; exact Nat.le_succ _, rfl, fun b h1 h2 => ⟨?_, ?_⟩, fun b h1 => ?_, fun b h1 => ?_⟩
  · unfold dN
    rw [if_neg (by omega), if_neg (fun q => hk (by rw [← h2, q]))]
    exact h2
  · unfold sN
    dsimp only
    rw [if_neg (fun q => hk (by rw [← h2, q.1]))]
    unfold nE
    dsimp only
    rw [if_neg (by omega)]
  · unfold dN at h1
    by_cases h : b = σ.2.1
    · exact Or.inr (by omega)
    · rw [if_neg h] at h1
      by_cases hd : D b = (k, a)
      · rw [if_pos hd] at h1
        exact absurd rfl h1
      · rw [if_neg hd] at h1
        exact Or.inl h1
  · rw [sN_2]
    unfold dN at h1
    by_cases h : b = σ.2.1
    · omega
    · rw [if_neg h] at h1
      by_cases hd : D b = (k, a)
      · rw [if_pos hd] at h1
        exact absurd rfl h1
      · rw [if_neg hd] at h1
        have := hb b h1
        omega
end N1
theorem nA_at {σ : mm_M} {k lim : Nat} {n : Int} (h1 : 0 ≤ n) (h2 : n ≤ lim) (h3 : n < 2147483648) : nA σ k (J n) lim = some (σ.2.1, nE σ (.inr (.inl (k, n.toNat, rw_ (fun _ => 0))))) := by
  unfold nA
  rw [J_toInt (by omega) h3, if_pos ⟨h1, h2⟩, J_clamp h1 h3]
  rfl
theorem nQ_at {σ : mm_M} {k lim : Nat} {n : Int} (h1 : 0 ≤ n) (h2 : n ≤ lim) (h3 : n < 2147483648) : nQ σ k (J n) lim = some (σ.2.1, nE σ (.inr (.inr (k, n.toNat, fun _ => none)))) := by
  unfold nQ
  rw [J_toInt (by omega) h3, if_pos ⟨h1, h2⟩, J_clamp h1 h3]
theorem cR_at {σ : mm_M} {a0 a n0 n1 : Nat} {f g : Nat → Option Nat} {sp dp n : Int} (h0 : σ.1 a0 = some (.inr (.inr (5, n0, f)))) (h1 : σ.1 a = some (.inr (.inr (5, n1, g)))) (s1 : 0 ≤ sp) (d1 : 0 ≤ dp) (l1 : 0 ≤ n) (s2 : sp + n ≤ n0) (d2 : dp + n ≤ n1) (p0 : 0 < n0) (p1 : 0 < n1) (b0 : (n0 : Int) < 2147483648) (b1 : (n1 : Int) < 2147483648) (hok : ∀ i : Nat, (i : Int) < n → okR σ 5 (f (sp.toNat + i)) = true) : cR σ a0 (J sp) a (J dp) (J n) = some (sE σ a (.inr (.inr (5, n1, va_cpy f g sp.toNat dp.toNat n.toNat)))) := by
  unfold cR
  rw [h0, h1]
  dsimp only
  rw [J_toInt (by omega) (by omega), J_toInt (by omega) (by omega), J_toInt (by omega) (by omega), J_clamp s1 (by omega), J_clamp d1 (by omega), J_clamp l1 (by omega)]
  rw [if_pos ⟨rfl, rfl, p0, p1, s1, d1, l1, s2, d2, List.all_eq_true.mpr (fun i hi => hok i (by have := List.mem_range.mp hi; omega))⟩]
theorem newcap {c : Nat} (h : CAPS c) (h1 : 0 < c) (h2 : c < 200) (σ : mm_M) : ∃ c' : Nat, f_J5_newLength (J c) (J (c + 1) - J c) ((J c) >>> (J 1 &&& J 31)) σ = some (J c') ∧ CAPS c' ∧ c < c' ∧ c' ≤ 250 := by
  unfold CAPS at h ⊢
  rcases h with rfl | rfl | rfl | rfl | rfl | rfl | rfl | rfl | rfl | rfl
  · omega
  · exact ⟨15, by rfl, by omega, by omega, by omega⟩
  · exact ⟨22, by rfl, by omega, by omega, by omega⟩
  · exact ⟨33, by rfl, by omega, by omega, by omega⟩
  · exact ⟨49, by rfl, by omega, by omega, by omega⟩
  · exact ⟨73, by rfl, by omega, by omega, by omega⟩
  · exact ⟨109, by rfl, by omega, by omega, by omega⟩
  · exact ⟨163, by rfl, by omega, by omega, by omega⟩
  · exact ⟨244, by rfl, by omega, by omega, by omega⟩
  · omega
section T1
variable {adk nfk ndk pnk agk mkk rok wek plk txk : Int → Int} {flk dtk : Int → Int → Int} {hwk dpk alk cok fek lnk tlk rfk : Int} {rpk : Option Nat} {mok : Int32} {eak cpk : Nat} {elk owk skk slk : Nat → Option Nat} {hsk : Int64} {D : Nat → Int × Int} {G : Int → Int → Nat} {σ : mm_M}
/-- the cells but the list's elements don't know where those stand -/
theorem cel_gN {q : Nat} {v x : Nat} {y : Nat → Option Nat} : ∀ k' a' : Int, ¬ (k' = 3 ∧ a' = 2) → (cel (gN G 3 2 q) adk nfk ndk pnk agk mkk flk dtk hwk dpk alk cok fek rpk rok wek plk mok eak lnk x y owk skk txk tlk rfk slk hsk) k' a' = (cel G adk nfk ndk pnk agk mkk flk dtk hwk dpk alk cok fek rpk rok wek plk mok eak lnk v elk owk skk txk tlk rfk slk hsk) k' a' := by
  intro k' a' hn
  unfold cel
  simp only [gN, if_neg hn, Int.reduceEq, false_and, and_false, true_and, if_false]
theorem okR_nE {τ : mm_M} {e : mm_E} {k y : Nat} (hy : y < τ.2.1) (h : okR τ k (some y) = true) : okR (nE τ e) k (some y) = true := by
  unfold okR at h ⊢
  have h1 : (nE τ e).1 y = τ.1 y := by
    unfold nE
    dsimp only
    rw [if_neg (by omega)]
  dsimp only at h ⊢
  rw [h1]
  exact h
/-- the list grows -/
theorem kl_grow (hL : LU D G) (hb : DB D σ) (hc : CAPS cpk) (hE : cpk = 0 → eak = σ.2.2.1) (hCE : CE D σ) (hU : 0 < cpk → eak = G 3 2 ∧ GU D G 3 2) (hn : lnk = cpk) (hl : cpk < 200) (hok : ∀ i : Nat, i < cpk → ∃ y, elk i = some y ∧ y < σ.2.1 ∧ okR (cput D (cel G adk nfk ndk pnk agk mkk flk dtk hwk dpk alk cok fek rpk rok wek plk mok eak lnk cpk elk owk skk txk tlk rfk slk hsk) σ) 5 (some y) = true) : ∃ (cp' : Nat) (el' : Nat → Option Nat) (σ' : mm_M), f_J2_grow (G 3 0) (cput D (cel G adk nfk ndk pnk agk mkk flk dtk hwk dpk alk cok fek rpk rok wek plk mok eak lnk cpk elk owk skk txk tlk rfk slk hsk) σ) = some (σ.2.1, (cput (dN D 3 2 σ.2.1) (cel (gN G 3 2 σ.2.1) adk nfk ndk pnk agk mkk flk dtk hwk dpk alk cok fek rpk rok wek plk mok σ.2.1 lnk cp' el' owk skk txk tlk rfk slk hsk) σ')) ∧ CAPS cp' ∧ cpk < cp' ∧ cp' ≤ 250 ∧ (∀ i : Nat, i < cpk → el' i = elk i) ∧ EX D σ (dN D 3 2 σ.2.1) σ' := by
  have hL' : LU (dN D 3 2 σ.2.1) (gN G 3 2 σ.2.1) := ⟨GI_dN hL.1, GU_dN hL.2 (by omega) (by omega) (by have := hL.2.lt hb (by omega); omega)⟩
  have hg30 : gN G 3 2 σ.2.1 3 0 = G 3 0 := gN_n (by omega)
  have hg32 : gN G 3 2 σ.2.1 3 2 = σ.2.1 := gN_s
  have hu32 : GU (dN D 3 2 σ.2.1) (gN G 3 2 σ.2.1) 3 2 := GU_dN_s
  by_cases h0 : cpk = 0
  · subst h0
    have he := hE rfl
    subst he
    obtain ⟨c1, c2, f, c3⟩ := hCE
    have haN : aN σ σ.2.2.1 = some (J 0) := by rw [aN_r0 c3 (by decide)]; rfl
    refine ⟨10, fun _ => none, _, ?_, by unfold CAPS; omega, by omega, by omega, fun i hi => by omega, EX.new (c := cel G adk nfk ndk pnk agk mkk flk dtk hwk dpk alk cok fek rpk rok wek plk mok σ.2.2.1 lnk 0 elk owk skk txk tlk rfk slk hsk) (e := .inr (.inr (5, 10, fun _ => none))) hb (by omega)⟩
    have hnew := cput_new (σ := σ) (D := D) (k := 3) (a := 2) (e := .inr (.inr (5, 10, fun _ => none))) (c := cel G adk nfk ndk pnk agk mkk flk dtk hwk dpk alk cok fek rpk rok wek plk mok σ.2.2.1 lnk 0 elk owk skk txk tlk rfk slk hsk) (c' := cel (gN G 3 2 σ.2.1) adk nfk ndk pnk agk mkk flk dtk hwk dpk alk cok fek rpk rok wek plk mok σ.2.2.1 lnk 10 (fun _ => none) owk skk txk tlk rfk slk hsk) (by omega) (by simp [cel]) (fun b b1 b2 => cel_gN _ _ (fun q => b2 (Prod.ext q.1 q.2)))
    unfold f_J2_grow f_J2_grow_2
    have hlit : (if (10 : Int32) < J (lnk + 1) then J (lnk + 1) else (10 : Int32)) = J 10 := by
      rw [hn]
      rfl
    have hck : some σ.2.2.1 = some (cput D (cel G adk nfk ndk pnk agk mkk flk dtk hwk dpk alk cok fek rpk rok wek plk mok σ.2.2.1 lnk 0 elk owk skk txk tlk rfk slk hsk) σ).2.2.1 := rfl
    simp (disch := first | assumption | exact HU.lu (by assumption) | exact cw_okn | exact cw_ok3 (by assumption) | exact cw_ok5 (by assumption) | omega) only [J_add, J_sub, J_mul, J_neg, J_lit, J_lt, J_le, J_eq, Option.bind_some, Int.reduceAdd, Int.reduceSub, Int.reduceMul, Int.reduceNeg, Int.reduceEq, Int.reduceLT, Int.reduceLE, reduceIte, Int.zero_add, Int.add_zero, and_self, true_and, and_true, false_and, and_false, or_true, true_or, or_false, false_or, not_true_eq_false, not_false_eq_true, ne_eq, b2_s, cw_gadk, cw_gpnk, cw_gagk, cw_gmkk, cw_gfl, cw_gdt, cw_kth, cw_afl, cw_nfl, cw_adt, cw_ndt, cw_gmok, cw_geak, cw_glnk, cw_k0, cw_k6, cw_k7, cw_aowk, cw_aelk, cw_askk, cw_aslk, cw_nelk, cw_arok, cw_nrok, cw_awek, cw_nwek, cw_aplk, cw_nplk, cw_atxk, cw_ntxk, cw_ghwk, cw_gdpk, cw_galk, cw_gcok, cw_gfek, cw_h2, cw_h3, cw_h4, cw_h5, cw_h10, cw_grpk, cw_x0, cw_x1, cw_x2, cw_x5, cw_gtlk, cw_grfk, cw_ghsk, cw_padk, cw_pagk, cw_pmkk, cw_ppnk, cw_zpnk, cw_sfl, cw_sdt, cw_pmok, cw_peak, cw_plnk, cw_sowk, cw_selk, cw_sskk, cw_sslk, cw_srok, cw_swek, cw_splk, cw_palk, cw_pcok, cw_pfek, cw_prpk, cw_ptlk, cw_prfk, cw_phsk, cw_stxk, cw_ok3, cw_ok5, cw_okn, ko_aN c1, haN]
    rw [if_pos hck, if_neg (show ¬ (10 : Int) < lnk + 1 by omega), nQ_at (by omega) (by omega) (by omega), b2_s]
    simp only [cput_2]
    rw [show ((10 : Int).toNat) = 10 from rfl, hnew, ← hg30]
    simp (disch := first | assumption | exact HU.lu (by assumption) | exact cw_okn | exact cw_ok3 (by assumption) | exact cw_ok5 (by assumption) | omega) only [J_add, J_sub, J_mul, J_neg, J_lit, J_lt, J_le, J_eq, Option.bind_some, Int.reduceAdd, Int.reduceSub, Int.reduceMul, Int.reduceNeg, Int.reduceEq, Int.reduceLT, Int.reduceLE, reduceIte, Int.zero_add, Int.add_zero, and_self, true_and, and_true, false_and, and_false, or_true, true_or, or_false, false_or, not_true_eq_false, not_false_eq_true, ne_eq, b2_s, cw_gadk, cw_gpnk, cw_gagk, cw_gmkk, cw_gfl, cw_gdt, cw_kth, cw_afl, cw_nfl, cw_adt, cw_ndt, cw_gmok, cw_geak, cw_glnk, cw_k0, cw_k6, cw_k7, cw_aowk, cw_aelk, cw_askk, cw_aslk, cw_nelk, cw_arok, cw_nrok, cw_awek, cw_nwek, cw_aplk, cw_nplk, cw_atxk, cw_ntxk, cw_ghwk, cw_gdpk, cw_galk, cw_gcok, cw_gfek, cw_h2, cw_h3, cw_h4, cw_h5, cw_h10, cw_grpk, cw_x0, cw_x1, cw_x2, cw_x5, cw_gtlk, cw_grfk, cw_ghsk, cw_padk, cw_pagk, cw_pmkk, cw_ppnk, cw_zpnk, cw_sfl, cw_sdt, cw_pmok, cw_peak, cw_plnk, cw_sowk, cw_selk, cw_sskk, cw_sslk, cw_srok, cw_swek, cw_splk, cw_palk, cw_pcok, cw_pfek, cw_prpk, cw_ptlk, cw_prfk, cw_phsk, cw_stxk, cw_ok3, cw_ok5, cw_okn, cput_2]
  · have hp : 0 < cpk := by omega
    obtain ⟨e1, e2⟩ := hU hp
    subst e1
    obtain ⟨c', n1, n2, n3, n4⟩ := newcap hc hp hl (cput D (cel G adk nfk ndk pnk agk mkk flk dtk hwk dpk alk cok fek rpk rok wek plk mok (G 3 2) lnk cpk elk owk skk txk tlk rfk slk hsk) σ)
    have hq : (D σ.2.1).1 = -1 := by
      by_cases h : (D σ.2.1).1 = -1
      · exact h
      · have := hb _ h; omega
    have hnew := cput_new (σ := σ) (D := D) (k := 3) (a := 2) (e := .inr (.inr (5, c', fun _ => none))) (c := cel G adk nfk ndk pnk agk mkk flk dtk hwk dpk alk cok fek rpk rok wek plk mok (G 3 2) lnk cpk elk owk skk txk tlk rfk slk hsk) (c' := cel (gN G 3 2 σ.2.1) adk nfk ndk pnk agk mkk flk dtk hwk dpk alk cok fek rpk rok wek plk mok (G 3 2) lnk c' (fun _ => none) owk skk txk tlk rfk slk hsk) (by omega) (by simp [cel]) (fun b b1 b2 => cel_gN _ _ (fun q => b2 (Prod.ext q.1 q.2)))
    have hold : (dN D 3 2 σ.2.1 (G 3 2)).1 = -1 := by
      have := e2.lt hb (by omega)
      unfold dN
      unfold GU at e2
      rw [if_neg (by omega), if_pos e2]
    refine ⟨c', va_cpy elk (fun _ => none) 0 0 cpk, _, ?_, n2, n3, n4, fun i hi => ?_, EX.new (c := cel G adk nfk ndk pnk agk mkk flk dtk hwk dpk alk cok fek rpk rok wek plk mok (G 3 2) lnk cpk elk owk skk txk tlk rfk slk hsk) (e := .inr (.inr (5, c', fun _ => none))) hb (by omega)⟩
    · have hckQ : ckQ (cput D (cel G adk nfk ndk pnk agk mkk flk dtk hwk dpk alk cok fek rpk rok wek plk mok (G 3 2) lnk cpk elk owk skk txk tlk rfk slk hsk) σ) (G 3 2) = some () := by
        unfold ckQ
        rw [cc_2 e2]
        dsimp only
        rw [if_pos ⟨rfl, hp⟩]
      unfold f_J2_grow f_J2_grow_2 g_J2_grow_2_20 f_J7_copyOf f_J7_copyOf_2 g_J7_copyOf_2_24
      have hN : aN (cput D (cel G adk nfk ndk pnk agk mkk flk dtk hwk dpk alk cok fek rpk rok wek plk mok (G 3 2) lnk cpk elk owk skk txk tlk rfk slk hsk) σ) (G 3 2) = some (J cpk) := aN_r0 (cc_2 e2) (by decide)
      simp (disch := first | assumption | exact HU.lu (by assumption) | exact cw_okn | exact cw_ok3 (by assumption) | exact cw_ok5 (by assumption) | omega) only [J_add, J_sub, J_mul, J_neg, J_lit, J_lt, J_le, J_eq, Option.bind_some, Int.reduceAdd, Int.reduceSub, Int.reduceMul, Int.reduceNeg, Int.reduceEq, Int.reduceLT, Int.reduceLE, reduceIte, Int.zero_add, Int.add_zero, and_self, true_and, and_true, false_and, and_false, or_true, true_or, or_false, false_or, not_true_eq_false, not_false_eq_true, ne_eq, b2_s, cw_gadk, cw_gpnk, cw_gagk, cw_gmkk, cw_gfl, cw_gdt, cw_kth, cw_afl, cw_nfl, cw_adt, cw_ndt, cw_gmok, cw_geak, cw_glnk, cw_k0, cw_k6, cw_k7, cw_aowk, cw_aelk, cw_askk, cw_aslk, cw_nelk, cw_arok, cw_nrok, cw_awek, cw_nwek, cw_aplk, cw_nplk, cw_atxk, cw_ntxk, cw_ghwk, cw_gdpk, cw_galk, cw_gcok, cw_gfek, cw_h2, cw_h3, cw_h4, cw_h5, cw_h10, cw_grpk, cw_x0, cw_x1, cw_x2, cw_x5, cw_gtlk, cw_grfk, cw_ghsk, cw_padk, cw_pagk, cw_pmkk, cw_ppnk, cw_zpnk, cw_sfl, cw_sdt, cw_pmok, cw_peak, cw_plnk, cw_sowk, cw_selk, cw_sskk, cw_sslk, cw_srok, cw_swek, cw_splk, cw_palk, cw_pcok, cw_pfek, cw_prpk, cw_ptlk, cw_prfk, cw_phsk, cw_stxk, cw_ok3, cw_ok5, cw_okn, hN]
      rw [hn] at *
      rw [if_pos (show (0 : Int) < cpk by omega), ← J_sub, n1, Option.bind_some, hckQ, Option.bind_some, nQ_at (by omega) (by omega) (by omega), b2_s]
      show b2 (b2 (b2 ((aN (nE (cput D _ σ) _) (G 3 2)).bind _) _) _) _ = _
      have hcell : (sN D (cel G adk nfk ndk pnk agk mkk flk dtk hwk dpk alk cok fek rpk rok wek plk mok (G 3 2) (↑cpk) cpk elk owk skk txk tlk rfk slk hsk) 3 2 σ (.inr (.inr (5, c', fun _ => none)))).1 (G 3 2) = some (.inr (.inr (5, cpk, elk))) := by
        have h7 := e2.lt hb (by omega)
        unfold sN
        dsimp only
        rw [if_pos ⟨e2, by omega⟩]
        rfl
      have hM := hnew
      have hok' : ∀ i : Nat, (i : Int) < cpk → okR (nE (cput D (cel G adk nfk ndk pnk agk mkk flk dtk hwk dpk alk cok fek rpk rok wek plk mok (G 3 2) cpk cpk elk owk skk txk tlk rfk slk hsk) σ) (.inr (.inr (5, c', fun _ => none)))) 5 (elk ((0 : Int).toNat + i)) = true := fun i hi => by
        obtain ⟨y, y1, y2, y3⟩ := hok i (by omega)
        rw [show (0 : Int).toNat + i = i by simp, y1]
        exact okR_nE y2 y3
      rw [show ((c' : Int).toNat) = c' from rfl]
      rw [hnew] at hok' ⊢
      rw [ko_aN hold, aN_r0 hcell (by decide), Option.bind_some]
      simp (disch := omega) only [cput_2, J_lt, if_neg (show ¬ (c' : Int) < cpk by omega)]
      have hcc : (cput (dN D 3 2 σ.2.1) (cel (gN G 3 2 σ.2.1) adk nfk ndk pnk agk mkk flk dtk hwk dpk alk cok fek rpk rok wek plk mok (G 3 2) (↑cpk) c' (fun _ => none) owk skk txk tlk rfk slk hsk) (sN D (cel G adk nfk ndk pnk agk mkk flk dtk hwk dpk alk cok fek rpk rok wek plk mok (G 3 2) (↑cpk) cpk elk owk skk txk tlk rfk slk hsk) 3 2 σ (.inr (.inr (5, c', fun _ => none))))).1 (gN G 3 2 σ.2.1 3 2) = _ := cc_2 hu32
      rw [hg32] at hcc
      rw [cR_at (by rw [cput_o hold]; exact hcell) hcc (by omega) (by omega) (by omega) (by omega) (by omega) (by omega) (by omega) (by omega) (by omega) hok', Option.bind_some, b2_s, b2_s]
      have hw : sE (cput (dN D 3 2 σ.2.1) (cel (gN G 3 2 σ.2.1) adk nfk ndk pnk agk mkk flk dtk hwk dpk alk cok fek rpk rok wek plk mok (G 3 2) (↑cpk) c' (fun _ => none) owk skk txk tlk rfk slk hsk) (sN D (cel G adk nfk ndk pnk agk mkk flk dtk hwk dpk alk cok fek rpk rok wek plk mok (G 3 2) (↑cpk) cpk elk owk skk txk tlk rfk slk hsk) 3 2 σ (.inr (.inr (5, c', fun _ => none))))) (gN G 3 2 σ.2.1 3 2) (.inr (.inr (5, c', va_cpy elk (fun _ => none) 0 0 cpk))) = _ := cput_sE hL'.1 hu32 (by omega) (c' := cel (gN G 3 2 σ.2.1) adk nfk ndk pnk agk mkk flk dtk hwk dpk alk cok fek rpk rok wek plk mok (G 3 2) (↑cpk) c' (va_cpy elk (fun _ => none) 0 0 cpk) owk skk txk tlk rfk slk hsk) (by simp [cel]) (by
        intro k' a' hn
        simp only [cel, if_neg hn])
      rw [hg32] at hw
      rw [show (0 : Int).toNat = 0 from rfl, show ((cpk : Int).toNat) = cpk from rfl]
      show b2 ((pF (sE _ σ.2.1 _) (G 3 0) 15 1 (vR (some σ.2.1))).bind _) _ = _
      rw [hw, ← hg30, cw_peak hL']
      rfl
    · unfold va_cpy
      rw [if_pos (by omega)]
      simp
end T1
