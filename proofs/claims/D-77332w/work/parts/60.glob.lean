/-! PLAIN LAW: what stands between two calls; a new thing. NAMES: CG OPK th9 dT gT -/
set_option maxRecDepth 100000
/-- the component stands for the row m -/
def CG (m hd : Int → Int) (D : Nat → Int × Int) (G : Int → Int → Nat) (adk : Int → Int) (nfk : Int → Int) (ndk : Int → Int) (pnk : Int → Int) (agk : Int → Int) (mkk : Int → Int) (flk : Int → Int → Int) (dtk : Int → Int → Int) (hwk : Int) (dpk : Int) (alk : Int) (cok : Int) (fek : Int) (rpk : Option Nat) (rok : Int → Int) (wek : Int → Int) (plk : Int → Int) (mok : Int32) (eak : Nat) (lnk : Int) (cpk : Nat) (elk : Nat → Option Nat) (owk : Nat → Option Nat) (skk : Nat → Option Nat) (txk : Int → Int) (tlk : Int) (rfk : Int) (slk : Nat → Option Nat) (hsk : Int64) (σ : mm_M) : Prop :=
  (HU D G ∧ XU D G ∧ (KM m hd D G adk nfk ndk pnk agk mkk flk dtk hwk dpk alk cok fek rpk rok wek plk mok eak lnk cpk elk owk skk txk tlk rfk slk hsk)) ∧ (DB D σ ∧ CE D σ ∧ (cpk = 0 → eak = σ.2.2.1) ∧ CAPS cpk) ∧ (∀ b k a, D b = (k, a) → 0 ≤ k → k ≤ 2 → 0 ≤ a ∧ a < 200 ∧ 0 < m a) ∧ RPK m rpk D σ
/-- what a call leaves: a memory that stands for the row m' -/
def OPK (D0 : Nat → Int × Int) (σ0 : mm_M) (x : Nat) (txk : Int → Int) (tlk : Int) (rfk : Int) (slk : Nat → Option Nat) (hsk : Int64) (m : Int → Int) (M : mm_M) : Prop := ∃ (hd : Int → Int) (D : Nat → Int × Int) (G : Int → Int → Nat) (adk : Int → Int) (nfk : Int → Int) (ndk : Int → Int) (pnk : Int → Int) (agk : Int → Int) (mkk : Int → Int) (flk : Int → Int → Int) (dtk : Int → Int → Int) (hwk : Int) (dpk : Int) (alk : Int) (cok : Int) (fek : Int) (rpk : Option Nat) (rok : Int → Int) (wek : Int → Int) (plk : Int → Int) (mok : Int32) (eak : Nat) (lnk : Int) (cpk : Nat) (elk : Nat → Option Nat) (owk : Nat → Option Nat) (skk : Nat → Option Nat) (σ : mm_M), M = (cput D (cel G adk nfk ndk pnk agk mkk flk dtk hwk dpk alk cok fek rpk rok wek plk mok eak lnk cpk elk owk skk txk tlk rfk slk hsk) σ) ∧ (CG m hd D G adk nfk ndk pnk agk mkk flk dtk hwk dpk alk cok fek rpk rok wek plk mok eak lnk cpk elk owk skk txk tlk rfk slk hsk σ) ∧ EX D0 σ0 D σ ∧ G 3 7 = x
section T1
variable {m hd : Int → Int} {adk nfk ndk pnk agk mkk rok wek plk txk : Int → Int} {flk dtk : Int → Int → Int} {hwk dpk alk cok fek lnk tlk rfk : Int} {rpk : Option Nat} {mok : Int32} {eak cpk : Nat} {elk owk skk slk : Nat → Option Nat} {hsk : Int64} {D : Nat → Int × Int} {G : Int → Int → Nat} {σ : mm_M}
theorem CG.hu (h : (CG m hd D G adk nfk ndk pnk agk mkk flk dtk hwk dpk alk cok fek rpk rok wek plk mok eak lnk cpk elk owk skk txk tlk rfk slk hsk σ)) : HU D G := h.1.1
theorem CG.xu (h : (CG m hd D G adk nfk ndk pnk agk mkk flk dtk hwk dpk alk cok fek rpk rok wek plk mok eak lnk cpk elk owk skk txk tlk rfk slk hsk σ)) : XU D G := h.1.2.1
theorem CG.km (h : (CG m hd D G adk nfk ndk pnk agk mkk flk dtk hwk dpk alk cok fek rpk rok wek plk mok eak lnk cpk elk owk skk txk tlk rfk slk hsk σ)) : (KM m hd D G adk nfk ndk pnk agk mkk flk dtk hwk dpk alk cok fek rpk rok wek plk mok eak lnk cpk elk owk skk txk tlk rfk slk hsk) := h.1.2.2
theorem CG.db (h : (CG m hd D G adk nfk ndk pnk agk mkk flk dtk hwk dpk alk cok fek rpk rok wek plk mok eak lnk cpk elk owk skk txk tlk rfk slk hsk σ)) : DB D σ := h.2.1.1
theorem CG.ce (h : (CG m hd D G adk nfk ndk pnk agk mkk flk dtk hwk dpk alk cok fek rpk rok wek plk mok eak lnk cpk elk owk skk txk tlk rfk slk hsk σ)) : CE D σ := h.2.1.2.1
theorem CG.le (h : (CG m hd D G adk nfk ndk pnk agk mkk flk dtk hwk dpk alk cok fek rpk rok wek plk mok eak lnk cpk elk owk skk txk tlk rfk slk hsk σ)) : cpk = 0 → eak = σ.2.2.1 := h.2.1.2.2.1
theorem CG.ca (h : (CG m hd D G adk nfk ndk pnk agk mkk flk dtk hwk dpk alk cok fek rpk rok wek plk mok eak lnk cpk elk owk skk txk tlk rfk slk hsk σ)) : CAPS cpk := h.2.1.2.2.2
theorem CG.uq (h : (CG m hd D G adk nfk ndk pnk agk mkk flk dtk hwk dpk alk cok fek rpk rok wek plk mok eak lnk cpk elk owk skk txk tlk rfk slk hsk σ)) : ∀ b k a, D b = (k, a) → 0 ≤ k → k ≤ 2 → 0 ≤ a ∧ a < 200 ∧ 0 < m a := h.2.2.1
theorem CG.rp (h : (CG m hd D G adk nfk ndk pnk agk mkk flk dtk hwk dpk alk cok fek rpk rok wek plk mok eak lnk cpk elk owk skk txk tlk rfk slk hsk σ)) : RPK m rpk D σ := h.2.2.2
theorem OPK.id (h : (CG m hd D G adk nfk ndk pnk agk mkk flk dtk hwk dpk alk cok fek rpk rok wek plk mok eak lnk cpk elk owk skk txk tlk rfk slk hsk σ)) : OPK D σ (G 3 7) txk tlk rfk slk hsk m (cput D (cel G adk nfk ndk pnk agk mkk flk dtk hwk dpk alk cok fek rpk rok wek plk mok eak lnk cpk elk owk skk txk tlk rfk slk hsk) σ) := ⟨hd, D, G, adk, nfk, ndk, pnk, agk, mkk, flk, dtk, hwk, dpk, alk, cok, fek, rpk, rok, wek, plk, mok, eak, lnk, cpk, elk, owk, skk, σ, rfl, h, EX.rfl' h.db, rfl⟩
theorem CG.okL (h : (CG m hd D G adk nfk ndk pnk agk mkk flk dtk hwk dpk alk cok fek rpk rok wek plk mok eak lnk cpk elk owk skk txk tlk rfk slk hsk σ)) : ∀ i : Nat, (i : Int) < lnk → ∃ y, elk i = some y ∧ y < σ.2.1 ∧ okR (cput D (cel G adk nfk ndk pnk agk mkk flk dtk hwk dpk alk cok fek rpk rok wek plk mok eak lnk cpk elk owk skk txk tlk rfk slk hsk) σ) 5 (some y) = true := fun i hi => by
  obtain ⟨e1, e2⟩ := h.km.ls.2.2 i (by omega) hi
  exact ⟨_, e1, e2.1.lt h.db (by omega), cw_ok5 e2⟩
end T1
theorem RPK.cg {m m' : Int → Int} {rpk : Option Nat} {D D' : Nat → Int × Int} {σ σ' : mm_M} (h : RPK m rpk D σ) (e : EX D σ D' σ') (h1 : ∀ k, 1210 ≤ k → k ≤ 1215 → m' k = m k) (h2 : m' 1221 = m 1221) : RPK m' rpk D' σ' := by
  rcases h with ⟨a, b⟩ | ⟨a, p, b, c, d, hp⟩
  · exact Or.inl ⟨by rw [h2]; exact a, b⟩
  · obtain ⟨x1, x2⟩ := e.2.2.1 p hp c
    refine Or.inr ⟨by rw [h2]; exact a, p, b, x1, ?_, Nat.lt_of_lt_of_le hp e.1⟩
    rw [x2, d, h1 1210 (by omega) (by omega), h1 1211 (by omega) (by omega), h1 1212 (by omega) (by omega), h1 1213 (by omega) (by omega), h1 1214 (by omega) (by omega), h1 1215 (by omega) (by omega)]
/-- a thing, made at h0 with its two rows behind the end -/
def th9 (M : mm_M) (h0 : Nat) (a : Int) (f d : Int) (g : Int → Int) : mm_M := (fun b => if b = M.2.1 + 1 then some (.inr (.inl (0, d.toNat, rw_ (fun _ => 0)))) else if b = M.2.1 then some (.inr (.inl (0, f.toNat, rw_ g))) else if b = h0 then some (.inl (3, [vI (J a), vR (some M.2.1), vR (some (M.2.1 + 1)), vI (J 0), vI (J 0), vI (J 0)])) else M.1 b, M.2.1 + 2, M.2.2)
theorem kc_thinit {M : mm_M} {h0 : Nat} {a f d : Int} (h1 : M.1 h0 = some (.inl (3, df_3))) (h2 : h0 < M.2.1) (f1 : 0 ≤ f) (f2 : f ≤ 6) (d1 : 0 ≤ d) (d2 : d ≤ 6) : f_X3_init h0 (J a) (J f) (J d) M = some (th9 M h0 a f d (fun j => if 0 ≤ j ∧ j < f then -1 else 0)) := by
  have e0 : g_X3_init_0 h0 (J a) (J f) (J d) M = some (.inl (J 0, th9 M h0 a f d (fun j => 0))) := by
    unfold g_X3_init_0
    rw [pF_at h1 (by simp), Option.bind_some, nA_at f1 (by omega) (by omega), b2_s]
    rw [pF_at (fs := [vI (J a), vR none, vR none, vI 0, vI 0, vI 0]) (by
      unfold nE sE
      dsimp only
      rw [if_neg (by omega), if_pos rfl]
      rfl) (by simp), Option.bind_some, nA_at d1 (by omega) (by omega), b2_s]
    rw [pF_at (fs := [vI (J a), vR (some M.2.1), vR none, vI 0, vI 0, vI 0]) (by
      unfold nE sE
      dsimp only
      rw [if_neg (by omega), if_pos rfl]
      rfl) (by simp), Option.bind_some]
    refine congrArg (fun z => some (Sum.inl (J 0, z))) ?_
    unfold th9 nE sE
    refine Prod.ext ?_ rfl
    funext b
    dsimp only
    by_cases b1 : b = h0
    · subst b1
      rw [if_pos rfl, if_neg (by omega), if_neg (by omega), if_pos rfl]
      rfl
    · rw [if_neg b1, if_neg b1]
      by_cases b2 : b = M.2.1 + 1
      · rw [if_pos b2, if_pos b2]
      · rw [if_neg b2, if_neg b2, if_neg b1]
        by_cases b3 : b = M.2.1
        · rw [if_pos b3, if_pos b3]
        · rw [if_neg b3, if_neg b3, if_neg b1]
  unfold f_X3_init
  rw [e0, lgo_l]
  have key := lpx_seq (f := s_X3_init h0 (J a) (J f) (J d)) (fun k => (J k, th9 M h0 a f d (fun j => if 0 ≤ j ∧ j < (k : Int) then -1 else 0))) f.toNat (r := th9 M h0 a f d (fun j => if 0 ≤ j ∧ j < f then -1 else 0)) ?_ ?_
  · have hz : (fun j : Int => if 0 ≤ j ∧ j < ((0 : Nat) : Int) then (-1 : Int) else 0) = fun _ => 0 := by
      funext j
      rw [if_neg (by omega)]
    simp only [hz] at key
    exact key
  · intro k hk
    unfold s_X3_init g_X3_init_26
    have hA : gA (th9 M h0 a f d (fun j => if 0 ≤ j ∧ j < (k : Int) then -1 else 0)) h0 3 1 = some M.2.1 := gA_at (by
      unfold th9
      dsimp only
      rw [if_neg (by omega), if_neg (by omega), if_pos rfl]) rfl
    have hS := sI_rw (σ := th9 M h0 a f d (fun j => if 0 ≤ j ∧ j < (k : Int) then -1 else 0)) (a := M.2.1) (n := f.toNat) (f := fun j => if 0 ≤ j ∧ j < (k : Int) then -1 else 0) (by
      unfold th9
      dsimp only
      rw [if_neg (by omega), if_pos rfl]) (-1) (z := k) (by omega) (by omega) (by omega)
    simp (disch := omega) only [J_add, J_sub, J_mul, J_neg, J_lit, J_lt, J_le, J_eq, Option.bind_some, Int.reduceAdd, Int.reduceSub, Int.reduceMul, Int.reduceNeg, Int.reduceEq, Int.reduceLT, Int.reduceLE, reduceIte, Int.zero_add, Int.add_zero, and_self, true_and, and_true, false_and, and_false, or_true, true_or, or_false, false_or, not_true_eq_false, not_false_eq_true, ne_eq, b2_s, if_neg (show ¬ f ≤ (k : Int) by omega), hA, hS]
    refine congrArg (fun z => some (Sum.inl (J (k + 1), z))) ?_
    unfold th9 sE
    refine Prod.ext ?_ rfl
    funext b
    dsimp only
    by_cases b3 : b = M.2.1
    · rw [if_pos b3, if_neg (by omega), if_pos b3]
      refine congrArg (fun z => some (Sum.inr (Sum.inl (0, f.toNat, z)))) ?_
      unfold rw_ up
      funext j
      refine congrArg J ?_
      grind
    · rw [if_neg b3, if_neg b3]
      by_cases b2 : b = M.2.1 + 1
      · rw [if_pos b2, if_pos b2]
      · rw [if_neg b2, if_neg b2, if_neg b3]
  · unfold s_X3_init g_X3_init_26
    simp (disch := omega) only [J_add, J_sub, J_mul, J_neg, J_lit, J_lt, J_le, J_eq, Option.bind_some, Int.reduceAdd, Int.reduceSub, Int.reduceMul, Int.reduceNeg, Int.reduceEq, Int.reduceLT, Int.reduceLE, reduceIte, Int.zero_add, Int.add_zero, and_self, true_and, and_true, false_and, and_false, or_true, true_or, or_false, false_or, not_true_eq_false, not_false_eq_true, ne_eq, b2_s, Int.toNat_of_nonneg f1, if_pos (show f ≤ f by omega)]
theorem th9_cput {D : Nat → Int × Int} {c : Int → Int → mm_E} {τ : mm_M} {h0 : Nat} {a f d : Int} {g : Int → Int} (h1 : (D h0).1 = -1) (h2 : (D τ.2.1).1 = -1) (h3 : (D (τ.2.1 + 1)).1 = -1) : th9 (cput D c τ) h0 a f d g = cput D c (th9 τ h0 a f d g) := by
  unfold th9 cput
  refine Prod.ext ?_ rfl
  funext b
  dsimp only
  by_cases b2 : b = τ.2.1 + 1
  · subst b2
    rw [if_pos rfl, if_pos h3, if_pos rfl]
  · rw [if_neg b2, if_neg b2]
    by_cases b3 : b = τ.2.1
    · subst b3
      rw [if_pos rfl, if_pos h2, if_pos rfl]
    · rw [if_neg b3, if_neg b3]
      by_cases b1 : b = h0
      · subst b1
        rw [if_pos rfl, if_pos h1, if_pos rfl]
      · rw [if_neg b1, if_neg b1]
/-- a thing's three cells come to the overlay -/
def dT (D : Nat → Int × Int) (r : Int) (q : Nat) : Nat → Int × Int := fun b => if b = q then (0, r) else if b = q + 1 then (1, r) else if b = q + 2 then (2, r) else D b
def gT (G : Int → Int → Nat) (r : Int) (q : Nat) : Int → Int → Nat := fun k a => if k = 0 ∧ a = r then q else if k = 1 ∧ a = r then q + 1 else if k = 2 ∧ a = r then q + 2 else G k a
section N2
variable {D : Nat → Int × Int} {G : Int → Int → Nat} {c c' : Int → Int → mm_E} {σ : mm_M} {r : Int} {q : Nat} {e0 e1 e2 : mm_E}
theorem cput_adopt3 (h0 : (D q).1 = -1) (h1 : (D (q + 1)).1 = -1) (h2 : (D (q + 2)).1 = -1) (s0 : σ.1 q = some e0) (s1 : σ.1 (q + 1) = some e1) (s2 : σ.1 (q + 2) = some e2) (c0 : c' 0 r = e0) (c1 : c' 1 r = e1) (c2 : c' 2 r = e2) (hc : ∀ b, (D b).1 ≠ -1 → c' (D b).1 (D b).2 = c (D b).1 (D b).2) : cput D c σ = cput (dT D r q) c' σ := by
  unfold cput dT
  refine Prod.ext ?_ rfl
  funext b
  dsimp only
  by_cases b0 : b = q
  · subst b0
    rw [if_pos h0, if_pos rfl]
    dsimp only
    rw [if_neg (by omega), c0, s0]
  · rw [if_neg b0]
    by_cases b1 : b = q + 1
    · subst b1
      rw [if_pos h1, if_pos rfl]
      dsimp only
      rw [if_neg (by omega), c1, s1]
    · rw [if_neg b1]
      by_cases b2 : b = q + 2
      · subst b2
        rw [if_pos h2, if_pos rfl]
        dsimp only
        rw [if_neg (by omega), c2, s2]
      · rw [if_neg b2]
        by_cases hm : (D b).1 = -1
        · rw [if_pos hm, if_pos hm]
        · rw [if_neg hm, if_neg hm, hc b hm]
theorem GI_dT (hg : GI D G) (hn : ∀ b k, 0 ≤ k → k ≤ 2 → D b ≠ (k, r)) : GI (dT D r q) (gT G r q) := by
  intro b hb
  unfold dT at hb ⊢
  unfold gT
  by_cases b0 : b = q
  · rw [if_pos b0]; dsimp only; rw [if_pos ⟨rfl, rfl⟩, b0]
  · rw [if_neg b0] at hb ⊢
    by_cases b1 : b = q + 1
    · rw [if_pos b1]; dsimp only; rw [if_neg (by omega), if_pos ⟨rfl, rfl⟩, b1]
    · rw [if_neg b1] at hb ⊢
      by_cases b2 : b = q + 2
      · rw [if_pos b2]; dsimp only; rw [if_neg (by omega), if_neg (by omega), if_pos ⟨rfl, rfl⟩, b2]
      · rw [if_neg b2] at hb ⊢
        rw [if_neg (fun e => hn b 0 (by omega) (by omega) (Prod.ext e.1 e.2)), if_neg (fun e => hn b 1 (by omega) (by omega) (Prod.ext e.1 e.2)), if_neg (fun e => hn b 2 (by omega) (by omega) (Prod.ext e.1 e.2)), hg b hb]
theorem gT_n {k a : Int} (h : k = 3 ∨ a ≠ r) : gT G r q k a = G k a := by
  unfold gT
  rw [if_neg (by omega), if_neg (by omega), if_neg (by omega)]
theorem GU_dT {k a : Int} (h : GU D G k a) (hk : k = 3 ∨ a ≠ r) (h0 : G k a ≠ q) (h1 : G k a ≠ q + 1) (h2 : G k a ≠ q + 2) : GU (dT D r q) (gT G r q) k a := by
  unfold GU at h ⊢
  rw [gT_n hk]
  unfold dT
  rw [if_neg h0, if_neg h1, if_neg h2, h]
theorem TH_dT : TH (dT D r q) (gT G r q) r ∧ gT G r q 0 r = q ∧ gT G r q 1 r = q + 1 ∧ gT G r q 2 r = q + 2 := by
  have e0 : gT G r q 0 r = q := by unfold gT; rw [if_pos ⟨rfl, rfl⟩]
  have e1 : gT G r q 1 r = q + 1 := by unfold gT; rw [if_neg (by omega), if_pos ⟨rfl, rfl⟩]
  have e2 : gT G r q 2 r = q + 2 := by unfold gT; rw [if_neg (by omega), if_neg (by omega), if_pos ⟨rfl, rfl⟩]
  refine ⟨⟨?_, ?_, ?_⟩, e0, e1, e2⟩
  · unfold GU; rw [e0]; unfold dT; rw [if_pos rfl]
  · unfold GU; rw [e1]; unfold dT; rw [if_neg (by omega), if_pos rfl]
  · unfold GU; rw [e2]; unfold dT; rw [if_neg (by omega), if_neg (by omega), if_pos rfl]
end N2
