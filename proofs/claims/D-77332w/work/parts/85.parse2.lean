/-! PLAIN LAW: the component's reader: digits, numbers, places. NAMES: NXP FTE RDP kr_ -/
set_option maxRecDepth 100000
/-- old cells stay, but the reader's -/
def NXP (p : Nat) (σ σ' : mm_M) : Prop := σ.2.1 ≤ σ'.2.1 ∧ σ'.2.2 = σ.2.2 ∧ ∀ b, b < σ.2.1 → b ≠ p → σ'.1 b = σ.1 b
theorem NXP.rf {p : Nat} {σ : mm_M} : NXP p σ σ := ⟨Nat.le_refl _, rfl, fun _ _ _ => rfl⟩
theorem NXP.tr {p : Nat} {σ σ' σ'' : mm_M} (h : NXP p σ σ') (h' : NXP p σ' σ'') : NXP p σ σ'' := ⟨Nat.le_trans h.1 h'.1, h'.2.1.trans h.2.1, fun b h1 h2 => (h'.2.2 b (Nat.lt_of_lt_of_le h1 h.1) h2).trans (h.2.2 b h1 h2)⟩
theorem NXP.nE {p : Nat} {σ : mm_M} {e : mm_E} : NXP p σ (nE σ e) := ⟨Nat.le_succ _, rfl, fun b h1 _ => m_nn (by omega)⟩
theorem NXP.rd {p l x : Nat} {σ : mm_M} {a : Int} : NXP p σ (rdput p a l x σ) := ⟨Nat.le_refl _, rfl, fun b _ h2 => m_sn h2⟩
/-- a fault at e, laid at q -/
def FTE (D : Nat → Int × Int) (c : Int → Int → mm_E) (p : Nat) (σ : mm_M) (e : Int) (q : Nat) (M : mm_M) : Prop := ∃ σ', M = cput D c σ' ∧ (D q).1 = -1 ∧ σ'.1 q = some (.inl (8, [vR none, vR none, vR none, vR none, vR none, vI 0, vI (J e)])) ∧ NXP p σ σ'
theorem FTE.of {D : Nat → Int × Int} {c : Int → Int → mm_E} {p : Nat} {σ0 σ : mm_M} {e : Int} {q : Nat} {M : mm_M} (h : FTE D c p σ e q M) (h0 : NXP p σ0 σ) : FTE D c p σ0 e q M := by
  obtain ⟨σ', a, b, d, n⟩ := h
  exact ⟨σ', a, b, d, h0.tr n⟩
theorem sE_nE {τ : mm_M} {e e' : mm_E} : sE (nE τ e) τ.2.1 e' = nE τ e' := by
  unfold sE nE
  refine Prod.ext ?_ rfl
  funext b
  dsimp only
  by_cases h : b = τ.2.1
  · rw [if_pos h, if_pos h]
  · rw [if_neg h, if_neg h, if_neg h]
theorem kn_pF {D : Nat → Int × Int} {c : Int → Int → mm_E} {τ : mm_M} {q cl k : Nat} {fs : List mm_V} {v : mm_V} (h : (D q).1 = -1) (hq : q = τ.2.1) (hk : k < fs.length) : pF (cput D c (nE τ (.inl (cl, fs)))) q cl k v = some (cput D c (nE τ (.inl (cl, fs.set k v)))) := by
  rw [ko_pF h, pF_at (m_ne hq) hk, hq, sE_nE]
  rfl
theorem kn_ck {D : Nat → Int × Int} {c : Int → Int → mm_E} {τ : mm_M} {q cl : Nat} {fs : List mm_V} (h : (D q).1 = -1) (hq : q = τ.2.1) : ck (cput D c (nE τ (.inl (cl, fs)))) q cl = some () := by
  rw [ko_ck h]
  exact ck_at (m_ne hq)
theorem rd_nE {p l x : Nat} {a : Int} {σ : mm_M} {e : mm_E} (h : p < σ.2.1) : nE (rdput p a l x σ) e = rdput p a l x (nE σ e) := by
  unfold nE rdput sE
  refine Prod.ext ?_ rfl
  funext b
  dsimp only
  by_cases h1 : b = p
  · subst h1
    rw [if_neg (by omega), if_pos rfl, if_pos rfl]
  · rw [if_neg h1, if_neg h1]
theorem kr_new {D : Nat → Int × Int} {σ : mm_M} (hb : DB D σ) : (D σ.2.1).1 = -1 := by
  by_cases h : (D σ.2.1).1 = -1
  · exact h
  · have := hb _ h; omega
theorem kr_xl {α β : Type} {a : α} {x : Nat → β} {k : α → β} : xs (.inl a) x k = k a := rfl
theorem kr_xr {α β : Type} {q : Nat} {x : Nat → β} {k : α → β} : xs (.inr q : α ⊕ Nat) x k = x q := rfl
/-- what a reading answers -/
def RDP (D : Nat → Int × Int) (c : Int → Int → mm_E) (p l x : Nat) (σ : mm_M) (r : Int ⊕ (Int × Int)) (f : Option ((Int32 ⊕ Nat) × mm_M)) : Prop := match r with
  | .inl e => ∃ q M', f = some (.inr q, M') ∧ FTE D c p σ e q M'
  | .inr v => f = some (.inl (J v.1), cput D c (rdput p v.2 l x σ))
theorem dgP_b {text : Int → Int} {tl a : Int} {r : Int × Int} (h2 : a ≤ tl) (h : dgP text tl a = .inr r) : 0 ≤ r.1 ∧ r.1 ≤ 9 ∧ a < r.2 ∧ r.2 ≤ tl := by
  unfold dgP at h
  by_cases c : 48 ≤ nx9 text tl a ∧ nx9 text tl a ≤ 57
  · rw [if_pos c] at h
    cases h
    have hl := dg_lt c.1
    have := bk9_b (text := text) (tl := tl) (a := a + 1) (by omega)
    dsimp only
    omega
  · rw [if_neg c] at h
    cases h
theorem ns9_v {text : Int → Int} {tl : Int} (n : Nat) (a v w : Int) (h0 : 0 ≤ v) (h : v < w) : 0 ≤ (ns9 text tl n a v).2 ∧ (ns9 text tl n a v).2 < w * 10 ^ n := by
  induction n generalizing a v w with
  | zero => unfold ns9; exact ⟨h0, by simpa using h⟩
  | succ n ih =>
    unfold ns9
    by_cases c : 48 ≤ nx9 text tl a ∧ nx9 text tl a ≤ 57
    · rw [if_pos c]
      have := ih (a + 1) (10 * v + nx9 text tl a - 48) (w * 10) (by omega) (by omega)
      refine ⟨this.1, ?_⟩
      rw [Int.pow_succ, Int.mul_comm (10 ^ n) 10, ← Int.mul_assoc]
      exact this.2
    · rw [if_neg c]
      refine ⟨h0, ?_⟩
      have h1 : (1 : Int) ≤ 10 ^ (n + 1) := Int.pow_pos (by decide)
      dsimp only
      calc v < w := h
        _ = w * 1 := (Int.mul_one w).symm
        _ ≤ w * 10 ^ (n + 1) := Int.mul_le_mul_of_nonneg_left h1 (by omega)
theorem nuP_b {text : Int → Int} {tl a : Int} {r : Int × Int} (h2 : a ≤ tl) (h : nuP text tl a = .inr r) : 0 ≤ r.1 ∧ r.1 ≤ 999 ∧ a < r.2 ∧ r.2 ≤ tl := by
  unfold nuP at h
  by_cases c : 48 ≤ nx9 text tl a ∧ nx9 text tl a ≤ 57
  · rw [if_pos c] at h
    by_cases d : 48 ≤ nx9 text tl (ns9 text tl 3 a 0).1 ∧ nx9 text tl (ns9 text tl 3 a 0).1 ≤ 57
    · rw [if_pos d] at h; cases h
    · rw [if_neg d] at h
      cases h
      have hl := dg_lt c.1
      have h3 := ns9_b (text := text) (tl := tl) 3 a 0
      have h4 := ns9_v (text := text) (tl := tl) 3 a 0 1 (by omega) (by omega)
      have h5 := bk9_b (text := text) (tl := tl) (a := (ns9 text tl 3 a 0).1) (h3.2.2 h2)
      have h6 : a + 1 ≤ (ns9 text tl 3 a 0).1 := by
        show a + 1 ≤ (if 48 ≤ nx9 text tl a ∧ nx9 text tl a ≤ 57 then ns9 text tl 2 (a + 1) (10 * 0 + nx9 text tl a - 48) else (a, 0)).1
        rw [if_pos c]
        exact (ns9_b (text := text) (tl := tl) 2 (a + 1) _).1
      dsimp only
      omega
  · rw [if_neg c] at h
    cases h
theorem plP_b {text : Int → Int} {tl a : Int} {r : Int × Int} (h2 : a ≤ tl) (h : plP text tl a = .inr r) : -1 ≤ r.1 ∧ r.1 ≤ 999 ∧ a < r.2 ∧ r.2 ≤ tl := by
  unfold plP at h
  by_cases c : nx9 text tl a = 45
  · rw [if_pos c] at h
    cases h
    have hl : a < tl := by
      unfold nx9 at c
      by_cases d : tl ≤ a
      · rw [if_pos d] at c; omega
      · omega
    have := bk9_b (text := text) (tl := tl) (a := a + 1) (by omega)
    dsimp only
    omega
  · rw [if_neg c] at h
    have := nuP_b h2 h
    omega
section T1
variable {adk nfk ndk pnk agk mkk rok wek plk txk : Int → Int} {flk dtk : Int → Int → Int} {hwk dpk alk cok fek lnk tlk rfk : Int} {rpk : Option Nat} {mok : Int32} {eak cpk : Nat} {elk owk skk slk : Nat → Option Nat} {hsk : Int64} {D : Nat → Int × Int} {G : Int → Int → Nat} {σ : mm_M} {p l : Nat} {a : Int}
theorem kr_exp0 (hb : DB D σ) (hp : (D p).1 = -1) (hlt : p < σ.2.1) : ∃ q M', f_X7_expect p (J 0) (cput D (cel G adk nfk ndk pnk agk mkk flk dtk hwk dpk alk cok fek rpk rok wek plk mok eak lnk cpk elk owk skk txk tlk rfk slk hsk) (rdput p a l (G 3 7) σ)) = some (.inr q, M') ∧ FTE D (cel G adk nfk ndk pnk agk mkk flk dtk hwk dpk alk cok fek rpk rok wek plk mok eak lnk cpk elk owk skk txk tlk rfk slk hsk) p σ a q M' := by
  have hq := kr_new hb
  refine ⟨σ.2.1, (cput D (cel G adk nfk ndk pnk agk mkk flk dtk hwk dpk alk cok fek rpk rok wek plk mok eak lnk cpk elk owk skk txk tlk rfk slk hsk) (rdput p a l (G 3 7) (nE σ (.inl (8, [vR none, vR none, vR none, vR none, vR none, vI 0, vI (J a)]))))), ?_, _, rfl, hq, ?_, NXP.nE.tr NXP.rd⟩
  · unfold f_X7_expect f_X8_init f_J9_init f_J8_init_2 g_J8_init_2_41
    rw [if_pos (show J 0 = 0 from rfl), ko_nO (show (D (rdput p a l (G 3 7) σ).2.1).1 = -1 from hq), b2_s]
    have hg : gI (cput D (cel G adk nfk ndk pnk agk mkk flk dtk hwk dpk alk cok fek rpk rok wek plk mok eak lnk cpk elk owk skk txk tlk rfk slk hsk) (nE (rdput p a l (G 3 7) σ) (.inl (8, df_8)))) p 7 0 = some (J a) := by
      rw [rd_nE hlt]
      exact rx_g0 hp
    rw [hg, Option.bind_some]
    simp only [kn_pF (D := D) (c := (cel G adk nfk ndk pnk agk mkk flk dtk hwk dpk alk cok fek rpk rok wek plk mok eak lnk cpk elk owk skk txk tlk rfk slk hsk)) (τ := rdput p a l (G 3 7) σ) (q := (rdput p a l (G 3 7) σ).2.1) hq rfl, Option.bind_some, List.length_cons, List.length_nil, List.length_set, Nat.zero_add, Nat.reduceAdd, Nat.reduceLT, List.set_cons_zero, List.set_cons_succ, reduceIte, if_pos (show (0 : Int32) = 0 from rfl), kn_ck (D := D) (c := (cel G adk nfk ndk pnk agk mkk flk dtk hwk dpk alk cok fek rpk rok wek plk mok eak lnk cpk elk owk skk txk tlk rfk slk hsk)) (τ := rdput p a l (G 3 7) σ) (q := (rdput p a l (G 3 7) σ).2.1) hq rfl]
    rw [rd_nE hlt]
    rfl
  · show (rdput p a l (G 3 7) (nE σ _)).1 σ.2.1 = _
    rw [show (rdput p a l (G 3 7) (nE σ (.inl (8, [vR none, vR none, vR none, vR none, vR none, vI 0, vI (J a)])))).1 σ.2.1 = (nE σ (.inl (8, [vR none, vR none, vR none, vR none, vR none, vI 0, vI (J a)]))).1 σ.2.1 from m_sn (by omega)]
    exact m_ne rfl
theorem kr_exp1 {M : mm_M} : f_X7_expect p (J 1) M = some (.inl (), M) := by
  unfold f_X7_expect
  rw [if_neg (show ¬ J 1 = 0 by decide)]
theorem kr_digit (hu : XU D G) (hp : (D p).1 = -1) (h : tx9 txk tlk) (hb : DB D σ) (hlt : p < σ.2.1) (h1 : 0 ≤ a) (h2 : a ≤ tlk) : RDP D (cel G adk nfk ndk pnk agk mkk flk dtk hwk dpk alk cok fek rpk rok wek plk mok eak lnk cpk elk owk skk txk tlk rfk slk hsk) p l (G 3 7) σ (dgP txk tlk a) (f_X7_digit p (cput D (cel G adk nfk ndk pnk agk mkk flk dtk hwk dpk alk cok fek rpk rok wek plk mok eak lnk cpk elk owk skk txk tlk rfk slk hsk) (rdput p a l (G 3 7) σ))) := by
  have h3 : a ≤ 80 := Int.le_trans h2 h.2.1
  have hd := kr_isDigit (σ := σ) (l := l) (a := a) (adk := adk) (nfk := nfk) (ndk := ndk) (pnk := pnk) (agk := agk) (mkk := mkk) (flk := flk) (dtk := dtk) (hwk := hwk) (dpk := dpk) (alk := alk) (cok := cok) (fek := fek) (rpk := rpk) (rok := rok) (wek := wek) (plk := plk) (owk := owk) (skk := skk) (txk := txk) (tlk := tlk) (rfk := rfk) (slk := slk) (hsk := hsk) (mok := mok) (eak := eak) (lnk := lnk) (cpk := cpk) (elk := elk) hu hp h h1 h3
  unfold dgP f_X7_digit
  rw [rx_ck hp, Option.bind_some, hd, Option.bind_some, Option.bind_some]
  by_cases c : 48 ≤ nx9 txk tlk a ∧ nx9 txk tlk a ≤ 57
  · rw [if_pos c, if_pos c]
    have hlt2 := dg_lt c.1
    have hbl := kr_blanks (σ := σ) (l := l) (a := a + 1) (adk := adk) (nfk := nfk) (ndk := ndk) (pnk := pnk) (agk := agk) (mkk := mkk) (flk := flk) (dtk := dtk) (hwk := hwk) (dpk := dpk) (alk := alk) (cok := cok) (fek := fek) (rpk := rpk) (rok := rok) (wek := wek) (plk := plk) (owk := owk) (skk := skk) (txk := txk) (tlk := tlk) (rfk := rfk) (slk := slk) (hsk := hsk) (mok := mok) (eak := eak) (lnk := lnk) (cpk := cpk) (elk := elk) hu hp h (by omega) (by omega)
    unfold RDP
    dsimp only
    rw [kr_exp1, b2_s, kr_xl]
    simp (disch := first | assumption | exact HU.lu (by assumption) | exact cw_okn | exact cw_ok3 (by assumption) | exact cw_ok5 (by assumption) | omega) only [J_add, J_sub, J_mul, J_neg, J_lit, J_lt, J_le, J_eq, Option.bind_some, Int.reduceAdd, Int.reduceSub, Int.reduceMul, Int.reduceNeg, Int.reduceEq, Int.reduceLT, Int.reduceLE, reduceIte, Int.zero_add, Int.add_zero, and_self, true_and, and_true, false_and, and_false, or_true, true_or, or_false, false_or, not_true_eq_false, not_false_eq_true, ne_eq, b2_s, cw_gadk, cw_gpnk, cw_gagk, cw_gmkk, cw_gfl, cw_gdt, cw_kth, cw_afl, cw_nfl, cw_adt, cw_ndt, cw_gmok, cw_geak, cw_glnk, cw_k0, cw_k6, cw_k7, cw_aowk, cw_aelk, cw_askk, cw_aslk, cw_nelk, cw_arok, cw_nrok, cw_awek, cw_nwek, cw_aplk, cw_nplk, cw_atxk, cw_ntxk, cw_ghwk, cw_gdpk, cw_galk, cw_gcok, cw_gfek, cw_h2, cw_h3, cw_h4, cw_h5, cw_h10, cw_grpk, cw_x0, cw_x1, cw_x2, cw_x5, cw_gtlk, cw_grfk, cw_ghsk, cw_padk, cw_pagk, cw_pmkk, cw_ppnk, cw_zpnk, cw_sfl, cw_sdt, cw_pmok, cw_peak, cw_plnk, cw_sowk, cw_selk, cw_sskk, cw_sslk, cw_srok, cw_swek, cw_splk, cw_palk, cw_pcok, cw_pfek, cw_prpk, cw_ptlk, cw_prfk, cw_phsk, cw_stxk, cw_ok3, cw_ok5, cw_okn, rx_ck hp, kr_next hu hp h h1 h3, rx_g0 hp, rx_p0 hp, hbl]
  · rw [if_neg c, if_neg c]
    obtain ⟨q, M', e1, e2⟩ := kr_exp0 (l := l) (a := a) (adk := adk) (nfk := nfk) (ndk := ndk) (pnk := pnk) (agk := agk) (mkk := mkk) (flk := flk) (dtk := dtk) (hwk := hwk) (dpk := dpk) (alk := alk) (cok := cok) (fek := fek) (rpk := rpk) (rok := rok) (wek := wek) (plk := plk) (owk := owk) (skk := skk) (txk := txk) (tlk := tlk) (rfk := rfk) (slk := slk) (hsk := hsk) (mok := mok) (eak := eak) (lnk := lnk) (cpk := cpk) (elk := elk) hb hp hlt
    exact ⟨q, M', by rw [e1, b2_s, kr_xr], e2⟩
theorem kr_number58 (hu : XU D G) (hp : (D p).1 = -1) (h : tx9 txk tlk) (hb : DB D σ) (hlt : p < σ.2.1) (h1 : 0 ≤ a) (h2 : a ≤ tlk) {v : Int} : (48 ≤ nx9 txk tlk a ∧ nx9 txk tlk a ≤ 57 → ∃ q M', g_X7_number_58 p (J v) (cput D (cel G adk nfk ndk pnk agk mkk flk dtk hwk dpk alk cok fek rpk rok wek plk mok eak lnk cpk elk owk skk txk tlk rfk slk hsk) (rdput p a l (G 3 7) σ)) = some (.inr (.inr q, M')) ∧ FTE D (cel G adk nfk ndk pnk agk mkk flk dtk hwk dpk alk cok fek rpk rok wek plk mok eak lnk cpk elk owk skk txk tlk rfk slk hsk) p σ a q M') ∧ (¬ (48 ≤ nx9 txk tlk a ∧ nx9 txk tlk a ≤ 57) → g_X7_number_58 p (J v) (cput D (cel G adk nfk ndk pnk agk mkk flk dtk hwk dpk alk cok fek rpk rok wek plk mok eak lnk cpk elk owk skk txk tlk rfk slk hsk) (rdput p a l (G 3 7) σ)) = some (.inr (.inl (J v), (cput D (cel G adk nfk ndk pnk agk mkk flk dtk hwk dpk alk cok fek rpk rok wek plk mok eak lnk cpk elk owk skk txk tlk rfk slk hsk) (rdput p (bk9 txk tlk a) l (G 3 7) σ))))) := by
  have h3 : a ≤ 80 := Int.le_trans h2 h.2.1
  have hd := kr_isDigit (σ := σ) (l := l) (a := a) (adk := adk) (nfk := nfk) (ndk := ndk) (pnk := pnk) (agk := agk) (mkk := mkk) (flk := flk) (dtk := dtk) (hwk := hwk) (dpk := dpk) (alk := alk) (cok := cok) (fek := fek) (rpk := rpk) (rok := rok) (wek := wek) (plk := plk) (owk := owk) (skk := skk) (txk := txk) (tlk := tlk) (rfk := rfk) (slk := slk) (hsk := hsk) (mok := mok) (eak := eak) (lnk := lnk) (cpk := cpk) (elk := elk) hu hp h h1 h3
  unfold g_X7_number_58
  rw [rx_ck hp, Option.bind_some, hd, Option.bind_some, Option.bind_some, Option.bind_some]
  constructor
  · intro c
    rw [if_pos c, if_neg (show ¬ J 1 = 0 by decide)]
    obtain ⟨q, M', e1, e2⟩ := kr_exp0 (l := l) (a := a) (adk := adk) (nfk := nfk) (ndk := ndk) (pnk := pnk) (agk := agk) (mkk := mkk) (flk := flk) (dtk := dtk) (hwk := hwk) (dpk := dpk) (alk := alk) (cok := cok) (fek := fek) (rpk := rpk) (rok := rok) (wek := wek) (plk := plk) (owk := owk) (skk := skk) (txk := txk) (tlk := tlk) (rfk := rfk) (slk := slk) (hsk := hsk) (mok := mok) (eak := eak) (lnk := lnk) (cpk := cpk) (elk := elk) hb hp hlt
    refine ⟨q, M', ?_, e2⟩
    rw [show (0 : Int32) = J 0 from rfl, e1, b2_s, kr_xr]
  · intro c
    rw [if_neg c, if_pos (show J 0 = 0 from rfl), show (1 : Int32) = J 1 from rfl, kr_exp1, b2_s, kr_xl, rx_ck hp, Option.bind_some, kr_blanks hu hp h h1 h2]
    rfl
theorem kr_number (hu : XU D G) (hp : (D p).1 = -1) (h : tx9 txk tlk) (hb : DB D σ) (hlt : p < σ.2.1) (h1 : 0 ≤ a) (h2 : a ≤ tlk) : RDP D (cel G adk nfk ndk pnk agk mkk flk dtk hwk dpk alk cok fek rpk rok wek plk mok eak lnk cpk elk owk skk txk tlk rfk slk hsk) p l (G 3 7) σ (nuP txk tlk a) (f_X7_number p (cput D (cel G adk nfk ndk pnk agk mkk flk dtk hwk dpk alk cok fek rpk rok wek plk mok eak lnk cpk elk owk skk txk tlk rfk slk hsk) (rdput p a l (G 3 7) σ))) := by
  have h3 : a ≤ 80 := Int.le_trans h2 h.2.1
  have hd := kr_isDigit (σ := σ) (l := l) (a := a) (adk := adk) (nfk := nfk) (ndk := ndk) (pnk := pnk) (agk := agk) (mkk := mkk) (flk := flk) (dtk := dtk) (hwk := hwk) (dpk := dpk) (alk := alk) (cok := cok) (fek := fek) (rpk := rpk) (rok := rok) (wek := wek) (plk := plk) (owk := owk) (skk := skk) (txk := txk) (tlk := tlk) (rfk := rfk) (slk := slk) (hsk := hsk) (mok := mok) (eak := eak) (lnk := lnk) (cpk := cpk) (elk := elk) hu hp h h1 h3
  unfold nuP f_X7_number g_X7_number_0
  rw [rx_g0 hp, Option.bind_some, rx_ck hp, Option.bind_some, hd, Option.bind_some, Option.bind_some]
  by_cases c : 48 ≤ nx9 txk tlk a ∧ nx9 txk tlk a ≤ 57
  · rw [if_pos c, if_pos c, kr_exp1, b2_s, kr_xl, lgo_l]
    have key : ∀ (n : Nat) (b v : Int), a ≤ b → b ≤ tlk → b + n = a + 3 → RDP D (cel G adk nfk ndk pnk agk mkk flk dtk hwk dpk alk cok fek rpk rok wek plk mok eak lnk cpk elk owk skk txk tlk rfk slk hsk) p l (G 3 7) σ (if 48 ≤ nx9 txk tlk (ns9 txk tlk n b v).1 ∧ nx9 txk tlk (ns9 txk tlk n b v).1 ≤ 57 then .inl (ns9 txk tlk n b v).1 else .inr ((ns9 txk tlk n b v).2, bk9 txk tlk (ns9 txk tlk n b v).1)) (lpx (s_X7_number p) (J a, J v, (cput D (cel G adk nfk ndk pnk agk mkk flk dtk hwk dpk alk cok fek rpk rok wek plk mok eak lnk cpk elk owk skk txk tlk rfk slk hsk) (rdput p b l (G 3 7) σ)))) := by
      have hend : ∀ b v, a ≤ b → b ≤ tlk → (48 ≤ nx9 txk tlk b ∧ nx9 txk tlk b ≤ 57 → a + 3 ≤ b) → RDP D (cel G adk nfk ndk pnk agk mkk flk dtk hwk dpk alk cok fek rpk rok wek plk mok eak lnk cpk elk owk skk txk tlk rfk slk hsk) p l (G 3 7) σ (if 48 ≤ nx9 txk tlk b ∧ nx9 txk tlk b ≤ 57 then .inl b else .inr (v, bk9 txk tlk b)) (lpx (s_X7_number p) (J a, J v, (cput D (cel G adk nfk ndk pnk agk mkk flk dtk hwk dpk alk cok fek rpk rok wek plk mok eak lnk cpk elk owk skk txk tlk rfk slk hsk) (rdput p b l (G 3 7) σ)))) := by
        intro b v b1 b2 b3
        have b4 : b ≤ 80 := Int.le_trans b2 h.2.1
        have h80 := h.2.1
        have hdb := kr_isDigit (σ := σ) (l := l) (a := b) (adk := adk) (nfk := nfk) (ndk := ndk) (pnk := pnk) (agk := agk) (mkk := mkk) (flk := flk) (dtk := dtk) (hwk := hwk) (dpk := dpk) (alk := alk) (cok := cok) (fek := fek) (rpk := rpk) (rok := rok) (wek := wek) (plk := plk) (owk := owk) (skk := skk) (txk := txk) (tlk := tlk) (rfk := rfk) (slk := slk) (hsk := hsk) (mok := mok) (eak := eak) (lnk := lnk) (cpk := cpk) (elk := elk) hu hp h (by omega) b4
        have h58 := kr_number58 (σ := σ) (l := l) (a := b) (v := v) (adk := adk) (nfk := nfk) (ndk := ndk) (pnk := pnk) (agk := agk) (mkk := mkk) (flk := flk) (dtk := dtk) (hwk := hwk) (dpk := dpk) (alk := alk) (cok := cok) (fek := fek) (rpk := rpk) (rok := rok) (wek := wek) (plk := plk) (owk := owk) (skk := skk) (txk := txk) (tlk := tlk) (rfk := rfk) (slk := slk) (hsk := hsk) (mok := mok) (eak := eak) (lnk := lnk) (cpk := cpk) (elk := elk) hu hp h hb hlt (by omega) b2
        have hs : s_X7_number p (J a, J v, (cput D (cel G adk nfk ndk pnk agk mkk flk dtk hwk dpk alk cok fek rpk rok wek plk mok eak lnk cpk elk owk skk txk tlk rfk slk hsk) (rdput p b l (G 3 7) σ))) = g_X7_number_58 p (J v) (cput D (cel G adk nfk ndk pnk agk mkk flk dtk hwk dpk alk cok fek rpk rok wek plk mok eak lnk cpk elk owk skk txk tlk rfk slk hsk) (rdput p b l (G 3 7) σ)) := by
          unfold s_X7_number g_X7_number_15
          dsimp only
          rw [rx_ck hp, Option.bind_some, hdb, Option.bind_some]
          by_cases d : 48 ≤ nx9 txk tlk b ∧ nx9 txk tlk b ≤ 57
          · rw [if_pos d, if_neg (show ¬ J 1 = 0 by decide), rx_g0 hp, Option.bind_some, if_pos (by
              rw [show J a + (3 : Int32) = J (a + 3) by rw [show (3 : Int32) = J 3 from J_lit 3, J_add], J_le (by omega) (by omega) (by omega) (by omega)]
              exact b3 d)]
          · rw [if_neg d, if_pos (show J 0 = 0 from rfl)]
        by_cases d : 48 ≤ nx9 txk tlk b ∧ nx9 txk tlk b ≤ 57
        · obtain ⟨q, M', e1, e2⟩ := h58.1 d
          rw [if_pos d]
          exact ⟨q, M', lpx_d (hs.trans e1), e2⟩
        · rw [if_neg d]
          exact lpx_d (hs.trans (h58.2 d))
      intro n
      induction n with
      | zero =>
        intro b v b1 b2 b3
        unfold ns9
        exact hend b v b1 b2 (fun _ => by omega)
      | succ n ih =>
        intro b v b1 b2 b3
        have b4 : b ≤ 80 := Int.le_trans b2 h.2.1
        have h80 := h.2.1
        have hnb := nx9_b (a := b) h (by omega)
        unfold ns9
        by_cases d : 48 ≤ nx9 txk tlk b ∧ nx9 txk tlk b ≤ 57
        · have hlt2 := dg_lt d.1
          have hdb := kr_isDigit (σ := σ) (l := l) (a := b) (adk := adk) (nfk := nfk) (ndk := ndk) (pnk := pnk) (agk := agk) (mkk := mkk) (flk := flk) (dtk := dtk) (hwk := hwk) (dpk := dpk) (alk := alk) (cok := cok) (fek := fek) (rpk := rpk) (rok := rok) (wek := wek) (plk := plk) (owk := owk) (skk := skk) (txk := txk) (tlk := tlk) (rfk := rfk) (slk := slk) (hsk := hsk) (mok := mok) (eak := eak) (lnk := lnk) (cpk := cpk) (elk := elk) hu hp h (by omega) b4
          rw [if_pos d] at hdb
          rw [if_pos d, lpx_n (s' := (J a, J (10 * v + nx9 txk tlk b - 48), (cput D (cel G adk nfk ndk pnk agk mkk flk dtk hwk dpk alk cok fek rpk rok wek plk mok eak lnk cpk elk owk skk txk tlk rfk slk hsk) (rdput p (b + 1) l (G 3 7) σ)))) (by
            unfold s_X7_number g_X7_number_15
            dsimp only
            simp (disch := first | assumption | exact HU.lu (by assumption) | exact cw_okn | exact cw_ok3 (by assumption) | exact cw_ok5 (by assumption) | omega) only [J_add, J_sub, J_mul, J_neg, J_lit, J_lt, J_le, J_eq, Option.bind_some, Int.reduceAdd, Int.reduceSub, Int.reduceMul, Int.reduceNeg, Int.reduceEq, Int.reduceLT, Int.reduceLE, reduceIte, Int.zero_add, Int.add_zero, and_self, true_and, and_true, false_and, and_false, or_true, true_or, or_false, false_or, not_true_eq_false, not_false_eq_true, ne_eq, b2_s, cw_gadk, cw_gpnk, cw_gagk, cw_gmkk, cw_gfl, cw_gdt, cw_kth, cw_afl, cw_nfl, cw_adt, cw_ndt, cw_gmok, cw_geak, cw_glnk, cw_k0, cw_k6, cw_k7, cw_aowk, cw_aelk, cw_askk, cw_aslk, cw_nelk, cw_arok, cw_nrok, cw_awek, cw_nwek, cw_aplk, cw_nplk, cw_atxk, cw_ntxk, cw_ghwk, cw_gdpk, cw_galk, cw_gcok, cw_gfek, cw_h2, cw_h3, cw_h4, cw_h5, cw_h10, cw_grpk, cw_x0, cw_x1, cw_x2, cw_x5, cw_gtlk, cw_grfk, cw_ghsk, cw_padk, cw_pagk, cw_pmkk, cw_ppnk, cw_zpnk, cw_sfl, cw_sdt, cw_pmok, cw_peak, cw_plnk, cw_sowk, cw_selk, cw_sskk, cw_sslk, cw_srok, cw_swek, cw_splk, cw_palk, cw_pcok, cw_pfek, cw_prpk, cw_ptlk, cw_prfk, cw_phsk, cw_stxk, cw_ok3, cw_ok5, cw_okn, rx_ck hp, hdb, rx_g0 hp, rx_p0 hp, kr_next hu hp h (show 0 ≤ b by omega) b4, if_neg (show ¬ a + 3 ≤ b by omega)])]
          exact ih (b + 1) _ (by omega) (by omega) (by omega)
        · rw [if_neg d]
          have := hend b v b1 b2 (fun q => absurd q d)
          exact this
    have k3 := key 3 a 0 (by omega) h2 (by omega)
    exact k3
  · rw [if_neg c, if_neg c]
    obtain ⟨q, M', e1, e2⟩ := kr_exp0 (l := l) (a := a) (adk := adk) (nfk := nfk) (ndk := ndk) (pnk := pnk) (agk := agk) (mkk := mkk) (flk := flk) (dtk := dtk) (hwk := hwk) (dpk := dpk) (alk := alk) (cok := cok) (fek := fek) (rpk := rpk) (rok := rok) (wek := wek) (plk := plk) (owk := owk) (skk := skk) (txk := txk) (tlk := tlk) (rfk := rfk) (slk := slk) (hsk := hsk) (mok := mok) (eak := eak) (lnk := lnk) (cpk := cpk) (elk := elk) hb hp hlt
    refine ⟨q, M', ?_, e2⟩
    rw [e1, b2_s, kr_xr]
    rfl
theorem kr_place (hu : XU D G) (hp : (D p).1 = -1) (h : tx9 txk tlk) (hb : DB D σ) (hlt : p < σ.2.1) (h1 : 0 ≤ a) (h2 : a ≤ tlk) : RDP D (cel G adk nfk ndk pnk agk mkk flk dtk hwk dpk alk cok fek rpk rok wek plk mok eak lnk cpk elk owk skk txk tlk rfk slk hsk) p l (G 3 7) σ (plP txk tlk a) (f_X7_place p (cput D (cel G adk nfk ndk pnk agk mkk flk dtk hwk dpk alk cok fek rpk rok wek plk mok eak lnk cpk elk owk skk txk tlk rfk slk hsk) (rdput p a l (G 3 7) σ))) := by
  have ht := kr_takes (σ := σ) (l := l) (a := a) (s := 45) (adk := adk) (nfk := nfk) (ndk := ndk) (pnk := pnk) (agk := agk) (mkk := mkk) (flk := flk) (dtk := dtk) (hwk := hwk) (dpk := dpk) (alk := alk) (cok := cok) (fek := fek) (rpk := rpk) (rok := rok) (wek := wek) (plk := plk) (owk := owk) (skk := skk) (txk := txk) (tlk := tlk) (rfk := rfk) (slk := slk) (hsk := hsk) (mok := mok) (eak := eak) (lnk := lnk) (cpk := cpk) (elk := elk) hu hp h h1 h2 (by omega) (by omega)
  have hn := kr_number (σ := σ) (l := l) (a := a) (adk := adk) (nfk := nfk) (ndk := ndk) (pnk := pnk) (agk := agk) (mkk := mkk) (flk := flk) (dtk := dtk) (hwk := hwk) (dpk := dpk) (alk := alk) (cok := cok) (fek := fek) (rpk := rpk) (rok := rok) (wek := wek) (plk := plk) (owk := owk) (skk := skk) (txk := txk) (tlk := tlk) (rfk := rfk) (slk := slk) (hsk := hsk) (mok := mok) (eak := eak) (lnk := lnk) (cpk := cpk) (elk := elk) hu hp h hb hlt h1 h2
  unfold plP f_X7_place
  rw [rx_ck hp, Option.bind_some, show (45 : Int32) = J 45 from J_lit 45, ht]
  by_cases c : nx9 txk tlk a = 45
  · rw [if_pos c, if_pos c, b2_s, if_neg (show ¬ J 1 = 0 by decide)]
    rfl
  · rw [if_neg c, if_neg c, b2_s, if_pos (show J 0 = 0 from rfl), rx_ck hp, Option.bind_some]
    generalize nuP txk tlk a = r at hn ⊢
    cases r with
    | inl e =>
      obtain ⟨q, M', e1, e2⟩ := hn
      exact ⟨q, M', by rw [e1, b2_s, kr_xr], e2⟩
    | inr r =>
      unfold RDP at hn ⊢
      dsimp only at hn ⊢
      rw [hn, b2_s, kr_xl]
end T1
