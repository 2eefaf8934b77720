/-! PLAIN LAW: the scripts' grammar; the component's reader, first part. NAMES: dgP nuP plP coP rdput rx_ kr_ -/
set_option maxRecDepth 100000
/-- a digit, a number, a place: where it fails, or what it says and where it ends -/
noncomputable def dgP (text : Int → Int) (tl a : Int) : Int ⊕ (Int × Int) := if 48 ≤ nx9 text tl a ∧ nx9 text tl a ≤ 57 then .inr (nx9 text tl a - 48, bk9 text tl (a + 1)) else .inl a
noncomputable def nuP (text : Int → Int) (tl a : Int) : Int ⊕ (Int × Int) := if 48 ≤ nx9 text tl a ∧ nx9 text tl a ≤ 57 then (if 48 ≤ nx9 text tl (ns9 text tl 3 a 0).1 ∧ nx9 text tl (ns9 text tl 3 a 0).1 ≤ 57 then .inl (ns9 text tl 3 a 0).1 else .inr ((ns9 text tl 3 a 0).2, bk9 text tl (ns9 text tl 3 a 0).1)) else .inl a
noncomputable def plP (text : Int → Int) (tl a : Int) : Int ⊕ (Int × Int) := if nx9 text tl a = 45 then .inr (-1, bk9 text tl (a + 1)) else nuP text tl a
def bdP {α β : Type} (x : Int ⊕ (α × Int)) (k : α → Int → Int ⊕ β) : Int ⊕ β := match x with
  | .inl p => .inl p
  | .inr r => k r.1 r.2
/-- a command: its letter, what it says -/
noncomputable def coP (text : Int → Int) (tl a : Int) : Int ⊕ ((Int × Int × Int × Int) × Int) :=
  if nx9 text tl a = 110 then bdP (dgP text tl (bk9 text tl (a + 1))) (fun x b => bdP (dgP text tl b) (fun y e => .inr ((110, x, y, 0), e)))
  else if nx9 text tl a = 114 then bdP (dgP text tl (bk9 text tl (a + 1))) (fun x b => bdP (plP text tl b) (fun y e => .inr ((114, x, y, 0), e)))
  else if nx9 text tl a = 119 then bdP (dgP text tl (bk9 text tl (a + 1))) (fun x b => bdP (plP text tl b) (fun y e => .inr ((119, x, y, 0), e)))
  else if nx9 text tl a = 102 then bdP (nuP text tl (bk9 text tl (a + 1))) (fun x b => bdP (dgP text tl b) (fun y e => bdP (plP text tl e) (fun z g => .inr ((102, x, y, z), g))))
  else if nx9 text tl a = 112 then bdP (nuP text tl (bk9 text tl (a + 1))) (fun x b => .inr ((112, x, 0, 0), b))
  else if nx9 text tl a = 117 then bdP (nuP text tl (bk9 text tl (a + 1))) (fun x b => .inr ((117, x, 0, 0), b))
  else if nx9 text tl a = 99 then .inr ((99, 0, 0, 0), bk9 text tl (a + 1))
  else .inl a
/-- a command with its end -/
noncomputable def cmP (text : Int → Int) (tl a : Int) : Int ⊕ ((Int × Int × Int × Int) × Int) := bdP (coP text tl a) (fun c b => if nx9 text tl b = 59 then .inr (c, bk9 text tl (b + 1)) else .inl b)
/-- all commands -/
noncomputable def rdP (text : Int → Int) (tl : Int) : Nat → Int → List (Int × Int × Int × Int) → Int ⊕ List (Int × Int × Int × Int)
  | 0, _, cs => .inr cs
  | n + 1, a, cs => if a < tl then (match cmP text tl a with | .inl p => .inl p | .inr r => rdP text tl n r.2 (cs ++ [r.1])) else .inr cs
/-- a reader at p -/
def rdput (p : Nat) (a : Int) (l x : Nat) (σ : mm_M) : mm_M := sE σ p (.inl (7, [vI (J a), vR (some l), vR (some x)]))
section RX
variable {D : Nat → Int × Int} {c : Int → Int → mm_E} {σ : mm_M} {p l x : Nat} {a : Int}
theorem rx_cell (h : (D p).1 = -1) : (cput D c (rdput p a l x σ)).1 p = some (.inl (7, [vI (J a), vR (some l), vR (some x)])) := by
  rw [cput_o h]
  unfold rdput sE
  dsimp only
  rw [if_pos rfl]
theorem rx_g0 (h : (D p).1 = -1) : gI (cput D c (rdput p a l x σ)) p 7 0 = some (J a) := gI_at (rx_cell h) rfl
theorem rx_g1 (h : (D p).1 = -1) : gA (cput D c (rdput p a l x σ)) p 7 1 = some l := gA_at (rx_cell h) rfl
theorem rx_g2 (h : (D p).1 = -1) : gA (cput D c (rdput p a l x σ)) p 7 2 = some x := gA_at (rx_cell h) rfl
theorem rx_ck (h : (D p).1 = -1) : ck (cput D c (rdput p a l x σ)) p 7 = some () := ck_at (rx_cell h)
theorem rx_p0 (h : (D p).1 = -1) {v : Int} : pF (cput D c (rdput p a l x σ)) p 7 0 (vI (J v)) = some (cput D c (rdput p v l x σ)) := by
  rw [pF_at (rx_cell h) (by simp), cput_sO h]
  unfold rdput
  rw [sE_sE]
  rfl
end RX
section T1
variable {adk nfk ndk pnk agk mkk rok wek plk txk : Int → Int} {flk dtk : Int → Int → Int} {hwk dpk alk cok fek lnk tlk rfk : Int} {rpk : Option Nat} {mok : Int32} {eak cpk : Nat} {elk owk skk slk : Nat → Option Nat} {hsk : Int64} {D : Nat → Int × Int} {G : Int → Int → Nat} {σ : mm_M} {p l : Nat} {a : Int}
theorem kr_next (hu : XU D G) (hp : (D p).1 = -1) (h : tx9 txk tlk) (h1 : 0 ≤ a) (h2 : a ≤ 80) : f_X7_next p (cput D (cel G adk nfk ndk pnk agk mkk flk dtk hwk dpk alk cok fek rpk rok wek plk mok eak lnk cpk elk owk skk txk tlk rfk slk hsk) (rdput p a l (G 3 7) σ)) = some (J (nx9 txk tlk a)) := by
  obtain ⟨t1, t2, t3⟩ := h
  unfold f_X7_next nx9
  by_cases c : tlk ≤ a
  · simp (disch := first | assumption | exact HU.lu (by assumption) | exact cw_okn | exact cw_ok3 (by assumption) | exact cw_ok5 (by assumption) | omega) only [J_add, J_sub, J_mul, J_neg, J_lit, J_lt, J_le, J_eq, Option.bind_some, Int.reduceAdd, Int.reduceSub, Int.reduceMul, Int.reduceNeg, Int.reduceEq, Int.reduceLT, Int.reduceLE, reduceIte, Int.zero_add, Int.add_zero, and_self, true_and, and_true, false_and, and_false, or_true, true_or, or_false, false_or, not_true_eq_false, not_false_eq_true, ne_eq, b2_s, cw_gadk, cw_gpnk, cw_gagk, cw_gmkk, cw_gfl, cw_gdt, cw_kth, cw_afl, cw_nfl, cw_adt, cw_ndt, cw_gmok, cw_geak, cw_glnk, cw_k0, cw_k6, cw_k7, cw_aowk, cw_aelk, cw_askk, cw_aslk, cw_nelk, cw_arok, cw_nrok, cw_awek, cw_nwek, cw_aplk, cw_nplk, cw_atxk, cw_ntxk, cw_ghwk, cw_gdpk, cw_galk, cw_gcok, cw_gfek, cw_h2, cw_h3, cw_h4, cw_h5, cw_h10, cw_grpk, cw_x0, cw_x1, cw_x2, cw_x5, cw_gtlk, cw_grfk, cw_ghsk, cw_padk, cw_pagk, cw_pmkk, cw_ppnk, cw_zpnk, cw_sfl, cw_sdt, cw_pmok, cw_peak, cw_plnk, cw_sowk, cw_selk, cw_sskk, cw_sslk, cw_srok, cw_swek, cw_splk, cw_palk, cw_pcok, cw_pfek, cw_prpk, cw_ptlk, cw_prfk, cw_phsk, cw_stxk, cw_ok3, cw_ok5, cw_okn, rx_g0 hp, rx_g2 hp, if_pos c]
  · simp (disch := first | assumption | exact HU.lu (by assumption) | exact cw_okn | exact cw_ok3 (by assumption) | exact cw_ok5 (by assumption) | omega) only [J_add, J_sub, J_mul, J_neg, J_lit, J_lt, J_le, J_eq, Option.bind_some, Int.reduceAdd, Int.reduceSub, Int.reduceMul, Int.reduceNeg, Int.reduceEq, Int.reduceLT, Int.reduceLE, reduceIte, Int.zero_add, Int.add_zero, and_self, true_and, and_true, false_and, and_false, or_true, true_or, or_false, false_or, not_true_eq_false, not_false_eq_true, ne_eq, b2_s, cw_gadk, cw_gpnk, cw_gagk, cw_gmkk, cw_gfl, cw_gdt, cw_kth, cw_afl, cw_nfl, cw_adt, cw_ndt, cw_gmok, cw_geak, cw_glnk, cw_k0, cw_k6, cw_k7, cw_aowk, cw_aelk, cw_askk, cw_aslk, cw_nelk, cw_arok, cw_nrok, cw_awek, cw_nwek, cw_aplk, cw_nplk, cw_atxk, cw_ntxk, cw_ghwk, cw_gdpk, cw_galk, cw_gcok, cw_gfek, cw_h2, cw_h3, cw_h4, cw_h5, cw_h10, cw_grpk, cw_x0, cw_x1, cw_x2, cw_x5, cw_gtlk, cw_grfk, cw_ghsk, cw_padk, cw_pagk, cw_pmkk, cw_ppnk, cw_zpnk, cw_sfl, cw_sdt, cw_pmok, cw_peak, cw_plnk, cw_sowk, cw_selk, cw_sskk, cw_sslk, cw_srok, cw_swek, cw_splk, cw_palk, cw_pcok, cw_pfek, cw_prpk, cw_ptlk, cw_prfk, cw_phsk, cw_stxk, cw_ok3, cw_ok5, cw_okn, rx_g0 hp, rx_g2 hp, if_neg c]
theorem kr_blanks (hu : XU D G) (hp : (D p).1 = -1) (h : tx9 txk tlk) (h1 : 0 ≤ a) (h2 : a ≤ tlk) : f_X7_blanks p (cput D (cel G adk nfk ndk pnk agk mkk flk dtk hwk dpk alk cok fek rpk rok wek plk mok eak lnk cpk elk owk skk txk tlk rfk slk hsk) (rdput p a l (G 3 7) σ)) = some (cput D (cel G adk nfk ndk pnk agk mkk flk dtk hwk dpk alk cok fek rpk rok wek plk mok eak lnk cpk elk owk skk txk tlk rfk slk hsk) (rdput p (bk9 txk tlk a) l (G 3 7) σ)) := by
  obtain ⟨t1, t2, t3⟩ := h
  unfold f_X7_blanks
  rw [lgo_l]
  have key : ∀ (n : Nat) (a : Int), 0 ≤ a → a ≤ tlk → tlk - a ≤ n → lpx (s_X7_blanks p) (cput D (cel G adk nfk ndk pnk agk mkk flk dtk hwk dpk alk cok fek rpk rok wek plk mok eak lnk cpk elk owk skk txk tlk rfk slk hsk) (rdput p a l (G 3 7) σ)) = some (cput D (cel G adk nfk ndk pnk agk mkk flk dtk hwk dpk alk cok fek rpk rok wek plk mok eak lnk cpk elk owk skk txk tlk rfk slk hsk) (rdput p (bkn txk tlk n a) l (G 3 7) σ)) := by
    intro n
    induction n with
    | zero =>
      intro a a1 a2 a3
      have hn : nx9 txk tlk a = -1 := if_pos (by omega)
      refine lpx_d ?_
      unfold s_X7_blanks g_X7_blanks_0 bkn
      rw [rx_ck hp, Option.bind_some, kr_next hu hp ⟨t1, t2, t3⟩ a1 (by omega), Option.bind_some, hn]
      rfl
    | succ n ih =>
      intro a a1 a2 a3
      unfold bkn
      have hb := nx9_b ⟨t1, t2, t3⟩ a1
      by_cases c : nx9 txk tlk a = 32
      · rw [if_pos c]
        have hlt : a < tlk := by
          unfold nx9 at c
          by_cases d : tlk ≤ a
          · rw [if_pos d] at c; omega
          · omega
        rw [← ih (a + 1) (by omega) (by omega) (by omega)]
        refine lpx_n ?_
        unfold s_X7_blanks g_X7_blanks_0
        rw [rx_ck hp, Option.bind_some, kr_next hu hp ⟨t1, t2, t3⟩ a1 (by omega), Option.bind_some, c, if_pos (show J 32 = (32 : Int32) from rfl), rx_g0 hp, Option.bind_some, show J a + (1 : Int32) = J (a + 1) by rw [show (1 : Int32) = J 1 from J_lit 1, J_add], rx_p0 hp, Option.bind_some]
      · rw [if_neg c]
        refine lpx_d ?_
        unfold s_X7_blanks g_X7_blanks_0
        rw [rx_ck hp, Option.bind_some, kr_next hu hp ⟨t1, t2, t3⟩ a1 (by omega), Option.bind_some, if_neg]
        rw [show (32 : Int32) = J 32 from J_lit 32, J_eq (by omega) (by omega) (by omega) (by omega)]
        exact c
  exact key 80 a h1 h2 (by omega)
theorem kr_takes (hu : XU D G) (hp : (D p).1 = -1) (h : tx9 txk tlk) (h1 : 0 ≤ a) (h2 : a ≤ tlk) {s : Int} (s1 : 0 ≤ s) (s2 : s ≤ 127) : f_X7_takes p (J s) (cput D (cel G adk nfk ndk pnk agk mkk flk dtk hwk dpk alk cok fek rpk rok wek plk mok eak lnk cpk elk owk skk txk tlk rfk slk hsk) (rdput p a l (G 3 7) σ)) = some (if nx9 txk tlk a = s then (J 1, (cput D (cel G adk nfk ndk pnk agk mkk flk dtk hwk dpk alk cok fek rpk rok wek plk mok eak lnk cpk elk owk skk txk tlk rfk slk hsk) (rdput p (bk9 txk tlk (a + 1)) l (G 3 7) σ))) else (J 0, (cput D (cel G adk nfk ndk pnk agk mkk flk dtk hwk dpk alk cok fek rpk rok wek plk mok eak lnk cpk elk owk skk txk tlk rfk slk hsk) (rdput p a l (G 3 7) σ)))) := by
  have hb := nx9_b h h1
  have ht := h.2.1
  unfold f_X7_takes g_X7_takes_13
  by_cases c : nx9 txk tlk a = s
  · have hlt : a < tlk := by
      unfold nx9 at c
      by_cases d : tlk ≤ a
      · rw [if_pos d] at c; omega
      · omega
    rw [if_pos c]
    have hbl := kr_blanks (σ := σ) (l := l) (a := a + 1) (adk := adk) (nfk := nfk) (ndk := ndk) (pnk := pnk) (agk := agk) (mkk := mkk) (flk := flk) (dtk := dtk) (hwk := hwk) (dpk := dpk) (alk := alk) (cok := cok) (fek := fek) (rpk := rpk) (rok := rok) (wek := wek) (plk := plk) (mok := mok) (eak := eak) (lnk := lnk) (cpk := cpk) (elk := elk) (owk := owk) (skk := skk) (rfk := rfk) (slk := slk) (hsk := hsk) hu hp h (by omega) (by omega)
    simp (disch := first | assumption | exact HU.lu (by assumption) | exact cw_okn | exact cw_ok3 (by assumption) | exact cw_ok5 (by assumption) | omega) only [J_add, J_sub, J_mul, J_neg, J_lit, J_lt, J_le, J_eq, Option.bind_some, Int.reduceAdd, Int.reduceSub, Int.reduceMul, Int.reduceNeg, Int.reduceEq, Int.reduceLT, Int.reduceLE, reduceIte, Int.zero_add, Int.add_zero, and_self, true_and, and_true, false_and, and_false, or_true, true_or, or_false, false_or, not_true_eq_false, not_false_eq_true, ne_eq, b2_s, cw_gadk, cw_gpnk, cw_gagk, cw_gmkk, cw_gfl, cw_gdt, cw_kth, cw_afl, cw_nfl, cw_adt, cw_ndt, cw_gmok, cw_geak, cw_glnk, cw_k0, cw_k6, cw_k7, cw_aowk, cw_aelk, cw_askk, cw_aslk, cw_nelk, cw_arok, cw_nrok, cw_awek, cw_nwek, cw_aplk, cw_nplk, cw_atxk, cw_ntxk, cw_ghwk, cw_gdpk, cw_galk, cw_gcok, cw_gfek, cw_h2, cw_h3, cw_h4, cw_h5, cw_h10, cw_grpk, cw_x0, cw_x1, cw_x2, cw_x5, cw_gtlk, cw_grfk, cw_ghsk, cw_padk, cw_pagk, cw_pmkk, cw_ppnk, cw_zpnk, cw_sfl, cw_sdt, cw_pmok, cw_peak, cw_plnk, cw_sowk, cw_selk, cw_sskk, cw_sslk, cw_srok, cw_swek, cw_splk, cw_palk, cw_pcok, cw_pfek, cw_prpk, cw_ptlk, cw_prfk, cw_phsk, cw_stxk, cw_ok3, cw_ok5, cw_okn, rx_ck hp, kr_next hu hp h h1 (show a ≤ 80 by omega), c, rx_g0 hp, rx_p0 hp, hbl]
    rfl
  · rw [if_neg c]
    simp (disch := first | assumption | exact HU.lu (by assumption) | exact cw_okn | exact cw_ok3 (by assumption) | exact cw_ok5 (by assumption) | omega) only [J_add, J_sub, J_mul, J_neg, J_lit, J_lt, J_le, J_eq, Option.bind_some, Int.reduceAdd, Int.reduceSub, Int.reduceMul, Int.reduceNeg, Int.reduceEq, Int.reduceLT, Int.reduceLE, reduceIte, Int.zero_add, Int.add_zero, and_self, true_and, and_true, false_and, and_false, or_true, true_or, or_false, false_or, not_true_eq_false, not_false_eq_true, ne_eq, b2_s, cw_gadk, cw_gpnk, cw_gagk, cw_gmkk, cw_gfl, cw_gdt, cw_kth, cw_afl, cw_nfl, cw_adt, cw_ndt, cw_gmok, cw_geak, cw_glnk, cw_k0, cw_k6, cw_k7, cw_aowk, cw_aelk, cw_askk, cw_aslk, cw_nelk, cw_arok, cw_nrok, cw_awek, cw_nwek, cw_aplk, cw_nplk, cw_atxk, cw_ntxk, cw_ghwk, cw_gdpk, cw_galk, cw_gcok, cw_gfek, cw_h2, cw_h3, cw_h4, cw_h5, cw_h10, cw_grpk, cw_x0, cw_x1, cw_x2, cw_x5, cw_gtlk, cw_grfk, cw_ghsk, cw_padk, cw_pagk, cw_pmkk, cw_ppnk, cw_zpnk, cw_sfl, cw_sdt, cw_pmok, cw_peak, cw_plnk, cw_sowk, cw_selk, cw_sskk, cw_sslk, cw_srok, cw_swek, cw_splk, cw_palk, cw_pcok, cw_pfek, cw_prpk, cw_ptlk, cw_prfk, cw_phsk, cw_stxk, cw_ok3, cw_ok5, cw_okn, rx_ck hp, kr_next hu hp h h1 (show a ≤ 80 by omega), if_neg c]
    rfl
theorem kr_isDigit (hu : XU D G) (hp : (D p).1 = -1) (h : tx9 txk tlk) (h1 : 0 ≤ a) (h2 : a ≤ 80) : f_X7_isDigit p (cput D (cel G adk nfk ndk pnk agk mkk flk dtk hwk dpk alk cok fek rpk rok wek plk mok eak lnk cpk elk owk skk txk tlk rfk slk hsk) (rdput p a l (G 3 7) σ)) = some (J (if 48 ≤ nx9 txk tlk a ∧ nx9 txk tlk a ≤ 57 then 1 else 0)) := by
  have hb := nx9_b h h1
  unfold f_X7_isDigit
  by_cases c : 48 ≤ nx9 txk tlk a ∧ nx9 txk tlk a ≤ 57
  · simp (disch := first | assumption | exact HU.lu (by assumption) | exact cw_okn | exact cw_ok3 (by assumption) | exact cw_ok5 (by assumption) | omega) only [J_add, J_sub, J_mul, J_neg, J_lit, J_lt, J_le, J_eq, Option.bind_some, Int.reduceAdd, Int.reduceSub, Int.reduceMul, Int.reduceNeg, Int.reduceEq, Int.reduceLT, Int.reduceLE, reduceIte, Int.zero_add, Int.add_zero, and_self, true_and, and_true, false_and, and_false, or_true, true_or, or_false, false_or, not_true_eq_false, not_false_eq_true, ne_eq, b2_s, cw_gadk, cw_gpnk, cw_gagk, cw_gmkk, cw_gfl, cw_gdt, cw_kth, cw_afl, cw_nfl, cw_adt, cw_ndt, cw_gmok, cw_geak, cw_glnk, cw_k0, cw_k6, cw_k7, cw_aowk, cw_aelk, cw_askk, cw_aslk, cw_nelk, cw_arok, cw_nrok, cw_awek, cw_nwek, cw_aplk, cw_nplk, cw_atxk, cw_ntxk, cw_ghwk, cw_gdpk, cw_galk, cw_gcok, cw_gfek, cw_h2, cw_h3, cw_h4, cw_h5, cw_h10, cw_grpk, cw_x0, cw_x1, cw_x2, cw_x5, cw_gtlk, cw_grfk, cw_ghsk, cw_padk, cw_pagk, cw_pmkk, cw_ppnk, cw_zpnk, cw_sfl, cw_sdt, cw_pmok, cw_peak, cw_plnk, cw_sowk, cw_selk, cw_sskk, cw_sslk, cw_srok, cw_swek, cw_splk, cw_palk, cw_pcok, cw_pfek, cw_prpk, cw_ptlk, cw_prfk, cw_phsk, cw_stxk, cw_ok3, cw_ok5, cw_okn, rx_ck hp, kr_next hu hp h h1 h2, kc_in (show ir (nx9 txk tlk a) by unfold ir; omega) (show ir 48 by unfold ir; omega) (show ir 57 by unfold ir; omega), if_pos c]
    rfl
  · simp (disch := first | assumption | exact HU.lu (by assumption) | exact cw_okn | exact cw_ok3 (by assumption) | exact cw_ok5 (by assumption) | omega) only [J_add, J_sub, J_mul, J_neg, J_lit, J_lt, J_le, J_eq, Option.bind_some, Int.reduceAdd, Int.reduceSub, Int.reduceMul, Int.reduceNeg, Int.reduceEq, Int.reduceLT, Int.reduceLE, reduceIte, Int.zero_add, Int.add_zero, and_self, true_and, and_true, false_and, and_false, or_true, true_or, or_false, false_or, not_true_eq_false, not_false_eq_true, ne_eq, b2_s, cw_gadk, cw_gpnk, cw_gagk, cw_gmkk, cw_gfl, cw_gdt, cw_kth, cw_afl, cw_nfl, cw_adt, cw_ndt, cw_gmok, cw_geak, cw_glnk, cw_k0, cw_k6, cw_k7, cw_aowk, cw_aelk, cw_askk, cw_aslk, cw_nelk, cw_arok, cw_nrok, cw_awek, cw_nwek, cw_aplk, cw_nplk, cw_atxk, cw_ntxk, cw_ghwk, cw_gdpk, cw_galk, cw_gcok, cw_gfek, cw_h2, cw_h3, cw_h4, cw_h5, cw_h10, cw_grpk, cw_x0, cw_x1, cw_x2, cw_x5, cw_gtlk, cw_grfk, cw_ghsk, cw_padk, cw_pagk, cw_pmkk, cw_ppnk, cw_zpnk, cw_sfl, cw_sdt, cw_pmok, cw_peak, cw_plnk, cw_sowk, cw_selk, cw_sskk, cw_sslk, cw_srok, cw_swek, cw_splk, cw_palk, cw_pcok, cw_pfek, cw_prpk, cw_ptlk, cw_prfk, cw_phsk, cw_stxk, cw_ok3, cw_ok5, cw_okn, rx_ck hp, kr_next hu hp h h1 h2, kc_in (show ir (nx9 txk tlk a) by unfold ir; omega) (show ir 48 by unfold ir; omega) (show ir 57 by unfold ir; omega), if_neg c]
    rfl
end T1
