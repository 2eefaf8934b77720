/-! PLAIN LAW: the twin reads a script. NAMES: TWP CMK tm_ -/
set_option maxRecDepth 100000
/-- what a part of a command leaves: its value, where the reader stands, where it failed -/
def TWP (tl ft : Int) (P : Int ⊕ (Int × Int)) (v' a' ft' : Int) : Prop := (0 ≤ a' ∧ a' ≤ tl ∧ -1 ≤ ft' ∧ ft' ≤ 80) ∧ (ft ≠ -1 → ft' = ft) ∧ (ft = -1 → (∀ e, P = .inl e → ft' = e ∧ 0 ≤ e) ∧ (∀ r, P = .inr r → ft' = -1 ∧ v' = r.1 ∧ a' = r.2))
/-- a command in the twin's row -/
def CMK (cmd : Int → Int) (k : Int) (c : Int × Int × Int × Int) : Prop := cmd (4 * k) = c.1 ∧ (c.1 ≠ 99 → cmd (4 * k + 1) = c.2.1) ∧ (c.1 ≠ 99 → c.1 ≠ 112 → c.1 ≠ 117 → cmd (4 * k + 2) = c.2.2.1) ∧ (c.1 = 102 → cmd (4 * k + 3) = c.2.2.2)
section TB
variable {t : Nat} {m old saved isS text far mk stk cmd : Int → Int} {tl rf_ top hi ov cm at_ ft : Int} {hs : Int64} {σ : mm_M}
theorem tm_dig9 (h : tx9 text tl) (h1 : 0 ≤ at_) (h2 : at_ ≤ tl) (f1 : -1 ≤ ft) (f2 : ft ≤ 80) : ∃ v' a' ft', f_X2_digit t (tput t m old saved isS text tl rf_ far mk stk top hi ov cmd cm at_ ft hs σ) = some (J v', (tput t m old saved isS text tl rf_ far mk stk top hi ov cmd cm a' ft' hs σ)) ∧ TWP tl ft (dgP text tl at_) v' a' ft' := by
  have ht := h.2.1
  rw [tm_digit h h1 h2 f1 f2]
  unfold dgP
  by_cases c : 48 ≤ nx9 text tl at_ ∧ nx9 text tl at_ ≤ 57
  · have hl := dg_lt c.1
    have hb := bk9_b (text := text) (tl := tl) (a := at_ + 1) (by omega)
    rw [if_pos c]
    by_cases d : ft = -1
    · rw [if_pos ⟨d, c⟩]
      refine ⟨_, _, _, rfl, ⟨by omega, hb.2, f1, f2⟩, fun q => absurd d q, fun _ => ⟨fun e he => (by cases he), fun r hr => ?_⟩⟩
      cases hr
      exact ⟨d, rfl, rfl⟩
    · rw [if_neg (fun q => d q.1), if_neg d]
      exact ⟨_, _, _, rfl, ⟨h1, h2, f1, f2⟩, fun q => rfl, fun q => absurd q d⟩
  · rw [if_neg c, if_neg (fun q => c q.2)]
    by_cases d : ft = -1
    · rw [if_pos d]
      refine ⟨_, _, _, rfl, ⟨h1, h2, by omega, by omega⟩, fun q => absurd d q, fun _ => ⟨fun e he => ?_, fun r hr => (by cases hr)⟩⟩
      cases he
      exact ⟨rfl, h1⟩
    · rw [if_neg d]
      exact ⟨_, _, _, rfl, ⟨h1, h2, f1, f2⟩, fun q => rfl, fun q => absurd q d⟩
theorem nuP_ns {text : Int → Int} {tl a : Int} (h2 : a ≤ tl) : (∀ e, nuP text tl a = .inl e → ((ns9 text tl 3 a 0).1 = a ∨ (48 ≤ nx9 text tl (ns9 text tl 3 a 0).1 ∧ nx9 text tl (ns9 text tl 3 a 0).1 ≤ 57)) ∧ e = (ns9 text tl 3 a 0).1) ∧ (∀ r, nuP text tl a = .inr r → ¬ ((ns9 text tl 3 a 0).1 = a ∨ (48 ≤ nx9 text tl (ns9 text tl 3 a 0).1 ∧ nx9 text tl (ns9 text tl 3 a 0).1 ≤ 57)) ∧ r = ((ns9 text tl 3 a 0).2, bk9 text tl (ns9 text tl 3 a 0).1)) := by
  have e0 : ns9 text tl 3 a 0 = (if 48 ≤ nx9 text tl a ∧ nx9 text tl a ≤ 57 then ns9 text tl 2 (a + 1) (10 * 0 + nx9 text tl a - 48) else (a, 0)) := rfl
  unfold nuP
  by_cases c : 48 ≤ nx9 text tl a ∧ nx9 text tl a ≤ 57
  · rw [if_pos c]
    rw [if_pos c] at e0
    have h6 : a + 1 ≤ (ns9 text tl 3 a 0).1 := by
      rw [e0]
      exact (ns9_b (text := text) (tl := tl) 2 (a + 1) _).1
    by_cases d : 48 ≤ nx9 text tl (ns9 text tl 3 a 0).1 ∧ nx9 text tl (ns9 text tl 3 a 0).1 ≤ 57
    · rw [if_pos d]
      refine ⟨fun e he => ?_, fun r hr => (by cases hr)⟩
      cases he
      exact ⟨Or.inr d, rfl⟩
    · rw [if_neg d]
      refine ⟨fun e he => (by cases he), fun r hr => ?_⟩
      cases hr
      exact ⟨fun q => by rcases q with q | q; · omega
                         · exact d q, rfl⟩
  · rw [if_neg c]
    rw [if_neg c] at e0
    refine ⟨fun e he => ?_, fun r hr => (by cases hr)⟩
    cases he
    rw [e0]
    exact ⟨Or.inl rfl, rfl⟩
theorem tm_num9 (h : tx9 text tl) (h1 : 0 ≤ at_) (h2 : at_ ≤ tl) (f1 : -1 ≤ ft) (f2 : ft ≤ 80) : ∃ v' a' ft', f_X2_number t (tput t m old saved isS text tl rf_ far mk stk top hi ov cmd cm at_ ft hs σ) = some (J v', (tput t m old saved isS text tl rf_ far mk stk top hi ov cmd cm a' ft' hs σ)) ∧ TWP tl ft (nuP text tl at_) v' a' ft' := by
  have ht := h.2.1
  by_cases d : ft = -1
  · subst d
    rw [tm_number h h1 h2]
    have h3 := ns9_b (text := text) (tl := tl) 3 at_ 0
    have h4 := bk9_b (text := text) (tl := tl) (a := (ns9 text tl 3 at_ 0).1) (h3.2.2 h2)
    obtain ⟨k1, k2⟩ := nuP_ns (text := text) h2
    refine ⟨_, _, _, rfl, ⟨by omega, h4.2, ?_, ?_⟩, fun q => absurd rfl q, fun _ => ⟨fun e he => ?_, fun r hr => ?_⟩⟩
    · split <;> omega
    · split <;> omega
    · obtain ⟨x1, x2⟩ := k1 e he
      rw [if_pos x1]
      omega
    · obtain ⟨x1, x2⟩ := k2 r hr
      rw [if_neg x1, x2]
      exact ⟨rfl, rfl, rfl⟩
  · rw [tm_numberF h h1 h2 (by omega) f2]
    have hb := bk9_b (text := text) (tl := tl) (a := at_) h2
    exact ⟨_, _, _, rfl, ⟨by omega, hb.2, f1, f2⟩, fun q => rfl, fun q => absurd q d⟩
theorem tm_pla9 (h : tx9 text tl) (h1 : 0 ≤ at_) (h2 : at_ ≤ tl) (f1 : -1 ≤ ft) (f2 : ft ≤ 80) : ∃ v' a' ft', f_X2_place t (tput t m old saved isS text tl rf_ far mk stk top hi ov cmd cm at_ ft hs σ) = some (J v', (tput t m old saved isS text tl rf_ far mk stk top hi ov cmd cm a' ft' hs σ)) ∧ TWP tl ft (plP text tl at_) v' a' ft' := by
  have ht := h.2.1
  by_cases d : ft = -1
  · subst d
    rw [tm_place h h1 h2]
    unfold plP
    by_cases c : nx9 text tl at_ = 45
    · have hl := nx_lt (by omega) c
      have hb := bk9_b (text := text) (tl := tl) (a := at_ + 1) (by omega)
      rw [if_pos c, if_pos c]
      refine ⟨_, _, _, rfl, ⟨by omega, hb.2, by omega, by omega⟩, fun q => absurd rfl q, fun _ => ⟨fun e he => (by cases he), fun r hr => ?_⟩⟩
      cases hr
      exact ⟨rfl, rfl, rfl⟩
    · rw [if_neg c, if_neg c]
      have h3 := ns9_b (text := text) (tl := tl) 3 at_ 0
      have h4 := bk9_b (text := text) (tl := tl) (a := (ns9 text tl 3 at_ 0).1) (h3.2.2 h2)
      obtain ⟨k1, k2⟩ := nuP_ns (text := text) h2
      refine ⟨_, _, _, rfl, ⟨by omega, h4.2, ?_, ?_⟩, fun q => absurd rfl q, fun _ => ⟨fun e he => ?_, fun r hr => ?_⟩⟩
      · split <;> omega
      · split <;> omega
      · obtain ⟨x1, x2⟩ := k1 e he
        rw [if_pos x1]
        omega
      · obtain ⟨x1, x2⟩ := k2 r hr
        rw [if_neg x1, x2]
        exact ⟨rfl, rfl, rfl⟩
  · rw [tm_placeF h h1 h2 (by omega) f2]
    have hb := bk9_b (text := text) (tl := tl) (a := at_) h2
    exact ⟨_, _, _, rfl, ⟨by omega, hb.2, f1, f2⟩, fun q => rfl, fun q => absurd q d⟩
/-- a command's end -/
noncomputable def seP (text : Int → Int) (tl a : Int) : Int ⊕ (Int × Int) := if nx9 text tl a = 59 then .inr (0, bk9 text tl (a + 1)) else .inl a
theorem tm_r215 (h : tx9 text tl) (h1 : 0 ≤ at_) (h2 : at_ ≤ tl) (f1 : -1 ≤ ft) (f2 : ft ≤ 80) (c1 : 0 ≤ cm) (c2 : cm < 40) : ∃ a' ft', g_X2_reads_215 t (tput t m old saved isS text tl rf_ far mk stk top hi ov cmd cm at_ ft hs σ) = some (tput t m old saved isS text tl rf_ far mk stk top hi ov cmd (cm + 1) a' ft' hs σ) ∧ TWP tl ft (seP text tl at_) 0 a' ft' := by
  have ht := h.2.1
  have hb := nx9_b h h1
  unfold g_X2_reads_215 seP
  by_cases d : ft = -1
  · by_cases c : nx9 text tl at_ = 59
    · have hl := nx_lt (by omega) c
      have hb := bk9_b (text := text) (tl := tl) (a := at_ + 1) (by omega)
      rw [if_pos c]
      refine ⟨bk9 text tl (at_ + 1), ft, ?_, ⟨by omega, hb.2, f1, f2⟩, fun q => absurd d q, fun _ => ⟨fun e he => (by cases he), fun r hr => ?_⟩⟩
      · simp (disch := omega) only [Option.bind_some, tw_gm, tw_gold, tw_gsaved, tw_gisS, tw_gtext, tw_gtl, tw_grf_, tw_gfar, tw_gmk, tw_gstk, tw_gtop, tw_ghi, tw_gov, tw_gcmd, tw_gcm, tw_gat_, tw_gft, tw_ghs, tw_nm, tw_nold, tw_nsaved, tw_nisS, tw_ntext, tw_nfar, tw_nmk, tw_nstk, tw_ncmd, tw_ck, tw_am, tw_aold, tw_asaved, tw_aisS, tw_atext, tw_afar, tw_amk, tw_astk, tw_acmd, tw_sm, tw_sold, tw_ssaved, tw_sisS, tw_stext, tw_sfar, tw_smk, tw_sstk, tw_scmd, tw_ptl, tw_prf_, tw_ptop, tw_phi, tw_pov, tw_pcm, tw_pat_, tw_pft, tw_phs, tw_zov, J_add, J_sub, J_mul, J_neg, J_lit, J_lt, J_le, J_eq, Int.reduceAdd, Int.reduceSub, Int.reduceMul, Int.reduceNeg, Int.reduceEq, Int.reduceLT, Int.reduceLE, reduceIte, Int.zero_add, Int.add_zero, and_self, true_and, and_true, false_and, and_false, or_true, true_or, or_false, false_or, not_true_eq_false, not_false_eq_true, ne_eq, b2_s, if_pos d, tm_nx h h1 (show at_ ≤ 80 by omega), if_pos c, tm_blanks h (show 0 ≤ at_ + 1 by omega) (show at_ + 1 ≤ tl by omega)]
      · cases hr
        exact ⟨d, rfl, rfl⟩
    · rw [if_neg c]
      refine ⟨at_, at_, ?_, ⟨h1, h2, by omega, by omega⟩, fun q => absurd d q, fun _ => ⟨fun e he => ?_, fun r hr => (by cases hr)⟩⟩
      · simp (disch := omega) only [Option.bind_some, tw_gm, tw_gold, tw_gsaved, tw_gisS, tw_gtext, tw_gtl, tw_grf_, tw_gfar, tw_gmk, tw_gstk, tw_gtop, tw_ghi, tw_gov, tw_gcmd, tw_gcm, tw_gat_, tw_gft, tw_ghs, tw_nm, tw_nold, tw_nsaved, tw_nisS, tw_ntext, tw_nfar, tw_nmk, tw_nstk, tw_ncmd, tw_ck, tw_am, tw_aold, tw_asaved, tw_aisS, tw_atext, tw_afar, tw_amk, tw_astk, tw_acmd, tw_sm, tw_sold, tw_ssaved, tw_sisS, tw_stext, tw_sfar, tw_smk, tw_sstk, tw_scmd, tw_ptl, tw_prf_, tw_ptop, tw_phi, tw_pov, tw_pcm, tw_pat_, tw_pft, tw_phs, tw_zov, J_add, J_sub, J_mul, J_neg, J_lit, J_lt, J_le, J_eq, Int.reduceAdd, Int.reduceSub, Int.reduceMul, Int.reduceNeg, Int.reduceEq, Int.reduceLT, Int.reduceLE, reduceIte, Int.zero_add, Int.add_zero, and_self, true_and, and_true, false_and, and_false, or_true, true_or, or_false, false_or, not_true_eq_false, not_false_eq_true, ne_eq, b2_s, if_pos d, tm_nx h h1 (show at_ ≤ 80 by omega), if_neg c, tm_fails f1 f2]
      · cases he
        exact ⟨rfl, h1⟩
  · refine ⟨at_, ft, ?_, ⟨h1, h2, f1, f2⟩, fun q => rfl, fun q => absurd q d⟩
    simp (disch := omega) only [Option.bind_some, tw_gm, tw_gold, tw_gsaved, tw_gisS, tw_gtext, tw_gtl, tw_grf_, tw_gfar, tw_gmk, tw_gstk, tw_gtop, tw_ghi, tw_gov, tw_gcmd, tw_gcm, tw_gat_, tw_gft, tw_ghs, tw_nm, tw_nold, tw_nsaved, tw_nisS, tw_ntext, tw_nfar, tw_nmk, tw_nstk, tw_ncmd, tw_ck, tw_am, tw_aold, tw_asaved, tw_aisS, tw_atext, tw_afar, tw_amk, tw_astk, tw_acmd, tw_sm, tw_sold, tw_ssaved, tw_sisS, tw_stext, tw_sfar, tw_smk, tw_sstk, tw_scmd, tw_ptl, tw_prf_, tw_ptop, tw_phi, tw_pov, tw_pcm, tw_pat_, tw_pft, tw_phs, tw_zov, J_add, J_sub, J_mul, J_neg, J_lit, J_lt, J_le, J_eq, Int.reduceAdd, Int.reduceSub, Int.reduceMul, Int.reduceNeg, Int.reduceEq, Int.reduceLT, Int.reduceLE, reduceIte, Int.zero_add, Int.add_zero, and_self, true_and, and_true, false_and, and_false, or_true, true_or, or_false, false_or, not_true_eq_false, not_false_eq_true, ne_eq, b2_s, if_neg d, tm_fails f1 f2]
end TB
