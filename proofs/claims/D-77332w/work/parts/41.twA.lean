/-! PLAIN LAW: the twin's reader: numbers, places. NAMES: ns9, tm_ -/
set_option maxRecDepth 100000
/-- at most n digits from a on: where they end, the number -/
def ns9 (text : Int → Int) (tl : Int) : Nat → Int → Int → Int × Int
  | 0, a, v => (a, v)
  | n + 1, a, v => if 48 ≤ nx9 text tl a ∧ nx9 text tl a ≤ 57 then ns9 text tl n (a + 1) (10 * v + nx9 text tl a - 48) else (a, v)
theorem dg_lt {text : Int → Int} {tl a : Int} (h : 48 ≤ nx9 text tl a) : a < tl := by
  unfold nx9 at h
  by_cases d : tl ≤ a
  · rw [if_pos d] at h; omega
  · omega
theorem ns9_b {text : Int → Int} {tl : Int} (n : Nat) (a v : Int) : a ≤ (ns9 text tl n a v).1 ∧ (ns9 text tl n a v).1 ≤ a + n ∧ (a ≤ tl → (ns9 text tl n a v).1 ≤ tl) := by
  induction n generalizing a v with
  | zero => unfold ns9; exact ⟨Int.le_refl _, by omega, fun h => h⟩
  | succ n ih =>
    unfold ns9
    by_cases c : 48 ≤ nx9 text tl a ∧ nx9 text tl a ≤ 57
    · rw [if_pos c]
      have := ih (a + 1) (10 * v + nx9 text tl a - 48)
      have := dg_lt c.1
      omega
    · rw [if_neg c]
      exact ⟨Int.le_refl _, by dsimp only; omega, fun h => h⟩
section TA
variable {t : Nat} {m old saved isS text far mk stk cmd : Int → Int} {tl rf_ top hi ov cm at_ ft : Int} {hs : Int64} {σ : mm_M}
theorem tm_number58 (h : tx9 text tl) (h1 : 0 ≤ at_) (h2 : at_ ≤ tl) (f1 : -1 ≤ ft) (f2 : ft ≤ 80) {b : Int} (b1 : 0 ≤ b) (b2 : b ≤ 80) {v : Int32} : g_X2_number_58 t (J b) v (tput t m old saved isS text tl rf_ far mk stk top hi ov cmd cm at_ ft hs σ) = some (.inr (v, (tput t m old saved isS text tl rf_ far mk stk top hi ov cmd cm (bk9 text tl at_) (if at_ = b ∨ (48 ≤ nx9 text tl at_ ∧ nx9 text tl at_ ≤ 57) then (if ft = -1 then at_ else ft) else ft) hs σ))) := by
  have ht := h.2.1
  have hd := tm_isDigit (t := t) (m := m) (old := old) (saved := saved) (isS := isS) (text := text) (tl := tl) (rf_ := rf_) (far := far) (mk := mk) (stk := stk) (top := top) (hi := hi) (ov := ov) (cmd := cmd) (cm := cm) (at_ := at_) (ft := ft) (hs := hs) (σ := σ) h h1 (by omega)
  unfold g_X2_number_58
  by_cases c : at_ = b
  · rw [if_pos (c := at_ = b ∨ (48 ≤ nx9 text tl at_ ∧ nx9 text tl at_ ≤ 57)) (Or.inl c)]
    simp (disch := omega) only [Option.bind_some, tw_gm, tw_gold, tw_gsaved, tw_gisS, tw_gtext, tw_gtl, tw_grf_, tw_gfar, tw_gmk, tw_gstk, tw_gtop, tw_ghi, tw_gov, tw_gcmd, tw_gcm, tw_gat_, tw_gft, tw_ghs, tw_nm, tw_nold, tw_nsaved, tw_nisS, tw_ntext, tw_nfar, tw_nmk, tw_nstk, tw_ncmd, tw_ck, tw_am, tw_aold, tw_asaved, tw_aisS, tw_atext, tw_afar, tw_amk, tw_astk, tw_acmd, tw_sm, tw_sold, tw_ssaved, tw_sisS, tw_stext, tw_sfar, tw_smk, tw_sstk, tw_scmd, tw_ptl, tw_prf_, tw_ptop, tw_phi, tw_pov, tw_pcm, tw_pat_, tw_pft, tw_phs, tw_zov, J_add, J_sub, J_mul, J_neg, J_lit, J_lt, J_le, J_eq, Int.reduceAdd, Int.reduceSub, Int.reduceMul, Int.reduceNeg, Int.reduceEq, Int.reduceLT, Int.reduceLE, reduceIte, Int.zero_add, Int.add_zero, and_self, true_and, and_true, false_and, and_false, or_true, true_or, or_false, false_or, not_true_eq_false, not_false_eq_true, ne_eq, b2_s, if_pos c, tm_fails f1 f2, tm_blanks h h1 h2]
  · by_cases c2 : 48 ≤ nx9 text tl at_ ∧ nx9 text tl at_ ≤ 57
    · rw [if_pos c2] at hd
      rw [if_pos (c := at_ = b ∨ (48 ≤ nx9 text tl at_ ∧ nx9 text tl at_ ≤ 57)) (Or.inr c2)]
      simp (disch := omega) only [Option.bind_some, tw_gm, tw_gold, tw_gsaved, tw_gisS, tw_gtext, tw_gtl, tw_grf_, tw_gfar, tw_gmk, tw_gstk, tw_gtop, tw_ghi, tw_gov, tw_gcmd, tw_gcm, tw_gat_, tw_gft, tw_ghs, tw_nm, tw_nold, tw_nsaved, tw_nisS, tw_ntext, tw_nfar, tw_nmk, tw_nstk, tw_ncmd, tw_ck, tw_am, tw_aold, tw_asaved, tw_aisS, tw_atext, tw_afar, tw_amk, tw_astk, tw_acmd, tw_sm, tw_sold, tw_ssaved, tw_sisS, tw_stext, tw_sfar, tw_smk, tw_sstk, tw_scmd, tw_ptl, tw_prf_, tw_ptop, tw_phi, tw_pov, tw_pcm, tw_pat_, tw_pft, tw_phs, tw_zov, J_add, J_sub, J_mul, J_neg, J_lit, J_lt, J_le, J_eq, Int.reduceAdd, Int.reduceSub, Int.reduceMul, Int.reduceNeg, Int.reduceEq, Int.reduceLT, Int.reduceLE, reduceIte, Int.zero_add, Int.add_zero, and_self, true_and, and_true, false_and, and_false, or_true, true_or, or_false, false_or, not_true_eq_false, not_false_eq_true, ne_eq, b2_s, if_neg c, hd, tm_fails f1 f2, tm_blanks h h1 h2]
    · rw [if_neg c2] at hd
      rw [if_neg (c := at_ = b ∨ (48 ≤ nx9 text tl at_ ∧ nx9 text tl at_ ≤ 57)) (fun q => q.elim c c2)]
      simp (disch := omega) only [Option.bind_some, tw_gm, tw_gold, tw_gsaved, tw_gisS, tw_gtext, tw_gtl, tw_grf_, tw_gfar, tw_gmk, tw_gstk, tw_gtop, tw_ghi, tw_gov, tw_gcmd, tw_gcm, tw_gat_, tw_gft, tw_ghs, tw_nm, tw_nold, tw_nsaved, tw_nisS, tw_ntext, tw_nfar, tw_nmk, tw_nstk, tw_ncmd, tw_ck, tw_am, tw_aold, tw_asaved, tw_aisS, tw_atext, tw_afar, tw_amk, tw_astk, tw_acmd, tw_sm, tw_sold, tw_ssaved, tw_sisS, tw_stext, tw_sfar, tw_smk, tw_sstk, tw_scmd, tw_ptl, tw_prf_, tw_ptop, tw_phi, tw_pov, tw_pcm, tw_pat_, tw_pft, tw_phs, tw_zov, J_add, J_sub, J_mul, J_neg, J_lit, J_lt, J_le, J_eq, Int.reduceAdd, Int.reduceSub, Int.reduceMul, Int.reduceNeg, Int.reduceEq, Int.reduceLT, Int.reduceLE, reduceIte, Int.zero_add, Int.add_zero, and_self, true_and, and_true, false_and, and_false, or_true, true_or, or_false, false_or, not_true_eq_false, not_false_eq_true, ne_eq, b2_s, if_neg c, hd, tm_blanks h h1 h2]
theorem tm_number (h : tx9 text tl) (h1 : 0 ≤ at_) (h2 : at_ ≤ tl) : f_X2_number t (tput t m old saved isS text tl rf_ far mk stk top hi ov cmd cm at_ (-1) hs σ) = some (J (ns9 text tl 3 at_ 0).2, (tput t m old saved isS text tl rf_ far mk stk top hi ov cmd cm (bk9 text tl (ns9 text tl 3 at_ 0).1) (if (ns9 text tl 3 at_ 0).1 = at_ ∨ (48 ≤ nx9 text tl (ns9 text tl 3 at_ 0).1 ∧ nx9 text tl (ns9 text tl 3 at_ 0).1 ≤ 57) then (ns9 text tl 3 at_ 0).1 else -1) hs σ)) := by
  have ht := h.2.1
  unfold f_X2_number g_X2_number_0
  rw [tw_gat_, Option.bind_some, lgo_l, J_lit]
  have key : ∀ (n : Nat) (a v : Int), at_ ≤ a → a ≤ tl → a + n = at_ + 3 → lpx (s_X2_number t) (J at_, J v, (tput t m old saved isS text tl rf_ far mk stk top hi ov cmd cm a (-1) hs σ)) = some (J (ns9 text tl n a v).2, (tput t m old saved isS text tl rf_ far mk stk top hi ov cmd cm (bk9 text tl (ns9 text tl n a v).1) (if (ns9 text tl n a v).1 = at_ ∨ (48 ≤ nx9 text tl (ns9 text tl n a v).1 ∧ nx9 text tl (ns9 text tl n a v).1 ≤ 57) then (ns9 text tl n a v).1 else -1) hs σ)) := by
    intro n
    induction n with
    | zero =>
      intro a v a1 a2 a3
      have hd := tm_isDigit (t := t) (m := m) (old := old) (saved := saved) (isS := isS) (text := text) (tl := tl) (rf_ := rf_) (far := far) (mk := mk) (stk := stk) (top := top) (hi := hi) (ov := ov) (cmd := cmd) (cm := cm) (at_ := a) (ft := -1) (hs := hs) (σ := σ) h (by omega) (by omega)
      have he := tm_number58 (t := t) (m := m) (old := old) (saved := saved) (isS := isS) (text := text) (tl := tl) (rf_ := rf_) (far := far) (mk := mk) (stk := stk) (top := top) (hi := hi) (ov := ov) (cmd := cmd) (cm := cm) (at_ := a) (ft := -1) (hs := hs) (σ := σ) h (by omega) a2 (by omega) (by omega) (b := at_) h1 (by omega) (v := J v)
      refine lpx_d ?_
      unfold s_X2_number g_X2_number_7 ns9
      by_cases c : 48 ≤ nx9 text tl a ∧ nx9 text tl a ≤ 57
      · rw [if_pos c] at hd
        simp (disch := omega) only [Option.bind_some, tw_gm, tw_gold, tw_gsaved, tw_gisS, tw_gtext, tw_gtl, tw_grf_, tw_gfar, tw_gmk, tw_gstk, tw_gtop, tw_ghi, tw_gov, tw_gcmd, tw_gcm, tw_gat_, tw_gft, tw_ghs, tw_nm, tw_nold, tw_nsaved, tw_nisS, tw_ntext, tw_nfar, tw_nmk, tw_nstk, tw_ncmd, tw_ck, tw_am, tw_aold, tw_asaved, tw_aisS, tw_atext, tw_afar, tw_amk, tw_astk, tw_acmd, tw_sm, tw_sold, tw_ssaved, tw_sisS, tw_stext, tw_sfar, tw_smk, tw_sstk, tw_scmd, tw_ptl, tw_prf_, tw_ptop, tw_phi, tw_pov, tw_pcm, tw_pat_, tw_pft, tw_phs, tw_zov, J_add, J_sub, J_mul, J_neg, J_lit, J_lt, J_le, J_eq, Int.reduceAdd, Int.reduceSub, Int.reduceMul, Int.reduceNeg, Int.reduceEq, Int.reduceLT, Int.reduceLE, reduceIte, Int.zero_add, Int.add_zero, and_self, true_and, and_true, false_and, and_false, or_true, true_or, or_false, false_or, not_true_eq_false, not_false_eq_true, ne_eq, b2_s, hd, if_pos (show at_ + 3 ≤ a by omega), he]
      · rw [if_neg c] at hd
        simp (disch := omega) only [Option.bind_some, tw_gm, tw_gold, tw_gsaved, tw_gisS, tw_gtext, tw_gtl, tw_grf_, tw_gfar, tw_gmk, tw_gstk, tw_gtop, tw_ghi, tw_gov, tw_gcmd, tw_gcm, tw_gat_, tw_gft, tw_ghs, tw_nm, tw_nold, tw_nsaved, tw_nisS, tw_ntext, tw_nfar, tw_nmk, tw_nstk, tw_ncmd, tw_ck, tw_am, tw_aold, tw_asaved, tw_aisS, tw_atext, tw_afar, tw_amk, tw_astk, tw_acmd, tw_sm, tw_sold, tw_ssaved, tw_sisS, tw_stext, tw_sfar, tw_smk, tw_sstk, tw_scmd, tw_ptl, tw_prf_, tw_ptop, tw_phi, tw_pov, tw_pcm, tw_pat_, tw_pft, tw_phs, tw_zov, J_add, J_sub, J_mul, J_neg, J_lit, J_lt, J_le, J_eq, Int.reduceAdd, Int.reduceSub, Int.reduceMul, Int.reduceNeg, Int.reduceEq, Int.reduceLT, Int.reduceLE, reduceIte, Int.zero_add, Int.add_zero, and_self, true_and, and_true, false_and, and_false, or_true, true_or, or_false, false_or, not_true_eq_false, not_false_eq_true, ne_eq, b2_s, hd, he]
    | succ n ih =>
      intro a v a1 a2 a3
      have hd := tm_isDigit (t := t) (m := m) (old := old) (saved := saved) (isS := isS) (text := text) (tl := tl) (rf_ := rf_) (far := far) (mk := mk) (stk := stk) (top := top) (hi := hi) (ov := ov) (cmd := cmd) (cm := cm) (at_ := a) (ft := -1) (hs := hs) (σ := σ) h (by omega) (by omega)
      have he := tm_number58 (t := t) (m := m) (old := old) (saved := saved) (isS := isS) (text := text) (tl := tl) (rf_ := rf_) (far := far) (mk := mk) (stk := stk) (top := top) (hi := hi) (ov := ov) (cmd := cmd) (cm := cm) (at_ := a) (ft := -1) (hs := hs) (σ := σ) h (by omega) a2 (by omega) (by omega) (b := at_) h1 (by omega) (v := J v)
      unfold ns9
      by_cases c : 48 ≤ nx9 text tl a ∧ nx9 text tl a ≤ 57
      · rw [if_pos c] at hd
        have hlt := dg_lt c.1
        rw [if_pos c, lpx_n (s' := (J at_, J (10 * v + nx9 text tl a - 48), (tput t m old saved isS text tl rf_ far mk stk top hi ov cmd cm (a + 1) (-1) hs σ))) (by
          unfold s_X2_number g_X2_number_7
          simp (disch := omega) only [Option.bind_some, tw_gm, tw_gold, tw_gsaved, tw_gisS, tw_gtext, tw_gtl, tw_grf_, tw_gfar, tw_gmk, tw_gstk, tw_gtop, tw_ghi, tw_gov, tw_gcmd, tw_gcm, tw_gat_, tw_gft, tw_ghs, tw_nm, tw_nold, tw_nsaved, tw_nisS, tw_ntext, tw_nfar, tw_nmk, tw_nstk, tw_ncmd, tw_ck, tw_am, tw_aold, tw_asaved, tw_aisS, tw_atext, tw_afar, tw_amk, tw_astk, tw_acmd, tw_sm, tw_sold, tw_ssaved, tw_sisS, tw_stext, tw_sfar, tw_smk, tw_sstk, tw_scmd, tw_ptl, tw_prf_, tw_ptop, tw_phi, tw_pov, tw_pcm, tw_pat_, tw_pft, tw_phs, tw_zov, J_add, J_sub, J_mul, J_neg, J_lit, J_lt, J_le, J_eq, Int.reduceAdd, Int.reduceSub, Int.reduceMul, Int.reduceNeg, Int.reduceEq, Int.reduceLT, Int.reduceLE, reduceIte, Int.zero_add, Int.add_zero, and_self, true_and, and_true, false_and, and_false, or_true, true_or, or_false, false_or, not_true_eq_false, not_false_eq_true, ne_eq, b2_s, hd, if_neg (show ¬ at_ + 3 ≤ a by omega), tm_nx h (show 0 ≤ a by omega) (show a ≤ 80 by omega)])]
        exact ih (a + 1) _ (by omega) (by omega) (by omega)
      · rw [if_neg c] at hd
        rw [if_neg c]
        refine lpx_d ?_
        unfold s_X2_number g_X2_number_7
        simp (disch := omega) only [Option.bind_some, tw_gm, tw_gold, tw_gsaved, tw_gisS, tw_gtext, tw_gtl, tw_grf_, tw_gfar, tw_gmk, tw_gstk, tw_gtop, tw_ghi, tw_gov, tw_gcmd, tw_gcm, tw_gat_, tw_gft, tw_ghs, tw_nm, tw_nold, tw_nsaved, tw_nisS, tw_ntext, tw_nfar, tw_nmk, tw_nstk, tw_ncmd, tw_ck, tw_am, tw_aold, tw_asaved, tw_aisS, tw_atext, tw_afar, tw_amk, tw_astk, tw_acmd, tw_sm, tw_sold, tw_ssaved, tw_sisS, tw_stext, tw_sfar, tw_smk, tw_sstk, tw_scmd, tw_ptl, tw_prf_, tw_ptop, tw_phi, tw_pov, tw_pcm, tw_pat_, tw_pft, tw_phs, tw_zov, J_add, J_sub, J_mul, J_neg, J_lit, J_lt, J_le, J_eq, Int.reduceAdd, Int.reduceSub, Int.reduceMul, Int.reduceNeg, Int.reduceEq, Int.reduceLT, Int.reduceLE, reduceIte, Int.zero_add, Int.add_zero, and_self, true_and, and_true, false_and, and_false, or_true, true_or, or_false, false_or, not_true_eq_false, not_false_eq_true, ne_eq, b2_s, hd, he]
  exact key 3 at_ 0 (by omega) h2 (by omega)
theorem tm_numberF (h : tx9 text tl) (h1 : 0 ≤ at_) (h2 : at_ ≤ tl) (f1 : 0 ≤ ft) (f2 : ft ≤ 80) : f_X2_number t (tput t m old saved isS text tl rf_ far mk stk top hi ov cmd cm at_ ft hs σ) = some (J 0, (tput t m old saved isS text tl rf_ far mk stk top hi ov cmd cm (bk9 text tl at_) ft hs σ)) := by
  have ht := h.2.1
  have he := tm_number58 (t := t) (m := m) (old := old) (saved := saved) (isS := isS) (text := text) (tl := tl) (rf_ := rf_) (far := far) (mk := mk) (stk := stk) (top := top) (hi := hi) (ov := ov) (cmd := cmd) (cm := cm) (at_ := at_) (ft := ft) (hs := hs) (σ := σ) h h1 h2 (by omega) f2 (b := at_) h1 (by omega) (v := J 0)
  rw [if_pos (Or.inl rfl), if_neg (show ¬ ft = -1 by omega)] at he
  unfold f_X2_number g_X2_number_0
  rw [tw_gat_, Option.bind_some, lgo_l, J_lit]
  refine lpx_d ?_
  unfold s_X2_number g_X2_number_7
  simp (disch := omega) only [Option.bind_some, tw_gm, tw_gold, tw_gsaved, tw_gisS, tw_gtext, tw_gtl, tw_grf_, tw_gfar, tw_gmk, tw_gstk, tw_gtop, tw_ghi, tw_gov, tw_gcmd, tw_gcm, tw_gat_, tw_gft, tw_ghs, tw_nm, tw_nold, tw_nsaved, tw_nisS, tw_ntext, tw_nfar, tw_nmk, tw_nstk, tw_ncmd, tw_ck, tw_am, tw_aold, tw_asaved, tw_aisS, tw_atext, tw_afar, tw_amk, tw_astk, tw_acmd, tw_sm, tw_sold, tw_ssaved, tw_sisS, tw_stext, tw_sfar, tw_smk, tw_sstk, tw_scmd, tw_ptl, tw_prf_, tw_ptop, tw_phi, tw_pov, tw_pcm, tw_pat_, tw_pft, tw_phs, tw_zov, J_add, J_sub, J_mul, J_neg, J_lit, J_lt, J_le, J_eq, Int.reduceAdd, Int.reduceSub, Int.reduceMul, Int.reduceNeg, Int.reduceEq, Int.reduceLT, Int.reduceLE, reduceIte, Int.zero_add, Int.add_zero, and_self, true_and, and_true, false_and, and_false, or_true, true_or, or_false, false_or, not_true_eq_false, not_false_eq_true, ne_eq, b2_s, if_neg (show ¬ ft = -1 by omega), he]
theorem tm_place (h : tx9 text tl) (h1 : 0 ≤ at_) (h2 : at_ ≤ tl) : f_X2_place t (tput t m old saved isS text tl rf_ far mk stk top hi ov cmd cm at_ (-1) hs σ) = some (if nx9 text tl at_ = 45 then (J (-1), (tput t m old saved isS text tl rf_ far mk stk top hi ov cmd cm (bk9 text tl (at_ + 1)) (-1) hs σ)) else (J (ns9 text tl 3 at_ 0).2, (tput t m old saved isS text tl rf_ far mk stk top hi ov cmd cm (bk9 text tl (ns9 text tl 3 at_ 0).1) (if (ns9 text tl 3 at_ 0).1 = at_ ∨ (48 ≤ nx9 text tl (ns9 text tl 3 at_ 0).1 ∧ nx9 text tl (ns9 text tl 3 at_ 0).1 ≤ 57) then (ns9 text tl 3 at_ 0).1 else -1) hs σ))) := by
  have ht := h.2.1
  have hb := nx9_b h h1
  unfold f_X2_place
  by_cases c : nx9 text tl at_ = 45
  · rw [if_pos c]
    have hlt : at_ < tl := by
      unfold nx9 at c
      by_cases d : tl ≤ at_
      · rw [if_pos d] at c; omega
      · omega
    simp (disch := omega) only [Option.bind_some, tw_gm, tw_gold, tw_gsaved, tw_gisS, tw_gtext, tw_gtl, tw_grf_, tw_gfar, tw_gmk, tw_gstk, tw_gtop, tw_ghi, tw_gov, tw_gcmd, tw_gcm, tw_gat_, tw_gft, tw_ghs, tw_nm, tw_nold, tw_nsaved, tw_nisS, tw_ntext, tw_nfar, tw_nmk, tw_nstk, tw_ncmd, tw_ck, tw_am, tw_aold, tw_asaved, tw_aisS, tw_atext, tw_afar, tw_amk, tw_astk, tw_acmd, tw_sm, tw_sold, tw_ssaved, tw_sisS, tw_stext, tw_sfar, tw_smk, tw_sstk, tw_scmd, tw_ptl, tw_prf_, tw_ptop, tw_phi, tw_pov, tw_pcm, tw_pat_, tw_pft, tw_phs, tw_zov, J_add, J_sub, J_mul, J_neg, J_lit, J_lt, J_le, J_eq, Int.reduceAdd, Int.reduceSub, Int.reduceMul, Int.reduceNeg, Int.reduceEq, Int.reduceLT, Int.reduceLE, reduceIte, Int.zero_add, Int.add_zero, and_self, true_and, and_true, false_and, and_false, or_true, true_or, or_false, false_or, not_true_eq_false, not_false_eq_true, ne_eq, b2_s, tm_nx h h1 (show at_ ≤ 80 by omega), if_pos c, tm_blanks h (show 0 ≤ at_ + 1 by omega) (show at_ + 1 ≤ tl by omega)]
  · rw [if_neg c]
    simp (disch := omega) only [Option.bind_some, tw_gm, tw_gold, tw_gsaved, tw_gisS, tw_gtext, tw_gtl, tw_grf_, tw_gfar, tw_gmk, tw_gstk, tw_gtop, tw_ghi, tw_gov, tw_gcmd, tw_gcm, tw_gat_, tw_gft, tw_ghs, tw_nm, tw_nold, tw_nsaved, tw_nisS, tw_ntext, tw_nfar, tw_nmk, tw_nstk, tw_ncmd, tw_ck, tw_am, tw_aold, tw_asaved, tw_aisS, tw_atext, tw_afar, tw_amk, tw_astk, tw_acmd, tw_sm, tw_sold, tw_ssaved, tw_sisS, tw_stext, tw_sfar, tw_smk, tw_sstk, tw_scmd, tw_ptl, tw_prf_, tw_ptop, tw_phi, tw_pov, tw_pcm, tw_pat_, tw_pft, tw_phs, tw_zov, J_add, J_sub, J_mul, J_neg, J_lit, J_lt, J_le, J_eq, Int.reduceAdd, Int.reduceSub, Int.reduceMul, Int.reduceNeg, Int.reduceEq, Int.reduceLT, Int.reduceLE, reduceIte, Int.zero_add, Int.add_zero, and_self, true_and, and_true, false_and, and_false, or_true, true_or, or_false, false_or, not_true_eq_false, not_false_eq_true, ne_eq, b2_s, tm_nx h h1 (show at_ ≤ 80 by omega), if_neg c, tm_number h h1 h2]
theorem tm_placeF (h : tx9 text tl) (h1 : 0 ≤ at_) (h2 : at_ ≤ tl) (f1 : 0 ≤ ft) (f2 : ft ≤ 80) : f_X2_place t (tput t m old saved isS text tl rf_ far mk stk top hi ov cmd cm at_ ft hs σ) = some (J 0, (tput t m old saved isS text tl rf_ far mk stk top hi ov cmd cm (bk9 text tl at_) ft hs σ)) := by
  unfold f_X2_place
  simp (disch := omega) only [Option.bind_some, tw_gm, tw_gold, tw_gsaved, tw_gisS, tw_gtext, tw_gtl, tw_grf_, tw_gfar, tw_gmk, tw_gstk, tw_gtop, tw_ghi, tw_gov, tw_gcmd, tw_gcm, tw_gat_, tw_gft, tw_ghs, tw_nm, tw_nold, tw_nsaved, tw_nisS, tw_ntext, tw_nfar, tw_nmk, tw_nstk, tw_ncmd, tw_ck, tw_am, tw_aold, tw_asaved, tw_aisS, tw_atext, tw_afar, tw_amk, tw_astk, tw_acmd, tw_sm, tw_sold, tw_ssaved, tw_sisS, tw_stext, tw_sfar, tw_smk, tw_sstk, tw_scmd, tw_ptl, tw_prf_, tw_ptop, tw_phi, tw_pov, tw_pcm, tw_pat_, tw_pft, tw_phs, tw_zov, J_add, J_sub, J_mul, J_neg, J_lit, J_lt, J_le, J_eq, Int.reduceAdd, Int.reduceSub, Int.reduceMul, Int.reduceNeg, Int.reduceEq, Int.reduceLT, Int.reduceLE, reduceIte, Int.zero_add, Int.add_zero, and_self, true_and, and_true, false_and, and_false, or_true, true_or, or_false, false_or, not_true_eq_false, not_false_eq_true, ne_eq, b2_s, if_neg (show ¬ ft = -1 by omega), tm_numberF h h1 h2 f1 f2]
end TA
