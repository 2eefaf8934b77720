/-! PLAIN LAW: the twin's reader, first part. NAMES: nx9 bk9 dg9, tm_ -/
set_option maxRecDepth 100000
/-- the sign at a; none -/
def nx9 (text : Int → Int) (tl a : Int) : Int := if tl ≤ a then -1 else text a
/-- behind blanks -/
def bkn (text : Int → Int) (tl : Int) : Nat → Int → Int
  | 0, a => a
  | n + 1, a => if nx9 text tl a = 32 then bkn text tl n (a + 1) else a
def bk9 (text : Int → Int) (tl a : Int) : Int := bkn text tl 80 a
def tx9 (text : Int → Int) (tl : Int) : Prop := 0 ≤ tl ∧ tl ≤ 80 ∧ ∀ k, 0 ≤ k → k < tl → 0 ≤ text k ∧ text k ≤ 127
theorem nx9_b {text : Int → Int} {tl a : Int} (h : tx9 text tl) (ha : 0 ≤ a) : -1 ≤ nx9 text tl a ∧ nx9 text tl a ≤ 127 := by
  unfold nx9
  by_cases c : tl ≤ a
  · rw [if_pos c]; omega
  · rw [if_neg c]
    have := h.2.2 a ha (by omega)
    omega
theorem bkn_b {text : Int → Int} {tl : Int} (n : Nat) (a : Int) : a ≤ bkn text tl n a ∧ (a ≤ tl → bkn text tl n a ≤ tl) := by
  induction n generalizing a with
  | zero => exact ⟨Int.le_refl _, fun h => h⟩
  | succ n ih =>
    unfold bkn
    by_cases c : nx9 text tl a = 32
    · rw [if_pos c]
      have hlt : a < tl := by
        unfold nx9 at c
        by_cases d : tl ≤ a
        · rw [if_pos d] at c; omega
        · omega
      have := ih (a + 1)
      exact ⟨by omega, fun _ => this.2 (by omega)⟩
    · rw [if_neg c]
      exact ⟨Int.le_refl _, fun h => h⟩
theorem bk9_b {text : Int → Int} {tl a : Int} (h : a ≤ tl) : a ≤ bk9 text tl a ∧ bk9 text tl a ≤ tl := ⟨(bkn_b 80 a).1, (bkn_b 80 a).2 h⟩
section T9
variable {t : Nat} {m old saved isS text far mk stk cmd : Int → Int} {tl rf_ top hi ov cm at_ ft : Int} {hs : Int64} {σ : mm_M}
theorem tm_nx (h : tx9 text tl) (h1 : 0 ≤ at_) (h2 : at_ ≤ 80) : f_X2_next_2 t (tput t m old saved isS text tl rf_ far mk stk top hi ov cmd cm at_ ft hs σ) = some (J (nx9 text tl at_)) := by
  obtain ⟨t1, t2, t3⟩ := h
  unfold f_X2_next_2 nx9
  by_cases c : tl ≤ at_
  · simp (disch := omega) only [Option.bind_some, tw_gm, tw_gold, tw_gsaved, tw_gisS, tw_gtext, tw_gtl, tw_grf_, tw_gfar, tw_gmk, tw_gstk, tw_gtop, tw_ghi, tw_gov, tw_gcmd, tw_gcm, tw_gat_, tw_gft, tw_ghs, tw_nm, tw_nold, tw_nsaved, tw_nisS, tw_ntext, tw_nfar, tw_nmk, tw_nstk, tw_ncmd, tw_ck, tw_am, tw_aold, tw_asaved, tw_aisS, tw_atext, tw_afar, tw_amk, tw_astk, tw_acmd, tw_sm, tw_sold, tw_ssaved, tw_sisS, tw_stext, tw_sfar, tw_smk, tw_sstk, tw_scmd, tw_ptl, tw_prf_, tw_ptop, tw_phi, tw_pov, tw_pcm, tw_pat_, tw_pft, tw_phs, tw_zov, J_add, J_sub, J_mul, J_neg, J_lit, J_lt, J_le, J_eq, Int.reduceAdd, Int.reduceSub, Int.reduceMul, Int.reduceNeg, Int.reduceEq, Int.reduceLT, Int.reduceLE, reduceIte, Int.zero_add, Int.add_zero, and_self, true_and, and_true, false_and, and_false, or_true, true_or, or_false, false_or, not_true_eq_false, not_false_eq_true, ne_eq, b2_s, if_pos c]
  · simp (disch := omega) only [Option.bind_some, tw_gm, tw_gold, tw_gsaved, tw_gisS, tw_gtext, tw_gtl, tw_grf_, tw_gfar, tw_gmk, tw_gstk, tw_gtop, tw_ghi, tw_gov, tw_gcmd, tw_gcm, tw_gat_, tw_gft, tw_ghs, tw_nm, tw_nold, tw_nsaved, tw_nisS, tw_ntext, tw_nfar, tw_nmk, tw_nstk, tw_ncmd, tw_ck, tw_am, tw_aold, tw_asaved, tw_aisS, tw_atext, tw_afar, tw_amk, tw_astk, tw_acmd, tw_sm, tw_sold, tw_ssaved, tw_sisS, tw_stext, tw_sfar, tw_smk, tw_sstk, tw_scmd, tw_ptl, tw_prf_, tw_ptop, tw_phi, tw_pov, tw_pcm, tw_pat_, tw_pft, tw_phs, tw_zov, J_add, J_sub, J_mul, J_neg, J_lit, J_lt, J_le, J_eq, Int.reduceAdd, Int.reduceSub, Int.reduceMul, Int.reduceNeg, Int.reduceEq, Int.reduceLT, Int.reduceLE, reduceIte, Int.zero_add, Int.add_zero, and_self, true_and, and_true, false_and, and_false, or_true, true_or, or_false, false_or, not_true_eq_false, not_false_eq_true, ne_eq, b2_s, if_neg c]
theorem tm_isDigit (h : tx9 text tl) (h1 : 0 ≤ at_) (h2 : at_ ≤ 80) : f_X2_isDigit t (tput t m old saved isS text tl rf_ far mk stk top hi ov cmd cm at_ ft hs σ) = some (J (if 48 ≤ nx9 text tl at_ ∧ nx9 text tl at_ ≤ 57 then 1 else 0)) := by
  have hb := nx9_b h h1
  have hin := t_in (a := nx9 text tl at_) (b := 48) (c := 57) (by unfold ir; omega) (by unfold ir; omega) (by unfold ir; omega) (σ := (tput t m old saved isS text tl rf_ far mk stk top hi ov cmd cm at_ ft hs σ))
  unfold f_X2_isDigit
  rw [tw_ck, Option.bind_some, tm_nx h h1 h2, Option.bind_some, J_lit, J_lit, hin, Option.bind_some]
  by_cases c : 48 ≤ nx9 text tl at_ ∧ nx9 text tl at_ ≤ 57
  · rw [if_pos c, grd_s (show J 1 = 0 ∨ J 1 = 1 from Or.inr rfl)]
    rfl
  · rw [if_neg c, grd_s (show J 0 = 0 ∨ J 0 = 1 from Or.inl rfl)]
    rfl
theorem tm_fails (h1 : -1 ≤ ft) (h2 : ft ≤ 80) : f_X2_fails t (tput t m old saved isS text tl rf_ far mk stk top hi ov cmd cm at_ ft hs σ) = some (tput t m old saved isS text tl rf_ far mk stk top hi ov cmd cm at_ (if ft = -1 then at_ else ft) hs σ) := by
  unfold f_X2_fails
  by_cases c : ft = -1
  · simp (disch := omega) only [Option.bind_some, tw_gm, tw_gold, tw_gsaved, tw_gisS, tw_gtext, tw_gtl, tw_grf_, tw_gfar, tw_gmk, tw_gstk, tw_gtop, tw_ghi, tw_gov, tw_gcmd, tw_gcm, tw_gat_, tw_gft, tw_ghs, tw_nm, tw_nold, tw_nsaved, tw_nisS, tw_ntext, tw_nfar, tw_nmk, tw_nstk, tw_ncmd, tw_ck, tw_am, tw_aold, tw_asaved, tw_aisS, tw_atext, tw_afar, tw_amk, tw_astk, tw_acmd, tw_sm, tw_sold, tw_ssaved, tw_sisS, tw_stext, tw_sfar, tw_smk, tw_sstk, tw_scmd, tw_ptl, tw_prf_, tw_ptop, tw_phi, tw_pov, tw_pcm, tw_pat_, tw_pft, tw_phs, tw_zov, J_add, J_sub, J_mul, J_neg, J_lit, J_lt, J_le, J_eq, Int.reduceAdd, Int.reduceSub, Int.reduceMul, Int.reduceNeg, Int.reduceEq, Int.reduceLT, Int.reduceLE, reduceIte, Int.zero_add, Int.add_zero, and_self, true_and, and_true, false_and, and_false, or_true, true_or, or_false, false_or, not_true_eq_false, not_false_eq_true, ne_eq, b2_s, if_pos c]
  · simp (disch := omega) only [Option.bind_some, tw_gm, tw_gold, tw_gsaved, tw_gisS, tw_gtext, tw_gtl, tw_grf_, tw_gfar, tw_gmk, tw_gstk, tw_gtop, tw_ghi, tw_gov, tw_gcmd, tw_gcm, tw_gat_, tw_gft, tw_ghs, tw_nm, tw_nold, tw_nsaved, tw_nisS, tw_ntext, tw_nfar, tw_nmk, tw_nstk, tw_ncmd, tw_ck, tw_am, tw_aold, tw_asaved, tw_aisS, tw_atext, tw_afar, tw_amk, tw_astk, tw_acmd, tw_sm, tw_sold, tw_ssaved, tw_sisS, tw_stext, tw_sfar, tw_smk, tw_sstk, tw_scmd, tw_ptl, tw_prf_, tw_ptop, tw_phi, tw_pov, tw_pcm, tw_pat_, tw_pft, tw_phs, tw_zov, J_add, J_sub, J_mul, J_neg, J_lit, J_lt, J_le, J_eq, Int.reduceAdd, Int.reduceSub, Int.reduceMul, Int.reduceNeg, Int.reduceEq, Int.reduceLT, Int.reduceLE, reduceIte, Int.zero_add, Int.add_zero, and_self, true_and, and_true, false_and, and_false, or_true, true_or, or_false, false_or, not_true_eq_false, not_false_eq_true, ne_eq, b2_s, if_neg c]
theorem tm_blanks (h : tx9 text tl) (h1 : 0 ≤ at_) (h2 : at_ ≤ tl) : f_X2_blanks t (tput t m old saved isS text tl rf_ far mk stk top hi ov cmd cm at_ ft hs σ) = some (tput t m old saved isS text tl rf_ far mk stk top hi ov cmd cm (bk9 text tl at_) ft hs σ) := by
  have ht := h.2.1
  unfold f_X2_blanks
  rw [lgo_l]
  have key : ∀ (n : Nat) (a : Int), 0 ≤ a → a ≤ tl → tl - a ≤ n → lpx (s_X2_blanks t) (tput t m old saved isS text tl rf_ far mk stk top hi ov cmd cm a ft hs σ) = some (tput t m old saved isS text tl rf_ far mk stk top hi ov cmd cm (bkn text tl n a) ft hs σ) := by
    intro n
    induction n with
    | zero =>
      intro a a1 a2 a3
      have hn : nx9 text tl a = -1 := by unfold nx9; rw [if_pos (by omega)]
      refine lpx_d ?_
      unfold s_X2_blanks g_X2_blanks_0 bkn
      simp (disch := omega) only [Option.bind_some, tw_gm, tw_gold, tw_gsaved, tw_gisS, tw_gtext, tw_gtl, tw_grf_, tw_gfar, tw_gmk, tw_gstk, tw_gtop, tw_ghi, tw_gov, tw_gcmd, tw_gcm, tw_gat_, tw_gft, tw_ghs, tw_nm, tw_nold, tw_nsaved, tw_nisS, tw_ntext, tw_nfar, tw_nmk, tw_nstk, tw_ncmd, tw_ck, tw_am, tw_aold, tw_asaved, tw_aisS, tw_atext, tw_afar, tw_amk, tw_astk, tw_acmd, tw_sm, tw_sold, tw_ssaved, tw_sisS, tw_stext, tw_sfar, tw_smk, tw_sstk, tw_scmd, tw_ptl, tw_prf_, tw_ptop, tw_phi, tw_pov, tw_pcm, tw_pat_, tw_pft, tw_phs, tw_zov, J_add, J_sub, J_mul, J_neg, J_lit, J_lt, J_le, J_eq, Int.reduceAdd, Int.reduceSub, Int.reduceMul, Int.reduceNeg, Int.reduceEq, Int.reduceLT, Int.reduceLE, reduceIte, Int.zero_add, Int.add_zero, and_self, true_and, and_true, false_and, and_false, or_true, true_or, or_false, false_or, not_true_eq_false, not_false_eq_true, ne_eq, b2_s, tm_nx h a1 (show a ≤ 80 by omega), hn]
    | succ n ih =>
      intro a a1 a2 a3
      have hb := nx9_b h a1
      unfold bkn
      by_cases c : nx9 text tl a = 32
      · rw [if_pos c]
        have hlt : a < tl := by
          unfold nx9 at c
          by_cases d : tl ≤ a
          · rw [if_pos d] at c; omega
          · omega
        rw [lpx_n (s' := (tput t m old saved isS text tl rf_ far mk stk top hi ov cmd cm (a + 1) ft hs σ)) (by
          unfold s_X2_blanks g_X2_blanks_0
          simp (disch := omega) only [Option.bind_some, tw_gm, tw_gold, tw_gsaved, tw_gisS, tw_gtext, tw_gtl, tw_grf_, tw_gfar, tw_gmk, tw_gstk, tw_gtop, tw_ghi, tw_gov, tw_gcmd, tw_gcm, tw_gat_, tw_gft, tw_ghs, tw_nm, tw_nold, tw_nsaved, tw_nisS, tw_ntext, tw_nfar, tw_nmk, tw_nstk, tw_ncmd, tw_ck, tw_am, tw_aold, tw_asaved, tw_aisS, tw_atext, tw_afar, tw_amk, tw_astk, tw_acmd, tw_sm, tw_sold, tw_ssaved, tw_sisS, tw_stext, tw_sfar, tw_smk, tw_sstk, tw_scmd, tw_ptl, tw_prf_, tw_ptop, tw_phi, tw_pov, tw_pcm, tw_pat_, tw_pft, tw_phs, tw_zov, J_add, J_sub, J_mul, J_neg, J_lit, J_lt, J_le, J_eq, Int.reduceAdd, Int.reduceSub, Int.reduceMul, Int.reduceNeg, Int.reduceEq, Int.reduceLT, Int.reduceLE, reduceIte, Int.zero_add, Int.add_zero, and_self, true_and, and_true, false_and, and_false, or_true, true_or, or_false, false_or, not_true_eq_false, not_false_eq_true, ne_eq, b2_s, tm_nx h a1 (show a ≤ 80 by omega), if_pos c])]
        exact ih (a + 1) (by omega) (by omega) (by omega)
      · rw [if_neg c]
        refine lpx_d ?_
        unfold s_X2_blanks g_X2_blanks_0
        simp (disch := omega) only [Option.bind_some, tw_gm, tw_gold, tw_gsaved, tw_gisS, tw_gtext, tw_gtl, tw_grf_, tw_gfar, tw_gmk, tw_gstk, tw_gtop, tw_ghi, tw_gov, tw_gcmd, tw_gcm, tw_gat_, tw_gft, tw_ghs, tw_nm, tw_nold, tw_nsaved, tw_nisS, tw_ntext, tw_nfar, tw_nmk, tw_nstk, tw_ncmd, tw_ck, tw_am, tw_aold, tw_asaved, tw_aisS, tw_atext, tw_afar, tw_amk, tw_astk, tw_acmd, tw_sm, tw_sold, tw_ssaved, tw_sisS, tw_stext, tw_sfar, tw_smk, tw_sstk, tw_scmd, tw_ptl, tw_prf_, tw_ptop, tw_phi, tw_pov, tw_pcm, tw_pat_, tw_pft, tw_phs, tw_zov, J_add, J_sub, J_mul, J_neg, J_lit, J_lt, J_le, J_eq, Int.reduceAdd, Int.reduceSub, Int.reduceMul, Int.reduceNeg, Int.reduceEq, Int.reduceLT, Int.reduceLE, reduceIte, Int.zero_add, Int.add_zero, and_self, true_and, and_true, false_and, and_false, or_true, true_or, or_false, false_or, not_true_eq_false, not_false_eq_true, ne_eq, b2_s, tm_nx h a1 (show a ≤ 80 by omega), if_neg c]
  exact key 80 at_ h1 h2 (by omega)
theorem tm_gone {x : Int} (h1 : -1 ≤ x) (h2 : x < 200) : f_X2_gone t (J x) (tput t m old saved isS text tl rf_ far mk stk top hi ov cmd cm at_ ft hs σ) = some (J (if x = -1 then -1 else m (1000 + x))) := by
  unfold f_X2_gone
  by_cases c : x = -1
  · simp (disch := omega) only [Option.bind_some, tw_gm, tw_gold, tw_gsaved, tw_gisS, tw_gtext, tw_gtl, tw_grf_, tw_gfar, tw_gmk, tw_gstk, tw_gtop, tw_ghi, tw_gov, tw_gcmd, tw_gcm, tw_gat_, tw_gft, tw_ghs, tw_nm, tw_nold, tw_nsaved, tw_nisS, tw_ntext, tw_nfar, tw_nmk, tw_nstk, tw_ncmd, tw_ck, tw_am, tw_aold, tw_asaved, tw_aisS, tw_atext, tw_afar, tw_amk, tw_astk, tw_acmd, tw_sm, tw_sold, tw_ssaved, tw_sisS, tw_stext, tw_sfar, tw_smk, tw_sstk, tw_scmd, tw_ptl, tw_prf_, tw_ptop, tw_phi, tw_pov, tw_pcm, tw_pat_, tw_pft, tw_phs, tw_zov, J_add, J_sub, J_mul, J_neg, J_lit, J_lt, J_le, J_eq, Int.reduceAdd, Int.reduceSub, Int.reduceMul, Int.reduceNeg, Int.reduceEq, Int.reduceLT, Int.reduceLE, reduceIte, Int.zero_add, Int.add_zero, and_self, true_and, and_true, false_and, and_false, or_true, true_or, or_false, false_or, not_true_eq_false, not_false_eq_true, ne_eq, b2_s, if_pos c]
  · simp (disch := omega) only [Option.bind_some, tw_gm, tw_gold, tw_gsaved, tw_gisS, tw_gtext, tw_gtl, tw_grf_, tw_gfar, tw_gmk, tw_gstk, tw_gtop, tw_ghi, tw_gov, tw_gcmd, tw_gcm, tw_gat_, tw_gft, tw_ghs, tw_nm, tw_nold, tw_nsaved, tw_nisS, tw_ntext, tw_nfar, tw_nmk, tw_nstk, tw_ncmd, tw_ck, tw_am, tw_aold, tw_asaved, tw_aisS, tw_atext, tw_afar, tw_amk, tw_astk, tw_acmd, tw_sm, tw_sold, tw_ssaved, tw_sisS, tw_stext, tw_sfar, tw_smk, tw_sstk, tw_scmd, tw_ptl, tw_prf_, tw_ptop, tw_phi, tw_pov, tw_pcm, tw_pat_, tw_pft, tw_phs, tw_zov, J_add, J_sub, J_mul, J_neg, J_lit, J_lt, J_le, J_eq, Int.reduceAdd, Int.reduceSub, Int.reduceMul, Int.reduceNeg, Int.reduceEq, Int.reduceLT, Int.reduceLE, reduceIte, Int.zero_add, Int.add_zero, and_self, true_and, and_true, false_and, and_false, or_true, true_or, or_false, false_or, not_true_eq_false, not_false_eq_true, ne_eq, b2_s, if_neg c]
theorem tm_mixes {x : Int32} : f_X2_mixes t x (tput t m old saved isS text tl rf_ far mk stk top hi ov cmd cm at_ ft hs σ) = some (tput t m old saved isS text tl rf_ far mk stk top hi ov cmd cm at_ ft (31 * hs + x.toInt64) σ) := by
  unfold f_X2_mixes
  rw [tw_ghs, Option.bind_some, tw_phs, Option.bind_some]
theorem tm_digit (h : tx9 text tl) (h1 : 0 ≤ at_) (h2 : at_ ≤ tl) (f1 : -1 ≤ ft) (f2 : ft ≤ 80) : f_X2_digit t (tput t m old saved isS text tl rf_ far mk stk top hi ov cmd cm at_ ft hs σ) = some (if ft = -1 ∧ 48 ≤ nx9 text tl at_ ∧ nx9 text tl at_ ≤ 57 then (J (nx9 text tl at_ - 48), (tput t m old saved isS text tl rf_ far mk stk top hi ov cmd cm (bk9 text tl (at_ + 1)) ft hs σ)) else (J 0, (tput t m old saved isS text tl rf_ far mk stk top hi ov cmd cm at_ (if ft = -1 then at_ else ft) hs σ))) := by
  have ht := h.2.1
  have hb := nx9_b h h1
  have hd := tm_isDigit (t := t) (m := m) (old := old) (saved := saved) (isS := isS) (text := text) (tl := tl) (rf_ := rf_) (far := far) (mk := mk) (stk := stk) (top := top) (hi := hi) (ov := ov) (cmd := cmd) (cm := cm) (at_ := at_) (ft := ft) (hs := hs) (σ := σ) h h1 (by omega)
  unfold f_X2_digit
  by_cases c : ft = -1
  · by_cases c2 : 48 ≤ nx9 text tl at_ ∧ nx9 text tl at_ ≤ 57
    · rw [if_pos c2] at hd
      rw [if_pos (c := ft = -1 ∧ 48 ≤ nx9 text tl at_ ∧ nx9 text tl at_ ≤ 57) ⟨c, c2⟩]
      have hlt : at_ < tl := by
        have c3 := c2.1
        unfold nx9 at c3
        by_cases d : tl ≤ at_
        · rw [if_pos d] at c3; omega
        · omega
      simp (disch := omega) only [Option.bind_some, tw_gm, tw_gold, tw_gsaved, tw_gisS, tw_gtext, tw_gtl, tw_grf_, tw_gfar, tw_gmk, tw_gstk, tw_gtop, tw_ghi, tw_gov, tw_gcmd, tw_gcm, tw_gat_, tw_gft, tw_ghs, tw_nm, tw_nold, tw_nsaved, tw_nisS, tw_ntext, tw_nfar, tw_nmk, tw_nstk, tw_ncmd, tw_ck, tw_am, tw_aold, tw_asaved, tw_aisS, tw_atext, tw_afar, tw_amk, tw_astk, tw_acmd, tw_sm, tw_sold, tw_ssaved, tw_sisS, tw_stext, tw_sfar, tw_smk, tw_sstk, tw_scmd, tw_ptl, tw_prf_, tw_ptop, tw_phi, tw_pov, tw_pcm, tw_pat_, tw_pft, tw_phs, tw_zov, J_add, J_sub, J_mul, J_neg, J_lit, J_lt, J_le, J_eq, Int.reduceAdd, Int.reduceSub, Int.reduceMul, Int.reduceNeg, Int.reduceEq, Int.reduceLT, Int.reduceLE, reduceIte, Int.zero_add, Int.add_zero, and_self, true_and, and_true, false_and, and_false, or_true, true_or, or_false, false_or, not_true_eq_false, not_false_eq_true, ne_eq, b2_s, tm_nx h h1 (show at_ ≤ 80 by omega), if_pos c, hd, tm_blanks h (show 0 ≤ at_ + 1 by omega) (show at_ + 1 ≤ tl by omega)]
    · rw [if_neg c2] at hd
      rw [if_neg (c := ft = -1 ∧ 48 ≤ nx9 text tl at_ ∧ nx9 text tl at_ ≤ 57) (fun q => c2 q.2)]
      simp (disch := omega) only [Option.bind_some, tw_gm, tw_gold, tw_gsaved, tw_gisS, tw_gtext, tw_gtl, tw_grf_, tw_gfar, tw_gmk, tw_gstk, tw_gtop, tw_ghi, tw_gov, tw_gcmd, tw_gcm, tw_gat_, tw_gft, tw_ghs, tw_nm, tw_nold, tw_nsaved, tw_nisS, tw_ntext, tw_nfar, tw_nmk, tw_nstk, tw_ncmd, tw_ck, tw_am, tw_aold, tw_asaved, tw_aisS, tw_atext, tw_afar, tw_amk, tw_astk, tw_acmd, tw_sm, tw_sold, tw_ssaved, tw_sisS, tw_stext, tw_sfar, tw_smk, tw_sstk, tw_scmd, tw_ptl, tw_prf_, tw_ptop, tw_phi, tw_pov, tw_pcm, tw_pat_, tw_pft, tw_phs, tw_zov, J_add, J_sub, J_mul, J_neg, J_lit, J_lt, J_le, J_eq, Int.reduceAdd, Int.reduceSub, Int.reduceMul, Int.reduceNeg, Int.reduceEq, Int.reduceLT, Int.reduceLE, reduceIte, Int.zero_add, Int.add_zero, and_self, true_and, and_true, false_and, and_false, or_true, true_or, or_false, false_or, not_true_eq_false, not_false_eq_true, ne_eq, b2_s, tm_nx h h1 (show at_ ≤ 80 by omega), if_pos c, hd, tm_fails f1 f2]
  · rw [if_neg (c := ft = -1 ∧ 48 ≤ nx9 text tl at_ ∧ nx9 text tl at_ ≤ 57) (fun q => c q.1)]
    simp (disch := omega) only [Option.bind_some, tw_gm, tw_gold, tw_gsaved, tw_gisS, tw_gtext, tw_gtl, tw_grf_, tw_gfar, tw_gmk, tw_gstk, tw_gtop, tw_ghi, tw_gov, tw_gcmd, tw_gcm, tw_gat_, tw_gft, tw_ghs, tw_nm, tw_nold, tw_nsaved, tw_nisS, tw_ntext, tw_nfar, tw_nmk, tw_nstk, tw_ncmd, tw_ck, tw_am, tw_aold, tw_asaved, tw_aisS, tw_atext, tw_afar, tw_amk, tw_astk, tw_acmd, tw_sm, tw_sold, tw_ssaved, tw_sisS, tw_stext, tw_sfar, tw_smk, tw_sstk, tw_scmd, tw_ptl, tw_prf_, tw_ptop, tw_phi, tw_pov, tw_pcm, tw_pat_, tw_pft, tw_phs, tw_zov, J_add, J_sub, J_mul, J_neg, J_lit, J_lt, J_le, J_eq, Int.reduceAdd, Int.reduceSub, Int.reduceMul, Int.reduceNeg, Int.reduceEq, Int.reduceLT, Int.reduceLE, reduceIte, Int.zero_add, Int.add_zero, and_self, true_and, and_true, false_and, and_false, or_true, true_or, or_false, false_or, not_true_eq_false, not_false_eq_true, ne_eq, b2_s, tm_nx h h1 (show at_ ≤ 80 by omega), if_neg c, tm_fails f1 f2]
end T9
