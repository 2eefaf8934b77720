/-! PLAIN LAW: the twin's fault. NAMES: tm_reads tm_fault -/
set_option maxRecDepth 100000
theorem CMK.up {cmd cmd' : Int → Int} {k : Int} {n : Int} {c : Int × Int × Int × Int} (h : CMK cmd k c) (hk : 4 * k + 3 < n) (e : ∀ i, i < n → cmd' i = cmd i) : CMK cmd' k c := by
  unfold CMK at h ⊢
  rw [e _ (by omega), e _ (by omega), e _ (by omega), e _ (by omega)]
  exact h
section TB
variable {t : Nat} {m old saved isS text far mk stk cmd : Int → Int} {tl rf_ top hi ov cm at_ ft : Int} {hs : Int64} {σ : mm_M}
theorem tm_reads (h : tx9 text tl) (h1 : 0 ≤ at_) (h2 : at_ < tl) (c1 : 0 ≤ cm) (c2 : cm < 40) : ∃ a' ft' cm' cmd', f_X2_reads t (tput t m old saved isS text tl rf_ far mk stk top hi ov cmd cm at_ (-1) hs σ) = some (tput t m old saved isS text tl rf_ far mk stk top hi ov cmd' cm' a' ft' hs σ) ∧ (0 ≤ a' ∧ a' ≤ tl ∧ -1 ≤ ft' ∧ ft' ≤ 80) ∧ (∀ i, i < 4 * cm → cmd' i = cmd i) ∧ TX (-1) (cmP text tl at_) a' ft' (CMK cmd' cm) ∧ (ft' = -1 → cm' = cm + 1) := by
  have ht := h.2.1
  have hb := nx9_b h h1
  have hnx := tm_nx (t := t) (m := m) (old := old) (saved := saved) (isS := isS) (text := text) (tl := tl) (rf_ := rf_) (far := far) (mk := mk) (stk := stk) (top := top) (hi := hi) (ov := ov) (cmd := cmd) (cm := cm) (at_ := at_) (ft := -1) (hs := hs) (σ := σ) h h1 (by omega)
  by_cases k0 : nx9 text tl at_ = 110
  · obtain ⟨a', ft', cmd', e1, e2, e3, e4⟩ := tm_rd110 (t := t) (m := m) (old := old) (saved := saved) (isS := isS) (text := text) (tl := tl) (rf_ := rf_) (far := far) (mk := mk) (stk := stk) (top := top) (hi := hi) (ov := ov) (cmd := cmd) (cm := cm) (at_ := at_) (hs := hs) (σ := σ) h h1 (by omega) c1 c2 k0
    refine ⟨a', ft', cm + 1, cmd', ?_, e2, e3, e4, fun _ => rfl⟩
    unfold f_X2_reads
    simp (disch := omega) only [Option.bind_some, tw_gm, tw_gold, tw_gsaved, tw_gisS, tw_gtext, tw_gtl, tw_grf_, tw_gfar, tw_gmk, tw_gstk, tw_gtop, tw_ghi, tw_gov, tw_gcmd, tw_gcm, tw_gat_, tw_gft, tw_ghs, tw_nm, tw_nold, tw_nsaved, tw_nisS, tw_ntext, tw_nfar, tw_nmk, tw_nstk, tw_ncmd, tw_ck, tw_am, tw_aold, tw_asaved, tw_aisS, tw_atext, tw_afar, tw_amk, tw_astk, tw_acmd, tw_sm, tw_sold, tw_ssaved, tw_sisS, tw_stext, tw_sfar, tw_smk, tw_sstk, tw_scmd, tw_ptl, tw_prf_, tw_ptop, tw_phi, tw_pov, tw_pcm, tw_pat_, tw_pft, tw_phs, tw_zov, J_add, J_sub, J_mul, J_neg, J_lit, J_lt, J_le, J_eq, Int.reduceAdd, Int.reduceSub, Int.reduceMul, Int.reduceNeg, Int.reduceEq, Int.reduceLT, Int.reduceLE, reduceIte, Int.zero_add, Int.add_zero, and_self, true_and, and_true, false_and, and_false, or_true, true_or, or_false, false_or, not_true_eq_false, not_false_eq_true, ne_eq, b2_s, hnx, if_pos k0, k0, e1]
  by_cases k1 : nx9 text tl at_ = 114
  · obtain ⟨a', ft', cmd', e1, e2, e3, e4⟩ := tm_rd114 (t := t) (m := m) (old := old) (saved := saved) (isS := isS) (text := text) (tl := tl) (rf_ := rf_) (far := far) (mk := mk) (stk := stk) (top := top) (hi := hi) (ov := ov) (cmd := cmd) (cm := cm) (at_ := at_) (hs := hs) (σ := σ) h h1 (by omega) c1 c2 k1
    refine ⟨a', ft', cm + 1, cmd', ?_, e2, e3, e4, fun _ => rfl⟩
    unfold f_X2_reads
    simp (disch := omega) only [Option.bind_some, tw_gm, tw_gold, tw_gsaved, tw_gisS, tw_gtext, tw_gtl, tw_grf_, tw_gfar, tw_gmk, tw_gstk, tw_gtop, tw_ghi, tw_gov, tw_gcmd, tw_gcm, tw_gat_, tw_gft, tw_ghs, tw_nm, tw_nold, tw_nsaved, tw_nisS, tw_ntext, tw_nfar, tw_nmk, tw_nstk, tw_ncmd, tw_ck, tw_am, tw_aold, tw_asaved, tw_aisS, tw_atext, tw_afar, tw_amk, tw_astk, tw_acmd, tw_sm, tw_sold, tw_ssaved, tw_sisS, tw_stext, tw_sfar, tw_smk, tw_sstk, tw_scmd, tw_ptl, tw_prf_, tw_ptop, tw_phi, tw_pov, tw_pcm, tw_pat_, tw_pft, tw_phs, tw_zov, J_add, J_sub, J_mul, J_neg, J_lit, J_lt, J_le, J_eq, Int.reduceAdd, Int.reduceSub, Int.reduceMul, Int.reduceNeg, Int.reduceEq, Int.reduceLT, Int.reduceLE, reduceIte, Int.zero_add, Int.add_zero, and_self, true_and, and_true, false_and, and_false, or_true, true_or, or_false, false_or, not_true_eq_false, not_false_eq_true, ne_eq, b2_s, hnx, if_neg k0, if_pos k1, k1, e1]
  by_cases k2 : nx9 text tl at_ = 119
  · obtain ⟨a', ft', cmd', e1, e2, e3, e4⟩ := tm_rd119 (t := t) (m := m) (old := old) (saved := saved) (isS := isS) (text := text) (tl := tl) (rf_ := rf_) (far := far) (mk := mk) (stk := stk) (top := top) (hi := hi) (ov := ov) (cmd := cmd) (cm := cm) (at_ := at_) (hs := hs) (σ := σ) h h1 (by omega) c1 c2 k2
    refine ⟨a', ft', cm + 1, cmd', ?_, e2, e3, e4, fun _ => rfl⟩
    unfold f_X2_reads
    simp (disch := omega) only [Option.bind_some, tw_gm, tw_gold, tw_gsaved, tw_gisS, tw_gtext, tw_gtl, tw_grf_, tw_gfar, tw_gmk, tw_gstk, tw_gtop, tw_ghi, tw_gov, tw_gcmd, tw_gcm, tw_gat_, tw_gft, tw_ghs, tw_nm, tw_nold, tw_nsaved, tw_nisS, tw_ntext, tw_nfar, tw_nmk, tw_nstk, tw_ncmd, tw_ck, tw_am, tw_aold, tw_asaved, tw_aisS, tw_atext, tw_afar, tw_amk, tw_astk, tw_acmd, tw_sm, tw_sold, tw_ssaved, tw_sisS, tw_stext, tw_sfar, tw_smk, tw_sstk, tw_scmd, tw_ptl, tw_prf_, tw_ptop, tw_phi, tw_pov, tw_pcm, tw_pat_, tw_pft, tw_phs, tw_zov, J_add, J_sub, J_mul, J_neg, J_lit, J_lt, J_le, J_eq, Int.reduceAdd, Int.reduceSub, Int.reduceMul, Int.reduceNeg, Int.reduceEq, Int.reduceLT, Int.reduceLE, reduceIte, Int.zero_add, Int.add_zero, and_self, true_and, and_true, false_and, and_false, or_true, true_or, or_false, false_or, not_true_eq_false, not_false_eq_true, ne_eq, b2_s, hnx, if_neg k0, if_neg k1, if_pos k2, k2, e1]
  by_cases k3 : nx9 text tl at_ = 102
  · obtain ⟨a', ft', cmd', e1, e2, e3, e4⟩ := tm_rd102 (t := t) (m := m) (old := old) (saved := saved) (isS := isS) (text := text) (tl := tl) (rf_ := rf_) (far := far) (mk := mk) (stk := stk) (top := top) (hi := hi) (ov := ov) (cmd := cmd) (cm := cm) (at_ := at_) (hs := hs) (σ := σ) h h1 (by omega) c1 c2 k3
    refine ⟨a', ft', cm + 1, cmd', ?_, e2, e3, e4, fun _ => rfl⟩
    unfold f_X2_reads
    simp (disch := omega) only [Option.bind_some, tw_gm, tw_gold, tw_gsaved, tw_gisS, tw_gtext, tw_gtl, tw_grf_, tw_gfar, tw_gmk, tw_gstk, tw_gtop, tw_ghi, tw_gov, tw_gcmd, tw_gcm, tw_gat_, tw_gft, tw_ghs, tw_nm, tw_nold, tw_nsaved, tw_nisS, tw_ntext, tw_nfar, tw_nmk, tw_nstk, tw_ncmd, tw_ck, tw_am, tw_aold, tw_asaved, tw_aisS, tw_atext, tw_afar, tw_amk, tw_astk, tw_acmd, tw_sm, tw_sold, tw_ssaved, tw_sisS, tw_stext, tw_sfar, tw_smk, tw_sstk, tw_scmd, tw_ptl, tw_prf_, tw_ptop, tw_phi, tw_pov, tw_pcm, tw_pat_, tw_pft, tw_phs, tw_zov, J_add, J_sub, J_mul, J_neg, J_lit, J_lt, J_le, J_eq, Int.reduceAdd, Int.reduceSub, Int.reduceMul, Int.reduceNeg, Int.reduceEq, Int.reduceLT, Int.reduceLE, reduceIte, Int.zero_add, Int.add_zero, and_self, true_and, and_true, false_and, and_false, or_true, true_or, or_false, false_or, not_true_eq_false, not_false_eq_true, ne_eq, b2_s, hnx, if_neg k0, if_neg k1, if_neg k2, if_pos k3, k3, e1]
  by_cases k4 : nx9 text tl at_ = 112
  · obtain ⟨a', ft', cmd', e1, e2, e3, e4⟩ := tm_rd112 (t := t) (m := m) (old := old) (saved := saved) (isS := isS) (text := text) (tl := tl) (rf_ := rf_) (far := far) (mk := mk) (stk := stk) (top := top) (hi := hi) (ov := ov) (cmd := cmd) (cm := cm) (at_ := at_) (hs := hs) (σ := σ) h h1 (by omega) c1 c2 k4
    refine ⟨a', ft', cm + 1, cmd', ?_, e2, e3, e4, fun _ => rfl⟩
    unfold f_X2_reads
    simp (disch := omega) only [Option.bind_some, tw_gm, tw_gold, tw_gsaved, tw_gisS, tw_gtext, tw_gtl, tw_grf_, tw_gfar, tw_gmk, tw_gstk, tw_gtop, tw_ghi, tw_gov, tw_gcmd, tw_gcm, tw_gat_, tw_gft, tw_ghs, tw_nm, tw_nold, tw_nsaved, tw_nisS, tw_ntext, tw_nfar, tw_nmk, tw_nstk, tw_ncmd, tw_ck, tw_am, tw_aold, tw_asaved, tw_aisS, tw_atext, tw_afar, tw_amk, tw_astk, tw_acmd, tw_sm, tw_sold, tw_ssaved, tw_sisS, tw_stext, tw_sfar, tw_smk, tw_sstk, tw_scmd, tw_ptl, tw_prf_, tw_ptop, tw_phi, tw_pov, tw_pcm, tw_pat_, tw_pft, tw_phs, tw_zov, J_add, J_sub, J_mul, J_neg, J_lit, J_lt, J_le, J_eq, Int.reduceAdd, Int.reduceSub, Int.reduceMul, Int.reduceNeg, Int.reduceEq, Int.reduceLT, Int.reduceLE, reduceIte, Int.zero_add, Int.add_zero, and_self, true_and, and_true, false_and, and_false, or_true, true_or, or_false, false_or, not_true_eq_false, not_false_eq_true, ne_eq, b2_s, hnx, if_neg k0, if_neg k1, if_neg k2, if_neg k3, if_pos k4, k4, e1]
  by_cases k5 : nx9 text tl at_ = 117
  · obtain ⟨a', ft', cmd', e1, e2, e3, e4⟩ := tm_rd117 (t := t) (m := m) (old := old) (saved := saved) (isS := isS) (text := text) (tl := tl) (rf_ := rf_) (far := far) (mk := mk) (stk := stk) (top := top) (hi := hi) (ov := ov) (cmd := cmd) (cm := cm) (at_ := at_) (hs := hs) (σ := σ) h h1 (by omega) c1 c2 k5
    refine ⟨a', ft', cm + 1, cmd', ?_, e2, e3, e4, fun _ => rfl⟩
    unfold f_X2_reads
    simp (disch := omega) only [Option.bind_some, tw_gm, tw_gold, tw_gsaved, tw_gisS, tw_gtext, tw_gtl, tw_grf_, tw_gfar, tw_gmk, tw_gstk, tw_gtop, tw_ghi, tw_gov, tw_gcmd, tw_gcm, tw_gat_, tw_gft, tw_ghs, tw_nm, tw_nold, tw_nsaved, tw_nisS, tw_ntext, tw_nfar, tw_nmk, tw_nstk, tw_ncmd, tw_ck, tw_am, tw_aold, tw_asaved, tw_aisS, tw_atext, tw_afar, tw_amk, tw_astk, tw_acmd, tw_sm, tw_sold, tw_ssaved, tw_sisS, tw_stext, tw_sfar, tw_smk, tw_sstk, tw_scmd, tw_ptl, tw_prf_, tw_ptop, tw_phi, tw_pov, tw_pcm, tw_pat_, tw_pft, tw_phs, tw_zov, J_add, J_sub, J_mul, J_neg, J_lit, J_lt, J_le, J_eq, Int.reduceAdd, Int.reduceSub, Int.reduceMul, Int.reduceNeg, Int.reduceEq, Int.reduceLT, Int.reduceLE, reduceIte, Int.zero_add, Int.add_zero, and_self, true_and, and_true, false_and, and_false, or_true, true_or, or_false, false_or, not_true_eq_false, not_false_eq_true, ne_eq, b2_s, hnx, if_neg k0, if_neg k1, if_neg k2, if_neg k3, if_neg k4, if_pos k5, k5, e1]
  by_cases k6 : nx9 text tl at_ = 99
  · obtain ⟨a', ft', cmd', e1, e2, e3, e4⟩ := tm_rd99 (t := t) (m := m) (old := old) (saved := saved) (isS := isS) (text := text) (tl := tl) (rf_ := rf_) (far := far) (mk := mk) (stk := stk) (top := top) (hi := hi) (ov := ov) (cmd := cmd) (cm := cm) (at_ := at_) (hs := hs) (σ := σ) h h1 (by omega) c1 c2 k6
    refine ⟨a', ft', cm + 1, cmd', ?_, e2, e3, e4, fun _ => rfl⟩
    unfold f_X2_reads
    simp (disch := omega) only [Option.bind_some, tw_gm, tw_gold, tw_gsaved, tw_gisS, tw_gtext, tw_gtl, tw_grf_, tw_gfar, tw_gmk, tw_gstk, tw_gtop, tw_ghi, tw_gov, tw_gcmd, tw_gcm, tw_gat_, tw_gft, tw_ghs, tw_nm, tw_nold, tw_nsaved, tw_nisS, tw_ntext, tw_nfar, tw_nmk, tw_nstk, tw_ncmd, tw_ck, tw_am, tw_aold, tw_asaved, tw_aisS, tw_atext, tw_afar, tw_amk, tw_astk, tw_acmd, tw_sm, tw_sold, tw_ssaved, tw_sisS, tw_stext, tw_sfar, tw_smk, tw_sstk, tw_scmd, tw_ptl, tw_prf_, tw_ptop, tw_phi, tw_pov, tw_pcm, tw_pat_, tw_pft, tw_phs, tw_zov, J_add, J_sub, J_mul, J_neg, J_lit, J_lt, J_le, J_eq, Int.reduceAdd, Int.reduceSub, Int.reduceMul, Int.reduceNeg, Int.reduceEq, Int.reduceLT, Int.reduceLE, reduceIte, Int.zero_add, Int.add_zero, and_self, true_and, and_true, false_and, and_false, or_true, true_or, or_false, false_or, not_true_eq_false, not_false_eq_true, ne_eq, b2_s, hnx, if_neg k0, if_neg k1, if_neg k2, if_neg k3, if_neg k4, if_neg k5, if_pos k6, k6, e1]
  · refine ⟨at_, at_, cm, cmd, ?_, ⟨h1, by omega, by omega, by omega⟩, fun _ _ => rfl, ⟨fun q => absurd rfl q, fun _ => ⟨fun e he => ?_, fun r hr => ?_⟩⟩, fun q => by omega⟩
    · unfold f_X2_reads
      simp (disch := omega) only [Option.bind_some, tw_gm, tw_gold, tw_gsaved, tw_gisS, tw_gtext, tw_gtl, tw_grf_, tw_gfar, tw_gmk, tw_gstk, tw_gtop, tw_ghi, tw_gov, tw_gcmd, tw_gcm, tw_gat_, tw_gft, tw_ghs, tw_nm, tw_nold, tw_nsaved, tw_nisS, tw_ntext, tw_nfar, tw_nmk, tw_nstk, tw_ncmd, tw_ck, tw_am, tw_aold, tw_asaved, tw_aisS, tw_atext, tw_afar, tw_amk, tw_astk, tw_acmd, tw_sm, tw_sold, tw_ssaved, tw_sisS, tw_stext, tw_sfar, tw_smk, tw_sstk, tw_scmd, tw_ptl, tw_prf_, tw_ptop, tw_phi, tw_pov, tw_pcm, tw_pat_, tw_pft, tw_phs, tw_zov, J_add, J_sub, J_mul, J_neg, J_lit, J_lt, J_le, J_eq, Int.reduceAdd, Int.reduceSub, Int.reduceMul, Int.reduceNeg, Int.reduceEq, Int.reduceLT, Int.reduceLE, reduceIte, Int.zero_add, Int.add_zero, and_self, true_and, and_true, false_and, and_false, or_true, true_or, or_false, false_or, not_true_eq_false, not_false_eq_true, ne_eq, b2_s, hnx, if_neg k0, if_neg k1, if_neg k2, if_neg k3, if_neg k4, if_neg k5, if_neg k6, tm_fails (t := t) (m := m) (old := old) (saved := saved) (isS := isS) (text := text) (tl := tl) (rf_ := rf_) (far := far) (mk := mk) (stk := stk) (top := top) (hi := hi) (ov := ov) (cmd := cmd) (cm := cm) (at_ := at_) (ft := -1) (hs := hs) (σ := σ) (by omega) (by omega)]
    · unfold cmP coP at he
      rw [if_neg k0, if_neg k1, if_neg k2, if_neg k3, if_neg k4, if_neg k5, if_neg k6] at he
      have he' : (Sum.inl at_ : Int ⊕ ((Int × Int × Int × Int) × Int)) = .inl e := he
      cases he'
      exact ⟨rfl, h1⟩
    · unfold cmP coP at hr
      rw [if_neg k0, if_neg k1, if_neg k2, if_neg k3, if_neg k4, if_neg k5, if_neg k6] at hr
      have hr' : (Sum.inl at_ : Int ⊕ ((Int × Int × Int × Int) × Int)) = .inr r := hr
      cases hr
theorem tm_faults (h : tx9 text tl) : ∀ (n : Nat) (a : Int) (cs : List (Int × Int × Int × Int)) (cmd : Int → Int), 0 ≤ a → a ≤ tl → tl - a ≤ n → 2 * (cs.length : Int) ≤ a → (∀ (i : Nat) c, cs[i]? = some c → CMK cmd i c) → ∃ a' ft' cm' cmd', lpx (s_X2_fault t) (tput t m old saved isS text tl rf_ far mk stk top hi ov cmd ((cs.length : Int)) a (-1) hs σ) = some (J ft', (tput t m old saved isS text tl rf_ far mk stk top hi ov cmd' cm' a' ft' hs σ)) ∧ (-1 ≤ ft' ∧ ft' ≤ 80) ∧ (∀ e, rdP text tl n a cs = .inl e → ft' = e ∧ 0 ≤ e) ∧ (∀ r, rdP text tl n a cs = .inr r → ft' = -1 ∧ cm' = r.length ∧ ∀ (i : Nat) c, r[i]? = some c → CMK cmd' i c) := by
  have ht := h.2.1
  have hend : ∀ (a : Int) (cs : List (Int × Int × Int × Int)) (cmd : Int → Int), 0 ≤ a → a ≤ tl → tl ≤ a → lpx (s_X2_fault t) (tput t m old saved isS text tl rf_ far mk stk top hi ov cmd ((cs.length : Int)) a (-1) hs σ) = some (J (-1), (tput t m old saved isS text tl rf_ far mk stk top hi ov cmd ((cs.length : Int)) a (-1) hs σ)) := by
    intro a cs cmd q1 q2 q3
    refine lpx_d ?_
    unfold s_X2_fault g_X2_fault_19
    simp (disch := omega) only [Option.bind_some, tw_gm, tw_gold, tw_gsaved, tw_gisS, tw_gtext, tw_gtl, tw_grf_, tw_gfar, tw_gmk, tw_gstk, tw_gtop, tw_ghi, tw_gov, tw_gcmd, tw_gcm, tw_gat_, tw_gft, tw_ghs, tw_nm, tw_nold, tw_nsaved, tw_nisS, tw_ntext, tw_nfar, tw_nmk, tw_nstk, tw_ncmd, tw_ck, tw_am, tw_aold, tw_asaved, tw_aisS, tw_atext, tw_afar, tw_amk, tw_astk, tw_acmd, tw_sm, tw_sold, tw_ssaved, tw_sisS, tw_stext, tw_sfar, tw_smk, tw_sstk, tw_scmd, tw_ptl, tw_prf_, tw_ptop, tw_phi, tw_pov, tw_pcm, tw_pat_, tw_pft, tw_phs, tw_zov, J_add, J_sub, J_mul, J_neg, J_lit, J_lt, J_le, J_eq, Int.reduceAdd, Int.reduceSub, Int.reduceMul, Int.reduceNeg, Int.reduceEq, Int.reduceLT, Int.reduceLE, reduceIte, Int.zero_add, Int.add_zero, and_self, true_and, and_true, false_and, and_false, or_true, true_or, or_false, false_or, not_true_eq_false, not_false_eq_true, ne_eq, b2_s, if_pos q3]
  intro n
  induction n with
  | zero =>
    intro a cs cmd h1 h2 h3 h4 hc
    unfold rdP
    refine ⟨a, -1, cs.length, cmd, hend a cs cmd h1 h2 (by omega), by omega, fun e he => (by cases he), fun r hr => ?_⟩
    cases hr
    exact ⟨rfl, rfl, hc⟩
  | succ n ih =>
    intro a cs cmd h1 h2 h3 h4 hc
    unfold rdP
    by_cases c : a < tl
    · rw [if_pos c]
      obtain ⟨a', ft', cm', cmd', e1, e2, e3, e4, e5⟩ := tm_reads (t := t) (m := m) (old := old) (saved := saved) (isS := isS) (text := text) (tl := tl) (rf_ := rf_) (far := far) (mk := mk) (stk := stk) (top := top) (hi := hi) (ov := ov) (cmd := cmd) (cm := (cs.length : Int)) (at_ := a) (hs := hs) (σ := σ) h h1 c (by omega) (by omega)
      have hs : s_X2_fault t (tput t m old saved isS text tl rf_ far mk stk top hi ov cmd ((cs.length : Int)) a (-1) hs σ) = some (.inl (tput t m old saved isS text tl rf_ far mk stk top hi ov cmd' cm' a' ft' hs σ)) := by
        unfold s_X2_fault g_X2_fault_19
        simp (disch := omega) only [Option.bind_some, tw_gm, tw_gold, tw_gsaved, tw_gisS, tw_gtext, tw_gtl, tw_grf_, tw_gfar, tw_gmk, tw_gstk, tw_gtop, tw_ghi, tw_gov, tw_gcmd, tw_gcm, tw_gat_, tw_gft, tw_ghs, tw_nm, tw_nold, tw_nsaved, tw_nisS, tw_ntext, tw_nfar, tw_nmk, tw_nstk, tw_ncmd, tw_ck, tw_am, tw_aold, tw_asaved, tw_aisS, tw_atext, tw_afar, tw_amk, tw_astk, tw_acmd, tw_sm, tw_sold, tw_ssaved, tw_sisS, tw_stext, tw_sfar, tw_smk, tw_sstk, tw_scmd, tw_ptl, tw_prf_, tw_ptop, tw_phi, tw_pov, tw_pcm, tw_pat_, tw_pft, tw_phs, tw_zov, J_add, J_sub, J_mul, J_neg, J_lit, J_lt, J_le, J_eq, Int.reduceAdd, Int.reduceSub, Int.reduceMul, Int.reduceNeg, Int.reduceEq, Int.reduceLT, Int.reduceLE, reduceIte, Int.zero_add, Int.add_zero, and_self, true_and, and_true, false_and, and_false, or_true, true_or, or_false, false_or, not_true_eq_false, not_false_eq_true, ne_eq, b2_s, if_neg (show ¬ tl ≤ a by omega), e1]
      rw [lpx_n hs]
      obtain ⟨k1, k2⟩ := e4.2 rfl
      cases hcm : cmP text tl a with
      | inl e =>
        obtain ⟨z1, z2⟩ := k1 e hcm
        refine ⟨a', ft', cm', cmd', ?_, ⟨e2.2.2.1, e2.2.2.2⟩, fun e' he => ?_, fun r hr => (by cases hr)⟩
        · refine lpx_d ?_
          unfold s_X2_fault g_X2_fault_19
          simp (disch := omega) only [Option.bind_some, tw_gm, tw_gold, tw_gsaved, tw_gisS, tw_gtext, tw_gtl, tw_grf_, tw_gfar, tw_gmk, tw_gstk, tw_gtop, tw_ghi, tw_gov, tw_gcmd, tw_gcm, tw_gat_, tw_gft, tw_ghs, tw_nm, tw_nold, tw_nsaved, tw_nisS, tw_ntext, tw_nfar, tw_nmk, tw_nstk, tw_ncmd, tw_ck, tw_am, tw_aold, tw_asaved, tw_aisS, tw_atext, tw_afar, tw_amk, tw_astk, tw_acmd, tw_sm, tw_sold, tw_ssaved, tw_sisS, tw_stext, tw_sfar, tw_smk, tw_sstk, tw_scmd, tw_ptl, tw_prf_, tw_ptop, tw_phi, tw_pov, tw_pcm, tw_pat_, tw_pft, tw_phs, tw_zov, J_add, J_sub, J_mul, J_neg, J_lit, J_lt, J_le, J_eq, Int.reduceAdd, Int.reduceSub, Int.reduceMul, Int.reduceNeg, Int.reduceEq, Int.reduceLT, Int.reduceLE, reduceIte, Int.zero_add, Int.add_zero, and_self, true_and, and_true, false_and, and_false, or_true, true_or, or_false, false_or, not_true_eq_false, not_false_eq_true, ne_eq, b2_s, if_neg (show ¬ ft' = -1 by omega)]
        · cases he
          exact ⟨z1, z2⟩
      | inr v =>
        obtain ⟨z1, z2, z3⟩ := k2 v hcm
        have hv := cmP_b hcm
        have z4 := e5 z1
        subst z1
        subst z2
        subst z4
        have hlen : ((cs ++ [v.1]).length : Int) = (cs.length : Int) + 1 := by
          rw [List.length_append, List.length_singleton]
          omega
        have hi := ih v.2 (cs ++ [v.1]) cmd' (by omega) hv.2.2 (by omega) (by omega) (fun i c' hc' => by
          by_cases hi2 : i < cs.length
          · rw [List.getElem?_append_left hi2] at hc'
            exact (hc i c' hc').up (n := 4 * (cs.length : Int)) (by omega) e3
          · have hi4 : i = cs.length := by
              have := (List.getElem?_eq_some_iff.mp hc').1
              rw [List.length_append, List.length_singleton] at this
              omega
            subst hi4
            rw [List.getElem?_append_right (Nat.le_refl _), Nat.sub_self] at hc'
            have hc2 : v.1 = c' := by simpa using hc'
            rw [← hc2]
            exact z3)
        rw [hlen] at hi
        exact hi
    · rw [if_neg c]
      refine ⟨a, -1, cs.length, cmd, hend a cs cmd h1 h2 (by omega), by omega, fun e he => (by cases he), fun r hr => ?_⟩
      cases hr
      exact ⟨rfl, rfl, hc⟩
theorem tm_fault (h : tx9 text tl) : ∃ a' ft' cm' cmd', f_X2_fault t (tput t m old saved isS text tl rf_ far mk stk top hi ov cmd cm at_ ft hs σ) = some (J ft', (tput t m old saved isS text tl rf_ far mk stk top hi ov cmd' cm' a' ft' hs σ)) ∧ (-1 ≤ ft' ∧ ft' ≤ 80) ∧ (∀ e, rdP text tl 80 (bk9 text tl 0) [] = .inl e → ft' = e ∧ 0 ≤ e) ∧ (∀ r, rdP text tl 80 (bk9 text tl 0) [] = .inr r → ft' = -1 ∧ cm' = r.length ∧ ∀ (i : Nat) c, r[i]? = some c → CMK cmd' i c) := by
  have ht := h.2.1
  have hb := bk9_b (text := text) (tl := tl) (a := 0) h.1
  obtain ⟨a', ft', cm', cmd', e1, e2, e3, e4⟩ := tm_faults (t := t) (m := m) (old := old) (saved := saved) (isS := isS) (text := text) (tl := tl) (rf_ := rf_) (far := far) (mk := mk) (stk := stk) (top := top) (hi := hi) (ov := ov)   (hs := hs) (σ := σ) h 80 (bk9 text tl 0) [] cmd hb.1 hb.2 (by omega) (by simpa using hb.1) (fun i c hc => by cases hc)
  refine ⟨a', ft', cm', cmd', ?_, e2, e3, e4⟩
  unfold f_X2_fault
  have h0 : g_X2_fault_0 t (tput t m old saved isS text tl rf_ far mk stk top hi ov cmd cm at_ ft hs σ) = some (.inl (tput t m old saved isS text tl rf_ far mk stk top hi ov cmd 0 (bk9 text tl 0) (-1) hs σ)) := by
    unfold g_X2_fault_0
    simp (disch := omega) only [Option.bind_some, tw_gm, tw_gold, tw_gsaved, tw_gisS, tw_gtext, tw_gtl, tw_grf_, tw_gfar, tw_gmk, tw_gstk, tw_gtop, tw_ghi, tw_gov, tw_gcmd, tw_gcm, tw_gat_, tw_gft, tw_ghs, tw_nm, tw_nold, tw_nsaved, tw_nisS, tw_ntext, tw_nfar, tw_nmk, tw_nstk, tw_ncmd, tw_ck, tw_am, tw_aold, tw_asaved, tw_aisS, tw_atext, tw_afar, tw_amk, tw_astk, tw_acmd, tw_sm, tw_sold, tw_ssaved, tw_sisS, tw_stext, tw_sfar, tw_smk, tw_sstk, tw_scmd, tw_ptl, tw_prf_, tw_ptop, tw_phi, tw_pov, tw_pcm, tw_pat_, tw_pft, tw_phs, tw_zov, J_add, J_sub, J_mul, J_neg, J_lit, J_lt, J_le, J_eq, Int.reduceAdd, Int.reduceSub, Int.reduceMul, Int.reduceNeg, Int.reduceEq, Int.reduceLT, Int.reduceLE, reduceIte, Int.zero_add, Int.add_zero, and_self, true_and, and_true, false_and, and_false, or_true, true_or, or_false, false_or, not_true_eq_false, not_false_eq_true, ne_eq, b2_s, tm_blanks (t := t) (m := m) (old := old) (saved := saved) (isS := isS) (text := text) (tl := tl) (rf_ := rf_) (far := far) (mk := mk) (stk := stk) (top := top) (hi := hi) (ov := ov) (cmd := cmd) (cm := 0) (at_ := 0) (ft := -1) (hs := hs) (σ := σ) h (show (0 : Int) ≤ 0 by omega) h.1]
  rw [h0, lgo_l]
  exact e1
end TB
