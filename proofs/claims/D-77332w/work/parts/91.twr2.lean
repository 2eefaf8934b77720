/-! PLAIN LAW: the twin reads a command. NAMES: TX tm_reads -/
set_option maxRecDepth 100000
def TX {α : Type} (ft : Int) (P : Int ⊕ (α × Int)) (a' ft' : Int) (V : α → Prop) : Prop := (ft ≠ -1 → ft' = ft) ∧ (ft = -1 → (∀ e, P = .inl e → ft' = e ∧ 0 ≤ e) ∧ (∀ r, P = .inr r → ft' = -1 ∧ a' = r.2 ∧ V r.1))
theorem TX.bd {α β : Type} {ft a1 f1 a2 f2 : Int} {P : Int ⊕ (α × Int)} {k : α → Int → Int ⊕ (β × Int)} {V1 : α → Prop} {V2 : β → Prop} (h1 : TX ft P a1 f1 V1) (h2 : ∀ v, f1 = -1 → V1 v → TX f1 (k v a1) a2 f2 V2) (h3 : f1 ≠ -1 → f2 = f1) : TX ft (bdP P k) a2 f2 V2 := by
  refine ⟨fun q => ?_, fun q => ?_⟩
  · have := h1.1 q
    rw [h3 (by omega), this]
  · obtain ⟨k1, k2⟩ := h1.2 q
    cases P with
    | inl e =>
      obtain ⟨z1, z2⟩ := k1 e rfl
      refine ⟨fun e' he => ?_, fun r hr => by cases hr⟩
      have he' : (Sum.inl e : Int ⊕ (β × Int)) = .inl e' := he
      cases he'
      rw [h3 (by omega)]
      exact ⟨z1, z2⟩
    | inr r =>
      obtain ⟨z1, z2, z3⟩ := k2 r rfl
      have h4 := (h2 r.1 z1 z3).2 z1
      rw [z2] at h4
      exact h4
theorem TX.pure {α : Type} {f a : Int} {c : α} {V : α → Prop} (h : V c) : TX f (.inr (c, a)) a f V := ⟨fun _ => rfl, fun q => ⟨fun e he => (by cases he), fun r hr => by cases hr; exact ⟨q, rfl, h⟩⟩⟩
theorem TWP.tx {tl ft v' a' ft' : Int} {P : Int ⊕ (Int × Int)} (h : TWP tl ft P v' a' ft') : TX ft P a' ft' (fun v => v' = v) := ⟨h.2.1, fun q => ⟨(h.2.2 q).1, fun r hr => ⟨((h.2.2 q).2 r hr).1, ((h.2.2 q).2 r hr).2.2, ((h.2.2 q).2 r hr).2.1⟩⟩⟩
theorem TWP.se {text : Int → Int} {tl ft a a' ft' : Int} {α : Type} {V : α → Prop} {c : α} (h : TWP tl ft (seP text tl a) 0 a' ft') (hc : V c) : TX ft (if nx9 text tl a = 59 then .inr (c, bk9 text tl (a + 1)) else .inl a) a' ft' V := by
  refine ⟨h.2.1, fun q => ?_⟩
  obtain ⟨h1, h2⟩ := h.2.2 q
  unfold seP at h1 h2
  by_cases d : nx9 text tl a = 59
  · rw [if_pos d] at h1 h2 ⊢
    refine ⟨fun e he => (by cases he), fun r hr => ?_⟩
    cases hr
    obtain ⟨z1, -, z2⟩ := h2 _ rfl
    exact ⟨z1, z2, hc⟩
  · rw [if_neg d] at h1 h2 ⊢
    refine ⟨fun e he => ?_, fun r hr => (by cases hr)⟩
    cases he
    exact h1 _ rfl
section TB
variable {t : Nat} {m old saved isS text far mk stk cmd : Int → Int} {tl rf_ top hi ov cm at_ ft : Int} {hs : Int64} {σ : mm_M}
theorem tm_rd110 (h : tx9 text tl) (h1 : 0 ≤ at_) (h2 : at_ ≤ tl) (c1 : 0 ≤ cm) (c2 : cm < 40) (c : nx9 text tl at_ = 110) : ∃ a' ft' cmd', g_X2_reads_59 t (J 110) (J (4 * cm)) (tput t m old saved isS text tl rf_ far mk stk top hi ov cmd cm at_ (-1) hs σ) = some (tput t m old saved isS text tl rf_ far mk stk top hi ov cmd' (cm + 1) a' ft' hs σ) ∧ (0 ≤ a' ∧ a' ≤ tl ∧ -1 ≤ ft' ∧ ft' ≤ 80) ∧ (∀ i, i < 4 * cm → cmd' i = cmd i) ∧ TX (-1) (cmP text tl at_) a' ft' (CMK cmd' cm) := by
  have ht := h.2.1
  have hl := nx_lt (by omega) c
  have hb := bk9_b (text := text) (tl := tl) (a := at_ + 1) (by omega)
  have hbl := tm_blanks (t := t) (m := m) (old := old) (saved := saved) (isS := isS) (text := text) (tl := tl) (rf_ := rf_) (far := far) (mk := mk) (stk := stk) (top := top) (hi := hi) (ov := ov) (cmd := up cmd (4 * cm) 110) (cm := cm) (at_ := at_ + 1) (ft := -1) (hs := hs) (σ := σ) h (by omega) (by omega)
  obtain ⟨v1, a1, f1, e1, p1⟩ := tm_dig9 (t := t) (m := m) (old := old) (saved := saved) (isS := isS) (text := text) (tl := tl) (rf_ := rf_) (far := far) (mk := mk) (stk := stk) (top := top) (hi := hi) (ov := ov) (cmd := up cmd (4 * cm) 110) (cm := cm) (at_ := bk9 text tl (at_ + 1)) (ft := (-1)) (hs := hs) (σ := σ) h (by omega) (by omega) (by omega) (by omega)
  have q1 := p1.1
  obtain ⟨v2, a2, f2, e2, p2⟩ := tm_dig9 (t := t) (m := m) (old := old) (saved := saved) (isS := isS) (text := text) (tl := tl) (rf_ := rf_) (far := far) (mk := mk) (stk := stk) (top := top) (hi := hi) (ov := ov) (cmd := up (up cmd (4 * cm) 110) (4 * cm + 1) v1) (cm := cm) (at_ := a1) (ft := f1) (hs := hs) (σ := σ) h (by omega) (by omega) (by omega) (by omega)
  have q2 := p2.1
  obtain ⟨a9, f9, e9, p9⟩ := tm_r215 (t := t) (m := m) (old := old) (saved := saved) (isS := isS) (text := text) (tl := tl) (rf_ := rf_) (far := far) (mk := mk) (stk := stk) (top := top) (hi := hi) (ov := ov) (cmd := up (up (up cmd (4 * cm) 110) (4 * cm + 1) v1) (4 * cm + 2) v2) (cm := cm) (at_ := a2) (ft := f2) (hs := hs) (σ := σ) h (by omega) (by omega) (by omega) (by omega) c1 c2
  refine ⟨a9, f9, up (up (up cmd (4 * cm) 110) (4 * cm + 1) v1) (4 * cm + 2) v2, ?_, p9.1, fun i hi => ?_, ?_⟩
  · unfold g_X2_reads_59
    simp (disch := omega) only [Option.bind_some, tw_gm, tw_gold, tw_gsaved, tw_gisS, tw_gtext, tw_gtl, tw_grf_, tw_gfar, tw_gmk, tw_gstk, tw_gtop, tw_ghi, tw_gov, tw_gcmd, tw_gcm, tw_gat_, tw_gft, tw_ghs, tw_nm, tw_nold, tw_nsaved, tw_nisS, tw_ntext, tw_nfar, tw_nmk, tw_nstk, tw_ncmd, tw_ck, tw_am, tw_aold, tw_asaved, tw_aisS, tw_atext, tw_afar, tw_amk, tw_astk, tw_acmd, tw_sm, tw_sold, tw_ssaved, tw_sisS, tw_stext, tw_sfar, tw_smk, tw_sstk, tw_scmd, tw_ptl, tw_prf_, tw_ptop, tw_phi, tw_pov, tw_pcm, tw_pat_, tw_pft, tw_phs, tw_zov, J_add, J_sub, J_mul, J_neg, J_lit, J_lt, J_le, J_eq, Int.reduceAdd, Int.reduceSub, Int.reduceMul, Int.reduceNeg, Int.reduceEq, Int.reduceLT, Int.reduceLE, reduceIte, Int.zero_add, Int.add_zero, and_self, true_and, and_true, false_and, and_false, or_true, true_or, or_false, false_or, not_true_eq_false, not_false_eq_true, ne_eq, b2_s, hbl, e1, e2, e9]
  · simp only [up]
    grind
  · have hc9 : CMK (up (up (up cmd (4 * cm) 110) (4 * cm + 1) v1) (4 * cm + 2) v2) cm (110, v1, v2, 0) := by
      unfold CMK
      simp only [up]
      grind
    unfold cmP coP
    rw [c]
    simp only [Int.reduceEq, reduceIte]
    exact TX.bd (V1 := CMK (up (up (up cmd (4 * cm) 110) (4 * cm + 1) v1) (4 * cm + 2) v2) cm) (TX.bd p1.tx (fun w'1 z1 w1 => TX.bd p2.tx (fun w'2 z2 w2 => TX.pure (V := CMK (up (up (up cmd (4 * cm) 110) (4 * cm + 1) v1) (4 * cm + 2) v2) cm) (by subst w1 w2; exact hc9)) (fun _ => rfl)) (fun q => by have x2 := p2.2.1; omega)) (fun c z hc => p9.se hc) p9.2.1
theorem tm_rd114 (h : tx9 text tl) (h1 : 0 ≤ at_) (h2 : at_ ≤ tl) (c1 : 0 ≤ cm) (c2 : cm < 40) (c : nx9 text tl at_ = 114) : ∃ a' ft' cmd', g_X2_reads_59 t (J 114) (J (4 * cm)) (tput t m old saved isS text tl rf_ far mk stk top hi ov cmd cm at_ (-1) hs σ) = some (tput t m old saved isS text tl rf_ far mk stk top hi ov cmd' (cm + 1) a' ft' hs σ) ∧ (0 ≤ a' ∧ a' ≤ tl ∧ -1 ≤ ft' ∧ ft' ≤ 80) ∧ (∀ i, i < 4 * cm → cmd' i = cmd i) ∧ TX (-1) (cmP text tl at_) a' ft' (CMK cmd' cm) := by
  have ht := h.2.1
  have hl := nx_lt (by omega) c
  have hb := bk9_b (text := text) (tl := tl) (a := at_ + 1) (by omega)
  have hbl := tm_blanks (t := t) (m := m) (old := old) (saved := saved) (isS := isS) (text := text) (tl := tl) (rf_ := rf_) (far := far) (mk := mk) (stk := stk) (top := top) (hi := hi) (ov := ov) (cmd := up cmd (4 * cm) 114) (cm := cm) (at_ := at_ + 1) (ft := -1) (hs := hs) (σ := σ) h (by omega) (by omega)
  obtain ⟨v1, a1, f1, e1, p1⟩ := tm_dig9 (t := t) (m := m) (old := old) (saved := saved) (isS := isS) (text := text) (tl := tl) (rf_ := rf_) (far := far) (mk := mk) (stk := stk) (top := top) (hi := hi) (ov := ov) (cmd := up cmd (4 * cm) 114) (cm := cm) (at_ := bk9 text tl (at_ + 1)) (ft := (-1)) (hs := hs) (σ := σ) h (by omega) (by omega) (by omega) (by omega)
  have q1 := p1.1
  obtain ⟨v2, a2, f2, e2, p2⟩ := tm_pla9 (t := t) (m := m) (old := old) (saved := saved) (isS := isS) (text := text) (tl := tl) (rf_ := rf_) (far := far) (mk := mk) (stk := stk) (top := top) (hi := hi) (ov := ov) (cmd := up (up cmd (4 * cm) 114) (4 * cm + 1) v1) (cm := cm) (at_ := a1) (ft := f1) (hs := hs) (σ := σ) h (by omega) (by omega) (by omega) (by omega)
  have q2 := p2.1
  obtain ⟨a9, f9, e9, p9⟩ := tm_r215 (t := t) (m := m) (old := old) (saved := saved) (isS := isS) (text := text) (tl := tl) (rf_ := rf_) (far := far) (mk := mk) (stk := stk) (top := top) (hi := hi) (ov := ov) (cmd := up (up (up cmd (4 * cm) 114) (4 * cm + 1) v1) (4 * cm + 2) v2) (cm := cm) (at_ := a2) (ft := f2) (hs := hs) (σ := σ) h (by omega) (by omega) (by omega) (by omega) c1 c2
  refine ⟨a9, f9, up (up (up cmd (4 * cm) 114) (4 * cm + 1) v1) (4 * cm + 2) v2, ?_, p9.1, fun i hi => ?_, ?_⟩
  · unfold g_X2_reads_59 g_X2_reads_125
    simp (disch := omega) only [Option.bind_some, tw_gm, tw_gold, tw_gsaved, tw_gisS, tw_gtext, tw_gtl, tw_grf_, tw_gfar, tw_gmk, tw_gstk, tw_gtop, tw_ghi, tw_gov, tw_gcmd, tw_gcm, tw_gat_, tw_gft, tw_ghs, tw_nm, tw_nold, tw_nsaved, tw_nisS, tw_ntext, tw_nfar, tw_nmk, tw_nstk, tw_ncmd, tw_ck, tw_am, tw_aold, tw_asaved, tw_aisS, tw_atext, tw_afar, tw_amk, tw_astk, tw_acmd, tw_sm, tw_sold, tw_ssaved, tw_sisS, tw_stext, tw_sfar, tw_smk, tw_sstk, tw_scmd, tw_ptl, tw_prf_, tw_ptop, tw_phi, tw_pov, tw_pcm, tw_pat_, tw_pft, tw_phs, tw_zov, J_add, J_sub, J_mul, J_neg, J_lit, J_lt, J_le, J_eq, Int.reduceAdd, Int.reduceSub, Int.reduceMul, Int.reduceNeg, Int.reduceEq, Int.reduceLT, Int.reduceLE, reduceIte, Int.zero_add, Int.add_zero, and_self, true_and, and_true, false_and, and_false, or_true, true_or, or_false, false_or, not_true_eq_false, not_false_eq_true, ne_eq, b2_s, hbl, e1, e2, e9]
  · simp only [up]
    grind
  · have hc9 : CMK (up (up (up cmd (4 * cm) 114) (4 * cm + 1) v1) (4 * cm + 2) v2) cm (114, v1, v2, 0) := by
      unfold CMK
      simp only [up]
      grind
    unfold cmP coP
    rw [c]
    simp only [Int.reduceEq, reduceIte]
    exact TX.bd (V1 := CMK (up (up (up cmd (4 * cm) 114) (4 * cm + 1) v1) (4 * cm + 2) v2) cm) (TX.bd p1.tx (fun w'1 z1 w1 => TX.bd p2.tx (fun w'2 z2 w2 => TX.pure (V := CMK (up (up (up cmd (4 * cm) 114) (4 * cm + 1) v1) (4 * cm + 2) v2) cm) (by subst w1 w2; exact hc9)) (fun _ => rfl)) (fun q => by have x2 := p2.2.1; omega)) (fun c z hc => p9.se hc) p9.2.1
theorem tm_rd119 (h : tx9 text tl) (h1 : 0 ≤ at_) (h2 : at_ ≤ tl) (c1 : 0 ≤ cm) (c2 : cm < 40) (c : nx9 text tl at_ = 119) : ∃ a' ft' cmd', g_X2_reads_59 t (J 119) (J (4 * cm)) (tput t m old saved isS text tl rf_ far mk stk top hi ov cmd cm at_ (-1) hs σ) = some (tput t m old saved isS text tl rf_ far mk stk top hi ov cmd' (cm + 1) a' ft' hs σ) ∧ (0 ≤ a' ∧ a' ≤ tl ∧ -1 ≤ ft' ∧ ft' ≤ 80) ∧ (∀ i, i < 4 * cm → cmd' i = cmd i) ∧ TX (-1) (cmP text tl at_) a' ft' (CMK cmd' cm) := by
  have ht := h.2.1
  have hl := nx_lt (by omega) c
  have hb := bk9_b (text := text) (tl := tl) (a := at_ + 1) (by omega)
  have hbl := tm_blanks (t := t) (m := m) (old := old) (saved := saved) (isS := isS) (text := text) (tl := tl) (rf_ := rf_) (far := far) (mk := mk) (stk := stk) (top := top) (hi := hi) (ov := ov) (cmd := up cmd (4 * cm) 119) (cm := cm) (at_ := at_ + 1) (ft := -1) (hs := hs) (σ := σ) h (by omega) (by omega)
  obtain ⟨v1, a1, f1, e1, p1⟩ := tm_dig9 (t := t) (m := m) (old := old) (saved := saved) (isS := isS) (text := text) (tl := tl) (rf_ := rf_) (far := far) (mk := mk) (stk := stk) (top := top) (hi := hi) (ov := ov) (cmd := up cmd (4 * cm) 119) (cm := cm) (at_ := bk9 text tl (at_ + 1)) (ft := (-1)) (hs := hs) (σ := σ) h (by omega) (by omega) (by omega) (by omega)
  have q1 := p1.1
  obtain ⟨v2, a2, f2, e2, p2⟩ := tm_pla9 (t := t) (m := m) (old := old) (saved := saved) (isS := isS) (text := text) (tl := tl) (rf_ := rf_) (far := far) (mk := mk) (stk := stk) (top := top) (hi := hi) (ov := ov) (cmd := up (up cmd (4 * cm) 119) (4 * cm + 1) v1) (cm := cm) (at_ := a1) (ft := f1) (hs := hs) (σ := σ) h (by omega) (by omega) (by omega) (by omega)
  have q2 := p2.1
  obtain ⟨a9, f9, e9, p9⟩ := tm_r215 (t := t) (m := m) (old := old) (saved := saved) (isS := isS) (text := text) (tl := tl) (rf_ := rf_) (far := far) (mk := mk) (stk := stk) (top := top) (hi := hi) (ov := ov) (cmd := up (up (up cmd (4 * cm) 119) (4 * cm + 1) v1) (4 * cm + 2) v2) (cm := cm) (at_ := a2) (ft := f2) (hs := hs) (σ := σ) h (by omega) (by omega) (by omega) (by omega) c1 c2
  refine ⟨a9, f9, up (up (up cmd (4 * cm) 119) (4 * cm + 1) v1) (4 * cm + 2) v2, ?_, p9.1, fun i hi => ?_, ?_⟩
  · unfold g_X2_reads_59 g_X2_reads_125
    simp (disch := omega) only [Option.bind_some, tw_gm, tw_gold, tw_gsaved, tw_gisS, tw_gtext, tw_gtl, tw_grf_, tw_gfar, tw_gmk, tw_gstk, tw_gtop, tw_ghi, tw_gov, tw_gcmd, tw_gcm, tw_gat_, tw_gft, tw_ghs, tw_nm, tw_nold, tw_nsaved, tw_nisS, tw_ntext, tw_nfar, tw_nmk, tw_nstk, tw_ncmd, tw_ck, tw_am, tw_aold, tw_asaved, tw_aisS, tw_atext, tw_afar, tw_amk, tw_astk, tw_acmd, tw_sm, tw_sold, tw_ssaved, tw_sisS, tw_stext, tw_sfar, tw_smk, tw_sstk, tw_scmd, tw_ptl, tw_prf_, tw_ptop, tw_phi, tw_pov, tw_pcm, tw_pat_, tw_pft, tw_phs, tw_zov, J_add, J_sub, J_mul, J_neg, J_lit, J_lt, J_le, J_eq, Int.reduceAdd, Int.reduceSub, Int.reduceMul, Int.reduceNeg, Int.reduceEq, Int.reduceLT, Int.reduceLE, reduceIte, Int.zero_add, Int.add_zero, and_self, true_and, and_true, false_and, and_false, or_true, true_or, or_false, false_or, not_true_eq_false, not_false_eq_true, ne_eq, b2_s, hbl, e1, e2, e9]
  · simp only [up]
    grind
  · have hc9 : CMK (up (up (up cmd (4 * cm) 119) (4 * cm + 1) v1) (4 * cm + 2) v2) cm (119, v1, v2, 0) := by
      unfold CMK
      simp only [up]
      grind
    unfold cmP coP
    rw [c]
    simp only [Int.reduceEq, reduceIte]
    exact TX.bd (V1 := CMK (up (up (up cmd (4 * cm) 119) (4 * cm + 1) v1) (4 * cm + 2) v2) cm) (TX.bd p1.tx (fun w'1 z1 w1 => TX.bd p2.tx (fun w'2 z2 w2 => TX.pure (V := CMK (up (up (up cmd (4 * cm) 119) (4 * cm + 1) v1) (4 * cm + 2) v2) cm) (by subst w1 w2; exact hc9)) (fun _ => rfl)) (fun q => by have x2 := p2.2.1; omega)) (fun c z hc => p9.se hc) p9.2.1
theorem tm_rd102 (h : tx9 text tl) (h1 : 0 ≤ at_) (h2 : at_ ≤ tl) (c1 : 0 ≤ cm) (c2 : cm < 40) (c : nx9 text tl at_ = 102) : ∃ a' ft' cmd', g_X2_reads_59 t (J 102) (J (4 * cm)) (tput t m old saved isS text tl rf_ far mk stk top hi ov cmd cm at_ (-1) hs σ) = some (tput t m old saved isS text tl rf_ far mk stk top hi ov cmd' (cm + 1) a' ft' hs σ) ∧ (0 ≤ a' ∧ a' ≤ tl ∧ -1 ≤ ft' ∧ ft' ≤ 80) ∧ (∀ i, i < 4 * cm → cmd' i = cmd i) ∧ TX (-1) (cmP text tl at_) a' ft' (CMK cmd' cm) := by
  have ht := h.2.1
  have hl := nx_lt (by omega) c
  have hb := bk9_b (text := text) (tl := tl) (a := at_ + 1) (by omega)
  have hbl := tm_blanks (t := t) (m := m) (old := old) (saved := saved) (isS := isS) (text := text) (tl := tl) (rf_ := rf_) (far := far) (mk := mk) (stk := stk) (top := top) (hi := hi) (ov := ov) (cmd := up cmd (4 * cm) 102) (cm := cm) (at_ := at_ + 1) (ft := -1) (hs := hs) (σ := σ) h (by omega) (by omega)
  obtain ⟨v1, a1, f1, e1, p1⟩ := tm_num9 (t := t) (m := m) (old := old) (saved := saved) (isS := isS) (text := text) (tl := tl) (rf_ := rf_) (far := far) (mk := mk) (stk := stk) (top := top) (hi := hi) (ov := ov) (cmd := up cmd (4 * cm) 102) (cm := cm) (at_ := bk9 text tl (at_ + 1)) (ft := (-1)) (hs := hs) (σ := σ) h (by omega) (by omega) (by omega) (by omega)
  have q1 := p1.1
  obtain ⟨v2, a2, f2, e2, p2⟩ := tm_dig9 (t := t) (m := m) (old := old) (saved := saved) (isS := isS) (text := text) (tl := tl) (rf_ := rf_) (far := far) (mk := mk) (stk := stk) (top := top) (hi := hi) (ov := ov) (cmd := up (up cmd (4 * cm) 102) (4 * cm + 1) v1) (cm := cm) (at_ := a1) (ft := f1) (hs := hs) (σ := σ) h (by omega) (by omega) (by omega) (by omega)
  have q2 := p2.1
  obtain ⟨v3, a3, f3, e3, p3⟩ := tm_pla9 (t := t) (m := m) (old := old) (saved := saved) (isS := isS) (text := text) (tl := tl) (rf_ := rf_) (far := far) (mk := mk) (stk := stk) (top := top) (hi := hi) (ov := ov) (cmd := up (up (up cmd (4 * cm) 102) (4 * cm + 1) v1) (4 * cm + 2) v2) (cm := cm) (at_ := a2) (ft := f2) (hs := hs) (σ := σ) h (by omega) (by omega) (by omega) (by omega)
  have q3 := p3.1
  obtain ⟨a9, f9, e9, p9⟩ := tm_r215 (t := t) (m := m) (old := old) (saved := saved) (isS := isS) (text := text) (tl := tl) (rf_ := rf_) (far := far) (mk := mk) (stk := stk) (top := top) (hi := hi) (ov := ov) (cmd := up (up (up (up cmd (4 * cm) 102) (4 * cm + 1) v1) (4 * cm + 2) v2) (4 * cm + 3) v3) (cm := cm) (at_ := a3) (ft := f3) (hs := hs) (σ := σ) h (by omega) (by omega) (by omega) (by omega) c1 c2
  refine ⟨a9, f9, up (up (up (up cmd (4 * cm) 102) (4 * cm + 1) v1) (4 * cm + 2) v2) (4 * cm + 3) v3, ?_, p9.1, fun i hi => ?_, ?_⟩
  · unfold g_X2_reads_59
    simp (disch := omega) only [Option.bind_some, tw_gm, tw_gold, tw_gsaved, tw_gisS, tw_gtext, tw_gtl, tw_grf_, tw_gfar, tw_gmk, tw_gstk, tw_gtop, tw_ghi, tw_gov, tw_gcmd, tw_gcm, tw_gat_, tw_gft, tw_ghs, tw_nm, tw_nold, tw_nsaved, tw_nisS, tw_ntext, tw_nfar, tw_nmk, tw_nstk, tw_ncmd, tw_ck, tw_am, tw_aold, tw_asaved, tw_aisS, tw_atext, tw_afar, tw_amk, tw_astk, tw_acmd, tw_sm, tw_sold, tw_ssaved, tw_sisS, tw_stext, tw_sfar, tw_smk, tw_sstk, tw_scmd, tw_ptl, tw_prf_, tw_ptop, tw_phi, tw_pov, tw_pcm, tw_pat_, tw_pft, tw_phs, tw_zov, J_add, J_sub, J_mul, J_neg, J_lit, J_lt, J_le, J_eq, Int.reduceAdd, Int.reduceSub, Int.reduceMul, Int.reduceNeg, Int.reduceEq, Int.reduceLT, Int.reduceLE, reduceIte, Int.zero_add, Int.add_zero, and_self, true_and, and_true, false_and, and_false, or_true, true_or, or_false, false_or, not_true_eq_false, not_false_eq_true, ne_eq, b2_s, hbl, e1, e2, e3, e9]
  · simp only [up]
    grind
  · have hc9 : CMK (up (up (up (up cmd (4 * cm) 102) (4 * cm + 1) v1) (4 * cm + 2) v2) (4 * cm + 3) v3) cm (102, v1, v2, v3) := by
      unfold CMK
      simp only [up]
      grind
    unfold cmP coP
    rw [c]
    simp only [Int.reduceEq, reduceIte]
    exact TX.bd (V1 := CMK (up (up (up (up cmd (4 * cm) 102) (4 * cm + 1) v1) (4 * cm + 2) v2) (4 * cm + 3) v3) cm) (TX.bd p1.tx (fun w'1 z1 w1 => TX.bd p2.tx (fun w'2 z2 w2 => TX.bd p3.tx (fun w'3 z3 w3 => TX.pure (V := CMK (up (up (up (up cmd (4 * cm) 102) (4 * cm + 1) v1) (4 * cm + 2) v2) (4 * cm + 3) v3) cm) (by subst w1 w2 w3; exact hc9)) (fun _ => rfl)) (fun q => by have x3 := p3.2.1; omega)) (fun q => by have x2 := p2.2.1; have x3 := p3.2.1; omega)) (fun c z hc => p9.se hc) p9.2.1
theorem tm_rd112 (h : tx9 text tl) (h1 : 0 ≤ at_) (h2 : at_ ≤ tl) (c1 : 0 ≤ cm) (c2 : cm < 40) (c : nx9 text tl at_ = 112) : ∃ a' ft' cmd', g_X2_reads_59 t (J 112) (J (4 * cm)) (tput t m old saved isS text tl rf_ far mk stk top hi ov cmd cm at_ (-1) hs σ) = some (tput t m old saved isS text tl rf_ far mk stk top hi ov cmd' (cm + 1) a' ft' hs σ) ∧ (0 ≤ a' ∧ a' ≤ tl ∧ -1 ≤ ft' ∧ ft' ≤ 80) ∧ (∀ i, i < 4 * cm → cmd' i = cmd i) ∧ TX (-1) (cmP text tl at_) a' ft' (CMK cmd' cm) := by
  have ht := h.2.1
  have hl := nx_lt (by omega) c
  have hb := bk9_b (text := text) (tl := tl) (a := at_ + 1) (by omega)
  have hbl := tm_blanks (t := t) (m := m) (old := old) (saved := saved) (isS := isS) (text := text) (tl := tl) (rf_ := rf_) (far := far) (mk := mk) (stk := stk) (top := top) (hi := hi) (ov := ov) (cmd := up cmd (4 * cm) 112) (cm := cm) (at_ := at_ + 1) (ft := -1) (hs := hs) (σ := σ) h (by omega) (by omega)
  obtain ⟨v1, a1, f1, e1, p1⟩ := tm_num9 (t := t) (m := m) (old := old) (saved := saved) (isS := isS) (text := text) (tl := tl) (rf_ := rf_) (far := far) (mk := mk) (stk := stk) (top := top) (hi := hi) (ov := ov) (cmd := up cmd (4 * cm) 112) (cm := cm) (at_ := bk9 text tl (at_ + 1)) (ft := (-1)) (hs := hs) (σ := σ) h (by omega) (by omega) (by omega) (by omega)
  have q1 := p1.1
  obtain ⟨a9, f9, e9, p9⟩ := tm_r215 (t := t) (m := m) (old := old) (saved := saved) (isS := isS) (text := text) (tl := tl) (rf_ := rf_) (far := far) (mk := mk) (stk := stk) (top := top) (hi := hi) (ov := ov) (cmd := up (up cmd (4 * cm) 112) (4 * cm + 1) v1) (cm := cm) (at_ := a1) (ft := f1) (hs := hs) (σ := σ) h (by omega) (by omega) (by omega) (by omega) c1 c2
  refine ⟨a9, f9, up (up cmd (4 * cm) 112) (4 * cm + 1) v1, ?_, p9.1, fun i hi => ?_, ?_⟩
  · unfold g_X2_reads_59
    simp (disch := omega) only [Option.bind_some, tw_gm, tw_gold, tw_gsaved, tw_gisS, tw_gtext, tw_gtl, tw_grf_, tw_gfar, tw_gmk, tw_gstk, tw_gtop, tw_ghi, tw_gov, tw_gcmd, tw_gcm, tw_gat_, tw_gft, tw_ghs, tw_nm, tw_nold, tw_nsaved, tw_nisS, tw_ntext, tw_nfar, tw_nmk, tw_nstk, tw_ncmd, tw_ck, tw_am, tw_aold, tw_asaved, tw_aisS, tw_atext, tw_afar, tw_amk, tw_astk, tw_acmd, tw_sm, tw_sold, tw_ssaved, tw_sisS, tw_stext, tw_sfar, tw_smk, tw_sstk, tw_scmd, tw_ptl, tw_prf_, tw_ptop, tw_phi, tw_pov, tw_pcm, tw_pat_, tw_pft, tw_phs, tw_zov, J_add, J_sub, J_mul, J_neg, J_lit, J_lt, J_le, J_eq, Int.reduceAdd, Int.reduceSub, Int.reduceMul, Int.reduceNeg, Int.reduceEq, Int.reduceLT, Int.reduceLE, reduceIte, Int.zero_add, Int.add_zero, and_self, true_and, and_true, false_and, and_false, or_true, true_or, or_false, false_or, not_true_eq_false, not_false_eq_true, ne_eq, b2_s, hbl, e1, e9]
  · simp only [up]
    grind
  · have hc9 : CMK (up (up cmd (4 * cm) 112) (4 * cm + 1) v1) cm (112, v1, 0, 0) := by
      unfold CMK
      simp only [up]
      grind
    unfold cmP coP
    rw [c]
    simp only [Int.reduceEq, reduceIte]
    exact TX.bd (V1 := CMK (up (up cmd (4 * cm) 112) (4 * cm + 1) v1) cm) (TX.bd p1.tx (fun w'1 z1 w1 => TX.pure (V := CMK (up (up cmd (4 * cm) 112) (4 * cm + 1) v1) cm) (by subst w1; exact hc9)) (fun _ => rfl)) (fun c z hc => p9.se hc) p9.2.1
theorem tm_rd117 (h : tx9 text tl) (h1 : 0 ≤ at_) (h2 : at_ ≤ tl) (c1 : 0 ≤ cm) (c2 : cm < 40) (c : nx9 text tl at_ = 117) : ∃ a' ft' cmd', g_X2_reads_59 t (J 117) (J (4 * cm)) (tput t m old saved isS text tl rf_ far mk stk top hi ov cmd cm at_ (-1) hs σ) = some (tput t m old saved isS text tl rf_ far mk stk top hi ov cmd' (cm + 1) a' ft' hs σ) ∧ (0 ≤ a' ∧ a' ≤ tl ∧ -1 ≤ ft' ∧ ft' ≤ 80) ∧ (∀ i, i < 4 * cm → cmd' i = cmd i) ∧ TX (-1) (cmP text tl at_) a' ft' (CMK cmd' cm) := by
  have ht := h.2.1
  have hl := nx_lt (by omega) c
  have hb := bk9_b (text := text) (tl := tl) (a := at_ + 1) (by omega)
  have hbl := tm_blanks (t := t) (m := m) (old := old) (saved := saved) (isS := isS) (text := text) (tl := tl) (rf_ := rf_) (far := far) (mk := mk) (stk := stk) (top := top) (hi := hi) (ov := ov) (cmd := up cmd (4 * cm) 117) (cm := cm) (at_ := at_ + 1) (ft := -1) (hs := hs) (σ := σ) h (by omega) (by omega)
  obtain ⟨v1, a1, f1, e1, p1⟩ := tm_num9 (t := t) (m := m) (old := old) (saved := saved) (isS := isS) (text := text) (tl := tl) (rf_ := rf_) (far := far) (mk := mk) (stk := stk) (top := top) (hi := hi) (ov := ov) (cmd := up cmd (4 * cm) 117) (cm := cm) (at_ := bk9 text tl (at_ + 1)) (ft := (-1)) (hs := hs) (σ := σ) h (by omega) (by omega) (by omega) (by omega)
  have q1 := p1.1
  obtain ⟨a9, f9, e9, p9⟩ := tm_r215 (t := t) (m := m) (old := old) (saved := saved) (isS := isS) (text := text) (tl := tl) (rf_ := rf_) (far := far) (mk := mk) (stk := stk) (top := top) (hi := hi) (ov := ov) (cmd := up (up cmd (4 * cm) 117) (4 * cm + 1) v1) (cm := cm) (at_ := a1) (ft := f1) (hs := hs) (σ := σ) h (by omega) (by omega) (by omega) (by omega) c1 c2
  refine ⟨a9, f9, up (up cmd (4 * cm) 117) (4 * cm + 1) v1, ?_, p9.1, fun i hi => ?_, ?_⟩
  · unfold g_X2_reads_59
    simp (disch := omega) only [Option.bind_some, tw_gm, tw_gold, tw_gsaved, tw_gisS, tw_gtext, tw_gtl, tw_grf_, tw_gfar, tw_gmk, tw_gstk, tw_gtop, tw_ghi, tw_gov, tw_gcmd, tw_gcm, tw_gat_, tw_gft, tw_ghs, tw_nm, tw_nold, tw_nsaved, tw_nisS, tw_ntext, tw_nfar, tw_nmk, tw_nstk, tw_ncmd, tw_ck, tw_am, tw_aold, tw_asaved, tw_aisS, tw_atext, tw_afar, tw_amk, tw_astk, tw_acmd, tw_sm, tw_sold, tw_ssaved, tw_sisS, tw_stext, tw_sfar, tw_smk, tw_sstk, tw_scmd, tw_ptl, tw_prf_, tw_ptop, tw_phi, tw_pov, tw_pcm, tw_pat_, tw_pft, tw_phs, tw_zov, J_add, J_sub, J_mul, J_neg, J_lit, J_lt, J_le, J_eq, Int.reduceAdd, Int.reduceSub, Int.reduceMul, Int.reduceNeg, Int.reduceEq, Int.reduceLT, Int.reduceLE, reduceIte, Int.zero_add, Int.add_zero, and_self, true_and, and_true, false_and, and_false, or_true, true_or, or_false, false_or, not_true_eq_false, not_false_eq_true, ne_eq, b2_s, hbl, e1, e9]
  · simp only [up]
    grind
  · have hc9 : CMK (up (up cmd (4 * cm) 117) (4 * cm + 1) v1) cm (117, v1, 0, 0) := by
      unfold CMK
      simp only [up]
      grind
    unfold cmP coP
    rw [c]
    simp only [Int.reduceEq, reduceIte]
    exact TX.bd (V1 := CMK (up (up cmd (4 * cm) 117) (4 * cm + 1) v1) cm) (TX.bd p1.tx (fun w'1 z1 w1 => TX.pure (V := CMK (up (up cmd (4 * cm) 117) (4 * cm + 1) v1) cm) (by subst w1; exact hc9)) (fun _ => rfl)) (fun c z hc => p9.se hc) p9.2.1
theorem tm_rd99 (h : tx9 text tl) (h1 : 0 ≤ at_) (h2 : at_ ≤ tl) (c1 : 0 ≤ cm) (c2 : cm < 40) (c : nx9 text tl at_ = 99) : ∃ a' ft' cmd', g_X2_reads_59 t (J 99) (J (4 * cm)) (tput t m old saved isS text tl rf_ far mk stk top hi ov cmd cm at_ (-1) hs σ) = some (tput t m old saved isS text tl rf_ far mk stk top hi ov cmd' (cm + 1) a' ft' hs σ) ∧ (0 ≤ a' ∧ a' ≤ tl ∧ -1 ≤ ft' ∧ ft' ≤ 80) ∧ (∀ i, i < 4 * cm → cmd' i = cmd i) ∧ TX (-1) (cmP text tl at_) a' ft' (CMK cmd' cm) := by
  have ht := h.2.1
  have hl := nx_lt (by omega) c
  have hb := bk9_b (text := text) (tl := tl) (a := at_ + 1) (by omega)
  have hbl := tm_blanks (t := t) (m := m) (old := old) (saved := saved) (isS := isS) (text := text) (tl := tl) (rf_ := rf_) (far := far) (mk := mk) (stk := stk) (top := top) (hi := hi) (ov := ov) (cmd := up cmd (4 * cm) 99) (cm := cm) (at_ := at_ + 1) (ft := -1) (hs := hs) (σ := σ) h (by omega) (by omega)
  obtain ⟨a9, f9, e9, p9⟩ := tm_r215 (t := t) (m := m) (old := old) (saved := saved) (isS := isS) (text := text) (tl := tl) (rf_ := rf_) (far := far) (mk := mk) (stk := stk) (top := top) (hi := hi) (ov := ov) (cmd := up cmd (4 * cm) 99) (cm := cm) (at_ := bk9 text tl (at_ + 1)) (ft := (-1)) (hs := hs) (σ := σ) h (by omega) (by omega) (by omega) (by omega) c1 c2
  refine ⟨a9, f9, up cmd (4 * cm) 99, ?_, p9.1, fun i hi => ?_, ?_⟩
  · unfold g_X2_reads_59
    simp (disch := omega) only [Option.bind_some, tw_gm, tw_gold, tw_gsaved, tw_gisS, tw_gtext, tw_gtl, tw_grf_, tw_gfar, tw_gmk, tw_gstk, tw_gtop, tw_ghi, tw_gov, tw_gcmd, tw_gcm, tw_gat_, tw_gft, tw_ghs, tw_nm, tw_nold, tw_nsaved, tw_nisS, tw_ntext, tw_nfar, tw_nmk, tw_nstk, tw_ncmd, tw_ck, tw_am, tw_aold, tw_asaved, tw_aisS, tw_atext, tw_afar, tw_amk, tw_astk, tw_acmd, tw_sm, tw_sold, tw_ssaved, tw_sisS, tw_stext, tw_sfar, tw_smk, tw_sstk, tw_scmd, tw_ptl, tw_prf_, tw_ptop, tw_phi, tw_pov, tw_pcm, tw_pat_, tw_pft, tw_phs, tw_zov, J_add, J_sub, J_mul, J_neg, J_lit, J_lt, J_le, J_eq, Int.reduceAdd, Int.reduceSub, Int.reduceMul, Int.reduceNeg, Int.reduceEq, Int.reduceLT, Int.reduceLE, reduceIte, Int.zero_add, Int.add_zero, and_self, true_and, and_true, false_and, and_false, or_true, true_or, or_false, false_or, not_true_eq_false, not_false_eq_true, ne_eq, b2_s, hbl, e9]
  · simp only [up]
    grind
  · have hc9 : CMK (up cmd (4 * cm) 99) cm (99, 0, 0, 0) := by
      unfold CMK
      simp only [up]
      grind
    unfold cmP coP
    rw [c]
    simp only [Int.reduceEq, reduceIte]
    exact TX.bd (V1 := CMK (up cmd (4 * cm) 99) cm) (TX.pure (V := CMK (up cmd (4 * cm) 99) cm) hc9) (fun c z hc => p9.se hc) p9.2.1
end TB
