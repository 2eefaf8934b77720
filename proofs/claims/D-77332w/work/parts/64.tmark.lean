/-! PLAIN LAW: the twin marks as the machine does. NAMES: tm_ -/
set_option maxRecDepth 100000
section T1
variable {t : Nat} {m old saved isS text far mk stk cmd : Int → Int} {tl rf_ top hi ov cm at_ ft : Int} {hs : Int64} {σ : mm_M}
theorem tm_reachA (hm : WF m) {A : AM} (hA : IA m (m 1217) A) {x : Int} (hx : ir x) : f_X2_reach t (J x) (tput t m old saved isS text tl rf_ far A.1 A.2.1 A.2.2.1 A.2.2.2.1 A.2.2.2.2 cmd cm at_ ft hs σ) = some (tput t m old saved isS text tl rf_ far ((rcA (m 1217) (-1) (oo9 m x) A).1) ((rcA (m 1217) (-1) (oo9 m x) A).2.1) ((rcA (m 1217) (-1) (oo9 m x) A).2.2.1) ((rcA (m 1217) (-1) (oo9 m x) A).2.2.2.1) ((rcA (m 1217) (-1) (oo9 m x) A).2.2.2.2) cmd cm at_ ft hs σ) := by
  obtain ⟨h1, h2, h3, h4, h5, h6⟩ := hA
  have hD := hm.hD
  rw [tm_reach hm hx h2.1 h2.2 h3.1 (by omega) (fun b b1 b2 => by have := h1 b b1 b2; omega)]
  by_cases c1 : oo9 m x = -1 ∨ A.1 (oo9 m x) = 1
  · have e : rcA (m 1217) (-1) (oo9 m x) A = A := if_pos (by omega)
    rw [if_pos c1, e]
  · have c0 : ¬ (oo9 m x = -1 ∨ A.1 (oo9 m x) = 1 ∨ oo9 m x = -1) := by omega
    rw [if_neg c1]
    by_cases c2 : A.2.2.1 = m 1217
    · have e : rcA (m 1217) (-1) (oo9 m x) A = _ := (if_neg c0).trans (if_pos c2)
      rw [if_pos c2, e]
    · have e : rcA (m 1217) (-1) (oo9 m x) A = _ := (if_neg c0).trans (if_neg c2)
      rw [if_neg c2, e]
theorem tm_drainsA (hm : WF m) {A : AM} (hA : IA m (m 1217) A) : f_X2_drains t (tput t m old saved isS text tl rf_ far A.1 A.2.1 A.2.2.1 A.2.2.2.1 A.2.2.2.2 cmd cm at_ ft hs σ) = some (tput t m old saved isS text tl rf_ far ((drA m (m 1217) (-1) A).1) ((drA m (m 1217) (-1) A).2.1) ((drA m (m 1217) (-1) A).2.2.1) ((drA m (m 1217) (-1) A).2.2.2.1) ((drA m (m 1217) (-1) A).2.2.2.2) cmd cm at_ ft hs σ) := by
  have hD := hm.hD
  unfold f_X2_drains
  rw [lgo_l]
  obtain ⟨s', h1, hI, rfl⟩ := lpx_fl (f := s_X2_drains t) (c := fun A : AM => 0 < A.2.2.1) (g := popA m (m 1217) (-1)) (fun A s => IA m (m 1217) A ∧ s = .inl (tput t m old saved isS text tl rf_ far A.1 A.2.1 A.2.2.1 A.2.2.2.1 A.2.2.2.2 cmd cm at_ ft hs σ)) (by
    rintro B s ⟨hB, rfl⟩ hc
    have hB0 := hB
    obtain ⟨h1, h2, h3, h4, h5, h6⟩ := hB
    obtain ⟨a1, a2, a3⟩ := h5 (B.2.2.1 - 1) (by omega) (by omega)
    have hF := hm.hf _ a1 a2 a3
    have hg := (popA_g (w := -1) hB0 hc).1
    refine ⟨.inl (tput t m old saved isS text tl rf_ far ((popA m (m 1217) (-1) B).1) ((popA m (m 1217) (-1) B).2.1) ((popA m (m 1217) (-1) B).2.2.1) ((popA m (m 1217) (-1) B).2.2.2.1) ((popA m (m 1217) (-1) B).2.2.2.2) cmd cm at_ ft hs σ), ?_, hg, rfl⟩
    unfold popA
    generalize hav : B.2.1 (B.2.2.1 - 1) = a at a1 a2 a3 hF
    rw [lpx_n (s' := .inr (J a, J 1, (tput t m old saved isS text tl rf_ far (((B.1, B.2.1, B.2.2.1 - 1, B.2.2.2.1, B.2.2.2.2)).1) (((B.1, B.2.1, B.2.2.1 - 1, B.2.2.2.1, B.2.2.2.2)).2.1) (((B.1, B.2.1, B.2.2.1 - 1, B.2.2.2.1, B.2.2.2.2)).2.2.1) (((B.1, B.2.1, B.2.2.1 - 1, B.2.2.2.1, B.2.2.2.2)).2.2.2.1) (((B.1, B.2.1, B.2.2.1 - 1, B.2.2.2.1, B.2.2.2.2)).2.2.2.2) cmd cm at_ ft hs σ))) (by
      unfold s_X2_drains g_X2_drains_0
      dsimp only
      simp (disch := omega) only [Option.bind_some, tw_gm, tw_gold, tw_gsaved, tw_gisS, tw_gtext, tw_gtl, tw_grf_, tw_gfar, tw_gmk, tw_gstk, tw_gtop, tw_ghi, tw_gov, tw_gcmd, tw_gcm, tw_gat_, tw_gft, tw_ghs, tw_nm, tw_nold, tw_nsaved, tw_nisS, tw_ntext, tw_nfar, tw_nmk, tw_nstk, tw_ncmd, tw_ck, tw_am, tw_aold, tw_asaved, tw_aisS, tw_atext, tw_afar, tw_amk, tw_astk, tw_acmd, tw_sm, tw_sold, tw_ssaved, tw_sisS, tw_stext, tw_sfar, tw_smk, tw_sstk, tw_scmd, tw_ptl, tw_prf_, tw_ptop, tw_phi, tw_pov, tw_pcm, tw_pat_, tw_pft, tw_phs, tw_zov, J_add, J_sub, J_mul, J_neg, J_lit, J_lt, J_le, J_eq, Int.reduceAdd, Int.reduceSub, Int.reduceMul, Int.reduceNeg, Int.reduceEq, Int.reduceLT, Int.reduceLE, reduceIte, Int.zero_add, Int.add_zero, and_self, true_and, and_true, false_and, and_false, or_true, true_or, or_false, false_or, not_true_eq_false, not_false_eq_true, ne_eq, b2_s, if_neg (show ¬ B.2.2.1 ≤ 0 by omega), hav])]
    obtain ⟨s2, e1, e2, rfl⟩ := lpx_itr (f := s_X2_drains t) (g := fun f E => rcA (m 1217) (-1) (oo9 m (m (800 + a + 1 + f))) E) (fun k E s => IA m (m 1217) E ∧ s = .inr (J a, J (1 + k), (tput t m old saved isS text tl rf_ far E.1 E.2.1 E.2.2.1 E.2.2.2.1 E.2.2.2.2 cmd cm at_ ft hs σ))) (m (200 + a)).toNat (by
      rintro k E s hk ⟨hE, rfl⟩
      have hr := hm.hq a (1 + k) a1 a2 a3 (by omega) (by omega)
      have hb9 := rf_ir hm hr
      refine ⟨.inr (J a, J (1 + (k + 1 : Nat)), (tput t m old saved isS text tl rf_ far ((rcA (m 1217) (-1) (oo9 m (m (800 + a + 1 + k))) E).1) ((rcA (m 1217) (-1) (oo9 m (m (800 + a + 1 + k))) E).2.1) ((rcA (m 1217) (-1) (oo9 m (m (800 + a + 1 + k))) E).2.2.1) ((rcA (m 1217) (-1) (oo9 m (m (800 + a + 1 + k))) E).2.2.2.1) ((rcA (m 1217) (-1) (oo9 m (m (800 + a + 1 + k))) E).2.2.2.2) cmd cm at_ ft hs σ)), ?_, (rcA_g hE (oo9_h m _)).1, rfl⟩
      refine lpx_n ?_
      unfold s_X2_drains g_X2_drains_29
      dsimp only
      have hre := tm_reachA (σ := σ) (t := t) (old := old) (saved := saved) (isS := isS) (text := text) (far := far) (cmd := cmd) (tl := tl) (rf_ := rf_) (cm := cm) (at_ := at_) (ft := ft) (hs := hs) hm hE (x := m (800 + a + (1 + k))) (by unfold ir; omega)
      simp (disch := omega) only [Option.bind_some, tw_gm, tw_gold, tw_gsaved, tw_gisS, tw_gtext, tw_gtl, tw_grf_, tw_gfar, tw_gmk, tw_gstk, tw_gtop, tw_ghi, tw_gov, tw_gcmd, tw_gcm, tw_gat_, tw_gft, tw_ghs, tw_nm, tw_nold, tw_nsaved, tw_nisS, tw_ntext, tw_nfar, tw_nmk, tw_nstk, tw_ncmd, tw_ck, tw_am, tw_aold, tw_asaved, tw_aisS, tw_atext, tw_afar, tw_amk, tw_astk, tw_acmd, tw_sm, tw_sold, tw_ssaved, tw_sisS, tw_stext, tw_sfar, tw_smk, tw_sstk, tw_scmd, tw_ptl, tw_prf_, tw_ptop, tw_phi, tw_pov, tw_pcm, tw_pat_, tw_pft, tw_phs, tw_zov, J_add, J_sub, J_mul, J_neg, J_lit, J_lt, J_le, J_eq, Int.reduceAdd, Int.reduceSub, Int.reduceMul, Int.reduceNeg, Int.reduceEq, Int.reduceLT, Int.reduceLE, reduceIte, Int.zero_add, Int.add_zero, and_self, true_and, and_true, false_and, and_false, or_true, true_or, or_false, false_or, not_true_eq_false, not_false_eq_true, ne_eq, b2_s, if_neg (show ¬ m (200 + a) < 1 + (k : Int) by omega), hre]
      rw [show 1 + (k : Int) + 1 = 1 + ((k + 1 : Nat) : Int) by omega, show 800 + a + (1 + (k : Int)) = 800 + a + 1 + k by omega]) (B.1, B.2.1, B.2.2.1 - 1, B.2.2.2.1, B.2.2.2.2) (.inr (J a, J 1, (tput t m old saved isS text tl rf_ far (((B.1, B.2.1, B.2.2.1 - 1, B.2.2.2.1, B.2.2.2.2)).1) (((B.1, B.2.1, B.2.2.1 - 1, B.2.2.2.1, B.2.2.2.2)).2.1) (((B.1, B.2.1, B.2.2.1 - 1, B.2.2.2.1, B.2.2.2.2)).2.2.1) (((B.1, B.2.1, B.2.2.1 - 1, B.2.2.2.1, B.2.2.2.2)).2.2.2.1) (((B.1, B.2.1, B.2.2.1 - 1, B.2.2.2.1, B.2.2.2.2)).2.2.2.2) cmd cm at_ ft hs σ))) ⟨⟨h1, ⟨by dsimp only; omega, by dsimp only; omega⟩, h3, h4, fun k k1 k2 => h5 k k1 (by dsimp only at k2; omega), by dsimp only; omega⟩, by simp⟩
    rw [e1]
    refine lpx_n ?_
    unfold s_X2_drains g_X2_drains_29
    dsimp only
    simp (disch := omega) only [Option.bind_some, tw_gm, tw_gold, tw_gsaved, tw_gisS, tw_gtext, tw_gtl, tw_grf_, tw_gfar, tw_gmk, tw_gstk, tw_gtop, tw_ghi, tw_gov, tw_gcmd, tw_gcm, tw_gat_, tw_gft, tw_ghs, tw_nm, tw_nold, tw_nsaved, tw_nisS, tw_ntext, tw_nfar, tw_nmk, tw_nstk, tw_ncmd, tw_ck, tw_am, tw_aold, tw_asaved, tw_aisS, tw_atext, tw_afar, tw_amk, tw_astk, tw_acmd, tw_sm, tw_sold, tw_ssaved, tw_sisS, tw_stext, tw_sfar, tw_smk, tw_sstk, tw_scmd, tw_ptl, tw_prf_, tw_ptop, tw_phi, tw_pov, tw_pcm, tw_pat_, tw_pft, tw_phs, tw_zov, J_add, J_sub, J_mul, J_neg, J_lit, J_lt, J_le, J_eq, Int.reduceAdd, Int.reduceSub, Int.reduceMul, Int.reduceNeg, Int.reduceEq, Int.reduceLT, Int.reduceLE, reduceIte, Int.zero_add, Int.add_zero, and_self, true_and, and_true, false_and, and_false, or_true, true_or, or_false, false_or, not_true_eq_false, not_false_eq_true, ne_eq, b2_s, if_pos (show m (200 + a) < 1 + ((m (200 + a)).toNat : Int) by omega)]) 1000 A (.inl (tput t m old saved isS text tl rf_ far A.1 A.2.1 A.2.2.1 A.2.2.2.1 A.2.2.2.2 cmd cm at_ ft hs σ)) ⟨hA, rfl⟩
  rw [h1]
  refine lpx_d ?_
  have h9 := (drA_g (w := -1) hA).2
  unfold drA at h9 ⊢
  unfold s_X2_drains g_X2_drains_0
  dsimp only
  simp (disch := omega) only [Option.bind_some, tw_gm, tw_gold, tw_gsaved, tw_gisS, tw_gtext, tw_gtl, tw_grf_, tw_gfar, tw_gmk, tw_gstk, tw_gtop, tw_ghi, tw_gov, tw_gcmd, tw_gcm, tw_gat_, tw_gft, tw_ghs, tw_nm, tw_nold, tw_nsaved, tw_nisS, tw_ntext, tw_nfar, tw_nmk, tw_nstk, tw_ncmd, tw_ck, tw_am, tw_aold, tw_asaved, tw_aisS, tw_atext, tw_afar, tw_amk, tw_astk, tw_acmd, tw_sm, tw_sold, tw_ssaved, tw_sisS, tw_stext, tw_sfar, tw_smk, tw_sstk, tw_scmd, tw_ptl, tw_prf_, tw_ptop, tw_phi, tw_pov, tw_pcm, tw_pat_, tw_pft, tw_phs, tw_zov, J_add, J_sub, J_mul, J_neg, J_lit, J_lt, J_le, J_eq, Int.reduceAdd, Int.reduceSub, Int.reduceMul, Int.reduceNeg, Int.reduceEq, Int.reduceLT, Int.reduceLE, reduceIte, Int.zero_add, Int.add_zero, and_self, true_and, and_true, false_and, and_false, or_true, true_or, or_false, false_or, not_true_eq_false, not_false_eq_true, ne_eq, b2_s, h9]
theorem tm_stA (hm : WF m) {A : AM} (hA : IA m (m 1217) A) {x : Int} (hx : ir x) : (f_X2_reach t (J x) (tput t m old saved isS text tl rf_ far A.1 A.2.1 A.2.2.1 A.2.2.2.1 A.2.2.2.2 cmd cm at_ ft hs σ)).bind (fun σ1 => (ck σ1 t 2).bind fun _ => (f_X2_drains t σ1).bind fun σ2 => some σ2) = some (tput t m old saved isS text tl rf_ far ((stA m (m 1217) (-1) (oo9 m x) A).1) ((stA m (m 1217) (-1) (oo9 m x) A).2.1) ((stA m (m 1217) (-1) (oo9 m x) A).2.2.1) ((stA m (m 1217) (-1) (oo9 m x) A).2.2.2.1) ((stA m (m 1217) (-1) (oo9 m x) A).2.2.2.2) cmd cm at_ ft hs σ) := by
  rw [tm_reachA hm hA hx, Option.bind_some, tw_ck, Option.bind_some, tm_drainsA hm (rcA_g hA (oo9_h m x)).1, Option.bind_some]
  rfl
theorem tm_scansA (hm : WF m) {A : AM} (hA : IE m (m 1217) A) (h0 : A.2.2.2.2 = 0) : f_X2_scans t (tput t m old saved isS text tl rf_ far A.1 A.2.1 A.2.2.1 A.2.2.2.1 A.2.2.2.2 cmd cm at_ ft hs σ) = some (tput t m old saved isS text tl rf_ far ((scA m (m 1217) (-1) A).1) ((scA m (m 1217) (-1) A).2.1) ((scA m (m 1217) (-1) A).2.2.1) ((scA m (m 1217) (-1) A).2.2.2.1) ((scA m (m 1217) (-1) A).2.2.2.2) cmd cm at_ ft hs σ) := by
  have hW := hm.hW
  unfold f_X2_scans g_X2_scans_0
  rw [lgo_l, show (0 : Int32) = J 0 from J_lit 0]
  have hA' : (A.1, A.2.1, A.2.2.1, A.2.2.2.1, (0 : Int)) = A := by rw [← h0]
  unfold scA
  rw [hA']
  obtain ⟨s', h1, hI, rfl⟩ := lpx_itr (f := s_X2_scans t) (g := scO m (m 1217) (-1)) (fun k B s => IE m (m 1217) B ∧ s = .inl (J k, (tput t m old saved isS text tl rf_ far B.1 B.2.1 B.2.2.1 B.2.2.2.1 B.2.2.2.2 cmd cm at_ ft hs σ))) (m 1216).toNat (by
    rintro a B s ha ⟨hB, rfl⟩
    have hg := scO_g (w := -1) hB a
    refine ⟨.inl (J ((a + 1 : Nat) : Int), (tput t m old saved isS text tl rf_ far ((scO m (m 1217) (-1) a B).1) ((scO m (m 1217) (-1) a B).2.1) ((scO m (m 1217) (-1) a B).2.2.1) ((scO m (m 1217) (-1) a B).2.2.2.1) ((scO m (m 1217) (-1) a B).2.2.2.2) cmd cm at_ ft hs σ)), ?_, ⟨hg.1.1, hg.2⟩, rfl⟩
    have hsz := hm.hs a (by omega) (by omega)
    have hF0 := hm.hF a (by omega) (by omega)
    have hmk := hB.1.1 a (by omega) (by omega)
    rw [lpx_n (s' := .inr (J a, J 1, (tput t m old saved isS text tl rf_ far B.1 B.2.1 B.2.2.1 B.2.2.2.1 B.2.2.2.2 cmd cm at_ ft hs σ))) (by
      unfold s_X2_scans g_X2_scans_2
      dsimp only
      simp (disch := omega) only [Option.bind_some, tw_gm, tw_gold, tw_gsaved, tw_gisS, tw_gtext, tw_gtl, tw_grf_, tw_gfar, tw_gmk, tw_gstk, tw_gtop, tw_ghi, tw_gov, tw_gcmd, tw_gcm, tw_gat_, tw_gft, tw_ghs, tw_nm, tw_nold, tw_nsaved, tw_nisS, tw_ntext, tw_nfar, tw_nmk, tw_nstk, tw_ncmd, tw_ck, tw_am, tw_aold, tw_asaved, tw_aisS, tw_atext, tw_afar, tw_amk, tw_astk, tw_acmd, tw_sm, tw_sold, tw_ssaved, tw_sisS, tw_stext, tw_sfar, tw_smk, tw_sstk, tw_scmd, tw_ptl, tw_prf_, tw_ptop, tw_phi, tw_pov, tw_pcm, tw_pat_, tw_pft, tw_phs, tw_zov, J_add, J_sub, J_mul, J_neg, J_lit, J_lt, J_le, J_eq, Int.reduceAdd, Int.reduceSub, Int.reduceMul, Int.reduceNeg, Int.reduceEq, Int.reduceLT, Int.reduceLE, reduceIte, Int.zero_add, Int.add_zero, and_self, true_and, and_true, false_and, and_false, or_true, true_or, or_false, false_or, not_true_eq_false, not_false_eq_true, ne_eq, b2_s, if_neg (show ¬ m 1216 ≤ (a : Int) by omega)])]
    unfold scO
    by_cases c1 : 0 < m a ∧ B.1 a = 1
    · rw [if_pos c1]
      have hF := hm.hf a (by omega) (by omega) c1.1
      obtain ⟨s2, e1, e2, e3, rfl⟩ := lpx_itr (f := s_X2_scans t) (g := fun f E => stA m (m 1217) (-1) (oo9 m (m (800 + (a : Int) + 1 + f))) E) (fun k E s => IE m (m 1217) E ∧ E.1 a = 1 ∧ s = .inr (J a, J (1 + k), (tput t m old saved isS text tl rf_ far E.1 E.2.1 E.2.2.1 E.2.2.2.1 E.2.2.2.2 cmd cm at_ ft hs σ))) (m (200 + a)).toNat (by
        rintro k E s hk ⟨hE, hE1, rfl⟩
        have hr := hm.hq a (1 + k) (by omega) (by omega) c1.1 (by omega) (by omega)
        have hb9 := rf_ir hm hr
        have hst := stA_g (w := -1) hE.1 (oo9_h m (m (800 + (a : Int) + 1 + k)))
        refine ⟨.inr (J a, J (1 + (k + 1 : Nat)), (tput t m old saved isS text tl rf_ far ((stA m (m 1217) (-1) (oo9 m (m (800 + (a : Int) + 1 + k))) E).1) ((stA m (m 1217) (-1) (oo9 m (m (800 + (a : Int) + 1 + k))) E).2.1) ((stA m (m 1217) (-1) (oo9 m (m (800 + (a : Int) + 1 + k))) E).2.2.1) ((stA m (m 1217) (-1) (oo9 m (m (800 + (a : Int) + 1 + k))) E).2.2.2.1) ((stA m (m 1217) (-1) (oo9 m (m (800 + (a : Int) + 1 + k))) E).2.2.2.2) cmd cm at_ ft hs σ)), ?_, ⟨hst.1.1, hst.2⟩, hst.1.2.1 _ hE1, rfl⟩
        refine lpx_n ?_
        unfold s_X2_scans g_X2_scans_16
        dsimp only
        have hx9 : ir (m (800 + (a : Int) + (1 + k))) := by unfold ir; omega
        have hre := tm_reachA (σ := σ) (t := t) (old := old) (saved := saved) (isS := isS) (text := text) (far := far) (cmd := cmd) (tl := tl) (rf_ := rf_) (cm := cm) (at_ := at_) (ft := ft) (hs := hs) hm hE.1 hx9
        have hdr := tm_drainsA (σ := σ) (t := t) (old := old) (saved := saved) (isS := isS) (text := text) (far := far) (cmd := cmd) (tl := tl) (rf_ := rf_) (cm := cm) (at_ := at_) (ft := ft) (hs := hs) hm (rcA_g (w := -1) hE.1 (oo9_h m (m (800 + (a : Int) + (1 + k))))).1
        simp (disch := omega) only [Option.bind_some, tw_gm, tw_gold, tw_gsaved, tw_gisS, tw_gtext, tw_gtl, tw_grf_, tw_gfar, tw_gmk, tw_gstk, tw_gtop, tw_ghi, tw_gov, tw_gcmd, tw_gcm, tw_gat_, tw_gft, tw_ghs, tw_nm, tw_nold, tw_nsaved, tw_nisS, tw_ntext, tw_nfar, tw_nmk, tw_nstk, tw_ncmd, tw_ck, tw_am, tw_aold, tw_asaved, tw_aisS, tw_atext, tw_afar, tw_amk, tw_astk, tw_acmd, tw_sm, tw_sold, tw_ssaved, tw_sisS, tw_stext, tw_sfar, tw_smk, tw_sstk, tw_scmd, tw_ptl, tw_prf_, tw_ptop, tw_phi, tw_pov, tw_pcm, tw_pat_, tw_pft, tw_phs, tw_zov, J_add, J_sub, J_mul, J_neg, J_lit, J_lt, J_le, J_eq, Int.reduceAdd, Int.reduceSub, Int.reduceMul, Int.reduceNeg, Int.reduceEq, Int.reduceLT, Int.reduceLE, reduceIte, Int.zero_add, Int.add_zero, and_self, true_and, and_true, false_and, and_false, or_true, true_or, or_false, false_or, not_true_eq_false, not_false_eq_true, ne_eq, b2_s, if_neg (show ¬ m (200 + (a : Int)) < 1 + (k : Int) by omega), if_neg (show ¬ m (a : Int) ≤ 0 by omega), hE1, hre, hdr]
        rw [show 1 + (k : Int) + 1 = 1 + ((k + 1 : Nat) : Int) by omega, show 800 + (a : Int) + (1 + (k : Int)) = 800 + (a : Int) + 1 + k by omega]
        rfl) B (.inr (J a, J 1, (tput t m old saved isS text tl rf_ far B.1 B.2.1 B.2.2.1 B.2.2.2.1 B.2.2.2.2 cmd cm at_ ft hs σ))) ⟨hB, c1.2, by simp⟩
      rw [e1]
      refine lpx_n ?_
      unfold s_X2_scans g_X2_scans_16
      dsimp only
      simp (disch := omega) only [Option.bind_some, tw_gm, tw_gold, tw_gsaved, tw_gisS, tw_gtext, tw_gtl, tw_grf_, tw_gfar, tw_gmk, tw_gstk, tw_gtop, tw_ghi, tw_gov, tw_gcmd, tw_gcm, tw_gat_, tw_gft, tw_ghs, tw_nm, tw_nold, tw_nsaved, tw_nisS, tw_ntext, tw_nfar, tw_nmk, tw_nstk, tw_ncmd, tw_ck, tw_am, tw_aold, tw_asaved, tw_aisS, tw_atext, tw_afar, tw_amk, tw_astk, tw_acmd, tw_sm, tw_sold, tw_ssaved, tw_sisS, tw_stext, tw_sfar, tw_smk, tw_sstk, tw_scmd, tw_ptl, tw_prf_, tw_ptop, tw_phi, tw_pov, tw_pcm, tw_pat_, tw_pft, tw_phs, tw_zov, J_add, J_sub, J_mul, J_neg, J_lit, J_lt, J_le, J_eq, Int.reduceAdd, Int.reduceSub, Int.reduceMul, Int.reduceNeg, Int.reduceEq, Int.reduceLT, Int.reduceLE, reduceIte, Int.zero_add, Int.add_zero, and_self, true_and, and_true, false_and, and_false, or_true, true_or, or_false, false_or, not_true_eq_false, not_false_eq_true, ne_eq, b2_s, if_pos (show m (200 + (a : Int)) < 1 + ((m (200 + (a : Int))).toNat : Int) by omega)]
      rfl
    · rw [if_neg c1]
      refine lpx_n ?_
      unfold s_X2_scans g_X2_scans_16
      dsimp only
      by_cases c2 : m (200 + (a : Int)) < 1
      · simp (disch := omega) only [Option.bind_some, tw_gm, tw_gold, tw_gsaved, tw_gisS, tw_gtext, tw_gtl, tw_grf_, tw_gfar, tw_gmk, tw_gstk, tw_gtop, tw_ghi, tw_gov, tw_gcmd, tw_gcm, tw_gat_, tw_gft, tw_ghs, tw_nm, tw_nold, tw_nsaved, tw_nisS, tw_ntext, tw_nfar, tw_nmk, tw_nstk, tw_ncmd, tw_ck, tw_am, tw_aold, tw_asaved, tw_aisS, tw_atext, tw_afar, tw_amk, tw_astk, tw_acmd, tw_sm, tw_sold, tw_ssaved, tw_sisS, tw_stext, tw_sfar, tw_smk, tw_sstk, tw_scmd, tw_ptl, tw_prf_, tw_ptop, tw_phi, tw_pov, tw_pcm, tw_pat_, tw_pft, tw_phs, tw_zov, J_add, J_sub, J_mul, J_neg, J_lit, J_lt, J_le, J_eq, Int.reduceAdd, Int.reduceSub, Int.reduceMul, Int.reduceNeg, Int.reduceEq, Int.reduceLT, Int.reduceLE, reduceIte, Int.zero_add, Int.add_zero, and_self, true_and, and_true, false_and, and_false, or_true, true_or, or_false, false_or, not_true_eq_false, not_false_eq_true, ne_eq, b2_s, if_pos c2]
        rfl
      · by_cases c3 : m (a : Int) ≤ 0
        · simp (disch := omega) only [Option.bind_some, tw_gm, tw_gold, tw_gsaved, tw_gisS, tw_gtext, tw_gtl, tw_grf_, tw_gfar, tw_gmk, tw_gstk, tw_gtop, tw_ghi, tw_gov, tw_gcmd, tw_gcm, tw_gat_, tw_gft, tw_ghs, tw_nm, tw_nold, tw_nsaved, tw_nisS, tw_ntext, tw_nfar, tw_nmk, tw_nstk, tw_ncmd, tw_ck, tw_am, tw_aold, tw_asaved, tw_aisS, tw_atext, tw_afar, tw_amk, tw_astk, tw_acmd, tw_sm, tw_sold, tw_ssaved, tw_sisS, tw_stext, tw_sfar, tw_smk, tw_sstk, tw_scmd, tw_ptl, tw_prf_, tw_ptop, tw_phi, tw_pov, tw_pcm, tw_pat_, tw_pft, tw_phs, tw_zov, J_add, J_sub, J_mul, J_neg, J_lit, J_lt, J_le, J_eq, Int.reduceAdd, Int.reduceSub, Int.reduceMul, Int.reduceNeg, Int.reduceEq, Int.reduceLT, Int.reduceLE, reduceIte, Int.zero_add, Int.add_zero, and_self, true_and, and_true, false_and, and_false, or_true, true_or, or_false, false_or, not_true_eq_false, not_false_eq_true, ne_eq, b2_s, if_neg c2, if_pos c3]
          rfl
        · have c4 : B.1 a = 0 := by omega
          simp (disch := omega) only [Option.bind_some, tw_gm, tw_gold, tw_gsaved, tw_gisS, tw_gtext, tw_gtl, tw_grf_, tw_gfar, tw_gmk, tw_gstk, tw_gtop, tw_ghi, tw_gov, tw_gcmd, tw_gcm, tw_gat_, tw_gft, tw_ghs, tw_nm, tw_nold, tw_nsaved, tw_nisS, tw_ntext, tw_nfar, tw_nmk, tw_nstk, tw_ncmd, tw_ck, tw_am, tw_aold, tw_asaved, tw_aisS, tw_atext, tw_afar, tw_amk, tw_astk, tw_acmd, tw_sm, tw_sold, tw_ssaved, tw_sisS, tw_stext, tw_sfar, tw_smk, tw_sstk, tw_scmd, tw_ptl, tw_prf_, tw_ptop, tw_phi, tw_pov, tw_pcm, tw_pat_, tw_pft, tw_phs, tw_zov, J_add, J_sub, J_mul, J_neg, J_lit, J_lt, J_le, J_eq, Int.reduceAdd, Int.reduceSub, Int.reduceMul, Int.reduceNeg, Int.reduceEq, Int.reduceLT, Int.reduceLE, reduceIte, Int.zero_add, Int.add_zero, and_self, true_and, and_true, false_and, and_false, or_true, true_or, or_false, false_or, not_true_eq_false, not_false_eq_true, ne_eq, b2_s, if_neg c2, if_neg c3, c4]
          rfl) A (.inl (J 0, (tput t m old saved isS text tl rf_ far A.1 A.2.1 A.2.2.1 A.2.2.2.1 A.2.2.2.2 cmd cm at_ ft hs σ))) ⟨hA, rfl⟩
  rw [h1]
  refine lpx_d ?_
  unfold s_X2_scans g_X2_scans_2
  dsimp only
  simp (disch := omega) only [Option.bind_some, tw_gm, tw_gold, tw_gsaved, tw_gisS, tw_gtext, tw_gtl, tw_grf_, tw_gfar, tw_gmk, tw_gstk, tw_gtop, tw_ghi, tw_gov, tw_gcmd, tw_gcm, tw_gat_, tw_gft, tw_ghs, tw_nm, tw_nold, tw_nsaved, tw_nisS, tw_ntext, tw_nfar, tw_nmk, tw_nstk, tw_ncmd, tw_ck, tw_am, tw_aold, tw_asaved, tw_aisS, tw_atext, tw_afar, tw_amk, tw_astk, tw_acmd, tw_sm, tw_sold, tw_ssaved, tw_sisS, tw_stext, tw_sfar, tw_smk, tw_sstk, tw_scmd, tw_ptl, tw_prf_, tw_ptop, tw_phi, tw_pov, tw_pcm, tw_pat_, tw_pft, tw_phs, tw_zov, J_add, J_sub, J_mul, J_neg, J_lit, J_lt, J_le, J_eq, Int.reduceAdd, Int.reduceSub, Int.reduceMul, Int.reduceNeg, Int.reduceEq, Int.reduceLT, Int.reduceLE, reduceIte, Int.zero_add, Int.add_zero, and_self, true_and, and_true, false_and, and_false, or_true, true_or, or_false, false_or, not_true_eq_false, not_false_eq_true, ne_eq, b2_s, Int.toNat_of_nonneg (show 0 ≤ m 1216 by omega), if_pos (show m 1216 ≤ m 1216 by omega)]
/-- all live objects are marked -/
theorem tm_marksA (hm : WF m) : ∃ mk0, (∀ b, 0 ≤ b → b < 200 → mk0 b = 0) ∧ (∀ b, ¬ (0 ≤ b ∧ b < 200) → mk0 b = mk b) ∧ f_X2_marks t (tput t m old saved isS text tl rf_ far mk stk top hi ov cmd cm at_ ft hs σ) = some (J (mkA m (m 1217) (-1) (mk0, stk, 0, 0, 0)).1, (tput t m old saved isS text tl rf_ far (((mkA m (m 1217) (-1) (mk0, stk, 0, 0, 0)).2).1) (((mkA m (m 1217) (-1) (mk0, stk, 0, 0, 0)).2).2.1) (((mkA m (m 1217) (-1) (mk0, stk, 0, 0, 0)).2).2.2.1) (((mkA m (m 1217) (-1) (mk0, stk, 0, 0, 0)).2).2.2.2.1) (((mkA m (m 1217) (-1) (mk0, stk, 0, 0, 0)).2).2.2.2.2) cmd cm at_ ft hs σ)) := by
  have hW := hm.hW
  have hD := hm.hD
  refine ⟨fun b => if 0 ≤ b ∧ b < 200 then 0 else mk b, fun b b1 b2 => if_pos ⟨b1, b2⟩, fun b hb => if_neg hb, ?_⟩
  generalize hmk0 : (fun b : Int => if 0 ≤ b ∧ b < 200 then (0 : Int) else mk b) = mk0
  have hmk1 : ∀ b, 0 ≤ b → b < 200 → mk0 b = 0 := fun b b1 b2 => by rw [← hmk0]; exact if_pos ⟨b1, b2⟩
  have hI0 : IE m (m 1217) (mk0, stk, 0, 0, 0) := ⟨⟨fun b b1 b2 => Or.inl (hmk1 b b1 b2), ⟨by dsimp only; omega, by dsimp only; omega⟩, ⟨by dsimp only; omega, by dsimp only; omega⟩, Or.inl rfl, fun k k1 k2 => by dsimp only at k2; omega, by have := um_b mk0; dsimp only; omega⟩, rfl⟩
  unfold f_X2_marks g_X2_marks_0
  rw [lgo_l, show (0 : Int32) = J 0 from J_lit 0]
  rw [lpx_steps2 (f := s_X2_marks t) (fun k => .inl (J k, (tput t m old saved isS text tl rf_ far (fun b => if 0 ≤ b ∧ b < (k : Int) then 0 else mk b) stk top hi ov cmd cm at_ ft hs σ))) 200 (by
    have h0 : (fun b : Int => if 0 ≤ b ∧ b < ((0 : Nat) : Int) then (0 : Int) else mk b) = mk := by
      funext b
      rw [if_neg (by omega)]
    simp only [h0]
    rfl) (by
    intro k hk
    have h0 : up (fun b : Int => if 0 ≤ b ∧ b < (k : Int) then (0 : Int) else mk b) k 0 = fun b : Int => if 0 ≤ b ∧ b < ((k + 1 : Nat) : Int) then (0 : Int) else mk b := by
      funext b
      unfold up
      grind
    unfold s_X2_marks g_X2_marks_2
    dsimp only
    simp (disch := omega) only [Option.bind_some, tw_gm, tw_gold, tw_gsaved, tw_gisS, tw_gtext, tw_gtl, tw_grf_, tw_gfar, tw_gmk, tw_gstk, tw_gtop, tw_ghi, tw_gov, tw_gcmd, tw_gcm, tw_gat_, tw_gft, tw_ghs, tw_nm, tw_nold, tw_nsaved, tw_nisS, tw_ntext, tw_nfar, tw_nmk, tw_nstk, tw_ncmd, tw_ck, tw_am, tw_aold, tw_asaved, tw_aisS, tw_atext, tw_afar, tw_amk, tw_astk, tw_acmd, tw_sm, tw_sold, tw_ssaved, tw_sisS, tw_stext, tw_sfar, tw_smk, tw_sstk, tw_scmd, tw_ptl, tw_prf_, tw_ptop, tw_phi, tw_pov, tw_pcm, tw_pat_, tw_pft, tw_phs, tw_zov, J_add, J_sub, J_mul, J_neg, J_lit, J_lt, J_le, J_eq, Int.reduceAdd, Int.reduceSub, Int.reduceMul, Int.reduceNeg, Int.reduceEq, Int.reduceLT, Int.reduceLE, reduceIte, Int.zero_add, Int.add_zero, and_self, true_and, and_true, false_and, and_false, or_true, true_or, or_false, false_or, not_true_eq_false, not_false_eq_true, ne_eq, b2_s, if_neg (show ¬ (200 : Int) ≤ k by omega), h0]
    rfl)]
  rw [show (((200 : Nat)) : Int) = 200 from rfl, hmk0]
  rw [lpx_n (s' := .inr (.inl (J 0, (tput t m old saved isS text tl rf_ far (((mk0, stk, 0, 0, 0)).1) (((mk0, stk, 0, 0, 0)).2.1) (((mk0, stk, 0, 0, 0)).2.2.1) (((mk0, stk, 0, 0, 0)).2.2.2.1) (((mk0, stk, 0, 0, 0)).2.2.2.2) cmd cm at_ ft hs σ)))) (by
    unfold s_X2_marks g_X2_marks_2
    dsimp only
    simp (disch := omega) only [Option.bind_some, tw_gm, tw_gold, tw_gsaved, tw_gisS, tw_gtext, tw_gtl, tw_grf_, tw_gfar, tw_gmk, tw_gstk, tw_gtop, tw_ghi, tw_gov, tw_gcmd, tw_gcm, tw_gat_, tw_gft, tw_ghs, tw_nm, tw_nold, tw_nsaved, tw_nisS, tw_ntext, tw_nfar, tw_nmk, tw_nstk, tw_ncmd, tw_ck, tw_am, tw_aold, tw_asaved, tw_aisS, tw_atext, tw_afar, tw_amk, tw_astk, tw_acmd, tw_sm, tw_sold, tw_ssaved, tw_sisS, tw_stext, tw_sfar, tw_smk, tw_sstk, tw_scmd, tw_ptl, tw_prf_, tw_ptop, tw_phi, tw_pov, tw_pcm, tw_pat_, tw_pft, tw_phs, tw_zov, J_add, J_sub, J_mul, J_neg, J_lit, J_lt, J_le, J_eq, Int.reduceAdd, Int.reduceSub, Int.reduceMul, Int.reduceNeg, Int.reduceEq, Int.reduceLT, Int.reduceLE, reduceIte, Int.zero_add, Int.add_zero, and_self, true_and, and_true, false_and, and_false, or_true, true_or, or_false, false_or, not_true_eq_false, not_false_eq_true, ne_eq, b2_s, if_pos (show (200 : Int) ≤ 200 by omega)])]
  -- roots
  obtain ⟨s1, h1, hI1, rfl⟩ := lpx_itr (f := s_X2_marks t) (g := fun k B => stA m (m 1217) (-1) (oo9 m (m (1200 + k))) B) (fun k B s => IE m (m 1217) B ∧ s = .inr (.inl (J k, (tput t m old saved isS text tl rf_ far B.1 B.2.1 B.2.2.1 B.2.2.2.1 B.2.2.2.2 cmd cm at_ ft hs σ)))) 6 (by
    rintro k B s hk ⟨hB, rfl⟩
    have hr := hm.hr k (by omega) (by omega)
    have hb9 := rf_ir hm hr
    have hst := stA_g (w := -1) hB.1 (oo9_h m (m (1200 + k)))
    refine ⟨.inr (.inl (J (k + 1 : Nat), (tput t m old saved isS text tl rf_ far ((stA m (m 1217) (-1) (oo9 m (m (1200 + k))) B).1) ((stA m (m 1217) (-1) (oo9 m (m (1200 + k))) B).2.1) ((stA m (m 1217) (-1) (oo9 m (m (1200 + k))) B).2.2.1) ((stA m (m 1217) (-1) (oo9 m (m (1200 + k))) B).2.2.2.1) ((stA m (m 1217) (-1) (oo9 m (m (1200 + k))) B).2.2.2.2) cmd cm at_ ft hs σ))), ?_, ⟨hst.1.1, hst.2⟩, rfl⟩
    refine lpx_n ?_
    unfold s_X2_marks g_X2_marks_39
    dsimp only
    have hx9 : ir (m (1200 + (k : Int))) := by unfold ir; omega
    have hre := tm_reachA (σ := σ) (t := t) (old := old) (saved := saved) (isS := isS) (text := text) (far := far) (cmd := cmd) (tl := tl) (rf_ := rf_) (cm := cm) (at_ := at_) (ft := ft) (hs := hs) hm hB.1 hx9
    have hdr := tm_drainsA (σ := σ) (t := t) (old := old) (saved := saved) (isS := isS) (text := text) (far := far) (cmd := cmd) (tl := tl) (rf_ := rf_) (cm := cm) (at_ := at_) (ft := ft) (hs := hs) hm (rcA_g (w := -1) hB.1 (oo9_h m (m (1200 + (k : Int))))).1
    simp (disch := omega) only [Option.bind_some, tw_gm, tw_gold, tw_gsaved, tw_gisS, tw_gtext, tw_gtl, tw_grf_, tw_gfar, tw_gmk, tw_gstk, tw_gtop, tw_ghi, tw_gov, tw_gcmd, tw_gcm, tw_gat_, tw_gft, tw_ghs, tw_nm, tw_nold, tw_nsaved, tw_nisS, tw_ntext, tw_nfar, tw_nmk, tw_nstk, tw_ncmd, tw_ck, tw_am, tw_aold, tw_asaved, tw_aisS, tw_atext, tw_afar, tw_amk, tw_astk, tw_acmd, tw_sm, tw_sold, tw_ssaved, tw_sisS, tw_stext, tw_sfar, tw_smk, tw_sstk, tw_scmd, tw_ptl, tw_prf_, tw_ptop, tw_phi, tw_pov, tw_pcm, tw_pat_, tw_pft, tw_phs, tw_zov, J_add, J_sub, J_mul, J_neg, J_lit, J_lt, J_le, J_eq, Int.reduceAdd, Int.reduceSub, Int.reduceMul, Int.reduceNeg, Int.reduceEq, Int.reduceLT, Int.reduceLE, reduceIte, Int.zero_add, Int.add_zero, and_self, true_and, and_true, false_and, and_false, or_true, true_or, or_false, false_or, not_true_eq_false, not_false_eq_true, ne_eq, b2_s, if_neg (show ¬ (6 : Int) ≤ k by omega), hre, hdr]
    rfl) (mk0, stk, 0, 0, 0) (.inr (.inl (J 0, (tput t m old saved isS text tl rf_ far (((mk0, stk, 0, 0, 0)).1) (((mk0, stk, 0, 0, 0)).2.1) (((mk0, stk, 0, 0, 0)).2.2.1) (((mk0, stk, 0, 0, 0)).2.2.2.1) (((mk0, stk, 0, 0, 0)).2.2.2.2) cmd cm at_ ft hs σ)))) ⟨hI0, rfl⟩
  rw [h1]
  generalize hB1 : itr (fun k B => stA m (m 1217) (-1) (oo9 m (m (1200 + k))) B) 6 (mk0, stk, 0, 0, 0) = B1 at hI1
  rw [lpx_n (s' := .inr (.inr (.inl (J 0, (tput t m old saved isS text tl rf_ far B1.1 B1.2.1 B1.2.2.1 B1.2.2.2.1 B1.2.2.2.2 cmd cm at_ ft hs σ))))) (by
    unfold s_X2_marks g_X2_marks_39
    dsimp only
    simp (disch := omega) only [Option.bind_some, tw_gm, tw_gold, tw_gsaved, tw_gisS, tw_gtext, tw_gtl, tw_grf_, tw_gfar, tw_gmk, tw_gstk, tw_gtop, tw_ghi, tw_gov, tw_gcmd, tw_gcm, tw_gat_, tw_gft, tw_ghs, tw_nm, tw_nold, tw_nsaved, tw_nisS, tw_ntext, tw_nfar, tw_nmk, tw_nstk, tw_ncmd, tw_ck, tw_am, tw_aold, tw_asaved, tw_aisS, tw_atext, tw_afar, tw_amk, tw_astk, tw_acmd, tw_sm, tw_sold, tw_ssaved, tw_sisS, tw_stext, tw_sfar, tw_smk, tw_sstk, tw_scmd, tw_ptl, tw_prf_, tw_ptop, tw_phi, tw_pov, tw_pcm, tw_pat_, tw_pft, tw_phs, tw_zov, J_add, J_sub, J_mul, J_neg, J_lit, J_lt, J_le, J_eq, Int.reduceAdd, Int.reduceSub, Int.reduceMul, Int.reduceNeg, Int.reduceEq, Int.reduceLT, Int.reduceLE, reduceIte, Int.zero_add, Int.add_zero, and_self, true_and, and_true, false_and, and_false, or_true, true_or, or_false, false_or, not_true_eq_false, not_false_eq_true, ne_eq, b2_s, if_pos (show (6 : Int) ≤ (6 : Nat) by omega)])]
  -- the pinned
  obtain ⟨s2, h2, hI2, rfl⟩ := lpx_itr (f := s_X2_marks t) (g := piO m (m 1217) (-1)) (fun k B s => IE m (m 1217) B ∧ s = .inr (.inr (.inl (J k, (tput t m old saved isS text tl rf_ far B.1 B.2.1 B.2.2.1 B.2.2.2.1 B.2.2.2.2 cmd cm at_ ft hs σ))))) (m 1216).toNat (by
    rintro a B s ha ⟨hB, rfl⟩
    have hg := piO_g (w := -1) hB (a := a) (by omega) (by omega)
    refine ⟨.inr (.inr (.inl (J ((a + 1 : Nat) : Int), (tput t m old saved isS text tl rf_ far ((piO m (m 1217) (-1) a B).1) ((piO m (m 1217) (-1) a B).2.1) ((piO m (m 1217) (-1) a B).2.2.1) ((piO m (m 1217) (-1) a B).2.2.2.1) ((piO m (m 1217) (-1) a B).2.2.2.2) cmd cm at_ ft hs σ)))), ?_, ⟨hg.1.1, hg.2⟩, rfl⟩
    have hsz := hm.hs a (by omega) (by omega)
    have hp := hm.hp a (by omega) (by omega)
    refine lpx_n ?_
    have hno : f_X2_reach t (J (-1)) (tput t m old saved isS text tl rf_ far B.1 B.2.1 B.2.2.1 B.2.2.2.1 B.2.2.2.2 cmd cm at_ ft hs σ) = some (tput t m old saved isS text tl rf_ far ((rcA (m 1217) (-1) (oo9 m (-1)) B).1) ((rcA (m 1217) (-1) (oo9 m (-1)) B).2.1) ((rcA (m 1217) (-1) (oo9 m (-1)) B).2.2.1) ((rcA (m 1217) (-1) (oo9 m (-1)) B).2.2.2.1) ((rcA (m 1217) (-1) (oo9 m (-1)) B).2.2.2.2) cmd cm at_ ft hs σ) := tm_reachA hm hB.1 (by unfold ir; omega)
    have ho1 : oo9 m (-1) = -1 := if_pos rfl
    rw [ho1] at hno
    have hdr : f_X2_drains t (tput t m old saved isS text tl rf_ far ((rcA (m 1217) (-1) (-1) B).1) ((rcA (m 1217) (-1) (-1) B).2.1) ((rcA (m 1217) (-1) (-1) B).2.2.1) ((rcA (m 1217) (-1) (-1) B).2.2.2.1) ((rcA (m 1217) (-1) (-1) B).2.2.2.2) cmd cm at_ ft hs σ) = some (tput t m old saved isS text tl rf_ far ((stA m (m 1217) (-1) (-1) B).1) ((stA m (m 1217) (-1) (-1) B).2.1) ((stA m (m 1217) (-1) (-1) B).2.2.1) ((stA m (m 1217) (-1) (-1) B).2.2.2.1) ((stA m (m 1217) (-1) (-1) B).2.2.2.2) cmd cm at_ ft hs σ) := tm_drainsA hm (rcA_g hB.1 (Or.inl rfl)).1
    unfold s_X2_marks g_X2_marks_71 piO
    dsimp only
    by_cases c1 : m (a : Int) ≤ 0
    · rw [if_neg (show ¬ 0 < m (a : Int) by omega)]
      simp (disch := omega) only [Option.bind_some, tw_gm, tw_gold, tw_gsaved, tw_gisS, tw_gtext, tw_gtl, tw_grf_, tw_gfar, tw_gmk, tw_gstk, tw_gtop, tw_ghi, tw_gov, tw_gcmd, tw_gcm, tw_gat_, tw_gft, tw_ghs, tw_nm, tw_nold, tw_nsaved, tw_nisS, tw_ntext, tw_nfar, tw_nmk, tw_nstk, tw_ncmd, tw_ck, tw_am, tw_aold, tw_asaved, tw_aisS, tw_atext, tw_afar, tw_amk, tw_astk, tw_acmd, tw_sm, tw_sold, tw_ssaved, tw_sisS, tw_stext, tw_sfar, tw_smk, tw_sstk, tw_scmd, tw_ptl, tw_prf_, tw_ptop, tw_phi, tw_pov, tw_pcm, tw_pat_, tw_pft, tw_phs, tw_zov, J_add, J_sub, J_mul, J_neg, J_lit, J_lt, J_le, J_eq, Int.reduceAdd, Int.reduceSub, Int.reduceMul, Int.reduceNeg, Int.reduceEq, Int.reduceLT, Int.reduceLE, reduceIte, Int.zero_add, Int.add_zero, and_self, true_and, and_true, false_and, and_false, or_true, true_or, or_false, false_or, not_true_eq_false, not_false_eq_true, ne_eq, b2_s, if_neg (show ¬ m 1216 ≤ (a : Int) by omega), if_pos c1, hno, hdr, stA_0 hB.2]
      rfl
    · rw [if_pos (show 0 < m (a : Int) by omega)]
      by_cases c2 : m (400 + (a : Int)) = 1
      · rw [if_pos c2]
        have hre : f_X2_reach t (J a) (tput t m old saved isS text tl rf_ far B.1 B.2.1 B.2.2.1 B.2.2.2.1 B.2.2.2.2 cmd cm at_ ft hs σ) = some (tput t m old saved isS text tl rf_ far ((rcA (m 1217) (-1) (oo9 m a) B).1) ((rcA (m 1217) (-1) (oo9 m a) B).2.1) ((rcA (m 1217) (-1) (oo9 m a) B).2.2.1) ((rcA (m 1217) (-1) (oo9 m a) B).2.2.2.1) ((rcA (m 1217) (-1) (oo9 m a) B).2.2.2.2) cmd cm at_ ft hs σ) := tm_reachA hm hB.1 (by unfold ir; omega)
        have ho2 : oo9 m a = a := by
          unfold oo9
          rw [if_neg (by omega), ob_e hm (a := a) ⟨by omega, by omega, by omega, by omega, by omega⟩]
        rw [ho2] at hre
        have hdr2 : f_X2_drains t (tput t m old saved isS text tl rf_ far ((rcA (m 1217) (-1) a B).1) ((rcA (m 1217) (-1) a B).2.1) ((rcA (m 1217) (-1) a B).2.2.1) ((rcA (m 1217) (-1) a B).2.2.2.1) ((rcA (m 1217) (-1) a B).2.2.2.2) cmd cm at_ ft hs σ) = some (tput t m old saved isS text tl rf_ far ((stA m (m 1217) (-1) a B).1) ((stA m (m 1217) (-1) a B).2.1) ((stA m (m 1217) (-1) a B).2.2.1) ((stA m (m 1217) (-1) a B).2.2.2.1) ((stA m (m 1217) (-1) a B).2.2.2.2) cmd cm at_ ft hs σ) := tm_drainsA hm (rcA_g hB.1 (Or.inr ⟨by omega, by omega, by omega⟩)).1
        simp (disch := omega) only [Option.bind_some, tw_gm, tw_gold, tw_gsaved, tw_gisS, tw_gtext, tw_gtl, tw_grf_, tw_gfar, tw_gmk, tw_gstk, tw_gtop, tw_ghi, tw_gov, tw_gcmd, tw_gcm, tw_gat_, tw_gft, tw_ghs, tw_nm, tw_nold, tw_nsaved, tw_nisS, tw_ntext, tw_nfar, tw_nmk, tw_nstk, tw_ncmd, tw_ck, tw_am, tw_aold, tw_asaved, tw_aisS, tw_atext, tw_afar, tw_amk, tw_astk, tw_acmd, tw_sm, tw_sold, tw_ssaved, tw_sisS, tw_stext, tw_sfar, tw_smk, tw_sstk, tw_scmd, tw_ptl, tw_prf_, tw_ptop, tw_phi, tw_pov, tw_pcm, tw_pat_, tw_pft, tw_phs, tw_zov, J_add, J_sub, J_mul, J_neg, J_lit, J_lt, J_le, J_eq, Int.reduceAdd, Int.reduceSub, Int.reduceMul, Int.reduceNeg, Int.reduceEq, Int.reduceLT, Int.reduceLE, reduceIte, Int.zero_add, Int.add_zero, and_self, true_and, and_true, false_and, and_false, or_true, true_or, or_false, false_or, not_true_eq_false, not_false_eq_true, ne_eq, b2_s, if_neg (show ¬ m 1216 ≤ (a : Int) by omega), if_neg c1, c2, hre, hdr2]
        rfl
      · rw [if_neg c2]
        have c3 : m (400 + (a : Int)) = 0 := by omega
        simp (disch := omega) only [Option.bind_some, tw_gm, tw_gold, tw_gsaved, tw_gisS, tw_gtext, tw_gtl, tw_grf_, tw_gfar, tw_gmk, tw_gstk, tw_gtop, tw_ghi, tw_gov, tw_gcmd, tw_gcm, tw_gat_, tw_gft, tw_ghs, tw_nm, tw_nold, tw_nsaved, tw_nisS, tw_ntext, tw_nfar, tw_nmk, tw_nstk, tw_ncmd, tw_ck, tw_am, tw_aold, tw_asaved, tw_aisS, tw_atext, tw_afar, tw_amk, tw_astk, tw_acmd, tw_sm, tw_sold, tw_ssaved, tw_sisS, tw_stext, tw_sfar, tw_smk, tw_sstk, tw_scmd, tw_ptl, tw_prf_, tw_ptop, tw_phi, tw_pov, tw_pcm, tw_pat_, tw_pft, tw_phs, tw_zov, J_add, J_sub, J_mul, J_neg, J_lit, J_lt, J_le, J_eq, Int.reduceAdd, Int.reduceSub, Int.reduceMul, Int.reduceNeg, Int.reduceEq, Int.reduceLT, Int.reduceLE, reduceIte, Int.zero_add, Int.add_zero, and_self, true_and, and_true, false_and, and_false, or_true, true_or, or_false, false_or, not_true_eq_false, not_false_eq_true, ne_eq, b2_s, if_neg (show ¬ m 1216 ≤ (a : Int) by omega), if_neg c1, c3, hno, hdr]
        rfl) B1 (.inr (.inr (.inl (J 0, (tput t m old saved isS text tl rf_ far B1.1 B1.2.1 B1.2.2.1 B1.2.2.2.1 B1.2.2.2.2 cmd cm at_ ft hs σ))))) ⟨hI1, rfl⟩
  rw [h2]
  have hbe : beA m (m 1217) (-1) (mk0, stk, 0, 0, 0) = itr (piO m (m 1217) (-1)) (m 1216).toNat B1 := by
    unfold beA
    rw [hB1]
  rw [← hbe] at hI2 ⊢
  rw [lpx_n (s' := .inr (.inr (.inr (J 0, (tput t m old saved isS text tl rf_ far ((beA m (m 1217) (-1) (mk0, stk, 0, 0, 0)).1) ((beA m (m 1217) (-1) (mk0, stk, 0, 0, 0)).2.1) ((beA m (m 1217) (-1) (mk0, stk, 0, 0, 0)).2.2.1) ((beA m (m 1217) (-1) (mk0, stk, 0, 0, 0)).2.2.2.1) ((beA m (m 1217) (-1) (mk0, stk, 0, 0, 0)).2.2.2.2) cmd cm at_ ft hs σ))))) (by
    unfold s_X2_marks g_X2_marks_71
    dsimp only
    simp (disch := omega) only [Option.bind_some, tw_gm, tw_gold, tw_gsaved, tw_gisS, tw_gtext, tw_gtl, tw_grf_, tw_gfar, tw_gmk, tw_gstk, tw_gtop, tw_ghi, tw_gov, tw_gcmd, tw_gcm, tw_gat_, tw_gft, tw_ghs, tw_nm, tw_nold, tw_nsaved, tw_nisS, tw_ntext, tw_nfar, tw_nmk, tw_nstk, tw_ncmd, tw_ck, tw_am, tw_aold, tw_asaved, tw_aisS, tw_atext, tw_afar, tw_amk, tw_astk, tw_acmd, tw_sm, tw_sold, tw_ssaved, tw_sisS, tw_stext, tw_sfar, tw_smk, tw_sstk, tw_scmd, tw_ptl, tw_prf_, tw_ptop, tw_phi, tw_pov, tw_pcm, tw_pat_, tw_pft, tw_phs, tw_zov, J_add, J_sub, J_mul, J_neg, J_lit, J_lt, J_le, J_eq, Int.reduceAdd, Int.reduceSub, Int.reduceMul, Int.reduceNeg, Int.reduceEq, Int.reduceLT, Int.reduceLE, reduceIte, Int.zero_add, Int.add_zero, and_self, true_and, and_true, false_and, and_false, or_true, true_or, or_false, false_or, not_true_eq_false, not_false_eq_true, ne_eq, b2_s, Int.toNat_of_nonneg (show 0 ≤ m 1216 by omega), if_pos (show m 1216 ≤ m 1216 by omega)])]
  -- scans
  obtain ⟨s3, h3, ⟨hI3, hN1, hN2⟩, rfl⟩ := lpx_fl (f := s_X2_marks t) (c := fun B : Int × AM => B.2.2.2.2.2 ≠ 0) (g := fun B => (B.1 + 1, scA m (m 1217) (-1) B.2)) (fun B s => (IE m (m 1217) B.2 ∧ 0 ≤ B.1 ∧ B.1 + (2 * um B.2.1 + B.2.2.2.2.2) ≤ 500) ∧ s = .inr (.inr (.inr (J B.1, (tput t m old saved isS text tl rf_ far B.2.1 B.2.2.1 B.2.2.2.1 B.2.2.2.2.1 B.2.2.2.2.2 cmd cm at_ ft hs σ))))) (by
    rintro B s ⟨⟨hB, hB1, hB2⟩, rfl⟩ hc
    obtain ⟨⟨q1, q2, q3, q4, q5⟩, q6⟩ := scA_g (w := -1) hB
    dsimp only at q4
    have hov := hB.1.2.2.2.1
    have hu := um_b B.2.1
    refine ⟨.inr (.inr (.inr (J (B.1 + 1), (tput t m old saved isS text tl rf_ far ((scA m (m 1217) (-1) B.2).1) ((scA m (m 1217) (-1) B.2).2.1) ((scA m (m 1217) (-1) B.2).2.2.1) ((scA m (m 1217) (-1) B.2).2.2.2.1) ((scA m (m 1217) (-1) B.2).2.2.2.2) cmd cm at_ ft hs σ)))), ?_, ⟨⟨q1, q6⟩, by dsimp only; omega, by dsimp only; omega⟩, rfl⟩
    refine lpx_n ?_
    have hsc : f_X2_scans t (tput t m old saved isS text tl rf_ far (((B.2.1, B.2.2.1, B.2.2.2.1, B.2.2.2.2.1, (0 : Int))).1) (((B.2.1, B.2.2.1, B.2.2.2.1, B.2.2.2.2.1, (0 : Int))).2.1) (((B.2.1, B.2.2.1, B.2.2.2.1, B.2.2.2.2.1, (0 : Int))).2.2.1) (((B.2.1, B.2.2.1, B.2.2.2.1, B.2.2.2.2.1, (0 : Int))).2.2.2.1) (((B.2.1, B.2.2.1, B.2.2.2.1, B.2.2.2.2.1, (0 : Int))).2.2.2.2) cmd cm at_ ft hs σ) = some (tput t m old saved isS text tl rf_ far ((scA m (m 1217) (-1) (B.2.1, B.2.2.1, B.2.2.2.1, B.2.2.2.2.1, (0 : Int))).1) ((scA m (m 1217) (-1) (B.2.1, B.2.2.1, B.2.2.2.1, B.2.2.2.2.1, (0 : Int))).2.1) ((scA m (m 1217) (-1) (B.2.1, B.2.2.1, B.2.2.2.1, B.2.2.2.2.1, (0 : Int))).2.2.1) ((scA m (m 1217) (-1) (B.2.1, B.2.2.1, B.2.2.2.1, B.2.2.2.2.1, (0 : Int))).2.2.2.1) ((scA m (m 1217) (-1) (B.2.1, B.2.2.1, B.2.2.2.1, B.2.2.2.2.1, (0 : Int))).2.2.2.2) cmd cm at_ ft hs σ) := tm_scansA hm ⟨⟨hB.1.1, hB.1.2.1, hB.1.2.2.1, Or.inl rfl, hB.1.2.2.2.2.1, hB.1.2.2.2.2.2⟩, hB.2⟩ rfl
    have hsc2 : scA m (m 1217) (-1) (B.2.1, B.2.2.1, B.2.2.2.1, B.2.2.2.2.1, (0 : Int)) = scA m (m 1217) (-1) B.2 := rfl
    rw [hsc2] at hsc
    unfold s_X2_marks g_X2_marks_129
    dsimp only at hc hsc ⊢
    have hov1 : B.2.2.2.2.2 = 1 := by omega
    simp (disch := omega) only [Option.bind_some, tw_gm, tw_gold, tw_gsaved, tw_gisS, tw_gtext, tw_gtl, tw_grf_, tw_gfar, tw_gmk, tw_gstk, tw_gtop, tw_ghi, tw_gov, tw_gcmd, tw_gcm, tw_gat_, tw_gft, tw_ghs, tw_nm, tw_nold, tw_nsaved, tw_nisS, tw_ntext, tw_nfar, tw_nmk, tw_nstk, tw_ncmd, tw_ck, tw_am, tw_aold, tw_asaved, tw_aisS, tw_atext, tw_afar, tw_amk, tw_astk, tw_acmd, tw_sm, tw_sold, tw_ssaved, tw_sisS, tw_stext, tw_sfar, tw_smk, tw_sstk, tw_scmd, tw_ptl, tw_prf_, tw_ptop, tw_phi, tw_pov, tw_pcm, tw_pat_, tw_pft, tw_phs, tw_zov, J_add, J_sub, J_mul, J_neg, J_lit, J_lt, J_le, J_eq, Int.reduceAdd, Int.reduceSub, Int.reduceMul, Int.reduceNeg, Int.reduceEq, Int.reduceLT, Int.reduceLE, reduceIte, Int.zero_add, Int.add_zero, and_self, true_and, and_true, false_and, and_false, or_true, true_or, or_false, false_or, not_true_eq_false, not_false_eq_true, ne_eq, b2_s, hov1, hsc]) 1000 (0, beA m (m 1217) (-1) (mk0, stk, 0, 0, 0)) (.inr (.inr (.inr (J 0, (tput t m old saved isS text tl rf_ far ((beA m (m 1217) (-1) (mk0, stk, 0, 0, 0)).1) ((beA m (m 1217) (-1) (mk0, stk, 0, 0, 0)).2.1) ((beA m (m 1217) (-1) (mk0, stk, 0, 0, 0)).2.2.1) ((beA m (m 1217) (-1) (mk0, stk, 0, 0, 0)).2.2.2.1) ((beA m (m 1217) (-1) (mk0, stk, 0, 0, 0)).2.2.2.2) cmd cm at_ ft hs σ))))) ⟨⟨hI2, by dsimp only; omega, by have := um_b (beA m (m 1217) (-1) (mk0, stk, 0, 0, 0)).1; have := hI2.1.2.2.2.1; dsimp only; omega⟩, rfl⟩
  rw [h3]
  have hfin := mkA_g (w := -1) hm hI0
  refine lpx_d ?_
  unfold mkA at hfin ⊢
  unfold s_X2_marks g_X2_marks_129
  dsimp only
  simp (disch := omega) only [Option.bind_some, tw_gm, tw_gold, tw_gsaved, tw_gisS, tw_gtext, tw_gtl, tw_grf_, tw_gfar, tw_gmk, tw_gstk, tw_gtop, tw_ghi, tw_gov, tw_gcmd, tw_gcm, tw_gat_, tw_gft, tw_ghs, tw_nm, tw_nold, tw_nsaved, tw_nisS, tw_ntext, tw_nfar, tw_nmk, tw_nstk, tw_ncmd, tw_ck, tw_am, tw_aold, tw_asaved, tw_aisS, tw_atext, tw_afar, tw_amk, tw_astk, tw_acmd, tw_sm, tw_sold, tw_ssaved, tw_sisS, tw_stext, tw_sfar, tw_smk, tw_sstk, tw_scmd, tw_ptl, tw_prf_, tw_ptop, tw_phi, tw_pov, tw_pcm, tw_pat_, tw_pft, tw_phs, tw_zov, J_add, J_sub, J_mul, J_neg, J_lit, J_lt, J_le, J_eq, Int.reduceAdd, Int.reduceSub, Int.reduceMul, Int.reduceNeg, Int.reduceEq, Int.reduceLT, Int.reduceLE, reduceIte, Int.zero_add, Int.add_zero, and_self, true_and, and_true, false_and, and_false, or_true, true_or, or_false, false_or, not_true_eq_false, not_false_eq_true, ne_eq, b2_s, hfin.2.1]
end T1
