/-! PLAIN LAW: the twin collects, whole. NAMES: tm_collect -/
set_option maxRecDepth 100000
section T1
variable {t : Nat} {m old saved isS text far mk stk cmd : Int → Int} {tl rf_ top hi ov cm at_ ft : Int} {hs : Int64} {σ : mm_M}
/-- the words on their way -/
theorem tm_slide (hm : WF m) (hold : ∀ j, 0 ≤ j → j < 1222 → old j = m j) (hF : ∀ b, 0 ≤ b → b < 200 → mk b = 0 ∨ mk b = 1) {bf sc : Int} : lpx (s_X2_collect t) (.inr (.inr (.inl (J bf, J sc, J 0, J 0, J 0, J 0, J 0, J 0, (tput t (rS9 (fun _ => -1) m) old saved isS text tl rf_ far mk stk top hi ov cmd cm at_ ft hs σ))))) = lpx (s_X2_collect t) (.inr (.inr (.inl (J bf, J sc, J (slA m mk).2.1, J (slA m mk).2.2.1, J (slA m mk).2.2.2.1, J (slA m mk).2.2.2.2.1, J (slA m mk).2.2.2.2.2, J (m 1216), (tput t (rS9 (slA m mk).1 m) old saved isS text tl rf_ far mk stk top hi ov cmd cm at_ ft hs σ))))) := by
  have hW := hm.hW
  obtain ⟨s', h1, h2, rfl⟩ := lpx_itr (f := s_X2_collect t) (g := slO m mk) (fun k s z => SI9 m mk k s ∧ z = .inr (.inr (.inl (J bf, J sc, J s.2.1, J s.2.2.1, J s.2.2.2.1, J s.2.2.2.2.1, J s.2.2.2.2.2, J k, (tput t (rS9 s.1 m) old saved isS text tl rf_ far mk stk top hi ov cmd cm at_ ft hs σ))))) (m 1216).toNat (by
    rintro a s z ha ⟨hS, rfl⟩
    have hmka := hF a (by omega) (by omega)
    have hsa := hm.hs a (by omega) (by omega)
    have hpa := hm.hp a (by omega) (by omega)
    have hnx := slO_i hm hS (by omega) (by omega)
    rw [show ((a : Int) + 1) = ((a + 1 : Nat) : Int) by omega] at hnx
    refine ⟨_, ?_, hnx, rfl⟩
    have e16 : rS9 s.1 m 1216 = m 1216 := rS9_h (by omega)
    have hpl := hS.1
    unfold slO
    by_cases c : 0 < m (a : Int) ∧ mk a = 1
    · rw [if_pos c]
      have hE := hm.he a (by omega) (by omega) c.1
      have hp2 := hpl.2 a (by omega) (by omega) c.1 (Int.le_refl _)
      have hto : 0 ≤ toO m s.2.1 a ∧ toO m s.2.1 a ≤ a := by
        unfold toO
        split <;> omega
      have hstart : lpx (s_X2_collect t) (.inr (.inr (.inl (J bf, J sc, J s.2.1, J s.2.2.1, J s.2.2.2.1, J s.2.2.2.2.1, J s.2.2.2.2.2, J a, (tput t (rS9 s.1 m) old saved isS text tl rf_ far mk stk top hi ov cmd cm at_ ft hs σ))))) = lpx (s_X2_collect t) (.inr (.inr (.inr (J bf, J sc, J s.2.2.1, J s.2.2.2.1, J s.2.2.2.2.1, J s.2.2.2.2.2, J a, J (toO m s.2.1 a), J 0, (tput t (rS9 s.1 m) old saved isS text tl rf_ far mk stk top hi ov cmd cm at_ ft hs σ))))) := by
        refine lpx_n ?_
        unfold s_X2_collect g_X2_collect_80 toO
        dsimp only
        by_cases c4 : m (400 + (a : Int)) = 1
        · simp (maxSteps := 2000000) (disch := omega) only [Option.bind_some, tw_gm, tw_gold, tw_gsaved, tw_gisS, tw_gtext, tw_gtl, tw_grf_, tw_gfar, tw_gmk, tw_gstk, tw_gtop, tw_ghi, tw_gov, tw_gcmd, tw_gcm, tw_gat_, tw_gft, tw_ghs, tw_nm, tw_nold, tw_nsaved, tw_nisS, tw_ntext, tw_nfar, tw_nmk, tw_nstk, tw_ncmd, tw_ck, tw_am, tw_aold, tw_asaved, tw_aisS, tw_atext, tw_afar, tw_amk, tw_astk, tw_acmd, tw_sm, tw_sold, tw_ssaved, tw_sisS, tw_stext, tw_sfar, tw_smk, tw_sstk, tw_scmd, tw_ptl, tw_prf_, tw_ptop, tw_phi, tw_pov, tw_pcm, tw_pat_, tw_pft, tw_phs, tw_zov, J_add, J_sub, J_mul, J_neg, J_lit, J_lt, J_le, J_eq, Int.reduceAdd, Int.reduceSub, Int.reduceMul, Int.reduceNeg, Int.reduceEq, Int.reduceLT, Int.reduceLE, ↓reduceIte, Int.zero_add, Int.add_zero, and_self, true_and, and_true, false_and, and_false, or_true, true_or, or_false, false_or, not_true_eq_false, not_false_eq_true, ne_eq, b2_s, e16, if_neg (show ¬ m 1216 ≤ (a : Int) by omega), hold a (by omega) (by omega), if_neg (show ¬ m (a : Int) ≤ 0 by omega), c.2, hold (400 + a) (by omega) (by omega), c4]
        · have c5 : m (400 + (a : Int)) = 0 := by omega
          simp (maxSteps := 2000000) (disch := omega) only [Option.bind_some, tw_gm, tw_gold, tw_gsaved, tw_gisS, tw_gtext, tw_gtl, tw_grf_, tw_gfar, tw_gmk, tw_gstk, tw_gtop, tw_ghi, tw_gov, tw_gcmd, tw_gcm, tw_gat_, tw_gft, tw_ghs, tw_nm, tw_nold, tw_nsaved, tw_nisS, tw_ntext, tw_nfar, tw_nmk, tw_nstk, tw_ncmd, tw_ck, tw_am, tw_aold, tw_asaved, tw_aisS, tw_atext, tw_afar, tw_amk, tw_astk, tw_acmd, tw_sm, tw_sold, tw_ssaved, tw_sisS, tw_stext, tw_sfar, tw_smk, tw_sstk, tw_scmd, tw_ptl, tw_prf_, tw_ptop, tw_phi, tw_pov, tw_pcm, tw_pat_, tw_pft, tw_phs, tw_zov, J_add, J_sub, J_mul, J_neg, J_lit, J_lt, J_le, J_eq, Int.reduceAdd, Int.reduceSub, Int.reduceMul, Int.reduceNeg, Int.reduceEq, Int.reduceLT, Int.reduceLE, ↓reduceIte, Int.zero_add, Int.add_zero, and_self, true_and, and_true, false_and, and_false, or_true, true_or, or_false, false_or, not_true_eq_false, not_false_eq_true, ne_eq, b2_s, e16, if_neg (show ¬ m 1216 ≤ (a : Int) by omega), hold a (by omega) (by omega), if_neg (show ¬ m (a : Int) ≤ 0 by omega), c.2, hold (400 + a) (by omega) (by omega), c5]
      rw [hstart]
      generalize toO m s.2.1 a = to at hto
      rw [lpx_steps2 (f := s_X2_collect t) (fun k => .inr (.inr (.inr (J bf, J sc, J s.2.2.1, J s.2.2.2.1, J s.2.2.2.2.1, J s.2.2.2.2.2, J a, J to, J k, (tput t (rS9 (fun j => if (a : Int) ≤ j ∧ j < a + (k : Int) then to + (j - a) else s.1 j) m) old saved isS text tl rf_ far mk stk top hi ov cmd cm at_ ft hs σ))))) (m (a : Int)).toNat (by
        have h0 : (fun j : Int => if (a : Int) ≤ j ∧ j < a + ((0 : Nat) : Int) then to + (j - a) else s.1 j) = s.1 := by
          funext j
          rw [if_neg (by omega)]
        simp only [h0]
        rfl) (by
        intro k hk
        have hup : up (rS9 (fun j => if (a : Int) ≤ j ∧ j < a + (k : Int) then to + (j - a) else s.1 j) m) (1000 + a + k) (to + k) = rS9 (fun j => if (a : Int) ≤ j ∧ j < a + ((k + 1 : Nat) : Int) then to + (j - a) else s.1 j) m := by
          funext j
          unfold up rS9
          dsimp only
          by_cases hj : j = 1000 + (a : Int) + k
          · rw [if_pos hj, if_pos (by omega), if_pos (by omega)]
            omega
          · rw [if_neg hj]
            by_cases hj2 : 1000 ≤ j ∧ j < 1200
            · rw [if_pos hj2, if_pos hj2]
              by_cases hj3 : (a : Int) ≤ j - 1000 ∧ j - 1000 < a + (k : Int)
              · rw [if_pos hj3, if_pos (by omega)]
              · rw [if_neg hj3, if_neg (by omega)]
            · rw [if_neg hj2, if_neg hj2]
        generalize (rS9 (fun j => if (a : Int) ≤ j ∧ j < a + (k : Int) then to + (j - a) else s.1 j) m) = row at hup ⊢
        unfold s_X2_collect g_X2_collect_141
        dsimp only
        simp (maxSteps := 2000000) (disch := omega) only [Option.bind_some, tw_gm, tw_gold, tw_gsaved, tw_gisS, tw_gtext, tw_gtl, tw_grf_, tw_gfar, tw_gmk, tw_gstk, tw_gtop, tw_ghi, tw_gov, tw_gcmd, tw_gcm, tw_gat_, tw_gft, tw_ghs, tw_nm, tw_nold, tw_nsaved, tw_nisS, tw_ntext, tw_nfar, tw_nmk, tw_nstk, tw_ncmd, tw_ck, tw_am, tw_aold, tw_asaved, tw_aisS, tw_atext, tw_afar, tw_amk, tw_astk, tw_acmd, tw_sm, tw_sold, tw_ssaved, tw_sisS, tw_stext, tw_sfar, tw_smk, tw_sstk, tw_scmd, tw_ptl, tw_prf_, tw_ptop, tw_phi, tw_pov, tw_pcm, tw_pat_, tw_pft, tw_phs, tw_zov, J_add, J_sub, J_mul, J_neg, J_lit, J_lt, J_le, J_eq, Int.reduceAdd, Int.reduceSub, Int.reduceMul, Int.reduceNeg, Int.reduceEq, Int.reduceLT, Int.reduceLE, ↓reduceIte, Int.zero_add, Int.add_zero, and_self, true_and, and_true, false_and, and_false, or_true, true_or, or_false, false_or, not_true_eq_false, not_false_eq_true, ne_eq, b2_s, hold a (by omega) (by omega), if_neg (show ¬ m (a : Int) ≤ (k : Int) by omega), hup]
        rfl)]
      rw [show (((m (a : Int)).toNat : Nat) : Int) = m (a : Int) by omega]
      generalize (rS9 (fun j => if (a : Int) ≤ j ∧ j < a + m (a : Int) then to + (j - a) else s.1 j) m) = row
      refine lpx_n ?_
      unfold s_X2_collect g_X2_collect_141 g_X2_collect_224
      dsimp only
      by_cases c6 : to = (a : Int)
      · simp (maxSteps := 2000000) (disch := omega) only [Option.bind_some, tw_gm, tw_gold, tw_gsaved, tw_gisS, tw_gtext, tw_gtl, tw_grf_, tw_gfar, tw_gmk, tw_gstk, tw_gtop, tw_ghi, tw_gov, tw_gcmd, tw_gcm, tw_gat_, tw_gft, tw_ghs, tw_nm, tw_nold, tw_nsaved, tw_nisS, tw_ntext, tw_nfar, tw_nmk, tw_nstk, tw_ncmd, tw_ck, tw_am, tw_aold, tw_asaved, tw_aisS, tw_atext, tw_afar, tw_amk, tw_astk, tw_acmd, tw_sm, tw_sold, tw_ssaved, tw_sisS, tw_stext, tw_sfar, tw_smk, tw_sstk, tw_scmd, tw_ptl, tw_prf_, tw_ptop, tw_phi, tw_pov, tw_pcm, tw_pat_, tw_pft, tw_phs, tw_zov, J_add, J_sub, J_mul, J_neg, J_lit, J_lt, J_le, J_eq, Int.reduceAdd, Int.reduceSub, Int.reduceMul, Int.reduceNeg, Int.reduceEq, Int.reduceLT, Int.reduceLE, ↓reduceIte, Int.zero_add, Int.add_zero, and_self, true_and, and_true, false_and, and_false, or_true, true_or, or_false, false_or, not_true_eq_false, not_false_eq_true, ne_eq, b2_s, hold a (by omega) (by omega), if_pos (show m (a : Int) ≤ m (a : Int) by omega), c6]
        rfl
      · simp (maxSteps := 2000000) (disch := omega) only [Option.bind_some, tw_gm, tw_gold, tw_gsaved, tw_gisS, tw_gtext, tw_gtl, tw_grf_, tw_gfar, tw_gmk, tw_gstk, tw_gtop, tw_ghi, tw_gov, tw_gcmd, tw_gcm, tw_gat_, tw_gft, tw_ghs, tw_nm, tw_nold, tw_nsaved, tw_nisS, tw_ntext, tw_nfar, tw_nmk, tw_nstk, tw_ncmd, tw_ck, tw_am, tw_aold, tw_asaved, tw_aisS, tw_atext, tw_afar, tw_amk, tw_astk, tw_acmd, tw_sm, tw_sold, tw_ssaved, tw_sisS, tw_stext, tw_sfar, tw_smk, tw_sstk, tw_scmd, tw_ptl, tw_prf_, tw_ptop, tw_phi, tw_pov, tw_pcm, tw_pat_, tw_pft, tw_phs, tw_zov, J_add, J_sub, J_mul, J_neg, J_lit, J_lt, J_le, J_eq, Int.reduceAdd, Int.reduceSub, Int.reduceMul, Int.reduceNeg, Int.reduceEq, Int.reduceLT, Int.reduceLE, ↓reduceIte, Int.zero_add, Int.add_zero, and_self, true_and, and_true, false_and, and_false, or_true, true_or, or_false, false_or, not_true_eq_false, not_false_eq_true, ne_eq, b2_s, hold a (by omega) (by omega), if_pos (show m (a : Int) ≤ m (a : Int) by omega), if_neg c6]
        rfl
    · rw [if_neg c]
      refine lpx_n ?_
      unfold s_X2_collect g_X2_collect_80
      dsimp only
      by_cases c2 : m (a : Int) ≤ 0
      · simp (maxSteps := 2000000) (disch := omega) only [Option.bind_some, tw_gm, tw_gold, tw_gsaved, tw_gisS, tw_gtext, tw_gtl, tw_grf_, tw_gfar, tw_gmk, tw_gstk, tw_gtop, tw_ghi, tw_gov, tw_gcmd, tw_gcm, tw_gat_, tw_gft, tw_ghs, tw_nm, tw_nold, tw_nsaved, tw_nisS, tw_ntext, tw_nfar, tw_nmk, tw_nstk, tw_ncmd, tw_ck, tw_am, tw_aold, tw_asaved, tw_aisS, tw_atext, tw_afar, tw_amk, tw_astk, tw_acmd, tw_sm, tw_sold, tw_ssaved, tw_sisS, tw_stext, tw_sfar, tw_smk, tw_sstk, tw_scmd, tw_ptl, tw_prf_, tw_ptop, tw_phi, tw_pov, tw_pcm, tw_pat_, tw_pft, tw_phs, tw_zov, J_add, J_sub, J_mul, J_neg, J_lit, J_lt, J_le, J_eq, Int.reduceAdd, Int.reduceSub, Int.reduceMul, Int.reduceNeg, Int.reduceEq, Int.reduceLT, Int.reduceLE, ↓reduceIte, Int.zero_add, Int.add_zero, and_self, true_and, and_true, false_and, and_false, or_true, true_or, or_false, false_or, not_true_eq_false, not_false_eq_true, ne_eq, b2_s, e16, if_neg (show ¬ m 1216 ≤ (a : Int) by omega), hold a (by omega) (by omega), if_pos c2]
        rfl
      · have c3 : mk a = 0 := by omega
        simp (maxSteps := 2000000) (disch := omega) only [Option.bind_some, tw_gm, tw_gold, tw_gsaved, tw_gisS, tw_gtext, tw_gtl, tw_grf_, tw_gfar, tw_gmk, tw_gstk, tw_gtop, tw_ghi, tw_gov, tw_gcmd, tw_gcm, tw_gat_, tw_gft, tw_ghs, tw_nm, tw_nold, tw_nsaved, tw_nisS, tw_ntext, tw_nfar, tw_nmk, tw_nstk, tw_ncmd, tw_ck, tw_am, tw_aold, tw_asaved, tw_aisS, tw_atext, tw_afar, tw_amk, tw_astk, tw_acmd, tw_sm, tw_sold, tw_ssaved, tw_sisS, tw_stext, tw_sfar, tw_smk, tw_sstk, tw_scmd, tw_ptl, tw_prf_, tw_ptop, tw_phi, tw_pov, tw_pcm, tw_pat_, tw_pft, tw_phs, tw_zov, J_add, J_sub, J_mul, J_neg, J_lit, J_lt, J_le, J_eq, Int.reduceAdd, Int.reduceSub, Int.reduceMul, Int.reduceNeg, Int.reduceEq, Int.reduceLT, Int.reduceLE, ↓reduceIte, Int.zero_add, Int.add_zero, and_self, true_and, and_true, false_and, and_false, or_true, true_or, or_false, false_or, not_true_eq_false, not_false_eq_true, ne_eq, b2_s, e16, if_neg (show ¬ m 1216 ≤ (a : Int) by omega), hold a (by omega) (by omega), if_neg c2, c3]
        rfl) sl0 (.inr (.inr (.inl (J bf, J sc, J 0, J 0, J 0, J 0, J 0, J 0, (tput t (rS9 (fun _ => -1) m) old saved isS text tl rf_ far mk stk top hi ov cmd cm at_ ft hs σ))))) ⟨⟨⟨Int.le_refl _, fun b b1 b2 b3 b4 => b1⟩, fun a ha h9 => by have := ha.1; omega, fun a b ha hb hab h9 => by have := hb.1; omega, fun j _ => rfl⟩, rfl⟩
  rw [h1, Int.toNat_of_nonneg (by omega)]
  rfl
theorem tm_collect (hm : WF m) : ∃ mk0 old', (∀ b, 0 ≤ b → b < 200 → mk0 b = 0) ∧ (∀ b, ¬ (0 ≤ b ∧ b < 200) → mk0 b = mk b) ∧ (∀ j, old' j = if 0 ≤ j ∧ j < 1222 then m j else old j) ∧ f_X2_collect t (tput t m old saved isS text tl rf_ far mk stk top hi ov cmd cm at_ ft hs σ) = some (J (sm m (m 1216).toNat - (slA m (mkA m (m 1217) (-1) (mk0, stk, 0, 0, 0)).2.1).2.2.2.1), (tput t (mC9 m (mkA m (m 1217) (-1) (mk0, stk, 0, 0, 0)).2.1 (mkA m (m 1217) (-1) (mk0, stk, 0, 0, 0)).1 (mkA m (m 1217) (-1) (mk0, stk, 0, 0, 0)).2.2.2.2.1) old' saved isS text tl rf_ far (((mkA m (m 1217) (-1) (mk0, stk, 0, 0, 0)).2).1) (((mkA m (m 1217) (-1) (mk0, stk, 0, 0, 0)).2).2.1) (((mkA m (m 1217) (-1) (mk0, stk, 0, 0, 0)).2).2.2.1) (((mkA m (m 1217) (-1) (mk0, stk, 0, 0, 0)).2).2.2.2.1) (((mkA m (m 1217) (-1) (mk0, stk, 0, 0, 0)).2).2.2.2.2) cmd cm at_ ft hs σ)) := by
  have hW := hm.hW
  have hD := hm.hD
  obtain ⟨mk0, hmk0, hmk9, e1⟩ := tm_marksA (t := t) (m := m) (old := old) (saved := saved) (isS := isS) (text := text) (far := far) (mk := mk) (stk := stk) (cmd := cmd) (tl := tl) (rf_ := rf_) (top := top) (hi := hi) (ov := ov) (cm := cm) (at_ := at_) (ft := ft) (hs := hs) (σ := σ) hm
  have hI0 : IE m (m 1217) (mk0, stk, 0, 0, 0) := ⟨⟨fun b b1 b2 => Or.inl (hmk0 b b1 b2), ⟨by dsimp only; omega, by dsimp only; omega⟩, ⟨by dsimp only; omega, by dsimp only; omega⟩, Or.inl rfl, fun k k1 k2 => by dsimp only at k2; omega, by have := um_b mk0; dsimp only; omega⟩, rfl⟩
  have hfin := mkA_g (w := -1) hm hI0
  refine ⟨mk0, fun j => if 0 ≤ j ∧ j < 1222 then m j else old j, hmk0, hmk9, fun _ => rfl, ?_⟩
  generalize mkA m (m 1217) (-1) (mk0, stk, 0, 0, 0) = A at e1 hfin
  obtain ⟨sc, A⟩ := A
  dsimp only at e1 hfin ⊢
  have hF : ∀ b, 0 ≤ b → b < 200 → A.1 b = 0 ∨ A.1 b = 1 := fun b b1 b2 => by have := hfin.1.1.1 b b1 b2; omega
  have hold : ∀ j, 0 ≤ j → j < 1222 → (fun j => if 0 ≤ j ∧ j < 1222 then m j else old j) j = m j := fun j j1 j2 => if_pos ⟨j1, j2⟩
  unfold f_X2_collect g_X2_collect_0
  simp (disch := omega) only [Option.bind_some, tw_gm, tw_gold, tw_gsaved, tw_gisS, tw_gtext, tw_gtl, tw_grf_, tw_gfar, tw_gmk, tw_gstk, tw_gtop, tw_ghi, tw_gov, tw_gcmd, tw_gcm, tw_gat_, tw_gft, tw_ghs, tw_nm, tw_nold, tw_nsaved, tw_nisS, tw_ntext, tw_nfar, tw_nmk, tw_nstk, tw_ncmd, tw_ck, tw_am, tw_aold, tw_asaved, tw_aisS, tw_atext, tw_afar, tw_amk, tw_astk, tw_acmd, tw_sm, tw_sold, tw_ssaved, tw_sisS, tw_stext, tw_sfar, tw_smk, tw_sstk, tw_scmd, tw_ptl, tw_prf_, tw_ptop, tw_phi, tw_pov, tw_pcm, tw_pat_, tw_pft, tw_phs, tw_zov, J_add, J_sub, J_mul, J_neg, J_lit, J_lt, J_le, J_eq, Int.reduceAdd, Int.reduceSub, Int.reduceMul, Int.reduceNeg, Int.reduceEq, Int.reduceLT, Int.reduceLE, reduceIte, Int.zero_add, Int.add_zero, and_self, true_and, and_true, false_and, and_false, or_true, true_or, or_false, false_or, not_true_eq_false, not_false_eq_true, ne_eq, b2_s, t_occupied hm, e1]
  rw [lgo_l]
  generalize hbf : sm m (m 1216).toNat = bf
  rw [lpx_steps2 (f := s_X2_collect t) (fun k => .inl (J bf, J sc, J k, (tput t m (fun j => if 0 ≤ j ∧ j < (k : Int) then m j else old j) saved isS text tl rf_ far A.1 A.2.1 A.2.2.1 A.2.2.2.1 A.2.2.2.2 cmd cm at_ ft hs σ))) 1222 (by
    have h0 : (fun j : Int => if 0 ≤ j ∧ j < ((0 : Nat) : Int) then m j else old j) = old := by
      funext j
      rw [if_neg (by omega)]
    simp only [h0]
    rfl) (by
    intro k hk
    have h0 : up (fun j : Int => if 0 ≤ j ∧ j < (k : Int) then m j else old j) k (m k) = fun j : Int => if 0 ≤ j ∧ j < ((k + 1 : Nat) : Int) then m j else old j := by
      funext j
      unfold up
      grind
    unfold s_X2_collect g_X2_collect_12
    dsimp only
    simp (maxSteps := 2000000) (disch := omega) only [Option.bind_some, tw_gm, tw_gold, tw_gsaved, tw_gisS, tw_gtext, tw_gtl, tw_grf_, tw_gfar, tw_gmk, tw_gstk, tw_gtop, tw_ghi, tw_gov, tw_gcmd, tw_gcm, tw_gat_, tw_gft, tw_ghs, tw_nm, tw_nold, tw_nsaved, tw_nisS, tw_ntext, tw_nfar, tw_nmk, tw_nstk, tw_ncmd, tw_ck, tw_am, tw_aold, tw_asaved, tw_aisS, tw_atext, tw_afar, tw_amk, tw_astk, tw_acmd, tw_sm, tw_sold, tw_ssaved, tw_sisS, tw_stext, tw_sfar, tw_smk, tw_sstk, tw_scmd, tw_ptl, tw_prf_, tw_ptop, tw_phi, tw_pov, tw_pcm, tw_pat_, tw_pft, tw_phs, tw_zov, J_add, J_sub, J_mul, J_neg, J_lit, J_lt, J_le, J_eq, Int.reduceAdd, Int.reduceSub, Int.reduceMul, Int.reduceNeg, Int.reduceEq, Int.reduceLT, Int.reduceLE, ↓reduceIte, Int.zero_add, Int.add_zero, and_self, true_and, and_true, false_and, and_false, or_true, true_or, or_false, false_or, not_true_eq_false, not_false_eq_true, ne_eq, b2_s, if_neg (show ¬ (1222 : Int) ≤ k by omega), h0]
    rfl)]
  rw [show (((1222 : Nat)) : Int) = 1222 from rfl]
  generalize hold2 : (fun j => if 0 ≤ j ∧ j < 1222 then m j else old j) = old2 at hold
  rw [lpx_n (s' := .inr (.inl (J bf, J sc, J 0, (tput t m old2 saved isS text tl rf_ far A.1 A.2.1 A.2.2.1 A.2.2.2.1 A.2.2.2.2 cmd cm at_ ft hs σ)))) (by
    unfold s_X2_collect g_X2_collect_12
    dsimp only
    simp (maxSteps := 2000000) (disch := omega) only [Option.bind_some, tw_gm, tw_gold, tw_gsaved, tw_gisS, tw_gtext, tw_gtl, tw_grf_, tw_gfar, tw_gmk, tw_gstk, tw_gtop, tw_ghi, tw_gov, tw_gcmd, tw_gcm, tw_gat_, tw_gft, tw_ghs, tw_nm, tw_nold, tw_nsaved, tw_nisS, tw_ntext, tw_nfar, tw_nmk, tw_nstk, tw_ncmd, tw_ck, tw_am, tw_aold, tw_asaved, tw_aisS, tw_atext, tw_afar, tw_amk, tw_astk, tw_acmd, tw_sm, tw_sold, tw_ssaved, tw_sisS, tw_stext, tw_sfar, tw_smk, tw_sstk, tw_scmd, tw_ptl, tw_prf_, tw_ptop, tw_phi, tw_pov, tw_pcm, tw_pat_, tw_pft, tw_phs, tw_zov, J_add, J_sub, J_mul, J_neg, J_lit, J_lt, J_le, J_eq, Int.reduceAdd, Int.reduceSub, Int.reduceMul, Int.reduceNeg, Int.reduceEq, Int.reduceLT, Int.reduceLE, ↓reduceIte, Int.zero_add, Int.add_zero, and_self, true_and, and_true, false_and, and_false, or_true, true_or, or_false, false_or, not_true_eq_false, not_false_eq_true, ne_eq, b2_s, if_pos (show (1222 : Int) ≤ 1222 by omega)])]
  rw [lpx_steps2 (f := s_X2_collect t) (fun k => .inr (.inl (J bf, J sc, J k, (tput t (fun j => if 1000 ≤ j ∧ j < 1000 + (k : Int) then -1 else m j) old2 saved isS text tl rf_ far A.1 A.2.1 A.2.2.1 A.2.2.2.1 A.2.2.2.2 cmd cm at_ ft hs σ)))) 200 (by
    have h0 : (fun j : Int => if 1000 ≤ j ∧ j < 1000 + ((0 : Nat) : Int) then -1 else m j) = m := by
      funext j
      rw [if_neg (by omega)]
    simp only [h0]
    rfl) (by
    intro k hk
    have h0 : up (fun j : Int => if 1000 ≤ j ∧ j < 1000 + (k : Int) then -1 else m j) (1000 + k) (-1) = fun j : Int => if 1000 ≤ j ∧ j < 1000 + ((k + 1 : Nat) : Int) then -1 else m j := by
      funext j
      unfold up
      grind
    unfold s_X2_collect g_X2_collect_39
    dsimp only
    simp (maxSteps := 2000000) (disch := omega) only [Option.bind_some, tw_gm, tw_gold, tw_gsaved, tw_gisS, tw_gtext, tw_gtl, tw_grf_, tw_gfar, tw_gmk, tw_gstk, tw_gtop, tw_ghi, tw_gov, tw_gcmd, tw_gcm, tw_gat_, tw_gft, tw_ghs, tw_nm, tw_nold, tw_nsaved, tw_nisS, tw_ntext, tw_nfar, tw_nmk, tw_nstk, tw_ncmd, tw_ck, tw_am, tw_aold, tw_asaved, tw_aisS, tw_atext, tw_afar, tw_amk, tw_astk, tw_acmd, tw_sm, tw_sold, tw_ssaved, tw_sisS, tw_stext, tw_sfar, tw_smk, tw_sstk, tw_scmd, tw_ptl, tw_prf_, tw_ptop, tw_phi, tw_pov, tw_pcm, tw_pat_, tw_pft, tw_phs, tw_zov, J_add, J_sub, J_mul, J_neg, J_lit, J_lt, J_le, J_eq, Int.reduceAdd, Int.reduceSub, Int.reduceMul, Int.reduceNeg, Int.reduceEq, Int.reduceLT, Int.reduceLE, ↓reduceIte, Int.zero_add, Int.add_zero, and_self, true_and, and_true, false_and, and_false, or_true, true_or, or_false, false_or, not_true_eq_false, not_false_eq_true, ne_eq, b2_s, if_neg (show ¬ (200 : Int) ≤ k by omega), h0]
    rfl)]
  have hrow : (fun j : Int => if 1000 ≤ j ∧ j < 1000 + ((200 : Nat) : Int) then -1 else m j) = rS9 (fun _ => -1) m := by
    funext j
    unfold rS9
    rfl
  rw [hrow]
  rw [lpx_n (s' := .inr (.inr (.inl (J bf, J sc, J 0, J 0, J 0, J 0, J 0, J 0, (tput t (rS9 (fun _ => -1) m) old2 saved isS text tl rf_ far A.1 A.2.1 A.2.2.1 A.2.2.2.1 A.2.2.2.2 cmd cm at_ ft hs σ))))) (by
    unfold s_X2_collect g_X2_collect_39
    dsimp only
    simp (maxSteps := 2000000) (disch := omega) only [Option.bind_some, tw_gm, tw_gold, tw_gsaved, tw_gisS, tw_gtext, tw_gtl, tw_grf_, tw_gfar, tw_gmk, tw_gstk, tw_gtop, tw_ghi, tw_gov, tw_gcmd, tw_gcm, tw_gat_, tw_gft, tw_ghs, tw_nm, tw_nold, tw_nsaved, tw_nisS, tw_ntext, tw_nfar, tw_nmk, tw_nstk, tw_ncmd, tw_ck, tw_am, tw_aold, tw_asaved, tw_aisS, tw_atext, tw_afar, tw_amk, tw_astk, tw_acmd, tw_sm, tw_sold, tw_ssaved, tw_sisS, tw_stext, tw_sfar, tw_smk, tw_sstk, tw_scmd, tw_ptl, tw_prf_, tw_ptop, tw_phi, tw_pov, tw_pcm, tw_pat_, tw_pft, tw_phs, tw_zov, J_add, J_sub, J_mul, J_neg, J_lit, J_lt, J_le, J_eq, Int.reduceAdd, Int.reduceSub, Int.reduceMul, Int.reduceNeg, Int.reduceEq, Int.reduceLT, Int.reduceLE, ↓reduceIte, Int.zero_add, Int.add_zero, and_self, true_and, and_true, false_and, and_false, or_true, true_or, or_false, false_or, not_true_eq_false, not_false_eq_true, ne_eq, b2_s, if_pos (show (200 : Int) ≤ (200 : Nat) by omega)])]
  rw [tm_slide hm hold hF]
  have hreb := tm_rebuilds (t := t) (saved := saved) (isS := isS) (text := text) (far := far) (stk := A.2.1) (cmd := cmd) (tl := tl) (rf_ := rf_) (top := A.2.2.1) (hi := A.2.2.2.1) (ov := A.2.2.2.2) (cm := cm) (at_ := at_) (ft := ft) (hs := hs) (σ := σ) hm hold hF rfl
  have e16 : rS9 (slA m A.1).1 m 1216 = m 1216 := rS9_h (by omega)
  have hr1 := (rbA_i (F := A.1) hm rfl).2.2
  have hfinal : ∀ (row : Int → Int), row = (fun j => if 1200 ≤ j ∧ j < 1210 then goA (slA m A.1).1 (m j) else rS9 (slA m A.1).1 (rbA m A.1 (slA m A.1).1) j) → row 1219 = m 1219 ∧ row 1220 = m 1220 ∧ up (up (up (up (up (up (up (up (up row 1210 (slA m A.1).2.2.1) 1211 (slA m A.1).2.2.2.1) 1212 sc) 1213 A.2.2.2.1) 1214 (slA m A.1).2.2.2.2.1) 1215 (slA m A.1).2.2.2.2.2) 1221 1) 1219 (m 1219 + 1)) 1220 (m 1220 + (bf - (slA m A.1).2.2.2.1)) = mC9 m A.1 sc A.2.2.2.1 := by
    intro row hrow
    refine ⟨?_, ?_, ?_⟩
    · rw [hrow]
      dsimp only
      rw [if_neg (by omega), rS9_h (by omega), hr1 1219 (by omega)]
    · rw [hrow]
      dsimp only
      rw [if_neg (by omega), rS9_h (by omega), hr1 1220 (by omega)]
    · funext j
      rw [← hbf]
      unfold mC9 up
      subst hrow
      dsimp only
      by_cases c1 : j = 1220
      · rw [if_pos c1, if_pos c1]
      rw [if_neg c1, if_neg c1]
      by_cases c1 : j = 1219
      · rw [if_pos c1, if_pos c1]
      rw [if_neg c1, if_neg c1]
      by_cases c1 : j = 1221
      · rw [if_pos c1, if_pos c1]
      rw [if_neg c1, if_neg c1]
      by_cases c1 : j = 1215
      · rw [if_pos c1, if_pos c1]
      rw [if_neg c1, if_neg c1]
      by_cases c1 : j = 1214
      · rw [if_pos c1, if_pos c1]
      rw [if_neg c1, if_neg c1]
      by_cases c1 : j = 1213
      · rw [if_pos c1, if_pos c1]
      rw [if_neg c1, if_neg c1]
      by_cases c1 : j = 1212
      · rw [if_pos c1, if_pos c1]
      rw [if_neg c1, if_neg c1]
      by_cases c1 : j = 1211
      · rw [if_pos c1, if_pos c1]
      rw [if_neg c1, if_neg c1]
      by_cases c1 : j = 1210
      · rw [if_pos c1, if_pos c1]
      rw [if_neg c1, if_neg c1]
      rfl
  obtain ⟨row, hrd⟩ : ∃ row, row = (fun j => if 1200 ≤ j ∧ j < 1210 then goA (slA m A.1).1 (m j) else rS9 (slA m A.1).1 (rbA m A.1 (slA m A.1).1) j) := ⟨_, rfl⟩
  rw [← hrd] at hreb
  have hfinal := hfinal row hrd
  obtain ⟨f1, f2, f3⟩ := hfinal
  rw [← f3]
  refine lpx_d ?_
  unfold s_X2_collect g_X2_collect_80
  dsimp only
  have g1 : up (up (up (up (up (up (up row 1210 (slA m A.1).2.2.1) 1211 (slA m A.1).2.2.2.1) 1212 sc) 1213 A.2.2.2.1) 1214 (slA m A.1).2.2.2.2.1) 1215 (slA m A.1).2.2.2.2.2) 1221 1 1219 = m 1219 := by
    rw [up_n (by omega), up_n (by omega), up_n (by omega), up_n (by omega), up_n (by omega), up_n (by omega), up_n (by omega)]; exact f1
  have g2 : up (up (up (up (up (up (up (up row 1210 (slA m A.1).2.2.1) 1211 (slA m A.1).2.2.2.1) 1212 sc) 1213 A.2.2.2.1) 1214 (slA m A.1).2.2.2.2.1) 1215 (slA m A.1).2.2.2.2.2) 1221 1) 1219 (m 1219 + 1) 1220 = m 1220 := by
    rw [up_n (by omega), up_n (by omega), up_n (by omega), up_n (by omega), up_n (by omega), up_n (by omega), up_n (by omega), up_n (by omega)]; exact f2
  simp (maxSteps := 2000000) (disch := omega) only [Option.bind_some, tw_gm, tw_gold, tw_gsaved, tw_gisS, tw_gtext, tw_gtl, tw_grf_, tw_gfar, tw_gmk, tw_gstk, tw_gtop, tw_ghi, tw_gov, tw_gcmd, tw_gcm, tw_gat_, tw_gft, tw_ghs, tw_nm, tw_nold, tw_nsaved, tw_nisS, tw_ntext, tw_nfar, tw_nmk, tw_nstk, tw_ncmd, tw_ck, tw_am, tw_aold, tw_asaved, tw_aisS, tw_atext, tw_afar, tw_amk, tw_astk, tw_acmd, tw_sm, tw_sold, tw_ssaved, tw_sisS, tw_stext, tw_sfar, tw_smk, tw_sstk, tw_scmd, tw_ptl, tw_prf_, tw_ptop, tw_phi, tw_pov, tw_pcm, tw_pat_, tw_pft, tw_phs, tw_zov, J_add, J_sub, J_mul, J_neg, J_lit, J_lt, J_le, J_eq, Int.reduceAdd, Int.reduceSub, Int.reduceMul, Int.reduceNeg, Int.reduceEq, Int.reduceLT, Int.reduceLE, ↓reduceIte, Int.zero_add, Int.add_zero, and_self, true_and, and_true, false_and, and_false, or_true, true_or, or_false, false_or, not_true_eq_false, not_false_eq_true, ne_eq, b2_s, e16, if_pos (show m 1216 ≤ m 1216 by omega), hreb, g1, g2]
end T1
