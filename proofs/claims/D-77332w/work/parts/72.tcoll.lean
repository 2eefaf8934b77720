/-! PLAIN LAW: the twin collects. NAMES: rS9 tm_ -/
set_option maxRecDepth 100000
/-- a row with another one of where words went -/
def rS9 (w m : Int → Int) : Int → Int := fun j => if 1000 ≤ j ∧ j < 1200 then w (j - 1000) else m j
section T1
variable {t : Nat} {m old saved isS text far mk stk cmd : Int → Int} {tl rf_ top hi ov cm at_ ft : Int} {hs : Int64} {σ : mm_M}
theorem rS9_h {w : Int → Int} {j : Int} (h : 1200 ≤ j) : rS9 w m j = m j := by unfold rS9; rw [if_neg (by omega)]
theorem rS9_l {w : Int → Int} {j : Int} (h : j < 1000) : rS9 w m j = m j := by unfold rS9; rw [if_neg (by omega)]
theorem rS9_w {w : Int → Int} {j : Int} (h1 : 0 ≤ j) (h2 : j < 200) : rS9 w m (1000 + j) = w j := by unfold rS9; rw [if_pos (by omega), show 1000 + j - 1000 = j by omega]
theorem goA_ir (hm : WF m) {F : Int → Int} {x : Int} (hx : rf m x) : -1 ≤ goA (slA m F).1 x ∧ goA (slA m F).1 x < 200 := rf_ir (hm.coll (F := F) (sc := 0) (hi := 0)) (goA_rf hm hx)
set_option maxHeartbeats 2000000 in
theorem tm_rebuilds (hm : WF m) (hold : ∀ j, 0 ≤ j → j < 1222 → old j = m j) (hF : ∀ b, 0 ≤ b → b < 200 → mk b = 0 ∨ mk b = 1) {w : Int → Int} (hw : w = (slA m mk).1) : f_X2_rebuilds t (tput t (rS9 w m) old saved isS text tl rf_ far mk stk top hi ov cmd cm at_ ft hs σ) = some (tput t (fun j => if 1200 ≤ j ∧ j < 1210 then goA w (m j) else rS9 w (rbA m mk w) j) old saved isS text tl rf_ far mk stk top hi ov cmd cm at_ ft hs σ) := by
  have hW := hm.hW
  unfold f_X2_rebuilds g_X2_rebuilds_0
  rw [lgo_l, show (0 : Int32) = J 0 from J_lit 0]
  rw [lpx_steps2 (f := s_X2_rebuilds t) (fun k => .inl (J k, (tput t (fun j => if 0 ≤ j ∧ j < (k : Int) then 0 else rS9 w m j) old saved isS text tl rf_ far mk stk top hi ov cmd cm at_ ft hs σ))) 1000 (by
    have h0 : (fun j : Int => if 0 ≤ j ∧ j < ((0 : Nat) : Int) then (0 : Int) else rS9 w m j) = rS9 w m := by
      funext j
      rw [if_neg (by omega)]
    simp only [h0]
    rfl) (by
    intro k hk
    have h0 : up (fun j : Int => if 0 ≤ j ∧ j < (k : Int) then (0 : Int) else rS9 w m j) k 0 = fun j : Int => if 0 ≤ j ∧ j < ((k + 1 : Nat) : Int) then (0 : Int) else rS9 w m j := by
      funext j
      unfold up
      grind
    unfold s_X2_rebuilds g_X2_rebuilds_2
    dsimp only
    simp (disch := omega) only [Option.bind_some, tw_gm, tw_gold, tw_gsaved, tw_gisS, tw_gtext, tw_gtl, tw_grf_, tw_gfar, tw_gmk, tw_gstk, tw_gtop, tw_ghi, tw_gov, tw_gcmd, tw_gcm, tw_gat_, tw_gft, tw_ghs, tw_nm, tw_nold, tw_nsaved, tw_nisS, tw_ntext, tw_nfar, tw_nmk, tw_nstk, tw_ncmd, tw_ck, tw_am, tw_aold, tw_asaved, tw_aisS, tw_atext, tw_afar, tw_amk, tw_astk, tw_acmd, tw_sm, tw_sold, tw_ssaved, tw_sisS, tw_stext, tw_sfar, tw_smk, tw_sstk, tw_scmd, tw_ptl, tw_prf_, tw_ptop, tw_phi, tw_pov, tw_pcm, tw_pat_, tw_pft, tw_phs, tw_zov, J_add, J_sub, J_mul, J_neg, J_lit, J_lt, J_le, J_eq, Int.reduceAdd, Int.reduceSub, Int.reduceMul, Int.reduceNeg, Int.reduceEq, Int.reduceLT, Int.reduceLE, reduceIte, Int.zero_add, Int.add_zero, and_self, true_and, and_true, false_and, and_false, or_true, true_or, or_false, false_or, not_true_eq_false, not_false_eq_true, ne_eq, b2_s, if_neg (show ¬ (1000 : Int) ≤ k by omega), h0]
    rfl)]
  have h00 : (fun j : Int => if 0 ≤ j ∧ j < ((1000 : Nat) : Int) then (0 : Int) else rS9 w m j) = rS9 w (rb0 m) := by
    funext j
    unfold rS9 rb0
    grind
  rw [h00]
  rw [lpx_n (s' := .inr (.inl (J 0, (tput t (rS9 w (rb0 m)) old saved isS text tl rf_ far mk stk top hi ov cmd cm at_ ft hs σ)))) (by
    unfold s_X2_rebuilds g_X2_rebuilds_2
    dsimp only
    simp (disch := omega) only [Option.bind_some, tw_gm, tw_gold, tw_gsaved, tw_gisS, tw_gtext, tw_gtl, tw_grf_, tw_gfar, tw_gmk, tw_gstk, tw_gtop, tw_ghi, tw_gov, tw_gcmd, tw_gcm, tw_gat_, tw_gft, tw_ghs, tw_nm, tw_nold, tw_nsaved, tw_nisS, tw_ntext, tw_nfar, tw_nmk, tw_nstk, tw_ncmd, tw_ck, tw_am, tw_aold, tw_asaved, tw_aisS, tw_atext, tw_afar, tw_amk, tw_astk, tw_acmd, tw_sm, tw_sold, tw_ssaved, tw_sisS, tw_stext, tw_sfar, tw_smk, tw_sstk, tw_scmd, tw_ptl, tw_prf_, tw_ptop, tw_phi, tw_pov, tw_pcm, tw_pat_, tw_pft, tw_phs, tw_zov, J_add, J_sub, J_mul, J_neg, J_lit, J_lt, J_le, J_eq, Int.reduceAdd, Int.reduceSub, Int.reduceMul, Int.reduceNeg, Int.reduceEq, Int.reduceLT, Int.reduceLE, reduceIte, Int.zero_add, Int.add_zero, and_self, true_and, and_true, false_and, and_false, or_true, true_or, or_false, false_or, not_true_eq_false, not_false_eq_true, ne_eq, b2_s, if_pos (show (1000 : Int) ≤ (1000 : Nat) by omega)])]
  -- the live objects
  obtain ⟨s', h1, hI, rfl⟩ := lpx_itr (f := s_X2_rebuilds t) (g := rbO m mk w) (fun k R s => (∀ j, 1000 ≤ j → R j = m j) ∧ s = .inr (.inl (J k, (tput t (rS9 w R) old saved isS text tl rf_ far mk stk top hi ov cmd cm at_ ft hs σ)))) (m 1216).toNat (by
    rintro a R s ha ⟨hR, rfl⟩
    have hmka := hF a (by omega) (by omega)
    have hsa := hm.hs a (by omega) (by omega)
    have e16 : rS9 w R 1216 = m 1216 := by rw [rS9_h (by omega), hR 1216 (by omega)]
    unfold rbO
    by_cases c : 0 < m (a : Int) ∧ mk a = 1
    · rw [if_pos c]
      have hl : lvO m mk a := ⟨by omega, by omega, c.1, c.2⟩
      obtain ⟨w1, w2, w3, w4, w5, w6⟩ := lv_w hm hl
      rw [← hw] at w1 w2 w3 w4 w5
      have hF9 := hm.hf a (by omega) (by omega) c.1
      generalize hto : w (a : Int) = to at w1 w2 w3 w4 w5
      refine ⟨.inr (.inl (J (a + 1 : Nat), (tput t (rS9 w (fun j => if 800 + to < j ∧ j < 800 + to + m (a : Int) then (if j - 800 - to ≤ m (200 + (a : Int)) then goA w (m (800 + (a : Int) + (j - 800 - to))) else m (800 + (a : Int) + (j - 800 - to))) else if j = 600 + to then m (600 + (a : Int)) + 1 else if j = 400 + to then m (400 + (a : Int)) else if j = 200 + to then m (200 + (a : Int)) else if j = to then m (a : Int) else R j)) old saved isS text tl rf_ far mk stk top hi ov cmd cm at_ ft hs σ))), ?_, ⟨fun j j1 => ?_, rfl⟩⟩
      · have hr4 : up (up (up (up (rS9 w R) to (m (a : Int))) (200 + to) (m (200 + (a : Int)))) (400 + to) (m (400 + (a : Int)))) (600 + to) (m (600 + (a : Int)) + 1) = rS9 w (fun j => if 800 + to < j ∧ j < 800 + to + ((1 : Nat) : Int) then (if j - 800 - to ≤ m (200 + (a : Int)) then goA w (m (800 + (a : Int) + (j - 800 - to))) else m (800 + (a : Int) + (j - 800 - to))) else if j = 600 + to then m (600 + (a : Int)) + 1 else if j = 400 + to then m (400 + (a : Int)) else if j = 200 + to then m (200 + (a : Int)) else if j = to then m (a : Int) else R j) := by
          funext j
          unfold rS9 up
          grind
        rw [lpx_n (s' := .inr (.inr (.inl (J a, J to, J (1 : Nat), (tput t (rS9 w (fun j => if 800 + to < j ∧ j < 800 + to + ((1 : Nat) : Int) then (if j - 800 - to ≤ m (200 + (a : Int)) then goA w (m (800 + (a : Int) + (j - 800 - to))) else m (800 + (a : Int) + (j - 800 - to))) else if j = 600 + to then m (600 + (a : Int)) + 1 else if j = 400 + to then m (400 + (a : Int)) else if j = 200 + to then m (200 + (a : Int)) else if j = to then m (a : Int) else R j)) old saved isS text tl rf_ far mk stk top hi ov cmd cm at_ ft hs σ))))) (by
          rw [← hr4]
          unfold s_X2_rebuilds g_X2_rebuilds_24
          dsimp only
          simp (disch := omega) only [Option.bind_some, tw_gm, tw_gold, tw_gsaved, tw_gisS, tw_gtext, tw_gtl, tw_grf_, tw_gfar, tw_gmk, tw_gstk, tw_gtop, tw_ghi, tw_gov, tw_gcmd, tw_gcm, tw_gat_, tw_gft, tw_ghs, tw_nm, tw_nold, tw_nsaved, tw_nisS, tw_ntext, tw_nfar, tw_nmk, tw_nstk, tw_ncmd, tw_ck, tw_am, tw_aold, tw_asaved, tw_aisS, tw_atext, tw_afar, tw_amk, tw_astk, tw_acmd, tw_sm, tw_sold, tw_ssaved, tw_sisS, tw_stext, tw_sfar, tw_smk, tw_sstk, tw_scmd, tw_ptl, tw_prf_, tw_ptop, tw_phi, tw_pov, tw_pcm, tw_pat_, tw_pft, tw_phs, tw_zov, J_add, J_sub, J_mul, J_neg, J_lit, J_lt, J_le, J_eq, Int.reduceAdd, Int.reduceSub, Int.reduceMul, Int.reduceNeg, Int.reduceEq, Int.reduceLT, Int.reduceLE, reduceIte, Int.zero_add, Int.add_zero, and_self, true_and, and_true, false_and, and_false, or_true, true_or, or_false, false_or, not_true_eq_false, not_false_eq_true, ne_eq, b2_s, e16, if_neg (show ¬ m 1216 ≤ (a : Int) by omega), hold a (by omega) (by omega), if_neg (show ¬ m (a : Int) ≤ 0 by omega), c.2, rS9_w (m := R) (show 0 ≤ (a : Int) by omega) (show (a : Int) < 200 by omega), hto, hold (200 + a) (by omega) (by omega), hold (400 + a) (by omega) (by omega), hold (600 + a) (by omega) (by omega)]
          rfl)]
        rw [lpx_steps2 (f := s_X2_rebuilds t) (fun k => .inr (.inr (.inl (J a, J to, J (k + 1 : Nat), (tput t (rS9 w (fun j => if 800 + to < j ∧ j < 800 + to + ((k + 1 : Nat) : Int) then (if j - 800 - to ≤ m (200 + (a : Int)) then goA w (m (800 + (a : Int) + (j - 800 - to))) else m (800 + (a : Int) + (j - 800 - to))) else if j = 600 + to then m (600 + (a : Int)) + 1 else if j = 400 + to then m (400 + (a : Int)) else if j = 200 + to then m (200 + (a : Int)) else if j = to then m (a : Int) else R j)) old saved isS text tl rf_ far mk stk top hi ov cmd cm at_ ft hs σ))))) (m (a : Int) - 1).toNat (by rfl) (by
          intro k hk
          have hup : ∀ v, v = (if (k : Int) + 1 ≤ m (200 + (a : Int)) then goA w (m (800 + (a : Int) + ((k : Int) + 1))) else m (800 + (a : Int) + ((k : Int) + 1))) → up (rS9 w (fun j => if 800 + to < j ∧ j < 800 + to + ((k + 1 : Nat) : Int) then (if j - 800 - to ≤ m (200 + (a : Int)) then goA w (m (800 + (a : Int) + (j - 800 - to))) else m (800 + (a : Int) + (j - 800 - to))) else if j = 600 + to then m (600 + (a : Int)) + 1 else if j = 400 + to then m (400 + (a : Int)) else if j = 200 + to then m (200 + (a : Int)) else if j = to then m (a : Int) else R j)) (800 + to + ((k + 1 : Nat) : Int)) v = rS9 w (fun j => if 800 + to < j ∧ j < 800 + to + ((k + 1 + 1 : Nat) : Int) then (if j - 800 - to ≤ m (200 + (a : Int)) then goA w (m (800 + (a : Int) + (j - 800 - to))) else m (800 + (a : Int) + (j - 800 - to))) else if j = 600 + to then m (600 + (a : Int)) + 1 else if j = 400 + to then m (400 + (a : Int)) else if j = 200 + to then m (200 + (a : Int)) else if j = to then m (a : Int) else R j) := by
            intro v hv
            funext j
            unfold rS9 up
            dsimp only
            by_cases hj : j = 800 + to + ((k + 1 : Nat) : Int)
            · rw [if_pos hj, if_neg (by omega), if_pos (by omega), hv, show j - 800 - to = (k : Int) + 1 by omega]
            · rw [if_neg hj]
              by_cases hj2 : 1000 ≤ j ∧ j < 1200
              · rw [if_pos hj2, if_pos hj2]
              · rw [if_neg hj2, if_neg hj2]
                by_cases hj3 : 800 + to < j ∧ j < 800 + to + ((k + 1 : Nat) : Int)
                · rw [if_pos hj3, if_pos (show 800 + to < j ∧ j < 800 + to + ((k + 1 + 1 : Nat) : Int) by omega)]
                · rw [if_neg hj3, if_neg (show ¬ (800 + to < j ∧ j < 800 + to + ((k + 1 + 1 : Nat) : Int)) by omega)]
          have e1 : old (800 + (a : Int) + ((k + 1 : Nat) : Int)) = m (800 + (a : Int) + ((k : Int) + 1)) := by rw [hold _ (by omega) (by omega), show ((k + 1 : Nat) : Int) = (k : Int) + 1 by omega]
          generalize hrow : (rS9 w (fun j => if 800 + to < j ∧ j < 800 + to + ((k + 1 : Nat) : Int) then (if j - 800 - to ≤ m (200 + (a : Int)) then goA w (m (800 + (a : Int) + (j - 800 - to))) else m (800 + (a : Int) + (j - 800 - to))) else if j = 600 + to then m (600 + (a : Int)) + 1 else if j = 400 + to then m (400 + (a : Int)) else if j = 200 + to then m (200 + (a : Int)) else if j = to then m (a : Int) else R j)) = row at hup
          unfold s_X2_rebuilds g_X2_rebuilds_147
          dsimp only
          by_cases hkf : (k : Int) + 1 ≤ m (200 + (a : Int))
          · have hr := hm.hq a ((k : Int) + 1) (by omega) (by omega) c.1 (by omega) (by omega)
            have hb9 := rf_ir hm hr
            have hgo : f_X2_gone t (J (m (800 + (a : Int) + ((k : Int) + 1)))) (tput t row old saved isS text tl rf_ far mk stk top hi ov cmd cm at_ ft hs σ) = some (J (goA w (m (800 + (a : Int) + ((k : Int) + 1))))) := by
              rw [tm_gone hb9.1 hb9.2]
              unfold goA
              by_cases hx : m (800 + (a : Int) + ((k : Int) + 1)) = -1
              · rw [if_pos hx, if_pos hx]
              · rw [if_neg hx, if_neg hx, ← hrow, rS9_w (by omega) (by omega)]
            simp (disch := omega) only [Option.bind_some, tw_gm, tw_gold, tw_gsaved, tw_gisS, tw_gtext, tw_gtl, tw_grf_, tw_gfar, tw_gmk, tw_gstk, tw_gtop, tw_ghi, tw_gov, tw_gcmd, tw_gcm, tw_gat_, tw_gft, tw_ghs, tw_nm, tw_nold, tw_nsaved, tw_nisS, tw_ntext, tw_nfar, tw_nmk, tw_nstk, tw_ncmd, tw_ck, tw_am, tw_aold, tw_asaved, tw_aisS, tw_atext, tw_afar, tw_amk, tw_astk, tw_acmd, tw_sm, tw_sold, tw_ssaved, tw_sisS, tw_stext, tw_sfar, tw_smk, tw_sstk, tw_scmd, tw_ptl, tw_prf_, tw_ptop, tw_phi, tw_pov, tw_pcm, tw_pat_, tw_pft, tw_phs, tw_zov, J_add, J_sub, J_mul, J_neg, J_lit, J_lt, J_le, J_eq, Int.reduceAdd, Int.reduceSub, Int.reduceMul, Int.reduceNeg, Int.reduceEq, Int.reduceLT, Int.reduceLE, reduceIte, Int.zero_add, Int.add_zero, and_self, true_and, and_true, false_and, and_false, or_true, true_or, or_false, false_or, not_true_eq_false, not_false_eq_true, ne_eq, b2_s, hold a (by omega) (by omega), if_neg (show ¬ m (a : Int) ≤ ((k + 1 : Nat) : Int) by omega), e1, hold (200 + a) (by omega) (by omega), if_neg (show ¬ m (200 + (a : Int)) < ((k + 1 : Nat) : Int) by omega), hgo, hup _ (if_pos hkf).symm]
            rfl
          · simp (disch := omega) only [Option.bind_some, tw_gm, tw_gold, tw_gsaved, tw_gisS, tw_gtext, tw_gtl, tw_grf_, tw_gfar, tw_gmk, tw_gstk, tw_gtop, tw_ghi, tw_gov, tw_gcmd, tw_gcm, tw_gat_, tw_gft, tw_ghs, tw_nm, tw_nold, tw_nsaved, tw_nisS, tw_ntext, tw_nfar, tw_nmk, tw_nstk, tw_ncmd, tw_ck, tw_am, tw_aold, tw_asaved, tw_aisS, tw_atext, tw_afar, tw_amk, tw_astk, tw_acmd, tw_sm, tw_sold, tw_ssaved, tw_sisS, tw_stext, tw_sfar, tw_smk, tw_sstk, tw_scmd, tw_ptl, tw_prf_, tw_ptop, tw_phi, tw_pov, tw_pcm, tw_pat_, tw_pft, tw_phs, tw_zov, J_add, J_sub, J_mul, J_neg, J_lit, J_lt, J_le, J_eq, Int.reduceAdd, Int.reduceSub, Int.reduceMul, Int.reduceNeg, Int.reduceEq, Int.reduceLT, Int.reduceLE, reduceIte, Int.zero_add, Int.add_zero, and_self, true_and, and_true, false_and, and_false, or_true, true_or, or_false, false_or, not_true_eq_false, not_false_eq_true, ne_eq, b2_s, hold a (by omega) (by omega), if_neg (show ¬ m (a : Int) ≤ ((k + 1 : Nat) : Int) by omega), e1, hold (200 + a) (by omega) (by omega), if_pos (show m (200 + (a : Int)) < ((k + 1 : Nat) : Int) by omega), hup _ (if_neg hkf).symm]
            rfl)]
        rw [show (((m (a : Int) - 1).toNat + 1 : Nat) : Int) = m (a : Int) by omega]
        generalize (rS9 w (fun j => if 800 + to < j ∧ j < 800 + to + m (a : Int) then (if j - 800 - to ≤ m (200 + (a : Int)) then goA w (m (800 + (a : Int) + (j - 800 - to))) else m (800 + (a : Int) + (j - 800 - to))) else if j = 600 + to then m (600 + (a : Int)) + 1 else if j = 400 + to then m (400 + (a : Int)) else if j = 200 + to then m (200 + (a : Int)) else if j = to then m (a : Int) else R j)) = row
        refine lpx_n ?_
        unfold s_X2_rebuilds g_X2_rebuilds_147
        dsimp only
        simp (disch := omega) only [Option.bind_some, tw_gm, tw_gold, tw_gsaved, tw_gisS, tw_gtext, tw_gtl, tw_grf_, tw_gfar, tw_gmk, tw_gstk, tw_gtop, tw_ghi, tw_gov, tw_gcmd, tw_gcm, tw_gat_, tw_gft, tw_ghs, tw_nm, tw_nold, tw_nsaved, tw_nisS, tw_ntext, tw_nfar, tw_nmk, tw_nstk, tw_ncmd, tw_ck, tw_am, tw_aold, tw_asaved, tw_aisS, tw_atext, tw_afar, tw_amk, tw_astk, tw_acmd, tw_sm, tw_sold, tw_ssaved, tw_sisS, tw_stext, tw_sfar, tw_smk, tw_sstk, tw_scmd, tw_ptl, tw_prf_, tw_ptop, tw_phi, tw_pov, tw_pcm, tw_pat_, tw_pft, tw_phs, tw_zov, J_add, J_sub, J_mul, J_neg, J_lit, J_lt, J_le, J_eq, Int.reduceAdd, Int.reduceSub, Int.reduceMul, Int.reduceNeg, Int.reduceEq, Int.reduceLT, Int.reduceLE, reduceIte, Int.zero_add, Int.add_zero, and_self, true_and, and_true, false_and, and_false, or_true, true_or, or_false, false_or, not_true_eq_false, not_false_eq_true, ne_eq, b2_s, hold a (by omega) (by omega), if_pos (show m (a : Int) ≤ m (a : Int) by omega)]
        rfl
      · rw [if_neg (by omega), if_neg (by omega), if_neg (by omega), if_neg (by omega), if_neg (by omega)]
        exact hR j j1
    · rw [if_neg c]
      refine ⟨_, ?_, ⟨hR, rfl⟩⟩
      refine lpx_n ?_
      unfold s_X2_rebuilds g_X2_rebuilds_24
      dsimp only
      by_cases c2 : m (a : Int) ≤ 0
      · simp (disch := omega) only [Option.bind_some, tw_gm, tw_gold, tw_gsaved, tw_gisS, tw_gtext, tw_gtl, tw_grf_, tw_gfar, tw_gmk, tw_gstk, tw_gtop, tw_ghi, tw_gov, tw_gcmd, tw_gcm, tw_gat_, tw_gft, tw_ghs, tw_nm, tw_nold, tw_nsaved, tw_nisS, tw_ntext, tw_nfar, tw_nmk, tw_nstk, tw_ncmd, tw_ck, tw_am, tw_aold, tw_asaved, tw_aisS, tw_atext, tw_afar, tw_amk, tw_astk, tw_acmd, tw_sm, tw_sold, tw_ssaved, tw_sisS, tw_stext, tw_sfar, tw_smk, tw_sstk, tw_scmd, tw_ptl, tw_prf_, tw_ptop, tw_phi, tw_pov, tw_pcm, tw_pat_, tw_pft, tw_phs, tw_zov, J_add, J_sub, J_mul, J_neg, J_lit, J_lt, J_le, J_eq, Int.reduceAdd, Int.reduceSub, Int.reduceMul, Int.reduceNeg, Int.reduceEq, Int.reduceLT, Int.reduceLE, reduceIte, Int.zero_add, Int.add_zero, and_self, true_and, and_true, false_and, and_false, or_true, true_or, or_false, false_or, not_true_eq_false, not_false_eq_true, ne_eq, b2_s, e16, if_neg (show ¬ m 1216 ≤ (a : Int) by omega), hold a (by omega) (by omega), if_pos c2]
        rfl
      · have c3 : mk a = 0 := by omega
        simp (disch := omega) only [Option.bind_some, tw_gm, tw_gold, tw_gsaved, tw_gisS, tw_gtext, tw_gtl, tw_grf_, tw_gfar, tw_gmk, tw_gstk, tw_gtop, tw_ghi, tw_gov, tw_gcmd, tw_gcm, tw_gat_, tw_gft, tw_ghs, tw_nm, tw_nold, tw_nsaved, tw_nisS, tw_ntext, tw_nfar, tw_nmk, tw_nstk, tw_ncmd, tw_ck, tw_am, tw_aold, tw_asaved, tw_aisS, tw_atext, tw_afar, tw_amk, tw_astk, tw_acmd, tw_sm, tw_sold, tw_ssaved, tw_sisS, tw_stext, tw_sfar, tw_smk, tw_sstk, tw_scmd, tw_ptl, tw_prf_, tw_ptop, tw_phi, tw_pov, tw_pcm, tw_pat_, tw_pft, tw_phs, tw_zov, J_add, J_sub, J_mul, J_neg, J_lit, J_lt, J_le, J_eq, Int.reduceAdd, Int.reduceSub, Int.reduceMul, Int.reduceNeg, Int.reduceEq, Int.reduceLT, Int.reduceLE, reduceIte, Int.zero_add, Int.add_zero, and_self, true_and, and_true, false_and, and_false, or_true, true_or, or_false, false_or, not_true_eq_false, not_false_eq_true, ne_eq, b2_s, e16, if_neg (show ¬ m 1216 ≤ (a : Int) by omega), hold a (by omega) (by omega), if_neg c2, c3]
        rfl) (rb0 m) (.inr (.inl (J 0, (tput t (rS9 w (rb0 m)) old saved isS text tl rf_ far mk stk top hi ov cmd cm at_ ft hs σ)))) ⟨fun j j1 => by unfold rb0; rw [if_neg (by omega)], rfl⟩
  rw [h1]
  have hrb : itr (rbO m mk w) (m 1216).toNat (rb0 m) = rbA m mk w := rfl
  rw [hrb] at hI ⊢
  have e16 : rS9 w (rbA m mk w) 1216 = m 1216 := by rw [rS9_h (by omega), hI 1216 (by omega)]
  rw [lpx_n (s' := .inr (.inr (.inr (J 0, (tput t (rS9 w (rbA m mk w)) old saved isS text tl rf_ far mk stk top hi ov cmd cm at_ ft hs σ))))) (by
    unfold s_X2_rebuilds g_X2_rebuilds_24
    dsimp only
    simp (disch := omega) only [Option.bind_some, tw_gm, tw_gold, tw_gsaved, tw_gisS, tw_gtext, tw_gtl, tw_grf_, tw_gfar, tw_gmk, tw_gstk, tw_gtop, tw_ghi, tw_gov, tw_gcmd, tw_gcm, tw_gat_, tw_gft, tw_ghs, tw_nm, tw_nold, tw_nsaved, tw_nisS, tw_ntext, tw_nfar, tw_nmk, tw_nstk, tw_ncmd, tw_ck, tw_am, tw_aold, tw_asaved, tw_aisS, tw_atext, tw_afar, tw_amk, tw_astk, tw_acmd, tw_sm, tw_sold, tw_ssaved, tw_sisS, tw_stext, tw_sfar, tw_smk, tw_sstk, tw_scmd, tw_ptl, tw_prf_, tw_ptop, tw_phi, tw_pov, tw_pcm, tw_pat_, tw_pft, tw_phs, tw_zov, J_add, J_sub, J_mul, J_neg, J_lit, J_lt, J_le, J_eq, Int.reduceAdd, Int.reduceSub, Int.reduceMul, Int.reduceNeg, Int.reduceEq, Int.reduceLT, Int.reduceLE, reduceIte, Int.zero_add, Int.add_zero, and_self, true_and, and_true, false_and, and_false, or_true, true_or, or_false, false_or, not_true_eq_false, not_false_eq_true, ne_eq, b2_s, e16, Int.toNat_of_nonneg (show 0 ≤ m 1216 by omega), if_pos (show m 1216 ≤ m 1216 by omega)])]
  -- roots
  have hfin := lpx_seq (f := s_X2_rebuilds t) (fun k => .inr (.inr (.inr (J k, (tput t (fun j => if 1200 ≤ j ∧ j < 1200 + (k : Int) then goA w (m j) else rS9 w (rbA m mk w) j) old saved isS text tl rf_ far mk stk top hi ov cmd cm at_ ft hs σ))))) 10 (r := (tput t (fun j => if 1200 ≤ j ∧ j < 1200 + ((10 : Nat) : Int) then goA w (m j) else rS9 w (rbA m mk w) j) old saved isS text tl rf_ far mk stk top hi ov cmd cm at_ ft hs σ)) (by
    intro k hk
    have hup : up (fun j => if 1200 ≤ j ∧ j < 1200 + (k : Int) then goA w (m j) else rS9 w (rbA m mk w) j) (1200 + k) (goA w (m (1200 + k))) = fun j => if 1200 ≤ j ∧ j < 1200 + ((k + 1 : Nat) : Int) then goA w (m j) else rS9 w (rbA m mk w) j := by
      funext j
      unfold up
      dsimp only
      by_cases hj : j = 1200 + (k : Int)
      · rw [if_pos hj, if_pos (by omega), hj]
      · rw [if_neg hj]
        by_cases hj2 : 1200 ≤ j ∧ j < 1200 + (k : Int)
        · rw [if_pos hj2, if_pos (by omega)]
        · rw [if_neg hj2, if_neg (by omega)]
    have hrow : ∀ x, 0 ≤ x → x < 200 → (fun j => if 1200 ≤ j ∧ j < 1200 + (k : Int) then goA w (m j) else rS9 w (rbA m mk w) j) (1000 + x) = w x := fun x x1 x2 => by
      dsimp only
      rw [if_neg (by omega), rS9_w x1 x2]
    generalize (fun j => if 1200 ≤ j ∧ j < 1200 + (k : Int) then goA w (m j) else rS9 w (rbA m mk w) j) = row at hup hrow ⊢
    have hr := hm.hr k (by omega) (by omega)
    have hb9 := rf_ir hm hr
    have hgo : f_X2_gone t (J (m (1200 + (k : Int)))) (tput t row old saved isS text tl rf_ far mk stk top hi ov cmd cm at_ ft hs σ) = some (J (goA w (m (1200 + (k : Int))))) := by
      rw [tm_gone hb9.1 hb9.2]
      unfold goA
      by_cases hx : m (1200 + (k : Int)) = -1
      · rw [if_pos hx, if_pos hx]
      · rw [if_neg hx, if_neg hx, hrow _ (by omega) (by omega)]
    unfold s_X2_rebuilds g_X2_rebuilds_224
    dsimp only
    simp (disch := omega) only [Option.bind_some, tw_gm, tw_gold, tw_gsaved, tw_gisS, tw_gtext, tw_gtl, tw_grf_, tw_gfar, tw_gmk, tw_gstk, tw_gtop, tw_ghi, tw_gov, tw_gcmd, tw_gcm, tw_gat_, tw_gft, tw_ghs, tw_nm, tw_nold, tw_nsaved, tw_nisS, tw_ntext, tw_nfar, tw_nmk, tw_nstk, tw_ncmd, tw_ck, tw_am, tw_aold, tw_asaved, tw_aisS, tw_atext, tw_afar, tw_amk, tw_astk, tw_acmd, tw_sm, tw_sold, tw_ssaved, tw_sisS, tw_stext, tw_sfar, tw_smk, tw_sstk, tw_scmd, tw_ptl, tw_prf_, tw_ptop, tw_phi, tw_pov, tw_pcm, tw_pat_, tw_pft, tw_phs, tw_zov, J_add, J_sub, J_mul, J_neg, J_lit, J_lt, J_le, J_eq, Int.reduceAdd, Int.reduceSub, Int.reduceMul, Int.reduceNeg, Int.reduceEq, Int.reduceLT, Int.reduceLE, reduceIte, Int.zero_add, Int.add_zero, and_self, true_and, and_true, false_and, and_false, or_true, true_or, or_false, false_or, not_true_eq_false, not_false_eq_true, ne_eq, b2_s, if_neg (show ¬ (10 : Int) ≤ k by omega), hold (1200 + k) (by omega) (by omega), hgo, hup]
    rfl) (by
    unfold s_X2_rebuilds g_X2_rebuilds_224
    dsimp only
    simp (disch := omega) only [Option.bind_some, tw_gm, tw_gold, tw_gsaved, tw_gisS, tw_gtext, tw_gtl, tw_grf_, tw_gfar, tw_gmk, tw_gstk, tw_gtop, tw_ghi, tw_gov, tw_gcmd, tw_gcm, tw_gat_, tw_gft, tw_ghs, tw_nm, tw_nold, tw_nsaved, tw_nisS, tw_ntext, tw_nfar, tw_nmk, tw_nstk, tw_ncmd, tw_ck, tw_am, tw_aold, tw_asaved, tw_aisS, tw_atext, tw_afar, tw_amk, tw_astk, tw_acmd, tw_sm, tw_sold, tw_ssaved, tw_sisS, tw_stext, tw_sfar, tw_smk, tw_sstk, tw_scmd, tw_ptl, tw_prf_, tw_ptop, tw_phi, tw_pov, tw_pcm, tw_pat_, tw_pft, tw_phs, tw_zov, J_add, J_sub, J_mul, J_neg, J_lit, J_lt, J_le, J_eq, Int.reduceAdd, Int.reduceSub, Int.reduceMul, Int.reduceNeg, Int.reduceEq, Int.reduceLT, Int.reduceLE, reduceIte, Int.zero_add, Int.add_zero, and_self, true_and, and_true, false_and, and_false, or_true, true_or, or_false, false_or, not_true_eq_false, not_false_eq_true, ne_eq, b2_s, if_pos (show (10 : Int) ≤ (10 : Nat) by omega)])
  have h0 : (fun j => if 1200 ≤ j ∧ j < 1200 + ((0 : Nat) : Int) then goA w (m j) else rS9 w (rbA m mk w) j) = rS9 w (rbA m mk w) := by
    funext j
    rw [if_neg (by omega)]
  simp only [h0] at hfin
  exact hfin
end T1
