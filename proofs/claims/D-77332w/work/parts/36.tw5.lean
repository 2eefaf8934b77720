/-! PLAIN LAW: the twin's save, restore, referring; loops in steps. NAMES: tm_, lpx_ -/
set_option maxRecDepth 100000
/-- n rounds of a loop -/
theorem lpx_steps {S R : Type} {f : S → Option (S ⊕ R)} (st : Nat → S) (n : Nat) (hs : ∀ k, k < n → f (st k) = some (.inl (st (k + 1)))) : lpx f (st 0) = lpx f (st n) := by
  induction n with
  | zero => rfl
  | succ n ih => rw [ih (fun k hk => hs k (by omega)), lpx_n (hs n (by omega))]
/-- the same, where a round is a way of its own -/
theorem lpx_outer {S R : Type} {f : S → Option (S ⊕ R)} (st : Nat → S) (n : Nat) (hs : ∀ k, k < n → lpx f (st k) = lpx f (st (k + 1))) : lpx f (st 0) = lpx f (st n) := by
  induction n with
  | zero => rfl
  | succ n ih => rw [ih (fun k hk => hs k (by omega)), hs n (by omega)]
theorem lpx_steps2 {S R : Type} {f : S → Option (S ⊕ R)} (st : Nat → S) (n : Nat) {s0 : S} (h0 : s0 = st 0) (hs : ∀ k, k < n → f (st k) = some (.inl (st (k + 1)))) : lpx f s0 = lpx f (st n) := by
  rw [h0]
  exact lpx_steps st n hs
theorem lpx_outer2 {S R : Type} {f : S → Option (S ⊕ R)} (st : Nat → S) (n : Nat) {s0 : S} (h0 : s0 = st 0) (hs : ∀ k, k < n → lpx f (st k) = lpx f (st (k + 1))) : lpx f s0 = lpx f (st n) := by
  rw [h0]
  exact lpx_outer st n hs
/-- a row's copy at a place -/
def mS (sv m : Int → Int) (x : Int) : Int → Int := fun j => if 1222 * x ≤ j ∧ j < 1222 * x + 1222 then m (j - 1222 * x) else sv j
/-- a row back from its copy -/
def mR (sv m : Int → Int) (x : Int) : Int → Int := fun j => if 0 ≤ j ∧ j < 1222 then sv (1222 * x + j) else m j
section T5
variable {t : Nat} {m old saved isS text far mk stk cmd : Int → Int} {tl rf_ top hi ov cm at_ ft : Int} {hs : Int64} {σ : mm_M}
theorem tm_save (hm : WF m) {x : Int} (hx : ir x) : f_X2_save t (J x) (tput t m old saved isS text tl rf_ far mk stk top hi ov cmd cm at_ ft hs σ) = some (if 0 ≤ x ∧ x ≤ 1 then (J (cnt m tl 2), (tput t m old (mS saved m x) (up isS x 1) text tl rf_ far mk stk top hi ov cmd cm at_ ft hs σ)) else (J (-1000002), (tput t m old saved isS text tl rf_ far mk stk top hi ov cmd cm at_ ft hs σ))) := by
  have h1 := t_in hx (show ir 0 by unfold ir; omega) (show ir 1 by unfold ir; omega) (σ := (tput t m old saved isS text tl rf_ far mk stk top hi ov cmd cm at_ ft hs σ))
  unfold f_X2_save g_X2_save_0
  by_cases c : 0 ≤ x ∧ x ≤ 1
  · simp (disch := omega) only [Option.bind_some, tw_gm, tw_gold, tw_gsaved, tw_gisS, tw_gtext, tw_gtl, tw_grf_, tw_gfar, tw_gmk, tw_gstk, tw_gtop, tw_ghi, tw_gov, tw_gcmd, tw_gcm, tw_gat_, tw_gft, tw_ghs, tw_nm, tw_nold, tw_nsaved, tw_nisS, tw_ntext, tw_nfar, tw_nmk, tw_nstk, tw_ncmd, tw_ck, tw_am, tw_aold, tw_asaved, tw_aisS, tw_atext, tw_afar, tw_amk, tw_astk, tw_acmd, tw_sm, tw_sold, tw_ssaved, tw_sisS, tw_stext, tw_sfar, tw_smk, tw_sstk, tw_scmd, tw_ptl, tw_prf_, tw_ptop, tw_phi, tw_pov, tw_pcm, tw_pat_, tw_pft, tw_phs, tw_zov, J_add, J_sub, J_mul, J_neg, J_lit, J_lt, J_le, J_eq, Int.reduceAdd, Int.reduceSub, Int.reduceMul, Int.reduceNeg, Int.reduceEq, Int.reduceLT, Int.reduceLE, reduceIte, Int.zero_add, Int.add_zero, and_self, true_and, and_true, false_and, and_false, or_true, true_or, or_false, false_or, not_true_eq_false, not_false_eq_true, ne_eq, b2_s, h1, if_pos c, lgo_l]
    have key := lpx_seq (f := s_X2_save t (J x)) (fun k => (J k, (tput t m old (fun j => if 1222 * x ≤ j ∧ j < 1222 * x + (k : Int) then m (j - 1222 * x) else saved j) isS text tl rf_ far mk stk top hi ov cmd cm at_ ft hs σ))) 1222 (r := (J (cnt m tl 2), (tput t m old (mS saved m x) (up isS x 1) text tl rf_ far mk stk top hi ov cmd cm at_ ft hs σ))) ?_ ?_
    · have h0 : (fun j => if 1222 * x ≤ j ∧ j < 1222 * x + ((0 : Nat) : Int) then m (j - 1222 * x) else saved j) = saved := by
        funext j
        rw [if_neg (by omega)]
      simp only [h0] at key
      exact key
    · intro k hk
      unfold s_X2_save g_X2_save_14
      have hup : up (fun j => if 1222 * x ≤ j ∧ j < 1222 * x + (k : Int) then m (j - 1222 * x) else saved j) (1222 * x + k) (m k) = fun j => if 1222 * x ≤ j ∧ j < 1222 * x + ((k + 1 : Nat) : Int) then m (j - 1222 * x) else saved j := by
        funext j
        unfold up
        by_cases hj : j = 1222 * x + k
        · rw [if_pos hj, if_pos (by omega), show j - 1222 * x = k by omega]
        · rw [if_neg hj]
          dsimp only
          by_cases hj2 : 1222 * x ≤ j ∧ j < 1222 * x + (k : Int)
          · rw [if_pos hj2, if_pos (by omega)]
          · rw [if_neg hj2, if_neg (by omega)]
      simp (disch := omega) only [Option.bind_some, tw_gm, tw_gold, tw_gsaved, tw_gisS, tw_gtext, tw_gtl, tw_grf_, tw_gfar, tw_gmk, tw_gstk, tw_gtop, tw_ghi, tw_gov, tw_gcmd, tw_gcm, tw_gat_, tw_gft, tw_ghs, tw_nm, tw_nold, tw_nsaved, tw_nisS, tw_ntext, tw_nfar, tw_nmk, tw_nstk, tw_ncmd, tw_ck, tw_am, tw_aold, tw_asaved, tw_aisS, tw_atext, tw_afar, tw_amk, tw_astk, tw_acmd, tw_sm, tw_sold, tw_ssaved, tw_sisS, tw_stext, tw_sfar, tw_smk, tw_sstk, tw_scmd, tw_ptl, tw_prf_, tw_ptop, tw_phi, tw_pov, tw_pcm, tw_pat_, tw_pft, tw_phs, tw_zov, J_add, J_sub, J_mul, J_neg, J_lit, J_lt, J_le, J_eq, Int.reduceAdd, Int.reduceSub, Int.reduceMul, Int.reduceNeg, Int.reduceEq, Int.reduceLT, Int.reduceLE, reduceIte, Int.zero_add, Int.add_zero, and_self, true_and, and_true, false_and, and_false, or_true, true_or, or_false, false_or, not_true_eq_false, not_false_eq_true, ne_eq, b2_s, if_neg (show ¬ ((1222 : Int) ≤ k) by omega), hup]
      rfl
    · unfold s_X2_save g_X2_save_14
      have h2 := t_many (t := t) (old := old) (saved := mS saved m x) (isS := up isS x 1) (text := text) (tl := tl) (rf_ := rf_) (far := far) (mk := mk) (stk := stk) (top := top) (hi := hi) (ov := ov) (cmd := cmd) (cm := cm) (at_ := at_) (ft := ft) (hs := hs) (σ := σ) hm (p := 0) (Or.inl rfl)
      have e2 : (fun a => if 0 < m a ∧ ((0 : Int) = 0 ∨ m (400 + a) = 1) then (1 : Int) else 0) = fun a => if 0 < m a then 1 else 0 := by funext a; simp
      rw [e2] at h2
      have hup : (fun j => if 1222 * x ≤ j ∧ j < 1222 * x + ((1222 : Nat) : Int) then m (j - 1222 * x) else saved j) = mS saved m x := rfl
      simp (disch := omega) only [Option.bind_some, tw_gm, tw_gold, tw_gsaved, tw_gisS, tw_gtext, tw_gtl, tw_grf_, tw_gfar, tw_gmk, tw_gstk, tw_gtop, tw_ghi, tw_gov, tw_gcmd, tw_gcm, tw_gat_, tw_gft, tw_ghs, tw_nm, tw_nold, tw_nsaved, tw_nisS, tw_ntext, tw_nfar, tw_nmk, tw_nstk, tw_ncmd, tw_ck, tw_am, tw_aold, tw_asaved, tw_aisS, tw_atext, tw_afar, tw_amk, tw_astk, tw_acmd, tw_sm, tw_sold, tw_ssaved, tw_sisS, tw_stext, tw_sfar, tw_smk, tw_sstk, tw_scmd, tw_ptl, tw_prf_, tw_ptop, tw_phi, tw_pov, tw_pcm, tw_pat_, tw_pft, tw_phs, tw_zov, J_add, J_sub, J_mul, J_neg, J_lit, J_lt, J_le, J_eq, Int.reduceAdd, Int.reduceSub, Int.reduceMul, Int.reduceNeg, Int.reduceEq, Int.reduceLT, Int.reduceLE, reduceIte, Int.zero_add, Int.add_zero, and_self, true_and, and_true, false_and, and_false, or_true, true_or, or_false, false_or, not_true_eq_false, not_false_eq_true, ne_eq, b2_s, if_pos (show (1222 : Int) ≤ (1222 : Nat) by omega), hup, h2]
      rfl
  · simp (disch := omega) only [Option.bind_some, tw_gm, tw_gold, tw_gsaved, tw_gisS, tw_gtext, tw_gtl, tw_grf_, tw_gfar, tw_gmk, tw_gstk, tw_gtop, tw_ghi, tw_gov, tw_gcmd, tw_gcm, tw_gat_, tw_gft, tw_ghs, tw_nm, tw_nold, tw_nsaved, tw_nisS, tw_ntext, tw_nfar, tw_nmk, tw_nstk, tw_ncmd, tw_ck, tw_am, tw_aold, tw_asaved, tw_aisS, tw_atext, tw_afar, tw_amk, tw_astk, tw_acmd, tw_sm, tw_sold, tw_ssaved, tw_sisS, tw_stext, tw_sfar, tw_smk, tw_sstk, tw_scmd, tw_ptl, tw_prf_, tw_ptop, tw_phi, tw_pov, tw_pcm, tw_pat_, tw_pft, tw_phs, tw_zov, J_add, J_sub, J_mul, J_neg, J_lit, J_lt, J_le, J_eq, Int.reduceAdd, Int.reduceSub, Int.reduceMul, Int.reduceNeg, Int.reduceEq, Int.reduceLT, Int.reduceLE, reduceIte, Int.zero_add, Int.add_zero, and_self, true_and, and_true, false_and, and_false, or_true, true_or, or_false, false_or, not_true_eq_false, not_false_eq_true, ne_eq, b2_s, h1, if_neg c, lgo_r]
theorem tm_restore {x : Int} (hx : ir x) (hS : isS x = 0 ∨ isS x = 1) (hR : isS x = 1 → WF (mR saved m x)) : f_X2_restore t (J x) (tput t m old saved isS text tl rf_ far mk stk top hi ov cmd cm at_ ft hs σ) = some (if 0 ≤ x ∧ x ≤ 1 then (if isS x = 0 then (J (-1000003), (tput t m old saved isS text tl rf_ far mk stk top hi ov cmd cm at_ ft hs σ)) else (J (cnt (mR saved m x) tl 2), (tput t (mR saved m x) old saved isS text tl rf_ far mk stk top hi ov cmd cm at_ ft hs σ))) else (J (-1000002), (tput t m old saved isS text tl rf_ far mk stk top hi ov cmd cm at_ ft hs σ))) := by
  have h1 := t_in hx (show ir 0 by unfold ir; omega) (show ir 1 by unfold ir; omega) (σ := (tput t m old saved isS text tl rf_ far mk stk top hi ov cmd cm at_ ft hs σ))
  unfold f_X2_restore g_X2_restore_0
  by_cases c : 0 ≤ x ∧ x ≤ 1
  · rcases hS with hS | hS
    · simp (disch := omega) only [Option.bind_some, tw_gm, tw_gold, tw_gsaved, tw_gisS, tw_gtext, tw_gtl, tw_grf_, tw_gfar, tw_gmk, tw_gstk, tw_gtop, tw_ghi, tw_gov, tw_gcmd, tw_gcm, tw_gat_, tw_gft, tw_ghs, tw_nm, tw_nold, tw_nsaved, tw_nisS, tw_ntext, tw_nfar, tw_nmk, tw_nstk, tw_ncmd, tw_ck, tw_am, tw_aold, tw_asaved, tw_aisS, tw_atext, tw_afar, tw_amk, tw_astk, tw_acmd, tw_sm, tw_sold, tw_ssaved, tw_sisS, tw_stext, tw_sfar, tw_smk, tw_sstk, tw_scmd, tw_ptl, tw_prf_, tw_ptop, tw_phi, tw_pov, tw_pcm, tw_pat_, tw_pft, tw_phs, tw_zov, J_add, J_sub, J_mul, J_neg, J_lit, J_lt, J_le, J_eq, Int.reduceAdd, Int.reduceSub, Int.reduceMul, Int.reduceNeg, Int.reduceEq, Int.reduceLT, Int.reduceLE, reduceIte, Int.zero_add, Int.add_zero, and_self, true_and, and_true, false_and, and_false, or_true, true_or, or_false, false_or, not_true_eq_false, not_false_eq_true, ne_eq, b2_s, h1, if_pos c, hS, lgo_r]
    · simp (disch := omega) only [Option.bind_some, tw_gm, tw_gold, tw_gsaved, tw_gisS, tw_gtext, tw_gtl, tw_grf_, tw_gfar, tw_gmk, tw_gstk, tw_gtop, tw_ghi, tw_gov, tw_gcmd, tw_gcm, tw_gat_, tw_gft, tw_ghs, tw_nm, tw_nold, tw_nsaved, tw_nisS, tw_ntext, tw_nfar, tw_nmk, tw_nstk, tw_ncmd, tw_ck, tw_am, tw_aold, tw_asaved, tw_aisS, tw_atext, tw_afar, tw_amk, tw_astk, tw_acmd, tw_sm, tw_sold, tw_ssaved, tw_sisS, tw_stext, tw_sfar, tw_smk, tw_sstk, tw_scmd, tw_ptl, tw_prf_, tw_ptop, tw_phi, tw_pov, tw_pcm, tw_pat_, tw_pft, tw_phs, tw_zov, J_add, J_sub, J_mul, J_neg, J_lit, J_lt, J_le, J_eq, Int.reduceAdd, Int.reduceSub, Int.reduceMul, Int.reduceNeg, Int.reduceEq, Int.reduceLT, Int.reduceLE, reduceIte, Int.zero_add, Int.add_zero, and_self, true_and, and_true, false_and, and_false, or_true, true_or, or_false, false_or, not_true_eq_false, not_false_eq_true, ne_eq, b2_s, h1, if_pos c, hS, lgo_l]
      have key := lpx_seq (f := s_X2_restore t (J x)) (fun k => (J k, (tput t (fun j => if 0 ≤ j ∧ j < (k : Int) then saved (1222 * x + j) else m j) old saved isS text tl rf_ far mk stk top hi ov cmd cm at_ ft hs σ))) 1222 (r := (J (cnt (mR saved m x) tl 2), (tput t (mR saved m x) old saved isS text tl rf_ far mk stk top hi ov cmd cm at_ ft hs σ))) ?_ ?_
      · have h0 : (fun j => if 0 ≤ j ∧ j < ((0 : Nat) : Int) then saved (1222 * x + j) else m j) = m := by
          funext j
          rw [if_neg (by omega)]
        simp only [h0] at key
        exact key
      · intro k hk
        unfold s_X2_restore g_X2_restore_26
        have hup : up (fun j => if 0 ≤ j ∧ j < (k : Int) then saved (1222 * x + j) else m j) k (saved (1222 * x + k)) = fun j => if 0 ≤ j ∧ j < ((k + 1 : Nat) : Int) then saved (1222 * x + j) else m j := by
          funext j
          unfold up
          grind
        simp (disch := omega) only [Option.bind_some, tw_gm, tw_gold, tw_gsaved, tw_gisS, tw_gtext, tw_gtl, tw_grf_, tw_gfar, tw_gmk, tw_gstk, tw_gtop, tw_ghi, tw_gov, tw_gcmd, tw_gcm, tw_gat_, tw_gft, tw_ghs, tw_nm, tw_nold, tw_nsaved, tw_nisS, tw_ntext, tw_nfar, tw_nmk, tw_nstk, tw_ncmd, tw_ck, tw_am, tw_aold, tw_asaved, tw_aisS, tw_atext, tw_afar, tw_amk, tw_astk, tw_acmd, tw_sm, tw_sold, tw_ssaved, tw_sisS, tw_stext, tw_sfar, tw_smk, tw_sstk, tw_scmd, tw_ptl, tw_prf_, tw_ptop, tw_phi, tw_pov, tw_pcm, tw_pat_, tw_pft, tw_phs, tw_zov, J_add, J_sub, J_mul, J_neg, J_lit, J_lt, J_le, J_eq, Int.reduceAdd, Int.reduceSub, Int.reduceMul, Int.reduceNeg, Int.reduceEq, Int.reduceLT, Int.reduceLE, reduceIte, Int.zero_add, Int.add_zero, and_self, true_and, and_true, false_and, and_false, or_true, true_or, or_false, false_or, not_true_eq_false, not_false_eq_true, ne_eq, b2_s, if_neg (show ¬ ((1222 : Int) ≤ k) by omega), hup]
        rfl
      · unfold s_X2_restore g_X2_restore_26
        have h2 := t_many (t := t) (old := old) (saved := saved) (isS := isS) (text := text) (tl := tl) (rf_ := rf_) (far := far) (mk := mk) (stk := stk) (top := top) (hi := hi) (ov := ov) (cmd := cmd) (cm := cm) (at_ := at_) (ft := ft) (hs := hs) (σ := σ) (hR hS) (p := 0) (Or.inl rfl)
        have e2 : (fun a => if 0 < mR saved m x a ∧ ((0 : Int) = 0 ∨ mR saved m x (400 + a) = 1) then (1 : Int) else 0) = fun a => if 0 < mR saved m x a then 1 else 0 := by funext a; simp
        rw [e2] at h2
        have hup : (fun j => if 0 ≤ j ∧ j < ((1222 : Nat) : Int) then saved (1222 * x + j) else m j) = mR saved m x := rfl
        simp (disch := omega) only [Option.bind_some, tw_gm, tw_gold, tw_gsaved, tw_gisS, tw_gtext, tw_gtl, tw_grf_, tw_gfar, tw_gmk, tw_gstk, tw_gtop, tw_ghi, tw_gov, tw_gcmd, tw_gcm, tw_gat_, tw_gft, tw_ghs, tw_nm, tw_nold, tw_nsaved, tw_nisS, tw_ntext, tw_nfar, tw_nmk, tw_nstk, tw_ncmd, tw_ck, tw_am, tw_aold, tw_asaved, tw_aisS, tw_atext, tw_afar, tw_amk, tw_astk, tw_acmd, tw_sm, tw_sold, tw_ssaved, tw_sisS, tw_stext, tw_sfar, tw_smk, tw_sstk, tw_scmd, tw_ptl, tw_prf_, tw_ptop, tw_phi, tw_pov, tw_pcm, tw_pat_, tw_pft, tw_phs, tw_zov, J_add, J_sub, J_mul, J_neg, J_lit, J_lt, J_le, J_eq, Int.reduceAdd, Int.reduceSub, Int.reduceMul, Int.reduceNeg, Int.reduceEq, Int.reduceLT, Int.reduceLE, reduceIte, Int.zero_add, Int.add_zero, and_self, true_and, and_true, false_and, and_false, or_true, true_or, or_false, false_or, not_true_eq_false, not_false_eq_true, ne_eq, b2_s, if_pos (show (1222 : Int) ≤ (1222 : Nat) by omega), hup, h2]
        rfl
  · simp (disch := omega) only [Option.bind_some, tw_gm, tw_gold, tw_gsaved, tw_gisS, tw_gtext, tw_gtl, tw_grf_, tw_gfar, tw_gmk, tw_gstk, tw_gtop, tw_ghi, tw_gov, tw_gcmd, tw_gcm, tw_gat_, tw_gft, tw_ghs, tw_nm, tw_nold, tw_nsaved, tw_nisS, tw_ntext, tw_nfar, tw_nmk, tw_nstk, tw_ncmd, tw_ck, tw_am, tw_aold, tw_asaved, tw_aisS, tw_atext, tw_afar, tw_amk, tw_astk, tw_acmd, tw_sm, tw_sold, tw_ssaved, tw_sisS, tw_stext, tw_sfar, tw_smk, tw_sstk, tw_scmd, tw_ptl, tw_prf_, tw_ptop, tw_phi, tw_pov, tw_pcm, tw_pat_, tw_pft, tw_phs, tw_zov, J_add, J_sub, J_mul, J_neg, J_lit, J_lt, J_le, J_eq, Int.reduceAdd, Int.reduceSub, Int.reduceMul, Int.reduceNeg, Int.reduceEq, Int.reduceLT, Int.reduceLE, reduceIte, Int.zero_add, Int.add_zero, and_self, true_and, and_true, false_and, and_false, or_true, true_or, or_false, false_or, not_true_eq_false, not_false_eq_true, ne_eq, b2_s, h1, if_neg c, lgo_r]
/-- how many references name the object at a -/
noncomputable def rfc (m : Int → Int) (a : Int) : Int := sm (fun k => if m (1200 + k) ≠ -1 ∧ ob m (m (1200 + k)) = a then 1 else 0) 10 + sm (fun b => if 0 < m b then sm (fun f => if m (800 + b + (1 + f)) ≠ -1 ∧ ob m (m (800 + b + (1 + f))) = a then 1 else 0) (m (200 + b)).toNat else 0) (m 1216).toNat
theorem rf_ir (hm : WF m) {r : Int} (h : rf m r) : -1 ≤ r ∧ r < 200 := by
  rcases h with h | ⟨a, a1, a2, a3, a4, a5⟩
  · omega
  · have := hm.he a a1 a2 a3
    have := hm.hW
    omega
theorem tm_referring (hm : WF m) {a : Int} (ha : 0 ≤ a ∧ a < 200) : f_X2_referring t (J a) (tput t m old saved isS text tl rf_ far mk stk top hi ov cmd cm at_ ft hs σ) = some (J (rfc m a)) := by
  have hW := hm.hW
  unfold f_X2_referring g_X2_referring_0
  rw [lgo_l, J_lit]
  have p1 := lpx_steps (f := s_X2_referring t (J a) (tput t m old saved isS text tl rf_ far mk stk top hi ov cmd cm at_ ft hs σ)) (fun k => .inl (J (sm (fun k => if m (1200 + k) ≠ -1 ∧ ob m (m (1200 + k)) = a then 1 else 0) k), J k)) 10 (by
    intro k hk
    have hr := hm.hr k (by omega) (by omega)
    have hb := rf_ir hm hr
    unfold s_X2_referring g_X2_referring_4
    dsimp only
    by_cases h : m (1200 + k) = -1
    · simp (disch := omega) only [Option.bind_some, tw_gm, tw_gold, tw_gsaved, tw_gisS, tw_gtext, tw_gtl, tw_grf_, tw_gfar, tw_gmk, tw_gstk, tw_gtop, tw_ghi, tw_gov, tw_gcmd, tw_gcm, tw_gat_, tw_gft, tw_ghs, tw_nm, tw_nold, tw_nsaved, tw_nisS, tw_ntext, tw_nfar, tw_nmk, tw_nstk, tw_ncmd, tw_ck, tw_am, tw_aold, tw_asaved, tw_aisS, tw_atext, tw_afar, tw_amk, tw_astk, tw_acmd, tw_sm, tw_sold, tw_ssaved, tw_sisS, tw_stext, tw_sfar, tw_smk, tw_sstk, tw_scmd, tw_ptl, tw_prf_, tw_ptop, tw_phi, tw_pov, tw_pcm, tw_pat_, tw_pft, tw_phs, tw_zov, J_add, J_sub, J_mul, J_neg, J_lit, J_lt, J_le, J_eq, Int.reduceAdd, Int.reduceSub, Int.reduceMul, Int.reduceNeg, Int.reduceEq, Int.reduceLT, Int.reduceLE, reduceIte, Int.zero_add, Int.add_zero, and_self, true_and, and_true, false_and, and_false, or_true, true_or, or_false, false_or, not_true_eq_false, not_false_eq_true, ne_eq, b2_s, if_neg (show ¬ ((10 : Int) ≤ k) by omega), h, sm_s]
      rfl
    · have h2 := ob_r (m := m) (m (1200 + k))
      by_cases h3 : ob m (m (1200 + k)) = a
      · simp (disch := omega) only [Option.bind_some, tw_gm, tw_gold, tw_gsaved, tw_gisS, tw_gtext, tw_gtl, tw_grf_, tw_gfar, tw_gmk, tw_gstk, tw_gtop, tw_ghi, tw_gov, tw_gcmd, tw_gcm, tw_gat_, tw_gft, tw_ghs, tw_nm, tw_nold, tw_nsaved, tw_nisS, tw_ntext, tw_nfar, tw_nmk, tw_nstk, tw_ncmd, tw_ck, tw_am, tw_aold, tw_asaved, tw_aisS, tw_atext, tw_afar, tw_amk, tw_astk, tw_acmd, tw_sm, tw_sold, tw_ssaved, tw_sisS, tw_stext, tw_sfar, tw_smk, tw_sstk, tw_scmd, tw_ptl, tw_prf_, tw_ptop, tw_phi, tw_pov, tw_pcm, tw_pat_, tw_pft, tw_phs, tw_zov, J_add, J_sub, J_mul, J_neg, J_lit, J_lt, J_le, J_eq, Int.reduceAdd, Int.reduceSub, Int.reduceMul, Int.reduceNeg, Int.reduceEq, Int.reduceLT, Int.reduceLE, reduceIte, Int.zero_add, Int.add_zero, and_self, true_and, and_true, false_and, and_false, or_true, true_or, or_false, false_or, not_true_eq_false, not_false_eq_true, ne_eq, b2_s, if_neg (show ¬ ((10 : Int) ≤ k) by omega), if_neg h, t_objectOf hm (show ir (m (1200 + k)) by unfold ir; omega), h3, h, sm_s]
        rfl
      · simp (disch := omega) only [Option.bind_some, tw_gm, tw_gold, tw_gsaved, tw_gisS, tw_gtext, tw_gtl, tw_grf_, tw_gfar, tw_gmk, tw_gstk, tw_gtop, tw_ghi, tw_gov, tw_gcmd, tw_gcm, tw_gat_, tw_gft, tw_ghs, tw_nm, tw_nold, tw_nsaved, tw_nisS, tw_ntext, tw_nfar, tw_nmk, tw_nstk, tw_ncmd, tw_ck, tw_am, tw_aold, tw_asaved, tw_aisS, tw_atext, tw_afar, tw_amk, tw_astk, tw_acmd, tw_sm, tw_sold, tw_ssaved, tw_sisS, tw_stext, tw_sfar, tw_smk, tw_sstk, tw_scmd, tw_ptl, tw_prf_, tw_ptop, tw_phi, tw_pov, tw_pcm, tw_pat_, tw_pft, tw_phs, tw_zov, J_add, J_sub, J_mul, J_neg, J_lit, J_lt, J_le, J_eq, Int.reduceAdd, Int.reduceSub, Int.reduceMul, Int.reduceNeg, Int.reduceEq, Int.reduceLT, Int.reduceLE, reduceIte, Int.zero_add, Int.add_zero, and_self, true_and, and_true, false_and, and_false, or_true, true_or, or_false, false_or, not_true_eq_false, not_false_eq_true, ne_eq, b2_s, if_neg (show ¬ ((10 : Int) ≤ k) by omega), if_neg h, t_objectOf hm (show ir (m (1200 + k)) by unfold ir; omega), if_neg h3, h3, h, sm_s]
        rfl)
  refine (show _ = _ from p1).trans ?_
  rw [lpx_n (s' := .inr (.inl (J (sm (fun k => if m (1200 + k) ≠ -1 ∧ ob m (m (1200 + k)) = a then 1 else 0) 10), J 0))) (by
    unfold s_X2_referring g_X2_referring_4
    dsimp only
    simp (disch := omega) only [Option.bind_some, tw_gm, tw_gold, tw_gsaved, tw_gisS, tw_gtext, tw_gtl, tw_grf_, tw_gfar, tw_gmk, tw_gstk, tw_gtop, tw_ghi, tw_gov, tw_gcmd, tw_gcm, tw_gat_, tw_gft, tw_ghs, tw_nm, tw_nold, tw_nsaved, tw_nisS, tw_ntext, tw_nfar, tw_nmk, tw_nstk, tw_ncmd, tw_ck, tw_am, tw_aold, tw_asaved, tw_aisS, tw_atext, tw_afar, tw_amk, tw_astk, tw_acmd, tw_sm, tw_sold, tw_ssaved, tw_sisS, tw_stext, tw_sfar, tw_smk, tw_sstk, tw_scmd, tw_ptl, tw_prf_, tw_ptop, tw_phi, tw_pov, tw_pcm, tw_pat_, tw_pft, tw_phs, tw_zov, J_add, J_sub, J_mul, J_neg, J_lit, J_lt, J_le, J_eq, Int.reduceAdd, Int.reduceSub, Int.reduceMul, Int.reduceNeg, Int.reduceEq, Int.reduceLT, Int.reduceLE, reduceIte, Int.zero_add, Int.add_zero, and_self, true_and, and_true, false_and, and_false, or_true, true_or, or_false, false_or, not_true_eq_false, not_false_eq_true, ne_eq, b2_s, if_pos (show (10 : Int) ≤ (10 : Nat) by omega)])]
  unfold rfc
  generalize sm (fun k => if m (1200 + k) ≠ -1 ∧ ob m (m (1200 + k)) = a then 1 else 0) 10 = S
  refine (lpx_outer2 (f := s_X2_referring t (J a) (tput t m old saved isS text tl rf_ far mk stk top hi ov cmd cm at_ ft hs σ)) (fun b => .inr (.inl (J (S + sm (fun b => if 0 < m b then sm (fun f => if m (800 + b + (1 + f)) ≠ -1 ∧ ob m (m (800 + b + (1 + f))) = a then 1 else 0) (m (200 + b)).toNat else 0) b), J b))) (m 1216).toNat (by simp [sm]) (by
    intro b hb
    have hsb := hm.hs b (by omega) (by omega)
    rw [sm_s]
    generalize sm (fun b => if 0 < m b then sm (fun f => if m (800 + b + (1 + f)) ≠ -1 ∧ ob m (m (800 + b + (1 + f))) = a then 1 else 0) (m (200 + b)).toNat else 0) b = A
    rw [lpx_n (s' := .inr (.inr (J (S + A), J b, J 1))) (by
      unfold s_X2_referring g_X2_referring_58
      dsimp only
      simp (disch := omega) only [Option.bind_some, tw_gm, tw_gold, tw_gsaved, tw_gisS, tw_gtext, tw_gtl, tw_grf_, tw_gfar, tw_gmk, tw_gstk, tw_gtop, tw_ghi, tw_gov, tw_gcmd, tw_gcm, tw_gat_, tw_gft, tw_ghs, tw_nm, tw_nold, tw_nsaved, tw_nisS, tw_ntext, tw_nfar, tw_nmk, tw_nstk, tw_ncmd, tw_ck, tw_am, tw_aold, tw_asaved, tw_aisS, tw_atext, tw_afar, tw_amk, tw_astk, tw_acmd, tw_sm, tw_sold, tw_ssaved, tw_sisS, tw_stext, tw_sfar, tw_smk, tw_sstk, tw_scmd, tw_ptl, tw_prf_, tw_ptop, tw_phi, tw_pov, tw_pcm, tw_pat_, tw_pft, tw_phs, tw_zov, J_add, J_sub, J_mul, J_neg, J_lit, J_lt, J_le, J_eq, Int.reduceAdd, Int.reduceSub, Int.reduceMul, Int.reduceNeg, Int.reduceEq, Int.reduceLT, Int.reduceLE, reduceIte, Int.zero_add, Int.add_zero, and_self, true_and, and_true, false_and, and_false, or_true, true_or, or_false, false_or, not_true_eq_false, not_false_eq_true, ne_eq, b2_s, if_neg (show ¬ (m 1216 ≤ (b : Int)) by omega)])]
    have hFb := hm.hF b (by omega) (by omega)
    have hend : ∀ v x : Int, m (200 + b) < x ∨ m b ≤ 0 → 0 < x → x < 100 → (s_X2_referring t (J a) (tput t m old saved isS text tl rf_ far mk stk top hi ov cmd cm at_ ft hs σ)) (.inr (.inr (J v, J b, J x))) = some (.inl (.inr (.inl (J v, J (b + 1))))) := by
      intro v x h1 h2 h3
      unfold s_X2_referring g_X2_referring_73
      dsimp only
      by_cases c : m (200 + b) < x
      · simp (disch := omega) only [Option.bind_some, tw_gm, tw_gold, tw_gsaved, tw_gisS, tw_gtext, tw_gtl, tw_grf_, tw_gfar, tw_gmk, tw_gstk, tw_gtop, tw_ghi, tw_gov, tw_gcmd, tw_gcm, tw_gat_, tw_gft, tw_ghs, tw_nm, tw_nold, tw_nsaved, tw_nisS, tw_ntext, tw_nfar, tw_nmk, tw_nstk, tw_ncmd, tw_ck, tw_am, tw_aold, tw_asaved, tw_aisS, tw_atext, tw_afar, tw_amk, tw_astk, tw_acmd, tw_sm, tw_sold, tw_ssaved, tw_sisS, tw_stext, tw_sfar, tw_smk, tw_sstk, tw_scmd, tw_ptl, tw_prf_, tw_ptop, tw_phi, tw_pov, tw_pcm, tw_pat_, tw_pft, tw_phs, tw_zov, J_add, J_sub, J_mul, J_neg, J_lit, J_lt, J_le, J_eq, Int.reduceAdd, Int.reduceSub, Int.reduceMul, Int.reduceNeg, Int.reduceEq, Int.reduceLT, Int.reduceLE, reduceIte, Int.zero_add, Int.add_zero, and_self, true_and, and_true, false_and, and_false, or_true, true_or, or_false, false_or, not_true_eq_false, not_false_eq_true, ne_eq, b2_s, if_pos c]
      · simp (disch := omega) only [Option.bind_some, tw_gm, tw_gold, tw_gsaved, tw_gisS, tw_gtext, tw_gtl, tw_grf_, tw_gfar, tw_gmk, tw_gstk, tw_gtop, tw_ghi, tw_gov, tw_gcmd, tw_gcm, tw_gat_, tw_gft, tw_ghs, tw_nm, tw_nold, tw_nsaved, tw_nisS, tw_ntext, tw_nfar, tw_nmk, tw_nstk, tw_ncmd, tw_ck, tw_am, tw_aold, tw_asaved, tw_aisS, tw_atext, tw_afar, tw_amk, tw_astk, tw_acmd, tw_sm, tw_sold, tw_ssaved, tw_sisS, tw_stext, tw_sfar, tw_smk, tw_sstk, tw_scmd, tw_ptl, tw_prf_, tw_ptop, tw_phi, tw_pov, tw_pcm, tw_pat_, tw_pft, tw_phs, tw_zov, J_add, J_sub, J_mul, J_neg, J_lit, J_lt, J_le, J_eq, Int.reduceAdd, Int.reduceSub, Int.reduceMul, Int.reduceNeg, Int.reduceEq, Int.reduceLT, Int.reduceLE, reduceIte, Int.zero_add, Int.add_zero, and_self, true_and, and_true, false_and, and_false, or_true, true_or, or_false, false_or, not_true_eq_false, not_false_eq_true, ne_eq, b2_s, if_neg c, if_pos (show m b ≤ 0 by omega)]
    by_cases h0 : m b ≤ 0
    · rw [lpx_n (hend _ 1 (Or.inr h0) (by omega) (by omega)), if_neg (show ¬ 0 < m b by omega), Int.add_zero]
      rfl
    · have hfb := hm.hf b (by omega) (by omega) (by omega)
      refine (lpx_steps2 (f := s_X2_referring t (J a) (tput t m old saved isS text tl rf_ far mk stk top hi ov cmd cm at_ ft hs σ)) (fun k => .inr (.inr (J (S + A + sm (fun f => if m (800 + b + (1 + f)) ≠ -1 ∧ ob m (m (800 + b + (1 + f))) = a then 1 else 0) k), J b, J (1 + k)))) (m (200 + b)).toNat (by simp [sm]) (by
        intro k hk
        have hr := hm.hq b (1 + k) (by omega) (by omega) (by omega) (by omega) (by omega)
        have hb9 := rf_ir hm hr
        unfold s_X2_referring g_X2_referring_73
        dsimp only
        by_cases h : m (800 + b + (1 + k)) = -1
        · simp (disch := omega) only [Option.bind_some, tw_gm, tw_gold, tw_gsaved, tw_gisS, tw_gtext, tw_gtl, tw_grf_, tw_gfar, tw_gmk, tw_gstk, tw_gtop, tw_ghi, tw_gov, tw_gcmd, tw_gcm, tw_gat_, tw_gft, tw_ghs, tw_nm, tw_nold, tw_nsaved, tw_nisS, tw_ntext, tw_nfar, tw_nmk, tw_nstk, tw_ncmd, tw_ck, tw_am, tw_aold, tw_asaved, tw_aisS, tw_atext, tw_afar, tw_amk, tw_astk, tw_acmd, tw_sm, tw_sold, tw_ssaved, tw_sisS, tw_stext, tw_sfar, tw_smk, tw_sstk, tw_scmd, tw_ptl, tw_prf_, tw_ptop, tw_phi, tw_pov, tw_pcm, tw_pat_, tw_pft, tw_phs, tw_zov, J_add, J_sub, J_mul, J_neg, J_lit, J_lt, J_le, J_eq, Int.reduceAdd, Int.reduceSub, Int.reduceMul, Int.reduceNeg, Int.reduceEq, Int.reduceLT, Int.reduceLE, reduceIte, Int.zero_add, Int.add_zero, and_self, true_and, and_true, false_and, and_false, or_true, true_or, or_false, false_or, not_true_eq_false, not_false_eq_true, ne_eq, b2_s, if_neg (show ¬ (m (200 + b) < 1 + (k : Int)) by omega), if_neg h0, h, sm_s]
          simp [Int.add_assoc]
        · have h2 := ob_r (m := m) (m (800 + b + (1 + k)))
          by_cases h3 : ob m (m (800 + b + (1 + k))) = a
          · simp (disch := omega) only [Option.bind_some, tw_gm, tw_gold, tw_gsaved, tw_gisS, tw_gtext, tw_gtl, tw_grf_, tw_gfar, tw_gmk, tw_gstk, tw_gtop, tw_ghi, tw_gov, tw_gcmd, tw_gcm, tw_gat_, tw_gft, tw_ghs, tw_nm, tw_nold, tw_nsaved, tw_nisS, tw_ntext, tw_nfar, tw_nmk, tw_nstk, tw_ncmd, tw_ck, tw_am, tw_aold, tw_asaved, tw_aisS, tw_atext, tw_afar, tw_amk, tw_astk, tw_acmd, tw_sm, tw_sold, tw_ssaved, tw_sisS, tw_stext, tw_sfar, tw_smk, tw_sstk, tw_scmd, tw_ptl, tw_prf_, tw_ptop, tw_phi, tw_pov, tw_pcm, tw_pat_, tw_pft, tw_phs, tw_zov, J_add, J_sub, J_mul, J_neg, J_lit, J_lt, J_le, J_eq, Int.reduceAdd, Int.reduceSub, Int.reduceMul, Int.reduceNeg, Int.reduceEq, Int.reduceLT, Int.reduceLE, reduceIte, Int.zero_add, Int.add_zero, and_self, true_and, and_true, false_and, and_false, or_true, true_or, or_false, false_or, not_true_eq_false, not_false_eq_true, ne_eq, b2_s, if_neg (show ¬ (m (200 + b) < 1 + (k : Int)) by omega), if_neg h0, if_neg h, t_objectOf hm (show ir (m (800 + b + (1 + k))) by unfold ir; omega), h3, h, sm_s]
            simp [Int.add_assoc]
          · simp (disch := omega) only [Option.bind_some, tw_gm, tw_gold, tw_gsaved, tw_gisS, tw_gtext, tw_gtl, tw_grf_, tw_gfar, tw_gmk, tw_gstk, tw_gtop, tw_ghi, tw_gov, tw_gcmd, tw_gcm, tw_gat_, tw_gft, tw_ghs, tw_nm, tw_nold, tw_nsaved, tw_nisS, tw_ntext, tw_nfar, tw_nmk, tw_nstk, tw_ncmd, tw_ck, tw_am, tw_aold, tw_asaved, tw_aisS, tw_atext, tw_afar, tw_amk, tw_astk, tw_acmd, tw_sm, tw_sold, tw_ssaved, tw_sisS, tw_stext, tw_sfar, tw_smk, tw_sstk, tw_scmd, tw_ptl, tw_prf_, tw_ptop, tw_phi, tw_pov, tw_pcm, tw_pat_, tw_pft, tw_phs, tw_zov, J_add, J_sub, J_mul, J_neg, J_lit, J_lt, J_le, J_eq, Int.reduceAdd, Int.reduceSub, Int.reduceMul, Int.reduceNeg, Int.reduceEq, Int.reduceLT, Int.reduceLE, reduceIte, Int.zero_add, Int.add_zero, and_self, true_and, and_true, false_and, and_false, or_true, true_or, or_false, false_or, not_true_eq_false, not_false_eq_true, ne_eq, b2_s, if_neg (show ¬ (m (200 + b) < 1 + (k : Int)) by omega), if_neg h0, if_neg h, t_objectOf hm (show ir (m (800 + b + (1 + k))) by unfold ir; omega), if_neg h3, h3, h, sm_s]
            simp [Int.add_assoc])).trans ?_
      rw [if_pos (show 0 < m b by omega), lpx_n (hend _ (1 + ((m (200 + b)).toNat : Int)) (Or.inl (by omega)) (by omega) (by omega)), Int.add_assoc]
      rfl)).trans (lpx_d ?_)
  unfold s_X2_referring g_X2_referring_58
  dsimp only
  simp (disch := omega) only [Option.bind_some, tw_gm, tw_gold, tw_gsaved, tw_gisS, tw_gtext, tw_gtl, tw_grf_, tw_gfar, tw_gmk, tw_gstk, tw_gtop, tw_ghi, tw_gov, tw_gcmd, tw_gcm, tw_gat_, tw_gft, tw_ghs, tw_nm, tw_nold, tw_nsaved, tw_nisS, tw_ntext, tw_nfar, tw_nmk, tw_nstk, tw_ncmd, tw_ck, tw_am, tw_aold, tw_asaved, tw_aisS, tw_atext, tw_afar, tw_amk, tw_astk, tw_acmd, tw_sm, tw_sold, tw_ssaved, tw_sisS, tw_stext, tw_sfar, tw_smk, tw_sstk, tw_scmd, tw_ptl, tw_prf_, tw_ptop, tw_phi, tw_pov, tw_pcm, tw_pat_, tw_pft, tw_phs, tw_zov, J_add, J_sub, J_mul, J_neg, J_lit, J_lt, J_le, J_eq, Int.reduceAdd, Int.reduceSub, Int.reduceMul, Int.reduceNeg, Int.reduceEq, Int.reduceLT, Int.reduceLE, reduceIte, Int.zero_add, Int.add_zero, and_self, true_and, and_true, false_and, and_false, or_true, true_or, or_false, false_or, not_true_eq_false, not_false_eq_true, ne_eq, b2_s, Int.toNat_of_nonneg (show 0 ≤ m 1216 by omega), if_pos (show m 1216 ≤ m 1216 by omega)]
end T5
