/-! PLAIN LAW: the twin reaches objects step by step. NAMES: rd sta ed, tm_ -/
set_option maxRecDepth 100000
/-- a loop with a measure that the invariant carries -/
theorem lpx_mu {S R : Type} {f : S → Option (S ⊕ R)} (I : Nat → S → Prop) (Q : R → Prop) (h : ∀ n s, I n s → (∃ r, f s = some (.inr r) ∧ Q r) ∨ ∃ s' n', f s = some (.inl s') ∧ n' < n ∧ I n' s') : ∀ n s, I n s → ∃ r, lpx f s = some r ∧ Q r := by
  have key : ∀ N n s, n < N → I n s → ∃ r, lpx f s = some r ∧ Q r := by
    intro N
    induction N with
    | zero => intro n s hn; omega
    | succ N ih =>
      intro n s hn hI
      rcases h n s hI with ⟨r, h1, h2⟩ | ⟨s', n', h1, h2, h3⟩
      · exact ⟨r, lpx_d h1, h2⟩
      · rw [lpx_n h1]
        exact ih n' s' (by omega) h3
  exact fun n s => key (n + 1) n s (by omega)
/-- a field of the object at a refers to the object at b -/
def ed (m : Int → Int) (a b : Int) : Prop := 0 ≤ a ∧ a < 200 ∧ 0 < m a ∧ ∃ f, 1 ≤ f ∧ f ≤ m (200 + a) ∧ m (800 + a + f) ≠ -1 ∧ ob m (m (800 + a + f)) = b
/-- a root, or pinned -/
def sta (m : Int → Int) (b : Int) : Prop := (∃ k, 0 ≤ k ∧ k < 6 ∧ m (1200 + k) ≠ -1 ∧ ob m (m (1200 + k)) = b) ∨ (0 ≤ b ∧ b < 200 ∧ 0 < m b ∧ m (400 + b) = 1)
/-- reached in at most n steps, as if the object at w was not there -/
def rd (m : Int → Int) (w : Int) : Nat → Int → Prop
  | 0, b => sta m b ∧ b ≠ w
  | n + 1, b => rd m w n b ∨ ∃ a, rd m w n a ∧ ed m a b ∧ b ≠ w
theorem rd_mono {m : Int → Int} {w b : Int} {n k : Nat} (h : rd m w n b) (hk : n ≤ k) : rd m w k b := by
  induction k with
  | zero => rw [show n = 0 by omega] at h; exact h
  | succ k ih =>
    by_cases hn : n = k + 1
    · rw [← hn]; exact h
    · exact Or.inl (ih (by omega))
theorem ob_of_rf {m : Int → Int} {r : Int} (h : rf m r) (hr : r ≠ -1) : oc m (ob m r) r := by
  rcases h with h | ⟨a, h⟩
  · exact absurd h hr
  · rcases ob_c (m := m) r with ⟨-, q⟩ | q
    · exact absurd h (q a)
    · exact q
theorem sta_in {m : Int → Int} (hm : WF m) {b : Int} (h : sta m b) : 0 ≤ b ∧ b < 200 ∧ 0 < m b := by
  rcases h with ⟨k, k1, k2, k3, rfl⟩ | ⟨h1, h2, h3, -⟩
  · obtain ⟨a1, a2, a3, -⟩ := ob_of_rf (hm.hr k k1 (by omega)) k3
    exact ⟨a1, a2, a3⟩
  · exact ⟨h1, h2, h3⟩
theorem ed_in {m : Int → Int} (hm : WF m) {a b : Int} (h : ed m a b) : 0 ≤ b ∧ b < 200 ∧ 0 < m b := by
  obtain ⟨a1, a2, a3, f, f1, f2, f3, rfl⟩ := h
  obtain ⟨b1, b2, b3, -⟩ := ob_of_rf (hm.hq a f a1 a2 a3 f1 f2) f3
  exact ⟨b1, b2, b3⟩
theorem rd_in {m : Int → Int} (hm : WF m) {w b : Int} {n : Nat} (h : rd m w n b) : 0 ≤ b ∧ b < 200 ∧ 0 < m b := by
  induction n generalizing b with
  | zero => exact sta_in hm h.1
  | succ n ih =>
    rcases h with h | ⟨a, h1, h2, h3⟩
    · exact ih h
    · exact ed_in hm h2
section T6
variable {t : Nat} {m old saved isS text far mk stk cmd : Int → Int} {tl rf_ top hi ov cm at_ ft : Int} {hs : Int64} {σ : mm_M}
theorem tm_starts (hm : WF m) {x w : Int} (hx : ir x) (hw : ir w) : f_X2_starts t (J x) (J w) (tput t m old saved isS text tl rf_ far mk stk top hi ov cmd cm at_ ft hs σ) = some (tput t m old saved isS text tl rf_ (if x ≠ -1 ∧ ob m x ≠ -1 ∧ ob m x ≠ w then up far (ob m x) 0 else far) mk stk top hi ov cmd cm at_ ft hs σ) := by
  have hx' := hx
  obtain ⟨x1, x2⟩ := hx
  obtain ⟨w1, w2⟩ := hw
  unfold f_X2_starts g_X2_starts_14
  by_cases h : x = -1
  · simp (disch := omega) only [Option.bind_some, tw_gm, tw_gold, tw_gsaved, tw_gisS, tw_gtext, tw_gtl, tw_grf_, tw_gfar, tw_gmk, tw_gstk, tw_gtop, tw_ghi, tw_gov, tw_gcmd, tw_gcm, tw_gat_, tw_gft, tw_ghs, tw_nm, tw_nold, tw_nsaved, tw_nisS, tw_ntext, tw_nfar, tw_nmk, tw_nstk, tw_ncmd, tw_ck, tw_am, tw_aold, tw_asaved, tw_aisS, tw_atext, tw_afar, tw_amk, tw_astk, tw_acmd, tw_sm, tw_sold, tw_ssaved, tw_sisS, tw_stext, tw_sfar, tw_smk, tw_sstk, tw_scmd, tw_ptl, tw_prf_, tw_ptop, tw_phi, tw_pov, tw_pcm, tw_pat_, tw_pft, tw_phs, tw_zov, J_add, J_sub, J_mul, J_neg, J_lit, J_lt, J_le, J_eq, Int.reduceAdd, Int.reduceSub, Int.reduceMul, Int.reduceNeg, Int.reduceEq, Int.reduceLT, Int.reduceLE, reduceIte, Int.zero_add, Int.add_zero, and_self, true_and, and_true, false_and, and_false, or_true, true_or, or_false, false_or, not_true_eq_false, not_false_eq_true, ne_eq, b2_s, h]
  · rcases ob_r (m := m) x with h2 | ⟨a1, a2, a3, -⟩
    · simp (disch := omega) only [Option.bind_some, tw_gm, tw_gold, tw_gsaved, tw_gisS, tw_gtext, tw_gtl, tw_grf_, tw_gfar, tw_gmk, tw_gstk, tw_gtop, tw_ghi, tw_gov, tw_gcmd, tw_gcm, tw_gat_, tw_gft, tw_ghs, tw_nm, tw_nold, tw_nsaved, tw_nisS, tw_ntext, tw_nfar, tw_nmk, tw_nstk, tw_ncmd, tw_ck, tw_am, tw_aold, tw_asaved, tw_aisS, tw_atext, tw_afar, tw_amk, tw_astk, tw_acmd, tw_sm, tw_sold, tw_ssaved, tw_sisS, tw_stext, tw_sfar, tw_smk, tw_sstk, tw_scmd, tw_ptl, tw_prf_, tw_ptop, tw_phi, tw_pov, tw_pcm, tw_pat_, tw_pft, tw_phs, tw_zov, J_add, J_sub, J_mul, J_neg, J_lit, J_lt, J_le, J_eq, Int.reduceAdd, Int.reduceSub, Int.reduceMul, Int.reduceNeg, Int.reduceEq, Int.reduceLT, Int.reduceLE, reduceIte, Int.zero_add, Int.add_zero, and_self, true_and, and_true, false_and, and_false, or_true, true_or, or_false, false_or, not_true_eq_false, not_false_eq_true, ne_eq, b2_s, if_neg h, t_objectOf hm hx', h2, h]
    · by_cases h3 : ob m x = w
      · rw [if_neg (c := x ≠ -1 ∧ ob m x ≠ -1 ∧ ob m x ≠ w) (fun q => q.2.2 h3)]
        simp (disch := omega) only [Option.bind_some, tw_gm, tw_gold, tw_gsaved, tw_gisS, tw_gtext, tw_gtl, tw_grf_, tw_gfar, tw_gmk, tw_gstk, tw_gtop, tw_ghi, tw_gov, tw_gcmd, tw_gcm, tw_gat_, tw_gft, tw_ghs, tw_nm, tw_nold, tw_nsaved, tw_nisS, tw_ntext, tw_nfar, tw_nmk, tw_nstk, tw_ncmd, tw_ck, tw_am, tw_aold, tw_asaved, tw_aisS, tw_atext, tw_afar, tw_amk, tw_astk, tw_acmd, tw_sm, tw_sold, tw_ssaved, tw_sisS, tw_stext, tw_sfar, tw_smk, tw_sstk, tw_scmd, tw_ptl, tw_prf_, tw_ptop, tw_phi, tw_pov, tw_pcm, tw_pat_, tw_pft, tw_phs, tw_zov, J_add, J_sub, J_mul, J_neg, J_lit, J_lt, J_le, J_eq, Int.reduceAdd, Int.reduceSub, Int.reduceMul, Int.reduceNeg, Int.reduceEq, Int.reduceLT, Int.reduceLE, reduceIte, Int.zero_add, Int.add_zero, and_self, true_and, and_true, false_and, and_false, or_true, true_or, or_false, false_or, not_true_eq_false, not_false_eq_true, ne_eq, b2_s, if_neg h, t_objectOf hm hx', if_neg (show ¬ ob m x = -1 by omega), if_pos h3]
      · rw [if_pos (c := x ≠ -1 ∧ ob m x ≠ -1 ∧ ob m x ≠ w) ⟨h, by omega, h3⟩]
        simp (disch := omega) only [Option.bind_some, tw_gm, tw_gold, tw_gsaved, tw_gisS, tw_gtext, tw_gtl, tw_grf_, tw_gfar, tw_gmk, tw_gstk, tw_gtop, tw_ghi, tw_gov, tw_gcmd, tw_gcm, tw_gat_, tw_gft, tw_ghs, tw_nm, tw_nold, tw_nsaved, tw_nisS, tw_ntext, tw_nfar, tw_nmk, tw_nstk, tw_ncmd, tw_ck, tw_am, tw_aold, tw_asaved, tw_aisS, tw_atext, tw_afar, tw_amk, tw_astk, tw_acmd, tw_sm, tw_sold, tw_ssaved, tw_sisS, tw_stext, tw_sfar, tw_smk, tw_sstk, tw_scmd, tw_ptl, tw_prf_, tw_ptop, tw_phi, tw_pov, tw_pcm, tw_pat_, tw_pft, tw_phs, tw_zov, J_add, J_sub, J_mul, J_neg, J_lit, J_lt, J_le, J_eq, Int.reduceAdd, Int.reduceSub, Int.reduceMul, Int.reduceNeg, Int.reduceEq, Int.reduceLT, Int.reduceLE, reduceIte, Int.zero_add, Int.add_zero, and_self, true_and, and_true, false_and, and_false, or_true, true_or, or_false, false_or, not_true_eq_false, not_false_eq_true, ne_eq, b2_s, if_neg h, t_objectOf hm hx', if_neg (show ¬ ob m x = -1 by omega), if_neg h3]
theorem tm_reachedWords (hm : WF m) (hfar : ∀ b, 0 ≤ b → b < 200 → -1 ≤ far b ∧ far b ≤ 1000) : f_X2_reachedWords t (tput t m old saved isS text tl rf_ far mk stk top hi ov cmd cm at_ ft hs σ) = some (J (sm (fun a => if far a = -1 then 0 else m a) (m 1216).toNat)) := by
  have hW := hm.hW
  unfold f_X2_reachedWords g_X2_reachedWords_0
  rw [lgo_l]
  refine lpx_seq (f := s_X2_reachedWords t (tput t m old saved isS text tl rf_ far mk stk top hi ov cmd cm at_ ft hs σ)) (fun k => (J (sm (fun a => if far a = -1 then 0 else m a) k), J k)) (m 1216).toNat ?_ ?_
  · intro k hk
    have hf := hfar k (by omega) (by omega)
    unfold s_X2_reachedWords g_X2_reachedWords_4
    by_cases h : far k = -1
    · simp (disch := omega) only [Option.bind_some, tw_gm, tw_gold, tw_gsaved, tw_gisS, tw_gtext, tw_gtl, tw_grf_, tw_gfar, tw_gmk, tw_gstk, tw_gtop, tw_ghi, tw_gov, tw_gcmd, tw_gcm, tw_gat_, tw_gft, tw_ghs, tw_nm, tw_nold, tw_nsaved, tw_nisS, tw_ntext, tw_nfar, tw_nmk, tw_nstk, tw_ncmd, tw_ck, tw_am, tw_aold, tw_asaved, tw_aisS, tw_atext, tw_afar, tw_amk, tw_astk, tw_acmd, tw_sm, tw_sold, tw_ssaved, tw_sisS, tw_stext, tw_sfar, tw_smk, tw_sstk, tw_scmd, tw_ptl, tw_prf_, tw_ptop, tw_phi, tw_pov, tw_pcm, tw_pat_, tw_pft, tw_phs, tw_zov, J_add, J_sub, J_mul, J_neg, J_lit, J_lt, J_le, J_eq, Int.reduceAdd, Int.reduceSub, Int.reduceMul, Int.reduceNeg, Int.reduceEq, Int.reduceLT, Int.reduceLE, reduceIte, Int.zero_add, Int.add_zero, and_self, true_and, and_true, false_and, and_false, or_true, true_or, or_false, false_or, not_true_eq_false, not_false_eq_true, ne_eq, b2_s, sm_s, if_neg (show ¬ (m 1216 ≤ (k : Int)) by omega), h]
      simp [h]
    · simp (disch := omega) only [Option.bind_some, tw_gm, tw_gold, tw_gsaved, tw_gisS, tw_gtext, tw_gtl, tw_grf_, tw_gfar, tw_gmk, tw_gstk, tw_gtop, tw_ghi, tw_gov, tw_gcmd, tw_gcm, tw_gat_, tw_gft, tw_ghs, tw_nm, tw_nold, tw_nsaved, tw_nisS, tw_ntext, tw_nfar, tw_nmk, tw_nstk, tw_ncmd, tw_ck, tw_am, tw_aold, tw_asaved, tw_aisS, tw_atext, tw_afar, tw_amk, tw_astk, tw_acmd, tw_sm, tw_sold, tw_ssaved, tw_sisS, tw_stext, tw_sfar, tw_smk, tw_sstk, tw_scmd, tw_ptl, tw_prf_, tw_ptop, tw_phi, tw_pov, tw_pcm, tw_pat_, tw_pft, tw_phs, tw_zov, J_add, J_sub, J_mul, J_neg, J_lit, J_lt, J_le, J_eq, Int.reduceAdd, Int.reduceSub, Int.reduceMul, Int.reduceNeg, Int.reduceEq, Int.reduceLT, Int.reduceLE, reduceIte, Int.zero_add, Int.add_zero, and_self, true_and, and_true, false_and, and_false, or_true, true_or, or_false, false_or, not_true_eq_false, not_false_eq_true, ne_eq, b2_s, sm_s, if_neg (show ¬ (m 1216 ≤ (k : Int)) by omega), if_neg h]
      simp [h]
  · unfold s_X2_reachedWords g_X2_reachedWords_4
    simp (disch := omega) only [Option.bind_some, tw_gm, tw_gold, tw_gsaved, tw_gisS, tw_gtext, tw_gtl, tw_grf_, tw_gfar, tw_gmk, tw_gstk, tw_gtop, tw_ghi, tw_gov, tw_gcmd, tw_gcm, tw_gat_, tw_gft, tw_ghs, tw_nm, tw_nold, tw_nsaved, tw_nisS, tw_ntext, tw_nfar, tw_nmk, tw_nstk, tw_ncmd, tw_ck, tw_am, tw_aold, tw_asaved, tw_aisS, tw_atext, tw_afar, tw_amk, tw_astk, tw_acmd, tw_sm, tw_sold, tw_ssaved, tw_sisS, tw_stext, tw_sfar, tw_smk, tw_sstk, tw_scmd, tw_ptl, tw_prf_, tw_ptop, tw_phi, tw_pov, tw_pcm, tw_pat_, tw_pft, tw_phs, tw_zov, J_add, J_sub, J_mul, J_neg, J_lit, J_lt, J_le, J_eq, Int.reduceAdd, Int.reduceSub, Int.reduceMul, Int.reduceNeg, Int.reduceEq, Int.reduceLT, Int.reduceLE, reduceIte, Int.zero_add, Int.add_zero, and_self, true_and, and_true, false_and, and_false, or_true, true_or, or_false, false_or, not_true_eq_false, not_false_eq_true, ne_eq, b2_s, Int.toNat_of_nonneg (show 0 ≤ m 1216 by omega), if_pos (show m 1216 ≤ m 1216 by omega)]
end T6
