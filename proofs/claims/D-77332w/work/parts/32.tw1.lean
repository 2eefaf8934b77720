/-! PLAIN LAW: the twin's rows; its simple calls. NAMES: oc ob rf WF, t_ -/
set_option maxRecDepth 100000
/-- the object at a has the word r -/
def oc (m : Int → Int) (a r : Int) : Prop := 0 ≤ a ∧ a < 200 ∧ 0 < m a ∧ a ≤ r ∧ r < a + m a
/-- a reference: none, or a word of an object -/
def rf (m : Int → Int) (r : Int) : Prop := r = -1 ∨ ∃ a, oc m a r
def WF (m : Int → Int) : Prop := (8 ≤ m 1216 ∧ m 1216 ≤ 200) ∧ (1 ≤ m 1217 ∧ m 1217 ≤ 20) ∧ (∀ a, 0 ≤ a → a < 200 → 0 ≤ m a ∧ m a ≤ 13) ∧
  (∀ a, 0 ≤ a → a < 200 → 0 < m a → a + m a ≤ m 1216) ∧ (∀ a k, 0 ≤ a → a < 200 → 0 < k → k < m a → m (a + k) = 0) ∧
  (∀ a, 0 ≤ a → a < 200 → 0 < m a → 0 ≤ m (200 + a) ∧ m (200 + a) ≤ 6 ∧ m (200 + a) + 1 ≤ m a ∧ m a - 1 - m (200 + a) ≤ 6) ∧
  (∀ a, 0 ≤ a → a < 200 → m (400 + a) = 0 ∨ m (400 + a) = 1) ∧ (∀ k, 0 ≤ k → k < 10 → rf m (m (1200 + k))) ∧
  (∀ a f, 0 ≤ a → a < 200 → 0 < m a → 1 ≤ f → f ≤ m (200 + a) → rf m (m (800 + a + f))) ∧ (m 1221 = 0 ∨ m 1221 = 1) ∧ (∀ a, 0 ≤ a → a < 200 → 0 ≤ m (200 + a) ∧ m (200 + a) ≤ 6)
section WFP
variable {m : Int → Int}
theorem WF.hW (h : WF m) : 8 ≤ m 1216 ∧ m 1216 ≤ 200 := h.1
theorem WF.hD (h : WF m) : 1 ≤ m 1217 ∧ m 1217 ≤ 20 := h.2.1
theorem WF.hs (h : WF m) : ∀ a, 0 ≤ a → a < 200 → 0 ≤ m a ∧ m a ≤ 13 := h.2.2.1
theorem WF.he (h : WF m) : ∀ a, 0 ≤ a → a < 200 → 0 < m a → a + m a ≤ m 1216 := h.2.2.2.1
theorem WF.hi (h : WF m) : ∀ a k, 0 ≤ a → a < 200 → 0 < k → k < m a → m (a + k) = 0 := h.2.2.2.2.1
theorem WF.hf (h : WF m) : ∀ a, 0 ≤ a → a < 200 → 0 < m a → 0 ≤ m (200 + a) ∧ m (200 + a) ≤ 6 ∧ m (200 + a) + 1 ≤ m a ∧ m a - 1 - m (200 + a) ≤ 6 := h.2.2.2.2.2.1
theorem WF.hp (h : WF m) : ∀ a, 0 ≤ a → a < 200 → m (400 + a) = 0 ∨ m (400 + a) = 1 := h.2.2.2.2.2.2.1
theorem WF.hr (h : WF m) : ∀ k, 0 ≤ k → k < 10 → rf m (m (1200 + k)) := h.2.2.2.2.2.2.2.1
theorem WF.hq (h : WF m) : ∀ a f, 0 ≤ a → a < 200 → 0 < m a → 1 ≤ f → f ≤ m (200 + a) → rf m (m (800 + a + f)) := h.2.2.2.2.2.2.2.2.1
theorem WF.hh (h : WF m) : m 1221 = 0 ∨ m 1221 = 1 := h.2.2.2.2.2.2.2.2.2.1
theorem WF.hF (h : WF m) : ∀ a, 0 ≤ a → a < 200 → 0 ≤ m (200 + a) ∧ m (200 + a) ≤ 6 := h.2.2.2.2.2.2.2.2.2.2
end WFP
noncomputable def ob (m : Int → Int) (r : Int) : Int := @dite _ (∃ a, oc m a r) (Classical.propDecidable _) (fun h => h.choose) (fun _ => -1)
theorem oc_u {m : Int → Int} (hm : WF m) {a b r : Int} (h1 : oc m a r) (h2 : oc m b r) : a = b := by
  obtain ⟨a1, a2, a3, a4, a5⟩ := h1
  obtain ⟨b1, b2, b3, b4, b5⟩ := h2
  rcases Int.lt_trichotomy a b with h | h | h
  · have := hm.hi a (b - a) a1 a2 (by omega) (by omega)
    rw [show a + (b - a) = b by omega] at this
    omega
  · exact h
  · have := hm.hi b (a - b) b1 b2 (by omega) (by omega)
    rw [show b + (a - b) = a by omega] at this
    omega
theorem ob_e {m : Int → Int} (hm : WF m) {a r : Int} (h : oc m a r) : ob m r = a := by
  have hx : ∃ a, oc m a r := ⟨a, h⟩
  unfold ob
  rw [dif_pos hx]
  exact oc_u hm hx.choose_spec h
theorem ob_n {m : Int → Int} {r : Int} (h : ∀ a, ¬ oc m a r) : ob m r = -1 := by
  unfold ob
  rw [dif_neg (fun ⟨a, q⟩ => h a q)]
theorem ob_c {m : Int → Int} (r : Int) : (ob m r = -1 ∧ ∀ a, ¬ oc m a r) ∨ oc m (ob m r) r := by
  by_cases hx : ∃ a, oc m a r
  · refine Or.inr ?_
    unfold ob
    rw [dif_pos hx]
    exact hx.choose_spec
  · exact Or.inl ⟨ob_n (fun a q => hx ⟨a, q⟩), fun a q => hx ⟨a, q⟩⟩
/-- between an int's bounds -/
def ir (z : Int) : Prop := -2147483648 ≤ z ∧ z < 2147483648
section T1
variable {t : Nat} {m old saved isS text far mk stk cmd : Int → Int} {tl rf_ top hi ov cm at_ ft : Int} {hs : Int64} {σ : mm_M}
theorem t_in {a b c : Int} (h1 : ir a) (h2 : ir b) (h3 : ir c) : f_X2_in (J a) (J b) (J c) σ = some (J (if b ≤ a ∧ a ≤ c then 1 else 0)) := by
  obtain ⟨a1, a2⟩ := h1
  obtain ⟨b1, b2⟩ := h2
  obtain ⟨c1, c2⟩ := h3
  unfold f_X2_in
  simp (disch := omega) only [J_lit, J_lt]
  by_cases q1 : a < b
  · rw [if_pos q1, if_neg (by omega)]
  · rw [if_neg q1]
    by_cases q2 : c < a
    · rw [if_pos q2, if_neg (by omega)]
    · rw [if_neg q2, if_pos (by omega)]
theorem t_objectOf (hm : WF m) {x : Int} (hx : ir x) : f_X2_objectOf t (J x) (tput t m old saved isS text tl rf_ far mk stk top hi ov cmd cm at_ ft hs σ) = some (J (ob m x)) := by
  obtain ⟨x1, x2⟩ := hx
  have hW := hm.hW
  unfold f_X2_objectOf g_X2_objectOf_0
  rw [tw_gm, Option.bind_some, J_lit, tw_am (by omega) (by omega), Option.bind_some, J_lit, J_lit, J_sub, t_in ⟨x1, x2⟩ (by unfold ir; omega) (by unfold ir; omega), Option.bind_some]
  by_cases hin : (0 : Int) ≤ x ∧ x ≤ m 1216 - 1
  · rw [if_pos hin]
    simp (disch := omega) only [J_add, J_sub, J_mul, J_neg, J_lit, J_lt, J_le, J_eq, Option.bind_some, Int.reduceAdd, Int.reduceSub, Int.reduceMul, Int.reduceNeg, Int.reduceEq, Int.reduceLT, Int.reduceLE, reduceIte, Int.zero_add, Int.add_zero, and_self, true_and, and_true, false_and, and_false, or_true, true_or, or_false, false_or, not_true_eq_false, not_false_eq_true, ne_eq, b2_s]
    rw [lgo_l]
    obtain ⟨r, h1, h2⟩ := lpx_is (f := s_X2_objectOf t (J x) (tput t m old saved isS text tl rf_ far mk stk top hi ov cmd cm at_ ft hs σ)) (fun s => ∃ a, s = J a ∧ -1 ≤ a ∧ a ≤ x ∧ ∀ b, a < b → b ≤ x → m b = 0) (fun s => (s.toInt + 1).toNat) (fun r => r = J (ob m x)) (s := J x) ⟨x, rfl, by omega, by omega, fun b h1 h2 => by omega⟩ (by
      rintro s ⟨a, rfl, a1, a2, a3⟩
      unfold s_X2_objectOf g_X2_objectOf_22 g_X2_objectOf_43
      simp (disch := omega) only [Option.bind_some, tw_gm, tw_gold, tw_gsaved, tw_gisS, tw_gtext, tw_gtl, tw_grf_, tw_gfar, tw_gmk, tw_gstk, tw_gtop, tw_ghi, tw_gov, tw_gcmd, tw_gcm, tw_gat_, tw_gft, tw_ghs, tw_nm, tw_nold, tw_nsaved, tw_nisS, tw_ntext, tw_nfar, tw_nmk, tw_nstk, tw_ncmd, tw_ck, tw_am, tw_aold, tw_asaved, tw_aisS, tw_atext, tw_afar, tw_amk, tw_astk, tw_acmd, tw_sm, tw_sold, tw_ssaved, tw_sisS, tw_stext, tw_sfar, tw_smk, tw_sstk, tw_scmd, tw_ptl, tw_prf_, tw_ptop, tw_phi, tw_pov, tw_pcm, tw_pat_, tw_pft, tw_phs, tw_zov, J_add, J_sub, J_mul, J_neg, J_lit, J_lt, J_le, J_eq, Int.reduceAdd, Int.reduceSub, Int.reduceMul, Int.reduceNeg, Int.reduceEq, Int.reduceLT, Int.reduceLE, reduceIte, Int.zero_add, Int.add_zero, and_self, true_and, and_true, false_and, and_false, or_true, true_or, or_false, false_or, not_true_eq_false, not_false_eq_true, ne_eq, b2_s]
      by_cases ha : a < 0
      · rw [if_pos ha, if_pos ha]
        refine Or.inl ⟨_, rfl, ?_⟩
        rw [ob_n]
        rintro b ⟨b1, b2, b3, b4, b5⟩
        have := a3 b (by omega) b4
        omega
      · rw [if_neg ha]
        have hsa := hm.hs a (by omega) (by omega)
        simp (disch := omega) only [Option.bind_some, tw_gm, tw_gold, tw_gsaved, tw_gisS, tw_gtext, tw_gtl, tw_grf_, tw_gfar, tw_gmk, tw_gstk, tw_gtop, tw_ghi, tw_gov, tw_gcmd, tw_gcm, tw_gat_, tw_gft, tw_ghs, tw_nm, tw_nold, tw_nsaved, tw_nisS, tw_ntext, tw_nfar, tw_nmk, tw_nstk, tw_ncmd, tw_ck, tw_am, tw_aold, tw_asaved, tw_aisS, tw_atext, tw_afar, tw_amk, tw_astk, tw_acmd, tw_sm, tw_sold, tw_ssaved, tw_sisS, tw_stext, tw_sfar, tw_smk, tw_sstk, tw_scmd, tw_ptl, tw_prf_, tw_ptop, tw_phi, tw_pov, tw_pcm, tw_pat_, tw_pft, tw_phs, tw_zov, J_add, J_sub, J_mul, J_neg, J_lit, J_lt, J_le, J_eq, Int.reduceAdd, Int.reduceSub, Int.reduceMul, Int.reduceNeg, Int.reduceEq, Int.reduceLT, Int.reduceLE, reduceIte, Int.zero_add, Int.add_zero, and_self, true_and, and_true, false_and, and_false, or_true, true_or, or_false, false_or, not_true_eq_false, not_false_eq_true, ne_eq, b2_s]
        by_cases hz : m a = 0
        · rw [if_pos hz]
          refine Or.inr ⟨_, rfl, ⟨a + -1, rfl, by omega, by omega, fun b b1 b2 => ?_⟩, ?_⟩
          · by_cases hb : b = a
            · rw [hb]; exact hz
            · exact a3 b (by omega) b2
          · rw [J_toInt (by omega) (by omega), J_toInt (by omega) (by omega)]
            omega
        · rw [if_neg hz]
          by_cases hx : a + m a ≤ x
          · rw [if_pos hx, if_neg ha]
            refine Or.inl ⟨_, rfl, ?_⟩
            rw [ob_n]
            rintro b ⟨b1, b2, b3, b4, b5⟩
            have h9 := a3 b
            rcases Int.lt_trichotomy b a with h | h | h
            · have := hm.hi b (a - b) b1 b2 (by omega) (by omega)
              rw [show b + (a - b) = a by omega] at this
              omega
            · subst h
              omega
            · have := a3 b h b4
              omega
          · rw [if_neg hx, if_neg ha]
            refine Or.inl ⟨_, rfl, ?_⟩
            rw [ob_e hm (a := a) ⟨by omega, by omega, by omega, by omega, by omega⟩])
    rw [h1, h2]
  · rw [if_neg hin]
    simp (disch := omega) only [J_add, J_sub, J_mul, J_neg, J_lit, J_lt, J_le, J_eq, Option.bind_some, Int.reduceAdd, Int.reduceSub, Int.reduceMul, Int.reduceNeg, Int.reduceEq, Int.reduceLT, Int.reduceLE, reduceIte, Int.zero_add, Int.add_zero, and_self, true_and, and_true, false_and, and_false, or_true, true_or, or_false, false_or, not_true_eq_false, not_false_eq_true, ne_eq, b2_s]
    rw [lgo_r, ob_n]
    rintro a ⟨a1, a2, a3, a4, a5⟩
    have := hm.he a a1 a2 a3
    omega
theorem t_isRef (hm : WF m) {x : Int} (hx : ir x) : f_X2_isReference t (J x) (tput t m old saved isS text tl rf_ far mk stk top hi ov cmd cm at_ ft hs σ) = some (J (if x = -1 ∨ ob m x ≠ -1 then 1 else 0)) := by
  have hx' := hx
  obtain ⟨x1, x2⟩ := hx
  unfold f_X2_isReference
  simp (disch := omega) only [Option.bind_some, tw_gm, tw_gold, tw_gsaved, tw_gisS, tw_gtext, tw_gtl, tw_grf_, tw_gfar, tw_gmk, tw_gstk, tw_gtop, tw_ghi, tw_gov, tw_gcmd, tw_gcm, tw_gat_, tw_gft, tw_ghs, tw_nm, tw_nold, tw_nsaved, tw_nisS, tw_ntext, tw_nfar, tw_nmk, tw_nstk, tw_ncmd, tw_ck, tw_am, tw_aold, tw_asaved, tw_aisS, tw_atext, tw_afar, tw_amk, tw_astk, tw_acmd, tw_sm, tw_sold, tw_ssaved, tw_sisS, tw_stext, tw_sfar, tw_smk, tw_sstk, tw_scmd, tw_ptl, tw_prf_, tw_ptop, tw_phi, tw_pov, tw_pcm, tw_pat_, tw_pft, tw_phs, tw_zov, J_add, J_sub, J_mul, J_neg, J_lit, J_lt, J_le, J_eq, Int.reduceAdd, Int.reduceSub, Int.reduceMul, Int.reduceNeg, Int.reduceEq, Int.reduceLT, Int.reduceLE, reduceIte, Int.zero_add, Int.add_zero, and_self, true_and, and_true, false_and, and_false, or_true, true_or, or_false, false_or, not_true_eq_false, not_false_eq_true, ne_eq, b2_s, t_objectOf hm hx']
  have h1 : ir (ob m x) := by
    rcases ob_c (m := m) x with h | h
    · unfold ir; omega
    · obtain ⟨a1, a2, -⟩ := h
      unfold ir; omega
  obtain ⟨h1, h2⟩ := h1
  simp (disch := omega) only [J_add, J_sub, J_mul, J_neg, J_lit, J_lt, J_le, J_eq, Option.bind_some, Int.reduceAdd, Int.reduceSub, Int.reduceMul, Int.reduceNeg, Int.reduceEq, Int.reduceLT, Int.reduceLE, reduceIte, Int.zero_add, Int.add_zero, and_self, true_and, and_true, false_and, and_false, or_true, true_or, or_false, false_or, not_true_eq_false, not_false_eq_true, ne_eq, b2_s]
  by_cases h3 : x = -1
  · simp [h3]
  · by_cases h4 : ob m x = -1
    · simp [h3, h4]
    · simp [h3, h4]
theorem t_dataOf {a : Int} (h1 : 0 ≤ a) (h2 : a < 200) : f_X2_dataOf t (J a) (tput t m old saved isS text tl rf_ far mk stk top hi ov cmd cm at_ ft hs σ) = some (J (m a - 1 - m (200 + a))) := by
  unfold f_X2_dataOf
  simp (disch := omega) only [Option.bind_some, tw_gm, tw_gold, tw_gsaved, tw_gisS, tw_gtext, tw_gtl, tw_grf_, tw_gfar, tw_gmk, tw_gstk, tw_gtop, tw_ghi, tw_gov, tw_gcmd, tw_gcm, tw_gat_, tw_gft, tw_ghs, tw_nm, tw_nold, tw_nsaved, tw_nisS, tw_ntext, tw_nfar, tw_nmk, tw_nstk, tw_ncmd, tw_ck, tw_am, tw_aold, tw_asaved, tw_aisS, tw_atext, tw_afar, tw_amk, tw_astk, tw_acmd, tw_sm, tw_sold, tw_ssaved, tw_sisS, tw_stext, tw_sfar, tw_smk, tw_sstk, tw_scmd, tw_ptl, tw_prf_, tw_ptop, tw_phi, tw_pov, tw_pcm, tw_pat_, tw_pft, tw_phs, tw_zov, J_add, J_sub, J_mul, J_neg, J_lit, J_lt, J_le, J_eq, Int.reduceAdd, Int.reduceSub, Int.reduceMul, Int.reduceNeg, Int.reduceEq, Int.reduceLT, Int.reduceLE, reduceIte, Int.zero_add, Int.add_zero, and_self, true_and, and_true, false_and, and_false, or_true, true_or, or_false, false_or, not_true_eq_false, not_false_eq_true, ne_eq, b2_s]
theorem t_root {k : Int} (hk : ir k) : f_X2_root t (J k) (tput t m old saved isS text tl rf_ far mk stk top hi ov cmd cm at_ ft hs σ) = some (J (if 0 ≤ k ∧ k ≤ 5 then m (1200 + k) else -1000002)) := by
  have hk' := hk
  obtain ⟨k1, k2⟩ := hk
  unfold f_X2_root
  rw [J_lit, J_lit, t_in hk' (by unfold ir; omega) (by unfold ir; omega), Option.bind_some]
  by_cases h : 0 ≤ k ∧ k ≤ 5
  · rw [if_pos h, if_pos h]
    simp (disch := omega) only [Option.bind_some, tw_gm, tw_gold, tw_gsaved, tw_gisS, tw_gtext, tw_gtl, tw_grf_, tw_gfar, tw_gmk, tw_gstk, tw_gtop, tw_ghi, tw_gov, tw_gcmd, tw_gcm, tw_gat_, tw_gft, tw_ghs, tw_nm, tw_nold, tw_nsaved, tw_nisS, tw_ntext, tw_nfar, tw_nmk, tw_nstk, tw_ncmd, tw_ck, tw_am, tw_aold, tw_asaved, tw_aisS, tw_atext, tw_afar, tw_amk, tw_astk, tw_acmd, tw_sm, tw_sold, tw_ssaved, tw_sisS, tw_stext, tw_sfar, tw_smk, tw_sstk, tw_scmd, tw_ptl, tw_prf_, tw_ptop, tw_phi, tw_pov, tw_pcm, tw_pat_, tw_pft, tw_phs, tw_zov, J_add, J_sub, J_mul, J_neg, J_lit, J_lt, J_le, J_eq, Int.reduceAdd, Int.reduceSub, Int.reduceMul, Int.reduceNeg, Int.reduceEq, Int.reduceLT, Int.reduceLE, reduceIte, Int.zero_add, Int.add_zero, and_self, true_and, and_true, false_and, and_false, or_true, true_or, or_false, false_or, not_true_eq_false, not_false_eq_true, ne_eq, b2_s]
  · rw [if_neg h, if_neg h]
    simp (disch := omega) only [Option.bind_some, tw_gm, tw_gold, tw_gsaved, tw_gisS, tw_gtext, tw_gtl, tw_grf_, tw_gfar, tw_gmk, tw_gstk, tw_gtop, tw_ghi, tw_gov, tw_gcmd, tw_gcm, tw_gat_, tw_gft, tw_ghs, tw_nm, tw_nold, tw_nsaved, tw_nisS, tw_ntext, tw_nfar, tw_nmk, tw_nstk, tw_ncmd, tw_ck, tw_am, tw_aold, tw_asaved, tw_aisS, tw_atext, tw_afar, tw_amk, tw_astk, tw_acmd, tw_sm, tw_sold, tw_ssaved, tw_sisS, tw_stext, tw_sfar, tw_smk, tw_sstk, tw_scmd, tw_ptl, tw_prf_, tw_ptop, tw_phi, tw_pov, tw_pcm, tw_pat_, tw_pft, tw_phs, tw_zov, J_add, J_sub, J_mul, J_neg, J_lit, J_lt, J_le, J_eq, Int.reduceAdd, Int.reduceSub, Int.reduceMul, Int.reduceNeg, Int.reduceEq, Int.reduceLT, Int.reduceLE, reduceIte, Int.zero_add, Int.add_zero, and_self, true_and, and_true, false_and, and_false, or_true, true_or, or_false, false_or, not_true_eq_false, not_false_eq_true, ne_eq, b2_s]
theorem t_weak {k : Int} (hk : ir k) : f_X2_weak t (J k) (tput t m old saved isS text tl rf_ far mk stk top hi ov cmd cm at_ ft hs σ) = some (J (if 0 ≤ k ∧ k ≤ 3 then m (1206 + k) else -1000002)) := by
  have hk' := hk
  obtain ⟨k1, k2⟩ := hk
  unfold f_X2_weak
  rw [J_lit, J_lit, t_in hk' (by unfold ir; omega) (by unfold ir; omega), Option.bind_some]
  by_cases h : 0 ≤ k ∧ k ≤ 3
  · rw [if_pos h, if_pos h]
    simp (disch := omega) only [Option.bind_some, tw_gm, tw_gold, tw_gsaved, tw_gisS, tw_gtext, tw_gtl, tw_grf_, tw_gfar, tw_gmk, tw_gstk, tw_gtop, tw_ghi, tw_gov, tw_gcmd, tw_gcm, tw_gat_, tw_gft, tw_ghs, tw_nm, tw_nold, tw_nsaved, tw_nisS, tw_ntext, tw_nfar, tw_nmk, tw_nstk, tw_ncmd, tw_ck, tw_am, tw_aold, tw_asaved, tw_aisS, tw_atext, tw_afar, tw_amk, tw_astk, tw_acmd, tw_sm, tw_sold, tw_ssaved, tw_sisS, tw_stext, tw_sfar, tw_smk, tw_sstk, tw_scmd, tw_ptl, tw_prf_, tw_ptop, tw_phi, tw_pov, tw_pcm, tw_pat_, tw_pft, tw_phs, tw_zov, J_add, J_sub, J_mul, J_neg, J_lit, J_lt, J_le, J_eq, Int.reduceAdd, Int.reduceSub, Int.reduceMul, Int.reduceNeg, Int.reduceEq, Int.reduceLT, Int.reduceLE, reduceIte, Int.zero_add, Int.add_zero, and_self, true_and, and_true, false_and, and_false, or_true, true_or, or_false, false_or, not_true_eq_false, not_false_eq_true, ne_eq, b2_s]
  · rw [if_neg h, if_neg h]
    simp (disch := omega) only [Option.bind_some, tw_gm, tw_gold, tw_gsaved, tw_gisS, tw_gtext, tw_gtl, tw_grf_, tw_gfar, tw_gmk, tw_gstk, tw_gtop, tw_ghi, tw_gov, tw_gcmd, tw_gcm, tw_gat_, tw_gft, tw_ghs, tw_nm, tw_nold, tw_nsaved, tw_nisS, tw_ntext, tw_nfar, tw_nmk, tw_nstk, tw_ncmd, tw_ck, tw_am, tw_aold, tw_asaved, tw_aisS, tw_atext, tw_afar, tw_amk, tw_astk, tw_acmd, tw_sm, tw_sold, tw_ssaved, tw_sisS, tw_stext, tw_sfar, tw_smk, tw_sstk, tw_scmd, tw_ptl, tw_prf_, tw_ptop, tw_phi, tw_pov, tw_pcm, tw_pat_, tw_pft, tw_phs, tw_zov, J_add, J_sub, J_mul, J_neg, J_lit, J_lt, J_le, J_eq, Int.reduceAdd, Int.reduceSub, Int.reduceMul, Int.reduceNeg, Int.reduceEq, Int.reduceLT, Int.reduceLE, reduceIte, Int.zero_add, Int.add_zero, and_self, true_and, and_true, false_and, and_false, or_true, true_or, or_false, false_or, not_true_eq_false, not_false_eq_true, ne_eq, b2_s]
theorem t_setsSlot {k x : Int} (h1 : 0 ≤ k) (h2 : k < 1222) : f_X2_setsSlot t (J k) (J x) (tput t m old saved isS text tl rf_ far mk stk top hi ov cmd cm at_ ft hs σ) = some (J (m k), (tput t (up m k x) old saved isS text tl rf_ far mk stk top hi ov cmd cm at_ ft hs σ)) := by
  unfold f_X2_setsSlot
  simp (disch := omega) only [Option.bind_some, tw_gm, tw_gold, tw_gsaved, tw_gisS, tw_gtext, tw_gtl, tw_grf_, tw_gfar, tw_gmk, tw_gstk, tw_gtop, tw_ghi, tw_gov, tw_gcmd, tw_gcm, tw_gat_, tw_gft, tw_ghs, tw_nm, tw_nold, tw_nsaved, tw_nisS, tw_ntext, tw_nfar, tw_nmk, tw_nstk, tw_ncmd, tw_ck, tw_am, tw_aold, tw_asaved, tw_aisS, tw_atext, tw_afar, tw_amk, tw_astk, tw_acmd, tw_sm, tw_sold, tw_ssaved, tw_sisS, tw_stext, tw_sfar, tw_smk, tw_sstk, tw_scmd, tw_ptl, tw_prf_, tw_ptop, tw_phi, tw_pov, tw_pcm, tw_pat_, tw_pft, tw_phs, tw_zov, J_add, J_sub, J_mul, J_neg, J_lit, J_lt, J_le, J_eq, Int.reduceAdd, Int.reduceSub, Int.reduceMul, Int.reduceNeg, Int.reduceEq, Int.reduceLT, Int.reduceLE, reduceIte, Int.zero_add, Int.add_zero, and_self, true_and, and_true, false_and, and_false, or_true, true_or, or_false, false_or, not_true_eq_false, not_false_eq_true, ne_eq, b2_s]
theorem t_setRoot (hm : WF m) {k x : Int} (hk : ir k) (hx : ir x) : f_X2_setRoot t (J k) (J x) (tput t m old saved isS text tl rf_ far mk stk top hi ov cmd cm at_ ft hs σ) = some (if (0 ≤ k ∧ k ≤ 5) ∧ (x = -1 ∨ ob m x ≠ -1) then (J (m (1200 + k)), (tput t (up m (1200 + k) x) old saved isS text tl rf_ far mk stk top hi ov cmd cm at_ ft hs σ)) else (J (-1000002), (tput t m old saved isS text tl rf_ far mk stk top hi ov cmd cm at_ ft hs σ))) := by
  have hk' := hk
  obtain ⟨k1, k2⟩ := hk
  unfold f_X2_setRoot
  rw [J_lit, J_lit, t_in hk' (by unfold ir; omega) (by unfold ir; omega)]
  by_cases h : 0 ≤ k ∧ k ≤ 5
  · by_cases h2 : x = -1 ∨ ob m x ≠ -1
    · rw [if_pos h, if_pos ⟨h, h2⟩]
      simp (disch := omega) only [Option.bind_some, tw_gm, tw_gold, tw_gsaved, tw_gisS, tw_gtext, tw_gtl, tw_grf_, tw_gfar, tw_gmk, tw_gstk, tw_gtop, tw_ghi, tw_gov, tw_gcmd, tw_gcm, tw_gat_, tw_gft, tw_ghs, tw_nm, tw_nold, tw_nsaved, tw_nisS, tw_ntext, tw_nfar, tw_nmk, tw_nstk, tw_ncmd, tw_ck, tw_am, tw_aold, tw_asaved, tw_aisS, tw_atext, tw_afar, tw_amk, tw_astk, tw_acmd, tw_sm, tw_sold, tw_ssaved, tw_sisS, tw_stext, tw_sfar, tw_smk, tw_sstk, tw_scmd, tw_ptl, tw_prf_, tw_ptop, tw_phi, tw_pov, tw_pcm, tw_pat_, tw_pft, tw_phs, tw_zov, J_add, J_sub, J_mul, J_neg, J_lit, J_lt, J_le, J_eq, Int.reduceAdd, Int.reduceSub, Int.reduceMul, Int.reduceNeg, Int.reduceEq, Int.reduceLT, Int.reduceLE, reduceIte, Int.zero_add, Int.add_zero, and_self, true_and, and_true, false_and, and_false, or_true, true_or, or_false, false_or, not_true_eq_false, not_false_eq_true, ne_eq, b2_s, t_isRef hm hx, if_pos h2, t_setsSlot]
    · rw [if_pos h, if_neg (c := (0 ≤ k ∧ k ≤ 5) ∧ (x = -1 ∨ ob m x ≠ -1)) (fun q => h2 q.2)]
      simp (disch := omega) only [Option.bind_some, tw_gm, tw_gold, tw_gsaved, tw_gisS, tw_gtext, tw_gtl, tw_grf_, tw_gfar, tw_gmk, tw_gstk, tw_gtop, tw_ghi, tw_gov, tw_gcmd, tw_gcm, tw_gat_, tw_gft, tw_ghs, tw_nm, tw_nold, tw_nsaved, tw_nisS, tw_ntext, tw_nfar, tw_nmk, tw_nstk, tw_ncmd, tw_ck, tw_am, tw_aold, tw_asaved, tw_aisS, tw_atext, tw_afar, tw_amk, tw_astk, tw_acmd, tw_sm, tw_sold, tw_ssaved, tw_sisS, tw_stext, tw_sfar, tw_smk, tw_sstk, tw_scmd, tw_ptl, tw_prf_, tw_ptop, tw_phi, tw_pov, tw_pcm, tw_pat_, tw_pft, tw_phs, tw_zov, J_add, J_sub, J_mul, J_neg, J_lit, J_lt, J_le, J_eq, Int.reduceAdd, Int.reduceSub, Int.reduceMul, Int.reduceNeg, Int.reduceEq, Int.reduceLT, Int.reduceLE, reduceIte, Int.zero_add, Int.add_zero, and_self, true_and, and_true, false_and, and_false, or_true, true_or, or_false, false_or, not_true_eq_false, not_false_eq_true, ne_eq, b2_s, t_isRef hm hx, if_neg h2]
  · rw [if_neg h, if_neg (c := (0 ≤ k ∧ k ≤ 5) ∧ (x = -1 ∨ ob m x ≠ -1)) (fun q => h q.1)]
    simp (disch := omega) only [Option.bind_some, tw_gm, tw_gold, tw_gsaved, tw_gisS, tw_gtext, tw_gtl, tw_grf_, tw_gfar, tw_gmk, tw_gstk, tw_gtop, tw_ghi, tw_gov, tw_gcmd, tw_gcm, tw_gat_, tw_gft, tw_ghs, tw_nm, tw_nold, tw_nsaved, tw_nisS, tw_ntext, tw_nfar, tw_nmk, tw_nstk, tw_ncmd, tw_ck, tw_am, tw_aold, tw_asaved, tw_aisS, tw_atext, tw_afar, tw_amk, tw_astk, tw_acmd, tw_sm, tw_sold, tw_ssaved, tw_sisS, tw_stext, tw_sfar, tw_smk, tw_sstk, tw_scmd, tw_ptl, tw_prf_, tw_ptop, tw_phi, tw_pov, tw_pcm, tw_pat_, tw_pft, tw_phs, tw_zov, J_add, J_sub, J_mul, J_neg, J_lit, J_lt, J_le, J_eq, Int.reduceAdd, Int.reduceSub, Int.reduceMul, Int.reduceNeg, Int.reduceEq, Int.reduceLT, Int.reduceLE, reduceIte, Int.zero_add, Int.add_zero, and_self, true_and, and_true, false_and, and_false, or_true, true_or, or_false, false_or, not_true_eq_false, not_false_eq_true, ne_eq, b2_s]
theorem t_setWeak (hm : WF m) {k x : Int} (hk : ir k) (hx : ir x) : f_X2_setWeak t (J k) (J x) (tput t m old saved isS text tl rf_ far mk stk top hi ov cmd cm at_ ft hs σ) = some (if (0 ≤ k ∧ k ≤ 3) ∧ (x = -1 ∨ ob m x ≠ -1) then (J (m (1206 + k)), (tput t (up m (1206 + k) x) old saved isS text tl rf_ far mk stk top hi ov cmd cm at_ ft hs σ)) else (J (-1000002), (tput t m old saved isS text tl rf_ far mk stk top hi ov cmd cm at_ ft hs σ))) := by
  have hk' := hk
  obtain ⟨k1, k2⟩ := hk
  unfold f_X2_setWeak
  rw [J_lit, J_lit, t_in hk' (by unfold ir; omega) (by unfold ir; omega)]
  by_cases h : 0 ≤ k ∧ k ≤ 3
  · by_cases h2 : x = -1 ∨ ob m x ≠ -1
    · rw [if_pos h, if_pos ⟨h, h2⟩]
      simp (disch := omega) only [Option.bind_some, tw_gm, tw_gold, tw_gsaved, tw_gisS, tw_gtext, tw_gtl, tw_grf_, tw_gfar, tw_gmk, tw_gstk, tw_gtop, tw_ghi, tw_gov, tw_gcmd, tw_gcm, tw_gat_, tw_gft, tw_ghs, tw_nm, tw_nold, tw_nsaved, tw_nisS, tw_ntext, tw_nfar, tw_nmk, tw_nstk, tw_ncmd, tw_ck, tw_am, tw_aold, tw_asaved, tw_aisS, tw_atext, tw_afar, tw_amk, tw_astk, tw_acmd, tw_sm, tw_sold, tw_ssaved, tw_sisS, tw_stext, tw_sfar, tw_smk, tw_sstk, tw_scmd, tw_ptl, tw_prf_, tw_ptop, tw_phi, tw_pov, tw_pcm, tw_pat_, tw_pft, tw_phs, tw_zov, J_add, J_sub, J_mul, J_neg, J_lit, J_lt, J_le, J_eq, Int.reduceAdd, Int.reduceSub, Int.reduceMul, Int.reduceNeg, Int.reduceEq, Int.reduceLT, Int.reduceLE, reduceIte, Int.zero_add, Int.add_zero, and_self, true_and, and_true, false_and, and_false, or_true, true_or, or_false, false_or, not_true_eq_false, not_false_eq_true, ne_eq, b2_s, t_isRef hm hx, if_pos h2, t_setsSlot]
    · rw [if_pos h, if_neg (c := (0 ≤ k ∧ k ≤ 3) ∧ (x = -1 ∨ ob m x ≠ -1)) (fun q => h2 q.2)]
      simp (disch := omega) only [Option.bind_some, tw_gm, tw_gold, tw_gsaved, tw_gisS, tw_gtext, tw_gtl, tw_grf_, tw_gfar, tw_gmk, tw_gstk, tw_gtop, tw_ghi, tw_gov, tw_gcmd, tw_gcm, tw_gat_, tw_gft, tw_ghs, tw_nm, tw_nold, tw_nsaved, tw_nisS, tw_ntext, tw_nfar, tw_nmk, tw_nstk, tw_ncmd, tw_ck, tw_am, tw_aold, tw_asaved, tw_aisS, tw_atext, tw_afar, tw_amk, tw_astk, tw_acmd, tw_sm, tw_sold, tw_ssaved, tw_sisS, tw_stext, tw_sfar, tw_smk, tw_sstk, tw_scmd, tw_ptl, tw_prf_, tw_ptop, tw_phi, tw_pov, tw_pcm, tw_pat_, tw_pft, tw_phs, tw_zov, J_add, J_sub, J_mul, J_neg, J_lit, J_lt, J_le, J_eq, Int.reduceAdd, Int.reduceSub, Int.reduceMul, Int.reduceNeg, Int.reduceEq, Int.reduceLT, Int.reduceLE, reduceIte, Int.zero_add, Int.add_zero, and_self, true_and, and_true, false_and, and_false, or_true, true_or, or_false, false_or, not_true_eq_false, not_false_eq_true, ne_eq, b2_s, t_isRef hm hx, if_neg h2]
  · rw [if_neg h, if_neg (c := (0 ≤ k ∧ k ≤ 3) ∧ (x = -1 ∨ ob m x ≠ -1)) (fun q => h q.1)]
    simp (disch := omega) only [Option.bind_some, tw_gm, tw_gold, tw_gsaved, tw_gisS, tw_gtext, tw_gtl, tw_grf_, tw_gfar, tw_gmk, tw_gstk, tw_gtop, tw_ghi, tw_gov, tw_gcmd, tw_gcm, tw_gat_, tw_gft, tw_ghs, tw_nm, tw_nold, tw_nsaved, tw_nisS, tw_ntext, tw_nfar, tw_nmk, tw_nstk, tw_ncmd, tw_ck, tw_am, tw_aold, tw_asaved, tw_aisS, tw_atext, tw_afar, tw_amk, tw_astk, tw_acmd, tw_sm, tw_sold, tw_ssaved, tw_sisS, tw_stext, tw_sfar, tw_smk, tw_sstk, tw_scmd, tw_ptl, tw_prf_, tw_ptop, tw_phi, tw_pov, tw_pcm, tw_pat_, tw_pft, tw_phs, tw_zov, J_add, J_sub, J_mul, J_neg, J_lit, J_lt, J_le, J_eq, Int.reduceAdd, Int.reduceSub, Int.reduceMul, Int.reduceNeg, Int.reduceEq, Int.reduceLT, Int.reduceLE, reduceIte, Int.zero_add, Int.add_zero, and_self, true_and, and_true, false_and, and_false, or_true, true_or, or_false, false_or, not_true_eq_false, not_false_eq_true, ne_eq, b2_s]
/-- what objectOf gives is an address or none -/
theorem ob_r (r : Int) : ob m r = -1 ∨ (0 ≤ ob m r ∧ ob m r < 200 ∧ 0 < m (ob m r) ∧ ob m r ≤ r ∧ r < ob m r + m (ob m r)) := by
  rcases ob_c (m := m) r with h | h
  · exact Or.inl h.1
  · exact Or.inr h
theorem t_field (hm : WF m) {x f : Int} (hx : ir x) (hf : ir f) : f_X2_field t (J x) (J f) (tput t m old saved isS text tl rf_ far mk stk top hi ov cmd cm at_ ft hs σ) = some (J (if ob m x ≠ -1 ∧ 0 ≤ f ∧ f ≤ m (200 + ob m x) - 1 then m (800 + ob m x + 1 + f) else -1000002)) := by
  have hf' := hf
  obtain ⟨f1, f2⟩ := hf
  unfold f_X2_field
  rcases ob_r (m := m) x with h | ⟨a1, a2, a3, -⟩
  · simp (disch := omega) only [Option.bind_some, tw_gm, tw_gold, tw_gsaved, tw_gisS, tw_gtext, tw_gtl, tw_grf_, tw_gfar, tw_gmk, tw_gstk, tw_gtop, tw_ghi, tw_gov, tw_gcmd, tw_gcm, tw_gat_, tw_gft, tw_ghs, tw_nm, tw_nold, tw_nsaved, tw_nisS, tw_ntext, tw_nfar, tw_nmk, tw_nstk, tw_ncmd, tw_ck, tw_am, tw_aold, tw_asaved, tw_aisS, tw_atext, tw_afar, tw_amk, tw_astk, tw_acmd, tw_sm, tw_sold, tw_ssaved, tw_sisS, tw_stext, tw_sfar, tw_smk, tw_sstk, tw_scmd, tw_ptl, tw_prf_, tw_ptop, tw_phi, tw_pov, tw_pcm, tw_pat_, tw_pft, tw_phs, tw_zov, J_add, J_sub, J_mul, J_neg, J_lit, J_lt, J_le, J_eq, Int.reduceAdd, Int.reduceSub, Int.reduceMul, Int.reduceNeg, Int.reduceEq, Int.reduceLT, Int.reduceLE, reduceIte, Int.zero_add, Int.add_zero, and_self, true_and, and_true, false_and, and_false, or_true, true_or, or_false, false_or, not_true_eq_false, not_false_eq_true, ne_eq, b2_s, t_objectOf hm hx, h]
  · have hfa := hm.hf _ a1 a2 a3
    by_cases h : 0 ≤ f ∧ f ≤ m (200 + ob m x) - 1
    · rw [if_pos (c := ob m x ≠ -1 ∧ 0 ≤ f ∧ f ≤ m (200 + ob m x) - 1) ⟨by omega, h⟩]
      simp (disch := omega) only [Option.bind_some, tw_gm, tw_gold, tw_gsaved, tw_gisS, tw_gtext, tw_gtl, tw_grf_, tw_gfar, tw_gmk, tw_gstk, tw_gtop, tw_ghi, tw_gov, tw_gcmd, tw_gcm, tw_gat_, tw_gft, tw_ghs, tw_nm, tw_nold, tw_nsaved, tw_nisS, tw_ntext, tw_nfar, tw_nmk, tw_nstk, tw_ncmd, tw_ck, tw_am, tw_aold, tw_asaved, tw_aisS, tw_atext, tw_afar, tw_amk, tw_astk, tw_acmd, tw_sm, tw_sold, tw_ssaved, tw_sisS, tw_stext, tw_sfar, tw_smk, tw_sstk, tw_scmd, tw_ptl, tw_prf_, tw_ptop, tw_phi, tw_pov, tw_pcm, tw_pat_, tw_pft, tw_phs, tw_zov, J_add, J_sub, J_mul, J_neg, J_lit, J_lt, J_le, J_eq, Int.reduceAdd, Int.reduceSub, Int.reduceMul, Int.reduceNeg, Int.reduceEq, Int.reduceLT, Int.reduceLE, reduceIte, Int.zero_add, Int.add_zero, and_self, true_and, and_true, false_and, and_false, or_true, true_or, or_false, false_or, not_true_eq_false, not_false_eq_true, ne_eq, b2_s, t_objectOf hm hx, t_in hf' (show ir 0 by unfold ir; omega) (show ir (m (200 + ob m x) - 1) by unfold ir; omega), if_pos h, if_neg (show ¬ ob m x = -1 by omega)]
    · rw [if_neg (c := ob m x ≠ -1 ∧ 0 ≤ f ∧ f ≤ m (200 + ob m x) - 1) (fun q => h q.2)]
      simp (disch := omega) only [Option.bind_some, tw_gm, tw_gold, tw_gsaved, tw_gisS, tw_gtext, tw_gtl, tw_grf_, tw_gfar, tw_gmk, tw_gstk, tw_gtop, tw_ghi, tw_gov, tw_gcmd, tw_gcm, tw_gat_, tw_gft, tw_ghs, tw_nm, tw_nold, tw_nsaved, tw_nisS, tw_ntext, tw_nfar, tw_nmk, tw_nstk, tw_ncmd, tw_ck, tw_am, tw_aold, tw_asaved, tw_aisS, tw_atext, tw_afar, tw_amk, tw_astk, tw_acmd, tw_sm, tw_sold, tw_ssaved, tw_sisS, tw_stext, tw_sfar, tw_smk, tw_sstk, tw_scmd, tw_ptl, tw_prf_, tw_ptop, tw_phi, tw_pov, tw_pcm, tw_pat_, tw_pft, tw_phs, tw_zov, J_add, J_sub, J_mul, J_neg, J_lit, J_lt, J_le, J_eq, Int.reduceAdd, Int.reduceSub, Int.reduceMul, Int.reduceNeg, Int.reduceEq, Int.reduceLT, Int.reduceLE, reduceIte, Int.zero_add, Int.add_zero, and_self, true_and, and_true, false_and, and_false, or_true, true_or, or_false, false_or, not_true_eq_false, not_false_eq_true, ne_eq, b2_s, t_objectOf hm hx, t_in hf' (show ir 0 by unfold ir; omega) (show ir (m (200 + ob m x) - 1) by unfold ir; omega), if_neg h, if_neg (show ¬ ob m x = -1 by omega)]
theorem t_data (hm : WF m) {x f : Int} (hx : ir x) (hf : ir f) : f_X2_data t (J x) (J f) (tput t m old saved isS text tl rf_ far mk stk top hi ov cmd cm at_ ft hs σ) = some (J (if ob m x ≠ -1 ∧ 0 ≤ f ∧ f ≤ m (ob m x) - 1 - m (200 + ob m x) - 1 then m (800 + ob m x + 1 + m (200 + ob m x) + f) else -1000002)) := by
  have hf' := hf
  obtain ⟨f1, f2⟩ := hf
  unfold f_X2_data
  rcases ob_r (m := m) x with h | ⟨a1, a2, a3, -⟩
  · simp (disch := omega) only [Option.bind_some, tw_gm, tw_gold, tw_gsaved, tw_gisS, tw_gtext, tw_gtl, tw_grf_, tw_gfar, tw_gmk, tw_gstk, tw_gtop, tw_ghi, tw_gov, tw_gcmd, tw_gcm, tw_gat_, tw_gft, tw_ghs, tw_nm, tw_nold, tw_nsaved, tw_nisS, tw_ntext, tw_nfar, tw_nmk, tw_nstk, tw_ncmd, tw_ck, tw_am, tw_aold, tw_asaved, tw_aisS, tw_atext, tw_afar, tw_amk, tw_astk, tw_acmd, tw_sm, tw_sold, tw_ssaved, tw_sisS, tw_stext, tw_sfar, tw_smk, tw_sstk, tw_scmd, tw_ptl, tw_prf_, tw_ptop, tw_phi, tw_pov, tw_pcm, tw_pat_, tw_pft, tw_phs, tw_zov, J_add, J_sub, J_mul, J_neg, J_lit, J_lt, J_le, J_eq, Int.reduceAdd, Int.reduceSub, Int.reduceMul, Int.reduceNeg, Int.reduceEq, Int.reduceLT, Int.reduceLE, reduceIte, Int.zero_add, Int.add_zero, and_self, true_and, and_true, false_and, and_false, or_true, true_or, or_false, false_or, not_true_eq_false, not_false_eq_true, ne_eq, b2_s, t_objectOf hm hx, h]
  · have hfa := hm.hf _ a1 a2 a3
    by_cases h : 0 ≤ f ∧ f ≤ m (ob m x) - 1 - m (200 + ob m x) - 1
    · rw [if_pos (c := ob m x ≠ -1 ∧ 0 ≤ f ∧ f ≤ m (ob m x) - 1 - m (200 + ob m x) - 1) ⟨by omega, h⟩]
      simp (disch := omega) only [Option.bind_some, tw_gm, tw_gold, tw_gsaved, tw_gisS, tw_gtext, tw_gtl, tw_grf_, tw_gfar, tw_gmk, tw_gstk, tw_gtop, tw_ghi, tw_gov, tw_gcmd, tw_gcm, tw_gat_, tw_gft, tw_ghs, tw_nm, tw_nold, tw_nsaved, tw_nisS, tw_ntext, tw_nfar, tw_nmk, tw_nstk, tw_ncmd, tw_ck, tw_am, tw_aold, tw_asaved, tw_aisS, tw_atext, tw_afar, tw_amk, tw_astk, tw_acmd, tw_sm, tw_sold, tw_ssaved, tw_sisS, tw_stext, tw_sfar, tw_smk, tw_sstk, tw_scmd, tw_ptl, tw_prf_, tw_ptop, tw_phi, tw_pov, tw_pcm, tw_pat_, tw_pft, tw_phs, tw_zov, J_add, J_sub, J_mul, J_neg, J_lit, J_lt, J_le, J_eq, Int.reduceAdd, Int.reduceSub, Int.reduceMul, Int.reduceNeg, Int.reduceEq, Int.reduceLT, Int.reduceLE, reduceIte, Int.zero_add, Int.add_zero, and_self, true_and, and_true, false_and, and_false, or_true, true_or, or_false, false_or, not_true_eq_false, not_false_eq_true, ne_eq, b2_s, t_objectOf hm hx, t_dataOf, t_in hf' (show ir 0 by unfold ir; omega) (show ir (m (ob m x) - 1 - m (200 + ob m x) - 1) by unfold ir; omega), if_pos h, if_neg (show ¬ ob m x = -1 by omega)]
    · rw [if_neg (c := ob m x ≠ -1 ∧ 0 ≤ f ∧ f ≤ m (ob m x) - 1 - m (200 + ob m x) - 1) (fun q => h q.2)]
      simp (disch := omega) only [Option.bind_some, tw_gm, tw_gold, tw_gsaved, tw_gisS, tw_gtext, tw_gtl, tw_grf_, tw_gfar, tw_gmk, tw_gstk, tw_gtop, tw_ghi, tw_gov, tw_gcmd, tw_gcm, tw_gat_, tw_gft, tw_ghs, tw_nm, tw_nold, tw_nsaved, tw_nisS, tw_ntext, tw_nfar, tw_nmk, tw_nstk, tw_ncmd, tw_ck, tw_am, tw_aold, tw_asaved, tw_aisS, tw_atext, tw_afar, tw_amk, tw_astk, tw_acmd, tw_sm, tw_sold, tw_ssaved, tw_sisS, tw_stext, tw_sfar, tw_smk, tw_sstk, tw_scmd, tw_ptl, tw_prf_, tw_ptop, tw_phi, tw_pov, tw_pcm, tw_pat_, tw_pft, tw_phs, tw_zov, J_add, J_sub, J_mul, J_neg, J_lit, J_lt, J_le, J_eq, Int.reduceAdd, Int.reduceSub, Int.reduceMul, Int.reduceNeg, Int.reduceEq, Int.reduceLT, Int.reduceLE, reduceIte, Int.zero_add, Int.add_zero, and_self, true_and, and_true, false_and, and_false, or_true, true_or, or_false, false_or, not_true_eq_false, not_false_eq_true, ne_eq, b2_s, t_objectOf hm hx, t_dataOf, t_in hf' (show ir 0 by unfold ir; omega) (show ir (m (ob m x) - 1 - m (200 + ob m x) - 1) by unfold ir; omega), if_neg h, if_neg (show ¬ ob m x = -1 by omega)]
theorem t_moved (hm : WF m) {x : Int} (hx : ir x) : f_X2_moved t (J x) (tput t m old saved isS text tl rf_ far mk stk top hi ov cmd cm at_ ft hs σ) = some (J (if 0 ≤ x ∧ x ≤ m 1216 - 1 then (if m 1221 = 1 then m (1000 + x) else -1000003) else -1000002)) := by
  have hx' := hx
  obtain ⟨x1, x2⟩ := hx
  have hW := hm.hW
  unfold f_X2_moved
  by_cases h : 0 ≤ x ∧ x ≤ m 1216 - 1
  · rcases hm.hh with h1 | h1
    · simp (disch := omega) only [Option.bind_some, tw_gm, tw_gold, tw_gsaved, tw_gisS, tw_gtext, tw_gtl, tw_grf_, tw_gfar, tw_gmk, tw_gstk, tw_gtop, tw_ghi, tw_gov, tw_gcmd, tw_gcm, tw_gat_, tw_gft, tw_ghs, tw_nm, tw_nold, tw_nsaved, tw_nisS, tw_ntext, tw_nfar, tw_nmk, tw_nstk, tw_ncmd, tw_ck, tw_am, tw_aold, tw_asaved, tw_aisS, tw_atext, tw_afar, tw_amk, tw_astk, tw_acmd, tw_sm, tw_sold, tw_ssaved, tw_sisS, tw_stext, tw_sfar, tw_smk, tw_sstk, tw_scmd, tw_ptl, tw_prf_, tw_ptop, tw_phi, tw_pov, tw_pcm, tw_pat_, tw_pft, tw_phs, tw_zov, J_add, J_sub, J_mul, J_neg, J_lit, J_lt, J_le, J_eq, Int.reduceAdd, Int.reduceSub, Int.reduceMul, Int.reduceNeg, Int.reduceEq, Int.reduceLT, Int.reduceLE, reduceIte, Int.zero_add, Int.add_zero, and_self, true_and, and_true, false_and, and_false, or_true, true_or, or_false, false_or, not_true_eq_false, not_false_eq_true, ne_eq, b2_s, t_in hx' (show ir 0 by unfold ir; omega) (show ir (m 1216 - 1) by unfold ir; omega), if_pos h, h1]
    · simp (disch := omega) only [Option.bind_some, tw_gm, tw_gold, tw_gsaved, tw_gisS, tw_gtext, tw_gtl, tw_grf_, tw_gfar, tw_gmk, tw_gstk, tw_gtop, tw_ghi, tw_gov, tw_gcmd, tw_gcm, tw_gat_, tw_gft, tw_ghs, tw_nm, tw_nold, tw_nsaved, tw_nisS, tw_ntext, tw_nfar, tw_nmk, tw_nstk, tw_ncmd, tw_ck, tw_am, tw_aold, tw_asaved, tw_aisS, tw_atext, tw_afar, tw_amk, tw_astk, tw_acmd, tw_sm, tw_sold, tw_ssaved, tw_sisS, tw_stext, tw_sfar, tw_smk, tw_sstk, tw_scmd, tw_ptl, tw_prf_, tw_ptop, tw_phi, tw_pov, tw_pcm, tw_pat_, tw_pft, tw_phs, tw_zov, J_add, J_sub, J_mul, J_neg, J_lit, J_lt, J_le, J_eq, Int.reduceAdd, Int.reduceSub, Int.reduceMul, Int.reduceNeg, Int.reduceEq, Int.reduceLT, Int.reduceLE, reduceIte, Int.zero_add, Int.add_zero, and_self, true_and, and_true, false_and, and_false, or_true, true_or, or_false, false_or, not_true_eq_false, not_false_eq_true, ne_eq, b2_s, t_in hx' (show ir 0 by unfold ir; omega) (show ir (m 1216 - 1) by unfold ir; omega), if_pos h, h1]
  · simp (disch := omega) only [Option.bind_some, tw_gm, tw_gold, tw_gsaved, tw_gisS, tw_gtext, tw_gtl, tw_grf_, tw_gfar, tw_gmk, tw_gstk, tw_gtop, tw_ghi, tw_gov, tw_gcmd, tw_gcm, tw_gat_, tw_gft, tw_ghs, tw_nm, tw_nold, tw_nsaved, tw_nisS, tw_ntext, tw_nfar, tw_nmk, tw_nstk, tw_ncmd, tw_ck, tw_am, tw_aold, tw_asaved, tw_aisS, tw_atext, tw_afar, tw_amk, tw_astk, tw_acmd, tw_sm, tw_sold, tw_ssaved, tw_sisS, tw_stext, tw_sfar, tw_smk, tw_sstk, tw_scmd, tw_ptl, tw_prf_, tw_ptop, tw_phi, tw_pov, tw_pcm, tw_pat_, tw_pft, tw_phs, tw_zov, J_add, J_sub, J_mul, J_neg, J_lit, J_lt, J_le, J_eq, Int.reduceAdd, Int.reduceSub, Int.reduceMul, Int.reduceNeg, Int.reduceEq, Int.reduceLT, Int.reduceLE, reduceIte, Int.zero_add, Int.add_zero, and_self, true_and, and_true, false_and, and_false, or_true, true_or, or_false, false_or, not_true_eq_false, not_false_eq_true, ne_eq, b2_s, t_in hx' (show ir 0 by unfold ir; omega) (show ir (m 1216 - 1) by unfold ir; omega), if_neg h]
theorem t_report (hm : WF m) {x : Int} (hx : ir x) : f_X2_report t (J x) (tput t m old saved isS text tl rf_ far mk stk top hi ov cmd cm at_ ft hs σ) = some (J (if 0 ≤ x ∧ x ≤ 5 then (if m 1221 = 1 then m (1210 + x) else -1000003) else -1000002)) := by
  have hx' := hx
  obtain ⟨x1, x2⟩ := hx
  unfold f_X2_report
  by_cases h : 0 ≤ x ∧ x ≤ 5
  · rcases hm.hh with h1 | h1
    · simp (disch := omega) only [Option.bind_some, tw_gm, tw_gold, tw_gsaved, tw_gisS, tw_gtext, tw_gtl, tw_grf_, tw_gfar, tw_gmk, tw_gstk, tw_gtop, tw_ghi, tw_gov, tw_gcmd, tw_gcm, tw_gat_, tw_gft, tw_ghs, tw_nm, tw_nold, tw_nsaved, tw_nisS, tw_ntext, tw_nfar, tw_nmk, tw_nstk, tw_ncmd, tw_ck, tw_am, tw_aold, tw_asaved, tw_aisS, tw_atext, tw_afar, tw_amk, tw_astk, tw_acmd, tw_sm, tw_sold, tw_ssaved, tw_sisS, tw_stext, tw_sfar, tw_smk, tw_sstk, tw_scmd, tw_ptl, tw_prf_, tw_ptop, tw_phi, tw_pov, tw_pcm, tw_pat_, tw_pft, tw_phs, tw_zov, J_add, J_sub, J_mul, J_neg, J_lit, J_lt, J_le, J_eq, Int.reduceAdd, Int.reduceSub, Int.reduceMul, Int.reduceNeg, Int.reduceEq, Int.reduceLT, Int.reduceLE, reduceIte, Int.zero_add, Int.add_zero, and_self, true_and, and_true, false_and, and_false, or_true, true_or, or_false, false_or, not_true_eq_false, not_false_eq_true, ne_eq, b2_s, t_in hx' (show ir 0 by unfold ir; omega) (show ir 5 by unfold ir; omega), if_pos h, h1]
    · simp (disch := omega) only [Option.bind_some, tw_gm, tw_gold, tw_gsaved, tw_gisS, tw_gtext, tw_gtl, tw_grf_, tw_gfar, tw_gmk, tw_gstk, tw_gtop, tw_ghi, tw_gov, tw_gcmd, tw_gcm, tw_gat_, tw_gft, tw_ghs, tw_nm, tw_nold, tw_nsaved, tw_nisS, tw_ntext, tw_nfar, tw_nmk, tw_nstk, tw_ncmd, tw_ck, tw_am, tw_aold, tw_asaved, tw_aisS, tw_atext, tw_afar, tw_amk, tw_astk, tw_acmd, tw_sm, tw_sold, tw_ssaved, tw_sisS, tw_stext, tw_sfar, tw_smk, tw_sstk, tw_scmd, tw_ptl, tw_prf_, tw_ptop, tw_phi, tw_pov, tw_pcm, tw_pat_, tw_pft, tw_phs, tw_zov, J_add, J_sub, J_mul, J_neg, J_lit, J_lt, J_le, J_eq, Int.reduceAdd, Int.reduceSub, Int.reduceMul, Int.reduceNeg, Int.reduceEq, Int.reduceLT, Int.reduceLE, reduceIte, Int.zero_add, Int.add_zero, and_self, true_and, and_true, false_and, and_false, or_true, true_or, or_false, false_or, not_true_eq_false, not_false_eq_true, ne_eq, b2_s, t_in hx' (show ir 0 by unfold ir; omega) (show ir 5 by unfold ir; omega), if_pos h, h1]
  · simp (disch := omega) only [Option.bind_some, tw_gm, tw_gold, tw_gsaved, tw_gisS, tw_gtext, tw_gtl, tw_grf_, tw_gfar, tw_gmk, tw_gstk, tw_gtop, tw_ghi, tw_gov, tw_gcmd, tw_gcm, tw_gat_, tw_gft, tw_ghs, tw_nm, tw_nold, tw_nsaved, tw_nisS, tw_ntext, tw_nfar, tw_nmk, tw_nstk, tw_ncmd, tw_ck, tw_am, tw_aold, tw_asaved, tw_aisS, tw_atext, tw_afar, tw_amk, tw_astk, tw_acmd, tw_sm, tw_sold, tw_ssaved, tw_sisS, tw_stext, tw_sfar, tw_smk, tw_sstk, tw_scmd, tw_ptl, tw_prf_, tw_ptop, tw_phi, tw_pov, tw_pcm, tw_pat_, tw_pft, tw_phs, tw_zov, J_add, J_sub, J_mul, J_neg, J_lit, J_lt, J_le, J_eq, Int.reduceAdd, Int.reduceSub, Int.reduceMul, Int.reduceNeg, Int.reduceEq, Int.reduceLT, Int.reduceLE, reduceIte, Int.zero_add, Int.add_zero, and_self, true_and, and_true, false_and, and_false, or_true, true_or, or_false, false_or, not_true_eq_false, not_false_eq_true, ne_eq, b2_s, t_in hx' (show ir 0 by unfold ir; omega) (show ir 5 by unfold ir; omega), if_neg h]
theorem t_refusal : f_X2_refusal t (tput t m old saved isS text tl rf_ far mk stk top hi ov cmd cm at_ ft hs σ) = some (J rf_) := by
  unfold f_X2_refusal
  simp (disch := omega) only [Option.bind_some, tw_gm, tw_gold, tw_gsaved, tw_gisS, tw_gtext, tw_gtl, tw_grf_, tw_gfar, tw_gmk, tw_gstk, tw_gtop, tw_ghi, tw_gov, tw_gcmd, tw_gcm, tw_gat_, tw_gft, tw_ghs, tw_nm, tw_nold, tw_nsaved, tw_nisS, tw_ntext, tw_nfar, tw_nmk, tw_nstk, tw_ncmd, tw_ck, tw_am, tw_aold, tw_asaved, tw_aisS, tw_atext, tw_afar, tw_amk, tw_astk, tw_acmd, tw_sm, tw_sold, tw_ssaved, tw_sisS, tw_stext, tw_sfar, tw_smk, tw_sstk, tw_scmd, tw_ptl, tw_prf_, tw_ptop, tw_phi, tw_pov, tw_pcm, tw_pat_, tw_pft, tw_phs, tw_zov, J_add, J_sub, J_mul, J_neg, J_lit, J_lt, J_le, J_eq, Int.reduceAdd, Int.reduceSub, Int.reduceMul, Int.reduceNeg, Int.reduceEq, Int.reduceLT, Int.reduceLE, reduceIte, Int.zero_add, Int.add_zero, and_self, true_and, and_true, false_and, and_false, or_true, true_or, or_false, false_or, not_true_eq_false, not_false_eq_true, ne_eq, b2_s]
theorem t_clearText : f_X2_clearText t (tput t m old saved isS text tl rf_ far mk stk top hi ov cmd cm at_ ft hs σ) = some (J tl, (tput t m old saved isS text 0 rf_ far mk stk top hi ov cmd cm at_ ft hs σ)) := by
  unfold f_X2_clearText
  simp (disch := omega) only [Option.bind_some, tw_gm, tw_gold, tw_gsaved, tw_gisS, tw_gtext, tw_gtl, tw_grf_, tw_gfar, tw_gmk, tw_gstk, tw_gtop, tw_ghi, tw_gov, tw_gcmd, tw_gcm, tw_gat_, tw_gft, tw_ghs, tw_nm, tw_nold, tw_nsaved, tw_nisS, tw_ntext, tw_nfar, tw_nmk, tw_nstk, tw_ncmd, tw_ck, tw_am, tw_aold, tw_asaved, tw_aisS, tw_atext, tw_afar, tw_amk, tw_astk, tw_acmd, tw_sm, tw_sold, tw_ssaved, tw_sisS, tw_stext, tw_sfar, tw_smk, tw_sstk, tw_scmd, tw_ptl, tw_prf_, tw_ptop, tw_phi, tw_pov, tw_pcm, tw_pat_, tw_pft, tw_phs, tw_zov, J_add, J_sub, J_mul, J_neg, J_lit, J_lt, J_le, J_eq, Int.reduceAdd, Int.reduceSub, Int.reduceMul, Int.reduceNeg, Int.reduceEq, Int.reduceLT, Int.reduceLE, reduceIte, Int.zero_add, Int.add_zero, and_self, true_and, and_true, false_and, and_false, or_true, true_or, or_false, false_or, not_true_eq_false, not_false_eq_true, ne_eq, b2_s]
theorem t_type (htl : 0 ≤ tl ∧ tl ≤ 80) {x : Int} (hx : ir x) : f_X2_type t (J x) (tput t m old saved isS text tl rf_ far mk stk top hi ov cmd cm at_ ft hs σ) = some (if 0 ≤ x ∧ x ≤ 127 then (if tl = 80 then (J (-1000004), (tput t m old saved isS text tl rf_ far mk stk top hi ov cmd cm at_ ft hs σ)) else (J (tl + 1), (tput t m old saved isS (up text tl x) (tl + 1) rf_ far mk stk top hi ov cmd cm at_ ft hs σ))) else (J (-1000002), (tput t m old saved isS text tl rf_ far mk stk top hi ov cmd cm at_ ft hs σ))) := by
  have hx' := hx
  obtain ⟨x1, x2⟩ := hx
  unfold f_X2_type
  by_cases h : 0 ≤ x ∧ x ≤ 127
  · by_cases h1 : tl = 80
    · simp (disch := omega) only [Option.bind_some, tw_gm, tw_gold, tw_gsaved, tw_gisS, tw_gtext, tw_gtl, tw_grf_, tw_gfar, tw_gmk, tw_gstk, tw_gtop, tw_ghi, tw_gov, tw_gcmd, tw_gcm, tw_gat_, tw_gft, tw_ghs, tw_nm, tw_nold, tw_nsaved, tw_nisS, tw_ntext, tw_nfar, tw_nmk, tw_nstk, tw_ncmd, tw_ck, tw_am, tw_aold, tw_asaved, tw_aisS, tw_atext, tw_afar, tw_amk, tw_astk, tw_acmd, tw_sm, tw_sold, tw_ssaved, tw_sisS, tw_stext, tw_sfar, tw_smk, tw_sstk, tw_scmd, tw_ptl, tw_prf_, tw_ptop, tw_phi, tw_pov, tw_pcm, tw_pat_, tw_pft, tw_phs, tw_zov, J_add, J_sub, J_mul, J_neg, J_lit, J_lt, J_le, J_eq, Int.reduceAdd, Int.reduceSub, Int.reduceMul, Int.reduceNeg, Int.reduceEq, Int.reduceLT, Int.reduceLE, reduceIte, Int.zero_add, Int.add_zero, and_self, true_and, and_true, false_and, and_false, or_true, true_or, or_false, false_or, not_true_eq_false, not_false_eq_true, ne_eq, b2_s, t_in hx' (show ir 0 by unfold ir; omega) (show ir 127 by unfold ir; omega), if_pos h, h1]
    · simp (disch := omega) only [Option.bind_some, tw_gm, tw_gold, tw_gsaved, tw_gisS, tw_gtext, tw_gtl, tw_grf_, tw_gfar, tw_gmk, tw_gstk, tw_gtop, tw_ghi, tw_gov, tw_gcmd, tw_gcm, tw_gat_, tw_gft, tw_ghs, tw_nm, tw_nold, tw_nsaved, tw_nisS, tw_ntext, tw_nfar, tw_nmk, tw_nstk, tw_ncmd, tw_ck, tw_am, tw_aold, tw_asaved, tw_aisS, tw_atext, tw_afar, tw_amk, tw_astk, tw_acmd, tw_sm, tw_sold, tw_ssaved, tw_sisS, tw_stext, tw_sfar, tw_smk, tw_sstk, tw_scmd, tw_ptl, tw_prf_, tw_ptop, tw_phi, tw_pov, tw_pcm, tw_pat_, tw_pft, tw_phs, tw_zov, J_add, J_sub, J_mul, J_neg, J_lit, J_lt, J_le, J_eq, Int.reduceAdd, Int.reduceSub, Int.reduceMul, Int.reduceNeg, Int.reduceEq, Int.reduceLT, Int.reduceLE, reduceIte, Int.zero_add, Int.add_zero, and_self, true_and, and_true, false_and, and_false, or_true, true_or, or_false, false_or, not_true_eq_false, not_false_eq_true, ne_eq, b2_s, t_in hx' (show ir 0 by unfold ir; omega) (show ir 127 by unfold ir; omega), if_pos h, if_neg h1]
  · simp (disch := omega) only [Option.bind_some, tw_gm, tw_gold, tw_gsaved, tw_gisS, tw_gtext, tw_gtl, tw_grf_, tw_gfar, tw_gmk, tw_gstk, tw_gtop, tw_ghi, tw_gov, tw_gcmd, tw_gcm, tw_gat_, tw_gft, tw_ghs, tw_nm, tw_nold, tw_nsaved, tw_nisS, tw_ntext, tw_nfar, tw_nmk, tw_nstk, tw_ncmd, tw_ck, tw_am, tw_aold, tw_asaved, tw_aisS, tw_atext, tw_afar, tw_amk, tw_astk, tw_acmd, tw_sm, tw_sold, tw_ssaved, tw_sisS, tw_stext, tw_sfar, tw_smk, tw_sstk, tw_scmd, tw_ptl, tw_prf_, tw_ptop, tw_phi, tw_pov, tw_pcm, tw_pat_, tw_pft, tw_phs, tw_zov, J_add, J_sub, J_mul, J_neg, J_lit, J_lt, J_le, J_eq, Int.reduceAdd, Int.reduceSub, Int.reduceMul, Int.reduceNeg, Int.reduceEq, Int.reduceLT, Int.reduceLE, reduceIte, Int.zero_add, Int.add_zero, and_self, true_and, and_true, false_and, and_false, or_true, true_or, or_false, false_or, not_true_eq_false, not_false_eq_true, ne_eq, b2_s, t_in hx' (show ir 0 by unfold ir; omega) (show ir 127 by unfold ir; omega), if_neg h]
end T1
