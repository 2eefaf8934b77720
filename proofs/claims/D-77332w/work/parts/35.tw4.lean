/-! PLAIN LAW: the twin's alloc. NAMES: mL fr isFH, t_ -/
set_option maxRecDepth 100000
/-- the row behind lays -/
def mL (m : Int → Int) (a f d : Int) : Int → Int := fun j => if j = 1218 then m 1218 + 1 else if 800 + a < j ∧ j ≤ 800 + a + f + d then (if j ≤ 800 + a + f then -1 else 0) else if j = 600 + a then 0 else if j = 400 + a then 0 else if j = 200 + a then f else if j = a then 1 + f + d else m j
/-- s free words from a on -/
def fr (m : Int → Int) (s a : Int) : Prop := 0 ≤ a ∧ a + s ≤ m 1216 ∧ ∀ w b, a ≤ w → w < a + s → ¬ oc m b w
/-- the first place of s free words; none -/
def isFH (m : Int → Int) (s r : Int) : Prop := (r = -1 ∧ ∀ b, ¬ fr m s b) ∨ (fr m s r ∧ ∀ b, b < r → ¬ fr m s b)
theorem isFH_u {m : Int → Int} {s r q : Int} (h1 : isFH m s r) (h2 : isFH m s q) : r = q := by
  rcases h1 with ⟨a1, a2⟩ | ⟨a1, a2⟩ <;> rcases h2 with ⟨b1, b2⟩ | ⟨b1, b2⟩
  · omega
  · exact absurd b1 (a2 _)
  · exact absurd a1 (b2 _)
  · rcases Int.lt_trichotomy r q with h | h | h
    · exact absurd a1 (b2 _ h)
    · exact h
    · exact absurd b1 (a2 _ h)
section T4
variable {t : Nat} {m old saved isS text far mk stk cmd : Int → Int} {tl rf_ top hi ov cm at_ ft : Int} {hs : Int64} {σ : mm_M}
theorem tm_lays {a f d : Int} (h1 : 0 ≤ a) (h2 : a + 1 + f + d ≤ 200) (h3 : 0 ≤ f) (h4 : 0 ≤ d) (h5 : f ≤ 6) (h6 : d ≤ 6) : f_X2_lays t (J a) (J f) (J d) (tput t m old saved isS text tl rf_ far mk stk top hi ov cmd cm at_ ft hs σ) = some (tput t (mL m a f d) old saved isS text tl rf_ far mk stk top hi ov cmd cm at_ ft hs σ) := by
  unfold f_X2_lays g_X2_lays_0
  simp (disch := omega) only [Option.bind_some, tw_gm, tw_gold, tw_gsaved, tw_gisS, tw_gtext, tw_gtl, tw_grf_, tw_gfar, tw_gmk, tw_gstk, tw_gtop, tw_ghi, tw_gov, tw_gcmd, tw_gcm, tw_gat_, tw_gft, tw_ghs, tw_nm, tw_nold, tw_nsaved, tw_nisS, tw_ntext, tw_nfar, tw_nmk, tw_nstk, tw_ncmd, tw_ck, tw_am, tw_aold, tw_asaved, tw_aisS, tw_atext, tw_afar, tw_amk, tw_astk, tw_acmd, tw_sm, tw_sold, tw_ssaved, tw_sisS, tw_stext, tw_sfar, tw_smk, tw_sstk, tw_scmd, tw_ptl, tw_prf_, tw_ptop, tw_phi, tw_pov, tw_pcm, tw_pat_, tw_pft, tw_phs, tw_zov, J_add, J_sub, J_mul, J_neg, J_lit, J_lt, J_le, J_eq, Int.reduceAdd, Int.reduceSub, Int.reduceMul, Int.reduceNeg, Int.reduceEq, Int.reduceLT, Int.reduceLE, reduceIte, Int.zero_add, Int.add_zero, and_self, true_and, and_true, false_and, and_false, or_true, true_or, or_false, false_or, not_true_eq_false, not_false_eq_true, ne_eq, b2_s]
  rw [lgo_l]
  have key := lpx_seq (f := s_X2_lays t (J a) (J f) (J d)) (fun k => (J (1 + k), (tput t (fun j => if 800 + a < j ∧ j ≤ 800 + a + k then (if j ≤ 800 + a + f then -1 else 0) else if j = 600 + a then 0 else if j = 400 + a then 0 else if j = 200 + a then f else if j = a then 1 + f + d else m j) old saved isS text tl rf_ far mk stk top hi ov cmd cm at_ ft hs σ))) (f + d).toNat (r := (tput t (mL m a f d) old saved isS text tl rf_ far mk stk top hi ov cmd cm at_ ft hs σ)) ?_ ?_
  · have h0 : (fun j => if 800 + a < j ∧ j ≤ 800 + a + ((0 : Nat) : Int) then (if j ≤ 800 + a + f then (-1 : Int) else 0) else if j = 600 + a then 0 else if j = 400 + a then 0 else if j = 200 + a then f else if j = a then 1 + f + d else m j) = up (up (up (up m a (1 + f + d)) (200 + a) f) (400 + a) 0) (600 + a) 0 := by
      funext j
      unfold up
      grind
    simp only [h0] at key
    exact key
  · intro k hk
    unfold s_X2_lays g_X2_lays_49
    have hup : ∀ v : Int, v = (if 1 + (k : Int) ≤ f then -1 else 0) → up (fun j => if 800 + a < j ∧ j ≤ 800 + a + (k : Int) then (if j ≤ 800 + a + f then (-1 : Int) else 0) else if j = 600 + a then 0 else if j = 400 + a then 0 else if j = 200 + a then f else if j = a then 1 + f + d else m j) (800 + a + (1 + k)) v = fun j => if 800 + a < j ∧ j ≤ 800 + a + ((k + 1 : Nat) : Int) then (if j ≤ 800 + a + f then (-1 : Int) else 0) else if j = 600 + a then 0 else if j = 400 + a then 0 else if j = 200 + a then f else if j = a then 1 + f + d else m j := by
      intro v hv
      funext j
      unfold up
      grind
    by_cases hkf : f < 1 + (k : Int)
    · simp (disch := omega) only [Option.bind_some, tw_gm, tw_gold, tw_gsaved, tw_gisS, tw_gtext, tw_gtl, tw_grf_, tw_gfar, tw_gmk, tw_gstk, tw_gtop, tw_ghi, tw_gov, tw_gcmd, tw_gcm, tw_gat_, tw_gft, tw_ghs, tw_nm, tw_nold, tw_nsaved, tw_nisS, tw_ntext, tw_nfar, tw_nmk, tw_nstk, tw_ncmd, tw_ck, tw_am, tw_aold, tw_asaved, tw_aisS, tw_atext, tw_afar, tw_amk, tw_astk, tw_acmd, tw_sm, tw_sold, tw_ssaved, tw_sisS, tw_stext, tw_sfar, tw_smk, tw_sstk, tw_scmd, tw_ptl, tw_prf_, tw_ptop, tw_phi, tw_pov, tw_pcm, tw_pat_, tw_pft, tw_phs, tw_zov, J_add, J_sub, J_mul, J_neg, J_lit, J_lt, J_le, J_eq, Int.reduceAdd, Int.reduceSub, Int.reduceMul, Int.reduceNeg, Int.reduceEq, Int.reduceLT, Int.reduceLE, reduceIte, Int.zero_add, Int.add_zero, and_self, true_and, and_true, false_and, and_false, or_true, true_or, or_false, false_or, not_true_eq_false, not_false_eq_true, ne_eq, b2_s, if_neg (show ¬ (f + d < 1 + (k : Int)) by omega), if_pos hkf, hup 0 (by rw [if_neg (by omega)])]
      simp [Int.add_assoc]
    · simp (disch := omega) only [Option.bind_some, tw_gm, tw_gold, tw_gsaved, tw_gisS, tw_gtext, tw_gtl, tw_grf_, tw_gfar, tw_gmk, tw_gstk, tw_gtop, tw_ghi, tw_gov, tw_gcmd, tw_gcm, tw_gat_, tw_gft, tw_ghs, tw_nm, tw_nold, tw_nsaved, tw_nisS, tw_ntext, tw_nfar, tw_nmk, tw_nstk, tw_ncmd, tw_ck, tw_am, tw_aold, tw_asaved, tw_aisS, tw_atext, tw_afar, tw_amk, tw_astk, tw_acmd, tw_sm, tw_sold, tw_ssaved, tw_sisS, tw_stext, tw_sfar, tw_smk, tw_sstk, tw_scmd, tw_ptl, tw_prf_, tw_ptop, tw_phi, tw_pov, tw_pcm, tw_pat_, tw_pft, tw_phs, tw_zov, J_add, J_sub, J_mul, J_neg, J_lit, J_lt, J_le, J_eq, Int.reduceAdd, Int.reduceSub, Int.reduceMul, Int.reduceNeg, Int.reduceEq, Int.reduceLT, Int.reduceLE, reduceIte, Int.zero_add, Int.add_zero, and_self, true_and, and_true, false_and, and_false, or_true, true_or, or_false, false_or, not_true_eq_false, not_false_eq_true, ne_eq, b2_s, if_neg (show ¬ (f + d < 1 + (k : Int)) by omega), if_neg hkf, hup (-1) (by rw [if_pos (by omega)])]
      simp [Int.add_assoc]
  · unfold s_X2_lays g_X2_lays_49
    have e1 : (((f + d).toNat : Nat) : Int) = f + d := by omega
    have hup : up (fun j => if 800 + a < j ∧ j ≤ 800 + a + (f + d) then (if j ≤ 800 + a + f then (-1 : Int) else 0) else if j = 600 + a then 0 else if j = 400 + a then 0 else if j = 200 + a then f else if j = a then 1 + f + d else m j) 1218 (m 1218 + 1) = mL m a f d := by
      funext j
      unfold up mL
      grind
    have hrd : (if 800 + a < (1218 : Int) ∧ (1218 : Int) ≤ 800 + a + (f + d) then (if (1218 : Int) ≤ 800 + a + f then (-1 : Int) else 0) else if (1218 : Int) = 600 + a then 0 else if (1218 : Int) = 400 + a then 0 else if (1218 : Int) = 200 + a then f else if (1218 : Int) = a then 1 + f + d else m 1218) = m 1218 := by grind
    simp (disch := omega) only [Option.bind_some, tw_gm, tw_gold, tw_gsaved, tw_gisS, tw_gtext, tw_gtl, tw_grf_, tw_gfar, tw_gmk, tw_gstk, tw_gtop, tw_ghi, tw_gov, tw_gcmd, tw_gcm, tw_gat_, tw_gft, tw_ghs, tw_nm, tw_nold, tw_nsaved, tw_nisS, tw_ntext, tw_nfar, tw_nmk, tw_nstk, tw_ncmd, tw_ck, tw_am, tw_aold, tw_asaved, tw_aisS, tw_atext, tw_afar, tw_amk, tw_astk, tw_acmd, tw_sm, tw_sold, tw_ssaved, tw_sisS, tw_stext, tw_sfar, tw_smk, tw_sstk, tw_scmd, tw_ptl, tw_prf_, tw_ptop, tw_phi, tw_pov, tw_pcm, tw_pat_, tw_pft, tw_phs, tw_zov, J_add, J_sub, J_mul, J_neg, J_lit, J_lt, J_le, J_eq, Int.reduceAdd, Int.reduceSub, Int.reduceMul, Int.reduceNeg, Int.reduceEq, Int.reduceLT, Int.reduceLE, reduceIte, Int.zero_add, Int.add_zero, and_self, true_and, and_true, false_and, and_false, or_true, true_or, or_false, false_or, not_true_eq_false, not_false_eq_true, ne_eq, b2_s, e1, if_pos (show f + d < 1 + (f + d) by omega)]
    rw [hrd, hup]
theorem t_alloc (hm : WF m) {f d : Int} (hf : ir f) (hd : ir d) : (¬ ((0 ≤ f ∧ f ≤ 6) ∧ (0 ≤ d ∧ d ≤ 6)) → f_X2_alloc t (J f) (J d) (tput t m old saved isS text tl rf_ far mk stk top hi ov cmd cm at_ ft hs σ) = some (J (-1000002), (tput t m old saved isS text tl rf_ far mk stk top hi ov cmd cm at_ ft hs σ))) ∧ ((0 ≤ f ∧ f ≤ 6) → (0 ≤ d ∧ d ≤ 6) → ∃ r, isFH m (1 + f + d) r ∧ f_X2_alloc t (J f) (J d) (tput t m old saved isS text tl rf_ far mk stk top hi ov cmd cm at_ ft hs σ) = some (if r = -1 then (J (-1000004), (tput t m old saved isS text tl rf_ far mk stk top hi ov cmd cm at_ ft hs σ)) else (J r, (tput t (mL m r f d) old saved isS text tl rf_ far mk stk top hi ov cmd cm at_ ft hs σ)))) := by
  have h1 := t_in hf (show ir 0 by unfold ir; omega) (show ir 6 by unfold ir; omega) (σ := (tput t m old saved isS text tl rf_ far mk stk top hi ov cmd cm at_ ft hs σ))
  have h2 := t_in hd (show ir 0 by unfold ir; omega) (show ir 6 by unfold ir; omega) (σ := (tput t m old saved isS text tl rf_ far mk stk top hi ov cmd cm at_ ft hs σ))
  have hW := hm.hW
  unfold f_X2_alloc g_X2_alloc_0
  constructor
  · intro hc
    by_cases c1 : 0 ≤ f ∧ f ≤ 6
    · have c2 : ¬ (0 ≤ d ∧ d ≤ 6) := fun q => hc ⟨c1, q⟩
      simp (disch := omega) only [Option.bind_some, tw_gm, tw_gold, tw_gsaved, tw_gisS, tw_gtext, tw_gtl, tw_grf_, tw_gfar, tw_gmk, tw_gstk, tw_gtop, tw_ghi, tw_gov, tw_gcmd, tw_gcm, tw_gat_, tw_gft, tw_ghs, tw_nm, tw_nold, tw_nsaved, tw_nisS, tw_ntext, tw_nfar, tw_nmk, tw_nstk, tw_ncmd, tw_ck, tw_am, tw_aold, tw_asaved, tw_aisS, tw_atext, tw_afar, tw_amk, tw_astk, tw_acmd, tw_sm, tw_sold, tw_ssaved, tw_sisS, tw_stext, tw_sfar, tw_smk, tw_sstk, tw_scmd, tw_ptl, tw_prf_, tw_ptop, tw_phi, tw_pov, tw_pcm, tw_pat_, tw_pft, tw_phs, tw_zov, J_add, J_sub, J_mul, J_neg, J_lit, J_lt, J_le, J_eq, Int.reduceAdd, Int.reduceSub, Int.reduceMul, Int.reduceNeg, Int.reduceEq, Int.reduceLT, Int.reduceLE, reduceIte, Int.zero_add, Int.add_zero, and_self, true_and, and_true, false_and, and_false, or_true, true_or, or_false, false_or, not_true_eq_false, not_false_eq_true, ne_eq, b2_s, h1, h2, if_pos c1, if_neg c2, lgo_r]
    · simp (disch := omega) only [Option.bind_some, tw_gm, tw_gold, tw_gsaved, tw_gisS, tw_gtext, tw_gtl, tw_grf_, tw_gfar, tw_gmk, tw_gstk, tw_gtop, tw_ghi, tw_gov, tw_gcmd, tw_gcm, tw_gat_, tw_gft, tw_ghs, tw_nm, tw_nold, tw_nsaved, tw_nisS, tw_ntext, tw_nfar, tw_nmk, tw_nstk, tw_ncmd, tw_ck, tw_am, tw_aold, tw_asaved, tw_aisS, tw_atext, tw_afar, tw_amk, tw_astk, tw_acmd, tw_sm, tw_sold, tw_ssaved, tw_sisS, tw_stext, tw_sfar, tw_smk, tw_sstk, tw_scmd, tw_ptl, tw_prf_, tw_ptop, tw_phi, tw_pov, tw_pcm, tw_pat_, tw_pft, tw_phs, tw_zov, J_add, J_sub, J_mul, J_neg, J_lit, J_lt, J_le, J_eq, Int.reduceAdd, Int.reduceSub, Int.reduceMul, Int.reduceNeg, Int.reduceEq, Int.reduceLT, Int.reduceLE, reduceIte, Int.zero_add, Int.add_zero, and_self, true_and, and_true, false_and, and_false, or_true, true_or, or_false, false_or, not_true_eq_false, not_false_eq_true, ne_eq, b2_s, h1, if_neg c1, lgo_r]
  · intro c1 c2
    simp (disch := omega) only [Option.bind_some, tw_gm, tw_gold, tw_gsaved, tw_gisS, tw_gtext, tw_gtl, tw_grf_, tw_gfar, tw_gmk, tw_gstk, tw_gtop, tw_ghi, tw_gov, tw_gcmd, tw_gcm, tw_gat_, tw_gft, tw_ghs, tw_nm, tw_nold, tw_nsaved, tw_nisS, tw_ntext, tw_nfar, tw_nmk, tw_nstk, tw_ncmd, tw_ck, tw_am, tw_aold, tw_asaved, tw_aisS, tw_atext, tw_afar, tw_amk, tw_astk, tw_acmd, tw_sm, tw_sold, tw_ssaved, tw_sisS, tw_stext, tw_sfar, tw_smk, tw_sstk, tw_scmd, tw_ptl, tw_prf_, tw_ptop, tw_phi, tw_pov, tw_pcm, tw_pat_, tw_pft, tw_phs, tw_zov, J_add, J_sub, J_mul, J_neg, J_lit, J_lt, J_le, J_eq, Int.reduceAdd, Int.reduceSub, Int.reduceMul, Int.reduceNeg, Int.reduceEq, Int.reduceLT, Int.reduceLE, reduceIte, Int.zero_add, Int.add_zero, and_self, true_and, and_true, false_and, and_false, or_true, true_or, or_false, false_or, not_true_eq_false, not_false_eq_true, ne_eq, b2_s, h1, h2, if_pos c1, if_pos c2, lgo_l]
    obtain ⟨x, e, r, q1, q2⟩ := lpx_is (f := s_X2_alloc t (J f) (J d)) (fun s => match s with
      | .inl s => ∃ a, s = (J (1 + f + d), J a, (tput t m old saved isS text tl rf_ far mk stk top hi ov cmd cm at_ ft hs σ)) ∧ 0 ≤ a ∧ a ≤ m 1216 ∧ (∀ b, 0 ≤ b → b < a → 0 < m b → b + m b ≤ a) ∧ ∀ b, b < a → ¬ fr m (1 + f + d) b
      | .inr s => ∃ a c, s = (J (1 + f + d), J a, J c, (tput t m old saved isS text tl rf_ far mk stk top hi ov cmd cm at_ ft hs σ)) ∧ 0 ≤ a ∧ a + (1 + f + d) ≤ m 1216 ∧ (∀ b, 0 ≤ b → b < a → 0 < m b → b + m b ≤ a) ∧ (∀ b, b < a → ¬ fr m (1 + f + d) b) ∧ 0 ≤ c ∧ c ≤ 1 + f + d ∧ ∀ w, a ≤ w → w < a + c → m w = 0)
      (fun s => match s with
      | .inl s => ((201 - s.2.1.toInt) * 16 + 15).toNat
      | .inr s => ((201 - s.2.1.toInt) * 16 + (14 - s.2.2.1.toInt)).toNat)
      (fun x => ∃ r, isFH m (1 + f + d) r ∧ x = if r = -1 then (J (-1000004), (tput t m old saved isS text tl rf_ far mk stk top hi ov cmd cm at_ ft hs σ)) else (J r, (tput t (mL m r f d) old saved isS text tl rf_ far mk stk top hi ov cmd cm at_ ft hs σ))) (s := .inl (J (1 + f + d), J 0, (tput t m old saved isS text tl rf_ far mk stk top hi ov cmd cm at_ ft hs σ))) ⟨0, rfl, by omega, by omega, fun b b1 b2 => by omega, fun b b1 b2 => by have := b2.1; omega⟩ (by
      rintro (s | s) hs
      · obtain ⟨a, rfl, a1, a2, a3, a4⟩ := hs
        unfold s_X2_alloc g_X2_alloc_32
        dsimp only
        by_cases c : m 1216 < a + (1 + f + d)
        · simp (disch := omega) only [Option.bind_some, tw_gm, tw_gold, tw_gsaved, tw_gisS, tw_gtext, tw_gtl, tw_grf_, tw_gfar, tw_gmk, tw_gstk, tw_gtop, tw_ghi, tw_gov, tw_gcmd, tw_gcm, tw_gat_, tw_gft, tw_ghs, tw_nm, tw_nold, tw_nsaved, tw_nisS, tw_ntext, tw_nfar, tw_nmk, tw_nstk, tw_ncmd, tw_ck, tw_am, tw_aold, tw_asaved, tw_aisS, tw_atext, tw_afar, tw_amk, tw_astk, tw_acmd, tw_sm, tw_sold, tw_ssaved, tw_sisS, tw_stext, tw_sfar, tw_smk, tw_sstk, tw_scmd, tw_ptl, tw_prf_, tw_ptop, tw_phi, tw_pov, tw_pcm, tw_pat_, tw_pft, tw_phs, tw_zov, J_add, J_sub, J_mul, J_neg, J_lit, J_lt, J_le, J_eq, Int.reduceAdd, Int.reduceSub, Int.reduceMul, Int.reduceNeg, Int.reduceEq, Int.reduceLT, Int.reduceLE, reduceIte, Int.zero_add, Int.add_zero, and_self, true_and, and_true, false_and, and_false, or_true, true_or, or_false, false_or, not_true_eq_false, not_false_eq_true, ne_eq, b2_s, if_pos c]
          refine Or.inl ⟨_, rfl, -1, Or.inl ⟨rfl, fun b hb => ?_⟩, by rw [if_pos rfl]⟩
          by_cases hba : b < a
          · exact a4 b hba hb
          · have := hb.2.1
            omega
        · simp (disch := omega) only [Option.bind_some, tw_gm, tw_gold, tw_gsaved, tw_gisS, tw_gtext, tw_gtl, tw_grf_, tw_gfar, tw_gmk, tw_gstk, tw_gtop, tw_ghi, tw_gov, tw_gcmd, tw_gcm, tw_gat_, tw_gft, tw_ghs, tw_nm, tw_nold, tw_nsaved, tw_nisS, tw_ntext, tw_nfar, tw_nmk, tw_nstk, tw_ncmd, tw_ck, tw_am, tw_aold, tw_asaved, tw_aisS, tw_atext, tw_afar, tw_amk, tw_astk, tw_acmd, tw_sm, tw_sold, tw_ssaved, tw_sisS, tw_stext, tw_sfar, tw_smk, tw_sstk, tw_scmd, tw_ptl, tw_prf_, tw_ptop, tw_phi, tw_pov, tw_pcm, tw_pat_, tw_pft, tw_phs, tw_zov, J_add, J_sub, J_mul, J_neg, J_lit, J_lt, J_le, J_eq, Int.reduceAdd, Int.reduceSub, Int.reduceMul, Int.reduceNeg, Int.reduceEq, Int.reduceLT, Int.reduceLE, reduceIte, Int.zero_add, Int.add_zero, and_self, true_and, and_true, false_and, and_false, or_true, true_or, or_false, false_or, not_true_eq_false, not_false_eq_true, ne_eq, b2_s, if_neg c]
          refine Or.inr ⟨_, rfl, ⟨a, 0, rfl, by omega, by omega, a3, a4, by omega, by omega, fun w w1 w2 => by omega⟩, ?_⟩
          dsimp only
          rw [J_toInt (by omega) (by omega), J_toInt (by omega) (by omega)]
          omega
      · obtain ⟨a, c, rfl, a1, a2, a3, a4, a5, a6, a7⟩ := hs
        unfold s_X2_alloc g_X2_alloc_50 g_X2_alloc_77
        dsimp only
        by_cases hc : 1 + f + d ≤ c
        · have hcc : c = 1 + f + d := by omega
          subst hcc
          simp (disch := omega) only [Option.bind_some, tw_gm, tw_gold, tw_gsaved, tw_gisS, tw_gtext, tw_gtl, tw_grf_, tw_gfar, tw_gmk, tw_gstk, tw_gtop, tw_ghi, tw_gov, tw_gcmd, tw_gcm, tw_gat_, tw_gft, tw_ghs, tw_nm, tw_nold, tw_nsaved, tw_nisS, tw_ntext, tw_nfar, tw_nmk, tw_nstk, tw_ncmd, tw_ck, tw_am, tw_aold, tw_asaved, tw_aisS, tw_atext, tw_afar, tw_amk, tw_astk, tw_acmd, tw_sm, tw_sold, tw_ssaved, tw_sisS, tw_stext, tw_sfar, tw_smk, tw_sstk, tw_scmd, tw_ptl, tw_prf_, tw_ptop, tw_phi, tw_pov, tw_pcm, tw_pat_, tw_pft, tw_phs, tw_zov, J_add, J_sub, J_mul, J_neg, J_lit, J_lt, J_le, J_eq, Int.reduceAdd, Int.reduceSub, Int.reduceMul, Int.reduceNeg, Int.reduceEq, Int.reduceLT, Int.reduceLE, reduceIte, Int.zero_add, Int.add_zero, and_self, true_and, and_true, false_and, and_false, or_true, true_or, or_false, false_or, not_true_eq_false, not_false_eq_true, ne_eq, b2_s, if_pos hc, tm_lays]
          have hfr : fr m (1 + f + d) a := ⟨a1, a2, fun w b w1 w2 hb => by
            obtain ⟨b1, b2, b3, b4, b5⟩ := hb
            by_cases hba : b < a
            · have := a3 b b1 hba b3
              omega
            · have := a7 b (by omega) (by omega)
              omega⟩
          exact Or.inl ⟨_, rfl, a, Or.inr ⟨hfr, a4⟩, by rw [if_neg (by omega)]⟩
        · have hs := hm.hs (a + c) (by omega) (by omega)
          by_cases hz : m (a + c) = 0
          · simp (disch := omega) only [Option.bind_some, tw_gm, tw_gold, tw_gsaved, tw_gisS, tw_gtext, tw_gtl, tw_grf_, tw_gfar, tw_gmk, tw_gstk, tw_gtop, tw_ghi, tw_gov, tw_gcmd, tw_gcm, tw_gat_, tw_gft, tw_ghs, tw_nm, tw_nold, tw_nsaved, tw_nisS, tw_ntext, tw_nfar, tw_nmk, tw_nstk, tw_ncmd, tw_ck, tw_am, tw_aold, tw_asaved, tw_aisS, tw_atext, tw_afar, tw_amk, tw_astk, tw_acmd, tw_sm, tw_sold, tw_ssaved, tw_sisS, tw_stext, tw_sfar, tw_smk, tw_sstk, tw_scmd, tw_ptl, tw_prf_, tw_ptop, tw_phi, tw_pov, tw_pcm, tw_pat_, tw_pft, tw_phs, tw_zov, J_add, J_sub, J_mul, J_neg, J_lit, J_lt, J_le, J_eq, Int.reduceAdd, Int.reduceSub, Int.reduceMul, Int.reduceNeg, Int.reduceEq, Int.reduceLT, Int.reduceLE, reduceIte, Int.zero_add, Int.add_zero, and_self, true_and, and_true, false_and, and_false, or_true, true_or, or_false, false_or, not_true_eq_false, not_false_eq_true, ne_eq, b2_s, if_neg hc, hz]
            refine Or.inr ⟨_, rfl, ⟨a, c + 1, rfl, a1, a2, a3, a4, by omega, by omega, fun w w1 w2 => ?_⟩, ?_⟩
            · by_cases hw : w = a + c
              · rw [hw]; exact hz
              · exact a7 w w1 (by omega)
            · dsimp only
              rw [J_toInt (by omega) (by omega), J_toInt (by omega) (by omega), J_toInt (by omega) (by omega)]
              omega
          · have he := hm.he (a + c) (by omega) (by omega) (by omega)
            simp (disch := omega) only [Option.bind_some, tw_gm, tw_gold, tw_gsaved, tw_gisS, tw_gtext, tw_gtl, tw_grf_, tw_gfar, tw_gmk, tw_gstk, tw_gtop, tw_ghi, tw_gov, tw_gcmd, tw_gcm, tw_gat_, tw_gft, tw_ghs, tw_nm, tw_nold, tw_nsaved, tw_nisS, tw_ntext, tw_nfar, tw_nmk, tw_nstk, tw_ncmd, tw_ck, tw_am, tw_aold, tw_asaved, tw_aisS, tw_atext, tw_afar, tw_amk, tw_astk, tw_acmd, tw_sm, tw_sold, tw_ssaved, tw_sisS, tw_stext, tw_sfar, tw_smk, tw_sstk, tw_scmd, tw_ptl, tw_prf_, tw_ptop, tw_phi, tw_pov, tw_pcm, tw_pat_, tw_pft, tw_phs, tw_zov, J_add, J_sub, J_mul, J_neg, J_lit, J_lt, J_le, J_eq, Int.reduceAdd, Int.reduceSub, Int.reduceMul, Int.reduceNeg, Int.reduceEq, Int.reduceLT, Int.reduceLE, reduceIte, Int.zero_add, Int.add_zero, and_self, true_and, and_true, false_and, and_false, or_true, true_or, or_false, false_or, not_true_eq_false, not_false_eq_true, ne_eq, b2_s, if_neg hc, if_neg hz, if_neg (show ¬ c = 1 + f + d by omega)]
            refine Or.inr ⟨_, rfl, ⟨a + (c + m (a + c)), rfl, by omega, by omega, fun b b1 b2 b3 => ?_, fun b b1 b2 => ?_⟩, ?_⟩
            · rcases Int.lt_trichotomy b (a + c) with h | h | h
              · by_cases hba : b < a
                · have := a3 b b1 hba b3
                  omega
                · have := a7 b (by omega) h
                  omega
              · subst h
                omega
              · have := hm.hi (a + c) (b - (a + c)) (by omega) (by omega) (by omega) (by omega)
                rw [show a + c + (b - (a + c)) = b by omega] at this
                omega
            · by_cases hba : b < a
              · exact a4 b hba b2
              · obtain ⟨f1, f2, f3⟩ := b2
                by_cases hbc : b ≤ a + c
                · exact f3 (a + c) (a + c) hbc (by omega) ⟨by omega, by omega, by omega, by omega, by omega⟩
                · exact f3 b (a + c) (by omega) (by omega) ⟨by omega, by omega, by omega, by omega, by omega⟩
            · dsimp only
              rw [J_toInt (by omega) (by omega), J_toInt (by omega) (by omega), J_toInt (by omega) (by omega)]
              omega)
    exact ⟨r, q1, by rw [e, q2]⟩
end T4
