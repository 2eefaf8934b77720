/-! PLAIN LAW: free, on both sides. NAMES: fs9 fre, tm_free kc_free -/
set_option maxRecDepth 100000
/-- a word more: words, holes, greatest, first, fours, the hole so far -/
noncomputable def fs9 (m : Int → Int) (a : Int) (s : Int × Int × Int × Int × Int × Int) : Int × Int × Int × Int × Int × Int :=
  if ob m a = -1 then (s.1 + 1, if s.2.2.2.2.2 = 0 then s.2.1 + 1 else s.2.1, if s.2.2.1 < s.2.2.2.2.2 + 1 then s.2.2.2.2.2 + 1 else s.2.2.1, if s.2.2.2.1 = -1 then a else s.2.2.2.1, if (s.2.2.2.2.2 + 1) % 4 = 0 then s.2.2.2.2.1 + 1 else s.2.2.2.2.1, s.2.2.2.2.2 + 1)
  else (s.1, s.2.1, s.2.2.1, s.2.2.2.1, s.2.2.2.2.1, 0)
noncomputable abbrev fi9 (m : Int → Int) (n : Nat) : Int × Int × Int × Int × Int × Int := itr (fs9 m) n (0, 0, 0, -1, 0, 0)
theorem fi9_b (m : Int → Int) (n : Nat) : (0 ≤ (fi9 m n).1 ∧ (fi9 m n).1 ≤ n) ∧ (0 ≤ (fi9 m n).2.1 ∧ (fi9 m n).2.1 ≤ n) ∧ (0 ≤ (fi9 m n).2.2.1 ∧ (fi9 m n).2.2.1 ≤ n) ∧ (-1 ≤ (fi9 m n).2.2.2.1 ∧ (fi9 m n).2.2.2.1 ≤ n) ∧ (0 ≤ (fi9 m n).2.2.2.2.1 ∧ (fi9 m n).2.2.2.2.1 ≤ n) ∧ (0 ≤ (fi9 m n).2.2.2.2.2 ∧ (fi9 m n).2.2.2.2.2 ≤ n) := by
  induction n with
  | zero => simp [fi9, itr]
  | succ n ih =>
    unfold fi9 at ih ⊢
    rw [itr_s]
    generalize itr (fs9 m) n (0, 0, 0, -1, 0, 0) = s at ih ⊢
    obtain ⟨⟨a1, a2⟩, ⟨b1, b2⟩, ⟨c1, c2⟩, ⟨d1, d2⟩, ⟨e1, e2⟩, f1, f2⟩ := ih
    unfold fs9
    by_cases h : ob m n = -1
    · rw [if_pos h]
      dsimp only
      refine ⟨⟨by omega, by omega⟩, ?_, ?_, ?_, ?_, ⟨by omega, by omega⟩⟩
      · split <;> omega
      · split <;> omega
      · split <;> omega
      · split <;> omega
    · rw [if_neg h]
      dsimp only
      exact ⟨⟨by omega, by omega⟩, ⟨by omega, by omega⟩, ⟨by omega, by omega⟩, ⟨by omega, by omega⟩, ⟨by omega, by omega⟩, ⟨by omega, by omega⟩⟩
/-- a hole -/
theorem fi9_h {m : Int → Int} {a : Nat} {w h g f q : Int} (h0 : fi9 m a = (w, h, g, f, q, 0)) (s : Nat) (hs : ∀ j : Nat, j < s → ob m (a + j) = -1) : fi9 m (a + s) = if s = 0 then (w, h, g, f, q, 0) else (w + s, h + 1, if g < s then (s : Int) else g, if f = -1 then (a : Int) else f, q + s / 4, (s : Int)) := by
  have hb := fi9_b m a
  rw [h0] at hb
  dsimp only at hb
  obtain ⟨⟨a1, a2⟩, ⟨b1, b2⟩, ⟨c1, c2⟩, ⟨d1, d2⟩, ⟨e1, e2⟩, -⟩ := hb
  induction s with
  | zero => exact h0
  | succ s ih =>
    have ih := ih (fun j hj => hs j (by omega))
    unfold fi9 at ih ⊢
    rw [if_neg (show ¬ s + 1 = 0 by omega), ← Nat.add_assoc, itr_s, ih]
    have h1 := hs s (by omega)
    unfold fs9
    rw [show (((a + s : Nat)) : Int) = (a : Int) + s by omega, if_pos h1]
    by_cases h2 : s = 0
    · subst h2
      simp only [if_pos, if_true]
      refine Prod.ext (by dsimp only; omega) (Prod.ext (by dsimp only) (Prod.ext (by dsimp only; split <;> split <;> omega) (Prod.ext (by dsimp only; split <;> omega) (Prod.ext (by dsimp only; split <;> omega) (by dsimp only; omega)))))
    · simp only [if_neg h2]
      rw [if_neg (show ¬ (s : Int) = 0 by omega)]
      refine Prod.ext (by dsimp only; omega) (Prod.ext (by dsimp only) (Prod.ext (by dsimp only; split <;> split <;> omega) (Prod.ext (by dsimp only; split <;> omega) (Prod.ext (by dsimp only; split <;> omega) (by dsimp only; omega)))))
/-- words of objects -/
theorem fi9_o {m : Int → Int} {a : Nat} {w h g f q r : Int} (h0 : fi9 m a = (w, h, g, f, q, r)) (s : Nat) (hs : ∀ j : Nat, j < s → ob m (a + j) ≠ -1) : fi9 m (a + s) = if s = 0 then (w, h, g, f, q, r) else (w, h, g, f, q, 0) := by
  induction s with
  | zero => exact h0
  | succ s ih =>
    have ih := ih (fun j hj => hs j (by omega))
    unfold fi9 at ih ⊢
    rw [if_neg (show ¬ s + 1 = 0 by omega), ← Nat.add_assoc, itr_s, ih]
    have h1 := hs s (by omega)
    unfold fs9
    rw [show (((a + s : Nat)) : Int) = (a : Int) + s by omega, if_neg h1]
    by_cases h2 : s = 0
    · simp only [if_pos h2]
    · simp only [if_neg h2]
/-- what free answers -/
noncomputable def fre (m : Int → Int) (x : Int) : Int := if x = 0 then (fi9 m (m 1216).toNat).1 else if x = 1 then (fi9 m (m 1216).toNat).2.1 else if x = 2 then (fi9 m (m 1216).toNat).2.2.1 else if x = 3 then (fi9 m (m 1216).toNat).2.2.2.1 else if x = 4 then (fi9 m (m 1216).toNat).2.2.2.2.1 else -1000002
/-- the loop's invariant, its measure -/
def frI (m : Int → Int) (S : (Int32 × Int32 × Int32 × Int32 × Int32 × Int32) ⊕ (Int32 × Int32 × Int32 × Int32 × Int32 × Int32 × Int32)) : Prop := (∃ (a : Nat) (w h g f q r : Int), S = .inl (J w, J h, J g, J f, J q, J a) ∧ (a : Int) ≤ m 1216 ∧ fi9 m a = (w, h, g, f, q, r) ∧ ((a : Int) < m 1216 → r = 0) ∧ ∀ b, oc m b a → b = a) ∨
        (∃ (a k : Nat) (w h g f q : Int), S = .inr (J w, J h, J g, J f, J q, J a, J k) ∧ (a : Int) + k ≤ m 1216 ∧ fi9 m a = (w, h, g, f, q, 0) ∧ (∀ b, oc m b a → b = a) ∧ ∀ j : Nat, j < k → m (a + j) = 0)
def frM (m : Int → Int) (S : (Int32 × Int32 × Int32 × Int32 × Int32 × Int32) ⊕ (Int32 × Int32 × Int32 × Int32 × Int32 × Int32 × Int32)) : Nat := match S with | .inl s => (if m 1216 ≤ s.2.2.2.2.2.toInt then 0 else 2 * (m 1216 - s.2.2.2.2.2.toInt) + 2).toNat | .inr s => (2 * (m 1216 - s.2.2.2.2.2.1.toInt - s.2.2.2.2.2.2.toInt) + 1).toNat
section T1
variable {t : Nat} {m old saved isS text far mk stk cmd : Int → Int} {tl rf_ top hi ov cm at_ ft : Int} {hs : Int64} {σ : mm_M}
set_option maxHeartbeats 4000000 in
theorem tm_free (hm : WF m) {x : Int} (hx : ir x) : f_X2_free t (J x) (tput t m old saved isS text tl rf_ far mk stk top hi ov cmd cm at_ ft hs σ) = some (J (fre m x)) := by
  have hW := hm.hW
  have hx' := hx
  obtain ⟨x1, x2⟩ := hx
  unfold f_X2_free g_X2_free_0
  rw [show (0 : Int32) = J 0 from J_lit 0, show (4 : Int32) = J 4 from J_lit 4, t_in hx' (by unfold ir; omega) (by unfold ir; omega), Option.bind_some]
  by_cases hc : 0 ≤ x ∧ x ≤ 4
  · rw [if_pos hc]
    simp (disch := omega) only [J_add, J_sub, J_mul, J_neg, J_lit, J_lt, J_le, J_eq, Option.bind_some, Int.reduceAdd, Int.reduceSub, Int.reduceMul, Int.reduceNeg, Int.reduceEq, Int.reduceLT, Int.reduceLE, reduceIte, Int.zero_add, Int.add_zero, and_self, true_and, and_true, false_and, and_false, or_true, true_or, or_false, false_or, not_true_eq_false, not_false_eq_true, ne_eq, b2_s]
    rw [lgo_l]
    obtain ⟨r, h1, h2⟩ := lpx_is (f := s_X2_free t (J x) (tput t m old saved isS text tl rf_ far mk stk top hi ov cmd cm at_ ft hs σ)) (frI m)
      (frM m) (fun r => r = J (fre m x)) (s := .inl (J 0, J 0, J 0, J (-1), J 0, J 0)) (Or.inl ⟨0, 0, 0, 0, -1, 0, 0, rfl, by omega, rfl, fun _ => rfl, fun b hb => by obtain ⟨b1, b2, b3, b4, b5⟩ := hb; omega⟩) (by
      rintro s (⟨a, w, h, g, f, q, r, rfl, i1, i2, i3, i4⟩ | ⟨a, k, w, h, g, f, q, rfl, i1, i2, i4, i5⟩)
      · have hb := fi9_b m a
        rw [i2] at hb
        dsimp only at hb
        obtain ⟨⟨a1, a2⟩, ⟨b1, b2⟩, ⟨c1, c2⟩, ⟨d1, d2⟩, ⟨e1, e2⟩, -⟩ := hb
        unfold s_X2_free g_X2_free_28
        dsimp only
        by_cases hz : m 1216 ≤ (a : Int)
        · have hk : (m 1216).toNat = a := by omega
          refine Or.inl ?_
          unfold fre
          rw [hk, i2]
          rcases (show x = 0 ∨ x = 1 ∨ x = 2 ∨ x = 3 ∨ x = 4 by omega) with rfl | rfl | rfl | rfl | rfl
          · simp (disch := omega) only [Option.bind_some, tw_gm, tw_gold, tw_gsaved, tw_gisS, tw_gtext, tw_gtl, tw_grf_, tw_gfar, tw_gmk, tw_gstk, tw_gtop, tw_ghi, tw_gov, tw_gcmd, tw_gcm, tw_gat_, tw_gft, tw_ghs, tw_nm, tw_nold, tw_nsaved, tw_nisS, tw_ntext, tw_nfar, tw_nmk, tw_nstk, tw_ncmd, tw_ck, tw_am, tw_aold, tw_asaved, tw_aisS, tw_atext, tw_afar, tw_amk, tw_astk, tw_acmd, tw_sm, tw_sold, tw_ssaved, tw_sisS, tw_stext, tw_sfar, tw_smk, tw_sstk, tw_scmd, tw_ptl, tw_prf_, tw_ptop, tw_phi, tw_pov, tw_pcm, tw_pat_, tw_pft, tw_phs, tw_zov, J_add, J_sub, J_mul, J_neg, J_lit, J_lt, J_le, J_eq, Int.reduceAdd, Int.reduceSub, Int.reduceMul, Int.reduceNeg, Int.reduceEq, Int.reduceLT, Int.reduceLE, reduceIte, Int.zero_add, Int.add_zero, and_self, true_and, and_true, false_and, and_false, or_true, true_or, or_false, false_or, not_true_eq_false, not_false_eq_true, ne_eq, b2_s, if_pos hz]
            exact ⟨_, rfl, rfl⟩
          · simp (disch := omega) only [Option.bind_some, tw_gm, tw_gold, tw_gsaved, tw_gisS, tw_gtext, tw_gtl, tw_grf_, tw_gfar, tw_gmk, tw_gstk, tw_gtop, tw_ghi, tw_gov, tw_gcmd, tw_gcm, tw_gat_, tw_gft, tw_ghs, tw_nm, tw_nold, tw_nsaved, tw_nisS, tw_ntext, tw_nfar, tw_nmk, tw_nstk, tw_ncmd, tw_ck, tw_am, tw_aold, tw_asaved, tw_aisS, tw_atext, tw_afar, tw_amk, tw_astk, tw_acmd, tw_sm, tw_sold, tw_ssaved, tw_sisS, tw_stext, tw_sfar, tw_smk, tw_sstk, tw_scmd, tw_ptl, tw_prf_, tw_ptop, tw_phi, tw_pov, tw_pcm, tw_pat_, tw_pft, tw_phs, tw_zov, J_add, J_sub, J_mul, J_neg, J_lit, J_lt, J_le, J_eq, Int.reduceAdd, Int.reduceSub, Int.reduceMul, Int.reduceNeg, Int.reduceEq, Int.reduceLT, Int.reduceLE, reduceIte, Int.zero_add, Int.add_zero, and_self, true_and, and_true, false_and, and_false, or_true, true_or, or_false, false_or, not_true_eq_false, not_false_eq_true, ne_eq, b2_s, if_pos hz]
            exact ⟨_, rfl, rfl⟩
          · simp (disch := omega) only [Option.bind_some, tw_gm, tw_gold, tw_gsaved, tw_gisS, tw_gtext, tw_gtl, tw_grf_, tw_gfar, tw_gmk, tw_gstk, tw_gtop, tw_ghi, tw_gov, tw_gcmd, tw_gcm, tw_gat_, tw_gft, tw_ghs, tw_nm, tw_nold, tw_nsaved, tw_nisS, tw_ntext, tw_nfar, tw_nmk, tw_nstk, tw_ncmd, tw_ck, tw_am, tw_aold, tw_asaved, tw_aisS, tw_atext, tw_afar, tw_amk, tw_astk, tw_acmd, tw_sm, tw_sold, tw_ssaved, tw_sisS, tw_stext, tw_sfar, tw_smk, tw_sstk, tw_scmd, tw_ptl, tw_prf_, tw_ptop, tw_phi, tw_pov, tw_pcm, tw_pat_, tw_pft, tw_phs, tw_zov, J_add, J_sub, J_mul, J_neg, J_lit, J_lt, J_le, J_eq, Int.reduceAdd, Int.reduceSub, Int.reduceMul, Int.reduceNeg, Int.reduceEq, Int.reduceLT, Int.reduceLE, reduceIte, Int.zero_add, Int.add_zero, and_self, true_and, and_true, false_and, and_false, or_true, true_or, or_false, false_or, not_true_eq_false, not_false_eq_true, ne_eq, b2_s, if_pos hz]
            exact ⟨_, rfl, rfl⟩
          · simp (disch := omega) only [Option.bind_some, tw_gm, tw_gold, tw_gsaved, tw_gisS, tw_gtext, tw_gtl, tw_grf_, tw_gfar, tw_gmk, tw_gstk, tw_gtop, tw_ghi, tw_gov, tw_gcmd, tw_gcm, tw_gat_, tw_gft, tw_ghs, tw_nm, tw_nold, tw_nsaved, tw_nisS, tw_ntext, tw_nfar, tw_nmk, tw_nstk, tw_ncmd, tw_ck, tw_am, tw_aold, tw_asaved, tw_aisS, tw_atext, tw_afar, tw_amk, tw_astk, tw_acmd, tw_sm, tw_sold, tw_ssaved, tw_sisS, tw_stext, tw_sfar, tw_smk, tw_sstk, tw_scmd, tw_ptl, tw_prf_, tw_ptop, tw_phi, tw_pov, tw_pcm, tw_pat_, tw_pft, tw_phs, tw_zov, J_add, J_sub, J_mul, J_neg, J_lit, J_lt, J_le, J_eq, Int.reduceAdd, Int.reduceSub, Int.reduceMul, Int.reduceNeg, Int.reduceEq, Int.reduceLT, Int.reduceLE, reduceIte, Int.zero_add, Int.add_zero, and_self, true_and, and_true, false_and, and_false, or_true, true_or, or_false, false_or, not_true_eq_false, not_false_eq_true, ne_eq, b2_s, if_pos hz]
            exact ⟨_, rfl, rfl⟩
          · simp (disch := omega) only [Option.bind_some, tw_gm, tw_gold, tw_gsaved, tw_gisS, tw_gtext, tw_gtl, tw_grf_, tw_gfar, tw_gmk, tw_gstk, tw_gtop, tw_ghi, tw_gov, tw_gcmd, tw_gcm, tw_gat_, tw_gft, tw_ghs, tw_nm, tw_nold, tw_nsaved, tw_nisS, tw_ntext, tw_nfar, tw_nmk, tw_nstk, tw_ncmd, tw_ck, tw_am, tw_aold, tw_asaved, tw_aisS, tw_atext, tw_afar, tw_amk, tw_astk, tw_acmd, tw_sm, tw_sold, tw_ssaved, tw_sisS, tw_stext, tw_sfar, tw_smk, tw_sstk, tw_scmd, tw_ptl, tw_prf_, tw_ptop, tw_phi, tw_pov, tw_pcm, tw_pat_, tw_pft, tw_phs, tw_zov, J_add, J_sub, J_mul, J_neg, J_lit, J_lt, J_le, J_eq, Int.reduceAdd, Int.reduceSub, Int.reduceMul, Int.reduceNeg, Int.reduceEq, Int.reduceLT, Int.reduceLE, reduceIte, Int.zero_add, Int.add_zero, and_self, true_and, and_true, false_and, and_false, or_true, true_or, or_false, false_or, not_true_eq_false, not_false_eq_true, ne_eq, b2_s, if_pos hz]
            exact ⟨_, rfl, rfl⟩
        · refine Or.inr ⟨.inr (J w, J h, J g, J f, J q, J a, J 0), ?_, Or.inr ⟨a, 0, w, h, g, f, q, rfl, by omega, by rw [i2, i3 (by omega)], i4, fun j hj => by omega⟩, ?_⟩
          · simp (disch := omega) only [Option.bind_some, tw_gm, tw_gold, tw_gsaved, tw_gisS, tw_gtext, tw_gtl, tw_grf_, tw_gfar, tw_gmk, tw_gstk, tw_gtop, tw_ghi, tw_gov, tw_gcmd, tw_gcm, tw_gat_, tw_gft, tw_ghs, tw_nm, tw_nold, tw_nsaved, tw_nisS, tw_ntext, tw_nfar, tw_nmk, tw_nstk, tw_ncmd, tw_ck, tw_am, tw_aold, tw_asaved, tw_aisS, tw_atext, tw_afar, tw_amk, tw_astk, tw_acmd, tw_sm, tw_sold, tw_ssaved, tw_sisS, tw_stext, tw_sfar, tw_smk, tw_sstk, tw_scmd, tw_ptl, tw_prf_, tw_ptop, tw_phi, tw_pov, tw_pcm, tw_pat_, tw_pft, tw_phs, tw_zov, J_add, J_sub, J_mul, J_neg, J_lit, J_lt, J_le, J_eq, Int.reduceAdd, Int.reduceSub, Int.reduceMul, Int.reduceNeg, Int.reduceEq, Int.reduceLT, Int.reduceLE, reduceIte, Int.zero_add, Int.add_zero, and_self, true_and, and_true, false_and, and_false, or_true, true_or, or_false, false_or, not_true_eq_false, not_false_eq_true, ne_eq, b2_s, if_neg hz]
          · unfold frM
            dsimp only
            rw [J_toInt (by omega) (by omega), J_toInt (by omega) (by omega), if_neg hz]
            omega
      · have hb := fi9_b m a
        rw [i2] at hb
        dsimp only at hb
        obtain ⟨⟨a1, a2⟩, ⟨b1, b2⟩, ⟨c1, c2⟩, ⟨d1, d2⟩, ⟨e1, e2⟩, -⟩ := hb
        have hfree : ∀ j : Nat, j < k → ob m (a + j) = -1 := fun j hj => ob_n (fun b hb => by
          obtain ⟨q1, q2, q3, q4, q5⟩ := hb
          by_cases hba : b ≤ a
          · have := i4 b ⟨q1, q2, q3, hba, by omega⟩
            have h0 := i5 0 (by omega)
            rw [this] at q3
            simp at h0
            omega
          · have h0 := i5 (b - a).toNat (by omega)
            rw [show (a : Int) + ((b - a).toNat : Int) = b by omega] at h0
            omega)
        have hh := fi9_h i2 k hfree
        -- the end of a hole
        have hend : ∀ (b : Nat) (nx : Int), nx = a + k + b → (if m 1216 ≤ (a : Int) + k then (b : Int) = 0 else (b : Int) = m (a + k) ∧ m (a + k) ≠ 0) → (∃ r, some (Sum.inl (β := Int32) (Sum.inl (β := Int32 × Int32 × Int32 × Int32 × Int32 × Int32 × Int32) (J (w + k), J (if 0 < (k : Int) then h + 1 else h), J (if g < k then (k : Int) else g), J (if 0 < (k : Int) ∧ f = -1 then (a : Int) else f), J (q + k / 4), J nx))) = some (Sum.inr r) ∧ r = J (fre m x)) ∨ ∃ s', some (Sum.inl (β := Int32) (Sum.inl (β := Int32 × Int32 × Int32 × Int32 × Int32 × Int32 × Int32) (J (w + k), J (if 0 < (k : Int) then h + 1 else h), J (if g < k then (k : Int) else g), J (if 0 < (k : Int) ∧ f = -1 then (a : Int) else f), J (q + k / 4), J nx))) = some (.inl s') ∧ frI m s' ∧ frM m s' < (2 * (m 1216 - a - k) + 1).toNat := by
          intro b nx hnx hb
          have hv : fi9 m (a + k) = (w + k, (if 0 < (k : Int) then h + 1 else h), (if g < k then (k : Int) else g), (if 0 < (k : Int) ∧ f = -1 then (a : Int) else f), q + k / 4, (k : Int)) := by
            rw [hh]
            by_cases hk0 : k = 0
            · subst hk0
              rw [if_pos rfl, if_neg (by omega), if_neg (by omega), if_neg (fun q => by omega)]
              simp
            · rw [if_neg hk0, if_pos (show 0 < (k : Int) by omega)]
              simp [show 0 < k by omega]
          refine Or.inr ⟨_, rfl, Or.inl ?_, ?_⟩
          · subst hnx
            by_cases hz : m 1216 ≤ (a : Int) + k
            · rw [if_pos hz] at hb
              refine ⟨a + k, w + k, (if 0 < (k : Int) then h + 1 else h), (if g < k then (k : Int) else g), (if 0 < (k : Int) ∧ f = -1 then (a : Int) else f), q + k / 4, k, ?_, by omega, hv, fun q => by omega, fun c hc => ?_⟩
              · rw [hb, Int.add_zero]; rfl
              · obtain ⟨q1, q2, q3, q4, q5⟩ := hc
                have := hm.he c q1 q2 q3
                omega
            · rw [if_neg hz] at hb
              obtain ⟨hb1, hb2⟩ := hb
              have hs := hm.hs (a + k) (by omega) (by omega)
              have hE := hm.he (a + k) (by omega) (by omega) (by omega)
              have ho := fi9_o hv b (fun j hj => by
                rw [show (((a + k : Nat)) : Int) + (j : Int) = (a : Int) + k + j by omega, ob_e hm (a := (a : Int) + k) ⟨by omega, by omega, by omega, by omega, by omega⟩]
                omega)
              rw [if_neg (by omega)] at ho
              refine ⟨a + k + b, w + k, (if 0 < (k : Int) then h + 1 else h), (if g < k then (k : Int) else g), (if 0 < (k : Int) ∧ f = -1 then (a : Int) else f), q + k / 4, 0, ?_, by omega, ho, fun _ => rfl, fun c hc => ?_⟩
              · rw [show ((a + k + b : Nat) : Int) = (a : Int) + k + b by omega]
              · obtain ⟨q1, q2, q3, q4, q5⟩ := hc
                by_cases hlt : c < (a : Int) + k + b
                · exfalso
                  by_cases hba : c ≤ (a : Int) + k
                  · have h7 : c = (a : Int) + k := oc_u hm (r := (a : Int) + k) ⟨q1, q2, q3, hba, by omega⟩ ⟨by omega, by omega, by omega, by omega, by omega⟩
                    rw [h7] at q5
                    omega
                  · have := hm.hi ((a : Int) + k) (c - (a + k)) (by omega) (by omega) (by omega) (by omega)
                    rw [show (a : Int) + k + (c - (a + k)) = c by omega] at this
                    omega
                · omega
          · unfold frM
            dsimp only
            subst hnx
            by_cases hz : m 1216 ≤ (a : Int) + k
            · rw [if_pos hz] at hb
              rw [J_toInt (by omega) (by omega), if_pos (by omega)]
              omega
            · rw [if_neg hz] at hb
              have hE := hm.he (a + k) (by omega) (by omega) (by have := hm.hs (a + k) (by omega) (by omega); omega)
              rw [J_toInt (by omega) (by omega)]
              split <;> omega
        have hdv : J (k : Int) / J 4 = J ((k : Int) / 4) := pl_div4 (by omega) (by omega)
        have hmu : ((J (a : Int)).toInt = a) ∧ (J (k : Int)).toInt = k := ⟨J_toInt (by omega) (by omega), J_toInt (by omega) (by omega)⟩
        have hfm : frM m (.inr (J w, J h, J g, J f, J q, J a, J k)) = (2 * (m 1216 - a - k) + 1).toNat := by
          unfold frM
          dsimp only
          rw [hmu.1, hmu.2]
        rw [hfm]
        unfold s_X2_free g_X2_free_44
        dsimp only
        by_cases hz : m 1216 ≤ (a : Int) + k
        · have e9 := hend 0 (a + k + 0) (by simp) (by rw [if_pos hz]; rfl)
          unfold g_X2_free_99 g_X2_free_133
          by_cases hk0 : (k : Int) ≤ 0
          · rw [if_neg (show ¬ 0 < (k : Int) by omega), if_neg (show ¬ (0 < (k : Int) ∧ f = -1) from fun q => by omega), if_neg (show ¬ g < (k : Int) by omega)] at e9
            simp (disch := omega) only [Option.bind_some, tw_gm, tw_gold, tw_gsaved, tw_gisS, tw_gtext, tw_gtl, tw_grf_, tw_gfar, tw_gmk, tw_gstk, tw_gtop, tw_ghi, tw_gov, tw_gcmd, tw_gcm, tw_gat_, tw_gft, tw_ghs, tw_nm, tw_nold, tw_nsaved, tw_nisS, tw_ntext, tw_nfar, tw_nmk, tw_nstk, tw_ncmd, tw_ck, tw_am, tw_aold, tw_asaved, tw_aisS, tw_atext, tw_afar, tw_amk, tw_astk, tw_acmd, tw_sm, tw_sold, tw_ssaved, tw_sisS, tw_stext, tw_sfar, tw_smk, tw_sstk, tw_scmd, tw_ptl, tw_prf_, tw_ptop, tw_phi, tw_pov, tw_pcm, tw_pat_, tw_pft, tw_phs, tw_zov, J_add, J_sub, J_mul, J_neg, J_lit, J_lt, J_le, J_eq, Int.reduceAdd, Int.reduceSub, Int.reduceMul, Int.reduceNeg, Int.reduceEq, Int.reduceLT, Int.reduceLE, reduceIte, Int.zero_add, Int.add_zero, and_self, true_and, and_true, false_and, and_false, or_true, true_or, or_false, false_or, not_true_eq_false, not_false_eq_true, ne_eq, b2_s, if_pos hz, if_pos hk0, if_pos (show (k : Int) ≤ g by omega), hdv]
            simp only [Int.add_zero] at e9
            exact e9
          · rw [if_pos (show 0 < (k : Int) by omega)] at e9
            by_cases hf9 : f = -1
            · rw [if_pos (show (0 < (k : Int) ∧ f = -1) from ⟨by omega, hf9⟩)] at e9
              by_cases hg9 : g < (k : Int)
              · rw [if_pos hg9] at e9
                simp (disch := omega) only [Option.bind_some, tw_gm, tw_gold, tw_gsaved, tw_gisS, tw_gtext, tw_gtl, tw_grf_, tw_gfar, tw_gmk, tw_gstk, tw_gtop, tw_ghi, tw_gov, tw_gcmd, tw_gcm, tw_gat_, tw_gft, tw_ghs, tw_nm, tw_nold, tw_nsaved, tw_nisS, tw_ntext, tw_nfar, tw_nmk, tw_nstk, tw_ncmd, tw_ck, tw_am, tw_aold, tw_asaved, tw_aisS, tw_atext, tw_afar, tw_amk, tw_astk, tw_acmd, tw_sm, tw_sold, tw_ssaved, tw_sisS, tw_stext, tw_sfar, tw_smk, tw_sstk, tw_scmd, tw_ptl, tw_prf_, tw_ptop, tw_phi, tw_pov, tw_pcm, tw_pat_, tw_pft, tw_phs, tw_zov, J_add, J_sub, J_mul, J_neg, J_lit, J_lt, J_le, J_eq, Int.reduceAdd, Int.reduceSub, Int.reduceMul, Int.reduceNeg, Int.reduceEq, Int.reduceLT, Int.reduceLE, reduceIte, Int.zero_add, Int.add_zero, and_self, true_and, and_true, false_and, and_false, or_true, true_or, or_false, false_or, not_true_eq_false, not_false_eq_true, ne_eq, b2_s, if_pos hz, if_neg hk0, if_neg (show ¬ (k : Int) ≤ g by omega), hdv, hf9]
                simp only [Int.add_zero] at e9
                exact e9
              · rw [if_neg hg9] at e9
                simp (disch := omega) only [Option.bind_some, tw_gm, tw_gold, tw_gsaved, tw_gisS, tw_gtext, tw_gtl, tw_grf_, tw_gfar, tw_gmk, tw_gstk, tw_gtop, tw_ghi, tw_gov, tw_gcmd, tw_gcm, tw_gat_, tw_gft, tw_ghs, tw_nm, tw_nold, tw_nsaved, tw_nisS, tw_ntext, tw_nfar, tw_nmk, tw_nstk, tw_ncmd, tw_ck, tw_am, tw_aold, tw_asaved, tw_aisS, tw_atext, tw_afar, tw_amk, tw_astk, tw_acmd, tw_sm, tw_sold, tw_ssaved, tw_sisS, tw_stext, tw_sfar, tw_smk, tw_sstk, tw_scmd, tw_ptl, tw_prf_, tw_ptop, tw_phi, tw_pov, tw_pcm, tw_pat_, tw_pft, tw_phs, tw_zov, J_add, J_sub, J_mul, J_neg, J_lit, J_lt, J_le, J_eq, Int.reduceAdd, Int.reduceSub, Int.reduceMul, Int.reduceNeg, Int.reduceEq, Int.reduceLT, Int.reduceLE, reduceIte, Int.zero_add, Int.add_zero, and_self, true_and, and_true, false_and, and_false, or_true, true_or, or_false, false_or, not_true_eq_false, not_false_eq_true, ne_eq, b2_s, if_pos hz, if_neg hk0, if_pos (show (k : Int) ≤ g by omega), hdv, hf9]
                simp only [Int.add_zero] at e9
                exact e9
            · rw [if_neg (show ¬ (0 < (k : Int) ∧ f = -1) from fun q => hf9 q.2)] at e9
              by_cases hg9 : g < (k : Int)
              · rw [if_pos hg9] at e9
                simp (disch := omega) only [Option.bind_some, tw_gm, tw_gold, tw_gsaved, tw_gisS, tw_gtext, tw_gtl, tw_grf_, tw_gfar, tw_gmk, tw_gstk, tw_gtop, tw_ghi, tw_gov, tw_gcmd, tw_gcm, tw_gat_, tw_gft, tw_ghs, tw_nm, tw_nold, tw_nsaved, tw_nisS, tw_ntext, tw_nfar, tw_nmk, tw_nstk, tw_ncmd, tw_ck, tw_am, tw_aold, tw_asaved, tw_aisS, tw_atext, tw_afar, tw_amk, tw_astk, tw_acmd, tw_sm, tw_sold, tw_ssaved, tw_sisS, tw_stext, tw_sfar, tw_smk, tw_sstk, tw_scmd, tw_ptl, tw_prf_, tw_ptop, tw_phi, tw_pov, tw_pcm, tw_pat_, tw_pft, tw_phs, tw_zov, J_add, J_sub, J_mul, J_neg, J_lit, J_lt, J_le, J_eq, Int.reduceAdd, Int.reduceSub, Int.reduceMul, Int.reduceNeg, Int.reduceEq, Int.reduceLT, Int.reduceLE, reduceIte, Int.zero_add, Int.add_zero, and_self, true_and, and_true, false_and, and_false, or_true, true_or, or_false, false_or, not_true_eq_false, not_false_eq_true, ne_eq, b2_s, if_pos hz, if_neg hk0, if_neg (show ¬ (k : Int) ≤ g by omega), hdv, if_neg hf9]
                simp only [Int.add_zero] at e9
                exact e9
              · rw [if_neg hg9] at e9
                simp (disch := omega) only [Option.bind_some, tw_gm, tw_gold, tw_gsaved, tw_gisS, tw_gtext, tw_gtl, tw_grf_, tw_gfar, tw_gmk, tw_gstk, tw_gtop, tw_ghi, tw_gov, tw_gcmd, tw_gcm, tw_gat_, tw_gft, tw_ghs, tw_nm, tw_nold, tw_nsaved, tw_nisS, tw_ntext, tw_nfar, tw_nmk, tw_nstk, tw_ncmd, tw_ck, tw_am, tw_aold, tw_asaved, tw_aisS, tw_atext, tw_afar, tw_amk, tw_astk, tw_acmd, tw_sm, tw_sold, tw_ssaved, tw_sisS, tw_stext, tw_sfar, tw_smk, tw_sstk, tw_scmd, tw_ptl, tw_prf_, tw_ptop, tw_phi, tw_pov, tw_pcm, tw_pat_, tw_pft, tw_phs, tw_zov, J_add, J_sub, J_mul, J_neg, J_lit, J_lt, J_le, J_eq, Int.reduceAdd, Int.reduceSub, Int.reduceMul, Int.reduceNeg, Int.reduceEq, Int.reduceLT, Int.reduceLE, reduceIte, Int.zero_add, Int.add_zero, and_self, true_and, and_true, false_and, and_false, or_true, true_or, or_false, false_or, not_true_eq_false, not_false_eq_true, ne_eq, b2_s, if_pos hz, if_neg hk0, if_pos (show (k : Int) ≤ g by omega), hdv, if_neg hf9]
                simp only [Int.add_zero] at e9
                exact e9
        · by_cases hm0 : m ((a : Int) + k) = 0
          · refine Or.inr ⟨.inr (J w, J h, J g, J f, J q, J a, J ((k + 1 : Nat) : Int)), ?_, Or.inr ⟨a, k + 1, w, h, g, f, q, rfl, by omega, i2, i4, fun j hj => ?_⟩, ?_⟩
            · simp (disch := omega) only [Option.bind_some, tw_gm, tw_gold, tw_gsaved, tw_gisS, tw_gtext, tw_gtl, tw_grf_, tw_gfar, tw_gmk, tw_gstk, tw_gtop, tw_ghi, tw_gov, tw_gcmd, tw_gcm, tw_gat_, tw_gft, tw_ghs, tw_nm, tw_nold, tw_nsaved, tw_nisS, tw_ntext, tw_nfar, tw_nmk, tw_nstk, tw_ncmd, tw_ck, tw_am, tw_aold, tw_asaved, tw_aisS, tw_atext, tw_afar, tw_amk, tw_astk, tw_acmd, tw_sm, tw_sold, tw_ssaved, tw_sisS, tw_stext, tw_sfar, tw_smk, tw_sstk, tw_scmd, tw_ptl, tw_prf_, tw_ptop, tw_phi, tw_pov, tw_pcm, tw_pat_, tw_pft, tw_phs, tw_zov, J_add, J_sub, J_mul, J_neg, J_lit, J_lt, J_le, J_eq, Int.reduceAdd, Int.reduceSub, Int.reduceMul, Int.reduceNeg, Int.reduceEq, Int.reduceLT, Int.reduceLE, reduceIte, Int.zero_add, Int.add_zero, and_self, true_and, and_true, false_and, and_false, or_true, true_or, or_false, false_or, not_true_eq_false, not_false_eq_true, ne_eq, b2_s, if_neg hz, hm0]
              rfl
            · by_cases hjk : j = k
              · rw [hjk]; exact hm0
              · exact i5 j (by omega)
            · unfold frM
              dsimp only
              rw [J_toInt (by omega) (by omega), J_toInt (by omega) (by omega)]
              omega
          · have hs := hm.hs (a + k) (by omega) (by omega)
            have e9 := hend (m (a + k)).toNat (a + k + m (a + k)) (by omega) (by rw [if_neg hz]; exact ⟨by omega, hm0⟩)
            unfold g_X2_free_99 g_X2_free_133
            by_cases hk0 : (k : Int) ≤ 0
            · rw [if_neg (show ¬ 0 < (k : Int) by omega), if_neg (show ¬ (0 < (k : Int) ∧ f = -1) from fun q => by omega), if_neg (show ¬ g < (k : Int) by omega)] at e9
              simp (disch := omega) only [Option.bind_some, tw_gm, tw_gold, tw_gsaved, tw_gisS, tw_gtext, tw_gtl, tw_grf_, tw_gfar, tw_gmk, tw_gstk, tw_gtop, tw_ghi, tw_gov, tw_gcmd, tw_gcm, tw_gat_, tw_gft, tw_ghs, tw_nm, tw_nold, tw_nsaved, tw_nisS, tw_ntext, tw_nfar, tw_nmk, tw_nstk, tw_ncmd, tw_ck, tw_am, tw_aold, tw_asaved, tw_aisS, tw_atext, tw_afar, tw_amk, tw_astk, tw_acmd, tw_sm, tw_sold, tw_ssaved, tw_sisS, tw_stext, tw_sfar, tw_smk, tw_sstk, tw_scmd, tw_ptl, tw_prf_, tw_ptop, tw_phi, tw_pov, tw_pcm, tw_pat_, tw_pft, tw_phs, tw_zov, J_add, J_sub, J_mul, J_neg, J_lit, J_lt, J_le, J_eq, Int.reduceAdd, Int.reduceSub, Int.reduceMul, Int.reduceNeg, Int.reduceEq, Int.reduceLT, Int.reduceLE, reduceIte, Int.zero_add, Int.add_zero, and_self, true_and, and_true, false_and, and_false, or_true, true_or, or_false, false_or, not_true_eq_false, not_false_eq_true, ne_eq, b2_s, if_neg hz, if_pos hk0, if_pos (show (k : Int) ≤ g by omega), hdv, if_neg hm0]
              exact e9
            · rw [if_pos (show 0 < (k : Int) by omega)] at e9
              by_cases hf9 : f = -1
              · rw [if_pos (show (0 < (k : Int) ∧ f = -1) from ⟨by omega, hf9⟩)] at e9
                by_cases hg9 : g < (k : Int)
                · rw [if_pos hg9] at e9
                  simp (disch := omega) only [Option.bind_some, tw_gm, tw_gold, tw_gsaved, tw_gisS, tw_gtext, tw_gtl, tw_grf_, tw_gfar, tw_gmk, tw_gstk, tw_gtop, tw_ghi, tw_gov, tw_gcmd, tw_gcm, tw_gat_, tw_gft, tw_ghs, tw_nm, tw_nold, tw_nsaved, tw_nisS, tw_ntext, tw_nfar, tw_nmk, tw_nstk, tw_ncmd, tw_ck, tw_am, tw_aold, tw_asaved, tw_aisS, tw_atext, tw_afar, tw_amk, tw_astk, tw_acmd, tw_sm, tw_sold, tw_ssaved, tw_sisS, tw_stext, tw_sfar, tw_smk, tw_sstk, tw_scmd, tw_ptl, tw_prf_, tw_ptop, tw_phi, tw_pov, tw_pcm, tw_pat_, tw_pft, tw_phs, tw_zov, J_add, J_sub, J_mul, J_neg, J_lit, J_lt, J_le, J_eq, Int.reduceAdd, Int.reduceSub, Int.reduceMul, Int.reduceNeg, Int.reduceEq, Int.reduceLT, Int.reduceLE, reduceIte, Int.zero_add, Int.add_zero, and_self, true_and, and_true, false_and, and_false, or_true, true_or, or_false, false_or, not_true_eq_false, not_false_eq_true, ne_eq, b2_s, if_neg hz, if_neg hk0, if_neg (show ¬ (k : Int) ≤ g by omega), hdv, hf9, if_neg hm0]
                  exact e9
                · rw [if_neg hg9] at e9
                  simp (disch := omega) only [Option.bind_some, tw_gm, tw_gold, tw_gsaved, tw_gisS, tw_gtext, tw_gtl, tw_grf_, tw_gfar, tw_gmk, tw_gstk, tw_gtop, tw_ghi, tw_gov, tw_gcmd, tw_gcm, tw_gat_, tw_gft, tw_ghs, tw_nm, tw_nold, tw_nsaved, tw_nisS, tw_ntext, tw_nfar, tw_nmk, tw_nstk, tw_ncmd, tw_ck, tw_am, tw_aold, tw_asaved, tw_aisS, tw_atext, tw_afar, tw_amk, tw_astk, tw_acmd, tw_sm, tw_sold, tw_ssaved, tw_sisS, tw_stext, tw_sfar, tw_smk, tw_sstk, tw_scmd, tw_ptl, tw_prf_, tw_ptop, tw_phi, tw_pov, tw_pcm, tw_pat_, tw_pft, tw_phs, tw_zov, J_add, J_sub, J_mul, J_neg, J_lit, J_lt, J_le, J_eq, Int.reduceAdd, Int.reduceSub, Int.reduceMul, Int.reduceNeg, Int.reduceEq, Int.reduceLT, Int.reduceLE, reduceIte, Int.zero_add, Int.add_zero, and_self, true_and, and_true, false_and, and_false, or_true, true_or, or_false, false_or, not_true_eq_false, not_false_eq_true, ne_eq, b2_s, if_neg hz, if_neg hk0, if_pos (show (k : Int) ≤ g by omega), hdv, hf9, if_neg hm0]
                  exact e9
              · rw [if_neg (show ¬ (0 < (k : Int) ∧ f = -1) from fun q => hf9 q.2)] at e9
                by_cases hg9 : g < (k : Int)
                · rw [if_pos hg9] at e9
                  simp (disch := omega) only [Option.bind_some, tw_gm, tw_gold, tw_gsaved, tw_gisS, tw_gtext, tw_gtl, tw_grf_, tw_gfar, tw_gmk, tw_gstk, tw_gtop, tw_ghi, tw_gov, tw_gcmd, tw_gcm, tw_gat_, tw_gft, tw_ghs, tw_nm, tw_nold, tw_nsaved, tw_nisS, tw_ntext, tw_nfar, tw_nmk, tw_nstk, tw_ncmd, tw_ck, tw_am, tw_aold, tw_asaved, tw_aisS, tw_atext, tw_afar, tw_amk, tw_astk, tw_acmd, tw_sm, tw_sold, tw_ssaved, tw_sisS, tw_stext, tw_sfar, tw_smk, tw_sstk, tw_scmd, tw_ptl, tw_prf_, tw_ptop, tw_phi, tw_pov, tw_pcm, tw_pat_, tw_pft, tw_phs, tw_zov, J_add, J_sub, J_mul, J_neg, J_lit, J_lt, J_le, J_eq, Int.reduceAdd, Int.reduceSub, Int.reduceMul, Int.reduceNeg, Int.reduceEq, Int.reduceLT, Int.reduceLE, reduceIte, Int.zero_add, Int.add_zero, and_self, true_and, and_true, false_and, and_false, or_true, true_or, or_false, false_or, not_true_eq_false, not_false_eq_true, ne_eq, b2_s, if_neg hz, if_neg hk0, if_neg (show ¬ (k : Int) ≤ g by omega), hdv, if_neg hf9, if_neg hm0]
                  exact e9
                · rw [if_neg hg9] at e9
                  simp (disch := omega) only [Option.bind_some, tw_gm, tw_gold, tw_gsaved, tw_gisS, tw_gtext, tw_gtl, tw_grf_, tw_gfar, tw_gmk, tw_gstk, tw_gtop, tw_ghi, tw_gov, tw_gcmd, tw_gcm, tw_gat_, tw_gft, tw_ghs, tw_nm, tw_nold, tw_nsaved, tw_nisS, tw_ntext, tw_nfar, tw_nmk, tw_nstk, tw_ncmd, tw_ck, tw_am, tw_aold, tw_asaved, tw_aisS, tw_atext, tw_afar, tw_amk, tw_astk, tw_acmd, tw_sm, tw_sold, tw_ssaved, tw_sisS, tw_stext, tw_sfar, tw_smk, tw_sstk, tw_scmd, tw_ptl, tw_prf_, tw_ptop, tw_phi, tw_pov, tw_pcm, tw_pat_, tw_pft, tw_phs, tw_zov, J_add, J_sub, J_mul, J_neg, J_lit, J_lt, J_le, J_eq, Int.reduceAdd, Int.reduceSub, Int.reduceMul, Int.reduceNeg, Int.reduceEq, Int.reduceLT, Int.reduceLE, reduceIte, Int.zero_add, Int.add_zero, and_self, true_and, and_true, false_and, and_false, or_true, true_or, or_false, false_or, not_true_eq_false, not_false_eq_true, ne_eq, b2_s, if_neg hz, if_neg hk0, if_pos (show (k : Int) ≤ g by omega), hdv, if_neg hf9, if_neg hm0]
                  exact e9)
    rw [h1, h2]
  · rw [if_neg hc]
    simp (disch := omega) only [J_add, J_sub, J_mul, J_neg, J_lit, J_lt, J_le, J_eq, Option.bind_some, Int.reduceAdd, Int.reduceSub, Int.reduceMul, Int.reduceNeg, Int.reduceEq, Int.reduceLT, Int.reduceLE, reduceIte, Int.zero_add, Int.add_zero, and_self, true_and, and_true, false_and, and_false, or_true, true_or, or_false, false_or, not_true_eq_false, not_false_eq_true, ne_eq, b2_s]
    rw [lgo_r]
    unfold fre
    rw [if_neg (by omega), if_neg (by omega), if_neg (by omega), if_neg (by omega), if_neg (by omega)]
end T1
