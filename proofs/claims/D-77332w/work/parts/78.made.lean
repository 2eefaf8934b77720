/-! PLAIN LAW: a heap, made; a thing's copy. NAMES: m_s m_n nh9 tc9 cput_self cput_comm kc_ -/
set_option maxRecDepth 100000
section M0
variable {σ : mm_M} {a b : Nat} {e : mm_E}
theorem m_ss : (sE σ a e).1 a = some e := by unfold sE; dsimp only; rw [if_pos rfl]
theorem m_sn (h : b ≠ a) : (sE σ a e).1 b = σ.1 b := by unfold sE; dsimp only; rw [if_neg h]
theorem m_ne (h : b = σ.2.1) : (nE σ e).1 b = some e := by unfold nE; dsimp only; rw [if_pos h]
theorem m_nn (h : b ≠ σ.2.1) : (nE σ e).1 b = σ.1 b := by unfold nE; dsimp only; rw [if_neg h]
theorem m_s2 : (sE σ a e).2 = σ.2 := rfl
theorem m_n2 : (nE σ e).2.1 = σ.2.1 + 1 := rfl
theorem m_n3 : (nE σ e).2.2 = σ.2.2 := rfl
end M0
theorem cput_self {D : Nat → Int × Int} {c : Int → Int → mm_E} {μ : mm_M} (h : ∀ b, (D b).1 ≠ -1 → μ.1 b = some (c (D b).1 (D b).2)) : μ = cput D c μ := by
  unfold cput
  refine Prod.ext ?_ rfl
  funext b
  dsimp only
  by_cases hb : (D b).1 = -1
  · rw [if_pos hb]
  · rw [if_neg hb, h b hb]
theorem cput_comm {D D' : Nat → Int × Int} {c c' : Int → Int → mm_E} {σ : mm_M} (h : ∀ b, (D b).1 = -1 ∨ (D' b).1 = -1) : cput D' c' (cput D c σ) = cput D c (cput D' c' σ) := by
  unfold cput
  refine Prod.ext ?_ rfl
  funext b
  dsimp only
  rcases h b with q | q
  · rw [if_pos q, if_pos q]
  · rw [if_pos q, if_pos q]
/-- a heap, made at h0 with its list and rows behind the end -/
def nh9 (M : mm_M) (h0 : Nat) (w d : Int) (ro we : Int → Int) : mm_M := (fun b => if b = M.2.1 + 4 then some (.inr (.inl (0, 200, rw_ (fun _ => 0)))) else if b = M.2.1 + 3 then some (.inr (.inl (0, 4, rw_ we))) else if b = M.2.1 + 2 then some (.inr (.inl (0, 6, rw_ ro))) else if b = M.2.1 + 1 then some (.inr (.inr (3, 200, fun _ => none))) else if b = M.2.1 then some (.inl (15, [vI 0, vR (some M.2.2.1), vI (J 0)])) else if b = h0 then some (.inl (1, [vI (J w), vI (J d), vR (some M.2.1), vR (some (M.2.1 + 1)), vR (some (M.2.1 + 2)), vR (some (M.2.1 + 3)), vI (J 0), vI (J 0), vI (J 0), vR none, vR (some (M.2.1 + 4))])) else M.1 b, M.2.1 + 5, M.2.2)
theorem kc_hinit {M : mm_M} {h0 : Nat} {w d : Int} (h1 : M.1 h0 = some (.inl (1, df_1))) (h2 : h0 < M.2.1) : f_X1_init h0 (J w) (J d) M = some (nh9 M h0 w d (fun j => if 0 ≤ j ∧ j < 6 then -1 else 0) (fun j => if 0 ≤ j ∧ j < 4 then -1 else 0)) := by
  have e0 : g_X1_init_0 h0 (J w) (J d) M = some (.inl (.inl (J 0, nh9 M h0 0 0 (fun _ => 0) (fun _ => 0)))) := by
    unfold g_X1_init_0 f_J2_init f_J1_init f_J0_init
    have l0 : (0 : Int32) = J 0 := J_lit 0
    rw [show (200 : Int32) = J 200 from J_lit 200, show (6 : Int32) = J 6 from J_lit 6, show (4 : Int32) = J 4 from J_lit 4]
    simp only [nO, b2_s, Option.bind_some]
    simp (disch := first | omega | (simp only [m_s2, m_n2]; omega)) only [pF, m_ss, m_sn, m_ne, m_nn, m_s2, m_n2, m_n3, h1, nQ_at, nA_at, b2_s, Option.bind_some, List.length, List.set, and_self, if_true, Nat.reduceAdd, Nat.reduceLT, true_and, reduceIte]
    refine congrArg (fun z => some (Sum.inl (Sum.inl (J 0, z)))) ?_
    unfold nh9 sE nE
    refine Prod.ext ?_ rfl
    funext b
    dsimp only
    by_cases c0 : b = h0
    · subst c0
      rw [if_pos rfl, if_neg (by omega), if_neg (by omega), if_neg (by omega), if_neg (by omega), if_neg (by omega), if_pos rfl]
      rfl
    · simp only [if_neg c0]
      by_cases c4 : b = M.2.1 + 4
      · rw [if_pos (by omega), if_pos c4]
        rfl
      · rw [if_neg (by omega), if_neg c4]
        by_cases c3 : b = M.2.1 + 3
        · rw [if_pos (by omega), if_pos c3]
          rfl
        · rw [if_neg (by omega), if_neg c3]
          by_cases c2 : b = M.2.1 + 2
          · rw [if_pos (by omega), if_pos c2]
            rfl
          · rw [if_neg (by omega), if_neg c2]
            by_cases c1 : b = M.2.1 + 1
            · rw [if_pos (by omega), if_pos c1]
              rfl
            · rw [if_neg (by omega), if_neg c1]
              by_cases c5 : b = M.2.1
              · rw [if_pos c5, if_pos c5]
                rfl
              · simp only [if_neg c5]
  have hq4 : ∀ (w d : Int) (ro we : Int → Int), gA (nh9 M h0 w d ro we) h0 1 4 = some (M.2.1 + 2) := fun w d ro we => gA_at (by
    unfold nh9
    dsimp only
    rw [if_neg (by omega), if_neg (by omega), if_neg (by omega), if_neg (by omega), if_neg (by omega), if_pos rfl]) rfl
  have hq5 : ∀ (w d : Int) (ro we : Int → Int), gA (nh9 M h0 w d ro we) h0 1 5 = some (M.2.1 + 3) := fun w d ro we => gA_at (by
    unfold nh9
    dsimp only
    rw [if_neg (by omega), if_neg (by omega), if_neg (by omega), if_neg (by omega), if_neg (by omega), if_pos rfl]) rfl
  have hs2 : ∀ (w d : Int) (ro we : Int → Int) (z v : Int), 0 ≤ z → z < 6 → sI (nh9 M h0 w d ro we) (M.2.1 + 2) 0 (J z) (J v) = some (nh9 M h0 w d (up ro z v) we) := fun w d ro we z v z1 z2 => by
    rw [sI_rw (n := 6) (f := ro) (by
      unfold nh9
      dsimp only
      rw [if_neg (by omega), if_neg (by omega), if_pos rfl]) v z1 z2 (by omega)]
    refine congrArg some ?_
    unfold nh9 sE
    refine Prod.ext ?_ rfl
    funext b
    dsimp only
    by_cases c2 : b = M.2.1 + 2
    · rw [if_pos c2, if_neg (by omega), if_neg (by omega), if_pos c2]
    · rw [if_neg c2, if_neg c2, if_neg c2]
  have hs3 : ∀ (w d : Int) (ro we : Int → Int) (z v : Int), 0 ≤ z → z < 4 → sI (nh9 M h0 w d ro we) (M.2.1 + 3) 0 (J z) (J v) = some (nh9 M h0 w d ro (up we z v)) := fun w d ro we z v z1 z2 => by
    rw [sI_rw (n := 4) (f := we) (by
      unfold nh9
      dsimp only
      rw [if_neg (by omega), if_pos rfl]) v z1 z2 (by omega)]
    refine congrArg some ?_
    unfold nh9 sE
    refine Prod.ext ?_ rfl
    funext b
    dsimp only
    by_cases c2 : b = M.2.1 + 3
    · rw [if_pos c2, if_neg (by omega), if_pos c2]
    · rw [if_neg c2, if_neg c2, if_neg c2]
  have hp0 : ∀ (w d v : Int) (ro we : Int → Int), pF (nh9 M h0 w d ro we) h0 1 0 (vI (J v)) = some (nh9 M h0 v d ro we) := fun w d v ro we => by
    rw [pF_at (fs := [vI (J w), vI (J d), vR (some M.2.1), vR (some (M.2.1 + 1)), vR (some (M.2.1 + 2)), vR (some (M.2.1 + 3)), vI (J 0), vI (J 0), vI (J 0), vR none, vR (some (M.2.1 + 4))]) (by
      unfold nh9
      dsimp only
      rw [if_neg (by omega), if_neg (by omega), if_neg (by omega), if_neg (by omega), if_neg (by omega), if_pos rfl]) (by simp)]
    refine congrArg some ?_
    unfold nh9 sE
    refine Prod.ext ?_ rfl
    funext b
    dsimp only
    by_cases c2 : b = h0
    · rw [if_pos c2, if_neg (by omega), if_neg (by omega), if_neg (by omega), if_neg (by omega), if_neg (by omega), if_pos c2]
      rfl
    · rw [if_neg c2, if_neg c2, if_neg c2]
  have hp1 : ∀ (w d v : Int) (ro we : Int → Int), pF (nh9 M h0 w d ro we) h0 1 1 (vI (J v)) = some (nh9 M h0 w v ro we) := fun w d v ro we => by
    rw [pF_at (fs := [vI (J w), vI (J d), vR (some M.2.1), vR (some (M.2.1 + 1)), vR (some (M.2.1 + 2)), vR (some (M.2.1 + 3)), vI (J 0), vI (J 0), vI (J 0), vR none, vR (some (M.2.1 + 4))]) (by
      unfold nh9
      dsimp only
      rw [if_neg (by omega), if_neg (by omega), if_neg (by omega), if_neg (by omega), if_neg (by omega), if_pos rfl]) (by simp)]
    refine congrArg some ?_
    unfold nh9 sE
    refine Prod.ext ?_ rfl
    funext b
    dsimp only
    by_cases c2 : b = h0
    · rw [if_pos c2, if_neg (by omega), if_neg (by omega), if_neg (by omega), if_neg (by omega), if_neg (by omega), if_pos c2]
      rfl
    · rw [if_neg c2, if_neg c2, if_neg c2]
  unfold f_X1_init
  rw [e0, lgo_l]
  have hz : ∀ n : Int, (fun j : Int => if 0 ≤ j ∧ j < ((0 : Nat) : Int) then (-1 : Int) else 0) = fun _ => 0 := fun n => by
    funext j
    rw [if_neg (by omega)]
  have hup : ∀ k : Nat, up (fun j : Int => if 0 ≤ j ∧ j < (k : Int) then (-1 : Int) else 0) k (-1) = fun j : Int => if 0 ≤ j ∧ j < ((k + 1 : Nat) : Int) then (-1 : Int) else 0 := fun k => by
    funext j
    unfold up
    grind
  rw [lpx_steps2 (f := s_X1_init h0 (J w) (J d)) (fun k => .inl (J k, nh9 M h0 0 0 (fun j : Int => if 0 ≤ j ∧ j < (k : Int) then (-1 : Int) else 0) (fun _ => 0))) 6 (by
    simp only [hz 0]
    rfl) (by
    intro k hk
    rw [← hup k]
    unfold s_X1_init g_X1_init_51
    dsimp only
    simp (disch := omega) only [J_add, J_sub, J_mul, J_neg, J_lit, J_lt, J_le, J_eq, Option.bind_some, Int.reduceAdd, Int.reduceSub, Int.reduceMul, Int.reduceNeg, Int.reduceEq, Int.reduceLT, Int.reduceLE, reduceIte, Int.zero_add, Int.add_zero, and_self, true_and, and_true, false_and, and_false, or_true, true_or, or_false, false_or, not_true_eq_false, not_false_eq_true, ne_eq, b2_s, if_neg (show ¬ (6 : Int) ≤ (k : Int) by omega), hq4, hs2]
    rfl)]
  rw [lpx_n (s' := .inr (J 0, nh9 M h0 0 0 (fun j : Int => if 0 ≤ j ∧ j < ((6 : Nat) : Int) then (-1 : Int) else 0) (fun _ => 0))) (by
    unfold s_X1_init g_X1_init_51
    dsimp only
    simp (disch := omega) only [J_add, J_sub, J_mul, J_neg, J_lit, J_lt, J_le, J_eq, Option.bind_some, Int.reduceAdd, Int.reduceSub, Int.reduceMul, Int.reduceNeg, Int.reduceEq, Int.reduceLT, Int.reduceLE, reduceIte, Int.zero_add, Int.add_zero, and_self, true_and, and_true, false_and, and_false, or_true, true_or, or_false, false_or, not_true_eq_false, not_false_eq_true, ne_eq, b2_s, if_pos (show (6 : Int) ≤ ((6 : Nat) : Int) by omega)])]
  rw [lpx_steps2 (f := s_X1_init h0 (J w) (J d)) (fun k => .inr (J k, nh9 M h0 0 0 (fun j : Int => if 0 ≤ j ∧ j < ((6 : Nat) : Int) then (-1 : Int) else 0) (fun j : Int => if 0 ≤ j ∧ j < (k : Int) then (-1 : Int) else 0))) 4 (by
    simp only [hz 0]
    rfl) (by
    intro k hk
    rw [← hup k]
    unfold s_X1_init g_X1_init_72
    dsimp only
    simp (disch := omega) only [J_add, J_sub, J_mul, J_neg, J_lit, J_lt, J_le, J_eq, Option.bind_some, Int.reduceAdd, Int.reduceSub, Int.reduceMul, Int.reduceNeg, Int.reduceEq, Int.reduceLT, Int.reduceLE, reduceIte, Int.zero_add, Int.add_zero, and_self, true_and, and_true, false_and, and_false, or_true, true_or, or_false, false_or, not_true_eq_false, not_false_eq_true, ne_eq, b2_s, if_neg (show ¬ (4 : Int) ≤ (k : Int) by omega), hq5, hs3]
    rfl)]
  refine lpx_d ?_
  unfold s_X1_init g_X1_init_72
  dsimp only
  simp (disch := omega) only [J_add, J_sub, J_mul, J_neg, J_lit, J_lt, J_le, J_eq, Option.bind_some, Int.reduceAdd, Int.reduceSub, Int.reduceMul, Int.reduceNeg, Int.reduceEq, Int.reduceLT, Int.reduceLE, reduceIte, Int.zero_add, Int.add_zero, and_self, true_and, and_true, false_and, and_false, or_true, true_or, or_false, false_or, not_true_eq_false, not_false_eq_true, ne_eq, b2_s, if_pos (show (4 : Int) ≤ ((4 : Nat) : Int) by omega), hp0, hp1]
  rfl
/-- a thing's copy, made behind the end -/
def tc9 (M : mm_M) (x nf nd : Int) (fr dr : Int → Int) (pn ag : Int) : mm_M := (fun b => if b = M.2.1 + 2 then some (.inr (.inl (0, nd.toNat, rw_ dr))) else if b = M.2.1 + 1 then some (.inr (.inl (0, nf.toNat, rw_ fr))) else if b = M.2.1 then some (.inl (3, [vI (J x), vR (some (M.2.1 + 1)), vR (some (M.2.1 + 2)), vI (J pn), vI (J ag), vI (J 0)])) else M.1 b, M.2.1 + 3, M.2.2)
theorem va_rw {f g : Int → Int} {n : Int} (h : 0 ≤ n) : va_cpy (rw_ f) (rw_ g) 0 0 n.toNat = rw_ (fun j => if j < n then f j else g j) := by
  funext k
  unfold va_cpy rw_
  dsimp only
  by_cases hk : (k : Int) < n
  · rw [if_pos (by omega), if_pos hk]
    congr 2
    omega
  · rw [if_neg (by omega), if_neg hk]
theorem cI_rw {σ : mm_M} {a0 a n0 n1 : Nat} {f g : Int → Int} {n : Int} (h0 : σ.1 a0 = some (.inr (.inl (0, n0, rw_ f)))) (h1 : σ.1 a = some (.inr (.inl (0, n1, rw_ g)))) (l1 : 0 ≤ n) (s2 : n ≤ n0) (d2 : n ≤ n1) (b0 : n < 2147483648) : cI σ a0 (J 0) a (J 0) (J n) = some (sE σ a (.inr (.inl (0, n1, rw_ (fun j => if j < n then f j else g j))))) := by
  unfold cI
  rw [h0, h1]
  dsimp only
  rw [J_toInt (by omega) (by omega), J_toInt (by omega) (by omega), J_clamp (by omega) (by omega), J_clamp l1 (by omega)]
  rw [if_pos ⟨rfl, rfl, by omega, by omega, l1, by omega, by omega⟩]
  rw [show (0 : Int).toNat = 0 from rfl, va_rw l1]
theorem kc_copy {M : mm_M} {h0 f0 d0 : Nat} {x nf nd pn ag mk : Int} {fr dr : Int → Int} (h1 : M.1 h0 = some (.inl (3, [vI (J x), vR (some f0), vR (some d0), vI (J pn), vI (J ag), vI (J mk)]))) (h2 : M.1 f0 = some (.inr (.inl (0, nf.toNat, rw_ fr)))) (h3 : M.1 d0 = some (.inr (.inl (0, nd.toNat, rw_ dr)))) (l0 : h0 < M.2.1) (l1 : f0 < M.2.1) (l2 : d0 < M.2.1) (n1 : 0 ≤ nf) (n2 : nf ≤ 6) (n3 : 0 ≤ nd) (n4 : nd ≤ 6) (hp : pn = 0 ∨ pn = 1) : f_X3_copy h0 M = some (M.2.1, tc9 M x nf nd (fun j => if j < nf then fr j else if 0 ≤ j ∧ j < nf then -1 else 0) (fun j => if j < nd then dr j else 0) pn ag) := by
  unfold f_X3_copy nO
  rw [b2_s]
  generalize hM1 : nE M (.inl (3, df_3)) = M1
  have k1 : M1.1 h0 = some (.inl (3, [vI (J x), vR (some f0), vR (some d0), vI (J pn), vI (J ag), vI (J mk)])) := by rw [← hM1, m_nn (by omega)]; exact h1
  have k2 : M1.1 f0 = some (.inr (.inl (0, nf.toNat, rw_ fr))) := by rw [← hM1, m_nn (by omega)]; exact h2
  have k3 : M1.1 d0 = some (.inr (.inl (0, nd.toNat, rw_ dr))) := by rw [← hM1, m_nn (by omega)]; exact h3
  have k4 : M1.1 M.2.1 = some (.inl (3, df_3)) := by rw [← hM1]; exact m_ne rfl
  have k5 : M1.2.1 = M.2.1 + 1 := by rw [← hM1]; rfl
  have k6 : M1.2.2 = M.2.2 := by rw [← hM1]; rfl
  have k7 : ∀ b, b ≠ M.2.1 → M1.1 b = M.1 b := fun b hb => by rw [← hM1]; exact m_nn hb
  rw [gI_at k1 rfl, Option.bind_some, gA_at k1 rfl, Option.bind_some, aN_i0 k2 (by decide), Option.bind_some, gA_at k1 rfl, Option.bind_some, aN_i0 k3 (by decide), Option.bind_some]
  rw [show ((nf.toNat : Nat) : Int) = nf by omega, show ((nd.toNat : Nat) : Int) = nd by omega, kc_thinit k4 (by omega) n1 n2 n3 n4, Option.bind_some]
  generalize hM2 : th9 M1 M.2.1 x nf nd (fun j => if 0 ≤ j ∧ j < nf then -1 else 0) = M2
  have t1 : ∀ b, b < M.2.1 → M2.1 b = M.1 b := fun b hb => by
    rw [← hM2]
    unfold th9
    dsimp only
    rw [if_neg (by omega), if_neg (by omega), if_neg (by omega), k7 b (by omega)]
  have t2 : M2.1 M.2.1 = some (.inl (3, [vI (J x), vR (some (M.2.1 + 1)), vR (some (M.2.1 + 2)), vI (J 0), vI (J 0), vI (J 0)])) := by
    rw [← hM2]
    unfold th9
    dsimp only
    rw [if_neg (by omega), if_neg (by omega), if_pos rfl, k5]
  have t3 : M2.1 (M.2.1 + 1) = some (.inr (.inl (0, nf.toNat, rw_ (fun j => if 0 ≤ j ∧ j < nf then -1 else 0)))) := by
    rw [← hM2]
    unfold th9
    dsimp only
    rw [if_neg (by omega), if_pos (by omega)]
  have t4 : M2.1 (M.2.1 + 2) = some (.inr (.inl (0, nd.toNat, rw_ (fun _ => 0)))) := by
    rw [← hM2]
    unfold th9
    dsimp only
    rw [if_pos (by omega)]
  have t5 : M2.2.1 = M.2.1 + 3 ∧ M2.2.2 = M.2.2 := by
    rw [← hM2]
    unfold th9
    dsimp only
    exact ⟨by omega, k6⟩
  have t6 : ∀ b, M.2.1 + 2 < b → M2.1 b = M.1 b := fun b hb => by
    rw [← hM2]
    unfold th9
    dsimp only
    rw [if_neg (by omega), if_neg (by omega), if_neg (by omega), k7 b (by omega)]
  have s1 := (t1 h0 l0).trans h1
  have s2 := (t1 f0 l1).trans h2
  have s3 := (t1 d0 l2).trans h3
  rw [gA_at s1 rfl, Option.bind_some, gA_at t2 rfl, Option.bind_some, Option.bind_some, aN_i0 s2 (by decide), Option.bind_some, show (0 : Int32) = J 0 from J_lit 0]
  rw [cI_rw s2 t3 (by omega) (by omega) (by omega) (by omega), Option.bind_some]
  rw [gA_at ((m_sn (by omega)).trans s1) rfl, Option.bind_some, gA_at ((m_sn (by omega)).trans t2) rfl, Option.bind_some, Option.bind_some, aN_i0 ((m_sn (by omega)).trans s3) (by decide), Option.bind_some]
  rw [cI_rw ((m_sn (by omega)).trans s3) ((m_sn (by omega)).trans t4) (by omega) (by omega) (by omega) (by omega), Option.bind_some]
  rw [gI_at ((m_sn (by omega)).trans ((m_sn (by omega)).trans s1)) rfl, Option.bind_some]
  unfold pZ
  have hpz : J pn = 0 ∨ J pn = 1 := by
    rcases hp with h | h
    · subst h; exact Or.inl rfl
    · subst h; exact Or.inr rfl
  rw [if_pos hpz, pF_at ((m_sn (by omega)).trans ((m_sn (by omega)).trans t2)) (by simp), Option.bind_some]
  rw [gI_at ((m_sn (by omega)).trans ((m_sn (by omega)).trans ((m_sn (by omega)).trans s1))) rfl, Option.bind_some]
  rw [pF_at m_ss (by simp), Option.bind_some]
  refine congrArg (fun z => some (M.2.1, z)) ?_
  unfold tc9 sE
  refine Prod.ext ?_ ?_
  · funext b
    dsimp only
    by_cases c0 : b = M.2.1
    · rw [if_pos c0, if_neg (by omega), if_neg (by omega), if_pos c0]
      rfl
    · rw [if_neg c0, if_neg c0]
      by_cases c2 : b = M.2.1 + 2
      · rw [if_pos c2, if_pos c2, show ((nd.toNat : Nat) : Int) = nd by omega]
      · rw [if_neg c2, if_neg c2]
        by_cases c1 : b = M.2.1 + 1
        · rw [if_pos c1, if_pos c1, show ((nf.toNat : Nat) : Int) = nf by omega]
        · rw [if_neg c1, if_neg c1, if_neg c0]
          by_cases hb : b < M.2.1
          · exact t1 b hb
          · exact t6 b (by omega)
  · exact Prod.ext t5.1 t5.2
