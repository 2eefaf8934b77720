/-! PLAIN LAW: the twin's digest. NAMES: tm_mix8 tm_object8 tm_digest -/
set_option maxRecDepth 100000
section TD
variable {t : Nat} {m old saved isS text far mk stk cmd : Int → Int} {tl rf_ top hi ov cm at_ ft : Int} {hs : Int64} {σ : mm_M}
theorem tm_mix8 {z : Int} : f_X2_mixes t (J z) (tput t m old saved isS text tl rf_ far mk stk top hi ov cmd cm at_ ft hs σ) = some (tput t m old saved isS text tl rf_ far mk stk top hi ov cmd cm at_ ft (mx9 hs z) σ) := tm_mixes
theorem tm_object8 (hm : WF m) {a k : Int} (a1 : 0 ≤ a) (a2 : a < 200) (a3 : 0 < m a) (k1 : 0 ≤ k) (k2 : k ≤ 7) : ∃ far', f_X2_object t (J a) (J k) (tput t m old saved isS text tl rf_ far mk stk top hi ov cmd cm at_ ft hs σ) = some (J (ob8 m a k), (tput t m old saved isS text tl rf_ far' mk stk top hi ov cmd cm at_ ft hs σ)) := by
  have hx : ir a := by unfold ir; omega
  have hoa : ob m a = a := ob_e hm ⟨a1, a2, a3, by omega, by omega⟩
  obtain ⟨-, e1, e2⟩ := tm_object (t := t) (m := m) (old := old) (saved := saved) (isS := isS) (text := text) (tl := tl) (rf_ := rf_) (far := far) (mk := mk) (stk := stk) (top := top) (hi := hi) (ov := ov) (cmd := cmd) (cm := cm) (at_ := at_) (ft := ft) (hs := hs) (σ := σ) hm hx (y := k) (by unfold ir; omega)
  by_cases c : k = 7
  · obtain ⟨F, hF, e3⟩ := e2 (by omega) c
    rw [hoa, rch_F hF a1 a2] at e3
    refine ⟨F, ?_⟩
    unfold ob8
    rw [if_pos c]
    exact e3
  · have e3 := e1 (by omega) k1 (by omega)
    rw [hoa] at e3
    refine ⟨far, ?_⟩
    unfold ob8
    rw [if_neg c]
    exact e3
set_option maxHeartbeats 1000000 in
theorem tm_digest (hm : WF m) (htx : tx9 text tl) : ∃ far', f_X2_digest t (tput t m old saved isS text tl rf_ far mk stk top hi ov cmd cm at_ ft hs σ) = some (dig9 m text tl, (tput t m old saved isS text tl rf_ far' mk stk top hi ov cmd cm at_ ft (dig9 m text tl) σ)) := by
  obtain ⟨x1, x2, x3⟩ := htx
  have hW := hm.hW
  have u1 : (1 : Int32) = J 1 := J_lit 1
  have u8 : (8 : Int32) = J 8 := J_lit 8
  have u10 : (10 : Int32) = J 10 := J_lit 10
  have u5 : (5 : Int32) = J 5 := J_lit 5
  have u6 : (6 : Int32) = J 6 := J_lit 6
  have un : (-1 : Int32) = J (-1) := rfl
  unfold f_X2_digest g_X2_digest_0
  rw [tw_phs, Option.bind_some, lgo_l, show (0 : Int32) = J 0 from rfl]
  -- counts
  obtain ⟨s', e, rfl⟩ := lpx_itr (f := s_X2_digest t) (g := fun k h => mx9 h (cnt m tl k)) (fun k h s => s = .inl (J k, (tput t m old saved isS text tl rf_ far mk stk top hi ov cmd cm at_ ft h σ))) 8 (by
    rintro k h9 s hk rfl
    refine ⟨_, lpx_n (s' := .inl (J (k + 1 : Nat), (tput t m old saved isS text tl rf_ far mk stk top hi ov cmd cm at_ ft (mx9 h9 (cnt m tl k)) σ))) ?_, rfl⟩
    unfold s_X2_digest g_X2_digest_9
    dsimp only
    rw [u8, if_neg (by rw [J_le (by omega) (by omega) (by omega) (by omega)]; omega), tw_ck, Option.bind_some, t_count hm (by unfold ir; omega), Option.bind_some, Option.bind_some, tm_mix8, Option.bind_some, u1, J_add]
    rfl) 47 (.inl (J 0, (tput t m old saved isS text tl rf_ far mk stk top hi ov cmd cm at_ ft 47 σ))) rfl
  rw [e, lpx_n (s' := .inr (.inl (J 0, (tput t m old saved isS text tl rf_ far mk stk top hi ov cmd cm at_ ft (dg1 m tl) σ)))) (by
    unfold s_X2_digest g_X2_digest_9
    dsimp only
    rw [u8, if_pos (by rw [J_le (by omega) (by omega) (by omega) (by omega)]; omega)]
    rfl)]
  -- roots
  obtain ⟨s', e, rfl⟩ := lpx_itr (f := s_X2_digest t) (g := fun k h => mx9 h (m (1200 + k))) (fun k h s => s = .inr (.inl (J k, (tput t m old saved isS text tl rf_ far mk stk top hi ov cmd cm at_ ft h σ)))) 10 (by
    rintro k h9 s hk rfl
    refine ⟨_, lpx_n (s' := .inr (.inl (J (k + 1 : Nat), (tput t m old saved isS text tl rf_ far mk stk top hi ov cmd cm at_ ft (mx9 h9 (m (1200 + k))) σ)))) ?_, rfl⟩
    unfold s_X2_digest g_X2_digest_32
    dsimp only
    rw [u10, if_neg (by rw [J_le (by omega) (by omega) (by omega) (by omega)]; omega), tw_gm, Option.bind_some, show (1200 : Int32) = J 1200 from J_lit 1200, J_add, tw_am (by omega) (by omega), Option.bind_some, tw_ck, Option.bind_some, tm_mix8, Option.bind_some, u1, J_add]
    rfl) (dg1 m tl) (.inr (.inl (J 0, (tput t m old saved isS text tl rf_ far mk stk top hi ov cmd cm at_ ft (dg1 m tl) σ)))) rfl
  obtain ⟨r0, q0, q1⟩ := t_objectFrom (t := t) (m := m) (old := old) (saved := saved) (isS := isS) (text := text) (tl := tl) (rf_ := rf_) (far := far) (mk := mk) (stk := stk) (top := top) (hi := hi) (ov := ov) (cmd := cmd) (cm := cm) (at_ := at_) (ft := ft) (hs := itr (fun k h => mx9 h (m (1200 + k))) 10 (dg1 m tl)) (σ := σ) hm (a := 0) (by omega) (by omega)
  rw [e, lpx_n (s' := .inr (.inr (.inl (J r0, (tput t m old saved isS text tl rf_ far mk stk top hi ov cmd cm at_ ft (dg2 m tl) σ))))) (by
    unfold s_X2_digest g_X2_digest_32
    dsimp only
    have q0' : f_X2_objectFrom t (0 : Int32) (tput t m old saved isS text tl rf_ far mk stk top hi ov cmd cm at_ ft (itr (fun k h => mx9 h (m (1200 + k))) 10 (dg1 m tl)) σ) = some (J r0) := q0
    rw [u10, if_pos (by rw [J_le (by omega) (by omega) (by omega) (by omega)]; omega), tw_ck, Option.bind_some, q0', Option.bind_some]
    rfl)]
  -- objects
  obtain ⟨s', e, far1, r1, q2, rfl⟩ := lpx_itr (f := s_X2_digest t) (g := hO9 m) (fun n h s => ∃ far r, isNx m (n : Int) r ∧ s = .inr (.inr (.inl (J r, (tput t m old saved isS text tl rf_ far mk stk top hi ov cmd cm at_ ft h σ))))) (m 1216).toNat (by
    rintro n h9 s hn ⟨far, r, hr, rfl⟩
    by_cases c : 0 < m n
    · have hrn : r = n := by
        rcases hr with ⟨z1, z2⟩ | ⟨z1, z2, z3, z4⟩
        · have := z2 n (by omega) (by omega)
          omega
        · by_cases d : r = n
          · exact d
          · have := z4 n (by omega) (by omega)
            omega
      subst hrn
      have hs13 := hm.hs n (by omega) (by omega)
      have hE := hm.he n (by omega) (by omega) c
      have hg1 : lpx (s_X2_digest t) (.inr (.inr (.inl (J n, (tput t m old saved isS text tl rf_ far mk stk top hi ov cmd cm at_ ft h9 σ))))) = lpx (s_X2_digest t) (.inr (.inr (.inr (.inl (J n, J 0, (tput t m old saved isS text tl rf_ far mk stk top hi ov cmd cm at_ ft h9 σ)))))) := by
        refine lpx_n ?_
        unfold s_X2_digest g_X2_digest_64
        dsimp only
        rw [un, if_neg (by rw [J_eq (by omega) (by omega) (by omega) (by omega)]; omega)]
        rfl
      obtain ⟨s2, e2, far2, rfl⟩ := lpx_itr (f := s_X2_digest t) (g := fun k h => mx9 h (ob8 m n k)) (fun k h s => ∃ far, s = .inr (.inr (.inr (.inl (J n, J k, (tput t m old saved isS text tl rf_ far mk stk top hi ov cmd cm at_ ft h σ)))))) 8 (by
        rintro k h8 s hk ⟨far, rfl⟩
        obtain ⟨far3, e3⟩ := tm_object8 (t := t) (m := m) (old := old) (saved := saved) (isS := isS) (text := text) (tl := tl) (rf_ := rf_) (far := far) (mk := mk) (stk := stk) (top := top) (hi := hi) (ov := ov) (cmd := cmd) (cm := cm) (at_ := at_) (ft := ft) (hs := h8) (σ := σ) hm (a := n) (k := k) (by omega) (by omega) c (by omega) (by omega)
        refine ⟨_, lpx_n (s' := .inr (.inr (.inr (.inl (J n, J (k + 1 : Nat), (tput t m old saved isS text tl rf_ far3 mk stk top hi ov cmd cm at_ ft (mx9 h8 (ob8 m n k)) σ)))))) ?_, far3, rfl⟩
        unfold s_X2_digest g_X2_digest_71
        dsimp only
        rw [u8, if_neg (by rw [J_le (by omega) (by omega) (by omega) (by omega)]; omega), tw_ck, Option.bind_some, e3, b2_s, tw_ck, Option.bind_some, tm_mix8, Option.bind_some, u1, J_add]
        rfl) h9 (.inr (.inr (.inr (.inl (J n, J 0, (tput t m old saved isS text tl rf_ far mk stk top hi ov cmd cm at_ ft h9 σ)))))) ⟨far, rfl⟩
      have hg2 : ∀ h8, lpx (s_X2_digest t) (.inr (.inr (.inr (.inl (J n, J (8 : Nat), (tput t m old saved isS text tl rf_ far2 mk stk top hi ov cmd cm at_ ft h8 σ)))))) = lpx (s_X2_digest t) (.inr (.inr (.inr (.inr (.inl (J n, J 1, (tput t m old saved isS text tl rf_ far2 mk stk top hi ov cmd cm at_ ft h8 σ))))))) := fun h8 => by
        refine lpx_n ?_
        unfold s_X2_digest g_X2_digest_71
        dsimp only
        rw [u8, if_pos (by rw [J_le (by omega) (by omega) (by omega) (by omega)]; omega)]
        rfl
      obtain ⟨s3, e3, rfl⟩ := lpx_itr (f := s_X2_digest t) (g := fun k h => mx9 h (m (800 + n + 1 + k))) (fun k h s => s = .inr (.inr (.inr (.inr (.inl (J n, J (k + 1 : Nat), (tput t m old saved isS text tl rf_ far2 mk stk top hi ov cmd cm at_ ft h σ))))))) (m n - 1).toNat (by
        rintro k h8 s hk rfl
        refine ⟨_, lpx_n (s' := .inr (.inr (.inr (.inr (.inl (J n, J (k + 1 + 1 : Nat), (tput t m old saved isS text tl rf_ far2 mk stk top hi ov cmd cm at_ ft (mx9 h8 (m (800 + n + 1 + k))) σ))))))) ?_, rfl⟩
        unfold s_X2_digest g_X2_digest_95
        dsimp only
        rw [tw_gm, Option.bind_some, show (0 : Int32) + J (n : Int) = J (0 + n) by rw [show (0 : Int32) = J 0 from rfl, J_add], tw_am (by omega) (by omega), Option.bind_some, Int.zero_add, if_neg (by rw [J_le (by omega) (by omega) (by omega) (by omega)]; omega), Option.bind_some, show (800 : Int32) = J 800 from J_lit 800, J_add, J_add, tw_am (by omega) (by omega), Option.bind_some, tw_ck, Option.bind_some, show (800 : Int) + n + ((k + 1 : Nat) : Int) = 800 + n + 1 + k by omega, tm_mix8, Option.bind_some, u1, J_add]
        rfl) (itr (fun k h => mx9 h (ob8 m n k)) 8 h9) (.inr (.inr (.inr (.inr (.inl (J n, J (0 + 1 : Nat), (tput t m old saved isS text tl rf_ far2 mk stk top hi ov cmd cm at_ ft (itr (fun k h => mx9 h (ob8 m n k)) 8 h9) σ))))))) rfl
      have hh : itr (fun k h => mx9 h (m (800 + n + 1 + k))) (m n - 1).toNat (itr (fun k h => mx9 h (ob8 m n k)) 8 h9) = hO9 m n h9 := by
        unfold hO9
        rw [if_pos c]
      rw [hh] at e3
      obtain ⟨r', p0, p1⟩ := t_objectFrom (t := t) (m := m) (old := old) (saved := saved) (isS := isS) (text := text) (tl := tl) (rf_ := rf_) (far := far2) (mk := mk) (stk := stk) (top := top) (hi := hi) (ov := ov) (cmd := cmd) (cm := cm) (at_ := at_) (ft := ft) (hs := hO9 m n h9) (σ := σ) hm (a := (n : Int) + 1) (by omega) (by omega)
      have hg3 : lpx (s_X2_digest t) (.inr (.inr (.inr (.inr (.inl (J n, J ((m n - 1).toNat + 1 : Nat), (tput t m old saved isS text tl rf_ far2 mk stk top hi ov cmd cm at_ ft (hO9 m n h9) σ))))))) = lpx (s_X2_digest t) (.inr (.inr (.inl (J r', (tput t m old saved isS text tl rf_ far2 mk stk top hi ov cmd cm at_ ft (hO9 m n h9) σ))))) := by
        refine lpx_n ?_
        unfold s_X2_digest g_X2_digest_95
        dsimp only
        rw [tw_gm, Option.bind_some, show (0 : Int32) + J (n : Int) = J (0 + n) by rw [show (0 : Int32) = J 0 from rfl, J_add], tw_am (by omega) (by omega), Option.bind_some, Int.zero_add, if_pos (by rw [J_le (by omega) (by omega) (by omega) (by omega)]; omega), tw_ck, Option.bind_some, u1, J_add, p0, Option.bind_some]
      refine ⟨_, hg1.trans (e2.trans ((hg2 _).trans (e3.trans hg3))), far2, r', ?_, rfl⟩
      rw [show ((n + 1 : Nat) : Int) = (n : Int) + 1 by omega]
      exact p1
    · refine ⟨_, rfl, far, r, ?_, by unfold hO9; rw [if_neg c]⟩
      rw [show ((n + 1 : Nat) : Int) = (n : Int) + 1 by omega]
      rcases hr with ⟨z1, z2⟩ | ⟨z1, z2, z3, z4⟩
      · exact Or.inl ⟨z1, fun b b1 b2 => z2 b (by omega) b2⟩
      · have hne : r ≠ n := fun q => c (by rw [← q]; exact z3)
        exact Or.inr ⟨by omega, z2, z3, fun b b1 b2 => z4 b (by omega) b2⟩) (dg2 m tl) (.inr (.inr (.inl (J r0, (tput t m old saved isS text tl rf_ far mk stk top hi ov cmd cm at_ ft (dg2 m tl) σ))))) ⟨far, r0, q1, rfl⟩
  have hr1 : r1 = -1 := by
    rcases q2 with ⟨z1, -⟩ | ⟨z1, z2, -⟩
    · exact z1
    · omega
  subst hr1
  refine ⟨far1, ?_⟩
  rw [e, lpx_n (s' := .inr (.inr (.inr (.inr (.inr (.inl (J 0, (tput t m old saved isS text tl rf_ far1 mk stk top hi ov cmd cm at_ ft (dg3 m tl) σ)))))))) (by
    unfold s_X2_digest g_X2_digest_64
    dsimp only
    rw [if_pos (show J (-1) = (-1 : Int32) from rfl)]
    rfl)]
  -- free
  obtain ⟨s', e, rfl⟩ := lpx_itr (f := s_X2_digest t) (g := fun k h => mx9 h (fre m k)) (fun k h s => s = .inr (.inr (.inr (.inr (.inr (.inl (J k, (tput t m old saved isS text tl rf_ far1 mk stk top hi ov cmd cm at_ ft h σ)))))))) 5 (by
    rintro k h9 s hk rfl
    refine ⟨_, lpx_n (s' := .inr (.inr (.inr (.inr (.inr (.inl (J (k + 1 : Nat), (tput t m old saved isS text tl rf_ far1 mk stk top hi ov cmd cm at_ ft (mx9 h9 (fre m k)) σ)))))))) ?_, rfl⟩
    unfold s_X2_digest g_X2_digest_142
    dsimp only
    rw [u5, if_neg (by rw [J_le (by omega) (by omega) (by omega) (by omega)]; omega), tw_ck, Option.bind_some, tm_free hm (by unfold ir; omega), Option.bind_some, Option.bind_some, tm_mix8, Option.bind_some, u1, J_add]
    rfl) (dg3 m tl) (.inr (.inr (.inr (.inr (.inr (.inl (J 0, (tput t m old saved isS text tl rf_ far1 mk stk top hi ov cmd cm at_ ft (dg3 m tl) σ)))))))) rfl
  rw [e, lpx_n (s' := .inr (.inr (.inr (.inr (.inr (.inr (.inl (J 0, (tput t m old saved isS text tl rf_ far1 mk stk top hi ov cmd cm at_ ft (dg4 m tl) σ))))))))) (by
    unfold s_X2_digest g_X2_digest_142
    dsimp only
    rw [u5, if_pos (by rw [J_le (by omega) (by omega) (by omega) (by omega)]; omega)]
    rfl)]
  -- report
  have hrep : lpx (s_X2_digest t) (.inr (.inr (.inr (.inr (.inr (.inr (.inl (J 0, (tput t m old saved isS text tl rf_ far1 mk stk top hi ov cmd cm at_ ft (dg4 m tl) σ))))))))) = lpx (s_X2_digest t) (.inr (.inr (.inr (.inr (.inr (.inr (.inr (J 0, (tput t m old saved isS text tl rf_ far1 mk stk top hi ov cmd cm at_ ft (dg5 m tl) σ))))))))) := by
    unfold dg5
    by_cases c : m 1221 = 1
    · rw [if_pos c]
      obtain ⟨s', e, rfl⟩ := lpx_itr (f := s_X2_digest t) (g := fun k h => mx9 h (m (1210 + k))) (fun k h s => s = .inr (.inr (.inr (.inr (.inr (.inr (.inl (J k, (tput t m old saved isS text tl rf_ far1 mk stk top hi ov cmd cm at_ ft h σ))))))))) 6 (by
        rintro k h9 s hk rfl
        refine ⟨_, lpx_n (s' := .inr (.inr (.inr (.inr (.inr (.inr (.inl (J (k + 1 : Nat), (tput t m old saved isS text tl rf_ far1 mk stk top hi ov cmd cm at_ ft (mx9 h9 (m (1210 + k))) σ))))))))) ?_, rfl⟩
        unfold s_X2_digest g_X2_digest_164
        dsimp only
        rw [u6, if_neg (by rw [J_le (by omega) (by omega) (by omega) (by omega)]; omega), tw_gm, Option.bind_some, show (1221 : Int32) = J 1221 from J_lit 1221, tw_am (by omega) (by omega), Option.bind_some, c, if_pos (show J 1 = (1 : Int32) from rfl), Option.bind_some, show (1210 : Int32) = J 1210 from J_lit 1210, J_add, tw_am (by omega) (by omega), Option.bind_some, tw_ck, Option.bind_some, tm_mix8, Option.bind_some, u1, J_add]
        rfl) (dg4 m tl) (.inr (.inr (.inr (.inr (.inr (.inr (.inl (J 0, (tput t m old saved isS text tl rf_ far1 mk stk top hi ov cmd cm at_ ft (dg4 m tl) σ))))))))) rfl
      rw [e]
      refine lpx_n ?_
      unfold s_X2_digest g_X2_digest_164
      dsimp only
      rw [u6, if_pos (by rw [J_le (by omega) (by omega) (by omega) (by omega)]; omega)]
      rfl
    · rw [if_neg c]
      have hh9 := hm.hh
      refine lpx_n ?_
      unfold s_X2_digest g_X2_digest_164
      dsimp only
      rw [u6, if_neg (by rw [J_le (by omega) (by omega) (by omega) (by omega)]; omega), tw_gm, Option.bind_some, show (1221 : Int32) = J 1221 from J_lit 1221, tw_am (by omega) (by omega), Option.bind_some, show (1 : Int32) = J 1 from J_lit 1, if_neg (by rw [J_eq (by omega) (by omega) (by omega) (by omega)]; omega)]
      rfl
  rw [hrep]
  -- text
  obtain ⟨s', e, rfl⟩ := lpx_itr (f := s_X2_digest t) (g := fun k h => mx9 h (text k)) (fun k h s => s = .inr (.inr (.inr (.inr (.inr (.inr (.inr (J k, (tput t m old saved isS text tl rf_ far1 mk stk top hi ov cmd cm at_ ft h σ))))))))) tl.toNat (by
    rintro k h9 s hk rfl
    refine ⟨_, lpx_n (s' := .inr (.inr (.inr (.inr (.inr (.inr (.inr (J (k + 1 : Nat), (tput t m old saved isS text tl rf_ far1 mk stk top hi ov cmd cm at_ ft (mx9 h9 (text k)) σ))))))))) ?_, rfl⟩
    unfold s_X2_digest g_X2_digest_204
    dsimp only
    rw [tw_gtl, Option.bind_some, if_neg (by rw [J_le (by omega) (by omega) (by omega) (by omega)]; omega), tw_gtext, Option.bind_some, tw_atext (by omega) (by omega), Option.bind_some, tw_ck, Option.bind_some, tm_mix8, Option.bind_some, u1, J_add]
    rfl) (dg5 m tl) (.inr (.inr (.inr (.inr (.inr (.inr (.inr (J 0, (tput t m old saved isS text tl rf_ far1 mk stk top hi ov cmd cm at_ ft (dg5 m tl) σ))))))))) rfl
  rw [e]
  refine lpx_d ?_
  unfold s_X2_digest g_X2_digest_204
  dsimp only
  rw [tw_gtl, Option.bind_some, if_pos (by rw [J_le (by omega) (by omega) (by omega) (by omega)]; omega), tw_ghs, Option.bind_some]
  rfl
end TD
