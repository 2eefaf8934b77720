/-! PLAIN LAW: a command on both sides. NAMES: TS kf_ j_does -/
set_option maxRecDepth 100000
/-- the twin laid over a memory -/
def TS (t : Nat) (m saved isS text : Int → Int) (tl rf_ : Int) (cmd : Int → Int) (cm : Int) (F : mm_M → mm_M) : Prop := ∃ (old far mk stk : Int → Int) (top hi ov at_ ft : Int) (hs : Int64), F = fun μ => (tput t m old saved isS text tl rf_ far mk stk top hi ov cmd cm at_ ft hs μ)
theorem b2_id {α : Type} {f : Option (α × mm_M)} : b2 f (fun v σ => some (v, σ)) = f := by
  cases f with
  | none => rfl
  | some p => rfl
section T1
variable {m : Int → Int} {txk : Int → Int} {tlk rfk : Int} {slk : Nat → Option Nat} {hsk : Int64} {σ0 : mm_M} {D0 : Nat → Int × Int} {x : Nat} {M : mm_M}
theorem OPK.ck (h : OPK D0 σ0 x txk tlk rfk slk hsk m M) : ck M x 0 = some () := by
  obtain ⟨hd, D, G, adk, nfk, ndk, pnk, agk, mkk, flk, dtk, hwk, dpk, alk, cok, fek, rpk, rok, wek, plk, mok, eak, lnk, cpk, elk, owk, skk, σ, rfl, hQ, he, rfl⟩ := h
  exact cw_k7 hQ.xu
end T1
section T3
variable {M : mm_M} {x y : Nat} {a b c : Int32}
theorem kf_9 (h : M.1 y = some (.inl (9, [vI a, vI b]))) (hk : ck M x 0 = some ()) : f_cmd y x M = f_X0_alloc x a b M := by
  unfold f_cmd
  rw [h]
  dsimp only
  simp only [Nat.reduceEqDiff, reduceIte]
  unfold f_X9_runOn
  rw [gI_at h rfl, Option.bind_some, gI_at h rfl, Option.bind_some, hk, Option.bind_some, b2_id]
theorem kf_10 (h : M.1 y = some (.inl (10, [vI a, vI b]))) (hk : ck M x 0 = some ()) : f_cmd y x M = f_X0_setRoot x a b M := by
  unfold f_cmd
  rw [h]
  dsimp only
  simp only [Nat.reduceEqDiff, reduceIte]
  unfold f_X10_runOn
  rw [gI_at h rfl, Option.bind_some, gI_at h rfl, Option.bind_some, hk, Option.bind_some, b2_id]
theorem kf_11 (h : M.1 y = some (.inl (11, [vI a, vI b]))) (hk : ck M x 0 = some ()) : f_cmd y x M = f_X0_setWeak x a b M := by
  unfold f_cmd
  rw [h]
  dsimp only
  simp only [Nat.reduceEqDiff, reduceIte]
  unfold f_X11_runOn
  rw [gI_at h rfl, Option.bind_some, gI_at h rfl, Option.bind_some, hk, Option.bind_some, b2_id]
theorem kf_12 (h : M.1 y = some (.inl (12, [vI a, vI b, vI c]))) (hk : ck M x 0 = some ()) : f_cmd y x M = f_X0_setField x a b c M := by
  unfold f_cmd
  rw [h]
  dsimp only
  simp only [Nat.reduceEqDiff, reduceIte]
  unfold f_X12_runOn
  rw [gI_at h rfl, Option.bind_some, gI_at h rfl, Option.bind_some, gI_at h rfl, Option.bind_some, hk, Option.bind_some, b2_id]
theorem kf_13 (h : M.1 y = some (.inl (13, [vI a, vI b]))) (hk : ck M x 0 = some ()) : f_cmd y x M = f_X0_pin x a b M := by
  unfold f_cmd
  rw [h]
  dsimp only
  simp only [Nat.reduceEqDiff, reduceIte]
  unfold f_X13_runOn
  rw [gI_at h rfl, Option.bind_some, gI_at h rfl, Option.bind_some, hk, Option.bind_some, b2_id]
theorem kf_14 (h : M.1 y = some (.inl (14, []))) (hk : ck M x 0 = some ()) : f_cmd y x M = f_X0_collect x M := by
  unfold f_cmd
  rw [h]
  dsimp only
  simp only [Nat.reduceEqDiff, reduceIte]
  unfold f_X14_runOn
  rw [hk, Option.bind_some, b2_id]
end T3
theorem collect_rng {m F : Int → Int} (hm : WF m) : RNG (sm m (m 1216).toNat - (slA m F).2.2.2.1) := by
  have hW := hm.hW
  have h1 := sm_le2 (f := m) (b := 13) (m 1216).toNat (fun k k1 k2 => hm.hs k k1 (by omega))
  have h2 := sm_le2 (f := fun a => if 0 < m a ∧ F a = 1 then m a else 0) (b := 13) (m 1216).toNat (fun k k1 k2 => by
    have := hm.hs k k1 (by omega)
    split <;> omega)
  rw [slA_w]
  exact Or.inr (by omega)
theorem pin_rng {m : Int → Int} (hm : WF m) {y p : Int} : RNG (pinR m y p) := by
  have hW := hm.hW
  unfold pinR
  by_cases c : ob m y = -1
  · rw [if_pos c]; exact Or.inl (Or.inl rfl)
  · rw [if_neg c]
    by_cases d : m (400 + ob m y) = p
    · rw [if_pos d]; exact Or.inl (Or.inr (Or.inl rfl))
    · rw [if_neg d]
      have h2 := sm_le2 (f := fun a => if 0 < m a ∧ up m (400 + ob m y) p (400 + a) = 1 then 1 else 0) (b := 1) (m 1216).toNat (fun k k1 k2 => by
        split <;> omega)
      exact Or.inr (by omega)
section T2
variable {t : Nat} {m old saved isS text far mk stk cmd : Int → Int} {tl rf_ top hi ov cm at_ ft : Int} {hs : Int64} {σ : mm_M}
theorem tm_pin9 (hm : WF m) {y p : Int} (hy : ir y) (hp : p = 0 ∨ p = 1) : f_X2_pin t (J y) (J p) (tput t m old saved isS text tl rf_ far mk stk top hi ov cmd cm at_ ft hs σ) = some (J (pinR m y p), (tput t (pinM m y p) old saved isS text tl rf_ far mk stk top hi ov cmd cm at_ ft hs σ)) := by
  rw [t_pin hm hy hp]
  unfold pinR pinM
  by_cases c : ob m y = -1
  · rw [if_pos c, if_pos c, if_pos c]
  · rw [if_neg c, if_neg c, if_neg c]
    by_cases d : m (400 + ob m y) = p
    · rw [if_pos d, if_pos d, if_pos d]
    · rw [if_neg d, if_neg d, if_neg d]
theorem tm_coll9 (hm : WF m) : f_X2_collect t (tput t m old saved isS text tl rf_ far mk stk top hi ov cmd cm at_ ft hs σ) = some (J (sm m (m 1216).toNat - (slA m (mkA m (m 1217) (-1) (fun b => if 0 ≤ b ∧ b < 200 then 0 else mk b, stk, 0, 0, 0)).2.1).2.2.2.1), (tput t (mC9 m (mkA m (m 1217) (-1) (fun b => if 0 ≤ b ∧ b < 200 then 0 else mk b, stk, 0, 0, 0)).2.1 (mkA m (m 1217) (-1) (fun b => if 0 ≤ b ∧ b < 200 then 0 else mk b, stk, 0, 0, 0)).1 (mkA m (m 1217) (-1) (fun b => if 0 ≤ b ∧ b < 200 then 0 else mk b, stk, 0, 0, 0)).2.2.2.2.1) (fun j => if 0 ≤ j ∧ j < 1222 then m j else old j) saved isS text tl rf_ far (((mkA m (m 1217) (-1) (fun b => if 0 ≤ b ∧ b < 200 then 0 else mk b, stk, 0, 0, 0)).2).1) (((mkA m (m 1217) (-1) (fun b => if 0 ≤ b ∧ b < 200 then 0 else mk b, stk, 0, 0, 0)).2).2.1) (((mkA m (m 1217) (-1) (fun b => if 0 ≤ b ∧ b < 200 then 0 else mk b, stk, 0, 0, 0)).2).2.2.1) (((mkA m (m 1217) (-1) (fun b => if 0 ≤ b ∧ b < 200 then 0 else mk b, stk, 0, 0, 0)).2).2.2.2.1) (((mkA m (m 1217) (-1) (fun b => if 0 ≤ b ∧ b < 200 then 0 else mk b, stk, 0, 0, 0)).2).2.2.2.2) cmd cm at_ ft hs σ)) := by
  obtain ⟨mk0, old', a1, a2, a3, a4⟩ := tm_collect (t := t) (m := m) (old := old) (saved := saved) (isS := isS) (text := text) (tl := tl) (rf_ := rf_) (far := far) (mk := mk) (stk := stk) (top := top) (hi := hi) (ov := ov) (cmd := cmd) (cm := cm) (at_ := at_) (ft := ft) (hs := hs) (σ := σ) hm
  have e1 : mk0 = fun b => if 0 ≤ b ∧ b < 200 then 0 else mk b := by
    funext b
    by_cases c : 0 ≤ b ∧ b < 200
    · rw [if_pos c]; exact a1 b c.1 c.2
    · rw [if_neg c]; exact a2 b c
  have e2 : old' = fun j => if 0 ≤ j ∧ j < 1222 then m j else old j := funext a3
  rw [e1, e2] at a4
  exact a4
end T2
set_option maxHeartbeats 1000000 in
theorem j_does {t : Nat} {m saved isS text : Int → Int} {tl rf_ : Int} {cmd : Int → Int} {cm : Int} {F : mm_M → mm_M} (hm : WF m) {c : Int × Int × Int × Int} (hc : CMB c) {k : Int} (hk : CMK cmd k c) (k0 : 0 ≤ k) (k1 : k < 40) (hT : TS t m saved isS text tl rf_ cmd cm F) : ∃ r m' F', (∀ μ, f_X2_does t (J k) (F μ) = some (J r, F' μ)) ∧ TS t m' saved isS text tl rf_ cmd cm F' ∧ WF m' ∧ RNG r ∧ ∀ (txk : Int → Int) (tlk : Int) (rfk : Int) (slk : Nat → Option Nat) (hsk : Int64) (D0 : Nat → Int × Int) (σ0 : mm_M) (x : Nat) (M : mm_M) (y : Nat), OPK D0 σ0 x txk tlk rfk slk hsk m M → M.1 y = some (cmO c) → ∃ M', f_cmd y x M = some (J r, M') ∧ OPK D0 σ0 x txk tlk rfk slk hsk m' M' := by
  obtain ⟨old, far, mk, stk, top, hi, ov, at_, ft, hs, rfl⟩ := hT
  obtain ⟨c1, c2, c3, c4⟩ := c
  obtain ⟨hl, b1, b2, b3, b4, b5, b6⟩ := hc
  obtain ⟨q1, q2, q3, q4⟩ := hk
  dsimp only at hl b1 b2 b3 b4 b5 b6 q1 q2 q3 q4
  have i2 : ir c2 := by unfold ir; omega
  have i3 : ir c3 := by unfold ir; omega
  have i4 : ir c4 := by unfold ir; omega
  have a1 : (4 : Int32) * J k + 1 = J (4 * k + 1) := by rw [show (4 : Int32) = J 4 from J_lit 4, show (1 : Int32) = J 1 from J_lit 1, J_mul, J_add]
  have a2 : (4 : Int32) * J k + 2 = J (4 * k + 2) := by rw [show (4 : Int32) = J 4 from J_lit 4, show (2 : Int32) = J 2 from J_lit 2, J_mul, J_add]
  have a3 : J (4 * k) + (3 : Int32) = J (4 * k + 3) := by rw [show (3 : Int32) = J 3 from J_lit 3, J_add]
  have a0 : (4 : Int32) * J k = J (4 * k) := by rw [show (4 : Int32) = J 4 from J_lit 4, J_mul]
  rcases hl with rfl | rfl | rfl | rfl | rfl | rfl | rfl
  · have w2 := q2 (by omega)
    have w3 := q3 (by omega) (by omega) (by omega)
    by_cases c : (0 ≤ c2 ∧ c2 ≤ 6) ∧ (0 ≤ c3 ∧ c3 ≤ 6)
    · obtain ⟨r, r1, -⟩ := (t_alloc (t := t) (m := m) (old := old) (saved := saved) (isS := isS) (text := text) (tl := tl) (rf_ := rf_) (far := far) (mk := mk) (stk := stk) (top := top) (hi := hi) (ov := ov) (cmd := cmd) (cm := cm) (at_ := at_) (ft := ft) (hs := hs) (σ := (fun _ => none, 0, 0, none, none)) hm i2 i3).2 c.1 c.2
      have hop : ∀ μ, f_X2_alloc t (J c2) (J c3) (tput t m old saved isS text tl rf_ far mk stk top hi ov cmd cm at_ ft hs μ) = some (J (if r = -1 then -1000004 else r), (tput t (if r = -1 then m else mL m r c2 c3) old saved isS text tl rf_ far mk stk top hi ov cmd cm at_ ft hs μ)) := fun μ => by
        obtain ⟨r', r2, e⟩ := (t_alloc (t := t) (m := m) (old := old) (saved := saved) (isS := isS) (text := text) (tl := tl) (rf_ := rf_) (far := far) (mk := mk) (stk := stk) (top := top) (hi := hi) (ov := ov) (cmd := cmd) (cm := cm) (at_ := at_) (ft := ft) (hs := hs) (σ := μ) hm i2 i3).2 c.1 c.2
        have := isFH_u r2 r1
        subst this
        rw [e]
        by_cases d : r' = -1
        · rw [if_pos d, if_pos d, if_pos d]
        · rw [if_neg d, if_neg d, if_neg d]
      refine ⟨if r = -1 then -1000004 else r, if r = -1 then m else mL m r c2 c3, fun μ => (tput t (if r = -1 then m else mL m r c2 c3) old saved isS text tl rf_ far mk stk top hi ov cmd cm at_ ft hs μ), fun μ => ?_, ⟨_, _, _, _, _, _, _, _, _, _, rfl⟩, ?_, ?_, ?_⟩
      · show f_X2_does t (J k) (tput t m old saved isS text tl rf_ far mk stk top hi ov cmd cm at_ ft hs μ) = _
        unfold f_X2_does
        rw [a1, a2, a0, tw_gcmd, Option.bind_some, tw_acmd (by omega) (by omega), Option.bind_some, Option.bind_some, tw_acmd (by omega) (by omega), Option.bind_some, Option.bind_some, tw_acmd (by omega) (by omega), Option.bind_some, q1, w2, w3]
        rw [if_neg (show ¬ J 110 = (102 : Int32) by decide)]
        rw [if_neg (show ¬ J 110 = (103 : Int32) by decide)]
        rw [if_neg (show ¬ J 110 = (104 : Int32) by decide)]
        rw [if_neg (show ¬ J 110 = (105 : Int32) by decide)]
        rw [if_neg (show ¬ J 110 = (106 : Int32) by decide)]
        rw [if_neg (show ¬ J 110 = (107 : Int32) by decide)]
        rw [if_neg (show ¬ J 110 = (108 : Int32) by decide)]
        rw [if_neg (show ¬ J 110 = (109 : Int32) by decide)]
        rw [if_pos (show J 110 = (110 : Int32) by decide)]
        rw [tw_ck, Option.bind_some, hop, b2_s]
      · by_cases d : r = -1
        · rw [if_pos d]; exact hm
        · rw [if_neg d]
          rcases r1 with ⟨z, -⟩ | ⟨z, -⟩
          · exact absurd z d
          · exact hm.lays z c.1.1 c.1.2 c.2.1 c.2.2
      · by_cases d : r = -1
        · rw [if_pos d]; exact Or.inl (Or.inr (Or.inr rfl))
        · rw [if_neg d]
          rcases r1 with ⟨z, -⟩ | ⟨⟨z1, z2, -⟩, -⟩
          · exact absurd z d
          · have := hm.hW
            exact Or.inr (by omega)
      · intro txk tlk rfk slk hsk D0 σ0 x M y hO hy
        rw [kf_9 hy hO.ck]
        exact (kx_alloc hm i2 i3 hO).2 c.1 c.2 r r1
    · refine ⟨-1000002, m, fun μ => (tput t m old saved isS text tl rf_ far mk stk top hi ov cmd cm at_ ft hs μ), fun μ => ?_, ⟨_, _, _, _, _, _, _, _, _, _, rfl⟩, hm, Or.inl (Or.inl rfl), ?_⟩
      · have hop := (t_alloc (t := t) (m := m) (old := old) (saved := saved) (isS := isS) (text := text) (tl := tl) (rf_ := rf_) (far := far) (mk := mk) (stk := stk) (top := top) (hi := hi) (ov := ov) (cmd := cmd) (cm := cm) (at_ := at_) (ft := ft) (hs := hs) (σ := μ) hm i2 i3).1 c
        show f_X2_does t (J k) (tput t m old saved isS text tl rf_ far mk stk top hi ov cmd cm at_ ft hs μ) = _
        unfold f_X2_does
        rw [a1, a2, a0, tw_gcmd, Option.bind_some, tw_acmd (by omega) (by omega), Option.bind_some, Option.bind_some, tw_acmd (by omega) (by omega), Option.bind_some, Option.bind_some, tw_acmd (by omega) (by omega), Option.bind_some, q1, w2, w3]
        rw [if_neg (show ¬ J 110 = (102 : Int32) by decide)]
        rw [if_neg (show ¬ J 110 = (103 : Int32) by decide)]
        rw [if_neg (show ¬ J 110 = (104 : Int32) by decide)]
        rw [if_neg (show ¬ J 110 = (105 : Int32) by decide)]
        rw [if_neg (show ¬ J 110 = (106 : Int32) by decide)]
        rw [if_neg (show ¬ J 110 = (107 : Int32) by decide)]
        rw [if_neg (show ¬ J 110 = (108 : Int32) by decide)]
        rw [if_neg (show ¬ J 110 = (109 : Int32) by decide)]
        rw [if_pos (show J 110 = (110 : Int32) by decide)]
        rw [tw_ck, Option.bind_some, hop, b2_s]
      · intro txk tlk rfk slk hsk D0 σ0 x M y hO hy
        rw [kf_9 hy hO.ck]
        exact (kx_alloc hm i2 i3 hO).1 c
  · have w2 := q2 (by omega)
    have w3 := q3 (by omega) (by omega) (by omega)
    by_cases c : (0 ≤ c2 ∧ c2 ≤ 5) ∧ (c3 = -1 ∨ ob m c3 ≠ -1)
    · refine ⟨m (1200 + c2), up m (1200 + c2) c3, fun μ => (tput t (up m (1200 + c2) c3) old saved isS text tl rf_ far mk stk top hi ov cmd cm at_ ft hs μ), fun μ => ?_, ⟨_, _, _, _, _, _, _, _, _, _, rfl⟩, hm.slot (by omega) (by omega) (rf_of c.2), ?_, ?_⟩
      · have hop := t_setRoot (t := t) (m := m) (old := old) (saved := saved) (isS := isS) (text := text) (tl := tl) (rf_ := rf_) (far := far) (mk := mk) (stk := stk) (top := top) (hi := hi) (ov := ov) (cmd := cmd) (cm := cm) (at_ := at_) (ft := ft) (hs := hs) (σ := μ) hm i2 i3
        rw [if_pos c] at hop
        show f_X2_does t (J k) (tput t m old saved isS text tl rf_ far mk stk top hi ov cmd cm at_ ft hs μ) = _
        unfold f_X2_does
        rw [a1, a2, a0, tw_gcmd, Option.bind_some, tw_acmd (by omega) (by omega), Option.bind_some, Option.bind_some, tw_acmd (by omega) (by omega), Option.bind_some, Option.bind_some, tw_acmd (by omega) (by omega), Option.bind_some, q1, w2, w3]
        rw [if_neg (show ¬ J 114 = (102 : Int32) by decide)]
        rw [if_neg (show ¬ J 114 = (103 : Int32) by decide)]
        rw [if_neg (show ¬ J 114 = (104 : Int32) by decide)]
        rw [if_neg (show ¬ J 114 = (105 : Int32) by decide)]
        rw [if_neg (show ¬ J 114 = (106 : Int32) by decide)]
        rw [if_neg (show ¬ J 114 = (107 : Int32) by decide)]
        rw [if_neg (show ¬ J 114 = (108 : Int32) by decide)]
        rw [if_neg (show ¬ J 114 = (109 : Int32) by decide)]
        rw [if_neg (show ¬ J 114 = (110 : Int32) by decide)]
        rw [if_neg (show ¬ J 114 = (111 : Int32) by decide)]
        rw [if_neg (show ¬ J 114 = (112 : Int32) by decide)]
        rw [if_neg (show ¬ J 114 = (113 : Int32) by decide)]
        rw [if_pos (show J 114 = (114 : Int32) by decide)]
        rw [tw_ck, Option.bind_some, hop, b2_s]
      · exact rf_rng hm (hm.hr c2 (by omega) (by omega))
      · intro txk tlk rfk slk hsk D0 σ0 x M y hO hy
        rw [kf_10 hy hO.ck]
        have e := kx_setRoot hm i2 i3 hO
        rw [if_pos c, if_pos c] at e
        exact e
    · refine ⟨-1000002, m, fun μ => (tput t m old saved isS text tl rf_ far mk stk top hi ov cmd cm at_ ft hs μ), fun μ => ?_, ⟨_, _, _, _, _, _, _, _, _, _, rfl⟩, hm, Or.inl (Or.inl rfl), ?_⟩
      · have hop := t_setRoot (t := t) (m := m) (old := old) (saved := saved) (isS := isS) (text := text) (tl := tl) (rf_ := rf_) (far := far) (mk := mk) (stk := stk) (top := top) (hi := hi) (ov := ov) (cmd := cmd) (cm := cm) (at_ := at_) (ft := ft) (hs := hs) (σ := μ) hm i2 i3
        rw [if_neg c] at hop
        show f_X2_does t (J k) (tput t m old saved isS text tl rf_ far mk stk top hi ov cmd cm at_ ft hs μ) = _
        unfold f_X2_does
        rw [a1, a2, a0, tw_gcmd, Option.bind_some, tw_acmd (by omega) (by omega), Option.bind_some, Option.bind_some, tw_acmd (by omega) (by omega), Option.bind_some, Option.bind_some, tw_acmd (by omega) (by omega), Option.bind_some, q1, w2, w3]
        rw [if_neg (show ¬ J 114 = (102 : Int32) by decide)]
        rw [if_neg (show ¬ J 114 = (103 : Int32) by decide)]
        rw [if_neg (show ¬ J 114 = (104 : Int32) by decide)]
        rw [if_neg (show ¬ J 114 = (105 : Int32) by decide)]
        rw [if_neg (show ¬ J 114 = (106 : Int32) by decide)]
        rw [if_neg (show ¬ J 114 = (107 : Int32) by decide)]
        rw [if_neg (show ¬ J 114 = (108 : Int32) by decide)]
        rw [if_neg (show ¬ J 114 = (109 : Int32) by decide)]
        rw [if_neg (show ¬ J 114 = (110 : Int32) by decide)]
        rw [if_neg (show ¬ J 114 = (111 : Int32) by decide)]
        rw [if_neg (show ¬ J 114 = (112 : Int32) by decide)]
        rw [if_neg (show ¬ J 114 = (113 : Int32) by decide)]
        rw [if_pos (show J 114 = (114 : Int32) by decide)]
        rw [tw_ck, Option.bind_some, hop, b2_s]
      · intro txk tlk rfk slk hsk D0 σ0 x M y hO hy
        rw [kf_10 hy hO.ck]
        have e := kx_setRoot hm i2 i3 hO
        rw [if_neg c, if_neg c] at e
        exact e
  · have w2 := q2 (by omega)
    have w3 := q3 (by omega) (by omega) (by omega)
    by_cases c : (0 ≤ c2 ∧ c2 ≤ 3) ∧ (c3 = -1 ∨ ob m c3 ≠ -1)
    · refine ⟨m (1206 + c2), up m (1206 + c2) c3, fun μ => (tput t (up m (1206 + c2) c3) old saved isS text tl rf_ far mk stk top hi ov cmd cm at_ ft hs μ), fun μ => ?_, ⟨_, _, _, _, _, _, _, _, _, _, rfl⟩, hm.slot (by omega) (by omega) (rf_of c.2), ?_, ?_⟩
      · have hop := t_setWeak (t := t) (m := m) (old := old) (saved := saved) (isS := isS) (text := text) (tl := tl) (rf_ := rf_) (far := far) (mk := mk) (stk := stk) (top := top) (hi := hi) (ov := ov) (cmd := cmd) (cm := cm) (at_ := at_) (ft := ft) (hs := hs) (σ := μ) hm i2 i3
        rw [if_pos c] at hop
        show f_X2_does t (J k) (tput t m old saved isS text tl rf_ far mk stk top hi ov cmd cm at_ ft hs μ) = _
        unfold f_X2_does
        rw [a1, a2, a0, tw_gcmd, Option.bind_some, tw_acmd (by omega) (by omega), Option.bind_some, Option.bind_some, tw_acmd (by omega) (by omega), Option.bind_some, Option.bind_some, tw_acmd (by omega) (by omega), Option.bind_some, q1, w2, w3]
        rw [if_neg (show ¬ J 119 = (102 : Int32) by decide)]
        rw [if_neg (show ¬ J 119 = (103 : Int32) by decide)]
        rw [if_neg (show ¬ J 119 = (104 : Int32) by decide)]
        rw [if_neg (show ¬ J 119 = (105 : Int32) by decide)]
        rw [if_neg (show ¬ J 119 = (106 : Int32) by decide)]
        rw [if_neg (show ¬ J 119 = (107 : Int32) by decide)]
        rw [if_neg (show ¬ J 119 = (108 : Int32) by decide)]
        rw [if_neg (show ¬ J 119 = (109 : Int32) by decide)]
        rw [if_neg (show ¬ J 119 = (110 : Int32) by decide)]
        rw [if_neg (show ¬ J 119 = (111 : Int32) by decide)]
        rw [if_neg (show ¬ J 119 = (112 : Int32) by decide)]
        rw [if_neg (show ¬ J 119 = (113 : Int32) by decide)]
        rw [if_neg (show ¬ J 119 = (114 : Int32) by decide)]
        rw [if_neg (show ¬ J 119 = (115 : Int32) by decide)]
        rw [if_neg (show ¬ J 119 = (116 : Int32) by decide)]
        rw [if_neg (show ¬ J 119 = (117 : Int32) by decide)]
        rw [if_neg (show ¬ J 119 = (118 : Int32) by decide)]
        rw [if_pos (show J 119 = (119 : Int32) by decide)]
        rw [tw_ck, Option.bind_some, hop, b2_s]
      · have hr9 := hm.hr (6 + c2) (by omega) (by omega)
        rw [show (1200 : Int) + (6 + c2) = 1206 + c2 by omega] at hr9
        exact rf_rng hm hr9
      · intro txk tlk rfk slk hsk D0 σ0 x M y hO hy
        rw [kf_11 hy hO.ck]
        have e := kx_setWeak hm i2 i3 hO
        rw [if_pos c, if_pos c] at e
        exact e
    · refine ⟨-1000002, m, fun μ => (tput t m old saved isS text tl rf_ far mk stk top hi ov cmd cm at_ ft hs μ), fun μ => ?_, ⟨_, _, _, _, _, _, _, _, _, _, rfl⟩, hm, Or.inl (Or.inl rfl), ?_⟩
      · have hop := t_setWeak (t := t) (m := m) (old := old) (saved := saved) (isS := isS) (text := text) (tl := tl) (rf_ := rf_) (far := far) (mk := mk) (stk := stk) (top := top) (hi := hi) (ov := ov) (cmd := cmd) (cm := cm) (at_ := at_) (ft := ft) (hs := hs) (σ := μ) hm i2 i3
        rw [if_neg c] at hop
        show f_X2_does t (J k) (tput t m old saved isS text tl rf_ far mk stk top hi ov cmd cm at_ ft hs μ) = _
        unfold f_X2_does
        rw [a1, a2, a0, tw_gcmd, Option.bind_some, tw_acmd (by omega) (by omega), Option.bind_some, Option.bind_some, tw_acmd (by omega) (by omega), Option.bind_some, Option.bind_some, tw_acmd (by omega) (by omega), Option.bind_some, q1, w2, w3]
        rw [if_neg (show ¬ J 119 = (102 : Int32) by decide)]
        rw [if_neg (show ¬ J 119 = (103 : Int32) by decide)]
        rw [if_neg (show ¬ J 119 = (104 : Int32) by decide)]
        rw [if_neg (show ¬ J 119 = (105 : Int32) by decide)]
        rw [if_neg (show ¬ J 119 = (106 : Int32) by decide)]
        rw [if_neg (show ¬ J 119 = (107 : Int32) by decide)]
        rw [if_neg (show ¬ J 119 = (108 : Int32) by decide)]
        rw [if_neg (show ¬ J 119 = (109 : Int32) by decide)]
        rw [if_neg (show ¬ J 119 = (110 : Int32) by decide)]
        rw [if_neg (show ¬ J 119 = (111 : Int32) by decide)]
        rw [if_neg (show ¬ J 119 = (112 : Int32) by decide)]
        rw [if_neg (show ¬ J 119 = (113 : Int32) by decide)]
        rw [if_neg (show ¬ J 119 = (114 : Int32) by decide)]
        rw [if_neg (show ¬ J 119 = (115 : Int32) by decide)]
        rw [if_neg (show ¬ J 119 = (116 : Int32) by decide)]
        rw [if_neg (show ¬ J 119 = (117 : Int32) by decide)]
        rw [if_neg (show ¬ J 119 = (118 : Int32) by decide)]
        rw [if_pos (show J 119 = (119 : Int32) by decide)]
        rw [tw_ck, Option.bind_some, hop, b2_s]
      · intro txk tlk rfk slk hsk D0 σ0 x M y hO hy
        rw [kf_11 hy hO.ck]
        have e := kx_setWeak hm i2 i3 hO
        rw [if_neg c, if_neg c] at e
        exact e
  · have w2 := q2 (by omega)
    have w3 := q3 (by omega) (by omega) (by omega)
    have w4 := q4 rfl
    by_cases c : ob m c2 ≠ -1 ∧ (0 ≤ c3 ∧ c3 ≤ m (200 + ob m c2) - 1) ∧ (c4 = -1 ∨ ob m c4 ≠ -1)
    · refine ⟨m (800 + ob m c2 + 1 + c3), up m (800 + ob m c2 + 1 + c3) c4, fun μ => (tput t (up m (800 + ob m c2 + 1 + c3) c4) old saved isS text tl rf_ far mk stk top hi ov cmd cm at_ ft hs μ), fun μ => ?_, ⟨_, _, _, _, _, _, _, _, _, _, rfl⟩, (by
        rcases ob_r (m := m) c2 with q | ⟨q1, q2, q3, q4, q5⟩
        · exact absurd q c.1
        exact hm.field q1 q2 q3 c.2.1.1 c.2.1.2 c.2.2), ?_, ?_⟩
      · have hop := t_setField (t := t) (m := m) (old := old) (saved := saved) (isS := isS) (text := text) (tl := tl) (rf_ := rf_) (far := far) (mk := mk) (stk := stk) (top := top) (hi := hi) (ov := ov) (cmd := cmd) (cm := cm) (at_ := at_) (ft := ft) (hs := hs) (σ := μ) hm i2 i3 i4
        rw [if_pos c] at hop
        show f_X2_does t (J k) (tput t m old saved isS text tl rf_ far mk stk top hi ov cmd cm at_ ft hs μ) = _
        unfold f_X2_does
        rw [a1, a2, a0, tw_gcmd, Option.bind_some, tw_acmd (by omega) (by omega), Option.bind_some, Option.bind_some, tw_acmd (by omega) (by omega), Option.bind_some, Option.bind_some, tw_acmd (by omega) (by omega), Option.bind_some, q1, w2, w3]
        rw [if_pos (show J 102 = (102 : Int32) by decide)]
        rw [Option.bind_some, a3, tw_acmd (by omega) (by omega), Option.bind_some, w4]
        rw [tw_ck, Option.bind_some, hop, b2_s]
      · rcases ob_r (m := m) c2 with q | ⟨z1, z2, z3, z4, z5⟩
        · exact absurd q c.1
        have hr9 := hm.hq (ob m c2) (c3 + 1) z1 z2 z3 (by omega) (by omega)
        rw [show (800 : Int) + ob m c2 + (c3 + 1) = 800 + ob m c2 + 1 + c3 by omega] at hr9
        exact rf_rng hm hr9
      · intro txk tlk rfk slk hsk D0 σ0 x M y hO hy
        rw [kf_12 hy hO.ck]
        have e := kx_setField hm i2 i3 i4 hO
        rw [if_pos c, if_pos c] at e
        exact e
    · refine ⟨-1000002, m, fun μ => (tput t m old saved isS text tl rf_ far mk stk top hi ov cmd cm at_ ft hs μ), fun μ => ?_, ⟨_, _, _, _, _, _, _, _, _, _, rfl⟩, hm, Or.inl (Or.inl rfl), ?_⟩
      · have hop := t_setField (t := t) (m := m) (old := old) (saved := saved) (isS := isS) (text := text) (tl := tl) (rf_ := rf_) (far := far) (mk := mk) (stk := stk) (top := top) (hi := hi) (ov := ov) (cmd := cmd) (cm := cm) (at_ := at_) (ft := ft) (hs := hs) (σ := μ) hm i2 i3 i4
        rw [if_neg c] at hop
        show f_X2_does t (J k) (tput t m old saved isS text tl rf_ far mk stk top hi ov cmd cm at_ ft hs μ) = _
        unfold f_X2_does
        rw [a1, a2, a0, tw_gcmd, Option.bind_some, tw_acmd (by omega) (by omega), Option.bind_some, Option.bind_some, tw_acmd (by omega) (by omega), Option.bind_some, Option.bind_some, tw_acmd (by omega) (by omega), Option.bind_some, q1, w2, w3]
        rw [if_pos (show J 102 = (102 : Int32) by decide)]
        rw [Option.bind_some, a3, tw_acmd (by omega) (by omega), Option.bind_some, w4]
        rw [tw_ck, Option.bind_some, hop, b2_s]
      · intro txk tlk rfk slk hsk D0 σ0 x M y hO hy
        rw [kf_12 hy hO.ck]
        have e := kx_setField hm i2 i3 i4 hO
        rw [if_neg c, if_neg c] at e
        exact e
  · have w2 := q2 (by omega)
    refine ⟨pinR m c2 1, pinM m c2 1, fun μ => (tput t (pinM m c2 1) old saved isS text tl rf_ far mk stk top hi ov cmd cm at_ ft hs μ), fun μ => ?_, ⟨_, _, _, _, _, _, _, _, _, _, rfl⟩, pin_wf hm (by omega), pin_rng hm, ?_⟩
    · have hop : f_X2_pin t (J c2) 1 (tput t m old saved isS text tl rf_ far mk stk top hi ov cmd cm at_ ft hs μ) = _ := tm_pin9 (t := t) (m := m) (old := old) (saved := saved) (isS := isS) (text := text) (tl := tl) (rf_ := rf_) (far := far) (mk := mk) (stk := stk) (top := top) (hi := hi) (ov := ov) (cmd := cmd) (cm := cm) (at_ := at_) (ft := ft) (hs := hs) (σ := μ) hm i2 (p := 1) (by omega)
      show f_X2_does t (J k) (tput t m old saved isS text tl rf_ far mk stk top hi ov cmd cm at_ ft hs μ) = _
      unfold f_X2_does
      rw [a1, a2, a0, tw_gcmd, Option.bind_some, tw_acmd (by omega) (by omega), Option.bind_some, Option.bind_some, tw_acmd (by omega) (by omega), Option.bind_some, Option.bind_some, tw_acmd (by omega) (by omega), Option.bind_some, q1, w2]
      rw [if_neg (show ¬ J 112 = (102 : Int32) by decide)]
      rw [if_neg (show ¬ J 112 = (103 : Int32) by decide)]
      rw [if_neg (show ¬ J 112 = (104 : Int32) by decide)]
      rw [if_neg (show ¬ J 112 = (105 : Int32) by decide)]
      rw [if_neg (show ¬ J 112 = (106 : Int32) by decide)]
      rw [if_neg (show ¬ J 112 = (107 : Int32) by decide)]
      rw [if_neg (show ¬ J 112 = (108 : Int32) by decide)]
      rw [if_neg (show ¬ J 112 = (109 : Int32) by decide)]
      rw [if_neg (show ¬ J 112 = (110 : Int32) by decide)]
      rw [if_neg (show ¬ J 112 = (111 : Int32) by decide)]
      rw [if_pos (show J 112 = (112 : Int32) by decide)]
      rw [tw_ck, Option.bind_some, hop, b2_s]
    · intro txk tlk rfk slk hsk D0 σ0 x M y hO hy
      rw [kf_13 hy hO.ck]
      exact kx_pin hm i2 (by omega) hO
  · have w2 := q2 (by omega)
    refine ⟨pinR m c2 0, pinM m c2 0, fun μ => (tput t (pinM m c2 0) old saved isS text tl rf_ far mk stk top hi ov cmd cm at_ ft hs μ), fun μ => ?_, ⟨_, _, _, _, _, _, _, _, _, _, rfl⟩, pin_wf hm (by omega), pin_rng hm, ?_⟩
    · have hop : f_X2_pin t (J c2) 0 (tput t m old saved isS text tl rf_ far mk stk top hi ov cmd cm at_ ft hs μ) = _ := tm_pin9 (t := t) (m := m) (old := old) (saved := saved) (isS := isS) (text := text) (tl := tl) (rf_ := rf_) (far := far) (mk := mk) (stk := stk) (top := top) (hi := hi) (ov := ov) (cmd := cmd) (cm := cm) (at_ := at_) (ft := ft) (hs := hs) (σ := μ) hm i2 (p := 0) (by omega)
      show f_X2_does t (J k) (tput t m old saved isS text tl rf_ far mk stk top hi ov cmd cm at_ ft hs μ) = _
      unfold f_X2_does
      rw [a1, a2, a0, tw_gcmd, Option.bind_some, tw_acmd (by omega) (by omega), Option.bind_some, Option.bind_some, tw_acmd (by omega) (by omega), Option.bind_some, Option.bind_some, tw_acmd (by omega) (by omega), Option.bind_some, q1, w2]
      rw [if_neg (show ¬ J 117 = (102 : Int32) by decide)]
      rw [if_neg (show ¬ J 117 = (103 : Int32) by decide)]
      rw [if_neg (show ¬ J 117 = (104 : Int32) by decide)]
      rw [if_neg (show ¬ J 117 = (105 : Int32) by decide)]
      rw [if_neg (show ¬ J 117 = (106 : Int32) by decide)]
      rw [if_neg (show ¬ J 117 = (107 : Int32) by decide)]
      rw [if_neg (show ¬ J 117 = (108 : Int32) by decide)]
      rw [if_neg (show ¬ J 117 = (109 : Int32) by decide)]
      rw [if_neg (show ¬ J 117 = (110 : Int32) by decide)]
      rw [if_neg (show ¬ J 117 = (111 : Int32) by decide)]
      rw [if_neg (show ¬ J 117 = (112 : Int32) by decide)]
      rw [if_neg (show ¬ J 117 = (113 : Int32) by decide)]
      rw [if_neg (show ¬ J 117 = (114 : Int32) by decide)]
      rw [if_neg (show ¬ J 117 = (115 : Int32) by decide)]
      rw [if_neg (show ¬ J 117 = (116 : Int32) by decide)]
      rw [if_pos (show J 117 = (117 : Int32) by decide)]
      rw [tw_ck, Option.bind_some, hop, b2_s]
    · intro txk tlk rfk slk hsk D0 σ0 x M y hO hy
      rw [kf_13 hy hO.ck]
      exact kx_pin hm i2 (by omega) hO
  · have hop := fun μ => tm_coll9 (t := t) (m := m) (old := old) (saved := saved) (isS := isS) (text := text) (tl := tl) (rf_ := rf_) (far := far) (mk := mk) (stk := stk) (top := top) (hi := hi) (ov := ov) (cmd := cmd) (cm := cm) (at_ := at_) (ft := ft) (hs := hs) (σ := μ) hm
    generalize hA9 : mkA m (m 1217) (-1) (fun b => if 0 ≤ b ∧ b < 200 then 0 else mk b, stk, 0, 0, 0) = A9 at hop
    refine ⟨sm m (m 1216).toNat - (slA m A9.2.1).2.2.2.1, mC9 m A9.2.1 A9.1 A9.2.2.2.2.1, fun μ => (tput t (mC9 m A9.2.1 A9.1 A9.2.2.2.2.1) (fun j => if 0 ≤ j ∧ j < 1222 then m j else old j) saved isS text tl rf_ far A9.2.1 A9.2.2.1 A9.2.2.2.1 A9.2.2.2.2.1 A9.2.2.2.2.2 cmd cm at_ ft hs μ), fun μ => ?_, ⟨_, _, _, _, _, _, _, _, _, _, rfl⟩, hm.coll, collect_rng hm, ?_⟩
    · show f_X2_does t (J k) (tput t m old saved isS text tl rf_ far mk stk top hi ov cmd cm at_ ft hs μ) = _
      unfold f_X2_does
      rw [a1, a2, a0, tw_gcmd, Option.bind_some, tw_acmd (by omega) (by omega), Option.bind_some, Option.bind_some, tw_acmd (by omega) (by omega), Option.bind_some, Option.bind_some, tw_acmd (by omega) (by omega), Option.bind_some, q1]
      rw [if_neg (show ¬ J 99 = (102 : Int32) by decide)]
      rw [if_neg (show ¬ J 99 = (103 : Int32) by decide)]
      rw [if_neg (show ¬ J 99 = (104 : Int32) by decide)]
      rw [if_neg (show ¬ J 99 = (105 : Int32) by decide)]
      rw [if_neg (show ¬ J 99 = (106 : Int32) by decide)]
      rw [if_neg (show ¬ J 99 = (107 : Int32) by decide)]
      rw [if_neg (show ¬ J 99 = (108 : Int32) by decide)]
      rw [if_neg (show ¬ J 99 = (109 : Int32) by decide)]
      rw [if_neg (show ¬ J 99 = (110 : Int32) by decide)]
      rw [if_neg (show ¬ J 99 = (111 : Int32) by decide)]
      rw [if_neg (show ¬ J 99 = (112 : Int32) by decide)]
      rw [if_neg (show ¬ J 99 = (113 : Int32) by decide)]
      rw [if_neg (show ¬ J 99 = (114 : Int32) by decide)]
      rw [if_neg (show ¬ J 99 = (115 : Int32) by decide)]
      rw [if_neg (show ¬ J 99 = (116 : Int32) by decide)]
      rw [if_neg (show ¬ J 99 = (117 : Int32) by decide)]
      rw [if_neg (show ¬ J 99 = (118 : Int32) by decide)]
      rw [if_neg (show ¬ J 99 = (119 : Int32) by decide)]
      rw [tw_ck, Option.bind_some, hop, b2_s]
    · intro txk tlk rfk slk hsk D0 σ0 x M y hO hy
      rw [kf_14 hy hO.ck, ← hA9]
      exact kx_collect hm (fun b b1 b2 => if_pos ⟨b1, b2⟩) hO
