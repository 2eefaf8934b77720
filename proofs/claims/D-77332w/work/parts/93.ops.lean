/-! PLAIN LAW: the component's calls, closed. NAMES: OPK.tr OPK.out CG.wr kx_ RNG ERR -/
set_option maxRecDepth 100000
def ERR (r : Int) : Prop := r = -1000002 ∨ r = -1000003 ∨ r = -1000004
def RNG (r : Int) : Prop := ERR r ∨ (-1000001 ≤ r ∧ r ≤ 1000000)
theorem RNG.of {r : Int} (h1 : -1 ≤ r) (h2 : r ≤ 1000000) : RNG r := Or.inr ⟨by omega, h2⟩
theorem rf_rng {m : Int → Int} (hm : WF m) {r : Int} (h : rf m r) : RNG r := by
  rcases h with h | ⟨a, h⟩
  · exact Or.inr (by omega)
  · have hW := hm.hW
    obtain ⟨x1, x2, x3, x4, x5⟩ := h
    have := hm.he a x1 x2 x3
    exact Or.inr (by omega)
section T1
variable {m hd : Int → Int} {adk nfk ndk pnk agk mkk rok wek plk txk : Int → Int} {flk dtk : Int → Int → Int} {hwk dpk alk cok fek lnk tlk rfk : Int} {rpk : Option Nat} {mok : Int32} {eak cpk : Nat} {elk owk skk slk : Nat → Option Nat} {hsk : Int64} {D : Nat → Int × Int} {G : Int → Int → Nat} {σ σ0 : mm_M} {D0 : Nat → Int × Int} {x : Nat} {M : mm_M}
theorem OPK.tr (e : EX D0 σ0 D σ) (h : OPK D σ x txk tlk rfk slk hsk m M) : OPK D0 σ0 x txk tlk rfk slk hsk m M := by
  obtain ⟨hd, D1, G1, adk, nfk, ndk, pnk, agk, mkk, flk, dtk, hwk, dpk, alk, cok, fek, rpk, rok, wek, plk, mok, eak, lnk, cpk, elk, owk, skk, σ1, a1, a2, a3, a4⟩ := h
  exact ⟨hd, D1, G1, adk, nfk, ndk, pnk, agk, mkk, flk, dtk, hwk, dpk, alk, cok, fek, rpk, rok, wek, plk, mok, eak, lnk, cpk, elk, owk, skk, σ1, a1, a2, e.tr a3, a4⟩
/-- what lies outside stays -/
theorem OPK.out (h : OPK D0 σ0 x txk tlk rfk slk hsk m M) : σ0.2.1 ≤ M.2.1 ∧ M.2.2 = σ0.2.2 ∧ ∀ b, b < σ0.2.1 → (D0 b).1 = -1 → M.1 b = σ0.1 b := by
  obtain ⟨hd, D1, G1, adk, nfk, ndk, pnk, agk, mkk, flk, dtk, hwk, dpk, alk, cok, fek, rpk, rok, wek, plk, mok, eak, lnk, cpk, elk, owk, skk, σ1, a1, a2, ⟨e1, e2, e3, e4, e5⟩, a4⟩ := h
  rw [a1]
  exact ⟨e1, e2, fun b b1 b2 => by rw [cput_o (e3 b b1 b2).1]; exact (e3 b b1 b2).2⟩
theorem OPK.of {mm : Int → Int} {hd : Int → Int} (e : EX D0 σ0 D σ) (hx : G 3 7 = x) (h : (CG mm hd D G adk nfk ndk pnk agk mkk flk dtk hwk dpk alk cok fek rpk rok wek plk mok eak lnk cpk elk owk skk txk tlk rfk slk hsk σ)) : OPK D0 σ0 x txk tlk rfk slk hsk mm (cput D (cel G adk nfk ndk pnk agk mkk flk dtk hwk dpk alk cok fek rpk rok wek plk mok eak lnk cpk elk owk skk txk tlk rfk slk hsk) σ) := ⟨hd, D, G, adk, nfk, ndk, pnk, agk, mkk, flk, dtk, hwk, dpk, alk, cok, fek, rpk, rok, wek, plk, mok, eak, lnk, cpk, elk, owk, skk, σ, rfl, h, e, hx⟩
theorem CG.wr {m' pnk' rok' wek' : Int → Int} {flk' dtk' : Int → Int → Int} (h : (CG m hd D G adk nfk ndk pnk agk mkk flk dtk hwk dpk alk cok fek rpk rok wek plk mok eak lnk cpk elk owk skk txk tlk rfk slk hsk σ)) (hk : (KM m' hd D G adk nfk ndk pnk' agk mkk flk' dtk' hwk dpk alk cok fek rpk rok' wek' plk mok eak lnk cpk elk owk skk txk tlk rfk slk hsk)) (h0 : ∀ a, 0 ≤ a → a < 200 → m' a = m a) (h1 : ∀ k, 1210 ≤ k → k ≤ 1215 → m' k = m k) (h2 : m' 1221 = m 1221) : (CG m' hd D G adk nfk ndk pnk' agk mkk flk' dtk' hwk dpk alk cok fek rpk rok' wek' plk mok eak lnk cpk elk owk skk txk tlk rfk slk hsk σ) := by
  obtain ⟨⟨a1, a2, a3⟩, ⟨b1, b2, b3, b4⟩, c, d⟩ := h
  refine ⟨⟨a1, a2, hk⟩, ⟨b1, b2, b3, b4⟩, fun b k a q1 q2 q3 => ?_, d.cg (EX.rfl' b1) h1 h2⟩
  obtain ⟨z1, z2, z3⟩ := c b k a q1 q2 q3
  exact ⟨z1, z2, by rw [h0 a z1 z2]; exact z3⟩
theorem up_lo {m : Int → Int} {j v a : Int} (h : a ≠ j) : up m j v a = m a := by
  unfold up
  rw [if_neg h]
end T1
section T2
variable {m : Int → Int} {txk : Int → Int} {tlk rfk : Int} {slk : Nat → Option Nat} {hsk : Int64} {σ0 : mm_M} {D0 : Nat → Int × Int} {x : Nat} {M : mm_M}
theorem kx_setField (hm : WF m) {y f z : Int} (hy : ir y) (hf : ir f) (hz : ir z) (h : OPK D0 σ0 x txk tlk rfk slk hsk m M) : ∃ M', f_X0_setField x (J y) (J f) (J z) M = some (J (if ob m y ≠ -1 ∧ (0 ≤ f ∧ f ≤ m (200 + ob m y) - 1) ∧ (z = -1 ∨ ob m z ≠ -1) then m (800 + ob m y + 1 + f) else -1000002), M') ∧ OPK D0 σ0 x txk tlk rfk slk hsk (if ob m y ≠ -1 ∧ (0 ≤ f ∧ f ≤ m (200 + ob m y) - 1) ∧ (z = -1 ∨ ob m z ≠ -1) then up m (800 + ob m y + 1 + f) z else m) M' := by
  obtain ⟨hd, D, G, adk, nfk, ndk, pnk, agk, mkk, flk, dtk, hwk, dpk, alk, cok, fek, rpk, rok, wek, plk, mok, eak, lnk, cpk, elk, owk, skk, σ, rfl, hQ, he, rfl⟩ := h
  rw [kc_setField hQ.hu hQ.xu hm hQ.km hy hf hz]
  by_cases c : ob m y ≠ -1 ∧ (0 ≤ f ∧ f ≤ m (200 + ob m y) - 1) ∧ (z = -1 ∨ ob m z ≠ -1)
  · rw [if_pos c, if_pos c, if_pos c]
    rcases ob_r (m := m) y with q | ⟨q1, q2, q3, q4, q5⟩
    · exact absurd q c.1
    have hW := hm.hW
    have hE := hm.he _ q1 q2 q3
    have hF := hm.hf _ q1 q2 q3
    exact ⟨_, rfl, OPK.of he rfl (hQ.wr (hQ.km.field hm q1 q2 q3 c.2.1.1 c.2.1.2) (fun a a1 a2 => up_lo (by omega)) (fun k k1 k2 => up_lo (by omega)) (up_lo (by omega)))⟩
  · rw [if_neg c, if_neg c, if_neg c]
    exact ⟨_, rfl, OPK.of he rfl hQ⟩
theorem kx_setData (hm : WF m) {y f z : Int} (hy : ir y) (hf : ir f) (hz : ir z) (h : OPK D0 σ0 x txk tlk rfk slk hsk m M) : ∃ M', f_X0_setData x (J y) (J f) (J z) M = some (J (if ob m y ≠ -1 ∧ (0 ≤ f ∧ f ≤ m (ob m y) - 1 - m (200 + ob m y) - 1) ∧ (-1000000 ≤ z ∧ z ≤ 1000000) then m (800 + ob m y + 1 + m (200 + ob m y) + f) else -1000002), M') ∧ OPK D0 σ0 x txk tlk rfk slk hsk (if ob m y ≠ -1 ∧ (0 ≤ f ∧ f ≤ m (ob m y) - 1 - m (200 + ob m y) - 1) ∧ (-1000000 ≤ z ∧ z ≤ 1000000) then up m (800 + ob m y + 1 + m (200 + ob m y) + f) z else m) M' := by
  obtain ⟨hd, D, G, adk, nfk, ndk, pnk, agk, mkk, flk, dtk, hwk, dpk, alk, cok, fek, rpk, rok, wek, plk, mok, eak, lnk, cpk, elk, owk, skk, σ, rfl, hQ, he, rfl⟩ := h
  rw [kc_setData hQ.hu hQ.xu hm hQ.km hy hf hz]
  by_cases c : ob m y ≠ -1 ∧ (0 ≤ f ∧ f ≤ m (ob m y) - 1 - m (200 + ob m y) - 1) ∧ (-1000000 ≤ z ∧ z ≤ 1000000)
  · rw [if_pos c, if_pos c, if_pos c]
    rcases ob_r (m := m) y with q | ⟨q1, q2, q3, q4, q5⟩
    · exact absurd q c.1
    have hW := hm.hW
    have hE := hm.he _ q1 q2 q3
    have hF := hm.hf _ q1 q2 q3
    exact ⟨_, rfl, OPK.of he rfl (hQ.wr (hQ.km.data hm q1 q2 q3 c.2.1.1 c.2.1.2) (fun a a1 a2 => up_lo (by omega)) (fun k k1 k2 => up_lo (by omega)) (up_lo (by omega)))⟩
  · rw [if_neg c, if_neg c, if_neg c]
    exact ⟨_, rfl, OPK.of he rfl hQ⟩
theorem kx_setRoot (hm : WF m) {k z : Int} (hk : ir k) (hz : ir z) (h : OPK D0 σ0 x txk tlk rfk slk hsk m M) : ∃ M', f_X0_setRoot x (J k) (J z) M = some (J (if (0 ≤ k ∧ k ≤ 5) ∧ (z = -1 ∨ ob m z ≠ -1) then m (1200 + k) else -1000002), M') ∧ OPK D0 σ0 x txk tlk rfk slk hsk (if (0 ≤ k ∧ k ≤ 5) ∧ (z = -1 ∨ ob m z ≠ -1) then up m (1200 + k) z else m) M' := by
  obtain ⟨hd, D, G, adk, nfk, ndk, pnk, agk, mkk, flk, dtk, hwk, dpk, alk, cok, fek, rpk, rok, wek, plk, mok, eak, lnk, cpk, elk, owk, skk, σ, rfl, hQ, he, rfl⟩ := h
  rw [kc_setRoot hQ.hu hQ.xu hm hQ.km hk hz]
  by_cases c : (0 ≤ k ∧ k ≤ 5) ∧ (z = -1 ∨ ob m z ≠ -1)
  · rw [if_pos c, if_pos c, if_pos c]
    exact ⟨_, rfl, OPK.of he rfl (hQ.wr (hQ.km.root hm c.1.1 c.1.2) (fun a a1 a2 => up_lo (by omega)) (fun k k1 k2 => up_lo (by omega)) (up_lo (by omega)))⟩
  · rw [if_neg c, if_neg c, if_neg c]
    exact ⟨_, rfl, OPK.of he rfl hQ⟩
theorem kx_setWeak (hm : WF m) {k z : Int} (hk : ir k) (hz : ir z) (h : OPK D0 σ0 x txk tlk rfk slk hsk m M) : ∃ M', f_X0_setWeak x (J k) (J z) M = some (J (if (0 ≤ k ∧ k ≤ 3) ∧ (z = -1 ∨ ob m z ≠ -1) then m (1206 + k) else -1000002), M') ∧ OPK D0 σ0 x txk tlk rfk slk hsk (if (0 ≤ k ∧ k ≤ 3) ∧ (z = -1 ∨ ob m z ≠ -1) then up m (1206 + k) z else m) M' := by
  obtain ⟨hd, D, G, adk, nfk, ndk, pnk, agk, mkk, flk, dtk, hwk, dpk, alk, cok, fek, rpk, rok, wek, plk, mok, eak, lnk, cpk, elk, owk, skk, σ, rfl, hQ, he, rfl⟩ := h
  rw [kc_setWeak hQ.hu hQ.xu hm hQ.km hk hz]
  by_cases c : (0 ≤ k ∧ k ≤ 3) ∧ (z = -1 ∨ ob m z ≠ -1)
  · rw [if_pos c, if_pos c, if_pos c]
    exact ⟨_, rfl, OPK.of he rfl (hQ.wr (hQ.km.weak hm c.1.1 c.1.2) (fun a a1 a2 => up_lo (by omega)) (fun k k1 k2 => up_lo (by omega)) (up_lo (by omega)))⟩
  · rw [if_neg c, if_neg c, if_neg c]
    exact ⟨_, rfl, OPK.of he rfl hQ⟩
noncomputable def pinR (m : Int → Int) (y p : Int) : Int := if ob m y = -1 then -1000002 else if m (400 + ob m y) = p then -1000003 else sm (fun a => if 0 < m a ∧ up m (400 + ob m y) p (400 + a) = 1 then 1 else 0) (m 1216).toNat
noncomputable def pinM (m : Int → Int) (y p : Int) : Int → Int := if ob m y = -1 then m else if m (400 + ob m y) = p then m else up m (400 + ob m y) p
theorem kx_pin (hm : WF m) {y p : Int} (hy : ir y) (hp : p = 0 ∨ p = 1) (h : OPK D0 σ0 x txk tlk rfk slk hsk m M) : ∃ M', f_X0_pin x (J y) (J p) M = some (J (pinR m y p), M') ∧ OPK D0 σ0 x txk tlk rfk slk hsk (pinM m y p) M' := by
  obtain ⟨hd, D, G, adk, nfk, ndk, pnk, agk, mkk, flk, dtk, hwk, dpk, alk, cok, fek, rpk, rok, wek, plk, mok, eak, lnk, cpk, elk, owk, skk, σ, rfl, hQ, he, rfl⟩ := h
  rw [kc_pin hQ.hu hQ.xu hm hQ.km hy hp]
  unfold pinR pinM
  by_cases c : ob m y = -1
  · rw [if_pos c, if_pos c, if_pos c]
    exact ⟨_, rfl, OPK.of he rfl hQ⟩
  · rw [if_neg c, if_neg c, if_neg c]
    by_cases d : m (400 + ob m y) = p
    · rw [if_pos d, if_pos d, if_pos d]
      exact ⟨_, rfl, OPK.of he rfl hQ⟩
    · rw [if_neg d, if_neg d, if_neg d]
      rcases ob_r (m := m) y with q | ⟨q1, q2, q3, q4, q5⟩
      · exact absurd q c
      exact ⟨_, rfl, OPK.of he rfl (hQ.wr (hQ.km.pin hm q1 q2 q3) (fun a a1 a2 => up_lo (by omega)) (fun k k1 k2 => up_lo (by omega)) (up_lo (by omega)))⟩
theorem pin_wf (hm : WF m) {y p : Int} (hp : p = 0 ∨ p = 1) : WF (pinM m y p) := by
  unfold pinM
  by_cases c : ob m y = -1
  · rw [if_pos c]; exact hm
  · rw [if_neg c]
    by_cases d : m (400 + ob m y) = p
    · rw [if_pos d]; exact hm
    · rw [if_neg d]
      rcases ob_r (m := m) y with q | ⟨q1, q2, q3, q4, q5⟩
      · exact absurd q c
      exact hm.pin q1 q2 hp
theorem kx_alloc (hm : WF m) {f d : Int} (hf : ir f) (hd0 : ir d) (h : OPK D0 σ0 x txk tlk rfk slk hsk m M) : (¬ ((0 ≤ f ∧ f ≤ 6) ∧ (0 ≤ d ∧ d ≤ 6)) → ∃ M', f_X0_alloc x (J f) (J d) M = some (J (-1000002), M') ∧ OPK D0 σ0 x txk tlk rfk slk hsk m M') ∧ ((0 ≤ f ∧ f ≤ 6) → (0 ≤ d ∧ d ≤ 6) → ∀ r, isFH m (1 + f + d) r → ∃ M', f_X0_alloc x (J f) (J d) M = some (J (if r = -1 then -1000004 else r), M') ∧ OPK D0 σ0 x txk tlk rfk slk hsk (if r = -1 then m else mL m r f d) M') := by
  obtain ⟨hd, D, G, adk, nfk, ndk, pnk, agk, mkk, flk, dtk, hwk, dpk, alk, cok, fek, rpk, rok, wek, plk, mok, eak, lnk, cpk, elk, owk, skk, σ, rfl, hQ, he, rfl⟩ := h
  obtain ⟨k1, k2⟩ := kc_alloc hm hQ hf hd0
  refine ⟨fun c => ⟨_, k1 c, OPK.of he rfl hQ⟩, fun c1 c2 r hr => ?_⟩
  obtain ⟨r', M', e1, e2, e3⟩ := k2 c1 c2
  have := isFH_u e1 hr
  subst this
  exact ⟨M', e2, e3.tr he⟩
theorem kx_collect (hm : WF m) {mk0 stk0 : Int → Int} (hmk0 : ∀ b, 0 ≤ b → b < 200 → mk0 b = 0) (h : OPK D0 σ0 x txk tlk rfk slk hsk m M) : ∃ M', f_X0_collect x M = some (J (sm m (m 1216).toNat - (slA m (mkA m (m 1217) (-1) (mk0, stk0, 0, 0, 0)).2.1).2.2.2.1), M') ∧ OPK D0 σ0 x txk tlk rfk slk hsk (mC9 m (mkA m (m 1217) (-1) (mk0, stk0, 0, 0, 0)).2.1 (mkA m (m 1217) (-1) (mk0, stk0, 0, 0, 0)).1 (mkA m (m 1217) (-1) (mk0, stk0, 0, 0, 0)).2.2.2.2.1) M' := by
  obtain ⟨hd, D, G, adk, nfk, ndk, pnk, agk, mkk, flk, dtk, hwk, dpk, alk, cok, fek, rpk, rok, wek, plk, mok, eak, lnk, cpk, elk, owk, skk, σ, rfl, hQ, he, rfl⟩ := h
  obtain ⟨M', e1, e2⟩ := kc_collect (stk0 := stk0) hm hQ hmk0
  exact ⟨M', e1, e2.tr he⟩
end T2
