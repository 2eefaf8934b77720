/-! PLAIN LAW: the component's fault. NAMES: kr_read kr_begin kc_fault -/
set_option maxRecDepth 100000
section T1
variable {m hd : Int → Int} {adk nfk ndk pnk agk mkk rok wek plk txk : Int → Int} {flk dtk : Int → Int → Int} {hwk dpk alk cok fek lnk tlk rfk : Int} {rpk : Option Nat} {mok : Int32} {eak cpk : Nat} {elk owk skk slk : Nat → Option Nat} {hsk : Int64} {D : Nat → Int × Int} {G : Int → Int → Nat} {σ : mm_M} {p l : Nat} {a : Int}
theorem kr_rounds (hu : XU D G) (h : tx9 txk tlk) (hb : DB D σ) (hce : CE D σ) : ∀ (n : Nat) (a : Int) (cs : List (Int × Int × Int × Int)) (μ : mm_M), 0 ≤ a → a ≤ tlk → tlk - a ≤ n → 2 * (cs.length : Int) ≤ a → RS (cput D (cel G adk nfk ndk pnk agk mkk flk dtk hwk dpk alk cok fek rpk rok wek plk mok eak lnk cpk elk owk skk txk tlk rfk slk hsk) σ) p l (G 3 7) a cs μ → (∀ e, rdP txk tlk n a cs = .inl e → ∃ q M', lpx (s_X7_read p) (8 * cs.length, 295 * cs.length, μ) = some (.inr q, M') ∧ FEND (cput D (cel G adk nfk ndk pnk agk mkk flk dtk hwk dpk alk cok fek rpk rok wek plk mok eak lnk cpk elk owk skk txk tlk rfk slk hsk) σ) e q M') ∧ (∀ r, rdP txk tlk n a cs = .inr r → ∃ a' μ', lpx (s_X7_read p) (8 * cs.length, 295 * cs.length, μ) = some (.inl l, μ') ∧ RS (cput D (cel G adk nfk ndk pnk agk mkk flk dtk hwk dpk alk cok fek rpk rok wek plk mok eak lnk cpk elk owk skk txk tlk rfk slk hsk) σ) p l (G 3 7) a' r μ') := by
  have h80 := h.2.1
  have hend : ∀ (a : Int) (cs : List (Int × Int × Int × Int)) (μ : mm_M), a ≤ tlk → tlk ≤ a → 0 ≤ a → 2 * (cs.length : Int) ≤ a → RS (cput D (cel G adk nfk ndk pnk agk mkk flk dtk hwk dpk alk cok fek rpk rok wek plk mok eak lnk cpk elk owk skk txk tlk rfk slk hsk) σ) p l (G 3 7) a cs μ → s_X7_read p (8 * cs.length, 295 * cs.length, μ) = some (.inr (.inl l, μ)) := by
    intro a cs μ q1 q2 q3 q4 hr
    obtain ⟨el, Z, z1, z2, ⟨z3, z4, z5, z6⟩, z7, z8⟩ := hr
    have hH := OLD9.hld hb z2
    have g0 : gI μ p 7 0 = some (J a) := gI_at z3 rfl
    have g1 : gA μ p 7 1 = some l := gA_at z3 rfl
    have g2 : gA μ p 7 2 = some (G 3 7) := gA_at z3 rfl
    have g3 : gI μ (G 3 7) 0 3 = some (J tlk) := by
      rw [hH.eq]
      exact cw_gtlk hu
    unfold s_X7_read g_X7_read_4
    dsimp only
    rw [grd_s (by omega), Option.bind_some, g0, Option.bind_some, g2, Option.bind_some, g3, Option.bind_some, if_pos (by
      rw [J_le (by omega) (by omega) (by omega) (by omega)]
      omega), g1, Option.bind_some]
  intro n
  induction n with
  | zero =>
    intro a cs μ h1 h2 h3 h4 hr
    unfold rdP
    refine ⟨fun e he => (by cases he), fun r he => ?_⟩
    cases he
    exact ⟨a, μ, lpx_d (hend a cs μ h2 (by omega) h1 h4 hr), hr⟩
  | succ n ih =>
    intro a cs μ h1 h2 h3 h4 hr
    unfold rdP
    by_cases c : a < tlk
    · rw [if_pos c]
      obtain ⟨k1, k2⟩ := kr_round (p := p) (l := l) (a := a) (adk := adk) (nfk := nfk) (ndk := ndk) (pnk := pnk) (agk := agk) (mkk := mkk) (flk := flk) (dtk := dtk) (hwk := hwk) (dpk := dpk) (alk := alk) (cok := cok) (fek := fek) (rpk := rpk) (rok := rok) (wek := wek) (plk := plk) (owk := owk) (skk := skk) (txk := txk) (tlk := tlk) (rfk := rfk) (slk := slk) (hsk := hsk) (mok := mok) (eak := eak) (lnk := lnk) (cpk := cpk) (elk := elk) hu h hb hce h1 c hr h4
      cases hc : cmP txk tlk a with
      | inl e =>
        obtain ⟨q, M', e1, e2⟩ := k1 e hc
        refine ⟨fun e' he => ?_, fun r he => (by cases he)⟩
        cases he
        exact ⟨q, M', lpx_d e1, e2⟩
      | inr v =>
        obtain ⟨μ', e1, e2⟩ := k2 v hc
        have hv := cmP_b hc
        have hi := ih v.2 (cs ++ [v.1]) μ' (by omega) hv.2.2 (by omega) (by
          rw [List.length_append, List.length_singleton]
          omega) e2
        rw [lpx_n e1]
        rw [List.length_append, List.length_singleton] at hi
        exact hi
    · rw [if_neg c]
      refine ⟨fun e he => (by cases he), fun r he => ?_⟩
      cases he
      exact ⟨a, μ, lpx_d (hend a cs μ h2 (by omega) h1 h4 hr), hr⟩
theorem kr_read (hu : XU D G) (h : tx9 txk tlk) (hb : DB D σ) (hce : CE D σ) {μ : mm_M} (hr : RS (cput D (cel G adk nfk ndk pnk agk mkk flk dtk hwk dpk alk cok fek rpk rok wek plk mok eak lnk cpk elk owk skk txk tlk rfk slk hsk) σ) p l (G 3 7) 0 [] μ) : (∀ e, rdP txk tlk 80 (bk9 txk tlk 0) [] = .inl e → ∃ q M', f_X7_read p μ = some (.inr q, M') ∧ FEND (cput D (cel G adk nfk ndk pnk agk mkk flk dtk hwk dpk alk cok fek rpk rok wek plk mok eak lnk cpk elk owk skk txk tlk rfk slk hsk) σ) e q M') ∧ (∀ r, rdP txk tlk 80 (bk9 txk tlk 0) [] = .inr r → ∃ a' μ', f_X7_read p μ = some (.inl l, μ') ∧ RS (cput D (cel G adk nfk ndk pnk agk mkk flk dtk hwk dpk alk cok fek rpk rok wek plk mok eak lnk cpk elk owk skk txk tlk rfk slk hsk) σ) p l (G 3 7) a' r μ') := by
  have h80 := h.2.1
  have hb0 := bk9_b (text := txk) (tl := tlk) (a := 0) h.1
  have hr0 := hr
  obtain ⟨el, Z, z1, z2, ⟨z3, z4, z5, z6⟩, z7, z8⟩ := hr0
  have z4' : σ.2.1 ≤ p := z4
  have hp : (D p).1 = -1 := by
    by_cases q : (D p).1 = -1
    · exact q
    · have := hb _ q; omega
  have hH := OLD9.hld hb z2
  have hS : (cput D (cel G adk nfk ndk pnk agk mkk flk dtk hwk dpk alk cok fek rpk rok wek plk mok eak lnk cpk elk owk skk txk tlk rfk slk hsk) (rdput p 0 l (G 3 7) μ)) = μ := by rw [rd_self z3]; exact hH.eq.symm
  have hbl := kr_blanks (σ := μ) (l := l) (a := 0) (p := p) (adk := adk) (nfk := nfk) (ndk := ndk) (pnk := pnk) (agk := agk) (mkk := mkk) (flk := flk) (dtk := dtk) (hwk := hwk) (dpk := dpk) (alk := alk) (cok := cok) (fek := fek) (rpk := rpk) (rok := rok) (wek := wek) (plk := plk) (owk := owk) (skk := skk) (txk := txk) (tlk := tlk) (rfk := rfk) (slk := slk) (hsk := hsk) (mok := mok) (eak := eak) (lnk := lnk) (cpk := cpk) (elk := elk) hu hp h (by omega) h.1
  rw [hS] at hbl
  have hnx2 : NXP p μ (rdput p (bk9 txk tlk 0) l (G 3 7) μ) := NXP.rd
  have k2 : ∀ b, b ≠ p → (cput D (cel G adk nfk ndk pnk agk mkk flk dtk hwk dpk alk cok fek rpk rok wek plk mok eak lnk cpk elk owk skk txk tlk rfk slk hsk) (rdput p (bk9 txk tlk 0) l (G 3 7) μ)).1 b = μ.1 b := fun b q => by
    by_cases d : (D b).1 = -1
    · rw [cput_o d]
      exact m_sn q
    · rw [hH b d]
      unfold cput
      dsimp only
      rw [if_neg d]
  have hRS : RS (cput D (cel G adk nfk ndk pnk agk mkk flk dtk hwk dpk alk cok fek rpk rok wek plk mok eak lnk cpk elk owk skk txk tlk rfk slk hsk) σ) p l (G 3 7) (bk9 txk tlk 0) [] (cput D (cel G adk nfk ndk pnk agk mkk flk dtk hwk dpk alk cok fek rpk rok wek plk mok eak lnk cpk elk owk skk txk tlk rfk slk hsk) (rdput p (bk9 txk tlk 0) l (G 3 7) μ)) := ⟨el, Z, z1.mono (fun b q1 q2 => k2 b (fun q3 => z6 (by rw [← q3]; exact q1))) (Nat.le_refl _) rfl, z2.nx hb hnx2 z4', ⟨rx_cell hp, z4, z5, z6⟩, z7, fun i c hc => by cases hc⟩
  unfold f_X7_read g_X7_read_0
  rw [ck_at z3, Option.bind_some, hbl, Option.bind_some, lgo_l]
  exact kr_rounds hu h hb hce 80 _ [] _ hb0.1 hb0.2 (by omega) (by simpa using hb0.1) hRS
/-- a reader is made -/
theorem kr_begin (h : (CG m hd D G adk nfk ndk pnk agk mkk flk dtk hwk dpk alk cok fek rpk rok wek plk mok eak lnk cpk elk owk skk txk tlk rfk slk hsk σ)) : ∃ μ, f_X7_init σ.2.1 (G 3 7) (cput D (cel G adk nfk ndk pnk agk mkk flk dtk hwk dpk alk cok fek rpk rok wek plk mok eak lnk cpk elk owk skk txk tlk rfk slk hsk) (nE σ (.inl (7, df_7)))) = some μ ∧ RS (cput D (cel G adk nfk ndk pnk agk mkk flk dtk hwk dpk alk cok fek rpk rok wek plk mok eak lnk cpk elk owk skk txk tlk rfk slk hsk) σ) σ.2.1 (σ.2.1 + 1) (G 3 7) 0 [] μ := by
  have hq := kr_new h.db
  have hq1 : (D (σ.2.1 + 1)).1 = -1 := by
    by_cases q : (D (σ.2.1 + 1)).1 = -1
    · exact q
    · have := h.db _ q; omega
  have hE := h.ce
  obtain ⟨y1, y2, fE, y3⟩ := hE
  let μ := (cput D (cel G adk nfk ndk pnk agk mkk flk dtk hwk dpk alk cok fek rpk rok wek plk mok eak lnk cpk elk owk skk txk tlk rfk slk hsk) (nE (nE σ (.inl (7, [vI (J 0), vR (some (σ.2.1 + 1)), vR (some (G 3 7))]))) (.inl (15, [vI (J 0), vR (some σ.2.2.1), vI (J 0)]))))
  have c1 : μ.1 σ.2.1 = some (.inl (7, [vI (J 0), vR (some (σ.2.1 + 1)), vR (some (G 3 7))])) := by
    show (cput D (cel G adk nfk ndk pnk agk mkk flk dtk hwk dpk alk cok fek rpk rok wek plk mok eak lnk cpk elk owk skk txk tlk rfk slk hsk) _).1 σ.2.1 = _
    rw [cput_o hq, m_nn (by show σ.2.1 ≠ σ.2.1 + 1; omega)]
    exact m_ne rfl
  have c2 : μ.1 (σ.2.1 + 1) = some (.inl (15, [vI (J 0), vR (some σ.2.2.1), vI (J 0)])) := by
    show (cput D (cel G adk nfk ndk pnk agk mkk flk dtk hwk dpk alk cok fek rpk rok wek plk mok eak lnk cpk elk owk skk txk tlk rfk slk hsk) _).1 (σ.2.1 + 1) = _
    rw [cput_o hq1]
    exact m_ne rfl
  have c3 : OLD9 (cput D (cel G adk nfk ndk pnk agk mkk flk dtk hwk dpk alk cok fek rpk rok wek plk mok eak lnk cpk elk owk skk txk tlk rfk slk hsk) σ) μ := by
    refine ⟨by show σ.2.1 ≤ σ.2.1 + 1 + 1; omega, rfl, fun b hb => ?_⟩
    have hb' : b < σ.2.1 := hb
    show (cput D (cel G adk nfk ndk pnk agk mkk flk dtk hwk dpk alk cok fek rpk rok wek plk mok eak lnk cpk elk owk skk txk tlk rfk slk hsk) _).1 b = _
    by_cases d : (D b).1 = -1
    · rw [cput_o d, cput_o d, m_nn (by show b ≠ σ.2.1 + 1; omega), m_nn (by omega)]
    · unfold cput
      dsimp only
      rw [if_neg d, if_neg d]
  refine ⟨μ, ?_, fun _ => none, fun b => b = σ.2.1 + 1, LS9.fresh c2 (by show σ.2.1 + 1 < σ.2.1 + 1 + 1; omega), c3, ⟨c1, Nat.le_refl _, by show σ.2.1 < σ.2.1 + 1 + 1; omega, by omega⟩, fun b q => ?_, fun i c hc => by cases hc⟩
  · unfold f_X7_init
    rw [kn_pF hq rfl (by simp), Option.bind_some]
    have hn : nO (cput D (cel G adk nfk ndk pnk agk mkk flk dtk hwk dpk alk cok fek rpk rok wek plk mok eak lnk cpk elk owk skk txk tlk rfk slk hsk) (nE σ (.inl (7, df_7.set 2 (vR (some (G 3 7))))))) 15 df_15 = some (σ.2.1 + 1, (cput D (cel G adk nfk ndk pnk agk mkk flk dtk hwk dpk alk cok fek rpk rok wek plk mok eak lnk cpk elk owk skk txk tlk rfk slk hsk) (nE (nE σ (.inl (7, df_7.set 2 (vR (some (G 3 7)))))) (.inl (15, df_15))))) := ko_nO hq1
    rw [hn, b2_s]
    unfold f_J2_init f_J1_init f_J0_init
    have k1 : ∀ {fs : List mm_V} {k : Nat} {v : mm_V}, k < fs.length → pF (cput D (cel G adk nfk ndk pnk agk mkk flk dtk hwk dpk alk cok fek rpk rok wek plk mok eak lnk cpk elk owk skk txk tlk rfk slk hsk) (nE (nE σ (.inl (7, df_7.set 2 (vR (some (G 3 7)))))) (.inl (15, fs)))) (σ.2.1 + 1) 15 k v = some (cput D (cel G adk nfk ndk pnk agk mkk flk dtk hwk dpk alk cok fek rpk rok wek plk mok eak lnk cpk elk owk skk txk tlk rfk slk hsk) (nE (nE σ (.inl (7, df_7.set 2 (vR (some (G 3 7)))))) (.inl (15, fs.set k v)))) := fun hk => kn_pF (τ := nE σ (.inl (7, df_7.set 2 (vR (some (G 3 7)))))) (q := σ.2.1 + 1) hq1 rfl hk
    rw [Option.bind_some, k1 (by simp), Option.bind_some, Option.bind_some, k1 (by simp), Option.bind_some, Option.bind_some]
    rw [ko_pF hq, pF_at (fs := df_7.set 2 (vR (some (G 3 7)))) (by rw [m_nn (by show σ.2.1 ≠ σ.2.1 + 1; omega)]; exact m_ne rfl) (by simp)]
    refine congrArg some (congrArg (cput D (cel G adk nfk ndk pnk agk mkk flk dtk hwk dpk alk cok fek rpk rok wek plk mok eak lnk cpk elk owk skk txk tlk rfk slk hsk)) ?_)
    unfold sE nE
    refine Prod.ext ?_ rfl
    funext b
    dsimp only
    by_cases q1 : b = σ.2.1
    · rw [if_pos q1, if_neg (by omega), if_pos q1]
      rfl
    · rw [if_neg q1]
      by_cases q2 : b = σ.2.1 + 1
      · rw [if_pos q2, if_pos q2]
        rfl
      · rw [if_neg q2, if_neg q2, if_neg q1, if_neg q1]
  · subst q
    exact ⟨by show σ.2.1 ≤ σ.2.1 + 1; omega, by show σ.2.1 + 1 < σ.2.1 + 1 + 1; omega⟩
theorem kc_fault (h : (CG m hd D G adk nfk ndk pnk agk mkk flk dtk hwk dpk alk cok fek rpk rok wek plk mok eak lnk cpk elk owk skk txk tlk rfk slk hsk σ)) (ht : tx9 txk tlk) : ∃ M', f_X0_fault (G 3 7) (cput D (cel G adk nfk ndk pnk agk mkk flk dtk hwk dpk alk cok fek rpk rok wek plk mok eak lnk cpk elk owk skk txk tlk rfk slk hsk) σ) = some (J (match rdP txk tlk 80 (bk9 txk tlk 0) [] with | .inl e => e | .inr _ => -1), M') ∧ OLD9 (cput D (cel G adk nfk ndk pnk agk mkk flk dtk hwk dpk alk cok fek rpk rok wek plk mok eak lnk cpk elk owk skk txk tlk rfk slk hsk) σ) M' := by
  obtain ⟨μ, e1, e2⟩ := kr_begin h
  have hr := kr_read h.xu ht h.db h.ce e2
  have hn : nO (cput D (cel G adk nfk ndk pnk agk mkk flk dtk hwk dpk alk cok fek rpk rok wek plk mok eak lnk cpk elk owk skk txk tlk rfk slk hsk) σ) 7 df_7 = some (σ.2.1, (cput D (cel G adk nfk ndk pnk agk mkk flk dtk hwk dpk alk cok fek rpk rok wek plk mok eak lnk cpk elk owk skk txk tlk rfk slk hsk) (nE σ (.inl (7, df_7))))) := ko_nO (kr_new h.db)
  have hck : ck μ σ.2.1 7 = some () := by
    obtain ⟨el, Z, z1, z2, ⟨z3, z4, z5, z6⟩, z7, z8⟩ := e2
    exact ck_at z3
  unfold f_X0_fault
  rw [hn, b2_s, e1, Option.bind_some, hck, Option.bind_some]
  cases hc : rdP txk tlk 80 (bk9 txk tlk 0) [] with
  | inl e =>
    obtain ⟨q, M', r1, r2, r3⟩ := hr.1 e hc
    refine ⟨M', ?_, r2⟩
    rw [r1, b2_s, kr_xr, ck_at r3, Option.bind_some, gI_at r3 rfl, Option.bind_some]
  | inr r =>
    obtain ⟨a', μ', r1, r2⟩ := hr.2 r hc
    obtain ⟨el, Z, z1, z2, -⟩ := r2
    refine ⟨μ', ?_, z2⟩
    rw [r1, b2_s, kr_xl]
    rfl
end T1
