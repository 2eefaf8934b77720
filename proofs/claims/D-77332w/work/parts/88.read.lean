/-! PLAIN LAW: the component reads a script. NAMES: OLD9 FEND RS CMB -/
set_option maxRecDepth 100000
def OLD9 (μ0 μ : mm_M) : Prop := μ0.2.1 ≤ μ.2.1 ∧ μ.2.2 = μ0.2.2 ∧ ∀ b, b < μ0.2.1 → μ.1 b = μ0.1 b
theorem OLD9.rf {μ : mm_M} : OLD9 μ μ := ⟨Nat.le_refl _, rfl, fun _ _ => rfl⟩
theorem OLD9.tr {μ μ' μ'' : mm_M} (h : OLD9 μ μ') (h' : OLD9 μ' μ'') : OLD9 μ μ'' := ⟨Nat.le_trans h.1 h'.1, h'.2.1.trans h.2.1, fun b hb => (h'.2.2 b (Nat.lt_of_lt_of_le hb h.1)).trans (h.2.2 b hb)⟩
def FEND (μ0 : mm_M) (e : Int) (q : Nat) (M : mm_M) : Prop := OLD9 μ0 M ∧ M.1 q = some (.inl (8, [vR none, vR none, vR none, vR none, vR none, vI 0, vI (J e)]))
/-- a reader at p at work, with the commands of its list -/
def RS (μ0 : mm_M) (p l x : Nat) (a : Int) (cs : List (Int × Int × Int × Int)) (μ : mm_M) : Prop := ∃ (el : Nat → Option Nat) (Z : Nat → Prop), LS9 l cs.length el Z μ ∧ OLD9 μ0 μ ∧ (μ.1 p = some (.inl (7, [vI (J a), vR (some l), vR (some x)])) ∧ μ0.2.1 ≤ p ∧ p < μ.2.1 ∧ ¬ Z p) ∧ (∀ b, Z b → μ0.2.1 ≤ b ∧ b < μ.2.1) ∧ ∀ (i : Nat) c, cs[i]? = some c → ∃ y, el i = some y ∧ μ0.2.1 ≤ y ∧ y < μ.2.1 ∧ y ≠ p ∧ ¬ Z y ∧ μ.1 y = some (cmO c)
def CMB (c : Int × Int × Int × Int) : Prop := (c.1 = 110 ∨ c.1 = 114 ∨ c.1 = 119 ∨ c.1 = 102 ∨ c.1 = 112 ∨ c.1 = 117 ∨ c.1 = 99) ∧ -1 ≤ c.2.1 ∧ c.2.1 ≤ 999 ∧ -1 ≤ c.2.2.1 ∧ c.2.2.1 ≤ 999 ∧ -1 ≤ c.2.2.2 ∧ c.2.2.2 ≤ 999
theorem cmO_ok (c : Int × Int × Int × Int) : ∃ k vs, cmO c = .inl (k, vs) ∧ 9 ≤ k ∧ k ≤ 14 := by
  unfold cmO
  split
  · exact ⟨_, _, rfl, by omega, by omega⟩
  · split
    · exact ⟨_, _, rfl, by omega, by omega⟩
    · split
      · exact ⟨_, _, rfl, by omega, by omega⟩
      · split
        · exact ⟨_, _, rfl, by omega, by omega⟩
        · split
          · exact ⟨_, _, rfl, by omega, by omega⟩
          · split
            · exact ⟨_, _, rfl, by omega, by omega⟩
            · exact ⟨_, _, rfl, by omega, by omega⟩
theorem cmO_okR {μ : mm_M} {y : Nat} {c : Int × Int × Int × Int} (h : μ.1 y = some (cmO c)) : okR μ 5 (some y) = true := by
  obtain ⟨k, vs, e, k1, k2⟩ := cmO_ok c
  unfold okR
  dsimp only
  rw [h, e]
  dsimp only
  simp
  exact Or.inr ⟨k1, k2⟩
theorem nx_lt {text : Int → Int} {tl a s : Int} (s0 : 0 ≤ s) (c : nx9 text tl a = s) : a < tl := by
  unfold nx9 at c
  by_cases d : tl ≤ a
  · rw [if_pos d] at c; omega
  · omega
theorem bdP_i {α β : Type} {x : Int ⊕ (α × Int)} {k : α → Int → Int ⊕ β} {y : β} (h : bdP x k = .inr y) : ∃ r, x = .inr r ∧ k r.1 r.2 = .inr y := by
  cases x with
  | inl e => cases h
  | inr r => exact ⟨r, rfl, h⟩
theorem coP_b {text : Int → Int} {tl a : Int} {r : (Int × Int × Int × Int) × Int} (h : coP text tl a = .inr r) : CMB r.1 ∧ a < r.2 ∧ r.2 ≤ tl := by
  have hbb : ∀ s, 0 ≤ s → nx9 text tl a = s → a < bk9 text tl (a + 1) ∧ bk9 text tl (a + 1) ≤ tl := fun s s0 c => by
    have hlt2 := nx_lt s0 c
    have := bk9_b (text := text) (tl := tl) (a := a + 1) (by omega)
    omega
  unfold coP at h
  by_cases c0 : nx9 text tl a = 110
  · rw [if_pos c0] at h
    have h0 := hbb 110 (by omega) c0
    obtain ⟨r1, e1, h⟩ := bdP_i h
    have h1 := dgP_b h0.2 e1
    obtain ⟨r2, e2, h⟩ := bdP_i h
    have h2 := dgP_b h1.2.2.2 e2
    cases h
    exact ⟨⟨by simp, by dsimp only; omega, by dsimp only; omega, by dsimp only; omega, by dsimp only; omega, by dsimp only; omega, by dsimp only; omega⟩, by dsimp only; omega, by dsimp only; omega⟩
  rw [if_neg c0] at h
  by_cases c1 : nx9 text tl a = 114
  · rw [if_pos c1] at h
    have h0 := hbb 114 (by omega) c1
    obtain ⟨r1, e1, h⟩ := bdP_i h
    have h1 := dgP_b h0.2 e1
    obtain ⟨r2, e2, h⟩ := bdP_i h
    have h2 := plP_b h1.2.2.2 e2
    cases h
    exact ⟨⟨by simp, by dsimp only; omega, by dsimp only; omega, by dsimp only; omega, by dsimp only; omega, by dsimp only; omega, by dsimp only; omega⟩, by dsimp only; omega, by dsimp only; omega⟩
  rw [if_neg c1] at h
  by_cases c2 : nx9 text tl a = 119
  · rw [if_pos c2] at h
    have h0 := hbb 119 (by omega) c2
    obtain ⟨r1, e1, h⟩ := bdP_i h
    have h1 := dgP_b h0.2 e1
    obtain ⟨r2, e2, h⟩ := bdP_i h
    have h2 := plP_b h1.2.2.2 e2
    cases h
    exact ⟨⟨by simp, by dsimp only; omega, by dsimp only; omega, by dsimp only; omega, by dsimp only; omega, by dsimp only; omega, by dsimp only; omega⟩, by dsimp only; omega, by dsimp only; omega⟩
  rw [if_neg c2] at h
  by_cases c3 : nx9 text tl a = 102
  · rw [if_pos c3] at h
    have h0 := hbb 102 (by omega) c3
    obtain ⟨r1, e1, h⟩ := bdP_i h
    have h1 := nuP_b h0.2 e1
    obtain ⟨r2, e2, h⟩ := bdP_i h
    have h2 := dgP_b h1.2.2.2 e2
    obtain ⟨r3, e3, h⟩ := bdP_i h
    have h3 := plP_b h2.2.2.2 e3
    cases h
    exact ⟨⟨by simp, by dsimp only; omega, by dsimp only; omega, by dsimp only; omega, by dsimp only; omega, by dsimp only; omega, by dsimp only; omega⟩, by dsimp only; omega, by dsimp only; omega⟩
  rw [if_neg c3] at h
  by_cases c4 : nx9 text tl a = 112
  · rw [if_pos c4] at h
    have h0 := hbb 112 (by omega) c4
    obtain ⟨r1, e1, h⟩ := bdP_i h
    have h1 := nuP_b h0.2 e1
    cases h
    exact ⟨⟨by simp, by dsimp only; omega, by dsimp only; omega, by dsimp only; omega, by dsimp only; omega, by dsimp only; omega, by dsimp only; omega⟩, by dsimp only; omega, by dsimp only; omega⟩
  rw [if_neg c4] at h
  by_cases c5 : nx9 text tl a = 117
  · rw [if_pos c5] at h
    have h0 := hbb 117 (by omega) c5
    obtain ⟨r1, e1, h⟩ := bdP_i h
    have h1 := nuP_b h0.2 e1
    cases h
    exact ⟨⟨by simp, by dsimp only; omega, by dsimp only; omega, by dsimp only; omega, by dsimp only; omega, by dsimp only; omega, by dsimp only; omega⟩, by dsimp only; omega, by dsimp only; omega⟩
  rw [if_neg c5] at h
  by_cases c6 : nx9 text tl a = 99
  · rw [if_pos c6] at h
    have h0 := hbb 99 (by omega) c6
    cases h
    exact ⟨⟨by simp, by dsimp only; omega, by dsimp only; omega, by dsimp only; omega, by dsimp only; omega, by dsimp only; omega, by dsimp only; omega⟩, by dsimp only; omega, by dsimp only; omega⟩
  rw [if_neg c6] at h
  cases h
theorem cmP_b {text : Int → Int} {tl a : Int} {r : (Int × Int × Int × Int) × Int} (h : cmP text tl a = .inr r) : CMB r.1 ∧ a + 2 ≤ r.2 ∧ r.2 ≤ tl := by
  unfold cmP at h
  obtain ⟨v, e, h⟩ := bdP_i h
  have h1 := coP_b e
  by_cases c : nx9 text tl v.2 = 59
  · rw [if_pos c] at h
    cases h
    have h2 := nx_lt (by omega) c
    have h3 := bk9_b (text := text) (tl := tl) (a := v.2 + 1) (by omega)
    exact ⟨h1.1, by dsimp only; omega, by dsimp only; omega⟩
  · rw [if_neg c] at h
    cases h
theorem rdP_b {text : Int → Int} {tl : Int} (n : Nat) : ∀ (a : Int) cs r, 0 ≤ a → tl ≤ 80 → (∀ c, c ∈ cs → CMB c) → 2 * (cs.length : Int) ≤ a → a ≤ tl → rdP text tl n a cs = .inr r → (∀ c, c ∈ r → CMB c) ∧ 2 * (r.length : Int) ≤ 80 := by
  induction n with
  | zero =>
    intro a cs r a0 t0 h1 h2 h3 h
    unfold rdP at h
    cases h
    exact ⟨h1, by omega⟩
  | succ n ih =>
    intro a cs r a0 t0 h1 h2 h3 h
    unfold rdP at h
    by_cases c : a < tl
    · rw [if_pos c] at h
      cases hc : cmP text tl a with
      | inl e => rw [hc] at h; cases h
      | inr v =>
        rw [hc] at h
        have hb := cmP_b hc
        refine ih v.2 _ r (by omega) t0 (fun c hc => ?_) ?_ hb.2.2 h
        · rcases List.mem_append.mp hc with q | q
          · exact h1 c q
          · rw [List.mem_singleton.mp q]; exact hb.1
        · rw [List.length_append, List.length_singleton]
          omega
    · rw [if_neg c] at h
      cases h
      exact ⟨h1, by omega⟩
theorem rd_self {p l x : Nat} {a : Int} {μ : mm_M} (h : μ.1 p = some (.inl (7, [vI (J a), vR (some l), vR (some x)]))) : rdput p a l x μ = μ := by
  unfold rdput sE
  refine Prod.ext ?_ rfl
  funext b
  dsimp only
  by_cases q : b = p
  · rw [if_pos q, q, h]
  · rw [if_neg q]
section T1
variable {adk nfk ndk pnk agk mkk rok wek plk txk : Int → Int} {flk dtk : Int → Int → Int} {hwk dpk alk cok fek lnk tlk rfk : Int} {rpk : Option Nat} {mok : Int32} {eak cpk : Nat} {elk owk skk slk : Nat → Option Nat} {hsk : Int64} {D : Nat → Int × Int} {G : Int → Int → Nat} {σ : mm_M} {p l : Nat} {a : Int}
theorem OLD9.hld (hb : DB D σ) {μ : mm_M} (h : OLD9 (cput D (cel G adk nfk ndk pnk agk mkk flk dtk hwk dpk alk cok fek rpk rok wek plk mok eak lnk cpk elk owk skk txk tlk rfk slk hsk) σ) μ) : HLD D (cel G adk nfk ndk pnk agk mkk flk dtk hwk dpk alk cok fek rpk rok wek plk mok eak lnk cpk elk owk skk txk tlk rfk slk hsk) μ := fun b q => by
  rw [h.2.2 b (hb b q)]
  unfold cput
  dsimp only
  rw [if_neg q]
theorem OLD9.db (hb : DB D σ) {μ : mm_M} (h : OLD9 (cput D (cel G adk nfk ndk pnk agk mkk flk dtk hwk dpk alk cok fek rpk rok wek plk mok eak lnk cpk elk owk skk txk tlk rfk slk hsk) σ) μ) : DB D μ := fun b q => Nat.lt_of_lt_of_le (hb b q) h.1
/-- what a step of the reader leaves of the old cells -/
theorem OLD9.nx {μ μ' : mm_M} (hb : DB D σ) (h : OLD9 (cput D (cel G adk nfk ndk pnk agk mkk flk dtk hwk dpk alk cok fek rpk rok wek plk mok eak lnk cpk elk owk skk txk tlk rfk slk hsk) σ) μ) (n : NXP p μ μ') (hp : σ.2.1 ≤ p) : OLD9 (cput D (cel G adk nfk ndk pnk agk mkk flk dtk hwk dpk alk cok fek rpk rok wek plk mok eak lnk cpk elk owk skk txk tlk rfk slk hsk) σ) (cput D (cel G adk nfk ndk pnk agk mkk flk dtk hwk dpk alk cok fek rpk rok wek plk mok eak lnk cpk elk owk skk txk tlk rfk slk hsk) μ') := by
  refine ⟨Nat.le_trans h.1 n.1, n.2.1.trans h.2.1, fun b q => ?_⟩
  have q' : b < σ.2.1 := q
  by_cases d : (D b).1 = -1
  · rw [cput_o d, n.2.2 b (Nat.lt_of_lt_of_le q h.1) (by omega), h.2.2 b q]
  · unfold cput
    dsimp only
    rw [if_neg d, if_neg d]
theorem FTE.fend {μ M : mm_M} {e : Int} {q : Nat} (hb : DB D σ) (h : OLD9 (cput D (cel G adk nfk ndk pnk agk mkk flk dtk hwk dpk alk cok fek rpk rok wek plk mok eak lnk cpk elk owk skk txk tlk rfk slk hsk) σ) μ) (hp : σ.2.1 ≤ p) (f : FTE D (cel G adk nfk ndk pnk agk mkk flk dtk hwk dpk alk cok fek rpk rok wek plk mok eak lnk cpk elk owk skk txk tlk rfk slk hsk) p μ e q M) : FEND (cput D (cel G adk nfk ndk pnk agk mkk flk dtk hwk dpk alk cok fek rpk rok wek plk mok eak lnk cpk elk owk skk txk tlk rfk slk hsk) σ) e q M := by
  obtain ⟨σ', rfl, f2, f3, f4⟩ := f
  exact ⟨h.nx hb f4 hp, by rw [cput_o f2]; exact f3⟩
set_option maxHeartbeats 1000000 in
theorem kr_round (hu : XU D G) (h : tx9 txk tlk) (hb : DB D σ) (hce : CE D σ) (h1 : 0 ≤ a) (h2 : a < tlk) {cs : List (Int × Int × Int × Int)} {μ : mm_M} (hr : RS (cput D (cel G adk nfk ndk pnk agk mkk flk dtk hwk dpk alk cok fek rpk rok wek plk mok eak lnk cpk elk owk skk txk tlk rfk slk hsk) σ) p l (G 3 7) a cs μ) (hl : 2 * (cs.length : Int) ≤ a) : (∀ e, cmP txk tlk a = .inl e → ∃ q M', s_X7_read p (8 * cs.length, 295 * cs.length, μ) = some (.inr (.inr q, M')) ∧ FEND (cput D (cel G adk nfk ndk pnk agk mkk flk dtk hwk dpk alk cok fek rpk rok wek plk mok eak lnk cpk elk owk skk txk tlk rfk slk hsk) σ) e q M') ∧ (∀ r, cmP txk tlk a = .inr r → ∃ μ', s_X7_read p (8 * cs.length, 295 * cs.length, μ) = some (.inl (8 * (cs.length + 1), 295 * (cs.length + 1), μ')) ∧ RS (cput D (cel G adk nfk ndk pnk agk mkk flk dtk hwk dpk alk cok fek rpk rok wek plk mok eak lnk cpk elk owk skk txk tlk rfk slk hsk) σ) p l (G 3 7) r.2 (cs ++ [r.1]) μ') := by
  obtain ⟨el, Z, z1, z2, ⟨z3, z4, z5, z6⟩, z7, z8⟩ := hr
  have z4' : σ.2.1 ≤ p := z4
  have h80 := h.2.1
  have hp : (D p).1 = -1 := by
    by_cases q : (D p).1 = -1
    · exact q
    · have := hb _ q; omega
  have hH := OLD9.hld hb z2
  have hS : (cput D (cel G adk nfk ndk pnk agk mkk flk dtk hwk dpk alk cok fek rpk rok wek plk mok eak lnk cpk elk owk skk txk tlk rfk slk hsk) (rdput p a l (G 3 7) μ)) = μ := by rw [rd_self z3]; exact hH.eq.symm
  have hcm := kr_command (σ := μ) (l := l) (a := a) (p := p) (adk := adk) (nfk := nfk) (ndk := ndk) (pnk := pnk) (agk := agk) (mkk := mkk) (flk := flk) (dtk := dtk) (hwk := hwk) (dpk := dpk) (alk := alk) (cok := cok) (fek := fek) (rpk := rpk) (rok := rok) (wek := wek) (plk := plk) (owk := owk) (skk := skk) (txk := txk) (tlk := tlk) (rfk := rfk) (slk := slk) (hsk := hsk) (mok := mok) (eak := eak) (lnk := lnk) (cpk := cpk) (elk := elk) hu hp h (OLD9.db hb z2) z5 h1 (by omega)
  rw [hS] at hcm
  have g0 : gI μ p 7 0 = some (J a) := gI_at z3 rfl
  have g1 : gA μ p 7 1 = some l := gA_at z3 rfl
  have g2 : gA μ p 7 2 = some (G 3 7) := gA_at z3 rfl
  have g3 : gI μ (G 3 7) 0 3 = some (J tlk) := by
    rw [hH.eq]
    exact cw_gtlk hu
  have gk : ck μ p 7 = some () := ck_at z3
  have hn : cs.length ≤ 39 := by omega
  have hnl : ¬ (J tlk ≤ J a) := by
    rw [J_le (by omega) (by omega) (by omega) (by omega)]
    omega
  have hE := hce
  obtain ⟨y1, y2, fE, y3⟩ := hE
  have hEC : μ.1 μ.2.2.1 = some (.inr (.inr (5, 0, fE))) := by
    rw [z2.2.1]
    show μ.1 σ.2.2.1 = _
    rw [z2.2.2 _ y2, cput_o y1]
    exact y3
  have hEl : μ.2.2.1 < σ.2.1 := by
    rw [z2.2.1]
    exact y2
  have hC1 : σ.2.1 ≤ μ.2.1 := z2.1
  have hstep : s_X7_read p (8 * cs.length, 295 * cs.length, μ) = b2 (f_X7_command p μ) fun r9 σ8 => xs r9 (fun qv10 => some (.inr (.inr qv10, σ8))) (fun qv7 => (ck σ8 l 15).bind fun _ => b2 (f_J2_add_2 l qv7 σ8) fun v11 σ12 => (ck σ12 p 7).bind fun _ => b2 (f_X7_takes p (59 : Int32) σ12) fun v13 σ14 => (ck σ14 p 7).bind fun _ => b2 (f_X7_expect p v13 σ14) fun r16 σ15 => xs r16 (fun qv17 => some (.inr (.inr qv17, σ15))) (fun _ => some (.inl (8 * (cs.length + 1), 295 * (cs.length + 1), σ15)))) := by
    unfold s_X7_read g_X7_read_4
    dsimp only
    rw [grd_s (by omega), Option.bind_some, g0, Option.bind_some, g2, Option.bind_some, g3, Option.bind_some, if_neg hnl, g1, Option.bind_some, gk, Option.bind_some, grd_s (by omega), Option.bind_some]
    simp only [grd_s (show 8 * cs.length + 6 + 1 ≤ 330 ∧ 295 * cs.length + 38 + 250 ≤ 12100 by omega), grd_s (show 8 * cs.length + 6 + 1 + 1 ≤ 330 ∧ 295 * cs.length + 38 + 250 + 7 ≤ 12100 by omega), Option.bind_some]
    rw [show 8 * cs.length + 6 + 1 + 1 = 8 * (cs.length + 1) by omega, show 295 * cs.length + 38 + 250 + 7 = 295 * (cs.length + 1) by omega]
  rw [hstep]
  unfold cmP
  cases hco : coP txk tlk a with
  | inl e =>
    rw [hco] at hcm
    obtain ⟨q, M', e1, e2⟩ := hcm
    rw [bdP_l]
    refine ⟨fun e' he => ?_, fun r hr => by cases hr⟩
    cases he
    exact ⟨q, M', by rw [e1, b2_s, kr_xr], e2.fend hb z2 z4'⟩
  | inr v =>
    rw [hco] at hcm
    have hcm' : f_X7_command p μ = some (.inl μ.2.1, (cput D (cel G adk nfk ndk pnk agk mkk flk dtk hwk dpk alk cok fek rpk rok wek plk mok eak lnk cpk elk owk skk txk tlk rfk slk hsk) (rdput p v.2 l (G 3 7) (nE μ (cmO v.1))))) := hcm
    rw [bdP_r, hcm', b2_s, kr_xl]
    have hcb := coP_b hco
    generalize hμ1 : (cput D (cel G adk nfk ndk pnk agk mkk flk dtk hwk dpk alk cok fek rpk rok wek plk mok eak lnk cpk elk owk skk txk tlk rfk slk hsk) (rdput p v.2 l (G 3 7) (nE μ (cmO v.1)))) = μ1
    have m1 : μ1.2.1 = μ.2.1 + 1 ∧ μ1.2.2 = μ.2.2 := by rw [← hμ1]; exact ⟨rfl, rfl⟩
    have hnx : NXP p μ (rdput p v.2 l (G 3 7) (nE μ (cmO v.1))) := NXP.nE.tr NXP.rd
    have m2 : ∀ b, b < μ.2.1 → b ≠ p → μ1.1 b = μ.1 b := fun b q1 q2 => by
      rw [← hμ1]
      by_cases d : (D b).1 = -1
      · rw [cput_o d, hnx.2.2 b q1 q2]
      · rw [hH b d]
        unfold cput
        dsimp only
        rw [if_neg d]
    have m3 : μ1.1 μ.2.1 = some (cmO v.1) := by
      rw [← hμ1, cput_o (kr_new (OLD9.db hb z2))]
      rw [show (rdput p v.2 l (G 3 7) (nE μ (cmO v.1))).1 μ.2.1 = (nE μ (cmO v.1)).1 μ.2.1 from m_sn (by omega)]
      exact m_ne rfl
    have m4 : μ1.1 p = some (.inl (7, [vI (J v.2), vR (some l), vR (some (G 3 7))])) := by
      rw [← hμ1]
      exact rx_cell hp
    have m5 : OLD9 (cput D (cel G adk nfk ndk pnk agk mkk flk dtk hwk dpk alk cok fek rpk rok wek plk mok eak lnk cpk elk owk skk txk tlk rfk slk hsk) σ) μ1 := by
      rw [← hμ1]
      exact z2.nx hb hnx z4'
    have hl1 := z1.mono (μ' := μ1) (fun b q1 q2 => m2 b q2 (fun q3 => z6 (by rw [← q3]; exact q1))) (by omega) m1.2
    obtain ⟨el', μ2, a1, a2, a3, a4, a5, a6⟩ := hl1.add (q := μ.2.1) (by omega) (by rw [m1.2]; exact fun q => absurd (z7 _ q).1 (Nat.not_le.mpr hEl)) (by rw [m1.2]; omega) ⟨fE, by rw [m1.2, m2 _ (by omega) (by omega)]; exact hEC⟩ (fun i hi => by
      obtain ⟨y, w1, w2, w3, w4, w5, w6⟩ := z8 i cs[i] (List.getElem?_eq_getElem (by omega))
      exact ⟨y, w1, by omega, cmO_okR (c := cs[i]) (by rw [m2 y w3 w4]; exact w6)⟩) (cmO_okR m3) (by omega)
    have n4 : μ2.1 p = some (.inl (7, [vI (J v.2), vR (some l), vR (some (G 3 7))])) := by rw [a3 p (by omega) z6]; exact m4
    have n5 : OLD9 (cput D (cel G adk nfk ndk pnk agk mkk flk dtk hwk dpk alk cok fek rpk rok wek plk mok eak lnk cpk elk owk skk txk tlk rfk slk hsk) σ) μ2 := ⟨Nat.le_trans m5.1 a4, a5.trans m5.2.1, fun b q => by rw [a3 b (Nat.lt_of_lt_of_le q m5.1) (fun q1 => absurd (z7 b q1).1 (Nat.not_le.mpr q))]; exact m5.2.2 b q⟩
    have hH2 := OLD9.hld hb n5
    have hS2 : (cput D (cel G adk nfk ndk pnk agk mkk flk dtk hwk dpk alk cok fek rpk rok wek plk mok eak lnk cpk elk owk skk txk tlk rfk slk hsk) (rdput p v.2 l (G 3 7) μ2)) = μ2 := by rw [rd_self n4]; exact hH2.eq.symm
    have hS3 : (cput D (cel G adk nfk ndk pnk agk mkk flk dtk hwk dpk alk cok fek rpk rok wek plk mok eak lnk cpk elk owk skk txk tlk rfk slk hsk) μ2) = μ2 := hH2.eq.symm
    have ht := kr_takes (σ := μ2) (l := l) (a := v.2) (s := 59) (p := p) (adk := adk) (nfk := nfk) (ndk := ndk) (pnk := pnk) (agk := agk) (mkk := mkk) (flk := flk) (dtk := dtk) (hwk := hwk) (dpk := dpk) (alk := alk) (cok := cok) (fek := fek) (rpk := rpk) (rok := rok) (wek := wek) (plk := plk) (owk := owk) (skk := skk) (txk := txk) (tlk := tlk) (rfk := rfk) (slk := slk) (hsk := hsk) (mok := mok) (eak := eak) (lnk := lnk) (cpk := cpk) (elk := elk) hu hp h (by omega) (by omega) (by omega) (by omega)
    rw [hS2] at ht
    rw [hl1.ck, Option.bind_some, a1, b2_s, ck_at n4, Option.bind_some, show (59 : Int32) = J 59 from J_lit 59, ht]
    by_cases c : nx9 txk tlk v.2 = 59
    · rw [if_pos c, if_pos c, b2_s, rx_ck hp, Option.bind_some, kr_exp1, b2_s, kr_xl]
      refine ⟨fun e he => (by cases he), fun r hr => ?_⟩
      cases hr
      have hnx2 : NXP p μ2 (rdput p (bk9 txk tlk (v.2 + 1)) l (G 3 7) μ2) := NXP.rd
      have k2 : ∀ b, b ≠ p → (cput D (cel G adk nfk ndk pnk agk mkk flk dtk hwk dpk alk cok fek rpk rok wek plk mok eak lnk cpk elk owk skk txk tlk rfk slk hsk) (rdput p (bk9 txk tlk (v.2 + 1)) l (G 3 7) μ2)).1 b = μ2.1 b := fun b q => by
        by_cases d : (D b).1 = -1
        · rw [cput_o d]
          exact m_sn q
        · rw [hH2 b d]
          unfold cput
          dsimp only
          rw [if_neg d]
      refine ⟨_, rfl, el', fun b => Z b ∨ (μ1.2.1 ≤ b ∧ b < μ2.2.1), ?_, n5.nx hb hnx2 z4', ⟨rx_cell hp, z4, Nat.lt_of_lt_of_le (by omega) a4, fun q => ?_⟩, fun b q' => ?_, fun i c' hc => ?_⟩
      · rw [List.length_append, List.length_singleton]
        refine LS9.mono (μ := μ2) (by simpa using a2) (fun b q1 q2 => k2 b (fun q3 => ?_)) (Nat.le_refl _) rfl
        rcases q1 with q1 | q1
        · exact z6 (by rw [← q3]; exact q1)
        · omega
      · rcases q with q | q
        · exact z6 q
        · omega
      · rcases q' with q' | q'
        · exact ⟨(z7 b q').1, Nat.lt_of_lt_of_le (Nat.lt_of_lt_of_le (z7 b q').2 (by omega)) a4⟩
        · exact ⟨Nat.le_trans m5.1 q'.1, q'.2⟩
      · have hi := a6 (i : Int) (by omega)
        by_cases hi2 : i < cs.length
        · rw [List.getElem?_append_left hi2] at hc
          obtain ⟨y, w1, w2, w3, w4, w5, w6⟩ := z8 i c' hc
          have hi3 := hi (by omega)
          rw [if_pos (by omega), Int.toNat_natCast] at hi3
          refine ⟨y, hi3.trans w1, w2, Nat.lt_of_lt_of_le (by omega) a4, w4, fun q => ?_, ?_⟩
          · rcases q with q | q
            · exact w5 q
            · omega
          · rw [k2 y w4, a3 y (by omega) w5, m2 y w3 w4]
            exact w6
        · have hi4 : i = cs.length := by
            have := (List.getElem?_eq_some_iff.mp hc).1
            rw [List.length_append, List.length_singleton] at this
            omega
          subst hi4
          rw [List.getElem?_append_right (Nat.le_refl _), Nat.sub_self] at hc
          have hc' : v.1 = c' := by simpa using hc
          have hi3 := hi (by omega)
          rw [if_neg (by omega), Int.toNat_natCast] at hi3
          have hzn : ¬ Z μ.2.1 := fun q => Nat.lt_irrefl _ (z7 _ q).2
          refine ⟨μ.2.1, hi3, hC1, Nat.lt_of_lt_of_le (by omega) a4, by omega, fun q => ?_, ?_⟩
          · rcases q with q | q
            · exact hzn q
            · omega
          · rw [k2 _ (by omega), a3 _ (by omega) hzn, m3, hc']
    · rw [if_neg c, if_neg c, b2_s, ck_at n4, Option.bind_some]
      obtain ⟨q, M', e1, e2⟩ := kr_exp0 (σ := μ2) (l := l) (a := v.2) (p := p) (adk := adk) (nfk := nfk) (ndk := ndk) (pnk := pnk) (agk := agk) (mkk := mkk) (flk := flk) (dtk := dtk) (hwk := hwk) (dpk := dpk) (alk := alk) (cok := cok) (fek := fek) (rpk := rpk) (rok := rok) (wek := wek) (plk := plk) (owk := owk) (skk := skk) (txk := txk) (tlk := tlk) (rfk := rfk) (slk := slk) (hsk := hsk) (mok := mok) (eak := eak) (lnk := lnk) (cpk := cpk) (elk := elk) (OLD9.db hb n5) hp (Nat.lt_of_lt_of_le (by omega) a4)
      rw [hS2] at e1
      rw [e1, b2_s, kr_xr]
      refine ⟨fun e' he => ?_, fun r hr => (by cases hr)⟩
      cases he
      exact ⟨q, M', rfl, e2.fend hb n5 z4'⟩
end T1
