/-! PLAIN LAW: the component's single writes; parts of objects. NAMES: kc_, WF.cg, ob_cg, RPK -/
set_option maxRecDepth 100000
theorem oc_cg {m m' : Int → Int} (h : ∀ a, 0 ≤ a → a < 200 → m' a = m a) : oc m' = oc m := by
  funext a r
  unfold oc
  by_cases h1 : 0 ≤ a ∧ a < 200
  · rw [h a h1.1 h1.2]
  · apply propext
    constructor
    · rintro ⟨a1, a2, -⟩; exact absurd ⟨a1, a2⟩ h1
    · rintro ⟨a1, a2, -⟩; exact absurd ⟨a1, a2⟩ h1
theorem ob_cg {m m' : Int → Int} (h : ∀ a, 0 ≤ a → a < 200 → m' a = m a) : ob m' = ob m := by
  funext r
  unfold ob
  rw [oc_cg h]
theorem rf_cg {m m' : Int → Int} (h : ∀ a, 0 ≤ a → a < 200 → m' a = m a) : rf m' = rf m := by
  funext r
  simp only [rf, oc_cg h]
theorem WF.cg {m m' : Int → Int} (hm : WF m) (h1 : ∀ a, 0 ≤ a → a < 400 → m' a = m a) (h2 : m' 1216 = m 1216) (h3 : m' 1217 = m 1217) (h4 : ∀ a, 0 ≤ a → a < 200 → m' (400 + a) = 0 ∨ m' (400 + a) = 1) (h5 : ∀ k, 0 ≤ k → k < 10 → rf m (m' (1200 + k))) (h6 : ∀ a f, 0 ≤ a → a < 200 → 0 < m a → 1 ≤ f → f ≤ m (200 + a) → rf m (m' (800 + a + f))) (h7 : m' 1221 = 0 ∨ m' 1221 = 1) : WF m' := by
  have e1 : ∀ a, 0 ≤ a → a < 200 → m' a = m a := fun a a1 a2 => h1 a a1 (by omega)
  have e2 : ∀ a, 0 ≤ a → a < 200 → m' (200 + a) = m (200 + a) := fun a a1 a2 => h1 _ (by omega) (by omega)
  refine ⟨by rw [h2]; exact hm.hW, by rw [h3]; exact hm.hD, fun a a1 a2 => by rw [e1 a a1 a2]; exact hm.hs a a1 a2, fun a a1 a2 a3 => ?_, fun a k a1 a2 a3 a4 => ?_, fun a a1 a2 a3 => ?_, h4, fun k k1 k2 => by rw [rf_cg e1]; exact h5 k k1 k2, fun a f a1 a2 a3 a4 a5 => ?_, h7, fun a a1 a2 => by rw [e2 a a1 a2]; exact hm.hF a a1 a2⟩
  · rw [e1 a a1 a2] at a3 ⊢
    rw [h2]
    exact hm.he a a1 a2 a3
  · rw [e1 a a1 a2] at a4
    have hE := hm.he a a1 a2 (by omega)
    have hW := hm.hW
    rw [e1 _ (by omega) (by omega)]
    exact hm.hi a k a1 a2 a3 a4
  · rw [e1 a a1 a2] at a3 ⊢
    rw [e2 a a1 a2]
    exact hm.hf a a1 a2 a3
  · rw [e1 a a1 a2] at a3
    rw [e2 a a1 a2] at a5
    rw [rf_cg e1]
    exact h6 a f a1 a2 a3 a4 a5
theorem wd_u {m : Int → Int} (hm : WF m) {a b i j : Int} (a1 : 0 ≤ a) (a2 : a < 200) (b1 : 0 ≤ b) (b2 : b < 200) (i1 : 0 ≤ i) (i2 : i < m a) (j1 : 0 ≤ j) (j2 : j < m b) (h : a + i = b + j) : a = b :=
  oc_u hm (r := a + i) ⟨a1, a2, by omega, by omega, by omega⟩ ⟨b1, b2, by omega, by omega, by omega⟩
/-- the report's cell stands for its numbers -/
def RPK (m : Int → Int) (rpk : Option Nat) (D : Nat → Int × Int) (σ : mm_M) : Prop := (m 1221 = 0 ∧ rpk = none) ∨ (m 1221 = 1 ∧ ∃ p, rpk = some p ∧ (D p).1 = -1 ∧ σ.1 p = some (.inl (5, [vI (J (m 1210)), vI (J (m 1211)), vI (J (m 1212)), vI (J (m 1213)), vI (J (m 1214)), vI (J (m 1215))])) ∧ p < σ.2.1)
theorem up_hi {m : Int → Int} {j v : Int} (hj : 200 ≤ j) : ∀ a, 0 ≤ a → a < 200 → up m j v a = m a := fun a a1 a2 => up_n (by omega)
theorem ob_up {m : Int → Int} {j v : Int} (hj : 200 ≤ j) : ob (up m j v) = ob m := ob_cg (up_hi hj)
theorem WF.word {m : Int → Int} (hm : WF m) {j v : Int} (h1 : 800 ≤ j) (h2 : j < 1000) (h : ∀ a f, 0 ≤ a → a < 200 → 0 < m a → 1 ≤ f → f ≤ m (200 + a) → 800 + a + f = j → rf m v) : WF (up m j v) := by
  refine hm.cg (fun a a1 a2 => up_n (by omega)) (up_n (by omega)) (up_n (by omega)) (fun a a1 a2 => ?_) (fun k k1 k2 => ?_) (fun a f a1 a2 a3 a4 a5 => ?_) ?_
  · rw [up_n (by omega)]; exact hm.hp a a1 a2
  · rw [up_n (by omega)]; exact hm.hr k k1 k2
  · by_cases h9 : 800 + a + f = j
    · rw [h9, up_s]; exact h a f a1 a2 a3 a4 a5 h9
    · rw [up_n h9]; exact hm.hq a f a1 a2 a3 a4 a5
  · rw [up_n (by omega)]; exact hm.hh
theorem WF.slot {m : Int → Int} (hm : WF m) {j v : Int} (h1 : 1200 ≤ j) (h2 : j < 1210) (h : rf m v) : WF (up m j v) := by
  refine hm.cg (fun a a1 a2 => up_n (by omega)) (up_n (by omega)) (up_n (by omega)) (fun a a1 a2 => ?_) (fun k k1 k2 => ?_) (fun a f a1 a2 a3 a4 a5 => ?_) ?_
  · rw [up_n (by omega)]; exact hm.hp a a1 a2
  · by_cases h9 : 1200 + k = j
    · rw [h9, up_s]; exact h
    · rw [up_n h9]; exact hm.hr k k1 k2
  · have := hm.hW
    have := hm.he a a1 a2 a3
    have := hm.hf a a1 a2 a3
    rw [up_n (by omega)]; exact hm.hq a f a1 a2 a3 a4 a5
  · rw [up_n (by omega)]; exact hm.hh
/-- a reference out of what isReference says -/
theorem rf_of {m : Int → Int} {y : Int} (h : y = -1 ∨ ob m y ≠ -1) : rf m y := by
  rcases h with h | h
  · exact Or.inl h
  · rcases ob_c (m := m) y with q | q
    · exact absurd q.1 h
    · exact Or.inr ⟨_, q⟩
theorem WF.field {m : Int → Int} (hm : WF m) {a f y : Int} (a1 : 0 ≤ a) (a2 : a < 200) (a3 : 0 < m a) (f1 : 0 ≤ f) (f2 : f ≤ m (200 + a) - 1) (h : y = -1 ∨ ob m y ≠ -1) : WF (up m (800 + a + 1 + f) y) := by
  have := hm.hW
  have := hm.he a a1 a2 a3
  have := hm.hf a a1 a2 a3
  exact hm.word (by omega) (by omega) (fun _ _ _ _ _ _ _ _ => rf_of h)
theorem WF.data {m : Int → Int} (hm : WF m) {a f y : Int} (a1 : 0 ≤ a) (a2 : a < 200) (a3 : 0 < m a) (f1 : 0 ≤ f) (f2 : f ≤ m a - 1 - m (200 + a) - 1) : WF (up m (800 + a + 1 + m (200 + a) + f) y) := by
  have := hm.hW
  have := hm.he a a1 a2 a3
  have := hm.hf a a1 a2 a3
  refine hm.word (by omega) (by omega) (fun b g b1 b2 b3 b4 b5 b6 => ?_)
  have := hm.hf b b1 b2 b3
  have h9 := wd_u hm b1 b2 a1 a2 (i := g) (j := 1 + m (200 + a) + f) (by omega) (by omega) (by omega) (by omega) (by omega)
  subst h9
  omega
section T1
variable {m hd : Int → Int} {adk nfk ndk pnk agk mkk rok wek plk txk : Int → Int} {flk dtk : Int → Int → Int} {hwk dpk alk cok fek lnk tlk rfk : Int} {rpk : Option Nat} {mok : Int32} {eak cpk : Nat} {elk owk skk slk : Nat → Option Nat} {hsk : Int64} {D : Nat → Int × Int} {G : Int → Int → Nat} {σ : mm_M}
theorem KM.field (hm : WF m) (h : (KM m hd D G adk nfk ndk pnk agk mkk flk dtk hwk dpk alk cok fek rpk rok wek plk mok eak lnk cpk elk owk skk txk tlk rfk slk hsk)) {a f y : Int} (a1 : 0 ≤ a) (a2 : a < 200) (a3 : 0 < m a) (f1 : 0 ≤ f) (f2 : f ≤ m (200 + a) - 1) : (KM (up m (800 + a + 1 + f) y) hd D G adk nfk ndk pnk agk mkk (up2 flk a (up (flk a) f y)) dtk hwk dpk alk cok fek rpk rok wek plk mok eak lnk cpk elk owk skk txk tlk rfk slk hsk) := by
  have hW := hm.hW
  have hE := hm.he a a1 a2 a3
  have hF := hm.hf a a1 a2 a3
  obtain ⟨k1, k2, k3, k4, k5, k6, k7, k8⟩ := h
  refine ⟨fun b b1 b2 b3 => ?_, ?_, fun j j1 j2 => ?_, fun j j1 j2 => ?_, fun j j1 j2 => ?_, fun b b1 b2 => ?_, k7, ?_⟩
  · rw [up_n (by omega)] at b3
    obtain ⟨t1, t2, t3, t4, t5, t6, t7, t8⟩ := k1 b b1 b2 b3
    have hFb := hm.hf b b1 b2 b3
    refine ⟨t1, t2, by rw [up_n (by omega)]; exact t3, by rw [up_n (by omega), up_n (by omega)]; exact t4, by rw [up_n (by omega)]; exact t5, by rw [up_n (by omega)]; exact t6, fun j j1 j2 => ?_, fun j j1 j2 => ?_⟩
    · rw [up_n (by omega)] at j2
      by_cases hb : b = a
      · subst hb
        unfold up2 up
        rw [if_pos rfl]
        by_cases hj : j = f
        · rw [if_pos hj, if_pos (by omega)]
        · rw [if_neg hj, if_neg (by omega)]
          exact t7 j j1 j2
      · unfold up2
        rw [if_neg hb, up_n, t7 j j1 j2]
        intro q
        exact hb (wd_u hm b1 b2 a1 a2 (i := 1 + j) (j := 1 + f) (by omega) (by omega) (by omega) (by omega) (by omega))
    · rw [up_n (by omega), up_n (by omega)] at j2
      rw [up_n (j := 200 + b) (by omega), up_n, t8 j j1 j2]
      intro q
      have := wd_u hm b1 b2 a1 a2 (i := 1 + m (200 + b) + j) (j := 1 + f) (by omega) (by omega) (by omega) (by omega) (by omega)
      subst this
      omega
  · rw [up_n (by omega), up_n (by omega), up_n (by omega), up_n (by omega), up_n (by omega)]
    exact k2
  · rw [up_n (by omega)]; exact k3 j j1 j2
  · rw [up_n (by omega)]; exact k4 j j1 j2
  · rw [up_n (by omega)]; exact k5 j j1 j2
  · rw [ob_up (by omega)]; exact k6 b b1 b2
  · obtain ⟨h1, h2, h3⟩ := k8
    exact ⟨fun k q1 q2 => by have := h1 k q1 q2; rw [up_n (by omega)]; exact this, h2, fun b b1 b2 b3 => h3 b b1 b2 (by rw [up_n (by omega)] at b3; exact b3)⟩
theorem KM.data (hm : WF m) (h : (KM m hd D G adk nfk ndk pnk agk mkk flk dtk hwk dpk alk cok fek rpk rok wek plk mok eak lnk cpk elk owk skk txk tlk rfk slk hsk)) {a f y : Int} (a1 : 0 ≤ a) (a2 : a < 200) (a3 : 0 < m a) (f1 : 0 ≤ f) (f2 : f ≤ m a - 1 - m (200 + a) - 1) : (KM (up m (800 + a + 1 + m (200 + a) + f) y) hd D G adk nfk ndk pnk agk mkk flk (up2 dtk a (up (dtk a) f y)) hwk dpk alk cok fek rpk rok wek plk mok eak lnk cpk elk owk skk txk tlk rfk slk hsk) := by
  have hW := hm.hW
  have hE := hm.he a a1 a2 a3
  have hF := hm.hf a a1 a2 a3
  obtain ⟨k1, k2, k3, k4, k5, k6, k7, k8⟩ := h
  refine ⟨fun b b1 b2 b3 => ?_, ?_, fun j j1 j2 => ?_, fun j j1 j2 => ?_, fun j j1 j2 => ?_, fun b b1 b2 => ?_, k7, ?_⟩
  · rw [up_n (by omega)] at b3
    obtain ⟨t1, t2, t3, t4, t5, t6, t7, t8⟩ := k1 b b1 b2 b3
    have hFb := hm.hf b b1 b2 b3
    refine ⟨t1, t2, by rw [up_n (by omega)]; exact t3, by rw [up_n (by omega), up_n (by omega)]; exact t4, by rw [up_n (by omega)]; exact t5, by rw [up_n (by omega)]; exact t6, fun j j1 j2 => ?_, fun j j1 j2 => ?_⟩
    · rw [up_n (by omega)] at j2
      rw [up_n, t7 j j1 j2]
      intro q
      have := wd_u hm b1 b2 a1 a2 (i := 1 + j) (j := 1 + m (200 + a) + f) (by omega) (by omega) (by omega) (by omega) (by omega)
      subst this
      omega
    · rw [up_n (by omega), up_n (by omega)] at j2
      rw [up_n (j := 200 + b) (by omega)]
      by_cases hb : b = a
      · subst hb
        unfold up2 up
        rw [if_pos rfl]
        by_cases hj : j = f
        · rw [if_pos hj, if_pos (by omega)]
        · rw [if_neg hj, if_neg (by omega)]
          exact t8 j j1 j2
      · unfold up2
        rw [if_neg hb, up_n, t8 j j1 j2]
        intro q
        exact hb (wd_u hm b1 b2 a1 a2 (i := 1 + m (200 + b) + j) (j := 1 + m (200 + a) + f) (by omega) (by omega) (by omega) (by omega) (by omega))
  · rw [up_n (by omega), up_n (by omega), up_n (by omega), up_n (by omega), up_n (by omega)]
    exact k2
  · rw [up_n (by omega)]; exact k3 j j1 j2
  · rw [up_n (by omega)]; exact k4 j j1 j2
  · rw [up_n (by omega)]; exact k5 j j1 j2
  · rw [ob_up (by omega)]; exact k6 b b1 b2
  · obtain ⟨h1, h2, h3⟩ := k8
    exact ⟨fun k q1 q2 => by have := h1 k q1 q2; rw [up_n (by omega)]; exact this, h2, fun b b1 b2 b3 => h3 b b1 b2 (by rw [up_n (by omega)] at b3; exact b3)⟩
/-- a change of the numbers behind the words: what the things say stays -/
theorem KM.hi (hm : WF m) (h : (KM m hd D G adk nfk ndk pnk agk mkk flk dtk hwk dpk alk cok fek rpk rok wek plk mok eak lnk cpk elk owk skk txk tlk rfk slk hsk)) {j v : Int} (hj : 1000 ≤ j) : (∀ a, 0 ≤ a → a < 200 → 0 < up m j v a → TH D G a ∧ adk a = a ∧ nfk a = up m j v (200 + a) ∧ ndk a = up m j v a - 1 - up m j v (200 + a) ∧ pnk a = up m j v (400 + a) ∧ agk a = up m j v (600 + a) ∧ (∀ i, 0 ≤ i → i < up m j v (200 + a) → flk a i = up m j v (800 + a + 1 + i)) ∧ (∀ i, 0 ≤ i → i < up m j v a - 1 - up m j v (200 + a) → dtk a i = up m j v (800 + a + 1 + up m j v (200 + a) + i))) ∧ HDS (up m j v) hd lnk := by
  have hW := hm.hW
  refine ⟨fun a a1 a2 a3 => ?_, ?_⟩
  · rw [up_n (by omega)] at a3
    have hE := hm.he a a1 a2 a3
    have hF := hm.hf a a1 a2 a3
    obtain ⟨t1, t2, t3, t4, t5, t6, t7, t8⟩ := h.1 a a1 a2 a3
    rw [up_n (j := a) (by omega), up_n (j := 200 + a) (by omega)]
    refine ⟨t1, t2, t3, t4, by rw [up_n (by omega)]; exact t5, by rw [up_n (by omega)]; exact t6, fun i i1 i2 => ?_, fun i i1 i2 => ?_⟩
    · rw [up_n (by omega)]; exact t7 i i1 i2
    · rw [up_n (by omega)]; exact t8 i i1 i2
  · obtain ⟨h1, h2, h3⟩ := h.hs
    exact ⟨fun k q1 q2 => by have := h1 k q1 q2; rw [up_n (by omega)]; exact this, h2, fun b b1 b2 b3 => h3 b b1 b2 (by rw [up_n (by omega)] at b3; exact b3)⟩
theorem KM.root (hm : WF m) (h : (KM m hd D G adk nfk ndk pnk agk mkk flk dtk hwk dpk alk cok fek rpk rok wek plk mok eak lnk cpk elk owk skk txk tlk rfk slk hsk)) {k y : Int} (h1 : 0 ≤ k) (h2 : k ≤ 5) : (KM (up m (1200 + k) y) hd D G adk nfk ndk pnk agk mkk flk dtk hwk dpk alk cok fek rpk (up rok k y) wek plk mok eak lnk cpk elk owk skk txk tlk rfk slk hsk) := by
  obtain ⟨g1, g2⟩ := h.hi hm (j := 1200 + k) (v := y) (by omega)
  obtain ⟨k1, k2, k3, k4, k5, k6, k7, k8⟩ := h
  refine ⟨g1, ?_, fun j j1 j2 => ?_, fun j j1 j2 => ?_, fun j j1 j2 => ?_, fun b b1 b2 => ?_, k7, g2⟩
  · rw [up_n (by omega), up_n (by omega), up_n (by omega), up_n (by omega), up_n (by omega)]
    exact k2
  · unfold up
    by_cases hj : j = k
    · rw [if_pos hj, if_pos (by omega)]
    · rw [if_neg hj, if_neg (by omega)]; exact k3 j j1 j2
  · rw [up_n (by omega)]; exact k4 j j1 j2
  · rw [up_n (by omega)]; exact k5 j j1 j2
  · rw [ob_up (by omega)]; exact k6 b b1 b2
theorem KM.weak (hm : WF m) (h : (KM m hd D G adk nfk ndk pnk agk mkk flk dtk hwk dpk alk cok fek rpk rok wek plk mok eak lnk cpk elk owk skk txk tlk rfk slk hsk)) {k y : Int} (h1 : 0 ≤ k) (h2 : k ≤ 3) : (KM (up m (1206 + k) y) hd D G adk nfk ndk pnk agk mkk flk dtk hwk dpk alk cok fek rpk rok (up wek k y) plk mok eak lnk cpk elk owk skk txk tlk rfk slk hsk) := by
  obtain ⟨g1, g2⟩ := h.hi hm (j := 1206 + k) (v := y) (by omega)
  obtain ⟨k1, k2, k3, k4, k5, k6, k7, k8⟩ := h
  refine ⟨g1, ?_, fun j j1 j2 => ?_, fun j j1 j2 => ?_, fun j j1 j2 => ?_, fun b b1 b2 => ?_, k7, g2⟩
  · rw [up_n (by omega), up_n (by omega), up_n (by omega), up_n (by omega), up_n (by omega)]
    exact k2
  · rw [up_n (by omega)]; exact k3 j j1 j2
  · unfold up
    by_cases hj : j = k
    · rw [if_pos hj, if_pos (by omega)]
    · rw [if_neg hj, if_neg (by omega)]; exact k4 j j1 j2
  · rw [up_n (by omega)]; exact k5 j j1 j2
  · rw [ob_up (by omega)]; exact k6 b b1 b2
theorem KM.pin (hm : WF m) (h : (KM m hd D G adk nfk ndk pnk agk mkk flk dtk hwk dpk alk cok fek rpk rok wek plk mok eak lnk cpk elk owk skk txk tlk rfk slk hsk)) {a v : Int} (a1 : 0 ≤ a) (a2 : a < 200) (a3 : 0 < m a) : (KM (up m (400 + a) v) hd D G adk nfk ndk (up pnk a v) agk mkk flk dtk hwk dpk alk cok fek rpk rok wek plk mok eak lnk cpk elk owk skk txk tlk rfk slk hsk) := by
  have hW := hm.hW
  obtain ⟨k1, k2, k3, k4, k5, k6, k7, k8⟩ := h
  refine ⟨fun b b1 b2 b3 => ?_, ?_, fun j j1 j2 => ?_, fun j j1 j2 => ?_, fun j j1 j2 => ?_, fun b b1 b2 => ?_, k7, ?_⟩
  · rw [up_n (by omega)] at b3
    have hE := hm.he b b1 b2 b3
    have hF := hm.hf b b1 b2 b3
    obtain ⟨t1, t2, t3, t4, t5, t6, t7, t8⟩ := k1 b b1 b2 b3
    rw [up_n (j := b) (by omega), up_n (j := 200 + b) (by omega)]
    refine ⟨t1, t2, t3, t4, ?_, by rw [up_n (by omega)]; exact t6, fun i i1 i2 => ?_, fun i i1 i2 => ?_⟩
    · unfold up
      by_cases hb : b = a
      · rw [if_pos hb, if_pos (by omega)]
      · rw [if_neg hb, if_neg (by omega)]; exact t5
    · rw [up_n (by omega)]; exact t7 i i1 i2
    · rw [up_n (by omega)]; exact t8 i i1 i2
  · rw [up_n (by omega), up_n (by omega), up_n (by omega), up_n (by omega), up_n (by omega)]
    exact k2
  · rw [up_n (by omega)]; exact k3 j j1 j2
  · rw [up_n (by omega)]; exact k4 j j1 j2
  · rw [up_n (by omega)]; exact k5 j j1 j2
  · rw [ob_up (by omega)]; exact k6 b b1 b2
  · obtain ⟨h1, h2, h3⟩ := k8
    exact ⟨fun k q1 q2 => by have := h1 k q1 q2; rw [up_n (by omega)]; exact this, h2, fun b b1 b2 b3 => h3 b b1 b2 (by rw [up_n (by omega)] at b3; exact b3)⟩
theorem kc_setField (hg : HU D G) (hu : XU D G) (hm : WF m) (h : (KM m hd D G adk nfk ndk pnk agk mkk flk dtk hwk dpk alk cok fek rpk rok wek plk mok eak lnk cpk elk owk skk txk tlk rfk slk hsk)) {x f y : Int} (hx : ir x) (hf : ir f) (hy : ir y) : f_X0_setField (G 3 7) (J x) (J f) (J y) (cput D (cel G adk nfk ndk pnk agk mkk flk dtk hwk dpk alk cok fek rpk rok wek plk mok eak lnk cpk elk owk skk txk tlk rfk slk hsk) σ) = some (if ob m x ≠ -1 ∧ (0 ≤ f ∧ f ≤ m (200 + ob m x) - 1) ∧ (y = -1 ∨ ob m y ≠ -1) then (J (m (800 + ob m x + 1 + f)), (cput D (cel G adk nfk ndk pnk agk mkk (up2 flk (ob m x) (up (flk (ob m x)) f y)) dtk hwk dpk alk cok fek rpk rok wek plk mok eak lnk cpk elk owk skk txk tlk rfk slk hsk) σ)) else (J (-1000002), (cput D (cel G adk nfk ndk pnk agk mkk flk dtk hwk dpk alk cok fek rpk rok wek plk mok eak lnk cpk elk owk skk txk tlk rfk slk hsk) σ))) := by
  have hf' := hf
  obtain ⟨f1, f2⟩ := hf
  unfold f_X0_setField f_X0_hasField f_X0_exchange
  rcases ob_r (m := m) x with h9 | ⟨a1, a2, a3, -⟩
  · simp (disch := first | assumption | exact HU.lu (by assumption) | exact cw_okn | exact cw_ok3 (by assumption) | exact cw_ok5 (by assumption) | omega) only [J_add, J_sub, J_mul, J_neg, J_lit, J_lt, J_le, J_eq, Option.bind_some, Int.reduceAdd, Int.reduceSub, Int.reduceMul, Int.reduceNeg, Int.reduceEq, Int.reduceLT, Int.reduceLE, reduceIte, Int.zero_add, Int.add_zero, and_self, true_and, and_true, false_and, and_false, or_true, true_or, or_false, false_or, not_true_eq_false, not_false_eq_true, ne_eq, b2_s, cw_gadk, cw_gpnk, cw_gagk, cw_gmkk, cw_gfl, cw_gdt, cw_kth, cw_afl, cw_nfl, cw_adt, cw_ndt, cw_gmok, cw_geak, cw_glnk, cw_k0, cw_k6, cw_k7, cw_aowk, cw_aelk, cw_askk, cw_aslk, cw_nelk, cw_arok, cw_nrok, cw_awek, cw_nwek, cw_aplk, cw_nplk, cw_atxk, cw_ntxk, cw_ghwk, cw_gdpk, cw_galk, cw_gcok, cw_gfek, cw_h2, cw_h3, cw_h4, cw_h5, cw_h10, cw_grpk, cw_x0, cw_x1, cw_x2, cw_x5, cw_gtlk, cw_grfk, cw_ghsk, cw_padk, cw_pagk, cw_pmkk, cw_ppnk, cw_zpnk, cw_sfl, cw_sdt, cw_pmok, cw_peak, cw_plnk, cw_sowk, cw_selk, cw_sskk, cw_sslk, cw_srok, cw_swek, cw_splk, cw_palk, cw_pcok, cw_pfek, cw_prpk, cw_ptlk, cw_prfk, cw_phsk, cw_stxk, cw_ok3, cw_ok5, cw_okn, kc_at hg hm h hx, h9, mt_n]
  · have hfa := hm.hf _ a1 a2 a3
    obtain ⟨t1, t2, t3, t4, t5, t6, t7, t8⟩ := h.th a1 a2 a3
    by_cases h1 : 0 ≤ f ∧ f ≤ m (200 + ob m x) - 1
    · by_cases h2 : y = -1 ∨ ob m y ≠ -1
      · rw [if_pos (c := ob m x ≠ -1 ∧ (0 ≤ f ∧ f ≤ m (200 + ob m x) - 1) ∧ (y = -1 ∨ ob m y ≠ -1)) ⟨by omega, h1, h2⟩]
        simp (disch := first | assumption | exact HU.lu (by assumption) | exact cw_okn | exact cw_ok3 (by assumption) | exact cw_ok5 (by assumption) | omega) only [J_add, J_sub, J_mul, J_neg, J_lit, J_lt, J_le, J_eq, Option.bind_some, Int.reduceAdd, Int.reduceSub, Int.reduceMul, Int.reduceNeg, Int.reduceEq, Int.reduceLT, Int.reduceLE, reduceIte, Int.zero_add, Int.add_zero, and_self, true_and, and_true, false_and, and_false, or_true, true_or, or_false, false_or, not_true_eq_false, not_false_eq_true, ne_eq, b2_s, cw_gadk, cw_gpnk, cw_gagk, cw_gmkk, cw_gfl, cw_gdt, cw_kth, cw_afl, cw_nfl, cw_adt, cw_ndt, cw_gmok, cw_geak, cw_glnk, cw_k0, cw_k6, cw_k7, cw_aowk, cw_aelk, cw_askk, cw_aslk, cw_nelk, cw_arok, cw_nrok, cw_awek, cw_nwek, cw_aplk, cw_nplk, cw_atxk, cw_ntxk, cw_ghwk, cw_gdpk, cw_galk, cw_gcok, cw_gfek, cw_h2, cw_h3, cw_h4, cw_h5, cw_h10, cw_grpk, cw_x0, cw_x1, cw_x2, cw_x5, cw_gtlk, cw_grfk, cw_ghsk, cw_padk, cw_pagk, cw_pmkk, cw_ppnk, cw_zpnk, cw_sfl, cw_sdt, cw_pmok, cw_peak, cw_plnk, cw_sowk, cw_selk, cw_sskk, cw_sslk, cw_srok, cw_swek, cw_splk, cw_palk, cw_pcok, cw_pfek, cw_prpk, cw_ptlk, cw_prfk, cw_phsk, cw_stxk, cw_ok3, cw_ok5, cw_okn, kc_at hg hm h hx, if_neg (show ¬ ob m x = -1 by omega), mt_s, t3, kc_in hf' (show ir 0 by unfold ir; omega) (show ir (m (200 + ob m x) - 1) by unfold ir; omega), if_pos h1, kc_isRef hg hm h hy, if_pos h2, t7 f (by omega) (by omega)]
      · rw [if_neg (c := ob m x ≠ -1 ∧ (0 ≤ f ∧ f ≤ m (200 + ob m x) - 1) ∧ (y = -1 ∨ ob m y ≠ -1)) (fun q => h2 q.2.2)]
        simp (disch := first | assumption | exact HU.lu (by assumption) | exact cw_okn | exact cw_ok3 (by assumption) | exact cw_ok5 (by assumption) | omega) only [J_add, J_sub, J_mul, J_neg, J_lit, J_lt, J_le, J_eq, Option.bind_some, Int.reduceAdd, Int.reduceSub, Int.reduceMul, Int.reduceNeg, Int.reduceEq, Int.reduceLT, Int.reduceLE, reduceIte, Int.zero_add, Int.add_zero, and_self, true_and, and_true, false_and, and_false, or_true, true_or, or_false, false_or, not_true_eq_false, not_false_eq_true, ne_eq, b2_s, cw_gadk, cw_gpnk, cw_gagk, cw_gmkk, cw_gfl, cw_gdt, cw_kth, cw_afl, cw_nfl, cw_adt, cw_ndt, cw_gmok, cw_geak, cw_glnk, cw_k0, cw_k6, cw_k7, cw_aowk, cw_aelk, cw_askk, cw_aslk, cw_nelk, cw_arok, cw_nrok, cw_awek, cw_nwek, cw_aplk, cw_nplk, cw_atxk, cw_ntxk, cw_ghwk, cw_gdpk, cw_galk, cw_gcok, cw_gfek, cw_h2, cw_h3, cw_h4, cw_h5, cw_h10, cw_grpk, cw_x0, cw_x1, cw_x2, cw_x5, cw_gtlk, cw_grfk, cw_ghsk, cw_padk, cw_pagk, cw_pmkk, cw_ppnk, cw_zpnk, cw_sfl, cw_sdt, cw_pmok, cw_peak, cw_plnk, cw_sowk, cw_selk, cw_sskk, cw_sslk, cw_srok, cw_swek, cw_splk, cw_palk, cw_pcok, cw_pfek, cw_prpk, cw_ptlk, cw_prfk, cw_phsk, cw_stxk, cw_ok3, cw_ok5, cw_okn, kc_at hg hm h hx, if_neg (show ¬ ob m x = -1 by omega), mt_s, t3, kc_in hf' (show ir 0 by unfold ir; omega) (show ir (m (200 + ob m x) - 1) by unfold ir; omega), if_pos h1, kc_isRef hg hm h hy, if_neg h2]
    · rw [if_neg (c := ob m x ≠ -1 ∧ (0 ≤ f ∧ f ≤ m (200 + ob m x) - 1) ∧ (y = -1 ∨ ob m y ≠ -1)) (fun q => h1 q.2.1)]
      simp (disch := first | assumption | exact HU.lu (by assumption) | exact cw_okn | exact cw_ok3 (by assumption) | exact cw_ok5 (by assumption) | omega) only [J_add, J_sub, J_mul, J_neg, J_lit, J_lt, J_le, J_eq, Option.bind_some, Int.reduceAdd, Int.reduceSub, Int.reduceMul, Int.reduceNeg, Int.reduceEq, Int.reduceLT, Int.reduceLE, reduceIte, Int.zero_add, Int.add_zero, and_self, true_and, and_true, false_and, and_false, or_true, true_or, or_false, false_or, not_true_eq_false, not_false_eq_true, ne_eq, b2_s, cw_gadk, cw_gpnk, cw_gagk, cw_gmkk, cw_gfl, cw_gdt, cw_kth, cw_afl, cw_nfl, cw_adt, cw_ndt, cw_gmok, cw_geak, cw_glnk, cw_k0, cw_k6, cw_k7, cw_aowk, cw_aelk, cw_askk, cw_aslk, cw_nelk, cw_arok, cw_nrok, cw_awek, cw_nwek, cw_aplk, cw_nplk, cw_atxk, cw_ntxk, cw_ghwk, cw_gdpk, cw_galk, cw_gcok, cw_gfek, cw_h2, cw_h3, cw_h4, cw_h5, cw_h10, cw_grpk, cw_x0, cw_x1, cw_x2, cw_x5, cw_gtlk, cw_grfk, cw_ghsk, cw_padk, cw_pagk, cw_pmkk, cw_ppnk, cw_zpnk, cw_sfl, cw_sdt, cw_pmok, cw_peak, cw_plnk, cw_sowk, cw_selk, cw_sskk, cw_sslk, cw_srok, cw_swek, cw_splk, cw_palk, cw_pcok, cw_pfek, cw_prpk, cw_ptlk, cw_prfk, cw_phsk, cw_stxk, cw_ok3, cw_ok5, cw_okn, kc_at hg hm h hx, if_neg (show ¬ ob m x = -1 by omega), mt_s, t3, kc_in hf' (show ir 0 by unfold ir; omega) (show ir (m (200 + ob m x) - 1) by unfold ir; omega), if_neg h1]
theorem kc_setData (hg : HU D G) (hu : XU D G) (hm : WF m) (h : (KM m hd D G adk nfk ndk pnk agk mkk flk dtk hwk dpk alk cok fek rpk rok wek plk mok eak lnk cpk elk owk skk txk tlk rfk slk hsk)) {x f y : Int} (hx : ir x) (hf : ir f) (hy : ir y) : f_X0_setData (G 3 7) (J x) (J f) (J y) (cput D (cel G adk nfk ndk pnk agk mkk flk dtk hwk dpk alk cok fek rpk rok wek plk mok eak lnk cpk elk owk skk txk tlk rfk slk hsk) σ) = some (if ob m x ≠ -1 ∧ (0 ≤ f ∧ f ≤ m (ob m x) - 1 - m (200 + ob m x) - 1) ∧ (-1000000 ≤ y ∧ y ≤ 1000000) then (J (m (800 + ob m x + 1 + m (200 + ob m x) + f)), (cput D (cel G adk nfk ndk pnk agk mkk flk (up2 dtk (ob m x) (up (dtk (ob m x)) f y)) hwk dpk alk cok fek rpk rok wek plk mok eak lnk cpk elk owk skk txk tlk rfk slk hsk) σ)) else (J (-1000002), (cput D (cel G adk nfk ndk pnk agk mkk flk dtk hwk dpk alk cok fek rpk rok wek plk mok eak lnk cpk elk owk skk txk tlk rfk slk hsk) σ))) := by
  have hf' := hf
  obtain ⟨f1, f2⟩ := hf
  unfold f_X0_setData f_X0_hasData f_X0_exchange
  rcases ob_r (m := m) x with h9 | ⟨a1, a2, a3, -⟩
  · simp (disch := first | assumption | exact HU.lu (by assumption) | exact cw_okn | exact cw_ok3 (by assumption) | exact cw_ok5 (by assumption) | omega) only [J_add, J_sub, J_mul, J_neg, J_lit, J_lt, J_le, J_eq, Option.bind_some, Int.reduceAdd, Int.reduceSub, Int.reduceMul, Int.reduceNeg, Int.reduceEq, Int.reduceLT, Int.reduceLE, reduceIte, Int.zero_add, Int.add_zero, and_self, true_and, and_true, false_and, and_false, or_true, true_or, or_false, false_or, not_true_eq_false, not_false_eq_true, ne_eq, b2_s, cw_gadk, cw_gpnk, cw_gagk, cw_gmkk, cw_gfl, cw_gdt, cw_kth, cw_afl, cw_nfl, cw_adt, cw_ndt, cw_gmok, cw_geak, cw_glnk, cw_k0, cw_k6, cw_k7, cw_aowk, cw_aelk, cw_askk, cw_aslk, cw_nelk, cw_arok, cw_nrok, cw_awek, cw_nwek, cw_aplk, cw_nplk, cw_atxk, cw_ntxk, cw_ghwk, cw_gdpk, cw_galk, cw_gcok, cw_gfek, cw_h2, cw_h3, cw_h4, cw_h5, cw_h10, cw_grpk, cw_x0, cw_x1, cw_x2, cw_x5, cw_gtlk, cw_grfk, cw_ghsk, cw_padk, cw_pagk, cw_pmkk, cw_ppnk, cw_zpnk, cw_sfl, cw_sdt, cw_pmok, cw_peak, cw_plnk, cw_sowk, cw_selk, cw_sskk, cw_sslk, cw_srok, cw_swek, cw_splk, cw_palk, cw_pcok, cw_pfek, cw_prpk, cw_ptlk, cw_prfk, cw_phsk, cw_stxk, cw_ok3, cw_ok5, cw_okn, kc_at hg hm h hx, h9, mt_n]
  · have hfa := hm.hf _ a1 a2 a3
    obtain ⟨t1, t2, t3, t4, t5, t6, t7, t8⟩ := h.th a1 a2 a3
    have hin := kc_in (σ := (cput D (cel G adk nfk ndk pnk agk mkk flk dtk hwk dpk alk cok fek rpk rok wek plk mok eak lnk cpk elk owk skk txk tlk rfk slk hsk) σ)) hf' (show ir 0 by unfold ir; omega) (show ir (m (ob m x) - 1 - m (200 + ob m x) - 1) by unfold ir; omega)
    have hiy := kc_in (σ := (cput D (cel G adk nfk ndk pnk agk mkk flk dtk hwk dpk alk cok fek rpk rok wek plk mok eak lnk cpk elk owk skk txk tlk rfk slk hsk) σ)) hy (show ir (-1000000) by unfold ir; omega) (show ir 1000000 by unfold ir; omega)
    by_cases h1 : 0 ≤ f ∧ f ≤ m (ob m x) - 1 - m (200 + ob m x) - 1
    · by_cases h2 : -1000000 ≤ y ∧ y ≤ 1000000
      · rw [if_pos (c := ob m x ≠ -1 ∧ (0 ≤ f ∧ f ≤ m (ob m x) - 1 - m (200 + ob m x) - 1) ∧ (-1000000 ≤ y ∧ y ≤ 1000000)) ⟨by omega, h1, h2⟩]
        simp (disch := first | assumption | exact HU.lu (by assumption) | exact cw_okn | exact cw_ok3 (by assumption) | exact cw_ok5 (by assumption) | omega) only [J_add, J_sub, J_mul, J_neg, J_lit, J_lt, J_le, J_eq, Option.bind_some, Int.reduceAdd, Int.reduceSub, Int.reduceMul, Int.reduceNeg, Int.reduceEq, Int.reduceLT, Int.reduceLE, reduceIte, Int.zero_add, Int.add_zero, and_self, true_and, and_true, false_and, and_false, or_true, true_or, or_false, false_or, not_true_eq_false, not_false_eq_true, ne_eq, b2_s, cw_gadk, cw_gpnk, cw_gagk, cw_gmkk, cw_gfl, cw_gdt, cw_kth, cw_afl, cw_nfl, cw_adt, cw_ndt, cw_gmok, cw_geak, cw_glnk, cw_k0, cw_k6, cw_k7, cw_aowk, cw_aelk, cw_askk, cw_aslk, cw_nelk, cw_arok, cw_nrok, cw_awek, cw_nwek, cw_aplk, cw_nplk, cw_atxk, cw_ntxk, cw_ghwk, cw_gdpk, cw_galk, cw_gcok, cw_gfek, cw_h2, cw_h3, cw_h4, cw_h5, cw_h10, cw_grpk, cw_x0, cw_x1, cw_x2, cw_x5, cw_gtlk, cw_grfk, cw_ghsk, cw_padk, cw_pagk, cw_pmkk, cw_ppnk, cw_zpnk, cw_sfl, cw_sdt, cw_pmok, cw_peak, cw_plnk, cw_sowk, cw_selk, cw_sskk, cw_sslk, cw_srok, cw_swek, cw_splk, cw_palk, cw_pcok, cw_pfek, cw_prpk, cw_ptlk, cw_prfk, cw_phsk, cw_stxk, cw_ok3, cw_ok5, cw_okn, kc_at hg hm h hx, if_neg (show ¬ ob m x = -1 by omega), mt_s, t4, hin, if_pos h1, hiy, if_pos h2, t8 f (by omega) (by omega)]
      · rw [if_neg (c := ob m x ≠ -1 ∧ (0 ≤ f ∧ f ≤ m (ob m x) - 1 - m (200 + ob m x) - 1) ∧ (-1000000 ≤ y ∧ y ≤ 1000000)) (fun q => h2 q.2.2)]
        simp (disch := first | assumption | exact HU.lu (by assumption) | exact cw_okn | exact cw_ok3 (by assumption) | exact cw_ok5 (by assumption) | omega) only [J_add, J_sub, J_mul, J_neg, J_lit, J_lt, J_le, J_eq, Option.bind_some, Int.reduceAdd, Int.reduceSub, Int.reduceMul, Int.reduceNeg, Int.reduceEq, Int.reduceLT, Int.reduceLE, reduceIte, Int.zero_add, Int.add_zero, and_self, true_and, and_true, false_and, and_false, or_true, true_or, or_false, false_or, not_true_eq_false, not_false_eq_true, ne_eq, b2_s, cw_gadk, cw_gpnk, cw_gagk, cw_gmkk, cw_gfl, cw_gdt, cw_kth, cw_afl, cw_nfl, cw_adt, cw_ndt, cw_gmok, cw_geak, cw_glnk, cw_k0, cw_k6, cw_k7, cw_aowk, cw_aelk, cw_askk, cw_aslk, cw_nelk, cw_arok, cw_nrok, cw_awek, cw_nwek, cw_aplk, cw_nplk, cw_atxk, cw_ntxk, cw_ghwk, cw_gdpk, cw_galk, cw_gcok, cw_gfek, cw_h2, cw_h3, cw_h4, cw_h5, cw_h10, cw_grpk, cw_x0, cw_x1, cw_x2, cw_x5, cw_gtlk, cw_grfk, cw_ghsk, cw_padk, cw_pagk, cw_pmkk, cw_ppnk, cw_zpnk, cw_sfl, cw_sdt, cw_pmok, cw_peak, cw_plnk, cw_sowk, cw_selk, cw_sskk, cw_sslk, cw_srok, cw_swek, cw_splk, cw_palk, cw_pcok, cw_pfek, cw_prpk, cw_ptlk, cw_prfk, cw_phsk, cw_stxk, cw_ok3, cw_ok5, cw_okn, kc_at hg hm h hx, if_neg (show ¬ ob m x = -1 by omega), mt_s, t4, hin, if_pos h1, hiy, if_neg h2]
    · rw [if_neg (c := ob m x ≠ -1 ∧ (0 ≤ f ∧ f ≤ m (ob m x) - 1 - m (200 + ob m x) - 1) ∧ (-1000000 ≤ y ∧ y ≤ 1000000)) (fun q => h1 q.2.1)]
      simp (disch := first | assumption | exact HU.lu (by assumption) | exact cw_okn | exact cw_ok3 (by assumption) | exact cw_ok5 (by assumption) | omega) only [J_add, J_sub, J_mul, J_neg, J_lit, J_lt, J_le, J_eq, Option.bind_some, Int.reduceAdd, Int.reduceSub, Int.reduceMul, Int.reduceNeg, Int.reduceEq, Int.reduceLT, Int.reduceLE, reduceIte, Int.zero_add, Int.add_zero, and_self, true_and, and_true, false_and, and_false, or_true, true_or, or_false, false_or, not_true_eq_false, not_false_eq_true, ne_eq, b2_s, cw_gadk, cw_gpnk, cw_gagk, cw_gmkk, cw_gfl, cw_gdt, cw_kth, cw_afl, cw_nfl, cw_adt, cw_ndt, cw_gmok, cw_geak, cw_glnk, cw_k0, cw_k6, cw_k7, cw_aowk, cw_aelk, cw_askk, cw_aslk, cw_nelk, cw_arok, cw_nrok, cw_awek, cw_nwek, cw_aplk, cw_nplk, cw_atxk, cw_ntxk, cw_ghwk, cw_gdpk, cw_galk, cw_gcok, cw_gfek, cw_h2, cw_h3, cw_h4, cw_h5, cw_h10, cw_grpk, cw_x0, cw_x1, cw_x2, cw_x5, cw_gtlk, cw_grfk, cw_ghsk, cw_padk, cw_pagk, cw_pmkk, cw_ppnk, cw_zpnk, cw_sfl, cw_sdt, cw_pmok, cw_peak, cw_plnk, cw_sowk, cw_selk, cw_sskk, cw_sslk, cw_srok, cw_swek, cw_splk, cw_palk, cw_pcok, cw_pfek, cw_prpk, cw_ptlk, cw_prfk, cw_phsk, cw_stxk, cw_ok3, cw_ok5, cw_okn, kc_at hg hm h hx, if_neg (show ¬ ob m x = -1 by omega), mt_s, t4, hin, if_neg h1]
theorem kc_setRoot (hg : HU D G) (hu : XU D G) (hm : WF m) (h : (KM m hd D G adk nfk ndk pnk agk mkk flk dtk hwk dpk alk cok fek rpk rok wek plk mok eak lnk cpk elk owk skk txk tlk rfk slk hsk)) {k x : Int} (hk : ir k) (hx : ir x) : f_X0_setRoot (G 3 7) (J k) (J x) (cput D (cel G adk nfk ndk pnk agk mkk flk dtk hwk dpk alk cok fek rpk rok wek plk mok eak lnk cpk elk owk skk txk tlk rfk slk hsk) σ) = some (if (0 ≤ k ∧ k ≤ 5) ∧ (x = -1 ∨ ob m x ≠ -1) then (J (m (1200 + k)), (cput D (cel G adk nfk ndk pnk agk mkk flk dtk hwk dpk alk cok fek rpk (up rok k x) wek plk mok eak lnk cpk elk owk skk txk tlk rfk slk hsk) σ)) else (J (-1000002), (cput D (cel G adk nfk ndk pnk agk mkk flk dtk hwk dpk alk cok fek rpk rok wek plk mok eak lnk cpk elk owk skk txk tlk rfk slk hsk) σ))) := by
  have hk' := hk
  obtain ⟨k1, k2⟩ := hk
  unfold f_X0_setRoot f_X0_exchange
  rw [J_lit, J_lit, kc_in hk' (by unfold ir; omega) (by unfold ir; omega)]
  by_cases h1 : 0 ≤ k ∧ k ≤ 5
  · by_cases h2 : x = -1 ∨ ob m x ≠ -1
    · rw [if_pos h1, if_pos ⟨h1, h2⟩]
      simp (disch := first | assumption | exact HU.lu (by assumption) | exact cw_okn | exact cw_ok3 (by assumption) | exact cw_ok5 (by assumption) | omega) only [J_add, J_sub, J_mul, J_neg, J_lit, J_lt, J_le, J_eq, Option.bind_some, Int.reduceAdd, Int.reduceSub, Int.reduceMul, Int.reduceNeg, Int.reduceEq, Int.reduceLT, Int.reduceLE, reduceIte, Int.zero_add, Int.add_zero, and_self, true_and, and_true, false_and, and_false, or_true, true_or, or_false, false_or, not_true_eq_false, not_false_eq_true, ne_eq, b2_s, cw_gadk, cw_gpnk, cw_gagk, cw_gmkk, cw_gfl, cw_gdt, cw_kth, cw_afl, cw_nfl, cw_adt, cw_ndt, cw_gmok, cw_geak, cw_glnk, cw_k0, cw_k6, cw_k7, cw_aowk, cw_aelk, cw_askk, cw_aslk, cw_nelk, cw_arok, cw_nrok, cw_awek, cw_nwek, cw_aplk, cw_nplk, cw_atxk, cw_ntxk, cw_ghwk, cw_gdpk, cw_galk, cw_gcok, cw_gfek, cw_h2, cw_h3, cw_h4, cw_h5, cw_h10, cw_grpk, cw_x0, cw_x1, cw_x2, cw_x5, cw_gtlk, cw_grfk, cw_ghsk, cw_padk, cw_pagk, cw_pmkk, cw_ppnk, cw_zpnk, cw_sfl, cw_sdt, cw_pmok, cw_peak, cw_plnk, cw_sowk, cw_selk, cw_sskk, cw_sslk, cw_srok, cw_swek, cw_splk, cw_palk, cw_pcok, cw_pfek, cw_prpk, cw_ptlk, cw_prfk, cw_phsk, cw_stxk, cw_ok3, cw_ok5, cw_okn, kc_isRef hg hm h hx, if_pos h2, h.ro k (by omega) (by omega)]
    · rw [if_pos h1, if_neg (c := (0 ≤ k ∧ k ≤ 5) ∧ (x = -1 ∨ ob m x ≠ -1)) (fun q => h2 q.2)]
      simp (disch := first | assumption | exact HU.lu (by assumption) | exact cw_okn | exact cw_ok3 (by assumption) | exact cw_ok5 (by assumption) | omega) only [J_add, J_sub, J_mul, J_neg, J_lit, J_lt, J_le, J_eq, Option.bind_some, Int.reduceAdd, Int.reduceSub, Int.reduceMul, Int.reduceNeg, Int.reduceEq, Int.reduceLT, Int.reduceLE, reduceIte, Int.zero_add, Int.add_zero, and_self, true_and, and_true, false_and, and_false, or_true, true_or, or_false, false_or, not_true_eq_false, not_false_eq_true, ne_eq, b2_s, cw_gadk, cw_gpnk, cw_gagk, cw_gmkk, cw_gfl, cw_gdt, cw_kth, cw_afl, cw_nfl, cw_adt, cw_ndt, cw_gmok, cw_geak, cw_glnk, cw_k0, cw_k6, cw_k7, cw_aowk, cw_aelk, cw_askk, cw_aslk, cw_nelk, cw_arok, cw_nrok, cw_awek, cw_nwek, cw_aplk, cw_nplk, cw_atxk, cw_ntxk, cw_ghwk, cw_gdpk, cw_galk, cw_gcok, cw_gfek, cw_h2, cw_h3, cw_h4, cw_h5, cw_h10, cw_grpk, cw_x0, cw_x1, cw_x2, cw_x5, cw_gtlk, cw_grfk, cw_ghsk, cw_padk, cw_pagk, cw_pmkk, cw_ppnk, cw_zpnk, cw_sfl, cw_sdt, cw_pmok, cw_peak, cw_plnk, cw_sowk, cw_selk, cw_sskk, cw_sslk, cw_srok, cw_swek, cw_splk, cw_palk, cw_pcok, cw_pfek, cw_prpk, cw_ptlk, cw_prfk, cw_phsk, cw_stxk, cw_ok3, cw_ok5, cw_okn, kc_isRef hg hm h hx, if_neg h2]
  · rw [if_neg h1, if_neg (c := (0 ≤ k ∧ k ≤ 5) ∧ (x = -1 ∨ ob m x ≠ -1)) (fun q => h1 q.1)]
    simp (disch := first | assumption | exact HU.lu (by assumption) | exact cw_okn | exact cw_ok3 (by assumption) | exact cw_ok5 (by assumption) | omega) only [J_add, J_sub, J_mul, J_neg, J_lit, J_lt, J_le, J_eq, Option.bind_some, Int.reduceAdd, Int.reduceSub, Int.reduceMul, Int.reduceNeg, Int.reduceEq, Int.reduceLT, Int.reduceLE, reduceIte, Int.zero_add, Int.add_zero, and_self, true_and, and_true, false_and, and_false, or_true, true_or, or_false, false_or, not_true_eq_false, not_false_eq_true, ne_eq, b2_s, cw_gadk, cw_gpnk, cw_gagk, cw_gmkk, cw_gfl, cw_gdt, cw_kth, cw_afl, cw_nfl, cw_adt, cw_ndt, cw_gmok, cw_geak, cw_glnk, cw_k0, cw_k6, cw_k7, cw_aowk, cw_aelk, cw_askk, cw_aslk, cw_nelk, cw_arok, cw_nrok, cw_awek, cw_nwek, cw_aplk, cw_nplk, cw_atxk, cw_ntxk, cw_ghwk, cw_gdpk, cw_galk, cw_gcok, cw_gfek, cw_h2, cw_h3, cw_h4, cw_h5, cw_h10, cw_grpk, cw_x0, cw_x1, cw_x2, cw_x5, cw_gtlk, cw_grfk, cw_ghsk, cw_padk, cw_pagk, cw_pmkk, cw_ppnk, cw_zpnk, cw_sfl, cw_sdt, cw_pmok, cw_peak, cw_plnk, cw_sowk, cw_selk, cw_sskk, cw_sslk, cw_srok, cw_swek, cw_splk, cw_palk, cw_pcok, cw_pfek, cw_prpk, cw_ptlk, cw_prfk, cw_phsk, cw_stxk, cw_ok3, cw_ok5, cw_okn]
theorem kc_setWeak (hg : HU D G) (hu : XU D G) (hm : WF m) (h : (KM m hd D G adk nfk ndk pnk agk mkk flk dtk hwk dpk alk cok fek rpk rok wek plk mok eak lnk cpk elk owk skk txk tlk rfk slk hsk)) {k x : Int} (hk : ir k) (hx : ir x) : f_X0_setWeak (G 3 7) (J k) (J x) (cput D (cel G adk nfk ndk pnk agk mkk flk dtk hwk dpk alk cok fek rpk rok wek plk mok eak lnk cpk elk owk skk txk tlk rfk slk hsk) σ) = some (if (0 ≤ k ∧ k ≤ 3) ∧ (x = -1 ∨ ob m x ≠ -1) then (J (m (1206 + k)), (cput D (cel G adk nfk ndk pnk agk mkk flk dtk hwk dpk alk cok fek rpk rok (up wek k x) plk mok eak lnk cpk elk owk skk txk tlk rfk slk hsk) σ)) else (J (-1000002), (cput D (cel G adk nfk ndk pnk agk mkk flk dtk hwk dpk alk cok fek rpk rok wek plk mok eak lnk cpk elk owk skk txk tlk rfk slk hsk) σ))) := by
  have hk' := hk
  obtain ⟨k1, k2⟩ := hk
  unfold f_X0_setWeak f_X0_exchange
  rw [J_lit, J_lit, kc_in hk' (by unfold ir; omega) (by unfold ir; omega)]
  by_cases h1 : 0 ≤ k ∧ k ≤ 3
  · by_cases h2 : x = -1 ∨ ob m x ≠ -1
    · rw [if_pos h1, if_pos ⟨h1, h2⟩]
      simp (disch := first | assumption | exact HU.lu (by assumption) | exact cw_okn | exact cw_ok3 (by assumption) | exact cw_ok5 (by assumption) | omega) only [J_add, J_sub, J_mul, J_neg, J_lit, J_lt, J_le, J_eq, Option.bind_some, Int.reduceAdd, Int.reduceSub, Int.reduceMul, Int.reduceNeg, Int.reduceEq, Int.reduceLT, Int.reduceLE, reduceIte, Int.zero_add, Int.add_zero, and_self, true_and, and_true, false_and, and_false, or_true, true_or, or_false, false_or, not_true_eq_false, not_false_eq_true, ne_eq, b2_s, cw_gadk, cw_gpnk, cw_gagk, cw_gmkk, cw_gfl, cw_gdt, cw_kth, cw_afl, cw_nfl, cw_adt, cw_ndt, cw_gmok, cw_geak, cw_glnk, cw_k0, cw_k6, cw_k7, cw_aowk, cw_aelk, cw_askk, cw_aslk, cw_nelk, cw_arok, cw_nrok, cw_awek, cw_nwek, cw_aplk, cw_nplk, cw_atxk, cw_ntxk, cw_ghwk, cw_gdpk, cw_galk, cw_gcok, cw_gfek, cw_h2, cw_h3, cw_h4, cw_h5, cw_h10, cw_grpk, cw_x0, cw_x1, cw_x2, cw_x5, cw_gtlk, cw_grfk, cw_ghsk, cw_padk, cw_pagk, cw_pmkk, cw_ppnk, cw_zpnk, cw_sfl, cw_sdt, cw_pmok, cw_peak, cw_plnk, cw_sowk, cw_selk, cw_sskk, cw_sslk, cw_srok, cw_swek, cw_splk, cw_palk, cw_pcok, cw_pfek, cw_prpk, cw_ptlk, cw_prfk, cw_phsk, cw_stxk, cw_ok3, cw_ok5, cw_okn, kc_isRef hg hm h hx, if_pos h2, h.we k (by omega) (by omega)]
    · rw [if_pos h1, if_neg (c := (0 ≤ k ∧ k ≤ 3) ∧ (x = -1 ∨ ob m x ≠ -1)) (fun q => h2 q.2)]
      simp (disch := first | assumption | exact HU.lu (by assumption) | exact cw_okn | exact cw_ok3 (by assumption) | exact cw_ok5 (by assumption) | omega) only [J_add, J_sub, J_mul, J_neg, J_lit, J_lt, J_le, J_eq, Option.bind_some, Int.reduceAdd, Int.reduceSub, Int.reduceMul, Int.reduceNeg, Int.reduceEq, Int.reduceLT, Int.reduceLE, reduceIte, Int.zero_add, Int.add_zero, and_self, true_and, and_true, false_and, and_false, or_true, true_or, or_false, false_or, not_true_eq_false, not_false_eq_true, ne_eq, b2_s, cw_gadk, cw_gpnk, cw_gagk, cw_gmkk, cw_gfl, cw_gdt, cw_kth, cw_afl, cw_nfl, cw_adt, cw_ndt, cw_gmok, cw_geak, cw_glnk, cw_k0, cw_k6, cw_k7, cw_aowk, cw_aelk, cw_askk, cw_aslk, cw_nelk, cw_arok, cw_nrok, cw_awek, cw_nwek, cw_aplk, cw_nplk, cw_atxk, cw_ntxk, cw_ghwk, cw_gdpk, cw_galk, cw_gcok, cw_gfek, cw_h2, cw_h3, cw_h4, cw_h5, cw_h10, cw_grpk, cw_x0, cw_x1, cw_x2, cw_x5, cw_gtlk, cw_grfk, cw_ghsk, cw_padk, cw_pagk, cw_pmkk, cw_ppnk, cw_zpnk, cw_sfl, cw_sdt, cw_pmok, cw_peak, cw_plnk, cw_sowk, cw_selk, cw_sskk, cw_sslk, cw_srok, cw_swek, cw_splk, cw_palk, cw_pcok, cw_pfek, cw_prpk, cw_ptlk, cw_prfk, cw_phsk, cw_stxk, cw_ok3, cw_ok5, cw_okn, kc_isRef hg hm h hx, if_neg h2]
  · rw [if_neg h1, if_neg (c := (0 ≤ k ∧ k ≤ 3) ∧ (x = -1 ∨ ob m x ≠ -1)) (fun q => h1 q.1)]
    simp (disch := first | assumption | exact HU.lu (by assumption) | exact cw_okn | exact cw_ok3 (by assumption) | exact cw_ok5 (by assumption) | omega) only [J_add, J_sub, J_mul, J_neg, J_lit, J_lt, J_le, J_eq, Option.bind_some, Int.reduceAdd, Int.reduceSub, Int.reduceMul, Int.reduceNeg, Int.reduceEq, Int.reduceLT, Int.reduceLE, reduceIte, Int.zero_add, Int.add_zero, and_self, true_and, and_true, false_and, and_false, or_true, true_or, or_false, false_or, not_true_eq_false, not_false_eq_true, ne_eq, b2_s, cw_gadk, cw_gpnk, cw_gagk, cw_gmkk, cw_gfl, cw_gdt, cw_kth, cw_afl, cw_nfl, cw_adt, cw_ndt, cw_gmok, cw_geak, cw_glnk, cw_k0, cw_k6, cw_k7, cw_aowk, cw_aelk, cw_askk, cw_aslk, cw_nelk, cw_arok, cw_nrok, cw_awek, cw_nwek, cw_aplk, cw_nplk, cw_atxk, cw_ntxk, cw_ghwk, cw_gdpk, cw_galk, cw_gcok, cw_gfek, cw_h2, cw_h3, cw_h4, cw_h5, cw_h10, cw_grpk, cw_x0, cw_x1, cw_x2, cw_x5, cw_gtlk, cw_grfk, cw_ghsk, cw_padk, cw_pagk, cw_pmkk, cw_ppnk, cw_zpnk, cw_sfl, cw_sdt, cw_pmok, cw_peak, cw_plnk, cw_sowk, cw_selk, cw_sskk, cw_sslk, cw_srok, cw_swek, cw_splk, cw_palk, cw_pcok, cw_pfek, cw_prpk, cw_ptlk, cw_prfk, cw_phsk, cw_stxk, cw_ok3, cw_ok5, cw_okn]
theorem pn_hd (hm : WF m) (h : (KM m hd D G adk nfk ndk pnk agk mkk flk dtk hwk dpk alk cok fek rpk rok wek plk mok eak lnk cpk elk owk skk txk tlk rfk slk hsk)) : (∀ k, 0 ≤ k → k < lnk → pnk (hd k) = 0 ∨ pnk (hd k) = 1) ∧ sm (fun a => if 0 < m a ∧ m (400 + a) = 1 then 1 else 0) (m 1216).toNat = sm (fun k => pnk (hd k)) lnk.toNat := by
  have hh := h.hs
  obtain ⟨⟨l1, l2, l3, l4⟩, -, l6⟩ := h.ls
  constructor
  · intro k k1 k2
    obtain ⟨d1, d2, d3⟩ := hh.1 k k1 k2
    obtain ⟨-, -, -, -, t5, -⟩ := h.th d1 d2 d3
    rw [t5]
    exact hm.hp _ d1 d2
  · rw [sm_hd hm hh l1 _ (fun a a1 a2 a3 => if_neg (fun q => a3 q.1))]
    refine sm_congr _ (fun k hk => ?_)
    obtain ⟨d1, d2, d3⟩ := hh.1 k (by omega) (by omega)
    obtain ⟨-, -, -, -, t5, -⟩ := h.th d1 d2 d3
    rcases hm.hp _ d1 d2 with q | q <;> simp [t5, q, d3]
theorem kc_pin (hg : HU D G) (hu : XU D G) (hm : WF m) (h : (KM m hd D G adk nfk ndk pnk agk mkk flk dtk hwk dpk alk cok fek rpk rok wek plk mok eak lnk cpk elk owk skk txk tlk rfk slk hsk)) {x p : Int} (hx : ir x) (hp : p = 0 ∨ p = 1) : f_X0_pin (G 3 7) (J x) (J p) (cput D (cel G adk nfk ndk pnk agk mkk flk dtk hwk dpk alk cok fek rpk rok wek plk mok eak lnk cpk elk owk skk txk tlk rfk slk hsk) σ) = some (if ob m x = -1 then (J (-1000002), (cput D (cel G adk nfk ndk pnk agk mkk flk dtk hwk dpk alk cok fek rpk rok wek plk mok eak lnk cpk elk owk skk txk tlk rfk slk hsk) σ)) else if m (400 + ob m x) = p then (J (-1000003), (cput D (cel G adk nfk ndk pnk agk mkk flk dtk hwk dpk alk cok fek rpk rok wek plk mok eak lnk cpk elk owk skk txk tlk rfk slk hsk) σ)) else (J (sm (fun a => if 0 < m a ∧ up m (400 + ob m x) p (400 + a) = 1 then 1 else 0) (m 1216).toNat), (cput D (cel G adk nfk ndk (up pnk (ob m x) p) agk mkk flk dtk hwk dpk alk cok fek rpk rok wek plk mok eak lnk cpk elk owk skk txk tlk rfk slk hsk) σ))) := by
  have hW := hm.hW
  unfold f_X0_pin
  rcases ob_r (m := m) x with h9 | ⟨a1, a2, a3, -⟩
  · simp (disch := first | assumption | exact HU.lu (by assumption) | exact cw_okn | exact cw_ok3 (by assumption) | exact cw_ok5 (by assumption) | omega) only [J_add, J_sub, J_mul, J_neg, J_lit, J_lt, J_le, J_eq, Option.bind_some, Int.reduceAdd, Int.reduceSub, Int.reduceMul, Int.reduceNeg, Int.reduceEq, Int.reduceLT, Int.reduceLE, reduceIte, Int.zero_add, Int.add_zero, and_self, true_and, and_true, false_and, and_false, or_true, true_or, or_false, false_or, not_true_eq_false, not_false_eq_true, ne_eq, b2_s, cw_gadk, cw_gpnk, cw_gagk, cw_gmkk, cw_gfl, cw_gdt, cw_kth, cw_afl, cw_nfl, cw_adt, cw_ndt, cw_gmok, cw_geak, cw_glnk, cw_k0, cw_k6, cw_k7, cw_aowk, cw_aelk, cw_askk, cw_aslk, cw_nelk, cw_arok, cw_nrok, cw_awek, cw_nwek, cw_aplk, cw_nplk, cw_atxk, cw_ntxk, cw_ghwk, cw_gdpk, cw_galk, cw_gcok, cw_gfek, cw_h2, cw_h3, cw_h4, cw_h5, cw_h10, cw_grpk, cw_x0, cw_x1, cw_x2, cw_x5, cw_gtlk, cw_grfk, cw_ghsk, cw_padk, cw_pagk, cw_pmkk, cw_ppnk, cw_zpnk, cw_sfl, cw_sdt, cw_pmok, cw_peak, cw_plnk, cw_sowk, cw_selk, cw_sskk, cw_sslk, cw_srok, cw_swek, cw_splk, cw_palk, cw_pcok, cw_pfek, cw_prpk, cw_ptlk, cw_prfk, cw_phsk, cw_stxk, cw_ok3, cw_ok5, cw_okn, kc_at hg hm h hx, h9, mt_n]
  · obtain ⟨t1, t2, t3, t4, t5, t6, t7, t8⟩ := h.th a1 a2 a3
    have hpm := hm.hp _ a1 a2
    rw [if_neg (show ¬ ob m x = -1 by omega)]
    by_cases h1 : m (400 + ob m x) = p
    · rw [if_pos h1]
      simp (disch := first | assumption | exact HU.lu (by assumption) | exact cw_okn | exact cw_ok3 (by assumption) | exact cw_ok5 (by assumption) | omega) only [J_add, J_sub, J_mul, J_neg, J_lit, J_lt, J_le, J_eq, Option.bind_some, Int.reduceAdd, Int.reduceSub, Int.reduceMul, Int.reduceNeg, Int.reduceEq, Int.reduceLT, Int.reduceLE, reduceIte, Int.zero_add, Int.add_zero, and_self, true_and, and_true, false_and, and_false, or_true, true_or, or_false, false_or, not_true_eq_false, not_false_eq_true, ne_eq, b2_s, cw_gadk, cw_gpnk, cw_gagk, cw_gmkk, cw_gfl, cw_gdt, cw_kth, cw_afl, cw_nfl, cw_adt, cw_ndt, cw_gmok, cw_geak, cw_glnk, cw_k0, cw_k6, cw_k7, cw_aowk, cw_aelk, cw_askk, cw_aslk, cw_nelk, cw_arok, cw_nrok, cw_awek, cw_nwek, cw_aplk, cw_nplk, cw_atxk, cw_ntxk, cw_ghwk, cw_gdpk, cw_galk, cw_gcok, cw_gfek, cw_h2, cw_h3, cw_h4, cw_h5, cw_h10, cw_grpk, cw_x0, cw_x1, cw_x2, cw_x5, cw_gtlk, cw_grfk, cw_ghsk, cw_padk, cw_pagk, cw_pmkk, cw_ppnk, cw_zpnk, cw_sfl, cw_sdt, cw_pmok, cw_peak, cw_plnk, cw_sowk, cw_selk, cw_sskk, cw_sslk, cw_srok, cw_swek, cw_splk, cw_palk, cw_pcok, cw_pfek, cw_prpk, cw_ptlk, cw_prfk, cw_phsk, cw_stxk, cw_ok3, cw_ok5, cw_okn, kc_at hg hm h hx, if_neg (show ¬ ob m x = -1 by omega), mt_s, t5, h1]
    · rw [if_neg h1]
      have h2 := pn_hd (hm.pin a1 a2 hp) (h.pin hm (v := p) a1 a2 a3)
      have h3 := h2.2
      rw [up_n (show (1216 : Int) ≠ 400 + ob m x by omega)] at h3
      have h4 : ∀ n : Nat, (n : Int) ≤ 200 → sm (fun a => if 0 < up m (400 + ob m x) p a ∧ up m (400 + ob m x) p (400 + a) = 1 then 1 else 0) n = sm (fun a => if 0 < m a ∧ up m (400 + ob m x) p (400 + a) = 1 then 1 else 0) n := fun n hn => sm_congr _ (fun k hk => by rw [up_n (show (k : Int) ≠ 400 + ob m x by omega)])
      rw [h4 _ (by omega)] at h3
      rw [h3]
      simp (disch := first | assumption | exact HU.lu (by assumption) | exact cw_okn | exact cw_ok3 (by assumption) | exact cw_ok5 (by assumption) | omega) only [J_add, J_sub, J_mul, J_neg, J_lit, J_lt, J_le, J_eq, Option.bind_some, Int.reduceAdd, Int.reduceSub, Int.reduceMul, Int.reduceNeg, Int.reduceEq, Int.reduceLT, Int.reduceLE, reduceIte, Int.zero_add, Int.add_zero, and_self, true_and, and_true, false_and, and_false, or_true, true_or, or_false, false_or, not_true_eq_false, not_false_eq_true, ne_eq, b2_s, cw_gadk, cw_gpnk, cw_gagk, cw_gmkk, cw_gfl, cw_gdt, cw_kth, cw_afl, cw_nfl, cw_adt, cw_ndt, cw_gmok, cw_geak, cw_glnk, cw_k0, cw_k6, cw_k7, cw_aowk, cw_aelk, cw_askk, cw_aslk, cw_nelk, cw_arok, cw_nrok, cw_awek, cw_nwek, cw_aplk, cw_nplk, cw_atxk, cw_ntxk, cw_ghwk, cw_gdpk, cw_galk, cw_gcok, cw_gfek, cw_h2, cw_h3, cw_h4, cw_h5, cw_h10, cw_grpk, cw_x0, cw_x1, cw_x2, cw_x5, cw_gtlk, cw_grfk, cw_ghsk, cw_padk, cw_pagk, cw_pmkk, cw_ppnk, cw_zpnk, cw_sfl, cw_sdt, cw_pmok, cw_peak, cw_plnk, cw_sowk, cw_selk, cw_sskk, cw_sslk, cw_srok, cw_swek, cw_splk, cw_palk, cw_pcok, cw_pfek, cw_prpk, cw_ptlk, cw_prfk, cw_phsk, cw_stxk, cw_ok3, cw_ok5, cw_okn, kc_at hg hm h hx, if_neg (show ¬ ob m x = -1 by omega), mt_s, t5, if_neg h1, kc_pinned hg h.ls h2.1]
theorem by_id {v : Int} (h5 : 0 ≤ v) (h6 : v ≤ 127) : (J v).toInt8.toInt32 = J v := by
  have key : ∀ n : Fin 128, (J (n.val : Int)).toInt8.toInt32 = J (n.val : Int) := by decide +kernel
  have h8 := key ⟨v.toNat, by omega⟩
  dsimp only at h8
  rwa [Int.toNat_of_nonneg h5] at h8
theorem kc_type (hg : HU D G) (hu : XU D G) (htl : 0 ≤ tlk ∧ tlk ≤ 80) {x : Int} (hx : ir x) : f_X0_type (G 3 7) (J x) (cput D (cel G adk nfk ndk pnk agk mkk flk dtk hwk dpk alk cok fek rpk rok wek plk mok eak lnk cpk elk owk skk txk tlk rfk slk hsk) σ) = some (if 0 ≤ x ∧ x ≤ 127 then (if tlk = 80 then (J (-1000004), (cput D (cel G adk nfk ndk pnk agk mkk flk dtk hwk dpk alk cok fek rpk rok wek plk mok eak lnk cpk elk owk skk txk tlk rfk slk hsk) σ)) else (J (tlk + 1), (cput D (cel G adk nfk ndk pnk agk mkk flk dtk hwk dpk alk cok fek rpk rok wek plk mok eak lnk cpk elk owk skk (up txk tlk x) (tlk + 1) rfk slk hsk) σ))) else (J (-1000002), (cput D (cel G adk nfk ndk pnk agk mkk flk dtk hwk dpk alk cok fek rpk rok wek plk mok eak lnk cpk elk owk skk txk tlk rfk slk hsk) σ))) := by
  have hx' := hx
  obtain ⟨x1, x2⟩ := hx
  unfold f_X0_type
  by_cases h : 0 ≤ x ∧ x ≤ 127
  · by_cases h1 : tlk = 80
    · simp (disch := first | assumption | exact HU.lu (by assumption) | exact cw_okn | exact cw_ok3 (by assumption) | exact cw_ok5 (by assumption) | omega) only [J_add, J_sub, J_mul, J_neg, J_lit, J_lt, J_le, J_eq, Option.bind_some, Int.reduceAdd, Int.reduceSub, Int.reduceMul, Int.reduceNeg, Int.reduceEq, Int.reduceLT, Int.reduceLE, reduceIte, Int.zero_add, Int.add_zero, and_self, true_and, and_true, false_and, and_false, or_true, true_or, or_false, false_or, not_true_eq_false, not_false_eq_true, ne_eq, b2_s, cw_gadk, cw_gpnk, cw_gagk, cw_gmkk, cw_gfl, cw_gdt, cw_kth, cw_afl, cw_nfl, cw_adt, cw_ndt, cw_gmok, cw_geak, cw_glnk, cw_k0, cw_k6, cw_k7, cw_aowk, cw_aelk, cw_askk, cw_aslk, cw_nelk, cw_arok, cw_nrok, cw_awek, cw_nwek, cw_aplk, cw_nplk, cw_atxk, cw_ntxk, cw_ghwk, cw_gdpk, cw_galk, cw_gcok, cw_gfek, cw_h2, cw_h3, cw_h4, cw_h5, cw_h10, cw_grpk, cw_x0, cw_x1, cw_x2, cw_x5, cw_gtlk, cw_grfk, cw_ghsk, cw_padk, cw_pagk, cw_pmkk, cw_ppnk, cw_zpnk, cw_sfl, cw_sdt, cw_pmok, cw_peak, cw_plnk, cw_sowk, cw_selk, cw_sskk, cw_sslk, cw_srok, cw_swek, cw_splk, cw_palk, cw_pcok, cw_pfek, cw_prpk, cw_ptlk, cw_prfk, cw_phsk, cw_stxk, cw_ok3, cw_ok5, cw_okn, kc_in hx' (show ir 0 by unfold ir; omega) (show ir 127 by unfold ir; omega), if_pos h, h1]
    · simp (disch := first | assumption | exact HU.lu (by assumption) | exact cw_okn | exact cw_ok3 (by assumption) | exact cw_ok5 (by assumption) | omega) only [J_add, J_sub, J_mul, J_neg, J_lit, J_lt, J_le, J_eq, Option.bind_some, Int.reduceAdd, Int.reduceSub, Int.reduceMul, Int.reduceNeg, Int.reduceEq, Int.reduceLT, Int.reduceLE, reduceIte, Int.zero_add, Int.add_zero, and_self, true_and, and_true, false_and, and_false, or_true, true_or, or_false, false_or, not_true_eq_false, not_false_eq_true, ne_eq, b2_s, cw_gadk, cw_gpnk, cw_gagk, cw_gmkk, cw_gfl, cw_gdt, cw_kth, cw_afl, cw_nfl, cw_adt, cw_ndt, cw_gmok, cw_geak, cw_glnk, cw_k0, cw_k6, cw_k7, cw_aowk, cw_aelk, cw_askk, cw_aslk, cw_nelk, cw_arok, cw_nrok, cw_awek, cw_nwek, cw_aplk, cw_nplk, cw_atxk, cw_ntxk, cw_ghwk, cw_gdpk, cw_galk, cw_gcok, cw_gfek, cw_h2, cw_h3, cw_h4, cw_h5, cw_h10, cw_grpk, cw_x0, cw_x1, cw_x2, cw_x5, cw_gtlk, cw_grfk, cw_ghsk, cw_padk, cw_pagk, cw_pmkk, cw_ppnk, cw_zpnk, cw_sfl, cw_sdt, cw_pmok, cw_peak, cw_plnk, cw_sowk, cw_selk, cw_sskk, cw_sslk, cw_srok, cw_swek, cw_splk, cw_palk, cw_pcok, cw_pfek, cw_prpk, cw_ptlk, cw_prfk, cw_phsk, cw_stxk, cw_ok3, cw_ok5, cw_okn, kc_in hx' (show ir 0 by unfold ir; omega) (show ir 127 by unfold ir; omega), if_pos h, if_neg h1, by_id h.1 h.2]
  · simp (disch := first | assumption | exact HU.lu (by assumption) | exact cw_okn | exact cw_ok3 (by assumption) | exact cw_ok5 (by assumption) | omega) only [J_add, J_sub, J_mul, J_neg, J_lit, J_lt, J_le, J_eq, Option.bind_some, Int.reduceAdd, Int.reduceSub, Int.reduceMul, Int.reduceNeg, Int.reduceEq, Int.reduceLT, Int.reduceLE, reduceIte, Int.zero_add, Int.add_zero, and_self, true_and, and_true, false_and, and_false, or_true, true_or, or_false, false_or, not_true_eq_false, not_false_eq_true, ne_eq, b2_s, cw_gadk, cw_gpnk, cw_gagk, cw_gmkk, cw_gfl, cw_gdt, cw_kth, cw_afl, cw_nfl, cw_adt, cw_ndt, cw_gmok, cw_geak, cw_glnk, cw_k0, cw_k6, cw_k7, cw_aowk, cw_aelk, cw_askk, cw_aslk, cw_nelk, cw_arok, cw_nrok, cw_awek, cw_nwek, cw_aplk, cw_nplk, cw_atxk, cw_ntxk, cw_ghwk, cw_gdpk, cw_galk, cw_gcok, cw_gfek, cw_h2, cw_h3, cw_h4, cw_h5, cw_h10, cw_grpk, cw_x0, cw_x1, cw_x2, cw_x5, cw_gtlk, cw_grfk, cw_ghsk, cw_padk, cw_pagk, cw_pmkk, cw_ppnk, cw_zpnk, cw_sfl, cw_sdt, cw_pmok, cw_peak, cw_plnk, cw_sowk, cw_selk, cw_sskk, cw_sslk, cw_srok, cw_swek, cw_splk, cw_palk, cw_pcok, cw_pfek, cw_prpk, cw_ptlk, cw_prfk, cw_phsk, cw_stxk, cw_ok3, cw_ok5, cw_okn, kc_in hx' (show ir 0 by unfold ir; omega) (show ir 127 by unfold ir; omega), if_neg h]
theorem kc_report (hg : HU D G) (hu : XU D G) (hm : WF m) (hr : RPK m rpk D σ) {x : Int} (hx : ir x) : f_X0_report (G 3 7) (J x) (cput D (cel G adk nfk ndk pnk agk mkk flk dtk hwk dpk alk cok fek rpk rok wek plk mok eak lnk cpk elk owk skk txk tlk rfk slk hsk) σ) = some (J (if 0 ≤ x ∧ x ≤ 5 then (if m 1221 = 1 then m (1210 + x) else -1000003) else -1000002)) := by
  have hx' := hx
  obtain ⟨x1, x2⟩ := hx
  unfold f_X0_report
  by_cases h : 0 ≤ x ∧ x ≤ 5
  · rcases hr with ⟨r1, rfl⟩ | ⟨r1, p, rfl, r3, r4, -⟩
    · simp (disch := first | assumption | exact HU.lu (by assumption) | exact cw_okn | exact cw_ok3 (by assumption) | exact cw_ok5 (by assumption) | omega) only [J_add, J_sub, J_mul, J_neg, J_lit, J_lt, J_le, J_eq, Option.bind_some, Int.reduceAdd, Int.reduceSub, Int.reduceMul, Int.reduceNeg, Int.reduceEq, Int.reduceLT, Int.reduceLE, reduceIte, Int.zero_add, Int.add_zero, and_self, true_and, and_true, false_and, and_false, or_true, true_or, or_false, false_or, not_true_eq_false, not_false_eq_true, ne_eq, b2_s, cw_gadk, cw_gpnk, cw_gagk, cw_gmkk, cw_gfl, cw_gdt, cw_kth, cw_afl, cw_nfl, cw_adt, cw_ndt, cw_gmok, cw_geak, cw_glnk, cw_k0, cw_k6, cw_k7, cw_aowk, cw_aelk, cw_askk, cw_aslk, cw_nelk, cw_arok, cw_nrok, cw_awek, cw_nwek, cw_aplk, cw_nplk, cw_atxk, cw_ntxk, cw_ghwk, cw_gdpk, cw_galk, cw_gcok, cw_gfek, cw_h2, cw_h3, cw_h4, cw_h5, cw_h10, cw_grpk, cw_x0, cw_x1, cw_x2, cw_x5, cw_gtlk, cw_grfk, cw_ghsk, cw_padk, cw_pagk, cw_pmkk, cw_ppnk, cw_zpnk, cw_sfl, cw_sdt, cw_pmok, cw_peak, cw_plnk, cw_sowk, cw_selk, cw_sskk, cw_sslk, cw_srok, cw_swek, cw_splk, cw_palk, cw_pcok, cw_pfek, cw_prpk, cw_ptlk, cw_prfk, cw_phsk, cw_stxk, cw_ok3, cw_ok5, cw_okn, kc_in hx' (show ir 0 by unfold ir; omega) (show ir 5 by unfold ir; omega), if_pos h, r1, mt_n]
    · have e0 : gI σ p 5 0 = some (J (m 1210)) := gI_at r4 rfl
      have e1 : gI σ p 5 1 = some (J (m 1211)) := gI_at r4 rfl
      have e2 : gI σ p 5 2 = some (J (m 1212)) := gI_at r4 rfl
      have e3 : gI σ p 5 3 = some (J (m 1213)) := gI_at r4 rfl
      have e4 : gI σ p 5 4 = some (J (m 1214)) := gI_at r4 rfl
      have e5 : gI σ p 5 5 = some (J (m 1215)) := gI_at r4 rfl
      have e6 : ck σ p 5 = some () := ck_at r4
      unfold f_X5_part
      simp (disch := first | assumption | exact HU.lu (by assumption) | exact cw_okn | exact cw_ok3 (by assumption) | exact cw_ok5 (by assumption) | omega) only [J_add, J_sub, J_mul, J_neg, J_lit, J_lt, J_le, J_eq, Option.bind_some, Int.reduceAdd, Int.reduceSub, Int.reduceMul, Int.reduceNeg, Int.reduceEq, Int.reduceLT, Int.reduceLE, reduceIte, Int.zero_add, Int.add_zero, and_self, true_and, and_true, false_and, and_false, or_true, true_or, or_false, false_or, not_true_eq_false, not_false_eq_true, ne_eq, b2_s, cw_gadk, cw_gpnk, cw_gagk, cw_gmkk, cw_gfl, cw_gdt, cw_kth, cw_afl, cw_nfl, cw_adt, cw_ndt, cw_gmok, cw_geak, cw_glnk, cw_k0, cw_k6, cw_k7, cw_aowk, cw_aelk, cw_askk, cw_aslk, cw_nelk, cw_arok, cw_nrok, cw_awek, cw_nwek, cw_aplk, cw_nplk, cw_atxk, cw_ntxk, cw_ghwk, cw_gdpk, cw_galk, cw_gcok, cw_gfek, cw_h2, cw_h3, cw_h4, cw_h5, cw_h10, cw_grpk, cw_x0, cw_x1, cw_x2, cw_x5, cw_gtlk, cw_grfk, cw_ghsk, cw_padk, cw_pagk, cw_pmkk, cw_ppnk, cw_zpnk, cw_sfl, cw_sdt, cw_pmok, cw_peak, cw_plnk, cw_sowk, cw_selk, cw_sskk, cw_sslk, cw_srok, cw_swek, cw_splk, cw_palk, cw_pcok, cw_pfek, cw_prpk, cw_ptlk, cw_prfk, cw_phsk, cw_stxk, cw_ok3, cw_ok5, cw_okn, kc_in hx' (show ir 0 by unfold ir; omega) (show ir 5 by unfold ir; omega), if_pos h, r1, mt_s, ko_ck r3, ko_gI r3, e0, e1, e2, e3, e4, e5, e6]
      rcases (show x = 0 ∨ x = 1 ∨ x = 2 ∨ x = 3 ∨ x = 4 ∨ x = 5 by omega) with rfl | rfl | rfl | rfl | rfl | rfl <;> simp
  · simp (disch := first | assumption | exact HU.lu (by assumption) | exact cw_okn | exact cw_ok3 (by assumption) | exact cw_ok5 (by assumption) | omega) only [J_add, J_sub, J_mul, J_neg, J_lit, J_lt, J_le, J_eq, Option.bind_some, Int.reduceAdd, Int.reduceSub, Int.reduceMul, Int.reduceNeg, Int.reduceEq, Int.reduceLT, Int.reduceLE, reduceIte, Int.zero_add, Int.add_zero, and_self, true_and, and_true, false_and, and_false, or_true, true_or, or_false, false_or, not_true_eq_false, not_false_eq_true, ne_eq, b2_s, cw_gadk, cw_gpnk, cw_gagk, cw_gmkk, cw_gfl, cw_gdt, cw_kth, cw_afl, cw_nfl, cw_adt, cw_ndt, cw_gmok, cw_geak, cw_glnk, cw_k0, cw_k6, cw_k7, cw_aowk, cw_aelk, cw_askk, cw_aslk, cw_nelk, cw_arok, cw_nrok, cw_awek, cw_nwek, cw_aplk, cw_nplk, cw_atxk, cw_ntxk, cw_ghwk, cw_gdpk, cw_galk, cw_gcok, cw_gfek, cw_h2, cw_h3, cw_h4, cw_h5, cw_h10, cw_grpk, cw_x0, cw_x1, cw_x2, cw_x5, cw_gtlk, cw_grfk, cw_ghsk, cw_padk, cw_pagk, cw_pmkk, cw_ppnk, cw_zpnk, cw_sfl, cw_sdt, cw_pmok, cw_peak, cw_plnk, cw_sowk, cw_selk, cw_sskk, cw_sslk, cw_srok, cw_swek, cw_splk, cw_palk, cw_pcok, cw_pfek, cw_prpk, cw_ptlk, cw_prfk, cw_phsk, cw_stxk, cw_ok3, cw_ok5, cw_okn, kc_in hx' (show ir 0 by unfold ir; omega) (show ir 5 by unfold ir; omega), if_neg h]
end T1
