/-! PLAIN LAW: what a collection makes, no program in sight. NAMES: SLT slO slA wnA rbO rbA mC9 -/
set_option maxRecDepth 100000
/-- where words went; place, live, words, moved, distance -/
abbrev SLT : Type := (Int → Int) × Int × Int × Int × Int × Int
def toO (m : Int → Int) (p a : Int) : Int := if m (400 + a) = 1 then a else p
def lvO (m F : Int → Int) (a : Int) : Prop := 0 ≤ a ∧ a < m 1216 ∧ 0 < m a ∧ F a = 1
def slO (m F : Int → Int) (a : Int) (s : SLT) : SLT := if 0 < m a ∧ F a = 1 then ((fun j => if a ≤ j ∧ j < a + m a then toO m s.2.1 a + (j - a) else s.1 j), toO m s.2.1 a + m a, s.2.2.1 + 1, s.2.2.2.1 + m a, s.2.2.2.2.1 + (if toO m s.2.1 a = a then 0 else 1), s.2.2.2.2.2 + (a - toO m s.2.1 a) * m a) else s
abbrev sl0 : SLT := (fun _ => -1, 0, 0, 0, 0, 0)
def slA (m F : Int → Int) : SLT := itr (slO m F) (m 1216).toNat sl0
def SI9 (m F : Int → Int) (n : Int) (s : SLT) : Prop := (0 ≤ s.2.1 ∧ ∀ b, 0 ≤ b → b < 200 → 0 < m b → n ≤ b → s.2.1 ≤ b) ∧ (∀ a, lvO m F a → a < n → 0 ≤ s.1 a ∧ s.1 a ≤ a ∧ s.1 a + m a ≤ s.2.1 ∧ (∀ i, 0 ≤ i → i < m a → s.1 (a + i) = s.1 a + i) ∧ (m (400 + a) = 1 → s.1 a = a)) ∧ (∀ a b, lvO m F a → lvO m F b → a < b → b < n → s.1 a + m a ≤ s.1 b) ∧ (∀ j, (∀ a, lvO m F a → a < n → ¬ (a ≤ j ∧ j < a + m a)) → s.1 j = -1)
section S1
variable {m F : Int → Int}
theorem hd_sep (hm : WF m) {a b : Int} (a1 : 0 ≤ a) (a2 : a < 200) (b2 : b < 200) (hb : 0 < m b) (h : a < b) : a + m a ≤ b := by
  by_cases q : b < a + m a
  · have := hm.hi a (b - a) a1 a2 (by omega) (by omega)
    rw [show a + (b - a) = b by omega] at this
    omega
  · omega
theorem slO_i (hm : WF m) {n : Int} {s : SLT} (h : SI9 m F n s) (n0 : 0 ≤ n) (n1 : n < m 1216) : SI9 m F (n + 1) (slO m F n s) := by
  have hW := hm.hW
  obtain ⟨⟨h1, h2⟩, h3, h4, h5⟩ := h
  unfold slO
  by_cases c : 0 < m n ∧ F n = 1
  · rw [if_pos c]
    have hto : 0 ≤ toO m s.2.1 n ∧ toO m s.2.1 n ≤ n ∧ s.2.1 ≤ toO m s.2.1 n ∧ (m (400 + n) = 1 → toO m s.2.1 n = n) := by
      have := h2 n n0 (by omega) c.1 (Int.le_refl _)
      unfold toO
      split
      · exact ⟨n0, Int.le_refl _, this, fun _ => rfl⟩
      · rename_i hq
        exact ⟨h1, this, Int.le_refl _, fun q => absurd q hq⟩
    obtain ⟨t1, t2, t3, t4⟩ := hto
    generalize toO m s.2.1 n = to at t1 t2 t3 t4
    have hsep : ∀ a, lvO m F a → a < n → a + m a ≤ n := fun a ha h9 => hd_sep hm ha.1 (by have := ha.2.1; omega) (by omega) c.1 h9
    have hln : lvO m F n := ⟨n0, n1, c.1, c.2⟩
    refine ⟨⟨by dsimp only; omega, fun b b1 b2 b3 b4 => ?_⟩, fun a ha h9 => ?_, fun a b ha hb hab h9 => ?_, fun j hj => ?_⟩
    · have := hd_sep hm n0 (by omega) b2 b3 (by omega)
      dsimp only; omega
    · dsimp only
      by_cases han : a = n
      · subst han
        rw [if_pos (by omega)]
        refine ⟨by omega, by omega, by omega, fun i i1 i2 => by rw [if_pos (by omega)]; omega, fun q => by have := t4 q; omega⟩
      · obtain ⟨q1, q2, q3, q4, q5⟩ := h3 a ha (by omega)
        have := hsep a ha (by omega)
        have := ha.2.2.1
        rw [if_neg (by omega)]
        refine ⟨q1, q2, by omega, fun i i1 i2 => by rw [if_neg (by omega)]; exact q4 i i1 i2, q5⟩
    · dsimp only
      have := hsep a ha (by omega)
      have := ha.2.2.1
      rw [if_neg (by omega)]
      by_cases hbn : b = n
      · subst hbn
        rw [if_pos (by omega)]
        have := (h3 a ha (by omega)).2.2.1
        omega
      · have := hsep b hb (by omega)
        rw [if_neg (by omega)]
        exact h4 a b ha hb hab (by omega)
    · dsimp only
      rw [if_neg (hj n hln (by omega))]
      exact h5 j (fun a ha h9 => hj a ha (by omega))
  · rw [if_neg c]
    have hno : ∀ a, lvO m F a → a < n + 1 → a < n := fun a ha h9 => by
      by_cases q : a = n
      · subst q
        exact absurd ⟨ha.2.2.1, ha.2.2.2⟩ c
      · omega
    exact ⟨⟨h1, fun b b1 b2 b3 b4 => h2 b b1 b2 b3 (by omega)⟩, fun a ha h9 => h3 a ha (hno a ha h9), fun a b ha hb hab h9 => h4 a b ha hb hab (hno b hb h9), fun j hj => h5 j (fun a ha h9 => hj a ha (by omega))⟩
theorem slA_i (hm : WF m) : SI9 m F (m 1216) (slA m F) := by
  have hW := hm.hW
  have key := itr_inv (g := slO m F) (fun n s => SI9 m F n s) (m 1216).toNat (fun n s hn hs => by
    have := slO_i hm hs (by omega) (by omega)
    rwa [show ((n : Int) + 1) = ((n + 1 : Nat) : Int) by omega] at this) sl0 ⟨⟨Int.le_refl _, fun b b1 b2 b3 b4 => b1⟩, fun a ha h9 => by have := ha.1; omega, fun a b ha hb hab h9 => by have := hb.1; omega, fun j _ => rfl⟩
  rwa [Int.toNat_of_nonneg (by omega)] at key
/-- the words that stay -/
theorem slA_w (m F : Int → Int) : (slA m F).2.2.2.1 = sm (fun a => if 0 < m a ∧ F a = 1 then m a else 0) (m 1216).toNat := by
  unfold slA
  exact itr_inv (g := slO m F) (fun n s => s.2.2.2.1 = sm (fun a => if 0 < m a ∧ F a = 1 then m a else 0) n) (m 1216).toNat (fun n s hn hs => by
    rw [sm_s, ← hs]
    unfold slO
    split
    · rfl
    · rw [Int.add_zero]) sl0 rfl
def goA (w : Int → Int) (x : Int) : Int := if x = -1 then -1 else w x
def rbO (m F w : Int → Int) (a : Int) (R : Int → Int) : Int → Int := if 0 < m a ∧ F a = 1 then (fun j => if 800 + w a < j ∧ j < 800 + w a + m a then (if j - 800 - w a ≤ m (200 + a) then goA w (m (800 + a + (j - 800 - w a))) else m (800 + a + (j - 800 - w a))) else if j = 600 + w a then m (600 + a) + 1 else if j = 400 + w a then m (400 + a) else if j = 200 + w a then m (200 + a) else if j = w a then m a else R j) else R
def rb0 (m : Int → Int) : Int → Int := fun j => if 0 ≤ j ∧ j < 1000 then 0 else m j
def rbA (m F w : Int → Int) : Int → Int := itr (rbO m F w) (m 1216).toNat (rb0 m)
/-- what stands in the row, of the live object at a -/
def RO9 (m w R : Int → Int) (a : Int) : Prop := R (w a) = m a ∧ R (200 + w a) = m (200 + a) ∧ R (400 + w a) = m (400 + a) ∧ R (600 + w a) = m (600 + a) + 1 ∧ ∀ k, 1 ≤ k → k < m a → R (800 + w a + k) = if k ≤ m (200 + a) then goA w (m (800 + a + k)) else m (800 + a + k)
theorem rbA_i (hm : WF m) {w : Int → Int} (hw : w = (slA m F).1) : (∀ a, lvO m F a → RO9 m w (rbA m F w) a) ∧ (∀ j, 0 ≤ j → j < 200 → (∀ a, lvO m F a → j ≠ w a) → rbA m F w j = 0 ∧ rbA m F w (200 + j) = 0 ∧ rbA m F w (400 + j) = 0) ∧ ∀ j, 1000 ≤ j → rbA m F w j = m j := by
  have hW := hm.hW
  obtain ⟨-, h3, h4, -⟩ := slA_i (F := F) hm
  rw [← hw] at h3 h4
  have hb : ∀ a, lvO m F a → 0 ≤ w a ∧ w a + m a ≤ 200 ∧ 0 < m a := fun a ha => by
    obtain ⟨q1, q2, q3, -⟩ := h3 a ha ha.2.1
    have := hm.he a ha.1 (by have := ha.2.1; omega) ha.2.2.1
    have := ha.2.2.1
    omega
  have key := itr_inv (g := rbO m F w) (fun n R => (∀ a, lvO m F a → a < n → RO9 m w R a) ∧ (∀ j, 0 ≤ j → j < 200 → (∀ a, lvO m F a → a < n → j ≠ w a) → R j = 0 ∧ R (200 + j) = 0 ∧ R (400 + j) = 0) ∧ ∀ j, 1000 ≤ j → R j = m j) (m 1216).toNat (fun n R hn ⟨r1, r2, r3⟩ => by
    unfold rbO
    by_cases c : 0 < m (n : Int) ∧ F n = 1
    · rw [if_pos c]
      have hln : lvO m F n := ⟨by omega, by omega, c.1, c.2⟩
      obtain ⟨b1, b2, b3⟩ := hb n hln
      refine ⟨fun a ha h9 => ?_, fun j j1 j2 hj => ?_, fun j j1 => ?_⟩
      · by_cases han : a = n
        · subst han
          refine ⟨by dsimp only; rw [if_neg (by omega), if_neg (by omega), if_neg (by omega), if_neg (by omega), if_pos rfl], by dsimp only; rw [if_neg (by omega), if_neg (by omega), if_neg (by omega), if_pos rfl], by dsimp only; rw [if_neg (by omega), if_neg (by omega), if_pos rfl], by dsimp only; rw [if_neg (by omega), if_pos rfl], fun k k1 k2 => ?_⟩
          dsimp only
          rw [if_pos (by omega), show 800 + w (n : Int) + k - 800 - w (n : Int) = k by omega]
        · obtain ⟨q1, q2, q3, q4, q5⟩ := r1 a ha (by omega)
          obtain ⟨c1, c2, c3⟩ := hb a ha
          have hs := h4 a n ha hln (by omega) (by omega)
          refine ⟨?_, ?_, ?_, ?_, fun k k1 k2 => ?_⟩
          · dsimp only; rw [if_neg (by omega), if_neg (by omega), if_neg (by omega), if_neg (by omega), if_neg (by omega)]; exact q1
          · dsimp only; rw [if_neg (by omega), if_neg (by omega), if_neg (by omega), if_neg (by omega), if_neg (by omega)]; exact q2
          · dsimp only; rw [if_neg (by omega), if_neg (by omega), if_neg (by omega), if_neg (by omega), if_neg (by omega)]; exact q3
          · dsimp only; rw [if_neg (by omega), if_neg (by omega), if_neg (by omega), if_neg (by omega), if_neg (by omega)]; exact q4
          · dsimp only; rw [if_neg (by omega), if_neg (by omega), if_neg (by omega), if_neg (by omega), if_neg (by omega)]; exact q5 k k1 k2
      · have hjn := hj n hln (by omega)
        obtain ⟨q1, q2, q3⟩ := r2 j j1 j2 (fun a ha h9 => hj a ha (by omega))
        refine ⟨?_, ?_, ?_⟩
        · rw [if_neg (by omega), if_neg (by omega), if_neg (by omega), if_neg (by omega), if_neg (by omega)]; exact q1
        · rw [if_neg (by omega), if_neg (by omega), if_neg (by omega), if_neg (by omega), if_neg (by omega)]; exact q2
        · rw [if_neg (by omega), if_neg (by omega), if_neg (by omega), if_neg (by omega), if_neg (by omega)]; exact q3
      · rw [if_neg (by omega), if_neg (by omega), if_neg (by omega), if_neg (by omega), if_neg (by omega)]
        exact r3 j j1
    · rw [if_neg c]
      have hno : ∀ a, lvO m F a → a < ((n + 1 : Nat) : Int) → a < n := fun a ha h9 => by
        by_cases q : a = n
        · subst q
          exact absurd ⟨ha.2.2.1, ha.2.2.2⟩ c
        · omega
      exact ⟨fun a ha h9 => r1 a ha (hno a ha h9), fun j j1 j2 hj => r2 j j1 j2 (fun a ha h9 => hj a ha (by omega)), r3⟩) (rb0 m) ⟨fun a ha h9 => by have := ha.1; omega, fun j j1 j2 _ => by unfold rb0; rw [if_pos (by omega), if_pos (by omega), if_pos (by omega)]; exact ⟨rfl, rfl, rfl⟩, fun j j1 => by unfold rb0; rw [if_neg (by omega)]⟩
  obtain ⟨k1, k2, k3⟩ := key
  exact ⟨fun a ha => k1 a ha (by have := ha.2.1; omega), fun j j1 j2 hj => k2 j j1 j2 (fun a ha _ => hj a ha), k3⟩
/-- the row after a collection -/
def mC9 (m F : Int → Int) (sc hi : Int) : Int → Int := fun j => if j = 1220 then m 1220 + (sm m (m 1216).toNat - (slA m F).2.2.2.1) else if j = 1219 then m 1219 + 1 else if j = 1221 then 1 else if j = 1215 then (slA m F).2.2.2.2.2 else if j = 1214 then (slA m F).2.2.2.2.1 else if j = 1213 then hi else if j = 1212 then sc else if j = 1211 then (slA m F).2.2.2.1 else if j = 1210 then (slA m F).2.2.1 else if 1200 ≤ j ∧ j < 1210 then goA (slA m F).1 (m j) else if 1000 ≤ j ∧ j < 1200 then (slA m F).1 (j - 1000) else rbA m F (slA m F).1 j
theorem mC_lo {sc hi j : Int} (h : j < 1000) : mC9 m F sc hi j = rbA m F (slA m F).1 j := by
  unfold mC9
  rw [if_neg (by omega), if_neg (by omega), if_neg (by omega), if_neg (by omega), if_neg (by omega), if_neg (by omega), if_neg (by omega), if_neg (by omega), if_neg (by omega), if_neg (by omega), if_neg (by omega)]
theorem mC_16 (hm : WF m) {sc hi : Int} : mC9 m F sc hi 1216 = m 1216 ∧ mC9 m F sc hi 1217 = m 1217 ∧ mC9 m F sc hi 1218 = m 1218 := by
  have h := (rbA_i (F := F) hm rfl).2.2
  have e1 := h 1216 (by omega)
  have e2 := h 1217 (by omega)
  have e3 := h 1218 (by omega)
  unfold mC9
  simp [e1, e2, e3]
/-- a live header, where it went -/
theorem lv_w (hm : WF m) {a : Int} (ha : lvO m F a) : 0 ≤ (slA m F).1 a ∧ (slA m F).1 a ≤ a ∧ (slA m F).1 a + m a ≤ m 1216 ∧ (∀ i, 0 ≤ i → i < m a → (slA m F).1 (a + i) = (slA m F).1 a + i) ∧ (m (400 + a) = 1 → (slA m F).1 a = a) ∧ a < 200 := by
  have hW := hm.hW
  obtain ⟨-, h3, h4, -⟩ := slA_i (F := F) hm
  obtain ⟨q1, q2, q3, q4, q5⟩ := h3 a ha ha.2.1
  have := hm.he a ha.1 (by have := ha.2.1; omega) ha.2.2.1
  exact ⟨q1, q2, by omega, q4, q5, by have := ha.2.1; omega⟩
theorem lv_inj (hm : WF m) {a b : Int} (ha : lvO m F a) (hb : lvO m F b) {r : Int} (h1 : (slA m F).1 a ≤ r) (h2 : r < (slA m F).1 a + m a) (h3 : (slA m F).1 b ≤ r) (h4 : r < (slA m F).1 b + m b) : a = b := by
  obtain ⟨-, -, hc, -⟩ := slA_i (F := F) hm
  rcases Int.lt_trichotomy a b with h | h | h
  · have := hc a b ha hb h hb.2.1; omega
  · exact h
  · have := hc b a hb ha h ha.2.1; omega
theorem mC_oc (hm : WF m) {sc hi : Int} (b r : Int) : oc (mC9 m F sc hi) b r ↔ ∃ a, lvO m F a ∧ b = (slA m F).1 a ∧ (slA m F).1 a ≤ r ∧ r < (slA m F).1 a + m a := by
  have hW := hm.hW
  obtain ⟨k1, k2, k3⟩ := rbA_i (F := F) hm rfl
  constructor
  · rintro ⟨q1, q2, q3, q4, q5⟩
    rw [mC_lo (by omega)] at q3 q5
    by_cases hx : ∃ a, lvO m F a ∧ b = (slA m F).1 a
    · obtain ⟨a, ha, hb⟩ := hx
      subst hb
      rw [(k1 a ha).1] at q3 q5
      exact ⟨a, ha, rfl, q4, q5⟩
    · have := (k2 b q1 q2 (fun a ha e => hx ⟨a, ha, e⟩)).1
      omega
  · rintro ⟨a, ha, rfl, q1, q2⟩
    obtain ⟨c1, c2, c3, c4, c5, c6⟩ := lv_w hm ha
    unfold oc
    rw [mC_lo (by omega), (k1 a ha).1]
    exact ⟨c1, by omega, ha.2.2.1, q1, q2⟩
/-- where a reference goes -/
theorem goA_rf (hm : WF m) {sc hi x : Int} (hx : rf m x) : rf (mC9 m F sc hi) (goA (slA m F).1 x) := by
  unfold goA
  rcases hx with hx | ⟨a, a1, a2, a3, a4, a5⟩
  · rw [if_pos hx]
    exact Or.inl rfl
  · rw [if_neg (by omega)]
    have hE := hm.he a a1 a2 a3
    by_cases hF : F a = 1
    · have ha : lvO m F a := ⟨a1, by omega, a3, hF⟩
      obtain ⟨c1, c2, c3, c4, c5, c6⟩ := lv_w hm ha
      have := c4 (x - a) (by omega) (by omega)
      rw [show a + (x - a) = x by omega] at this
      exact Or.inr ⟨(slA m F).1 a, (mC_oc hm _ _).mpr ⟨a, ha, rfl, by omega, by omega⟩⟩
    · obtain ⟨-, -, -, h5⟩ := slA_i (F := F) hm
      exact Or.inl (h5 x (fun b hb _ q => by
        have := oc_u hm (r := x) ⟨a1, a2, a3, a4, a5⟩ ⟨hb.1, by have := hb.2.1; have := hm.hW; omega, hb.2.2.1, q.1, q.2⟩
        subst this
        exact hF hb.2.2.2))
theorem WF.coll (hm : WF m) {sc hi : Int} : WF (mC9 m F sc hi) := by
  have hW := hm.hW
  obtain ⟨k1, k2, k3⟩ := rbA_i (F := F) hm rfl
  obtain ⟨e16, e17, -⟩ := mC_16 (F := F) (sc := sc) (hi := hi) hm
  have hlo : ∀ {j : Int}, j < 1000 → mC9 m F sc hi j = rbA m F (slA m F).1 j := fun h => mC_lo h
  have hcase : ∀ b, 0 ≤ b → b < 200 → (∃ a, lvO m F a ∧ b = (slA m F).1 a) ∨ (rbA m F (slA m F).1 b = 0 ∧ rbA m F (slA m F).1 (200 + b) = 0 ∧ rbA m F (slA m F).1 (400 + b) = 0) := fun b b1 b2 => by
    by_cases hx : ∃ a, lvO m F a ∧ b = (slA m F).1 a
    · exact Or.inl hx
    · exact Or.inr (k2 b b1 b2 (fun a ha e => hx ⟨a, ha, e⟩))
  refine ⟨by rw [e16]; exact hm.hW, by rw [e17]; exact hm.hD, fun b b1 b2 => ?_, fun b b1 b2 b3 => ?_, fun b k b1 b2 b3 b4 => ?_, fun b b1 b2 b3 => ?_, fun b b1 b2 => ?_, fun k h1 h2 => ?_, fun b f b1 b2 b3 b4 b5 => ?_, ?_, fun b b1 b2 => ?_⟩
  · rw [hlo (by omega)]
    rcases hcase b b1 b2 with ⟨a, ha, rfl⟩ | q
    · rw [(k1 a ha).1]
      exact hm.hs a ha.1 (lv_w hm ha).2.2.2.2.2
    · omega
  · rw [hlo (by omega)] at b3 ⊢
    rw [e16]
    rcases hcase b b1 b2 with ⟨a, ha, rfl⟩ | q
    · rw [(k1 a ha).1]
      exact (lv_w hm ha).2.2.1
    · omega
  · rw [hlo (by omega)] at b4
    rcases hcase b b1 b2 with ⟨a, ha, rfl⟩ | q
    · rw [(k1 a ha).1] at b4
      have hlw := lv_w hm ha
      rw [hlo (by omega)]
      refine (k2 _ (by omega) (by omega) (fun c hc e => ?_)).1
      have h9 := lv_inj hm ha hc (r := (slA m F).1 a + k) (by omega) (by omega) (by omega) (by have := hc.2.2.1; omega)
      subst h9
      omega
    · omega
  · rw [hlo (by omega)] at b3 ⊢
    rw [hlo (by omega)]
    rcases hcase b b1 b2 with ⟨a, ha, rfl⟩ | q
    · rw [(k1 a ha).1, (k1 a ha).2.1]
      exact hm.hf a ha.1 (lv_w hm ha).2.2.2.2.2 ha.2.2.1
    · omega
  · rw [hlo (by omega)]
    rcases hcase b b1 b2 with ⟨a, ha, rfl⟩ | q
    · rw [(k1 a ha).2.2.1]
      exact hm.hp a ha.1 (lv_w hm ha).2.2.2.2.2
    · exact Or.inl q.2.2
  · have e : mC9 m F sc hi (1200 + k) = goA (slA m F).1 (m (1200 + k)) := by
      unfold mC9
      rw [if_neg (by omega), if_neg (by omega), if_neg (by omega), if_neg (by omega), if_neg (by omega), if_neg (by omega), if_neg (by omega), if_neg (by omega), if_neg (by omega), if_pos (by omega)]
    rw [e]
    exact goA_rf hm (hm.hr k h1 h2)
  · rw [hlo (by omega)] at b3 b5
    rcases hcase b b1 b2 with ⟨a, ha, rfl⟩ | q
    · rw [(k1 a ha).2.1] at b5
      have hlw := lv_w hm ha
      have hF := hm.hf a ha.1 hlw.2.2.2.2.2 ha.2.2.1
      rw [hlo (by omega), (k1 a ha).2.2.2.2 f b4 (by omega), if_pos b5]
      exact goA_rf hm (hm.hq a f ha.1 hlw.2.2.2.2.2 ha.2.2.1 b4 b5)
    · omega
  · refine Or.inr ?_
    unfold mC9
    simp
  · rw [hlo (by omega)]
    rcases hcase b b1 b2 with ⟨a, ha, rfl⟩ | q
    · rw [(k1 a ha).2.1]
      exact hm.hF a ha.1 (lv_w hm ha).2.2.2.2.2
    · omega
end S1
