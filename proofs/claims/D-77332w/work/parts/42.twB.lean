/-! PLAIN LAW: holes. NAMES: hl9 fz9, tm_ -/
set_option maxRecDepth 100000
/-- the free words from a on, at most n -/
def hln (m : Int → Int) : Nat → Int → Int
  | 0, _ => 0
  | n + 1, a => if a < m 1216 ∧ m a = 0 then 1 + hln m n (a + 1) else 0
def hl9 (m : Int → Int) (a : Int) : Int := hln m 200 a
theorem hln_v {m : Int → Int} (n : Nat) (a : Int) (h : m 1216 - a ≤ n) : 0 ≤ hln m n a ∧ (∀ k, 0 ≤ k → k < hln m n a → m (a + k) = 0 ∧ a + k < m 1216) ∧ (a + hln m n a < m 1216 → m (a + hln m n a) ≠ 0) := by
  induction n generalizing a with
  | zero =>
    unfold hln
    exact ⟨Int.le_refl _, fun k k1 k2 => by omega, fun q => by omega⟩
  | succ n ih =>
    unfold hln
    by_cases c : a < m 1216 ∧ m a = 0
    · rw [if_pos c]
      obtain ⟨h1, h2, h3⟩ := ih (a + 1) (by omega)
      refine ⟨by omega, fun k k1 k2 => ?_, fun q => ?_⟩
      · by_cases hk : k = 0
        · subst hk
          rw [Int.add_zero]
          exact ⟨c.2, c.1⟩
        · have := h2 (k - 1) (by omega) (by omega)
          rw [show a + 1 + (k - 1) = a + k by omega] at this
          exact this
      · rw [show a + (1 + hln m n (a + 1)) = a + 1 + hln m n (a + 1) by omega] at q ⊢
        exact h3 q
    · rw [if_neg c]
      refine ⟨Int.le_refl _, fun k k1 k2 => by omega, fun q => ?_⟩
      rw [Int.add_zero] at q ⊢
      exact fun e => c ⟨q, e⟩
