/-! PLAIN LAW: numbers and loops. NAMES: pl_, J -/
set_option maxRecDepth 100000
/-- the int of a number -/
abbrev J (z : Int) : Int32 := Int32.ofInt z
theorem J_add (a b : Int) : J a + J b = J (a + b) := (Int32.ofInt_add a b).symm
theorem J_sub (a b : Int) : J a - J b = J (a - b) := (Int32.ofInt_sub a b).symm
theorem J_mul (a b : Int) : J a * J b = J (a * b) := (Int32.ofInt_mul a b).symm
theorem J_neg (a : Int) : - J a = J (-a) := (Int32.ofInt_neg a).symm
theorem J_lit (n : Nat) : (OfNat.ofNat n : Int32) = J (OfNat.ofNat n : Int) := by
  apply Int32.toBitVec_inj.mp
  simp [J]
  rfl
theorem J_toInt {z : Int} (h1 : -2147483648 ≤ z) (h2 : z < 2147483648) : (J z).toInt = z := Int32.toInt_ofInt_of_le h1 h2
theorem J_lt {a b : Int} (h1 : -2147483648 ≤ a) (h2 : a < 2147483648) (h3 : -2147483648 ≤ b) (h4 : b < 2147483648) : (J a < J b) = (a < b) := by
  rw [Int32.lt_iff_toInt_lt, J_toInt h1 h2, J_toInt h3 h4]
theorem J_le {a b : Int} (h1 : -2147483648 ≤ a) (h2 : a < 2147483648) (h3 : -2147483648 ≤ b) (h4 : b < 2147483648) : (J a ≤ J b) = (a ≤ b) := by
  rw [Int32.le_iff_toInt_le, J_toInt h1 h2, J_toInt h3 h4]
theorem J_eq {a b : Int} (h1 : -2147483648 ≤ a) (h2 : a < 2147483648) (h3 : -2147483648 ≤ b) (h4 : b < 2147483648) : (J a = J b) = (a = b) := by
  apply propext
  constructor
  · intro h
    rw [← J_toInt h1 h2, ← J_toInt h3 h4, h]
  · intro h
    rw [h]
theorem J_of (x : Int32) : J x.toInt = x := Int32.ofInt_toInt x
theorem J_clamp {z : Int} (h1 : 0 ≤ z) (h2 : z < 2147483648) : (J z).toNatClampNeg = z.toNat := by
  unfold Int32.toNatClampNeg
  rw [J_toInt (by omega) h2]
theorem J_nat (n : Nat) : Int32.ofNat n = J n := by
  apply Int32.toBitVec_inj.mp
  simp [J]
theorem pl_div4 {a : Int} (h1 : 0 ≤ a) (h2 : a < 2147483648) : J a / J 4 = J (a / 4) := by
  apply Int32.toInt_inj.mp
  rw [Int32.toInt_div, J_toInt (by omega) h2, J_toInt (by omega) (by omega), J_toInt (by omega) (by omega)]
  rw [Int.tdiv_eq_ediv_of_nonneg h1]
  rw [Int.bmod_eq_of_le (by omega) (by omega)]
/-- a row of ints -/
def rw_ (f : Int → Int) : Nat → Int32 := fun j => J (f j)
/-- a row, changed at a place -/
def up (f : Int → Int) (k v : Int) : Int → Int := fun j => if j = k then v else f j
theorem up_s (f : Int → Int) (k v : Int) : up f k v k = v := by simp [up]
theorem up_n {f : Int → Int} {k v j : Int} (h : j ≠ k) : up f k v j = f j := by simp [up, h]
theorem upd_rw (f : Int → Int) {k : Int} (v : Int) (h : 0 ≤ k) : upd (rw_ f) k.toNat (J v) = rw_ (up f k v) := by
  funext j
  unfold upd rw_ up
  by_cases hj : j = k.toNat
  · rw [if_pos hj, if_pos (by omega)]
  · rw [if_neg hj, if_neg (by omega)]
theorem aI_rw {σ : mm_M} {a k n : Nat} {f : Int → Int} (h : σ.1 a = some (.inr (.inl (k, n, rw_ f)))) {z : Int} (h1 : 0 ≤ z) (h2 : z < n) (h3 : z < 2147483648) : aI σ a k (J z) = some (J (f z)) := by
  unfold aI
  rw [h]
  dsimp only
  rw [J_toInt (by omega) h3, if_pos ⟨rfl, h1, h2⟩, J_clamp h1 h3]
  unfold rw_
  rw [Int.toNat_of_nonneg h1]
theorem sI_rw {σ : mm_M} {a n : Nat} {f : Int → Int} (h : σ.1 a = some (.inr (.inl (0, n, rw_ f)))) {z : Int} (v : Int) (h1 : 0 ≤ z) (h2 : z < n) (h3 : z < 2147483648) : sI σ a 0 (J z) (J v) = some (sE σ a (.inr (.inl (0, n, rw_ (up f z v))))) := by
  unfold sI
  rw [h]
  dsimp only
  rw [J_toInt (by omega) h3, if_pos ⟨rfl, h1, h2⟩, J_clamp h1 h3]
  show some (sE σ a (.inr (.inl (0, n, upd (rw_ f) z.toNat (J v))))) = _
  rw [upd_rw f v h1]
theorem aN_i0 {σ : mm_M} {a n : Nat} {k : Nat} {g : Nat → Int32} (h : σ.1 a = some (.inr (.inl (k, n, g)))) (hk : k < 3) : aN σ a = some (J n) := by
  unfold aN
  rw [h]
  dsimp only
  rw [if_pos hk, J_nat]
/-! loops -/
theorem lpx_seq {S R : Type} {f : S → Option (S ⊕ R)} (st : Nat → S) (n : Nat) {r : R} (hs : ∀ k, k < n → f (st k) = some (.inl (st (k + 1)))) (hd : f (st n) = some (.inr r)) : lpx f (st 0) = some r := by
  have key : ∀ j, j ≤ n → lpx f (st (n - j)) = some r := by
    intro j
    induction j with
    | zero => intro _; exact lpx_d hd
    | succ j ih =>
      intro hj
      have h1 := hs (n - (j + 1)) (by omega)
      rw [lpx_n h1, show n - (j + 1) + 1 = n - j by omega]
      exact ih (by omega)
  have := key n (Nat.le_refl n)
  rwa [Nat.sub_self] at this
/-- a loop of n rounds -/
theorem lpx_for {S R : Type} {f : S → Option (S ⊕ R)} (I : Nat → S → Prop) (n : Nat) (Q : R → Prop) (hs : ∀ k s, k < n → I k s → ∃ s', f s = some (.inl s') ∧ I (k + 1) s') (hd : ∀ s, I n s → ∃ r, f s = some (.inr r) ∧ Q r) : ∀ s, I 0 s → ∃ r, lpx f s = some r ∧ Q r := by
  have key : ∀ j, j ≤ n → ∀ s, I (n - j) s → ∃ r, lpx f s = some r ∧ Q r := by
    intro j
    induction j with
    | zero =>
      intro _ s h
      obtain ⟨r, h1, h2⟩ := hd s h
      exact ⟨r, lpx_d h1, h2⟩
    | succ j ih =>
      intro hj s h
      obtain ⟨s', h1, h2⟩ := hs _ s (by omega) h
      rw [lpx_n h1]
      exact ih (by omega) s' (by rw [show n - (j + 1) + 1 = n - j by omega] at h2; exact h2)
  intro s h
  exact key n (Nat.le_refl n) s (by rw [Nat.sub_self]; exact h)
/-- two ways into one: what a loop gives, rule with a measure; the answer is told -/
theorem lpx_is {S R : Type} {f : S → Option (S ⊕ R)} (I : S → Prop) (μ : S → Nat) (Q : R → Prop) {s : S} (hI : I s) (h : ∀ s, I s → (∃ r, f s = some (.inr r) ∧ Q r) ∨ ∃ s', f s = some (.inl s') ∧ I s' ∧ μ s' < μ s) : ∃ r, lpx f s = some r ∧ Q r := lpx_rule f I μ Q h s hI
theorem sZ_rw {σ : mm_M} {a n : Nat} {f : Int → Int} (h : σ.1 a = some (.inr (.inl (1, n, rw_ f)))) {z : Int} (v : Int) (h1 : 0 ≤ z) (h2 : z < n) (h3 : z < 2147483648) (hv : v = 0 ∨ v = 1) : sI σ a 1 (J z) (J v) = some (sE σ a (.inr (.inl (1, n, rw_ (up f z v))))) := by
  unfold sI
  rw [h]
  dsimp only
  rw [J_toInt (by omega) h3, if_pos ⟨rfl, h1, h2⟩, J_clamp h1 h3]
  show some (sE σ a (.inr (.inl (1, n, upd (rw_ f) z.toNat (mm_nar 1 (J v)))))) = _
  have hn : mm_nar 1 (J v) = J v := by
    rcases hv with h | h <;> subst h <;> rfl
  rw [hn, upd_rw f v h1]
