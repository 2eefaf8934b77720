/-! PLAIN LAW: marking, as a machine of its own. NAMES: AM rcA popA drA stA scA mkA, GEA -/
set_option maxRecDepth 100000
/-- rounds while c holds, n at most -/
def fl {X : Type} (c : X → Prop) [DecidablePred c] (g : X → X) : Nat → X → X
  | 0, x => x
  | n + 1, x => if c x then fl c g n (g x) else x
theorem fl_inv {X : Type} {c : X → Prop} [DecidablePred c] {g : X → X} (I : X → Prop) (h : ∀ x, I x → c x → I (g x)) : ∀ n x, I x → I (fl c g n x) := by
  intro n
  induction n with
  | zero => exact fun x hx => hx
  | succ n ih =>
    intro x hx
    unfold fl
    split
    · rename_i hc
      exact ih _ (h x hx hc)
    · exact hx
theorem fl_end {X : Type} {c : X → Prop} [DecidablePred c] {g : X → X} (I : X → Prop) (μ : X → Nat) (h : ∀ x, I x → c x → I (g x) ∧ μ (g x) < μ x) : ∀ n x, I x → μ x < n → ¬ c (fl c g n x) := by
  intro n
  induction n with
  | zero => exact fun x hx h0 => by omega
  | succ n ih =>
    intro x hx h0
    unfold fl
    split
    · rename_i hc
      obtain ⟨h1, h2⟩ := h x hx hc
      exact ih _ h1 (by omega)
    · assumption
/-- a loop's rounds -/
theorem lpx_fl {S R X : Type} {f : S → Option (S ⊕ R)} {c : X → Prop} [DecidablePred c] {g : X → X} (rel : X → S → Prop) (h : ∀ x s, rel x s → c x → ∃ s', lpx f s = lpx f s' ∧ rel (g x) s') : ∀ n x s, rel x s → ∃ s', lpx f s = lpx f s' ∧ rel (fl c g n x) s' := by
  intro n
  induction n with
  | zero => exact fun x s hs => ⟨s, rfl, hs⟩
  | succ n ih =>
    intro x s hs
    unfold fl
    split
    · rename_i hc
      obtain ⟨s', h1, h2⟩ := h x s hs hc
      obtain ⟨s'', h3, h4⟩ := ih _ _ h2
      exact ⟨s'', by rw [h1, h3], h4⟩
    · exact ⟨s, rfl, hs⟩
/-- n rounds of a loop -/
theorem lpx_itr {S R X : Type} {f : S → Option (S ⊕ R)} {g : Int → X → X} (rel : Nat → X → S → Prop) (n : Nat) (h : ∀ k x s, k < n → rel k x s → ∃ s', lpx f s = lpx f s' ∧ rel (k + 1) (g k x) s') : ∀ x s, rel 0 x s → ∃ s', lpx f s = lpx f s' ∧ rel n (itr g n x) s' := by
  intro x s h0
  have key : ∀ k, k ≤ n → ∃ s', lpx f s = lpx f s' ∧ rel k (itr g k x) s' := by
    intro k
    induction k with
    | zero => exact fun _ => ⟨s, rfl, h0⟩
    | succ k ih =>
      intro hk
      obtain ⟨s1, h1, h2⟩ := ih (by omega)
      obtain ⟨s2, h3, h4⟩ := h k _ _ (by omega) h2
      exact ⟨s2, by rw [h1, h3], h4⟩
  exact key n (Nat.le_refl _)
theorem itr_inv {X : Type} {g : Int → X → X} (I : Nat → X → Prop) (n : Nat) (h : ∀ k x, k < n → I k x → I (k + 1) (g k x)) : ∀ x, I 0 x → I n (itr g n x) := by
  intro x h0
  have key : ∀ k, k ≤ n → I k (itr g k x) := by
    intro k
    induction k with
    | zero => exact fun _ => h0
    | succ k ih => exact fun hk => h k _ (by omega) (ih (by omega))
  exact key n (Nat.le_refl _)
/-- marks, stack, top, highest, overflowed -/
abbrev AM : Type := (Int → Int) × (Int → Int) × Int × Int × Int
def rcA (d w o : Int) (A : AM) : AM := if o = -1 ∨ A.1 o = 1 ∨ o = w then A else if A.2.2.1 = d then (up A.1 o 1, A.2.1, A.2.2.1, A.2.2.2.1, 1) else (up A.1 o 1, up A.2.1 A.2.2.1 o, A.2.2.1 + 1, (if A.2.2.1 + 1 ≤ A.2.2.2.1 then A.2.2.2.1 else A.2.2.1 + 1), A.2.2.2.2)
noncomputable def popA (m : Int → Int) (d w : Int) (A : AM) : AM := itr (fun f B => rcA d w (oo9 m (m (800 + A.2.1 (A.2.2.1 - 1) + 1 + f))) B) (m (200 + A.2.1 (A.2.2.1 - 1))).toNat (A.1, A.2.1, A.2.2.1 - 1, A.2.2.2.1, A.2.2.2.2)
noncomputable def drA (m : Int → Int) (d w : Int) (A : AM) : AM := fl (fun A : AM => 0 < A.2.2.1) (popA m d w) 1000 A
noncomputable def stA (m : Int → Int) (d w o : Int) (A : AM) : AM := drA m d w (rcA d w o A)
noncomputable def scO (m : Int → Int) (d w a : Int) (A : AM) : AM := if 0 < m a ∧ A.1 a = 1 then itr (fun f B => stA m d w (oo9 m (m (800 + a + 1 + f))) B) (m (200 + a)).toNat A else A
noncomputable def scA (m : Int → Int) (d w : Int) (A : AM) : AM := itr (scO m d w) (m 1216).toNat (A.1, A.2.1, A.2.2.1, A.2.2.2.1, 0)
noncomputable def piO (m : Int → Int) (d w a : Int) (A : AM) : AM := if 0 < m a then stA m d w (if m (400 + a) = 1 then a else -1) A else A
noncomputable def beA (m : Int → Int) (d w : Int) (A : AM) : AM := itr (piO m d w) (m 1216).toNat (itr (fun k B => stA m d w (oo9 m (m (1200 + k))) B) 6 A)
noncomputable def mkA (m : Int → Int) (d w : Int) (A : AM) : Int × AM := fl (fun B : Int × AM => B.2.2.2.2.2 ≠ 0) (fun B => (B.1 + 1, scA m d w B.2)) 1000 (0, beA m d w A)
/-- how many are not marked -/
def um (F : Int → Int) : Int := sm (fun b => if F b = 1 then 0 else 1) 200
theorem um_b (F : Int → Int) : 0 ≤ um F ∧ um F ≤ 200 := sm_le 200 (fun k _ => by by_cases h : F k = 1 <;> simp [h])
theorem um_up {F : Int → Int} {b : Int} (h1 : 0 ≤ b) (h2 : b < 200) (h3 : F b ≠ 1) : um (up F b 1) = um F - 1 := by
  have key : ∀ n : Nat, sm (fun c => if up F b 1 c = 1 then 0 else 1) n = sm (fun c => if F c = 1 then 0 else 1) n - (if b < n then 1 else 0) := by
    intro n
    induction n with
    | zero => rw [if_neg (by omega)]; rfl
    | succ n ih =>
      rw [sm_s, sm_s, ih]
      by_cases hb : (n : Int) = b
      · rw [hb, up_s, if_neg (by omega), if_pos rfl, if_neg h3, if_pos (by omega)]
        omega
      · rw [up_n hb]
        by_cases hl : b < (n : Int)
        · rw [if_pos hl, if_pos (show b < ((n + 1 : Nat) : Int) by omega)]; omega
        · rw [if_neg hl, if_neg (show ¬ b < ((n + 1 : Nat) : Int) by omega)]; omega
  unfold um
  rw [key 200, if_pos (by omega)]
/-- a good state -/
def IA (m : Int → Int) (d : Int) (A : AM) : Prop := (∀ b, 0 ≤ b → b < 200 → A.1 b = 0 ∨ (A.1 b = 1 ∧ 0 < m b)) ∧ (0 ≤ A.2.2.1 ∧ A.2.2.1 ≤ d) ∧ (0 ≤ A.2.2.2.1 ∧ A.2.2.2.1 ≤ d) ∧ (A.2.2.2.2 = 0 ∨ A.2.2.2.2 = 1) ∧ (∀ k, 0 ≤ k → k < A.2.2.1 → 0 ≤ A.2.1 k ∧ A.2.1 k < 200 ∧ 0 < m (A.2.1 k)) ∧ um A.1 + A.2.2.1 ≤ 200
/-- what follows on A -/
def GEA (m : Int → Int) (d : Int) (A B : AM) : Prop := IA m d B ∧ (∀ b, A.1 b = 1 → B.1 b = 1) ∧ um B.1 ≤ um A.1 ∧ 2 * um B.1 + B.2.2.2.2 ≤ 2 * um A.1 + A.2.2.2.2 ∧ um B.1 + B.2.2.1 ≤ um A.1 + A.2.2.1
section M1
variable {m : Int → Int} {d w : Int} {A B : AM}
theorem GEA.rfl' (h : IA m d A) : GEA m d A A := ⟨h, fun _ q => q, Int.le_refl _, Int.le_refl _, Int.le_refl _⟩
theorem GEA.tr {E : AM} (h1 : GEA m d A B) (h2 : GEA m d B E) : GEA m d A E := by
  obtain ⟨a1, a2, a3, a4, a5⟩ := h1
  obtain ⟨b1, b2, b3, b4, b5⟩ := h2
  exact ⟨b1, fun b q => b2 b (a2 b q), by omega, by omega, by omega⟩
/-- where a reference leads is a header, or none -/
def hdr (m : Int → Int) (o : Int) : Prop := o = -1 ∨ (0 ≤ o ∧ o < 200 ∧ 0 < m o)
theorem oo9_h (m : Int → Int) (x : Int) : hdr m (oo9 m x) := by
  unfold oo9 hdr
  by_cases h : x = -1
  · exact Or.inl (if_pos h)
  · rw [if_neg h]
    rcases ob_r (m := m) x with q | ⟨q1, q2, q3, -⟩
    · exact Or.inl q
    · exact Or.inr ⟨q1, q2, q3⟩
theorem rcA_g (h : IA m d A) {o : Int} (ho : hdr m o) : GEA m d A (rcA d w o A) := by
  unfold rcA
  by_cases c1 : o = -1 ∨ A.1 o = 1 ∨ o = w
  · rw [if_pos c1]
    exact GEA.rfl' h
  · rw [if_neg c1]
    have c2 : o ≠ -1 := fun q => c1 (Or.inl q)
    have c3 : A.1 o ≠ 1 := fun q => c1 (Or.inr (Or.inl q))
    rcases ho with ho | ⟨o1, o2, o3⟩
    · exact absurd ho c2
    obtain ⟨h1, h2, h3, h4, h5, h6⟩ := h
    have hu := um_up o1 o2 c3
    have hmk : ∀ b, 0 ≤ b → b < 200 → up A.1 o 1 b = 0 ∨ (up A.1 o 1 b = 1 ∧ 0 < m b) := fun b b1 b2 => by
      by_cases hb : b = o
      · subst hb; rw [up_s]; exact Or.inr ⟨rfl, o3⟩
      · rw [up_n hb]; exact h1 b b1 b2
    have hmo : ∀ b, A.1 b = 1 → up A.1 o 1 b = 1 := fun b q => by
      by_cases hb : b = o
      · subst hb; rw [up_s]
      · rw [up_n hb]; exact q
    have hub := um_b A.1
    by_cases c4 : A.2.2.1 = d
    · rw [if_pos c4]
      refine ⟨⟨hmk, h2, h3, Or.inr rfl, h5, ?_⟩, hmo, ?_, ?_, ?_⟩
      · dsimp only; omega
      · dsimp only; omega
      · dsimp only; omega
      · dsimp only; omega
    · rw [if_neg c4]
      refine ⟨⟨hmk, ?_, ?_, h4, fun k k1 k2 => ?_, ?_⟩, hmo, ?_, ?_, ?_⟩
      · dsimp only; omega
      · dsimp only; split <;> omega
      · dsimp only at k2 ⊢
        by_cases hk : k = A.2.2.1
        · rw [hk, up_s]; exact ⟨o1, o2, o3⟩
        · rw [up_n hk]; exact h5 k k1 (by omega)
      · dsimp only; omega
      · dsimp only; omega
      · dsimp only; omega
      · dsimp only; omega
/-- the fields of an object -/
theorem fdA_g (h : IA m d A) (g : Int → AM → AM) (n : Nat) (hg : ∀ (k : Int) B, 0 ≤ k → k < n → IA m d B → GEA m d B (g k B)) : GEA m d A (itr g n A) :=
  itr_inv (fun _ B => GEA m d A B) n (fun k B hk hB => hB.tr (hg k B (by omega) (by omega) hB.1)) A (GEA.rfl' h)
theorem popA_g (h : IA m d A) (hc : 0 < A.2.2.1) : GEA m d (A.1, A.2.1, A.2.2.1 - 1, A.2.2.2.1, A.2.2.2.2) (popA m d w A) := by
  unfold popA
  refine fdA_g ?_ _ _ (fun k B _ _ hB => rcA_g hB (oo9_h m _))
  obtain ⟨h1, h2, h3, h4, h5, h6⟩ := h
  exact ⟨h1, ⟨by dsimp only; omega, by dsimp only; omega⟩, h3, h4, fun k k1 k2 => h5 k k1 (by dsimp only at k2; omega), by dsimp only; omega⟩
theorem popA_g2 (h : IA m d A) (hc : 0 < A.2.2.1) : GEA m d A (popA m d w A) ∧ um (popA m d w A).1 + (popA m d w A).2.2.1 < um A.1 + A.2.2.1 := by
  obtain ⟨b1, b2, b3, b4, b5⟩ := popA_g (w := w) h hc
  dsimp only at b2 b3 b4 b5
  exact ⟨⟨b1, b2, b3, b4, by omega⟩, by omega⟩
theorem drA_g (h : IA m d A) : GEA m d A (drA m d w A) ∧ (drA m d w A).2.2.1 = 0 := by
  have h1 : GEA m d A (drA m d w A) := fl_inv (fun B => GEA m d A B) (fun B hB hc => hB.tr (popA_g2 hB.1 hc).1) 1000 A (GEA.rfl' h)
  refine ⟨h1, ?_⟩
  have h2 := fl_end (c := fun A : AM => 0 < A.2.2.1) (g := popA m d w) (IA m d) (fun B => (2 * um B.1 + B.2.2.1).toNat) (fun B hB hc => by
    obtain ⟨⟨q1, q2, q3, q4, q5⟩, q6⟩ := popA_g2 (w := w) hB hc
    have hu1 := um_b B.1
    have hu2 := um_b (popA m d w B).1
    have ht := q1.2.1
    exact ⟨q1, by omega⟩) 1000 A h (by have := um_b A.1; have := h.2.2.2.2.2; omega)
  have h3 := h1.1.2.1.1
  have h4 : ¬ 0 < (drA m d w A).2.2.1 := h2
  omega
theorem stA_g (h : IA m d A) {o : Int} (ho : hdr m o) : GEA m d A (stA m d w o A) ∧ (stA m d w o A).2.2.1 = 0 := by
  have h1 := rcA_g (w := w) h ho
  have h2 := drA_g (w := w) h1.1
  exact ⟨h1.tr h2.1, h2.2⟩
/-- nothing to reach -/
theorem stA_0 (h : A.2.2.1 = 0) : stA m d w (-1) A = A := by
  unfold stA rcA drA
  rw [if_pos (Or.inl rfl)]
  unfold fl
  rw [if_neg (by omega)]
/-- good, with an empty stack -/
def IE (m : Int → Int) (d : Int) (A : AM) : Prop := IA m d A ∧ A.2.2.1 = 0
theorem itE_g (h : IE m d A) (g : Int → AM → AM) (n : Nat) (hg : ∀ (k : Int) B, 0 ≤ k → k < n → IE m d B → GEA m d B (g k B) ∧ (g k B).2.2.1 = 0) : GEA m d A (itr g n A) ∧ (itr g n A).2.2.1 = 0 :=
  itr_inv (fun _ B => GEA m d A B ∧ B.2.2.1 = 0) n (fun k B hk hB => by
    obtain ⟨q1, q2⟩ := hg k B (by omega) (by omega) ⟨hB.1.1, hB.2⟩
    exact ⟨hB.1.tr q1, q2⟩) A ⟨GEA.rfl' h.1, h.2⟩
theorem scO_g (h : IE m d A) (a : Int) : GEA m d A (scO m d w a A) ∧ (scO m d w a A).2.2.1 = 0 := by
  unfold scO
  split
  · exact itE_g h _ _ (fun k B _ _ hB => stA_g hB.1 (oo9_h m _))
  · exact ⟨GEA.rfl' h.1, h.2⟩
theorem piO_g (h : IE m d A) {a : Int} (a1 : 0 ≤ a) (a2 : a < 200) : GEA m d A (piO m d w a A) ∧ (piO m d w a A).2.2.1 = 0 := by
  unfold piO
  split
  · rename_i hc
    refine stA_g h.1 ?_
    split
    · exact Or.inr ⟨a1, a2, hc⟩
    · exact Or.inl rfl
  · exact ⟨GEA.rfl' h.1, h.2⟩
theorem scA_g (h : IE m d A) : GEA m d (A.1, A.2.1, A.2.2.1, A.2.2.2.1, 0) (scA m d w A) ∧ (scA m d w A).2.2.1 = 0 := by
  unfold scA
  refine itE_g (A := (A.1, A.2.1, A.2.2.1, A.2.2.2.1, 0)) ⟨⟨h.1.1, h.1.2.1, h.1.2.2.1, Or.inl rfl, h.1.2.2.2.2.1, h.1.2.2.2.2.2⟩, h.2⟩ _ _ (fun k B _ _ hB => scO_g hB k)
theorem beA_g (hm : WF m) (h : IE m d A) : GEA m d A (beA m d w A) ∧ (beA m d w A).2.2.1 = 0 := by
  have hW := hm.hW
  unfold beA
  have h1 := itE_g h (fun k B => stA m d w (oo9 m (m (1200 + k))) B) 6 (fun k B _ _ hB => stA_g hB.1 (oo9_h m _))
  have h2 := itE_g ⟨h1.1.1, h1.2⟩ (piO m d w) (m 1216).toNat (fun k B k1 k2 hB => piO_g hB k1 (by omega))
  exact ⟨h1.1.tr h2.1, h2.2⟩
theorem mkA_g (hm : WF m) (h : IE m d A) : IE m d (mkA m d w A).2 ∧ (mkA m d w A).2.2.2.2.2 = 0 ∧ 0 ≤ (mkA m d w A).1 ∧ (mkA m d w A).1 ≤ 1000 := by
  have h0 := beA_g (w := w) hm h
  have hst : ∀ B : Int × AM, IE m d B.2 → B.2.2.2.2.2 ≠ 0 → IE m d (scA m d w B.2) ∧ 2 * um (scA m d w B.2).1 + (scA m d w B.2).2.2.2.2 < 2 * um B.2.1 + B.2.2.2.2.2 := fun B hB hc => by
    obtain ⟨⟨q1, q2, q3, q4, q5⟩, q6⟩ := scA_g (w := w) hB
    dsimp only at q4
    have := hB.1.2.2.2.1
    exact ⟨⟨q1, q6⟩, by omega⟩
  have hI : IE m d (mkA m d w A).2 := fl_inv (fun B : Int × AM => IE m d B.2) (fun B hB hc => (hst B hB hc).1) 1000 (0, beA m d w A) ⟨h0.1.1, h0.2⟩
  have hE : ¬ (mkA m d w A).2.2.2.2.2 ≠ 0 := fl_end (c := fun B : Int × AM => B.2.2.2.2.2 ≠ 0) (g := fun B => (B.1 + 1, scA m d w B.2)) (fun B : Int × AM => IE m d B.2) (fun B => (2 * um B.2.1 + B.2.2.2.2.2).toNat) (fun B hB hc => by
    obtain ⟨q1, q2⟩ := hst B hB hc
    have := um_b B.2.1
    have := um_b (scA m d w B.2).1
    have := q1.1.2.2.2.1
    exact ⟨q1, by dsimp only; omega⟩) 1000 (0, beA m d w A) ⟨h0.1.1, h0.2⟩ (by have := um_b (beA m d w A).1; have := h0.1.1.2.2.2.1; dsimp only; omega)
  have hN : 0 ≤ (mkA m d w A).1 ∧ (mkA m d w A).1 + (2 * um (mkA m d w A).2.1 + (mkA m d w A).2.2.2.2.2) ≤ 500 := fl_inv (fun B : Int × AM => IE m d B.2 ∧ 0 ≤ B.1 ∧ B.1 + (2 * um B.2.1 + B.2.2.2.2.2) ≤ 500) (fun B hB hc => by
    obtain ⟨q1, q2⟩ := hst B hB.1 hc
    exact ⟨q1, by dsimp only; omega, by dsimp only; omega⟩) 1000 (0, beA m d w A) ⟨⟨h0.1.1, h0.2⟩, Int.le_refl _, by have := um_b (beA m d w A).1; have := h0.1.1.2.2.2.1; dsimp only; omega⟩ |>.2
  have := um_b (mkA m d w A).2.1
  exact ⟨hI, by omega, hN.1, by have := hI.1.2.2.2.1; omega⟩
end M1
