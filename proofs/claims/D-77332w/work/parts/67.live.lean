/-! PLAIN LAW: with room enough the machine marks what is reached. NAMES: PR9 mkL -/
set_option maxRecDepth 100000
/-- a field that leads to nothing new -/
def cf9 (m : Int → Int) (w : Int) (F : Int → Int) (a f : Int) : Prop := oo9 m (m (800 + a + 1 + f)) = -1 ∨ F (oo9 m (m (800 + a + 1 + f))) = 1 ∨ oo9 m (m (800 + a + 1 + f)) = w
/-- the way to the end: but for the fields of ex from j on -/
def PR9 (m : Int → Int) (w : Int) (A : AM) (ex j : Int) : Prop := IA m 200 A ∧ A.2.2.2.2 = 0 ∧ (∀ b, 0 ≤ b → b < 200 → A.1 b = 1 → ∃ k, rd m w k b) ∧ (∀ k, 0 ≤ k → k < A.2.2.1 → A.1 (A.2.1 k) = 1) ∧ (∀ c f, 0 ≤ c → c < 200 → A.1 c = 1 → 0 ≤ f → f < m (200 + c) → (∃ k, 0 ≤ k ∧ k < A.2.2.1 ∧ A.2.1 k = c) ∨ (c = ex ∧ j ≤ f) ∨ cf9 m w A.1 c f)
section M1
variable {m : Int → Int} {w : Int} {A : AM} {ex j : Int}
theorem rcA_v (h : PR9 m w A ex j) {o : Int} (ho : hdr m o) (hr : o = -1 ∨ o = w ∨ ∃ k, rd m w k o) : PR9 m w (rcA 200 w o A) ex j ∧ (o = -1 ∨ (rcA 200 w o A).1 o = 1 ∨ o = w) := by
  have hga := rcA_g (w := w) h.1 ho
  by_cases c1 : o = -1 ∨ A.1 o = 1 ∨ o = w
  · have e : rcA 200 w o A = A := if_pos c1
    rw [e]
    exact ⟨h, c1⟩
  · rcases ho with ho | ⟨o1, o2, o3⟩
    · exact absurd (Or.inl ho) c1
    obtain ⟨h1, h2, h3, h4, h5⟩ := h
    have hum := um_up o1 o2 (F := A.1) (by omega)
    have hub := um_b (up A.1 o 1)
    have h16 := h1.2.2.2.2.2
    have c2 : ¬ A.2.2.1 = 200 := by omega
    have e : rcA 200 w o A = _ := (if_neg c1).trans (if_neg c2)
    rw [e] at hga ⊢
    have hmo : ∀ b, A.1 b = 1 → up A.1 o 1 b = 1 := hga.2.1
    have hcf : ∀ c f, cf9 m w A.1 c f → cf9 m w (up A.1 o 1) c f := fun c f q => by
      rcases q with q | q | q
      · exact Or.inl q
      · exact Or.inr (Or.inl (hmo _ q))
      · exact Or.inr (Or.inr q)
    refine ⟨⟨hga.1, h2, fun b b1 b2 b3 => ?_, fun k k1 k2 => ?_, fun c f c3 c4 c5 f1 f2 => ?_⟩, Or.inr (Or.inl (up_s _ _ _))⟩
    · by_cases hb : b = o
      · subst hb
        rcases hr with q | q | q
        · exact absurd (Or.inl q) c1
        · exact absurd (Or.inr (Or.inr q)) c1
        · exact q
      · dsimp only at b3
        rw [up_n hb] at b3
        exact h3 b b1 b2 b3
    · dsimp only at k2 ⊢
      by_cases hk : k = A.2.2.1
      · rw [hk, up_s A.2.1, up_s]
      · rw [up_n (f := A.2.1) hk]
        exact hmo _ (h4 k k1 (by omega))
    · dsimp only at c5 ⊢
      by_cases hc : c = o
      · exact Or.inl ⟨A.2.2.1, h1.2.1.1, by omega, by rw [up_s, hc]⟩
      · rw [up_n hc] at c5
        rcases h5 c f c3 c4 c5 f1 f2 with ⟨k, k1, k2, k3⟩ | q | q
        · exact Or.inl ⟨k, k1, by omega, by rw [up_n (by omega)]; exact k3⟩
        · exact Or.inr (Or.inl q)
        · exact Or.inr (Or.inr (hcf _ _ q))
theorem ed_of (hm : WF m) {a f : Int} (a1 : 0 ≤ a) (a2 : a < 200) (a3 : 0 < m a) (f1 : 0 ≤ f) (f2 : f < m (200 + a)) (hr : ∃ k, rd m w k a) : oo9 m (m (800 + a + 1 + f)) = -1 ∨ oo9 m (m (800 + a + 1 + f)) = w ∨ ∃ k, rd m w k (oo9 m (m (800 + a + 1 + f))) := by
  by_cases h1 : m (800 + a + 1 + f) = -1
  · exact Or.inl (if_pos h1)
  · have e : oo9 m (m (800 + a + 1 + f)) = ob m (m (800 + a + 1 + f)) := if_neg h1
    rw [e]
    by_cases h2 : ob m (m (800 + a + 1 + f)) = w
    · exact Or.inr (Or.inl h2)
    · obtain ⟨k, hk⟩ := hr
      refine Or.inr (Or.inr ⟨k + 1, Or.inr ⟨a, hk, ⟨a1, a2, a3, 1 + f, by omega, by omega, ?_, ?_⟩, h2⟩⟩)
      · rw [show 800 + a + (1 + f) = 800 + a + 1 + f by omega]; exact h1
      · rw [show 800 + a + (1 + f) = 800 + a + 1 + f by omega]
theorem popA_v (hm : WF m) (h : PR9 m w A (-1) 0) (hc : 0 < A.2.2.1) : PR9 m w (popA m 200 w A) (-1) 0 := by
  obtain ⟨h1, h2, h3, h4, h5⟩ := h
  obtain ⟨a1, a2, a3⟩ := h1.2.2.2.2.1 (A.2.2.1 - 1) (by omega) (by omega)
  have hma := h4 (A.2.2.1 - 1) (by omega) (by omega)
  have hF := hm.hf _ a1 a2 a3
  unfold popA
  generalize hav : A.2.1 (A.2.2.1 - 1) = a at a1 a2 a3 hma hF ⊢
  have hra := h3 a a1 a2 hma
  have h0 : PR9 m w (A.1, A.2.1, A.2.2.1 - 1, A.2.2.2.1, A.2.2.2.2) a 0 := by
    refine ⟨⟨h1.1, ⟨by dsimp only; omega, by have := h1.2.1.2; dsimp only; omega⟩, h1.2.2.1, h1.2.2.2.1, fun k k1 k2 => h1.2.2.2.2.1 k k1 (by dsimp only at k2; omega), by have := h1.2.2.2.2.2; dsimp only; omega⟩, h2, h3, fun k k1 k2 => h4 k k1 (by dsimp only at k2; omega), fun c f c3 c4 c5 f1 f2 => ?_⟩
    rcases h5 c f c3 c4 c5 f1 f2 with ⟨k, k1, k2, k3⟩ | ⟨q, -⟩ | q
    · by_cases hk : k = A.2.2.1 - 1
      · rw [hk, hav] at k3
        exact Or.inr (Or.inl ⟨k3.symm, f1⟩)
      · exact Or.inl ⟨k, k1, by dsimp only; omega, k3⟩
    · omega
    · exact Or.inr (Or.inr q)
  have key := itr_inv (g := fun f B => rcA 200 w (oo9 m (m (800 + a + 1 + f))) B) (fun k B => PR9 m w B a k ∧ B.1 a = 1) (m (200 + a)).toNat (fun k B hk ⟨hB, hBa⟩ => by
    obtain ⟨q1, q2⟩ := rcA_v hB (oo9_h m (m (800 + a + 1 + k))) (ed_of hm a1 a2 a3 (by omega) (by omega) hra)
    have hga := rcA_g (w := w) hB.1 (oo9_h m (m (800 + a + 1 + k)))
    refine ⟨⟨q1.1, q1.2.1, q1.2.2.1, q1.2.2.2.1, fun c f c3 c4 c5 f1 f2 => ?_⟩, hga.2.1 a hBa⟩
    rcases q1.2.2.2.2 c f c3 c4 c5 f1 f2 with q | ⟨q, q3⟩ | q
    · exact Or.inl q
    · by_cases hf : f = k
      · subst hf
        rw [q]
        exact Or.inr (Or.inr q2)
      · exact Or.inr (Or.inl ⟨q, by omega⟩)
    · exact Or.inr (Or.inr q)) _ ⟨h0, hma⟩
  obtain ⟨⟨k1, k2, k3, k4, k5⟩, -⟩ := key
  refine ⟨k1, k2, k3, k4, fun c f c3 c4 c5 f1 f2 => ?_⟩
  rcases k5 c f c3 c4 c5 f1 f2 with q | ⟨q, q3⟩ | q
  · exact Or.inl q
  · subst q
    omega
  · exact Or.inr (Or.inr q)
theorem drA_v (hm : WF m) (h : PR9 m w A (-1) 0) : PR9 m w (drA m 200 w A) (-1) 0 := fl_inv (fun B => PR9 m w B (-1) 0) (fun B hB hc => popA_v hm hB hc) 1000 A h
theorem stA_v (hm : WF m) (h : PR9 m w A (-1) 0) {o : Int} (ho : hdr m o) (hr : o = -1 ∨ o = w ∨ ∃ k, rd m w k o) : PR9 m w (stA m 200 w o A) (-1) 0 ∧ (o = -1 ∨ (stA m 200 w o A).1 o = 1 ∨ o = w) := by
  obtain ⟨h1, h2⟩ := rcA_v h ho hr
  refine ⟨drA_v hm h1, ?_⟩
  rcases h2 with q | q | q
  · exact Or.inl q
  · exact Or.inr (Or.inl ((drA_g (w := w) h1.1).1.2.1 _ q))
  · exact Or.inr (Or.inr q)
/-- the machine with room for all, out of an empty state -/
theorem mkL (hm : WF m) {mk0 stk0 : Int → Int} (hmk0 : ∀ b, 0 ≤ b → b < 200 → mk0 b = 0) : ∀ b, 0 ≤ b → b < 200 → (((mkA m 200 w (mk0, stk0, 0, 0, 0)).2.1 b = 1 ∧ ∃ k, rd m w k b) ∨ ((mkA m 200 w (mk0, stk0, 0, 0, 0)).2.1 b = 0 ∧ ∀ k, ¬ rd m w k b)) := by
  have hW := hm.hW
  have hI0 : PR9 m w (mk0, stk0, 0, 0, 0) (-1) 0 := ⟨⟨fun b b1 b2 => Or.inl (hmk0 b b1 b2), ⟨by dsimp only; omega, by dsimp only; omega⟩, ⟨by dsimp only; omega, by dsimp only; omega⟩, Or.inl rfl, fun k k1 k2 => by dsimp only at k2; omega, by have := um_b mk0; dsimp only; omega⟩, rfl, fun b b1 b2 b3 => by dsimp only at b3; rw [hmk0 b b1 b2] at b3; omega, fun k k1 k2 => by dsimp only at k2; omega, fun c f c3 c4 c5 f1 f2 => by dsimp only at c5; rw [hmk0 c c3 c4] at c5; omega⟩
  have hro : ∀ k : Int, 0 ≤ k → k < 6 → oo9 m (m (1200 + k)) = -1 ∨ oo9 m (m (1200 + k)) = w ∨ ∃ n, rd m w n (oo9 m (m (1200 + k))) := fun k k1 k2 => by
    by_cases h1 : m (1200 + k) = -1
    · exact Or.inl (if_pos h1)
    · have e : oo9 m (m (1200 + k)) = ob m (m (1200 + k)) := if_neg h1
      rw [e]
      by_cases h2 : ob m (m (1200 + k)) = w
      · exact Or.inr (Or.inl h2)
      · exact Or.inr (Or.inr ⟨0, Or.inl ⟨k, k1, k2, h1, rfl⟩, h2⟩)
  -- roots
  have k1 := itr_inv (g := fun k B => stA m 200 w (oo9 m (m (1200 + k))) B) (fun n B => PR9 m w B (-1) 0 ∧ ∀ k : Int, 0 ≤ k → k < n → oo9 m (m (1200 + k)) = -1 ∨ B.1 (oo9 m (m (1200 + k))) = 1 ∨ oo9 m (m (1200 + k)) = w) 6 (fun k B hk ⟨hB, hB2⟩ => by
    obtain ⟨q1, q2⟩ := stA_v hm hB (oo9_h m _) (hro k (by omega) (by omega))
    have hga := (stA_g (w := w) hB.1 (oo9_h m (m (1200 + k)))).1
    refine ⟨q1, fun i i1 i2 => ?_⟩
    by_cases hi : i = k
    · rw [hi]; exact q2
    · rcases hB2 i i1 (by omega) with q | q | q
      · exact Or.inl q
      · exact Or.inr (Or.inl (hga.2.1 _ q))
      · exact Or.inr (Or.inr q)) (mk0, stk0, 0, 0, 0) ⟨hI0, fun k k1 k2 => by omega⟩
  generalize hB1 : itr (fun k B => stA m 200 w (oo9 m (m (1200 + k))) B) 6 (mk0, stk0, 0, 0, 0) = B1 at k1
  obtain ⟨r1, r2⟩ := k1
  have k2 := itr_inv (g := piO m 200 w) (fun n B => PR9 m w B (-1) 0 ∧ (∀ b, B1.1 b = 1 → B.1 b = 1) ∧ ∀ a : Int, 0 ≤ a → a < n → 0 < m a → m (400 + a) = 1 → B.1 a = 1 ∨ a = w) (m 1216).toNat (fun a B ha ⟨hB, hB1', hB2⟩ => by
    unfold piO
    by_cases c1 : 0 < m (a : Int)
    · rw [if_pos c1]
      have ho : hdr m (if m (400 + (a : Int)) = 1 then (a : Int) else -1) := by
        split
        · exact Or.inr ⟨by omega, by omega, c1⟩
        · exact Or.inl rfl
      have hga := (stA_g (w := w) hB.1 ho).1
      obtain ⟨q1, q2⟩ := stA_v hm hB ho (by
        split
        · rename_i hp
          by_cases h2 : (a : Int) = w
          · exact Or.inr (Or.inl h2)
          · exact Or.inr (Or.inr ⟨0, Or.inr ⟨by omega, by omega, c1, hp⟩, h2⟩)
        · exact Or.inl rfl)
      refine ⟨q1, fun b hb => hga.2.1 b (hB1' b hb), fun i i1 i2 i3 i4 => ?_⟩
      by_cases hi : i = a
      · subst hi
        rw [if_pos i4] at q2 ⊢
        rcases q2 with q | q | q
        · omega
        · exact Or.inl q
        · exact Or.inr q
      · rcases hB2 i i1 (by omega) i3 i4 with q | q
        · exact Or.inl (hga.2.1 _ q)
        · exact Or.inr q
    · rw [if_neg c1]
      refine ⟨hB, hB1', fun i i1 i2 i3 i4 => ?_⟩
      by_cases hi : i = a
      · rw [hi] at i3
        exact absurd i3 c1
      · exact hB2 i i1 (by omega) i3 i4) B1 ⟨r1, fun b q => q, fun a a1 a2 => by omega⟩
  have hbe : beA m 200 w (mk0, stk0, 0, 0, 0) = itr (piO m 200 w) (m 1216).toNat B1 := by
    unfold beA
    rw [hB1]
  rw [← hbe] at k2
  obtain ⟨s1, s2, s3⟩ := k2
  have hmk : mkA m 200 w (mk0, stk0, 0, 0, 0) = (0, beA m 200 w (mk0, stk0, 0, 0, 0)) := by
    unfold mkA fl
    exact if_neg (fun q => q s1.2.1)
  have htop : (beA m 200 w (mk0, stk0, 0, 0, 0)).2.2.1 = 0 := (beA_g (w := w) (d := 200) hm ⟨hI0.1, rfl⟩).2
  rw [hmk]
  dsimp only
  generalize beA m 200 w (mk0, stk0, 0, 0, 0) = B at s1 s2 s3 htop
  have hall : ∀ n b, rd m w n b → B.1 b = 1 := by
    intro n
    induction n with
    | zero =>
      intro b hb
      obtain ⟨hb1, hb2⟩ := hb
      rcases hb1 with ⟨k, k1, k2, k3, k4⟩ | ⟨q1, q2, q3, q4⟩
      · have e : oo9 m (m (1200 + k)) = b := (if_neg k3).trans k4
        have h9 := r2 k k1 k2
        rw [e] at h9
        rcases h9 with q | q | q
        · have := sta_in hm (b := b) (Or.inl ⟨k, k1, k2, k3, k4⟩)
          omega
        · exact s2 b q
        · exact absurd q hb2
      · have hE := hm.he b q1 q2 q3
        rcases s3 b q1 (by omega) q3 q4 with q | q
        · exact q
        · exact absurd q hb2
    | succ n ih =>
      intro b hb
      rcases hb with hb | ⟨a, ha, ⟨e1, e2, e3, f, f1, f2, f3, f4⟩, hbw⟩
      · exact ih b hb
      · have h9 := s1.2.2.2.2 a (f - 1) e1 e2 (ih a ha) (by omega) (by omega)
        rcases h9 with ⟨k, k1, k2, -⟩ | ⟨q, -⟩ | q
        · omega
        · omega
        · unfold cf9 at q
          rw [show 800 + a + 1 + (f - 1) = 800 + a + f by omega] at q
          have e : oo9 m (m (800 + a + f)) = b := (if_neg f3).trans f4
          rw [e] at q
          rcases q with q | q | q
          · have := ed_in hm (a := a) (b := b) ⟨e1, e2, e3, f, f1, f2, f3, f4⟩
            omega
          · exact q
          · exact absurd q hbw
  intro b b1 b2
  have h0 := s1.1.1 b b1 b2
  by_cases hb : B.1 b = 1
  · exact Or.inl ⟨hb, s1.2.2.1 b b1 b2 hb⟩
  · exact Or.inr ⟨by omega, fun k hk => hb (hall k b hk)⟩
end M1
