/-! PLAIN LAW: a heap's copy. NAMES: HLD FLc DTc kc_hcopy -/
set_option maxRecDepth 100000
/-- the cells of the roles stand in the memory -/
def HLD (D : Nat → Int × Int) (c : Int → Int → mm_E) (μ : mm_M) : Prop := ∀ b, (D b).1 ≠ -1 → μ.1 b = some (c (D b).1 (D b).2)
theorem HLD.eq {D : Nat → Int × Int} {c : Int → Int → mm_E} {μ : mm_M} (h : HLD D c μ) : μ = cput D c μ := cput_self h
theorem HLD.of {D : Nat → Int × Int} {c : Int → Int → mm_E} {μ : mm_M} : HLD D c (cput D c μ) := fun b hb => by
  unfold cput
  dsimp only
  rw [if_neg hb]
/-- the rows of fields and data that a copy has -/
def FLc (nfk : Int → Int) (flk : Int → Int → Int) : Int → Int → Int := fun a j => if j < nfk a then flk a j else if 0 ≤ j ∧ j < nfk a then -1 else 0
def DTc (ndk : Int → Int) (dtk : Int → Int → Int) : Int → Int → Int := fun a j => if j < ndk a then dtk a j else 0
/-- the roles of a heap that was made at h0 with its rows from l on -/
def dH9 (h0 l : Nat) : Nat → Int × Int := fun b => if b = h0 then (3, 6) else if b = l then (3, 0) else if b = l + 1 then (3, 1) else if b = l + 2 then (3, 3) else if b = l + 3 then (3, 4) else if b = l + 4 then (3, 5) else (-1, 0)
def gH9 (h0 l : Nat) : Int → Int → Nat := fun k a => if k = 3 ∧ a = 6 then h0 else if k = 3 ∧ a = 0 then l else if k = 3 ∧ a = 1 then l + 1 else if k = 3 ∧ a = 3 then l + 2 else if k = 3 ∧ a = 4 then l + 3 else if k = 3 ∧ a = 5 then l + 4 else 0
theorem HU_H {h0 l : Nat} (h : h0 < l) : HU (dH9 h0 l) (gH9 h0 l) := by
  refine ⟨fun b hb => ?_, ?_, ?_, ?_, ?_, ?_, ?_⟩
  · unfold dH9 at hb ⊢
    unfold gH9
    by_cases c0 : b = h0
    · rw [if_pos c0]; simp; exact c0.symm
    · rw [if_neg c0] at hb ⊢
      by_cases c1 : b = l
      · rw [if_pos c1]; simp; exact c1.symm
      · rw [if_neg c1] at hb ⊢
        by_cases c2 : b = l + 1
        · rw [if_pos c2]; simp; exact c2.symm
        · rw [if_neg c2] at hb ⊢
          by_cases c3 : b = l + 2
          · rw [if_pos c3]; simp; exact c3.symm
          · rw [if_neg c3] at hb ⊢
            by_cases c4 : b = l + 3
            · rw [if_pos c4]; simp; exact c4.symm
            · rw [if_neg c4] at hb ⊢
              by_cases c5 : b = l + 4
              · rw [if_pos c5]; simp; exact c5.symm
              · rw [if_neg c5] at hb
                exact absurd rfl hb
  all_goals
    unfold GU gH9 dH9
    simp
    try omega
section T1
variable {m hd : Int → Int} {adk nfk ndk pnk agk mkk rok wek plk txk : Int → Int} {flk dtk : Int → Int → Int} {hwk dpk alk cok fek lnk tlk rfk : Int} {rpk : Option Nat} {mok : Int32} {eak cpk : Nat} {elk owk skk slk : Nat → Option Nat} {hsk : Int64} {D : Nat → Int × Int} {G : Int → Int → Nat} {σ : mm_M} {h0 : Nat}
theorem tc9_hld {μ : mm_M} {a : Int} (hH : HLD D (cel G adk nfk ndk pnk agk mkk flk dtk hwk dpk alk cok fek rpk rok wek plk mok eak lnk cpk elk owk skk txk tlk rfk slk hsk) μ) (hDB : DB D μ) (hn : ∀ b k, 0 ≤ k → k ≤ 2 → D b ≠ (k, a)) (hmk : mkk a = 0) : HLD (dT D a μ.2.1) (cel (gT G a μ.2.1) adk nfk ndk pnk agk mkk flk dtk hwk dpk alk cok fek rpk rok wek plk mok eak lnk cpk elk owk skk txk tlk rfk slk hsk) (tc9 μ (adk a) (nfk a) (ndk a) (flk a) (dtk a) (pnk a) (agk a)) := by
  intro b hb
  unfold dT at hb ⊢
  obtain ⟨-, t2, t3, t4⟩ := TH_dT (D := D) (G := G) (r := a) (q := μ.2.1)
  by_cases b0 : b = μ.2.1
  · rw [if_pos b0]
    unfold tc9
    dsimp only
    rw [if_neg (by omega), if_neg (by omega), if_pos b0]
    simp [cel, t3, t4, hmk]
  · rw [if_neg b0] at hb ⊢
    by_cases b1 : b = μ.2.1 + 1
    · rw [if_pos b1]
      unfold tc9
      dsimp only
      rw [if_neg (by omega), if_pos b1]
      simp [cel]
    · rw [if_neg b1] at hb ⊢
      by_cases b2 : b = μ.2.1 + 2
      · rw [if_pos b2]
        unfold tc9
        dsimp only
        rw [if_pos b2]
        simp [cel]
      · rw [if_neg b2] at hb ⊢
        unfold tc9
        dsimp only
        rw [if_neg b2, if_neg b1, if_neg b0, hH b hb]
        refine congrArg some ?_
        generalize hDb : D b = ka at hb ⊢
        obtain ⟨k, a'⟩ := ka
        dsimp only at hb ⊢
        by_cases hk3 : 0 ≤ k ∧ k ≤ 2
        · have har : a' ≠ a := fun q => hn b k hk3.1 hk3.2 (by rw [hDb, q])
          have hnn : ∀ j, gT G a μ.2.1 j a' = G j a' := fun j => gT_n (Or.inr har)
          have k3 : ¬ k = 3 := by omega
          simp only [cel, hnn, k3, false_and, if_false]
        · have k0 : ¬ k = 0 := by omega
          have k1 : ¬ k = 1 := by omega
          have k2 : ¬ k = 2 := by omega
          have hnn : ∀ j, gT G a μ.2.1 3 j = G 3 j := fun j => gT_n (Or.inl rfl)
          simp only [cel, if_neg k0, if_neg k1, if_neg k2, hnn]
end T1
