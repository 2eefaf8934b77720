/-! PLAIN LAW: save, restore. NAMES: SVP dI9 gI9 kc_install kc_save kc_restore -/
set_option maxRecDepth 100000
/-- a saved heap, beside the component's cells -/
def SVP (m : Int → Int) (p : Nat) (D : Nat → Int × Int) (σ : mm_M) : Prop := HPX m p (fun b => (D b).1 = -1) (fun r => (D r).1 = -1) σ
theorem SVP.ex {m : Int → Int} {p : Nat} {D D' : Nat → Int × Int} {σ σ' : mm_M} (h : SVP m p D σ) (e : EX D σ D' σ') : SVP m p D' σ' := by
  obtain ⟨hd, D1, G1, adk, nfk, ndk, pnk, agk, mkk, flk, dtk, hwk, dpk, alk, cok, fek, rpk, rok, wek, plk, mok, eak, lnk, cpk, elk, owk, skk, txk, tlk, rfk, slk, hsk, h1, h2, h3, h4, h5, h6, h7, h8, h9, h10, h11, h12⟩ := h
  refine ⟨hd, D1, G1, adk, nfk, ndk, pnk, agk, mkk, flk, dtk, hwk, dpk, alk, cok, fek, rpk, rok, wek, plk, mok, eak, lnk, cpk, elk, owk, skk, txk, tlk, rfk, slk, hsk, h1, fun b hb => ?_, h3, fun b hb => Nat.lt_of_lt_of_le (h4 b hb) e.1, fun q => by rw [e.2.1]; exact h5 q, h6, h7, ?_, h9, fun b hb => (e.2.2.1 b (h4 b hb) (h10 b hb)).1, fun r hr => ?_, by rw [e.2.1]; exact h12⟩
  · rw [(e.2.2.1 b (h4 b hb) (h10 b hb)).2]
    exact h2 b hb
  · rcases h8 with ⟨x1, x2⟩ | ⟨x1, r, x2, x3, x4, x5⟩
    · exact Or.inl ⟨x1, x2⟩
    · exact Or.inr ⟨x1, r, x2, x3, by rw [(e.2.2.1 r x5 (h11 r x2)).2]; exact x4, Nat.lt_of_lt_of_le x5 e.1⟩
  · rcases h8 with ⟨x1, x2⟩ | ⟨x1, r', x2, x3, x4, x5⟩
    · rw [x2] at hr; cases hr
    · rw [x2] at hr
      cases hr
      exact (e.2.2.1 r x5 (h11 r x2)).1
/-- the component's roles, with another heap -/
def dI9 (D DN : Nat → Int × Int) : Nat → Int × Int := fun b => if (DN b).1 = -1 ∨ ((DN b).1 = 3 ∧ 7 ≤ (DN b).2 ∧ (DN b).2 ≤ 10) then (if (D b).1 = 3 ∧ 7 ≤ (D b).2 ∧ (D b).2 ≤ 10 then D b else (-1, 0)) else DN b
def gI9 (G GN : Int → Int → Nat) : Int → Int → Nat := fun k a => if k = 3 ∧ 7 ≤ a ∧ a ≤ 10 then G k a else GN k a
section T1
variable {m hd : Int → Int} {adk nfk ndk pnk agk mkk rok wek plk txk : Int → Int} {flk dtk : Int → Int → Int} {hwk dpk alk cok fek lnk tlk rfk : Int} {rpk : Option Nat} {mok : Int32} {eak cpk : Nat} {elk owk skk slk : Nat → Option Nat} {hsk : Int64} {D : Nat → Int × Int} {G : Int → Int → Nat} {σ : mm_M}
/-- a heap comes to the component -/
theorem kc_install (h : (CG m hd D G adk nfk ndk pnk agk mkk flk dtk hwk dpk alk cok fek rpk rok wek plk mok eak lnk cpk elk owk skk txk tlk rfk slk hsk σ)) {m1 : Int → Int} {q : Nat} {μ : mm_M} (hH : HPX m1 q (fun b => σ.2.1 ≤ b) (fun r => (D r).1 = -1 ∨ σ.2.1 ≤ r) μ) (hn : ∀ b, b < σ.2.1 → μ.1 b = (cput D (cel G adk nfk ndk pnk agk mkk flk dtk hwk dpk alk cok fek rpk rok wek plk mok eak lnk cpk elk owk skk txk tlk rfk slk hsk) σ).1 b) (h1 : σ.2.1 ≤ μ.2.1) (h2 : μ.2.2 = σ.2.2) : ∃ M', pF μ (G 3 7) 0 0 (vR (some q)) = some M' ∧ OPK D σ (G 3 7) txk tlk rfk slk hsk m1 M' := by
  have hg := h.hu
  have hu := h.xu
  have hdb := h.db
  have b7 := hu.1.lt hdb (by omega)
  have c7 : μ.1 (G 3 7) = some (eO 0 [vR (some (G 3 6)), vR (some (G 3 8)), vR (some (G 3 9)), vI (J tlk), vI (J rfk), vR (some (G 3 10)), vL hsk]) := by
    rw [hn _ b7]
    exact cc_7 hu
  refine ⟨_, pF_at c7 (by simp), ?_⟩
  obtain ⟨hd1, DN, GN, ad1, nf1, nd1, pn1, ag1, mk1, fl1, dt1, hw1, dp1, al1, co1, fe1, rp1, ro1, we1, pl1, mo1, ea1, ln1, cp1, el1, ow1, sk1, tx1, tl1, rf1, sl1, hs1, n1, n2, n3, n4, n5, n6, n7, n8, n9, n10, n11, n12⟩ := hH
  -- the new heap has no role of the component's own
  have hnx : ∀ b, b < σ.2.1 → (DN b).1 = -1 := fun b hb => by
    by_cases z : (DN b).1 = -1
    · exact z
    · have := n10 b z; omega
  have hdI : ∀ b, (DN b).1 = -1 ∨ ((DN b).1 = 3 ∧ 7 ≤ (DN b).2 ∧ (DN b).2 ≤ 10) → (dI9 D DN b).1 ≠ -1 → dI9 D DN b = D b ∧ (D b).1 = 3 ∧ 7 ≤ (D b).2 ∧ (D b).2 ≤ 10 := fun b z1 z2 => by
    unfold dI9 at z2 ⊢
    rw [if_pos z1] at z2 ⊢
    by_cases z3 : (D b).1 = 3 ∧ 7 ≤ (D b).2 ∧ (D b).2 ≤ 10
    · rw [if_pos z3]; exact ⟨rfl, z3⟩
    · rw [if_neg z3] at z2; exact absurd rfl z2
  have hdN : ∀ b, ¬ ((DN b).1 = -1 ∨ ((DN b).1 = 3 ∧ 7 ≤ (DN b).2 ∧ (DN b).2 ≤ 10)) → dI9 D DN b = DN b := fun b z => by
    unfold dI9
    rw [if_neg z]
  have hGN : ∀ {k a : Int}, GU DN GN k a → k ≠ -1 → ¬ (k = 3 ∧ 7 ≤ a ∧ a ≤ 10) → GU (dI9 D DN) (gI9 G GN) k a ∧ gI9 G GN k a = GN k a := fun {k a} z1 z2 z3 => by
    have e : gI9 G GN k a = GN k a := if_neg z3
    refine ⟨?_, e⟩
    unfold GU at z1 ⊢
    rw [e, hdN _ (by rw [z1]; dsimp only; omega), z1]
  have hGX : ∀ {a : Int}, GU D G 3 a → 7 ≤ a → a ≤ 10 → GU (dI9 D DN) (gI9 G GN) 3 a ∧ gI9 G GN 3 a = G 3 a := fun {a} z1 z2 z3 => by
    have e : gI9 G GN 3 a = G 3 a := if_pos ⟨rfl, z2, z3⟩
    refine ⟨?_, e⟩
    have z4 := z1.lt hdb (by omega)
    unfold GU at z1 ⊢
    rw [e]
    unfold dI9
    rw [if_pos (Or.inl (hnx _ z4)), z1, if_pos ⟨rfl, z2, z3⟩]
  have hGI : GI (dI9 D DN) (gI9 G GN) := fun b z => by
    by_cases z1 : (DN b).1 = -1 ∨ ((DN b).1 = 3 ∧ 7 ≤ (DN b).2 ∧ (DN b).2 ≤ 10)
    · obtain ⟨z2, z3⟩ := hdI b z1 z
      rw [z2]
      unfold gI9
      rw [if_pos z3]
      refine hg.1 b ?_
      omega
    · rw [hdN b z1]
      unfold gI9
      rw [if_neg (fun z2 => z1 (Or.inr z2))]
      exact n1.1 b (fun z2 => z1 (Or.inl z2))
  have hTH : ∀ {a : Int}, TH DN GN a → TH (dI9 D DN) (gI9 G GN) a ∧ gI9 G GN 0 a = GN 0 a ∧ gI9 G GN 1 a = GN 1 a ∧ gI9 G GN 2 a = GN 2 a := fun {a} z => by
    have y0 := hGN z.1 (by omega) (by omega)
    have y1 := hGN z.2.1 (by omega) (by omega)
    have y2 := hGN z.2.2 (by omega) (by omega)
    exact ⟨⟨y0.1, y1.1, y2.1⟩, y0.2, y1.2, y2.2⟩
  have hHU : HU (dI9 D DN) (gI9 G GN) := ⟨hGI, (hGN n1.2.1 (by omega) (by omega)).1, (hGN n1.2.2.1 (by omega) (by omega)).1, (hGN n1.2.2.2.1 (by omega) (by omega)).1, (hGN n1.2.2.2.2.1 (by omega) (by omega)).1, (hGN n1.2.2.2.2.2.1 (by omega) (by omega)).1, (hGN n1.2.2.2.2.2.2 (by omega) (by omega)).1⟩
  have hXU : XU (dI9 D DN) (gI9 G GN) := ⟨(hGX hu.1 (by omega) (by omega)).1, (hGX hu.2.1 (by omega) (by omega)).1, (hGX hu.2.2.1 (by omega) (by omega)).1, (hGX hu.2.2.2 (by omega) (by omega)).1⟩
  have e3 : ∀ j, ¬ (7 ≤ j ∧ j ≤ 10) → gI9 G GN 3 j = GN 3 j := fun j z => if_neg (by omega)
  have eX : ∀ j, 7 ≤ j → j ≤ 10 → gI9 G GN 3 j = G 3 j := fun j z1 z2 => if_pos ⟨rfl, z1, z2⟩
  have ek : ∀ k a, k ≠ 3 → gI9 G GN k a = GN k a := fun k a z => if_neg (by omega)
  -- the memory is told by the new roles
  have hHLD : HLD (dI9 D DN) (cel (gI9 G GN) ad1 nf1 nd1 pn1 ag1 mk1 fl1 dt1 hw1 dp1 al1 co1 fe1 rp1 ro1 we1 pl1 mo1 ea1 ln1 cp1 el1 ow1 skk txk tlk rfk slk hsk) (sE μ (G 3 7) (.inl (0, [vR (some q), vR (some (G 3 8)), vR (some (G 3 9)), vI (J tlk), vI (J rfk), vR (some (G 3 10)), vL hsk]))) := by
    intro b z
    by_cases z1 : (DN b).1 = -1 ∨ ((DN b).1 = 3 ∧ 7 ≤ (DN b).2 ∧ (DN b).2 ≤ 10)
    · obtain ⟨z2, z3, z4, z5⟩ := hdI b z1 z
      rw [z2]
      have hb : b < σ.2.1 := hdb b (by omega)
      have hgb := hg.1 b (by omega)
      rw [z3] at hgb
      have k0 : ¬ (D b).1 = 0 := by omega
      have k1 : ¬ (D b).1 = 1 := by omega
      have k2 : ¬ (D b).1 = 2 := by omega
      by_cases z6 : b = G 3 7
      · have z7 : (D b).2 = 7 := by
          have := hu.1
          unfold GU at this
          rw [← z6] at this
          rw [this]
        rw [z6, m_ss, ← z6]
        have h6 := e3 6 (by omega)
        simp [cel, z3, z7, eX, h6, n9]
      · rw [m_sn z6, hn b hb]
        unfold cput
        dsimp only
        rw [if_neg (by omega)]
        refine congrArg some ?_
        have z7 : (D b).2 ≠ 7 := fun z8 => z6 (by rw [← hgb, z8])
        rcases (show (D b).2 = 8 ∨ (D b).2 = 9 ∨ (D b).2 = 10 by omega) with y | y | y
        · simp [cel, z3, y]
        · simp [cel, z3, y]
        · simp [cel, z3, y]
    · rw [hdN b z1]
      have z2 : (DN b).1 ≠ -1 := fun z3 => z1 (Or.inl z3)
      have hb := n10 b z2
      have z6 : b ≠ G 3 7 := by omega
      rw [m_sn z6, n2 b z2]
      refine congrArg some ?_
      have y7 : ∀ j, 7 ≤ j → j ≤ 10 → ¬ ((DN b).1 = 3 ∧ (DN b).2 = j) := fun j j1 j2 y => z1 (Or.inr (by omega))
      have g0 := e3 0 (by omega)
      have g1 := e3 1 (by omega)
      have g3 := e3 3 (by omega)
      have g4 := e3 4 (by omega)
      have g5 := e3 5 (by omega)
      simp only [cel, ek 1 _ (by omega), ek 2 _ (by omega), g0, g1, g3, g4, g5, if_neg (y7 7 (by omega) (by omega)), if_neg (y7 8 (by omega) (by omega)), if_neg (y7 9 (by omega) (by omega)), if_neg (y7 10 (by omega) (by omega))]
  have hDB : DB (dI9 D DN) (sE μ (G 3 7) (.inl (0, [vR (some q), vR (some (G 3 8)), vR (some (G 3 9)), vI (J tlk), vI (J rfk), vR (some (G 3 10)), vL hsk]))) := by
    intro b z
    rw [m_s2]
    by_cases z1 : (DN b).1 = -1 ∨ ((DN b).1 = 3 ∧ 7 ≤ (DN b).2 ∧ (DN b).2 ≤ 10)
    · obtain ⟨z2, z3, -⟩ := hdI b z1 z
      have := hdb b (by omega)
      omega
    · exact n4 b (fun z3 => z1 (Or.inl z3))
  have hEX : EX D σ (dI9 D DN) (sE μ (G 3 7) (.inl (0, [vR (some q), vR (some (G 3 8)), vR (some (G 3 9)), vI (J tlk), vI (J rfk), vR (some (G 3 10)), vL hsk]))) := by
    refine ⟨by rw [m_s2]; exact h1, by rw [m_s2]; exact h2, fun b b1 b2 => ⟨?_, ?_⟩, fun b z => ?_, hDB⟩
    · unfold dI9
      rw [if_pos (Or.inl (hnx b b1)), if_neg (by omega)]
    · have : b ≠ G 3 7 := fun z => by
        have := hu.1
        unfold GU at this
        rw [← z] at this
        rw [this] at b2
        dsimp only at b2
        omega
      rw [m_sn this, hn b b1, cput_o b2]
    · by_cases z1 : (DN b).1 = -1 ∨ ((DN b).1 = 3 ∧ 7 ≤ (DN b).2 ∧ (DN b).2 ≤ 10)
      · obtain ⟨z2, z3, -⟩ := hdI b z1 z
        exact Or.inl (by omega)
      · exact Or.inr (n10 b (fun z3 => z1 (Or.inl z3)))
  obtain ⟨y1, y2, y3, y4, y5, y6, y7, y8⟩ := n3
  refine ⟨hd1, dI9 D DN, gI9 G GN, ad1, nf1, nd1, pn1, ag1, mk1, fl1, dt1, hw1, dp1, al1, co1, fe1, rp1, ro1, we1, pl1, mo1, ea1, ln1, cp1, el1, ow1, skk, _, hHLD.eq, ⟨⟨hHU, hXU, ⟨fun a a1 a2 a3 => ?_, y2, y3, y4, y5, fun a a1 a2 => ?_, ⟨y7.1, fun z => ?_, fun k k1 k2 => ?_⟩, y8⟩⟩, ⟨hDB, h.ce.ex hEX, fun z => by rw [m_s2]; exact n5 z, n6⟩, fun b k a z1 z2 z3 => ?_, ?_⟩, hEX, eX 7 (by omega) (by omega)⟩
  · obtain ⟨t1, t2⟩ := y1 a a1 a2 a3
    exact ⟨(hTH t1).1, t2⟩
  · rw [y6 a a1 a2, ek 0 _ (by omega)]
  · obtain ⟨z1, z2⟩ := y7.2.1 z
    exact ⟨by rw [e3 2 (by omega)]; exact z1, (hGN z2 (by omega) (by omega)).1⟩
  · obtain ⟨z1, z2⟩ := y7.2.2 k k1 k2
    exact ⟨by rw [ek 0 _ (by omega)]; exact z1, (hTH z2).1⟩
  · by_cases x1 : (DN b).1 = -1 ∨ ((DN b).1 = 3 ∧ 7 ≤ (DN b).2 ∧ (DN b).2 ≤ 10)
    · obtain ⟨x2, x3, -⟩ := hdI b x1 (by rw [z1]; dsimp only; omega)
      rw [← x2, z1] at x3
      dsimp only at x3
      omega
    · rw [hdN b x1] at z1
      exact n7 b k a z1 z2 z3
  · rcases n8 with ⟨x1, x2⟩ | ⟨x1, r, x2, x3, x4, x5⟩
    · exact Or.inl ⟨x1, x2⟩
    · have hrD : (D r).1 = -1 := by
        rcases n11 r x2 with z | z
        · exact z
        · by_cases z1 : (D r).1 = -1
          · exact z1
          · have := hdb r z1; omega
      have hr7 : r ≠ G 3 7 := fun z => by
        have := hu.1
        unfold GU at this
        rw [← z] at this
        rw [this] at hrD
        dsimp only at hrD
        omega
      refine Or.inr ⟨x1, r, x2, ?_, by rw [m_sn hr7]; exact x4, by rw [m_s2]; exact x5⟩
      unfold dI9
      rw [if_pos (Or.inl x3), if_neg (by omega)]
end T1
