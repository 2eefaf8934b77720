/-! PLAIN LAW: the component collects, whole. NAMES: iv9 gC9 dC9 sC9 kc_collect -/
set_option maxRecDepth 100000
/-- the live object that went to b -/
noncomputable def iv9 (m F : Int → Int) (b : Int) : Int := @dite _ (∃ a, lvO m F a ∧ (slA m F).1 a = b) (Classical.propDecidable _) (fun h => h.choose) (fun _ => -1)
theorem iv9_e {m F : Int → Int} (hm : WF m) {a : Int} (ha : lvO m F a) : iv9 m F ((slA m F).1 a) = a := by
  have hx : ∃ c, lvO m F c ∧ (slA m F).1 c = (slA m F).1 a := ⟨a, ha, rfl⟩
  unfold iv9
  rw [dif_pos hx]
  obtain ⟨h1, h2⟩ := hx.choose_spec
  refine lv_inj hm h1 ha (r := (slA m F).1 a) (by omega) ?_ (by omega) ?_
  · have := h1.2.2.1; omega
  · have := ha.2.2.1; omega
/-- the roles after a collection -/
noncomputable def gC9 (m F : Int → Int) (G : Int → Int → Nat) : Int → Int → Nat := fun k b => if 0 ≤ k ∧ k ≤ 2 then G k (iv9 m F b) else G k b
noncomputable def dC9 (m F : Int → Int) (D : Nat → Int × Int) : Nat → Int × Int := fun x => if 0 ≤ (D x).1 ∧ (D x).1 ≤ 2 then (@ite _ (lvO m F (D x).2) (Classical.propDecidable _) ((D x).1, (slA m F).1 (D x).2) (-1, 0)) else D x
noncomputable def sC9 (m F : Int → Int) (D : Nat → Int × Int) (c : Int → Int → mm_E) (σ : mm_M) : mm_M := (fun x => @ite _ ((0 ≤ (D x).1 ∧ (D x).1 ≤ 2) ∧ ¬ lvO m F (D x).2) (Classical.propDecidable _) (some (c (D x).1 (D x).2)) (σ.1 x), σ.2)
section N1
variable {m F : Int → Int} {D : Nat → Int × Int} {G : Int → Int → Nat} {c c' : Int → Int → mm_E} {σ : mm_M}
theorem cput_C (h1 : ∀ k a, 0 ≤ k → k ≤ 2 → lvO m F a → c' k ((slA m F).1 a) = c k a) (h2 : ∀ k a, ¬ (0 ≤ k ∧ k ≤ 2) → c' k a = c k a) : cput D c σ = cput (dC9 m F D) c' (sC9 m F D c σ) := by
  unfold cput dC9 sC9
  refine Prod.ext ?_ rfl
  funext x
  dsimp only
  by_cases hk : 0 ≤ (D x).1 ∧ (D x).1 ≤ 2
  · rw [if_neg (by omega), if_pos hk]
    by_cases hl : lvO m F (D x).2
    · rw [if_pos hl]
      dsimp only
      rw [if_neg (by omega), h1 _ _ hk.1 hk.2 hl]
    · rw [if_neg hl]
      dsimp only
      rw [if_pos rfl, if_pos ⟨hk, hl⟩]
  · rw [if_neg hk, if_neg (c := (0 ≤ (D x).1 ∧ (D x).1 ≤ 2) ∧ ¬ lvO m F (D x).2) (fun q => hk q.1)]
    by_cases h0 : (D x).1 = -1
    · rw [if_pos h0, if_pos h0]
    · rw [if_neg h0, if_neg h0, h2 _ _ hk]
theorem GI_C (hm : WF m) (hg : GI D G) : GI (dC9 m F D) (gC9 m F G) := by
  intro x hx
  unfold dC9 at hx ⊢
  unfold gC9
  by_cases hk : 0 ≤ (D x).1 ∧ (D x).1 ≤ 2
  · rw [if_pos hk] at hx ⊢
    by_cases hl : lvO m F (D x).2
    · rw [if_pos hl]
      dsimp only
      rw [if_pos hk, iv9_e hm hl]
      exact hg x (by omega)
    · rw [if_neg hl] at hx
      exact absurd rfl hx
  · rw [if_neg hk] at hx ⊢
    rw [if_neg hk]
    exact hg x hx
theorem GU_C3 {j : Int} (h : GU D G 3 j) : GU (dC9 m F D) (gC9 m F G) 3 j ∧ gC9 m F G 3 j = G 3 j := by
  have e : gC9 m F G 3 j = G 3 j := if_neg (by omega)
  refine ⟨?_, e⟩
  unfold GU at h ⊢
  rw [e]
  unfold dC9
  rw [h, if_neg (by omega)]
theorem GU_CT (hm : WF m) {a k : Int} (ha : lvO m F a) (hk : 0 ≤ k ∧ k ≤ 2) (h : GU D G k a) : GU (dC9 m F D) (gC9 m F G) k ((slA m F).1 a) ∧ gC9 m F G k ((slA m F).1 a) = G k a := by
  have e : gC9 m F G k ((slA m F).1 a) = G k a := by
    unfold gC9
    rw [if_pos hk, iv9_e hm ha]
  refine ⟨?_, e⟩
  unfold GU at h ⊢
  rw [e]
  unfold dC9
  rw [h, if_pos hk, if_pos ha]
theorem TH_C (hm : WF m) {a : Int} (ha : lvO m F a) (h : TH D G a) : TH (dC9 m F D) (gC9 m F G) ((slA m F).1 a) := ⟨(GU_CT hm ha (by omega) h.1).1, (GU_CT hm ha (by omega) h.2.1).1, (GU_CT hm ha (by omega) h.2.2).1⟩
theorem HU_C (hm : WF m) (hg : HU D G) : HU (dC9 m F D) (gC9 m F G) := ⟨GI_C hm hg.1, (GU_C3 hg.2.1).1, (GU_C3 hg.2.2.1).1, (GU_C3 hg.2.2.2.1).1, (GU_C3 hg.2.2.2.2.1).1, (GU_C3 hg.2.2.2.2.2.1).1, (GU_C3 hg.2.2.2.2.2.2).1⟩
theorem XU_C (hg : XU D G) : XU (dC9 m F D) (gC9 m F G) := ⟨(GU_C3 hg.1).1, (GU_C3 hg.2.1).1, (GU_C3 hg.2.2.1).1, (GU_C3 hg.2.2.2).1⟩
theorem EX_C (hb : DB D σ) : EX D σ (dC9 m F D) (sC9 m F D c σ) := by
  refine ⟨Nat.le_refl _, rfl, fun b _ h1 => ⟨?_, ?_⟩, fun b h1 => Or.inl ?_, fun b h1 => ?_⟩
  · unfold dC9
    rw [if_neg (by omega)]
    exact h1
  · unfold sC9
    dsimp only
    rw [if_neg (fun q => by omega)]
  · intro q
    unfold dC9 at h1
    rw [if_neg (by omega)] at h1
    exact h1 q
  · refine hb b (fun q => ?_)
    unfold dC9 at h1
    rw [if_neg (by omega)] at h1
    exact h1 q
end N1
section T1
variable {m hd : Int → Int} {adk nfk ndk pnk agk mkk rok wek plk txk : Int → Int} {flk dtk : Int → Int → Int} {hwk dpk alk cok fek lnk tlk rfk : Int} {rpk : Option Nat} {mok : Int32} {eak cpk : Nat} {elk owk skk slk : Nat → Option Nat} {hsk : Int64} {D : Nat → Int × Int} {G : Int → Int → Nat} {σ : mm_M} {p : Nat} {sc hi9 : Int}
/-- the component after its slide stands for the row after a collection -/
theorem CG.coll (hm : WF m) (h : (CG m hd D G adk nfk ndk pnk agk mkk flk dtk hwk dpk alk cok fek rpk rok wek plk mok eak lnk cpk elk owk skk txk tlk rfk slk hsk σ)) {σ0 : mm_M} {D0 : Nat → Int × Int} (he : EX D0 σ0 D σ) (hF : ∀ b, 0 ≤ b → b < 200 → mkk b = 0 ∨ mkk b = 1) {hd' : Int → Int} {ln' : Int} {el' : Nat → Option Nat} {mo' : Int32} {AD AG : Int → Int} {FL : Int → Int → Int} {OW : Nat → Option Nat} (hV : LV9 G mkk hd lnk (-1) hd' ln' el') (hA : ∀ i, 0 ≤ i → i < ln' → AD (hd' i) = (slA m mkk).1 (hd' i) ∧ AG (hd' i) = m (600 + hd' i) + 1 ∧ ∀ j, 0 ≤ j → j < m (200 + hd' i) → FL (hd' i) j = goA (slA m mkk).1 (m (800 + hd' i + 1 + j))) (hO : ∀ j : Int, 0 ≤ j → j < 200 → (∃ i, 0 ≤ i ∧ i < ln' ∧ ((slA m mkk).1 (hd' i) ≤ j ∧ j < (slA m mkk).1 (hd' i) + m (hd' i)) ∧ OW j.toNat = some (G 0 (hd' i))) ∨ ((∀ i, 0 ≤ i → i < ln' → ¬ ((slA m mkk).1 (hd' i) ≤ j ∧ j < (slA m mkk).1 (hd' i) + m (hd' i))) ∧ OW j.toNat = none)) (hp : (D p).1 = -1) (hp2 : p < σ.2.1) (hpc : σ.1 p = some (.inl (5, [vI (J (slA m mkk).2.2.1), vI (J (slA m mkk).2.2.2.1), vI (J sc), vI (J hi9), vI (J (slA m mkk).2.2.2.2.1), vI (J (slA m mkk).2.2.2.2.2)]))) : OPK D0 σ0 (G 3 7) txk tlk rfk slk hsk (mC9 m mkk sc hi9) (cput D (cel G AD nfk ndk pnk AG mkk FL dtk hwk dpk alk (cok + 1) (fek + (sm m (m 1216).toNat - (slA m mkk).2.2.2.1)) (some p) (cr9 (slA m mkk).1 6 rok) (cr9 (slA m mkk).1 4 wek) (PL9 (slA m mkk).1 plk) mo' eak ln' cpk el' OW skk txk tlk rfk slk hsk) σ) := by
  have hW := hm.hW
  have hg := h.hu
  have hu := h.xu
  have hk := h.km
  have hls := hk.ls
  have hhd := hk.hs
  have hls0 := hls
  obtain ⟨⟨l1, l2, l3, l4⟩, l5, l6⟩ := hls0
  obtain ⟨k1, k2, k3⟩ := rbA_i (F := mkk) hm rfl
  obtain ⟨v0, v3, v4, v5, v6, v7⟩ := hV
  have hd9 : ∀ i, 0 ≤ i → i < ln' → lvO m mkk (hd' i) ∧ TH D G (hd' i) := fun i i1 i2 => by
    obtain ⟨j, j1, j2, j3, j4⟩ := v4 i (by omega) i2
    obtain ⟨d1, d2, d3⟩ := hhd.1 j (by omega) j2
    have hE := hm.he _ d1 d2 d3
    rw [j3]
    exact ⟨⟨d1, by omega, d3, j4⟩, (l6 j (by omega) j2).2⟩
  have hfind : ∀ a, lvO m mkk a → ∃ i, 0 ≤ i ∧ i < ln' ∧ hd' i = a := fun a ha => by
    obtain ⟨j, j1, j2, j3⟩ := hhd.2.2 a ha.1 (by have := ha.2.1; omega) ha.2.2.1
    obtain ⟨i, i1, i2, i3⟩ := v6 j (by omega) j2 (by rw [j3]; exact ha.2.2.2)
    exact ⟨i, by omega, i2, by rw [i3, j3]⟩
  have hlo : ∀ {j : Int}, j < 1000 → mC9 m mkk sc hi9 j = rbA m mkk (slA m mkk).1 j := fun q => mC_lo q
  have hnew : ∀ b, 0 ≤ b → b < 200 → 0 < mC9 m mkk sc hi9 b → ∃ a, lvO m mkk a ∧ b = (slA m mkk).1 a := fun b b1 b2 b3 => by
    obtain ⟨a, ha, hb, -⟩ := (mC_oc (F := mkk) (sc := sc) (hi := hi9) hm b b).mp ⟨b1, b2, b3, Int.le_refl _, by omega⟩
    exact ⟨a, ha, hb⟩
  have hob : ∀ j a, lvO m mkk a → (slA m mkk).1 a ≤ j → j < (slA m mkk).1 a + m a → ob (mC9 m mkk sc hi9) j = (slA m mkk).1 a := fun j a ha q1 q2 => ob_e hm.coll ((mC_oc hm _ _).mpr ⟨a, ha, rfl, q1, q2⟩)
  have hcp := cput_C (m := m) (F := mkk) (D := D) (σ := σ) (c := cel G AD nfk ndk pnk AG mkk FL dtk hwk dpk alk (cok + 1) (fek + (sm m (m 1216).toNat - (slA m mkk).2.2.2.1)) (some p) (cr9 (slA m mkk).1 6 rok) (cr9 (slA m mkk).1 4 wek) (PL9 (slA m mkk).1 plk) mo' eak ln' cpk el' OW skk txk tlk rfk slk hsk) (c' := cel (gC9 m mkk G) (fun b => AD (iv9 m mkk b)) (fun b => nfk (iv9 m mkk b)) (fun b => ndk (iv9 m mkk b)) (fun b => pnk (iv9 m mkk b)) (fun b => AG (iv9 m mkk b)) (fun b => mkk (iv9 m mkk b)) (fun b => FL (iv9 m mkk b)) (fun b => dtk (iv9 m mkk b)) hwk dpk alk (cok + 1) (fek + (sm m (m 1216).toNat - (slA m mkk).2.2.2.1)) (some p) (cr9 (slA m mkk).1 6 rok) (cr9 (slA m mkk).1 4 wek) (PL9 (slA m mkk).1 plk) mo' eak ln' cpk el' OW skk txk tlk rfk slk hsk) (fun k a q1 q2 ha => by
    have e1 : iv9 m mkk ((slA m mkk).1 a) = a := iv9_e hm ha
    have eg1 : gC9 m mkk G 1 ((slA m mkk).1 a) = G 1 a := by unfold gC9; rw [if_pos (by omega), e1]
    have eg2 : gC9 m mkk G 2 ((slA m mkk).1 a) = G 2 a := by unfold gC9; rw [if_pos (by omega), e1]
    unfold cel
    rcases (show k = 0 ∨ k = 1 ∨ k = 2 by omega) with rfl | rfl | rfl
    · rw [if_pos rfl, if_pos rfl]; dsimp only; rw [e1, eg1, eg2]
    · rw [if_neg (by omega), if_pos rfl, if_neg (by omega), if_pos rfl]; dsimp only; rw [e1]
    · rw [if_neg (by omega), if_neg (by omega), if_pos rfl, if_neg (by omega), if_neg (by omega), if_pos rfl]; dsimp only; rw [e1]) (fun k a q => by
    have e3 : ∀ j, gC9 m mkk G 3 j = G 3 j := fun j => if_neg (by omega)
    have z0 : ¬ k = 0 := by omega
    have z1 : ¬ k = 1 := by omega
    have z2 : ¬ k = 2 := by omega
    simp only [cel, if_neg z0, if_neg z1, if_neg z2, e3])
  rw [hcp]
  have hex : EX D σ (dC9 m mkk D) (sC9 m mkk D (cel G AD nfk ndk pnk AG mkk FL dtk hwk dpk alk (cok + 1) (fek + (sm m (m 1216).toNat - (slA m mkk).2.2.2.1)) (some p) (cr9 (slA m mkk).1 6 rok) (cr9 (slA m mkk).1 4 wek) (PL9 (slA m mkk).1 plk) mo' eak ln' cpk el' OW skk txk tlk rfk slk hsk) σ) := EX_C h.db
  refine ⟨fun i => (slA m mkk).1 (hd' i), _, _, _, _, _, _, _, _, _, _, _, _, _, _, _, _, _, _, _, _, _, _, _, _, _, _, _, rfl, ⟨⟨HU_C hm hg, XU_C hu, ⟨fun b b1 b2 b3 => ?_, ?_, fun j j1 j2 => ?_, fun j j1 j2 => ?_, fun j j1 j2 => ?_, fun j j1 j2 => ?_, ⟨⟨by omega, by omega, by omega, l4⟩, fun q => ?_, fun i i1 i2 => ?_⟩, ⟨fun i i1 i2 => ?_, fun i j i1 i2 i3 => ?_, fun b b1 b2 b3 => ?_⟩⟩⟩, ⟨hex.2.2.2.2, h.ce.ex hex, h.le, h.ca⟩, fun b k a q1 q2 q3 => ?_, ?_⟩, he.tr hex, (GU_C3 hu.1).2⟩
  · obtain ⟨a, ha, rfl⟩ := hnew b b1 b2 b3
    obtain ⟨i, i1, i2, i3⟩ := hfind a ha
    obtain ⟨c1, c2, c3, c4, c5, c6⟩ := lv_w hm ha
    obtain ⟨t1, t2, t3, t4, t5, t6, t7, t8⟩ := hk.th ha.1 c6 ha.2.2.1
    have hF9 := hm.hf a ha.1 c6 ha.2.2.1
    obtain ⟨r1, r2, r3, r4, r5⟩ := k1 a ha
    obtain ⟨s1, s2, s3⟩ := hA i i1 i2
    rw [i3] at s1 s2 s3
    have e1 : iv9 m mkk ((slA m mkk).1 a) = a := iv9_e hm ha
    rw [hlo (j := 200 + (slA m mkk).1 a) (by omega), hlo (j := (slA m mkk).1 a) (by omega), hlo (j := 400 + (slA m mkk).1 a) (by omega), hlo (j := 600 + (slA m mkk).1 a) (by omega), r1, r2, r3, r4]
    refine ⟨TH_C hm ha t1, ?_, ?_, ?_, ?_, ?_, fun j j1 j2 => ?_, fun j j1 j2 => ?_⟩
    · dsimp only; rw [e1]; exact s1
    · dsimp only; rw [e1]; exact t3
    · dsimp only; rw [e1]; exact t4
    · dsimp only; rw [e1]; exact t5
    · dsimp only; rw [e1]; exact s2
    · dsimp only; rw [e1, s3 j j1 j2, hlo (by omega), show 800 + (slA m mkk).1 a + 1 + j = 800 + (slA m mkk).1 a + (1 + j) by omega, r5 (1 + j) (by omega) (by omega), if_pos (by omega), show 800 + a + (1 + j) = 800 + a + 1 + j by omega]
    · dsimp only; rw [e1, t8 j j1 j2, hlo (by omega), show 800 + (slA m mkk).1 a + 1 + m (200 + a) + j = 800 + (slA m mkk).1 a + (1 + m (200 + a) + j) by omega, r5 (1 + m (200 + a) + j) (by omega) (by omega), if_neg (by omega), show 800 + a + (1 + m (200 + a) + j) = 800 + a + 1 + m (200 + a) + j by omega]
  · obtain ⟨n1, n2, n3, n4, n5⟩ := hk.nu
    obtain ⟨e16, e17, e18⟩ := mC_16 (F := mkk) (sc := sc) (hi := hi9) hm
    rw [e16, e17, e18]
    refine ⟨n1, n2, n3, ?_, ?_⟩
    · unfold mC9; rw [if_neg (by omega), if_pos rfl, n4]
    · unfold mC9; rw [if_pos rfl, n5]
  · have e : mC9 m mkk sc hi9 (1200 + j) = goA (slA m mkk).1 (m (1200 + j)) := by
      unfold mC9
      rw [if_neg (by omega), if_neg (by omega), if_neg (by omega), if_neg (by omega), if_neg (by omega), if_neg (by omega), if_neg (by omega), if_neg (by omega), if_neg (by omega), if_pos (by omega)]
    rw [e]
    unfold cr9
    rw [if_pos ⟨j1, j2⟩, hk.ro j j1 j2]
  · have e : mC9 m mkk sc hi9 (1206 + j) = goA (slA m mkk).1 (m (1206 + j)) := by
      unfold mC9
      rw [if_neg (by omega), if_neg (by omega), if_neg (by omega), if_neg (by omega), if_neg (by omega), if_neg (by omega), if_neg (by omega), if_neg (by omega), if_neg (by omega), if_pos (by omega)]
    rw [e]
    unfold cr9
    rw [if_pos ⟨j1, j2⟩, hk.we j j1 j2]
  · have e : mC9 m mkk sc hi9 (1000 + j) = (slA m mkk).1 j := by
      unfold mC9
      rw [if_neg (by omega), if_neg (by omega), if_neg (by omega), if_neg (by omega), if_neg (by omega), if_neg (by omega), if_neg (by omega), if_neg (by omega), if_neg (by omega), if_neg (by omega), if_pos (by omega), show 1000 + j - 1000 = j by omega]
    rw [e]
    unfold PL9
    rw [if_pos ⟨j1, j2⟩]
  · rcases hO j j1 j2 with ⟨i, i1, i2, i3, i4⟩ | ⟨z1, z2⟩
    · obtain ⟨ha, ht⟩ := hd9 i i1 i2
      have c1 := (lv_w hm ha).1
      rw [hob j _ ha i3.1 i3.2, if_neg (by omega), i4, (GU_CT hm ha (by omega) ht.1).2]
    · have : ob (mC9 m mkk sc hi9) j = -1 := ob_n (fun b hb => by
        obtain ⟨a, ha, -, q1, q2⟩ := (mC_oc hm b j).mp hb
        obtain ⟨i, i1, i2, i3⟩ := hfind a ha
        have := z1 i i1 i2
        rw [i3] at this
        exact this ⟨q1, q2⟩)
      rw [if_pos this]
      exact z2
  · obtain ⟨e1, e2⟩ := l5 q
    exact ⟨by rw [(GU_C3 e2).2]; exact e1, (GU_C3 e2).1⟩
  · obtain ⟨ha, ht⟩ := hd9 i i1 i2
    rw [(GU_CT hm ha (by omega) ht.1).2]
    exact ⟨v7 i i1 i2, TH_C hm ha ht⟩
  · obtain ⟨ha, ht⟩ := hd9 i i1 i2
    obtain ⟨c1, c2, c3, c4, c5, c6⟩ := lv_w hm ha
    dsimp only
    rw [hlo (by omega), (k1 _ ha).1]
    exact ⟨c1, by omega, ha.2.2.1⟩
  · obtain ⟨ha, -⟩ := hd9 i i1 (by omega)
    obtain ⟨hb, -⟩ := hd9 j (by omega) i3
    obtain ⟨-, -, hs, -⟩ := slA_i (F := mkk) hm
    have := hs _ _ ha hb (v5 i j i1 i2 i3) hb.2.1
    have := ha.2.2.1
    dsimp only
    omega
  · obtain ⟨a, ha, rfl⟩ := hnew b b1 b2 b3
    obtain ⟨i, i1, i2, i3⟩ := hfind a ha
    exact ⟨i, i1, i2, by dsimp only; rw [i3]⟩
  · unfold dC9 at q1
    by_cases hx : 0 ≤ (D b).1 ∧ (D b).1 ≤ 2
    · rw [if_pos hx] at q1
      by_cases hl : lvO m mkk (D b).2
      · rw [if_pos hl] at q1
        have e1 : (slA m mkk).1 (D b).2 = a := congrArg Prod.snd q1
        obtain ⟨c1, c2, c3, c4, c5, c6⟩ := lv_w hm hl
        rw [← e1, hlo (by omega), (k1 _ hl).1]
        exact ⟨c1, by omega, hl.2.2.1⟩
      · rw [if_neg hl] at q1
        have : (-1 : Int) = k := congrArg Prod.fst q1
        omega
    · rw [if_neg hx] at q1
      rw [q1] at hx
      exact absurd ⟨q2, q3⟩ hx
  · refine Or.inr ⟨?_, p, rfl, (hex.2.2.1 p hp2 hp).1, ?_, Nat.lt_of_lt_of_le hp2 hex.1⟩
    · unfold mC9; simp
    · rw [(hex.2.2.1 p hp2 hp).2, hpc]
      unfold mC9
      simp
set_option maxHeartbeats 1000000 in
theorem kc_collect (hm : WF m) (h : (CG m hd D G adk nfk ndk pnk agk mkk flk dtk hwk dpk alk cok fek rpk rok wek plk mok eak lnk cpk elk owk skk txk tlk rfk slk hsk σ)) {mk0 stk0 : Int → Int} (hmk0 : ∀ b, 0 ≤ b → b < 200 → mk0 b = 0) : ∃ M', f_X0_collect (G 3 7) (cput D (cel G adk nfk ndk pnk agk mkk flk dtk hwk dpk alk cok fek rpk rok wek plk mok eak lnk cpk elk owk skk txk tlk rfk slk hsk) σ) = some (J (sm m (m 1216).toNat - (slA m (mkA m (m 1217) (-1) (mk0, stk0, 0, 0, 0)).2.1).2.2.2.1), M') ∧ OPK D σ (G 3 7) txk tlk rfk slk hsk (mC9 m (mkA m (m 1217) (-1) (mk0, stk0, 0, 0, 0)).2.1 (mkA m (m 1217) (-1) (mk0, stk0, 0, 0, 0)).1 (mkA m (m 1217) (-1) (mk0, stk0, 0, 0, 0)).2.2.2.2.1) M' := by
  have hg := h.hu
  have hu := h.xu
  have hk := h.km
  have hD := hm.hD
  have hW := hm.hW
  have hout : ∀ b, σ.2.1 ≤ b → (D b).1 = -1 := fun b hb => by
    by_cases q : (D b).1 = -1
    · exact q
    · have := h.db _ q; omega
  have hq : (D σ.2.1).1 = -1 := hout _ (Nat.le_refl _)
  have hq1 : (D (σ.2.1 + 1)).1 = -1 := hout _ (by omega)
  have hI0 : IE m (m 1217) (mk0, stk0, 0, 0, 0) := ⟨⟨fun b b1 b2 => Or.inl (hmk0 b b1 b2), ⟨by dsimp only; omega, by dsimp only; omega⟩, ⟨by dsimp only; omega, by dsimp only; omega⟩, Or.inl rfl, fun k k1 k2 => by dsimp only at k2; omega, by have := um_b mk0; dsimp only; omega⟩, rfl⟩
  have hfin := mkA_g (w := -1) hm hI0
  obtain ⟨S', e1⟩ := kc_markA (σ := nE σ (.inl (4, df_4))) (p := σ.2.1) (md := m 1217) (w := -1) (stk0 := stk0) (mk0 := mk0) hg hu hm hq hk h.uq (Or.inl rfl) hD.1 (by omega) hmk0
  rw [show wtA G (-1) = none from if_pos rfl] at e1
  generalize mkA m (m 1217) (-1) (mk0, stk0, 0, 0, 0) = A at e1 hfin ⊢
  obtain ⟨sc, A⟩ := A
  dsimp only at e1 hfin ⊢
  have hF : ∀ b, 0 ≤ b → b < 200 → A.1 b = 0 ∨ A.1 b = 1 := fun b b1 b2 => by have := hfin.1.1.1 b b1 b2; omega
  have hmi := kc_minit (σ := nE σ (.inl (4, df_4))) (D := D) (md := m 1217) (q := σ.2.1) (hp := G 3 6) (sk := G 3 8) (wt := none) (c := cel G adk nfk ndk pnk agk mkk flk dtk hwk dpk alk cok fek rpk rok wek plk mok eak lnk cpk elk owk skk txk tlk rfk slk hsk) hq (by
    unfold nE
    dsimp only
    rw [if_pos rfl])
  have hex1 : EX D σ D (mput σ.2.1 (G 3 6) (G 3 8) none (m 1217) A.2.2.1 A.2.2.2.1 sc A.2.2.2.2 (nE σ (.inl (4, df_4)))) := mput_ex h.db
  generalize hσ1 : mput σ.2.1 (G 3 6) (G 3 8) none (m 1217) A.2.2.1 A.2.2.2.1 sc A.2.2.2.2 (nE σ (.inl (4, df_4))) = σ1 at e1 hex1
  have h21 : σ1.2.1 = σ.2.1 + 1 := by rw [← hσ1]; rfl
  have hc1 : σ1.1 σ.2.1 = some (.inl (4, [vR (some (G 3 6)), vR none, vR (some (G 3 8)), vI (J (m 1217)), vI (J A.2.2.1), vI (J A.2.2.2.1), vI (J sc), vI (J A.2.2.2.2)])) := by
    rw [← hσ1]
    unfold mput sE
    dsimp only
    rw [if_pos rfl]
  have h2 : (CG m hd D G adk nfk ndk pnk agk A.1 flk dtk hwk dpk alk cok fek rpk rok wek plk mok eak lnk cpk elk owk S' txk tlk rfk slk hsk σ1) := h.st hex1
  have hq1' : (D σ1.2.1).1 = -1 := by rw [h21]; exact hq1
  have hex2 : EX D σ1 D (pput σ1.2.1 (slA m A.1).2.2.1 (slA m A.1).2.2.2.1 sc A.2.2.2.1 (slA m A.1).2.2.2.2.1 (slA m A.1).2.2.2.2.2 (nE σ1 (.inl (5, df_5)))) := by
    refine ⟨by show σ1.2.1 ≤ σ1.2.1 + 1; omega, rfl, fun b b1 b2 => ⟨b2, ?_⟩, fun b b1 => Or.inl b1, fun b b1 => by have := h2.db b b1; show b < σ1.2.1 + 1; omega⟩
    unfold pput sE nE
    dsimp only
    rw [if_neg (by omega), if_neg (by omega)]
  have h3 : (CG m hd D G adk nfk ndk pnk agk A.1 flk dtk hwk dpk alk cok fek rpk rok wek plk mok eak lnk cpk elk owk S' txk tlk rfk slk hsk (pput σ1.2.1 (slA m A.1).2.2.1 (slA m A.1).2.2.2.1 sc A.2.2.2.1 (slA m A.1).2.2.2.2.1 (slA m A.1).2.2.2.2.2 (nE σ1 (.inl (5, df_5))))) := h2.st hex2
  obtain ⟨hd', ln', el', mo', AD, AG, FL, OW, q1, q2, q3, q4⟩ := kc_slide (σ := nE σ1 (.inl (5, df_5))) (p := σ1.2.1) (sc := sc) (hi9 := A.2.2.2.1) (adk := adk) (nfk := nfk) (ndk := ndk) (pnk := pnk) (agk := agk) (mkk := A.1) (flk := flk) (dtk := dtk) (hwk := hwk) (dpk := dpk) (alk := alk) (cok := cok) (fek := fek) (rpk := rpk) (rok := rok) (wek := wek) (plk := plk) (mok := mok) (eak := eak) (lnk := lnk) (cpk := cpk) (elk := elk) (owk := owk) (skk := S') (txk := txk) (tlk := tlk) (rfk := rfk) (slk := slk) (hsk := hsk) hg hm hk hq1' hF
  have hO := CG.coll (p := σ1.2.1) (sc := sc) (hi9 := A.2.2.2.1) (mo' := mo') hm h3 (hex1.tr hex2) hF q2 q3 q4 hq1' (by show σ1.2.1 < σ1.2.1 + 1; omega) (by
    unfold pput sE
    dsimp only
    rw [if_pos rfl])
  refine ⟨_, ?_, hO⟩
  -- the report, made
  have hcel : ∀ (fs : List mm_V), ((cput D (cel G adk nfk ndk pnk agk A.1 flk dtk hwk dpk alk cok fek rpk rok wek plk mok eak lnk cpk elk owk S' txk tlk rfk slk hsk) (sE (nE σ1 (.inl (5, df_5))) σ1.2.1 (.inl (5, fs))))).1 σ1.2.1 = some (.inl (5, fs)) := fun fs => by
    rw [cput_o hq1']
    unfold sE
    dsimp only
    rw [if_pos rfl]
  have hce0 : ((cput D (cel G adk nfk ndk pnk agk A.1 flk dtk hwk dpk alk cok fek rpk rok wek plk mok eak lnk cpk elk owk S' txk tlk rfk slk hsk) (nE σ1 (.inl (5, df_5))))).1 σ1.2.1 = some (.inl (5, df_5)) := by
    rw [cput_o hq1']
    unfold nE
    dsimp only
    rw [if_pos rfl]
  have hm0 : ((cput D (cel G adk nfk ndk pnk agk A.1 flk dtk hwk dpk alk cok fek rpk rok wek plk mok eak lnk cpk elk owk S' txk tlk rfk slk hsk) (nE σ1 (.inl (5, df_5))))).1 σ.2.1 = some (.inl (4, [vR (some (G 3 6)), vR none, vR (some (G 3 8)), vI (J (m 1217)), vI (J A.2.2.1), vI (J A.2.2.2.1), vI (J sc), vI (J A.2.2.2.2)])) := by
    rw [cput_o hq]
    unfold nE
    dsimp only
    rw [if_neg (by omega)]
    exact hc1
  have hm1 : ∀ fs : List mm_V, ((cput D (cel G adk nfk ndk pnk agk A.1 flk dtk hwk dpk alk cok fek rpk rok wek plk mok eak lnk cpk elk owk S' txk tlk rfk slk hsk) (sE (nE σ1 (.inl (5, df_5))) σ1.2.1 (.inl (5, fs))))).1 σ.2.1 = some (.inl (4, [vR (some (G 3 6)), vR none, vR (some (G 3 8)), vI (J (m 1217)), vI (J A.2.2.1), vI (J A.2.2.2.1), vI (J sc), vI (J A.2.2.2.2)])) := fun fs => by
    rw [cput_o hq]
    unfold sE nE
    dsimp only
    rw [if_neg (by omega), if_neg (by omega)]
    exact hc1
  have hr1 : gI (cput D (cel G adk nfk ndk pnk agk A.1 flk dtk hwk dpk alk cok fek rpk rok wek plk mok eak lnk cpk elk owk S' txk tlk rfk slk hsk) (nE σ1 (.inl (5, df_5)))) σ.2.1 4 6 = some (J sc) := gI_at hm0 rfl
  have hr2 : pF (cput D (cel G adk nfk ndk pnk agk A.1 flk dtk hwk dpk alk cok fek rpk rok wek plk mok eak lnk cpk elk owk S' txk tlk rfk slk hsk) (nE σ1 (.inl (5, df_5)))) σ1.2.1 5 2 (vI (J sc)) = some (cput D (cel G adk nfk ndk pnk agk A.1 flk dtk hwk dpk alk cok fek rpk rok wek plk mok eak lnk cpk elk owk S' txk tlk rfk slk hsk) (sE (nE σ1 (.inl (5, df_5))) σ1.2.1 (.inl (5, [vI (J 0), vI (J 0), vI (J sc), vI (J 0), vI (J 0), vI (J 0)])))) := by
    rw [pF_at hce0 (by simp), cput_sO hq1']
    rfl
  have hr3 : gI (cput D (cel G adk nfk ndk pnk agk A.1 flk dtk hwk dpk alk cok fek rpk rok wek plk mok eak lnk cpk elk owk S' txk tlk rfk slk hsk) (sE (nE σ1 (.inl (5, df_5))) σ1.2.1 (.inl (5, [vI (J 0), vI (J 0), vI (J sc), vI (J 0), vI (J 0), vI (J 0)])))) σ.2.1 4 5 = some (J A.2.2.2.1) := gI_at (hm1 _) rfl
  have hr4 : pF (cput D (cel G adk nfk ndk pnk agk A.1 flk dtk hwk dpk alk cok fek rpk rok wek plk mok eak lnk cpk elk owk S' txk tlk rfk slk hsk) (sE (nE σ1 (.inl (5, df_5))) σ1.2.1 (.inl (5, [vI (J 0), vI (J 0), vI (J sc), vI (J 0), vI (J 0), vI (J 0)])))) σ1.2.1 5 3 (vI (J A.2.2.2.1)) = some (cput D (cel G adk nfk ndk pnk agk A.1 flk dtk hwk dpk alk cok fek rpk rok wek plk mok eak lnk cpk elk owk S' txk tlk rfk slk hsk) (pput σ1.2.1 0 0 sc A.2.2.2.1 0 0 (nE σ1 (.inl (5, df_5))))) := by
    rw [pF_at (hcel _) (by simp), cput_sO hq1', sE_sE]
    rfl
  unfold f_X0_collect f_X5_init
  obtain ⟨-, n2, -⟩ := hk.nu
  rw [ko_nO hq, b2_s]
  simp (disch := first | assumption | exact HU.lu (by assumption) | exact cw_okn | exact cw_ok3 (by assumption) | exact cw_ok5 (by assumption) | omega) only [J_add, J_sub, J_mul, J_neg, J_lit, J_lt, J_le, J_eq, Option.bind_some, Int.reduceAdd, Int.reduceSub, Int.reduceMul, Int.reduceNeg, Int.reduceEq, Int.reduceLT, Int.reduceLE, reduceIte, Int.zero_add, Int.add_zero, and_self, true_and, and_true, false_and, and_false, or_true, true_or, or_false, false_or, not_true_eq_false, not_false_eq_true, ne_eq, b2_s, cw_gadk, cw_gpnk, cw_gagk, cw_gmkk, cw_gfl, cw_gdt, cw_kth, cw_afl, cw_nfl, cw_adt, cw_ndt, cw_gmok, cw_geak, cw_glnk, cw_k0, cw_k6, cw_k7, cw_aowk, cw_aelk, cw_askk, cw_aslk, cw_nelk, cw_arok, cw_nrok, cw_awek, cw_nwek, cw_aplk, cw_nplk, cw_atxk, cw_ntxk, cw_ghwk, cw_gdpk, cw_galk, cw_gcok, cw_gfek, cw_h2, cw_h3, cw_h4, cw_h5, cw_h10, cw_grpk, cw_x0, cw_x1, cw_x2, cw_x5, cw_gtlk, cw_grfk, cw_ghsk, cw_padk, cw_pagk, cw_pmkk, cw_ppnk, cw_zpnk, cw_sfl, cw_sdt, cw_pmok, cw_peak, cw_plnk, cw_sowk, cw_selk, cw_sskk, cw_sslk, cw_srok, cw_swek, cw_splk, cw_palk, cw_pcok, cw_pfek, cw_prpk, cw_ptlk, cw_prfk, cw_phsk, cw_stxk, cw_ok3, cw_ok5, cw_okn]
  rw [show J dpk = J (m 1217) by rw [n2]]
  simp (disch := first | assumption | exact HU.lu (by assumption) | exact cw_okn | exact cw_ok3 (by assumption) | exact cw_ok5 (by assumption) | omega) only [J_add, J_sub, J_mul, J_neg, J_lit, J_lt, J_le, J_eq, Option.bind_some, Int.reduceAdd, Int.reduceSub, Int.reduceMul, Int.reduceNeg, Int.reduceEq, Int.reduceLT, Int.reduceLE, reduceIte, Int.zero_add, Int.add_zero, and_self, true_and, and_true, false_and, and_false, or_true, true_or, or_false, false_or, not_true_eq_false, not_false_eq_true, ne_eq, b2_s, cw_gadk, cw_gpnk, cw_gagk, cw_gmkk, cw_gfl, cw_gdt, cw_kth, cw_afl, cw_nfl, cw_adt, cw_ndt, cw_gmok, cw_geak, cw_glnk, cw_k0, cw_k6, cw_k7, cw_aowk, cw_aelk, cw_askk, cw_aslk, cw_nelk, cw_arok, cw_nrok, cw_awek, cw_nwek, cw_aplk, cw_nplk, cw_atxk, cw_ntxk, cw_ghwk, cw_gdpk, cw_galk, cw_gcok, cw_gfek, cw_h2, cw_h3, cw_h4, cw_h5, cw_h10, cw_grpk, cw_x0, cw_x1, cw_x2, cw_x5, cw_gtlk, cw_grfk, cw_ghsk, cw_padk, cw_pagk, cw_pmkk, cw_ppnk, cw_zpnk, cw_sfl, cw_sdt, cw_pmok, cw_peak, cw_plnk, cw_sowk, cw_selk, cw_sskk, cw_sslk, cw_srok, cw_swek, cw_splk, cw_palk, cw_pcok, cw_pfek, cw_prpk, cw_ptlk, cw_prfk, cw_phsk, cw_stxk, cw_ok3, cw_ok5, cw_okn, hmi, mw_ck hq, e1, ko_nO hq1', hr1, hr2, hr3, hr4, q1]
end T1
