/-! PLAIN LAW: a heap's copy, whole. NAMES: HPX kc_hcopy -/
set_option maxRecDepth 100000
/-- a heap at p stands for the row m; its cells lie in Z, its report in R -/
def HPX (m : Int → Int) (p : Nat) (Z R : Nat → Prop) (μ : mm_M) : Prop := ∃ (hd : Int → Int) (D : Nat → Int × Int) (G : Int → Int → Nat) (adk : Int → Int) (nfk : Int → Int) (ndk : Int → Int) (pnk : Int → Int) (agk : Int → Int) (mkk : Int → Int) (flk : Int → Int → Int) (dtk : Int → Int → Int) (hwk : Int) (dpk : Int) (alk : Int) (cok : Int) (fek : Int) (rpk : Option Nat) (rok : Int → Int) (wek : Int → Int) (plk : Int → Int) (mok : Int32) (eak : Nat) (lnk : Int) (cpk : Nat) (elk : Nat → Option Nat) (owk : Nat → Option Nat) (skk : Nat → Option Nat) (txk : Int → Int) (tlk : Int) (rfk : Int) (slk : Nat → Option Nat) (hsk : Int64), HU D G ∧ HLD D (cel G adk nfk ndk pnk agk mkk flk dtk hwk dpk alk cok fek rpk rok wek plk mok eak lnk cpk elk owk skk txk tlk rfk slk hsk) μ ∧ (KM m hd D G adk nfk ndk pnk agk mkk flk dtk hwk dpk alk cok fek rpk rok wek plk mok eak lnk cpk elk owk skk txk tlk rfk slk hsk) ∧ DB D μ ∧ (cpk = 0 → eak = μ.2.2.1) ∧ CAPS cpk ∧ (∀ b k a, D b = (k, a) → 0 ≤ k → k ≤ 2 → 0 ≤ a ∧ a < 200 ∧ 0 < m a) ∧ RPK m rpk D μ ∧ G 3 6 = p ∧ (∀ b, (D b).1 ≠ -1 → Z b) ∧ (∀ r, rpk = some r → R r) ∧ (D μ.2.2.1).1 = -1
section T1
variable {m hd : Int → Int} {adk nfk ndk pnk agk mkk rok wek plk txk : Int → Int} {flk dtk : Int → Int → Int} {hwk dpk alk cok fek lnk tlk rfk : Int} {rpk : Option Nat} {mok : Int32} {eak cpk : Nat} {elk owk skk slk : Nat → Option Nat} {hsk : Int64} {D : Nat → Int × Int} {G : Int → Int → Nat} {σ : mm_M} {h0 : Nat}
/-- a round of the copy -/
def HC9 (σ : mm_M) (h0 : Nat) (D0 : Nat → Int × Int) (c0 : Int → Int → mm_E) (hd : Int → Int) (k : Int) (DN : Nat → Int × Int) (GN : Int → Int → Nat) (eN : Nat) (cp : Nat) (el : Nat → Option Nat) (μ : mm_M) : Prop :=
  HU DN GN ∧ DB DN μ ∧ (∀ b, (DN b).1 ≠ -1 → b = h0 ∨ σ.2.1 ≤ b) ∧ ((∀ b, b < σ.2.1 → b ≠ h0 → μ.1 b = (cput D0 c0 σ).1 b) ∧ σ.2.1 ≤ μ.2.1 ∧ μ.2.2 = σ.2.2) ∧ CAPS cp ∧ (cp = 0 → eN = σ.2.2.1) ∧ LSK DN GN eN k cp el hd ∧ (∀ b k' a, DN b = (k', a) → 0 ≤ k' → k' ≤ 2 → ∃ j, 0 ≤ j ∧ j < k ∧ a = hd j) ∧ GN 3 6 = h0
set_option maxHeartbeats 2000000 in
theorem kc_hround (hg : HU D G) (hm : WF m) (hk : (KM m hd D G adk nfk ndk pnk agk mkk flk dtk hwk dpk alk cok fek rpk rok wek plk mok eak lnk cpk elk owk skk txk tlk rfk slk hsk)) (hdb : DB D σ) (hce : CE D σ) (hq : (D h0).1 = -1) (hq2 : h0 < σ.2.1) (hEh : σ.2.2.1 ≠ h0) {k : Nat} (hkl : (k : Int) < lnk) {DN : Nat → Int × Int} {GN : Int → Int → Nat} {mo : Int32} {eN cp : Nat} {el : Nat → Option Nat} {μ : mm_M} (h : HC9 σ h0 D (cel G adk nfk ndk pnk agk mkk flk dtk hwk dpk alk cok fek rpk rok wek plk mok eak lnk cpk elk owk skk txk tlk rfk slk hsk) hd k DN GN eN cp el μ) (hH : HLD DN (cel GN adk nfk ndk pnk agk (fun _ => 0) (FLc nfk flk) (DTc ndk dtk) hwk dpk 0 0 0 none (fun j => if 0 ≤ j ∧ j < 6 then -1 else 0) (fun j => if 0 ≤ j ∧ j < 4 then -1 else 0) (fun _ => 0) mo eN ((k : Int)) cp el (fun _ => none) skk txk tlk rfk slk hsk) μ) {cn cs : Nat} (hcn : cn + 4 ≤ 900) (hcs : cs + 268 ≤ 55000) : ∃ (DN' : Nat → Int × Int) (GN' : Int → Int → Nat) (mo' : Int32) (eN' cp' : Nat) (el' : Nat → Option Nat) (μ' : mm_M), s_X1_init_2 h0 (G 3 6) (J k, cn, cs, μ) = some (.inl (J (k + 1 : Nat), cn + 3 + 1, cs + 18 + 250, μ')) ∧ HC9 σ h0 D (cel G adk nfk ndk pnk agk mkk flk dtk hwk dpk alk cok fek rpk rok wek plk mok eak lnk cpk elk owk skk txk tlk rfk slk hsk) hd (k + 1 : Nat) DN' GN' eN' cp' el' μ' ∧ HLD DN' (cel GN' adk nfk ndk pnk agk (fun _ => 0) (FLc nfk flk) (DTc ndk dtk) hwk dpk 0 0 0 none (fun j => if 0 ≤ j ∧ j < 6 then -1 else 0) (fun j => if 0 ≤ j ∧ j < 4 then -1 else 0) (fun _ => 0) mo' eN' (((k + 1 : Nat) : Int)) cp' el' (fun _ => none) skk txk tlk rfk slk hsk) μ' := by
  have hls := hk.ls
  have hhd := hk.hs
  have hls0 := hls
  obtain ⟨⟨l1, l2, l3, l4⟩, l5, l6⟩ := hls0
  obtain ⟨n1, n2, n3, ⟨n4, n5, n6⟩, n7, n8, n9, n10, n11⟩ := h
  -- the source stands
  have hC : HLD D (cel G adk nfk ndk pnk agk mkk flk dtk hwk dpk alk cok fek rpk rok wek plk mok eak lnk cpk elk owk skk txk tlk rfk slk hsk) μ := fun b hb => by
    have hb1 := hdb b hb
    have hb2 : b ≠ h0 := fun q => hb (by rw [q]; exact hq)
    rw [n4 b hb1 hb2]
    unfold cput
    dsimp only
    rw [if_neg hb]
  have hCe := hC.eq
  obtain ⟨d1, d2, d3⟩ := hhd.1 k (by omega) hkl
  obtain ⟨-, hth⟩ := l6 k (by omega) hkl
  obtain ⟨t1, t2, t3, t4, t5, t6, t7, t8⟩ := hk.th d1 d2 d3
  have hF9 := hm.hf _ d1 d2 d3
  have hpm := hm.hp _ d1 d2
  have f1 : gA μ (G 3 6) 1 2 = some (G 3 0) := by
    have : gA (cput D (cel G adk nfk ndk pnk agk mkk flk dtk hwk dpk alk cok fek rpk rok wek plk mok eak lnk cpk elk owk skk txk tlk rfk slk hsk) μ) (G 3 6) 1 2 = some (G 3 0) := cw_h2 hg
    rwa [← hCe] at this
  have f2 : ck μ (G 3 0) 15 = some () := by
    have : ck (cput D (cel G adk nfk ndk pnk agk mkk flk dtk hwk dpk alk cok fek rpk rok wek plk mok eak lnk cpk elk owk skk txk tlk rfk slk hsk) μ) (G 3 0) 15 = some () := cw_k0 hg.lu
    rwa [← hCe] at this
  have f3 : f_J2_size (G 3 0) μ = some (J lnk) := by
    have : f_J2_size (G 3 0) (cput D (cel G adk nfk ndk pnk agk mkk flk dtk hwk dpk alk cok fek rpk rok wek plk mok eak lnk cpk elk owk skk txk tlk rfk slk hsk) μ) = some (J lnk) := kc_lsize hg
    rwa [← hCe] at this
  have f4 : f_J2_get (G 3 0) (J k) μ = some (some (G 0 (hd k))) := by
    have : f_J2_get (G 3 0) (J k) (cput D (cel G adk nfk ndk pnk agk mkk flk dtk hwk dpk alk cok fek rpk rok wek plk mok eak lnk cpk elk owk skk txk tlk rfk slk hsk) μ) = some (some (G 0 (hd k))) := kc_get hg hls (by omega) hkl
    rwa [← hCe] at this
  have f5 : ck μ (G 0 (hd k)) 3 = some () := by
    have : ck (cput D (cel G adk nfk ndk pnk agk mkk flk dtk hwk dpk alk cok fek rpk rok wek plk mok eak lnk cpk elk owk skk txk tlk rfk slk hsk) μ) (G 0 (hd k)) 3 = some () := cw_kth hth
    rwa [← hCe] at this
  have f6 : gA μ h0 1 2 = some (GN 3 0) := by
    have : gA (cput DN (cel GN adk nfk ndk pnk agk (fun _ => 0) (FLc nfk flk) (DTc ndk dtk) hwk dpk 0 0 0 none (fun j => if 0 ≤ j ∧ j < 6 then -1 else 0) (fun j => if 0 ≤ j ∧ j < 4 then -1 else 0) (fun _ => 0) mo eN ((k : Int)) cp el (fun _ => none) skk txk tlk rfk slk hsk) μ) (GN 3 6) 1 2 = some (GN 3 0) := cw_h2 n1
    rw [n11] at this
    rwa [← hH.eq] at this
  have c1 : μ.1 (G 0 (hd k)) = some (.inl (3, [vI (J (adk (hd k))), vR (some (G 1 (hd k))), vR (some (G 2 (hd k))), vI (J (pnk (hd k))), vI (J (agk (hd k))), vI (J (mkk (hd k)))])) := by
    have : (cput D (cel G adk nfk ndk pnk agk mkk flk dtk hwk dpk alk cok fek rpk rok wek plk mok eak lnk cpk elk owk skk txk tlk rfk slk hsk) μ).1 (G 0 (hd k)) = _ := cc_th hth
    rw [← hCe] at this
    exact this
  have c2 : μ.1 (G 1 (hd k)) = some (.inr (.inl (0, (nfk (hd k)).toNat, rw_ (flk (hd k))))) := by
    have : (cput D (cel G adk nfk ndk pnk agk mkk flk dtk hwk dpk alk cok fek rpk rok wek plk mok eak lnk cpk elk owk skk txk tlk rfk slk hsk) μ).1 (G 1 (hd k)) = _ := cc_fl hth
    rw [← hCe] at this
    exact this
  have c3 : μ.1 (G 2 (hd k)) = some (.inr (.inl (0, (ndk (hd k)).toNat, rw_ (dtk (hd k))))) := by
    have : (cput D (cel G adk nfk ndk pnk agk mkk flk dtk hwk dpk alk cok fek rpk rok wek plk mok eak lnk cpk elk owk skk txk tlk rfk slk hsk) μ).1 (G 2 (hd k)) = _ := cc_dt hth
    rw [← hCe] at this
    exact this
  have g0 := hth.1.lt hdb (by omega)
  have g1 := hth.2.1.lt hdb (by omega)
  have g2 := hth.2.2.lt hdb (by omega)
  have hcp := kc_copy c1 c2 c3 (by omega) (by omega) (by omega) (by omega) (by omega) (by omega) (by omega) (by rw [t5]; exact hpm)
  have hnk : ∀ b k', 0 ≤ k' → k' ≤ 2 → DN b ≠ (k', hd k) := fun b k' q1 q2 q3 => by
    obtain ⟨j, j1, j2, j3⟩ := n10 b k' _ q3 q1 q2
    have := hhd.2.1 j k j1 j2 hkl
    omega
  have hnew := tc9_hld (mkk := fun _ => 0) (a := hd k) hH n2 hnk rfl
  generalize hμ2 : tc9 μ (adk (hd k)) (nfk (hd k)) (ndk (hd k)) (FLc nfk flk (hd k)) (DTc ndk dtk (hd k)) (pnk (hd k)) (agk (hd k)) = μ2 at hnew
  have m1 : μ2.2.1 = μ.2.1 + 3 ∧ μ2.2.2 = μ.2.2 := by rw [← hμ2]; exact ⟨rfl, rfl⟩
  have m2 : ∀ b, b < μ.2.1 → μ2.1 b = μ.1 b := fun b hb => by
    rw [← hμ2]
    unfold tc9
    dsimp only
    rw [if_neg (by omega), if_neg (by omega), if_neg (by omega)]
  obtain ⟨hT1, hT2, hT3, hT4⟩ := TH_dT (D := DN) (G := GN) (r := hd k) (q := μ.2.1)
  have hGU : ∀ {k' a : Int}, GU DN GN k' a → k' ≠ -1 → (k' = 3 ∨ a ≠ hd k) → GU (dT DN (hd k) μ.2.1) (gT GN (hd k) μ.2.1) k' a := fun q q1 q2 => by
    have := q.lt n2 q1
    exact GU_dT q q2 (by omega) (by omega) (by omega)
  have hg1 : HU (dT DN (hd k) μ.2.1) (gT GN (hd k) μ.2.1) := ⟨GI_dT n1.1 hnk, hGU n1.2.1 (by omega) (Or.inl rfl), hGU n1.2.2.1 (by omega) (Or.inl rfl), hGU n1.2.2.2.1 (by omega) (Or.inl rfl), hGU n1.2.2.2.2.1 (by omega) (Or.inl rfl), hGU n1.2.2.2.2.2.1 (by omega) (Or.inl rfl), hGU n1.2.2.2.2.2.2 (by omega) (Or.inl rfl)⟩
  have hG3 : ∀ j, gT GN (hd k) μ.2.1 3 j = GN 3 j := fun j => gT_n (Or.inl rfl)
  have hGa : ∀ k' a, a ≠ hd k → gT GN (hd k) μ.2.1 k' a = GN k' a := fun k' a q => gT_n (Or.inr q)
  have hne : ∀ j, 0 ≤ j → j < (k : Int) → hd j ≠ hd k := fun j j1 j2 q => by
    have := hhd.2.1 j k j1 j2 hkl
    omega
  have hDB1 : DB (dT DN (hd k) μ.2.1) μ2 := fun b b1 => by
    rw [m1.1]
    unfold dT at b1
    by_cases q0 : b = μ.2.1
    · omega
    · by_cases q1 : b = μ.2.1 + 1
      · omega
      · by_cases q2 : b = μ.2.1 + 2
        · omega
        · rw [if_neg q0, if_neg q1, if_neg q2] at b1
          have := n2 b b1
          omega
  obtain ⟨⟨z1, z2, z3, z4⟩, z5, z6⟩ := n9
  have hE9 : μ.2.2.1 = σ.2.2.1 := by rw [n6]
  have hEout : (DN σ.2.2.1).1 = -1 := by
    by_cases q : (DN σ.2.2.1).1 = -1
    · exact q
    · rcases n3 _ q with z | z
      · exact absurd z hEh
      · have := hce.2.1
        omega
  have hCE1 : CE (dT DN (hd k) μ.2.1) μ2 := by
    obtain ⟨y1, y2, f, y3⟩ := hce
    unfold CE
    rw [m1.2, hE9]
    refine ⟨?_, by omega, f, ?_⟩
    · unfold dT
      rw [if_neg (by omega), if_neg (by omega), if_neg (by omega)]
      exact hEout
    · rw [m2 _ (by omega), n4 _ y2 hEh, cput_o y1]
      exact y3
  have hthN : ∀ j, 0 ≤ j → j < (k : Int) → TH (dT DN (hd k) μ.2.1) (gT GN (hd k) μ.2.1) (hd j) := fun j j1 j2 => by
    obtain ⟨q1, q2, q3⟩ := (z6 j j1 j2).2
    exact ⟨hGU q1 (by omega) (Or.inr (hne j j1 j2)), hGU q2 (by omega) (Or.inr (hne j j1 j2)), hGU q3 (by omega) (Or.inr (hne j j1 j2))⟩
  obtain ⟨D2, G2, cp2, el2, σ2, r1, r2, r3, r4, r5, r6, r7, r8, r9⟩ := kl_add2 (D := dT DN (hd k) μ.2.1) (G := gT GN (hd k) μ.2.1) (σ := μ2) (q := μ.2.1) (mok := mo) (eak := eN) (lnk := (k : Int)) (cpk := cp) (elk := el) (adk := adk) (nfk := nfk) (ndk := ndk) (pnk := pnk) (agk := agk) (mkk := fun _ => 0) (flk := FLc nfk flk) (dtk := DTc ndk dtk) (hwk := hwk) (dpk := dpk) (alk := 0) (cok := 0) (fek := 0) (rpk := none) (rok := fun j => if 0 ≤ j ∧ j < 6 then -1 else 0) (wek := fun j => if 0 ≤ j ∧ j < 4 then -1 else 0) (plk := fun _ => 0) (owk := fun _ => none) (skk := skk) (txk := txk) (tlk := tlk) (rfk := rfk) (slk := slk) (hsk := hsk) hg1.lu hDB1 n7 (fun q => by rw [m1.2, hE9]; exact n8 q) hCE1 (fun q => by
    obtain ⟨y1, y2⟩ := z5 q
    exact ⟨by rw [hG3]; exact y1, hGU y2 (by omega) (Or.inl rfl)⟩) z1 (by omega) z3 z4 (fun i hi => by
    have y1 := (z6 i (by omega) hi).1
    have y2 := hthN i (by omega) hi
    rw [show ((i : Int)).toNat = i by omega, ← hGa 0 (hd i) (hne i (by omega) hi)] at y1
    exact ⟨_, y1, y2.1.lt hDB1 (by omega), cw_ok5 y2⟩) (by
    have y : okR (cput (dT DN (hd k) μ.2.1) (cel (gT GN (hd k) μ.2.1) adk nfk ndk pnk agk (fun _ => 0) (FLc nfk flk) (DTc ndk dtk) hwk dpk 0 0 0 none (fun j => if 0 ≤ j ∧ j < 6 then -1 else 0) (fun j => if 0 ≤ j ∧ j < 4 then -1 else 0) (fun _ => 0) mo eN ((k : Int)) cp el (fun _ => none) skk txk tlk rfk slk hsk) μ2) 5 (some (gT GN (hd k) μ.2.1 0 (hd k))) = true := cw_ok5 hT1
    rwa [hT2] at y) (by rw [m1.1]; omega)
  rw [← hnew.eq, hG3] at r1
  have hk1 : ((k + 1 : Nat) : Int) = (k : Int) + 1 := by omega
  refine ⟨D2, G2, mo + J 1, G2 3 2, cp2, el2, cput D2 (cel G2 adk nfk ndk pnk agk (fun _ => 0) (FLc nfk flk) (DTc ndk dtk) hwk dpk 0 0 0 none (fun j => if 0 ≤ j ∧ j < 6 then -1 else 0) (fun j => if 0 ≤ j ∧ j < 4 then -1 else 0) (fun _ => 0) (mo + J 1) (G2 3 2) ((k : Int) + 1) cp2 el2 (fun _ => none) skk txk tlk rfk slk hsk) σ2, ?_, ⟨r7.hu hg1, fun b b1 => r6.2.2.2.2 b b1, fun b b1 => ?_, ⟨fun b b1 b2 => ?_, ?_, ?_⟩, r2, fun q => by omega, ⟨⟨by omega, by omega, by omega, r4⟩, fun _ => ⟨rfl, r5⟩, fun j j1 j2 => ?_⟩, fun b k' a q1 q2 q3 => ?_, ?_⟩, ?_⟩
  · unfold s_X1_init_2 g_X1_init_2_14
    dsimp only
    have hcp2 : f_X3_copy (G 0 (hd k)) μ = some (μ.2.1, μ2) := hcp.trans (by rw [← hμ2]; rfl)
    have f7 : ck μ2 (GN 3 0) 15 = some () := by
      have : ck (cput (dT DN (hd k) μ.2.1) (cel (gT GN (hd k) μ.2.1) adk nfk ndk pnk agk (fun _ => 0) (FLc nfk flk) (DTc ndk dtk) hwk dpk 0 0 0 none (fun j => if 0 ≤ j ∧ j < 6 then -1 else 0) (fun j => if 0 ≤ j ∧ j < 4 then -1 else 0) (fun _ => 0) mo eN ((k : Int)) cp el (fun _ => none) skk txk tlk rfk slk hsk) μ2) (gT GN (hd k) μ.2.1 3 0) 15 = some () := cw_k0 hg1.lu
      rw [← hnew.eq, hG3] at this
      exact this
    have hle : ¬ (J lnk ≤ J (k : Int)) := by
      rw [J_le (by omega) (by omega) (by omega) (by omega)]
      omega
    simp only [grd_s (show cn ≤ 900 ∧ cs ≤ 55000 by omega), grd_s (show cn + 3 ≤ 900 ∧ cs + 18 ≤ 55000 by omega), grd_s (show cn + 3 + 1 ≤ 900 ∧ cs + 18 + 250 ≤ 55000 by omega), f1, f2, f3, f4, f5, f6, Option.bind_some, if_neg hle, hcp2, b2_s, f7, r1]
    rw [show (1 : Int32) = J 1 from J_lit 1, J_add, hk1]
  · rcases r6.2.2.2.1 b b1 with z | z
    · unfold dT at z
      by_cases q0 : b = μ.2.1
      · omega
      · by_cases q1 : b = μ.2.1 + 1
        · omega
        · by_cases q2 : b = μ.2.1 + 2
          · omega
          · rw [if_neg q0, if_neg q1, if_neg q2] at z
            exact n3 b z
    · rw [m1.1] at z
      omega
  · have y1 : (DN b).1 = -1 := by
      by_cases q : (DN b).1 = -1
      · exact q
      · rcases n3 b q with z | z
        · exact absurd z b2
        · omega
    have y2 : (dT DN (hd k) μ.2.1 b).1 = -1 := by
      unfold dT
      rw [if_neg (by omega), if_neg (by omega), if_neg (by omega)]
      exact y1
    obtain ⟨y3, y4⟩ := r6.2.2.1 b (by rw [m1.1]; omega) y2
    rw [cput_o y3, y4, m2 b (by omega)]
    exact n4 b b1 b2
  · rw [cput_2]
    have := r6.1
    rw [m1.1] at this
    omega
  · rw [cput_2, r6.2.1, m1.2, n6]
  · rw [r9 j j1 (by omega)]
    by_cases hjk : j < (k : Int)
    · rw [if_pos hjk]
      have y2 := hthN j j1 hjk
      obtain ⟨y3, y4, -⟩ := r7.th y2
      rw [y4, hGa 0 _ (hne j j1 hjk)]
      exact ⟨(z6 j j1 hjk).1, y3⟩
    · rw [if_neg hjk, show j = (k : Int) by omega]
      obtain ⟨y3, y4, -⟩ := r7.th hT1
      rw [y4, hT2]
      exact ⟨rfl, y3⟩
  · have y := r8 b k' a q1 (by omega) (by omega)
    unfold dT at y
    by_cases q0 : b = μ.2.1
    · rw [if_pos q0] at y
      exact ⟨k, by omega, by omega, (congrArg Prod.snd y).symm⟩
    · rw [if_neg q0] at y
      by_cases q4 : b = μ.2.1 + 1
      · rw [if_pos q4] at y
        exact ⟨k, by omega, by omega, (congrArg Prod.snd y).symm⟩
      · rw [if_neg q4] at y
        by_cases q5 : b = μ.2.1 + 2
        · rw [if_pos q5] at y
          exact ⟨k, by omega, by omega, (congrArg Prod.snd y).symm⟩
        · rw [if_neg q5] at y
          obtain ⟨j, j1, j2, j3⟩ := n10 b k' a y q2 q3
          exact ⟨j, j1, by omega, j3⟩
  · rw [r7.eq (by omega) (by omega) hg1.2.2.2.2.2.2, hG3]
    exact n11
  · rw [hk1]
    exact HLD.of
end T1
