/-! PLAIN LAW: a heap's copy, from end to end. NAMES: kc_hcopy -/
set_option maxRecDepth 100000
section T1
variable {m hd : Int → Int} {adk nfk ndk pnk agk mkk rok wek plk txk : Int → Int} {flk dtk : Int → Int → Int} {hwk dpk alk cok fek lnk tlk rfk : Int} {rpk : Option Nat} {mok : Int32} {eak cpk : Nat} {elk owk skk slk : Nat → Option Nat} {hsk : Int64} {D : Nat → Int × Int} {G : Int → Int → Nat} {σ : mm_M} {h0 : Nat}
set_option maxHeartbeats 2000000 in
theorem kc_hcopy (hg : HU D G) (hm : WF m) (hk : (KM m hd D G adk nfk ndk pnk agk mkk flk dtk hwk dpk alk cok fek rpk rok wek plk mok eak lnk cpk elk owk skk txk tlk rfk slk hsk)) (hdb : DB D σ) (hce : CE D σ) (hq : (D h0).1 = -1) (hq2 : h0 < σ.2.1) (hEh : σ.2.2.1 ≠ h0) (hc0 : σ.1 h0 = some (.inl (1, df_1))) (hrp : RPK m rpk D σ) (hrh : rpk ≠ some h0) {R : Nat → Prop} (hR : ∀ r, rpk = some r → R r) : ∃ μ', f_X1_init_2 h0 (G 3 6) (cput D (cel G adk nfk ndk pnk agk mkk flk dtk hwk dpk alk cok fek rpk rok wek plk mok eak lnk cpk elk owk skk txk tlk rfk slk hsk) σ) = some μ' ∧ HPX m h0 (fun b => b = h0 ∨ σ.2.1 ≤ b) R μ' ∧ (∀ b, b < σ.2.1 → b ≠ h0 → μ'.1 b = (cput D (cel G adk nfk ndk pnk agk mkk flk dtk hwk dpk alk cok fek rpk rok wek plk mok eak lnk cpk elk owk skk txk tlk rfk slk hsk) σ).1 b) ∧ σ.2.1 ≤ μ'.2.1 ∧ μ'.2.2 = σ.2.2 := by
  have hW := hm.hW
  have hls := hk.ls
  have hhd := hk.hs
  have hls0 := hls
  obtain ⟨⟨l1, l2, l3, l4⟩, l5, l6⟩ := hls0
  have hini := kc_hinit (M := (cput D (cel G adk nfk ndk pnk agk mkk flk dtk hwk dpk alk cok fek rpk rok wek plk mok eak lnk cpk elk owk skk txk tlk rfk slk hsk) σ)) (h0 := h0) (w := hwk) (d := dpk) (by rw [cput_o hq]; exact hc0) (by rw [cput_2]; exact hq2)
  unfold f_X1_init_2 g_X1_init_2_0
  rw [cw_ghwk hg, Option.bind_some, cw_gdpk hg, Option.bind_some, grd_s (by omega), Option.bind_some, hini, Option.bind_some, lgo_l]
  generalize hμ1 : nh9 (cput D (cel G adk nfk ndk pnk agk mkk flk dtk hwk dpk alk cok fek rpk rok wek plk mok eak lnk cpk elk owk skk txk tlk rfk slk hsk) σ) h0 hwk dpk (fun j => if 0 ≤ j ∧ j < 6 then -1 else 0) (fun j => if 0 ≤ j ∧ j < 4 then -1 else 0) = μ1
  have hEq : ((cput D (cel G adk nfk ndk pnk agk mkk flk dtk hwk dpk alk cok fek rpk rok wek plk mok eak lnk cpk elk owk skk txk tlk rfk slk hsk) σ).2.1 = σ.2.1) ∧ (cput D (cel G adk nfk ndk pnk agk mkk flk dtk hwk dpk alk cok fek rpk rok wek plk mok eak lnk cpk elk owk skk txk tlk rfk slk hsk) σ).2.2.1 = σ.2.2.1 := ⟨rfl, rfl⟩
  have hb1 : ∀ b, b < σ.2.1 → b ≠ h0 → μ1.1 b = (cput D (cel G adk nfk ndk pnk agk mkk flk dtk hwk dpk alk cok fek rpk rok wek plk mok eak lnk cpk elk owk skk txk tlk rfk slk hsk) σ).1 b := fun b b1 b2 => by
    rw [← hμ1]
    unfold nh9
    dsimp only
    rw [hEq.1, if_neg (by omega), if_neg (by omega), if_neg (by omega), if_neg (by omega), if_neg (by omega), if_neg b2]
  have hb2 : μ1.2.1 = σ.2.1 + 5 ∧ μ1.2.2 = σ.2.2 := by rw [← hμ1]; exact ⟨rfl, rfl⟩
  have hstart : HC9 σ h0 D (cel G adk nfk ndk pnk agk mkk flk dtk hwk dpk alk cok fek rpk rok wek plk mok eak lnk cpk elk owk skk txk tlk rfk slk hsk) hd ((0 : Nat) : Int) (dH9 h0 σ.2.1) (gH9 h0 σ.2.1) σ.2.2.1 0 (fun _ => none) μ1 := by
    refine ⟨HU_H hq2, fun b b1 => ?_, fun b b1 => ?_, ⟨hb1, by omega, hb2.2⟩, Or.inl rfl, fun _ => rfl, ⟨⟨by omega, by omega, by omega, by omega⟩, fun q => by omega, fun j j1 j2 => by omega⟩, fun b k' a q1 q2 q3 => ?_, ?_⟩
    · rw [hb2.1]
      unfold dH9 at b1
      by_cases z0 : b = h0
      · omega
      · by_cases z1 : b = σ.2.1 ∨ b = σ.2.1 + 1 ∨ b = σ.2.1 + 2 ∨ b = σ.2.1 + 3 ∨ b = σ.2.1 + 4
        · omega
        · rw [if_neg z0, if_neg (by omega), if_neg (by omega), if_neg (by omega), if_neg (by omega), if_neg (by omega)] at b1
          exact absurd rfl b1
    · unfold dH9 at b1
      by_cases z0 : b = h0
      · exact Or.inl z0
      · by_cases z1 : b = σ.2.1 ∨ b = σ.2.1 + 1 ∨ b = σ.2.1 + 2 ∨ b = σ.2.1 + 3 ∨ b = σ.2.1 + 4
        · exact Or.inr (by omega)
        · rw [if_neg z0, if_neg (by omega), if_neg (by omega), if_neg (by omega), if_neg (by omega), if_neg (by omega)] at b1
          exact absurd rfl b1
    · exfalso
      have e := congrArg Prod.fst q1
      unfold dH9 at e
      dsimp only at e
      split at e
      · dsimp only at e; omega
      · split at e
        · dsimp only at e; omega
        · split at e
          · dsimp only at e; omega
          · split at e
            · dsimp only at e; omega
            · split at e
              · dsimp only at e; omega
              · split at e
                · dsimp only at e; omega
                · dsimp only at e; omega
    · unfold gH9
      rw [if_pos ⟨rfl, rfl⟩]
  have hH1 : HLD (dH9 h0 σ.2.1) (cel (gH9 h0 σ.2.1) adk nfk ndk pnk agk (fun _ => 0) (FLc nfk flk) (DTc ndk dtk) hwk dpk 0 0 0 none (fun j => if 0 ≤ j ∧ j < 6 then -1 else 0) (fun j => if 0 ≤ j ∧ j < 4 then -1 else 0) (fun _ => 0) 0 σ.2.2.1 (((0 : Nat) : Int)) 0 (fun _ => none) (fun _ => none) skk txk tlk rfk slk hsk) μ1 := by
    intro b hb
    have g0 : gH9 h0 σ.2.1 3 0 = σ.2.1 := by simp [gH9]
    have g1 : gH9 h0 σ.2.1 3 1 = σ.2.1 + 1 := by simp [gH9]
    have g3 : gH9 h0 σ.2.1 3 3 = σ.2.1 + 2 := by simp [gH9]
    have g4 : gH9 h0 σ.2.1 3 4 = σ.2.1 + 3 := by simp [gH9]
    have g5 : gH9 h0 σ.2.1 3 5 = σ.2.1 + 4 := by simp [gH9]
    rw [← hμ1]
    have hsh : ∀ k a e, dH9 h0 σ.2.1 b = (k, a) → (nh9 (cput D (cel G adk nfk ndk pnk agk mkk flk dtk hwk dpk alk cok fek rpk rok wek plk mok eak lnk cpk elk owk skk txk tlk rfk slk hsk) σ) h0 hwk dpk (fun j => if 0 ≤ j ∧ j < 6 then -1 else 0) (fun j => if 0 ≤ j ∧ j < 4 then -1 else 0)).1 b = some e → e = (cel (gH9 h0 σ.2.1) adk nfk ndk pnk agk (fun _ => 0) (FLc nfk flk) (DTc ndk dtk) hwk dpk 0 0 0 none (fun j => if 0 ≤ j ∧ j < 6 then -1 else 0) (fun j => if 0 ≤ j ∧ j < 4 then -1 else 0) (fun _ => 0) 0 σ.2.2.1 (((0 : Nat) : Int)) 0 (fun _ => none) (fun _ => none) skk txk tlk rfk slk hsk) k a → (nh9 (cput D (cel G adk nfk ndk pnk agk mkk flk dtk hwk dpk alk cok fek rpk rok wek plk mok eak lnk cpk elk owk skk txk tlk rfk slk hsk) σ) h0 hwk dpk (fun j => if 0 ≤ j ∧ j < 6 then -1 else 0) (fun j => if 0 ≤ j ∧ j < 4 then -1 else 0)).1 b = some ((cel (gH9 h0 σ.2.1) adk nfk ndk pnk agk (fun _ => 0) (FLc nfk flk) (DTc ndk dtk) hwk dpk 0 0 0 none (fun j => if 0 ≤ j ∧ j < 6 then -1 else 0) (fun j => if 0 ≤ j ∧ j < 4 then -1 else 0) (fun _ => 0) 0 σ.2.2.1 (((0 : Nat) : Int)) 0 (fun _ => none) (fun _ => none) skk txk tlk rfk slk hsk) (dH9 h0 σ.2.1 b).1 (dH9 h0 σ.2.1 b).2) := fun k a e q1 q2 q3 => by rw [q1, q2, q3]
    by_cases z0 : b = h0
    · exact hsh 3 6 (.inl (1, [vI (J hwk), vI (J dpk), vR (some σ.2.1), vR (some (σ.2.1 + 1)), vR (some (σ.2.1 + 2)), vR (some (σ.2.1 + 3)), vI (J 0), vI (J 0), vI (J 0), vR none, vR (some (σ.2.1 + 4))])) (by unfold dH9; rw [if_pos z0]) (by unfold nh9; dsimp only; rw [hEq.1, if_neg (by omega), if_neg (by omega), if_neg (by omega), if_neg (by omega), if_neg (by omega), if_pos z0]) (by simp [cel, g0, g1, g3, g4, g5])
    by_cases z1 : b = σ.2.1
    · exact hsh 3 0 (.inl (15, [vI 0, vR (some σ.2.2.1), vI (J 0)])) (by unfold dH9; rw [if_neg z0, if_pos z1]) (by unfold nh9; dsimp only; rw [hEq.1, hEq.2, if_neg (by omega), if_neg (by omega), if_neg (by omega), if_neg (by omega), if_pos z1]) (by simp [cel, g0, g1, g3, g4, g5])
    by_cases z2 : b = σ.2.1 + 1
    · exact hsh 3 1 (.inr (.inr (3, 200, fun _ => none))) (by unfold dH9; rw [if_neg z0, if_neg z1, if_pos z2]) (by unfold nh9; dsimp only; rw [hEq.1, if_neg (by omega), if_neg (by omega), if_neg (by omega), if_pos z2]) (by simp [cel, g0, g1, g3, g4, g5])
    by_cases z3 : b = σ.2.1 + 2
    · exact hsh 3 3 (.inr (.inl (0, 6, rw_ (fun j => if 0 ≤ j ∧ j < 6 then -1 else 0)))) (by unfold dH9; rw [if_neg z0, if_neg z1, if_neg z2, if_pos z3]) (by unfold nh9; dsimp only; rw [hEq.1, if_neg (by omega), if_neg (by omega), if_pos z3]) (by simp [cel, g0, g1, g3, g4, g5])
    by_cases z4 : b = σ.2.1 + 3
    · exact hsh 3 4 (.inr (.inl (0, 4, rw_ (fun j => if 0 ≤ j ∧ j < 4 then -1 else 0)))) (by unfold dH9; rw [if_neg z0, if_neg z1, if_neg z2, if_neg z3, if_pos z4]) (by unfold nh9; dsimp only; rw [hEq.1, if_neg (by omega), if_pos z4]) (by simp [cel, g0, g1, g3, g4, g5])
    by_cases z5 : b = σ.2.1 + 4
    · exact hsh 3 5 (.inr (.inl (0, 200, rw_ (fun _ => 0)))) (by unfold dH9; rw [if_neg z0, if_neg z1, if_neg z2, if_neg z3, if_neg z4, if_pos z5]) (by unfold nh9; dsimp only; rw [hEq.1, if_pos z5]) (by simp [cel, g0, g1, g3, g4, g5])
    exfalso
    unfold dH9 at hb
    rw [if_neg z0, if_neg z1, if_neg z2, if_neg z3, if_neg z4, if_neg z5] at hb
    exact hb rfl
  obtain ⟨s', e1, DN, GN, mo, eN, cp, el, μ, hX, hH, rfl⟩ := lpx_itr (X := Unit) (f := s_X1_init_2 h0 (G 3 6)) (g := fun _ _ => ()) (fun k _ s => ∃ (DN : Nat → Int × Int) (GN : Int → Int → Nat) (mo : Int32) (eN cp : Nat) (el : Nat → Option Nat) (μ : mm_M), HC9 σ h0 D (cel G adk nfk ndk pnk agk mkk flk dtk hwk dpk alk cok fek rpk rok wek plk mok eak lnk cpk elk owk skk txk tlk rfk slk hsk) hd (k : Int) DN GN eN cp el μ ∧ HLD DN (cel GN adk nfk ndk pnk agk (fun _ => 0) (FLc nfk flk) (DTc ndk dtk) hwk dpk 0 0 0 none (fun j => if 0 ≤ j ∧ j < 6 then -1 else 0) (fun j => if 0 ≤ j ∧ j < 4 then -1 else 0) (fun _ => 0) mo eN ((k : Int)) cp el (fun _ => none) skk txk tlk rfk slk hsk) μ ∧ s = (J k, 5 + 4 * k, 413 + 268 * k, μ)) lnk.toNat (by
    rintro k _ s hk9 ⟨DN, GN, mo, eN, cp, el, μ, hX, hH, rfl⟩
    obtain ⟨DN', GN', mo', eN', cp', el', μ', r1, r2, r3⟩ := kc_hround (cn := 5 + 4 * k) (cs := 413 + 268 * k) hg hm hk hdb hce hq hq2 hEh (by omega) hX hH (by omega) (by omega)
    exact ⟨_, lpx_n r1, DN', GN', mo', eN', cp', el', μ', r2, r3, by rw [show 5 + 4 * k + 3 + 1 = 5 + 4 * (k + 1) by omega, show 413 + 268 * k + 18 + 250 = 413 + 268 * (k + 1) by omega]⟩) () ((0 : Int32), 0 + 5, 0 + 413, μ1) ⟨_, _, 0, _, 0, fun _ => none, μ1, hstart, hH1, by rfl⟩
  rw [e1]
  rw [show ((lnk.toNat : Nat) : Int) = lnk by omega] at hX hH ⊢
  obtain ⟨n1, n2, n3, ⟨n4, n5, n6⟩, n7, n8, n9, n10, n11⟩ := hX
  have hn9 := n9
  obtain ⟨⟨z1, z2, z3, z4⟩, z5, z6⟩ := hn9
  -- the source stands
  have hC : HLD D (cel G adk nfk ndk pnk agk mkk flk dtk hwk dpk alk cok fek rpk rok wek plk mok eak lnk cpk elk owk skk txk tlk rfk slk hsk) μ := fun b hb => by
    have hb1 := hdb b hb
    have hb2 : b ≠ h0 := fun q => hb (by rw [q]; exact hq)
    rw [n4 b hb1 hb2]
    unfold cput
    dsimp only
    rw [if_neg hb]
  have hCe := hC.eq
  have hout : ∀ b, (D b).1 ≠ -1 → (DN b).1 = -1 := fun b hb => by
    by_cases q : (DN b).1 = -1
    · exact q
    · have hb1 := hdb b hb
      rcases n3 b q with z | z
      · exact absurd hq (by rw [← z]; exact hb)
      · omega
  have ho : ∀ k a, k ≠ -1 → GU D G k a → (DN (G k a)).1 = -1 := fun k a q1 q2 => hout _ (by unfold GU at q2; rw [q2]; exact q1)
  have o6 := ho 3 6 (by omega) hg.2.2.2.2.2.2
  have o3 := ho 3 3 (by omega) hg.2.2.2.1
  have o4 := ho 3 4 (by omega) hg.2.2.2.2.1
  have o5 := ho 3 5 (by omega) hg.2.2.2.2.2.1
  have k6 : μ.1 (G 3 6) = some (eO 1 [vI (J hwk), vI (J dpk), vR (some (G 3 0)), vR (some (G 3 1)), vR (some (G 3 3)), vR (some (G 3 4)), vI (J alk), vI (J cok), vI (J fek), vR rpk, vR (some (G 3 5))]) := by
    have : (cput D (cel G adk nfk ndk pnk agk mkk flk dtk hwk dpk alk cok fek rpk rok wek plk mok eak lnk cpk elk owk skk txk tlk rfk slk hsk) μ).1 (G 3 6) = _ := cc_6 hg
    rw [← hCe] at this
    exact this
  have k3 : μ.1 (G 3 3) = some (eI 0 6 (rw_ rok)) := by
    have : (cput D (cel G adk nfk ndk pnk agk mkk flk dtk hwk dpk alk cok fek rpk rok wek plk mok eak lnk cpk elk owk skk txk tlk rfk slk hsk) μ).1 (G 3 3) = _ := cc_3 hg
    rw [← hCe] at this
    exact this
  have k4 : μ.1 (G 3 4) = some (eI 0 4 (rw_ wek)) := by
    have : (cput D (cel G adk nfk ndk pnk agk mkk flk dtk hwk dpk alk cok fek rpk rok wek plk mok eak lnk cpk elk owk skk txk tlk rfk slk hsk) μ).1 (G 3 4) = _ := cc_4 hg
    rw [← hCe] at this
    exact this
  have k5 : μ.1 (G 3 5) = some (eI 0 200 (rw_ plk)) := by
    have : (cput D (cel G adk nfk ndk pnk agk mkk flk dtk hwk dpk alk cok fek rpk rok wek plk mok eak lnk cpk elk owk skk txk tlk rfk slk hsk) μ).1 (G 3 5) = _ := cc_5 hg
    rw [← hCe] at this
    exact this
  have f1 : gA μ (G 3 6) 1 2 = some (G 3 0) := gA_at k6 rfl
  have f2 : ck μ (G 3 0) 15 = some () := by
    have : ck (cput D (cel G adk nfk ndk pnk agk mkk flk dtk hwk dpk alk cok fek rpk rok wek plk mok eak lnk cpk elk owk skk txk tlk rfk slk hsk) μ) (G 3 0) 15 = some () := cw_k0 hg.lu
    rwa [← hCe] at this
  have f3 : f_J2_size (G 3 0) μ = some (J lnk) := by
    have : f_J2_size (G 3 0) (cput D (cel G adk nfk ndk pnk agk mkk flk dtk hwk dpk alk cok fek rpk rok wek plk mok eak lnk cpk elk owk skk txk tlk rfk slk hsk) μ) = some (J lnk) := kc_lsize hg
    rwa [← hCe] at this
  have s4 : ∀ c', gA (cput DN c' μ) (G 3 6) 1 4 = some (G 3 3) := fun c' => by rw [ko_gA o6]; exact gA_at k6 rfl
  have s5 : ∀ c', gA (cput DN c' μ) (G 3 6) 1 5 = some (G 3 4) := fun c' => by rw [ko_gA o6]; exact gA_at k6 rfl
  have s6 : ∀ c', gI (cput DN c' μ) (G 3 6) 1 6 = some (J alk) := fun c' => by rw [ko_gI o6]; exact gI_at k6 rfl
  have s7 : ∀ c', gI (cput DN c' μ) (G 3 6) 1 7 = some (J cok) := fun c' => by rw [ko_gI o6]; exact gI_at k6 rfl
  have s8 : ∀ c', gI (cput DN c' μ) (G 3 6) 1 8 = some (J fek) := fun c' => by rw [ko_gI o6]; exact gI_at k6 rfl
  have s9 : ∀ c', gR (cput DN c' μ) (G 3 6) 1 9 = some rpk := fun c' => by rw [ko_gR o6]; exact gR_at k6 rfl
  have s10 : ∀ c', gA (cput DN c' μ) (G 3 6) 1 10 = some (G 3 5) := fun c' => by rw [ko_gA o6]; exact gA_at k6 rfl
  have hsz : ∀ k, 0 ≤ k → k < lnk → 0 ≤ nfk (hd k) ∧ 0 ≤ ndk (hd k) ∧ adk (hd k) = hd k ∧ 1 + nfk (hd k) + ndk (hd k) = m (hd k) ∧ hd k + m (hd k) ≤ 200 := fun k k1 k2 => by
    obtain ⟨d1, d2, d3⟩ := hhd.1 k k1 k2
    obtain ⟨t1, t2, t3, t4, -⟩ := hk.th d1 d2 d3
    have := hm.hf _ d1 d2 d3
    have := hm.he _ d1 d2 d3
    omega
  obtain ⟨OW, r1, r2⟩ := kc_occupy (σ := μ) (D := DN) (G := GN) (hd' := hd) (W := 0) (mok := mo) (eak := eN) (lnk := lnk) (cpk := cp) (elk := el) (adk := adk) (nfk := nfk) (ndk := ndk) (pnk := pnk) (agk := agk) (mkk := fun _ => 0) (flk := FLc nfk flk) (dtk := DTc ndk dtk) (hwk := hwk) (dpk := dpk) (alk := 0) (cok := 0) (fek := 0) (rpk := none) (rok := fun j => if 0 ≤ j ∧ j < 6 then -1 else 0) (wek := fun j => if 0 ≤ j ∧ j < 4 then -1 else 0) (plk := fun _ => 0) (owk := fun _ => none) (skk := skk) (txk := txk) (tlk := tlk) (rfk := rfk) (slk := slk) (hsk := hsk) n1 z1 z3 z4 (fun q => z5 (by omega)) z6 (fun k k1 k2 => by
    obtain ⟨q1, q2, q3, q4, q5⟩ := hsz k k1 k2
    have := (hhd.1 k k1 k2).1
    exact ⟨q1, q2, by omega, by omega⟩)
  rw [n11, ← hH.eq] at r1
  have fck : ck μ h0 1 = some () := by
    have : ck (cput DN (cel GN adk nfk ndk pnk agk (fun _ => 0) (FLc nfk flk) (DTc ndk dtk) hwk dpk 0 0 0 none (fun j => if 0 ≤ j ∧ j < 6 then -1 else 0) (fun j => if 0 ≤ j ∧ j < 4 then -1 else 0) (fun _ => 0) mo eN lnk cp el (fun _ => none) skk txk tlk rfk slk hsk) μ) (GN 3 6) 1 = some () := cw_k6 n1
    rw [n11, ← hH.eq] at this
    exact this
  have q4 : gA (cput DN (cel GN adk nfk ndk pnk agk (fun _ => 0) (FLc nfk flk) (DTc ndk dtk) hwk dpk 0 0 0 none (fun j => if 0 ≤ j ∧ j < 6 then -1 else 0) (fun j => if 0 ≤ j ∧ j < 4 then -1 else 0) (fun _ => 0) mo eN lnk cp el OW skk txk tlk rfk slk hsk) μ) h0 1 4 = some (GN 3 3) := by rw [← n11]; exact cw_h4 n1
  have q5 : gA (cput DN (cel GN adk nfk ndk pnk agk (fun _ => 0) (FLc nfk flk) (DTc ndk dtk) hwk dpk 0 0 0 none (fun j => if j < 6 then rok j else (if 0 ≤ j ∧ j < 6 then -1 else 0)) (fun j => if 0 ≤ j ∧ j < 4 then -1 else 0) (fun _ => 0) mo eN lnk cp el OW skk txk tlk rfk slk hsk) μ) h0 1 5 = some (GN 3 4) := by rw [← n11]; exact cw_h5 n1
  have b1 : cI (cput DN (cel GN adk nfk ndk pnk agk (fun _ => 0) (FLc nfk flk) (DTc ndk dtk) hwk dpk 0 0 0 none (fun j => if 0 ≤ j ∧ j < 6 then -1 else 0) (fun j => if 0 ≤ j ∧ j < 4 then -1 else 0) (fun _ => 0) mo eN lnk cp el OW skk txk tlk rfk slk hsk) μ) (G 3 3) (0 : Int32) (GN 3 3) (0 : Int32) (6 : Int32) = some (cput DN (cel GN adk nfk ndk pnk agk (fun _ => 0) (FLc nfk flk) (DTc ndk dtk) hwk dpk 0 0 0 none (fun j => if j < 6 then rok j else (if 0 ≤ j ∧ j < 6 then -1 else 0)) (fun j => if 0 ≤ j ∧ j < 4 then -1 else 0) (fun _ => 0) mo eN lnk cp el OW skk txk tlk rfk slk hsk) μ) := by
    rw [show (0 : Int32) = J 0 from J_lit 0, show (6 : Int32) = J 6 from J_lit 6]
    rw [cI_rw (f := rok) (n0 := 6) (by rw [cput_o o3]; exact k3) (cc_3 n1) (by omega) (by omega) (by omega) (by omega)]
    exact congrArg some (cput_sE n1.1 n1.2.2.2.1 (by decide) (by simp [cel]) (by
      intro k' a' hn
      simp only [cel, if_neg hn]))
  have b2 : cI (cput DN (cel GN adk nfk ndk pnk agk (fun _ => 0) (FLc nfk flk) (DTc ndk dtk) hwk dpk 0 0 0 none (fun j => if j < 6 then rok j else (if 0 ≤ j ∧ j < 6 then -1 else 0)) (fun j => if 0 ≤ j ∧ j < 4 then -1 else 0) (fun _ => 0) mo eN lnk cp el OW skk txk tlk rfk slk hsk) μ) (G 3 4) (0 : Int32) (GN 3 4) (0 : Int32) (4 : Int32) = some (cput DN (cel GN adk nfk ndk pnk agk (fun _ => 0) (FLc nfk flk) (DTc ndk dtk) hwk dpk 0 0 0 none (fun j => if j < 6 then rok j else (if 0 ≤ j ∧ j < 6 then -1 else 0)) (fun j => if j < 4 then wek j else (if 0 ≤ j ∧ j < 4 then -1 else 0)) (fun _ => 0) mo eN lnk cp el OW skk txk tlk rfk slk hsk) μ) := by
    rw [show (0 : Int32) = J 0 from J_lit 0, show (4 : Int32) = J 4 from J_lit 4]
    rw [cI_rw (f := wek) (n0 := 4) (by rw [cput_o o4]; exact k4) (cc_4 n1) (by omega) (by omega) (by omega) (by omega)]
    exact congrArg some (cput_sE n1.1 n1.2.2.2.2.1 (by decide) (by simp [cel]) (by
      intro k' a' hn
      simp only [cel, if_neg hn]))
  have p6 : pF (cput DN (cel GN adk nfk ndk pnk agk (fun _ => 0) (FLc nfk flk) (DTc ndk dtk) hwk dpk 0 0 0 none (fun j => if j < 6 then rok j else (if 0 ≤ j ∧ j < 6 then -1 else 0)) (fun j => if j < 4 then wek j else (if 0 ≤ j ∧ j < 4 then -1 else 0)) (fun _ => 0) mo eN lnk cp el OW skk txk tlk rfk slk hsk) μ) h0 1 6 (vI (J alk)) = some (cput DN (cel GN adk nfk ndk pnk agk (fun _ => 0) (FLc nfk flk) (DTc ndk dtk) hwk dpk alk 0 0 none (fun j => if j < 6 then rok j else (if 0 ≤ j ∧ j < 6 then -1 else 0)) (fun j => if j < 4 then wek j else (if 0 ≤ j ∧ j < 4 then -1 else 0)) (fun _ => 0) mo eN lnk cp el OW skk txk tlk rfk slk hsk) μ) := by rw [← n11]; exact cw_palk n1
  have p7 : pF (cput DN (cel GN adk nfk ndk pnk agk (fun _ => 0) (FLc nfk flk) (DTc ndk dtk) hwk dpk alk 0 0 none (fun j => if j < 6 then rok j else (if 0 ≤ j ∧ j < 6 then -1 else 0)) (fun j => if j < 4 then wek j else (if 0 ≤ j ∧ j < 4 then -1 else 0)) (fun _ => 0) mo eN lnk cp el OW skk txk tlk rfk slk hsk) μ) h0 1 7 (vI (J cok)) = some (cput DN (cel GN adk nfk ndk pnk agk (fun _ => 0) (FLc nfk flk) (DTc ndk dtk) hwk dpk alk cok 0 none (fun j => if j < 6 then rok j else (if 0 ≤ j ∧ j < 6 then -1 else 0)) (fun j => if j < 4 then wek j else (if 0 ≤ j ∧ j < 4 then -1 else 0)) (fun _ => 0) mo eN lnk cp el OW skk txk tlk rfk slk hsk) μ) := by rw [← n11]; exact cw_pcok n1
  have p8 : pF (cput DN (cel GN adk nfk ndk pnk agk (fun _ => 0) (FLc nfk flk) (DTc ndk dtk) hwk dpk alk cok 0 none (fun j => if j < 6 then rok j else (if 0 ≤ j ∧ j < 6 then -1 else 0)) (fun j => if j < 4 then wek j else (if 0 ≤ j ∧ j < 4 then -1 else 0)) (fun _ => 0) mo eN lnk cp el OW skk txk tlk rfk slk hsk) μ) h0 1 8 (vI (J fek)) = some (cput DN (cel GN adk nfk ndk pnk agk (fun _ => 0) (FLc nfk flk) (DTc ndk dtk) hwk dpk alk cok fek none (fun j => if j < 6 then rok j else (if 0 ≤ j ∧ j < 6 then -1 else 0)) (fun j => if j < 4 then wek j else (if 0 ≤ j ∧ j < 4 then -1 else 0)) (fun _ => 0) mo eN lnk cp el OW skk txk tlk rfk slk hsk) μ) := by rw [← n11]; exact cw_pfek n1
  have p9 : pF (cput DN (cel GN adk nfk ndk pnk agk (fun _ => 0) (FLc nfk flk) (DTc ndk dtk) hwk dpk alk cok fek none (fun j => if j < 6 then rok j else (if 0 ≤ j ∧ j < 6 then -1 else 0)) (fun j => if j < 4 then wek j else (if 0 ≤ j ∧ j < 4 then -1 else 0)) (fun _ => 0) mo eN lnk cp el OW skk txk tlk rfk slk hsk) μ) h0 1 9 (vR rpk) = some (cput DN (cel GN adk nfk ndk pnk agk (fun _ => 0) (FLc nfk flk) (DTc ndk dtk) hwk dpk alk cok fek rpk (fun j => if j < 6 then rok j else (if 0 ≤ j ∧ j < 6 then -1 else 0)) (fun j => if j < 4 then wek j else (if 0 ≤ j ∧ j < 4 then -1 else 0)) (fun _ => 0) mo eN lnk cp el OW skk txk tlk rfk slk hsk) μ) := by rw [← n11]; exact cw_prpk n1
  have q10 : gA (cput DN (cel GN adk nfk ndk pnk agk (fun _ => 0) (FLc nfk flk) (DTc ndk dtk) hwk dpk alk cok fek rpk (fun j => if j < 6 then rok j else (if 0 ≤ j ∧ j < 6 then -1 else 0)) (fun j => if j < 4 then wek j else (if 0 ≤ j ∧ j < 4 then -1 else 0)) (fun _ => 0) mo eN lnk cp el OW skk txk tlk rfk slk hsk) μ) h0 1 10 = some (GN 3 5) := by rw [← n11]; exact cw_h10 n1
  have b3 : cI (cput DN (cel GN adk nfk ndk pnk agk (fun _ => 0) (FLc nfk flk) (DTc ndk dtk) hwk dpk alk cok fek rpk (fun j => if j < 6 then rok j else (if 0 ≤ j ∧ j < 6 then -1 else 0)) (fun j => if j < 4 then wek j else (if 0 ≤ j ∧ j < 4 then -1 else 0)) (fun _ => 0) mo eN lnk cp el OW skk txk tlk rfk slk hsk) μ) (G 3 5) (0 : Int32) (GN 3 5) (0 : Int32) (200 : Int32) = some (cput DN (cel GN adk nfk ndk pnk agk (fun _ => 0) (FLc nfk flk) (DTc ndk dtk) hwk dpk alk cok fek rpk (fun j => if j < 6 then rok j else (if 0 ≤ j ∧ j < 6 then -1 else 0)) (fun j => if j < 4 then wek j else (if 0 ≤ j ∧ j < 4 then -1 else 0)) (fun j => if j < 200 then plk j else 0) mo eN lnk cp el OW skk txk tlk rfk slk hsk) μ) := by
    rw [show (0 : Int32) = J 0 from J_lit 0, show (200 : Int32) = J 200 from J_lit 200]
    rw [cI_rw (f := plk) (n0 := 200) (by rw [cput_o o5]; exact k5) (cc_5 n1) (by omega) (by omega) (by omega) (by omega)]
    exact congrArg some (cput_sE n1.1 n1.2.2.2.2.2.1 (by decide) (by simp [cel]) (by
      intro k' a' hn
      simp only [cel, if_neg hn]))
  refine ⟨(cput DN (cel GN adk nfk ndk pnk agk (fun _ => 0) (FLc nfk flk) (DTc ndk dtk) hwk dpk alk cok fek rpk (fun j => if j < 6 then rok j else (if 0 ≤ j ∧ j < 6 then -1 else 0)) (fun j => if j < 4 then wek j else (if 0 ≤ j ∧ j < 4 then -1 else 0)) (fun j => if j < 200 then plk j else 0) mo eN lnk cp el OW skk txk tlk rfk slk hsk) μ), lpx_d ?_, ?_, ?_, n5, n6⟩
  · have hle : J lnk ≤ J lnk := by
      rw [J_le (by omega) (by omega) (by omega) (by omega)]
      omega
    unfold s_X1_init_2 g_X1_init_2_14
    dsimp only
    simp only [grd_s (show 5 + 4 * lnk.toNat ≤ 900 ∧ 413 + 268 * lnk.toNat ≤ 55000 by omega), f1, f2, f3, Option.bind_some, if_pos hle, fck, r1, s4, q4, b1, s5, q5, b2, s6, p6, s7, p7, s8, p8, s9, p9, s10, q10, b3]
  · refine ⟨hd, DN, GN, adk, nfk, ndk, pnk, agk, fun _ => 0, FLc nfk flk, DTc ndk dtk, hwk, dpk, alk, cok, fek, rpk, _, _, _, mo, eN, lnk, cp, el, OW, skk, txk, tlk, rfk, slk, hsk, n1, HLD.of, ⟨fun a a1 a2 a3 => ?_, hk.nu, fun j j1 j2 => ?_, fun j j1 j2 => ?_, fun j j1 j2 => ?_, fun j j1 j2 => ?_, n9, hhd⟩, n2, fun q => by rw [cput_2, n6]; exact n8 q, n7, fun b k a w1 w2 w3 => ?_, ?_, n11, n3, hR, ?_⟩
    · obtain ⟨k, k1, k2, k3⟩ := hhd.2.2 a a1 a2 a3
      obtain ⟨t1, t2, t3, t4, t5, t6, t7, t8⟩ := hk.th a1 a2 a3
      have ht := (z6 k k1 k2).2
      rw [k3] at ht
      refine ⟨ht, t2, t3, t4, t5, t6, fun j j1 j2 => ?_, fun j j1 j2 => ?_⟩
      · unfold FLc
        rw [if_pos (by omega)]
        exact t7 j j1 j2
      · unfold DTc
        rw [if_pos (by omega)]
        exact t8 j j1 j2
    · dsimp only; rw [if_pos j2]; exact hk.ro j j1 j2
    · dsimp only; rw [if_pos j2]; exact hk.we j j1 j2
    · dsimp only; rw [if_pos j2]; exact hk.pl j j1 j2
    · rcases r2 j j1 j2 with ⟨i, i1, i2, i3, i4⟩ | ⟨y1, y2⟩
      · obtain ⟨d1, d2, d3⟩ := hhd.1 i i1 i2
        obtain ⟨w1, w2, w3, w4, w5⟩ := hsz i i1 i2
        rw [w3, w4] at i3
        rw [ob_e hm (a := hd i) ⟨d1, d2, d3, i3.1, i3.2⟩, if_neg (by omega)]
        exact i4
      · have : ob m j = -1 := ob_n (fun b hb => by
          obtain ⟨i, i1, i2, i3⟩ := hhd.2.2 b hb.1 hb.2.1 hb.2.2.1
          obtain ⟨w1, w2, w3, w4, w5⟩ := hsz i i1 i2
          have y3 := y1 i i1 i2
          rw [w3, w4, i3] at y3
          exact y3 ⟨hb.2.2.2.1, hb.2.2.2.2⟩)
        rw [if_pos this]
        exact y2
    · obtain ⟨j, j1, j2, j3⟩ := n10 b k a w1 w2 w3
      rw [j3]
      exact hhd.1 j j1 j2
    · rcases hrp with ⟨x1, x2⟩ | ⟨x1, r, x2, x3, x4, x5⟩
      · exact Or.inl ⟨x1, x2⟩
      · have hrne : r ≠ h0 := fun q => hrh (by rw [x2, q])
        have hro : (DN r).1 = -1 := by
          by_cases q : (DN r).1 = -1
          · exact q
          · rcases n3 r q with z | z
            · exact absurd z hrne
            · omega
        refine Or.inr ⟨x1, r, x2, hro, ?_, by rw [cput_2]; omega⟩
        rw [cput_o hro, n4 r x5 hrne, cput_o x3]
        exact x4
    · rw [cput_2, n6]
      by_cases q : (DN σ.2.2.1).1 = -1
      · exact q
      · rcases n3 _ q with z | z
        · exact absurd z hEh
        · have := hce.2.1
          omega
  · intro b b1 b2
    have hbo : (DN b).1 = -1 := by
      by_cases q : (DN b).1 = -1
      · exact q
      · rcases n3 b q with z | z
        · exact absurd z b2
        · omega
    rw [cput_o hbo]
    exact n4 b b1 b2
end T1
