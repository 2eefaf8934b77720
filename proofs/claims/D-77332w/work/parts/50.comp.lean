/-! PLAIN LAW: the component's memory as a value (printed by gen/hand.py). NAMES: cput, cel, cw_, ko_, cc_ -/
set_option maxRecDepth 100000
/-- the cell of a role: 0, 1, 2 a thing, its fields, its data; 3 the rest -/
def cel (G : Int → Int → Nat) (adk : Int → Int) (nfk : Int → Int) (ndk : Int → Int) (pnk : Int → Int) (agk : Int → Int) (mkk : Int → Int) (flk : Int → Int → Int) (dtk : Int → Int → Int) (hwk : Int) (dpk : Int) (alk : Int) (cok : Int) (fek : Int) (rpk : Option Nat) (rok : Int → Int) (wek : Int → Int) (plk : Int → Int) (mok : Int32) (eak : Nat) (lnk : Int) (cpk : Nat) (elk : Nat → Option Nat) (owk : Nat → Option Nat) (skk : Nat → Option Nat) (txk : Int → Int) (tlk : Int) (rfk : Int) (slk : Nat → Option Nat) (hsk : Int64) (k a : Int) : mm_E := if k = 0 then eO 3 [vI (J (adk a)), vR (some (G 1 a)), vR (some (G 2 a)), vI (J (pnk a)), vI (J (agk a)), vI (J (mkk a))] else if k = 1 then eI 0 (nfk a).toNat (rw_ (flk a)) else if k = 2 then eI 0 (ndk a).toNat (rw_ (dtk a)) else if k = 3 ∧ a = 0 then eO 15 [vI mok, vR (some eak), vI (J lnk)] else if k = 3 ∧ a = 1 then eR 3 200 owk else if k = 3 ∧ a = 2 then eR 5 cpk elk else if k = 3 ∧ a = 3 then eI 0 6 (rw_ rok) else if k = 3 ∧ a = 4 then eI 0 4 (rw_ wek) else if k = 3 ∧ a = 5 then eI 0 200 (rw_ plk) else if k = 3 ∧ a = 6 then eO 1 [vI (J hwk), vI (J dpk), vR (some (G 3 0)), vR (some (G 3 1)), vR (some (G 3 3)), vR (some (G 3 4)), vI (J alk), vI (J cok), vI (J fek), vR rpk, vR (some (G 3 5))] else if k = 3 ∧ a = 7 then eO 0 [vR (some (G 3 6)), vR (some (G 3 8)), vR (some (G 3 9)), vI (J tlk), vI (J rfk), vR (some (G 3 10)), vL hsk] else if k = 3 ∧ a = 8 then eR 3 200 skk else if k = 3 ∧ a = 9 then eI 2 80 (rw_ txk) else if k = 3 ∧ a = 10 then eR 4 2 slk else eO 99 []
/-- cells laid over a memory: D tells the role of an address (-1: none) -/
def cput (D : Nat → Int × Int) (c : Int → Int → mm_E) (σ : mm_M) : mm_M := (fun b => if (D b).1 = -1 then σ.1 b else some (c (D b).1 (D b).2), σ.2)
def GI (D : Nat → Int × Int) (G : Int → Int → Nat) : Prop := ∀ b, (D b).1 ≠ -1 → G (D b).1 (D b).2 = b
/-- a role that is used -/
def GU (D : Nat → Int × Int) (G : Int → Int → Nat) (k a : Int) : Prop := D (G k a) = (k, a)
/-- a thing that is used -/
def TH (D : Nat → Int × Int) (G : Int → Int → Nat) (a : Int) : Prop := GU D G 0 a ∧ GU D G 1 a ∧ GU D G 2 a
/-- a heap's cells; the component's cells -/
def HU (D : Nat → Int × Int) (G : Int → Int → Nat) : Prop := GI D G ∧ GU D G 3 0 ∧ GU D G 3 1 ∧ GU D G 3 3 ∧ GU D G 3 4 ∧ GU D G 3 5 ∧ GU D G 3 6
/-- a list's cells -/
def LU (D : Nat → Int × Int) (G : Int → Int → Nat) : Prop := GI D G ∧ GU D G 3 0
theorem HU.lu {D : Nat → Int × Int} {G : Int → Int → Nat} (hg : HU D G) : LU D G := ⟨hg.1, hg.2.1⟩
def XU (D : Nat → Int × Int) (G : Int → Int → Nat) : Prop := GU D G 3 7 ∧ GU D G 3 8 ∧ GU D G 3 9 ∧ GU D G 3 10
theorem cput_at {D : Nat → Int × Int} {G : Int → Int → Nat} {c : Int → Int → mm_E} {σ : mm_M} {k a : Int} (h : GU D G k a) (hk : k ≠ -1) : (cput D c σ).1 (G k a) = some (c k a) := by
  unfold cput
  dsimp only
  rw [h, if_neg hk]
theorem cput_o {D : Nat → Int × Int} {c : Int → Int → mm_E} {σ : mm_M} {b : Nat} (h : (D b).1 = -1) : (cput D c σ).1 b = σ.1 b := by
  unfold cput
  dsimp only
  rw [if_pos h]
theorem cput_2 {D : Nat → Int × Int} {c : Int → Int → mm_E} {σ : mm_M} : (cput D c σ).2 = σ.2 := rfl
theorem cput_sE {D : Nat → Int × Int} {G : Int → Int → Nat} {c c' : Int → Int → mm_E} {σ : mm_M} {k a : Int} {e : mm_E} (hg : GI D G) (h : GU D G k a) (hk : k ≠ -1) (h1 : c' k a = e) (h2 : ∀ k' a', ¬ (k' = k ∧ a' = a) → c' k' a' = c k' a') : sE (cput D c σ) (G k a) e = cput D c' σ := by
  unfold sE cput
  refine Prod.ext ?_ rfl
  funext b
  dsimp only
  by_cases hb : b = G k a
  · subst hb
    rw [if_pos rfl, h, if_neg hk, h1]
  · rw [if_neg hb]
    by_cases hd : (D b).1 = -1
    · rw [if_pos hd, if_pos hd]
    · rw [if_neg hd, if_neg hd, h2]
      rintro ⟨q1, q2⟩
      exact hb (by rw [← q1, ← q2, hg b hd])
theorem cput_sO {D : Nat → Int × Int} {c : Int → Int → mm_E} {σ : mm_M} {b : Nat} {e : mm_E} (h : (D b).1 = -1) : sE (cput D c σ) b e = cput D c (sE σ b e) := by
  unfold sE cput
  refine Prod.ext ?_ rfl
  funext x
  dsimp only
  by_cases hb : x = b
  · subst hb
    rw [if_pos rfl, if_pos h, if_pos rfl]
  · rw [if_neg hb, if_neg hb]
theorem cput_nE {D : Nat → Int × Int} {c : Int → Int → mm_E} {σ : mm_M} {e : mm_E} (h : (D σ.2.1).1 = -1) : nE (cput D c σ) e = cput D c (nE σ e) := by
  unfold nE cput
  refine Prod.ext ?_ rfl
  funext x
  dsimp only
  by_cases hb : x = σ.2.1
  · subst hb
    rw [if_pos rfl, if_pos h, if_pos rfl]
  · rw [if_neg hb, if_neg hb]
section CO
variable {D : Nat → Int × Int} {c : Int → Int → mm_E} {σ : mm_M} {b : Nat}
theorem ko_gF (h : (D b).1 = -1) {x k : Nat} : gF (cput D c σ) b x k = gF σ b x k := by unfold gF; rw [cput_o h]
theorem ko_gI (h : (D b).1 = -1) {x k : Nat} : gI (cput D c σ) b x k = gI σ b x k := by unfold gI; rw [ko_gF h]
theorem ko_gA (h : (D b).1 = -1) {x k : Nat} : gA (cput D c σ) b x k = gA σ b x k := by unfold gA; rw [ko_gF h]
theorem ko_gR (h : (D b).1 = -1) {x k : Nat} : gR (cput D c σ) b x k = gR σ b x k := by unfold gR; rw [ko_gF h]
theorem ko_gL (h : (D b).1 = -1) {x k : Nat} : gL (cput D c σ) b x k = gL σ b x k := by unfold gL; rw [ko_gF h]
theorem ko_ck (h : (D b).1 = -1) {x : Nat} : ck (cput D c σ) b x = ck σ b x := by unfold ck; rw [cput_o h]
theorem ko_aI (h : (D b).1 = -1) {k : Nat} {i : Int32} : aI (cput D c σ) b k i = aI σ b k i := by unfold aI; rw [cput_o h]
theorem ko_aR (h : (D b).1 = -1) {k : Nat} {i : Int32} : aR (cput D c σ) b k i = aR σ b k i := by unfold aR; rw [cput_o h]
theorem ko_aN (h : (D b).1 = -1) : aN (cput D c σ) b = aN σ b := by unfold aN; rw [cput_o h]
theorem ko_pF (h : (D b).1 = -1) {x k : Nat} {v : mm_V} : pF (cput D c σ) b x k v = (pF σ b x k v).map (cput D c) := by
  unfold pF
  rw [cput_o h]
  split
  · split
    · rw [cput_sO h]; rfl
    · rfl
  · rfl
theorem ko_sI (h : (D b).1 = -1) {k : Nat} {i x : Int32} : sI (cput D c σ) b k i x = (sI σ b k i x).map (cput D c) := by
  unfold sI
  rw [cput_o h]
  split
  · split
    · rw [cput_sO h]; rfl
    · rfl
  · rfl
end CO
theorem ko_nO {D : Nat → Int × Int} {c : Int → Int → mm_E} {σ : mm_M} {x : Nat} {fs : List mm_V} (h : (D σ.2.1).1 = -1) : nO (cput D c σ) x fs = some (σ.2.1, cput D c (nE σ (.inl (x, fs)))) := by
  unfold nO
  rw [cput_nE h]
  rfl
theorem gF_at {σ : mm_M} {a c k : Nat} {fs : List mm_V} {v : mm_V} (h : σ.1 a = some (.inl (c, fs))) (h1 : fs[k]? = some v) : gF σ a c k = some v := by
  unfold gF
  rw [h]
  dsimp only
  rw [if_pos rfl, h1]
theorem gI_at {σ : mm_M} {a c k : Nat} {fs : List mm_V} {v : Int32} (h : σ.1 a = some (.inl (c, fs))) (h1 : fs[k]? = some (.inl v)) : gI σ a c k = some v := by
  unfold gI
  rw [gF_at h h1]
theorem gA_at {σ : mm_M} {a c k : Nat} {fs : List mm_V} {r : Nat} (h : σ.1 a = some (.inl (c, fs))) (h1 : fs[k]? = some (.inr (.inl (some r)))) : gA σ a c k = some r := by
  unfold gA
  rw [gF_at h h1]
theorem gR_at {σ : mm_M} {a c k : Nat} {fs : List mm_V} {r : Option Nat} (h : σ.1 a = some (.inl (c, fs))) (h1 : fs[k]? = some (.inr (.inl r))) : gR σ a c k = some r := by
  unfold gR
  rw [gF_at h h1]
theorem gL_at {σ : mm_M} {a c k : Nat} {fs : List mm_V} {r : Int64} (h : σ.1 a = some (.inl (c, fs))) (h1 : fs[k]? = some (.inr (.inr r))) : gL σ a c k = some r := by
  unfold gL
  rw [gF_at h h1]
theorem ck_at {σ : mm_M} {a c : Nat} {fs : List mm_V} (h : σ.1 a = some (.inl (c, fs))) : ck σ a c = some () := by
  unfold ck
  rw [h]
  dsimp only
  rw [if_pos rfl]
theorem pF_at {σ : mm_M} {a c k : Nat} {fs : List mm_V} {v : mm_V} (h : σ.1 a = some (.inl (c, fs))) (h1 : k < fs.length) : pF σ a c k v = some (sE σ a (.inl (c, fs.set k v))) := by
  unfold pF
  rw [h]
  dsimp only
  rw [if_pos ⟨rfl, h1⟩]
theorem aR_at {σ : mm_M} {a k n : Nat} {f : Nat → Option Nat} (h : σ.1 a = some (.inr (.inr (k, n, f)))) {z : Int} (h1 : 0 ≤ z) (h2 : z < n) (h3 : z < 2147483648) : aR σ a k (J z) = some (f z.toNat) := by
  unfold aR
  rw [h]
  dsimp only
  rw [J_toInt (by omega) h3, if_pos ⟨rfl, h1, h2⟩, J_clamp h1 h3]
theorem sR_at {σ : mm_M} {a k n : Nat} {f : Nat → Option Nat} (h : σ.1 a = some (.inr (.inr (k, n, f)))) {z : Int} {r : Option Nat} (h1 : 0 ≤ z) (h2 : z < n) (h3 : z < 2147483648) (h4 : okR σ k r = true) : sR σ a k (J z) r = some (sE σ a (.inr (.inr (k, n, va_up f z.toNat r)))) := by
  unfold sR
  rw [h]
  dsimp only
  rw [J_toInt (by omega) h3, if_pos ⟨rfl, h1, h2, h4⟩, J_clamp h1 h3]
theorem aN_r0 {σ : mm_M} {a n k : Nat} {g : Nat → Option Nat} (h : σ.1 a = some (.inr (.inr (k, n, g)))) (hk : 3 ≤ k ∧ k < 6) : aN σ a = some (J n) := by
  unfold aN
  rw [h]
  dsimp only
  rw [if_pos hk, J_nat]
/-- a row of rows, changed -/
def up2 (f : Int → Int → Int) (a : Int) (g : Int → Int) : Int → Int → Int := fun b => if b = a then g else f b
theorem up2_s (f : Int → Int → Int) (a : Int) (g : Int → Int) : up2 f a g a = g := by simp [up2]
section CW
variable {adk nfk ndk pnk agk mkk rok wek plk txk : Int → Int} {flk dtk : Int → Int → Int} {hwk dpk alk cok fek lnk tlk rfk : Int} {rpk : Option Nat} {mok : Int32} {eak cpk : Nat} {elk owk skk slk : Nat → Option Nat} {hsk : Int64} {D : Nat → Int × Int} {G : Int → Int → Nat} {σ : mm_M} {a : Int}
theorem cc_th (h : TH D G a) : (cput D (cel G adk nfk ndk pnk agk mkk flk dtk hwk dpk alk cok fek rpk rok wek plk mok eak lnk cpk elk owk skk txk tlk rfk slk hsk) σ).1 (G 0 a) = some (eO 3 [vI (J (adk a)), vR (some (G 1 a)), vR (some (G 2 a)), vI (J (pnk a)), vI (J (agk a)), vI (J (mkk a))]) := cput_at h.1 (by decide)
theorem cc_fl (h : TH D G a) : (cput D (cel G adk nfk ndk pnk agk mkk flk dtk hwk dpk alk cok fek rpk rok wek plk mok eak lnk cpk elk owk skk txk tlk rfk slk hsk) σ).1 (G 1 a) = some (eI 0 (nfk a).toNat (rw_ (flk a))) := cput_at h.2.1 (by decide)
theorem cc_dt (h : TH D G a) : (cput D (cel G adk nfk ndk pnk agk mkk flk dtk hwk dpk alk cok fek rpk rok wek plk mok eak lnk cpk elk owk skk txk tlk rfk slk hsk) σ).1 (G 2 a) = some (eI 0 (ndk a).toNat (rw_ (dtk a))) := cput_at h.2.2 (by decide)
theorem cc_0 (h : LU D G) : (cput D (cel G adk nfk ndk pnk agk mkk flk dtk hwk dpk alk cok fek rpk rok wek plk mok eak lnk cpk elk owk skk txk tlk rfk slk hsk) σ).1 (G 3 0) = some (eO 15 [vI mok, vR (some eak), vI (J lnk)]) := cput_at h.2 (by decide)
theorem cc_1 (h : HU D G) : (cput D (cel G adk nfk ndk pnk agk mkk flk dtk hwk dpk alk cok fek rpk rok wek plk mok eak lnk cpk elk owk skk txk tlk rfk slk hsk) σ).1 (G 3 1) = some (eR 3 200 owk) := cput_at h.2.2.1 (by decide)
theorem cc_2 (h : GU D G 3 2) : (cput D (cel G adk nfk ndk pnk agk mkk flk dtk hwk dpk alk cok fek rpk rok wek plk mok eak lnk cpk elk owk skk txk tlk rfk slk hsk) σ).1 (G 3 2) = some (eR 5 cpk elk) := cput_at h (by decide)
theorem cc_3 (h : HU D G) : (cput D (cel G adk nfk ndk pnk agk mkk flk dtk hwk dpk alk cok fek rpk rok wek plk mok eak lnk cpk elk owk skk txk tlk rfk slk hsk) σ).1 (G 3 3) = some (eI 0 6 (rw_ rok)) := cput_at h.2.2.2.1 (by decide)
theorem cc_4 (h : HU D G) : (cput D (cel G adk nfk ndk pnk agk mkk flk dtk hwk dpk alk cok fek rpk rok wek plk mok eak lnk cpk elk owk skk txk tlk rfk slk hsk) σ).1 (G 3 4) = some (eI 0 4 (rw_ wek)) := cput_at h.2.2.2.2.1 (by decide)
theorem cc_5 (h : HU D G) : (cput D (cel G adk nfk ndk pnk agk mkk flk dtk hwk dpk alk cok fek rpk rok wek plk mok eak lnk cpk elk owk skk txk tlk rfk slk hsk) σ).1 (G 3 5) = some (eI 0 200 (rw_ plk)) := cput_at h.2.2.2.2.2.1 (by decide)
theorem cc_6 (h : HU D G) : (cput D (cel G adk nfk ndk pnk agk mkk flk dtk hwk dpk alk cok fek rpk rok wek plk mok eak lnk cpk elk owk skk txk tlk rfk slk hsk) σ).1 (G 3 6) = some (eO 1 [vI (J hwk), vI (J dpk), vR (some (G 3 0)), vR (some (G 3 1)), vR (some (G 3 3)), vR (some (G 3 4)), vI (J alk), vI (J cok), vI (J fek), vR rpk, vR (some (G 3 5))]) := cput_at h.2.2.2.2.2.2 (by decide)
theorem cc_7 (h : XU D G) : (cput D (cel G adk nfk ndk pnk agk mkk flk dtk hwk dpk alk cok fek rpk rok wek plk mok eak lnk cpk elk owk skk txk tlk rfk slk hsk) σ).1 (G 3 7) = some (eO 0 [vR (some (G 3 6)), vR (some (G 3 8)), vR (some (G 3 9)), vI (J tlk), vI (J rfk), vR (some (G 3 10)), vL hsk]) := cput_at h.1 (by decide)
theorem cc_8 (h : XU D G) : (cput D (cel G adk nfk ndk pnk agk mkk flk dtk hwk dpk alk cok fek rpk rok wek plk mok eak lnk cpk elk owk skk txk tlk rfk slk hsk) σ).1 (G 3 8) = some (eR 3 200 skk) := cput_at h.2.1 (by decide)
theorem cc_9 (h : XU D G) : (cput D (cel G adk nfk ndk pnk agk mkk flk dtk hwk dpk alk cok fek rpk rok wek plk mok eak lnk cpk elk owk skk txk tlk rfk slk hsk) σ).1 (G 3 9) = some (eI 2 80 (rw_ txk)) := cput_at h.2.2.1 (by decide)
theorem cc_10 (h : XU D G) : (cput D (cel G adk nfk ndk pnk agk mkk flk dtk hwk dpk alk cok fek rpk rok wek plk mok eak lnk cpk elk owk skk txk tlk rfk slk hsk) σ).1 (G 3 10) = some (eR 4 2 slk) := cput_at h.2.2.2 (by decide)
theorem cw_gadk (h : TH D G a) : gI (cput D (cel G adk nfk ndk pnk agk mkk flk dtk hwk dpk alk cok fek rpk rok wek plk mok eak lnk cpk elk owk skk txk tlk rfk slk hsk) σ) (G 0 a) 3 0 = some (J (adk a)) := gI_at (cc_th h) rfl
theorem cw_gpnk (h : TH D G a) : gI (cput D (cel G adk nfk ndk pnk agk mkk flk dtk hwk dpk alk cok fek rpk rok wek plk mok eak lnk cpk elk owk skk txk tlk rfk slk hsk) σ) (G 0 a) 3 3 = some (J (pnk a)) := gI_at (cc_th h) rfl
theorem cw_gagk (h : TH D G a) : gI (cput D (cel G adk nfk ndk pnk agk mkk flk dtk hwk dpk alk cok fek rpk rok wek plk mok eak lnk cpk elk owk skk txk tlk rfk slk hsk) σ) (G 0 a) 3 4 = some (J (agk a)) := gI_at (cc_th h) rfl
theorem cw_gmkk (h : TH D G a) : gI (cput D (cel G adk nfk ndk pnk agk mkk flk dtk hwk dpk alk cok fek rpk rok wek plk mok eak lnk cpk elk owk skk txk tlk rfk slk hsk) σ) (G 0 a) 3 5 = some (J (mkk a)) := gI_at (cc_th h) rfl
theorem cw_gfl (h : TH D G a) : gA (cput D (cel G adk nfk ndk pnk agk mkk flk dtk hwk dpk alk cok fek rpk rok wek plk mok eak lnk cpk elk owk skk txk tlk rfk slk hsk) σ) (G 0 a) 3 1 = some (G 1 a) := gA_at (cc_th h) rfl
theorem cw_gdt (h : TH D G a) : gA (cput D (cel G adk nfk ndk pnk agk mkk flk dtk hwk dpk alk cok fek rpk rok wek plk mok eak lnk cpk elk owk skk txk tlk rfk slk hsk) σ) (G 0 a) 3 2 = some (G 2 a) := gA_at (cc_th h) rfl
theorem cw_kth (h : TH D G a) : ck (cput D (cel G adk nfk ndk pnk agk mkk flk dtk hwk dpk alk cok fek rpk rok wek plk mok eak lnk cpk elk owk skk txk tlk rfk slk hsk) σ) (G 0 a) 3 = some () := ck_at (cc_th h)
theorem cw_afl (h : TH D G a) {z : Int} (h1 : 0 ≤ z) (h2 : z < nfk a) (h3 : z < 2147483648) : aI (cput D (cel G adk nfk ndk pnk agk mkk flk dtk hwk dpk alk cok fek rpk rok wek plk mok eak lnk cpk elk owk skk txk tlk rfk slk hsk) σ) (G 1 a) 0 (J z) = some (J (flk a z)) := aI_rw (cc_fl h) h1 (by omega) h3
theorem cw_nfl (h : TH D G a) (h1 : 0 ≤ nfk a) : aN (cput D (cel G adk nfk ndk pnk agk mkk flk dtk hwk dpk alk cok fek rpk rok wek plk mok eak lnk cpk elk owk skk txk tlk rfk slk hsk) σ) (G 1 a) = some (J (nfk a)) := by
  rw [aN_i0 (cc_fl h) (by decide), Int.toNat_of_nonneg h1]
theorem cw_adt (h : TH D G a) {z : Int} (h1 : 0 ≤ z) (h2 : z < ndk a) (h3 : z < 2147483648) : aI (cput D (cel G adk nfk ndk pnk agk mkk flk dtk hwk dpk alk cok fek rpk rok wek plk mok eak lnk cpk elk owk skk txk tlk rfk slk hsk) σ) (G 2 a) 0 (J z) = some (J (dtk a z)) := aI_rw (cc_dt h) h1 (by omega) h3
theorem cw_ndt (h : TH D G a) (h1 : 0 ≤ ndk a) : aN (cput D (cel G adk nfk ndk pnk agk mkk flk dtk hwk dpk alk cok fek rpk rok wek plk mok eak lnk cpk elk owk skk txk tlk rfk slk hsk) σ) (G 2 a) = some (J (ndk a)) := by
  rw [aN_i0 (cc_dt h) (by decide), Int.toNat_of_nonneg h1]
theorem cw_gmok (h : LU D G) : gI (cput D (cel G adk nfk ndk pnk agk mkk flk dtk hwk dpk alk cok fek rpk rok wek plk mok eak lnk cpk elk owk skk txk tlk rfk slk hsk) σ) (G 3 0) 15 0 = some mok := gI_at (cc_0 h) rfl
theorem cw_geak (h : LU D G) : gA (cput D (cel G adk nfk ndk pnk agk mkk flk dtk hwk dpk alk cok fek rpk rok wek plk mok eak lnk cpk elk owk skk txk tlk rfk slk hsk) σ) (G 3 0) 15 1 = some eak := gA_at (cc_0 h) rfl
theorem cw_glnk (h : LU D G) : gI (cput D (cel G adk nfk ndk pnk agk mkk flk dtk hwk dpk alk cok fek rpk rok wek plk mok eak lnk cpk elk owk skk txk tlk rfk slk hsk) σ) (G 3 0) 15 2 = some (J lnk) := gI_at (cc_0 h) rfl
theorem cw_k0 (h : LU D G) : ck (cput D (cel G adk nfk ndk pnk agk mkk flk dtk hwk dpk alk cok fek rpk rok wek plk mok eak lnk cpk elk owk skk txk tlk rfk slk hsk) σ) (G 3 0) 15 = some () := ck_at (cc_0 h)
theorem cw_k6 (h : HU D G) : ck (cput D (cel G adk nfk ndk pnk agk mkk flk dtk hwk dpk alk cok fek rpk rok wek plk mok eak lnk cpk elk owk skk txk tlk rfk slk hsk) σ) (G 3 6) 1 = some () := ck_at (cc_6 h)
theorem cw_k7 (h : XU D G) : ck (cput D (cel G adk nfk ndk pnk agk mkk flk dtk hwk dpk alk cok fek rpk rok wek plk mok eak lnk cpk elk owk skk txk tlk rfk slk hsk) σ) (G 3 7) 0 = some () := ck_at (cc_7 h)
theorem cw_aowk (h : HU D G) {z : Int} (h1 : 0 ≤ z) (h2 : z < 200) (h3 : z < 2147483648) : aR (cput D (cel G adk nfk ndk pnk agk mkk flk dtk hwk dpk alk cok fek rpk rok wek plk mok eak lnk cpk elk owk skk txk tlk rfk slk hsk) σ) (G 3 1) 3 (J z) = some (owk z.toNat) := aR_at (cc_1 h) h1 h2 h3
theorem cw_aelk (h : GU D G 3 2) {z : Int} (h1 : 0 ≤ z) (h2 : z < cpk) (h3 : z < 2147483648) : aR (cput D (cel G adk nfk ndk pnk agk mkk flk dtk hwk dpk alk cok fek rpk rok wek plk mok eak lnk cpk elk owk skk txk tlk rfk slk hsk) σ) (G 3 2) 5 (J z) = some (elk z.toNat) := aR_at (cc_2 h) h1 h2 h3
theorem cw_askk (h : XU D G) {z : Int} (h1 : 0 ≤ z) (h2 : z < 200) (h3 : z < 2147483648) : aR (cput D (cel G adk nfk ndk pnk agk mkk flk dtk hwk dpk alk cok fek rpk rok wek plk mok eak lnk cpk elk owk skk txk tlk rfk slk hsk) σ) (G 3 8) 3 (J z) = some (skk z.toNat) := aR_at (cc_8 h) h1 h2 h3
theorem cw_aslk (h : XU D G) {z : Int} (h1 : 0 ≤ z) (h2 : z < 2) (h3 : z < 2147483648) : aR (cput D (cel G adk nfk ndk pnk agk mkk flk dtk hwk dpk alk cok fek rpk rok wek plk mok eak lnk cpk elk owk skk txk tlk rfk slk hsk) σ) (G 3 10) 4 (J z) = some (slk z.toNat) := aR_at (cc_10 h) h1 h2 h3
theorem cw_nelk (h : GU D G 3 2) : aN (cput D (cel G adk nfk ndk pnk agk mkk flk dtk hwk dpk alk cok fek rpk rok wek plk mok eak lnk cpk elk owk skk txk tlk rfk slk hsk) σ) (G 3 2) = some (J cpk) := aN_r0 (cc_2 h) (by decide)
theorem cw_arok (h : HU D G) {z : Int} (h1 : 0 ≤ z) (h2 : z < 6) : aI (cput D (cel G adk nfk ndk pnk agk mkk flk dtk hwk dpk alk cok fek rpk rok wek plk mok eak lnk cpk elk owk skk txk tlk rfk slk hsk) σ) (G 3 3) 0 (J z) = some (J (rok z)) := aI_rw (cc_3 h) h1 h2 (by omega)
theorem cw_nrok (h : HU D G) : aN (cput D (cel G adk nfk ndk pnk agk mkk flk dtk hwk dpk alk cok fek rpk rok wek plk mok eak lnk cpk elk owk skk txk tlk rfk slk hsk) σ) (G 3 3) = some (J 6) := aN_i0 (cc_3 h) (by decide)
theorem cw_awek (h : HU D G) {z : Int} (h1 : 0 ≤ z) (h2 : z < 4) : aI (cput D (cel G adk nfk ndk pnk agk mkk flk dtk hwk dpk alk cok fek rpk rok wek plk mok eak lnk cpk elk owk skk txk tlk rfk slk hsk) σ) (G 3 4) 0 (J z) = some (J (wek z)) := aI_rw (cc_4 h) h1 h2 (by omega)
theorem cw_nwek (h : HU D G) : aN (cput D (cel G adk nfk ndk pnk agk mkk flk dtk hwk dpk alk cok fek rpk rok wek plk mok eak lnk cpk elk owk skk txk tlk rfk slk hsk) σ) (G 3 4) = some (J 4) := aN_i0 (cc_4 h) (by decide)
theorem cw_aplk (h : HU D G) {z : Int} (h1 : 0 ≤ z) (h2 : z < 200) : aI (cput D (cel G adk nfk ndk pnk agk mkk flk dtk hwk dpk alk cok fek rpk rok wek plk mok eak lnk cpk elk owk skk txk tlk rfk slk hsk) σ) (G 3 5) 0 (J z) = some (J (plk z)) := aI_rw (cc_5 h) h1 h2 (by omega)
theorem cw_nplk (h : HU D G) : aN (cput D (cel G adk nfk ndk pnk agk mkk flk dtk hwk dpk alk cok fek rpk rok wek plk mok eak lnk cpk elk owk skk txk tlk rfk slk hsk) σ) (G 3 5) = some (J 200) := aN_i0 (cc_5 h) (by decide)
theorem cw_atxk (h : XU D G) {z : Int} (h1 : 0 ≤ z) (h2 : z < 80) : aI (cput D (cel G adk nfk ndk pnk agk mkk flk dtk hwk dpk alk cok fek rpk rok wek plk mok eak lnk cpk elk owk skk txk tlk rfk slk hsk) σ) (G 3 9) 2 (J z) = some (J (txk z)) := aI_rw (cc_9 h) h1 h2 (by omega)
theorem cw_ntxk (h : XU D G) : aN (cput D (cel G adk nfk ndk pnk agk mkk flk dtk hwk dpk alk cok fek rpk rok wek plk mok eak lnk cpk elk owk skk txk tlk rfk slk hsk) σ) (G 3 9) = some (J 80) := aN_i0 (cc_9 h) (by decide)
theorem cw_ghwk (h : HU D G) : gI (cput D (cel G adk nfk ndk pnk agk mkk flk dtk hwk dpk alk cok fek rpk rok wek plk mok eak lnk cpk elk owk skk txk tlk rfk slk hsk) σ) (G 3 6) 1 0 = some (J hwk) := gI_at (cc_6 h) rfl
theorem cw_gdpk (h : HU D G) : gI (cput D (cel G adk nfk ndk pnk agk mkk flk dtk hwk dpk alk cok fek rpk rok wek plk mok eak lnk cpk elk owk skk txk tlk rfk slk hsk) σ) (G 3 6) 1 1 = some (J dpk) := gI_at (cc_6 h) rfl
theorem cw_galk (h : HU D G) : gI (cput D (cel G adk nfk ndk pnk agk mkk flk dtk hwk dpk alk cok fek rpk rok wek plk mok eak lnk cpk elk owk skk txk tlk rfk slk hsk) σ) (G 3 6) 1 6 = some (J alk) := gI_at (cc_6 h) rfl
theorem cw_gcok (h : HU D G) : gI (cput D (cel G adk nfk ndk pnk agk mkk flk dtk hwk dpk alk cok fek rpk rok wek plk mok eak lnk cpk elk owk skk txk tlk rfk slk hsk) σ) (G 3 6) 1 7 = some (J cok) := gI_at (cc_6 h) rfl
theorem cw_gfek (h : HU D G) : gI (cput D (cel G adk nfk ndk pnk agk mkk flk dtk hwk dpk alk cok fek rpk rok wek plk mok eak lnk cpk elk owk skk txk tlk rfk slk hsk) σ) (G 3 6) 1 8 = some (J fek) := gI_at (cc_6 h) rfl
theorem cw_h2 (h : HU D G) : gA (cput D (cel G adk nfk ndk pnk agk mkk flk dtk hwk dpk alk cok fek rpk rok wek plk mok eak lnk cpk elk owk skk txk tlk rfk slk hsk) σ) (G 3 6) 1 2 = some (G 3 0) := gA_at (cc_6 h) rfl
theorem cw_h3 (h : HU D G) : gA (cput D (cel G adk nfk ndk pnk agk mkk flk dtk hwk dpk alk cok fek rpk rok wek plk mok eak lnk cpk elk owk skk txk tlk rfk slk hsk) σ) (G 3 6) 1 3 = some (G 3 1) := gA_at (cc_6 h) rfl
theorem cw_h4 (h : HU D G) : gA (cput D (cel G adk nfk ndk pnk agk mkk flk dtk hwk dpk alk cok fek rpk rok wek plk mok eak lnk cpk elk owk skk txk tlk rfk slk hsk) σ) (G 3 6) 1 4 = some (G 3 3) := gA_at (cc_6 h) rfl
theorem cw_h5 (h : HU D G) : gA (cput D (cel G adk nfk ndk pnk agk mkk flk dtk hwk dpk alk cok fek rpk rok wek plk mok eak lnk cpk elk owk skk txk tlk rfk slk hsk) σ) (G 3 6) 1 5 = some (G 3 4) := gA_at (cc_6 h) rfl
theorem cw_h10 (h : HU D G) : gA (cput D (cel G adk nfk ndk pnk agk mkk flk dtk hwk dpk alk cok fek rpk rok wek plk mok eak lnk cpk elk owk skk txk tlk rfk slk hsk) σ) (G 3 6) 1 10 = some (G 3 5) := gA_at (cc_6 h) rfl
theorem cw_grpk (h : HU D G) : gR (cput D (cel G adk nfk ndk pnk agk mkk flk dtk hwk dpk alk cok fek rpk rok wek plk mok eak lnk cpk elk owk skk txk tlk rfk slk hsk) σ) (G 3 6) 1 9 = some rpk := gR_at (cc_6 h) rfl
theorem cw_x0 (h : XU D G) : gA (cput D (cel G adk nfk ndk pnk agk mkk flk dtk hwk dpk alk cok fek rpk rok wek plk mok eak lnk cpk elk owk skk txk tlk rfk slk hsk) σ) (G 3 7) 0 0 = some (G 3 6) := gA_at (cc_7 h) rfl
theorem cw_x1 (h : XU D G) : gA (cput D (cel G adk nfk ndk pnk agk mkk flk dtk hwk dpk alk cok fek rpk rok wek plk mok eak lnk cpk elk owk skk txk tlk rfk slk hsk) σ) (G 3 7) 0 1 = some (G 3 8) := gA_at (cc_7 h) rfl
theorem cw_x2 (h : XU D G) : gA (cput D (cel G adk nfk ndk pnk agk mkk flk dtk hwk dpk alk cok fek rpk rok wek plk mok eak lnk cpk elk owk skk txk tlk rfk slk hsk) σ) (G 3 7) 0 2 = some (G 3 9) := gA_at (cc_7 h) rfl
theorem cw_x5 (h : XU D G) : gA (cput D (cel G adk nfk ndk pnk agk mkk flk dtk hwk dpk alk cok fek rpk rok wek plk mok eak lnk cpk elk owk skk txk tlk rfk slk hsk) σ) (G 3 7) 0 5 = some (G 3 10) := gA_at (cc_7 h) rfl
theorem cw_gtlk (h : XU D G) : gI (cput D (cel G adk nfk ndk pnk agk mkk flk dtk hwk dpk alk cok fek rpk rok wek plk mok eak lnk cpk elk owk skk txk tlk rfk slk hsk) σ) (G 3 7) 0 3 = some (J tlk) := gI_at (cc_7 h) rfl
theorem cw_grfk (h : XU D G) : gI (cput D (cel G adk nfk ndk pnk agk mkk flk dtk hwk dpk alk cok fek rpk rok wek plk mok eak lnk cpk elk owk skk txk tlk rfk slk hsk) σ) (G 3 7) 0 4 = some (J rfk) := gI_at (cc_7 h) rfl
theorem cw_ghsk (h : XU D G) : gL (cput D (cel G adk nfk ndk pnk agk mkk flk dtk hwk dpk alk cok fek rpk rok wek plk mok eak lnk cpk elk owk skk txk tlk rfk slk hsk) σ) (G 3 7) 0 6 = some hsk := gL_at (cc_7 h) rfl
theorem cw_padk (hg : HU D G) (h : TH D G a) {v : Int} : pF (cput D (cel G adk nfk ndk pnk agk mkk flk dtk hwk dpk alk cok fek rpk rok wek plk mok eak lnk cpk elk owk skk txk tlk rfk slk hsk) σ) (G 0 a) 3 0 (vI (J v)) = some (cput D (cel G (up adk a v) nfk ndk pnk agk mkk flk dtk hwk dpk alk cok fek rpk rok wek plk mok eak lnk cpk elk owk skk txk tlk rfk slk hsk) σ) := by
  rw [pF_at (cc_th h) (by simp)]
  refine congrArg some (cput_sE hg.1 h.1 (by decide) (by simp [cel, up, up2, rw_]) (by
    intro k' a' hn
    by_cases h0 : k' = 0
    · have h9 : ¬ a' = a := fun q => hn ⟨h0, q⟩
      subst h0
      simp only [cel, up, up2, if_neg h9]
    · simp only [cel, if_neg h0]))
theorem cw_pagk (hg : HU D G) (h : TH D G a) {v : Int} : pF (cput D (cel G adk nfk ndk pnk agk mkk flk dtk hwk dpk alk cok fek rpk rok wek plk mok eak lnk cpk elk owk skk txk tlk rfk slk hsk) σ) (G 0 a) 3 4 (vI (J v)) = some (cput D (cel G adk nfk ndk pnk (up agk a v) mkk flk dtk hwk dpk alk cok fek rpk rok wek plk mok eak lnk cpk elk owk skk txk tlk rfk slk hsk) σ) := by
  rw [pF_at (cc_th h) (by simp)]
  refine congrArg some (cput_sE hg.1 h.1 (by decide) (by simp [cel, up, up2, rw_]) (by
    intro k' a' hn
    by_cases h0 : k' = 0
    · have h9 : ¬ a' = a := fun q => hn ⟨h0, q⟩
      subst h0
      simp only [cel, up, up2, if_neg h9]
    · simp only [cel, if_neg h0]))
theorem cw_pmkk (hg : HU D G) (h : TH D G a) {v : Int} : pF (cput D (cel G adk nfk ndk pnk agk mkk flk dtk hwk dpk alk cok fek rpk rok wek plk mok eak lnk cpk elk owk skk txk tlk rfk slk hsk) σ) (G 0 a) 3 5 (vI (J v)) = some (cput D (cel G adk nfk ndk pnk agk (up mkk a v) flk dtk hwk dpk alk cok fek rpk rok wek plk mok eak lnk cpk elk owk skk txk tlk rfk slk hsk) σ) := by
  rw [pF_at (cc_th h) (by simp)]
  refine congrArg some (cput_sE hg.1 h.1 (by decide) (by simp [cel, up, up2, rw_]) (by
    intro k' a' hn
    by_cases h0 : k' = 0
    · have h9 : ¬ a' = a := fun q => hn ⟨h0, q⟩
      subst h0
      simp only [cel, up, up2, if_neg h9]
    · simp only [cel, if_neg h0]))
theorem cw_ppnk (hg : HU D G) (h : TH D G a) {v : Int} : pF (cput D (cel G adk nfk ndk pnk agk mkk flk dtk hwk dpk alk cok fek rpk rok wek plk mok eak lnk cpk elk owk skk txk tlk rfk slk hsk) σ) (G 0 a) 3 3 (vI (J v)) = some (cput D (cel G adk nfk ndk (up pnk a v) agk mkk flk dtk hwk dpk alk cok fek rpk rok wek plk mok eak lnk cpk elk owk skk txk tlk rfk slk hsk) σ) := by
  rw [pF_at (cc_th h) (by simp)]
  refine congrArg some (cput_sE hg.1 h.1 (by decide) (by simp [cel, up, up2, rw_]) (by
    intro k' a' hn
    by_cases h0 : k' = 0
    · have h9 : ¬ a' = a := fun q => hn ⟨h0, q⟩
      subst h0
      simp only [cel, up, up2, if_neg h9]
    · simp only [cel, if_neg h0]))
theorem cw_zpnk (hg : HU D G) (h : TH D G a) {v : Int} (hv : v = 0 ∨ v = 1) : pZ (cput D (cel G adk nfk ndk pnk agk mkk flk dtk hwk dpk alk cok fek rpk rok wek plk mok eak lnk cpk elk owk skk txk tlk rfk slk hsk) σ) (G 0 a) 3 3 (J v) = some (cput D (cel G adk nfk ndk (up pnk a v) agk mkk flk dtk hwk dpk alk cok fek rpk rok wek plk mok eak lnk cpk elk owk skk txk tlk rfk slk hsk) σ) := by
  unfold pZ
  have h9 : J v = 0 ∨ J v = 1 := by
    rcases hv with h | h
    · subst h
      exact Or.inl rfl
    · subst h
      exact Or.inr rfl
  rw [if_pos h9, cw_ppnk hg h]
theorem cw_sfl (hg : HU D G) (h : TH D G a) {z v : Int} (h1 : 0 ≤ z) (h2 : z < nfk a) (h3 : z < 2147483648) : sI (cput D (cel G adk nfk ndk pnk agk mkk flk dtk hwk dpk alk cok fek rpk rok wek plk mok eak lnk cpk elk owk skk txk tlk rfk slk hsk) σ) (G 1 a) 0 (J z) (J v) = some (cput D (cel G adk nfk ndk pnk agk mkk (up2 flk a (up (flk a) z v)) dtk hwk dpk alk cok fek rpk rok wek plk mok eak lnk cpk elk owk skk txk tlk rfk slk hsk) σ) := by
  rw [sI_rw (cc_fl h) v h1 (by omega) h3]
  refine congrArg some (cput_sE hg.1 h.2.1 (by decide) (by simp [cel, up, up2, rw_]) (by
    intro k' a' hn
    by_cases h0 : k' = 1
    · have h9 : ¬ a' = a := fun q => hn ⟨h0, q⟩
      subst h0
      simp only [cel, up, up2, if_neg h9]
    · simp only [cel, if_neg h0]))
theorem cw_sdt (hg : HU D G) (h : TH D G a) {z v : Int} (h1 : 0 ≤ z) (h2 : z < ndk a) (h3 : z < 2147483648) : sI (cput D (cel G adk nfk ndk pnk agk mkk flk dtk hwk dpk alk cok fek rpk rok wek plk mok eak lnk cpk elk owk skk txk tlk rfk slk hsk) σ) (G 2 a) 0 (J z) (J v) = some (cput D (cel G adk nfk ndk pnk agk mkk flk (up2 dtk a (up (dtk a) z v)) hwk dpk alk cok fek rpk rok wek plk mok eak lnk cpk elk owk skk txk tlk rfk slk hsk) σ) := by
  rw [sI_rw (cc_dt h) v h1 (by omega) h3]
  refine congrArg some (cput_sE hg.1 h.2.2 (by decide) (by simp [cel, up, up2, rw_]) (by
    intro k' a' hn
    by_cases h0 : k' = 2
    · have h9 : ¬ a' = a := fun q => hn ⟨h0, q⟩
      subst h0
      simp only [cel, up, up2, if_neg h9]
    · simp only [cel, if_neg h0]))
theorem cw_pmok (hg : LU D G) {v : Int32} : pF (cput D (cel G adk nfk ndk pnk agk mkk flk dtk hwk dpk alk cok fek rpk rok wek plk mok eak lnk cpk elk owk skk txk tlk rfk slk hsk) σ) (G 3 0) 15 0 (vI v) = some (cput D (cel G adk nfk ndk pnk agk mkk flk dtk hwk dpk alk cok fek rpk rok wek plk v eak lnk cpk elk owk skk txk tlk rfk slk hsk) σ) := by
  rw [pF_at (cc_0 hg) (by simp)]
  refine congrArg some (cput_sE hg.1 hg.2 (by decide) (by simp [cel, up, up2, rw_]) (by
    intro k' a' hn
    simp only [cel, if_neg hn]))
theorem cw_peak (hg : LU D G) {v : Nat} : pF (cput D (cel G adk nfk ndk pnk agk mkk flk dtk hwk dpk alk cok fek rpk rok wek plk mok eak lnk cpk elk owk skk txk tlk rfk slk hsk) σ) (G 3 0) 15 1 (vR (some v)) = some (cput D (cel G adk nfk ndk pnk agk mkk flk dtk hwk dpk alk cok fek rpk rok wek plk mok v lnk cpk elk owk skk txk tlk rfk slk hsk) σ) := by
  rw [pF_at (cc_0 hg) (by simp)]
  refine congrArg some (cput_sE hg.1 hg.2 (by decide) (by simp [cel, up, up2, rw_]) (by
    intro k' a' hn
    simp only [cel, if_neg hn]))
theorem cw_plnk (hg : LU D G) {v : Int} : pF (cput D (cel G adk nfk ndk pnk agk mkk flk dtk hwk dpk alk cok fek rpk rok wek plk mok eak lnk cpk elk owk skk txk tlk rfk slk hsk) σ) (G 3 0) 15 2 (vI (J v)) = some (cput D (cel G adk nfk ndk pnk agk mkk flk dtk hwk dpk alk cok fek rpk rok wek plk mok eak v cpk elk owk skk txk tlk rfk slk hsk) σ) := by
  rw [pF_at (cc_0 hg) (by simp)]
  refine congrArg some (cput_sE hg.1 hg.2 (by decide) (by simp [cel, up, up2, rw_]) (by
    intro k' a' hn
    simp only [cel, if_neg hn]))
theorem cw_sowk (hg : HU D G)  {z : Int} {r : Option Nat} (h1 : 0 ≤ z) (h2 : z < 200) (h3 : z < 2147483648) (h4 : okR (cput D (cel G adk nfk ndk pnk agk mkk flk dtk hwk dpk alk cok fek rpk rok wek plk mok eak lnk cpk elk owk skk txk tlk rfk slk hsk) σ) 3 r = true) : sR (cput D (cel G adk nfk ndk pnk agk mkk flk dtk hwk dpk alk cok fek rpk rok wek plk mok eak lnk cpk elk owk skk txk tlk rfk slk hsk) σ) (G 3 1) 3 (J z) r = some (cput D (cel G adk nfk ndk pnk agk mkk flk dtk hwk dpk alk cok fek rpk rok wek plk mok eak lnk cpk elk (va_up owk z.toNat r) skk txk tlk rfk slk hsk) σ) := by
  rw [sR_at (cc_1 hg) h1 h2 h3 h4]
  refine congrArg some (cput_sE hg.1 hg.2.2.1 (by decide) (by simp [cel, up, up2, rw_]) (by
    intro k' a' hn
    simp only [cel, if_neg hn]))
theorem cw_selk (hg : LU D G) (h : GU D G 3 2) {z : Int} {r : Option Nat} (h1 : 0 ≤ z) (h2 : z < cpk) (h3 : z < 2147483648) (h4 : okR (cput D (cel G adk nfk ndk pnk agk mkk flk dtk hwk dpk alk cok fek rpk rok wek plk mok eak lnk cpk elk owk skk txk tlk rfk slk hsk) σ) 5 r = true) : sR (cput D (cel G adk nfk ndk pnk agk mkk flk dtk hwk dpk alk cok fek rpk rok wek plk mok eak lnk cpk elk owk skk txk tlk rfk slk hsk) σ) (G 3 2) 5 (J z) r = some (cput D (cel G adk nfk ndk pnk agk mkk flk dtk hwk dpk alk cok fek rpk rok wek plk mok eak lnk cpk (va_up elk z.toNat r) owk skk txk tlk rfk slk hsk) σ) := by
  rw [sR_at (cc_2 h) h1 h2 h3 h4]
  refine congrArg some (cput_sE hg.1 h (by decide) (by simp [cel, up, up2, rw_]) (by
    intro k' a' hn
    simp only [cel, if_neg hn]))
theorem cw_sskk (hg : HU D G) (h : XU D G) {z : Int} {r : Option Nat} (h1 : 0 ≤ z) (h2 : z < 200) (h3 : z < 2147483648) (h4 : okR (cput D (cel G adk nfk ndk pnk agk mkk flk dtk hwk dpk alk cok fek rpk rok wek plk mok eak lnk cpk elk owk skk txk tlk rfk slk hsk) σ) 3 r = true) : sR (cput D (cel G adk nfk ndk pnk agk mkk flk dtk hwk dpk alk cok fek rpk rok wek plk mok eak lnk cpk elk owk skk txk tlk rfk slk hsk) σ) (G 3 8) 3 (J z) r = some (cput D (cel G adk nfk ndk pnk agk mkk flk dtk hwk dpk alk cok fek rpk rok wek plk mok eak lnk cpk elk owk (va_up skk z.toNat r) txk tlk rfk slk hsk) σ) := by
  rw [sR_at (cc_8 h) h1 h2 h3 h4]
  refine congrArg some (cput_sE hg.1 h.2.1 (by decide) (by simp [cel, up, up2, rw_]) (by
    intro k' a' hn
    simp only [cel, if_neg hn]))
theorem cw_sslk (hg : HU D G) (h : XU D G) {z : Int} {r : Option Nat} (h1 : 0 ≤ z) (h2 : z < 2) (h3 : z < 2147483648) (h4 : okR (cput D (cel G adk nfk ndk pnk agk mkk flk dtk hwk dpk alk cok fek rpk rok wek plk mok eak lnk cpk elk owk skk txk tlk rfk slk hsk) σ) 4 r = true) : sR (cput D (cel G adk nfk ndk pnk agk mkk flk dtk hwk dpk alk cok fek rpk rok wek plk mok eak lnk cpk elk owk skk txk tlk rfk slk hsk) σ) (G 3 10) 4 (J z) r = some (cput D (cel G adk nfk ndk pnk agk mkk flk dtk hwk dpk alk cok fek rpk rok wek plk mok eak lnk cpk elk owk skk txk tlk rfk (va_up slk z.toNat r) hsk) σ) := by
  rw [sR_at (cc_10 h) h1 h2 h3 h4]
  refine congrArg some (cput_sE hg.1 h.2.2.2 (by decide) (by simp [cel, up, up2, rw_]) (by
    intro k' a' hn
    simp only [cel, if_neg hn]))
theorem cw_srok (hg : HU D G) {z v : Int} (h1 : 0 ≤ z) (h2 : z < 6) : sI (cput D (cel G adk nfk ndk pnk agk mkk flk dtk hwk dpk alk cok fek rpk rok wek plk mok eak lnk cpk elk owk skk txk tlk rfk slk hsk) σ) (G 3 3) 0 (J z) (J v) = some (cput D (cel G adk nfk ndk pnk agk mkk flk dtk hwk dpk alk cok fek rpk (up rok z v) wek plk mok eak lnk cpk elk owk skk txk tlk rfk slk hsk) σ) := by
  rw [sI_rw (cc_3 hg) v h1 h2 (by omega)]
  refine congrArg some (cput_sE hg.1 hg.2.2.2.1 (by decide) (by simp [cel, up, up2, rw_]) (by
    intro k' a' hn
    simp only [cel, if_neg hn]))
theorem cw_swek (hg : HU D G) {z v : Int} (h1 : 0 ≤ z) (h2 : z < 4) : sI (cput D (cel G adk nfk ndk pnk agk mkk flk dtk hwk dpk alk cok fek rpk rok wek plk mok eak lnk cpk elk owk skk txk tlk rfk slk hsk) σ) (G 3 4) 0 (J z) (J v) = some (cput D (cel G adk nfk ndk pnk agk mkk flk dtk hwk dpk alk cok fek rpk rok (up wek z v) plk mok eak lnk cpk elk owk skk txk tlk rfk slk hsk) σ) := by
  rw [sI_rw (cc_4 hg) v h1 h2 (by omega)]
  refine congrArg some (cput_sE hg.1 hg.2.2.2.2.1 (by decide) (by simp [cel, up, up2, rw_]) (by
    intro k' a' hn
    simp only [cel, if_neg hn]))
theorem cw_splk (hg : HU D G) {z v : Int} (h1 : 0 ≤ z) (h2 : z < 200) : sI (cput D (cel G adk nfk ndk pnk agk mkk flk dtk hwk dpk alk cok fek rpk rok wek plk mok eak lnk cpk elk owk skk txk tlk rfk slk hsk) σ) (G 3 5) 0 (J z) (J v) = some (cput D (cel G adk nfk ndk pnk agk mkk flk dtk hwk dpk alk cok fek rpk rok wek (up plk z v) mok eak lnk cpk elk owk skk txk tlk rfk slk hsk) σ) := by
  rw [sI_rw (cc_5 hg) v h1 h2 (by omega)]
  refine congrArg some (cput_sE hg.1 hg.2.2.2.2.2.1 (by decide) (by simp [cel, up, up2, rw_]) (by
    intro k' a' hn
    simp only [cel, if_neg hn]))
theorem cw_palk (hg : HU D G) {v : Int} : pF (cput D (cel G adk nfk ndk pnk agk mkk flk dtk hwk dpk alk cok fek rpk rok wek plk mok eak lnk cpk elk owk skk txk tlk rfk slk hsk) σ) (G 3 6) 1 6 (vI (J v)) = some (cput D (cel G adk nfk ndk pnk agk mkk flk dtk hwk dpk v cok fek rpk rok wek plk mok eak lnk cpk elk owk skk txk tlk rfk slk hsk) σ) := by
  rw [pF_at (cc_6 hg) (by simp)]
  refine congrArg some (cput_sE hg.1 hg.2.2.2.2.2.2 (by decide) (by simp [cel, up, up2, rw_]) (by
    intro k' a' hn
    simp only [cel, if_neg hn]))
theorem cw_pcok (hg : HU D G) {v : Int} : pF (cput D (cel G adk nfk ndk pnk agk mkk flk dtk hwk dpk alk cok fek rpk rok wek plk mok eak lnk cpk elk owk skk txk tlk rfk slk hsk) σ) (G 3 6) 1 7 (vI (J v)) = some (cput D (cel G adk nfk ndk pnk agk mkk flk dtk hwk dpk alk v fek rpk rok wek plk mok eak lnk cpk elk owk skk txk tlk rfk slk hsk) σ) := by
  rw [pF_at (cc_6 hg) (by simp)]
  refine congrArg some (cput_sE hg.1 hg.2.2.2.2.2.2 (by decide) (by simp [cel, up, up2, rw_]) (by
    intro k' a' hn
    simp only [cel, if_neg hn]))
theorem cw_pfek (hg : HU D G) {v : Int} : pF (cput D (cel G adk nfk ndk pnk agk mkk flk dtk hwk dpk alk cok fek rpk rok wek plk mok eak lnk cpk elk owk skk txk tlk rfk slk hsk) σ) (G 3 6) 1 8 (vI (J v)) = some (cput D (cel G adk nfk ndk pnk agk mkk flk dtk hwk dpk alk cok v rpk rok wek plk mok eak lnk cpk elk owk skk txk tlk rfk slk hsk) σ) := by
  rw [pF_at (cc_6 hg) (by simp)]
  refine congrArg some (cput_sE hg.1 hg.2.2.2.2.2.2 (by decide) (by simp [cel, up, up2, rw_]) (by
    intro k' a' hn
    simp only [cel, if_neg hn]))
theorem cw_prpk (hg : HU D G) {v : Option Nat} : pF (cput D (cel G adk nfk ndk pnk agk mkk flk dtk hwk dpk alk cok fek rpk rok wek plk mok eak lnk cpk elk owk skk txk tlk rfk slk hsk) σ) (G 3 6) 1 9 (vR v) = some (cput D (cel G adk nfk ndk pnk agk mkk flk dtk hwk dpk alk cok fek v rok wek plk mok eak lnk cpk elk owk skk txk tlk rfk slk hsk) σ) := by
  rw [pF_at (cc_6 hg) (by simp)]
  refine congrArg some (cput_sE hg.1 hg.2.2.2.2.2.2 (by decide) (by simp [cel, up, up2, rw_]) (by
    intro k' a' hn
    simp only [cel, if_neg hn]))
theorem cw_ptlk (hg : HU D G) (h : XU D G) {v : Int} : pF (cput D (cel G adk nfk ndk pnk agk mkk flk dtk hwk dpk alk cok fek rpk rok wek plk mok eak lnk cpk elk owk skk txk tlk rfk slk hsk) σ) (G 3 7) 0 3 (vI (J v)) = some (cput D (cel G adk nfk ndk pnk agk mkk flk dtk hwk dpk alk cok fek rpk rok wek plk mok eak lnk cpk elk owk skk txk v rfk slk hsk) σ) := by
  rw [pF_at (cc_7 h) (by simp)]
  refine congrArg some (cput_sE hg.1 h.1 (by decide) (by simp [cel, up, up2, rw_]) (by
    intro k' a' hn
    simp only [cel, if_neg hn]))
theorem cw_prfk (hg : HU D G) (h : XU D G) {v : Int} : pF (cput D (cel G adk nfk ndk pnk agk mkk flk dtk hwk dpk alk cok fek rpk rok wek plk mok eak lnk cpk elk owk skk txk tlk rfk slk hsk) σ) (G 3 7) 0 4 (vI (J v)) = some (cput D (cel G adk nfk ndk pnk agk mkk flk dtk hwk dpk alk cok fek rpk rok wek plk mok eak lnk cpk elk owk skk txk tlk v slk hsk) σ) := by
  rw [pF_at (cc_7 h) (by simp)]
  refine congrArg some (cput_sE hg.1 h.1 (by decide) (by simp [cel, up, up2, rw_]) (by
    intro k' a' hn
    simp only [cel, if_neg hn]))
theorem cw_phsk (hg : HU D G) (h : XU D G) {v : Int64} : pF (cput D (cel G adk nfk ndk pnk agk mkk flk dtk hwk dpk alk cok fek rpk rok wek plk mok eak lnk cpk elk owk skk txk tlk rfk slk hsk) σ) (G 3 7) 0 6 (vL v) = some (cput D (cel G adk nfk ndk pnk agk mkk flk dtk hwk dpk alk cok fek rpk rok wek plk mok eak lnk cpk elk owk skk txk tlk rfk slk v) σ) := by
  rw [pF_at (cc_7 h) (by simp)]
  refine congrArg some (cput_sE hg.1 h.1 (by decide) (by simp [cel, up, up2, rw_]) (by
    intro k' a' hn
    simp only [cel, if_neg hn]))
theorem cw_stxk (hg : HU D G) (h : XU D G) {z v : Int} (h1 : 0 ≤ z) (h2 : z < 80) (h5 : 0 ≤ v) (h6 : v ≤ 127) : sI (cput D (cel G adk nfk ndk pnk agk mkk flk dtk hwk dpk alk cok fek rpk rok wek plk mok eak lnk cpk elk owk skk txk tlk rfk slk hsk) σ) (G 3 9) 2 (J z) (J v) = some (cput D (cel G adk nfk ndk pnk agk mkk flk dtk hwk dpk alk cok fek rpk rok wek plk mok eak lnk cpk elk owk skk (up txk z v) tlk rfk slk hsk) σ) := by
  have hn : mm_nar 2 (J v) = J v := by
    have key : ∀ n : Fin 128, mm_nar 2 (J (n.val : Int)) = J (n.val : Int) := by decide +kernel
    have h8 := key ⟨v.toNat, by omega⟩
    dsimp only at h8
    rwa [Int.toNat_of_nonneg h5] at h8
  unfold sI
  rw [cc_9 h]
  dsimp only
  rw [J_toInt (by omega) (by omega), if_pos ⟨rfl, h1, h2⟩, J_clamp h1 (by omega), hn, upd_rw txk v h1]
  refine congrArg some (cput_sE hg.1 h.2.2.1 (by decide) (by simp [cel]) (by
    intro k' a' hn
    simp only [cel, if_neg hn]))
theorem cw_ok3 (h : TH D G a) : okR (cput D (cel G adk nfk ndk pnk agk mkk flk dtk hwk dpk alk cok fek rpk rok wek plk mok eak lnk cpk elk owk skk txk tlk rfk slk hsk) σ) 3 (some (G 0 a)) = true := by
  have h1 : (cput D (cel G adk nfk ndk pnk agk mkk flk dtk hwk dpk alk cok fek rpk rok wek plk mok eak lnk cpk elk owk skk txk tlk rfk slk hsk) σ).1 (G 0 a) = _ := cc_th h
  unfold okR
  dsimp only
  rw [h1]
  rfl
theorem cw_ok5 (h : TH D G a) : okR (cput D (cel G adk nfk ndk pnk agk mkk flk dtk hwk dpk alk cok fek rpk rok wek plk mok eak lnk cpk elk owk skk txk tlk rfk slk hsk) σ) 5 (some (G 0 a)) = true := by
  have h1 : (cput D (cel G adk nfk ndk pnk agk mkk flk dtk hwk dpk alk cok fek rpk rok wek plk mok eak lnk cpk elk owk skk txk tlk rfk slk hsk) σ).1 (G 0 a) = _ := cc_th h
  unfold okR
  dsimp only
  rw [h1]
  rfl
theorem cw_okn {k : Nat} : okR (cput D (cel G adk nfk ndk pnk agk mkk flk dtk hwk dpk alk cok fek rpk rok wek plk mok eak lnk cpk elk owk skk txk tlk rfk slk hsk) σ) k none = true := rfl
end CW
