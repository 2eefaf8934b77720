/-! PLAIN LAW: the twin's memory as a value (printed by gen/hand.py). NAMES: tput, tw_ -/
set_option maxRecDepth 100000
/-- the twin at t, its rows behind it, laid over a memory -/
def tput (t : Nat) (m : Int → Int) (old : Int → Int) (saved : Int → Int) (isS : Int → Int) (text : Int → Int) (tl : Int) (rf_ : Int) (far : Int → Int) (mk : Int → Int) (stk : Int → Int) (top : Int) (hi : Int) (ov : Int) (cmd : Int → Int) (cm : Int) (at_ : Int) (ft : Int) (hs : Int64) (σ : mm_M) : mm_M := (fun a => if a = t then some (.inl (2, [vR (some (t + 1)), vR (some (t + 2)), vR (some (t + 3)), vR (some (t + 4)), vR (some (t + 5)), vI (J tl), vI (J rf_), vR (some (t + 6)), vR (some (t + 7)), vR (some (t + 8)), vI (J top), vI (J hi), vI (J ov), vR (some (t + 9)), vI (J cm), vI (J at_), vI (J ft), vL hs])) else if a = t + 1 then some (.inr (.inl (0, 1222, rw_ m))) else if a = t + 2 then some (.inr (.inl (0, 1222, rw_ old))) else if a = t + 3 then some (.inr (.inl (0, 2444, rw_ saved))) else if a = t + 4 then some (.inr (.inl (1, 2, rw_ isS))) else if a = t + 5 then some (.inr (.inl (0, 80, rw_ text))) else if a = t + 6 then some (.inr (.inl (0, 200, rw_ far))) else if a = t + 7 then some (.inr (.inl (1, 200, rw_ mk))) else if a = t + 8 then some (.inr (.inl (0, 20, rw_ stk))) else if a = t + 9 then some (.inr (.inl (0, 160, rw_ cmd))) else σ.1 a, σ.2)
section TW
variable {t : Nat} {m old saved isS text far mk stk cmd : Int → Int} {tl rf_ top hi ov cm at_ ft : Int} {hs : Int64} {σ : mm_M}
theorem tput_0 : (tput t m old saved isS text tl rf_ far mk stk top hi ov cmd cm at_ ft hs σ).1 t = some (.inl (2, [vR (some (t + 1)), vR (some (t + 2)), vR (some (t + 3)), vR (some (t + 4)), vR (some (t + 5)), vI (J tl), vI (J rf_), vR (some (t + 6)), vR (some (t + 7)), vR (some (t + 8)), vI (J top), vI (J hi), vI (J ov), vR (some (t + 9)), vI (J cm), vI (J at_), vI (J ft), vL hs])) := by simp [tput]
theorem tput_m : (tput t m old saved isS text tl rf_ far mk stk top hi ov cmd cm at_ ft hs σ).1 (t + 1) = some (.inr (.inl (0, 1222, rw_ m))) := by simp [tput]
theorem tput_old : (tput t m old saved isS text tl rf_ far mk stk top hi ov cmd cm at_ ft hs σ).1 (t + 2) = some (.inr (.inl (0, 1222, rw_ old))) := by simp [tput]
theorem tput_saved : (tput t m old saved isS text tl rf_ far mk stk top hi ov cmd cm at_ ft hs σ).1 (t + 3) = some (.inr (.inl (0, 2444, rw_ saved))) := by simp [tput]
theorem tput_isS : (tput t m old saved isS text tl rf_ far mk stk top hi ov cmd cm at_ ft hs σ).1 (t + 4) = some (.inr (.inl (1, 2, rw_ isS))) := by simp [tput]
theorem tput_text : (tput t m old saved isS text tl rf_ far mk stk top hi ov cmd cm at_ ft hs σ).1 (t + 5) = some (.inr (.inl (0, 80, rw_ text))) := by simp [tput]
theorem tput_far : (tput t m old saved isS text tl rf_ far mk stk top hi ov cmd cm at_ ft hs σ).1 (t + 6) = some (.inr (.inl (0, 200, rw_ far))) := by simp [tput]
theorem tput_mk : (tput t m old saved isS text tl rf_ far mk stk top hi ov cmd cm at_ ft hs σ).1 (t + 7) = some (.inr (.inl (1, 200, rw_ mk))) := by simp [tput]
theorem tput_stk : (tput t m old saved isS text tl rf_ far mk stk top hi ov cmd cm at_ ft hs σ).1 (t + 8) = some (.inr (.inl (0, 20, rw_ stk))) := by simp [tput]
theorem tput_cmd : (tput t m old saved isS text tl rf_ far mk stk top hi ov cmd cm at_ ft hs σ).1 (t + 9) = some (.inr (.inl (0, 160, rw_ cmd))) := by simp [tput]
theorem tput_2 : (tput t m old saved isS text tl rf_ far mk stk top hi ov cmd cm at_ ft hs σ).2 = σ.2 := rfl
theorem tput_o {a : Nat} (h : a < t ∨ t + 9 < a) : (tput t m old saved isS text tl rf_ far mk stk top hi ov cmd cm at_ ft hs σ).1 a = σ.1 a := by
  unfold tput
  dsimp only
  rw [if_neg (by omega), if_neg (by omega), if_neg (by omega), if_neg (by omega), if_neg (by omega), if_neg (by omega), if_neg (by omega), if_neg (by omega), if_neg (by omega), if_neg (by omega)]
theorem tw_gm : gA (tput t m old saved isS text tl rf_ far mk stk top hi ov cmd cm at_ ft hs σ) t 2 0 = some (t + 1) := by unfold gA gF; rw [tput_0]; rfl
theorem tw_am {z : Int} (h1 : 0 ≤ z) (h2 : z < 1222) : aI (tput t m old saved isS text tl rf_ far mk stk top hi ov cmd cm at_ ft hs σ) (t + 1) 0 (J z) = some (J (m z)) := aI_rw tput_m h1 h2 (by omega)
theorem tw_nm : aN (tput t m old saved isS text tl rf_ far mk stk top hi ov cmd cm at_ ft hs σ) (t + 1) = some (J 1222) := aN_i0 tput_m (by decide)
theorem tw_em {g : Int → Int} : sE (tput t m old saved isS text tl rf_ far mk stk top hi ov cmd cm at_ ft hs σ) (t + 1) (.inr (.inl (0, 1222, rw_ g))) = (tput t g old saved isS text tl rf_ far mk stk top hi ov cmd cm at_ ft hs σ) := by
  unfold sE tput
  refine Prod.ext ?_ rfl
  funext a
  dsimp only
  by_cases h : a = t + 1
  · subst h
    simp
  · simp [h]
theorem tw_sm {z v : Int} (h1 : 0 ≤ z) (h2 : z < 1222) : sI (tput t m old saved isS text tl rf_ far mk stk top hi ov cmd cm at_ ft hs σ) (t + 1) 0 (J z) (J v) = some (tput t (up m z v) old saved isS text tl rf_ far mk stk top hi ov cmd cm at_ ft hs σ) := by
  rw [sI_rw tput_m v h1 h2 (by omega), tw_em]
theorem tw_gold : gA (tput t m old saved isS text tl rf_ far mk stk top hi ov cmd cm at_ ft hs σ) t 2 1 = some (t + 2) := by unfold gA gF; rw [tput_0]; rfl
theorem tw_aold {z : Int} (h1 : 0 ≤ z) (h2 : z < 1222) : aI (tput t m old saved isS text tl rf_ far mk stk top hi ov cmd cm at_ ft hs σ) (t + 2) 0 (J z) = some (J (old z)) := aI_rw tput_old h1 h2 (by omega)
theorem tw_nold : aN (tput t m old saved isS text tl rf_ far mk stk top hi ov cmd cm at_ ft hs σ) (t + 2) = some (J 1222) := aN_i0 tput_old (by decide)
theorem tw_eold {g : Int → Int} : sE (tput t m old saved isS text tl rf_ far mk stk top hi ov cmd cm at_ ft hs σ) (t + 2) (.inr (.inl (0, 1222, rw_ g))) = (tput t m g saved isS text tl rf_ far mk stk top hi ov cmd cm at_ ft hs σ) := by
  unfold sE tput
  refine Prod.ext ?_ rfl
  funext a
  dsimp only
  by_cases h : a = t + 2
  · subst h
    simp
  · simp [h]
theorem tw_sold {z v : Int} (h1 : 0 ≤ z) (h2 : z < 1222) : sI (tput t m old saved isS text tl rf_ far mk stk top hi ov cmd cm at_ ft hs σ) (t + 2) 0 (J z) (J v) = some (tput t m (up old z v) saved isS text tl rf_ far mk stk top hi ov cmd cm at_ ft hs σ) := by
  rw [sI_rw tput_old v h1 h2 (by omega), tw_eold]
theorem tw_gsaved : gA (tput t m old saved isS text tl rf_ far mk stk top hi ov cmd cm at_ ft hs σ) t 2 2 = some (t + 3) := by unfold gA gF; rw [tput_0]; rfl
theorem tw_asaved {z : Int} (h1 : 0 ≤ z) (h2 : z < 2444) : aI (tput t m old saved isS text tl rf_ far mk stk top hi ov cmd cm at_ ft hs σ) (t + 3) 0 (J z) = some (J (saved z)) := aI_rw tput_saved h1 h2 (by omega)
theorem tw_nsaved : aN (tput t m old saved isS text tl rf_ far mk stk top hi ov cmd cm at_ ft hs σ) (t + 3) = some (J 2444) := aN_i0 tput_saved (by decide)
theorem tw_esaved {g : Int → Int} : sE (tput t m old saved isS text tl rf_ far mk stk top hi ov cmd cm at_ ft hs σ) (t + 3) (.inr (.inl (0, 2444, rw_ g))) = (tput t m old g isS text tl rf_ far mk stk top hi ov cmd cm at_ ft hs σ) := by
  unfold sE tput
  refine Prod.ext ?_ rfl
  funext a
  dsimp only
  by_cases h : a = t + 3
  · subst h
    simp
  · simp [h]
theorem tw_ssaved {z v : Int} (h1 : 0 ≤ z) (h2 : z < 2444) : sI (tput t m old saved isS text tl rf_ far mk stk top hi ov cmd cm at_ ft hs σ) (t + 3) 0 (J z) (J v) = some (tput t m old (up saved z v) isS text tl rf_ far mk stk top hi ov cmd cm at_ ft hs σ) := by
  rw [sI_rw tput_saved v h1 h2 (by omega), tw_esaved]
theorem tw_gisS : gA (tput t m old saved isS text tl rf_ far mk stk top hi ov cmd cm at_ ft hs σ) t 2 3 = some (t + 4) := by unfold gA gF; rw [tput_0]; rfl
theorem tw_aisS {z : Int} (h1 : 0 ≤ z) (h2 : z < 2) : aI (tput t m old saved isS text tl rf_ far mk stk top hi ov cmd cm at_ ft hs σ) (t + 4) 1 (J z) = some (J (isS z)) := aI_rw tput_isS h1 h2 (by omega)
theorem tw_nisS : aN (tput t m old saved isS text tl rf_ far mk stk top hi ov cmd cm at_ ft hs σ) (t + 4) = some (J 2) := aN_i0 tput_isS (by decide)
theorem tw_eisS {g : Int → Int} : sE (tput t m old saved isS text tl rf_ far mk stk top hi ov cmd cm at_ ft hs σ) (t + 4) (.inr (.inl (1, 2, rw_ g))) = (tput t m old saved g text tl rf_ far mk stk top hi ov cmd cm at_ ft hs σ) := by
  unfold sE tput
  refine Prod.ext ?_ rfl
  funext a
  dsimp only
  by_cases h : a = t + 4
  · subst h
    simp
  · simp [h]
theorem tw_sisS {z v : Int} (h1 : 0 ≤ z) (h2 : z < 2) (h3 : v = 0 ∨ v = 1) : sI (tput t m old saved isS text tl rf_ far mk stk top hi ov cmd cm at_ ft hs σ) (t + 4) 1 (J z) (J v) = some (tput t m old saved (up isS z v) text tl rf_ far mk stk top hi ov cmd cm at_ ft hs σ) := by
  rw [sZ_rw tput_isS v h1 h2 (by omega) h3, tw_eisS]
theorem tw_gtext : gA (tput t m old saved isS text tl rf_ far mk stk top hi ov cmd cm at_ ft hs σ) t 2 4 = some (t + 5) := by unfold gA gF; rw [tput_0]; rfl
theorem tw_atext {z : Int} (h1 : 0 ≤ z) (h2 : z < 80) : aI (tput t m old saved isS text tl rf_ far mk stk top hi ov cmd cm at_ ft hs σ) (t + 5) 0 (J z) = some (J (text z)) := aI_rw tput_text h1 h2 (by omega)
theorem tw_ntext : aN (tput t m old saved isS text tl rf_ far mk stk top hi ov cmd cm at_ ft hs σ) (t + 5) = some (J 80) := aN_i0 tput_text (by decide)
theorem tw_etext {g : Int → Int} : sE (tput t m old saved isS text tl rf_ far mk stk top hi ov cmd cm at_ ft hs σ) (t + 5) (.inr (.inl (0, 80, rw_ g))) = (tput t m old saved isS g tl rf_ far mk stk top hi ov cmd cm at_ ft hs σ) := by
  unfold sE tput
  refine Prod.ext ?_ rfl
  funext a
  dsimp only
  by_cases h : a = t + 5
  · subst h
    simp
  · simp [h]
theorem tw_stext {z v : Int} (h1 : 0 ≤ z) (h2 : z < 80) : sI (tput t m old saved isS text tl rf_ far mk stk top hi ov cmd cm at_ ft hs σ) (t + 5) 0 (J z) (J v) = some (tput t m old saved isS (up text z v) tl rf_ far mk stk top hi ov cmd cm at_ ft hs σ) := by
  rw [sI_rw tput_text v h1 h2 (by omega), tw_etext]
theorem tw_gfar : gA (tput t m old saved isS text tl rf_ far mk stk top hi ov cmd cm at_ ft hs σ) t 2 7 = some (t + 6) := by unfold gA gF; rw [tput_0]; rfl
theorem tw_afar {z : Int} (h1 : 0 ≤ z) (h2 : z < 200) : aI (tput t m old saved isS text tl rf_ far mk stk top hi ov cmd cm at_ ft hs σ) (t + 6) 0 (J z) = some (J (far z)) := aI_rw tput_far h1 h2 (by omega)
theorem tw_nfar : aN (tput t m old saved isS text tl rf_ far mk stk top hi ov cmd cm at_ ft hs σ) (t + 6) = some (J 200) := aN_i0 tput_far (by decide)
theorem tw_efar {g : Int → Int} : sE (tput t m old saved isS text tl rf_ far mk stk top hi ov cmd cm at_ ft hs σ) (t + 6) (.inr (.inl (0, 200, rw_ g))) = (tput t m old saved isS text tl rf_ g mk stk top hi ov cmd cm at_ ft hs σ) := by
  unfold sE tput
  refine Prod.ext ?_ rfl
  funext a
  dsimp only
  by_cases h : a = t + 6
  · subst h
    simp
  · simp [h]
theorem tw_sfar {z v : Int} (h1 : 0 ≤ z) (h2 : z < 200) : sI (tput t m old saved isS text tl rf_ far mk stk top hi ov cmd cm at_ ft hs σ) (t + 6) 0 (J z) (J v) = some (tput t m old saved isS text tl rf_ (up far z v) mk stk top hi ov cmd cm at_ ft hs σ) := by
  rw [sI_rw tput_far v h1 h2 (by omega), tw_efar]
theorem tw_gmk : gA (tput t m old saved isS text tl rf_ far mk stk top hi ov cmd cm at_ ft hs σ) t 2 8 = some (t + 7) := by unfold gA gF; rw [tput_0]; rfl
theorem tw_amk {z : Int} (h1 : 0 ≤ z) (h2 : z < 200) : aI (tput t m old saved isS text tl rf_ far mk stk top hi ov cmd cm at_ ft hs σ) (t + 7) 1 (J z) = some (J (mk z)) := aI_rw tput_mk h1 h2 (by omega)
theorem tw_nmk : aN (tput t m old saved isS text tl rf_ far mk stk top hi ov cmd cm at_ ft hs σ) (t + 7) = some (J 200) := aN_i0 tput_mk (by decide)
theorem tw_emk {g : Int → Int} : sE (tput t m old saved isS text tl rf_ far mk stk top hi ov cmd cm at_ ft hs σ) (t + 7) (.inr (.inl (1, 200, rw_ g))) = (tput t m old saved isS text tl rf_ far g stk top hi ov cmd cm at_ ft hs σ) := by
  unfold sE tput
  refine Prod.ext ?_ rfl
  funext a
  dsimp only
  by_cases h : a = t + 7
  · subst h
    simp
  · simp [h]
theorem tw_smk {z v : Int} (h1 : 0 ≤ z) (h2 : z < 200) (h3 : v = 0 ∨ v = 1) : sI (tput t m old saved isS text tl rf_ far mk stk top hi ov cmd cm at_ ft hs σ) (t + 7) 1 (J z) (J v) = some (tput t m old saved isS text tl rf_ far (up mk z v) stk top hi ov cmd cm at_ ft hs σ) := by
  rw [sZ_rw tput_mk v h1 h2 (by omega) h3, tw_emk]
theorem tw_gstk : gA (tput t m old saved isS text tl rf_ far mk stk top hi ov cmd cm at_ ft hs σ) t 2 9 = some (t + 8) := by unfold gA gF; rw [tput_0]; rfl
theorem tw_astk {z : Int} (h1 : 0 ≤ z) (h2 : z < 20) : aI (tput t m old saved isS text tl rf_ far mk stk top hi ov cmd cm at_ ft hs σ) (t + 8) 0 (J z) = some (J (stk z)) := aI_rw tput_stk h1 h2 (by omega)
theorem tw_nstk : aN (tput t m old saved isS text tl rf_ far mk stk top hi ov cmd cm at_ ft hs σ) (t + 8) = some (J 20) := aN_i0 tput_stk (by decide)
theorem tw_estk {g : Int → Int} : sE (tput t m old saved isS text tl rf_ far mk stk top hi ov cmd cm at_ ft hs σ) (t + 8) (.inr (.inl (0, 20, rw_ g))) = (tput t m old saved isS text tl rf_ far mk g top hi ov cmd cm at_ ft hs σ) := by
  unfold sE tput
  refine Prod.ext ?_ rfl
  funext a
  dsimp only
  by_cases h : a = t + 8
  · subst h
    simp
  · simp [h]
theorem tw_sstk {z v : Int} (h1 : 0 ≤ z) (h2 : z < 20) : sI (tput t m old saved isS text tl rf_ far mk stk top hi ov cmd cm at_ ft hs σ) (t + 8) 0 (J z) (J v) = some (tput t m old saved isS text tl rf_ far mk (up stk z v) top hi ov cmd cm at_ ft hs σ) := by
  rw [sI_rw tput_stk v h1 h2 (by omega), tw_estk]
theorem tw_gcmd : gA (tput t m old saved isS text tl rf_ far mk stk top hi ov cmd cm at_ ft hs σ) t 2 13 = some (t + 9) := by unfold gA gF; rw [tput_0]; rfl
theorem tw_acmd {z : Int} (h1 : 0 ≤ z) (h2 : z < 160) : aI (tput t m old saved isS text tl rf_ far mk stk top hi ov cmd cm at_ ft hs σ) (t + 9) 0 (J z) = some (J (cmd z)) := aI_rw tput_cmd h1 h2 (by omega)
theorem tw_ncmd : aN (tput t m old saved isS text tl rf_ far mk stk top hi ov cmd cm at_ ft hs σ) (t + 9) = some (J 160) := aN_i0 tput_cmd (by decide)
theorem tw_ecmd {g : Int → Int} : sE (tput t m old saved isS text tl rf_ far mk stk top hi ov cmd cm at_ ft hs σ) (t + 9) (.inr (.inl (0, 160, rw_ g))) = (tput t m old saved isS text tl rf_ far mk stk top hi ov g cm at_ ft hs σ) := by
  unfold sE tput
  refine Prod.ext ?_ rfl
  funext a
  dsimp only
  by_cases h : a = t + 9
  · subst h
    simp
  · simp [h]
theorem tw_scmd {z v : Int} (h1 : 0 ≤ z) (h2 : z < 160) : sI (tput t m old saved isS text tl rf_ far mk stk top hi ov cmd cm at_ ft hs σ) (t + 9) 0 (J z) (J v) = some (tput t m old saved isS text tl rf_ far mk stk top hi ov (up cmd z v) cm at_ ft hs σ) := by
  rw [sI_rw tput_cmd v h1 h2 (by omega), tw_ecmd]
theorem tw_gtl : gI (tput t m old saved isS text tl rf_ far mk stk top hi ov cmd cm at_ ft hs σ) t 2 5 = some (J tl) := by unfold gI gF; rw [tput_0]; rfl
theorem tw_ptl {x : Int} : pF (tput t m old saved isS text tl rf_ far mk stk top hi ov cmd cm at_ ft hs σ) t 2 5 (vI (J x)) = some (tput t m old saved isS text x rf_ far mk stk top hi ov cmd cm at_ ft hs σ) := by
  unfold pF
  rw [tput_0]
  dsimp only
  rw [if_pos ⟨rfl, by simp⟩]
  refine congrArg some ?_
  unfold sE tput
  refine Prod.ext ?_ rfl
  funext a
  dsimp only
  by_cases h : a = t
  · subst h
    simp
  · simp [h]
theorem tw_grf_ : gI (tput t m old saved isS text tl rf_ far mk stk top hi ov cmd cm at_ ft hs σ) t 2 6 = some (J rf_) := by unfold gI gF; rw [tput_0]; rfl
theorem tw_prf_ {x : Int} : pF (tput t m old saved isS text tl rf_ far mk stk top hi ov cmd cm at_ ft hs σ) t 2 6 (vI (J x)) = some (tput t m old saved isS text tl x far mk stk top hi ov cmd cm at_ ft hs σ) := by
  unfold pF
  rw [tput_0]
  dsimp only
  rw [if_pos ⟨rfl, by simp⟩]
  refine congrArg some ?_
  unfold sE tput
  refine Prod.ext ?_ rfl
  funext a
  dsimp only
  by_cases h : a = t
  · subst h
    simp
  · simp [h]
theorem tw_gtop : gI (tput t m old saved isS text tl rf_ far mk stk top hi ov cmd cm at_ ft hs σ) t 2 10 = some (J top) := by unfold gI gF; rw [tput_0]; rfl
theorem tw_ptop {x : Int} : pF (tput t m old saved isS text tl rf_ far mk stk top hi ov cmd cm at_ ft hs σ) t 2 10 (vI (J x)) = some (tput t m old saved isS text tl rf_ far mk stk x hi ov cmd cm at_ ft hs σ) := by
  unfold pF
  rw [tput_0]
  dsimp only
  rw [if_pos ⟨rfl, by simp⟩]
  refine congrArg some ?_
  unfold sE tput
  refine Prod.ext ?_ rfl
  funext a
  dsimp only
  by_cases h : a = t
  · subst h
    simp
  · simp [h]
theorem tw_ghi : gI (tput t m old saved isS text tl rf_ far mk stk top hi ov cmd cm at_ ft hs σ) t 2 11 = some (J hi) := by unfold gI gF; rw [tput_0]; rfl
theorem tw_phi {x : Int} : pF (tput t m old saved isS text tl rf_ far mk stk top hi ov cmd cm at_ ft hs σ) t 2 11 (vI (J x)) = some (tput t m old saved isS text tl rf_ far mk stk top x ov cmd cm at_ ft hs σ) := by
  unfold pF
  rw [tput_0]
  dsimp only
  rw [if_pos ⟨rfl, by simp⟩]
  refine congrArg some ?_
  unfold sE tput
  refine Prod.ext ?_ rfl
  funext a
  dsimp only
  by_cases h : a = t
  · subst h
    simp
  · simp [h]
theorem tw_gov : gI (tput t m old saved isS text tl rf_ far mk stk top hi ov cmd cm at_ ft hs σ) t 2 12 = some (J ov) := by unfold gI gF; rw [tput_0]; rfl
theorem tw_pov {x : Int} : pF (tput t m old saved isS text tl rf_ far mk stk top hi ov cmd cm at_ ft hs σ) t 2 12 (vI (J x)) = some (tput t m old saved isS text tl rf_ far mk stk top hi x cmd cm at_ ft hs σ) := by
  unfold pF
  rw [tput_0]
  dsimp only
  rw [if_pos ⟨rfl, by simp⟩]
  refine congrArg some ?_
  unfold sE tput
  refine Prod.ext ?_ rfl
  funext a
  dsimp only
  by_cases h : a = t
  · subst h
    simp
  · simp [h]
theorem tw_gcm : gI (tput t m old saved isS text tl rf_ far mk stk top hi ov cmd cm at_ ft hs σ) t 2 14 = some (J cm) := by unfold gI gF; rw [tput_0]; rfl
theorem tw_pcm {x : Int} : pF (tput t m old saved isS text tl rf_ far mk stk top hi ov cmd cm at_ ft hs σ) t 2 14 (vI (J x)) = some (tput t m old saved isS text tl rf_ far mk stk top hi ov cmd x at_ ft hs σ) := by
  unfold pF
  rw [tput_0]
  dsimp only
  rw [if_pos ⟨rfl, by simp⟩]
  refine congrArg some ?_
  unfold sE tput
  refine Prod.ext ?_ rfl
  funext a
  dsimp only
  by_cases h : a = t
  · subst h
    simp
  · simp [h]
theorem tw_gat_ : gI (tput t m old saved isS text tl rf_ far mk stk top hi ov cmd cm at_ ft hs σ) t 2 15 = some (J at_) := by unfold gI gF; rw [tput_0]; rfl
theorem tw_pat_ {x : Int} : pF (tput t m old saved isS text tl rf_ far mk stk top hi ov cmd cm at_ ft hs σ) t 2 15 (vI (J x)) = some (tput t m old saved isS text tl rf_ far mk stk top hi ov cmd cm x ft hs σ) := by
  unfold pF
  rw [tput_0]
  dsimp only
  rw [if_pos ⟨rfl, by simp⟩]
  refine congrArg some ?_
  unfold sE tput
  refine Prod.ext ?_ rfl
  funext a
  dsimp only
  by_cases h : a = t
  · subst h
    simp
  · simp [h]
theorem tw_gft : gI (tput t m old saved isS text tl rf_ far mk stk top hi ov cmd cm at_ ft hs σ) t 2 16 = some (J ft) := by unfold gI gF; rw [tput_0]; rfl
theorem tw_pft {x : Int} : pF (tput t m old saved isS text tl rf_ far mk stk top hi ov cmd cm at_ ft hs σ) t 2 16 (vI (J x)) = some (tput t m old saved isS text tl rf_ far mk stk top hi ov cmd cm at_ x hs σ) := by
  unfold pF
  rw [tput_0]
  dsimp only
  rw [if_pos ⟨rfl, by simp⟩]
  refine congrArg some ?_
  unfold sE tput
  refine Prod.ext ?_ rfl
  funext a
  dsimp only
  by_cases h : a = t
  · subst h
    simp
  · simp [h]
theorem tw_ghs : gL (tput t m old saved isS text tl rf_ far mk stk top hi ov cmd cm at_ ft hs σ) t 2 17 = some hs := by unfold gL gF; rw [tput_0]; rfl
theorem tw_phs {x : Int64} : pF (tput t m old saved isS text tl rf_ far mk stk top hi ov cmd cm at_ ft hs σ) t 2 17 (vL x) = some (tput t m old saved isS text tl rf_ far mk stk top hi ov cmd cm at_ ft x σ) := by
  unfold pF
  rw [tput_0]
  dsimp only
  rw [if_pos ⟨rfl, by simp⟩]
  refine congrArg some ?_
  unfold sE tput
  refine Prod.ext ?_ rfl
  funext a
  dsimp only
  by_cases h : a = t
  · subst h
    simp
  · simp [h]
theorem tw_zov {x : Int} (h : x = 0 ∨ x = 1) : pZ (tput t m old saved isS text tl rf_ far mk stk top hi ov cmd cm at_ ft hs σ) t 2 12 (J x) = some (tput t m old saved isS text tl rf_ far mk stk top hi x cmd cm at_ ft hs σ) := by
  unfold pZ
  have h9 : J x = 0 ∨ J x = 1 := by
    rcases h with h | h
    · subst h
      exact Or.inl rfl
    · subst h
      exact Or.inr rfl
  rw [if_pos h9, tw_pov]
theorem tw_ck : ck (tput t m old saved isS text tl rf_ far mk stk top hi ov cmd cm at_ ft hs σ) t 2 = some () := by unfold ck; rw [tput_0]; rfl
end TW
