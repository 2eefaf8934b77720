/-! PLAIN LAW: the component's reader: a command. NAMES: cmO RCM kr_ -/
set_option maxRecDepth 100000
/-- a command's object -/
def cmO (c : Int × Int × Int × Int) : mm_E := if c.1 = 110 then .inl (9, [vI (J c.2.1), vI (J c.2.2.1)]) else if c.1 = 114 then .inl (10, [vI (J c.2.1), vI (J c.2.2.1)]) else if c.1 = 119 then .inl (11, [vI (J c.2.1), vI (J c.2.2.1)]) else if c.1 = 102 then .inl (12, [vI (J c.2.1), vI (J c.2.2.1), vI (J c.2.2.2)]) else if c.1 = 112 then .inl (13, [vI (J c.2.1), vI (J 1)]) else if c.1 = 117 then .inl (13, [vI (J c.2.1), vI (J 0)]) else .inl (14, [])
def RCM (D : Nat → Int × Int) (c : Int → Int → mm_E) (p l x : Nat) (σ : mm_M) (r : Int ⊕ ((Int × Int × Int × Int) × Int)) (f : Option ((Nat ⊕ Nat) × mm_M)) : Prop := match r with
  | .inl e => ∃ q M', f = some (.inr q, M') ∧ FTE D c p σ e q M'
  | .inr v => f = some (.inl σ.2.1, cput D c (rdput p v.2 l x (nE σ (cmO v.1))))
theorem RCM.l {D : Nat → Int × Int} {c : Int → Int → mm_E} {p l x : Nat} {σ : mm_M} {e : Int} {f : Option ((Nat ⊕ Nat) × mm_M)} (h : ∃ q M', f = some (.inr q, M') ∧ FTE D c p σ e q M') : RCM D c p l x σ (.inl e) f := h
theorem RCM.r {D : Nat → Int × Int} {c : Int → Int → mm_E} {p l x : Nat} {σ : mm_M} {v : (Int × Int × Int × Int) × Int} {f : Option ((Nat ⊕ Nat) × mm_M)} (h : f = some (.inl σ.2.1, cput D c (rdput p v.2 l x (nE σ (cmO v.1))))) : RCM D c p l x σ (.inr v) f := h
theorem bdP_l {α β : Type} {p : Int} {k : α → Int → Int ⊕ β} : bdP (.inl p) k = .inl p := rfl
theorem bdP_r {α β : Type} {r : α × Int} {k : α → Int → Int ⊕ β} : bdP (.inr r) k = k r.1 r.2 := rfl
theorem kr_nO {D : Nat → Int × Int} {c : Int → Int → mm_E} {σ : mm_M} {p l x : Nat} {a : Int} {cl : Nat} {fs : List mm_V} (hb : DB D σ) (hlt : p < σ.2.1) : nO (cput D c (rdput p a l x σ)) cl fs = some (σ.2.1, cput D c (rdput p a l x (nE σ (.inl (cl, fs))))) := by
  rw [ko_nO (show (D (rdput p a l x σ).2.1).1 = -1 from kr_new hb), rd_nE hlt]
  rfl
theorem kr_pF {D : Nat → Int × Int} {c : Int → Int → mm_E} {σ : mm_M} {p l x : Nat} {a : Int} {cl k : Nat} {fs : List mm_V} {v : mm_V} (hb : DB D σ) (hlt : p < σ.2.1) (hk : k < fs.length) : pF (cput D c (rdput p a l x (nE σ (.inl (cl, fs))))) σ.2.1 cl k v = some (cput D c (rdput p a l x (nE σ (.inl (cl, fs.set k v))))) := by
  rw [← rd_nE hlt, kn_pF (τ := rdput p a l x σ) (q := σ.2.1) (kr_new hb) rfl hk, rd_nE hlt]
theorem DB.nE' {D : Nat → Int × Int} {σ : mm_M} {e : mm_E} (hb : DB D σ) : DB D (nE σ e) := fun b h => Nat.lt_succ_of_lt (hb b h)
section T1
variable {adk nfk ndk pnk agk mkk rok wek plk txk : Int → Int} {flk dtk : Int → Int → Int} {hwk dpk alk cok fek lnk tlk rfk : Int} {rpk : Option Nat} {mok : Int32} {eak cpk : Nat} {elk owk skk slk : Nat → Option Nat} {hsk : Int64} {D : Nat → Int × Int} {G : Int → Int → Nat} {σ : mm_M} {p l : Nat} {a : Int}
theorem kr_command (hu : XU D G) (hp : (D p).1 = -1) (h : tx9 txk tlk) (hb : DB D σ) (hlt : p < σ.2.1) (h1 : 0 ≤ a) (h2 : a ≤ tlk) : RCM D (cel G adk nfk ndk pnk agk mkk flk dtk hwk dpk alk cok fek rpk rok wek plk mok eak lnk cpk elk owk skk txk tlk rfk slk hsk) p l (G 3 7) σ (coP txk tlk a) (f_X7_command p (cput D (cel G adk nfk ndk pnk agk mkk flk dtk hwk dpk alk cok fek rpk rok wek plk mok eak lnk cpk elk owk skk txk tlk rfk slk hsk) (rdput p a l (G 3 7) σ))) := by
  have h3 : a ≤ 80 := Int.le_trans h2 h.2.1
  have ht : ∀ s : Int, 0 ≤ s → s ≤ 127 → _ := fun s s1 s2 => kr_takes (σ := σ) (l := l) (a := a) (s := s) (adk := adk) (nfk := nfk) (ndk := ndk) (pnk := pnk) (agk := agk) (mkk := mkk) (flk := flk) (dtk := dtk) (hwk := hwk) (dpk := dpk) (alk := alk) (cok := cok) (fek := fek) (rpk := rpk) (rok := rok) (wek := wek) (plk := plk) (owk := owk) (skk := skk) (txk := txk) (tlk := tlk) (rfk := rfk) (slk := slk) (hsk := hsk) (mok := mok) (eak := eak) (lnk := lnk) (cpk := cpk) (elk := elk) hu hp h h1 h2 s1 s2
  have hltE : ∀ e, p < (nE σ e).2.1 := fun e => Nat.lt_succ_of_lt hlt
  have hbb : ∀ s, 0 ≤ s → nx9 txk tlk a = s → 0 ≤ bk9 txk tlk (a + 1) ∧ bk9 txk tlk (a + 1) ≤ tlk := fun s s0 c => by
    have hlt2 : a < tlk := by
      unfold nx9 at c
      by_cases d : tlk ≤ a
      · rw [if_pos d] at c; omega
      · omega
    have := bk9_b (text := txk) (tl := tlk) (a := a + 1) (by omega)
    omega
  unfold coP f_X7_command
  rw [rx_ck hp, Option.bind_some, show (110 : Int32) = J 110 from J_lit 110, ht 110 (by omega) (by omega)]
  by_cases c0 : nx9 txk tlk a = 110
  · obtain ⟨b1, b2⟩ := hbb 110 (by omega) c0
    rw [if_pos c0, if_pos c0, b2_s, if_neg (show ¬ J 1 = 0 by decide)]
    rw [rx_ck hp, Option.bind_some]
    have hd0 := kr_digit (σ := σ) (l := l) (a := bk9 txk tlk (a + 1)) (adk := adk) (nfk := nfk) (ndk := ndk) (pnk := pnk) (agk := agk) (mkk := mkk) (flk := flk) (dtk := dtk) (hwk := hwk) (dpk := dpk) (alk := alk) (cok := cok) (fek := fek) (rpk := rpk) (rok := rok) (wek := wek) (plk := plk) (owk := owk) (skk := skk) (txk := txk) (tlk := tlk) (rfk := rfk) (slk := slk) (hsk := hsk) (mok := mok) (eak := eak) (lnk := lnk) (cpk := cpk) (elk := elk) hu hp h hb hlt (by omega) (by omega)
    cases hr0 : dgP txk tlk (bk9 txk tlk (a + 1)) with
    | inl e =>
      rw [hr0] at hd0
      obtain ⟨q, M', e1, e2⟩ := hd0
      exact RCM.l ⟨q, M', by rw [e1, b2_s, kr_xr], e2⟩
    | inr r0 =>
    rw [hr0] at hd0
    have hB0 := dgP_b (by omega) hr0
    unfold RDP at hd0
    dsimp only at hd0
    rw [hd0, b2_s, kr_xl, bdP_r]
    rw [kr_nO hb hlt, b2_s]
    rw [rx_ck hp, Option.bind_some]
    have hd1 := kr_digit (σ := (nE σ (.inl (9, df_9)))) (l := l) (a := r0.2) (adk := adk) (nfk := nfk) (ndk := ndk) (pnk := pnk) (agk := agk) (mkk := mkk) (flk := flk) (dtk := dtk) (hwk := hwk) (dpk := dpk) (alk := alk) (cok := cok) (fek := fek) (rpk := rpk) (rok := rok) (wek := wek) (plk := plk) (owk := owk) (skk := skk) (txk := txk) (tlk := tlk) (rfk := rfk) (slk := slk) (hsk := hsk) (mok := mok) (eak := eak) (lnk := lnk) (cpk := cpk) (elk := elk) hu hp h hb.nE' (hltE _) (by omega) (by omega)
    cases hr1 : dgP txk tlk (r0.2) with
    | inl e =>
      rw [hr1] at hd1
      obtain ⟨q, M', e1, e2⟩ := hd1
      exact RCM.l ⟨q, M', by rw [e1, b2_s, kr_xr], e2.of NXP.nE⟩
    | inr r1 =>
    rw [hr1] at hd1
    have hB1 := dgP_b (by omega) hr1
    unfold RDP at hd1
    dsimp only at hd1
    rw [hd1, b2_s, kr_xl, bdP_r]
    refine RCM.r ?_
    unfold f_X9_init
    rw [kr_pF hb hlt (by simp), Option.bind_some]
    rw [kr_pF hb hlt (by simp), Option.bind_some]
    rfl
  rw [if_neg c0, if_neg c0, b2_s]
  rw [if_pos (show J 0 = 0 from rfl)]
  rw [rx_ck hp, Option.bind_some, show (114 : Int32) = J 114 from J_lit 114, ht 114 (by omega) (by omega)]
  by_cases c1 : nx9 txk tlk a = 114
  · obtain ⟨b1, b2⟩ := hbb 114 (by omega) c1
    rw [if_pos c1, if_pos c1, b2_s, if_neg (show ¬ J 1 = 0 by decide)]
    rw [rx_ck hp, Option.bind_some]
    have hd0 := kr_digit (σ := σ) (l := l) (a := bk9 txk tlk (a + 1)) (adk := adk) (nfk := nfk) (ndk := ndk) (pnk := pnk) (agk := agk) (mkk := mkk) (flk := flk) (dtk := dtk) (hwk := hwk) (dpk := dpk) (alk := alk) (cok := cok) (fek := fek) (rpk := rpk) (rok := rok) (wek := wek) (plk := plk) (owk := owk) (skk := skk) (txk := txk) (tlk := tlk) (rfk := rfk) (slk := slk) (hsk := hsk) (mok := mok) (eak := eak) (lnk := lnk) (cpk := cpk) (elk := elk) hu hp h hb hlt (by omega) (by omega)
    cases hr0 : dgP txk tlk (bk9 txk tlk (a + 1)) with
    | inl e =>
      rw [hr0] at hd0
      obtain ⟨q, M', e1, e2⟩ := hd0
      exact RCM.l ⟨q, M', by rw [e1, b2_s, kr_xr], e2⟩
    | inr r0 =>
    rw [hr0] at hd0
    have hB0 := dgP_b (by omega) hr0
    unfold RDP at hd0
    dsimp only at hd0
    rw [hd0, b2_s, kr_xl, bdP_r]
    rw [kr_nO hb hlt, b2_s]
    rw [rx_ck hp, Option.bind_some]
    have hd1 := kr_place (σ := (nE σ (.inl (10, df_10)))) (l := l) (a := r0.2) (adk := adk) (nfk := nfk) (ndk := ndk) (pnk := pnk) (agk := agk) (mkk := mkk) (flk := flk) (dtk := dtk) (hwk := hwk) (dpk := dpk) (alk := alk) (cok := cok) (fek := fek) (rpk := rpk) (rok := rok) (wek := wek) (plk := plk) (owk := owk) (skk := skk) (txk := txk) (tlk := tlk) (rfk := rfk) (slk := slk) (hsk := hsk) (mok := mok) (eak := eak) (lnk := lnk) (cpk := cpk) (elk := elk) hu hp h hb.nE' (hltE _) (by omega) (by omega)
    cases hr1 : plP txk tlk (r0.2) with
    | inl e =>
      rw [hr1] at hd1
      obtain ⟨q, M', e1, e2⟩ := hd1
      exact RCM.l ⟨q, M', by rw [e1, b2_s, kr_xr], e2.of NXP.nE⟩
    | inr r1 =>
    rw [hr1] at hd1
    have hB1 := plP_b (by omega) hr1
    unfold RDP at hd1
    dsimp only at hd1
    rw [hd1, b2_s, kr_xl, bdP_r]
    refine RCM.r ?_
    unfold f_X10_init
    rw [kr_pF hb hlt (by simp), Option.bind_some]
    rw [kr_pF hb hlt (by simp), Option.bind_some]
    rfl
  rw [if_neg c1, if_neg c1, b2_s]
  rw [if_pos (show J 0 = 0 from rfl)]
  rw [rx_ck hp, Option.bind_some, show (119 : Int32) = J 119 from J_lit 119, ht 119 (by omega) (by omega)]
  by_cases c2 : nx9 txk tlk a = 119
  · obtain ⟨b1, b2⟩ := hbb 119 (by omega) c2
    rw [if_pos c2, if_pos c2, b2_s, if_neg (show ¬ J 1 = 0 by decide)]
    rw [rx_ck hp, Option.bind_some]
    have hd0 := kr_digit (σ := σ) (l := l) (a := bk9 txk tlk (a + 1)) (adk := adk) (nfk := nfk) (ndk := ndk) (pnk := pnk) (agk := agk) (mkk := mkk) (flk := flk) (dtk := dtk) (hwk := hwk) (dpk := dpk) (alk := alk) (cok := cok) (fek := fek) (rpk := rpk) (rok := rok) (wek := wek) (plk := plk) (owk := owk) (skk := skk) (txk := txk) (tlk := tlk) (rfk := rfk) (slk := slk) (hsk := hsk) (mok := mok) (eak := eak) (lnk := lnk) (cpk := cpk) (elk := elk) hu hp h hb hlt (by omega) (by omega)
    cases hr0 : dgP txk tlk (bk9 txk tlk (a + 1)) with
    | inl e =>
      rw [hr0] at hd0
      obtain ⟨q, M', e1, e2⟩ := hd0
      exact RCM.l ⟨q, M', by rw [e1, b2_s, kr_xr], e2⟩
    | inr r0 =>
    rw [hr0] at hd0
    have hB0 := dgP_b (by omega) hr0
    unfold RDP at hd0
    dsimp only at hd0
    rw [hd0, b2_s, kr_xl, bdP_r]
    rw [kr_nO hb hlt, b2_s]
    rw [rx_ck hp, Option.bind_some]
    have hd1 := kr_place (σ := (nE σ (.inl (11, df_11)))) (l := l) (a := r0.2) (adk := adk) (nfk := nfk) (ndk := ndk) (pnk := pnk) (agk := agk) (mkk := mkk) (flk := flk) (dtk := dtk) (hwk := hwk) (dpk := dpk) (alk := alk) (cok := cok) (fek := fek) (rpk := rpk) (rok := rok) (wek := wek) (plk := plk) (owk := owk) (skk := skk) (txk := txk) (tlk := tlk) (rfk := rfk) (slk := slk) (hsk := hsk) (mok := mok) (eak := eak) (lnk := lnk) (cpk := cpk) (elk := elk) hu hp h hb.nE' (hltE _) (by omega) (by omega)
    cases hr1 : plP txk tlk (r0.2) with
    | inl e =>
      rw [hr1] at hd1
      obtain ⟨q, M', e1, e2⟩ := hd1
      exact RCM.l ⟨q, M', by rw [e1, b2_s, kr_xr], e2.of NXP.nE⟩
    | inr r1 =>
    rw [hr1] at hd1
    have hB1 := plP_b (by omega) hr1
    unfold RDP at hd1
    dsimp only at hd1
    rw [hd1, b2_s, kr_xl, bdP_r]
    refine RCM.r ?_
    unfold f_X11_init
    rw [kr_pF hb hlt (by simp), Option.bind_some]
    rw [kr_pF hb hlt (by simp), Option.bind_some]
    rfl
  rw [if_neg c2, if_neg c2, b2_s]
  rw [if_pos (show J 0 = 0 from rfl)]
  rw [rx_ck hp, Option.bind_some, show (102 : Int32) = J 102 from J_lit 102, ht 102 (by omega) (by omega)]
  by_cases c3 : nx9 txk tlk a = 102
  · obtain ⟨b1, b2⟩ := hbb 102 (by omega) c3
    rw [if_pos c3, if_pos c3, b2_s, if_neg (show ¬ J 1 = 0 by decide)]
    rw [rx_ck hp, Option.bind_some]
    have hd0 := kr_number (σ := σ) (l := l) (a := bk9 txk tlk (a + 1)) (adk := adk) (nfk := nfk) (ndk := ndk) (pnk := pnk) (agk := agk) (mkk := mkk) (flk := flk) (dtk := dtk) (hwk := hwk) (dpk := dpk) (alk := alk) (cok := cok) (fek := fek) (rpk := rpk) (rok := rok) (wek := wek) (plk := plk) (owk := owk) (skk := skk) (txk := txk) (tlk := tlk) (rfk := rfk) (slk := slk) (hsk := hsk) (mok := mok) (eak := eak) (lnk := lnk) (cpk := cpk) (elk := elk) hu hp h hb hlt (by omega) (by omega)
    cases hr0 : nuP txk tlk (bk9 txk tlk (a + 1)) with
    | inl e =>
      rw [hr0] at hd0
      obtain ⟨q, M', e1, e2⟩ := hd0
      exact RCM.l ⟨q, M', by rw [e1, b2_s, kr_xr], e2⟩
    | inr r0 =>
    rw [hr0] at hd0
    have hB0 := nuP_b (by omega) hr0
    unfold RDP at hd0
    dsimp only at hd0
    rw [hd0, b2_s, kr_xl, bdP_r]
    rw [rx_ck hp, Option.bind_some]
    have hd1 := kr_digit (σ := σ) (l := l) (a := r0.2) (adk := adk) (nfk := nfk) (ndk := ndk) (pnk := pnk) (agk := agk) (mkk := mkk) (flk := flk) (dtk := dtk) (hwk := hwk) (dpk := dpk) (alk := alk) (cok := cok) (fek := fek) (rpk := rpk) (rok := rok) (wek := wek) (plk := plk) (owk := owk) (skk := skk) (txk := txk) (tlk := tlk) (rfk := rfk) (slk := slk) (hsk := hsk) (mok := mok) (eak := eak) (lnk := lnk) (cpk := cpk) (elk := elk) hu hp h hb hlt (by omega) (by omega)
    cases hr1 : dgP txk tlk (r0.2) with
    | inl e =>
      rw [hr1] at hd1
      obtain ⟨q, M', e1, e2⟩ := hd1
      exact RCM.l ⟨q, M', by rw [e1, b2_s, kr_xr], e2⟩
    | inr r1 =>
    rw [hr1] at hd1
    have hB1 := dgP_b (by omega) hr1
    unfold RDP at hd1
    dsimp only at hd1
    rw [hd1, b2_s, kr_xl, bdP_r]
    rw [kr_nO hb hlt, b2_s]
    rw [rx_ck hp, Option.bind_some]
    have hd2 := kr_place (σ := (nE σ (.inl (12, df_12)))) (l := l) (a := r1.2) (adk := adk) (nfk := nfk) (ndk := ndk) (pnk := pnk) (agk := agk) (mkk := mkk) (flk := flk) (dtk := dtk) (hwk := hwk) (dpk := dpk) (alk := alk) (cok := cok) (fek := fek) (rpk := rpk) (rok := rok) (wek := wek) (plk := plk) (owk := owk) (skk := skk) (txk := txk) (tlk := tlk) (rfk := rfk) (slk := slk) (hsk := hsk) (mok := mok) (eak := eak) (lnk := lnk) (cpk := cpk) (elk := elk) hu hp h hb.nE' (hltE _) (by omega) (by omega)
    cases hr2 : plP txk tlk (r1.2) with
    | inl e =>
      rw [hr2] at hd2
      obtain ⟨q, M', e1, e2⟩ := hd2
      exact RCM.l ⟨q, M', by rw [e1, b2_s, kr_xr], e2.of NXP.nE⟩
    | inr r2 =>
    rw [hr2] at hd2
    have hB2 := plP_b (by omega) hr2
    unfold RDP at hd2
    dsimp only at hd2
    rw [hd2, b2_s, kr_xl, bdP_r]
    refine RCM.r ?_
    unfold f_X12_init
    rw [kr_pF hb hlt (by simp), Option.bind_some]
    rw [kr_pF hb hlt (by simp), Option.bind_some]
    rw [kr_pF hb hlt (by simp), Option.bind_some]
    rfl
  rw [if_neg c3, if_neg c3, b2_s]
  rw [if_pos (show J 0 = 0 from rfl)]
  rw [rx_ck hp, Option.bind_some, show (112 : Int32) = J 112 from J_lit 112, ht 112 (by omega) (by omega)]
  by_cases c4 : nx9 txk tlk a = 112
  · obtain ⟨b1, b2⟩ := hbb 112 (by omega) c4
    rw [if_pos c4, if_pos c4, b2_s, if_neg (show ¬ J 1 = 0 by decide)]
    rw [kr_nO hb hlt, b2_s]
    rw [rx_ck hp, Option.bind_some]
    have hd0 := kr_number (σ := (nE σ (.inl (13, df_13)))) (l := l) (a := bk9 txk tlk (a + 1)) (adk := adk) (nfk := nfk) (ndk := ndk) (pnk := pnk) (agk := agk) (mkk := mkk) (flk := flk) (dtk := dtk) (hwk := hwk) (dpk := dpk) (alk := alk) (cok := cok) (fek := fek) (rpk := rpk) (rok := rok) (wek := wek) (plk := plk) (owk := owk) (skk := skk) (txk := txk) (tlk := tlk) (rfk := rfk) (slk := slk) (hsk := hsk) (mok := mok) (eak := eak) (lnk := lnk) (cpk := cpk) (elk := elk) hu hp h hb.nE' (hltE _) (by omega) (by omega)
    cases hr0 : nuP txk tlk (bk9 txk tlk (a + 1)) with
    | inl e =>
      rw [hr0] at hd0
      obtain ⟨q, M', e1, e2⟩ := hd0
      exact RCM.l ⟨q, M', by rw [e1, b2_s, kr_xr], e2.of NXP.nE⟩
    | inr r0 =>
    rw [hr0] at hd0
    have hB0 := nuP_b (by omega) hr0
    unfold RDP at hd0
    dsimp only at hd0
    rw [hd0, b2_s, kr_xl, bdP_r]
    refine RCM.r ?_
    unfold f_X13_init pZ
    rw [kr_pF hb hlt (by simp), Option.bind_some]
    rw [if_pos (by decide)]
    rw [kr_pF hb hlt (by simp), Option.bind_some]
    rfl
  rw [if_neg c4, if_neg c4, b2_s]
  rw [if_pos (show J 0 = 0 from rfl)]
  rw [rx_ck hp, Option.bind_some, show (117 : Int32) = J 117 from J_lit 117, ht 117 (by omega) (by omega)]
  by_cases c5 : nx9 txk tlk a = 117
  · obtain ⟨b1, b2⟩ := hbb 117 (by omega) c5
    rw [if_pos c5, if_pos c5, b2_s, if_neg (show ¬ J 1 = 0 by decide)]
    rw [kr_nO hb hlt, b2_s]
    rw [rx_ck hp, Option.bind_some]
    have hd0 := kr_number (σ := (nE σ (.inl (13, df_13)))) (l := l) (a := bk9 txk tlk (a + 1)) (adk := adk) (nfk := nfk) (ndk := ndk) (pnk := pnk) (agk := agk) (mkk := mkk) (flk := flk) (dtk := dtk) (hwk := hwk) (dpk := dpk) (alk := alk) (cok := cok) (fek := fek) (rpk := rpk) (rok := rok) (wek := wek) (plk := plk) (owk := owk) (skk := skk) (txk := txk) (tlk := tlk) (rfk := rfk) (slk := slk) (hsk := hsk) (mok := mok) (eak := eak) (lnk := lnk) (cpk := cpk) (elk := elk) hu hp h hb.nE' (hltE _) (by omega) (by omega)
    cases hr0 : nuP txk tlk (bk9 txk tlk (a + 1)) with
    | inl e =>
      rw [hr0] at hd0
      obtain ⟨q, M', e1, e2⟩ := hd0
      exact RCM.l ⟨q, M', by rw [e1, b2_s, kr_xr], e2.of NXP.nE⟩
    | inr r0 =>
    rw [hr0] at hd0
    have hB0 := nuP_b (by omega) hr0
    unfold RDP at hd0
    dsimp only at hd0
    rw [hd0, b2_s, kr_xl, bdP_r]
    refine RCM.r ?_
    unfold f_X13_init pZ
    rw [kr_pF hb hlt (by simp), Option.bind_some]
    rw [if_pos (by decide)]
    rw [kr_pF hb hlt (by simp), Option.bind_some]
    rfl
  rw [if_neg c5, if_neg c5, b2_s]
  rw [if_pos (show J 0 = 0 from rfl)]
  rw [rx_ck hp, Option.bind_some, show (99 : Int32) = J 99 from J_lit 99, ht 99 (by omega) (by omega)]
  by_cases c6 : nx9 txk tlk a = 99
  · rw [if_pos c6, if_pos c6, b2_s, rx_ck hp, Option.bind_some, kr_exp1, b2_s, kr_xl, kr_nO hb hlt, b2_s]
    refine RCM.r ?_
    rfl
  rw [if_neg c6, if_neg c6, b2_s, rx_ck hp, Option.bind_some]
  obtain ⟨q, M', e1, e2⟩ := kr_exp0 (l := l) (a := a) (adk := adk) (nfk := nfk) (ndk := ndk) (pnk := pnk) (agk := agk) (mkk := mkk) (flk := flk) (dtk := dtk) (hwk := hwk) (dpk := dpk) (alk := alk) (cok := cok) (fek := fek) (rpk := rpk) (rok := rok) (wek := wek) (plk := plk) (owk := owk) (skk := skk) (txk := txk) (tlk := tlk) (rfk := rfk) (slk := slk) (hsk := hsk) (mok := mok) (eak := eak) (lnk := lnk) (cpk := cpk) (elk := elk) hb hp hlt
  exact RCM.l ⟨q, M', by rw [e1, b2_s, kr_xr], e2⟩
end T1
