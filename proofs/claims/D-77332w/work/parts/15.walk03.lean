/-! WALKS -/
set_option maxRecDepth 100000
/-! IslandHeap.live(LIslandHeap$Thing;)LIslandHeap$Marking; -/
abbrev rm_X0_live : Room := { frames := 6, cells := 1, slots := 8, locals := 144 }
set_option maxHeartbeats 4000000 in
theorem m_X0_live (l : Launch) (G : mm_G) (h0 : Nat) (r1 : Option Nat) (σ : mm_M) (σf : mm_M) (rr : Nat) (hf : f_X0_live h0 r1 σ = some (rr, σf)) : Met l yX0_live (ws_ yX0_live cX0_live 2 ((Option.some (.object "IslandHeap$Marking")))) rm_X0_live (mm_Pc G [.ref h0, va_rf r1] σ) (mm_Qq G (some rr) σf) 1 8 (mm_A G) := by
  refine mm_met (by decide) rfl rfl (by cases r1 <;> exact Nat.le_of_ble_eq_true rfl) (fun p e s m below meth c ls F hH hr hlocks hname hl => ?_)
  have hl : lv_has ls 2 [(0, .ref h0), (1, va_rf r1)] := by cases r1 <;> exact hl
  have F : mm_F p s m _ c RX0 cX0_live 2 G := F
  have hx := F.1
  have hb := F.2.1
  have hml := F.2.2.1
  have hown := F.2.2.2.1
  have hts := F.2.2.2.2.1
  unfold f_X0_live at hf
  replace hf := b2_i hf
  obtain ⟨q2, σ1, e1, hf⟩ := hf
  refine mm_new F hH mc_4 (hts _ q451) (hts _ q452) (hts _ q77) (Nat.le_of_ble_eq_true rfl) (Nat.le_of_ble_eq_true rfl) e1 dX0_live_0 (fun H hH => ?_)
  refine lv_dup hx hb dX0_live_3 rfl ?_
  refine lv_aload_n hx hb dX0_live_4 rfl (lv_at hl 0 rfl) ?_
  replace hf := b1_i hf
  obtain ⟨q3, e2, hf⟩ := hf
  refine mm_getA F hH mc_0 (k := 0) (by decide) (hts _ q185) (fun _ h => h) e2 dX0_live_5 ?_
  refine lv_aload_n hx hb dX0_live_8 rfl (lv_at hl 0 rfl) ?_
  replace hf := b1_i hf
  obtain ⟨q4, e3, hf⟩ := hf
  refine mm_getA F hH mc_0 (k := 1) (by decide) (hts _ q188) (fun _ h => h) e3 dX0_live_9 ?_
  refine lv_sipush (v := 200) hx hb dX0_live_12 (by decide) ?_
  refine mm_aload_n (r := r1) hx hb dX0_live_15 rfl (lv_at hl 1 rfl) ?_
  replace hf := b1_i hf
  obtain ⟨σ5, e4, hf⟩ := hf
  refine mm_cv (va_runI (As := [.ref q3, .ref q4, .int (200 : Int32), va_rf r1]) (rest := [.ref q2]) ⟨hx, hb, hml, hown, hts⟩ (m_X4_init l G q2 q3 q4 (200 : Int32) r1 σ1 σ5 e4) (cwI 4 hts (lw_meth q455) rfl rfl rfl (hts _ q77) (hts _ q453) (hts _ q454) rfl (by decide +kernel) ⟨Nat.le_of_ble_eq_true rfl, Nat.le_of_ble_eq_true rfl⟩) (mm_preS F.2.2.2.2.2 hH) rfl rfl hl.1 rfl (lv_room (Nat.le_of_ble_eq_true rfl)) dX0_live_16 ⟨Nat.le_of_ble_eq_true rfl, Nat.le_of_ble_eq_true rfl⟩) hH (fun H locs hH => ?_)
  replace hf := b1_i hf
  obtain ⟨u, e5, hf⟩ := hf
  obtain ⟨fs, ek⟩ := ck_i e5
  replace hf := b2_i hf
  obtain ⟨q6, σ7, e6, hf⟩ := hf
  refine mm_cq (va_runV (As := []) (rest := []) ⟨hx, hb, hml, hown, hts⟩ (m_X4_mark l G q2 σ5 σ7 q6 e6) (cwV 0 hts (lw_V q484 q485 q486 q77 q487) rfl rfl rfl (by decide +kernel) ⟨Nat.le_of_ble_eq_true rfl, Nat.le_of_ble_eq_true rfl⟩) (mm_preV F.2.2.2.2.2 hH (ci := 4) rfl ek) rfl rfl hl.1 rfl (lv_room (Nat.le_of_ble_eq_true rfl)) dX0_live_19 ⟨Nat.le_of_ble_eq_true rfl, Nat.le_of_ble_eq_true rfl⟩) hH (fun H locs hH => ?_)
  obtain ⟨h1, h2⟩ := Prod.mk.inj (Option.some.inj hf)
  subst h1
  subst h2
  exact mm_retq (v := some q6) F hH hr hlocks (Or.inl ⟨_, rfl⟩) rfl dX0_live_22
/-! IslandHeap$Part$8.of(LIslandHeap;LIslandHeap$Thing;)I -/
abbrev rm_X21_of : Room := { frames := 7, cells := 1, slots := 8, locals := 165 }
set_option maxHeartbeats 4000000 in
theorem m_X21_of (l : Launch) (G : mm_G) (a1 : Nat) (a2 : Nat) (σ : mm_M) (σf : mm_M) (rr : Int32) (hf : f_X21_of a1 a2 σ = some (rr, σf)) : mm_MetU l yX21_of (ws_ yX21_of cX21_of 3 ((Option.some .int))) rm_X21_of (mm_Pc G [.ref (G.2.2.1 7), .ref a1, .ref a2] σ) (mm_Qi G rr σf) 1 8 (mm_A G) := by
  refine mm_metU (by decide) rfl rfl (by  exact Nat.le_of_ble_eq_true rfl) (fun p e s m below meth c ls F hH hr hlocks hname hl => ?_)
  have hl : lv_has ls 3 [(0, .ref (G.2.2.1 7)), (1, .ref a1), (2, .ref a2)] := by  exact hl
  have F : mm_F p s m _ c RX21 cX21_of 3 G := F
  have hx := F.1
  have hb := F.2.1
  have hml := F.2.2.1
  have hown := F.2.2.2.1
  have hts := F.2.2.2.2.1
  unfold f_X21_of at hf
  refine lv_aload_n hx hb dX21_of_0 rfl (lv_at hl 1 rfl) ?_
  refine lv_null hx hb dX21_of_1 ?_
  replace hf := b1_i hf
  obtain ⟨u, e1, hf⟩ := hf
  obtain ⟨fs, ek⟩ := ck_i e1
  replace hf := b2_i hf
  obtain ⟨q1, σ2, e2, hf⟩ := hf
  refine mm_cq (va_runVN (As := [va_rf none]) (rest := []) ⟨hx, hb, hml, hown, hts⟩ (m_X0_live l G a1 none σ σ2 q1 e2) ⟨(va_cnB 1 hts (lw_meth q450) rfl rfl rfl (F.2.2.2.2.2.2.1 _ q447 rfl) (hts _ q62) (by decide +kernel) ⟨Nat.le_of_ble_eq_true rfl, Nat.le_of_ble_eq_true rfl⟩), hts _ q449, hts _ qs4⟩ (mm_preV F.2.2.2.2.2 hH (ci := 0) rfl ek) rfl rfl hl.1 rfl (lv_room (Nat.le_of_ble_eq_true rfl)) dX21_of_2 ⟨Nat.le_of_ble_eq_true rfl, Nat.le_of_ble_eq_true rfl⟩) hH (fun H locs hH => ?_)
  refine lv_pop hx hb dX21_of_5 rfl ?_
  refine lv_aload_n hx hb dX21_of_6 rfl (lv_at hl 2 rfl) ?_
  replace hf := b1_i hf
  obtain ⟨v3, e3, hf⟩ := hf
  refine mm_getIN F hH mc_3 (k := 5) (by decide) q274 (fun _ h => h) e3 dX21_of_7 ?_
  refine lv_if_eq (tgt := 17) hx hb dX21_of_10 (by decide) (fun c4 => ?_) (fun c4 => ?_)
  · rw [if_pos c4] at hf
    refine lv_iconst (v := 0) hx hb dX21_of_17 (by decide) ?_
    obtain ⟨h1, h2⟩ := Prod.mk.inj (Option.some.inj hf)
    subst h1
    subst h2
    exact mm_reti F hH hr hlocks rfl rfl dX21_of_18
  · rw [if_neg c4] at hf
    refine lv_iconst (v := 1) hx hb dX21_of_13 (by decide) ?_
    refine lv_goto (tgt := 18) hx hb dX21_of_14 (by decide) ?_
    obtain ⟨h1, h2⟩ := Prod.mk.inj (Option.some.inj hf)
    subst h1
    subst h2
    exact mm_reti F hH hr hlocks rfl rfl dX21_of_18
theorem mm_runw {p : Program} {l : Launch} {e : Env} {R : Room} {s : State} {m : MethodId} {args : Array Value} {below : List Frame} {meth : Method} {c : Code} {H : Heap} {locs : List Loc} {cells slots mc ms mc' ms' : Nat} {g : JFrame} {rest : List Value} {Qa : State → Outcome → State → Prop} {free : Addr → Prop} (h1 : mc ≤ mc') (h2 : ms ≤ ms') (h : va_Run p l e R s m args below meth c H locs cells slots mc ms g rest Qa free) : va_Run p l e R s m args below meth c H locs cells slots mc' ms' g rest Qa free := by
  intro T hT X
  obtain ⟨v, st₀, t, T', L, h0, X', hL, e1, e2, hq, st⟩ := h T hT X
  exact ⟨v, st₀, t, T', L, h0, stand_widen X' (Nat.add_le_add_left h1 _) (Nat.add_le_add_left h2 _), hL, e1, e2, hq, st⟩
def mm_xo : MethodName := ⟨"IslandHeap$Part", "of", "(LIslandHeap;LIslandHeap$Thing;)I"⟩
theorem mm_pt {own : String} {idx : Nat} {C : String} {y : MethodName} {b : ByteArray} {L : Nat} {r : Option FieldType} (h1 : Cond.methodLink own idx mm_xo ∈ lw_all) (h2 : Cond.selects C mm_xo y ∈ lw_all) (h3 : Cond.instanceMethod y ∈ lw_all) (h5 : Cond.code y b L r ∈ lw_all) : GoodIn lw_all (mm_wsU own idx C "IslandHeap$Part" mm_xo y (ws_ y b L r)) := by
  refine lw_app ?_ (lw_meth h5)
  intro w hw
  simp only [List.mem_cons, List.not_mem_nil, or_false] at hw
  rcases hw with e | e | e | e
  · rw [e]; exact h1
  · rw [e]; exact q414
  · rw [e]; exact h2
  · rw [e]; exact h3
set_option maxHeartbeats 4000000 in
theorem mm_partof {p : Program} {l : Launch} {e : Env} {R : Room} {s : State} {m : MethodId} {args : Array Value} {below : List Frame} {meth : Method} {c : Code} {H : Heap} {locs : List Loc} {cells slots : Nat} {cc : ByteArray} {pc nL index : Nat} {ls : Array Slot} (k : Nat) {rest : List Value} {own : String} {G : mm_G} {σ σ' : mm_M} {h t : Nat} {r : Int32} (F : mm_F p s m args c own cc nL G) (hH : mm_H G s σ H locs) (hv : f_of k h t σ = some (r, σ')) (hlink : Cond.methodLink own index mm_xo ∈ lw_all) (hls : ls.size = nL) (hroom : (rest.map fun v => v.category).sum ≤ 8) (hdg : decode cc pc = .ok (.invokevirtual index, 3)) (hfr : 7 + 1 ≤ R.frames) (hlo : 187 ≤ R.locals) (hf : cells + 1 ≤ R.cells ∧ slots + 8 ≤ R.slots) : va_Run p l e R s m args below meth c H locs cells slots 1 8 (F0 m pc ls (.ref t :: .ref h :: .ref (G.2.2.1 k) :: rest)) rest (mm_Qi G r σ' (Value.ref (G.2.2.1 k) :: [.ref h, .ref t]).toArray) (mm_A G) := by
  have hrec : ∀ j, j < 8 → ∃ cellB : Cell, H[G.2.2.1 j]? = some cellB ∧ cellB.vm.isStatics = false ∧ s.vm.findClass (mm_pc j) = some cellB.cls := by
    intro j hj
    obtain ⟨cell, h1, h2, h3, h4⟩ := (F.2.2.2.2.2.2.2.2.1.1 j hj).2
    exact ⟨cell, by rw [hH.2.2.1 _ (Array.getElem?_eq_some_iff.mp h1).1 h4]; exact h1, h2, h3⟩
  unfold f_of at hv
  by_cases c0 : k = 0
  · rw [if_pos c0] at hv
    subst c0
    obtain ⟨r1, hv1, hw⟩ := Option.map_eq_some_iff.mp hv
    cases hw
    refine mm_runw (mc := 0) (ms := 0) (by decide) (by decide) (mm_runU (C := mm_pc 0) (owner := "IslandHeap$Part") (x := mm_xo) (As := [.ref h, .ref t]) ⟨F.1, F.2.1, F.2.2.1, F.2.2.2.1, F.2.2.2.2.1⟩ (m_X16_of l G h t σ r hv1) (mm_cwA 2 F.2.2.2.2.1 (mm_pt hlink q415 q416 q417) rfl rfl rfl (F.2.2.2.2.2.2.1 _ q413 rfl) (by decide +kernel) ⟨Nat.le_trans (by decide) hfr, Nat.le_trans (by decide) hlo⟩) ⟨mm_Pc.blind, hrec 0 (by decide), fun U hU hW => ⟨rfl, by rw [hU]; exact hH.1, by rw [hU]; exact (hH.K F.2.2.2.2.2).warm hW⟩⟩ rfl rfl hls rfl (lv_room hroom) hdg ⟨Nat.le_trans (Nat.add_le_add_left (by decide) _) hf.1, Nat.le_trans (Nat.add_le_add_left (by decide) _) hf.2⟩)
  rw [if_neg c0] at hv
  by_cases c1 : k = 1
  · rw [if_pos c1] at hv
    subst c1
    obtain ⟨r1, hv1, hw⟩ := Option.map_eq_some_iff.mp hv
    cases hw
    refine mm_runw (mc := 0) (ms := 0) (by decide) (by decide) (mm_runU (C := mm_pc 1) (owner := "IslandHeap$Part") (x := mm_xo) (As := [.ref h, .ref t]) ⟨F.1, F.2.1, F.2.2.1, F.2.2.2.1, F.2.2.2.2.1⟩ (m_X22_of l G h t σ r hv1) (mm_cwA 2 F.2.2.2.2.1 (mm_pt hlink q418 q419 q420) rfl rfl rfl (F.2.2.2.2.2.2.1 _ q413 rfl) (by decide +kernel) ⟨Nat.le_trans (by decide) hfr, Nat.le_trans (by decide) hlo⟩) ⟨mm_Pc.blind, hrec 1 (by decide), fun U hU hW => ⟨rfl, by rw [hU]; exact hH.1, by rw [hU]; exact (hH.K F.2.2.2.2.2).warm hW⟩⟩ rfl rfl hls rfl (lv_room hroom) hdg ⟨Nat.le_trans (Nat.add_le_add_left (by decide) _) hf.1, Nat.le_trans (Nat.add_le_add_left (by decide) _) hf.2⟩)
  rw [if_neg c1] at hv
  by_cases c2 : k = 2
  · rw [if_pos c2] at hv
    subst c2
    obtain ⟨r1, hv1, hw⟩ := Option.map_eq_some_iff.mp hv
    cases hw
    refine mm_runw (mc := 0) (ms := 0) (by decide) (by decide) (mm_runU (C := mm_pc 2) (owner := "IslandHeap$Part") (x := mm_xo) (As := [.ref h, .ref t]) ⟨F.1, F.2.1, F.2.2.1, F.2.2.2.1, F.2.2.2.2.1⟩ (m_X17_of l G h t σ r hv1) (mm_cwA 2 F.2.2.2.2.1 (mm_pt hlink q422 q423 q424) rfl rfl rfl (F.2.2.2.2.2.2.1 _ q413 rfl) (by decide +kernel) ⟨Nat.le_trans (by decide) hfr, Nat.le_trans (by decide) hlo⟩) ⟨mm_Pc.blind, hrec 2 (by decide), fun U hU hW => ⟨rfl, by rw [hU]; exact hH.1, by rw [hU]; exact (hH.K F.2.2.2.2.2).warm hW⟩⟩ rfl rfl hls rfl (lv_room hroom) hdg ⟨Nat.le_trans (Nat.add_le_add_left (by decide) _) hf.1, Nat.le_trans (Nat.add_le_add_left (by decide) _) hf.2⟩)
  rw [if_neg c2] at hv
  by_cases c3 : k = 3
  · rw [if_pos c3] at hv
    subst c3
    obtain ⟨r1, hv1, hw⟩ := Option.map_eq_some_iff.mp hv
    cases hw
    refine mm_runw (mc := 0) (ms := 0) (by decide) (by decide) (mm_runU (C := mm_pc 3) (owner := "IslandHeap$Part") (x := mm_xo) (As := [.ref h, .ref t]) ⟨F.1, F.2.1, F.2.2.1, F.2.2.2.1, F.2.2.2.2.1⟩ (m_X18_of l G h t σ r hv1) (mm_cwA 2 F.2.2.2.2.1 (mm_pt hlink q425 q426 q427) rfl rfl rfl (F.2.2.2.2.2.2.1 _ q413 rfl) (by decide +kernel) ⟨Nat.le_trans (by decide) hfr, Nat.le_trans (by decide) hlo⟩) ⟨mm_Pc.blind, hrec 3 (by decide), fun U hU hW => ⟨rfl, by rw [hU]; exact hH.1, by rw [hU]; exact (hH.K F.2.2.2.2.2).warm hW⟩⟩ rfl rfl hls rfl (lv_room hroom) hdg ⟨Nat.le_trans (Nat.add_le_add_left (by decide) _) hf.1, Nat.le_trans (Nat.add_le_add_left (by decide) _) hf.2⟩)
  rw [if_neg c3] at hv
  by_cases c4 : k = 4
  · rw [if_pos c4] at hv
    subst c4
    obtain ⟨r1, hv1, hw⟩ := Option.map_eq_some_iff.mp hv
    cases hw
    refine mm_runw (mc := 0) (ms := 0) (by decide) (by decide) (mm_runU (C := mm_pc 4) (owner := "IslandHeap$Part") (x := mm_xo) (As := [.ref h, .ref t]) ⟨F.1, F.2.1, F.2.2.1, F.2.2.2.1, F.2.2.2.2.1⟩ (m_X19_of l G h t σ r hv1) (mm_cwA 2 F.2.2.2.2.1 (mm_pt hlink q428 q429 q430) rfl rfl rfl (F.2.2.2.2.2.2.1 _ q413 rfl) (by decide +kernel) ⟨Nat.le_trans (by decide) hfr, Nat.le_trans (by decide) hlo⟩) ⟨mm_Pc.blind, hrec 4 (by decide), fun U hU hW => ⟨rfl, by rw [hU]; exact hH.1, by rw [hU]; exact (hH.K F.2.2.2.2.2).warm hW⟩⟩ rfl rfl hls rfl (lv_room hroom) hdg ⟨Nat.le_trans (Nat.add_le_add_left (by decide) _) hf.1, Nat.le_trans (Nat.add_le_add_left (by decide) _) hf.2⟩)
  rw [if_neg c4] at hv
  by_cases c5 : k = 5
  · rw [if_pos c5] at hv
    subst c5
    obtain ⟨r1, hv1, hw⟩ := Option.map_eq_some_iff.mp hv
    cases hw
    refine mm_runw (mc := 0) (ms := 0) (by decide) (by decide) (mm_runU (C := mm_pc 5) (owner := "IslandHeap$Part") (x := mm_xo) (As := [.ref h, .ref t]) ⟨F.1, F.2.1, F.2.2.1, F.2.2.2.1, F.2.2.2.2.1⟩ (m_X20_of l G h t σ r hv1) (mm_cwA 2 F.2.2.2.2.1 (mm_pt hlink q431 q432 q433) rfl rfl rfl (F.2.2.2.2.2.2.1 _ q413 rfl) (by decide +kernel) ⟨Nat.le_trans (by decide) hfr, Nat.le_trans (by decide) hlo⟩) ⟨mm_Pc.blind, hrec 5 (by decide), fun U hU hW => ⟨rfl, by rw [hU]; exact hH.1, by rw [hU]; exact (hH.K F.2.2.2.2.2).warm hW⟩⟩ rfl rfl hls rfl (lv_room hroom) hdg ⟨Nat.le_trans (Nat.add_le_add_left (by decide) _) hf.1, Nat.le_trans (Nat.add_le_add_left (by decide) _) hf.2⟩)
  rw [if_neg c5] at hv
  by_cases c6 : k = 6
  · rw [if_pos c6] at hv
    subst c6
    obtain ⟨r1, hv1, hw⟩ := Option.map_eq_some_iff.mp hv
    cases hw
    refine mm_runw (mc := 0) (ms := 0) (by decide) (by decide) (mm_runU (C := mm_pc 6) (owner := "IslandHeap$Part") (x := mm_xo) (As := [.ref h, .ref t]) ⟨F.1, F.2.1, F.2.2.1, F.2.2.2.1, F.2.2.2.2.1⟩ (m_X15_of l G h t σ r hv1) (mm_cwA 2 F.2.2.2.2.1 (mm_pt hlink q434 q435 q436) rfl rfl rfl (F.2.2.2.2.2.2.1 _ q413 rfl) (by decide +kernel) ⟨Nat.le_trans (by decide) hfr, Nat.le_trans (by decide) hlo⟩) ⟨mm_Pc.blind, hrec 6 (by decide), fun U hU hW => ⟨rfl, by rw [hU]; exact hH.1, by rw [hU]; exact (hH.K F.2.2.2.2.2).warm hW⟩⟩ rfl rfl hls rfl (lv_room hroom) hdg ⟨Nat.le_trans (Nat.add_le_add_left (by decide) _) hf.1, Nat.le_trans (Nat.add_le_add_left (by decide) _) hf.2⟩)
  rw [if_neg c6] at hv
  by_cases c7 : k = 7
  · rw [if_pos c7] at hv
    subst c7
    refine mm_runw (mc := 1) (ms := 8) (by decide) (by decide) (mm_runU (C := mm_pc 7) (owner := "IslandHeap$Part") (x := mm_xo) (As := [.ref h, .ref t]) ⟨F.1, F.2.1, F.2.2.1, F.2.2.2.1, F.2.2.2.2.1⟩ (m_X21_of l G h t σ σ' r hv) (mm_cwA 2 F.2.2.2.2.1 (mm_pt hlink q444 q445 q446) rfl rfl rfl (F.2.2.2.2.2.2.1 _ q413 rfl) (by decide +kernel) ⟨Nat.le_trans (by decide) hfr, Nat.le_trans (by decide) hlo⟩) ⟨mm_Pc.blind, hrec 7 (by decide), fun U hU hW => ⟨rfl, by rw [hU]; exact hH.1, by rw [hU]; exact (hH.K F.2.2.2.2.2).warm hW⟩⟩ rfl rfl hls rfl (lv_room hroom) hdg ⟨Nat.le_trans (Nat.add_le_add_left (by decide) _) hf.1, Nat.le_trans (Nat.add_le_add_left (by decide) _) hf.2⟩)
  rw [if_neg c7] at hv
  cases hv
/-! IslandHeap.object(II)I -/
abbrev rm_X0_object : Room := { frames := 8, cells := 1, slots := 8, locals := 187 }
set_option maxHeartbeats 4000000 in
theorem m_X0_object (l : Launch) (G : mm_G) (h0 : Nat) (x1 : Int32) (x2 : Int32) (σ : mm_M) (σf : mm_M) (rr : Int32) (hf : f_X0_object h0 x1 x2 σ = some (rr, σf)) : Met l yX0_object (ws_ yX0_object cX0_object 4 ((Option.some .int))) rm_X0_object (mm_Pc G [.ref h0, .int x1, .int x2] σ) (mm_Qi G rr σf) 1 8 (mm_A G) := by
  refine mm_met (by decide) rfl rfl (by  exact Nat.le_of_ble_eq_true rfl) (fun p e s m below meth c ls F hH hr hlocks hname hl => ?_)
  have hl : lv_has ls 4 [(0, .ref h0), (1, .int x1), (2, .int x2)] := by  exact hl
  have F : mm_F p s m _ c RX0 cX0_object 4 G := F
  have hx := F.1
  have hb := F.2.1
  have hml := F.2.2.1
  have hown := F.2.2.2.1
  have hts := F.2.2.2.2.1
  unfold f_X0_object at hf
  refine lv_aload_n hx hb dX0_object_0 rfl (lv_at hl 0 rfl) ?_
  replace hf := b1_i hf
  obtain ⟨q1, e1, hf⟩ := hf
  refine mm_getA F hH mc_0 (k := 0) (by decide) (hts _ q185) (fun _ h => h) e1 dX0_object_1 ?_
  refine lv_iload_n hx hb dX0_object_4 rfl (lv_at hl 1 rfl) ?_
  replace hf := b1_i hf
  obtain ⟨u, e2, hf⟩ := hf
  obtain ⟨fs, ek⟩ := ck_i e2
  replace hf := b1_i hf
  obtain ⟨p2, e3, hf⟩ := hf
  refine mm_cq (va_runV (As := [.int x1]) (rest := []) ⟨hx, hb, hml, hown, hts⟩ (m_X1_at l G q1 x1 σ p2 e3) (cwV 1 hts (lw_V q384 q385 q386 q63 q387) rfl rfl rfl (by decide +kernel) ⟨Nat.le_of_ble_eq_true rfl, Nat.le_of_ble_eq_true rfl⟩) (mm_preV F.2.2.2.2.2 hH (ci := 1) rfl ek) rfl rfl hl.1 rfl (lv_room (Nat.le_of_ble_eq_true rfl)) dX0_object_5 ⟨Nat.le_of_ble_eq_true rfl, Nat.le_of_ble_eq_true rfl⟩) hH (fun H locs hH => ?_)
  refine mm_astore_n (r := p2) (lv' := [(3, va_rf p2), (0, .ref h0), (1, .int x1), (2, .int x2)]) hx hb dX0_object_8 rfl hl (by decide) rfl (fun ls hl => ?_)
  refine mm_aload_n (r := p2) hx hb dX0_object_9 rfl (lv_at hl 0 rfl) ?_
  cases p2 with
  | none =>
    rw [mt_n] at hf
    refine lv_ifnullN (tgt := 23) hx hb dX0_object_10 (by decide) ?_
    refine lv_ldc (v := (-1000002)) hx hb hown (hts _ q219) dX0_object_23 ?_
    refine lv_goto (tgt := 37) hx hb dX0_object_25 (by decide) ?_
    obtain ⟨h1, h2⟩ := Prod.mk.inj (Option.some.inj hf)
    subst h1
    subst h2
    refine W.widen (k := 1) (n := 8) (Nat.le_of_ble_eq_true rfl) (Nat.le_of_ble_eq_true rfl) ?_
    exact mm_reti F hH hr hlocks rfl rfl dX0_object_37
  | some q3 =>
    rw [mt_s] at hf
    refine lv_ifnull hx hb dX0_object_10 ?_
    refine lv_iload_n hx hb dX0_object_13 rfl (lv_at hl 3 rfl) ?_
    refine lv_iconst (v := 0) hx hb dX0_object_14 (by decide) ?_
    refine lv_bipush (v := 7) hx hb dX0_object_15 (by decide) ?_
    replace hf := b1_i hf
    obtain ⟨v4, e4, hf⟩ := hf
    refine mm_ci (va_runS (As := [.int x2, .int (0 : Int32), .int (7 : Int32)]) (rest := []) ⟨hx, hb, hml, hown, hts⟩ (m_X0_isIn l G x2 (0 : Int32) (7 : Int32) σ v4 e4) (va_cwS 3 hts (lw_S q216 q217 q62 q218) rfl rfl rfl (by decide +kernel) ⟨Nat.le_of_ble_eq_true rfl, Nat.le_of_ble_eq_true rfl⟩) (mm_preS F.2.2.2.2.2 hH) rfl rfl hl.1 rfl (lv_room (Nat.le_of_ble_eq_true rfl)) dX0_object_17 ⟨Nat.le_of_ble_eq_true rfl, Nat.le_of_ble_eq_true rfl⟩) hH (fun H locs hH => ?_)
    refine lv_if_ne (tgt := 28) hx hb dX0_object_20 (by decide) (fun c5 => ?_) (fun c5 => ?_)
    · rw [if_neg c5] at hf
      refine lv_iload_n hx hb dX0_object_28 rfl (lv_at hl 3 rfl) ?_
      replace hf := b1_i hf
      obtain ⟨j6, e5, hf⟩ := hf
      refine mm_cq (va_runS (As := [.int x2]) (rest := []) ⟨hx, hb, hml, hown, hts⟩ (m_X0_part l G x2 σ j6 e5) (va_cwS 1 hts (lw_S q393 q394 q62 q395) rfl rfl rfl (by decide +kernel) ⟨Nat.le_of_ble_eq_true rfl, Nat.le_of_ble_eq_true rfl⟩) (mm_preS F.2.2.2.2.2 hH) rfl rfl hl.1 rfl (lv_room (Nat.le_of_ble_eq_true rfl)) dX0_object_29 ⟨Nat.le_of_ble_eq_true rfl, Nat.le_of_ble_eq_true rfl⟩) hH (fun H locs hH => ?_)
      refine lv_aload_n hx hb dX0_object_32 rfl (lv_at hl 1 rfl) ?_
      refine lv_aload_n hx hb dX0_object_33 rfl (lv_at hl 0 rfl) ?_
      replace hf := b2_i hf
      obtain ⟨v7, σ8, e6, hf⟩ := hf
      refine mm_ci (mm_partof j6 (rest := []) F hH e6 q412 hl.1 (Nat.le_of_ble_eq_true rfl) dX0_object_34 (Nat.le_of_ble_eq_true rfl) (Nat.le_of_ble_eq_true rfl) ⟨Nat.le_of_ble_eq_true rfl, Nat.le_of_ble_eq_true rfl⟩) hH (fun H locs hH => ?_)
      obtain ⟨h1, h2⟩ := Prod.mk.inj (Option.some.inj hf)
      subst h1
      subst h2
      exact mm_reti F hH hr hlocks rfl rfl dX0_object_37
    · rw [if_pos c5] at hf
      refine lv_ldc (v := (-1000002)) hx hb hown (hts _ q219) dX0_object_23 ?_
      refine lv_goto (tgt := 37) hx hb dX0_object_25 (by decide) ?_
      obtain ⟨h1, h2⟩ := Prod.mk.inj (Option.some.inj hf)
      subst h1
      subst h2
      refine W.widen (k := 1) (n := 8) (Nat.le_of_ble_eq_true rfl) (Nat.le_of_ble_eq_true rfl) ?_
      exact mm_reti F hH hr hlocks rfl rfl dX0_object_37
/-! IslandHeap.next(I)I -/
abbrev rm_X0_next : Room := { frames := 3, cells := 0, slots := 0, locals := 64 }
set_option maxHeartbeats 4000000 in
theorem w_X0_next_42 {p : Program} {l : Launch} {e : Env} {s : State} {m : MethodId} {av : Array Value} {below : List Frame} {meth : Method} {c : Code} {G : mm_G} {rr : Int32} {n : Nat} {σ : mm_M} {h0 : Nat} {x1 : Int32} (F : mm_F p s m av c RX0 cX0_next 4 G) (hr : meth.sig.returnType = (Option.some .int)) (hlocks : meth.locks = false) (hname : meth.name = yX0_next.name) (IH42 : ∀ (x3 : Int32) (H : Heap) (locs : List Loc) (ls : Array Slot), mm_H G s σ H locs → lv_has ls 4 [(0, .ref h0), (1, .int x1), (3, .int x3)] → itn (s_X0_next h0 x1 σ) n x3 = some rr → W p l e rm_X0_next s m av below meth c H locs 0 0 (MQ below (mm_Qi G rr σ) av s 0 0 (mm_A G)) (F0 m 42 ls []))  (x3 : Int32)  (hf : evn (s_X0_next h0 x1 σ) n (g_X0_next_42 h0 x1 x3 σ) = some rr) {H : Heap} {locs : List Loc} {ls : Array Slot} (hH : mm_H G s σ H locs) (hl : lv_has ls 4 [(0, .ref h0), (1, .int x1), (3, .int x3)]) : W p l e rm_X0_next s m av below meth c H locs 0 0 (MQ below (mm_Qi G rr σ) av s 0 0 (mm_A G)) (F0 m 42 ls []) := by
  have hx := F.1
  have hb := F.2.1
  have hml := F.2.2.1
  have hown := F.2.2.2.1
  have hts := F.2.2.2.2.1
  unfold g_X0_next_42 at hf
  refine lv_iload_n hx hb dX0_next_42 rfl (lv_at hl 2 rfl) ?_
  refine lv_aload_n hx hb dX0_next_43 rfl (lv_at hl 0 rfl) ?_
  replace hf := evn_b1 hf
  obtain ⟨q1, e1, hf⟩ := hf
  refine mm_getA F hH mc_0 (k := 0) (by decide) (hts _ q185) (fun _ h => h) e1 dX0_next_44 ?_
  replace hf := evn_b1 hf
  obtain ⟨v2, e2, hf⟩ := hf
  refine mm_getIN F hH mc_1 (k := 0) (by decide) q133 (fun _ h => h) e2 dX0_next_47 ?_
  refine lv_icmp_ge (tgt := 72) hx hb dX0_next_50 (by decide) (fun c3 => ?_) (fun c3 => ?_)
  · rw [if_pos c3] at hf
    refine lv_iconst (v := (-1)) hx hb dX0_next_72 (by decide) ?_
    rw [evn_r] at hf
    have h1 := Option.some.inj hf
    subst h1
    exact mm_reti F hH hr hlocks rfl rfl dX0_next_73
  · rw [if_neg c3] at hf
    refine lv_aload_n hx hb dX0_next_53 rfl (lv_at hl 0 rfl) ?_
    replace hf := evn_b1 hf
    obtain ⟨q4, e3, hf⟩ := hf
    refine mm_getA F hH mc_0 (k := 0) (by decide) (hts _ q185) (fun _ h => h) e3 dX0_next_54 ?_
    refine lv_iload_n hx hb dX0_next_57 rfl (lv_at hl 2 rfl) ?_
    replace hf := evn_b1 hf
    obtain ⟨u, e4, hf⟩ := hf
    obtain ⟨fs, ek⟩ := ck_i e4
    replace hf := evn_b1 hf
    obtain ⟨p5, e5, hf⟩ := hf
    refine mm_cq (va_runV (As := [.int x3]) (rest := []) ⟨hx, hb, hml, hown, hts⟩ (m_X1_at l G q4 x3 σ p5 e5) (cwV 1 hts (lw_V q384 q385 q386 q63 q387) rfl rfl rfl (by decide +kernel) ⟨Nat.le_of_ble_eq_true rfl, Nat.le_of_ble_eq_true rfl⟩) (mm_preV F.2.2.2.2.2 hH (ci := 1) rfl ek) rfl rfl hl.1 rfl (lv_room (Nat.le_of_ble_eq_true rfl)) dX0_next_58 ⟨Nat.le_of_ble_eq_true rfl, Nat.le_of_ble_eq_true rfl⟩) hH (fun H locs hH => ?_)
    cases p5 with
    | none =>
      rw [mt_n] at hf
      refine lv_ifnullN (tgt := 66) hx hb dX0_next_61 (by decide) ?_
      refine lv_iinc (v := x3 + (1 : Int32)) (lv' := [(3, .int (x3 + (1 : Int32))), (0, .ref h0), (1, .int x1)]) hx hb dX0_next_66 hl (k := 2) rfl rfl (by decide) rfl (fun ls hl => ?_)
      refine lv_goto (tgt := 42) hx hb dX0_next_69 (by decide) ?_
      rw [evn_l] at hf
      exact IH42 (x3 + (1 : Int32)) _ _ _ hH (lv_sub hl [1, 2, 0] rfl) hf
    | some q6 =>
      rw [mt_s] at hf
      refine lv_ifnull hx hb dX0_next_61 ?_
      refine lv_iload_n hx hb dX0_next_64 rfl (lv_at hl 2 rfl) ?_
      rw [evn_r] at hf
      have h1 := Option.some.inj hf
      subst h1
      exact mm_reti F hH hr hlocks rfl rfl dX0_next_65
set_option maxHeartbeats 4000000 in
theorem w_X0_next_19 {p : Program} {l : Launch} {e : Env} {s : State} {m : MethodId} {av : Array Value} {below : List Frame} {meth : Method} {c : Code} {G : mm_G} {rr : Int32} {n : Nat} {σ : mm_M} {h0 : Nat} {x1 : Int32} (F : mm_F p s m av c RX0 cX0_next 4 G) (hr : meth.sig.returnType = (Option.some .int)) (hlocks : meth.locks = false) (hname : meth.name = yX0_next.name) (IH42 : ∀ (x3 : Int32) (H : Heap) (locs : List Loc) (ls : Array Slot), mm_H G s σ H locs → lv_has ls 4 [(0, .ref h0), (1, .int x1), (3, .int x3)] → itn (s_X0_next h0 x1 σ) n x3 = some rr → W p l e rm_X0_next s m av below meth c H locs 0 0 (MQ below (mm_Qi G rr σ) av s 0 0 (mm_A G)) (F0 m 42 ls []))    (hf : evn (s_X0_next h0 x1 σ) n (g_X0_next_19 h0 x1 σ) = some rr) {H : Heap} {locs : List Loc} {ls : Array Slot} (hH : mm_H G s σ H locs) (hl : lv_has ls 4 [(0, .ref h0), (1, .int x1)]) : W p l e rm_X0_next s m av below meth c H locs 0 0 (MQ below (mm_Qi G rr σ) av s 0 0 (mm_A G)) (F0 m 19 ls []) := by
  have hx := F.1
  have hb := F.2.1
  have hml := F.2.2.1
  have hown := F.2.2.2.1
  have hts := F.2.2.2.2.1
  unfold g_X0_next_19 at hf
  refine lv_iload_n hx hb dX0_next_19 rfl (lv_at hl 1 rfl) ?_
  refine lv_iconst (v := (-1)) hx hb dX0_next_20 (by decide) ?_
  refine lv_icmp_ne (tgt := 28) hx hb dX0_next_21 (by decide) (fun c1 => ?_) (fun c1 => ?_)
  · rw [if_neg c1] at hf
    refine lv_aload_n hx hb dX0_next_28 rfl (lv_at hl 0 rfl) ?_
    replace hf := evn_b1 hf
    obtain ⟨q2, e1, hf⟩ := hf
    refine mm_getA F hH mc_0 (k := 0) (by decide) (hts _ q185) (fun _ h => h) e1 dX0_next_29 ?_
    refine lv_iload_n hx hb dX0_next_32 rfl (lv_at hl 1 rfl) ?_
    replace hf := evn_b1 hf
    obtain ⟨u, e2, hf⟩ := hf
    obtain ⟨fs, ek⟩ := ck_i e2
    replace hf := evn_b1 hf
    obtain ⟨p3, e3, hf⟩ := hf
    refine mm_cq (va_runV (As := [.int x1]) (rest := []) ⟨hx, hb, hml, hown, hts⟩ (m_X1_at l G q2 x1 σ p3 e3) (cwV 1 hts (lw_V q384 q385 q386 q63 q387) rfl rfl rfl (by decide +kernel) ⟨Nat.le_of_ble_eq_true rfl, Nat.le_of_ble_eq_true rfl⟩) (mm_preV F.2.2.2.2.2 hH (ci := 1) rfl ek) rfl rfl hl.1 rfl (lv_room (Nat.le_of_ble_eq_true rfl)) dX0_next_33 ⟨Nat.le_of_ble_eq_true rfl, Nat.le_of_ble_eq_true rfl⟩) hH (fun H locs hH => ?_)
    replace hf := evn_b1 hf
    obtain ⟨q4, e4, hf⟩ := hf
    subst e4
    replace hf := evn_b1 hf
    obtain ⟨u, e5, hf⟩ := hf
    obtain ⟨fs, ek⟩ := ck_i e5
    replace hf := evn_b1 hf
    obtain ⟨v5, e6, hf⟩ := hf
    refine mm_ci (va_runV (As := []) (rest := []) ⟨hx, hb, hml, hown, hts⟩ (m_X3_end l G q4 σ v5 e6) (cwV 0 hts (lw_V q516 q237 q238 q68 q239) rfl rfl rfl (by decide +kernel) ⟨Nat.le_of_ble_eq_true rfl, Nat.le_of_ble_eq_true rfl⟩) (mm_preV F.2.2.2.2.2 hH (ci := 3) rfl ek) rfl rfl hl.1 rfl (lv_room (Nat.le_of_ble_eq_true rfl)) dX0_next_36 ⟨Nat.le_of_ble_eq_true rfl, Nat.le_of_ble_eq_true rfl⟩) hH (fun H locs hH => ?_)
    refine lv_istore_n (lv' := [(2, .int v5), (0, .ref h0), (1, .int x1)]) hx hb dX0_next_39 rfl hl (by decide) rfl (fun ls hl => ?_)
    refine lv_iload_n hx hb dX0_next_40 rfl (lv_at hl 0 rfl) ?_
    refine lv_istore_n (lv' := [(3, .int v5), (2, .int v5), (0, .ref h0), (1, .int x1)]) hx hb dX0_next_41 rfl hl (by decide) rfl (fun ls hl => ?_)
    rw [evn_l] at hf
    exact IH42 v5 _ _ _ hH (lv_sub hl [2, 3, 0] rfl) hf
  · rw [if_pos c1] at hf
    refine lv_iconst (v := 0) hx hb dX0_next_24 (by decide) ?_
    refine lv_goto (tgt := 39) hx hb dX0_next_25 (by decide) ?_
    refine lv_istore_n (lv' := [(2, .int (0 : Int32)), (0, .ref h0), (1, .int x1)]) hx hb dX0_next_39 rfl hl (by decide) rfl (fun ls hl => ?_)
    refine lv_iload_n hx hb dX0_next_40 rfl (lv_at hl 0 rfl) ?_
    refine lv_istore_n (lv' := [(3, .int (0 : Int32)), (2, .int (0 : Int32)), (0, .ref h0), (1, .int x1)]) hx hb dX0_next_41 rfl hl (by decide) rfl (fun ls hl => ?_)
    rw [evn_l] at hf
    exact IH42 (0 : Int32) _ _ _ hH (lv_sub hl [2, 3, 0] rfl) hf
set_option maxHeartbeats 4000000 in
theorem w_X0_next_0 {p : Program} {l : Launch} {e : Env} {s : State} {m : MethodId} {av : Array Value} {below : List Frame} {meth : Method} {c : Code} {G : mm_G} {rr : Int32} {n : Nat} {σ : mm_M} {h0 : Nat} {x1 : Int32} (F : mm_F p s m av c RX0 cX0_next 4 G) (hr : meth.sig.returnType = (Option.some .int)) (hlocks : meth.locks = false) (hname : meth.name = yX0_next.name) (IH42 : ∀ (x3 : Int32) (H : Heap) (locs : List Loc) (ls : Array Slot), mm_H G s σ H locs → lv_has ls 4 [(0, .ref h0), (1, .int x1), (3, .int x3)] → itn (s_X0_next h0 x1 σ) n x3 = some rr → W p l e rm_X0_next s m av below meth c H locs 0 0 (MQ below (mm_Qi G rr σ) av s 0 0 (mm_A G)) (F0 m 42 ls []))    (hf : evn (s_X0_next h0 x1 σ) n (g_X0_next_0 h0 x1 σ) = some rr) {H : Heap} {locs : List Loc} {ls : Array Slot} (hH : mm_H G s σ H locs) (hl : lv_has ls 4 [(0, .ref h0), (1, .int x1)]) : W p l e rm_X0_next s m av below meth c H locs 0 0 (MQ below (mm_Qi G rr σ) av s 0 0 (mm_A G)) (F0 m 0 ls []) := by
  have hx := F.1
  have hb := F.2.1
  have hml := F.2.2.1
  have hown := F.2.2.2.1
  have hts := F.2.2.2.2.1
  unfold g_X0_next_0 at hf
  refine lv_iload_n hx hb dX0_next_0 rfl (lv_at hl 1 rfl) ?_
  refine lv_iconst (v := (-1)) hx hb dX0_next_1 (by decide) ?_
  refine lv_icmp_eq (tgt := 19) hx hb dX0_next_2 (by decide) (fun c1 => ?_) (fun c1 => ?_)
  · rw [if_pos c1] at hf
    exact w_X0_next_19 F hr hlocks hname IH42  hf hH (lv_sub hl [0, 1] rfl)
  · rw [if_neg c1] at hf
    refine lv_aload_n hx hb dX0_next_5 rfl (lv_at hl 0 rfl) ?_
    replace hf := evn_b1 hf
    obtain ⟨q2, e1, hf⟩ := hf
    refine mm_getA F hH mc_0 (k := 0) (by decide) (hts _ q185) (fun _ h => h) e1 dX0_next_6 ?_
    refine lv_iload_n hx hb dX0_next_9 rfl (lv_at hl 1 rfl) ?_
    replace hf := evn_b1 hf
    obtain ⟨u, e2, hf⟩ := hf
    obtain ⟨fs, ek⟩ := ck_i e2
    replace hf := evn_b1 hf
    obtain ⟨p3, e3, hf⟩ := hf
    refine mm_cq (va_runV (As := [.int x1]) (rest := []) ⟨hx, hb, hml, hown, hts⟩ (m_X1_at l G q2 x1 σ p3 e3) (cwV 1 hts (lw_V q384 q385 q386 q63 q387) rfl rfl rfl (by decide +kernel) ⟨Nat.le_of_ble_eq_true rfl, Nat.le_of_ble_eq_true rfl⟩) (mm_preV F.2.2.2.2.2 hH (ci := 1) rfl ek) rfl rfl hl.1 rfl (lv_room (Nat.le_of_ble_eq_true rfl)) dX0_next_10 ⟨Nat.le_of_ble_eq_true rfl, Nat.le_of_ble_eq_true rfl⟩) hH (fun H locs hH => ?_)
    cases p3 with
    | none =>
      rw [mt_n] at hf
      refine lv_ifnonnullN hx hb dX0_next_13 ?_
      refine lv_ldc (v := (-1000002)) hx hb hown (hts _ q219) dX0_next_16 ?_
      rw [evn_r] at hf
      have h1 := Option.some.inj hf
      subst h1
      exact mm_reti F hH hr hlocks rfl rfl dX0_next_18
    | some q4 =>
      rw [mt_s] at hf
      refine lv_ifnonnull (tgt := 19) hx hb dX0_next_13 (by decide) ?_
      exact w_X0_next_19 F hr hlocks hname IH42  hf hH (lv_sub hl [0, 1] rfl)
set_option maxHeartbeats 4000000 in
theorem l_X0_next {p : Program} {l : Launch} {e : Env} {s : State} {m : MethodId} {av : Array Value} {below : List Frame} {meth : Method} {c : Code} {G : mm_G} {rr : Int32} {σ : mm_M} {h0 : Nat} {x1 : Int32} (F : mm_F p s m av c RX0 cX0_next 4 G) (hr : meth.sig.returnType = (Option.some .int)) (hlocks : meth.locks = false) (hname : meth.name = yX0_next.name) : ∀ n : Nat, (∀ (x3 : Int32) (H : Heap) (locs : List Loc) (ls : Array Slot), mm_H G s σ H locs → lv_has ls 4 [(0, .ref h0), (1, .int x1), (3, .int x3)] → itn (s_X0_next h0 x1 σ) n x3 = some rr → W p l e rm_X0_next s m av below meth c H locs 0 0 (MQ below (mm_Qi G rr σ) av s 0 0 (mm_A G)) (F0 m 42 ls [])) := by
  intro n
  induction n with
  | zero =>
    exact fun x3 H locs ls hH hl hf => by cases hf
  | succ n ih =>
    have IH42 := ih
    intro x3 H locs ls hH hl hf
    rw [itn_s] at hf
    exact w_X0_next_42 F hr hlocks hname IH42 x3 hf hH hl
set_option maxHeartbeats 4000000 in
theorem m_X0_next (l : Launch) (G : mm_G) (h0 : Nat) (x1 : Int32) (σ : mm_M) (rr : Int32) (hf : f_X0_next h0 x1 σ = some rr) : Met l yX0_next (ws_ yX0_next cX0_next 4 ((Option.some .int))) rm_X0_next (mm_Pc G [.ref h0, .int x1] σ) (mm_Qi G rr σ) 0 0 (mm_A G) := by
  refine mm_met (by decide) rfl rfl (by  exact Nat.le_of_ble_eq_true rfl) (fun p e s m below meth c ls F hH hr hlocks hname hl => ?_)
  have hl : lv_has ls 4 [(0, .ref h0), (1, .int x1)] := by  exact hl
  have F : mm_F p s m _ c RX0 cX0_next 4 G := F
  unfold f_X0_next at hf
  obtain ⟨n, hf⟩ := lgo_i hf
  have IH := l_X0_next (l := l) (e := e) (below := below) (rr := rr) (σ := σ) (h0 := h0) (x1 := x1) F hr hlocks hname n
  exact w_X0_next_0 F hr hlocks hname IH  hf hH (lv_sub hl [0, 1] rfl)
/-! IslandHeap.hasField(LIslandHeap$Thing;I)Z -/
abbrev rm_X0_hasField : Room := { frames := 1, cells := 0, slots := 0, locals := 22 }
set_option maxHeartbeats 4000000 in
theorem m_X0_hasField (l : Launch) (G : mm_G) (h0 : Nat) (r1 : Option Nat) (x2 : Int32) (σ : mm_M) (rr : Int32) (hf : f_X0_hasField h0 r1 x2 σ = some rr) : Met l yX0_hasField (ws_ yX0_hasField cX0_hasField 3 ((Option.some .boolean))) rm_X0_hasField (mm_Pc G [.ref h0, va_rf r1, .int x2] σ) (mm_Qi G rr σ) 0 0 (mm_A G) := by
  refine mm_met (by decide) rfl rfl (by cases r1 <;> exact Nat.le_of_ble_eq_true rfl) (fun p e s m below meth c ls F hH hr hlocks hname hl => ?_)
  have hl : lv_has ls 3 [(0, .ref h0), (1, va_rf r1), (2, .int x2)] := by cases r1 <;> exact hl
  have F : mm_F p s m _ c RX0 cX0_hasField 3 G := F
  have hx := F.1
  have hb := F.2.1
  have hml := F.2.2.1
  have hown := F.2.2.2.1
  have hts := F.2.2.2.2.1
  unfold f_X0_hasField at hf
  refine mm_aload_n (r := r1) hx hb dX0_hasField_0 rfl (lv_at hl 1 rfl) ?_
  cases r1 with
  | none =>
    rw [mt_n] at hf
    refine lv_ifnullN (tgt := 23) hx hb dX0_hasField_1 (by decide) ?_
    refine lv_iconst (v := 0) hx hb dX0_hasField_23 (by decide) ?_
    have h1 := Option.some.inj hf
    subst h1
    exact mm_reti F hH hr hlocks rfl rfl dX0_hasField_24
  | some q1 =>
    rw [mt_s] at hf
    refine lv_ifnull hx hb dX0_hasField_1 ?_
    refine lv_iload_n hx hb dX0_hasField_4 rfl (lv_at hl 2 rfl) ?_
    refine lv_iconst (v := 0) hx hb dX0_hasField_5 (by decide) ?_
    refine lv_aload_n hx hb dX0_hasField_6 rfl (lv_at hl 1 rfl) ?_
    replace hf := b1_i hf
    obtain ⟨q2, e1, hf⟩ := hf
    refine mm_getAN F hH mc_3 (k := 1) (by decide) q258 (fun _ h => h) e1 dX0_hasField_7 ?_
    replace hf := b1_i hf
    obtain ⟨v3, e2, hf⟩ := hf
    refine mm_alen F hH e2 dX0_hasField_10 ?_
    refine lv_iconst (v := 1) hx hb dX0_hasField_11 (by decide) ?_
    refine lv_isub hx hb dX0_hasField_12 ?_
    replace hf := b1_i hf
    obtain ⟨v4, e3, hf⟩ := hf
    refine mm_ci (va_runS (As := [.int x2, .int (0 : Int32), .int (v3 - (1 : Int32))]) (rest := []) ⟨hx, hb, hml, hown, hts⟩ (m_X0_isIn l G x2 (0 : Int32) (v3 - (1 : Int32)) σ v4 e3) (va_cwS 3 hts (lw_S q216 q217 q62 q218) rfl rfl rfl (by decide +kernel) ⟨Nat.le_of_ble_eq_true rfl, Nat.le_of_ble_eq_true rfl⟩) (mm_preS F.2.2.2.2.2 hH) rfl rfl hl.1 rfl (lv_room (Nat.le_of_ble_eq_true rfl)) dX0_hasField_13 ⟨Nat.le_of_ble_eq_true rfl, Nat.le_of_ble_eq_true rfl⟩) hH (fun H locs hH => ?_)
    refine lv_if_eq (tgt := 23) hx hb dX0_hasField_16 (by decide) (fun c5 => ?_) (fun c5 => ?_)
    · rw [if_pos c5] at hf
      refine lv_iconst (v := 0) hx hb dX0_hasField_23 (by decide) ?_
      have h1 := Option.some.inj hf
      subst h1
      exact mm_reti F hH hr hlocks rfl rfl dX0_hasField_24
    · rw [if_neg c5] at hf
      refine lv_iconst (v := 1) hx hb dX0_hasField_19 (by decide) ?_
      refine lv_goto (tgt := 24) hx hb dX0_hasField_20 (by decide) ?_
      have h1 := Option.some.inj hf
      subst h1
      exact mm_reti F hH hr hlocks rfl rfl dX0_hasField_24
/-! IslandHeap$Heap.isReference(I)Z -/
abbrev rm_X1_isReference : Room := { frames := 3, cells := 0, slots := 0, locals := 64 }
set_option maxHeartbeats 4000000 in
theorem m_X1_isReference (l : Launch) (G : mm_G) (h0 : Nat) (x1 : Int32) (σ : mm_M) (rr : Int32) (hf : f_X1_isReference h0 x1 σ = some rr) : Met l yX1_isReference (ws_ yX1_isReference cX1_isReference 2 ((Option.some .boolean))) rm_X1_isReference (mm_Pc G [.ref h0, .int x1] σ) (mm_Qi G rr σ) 0 0 (mm_A G) := by
  refine mm_met (by decide) rfl rfl (by  exact Nat.le_of_ble_eq_true rfl) (fun p e s m below meth c ls F hH hr hlocks hname hl => ?_)
  have hl : lv_has ls 2 [(0, .ref h0), (1, .int x1)] := by  exact hl
  have F : mm_F p s m _ c RX1 cX1_isReference 2 G := F
  have hx := F.1
  have hb := F.2.1
  have hml := F.2.2.1
  have hown := F.2.2.2.1
  have hts := F.2.2.2.2.1
  unfold f_X1_isReference at hf
  refine lv_iload_n hx hb dX1_isReference_0 rfl (lv_at hl 1 rfl) ?_
  refine lv_iconst (v := (-1)) hx hb dX1_isReference_1 (by decide) ?_
  refine lv_icmp_eq (tgt := 13) hx hb dX1_isReference_2 (by decide) (fun c1 => ?_) (fun c1 => ?_)
  · rw [if_pos c1] at hf
    refine lv_iconst (v := 1) hx hb dX1_isReference_13 (by decide) ?_
    refine lv_goto (tgt := 18) hx hb dX1_isReference_14 (by decide) ?_
    have h1 := Option.some.inj hf
    subst h1
    exact mm_reti F hH hr hlocks rfl rfl dX1_isReference_18
  · rw [if_neg c1] at hf
    refine lv_aload_n hx hb dX1_isReference_5 rfl (lv_at hl 0 rfl) ?_
    refine lv_iload_n hx hb dX1_isReference_6 rfl (lv_at hl 1 rfl) ?_
    replace hf := b1_i hf
    obtain ⟨u, e1, hf⟩ := hf
    obtain ⟨fs, ek⟩ := ck_i e1
    replace hf := b1_i hf
    obtain ⟨p2, e2, hf⟩ := hf
    refine mm_cq (va_runV (As := [.int x1]) (rest := []) ⟨hx, hb, hml, hown, hts⟩ (m_X1_at l G h0 x1 σ p2 e2) (cwV 1 hts (lw_V q529 q385 q386 q63 q387) rfl rfl rfl (by decide +kernel) ⟨Nat.le_of_ble_eq_true rfl, Nat.le_of_ble_eq_true rfl⟩) (mm_preV F.2.2.2.2.2 hH (ci := 1) rfl ek) rfl rfl hl.1 rfl (lv_room (Nat.le_of_ble_eq_true rfl)) dX1_isReference_7 ⟨Nat.le_of_ble_eq_true rfl, Nat.le_of_ble_eq_true rfl⟩) hH (fun H locs hH => ?_)
    cases p2 with
    | none =>
      rw [mt_n] at hf
      refine lv_ifnullN (tgt := 17) hx hb dX1_isReference_10 (by decide) ?_
      refine lv_iconst (v := 0) hx hb dX1_isReference_17 (by decide) ?_
      have h1 := Option.some.inj hf
      subst h1
      exact mm_reti F hH hr hlocks rfl rfl dX1_isReference_18
    | some q3 =>
      rw [mt_s] at hf
      refine lv_ifnull hx hb dX1_isReference_10 ?_
      refine lv_iconst (v := 1) hx hb dX1_isReference_13 (by decide) ?_
      refine lv_goto (tgt := 18) hx hb dX1_isReference_14 (by decide) ?_
      have h1 := Option.some.inj hf
      subst h1
      exact mm_reti F hH hr hlocks rfl rfl dX1_isReference_18
/-! IslandHeap.exchange([III)I -/
abbrev rm_X0_exchange : Room := { frames := 0, cells := 0, slots := 0, locals := 0 }
set_option maxHeartbeats 4000000 in
theorem m_X0_exchange (l : Launch) (G : mm_G) (a0 : Nat) (x1 : Int32) (x2 : Int32) (σ : mm_M) (σf : mm_M) (rr : Int32) (hf : f_X0_exchange a0 x1 x2 σ = some (rr, σf)) : Met l yX0_exchange (ws_ yX0_exchange cX0_exchange 4 ((Option.some .int))) rm_X0_exchange (mm_Pc G [.ref a0, .int x1, .int x2] σ) (mm_Qi G rr σf) 0 0 (mm_A G) := by
  refine mm_met (by decide) rfl rfl (by  exact Nat.le_of_ble_eq_true rfl) (fun p e s m below meth c ls F hH hr hlocks hname hl => ?_)
  have hl : lv_has ls 4 [(0, .ref a0), (1, .int x1), (2, .int x2)] := by  exact hl
  have F : mm_F p s m _ c RX0 cX0_exchange 4 G := F
  have hx := F.1
  have hb := F.2.1
  have hml := F.2.2.1
  have hown := F.2.2.2.1
  have hts := F.2.2.2.2.1
  unfold f_X0_exchange at hf
  refine lv_aload_n hx hb dX0_exchange_0 rfl (lv_at hl 0 rfl) ?_
  refine lv_iload_n hx hb dX0_exchange_1 rfl (lv_at hl 1 rfl) ?_
  replace hf := b1_i hf
  obtain ⟨v1, e1, hf⟩ := hf
  refine mm_iald F hH e1 dX0_exchange_2 ?_
  refine lv_istore_n (lv' := [(3, .int v1), (0, .ref a0), (1, .int x1), (2, .int x2)]) hx hb dX0_exchange_3 rfl hl (by decide) rfl (fun ls hl => ?_)
  refine lv_aload_n hx hb dX0_exchange_4 rfl (lv_at hl 1 rfl) ?_
  refine lv_iload_n hx hb dX0_exchange_5 rfl (lv_at hl 2 rfl) ?_
  refine lv_iload_n hx hb dX0_exchange_6 rfl (lv_at hl 3 rfl) ?_
  replace hf := b1_i hf
  obtain ⟨σ2, e2, hf⟩ := hf
  refine mm_iast F hH e2 dX0_exchange_7 (fun H locs hH => ?_)
  refine lv_iload_n hx hb dX0_exchange_8 rfl (lv_at hl 0 rfl) ?_
  obtain ⟨h1, h2⟩ := Prod.mk.inj (Option.some.inj hf)
  subst h1
  subst h2
  exact mm_reti F hH hr hlocks rfl rfl dX0_exchange_9
/-! IslandHeap.setField(III)I -/
abbrev rm_X0_setField : Room := { frames := 4, cells := 0, slots := 0, locals := 85 }
set_option maxHeartbeats 4000000 in
theorem m_X0_setField (l : Launch) (G : mm_G) (h0 : Nat) (x1 : Int32) (x2 : Int32) (x3 : Int32) (σ : mm_M) (σf : mm_M) (rr : Int32) (hf : f_X0_setField h0 x1 x2 x3 σ = some (rr, σf)) : Met l yX0_setField (ws_ yX0_setField cX0_setField 5 ((Option.some .int))) rm_X0_setField (mm_Pc G [.ref h0, .int x1, .int x2, .int x3] σ) (mm_Qi G rr σf) 0 0 (mm_A G) := by
  refine mm_met (by decide) rfl rfl (by  exact Nat.le_of_ble_eq_true rfl) (fun p e s m below meth c ls F hH hr hlocks hname hl => ?_)
  have hl : lv_has ls 5 [(0, .ref h0), (1, .int x1), (2, .int x2), (3, .int x3)] := by  exact hl
  have F : mm_F p s m _ c RX0 cX0_setField 5 G := F
  have hx := F.1
  have hb := F.2.1
  have hml := F.2.2.1
  have hown := F.2.2.2.1
  have hts := F.2.2.2.2.1
  unfold f_X0_setField at hf
  refine lv_aload_n hx hb dX0_setField_0 rfl (lv_at hl 0 rfl) ?_
  replace hf := b1_i hf
  obtain ⟨q1, e1, hf⟩ := hf
  refine mm_getA F hH mc_0 (k := 0) (by decide) (hts _ q185) (fun _ h => h) e1 dX0_setField_1 ?_
  refine lv_iload_n hx hb dX0_setField_4 rfl (lv_at hl 1 rfl) ?_
  replace hf := b1_i hf
  obtain ⟨u, e2, hf⟩ := hf
  obtain ⟨fs, ek⟩ := ck_i e2
  replace hf := b1_i hf
  obtain ⟨p2, e3, hf⟩ := hf
  refine mm_cq (va_runV (As := [.int x1]) (rest := []) ⟨hx, hb, hml, hown, hts⟩ (m_X1_at l G q1 x1 σ p2 e3) (cwV 1 hts (lw_V q384 q385 q386 q63 q387) rfl rfl rfl (by decide +kernel) ⟨Nat.le_of_ble_eq_true rfl, Nat.le_of_ble_eq_true rfl⟩) (mm_preV F.2.2.2.2.2 hH (ci := 1) rfl ek) rfl rfl hl.1 rfl (lv_room (Nat.le_of_ble_eq_true rfl)) dX0_setField_5 ⟨Nat.le_of_ble_eq_true rfl, Nat.le_of_ble_eq_true rfl⟩) hH (fun H locs hH => ?_)
  refine mm_astore (r := p2) (lv' := [(4, va_rf p2), (0, .ref h0), (1, .int x1), (2, .int x2), (3, .int x3)]) hx hb dX0_setField_8 hl (by decide) rfl (fun ls hl => ?_)
  refine lv_aload_n hx hb dX0_setField_10 rfl (lv_at hl 1 rfl) ?_
  refine mm_aload (r := p2) hx hb dX0_setField_11 (lv_at hl 0 rfl) ?_
  refine lv_iload_n hx hb dX0_setField_13 rfl (lv_at hl 3 rfl) ?_
  replace hf := b1_i hf
  obtain ⟨u, e4, hf⟩ := hf
  obtain ⟨fs, ek⟩ := ck_i e4
  replace hf := b1_i hf
  obtain ⟨v3, e5, hf⟩ := hf
  refine mm_ci (va_runV (As := [va_rf p2, .int x2]) (rest := []) ⟨hx, hb, hml, hown, hts⟩ (m_X0_hasField l G h0 p2 x2 σ v3 e5) (cwV 2 hts (lw_V q521 q523 qs9 q62 q524) rfl rfl rfl (by decide +kernel) ⟨Nat.le_of_ble_eq_true rfl, Nat.le_of_ble_eq_true rfl⟩) (mm_preV F.2.2.2.2.2 hH (ci := 0) rfl ek) rfl rfl hl.1 rfl (lv_room (Nat.le_of_ble_eq_true rfl)) dX0_setField_14 ⟨Nat.le_of_ble_eq_true rfl, Nat.le_of_ble_eq_true rfl⟩) hH (fun H locs hH => ?_)
  refine lv_if_eq (tgt := 44) hx hb dX0_setField_17 (by decide) (fun c4 => ?_) (fun c4 => ?_)
  · rw [if_pos c4] at hf
    refine lv_ldc (v := (-1000002)) hx hb hown (hts _ q219) dX0_setField_44 ?_
    obtain ⟨h1, h2⟩ := Prod.mk.inj (Option.some.inj hf)
    subst h1
    subst h2
    exact mm_reti F hH hr hlocks rfl rfl dX0_setField_46
  · rw [if_neg c4] at hf
    refine lv_aload_n hx hb dX0_setField_20 rfl (lv_at hl 1 rfl) ?_
    replace hf := b1_i hf
    obtain ⟨q5, e6, hf⟩ := hf
    refine mm_getA F hH mc_0 (k := 0) (by decide) (hts _ q185) (fun _ h => h) e6 dX0_setField_21 ?_
    refine lv_iload_n hx hb dX0_setField_24 rfl (lv_at hl 4 rfl) ?_
    replace hf := b1_i hf
    obtain ⟨u, e7, hf⟩ := hf
    obtain ⟨fs, ek⟩ := ck_i e7
    replace hf := b1_i hf
    obtain ⟨v6, e8, hf⟩ := hf
    refine mm_ci (va_runV (As := [.int x3]) (rest := []) ⟨hx, hb, hml, hown, hts⟩ (m_X1_isReference l G q5 x3 σ v6 e8) (cwV 1 hts (lw_V q525 q526 q527 q63 q528) rfl rfl rfl (by decide +kernel) ⟨Nat.le_of_ble_eq_true rfl, Nat.le_of_ble_eq_true rfl⟩) (mm_preV F.2.2.2.2.2 hH (ci := 1) rfl ek) rfl rfl hl.1 rfl (lv_room (Nat.le_of_ble_eq_true rfl)) dX0_setField_25 ⟨Nat.le_of_ble_eq_true rfl, Nat.le_of_ble_eq_true rfl⟩) hH (fun H locs hH => ?_)
    refine lv_if_eq (tgt := 44) hx hb dX0_setField_28 (by decide) (fun c7 => ?_) (fun c7 => ?_)
    · rw [if_pos c7] at hf
      refine lv_ldc (v := (-1000002)) hx hb hown (hts _ q219) dX0_setField_44 ?_
      obtain ⟨h1, h2⟩ := Prod.mk.inj (Option.some.inj hf)
      subst h1
      subst h2
      exact mm_reti F hH hr hlocks rfl rfl dX0_setField_46
    · rw [if_neg c7] at hf
      refine mm_aload (r := p2) hx hb dX0_setField_31 (lv_at hl 0 rfl) ?_
      replace hf := b1_i hf
      obtain ⟨q8, e9, hf⟩ := hf
      subst e9
      replace hf := b1_i hf
      obtain ⟨q9, e10, hf⟩ := hf
      refine mm_getAN F hH mc_3 (k := 1) (by decide) q258 (fun _ h => h) e10 dX0_setField_33 ?_
      refine lv_iload_n hx hb dX0_setField_36 rfl (lv_at hl 3 rfl) ?_
      refine lv_iload_n hx hb dX0_setField_37 rfl (lv_at hl 4 rfl) ?_
      replace hf := b2_i hf
      obtain ⟨v10, σ11, e11, hf⟩ := hf
      refine mm_ci (va_runS (As := [.ref q9, .int x2, .int x3]) (rest := []) ⟨hx, hb, hml, hown, hts⟩ (m_X0_exchange l G q9 x2 x3 σ σ11 v10 e11) (va_cwS 3 hts (lw_S q530 q531 q62 q532) rfl rfl rfl (by decide +kernel) ⟨Nat.le_of_ble_eq_true rfl, Nat.le_of_ble_eq_true rfl⟩) (mm_preS F.2.2.2.2.2 hH) rfl rfl hl.1 rfl (lv_room (Nat.le_of_ble_eq_true rfl)) dX0_setField_38 ⟨Nat.le_of_ble_eq_true rfl, Nat.le_of_ble_eq_true rfl⟩) hH (fun H locs hH => ?_)
      refine lv_goto (tgt := 46) hx hb dX0_setField_41 (by decide) ?_
      obtain ⟨h1, h2⟩ := Prod.mk.inj (Option.some.inj hf)
      subst h1
      subst h2
      exact mm_reti F hH hr hlocks rfl rfl dX0_setField_46
/-! IslandHeap.field(II)I -/
abbrev rm_X0_field : Room := { frames := 3, cells := 0, slots := 0, locals := 64 }
set_option maxHeartbeats 4000000 in
theorem m_X0_field (l : Launch) (G : mm_G) (h0 : Nat) (x1 : Int32) (x2 : Int32) (σ : mm_M) (rr : Int32) (hf : f_X0_field h0 x1 x2 σ = some rr) : Met l yX0_field (ws_ yX0_field cX0_field 4 ((Option.some .int))) rm_X0_field (mm_Pc G [.ref h0, .int x1, .int x2] σ) (mm_Qi G rr σ) 0 0 (mm_A G) := by
  refine mm_met (by decide) rfl rfl (by  exact Nat.le_of_ble_eq_true rfl) (fun p e s m below meth c ls F hH hr hlocks hname hl => ?_)
  have hl : lv_has ls 4 [(0, .ref h0), (1, .int x1), (2, .int x2)] := by  exact hl
  have F : mm_F p s m _ c RX0 cX0_field 4 G := F
  have hx := F.1
  have hb := F.2.1
  have hml := F.2.2.1
  have hown := F.2.2.2.1
  have hts := F.2.2.2.2.1
  unfold f_X0_field at hf
  refine lv_aload_n hx hb dX0_field_0 rfl (lv_at hl 0 rfl) ?_
  replace hf := b1_i hf
  obtain ⟨q1, e1, hf⟩ := hf
  refine mm_getA F hH mc_0 (k := 0) (by decide) (hts _ q185) (fun _ h => h) e1 dX0_field_1 ?_
  refine lv_iload_n hx hb dX0_field_4 rfl (lv_at hl 1 rfl) ?_
  replace hf := b1_i hf
  obtain ⟨u, e2, hf⟩ := hf
  obtain ⟨fs, ek⟩ := ck_i e2
  replace hf := b1_i hf
  obtain ⟨p2, e3, hf⟩ := hf
  refine mm_cq (va_runV (As := [.int x1]) (rest := []) ⟨hx, hb, hml, hown, hts⟩ (m_X1_at l G q1 x1 σ p2 e3) (cwV 1 hts (lw_V q384 q385 q386 q63 q387) rfl rfl rfl (by decide +kernel) ⟨Nat.le_of_ble_eq_true rfl, Nat.le_of_ble_eq_true rfl⟩) (mm_preV F.2.2.2.2.2 hH (ci := 1) rfl ek) rfl rfl hl.1 rfl (lv_room (Nat.le_of_ble_eq_true rfl)) dX0_field_5 ⟨Nat.le_of_ble_eq_true rfl, Nat.le_of_ble_eq_true rfl⟩) hH (fun H locs hH => ?_)
  refine mm_astore_n (r := p2) (lv' := [(3, va_rf p2), (0, .ref h0), (1, .int x1), (2, .int x2)]) hx hb dX0_field_8 rfl hl (by decide) rfl (fun ls hl => ?_)
  refine lv_aload_n hx hb dX0_field_9 rfl (lv_at hl 1 rfl) ?_
  refine mm_aload_n (r := p2) hx hb dX0_field_10 rfl (lv_at hl 0 rfl) ?_
  refine lv_iload_n hx hb dX0_field_11 rfl (lv_at hl 3 rfl) ?_
  replace hf := b1_i hf
  obtain ⟨u, e4, hf⟩ := hf
  obtain ⟨fs, ek⟩ := ck_i e4
  replace hf := b1_i hf
  obtain ⟨v3, e5, hf⟩ := hf
  refine mm_ci (va_runV (As := [va_rf p2, .int x2]) (rest := []) ⟨hx, hb, hml, hown, hts⟩ (m_X0_hasField l G h0 p2 x2 σ v3 e5) (cwV 2 hts (lw_V q521 q523 qs9 q62 q524) rfl rfl rfl (by decide +kernel) ⟨Nat.le_of_ble_eq_true rfl, Nat.le_of_ble_eq_true rfl⟩) (mm_preV F.2.2.2.2.2 hH (ci := 0) rfl ek) rfl rfl hl.1 rfl (lv_room (Nat.le_of_ble_eq_true rfl)) dX0_field_12 ⟨Nat.le_of_ble_eq_true rfl, Nat.le_of_ble_eq_true rfl⟩) hH (fun H locs hH => ?_)
  refine lv_if_eq (tgt := 27) hx hb dX0_field_15 (by decide) (fun c4 => ?_) (fun c4 => ?_)
  · rw [if_pos c4] at hf
    refine lv_ldc (v := (-1000002)) hx hb hown (hts _ q219) dX0_field_27 ?_
    have h1 := Option.some.inj hf
    subst h1
    exact mm_reti F hH hr hlocks rfl rfl dX0_field_29
  · rw [if_neg c4] at hf
    refine mm_aload_n (r := p2) hx hb dX0_field_18 rfl (lv_at hl 0 rfl) ?_
    replace hf := b1_i hf
    obtain ⟨q5, e6, hf⟩ := hf
    subst e6
    replace hf := b1_i hf
    obtain ⟨q6, e7, hf⟩ := hf
    refine mm_getAN F hH mc_3 (k := 1) (by decide) q258 (fun _ h => h) e7 dX0_field_19 ?_
    refine lv_iload_n hx hb dX0_field_22 rfl (lv_at hl 3 rfl) ?_
    replace hf := b1_i hf
    obtain ⟨v7, e8, hf⟩ := hf
    refine mm_iald F hH e8 dX0_field_23 ?_
    refine lv_goto (tgt := 29) hx hb dX0_field_24 (by decide) ?_
    have h1 := Option.some.inj hf
    subst h1
    exact mm_reti F hH hr hlocks rfl rfl dX0_field_29
/-! IslandHeap.hasData(LIslandHeap$Thing;I)Z -/
abbrev rm_X0_hasData : Room := { frames := 1, cells := 0, slots := 0, locals := 22 }
set_option maxHeartbeats 4000000 in
theorem m_X0_hasData (l : Launch) (G : mm_G) (h0 : Nat) (r1 : Option Nat) (x2 : Int32) (σ : mm_M) (rr : Int32) (hf : f_X0_hasData h0 r1 x2 σ = some rr) : Met l yX0_hasData (ws_ yX0_hasData cX0_hasData 3 ((Option.some .boolean))) rm_X0_hasData (mm_Pc G [.ref h0, va_rf r1, .int x2] σ) (mm_Qi G rr σ) 0 0 (mm_A G) := by
  refine mm_met (by decide) rfl rfl (by cases r1 <;> exact Nat.le_of_ble_eq_true rfl) (fun p e s m below meth c ls F hH hr hlocks hname hl => ?_)
  have hl : lv_has ls 3 [(0, .ref h0), (1, va_rf r1), (2, .int x2)] := by cases r1 <;> exact hl
  have F : mm_F p s m _ c RX0 cX0_hasData 3 G := F
  have hx := F.1
  have hb := F.2.1
  have hml := F.2.2.1
  have hown := F.2.2.2.1
  have hts := F.2.2.2.2.1
  unfold f_X0_hasData at hf
  refine mm_aload_n (r := r1) hx hb dX0_hasData_0 rfl (lv_at hl 1 rfl) ?_
  cases r1 with
  | none =>
    rw [mt_n] at hf
    refine lv_ifnullN (tgt := 23) hx hb dX0_hasData_1 (by decide) ?_
    refine lv_iconst (v := 0) hx hb dX0_hasData_23 (by decide) ?_
    have h1 := Option.some.inj hf
    subst h1
    exact mm_reti F hH hr hlocks rfl rfl dX0_hasData_24
  | some q1 =>
    rw [mt_s] at hf
    refine lv_ifnull hx hb dX0_hasData_1 ?_
    refine lv_iload_n hx hb dX0_hasData_4 rfl (lv_at hl 2 rfl) ?_
    refine lv_iconst (v := 0) hx hb dX0_hasData_5 (by decide) ?_
    refine lv_aload_n hx hb dX0_hasData_6 rfl (lv_at hl 1 rfl) ?_
    replace hf := b1_i hf
    obtain ⟨q2, e1, hf⟩ := hf
    refine mm_getAN F hH mc_3 (k := 2) (by decide) q262 (fun _ h => h) e1 dX0_hasData_7 ?_
    replace hf := b1_i hf
    obtain ⟨v3, e2, hf⟩ := hf
    refine mm_alen F hH e2 dX0_hasData_10 ?_
    refine lv_iconst (v := 1) hx hb dX0_hasData_11 (by decide) ?_
    refine lv_isub hx hb dX0_hasData_12 ?_
    replace hf := b1_i hf
    obtain ⟨v4, e3, hf⟩ := hf
    refine mm_ci (va_runS (As := [.int x2, .int (0 : Int32), .int (v3 - (1 : Int32))]) (rest := []) ⟨hx, hb, hml, hown, hts⟩ (m_X0_isIn l G x2 (0 : Int32) (v3 - (1 : Int32)) σ v4 e3) (va_cwS 3 hts (lw_S q216 q217 q62 q218) rfl rfl rfl (by decide +kernel) ⟨Nat.le_of_ble_eq_true rfl, Nat.le_of_ble_eq_true rfl⟩) (mm_preS F.2.2.2.2.2 hH) rfl rfl hl.1 rfl (lv_room (Nat.le_of_ble_eq_true rfl)) dX0_hasData_13 ⟨Nat.le_of_ble_eq_true rfl, Nat.le_of_ble_eq_true rfl⟩) hH (fun H locs hH => ?_)
    refine lv_if_eq (tgt := 23) hx hb dX0_hasData_16 (by decide) (fun c5 => ?_) (fun c5 => ?_)
    · rw [if_pos c5] at hf
      refine lv_iconst (v := 0) hx hb dX0_hasData_23 (by decide) ?_
      have h1 := Option.some.inj hf
      subst h1
      exact mm_reti F hH hr hlocks rfl rfl dX0_hasData_24
    · rw [if_neg c5] at hf
      refine lv_iconst (v := 1) hx hb dX0_hasData_19 (by decide) ?_
      refine lv_goto (tgt := 24) hx hb dX0_hasData_20 (by decide) ?_
      have h1 := Option.some.inj hf
      subst h1
      exact mm_reti F hH hr hlocks rfl rfl dX0_hasData_24
/-! IslandHeap.setData(III)I -/
abbrev rm_X0_setData : Room := { frames := 3, cells := 0, slots := 0, locals := 64 }
set_option maxHeartbeats 4000000 in
theorem m_X0_setData (l : Launch) (G : mm_G) (h0 : Nat) (x1 : Int32) (x2 : Int32) (x3 : Int32) (σ : mm_M) (σf : mm_M) (rr : Int32) (hf : f_X0_setData h0 x1 x2 x3 σ = some (rr, σf)) : Met l yX0_setData (ws_ yX0_setData cX0_setData 5 ((Option.some .int))) rm_X0_setData (mm_Pc G [.ref h0, .int x1, .int x2, .int x3] σ) (mm_Qi G rr σf) 0 0 (mm_A G) := by
  refine mm_met (by decide) rfl rfl (by  exact Nat.le_of_ble_eq_true rfl) (fun p e s m below meth c ls F hH hr hlocks hname hl => ?_)
  have hl : lv_has ls 5 [(0, .ref h0), (1, .int x1), (2, .int x2), (3, .int x3)] := by  exact hl
  have F : mm_F p s m _ c RX0 cX0_setData 5 G := F
  have hx := F.1
  have hb := F.2.1
  have hml := F.2.2.1
  have hown := F.2.2.2.1
  have hts := F.2.2.2.2.1
  unfold f_X0_setData at hf
  refine lv_aload_n hx hb dX0_setData_0 rfl (lv_at hl 0 rfl) ?_
  replace hf := b1_i hf
  obtain ⟨q1, e1, hf⟩ := hf
  refine mm_getA F hH mc_0 (k := 0) (by decide) (hts _ q185) (fun _ h => h) e1 dX0_setData_1 ?_
  refine lv_iload_n hx hb dX0_setData_4 rfl (lv_at hl 1 rfl) ?_
  replace hf := b1_i hf
  obtain ⟨u, e2, hf⟩ := hf
  obtain ⟨fs, ek⟩ := ck_i e2
  replace hf := b1_i hf
  obtain ⟨p2, e3, hf⟩ := hf
  refine mm_cq (va_runV (As := [.int x1]) (rest := []) ⟨hx, hb, hml, hown, hts⟩ (m_X1_at l G q1 x1 σ p2 e3) (cwV 1 hts (lw_V q384 q385 q386 q63 q387) rfl rfl rfl (by decide +kernel) ⟨Nat.le_of_ble_eq_true rfl, Nat.le_of_ble_eq_true rfl⟩) (mm_preV F.2.2.2.2.2 hH (ci := 1) rfl ek) rfl rfl hl.1 rfl (lv_room (Nat.le_of_ble_eq_true rfl)) dX0_setData_5 ⟨Nat.le_of_ble_eq_true rfl, Nat.le_of_ble_eq_true rfl⟩) hH (fun H locs hH => ?_)
  refine mm_astore (r := p2) (lv' := [(4, va_rf p2), (0, .ref h0), (1, .int x1), (2, .int x2), (3, .int x3)]) hx hb dX0_setData_8 hl (by decide) rfl (fun ls hl => ?_)
  refine lv_aload_n hx hb dX0_setData_10 rfl (lv_at hl 1 rfl) ?_
  refine mm_aload (r := p2) hx hb dX0_setData_11 (lv_at hl 0 rfl) ?_
  refine lv_iload_n hx hb dX0_setData_13 rfl (lv_at hl 3 rfl) ?_
  replace hf := b1_i hf
  obtain ⟨u, e4, hf⟩ := hf
  obtain ⟨fs, ek⟩ := ck_i e4
  replace hf := b1_i hf
  obtain ⟨v3, e5, hf⟩ := hf
  refine mm_ci (va_runV (As := [va_rf p2, .int x2]) (rest := []) ⟨hx, hb, hml, hown, hts⟩ (m_X0_hasData l G h0 p2 x2 σ v3 e5) (cwV 2 hts (lw_V q541 q543 qs10 q62 q544) rfl rfl rfl (by decide +kernel) ⟨Nat.le_of_ble_eq_true rfl, Nat.le_of_ble_eq_true rfl⟩) (mm_preV F.2.2.2.2.2 hH (ci := 0) rfl ek) rfl rfl hl.1 rfl (lv_room (Nat.le_of_ble_eq_true rfl)) dX0_setData_14 ⟨Nat.le_of_ble_eq_true rfl, Nat.le_of_ble_eq_true rfl⟩) hH (fun H locs hH => ?_)
  refine lv_if_eq (tgt := 44) hx hb dX0_setData_17 (by decide) (fun c4 => ?_) (fun c4 => ?_)
  · rw [if_pos c4] at hf
    refine lv_ldc (v := (-1000002)) hx hb hown (hts _ q219) dX0_setData_44 ?_
    obtain ⟨h1, h2⟩ := Prod.mk.inj (Option.some.inj hf)
    subst h1
    subst h2
    exact mm_reti F hH hr hlocks rfl rfl dX0_setData_46
  · rw [if_neg c4] at hf
    refine lv_iload_n hx hb dX0_setData_20 rfl (lv_at hl 4 rfl) ?_
    refine lv_ldc (v := (-1000000)) hx hb hown (hts _ q545) dX0_setData_21 ?_
    refine lv_ldc (v := (1000000)) hx hb hown (hts _ q546) dX0_setData_23 ?_
    replace hf := b1_i hf
    obtain ⟨v5, e6, hf⟩ := hf
    refine mm_ci (va_runS (As := [.int x3, .int (-1000000 : Int32), .int (1000000 : Int32)]) (rest := []) ⟨hx, hb, hml, hown, hts⟩ (m_X0_isIn l G x3 (-1000000 : Int32) (1000000 : Int32) σ v5 e6) (va_cwS 3 hts (lw_S q216 q217 q62 q218) rfl rfl rfl (by decide +kernel) ⟨Nat.le_of_ble_eq_true rfl, Nat.le_of_ble_eq_true rfl⟩) (mm_preS F.2.2.2.2.2 hH) rfl rfl hl.1 rfl (lv_room (Nat.le_of_ble_eq_true rfl)) dX0_setData_25 ⟨Nat.le_of_ble_eq_true rfl, Nat.le_of_ble_eq_true rfl⟩) hH (fun H locs hH => ?_)
    refine lv_if_eq (tgt := 44) hx hb dX0_setData_28 (by decide) (fun c6 => ?_) (fun c6 => ?_)
    · rw [if_pos c6] at hf
      refine lv_ldc (v := (-1000002)) hx hb hown (hts _ q219) dX0_setData_44 ?_
      obtain ⟨h1, h2⟩ := Prod.mk.inj (Option.some.inj hf)
      subst h1
      subst h2
      exact mm_reti F hH hr hlocks rfl rfl dX0_setData_46
    · rw [if_neg c6] at hf
      refine mm_aload (r := p2) hx hb dX0_setData_31 (lv_at hl 0 rfl) ?_
      replace hf := b1_i hf
      obtain ⟨q7, e7, hf⟩ := hf
      subst e7
      replace hf := b1_i hf
      obtain ⟨q8, e8, hf⟩ := hf
      refine mm_getAN F hH mc_3 (k := 2) (by decide) q262 (fun _ h => h) e8 dX0_setData_33 ?_
      refine lv_iload_n hx hb dX0_setData_36 rfl (lv_at hl 3 rfl) ?_
      refine lv_iload_n hx hb dX0_setData_37 rfl (lv_at hl 4 rfl) ?_
      replace hf := b2_i hf
      obtain ⟨v9, σ10, e9, hf⟩ := hf
      refine mm_ci (va_runS (As := [.ref q8, .int x2, .int x3]) (rest := []) ⟨hx, hb, hml, hown, hts⟩ (m_X0_exchange l G q8 x2 x3 σ σ10 v9 e9) (va_cwS 3 hts (lw_S q530 q531 q62 q532) rfl rfl rfl (by decide +kernel) ⟨Nat.le_of_ble_eq_true rfl, Nat.le_of_ble_eq_true rfl⟩) (mm_preS F.2.2.2.2.2 hH) rfl rfl hl.1 rfl (lv_room (Nat.le_of_ble_eq_true rfl)) dX0_setData_38 ⟨Nat.le_of_ble_eq_true rfl, Nat.le_of_ble_eq_true rfl⟩) hH (fun H locs hH => ?_)
      refine lv_goto (tgt := 46) hx hb dX0_setData_41 (by decide) ?_
      obtain ⟨h1, h2⟩ := Prod.mk.inj (Option.some.inj hf)
      subst h1
      subst h2
      exact mm_reti F hH hr hlocks rfl rfl dX0_setData_46
/-! IslandHeap.data(II)I -/
abbrev rm_X0_data : Room := { frames := 3, cells := 0, slots := 0, locals := 64 }
set_option maxHeartbeats 4000000 in
theorem m_X0_data (l : Launch) (G : mm_G) (h0 : Nat) (x1 : Int32) (x2 : Int32) (σ : mm_M) (rr : Int32) (hf : f_X0_data h0 x1 x2 σ = some rr) : Met l yX0_data (ws_ yX0_data cX0_data 4 ((Option.some .int))) rm_X0_data (mm_Pc G [.ref h0, .int x1, .int x2] σ) (mm_Qi G rr σ) 0 0 (mm_A G) := by
  refine mm_met (by decide) rfl rfl (by  exact Nat.le_of_ble_eq_true rfl) (fun p e s m below meth c ls F hH hr hlocks hname hl => ?_)
  have hl : lv_has ls 4 [(0, .ref h0), (1, .int x1), (2, .int x2)] := by  exact hl
  have F : mm_F p s m _ c RX0 cX0_data 4 G := F
  have hx := F.1
  have hb := F.2.1
  have hml := F.2.2.1
  have hown := F.2.2.2.1
  have hts := F.2.2.2.2.1
  unfold f_X0_data at hf
  refine lv_aload_n hx hb dX0_data_0 rfl (lv_at hl 0 rfl) ?_
  replace hf := b1_i hf
  obtain ⟨q1, e1, hf⟩ := hf
  refine mm_getA F hH mc_0 (k := 0) (by decide) (hts _ q185) (fun _ h => h) e1 dX0_data_1 ?_
  refine lv_iload_n hx hb dX0_data_4 rfl (lv_at hl 1 rfl) ?_
  replace hf := b1_i hf
  obtain ⟨u, e2, hf⟩ := hf
  obtain ⟨fs, ek⟩ := ck_i e2
  replace hf := b1_i hf
  obtain ⟨p2, e3, hf⟩ := hf
  refine mm_cq (va_runV (As := [.int x1]) (rest := []) ⟨hx, hb, hml, hown, hts⟩ (m_X1_at l G q1 x1 σ p2 e3) (cwV 1 hts (lw_V q384 q385 q386 q63 q387) rfl rfl rfl (by decide +kernel) ⟨Nat.le_of_ble_eq_true rfl, Nat.le_of_ble_eq_true rfl⟩) (mm_preV F.2.2.2.2.2 hH (ci := 1) rfl ek) rfl rfl hl.1 rfl (lv_room (Nat.le_of_ble_eq_true rfl)) dX0_data_5 ⟨Nat.le_of_ble_eq_true rfl, Nat.le_of_ble_eq_true rfl⟩) hH (fun H locs hH => ?_)
  refine mm_astore_n (r := p2) (lv' := [(3, va_rf p2), (0, .ref h0), (1, .int x1), (2, .int x2)]) hx hb dX0_data_8 rfl hl (by decide) rfl (fun ls hl => ?_)
  refine lv_aload_n hx hb dX0_data_9 rfl (lv_at hl 1 rfl) ?_
  refine mm_aload_n (r := p2) hx hb dX0_data_10 rfl (lv_at hl 0 rfl) ?_
  refine lv_iload_n hx hb dX0_data_11 rfl (lv_at hl 3 rfl) ?_
  replace hf := b1_i hf
  obtain ⟨u, e4, hf⟩ := hf
  obtain ⟨fs, ek⟩ := ck_i e4
  replace hf := b1_i hf
  obtain ⟨v3, e5, hf⟩ := hf
  refine mm_ci (va_runV (As := [va_rf p2, .int x2]) (rest := []) ⟨hx, hb, hml, hown, hts⟩ (m_X0_hasData l G h0 p2 x2 σ v3 e5) (cwV 2 hts (lw_V q541 q543 qs10 q62 q544) rfl rfl rfl (by decide +kernel) ⟨Nat.le_of_ble_eq_true rfl, Nat.le_of_ble_eq_true rfl⟩) (mm_preV F.2.2.2.2.2 hH (ci := 0) rfl ek) rfl rfl hl.1 rfl (lv_room (Nat.le_of_ble_eq_true rfl)) dX0_data_12 ⟨Nat.le_of_ble_eq_true rfl, Nat.le_of_ble_eq_true rfl⟩) hH (fun H locs hH => ?_)
  refine lv_if_eq (tgt := 27) hx hb dX0_data_15 (by decide) (fun c4 => ?_) (fun c4 => ?_)
  · rw [if_pos c4] at hf
    refine lv_ldc (v := (-1000002)) hx hb hown (hts _ q219) dX0_data_27 ?_
    have h1 := Option.some.inj hf
    subst h1
    exact mm_reti F hH hr hlocks rfl rfl dX0_data_29
  · rw [if_neg c4] at hf
    refine mm_aload_n (r := p2) hx hb dX0_data_18 rfl (lv_at hl 0 rfl) ?_
    replace hf := b1_i hf
    obtain ⟨q5, e6, hf⟩ := hf
    subst e6
    replace hf := b1_i hf
    obtain ⟨q6, e7, hf⟩ := hf
    refine mm_getAN F hH mc_3 (k := 2) (by decide) q262 (fun _ h => h) e7 dX0_data_19 ?_
    refine lv_iload_n hx hb dX0_data_22 rfl (lv_at hl 3 rfl) ?_
    replace hf := b1_i hf
    obtain ⟨v7, e8, hf⟩ := hf
    refine mm_iald F hH e8 dX0_data_23 ?_
    refine lv_goto (tgt := 29) hx hb dX0_data_24 (by decide) ?_
    have h1 := Option.some.inj hf
    subst h1
    exact mm_reti F hH hr hlocks rfl rfl dX0_data_29
/-! IslandHeap$Heap.pinned()I -/
abbrev rm_X1_pinned : Room := { frames := 3, cells := 0, slots := 0, locals := 64 }
set_option maxHeartbeats 4000000 in
theorem w_X1_pinned_4 {p : Program} {l : Launch} {e : Env} {s : State} {m : MethodId} {av : Array Value} {below : List Frame} {meth : Method} {c : Code} {G : mm_G} {rr : Int32} {n : Nat} {σ : mm_M} {h0 : Nat} (F : mm_F p s m av c RX1 cX1_pinned 3 G) (hr : meth.sig.returnType = (Option.some .int)) (hlocks : meth.locks = false) (hname : meth.name = yX1_pinned.name) (IH4 : ∀ (x1 : Int32) (x2 : Int32) (H : Heap) (locs : List Loc) (ls : Array Slot), mm_H G s σ H locs → lv_has ls 3 [(0, .ref h0), (1, .int x1), (2, .int x2)] → itn (s_X1_pinned h0 σ) n (x1, x2) = some rr → W p l e rm_X1_pinned s m av below meth c H locs 0 0 (MQ below (mm_Qi G rr σ) av s 0 0 (mm_A G)) (F0 m 4 ls []))  (x1 : Int32) (x2 : Int32)  (hf : evn (s_X1_pinned h0 σ) n (g_X1_pinned_4 h0 x1 x2 σ) = some rr) {H : Heap} {locs : List Loc} {ls : Array Slot} (hH : mm_H G s σ H locs) (hl : lv_has ls 3 [(0, .ref h0), (1, .int x1), (2, .int x2)]) : W p l e rm_X1_pinned s m av below meth c H locs 0 0 (MQ below (mm_Qi G rr σ) av s 0 0 (mm_A G)) (F0 m 4 ls []) := by
  have hx := F.1
  have hb := F.2.1
  have hml := F.2.2.1
  have hown := F.2.2.2.1
  have hts := F.2.2.2.2.1
  unfold g_X1_pinned_4 at hf
  refine lv_iload_n hx hb dX1_pinned_4 rfl (lv_at hl 2 rfl) ?_
  refine lv_aload_n hx hb dX1_pinned_5 rfl (lv_at hl 0 rfl) ?_
  replace hf := evn_b1 hf
  obtain ⟨q1, e1, hf⟩ := hf
  refine mm_getA F hH mc_1 (k := 2) (by decide) (hts _ q136) (fun _ h => h) e1 dX1_pinned_6 ?_
  replace hf := evn_b1 hf
  obtain ⟨u, e2, hf⟩ := hf
  obtain ⟨fs, ek⟩ := ck_i e2
  replace hf := evn_b1 hf
  obtain ⟨v2, e3, hf⟩ := hf
  refine mm_ci (va_runV (As := []) (rest := [.int x2]) ⟨hx, hb, hml, hown, hts⟩ (m_J2_size l G q1 σ v2 e3) (cwV 0 hts (lw_V q290 q291 q292 q66 q293) rfl rfl rfl (by decide +kernel) ⟨Nat.le_of_ble_eq_true rfl, Nat.le_of_ble_eq_true rfl⟩) (mm_preV F.2.2.2.2.2 hH (ci := 15) rfl ek) rfl rfl hl.1 rfl (lv_room (Nat.le_of_ble_eq_true rfl)) dX1_pinned_9 ⟨Nat.le_of_ble_eq_true rfl, Nat.le_of_ble_eq_true rfl⟩) hH (fun H locs hH => ?_)
  refine lv_icmp_ge (tgt := 46) hx hb dX1_pinned_12 (by decide) (fun c3 => ?_) (fun c3 => ?_)
  · rw [if_pos c3] at hf
    refine lv_iload_n hx hb dX1_pinned_46 rfl (lv_at hl 1 rfl) ?_
    rw [evn_r] at hf
    have h1 := Option.some.inj hf
    subst h1
    exact mm_reti F hH hr hlocks rfl rfl dX1_pinned_47
  · rw [if_neg c3] at hf
    refine lv_iload_n hx hb dX1_pinned_15 rfl (lv_at hl 1 rfl) ?_
    refine lv_aload_n hx hb dX1_pinned_16 rfl (lv_at hl 0 rfl) ?_
    replace hf := evn_b1 hf
    obtain ⟨q4, e4, hf⟩ := hf
    refine mm_getA F hH mc_1 (k := 2) (by decide) (hts _ q136) (fun _ h => h) e4 dX1_pinned_17 ?_
    refine lv_iload_n hx hb dX1_pinned_20 rfl (lv_at hl 2 rfl) ?_
    replace hf := evn_b1 hf
    obtain ⟨u, e5, hf⟩ := hf
    obtain ⟨fs, ek⟩ := ck_i e5
    replace hf := evn_b1 hf
    obtain ⟨p5, e6, hf⟩ := hf
    refine mm_cq (va_runV (As := [.int x2]) (rest := [.int x1]) ⟨hx, hb, hml, hown, hts⟩ (m_J2_get l G q4 x2 σ p5 e6) (cwV 1 hts (lw_V q294 q295 q296 q66 q297) rfl rfl rfl (by decide +kernel) ⟨Nat.le_of_ble_eq_true rfl, Nat.le_of_ble_eq_true rfl⟩) (mm_preV F.2.2.2.2.2 hH (ci := 15) rfl ek) rfl rfl hl.1 rfl (lv_room (Nat.le_of_ble_eq_true rfl)) dX1_pinned_21 ⟨Nat.le_of_ble_eq_true rfl, Nat.le_of_ble_eq_true rfl⟩) hH (fun H locs hH => ?_)
    replace hf := evn_b1 hf
    obtain ⟨q6, e7, hf⟩ := hf
    subst e7
    replace hf := evn_b1 hf
    obtain ⟨u, e8, hf⟩ := hf
    refine mm_cast F hH mc_3 (hts _ q130) e8 dX1_pinned_24 ?_
    replace hf := evn_b1 hf
    obtain ⟨v7, e9, hf⟩ := hf
    refine mm_getIN F hH mc_3 (k := 3) (by decide) q267 (fun _ h => h) e9 dX1_pinned_27 ?_
    refine lv_if_eq (tgt := 37) hx hb dX1_pinned_30 (by decide) (fun c8 => ?_) (fun c8 => ?_)
    · rw [if_pos c8] at hf
      refine lv_iconst (v := 0) hx hb dX1_pinned_37 (by decide) ?_
      refine lv_iadd hx hb dX1_pinned_38 ?_
      refine lv_istore_n (lv' := [(1, .int (x1 + (0 : Int32))), (0, .ref h0), (2, .int x2)]) hx hb dX1_pinned_39 rfl hl (by decide) rfl (fun ls hl => ?_)
      refine lv_iinc (v := x2 + (1 : Int32)) (lv' := [(2, .int (x2 + (1 : Int32))), (1, .int (x1 + (0 : Int32))), (0, .ref h0)]) hx hb dX1_pinned_40 hl (k := 2) rfl rfl (by decide) rfl (fun ls hl => ?_)
      refine lv_goto (tgt := 4) hx hb dX1_pinned_43 (by decide) ?_
      rw [evn_l] at hf
      exact IH4 (x1 + (0 : Int32)) (x2 + (1 : Int32)) _ _ _ hH (lv_sub hl [2, 1, 0] rfl) hf
    · rw [if_neg c8] at hf
      refine lv_iconst (v := 1) hx hb dX1_pinned_33 (by decide) ?_
      refine lv_goto (tgt := 38) hx hb dX1_pinned_34 (by decide) ?_
      refine lv_iadd hx hb dX1_pinned_38 ?_
      refine lv_istore_n (lv' := [(1, .int (x1 + (1 : Int32))), (0, .ref h0), (2, .int x2)]) hx hb dX1_pinned_39 rfl hl (by decide) rfl (fun ls hl => ?_)
      refine lv_iinc (v := x2 + (1 : Int32)) (lv' := [(2, .int (x2 + (1 : Int32))), (1, .int (x1 + (1 : Int32))), (0, .ref h0)]) hx hb dX1_pinned_40 hl (k := 2) rfl rfl (by decide) rfl (fun ls hl => ?_)
      refine lv_goto (tgt := 4) hx hb dX1_pinned_43 (by decide) ?_
      rw [evn_l] at hf
      exact IH4 (x1 + (1 : Int32)) (x2 + (1 : Int32)) _ _ _ hH (lv_sub hl [2, 1, 0] rfl) hf
set_option maxHeartbeats 4000000 in
theorem w_X1_pinned_0 {p : Program} {l : Launch} {e : Env} {s : State} {m : MethodId} {av : Array Value} {below : List Frame} {meth : Method} {c : Code} {G : mm_G} {rr : Int32} {n : Nat} {σ : mm_M} {h0 : Nat} (F : mm_F p s m av c RX1 cX1_pinned 3 G) (hr : meth.sig.returnType = (Option.some .int)) (hlocks : meth.locks = false) (hname : meth.name = yX1_pinned.name) (IH4 : ∀ (x1 : Int32) (x2 : Int32) (H : Heap) (locs : List Loc) (ls : Array Slot), mm_H G s σ H locs → lv_has ls 3 [(0, .ref h0), (1, .int x1), (2, .int x2)] → itn (s_X1_pinned h0 σ) n (x1, x2) = some rr → W p l e rm_X1_pinned s m av below meth c H locs 0 0 (MQ below (mm_Qi G rr σ) av s 0 0 (mm_A G)) (F0 m 4 ls []))    (hf : evn (s_X1_pinned h0 σ) n (g_X1_pinned_0 h0 σ) = some rr) {H : Heap} {locs : List Loc} {ls : Array Slot} (hH : mm_H G s σ H locs) (hl : lv_has ls 3 [(0, .ref h0)]) : W p l e rm_X1_pinned s m av below meth c H locs 0 0 (MQ below (mm_Qi G rr σ) av s 0 0 (mm_A G)) (F0 m 0 ls []) := by
  have hx := F.1
  have hb := F.2.1
  have hml := F.2.2.1
  have hown := F.2.2.2.1
  have hts := F.2.2.2.2.1
  unfold g_X1_pinned_0 at hf
  refine lv_iconst (v := 0) hx hb dX1_pinned_0 (by decide) ?_
  refine lv_istore_n (lv' := [(1, .int (0 : Int32)), (0, .ref h0)]) hx hb dX1_pinned_1 rfl hl (by decide) rfl (fun ls hl => ?_)
  refine lv_iconst (v := 0) hx hb dX1_pinned_2 (by decide) ?_
  refine lv_istore_n (lv' := [(2, .int (0 : Int32)), (1, .int (0 : Int32)), (0, .ref h0)]) hx hb dX1_pinned_3 rfl hl (by decide) rfl (fun ls hl => ?_)
  rw [evn_l] at hf
  exact IH4 (0 : Int32) (0 : Int32) _ _ _ hH (lv_sub hl [2, 1, 0] rfl) hf
set_option maxHeartbeats 4000000 in
theorem l_X1_pinned {p : Program} {l : Launch} {e : Env} {s : State} {m : MethodId} {av : Array Value} {below : List Frame} {meth : Method} {c : Code} {G : mm_G} {rr : Int32} {σ : mm_M} {h0 : Nat} (F : mm_F p s m av c RX1 cX1_pinned 3 G) (hr : meth.sig.returnType = (Option.some .int)) (hlocks : meth.locks = false) (hname : meth.name = yX1_pinned.name) : ∀ n : Nat, (∀ (x1 : Int32) (x2 : Int32) (H : Heap) (locs : List Loc) (ls : Array Slot), mm_H G s σ H locs → lv_has ls 3 [(0, .ref h0), (1, .int x1), (2, .int x2)] → itn (s_X1_pinned h0 σ) n (x1, x2) = some rr → W p l e rm_X1_pinned s m av below meth c H locs 0 0 (MQ below (mm_Qi G rr σ) av s 0 0 (mm_A G)) (F0 m 4 ls [])) := by
  intro n
  induction n with
  | zero =>
    exact fun x1 x2 H locs ls hH hl hf => by cases hf
  | succ n ih =>
    have IH4 := ih
    intro x1 x2 H locs ls hH hl hf
    rw [itn_s] at hf
    exact w_X1_pinned_4 F hr hlocks hname IH4 x1 x2 hf hH hl
set_option maxHeartbeats 4000000 in
theorem m_X1_pinned (l : Launch) (G : mm_G) (h0 : Nat) (σ : mm_M) (rr : Int32) (hf : f_X1_pinned h0 σ = some rr) : Met l yX1_pinned (ws_ yX1_pinned cX1_pinned 3 ((Option.some .int))) rm_X1_pinned (mm_Pc G [.ref h0] σ) (mm_Qi G rr σ) 0 0 (mm_A G) := by
  refine mm_met (by decide) rfl rfl (by  exact Nat.le_of_ble_eq_true rfl) (fun p e s m below meth c ls F hH hr hlocks hname hl => ?_)
  have hl : lv_has ls 3 [(0, .ref h0)] := by  exact hl
  have F : mm_F p s m _ c RX1 cX1_pinned 3 G := F
  unfold f_X1_pinned at hf
  obtain ⟨n, hf⟩ := lgo_i hf
  have IH := l_X1_pinned (l := l) (e := e) (below := below) (rr := rr) (σ := σ) (h0 := h0) F hr hlocks hname n
  exact w_X1_pinned_0 F hr hlocks hname IH  hf hH (lv_sub hl [0] rfl)
/-! IslandHeap.pin(IZ)I -/
abbrev rm_X0_pin : Room := { frames := 4, cells := 0, slots := 0, locals := 86 }
set_option maxHeartbeats 4000000 in
theorem m_X0_pin (l : Launch) (G : mm_G) (h0 : Nat) (x1 : Int32) (x2 : Int32) (σ : mm_M) (σf : mm_M) (rr : Int32) (hf : f_X0_pin h0 x1 x2 σ = some (rr, σf)) : Met l yX0_pin (ws_ yX0_pin cX0_pin 4 ((Option.some .int))) rm_X0_pin (mm_Pc G [.ref h0, .int x1, .int x2] σ) (mm_Qi G rr σf) 0 0 (mm_A G) := by
  refine mm_met (by decide) rfl rfl (by  exact Nat.le_of_ble_eq_true rfl) (fun p e s m below meth c ls F hH hr hlocks hname hl => ?_)
  have hl : lv_has ls 4 [(0, .ref h0), (1, .int x1), (2, .int x2)] := by  exact hl
  have F : mm_F p s m _ c RX0 cX0_pin 4 G := F
  have hx := F.1
  have hb := F.2.1
  have hml := F.2.2.1
  have hown := F.2.2.2.1
  have hts := F.2.2.2.2.1
  unfold f_X0_pin at hf
  refine lv_aload_n hx hb dX0_pin_0 rfl (lv_at hl 0 rfl) ?_
  replace hf := b1_i hf
  obtain ⟨q1, e1, hf⟩ := hf
  refine mm_getA F hH mc_0 (k := 0) (by decide) (hts _ q185) (fun _ h => h) e1 dX0_pin_1 ?_
  refine lv_iload_n hx hb dX0_pin_4 rfl (lv_at hl 1 rfl) ?_
  replace hf := b1_i hf
  obtain ⟨u, e2, hf⟩ := hf
  obtain ⟨fs, ek⟩ := ck_i e2
  replace hf := b1_i hf
  obtain ⟨p2, e3, hf⟩ := hf
  refine mm_cq (va_runV (As := [.int x1]) (rest := []) ⟨hx, hb, hml, hown, hts⟩ (m_X1_at l G q1 x1 σ p2 e3) (cwV 1 hts (lw_V q384 q385 q386 q63 q387) rfl rfl rfl (by decide +kernel) ⟨Nat.le_of_ble_eq_true rfl, Nat.le_of_ble_eq_true rfl⟩) (mm_preV F.2.2.2.2.2 hH (ci := 1) rfl ek) rfl rfl hl.1 rfl (lv_room (Nat.le_of_ble_eq_true rfl)) dX0_pin_5 ⟨Nat.le_of_ble_eq_true rfl, Nat.le_of_ble_eq_true rfl⟩) hH (fun H locs hH => ?_)
  refine mm_astore_n (r := p2) (lv' := [(3, va_rf p2), (0, .ref h0), (1, .int x1), (2, .int x2)]) hx hb dX0_pin_8 rfl hl (by decide) rfl (fun ls hl => ?_)
  refine mm_aload_n (r := p2) hx hb dX0_pin_9 rfl (lv_at hl 0 rfl) ?_
  cases p2 with
  | none =>
    rw [mt_n] at hf
    refine lv_ifnonnullN hx hb dX0_pin_10 ?_
    refine lv_ldc (v := (-1000002)) hx hb hown (hts _ q219) dX0_pin_13 ?_
    obtain ⟨h1, h2⟩ := Prod.mk.inj (Option.some.inj hf)
    subst h1
    subst h2
    exact mm_reti F hH hr hlocks rfl rfl dX0_pin_15
  | some q3 =>
    rw [mt_s] at hf
    refine lv_ifnonnull (tgt := 16) hx hb dX0_pin_10 (by decide) ?_
    refine lv_aload_n hx hb dX0_pin_16 rfl (lv_at hl 0 rfl) ?_
    replace hf := b1_i hf
    obtain ⟨v4, e4, hf⟩ := hf
    refine mm_getIN F hH mc_3 (k := 3) (by decide) q268 (fun _ h => h) e4 dX0_pin_17 ?_
    refine lv_iload_n hx hb dX0_pin_20 rfl (lv_at hl 3 rfl) ?_
    refine lv_icmp_ne (tgt := 27) hx hb dX0_pin_21 (by decide) (fun c5 => ?_) (fun c5 => ?_)
    · rw [if_neg c5] at hf
      refine lv_aload_n hx hb dX0_pin_27 rfl (lv_at hl 0 rfl) ?_
      refine lv_iload_n hx hb dX0_pin_28 rfl (lv_at hl 3 rfl) ?_
      replace hf := b1_i hf
      obtain ⟨σ6, e5, hf⟩ := hf
      refine mm_putN F hH mc_3 (k := 3) (v := vI x2) (by decide) q268 (fun _ h => h) rfl (by rcases (pZ_i e5).1 with h | h <;> rw [h] <;> rfl) (by rcases (pZ_i e5).1 with h | h <;> rw [h] <;> rfl) (pZ_i e5).2 dX0_pin_29 (fun H locs hH => ?_)
      refine lv_aload_n hx hb dX0_pin_32 rfl (lv_at hl 1 rfl) ?_
      replace hf := b1_i hf
      obtain ⟨q7, e6, hf⟩ := hf
      refine mm_getA F hH mc_0 (k := 0) (by decide) (hts _ q185) (fun _ h => h) e6 dX0_pin_33 ?_
      replace hf := b1_i hf
      obtain ⟨u, e7, hf⟩ := hf
      obtain ⟨fs, ek⟩ := ck_i e7
      replace hf := b1_i hf
      obtain ⟨v8, e8, hf⟩ := hf
      refine mm_ci (va_runV (As := []) (rest := []) ⟨hx, hb, hml, hown, hts⟩ (m_X1_pinned l G q7 σ6 v8 e8) (cwV 0 hts (lw_V q556 q557 q558 q63 q559) rfl rfl rfl (by decide +kernel) ⟨Nat.le_of_ble_eq_true rfl, Nat.le_of_ble_eq_true rfl⟩) (mm_preV F.2.2.2.2.2 hH (ci := 1) rfl ek) rfl rfl hl.1 rfl (lv_room (Nat.le_of_ble_eq_true rfl)) dX0_pin_36 ⟨Nat.le_of_ble_eq_true rfl, Nat.le_of_ble_eq_true rfl⟩) hH (fun H locs hH => ?_)
      obtain ⟨h1, h2⟩ := Prod.mk.inj (Option.some.inj hf)
      subst h1
      subst h2
      exact mm_reti F hH hr hlocks rfl rfl dX0_pin_39
    · rw [if_pos c5] at hf
      refine lv_ldc (v := (-1000003)) hx hb hown (hts _ q555) dX0_pin_24 ?_
      obtain ⟨h1, h2⟩ := Prod.mk.inj (Option.some.inj hf)
      subst h1
      subst h2
      exact mm_reti F hH hr hlocks rfl rfl dX0_pin_26
/-! IslandHeap.setRoot(II)I -/
abbrev rm_X0_setRoot : Room := { frames := 4, cells := 0, slots := 0, locals := 85 }
set_option maxHeartbeats 4000000 in
theorem m_X0_setRoot (l : Launch) (G : mm_G) (h0 : Nat) (x1 : Int32) (x2 : Int32) (σ : mm_M) (σf : mm_M) (rr : Int32) (hf : f_X0_setRoot h0 x1 x2 σ = some (rr, σf)) : Met l yX0_setRoot (ws_ yX0_setRoot cX0_setRoot 3 ((Option.some .int))) rm_X0_setRoot (mm_Pc G [.ref h0, .int x1, .int x2] σ) (mm_Qi G rr σf) 0 0 (mm_A G) := by
  refine mm_met (by decide) rfl rfl (by  exact Nat.le_of_ble_eq_true rfl) (fun p e s m below meth c ls F hH hr hlocks hname hl => ?_)
  have hl : lv_has ls 3 [(0, .ref h0), (1, .int x1), (2, .int x2)] := by  exact hl
  have F : mm_F p s m _ c RX0 cX0_setRoot 3 G := F
  have hx := F.1
  have hb := F.2.1
  have hml := F.2.2.1
  have hown := F.2.2.2.1
  have hts := F.2.2.2.2.1
  unfold f_X0_setRoot at hf
  refine lv_iload_n hx hb dX0_setRoot_0 rfl (lv_at hl 1 rfl) ?_
  refine lv_iconst (v := 0) hx hb dX0_setRoot_1 (by decide) ?_
  refine lv_iconst (v := 5) hx hb dX0_setRoot_2 (by decide) ?_
  replace hf := b1_i hf
  obtain ⟨v1, e1, hf⟩ := hf
  refine mm_ci (va_runS (As := [.int x1, .int (0 : Int32), .int (5 : Int32)]) (rest := []) ⟨hx, hb, hml, hown, hts⟩ (m_X0_isIn l G x1 (0 : Int32) (5 : Int32) σ v1 e1) (va_cwS 3 hts (lw_S q216 q217 q62 q218) rfl rfl rfl (by decide +kernel) ⟨Nat.le_of_ble_eq_true rfl, Nat.le_of_ble_eq_true rfl⟩) (mm_preS F.2.2.2.2.2 hH) rfl rfl hl.1 rfl (lv_room (Nat.le_of_ble_eq_true rfl)) dX0_setRoot_3 ⟨Nat.le_of_ble_eq_true rfl, Nat.le_of_ble_eq_true rfl⟩) hH (fun H locs hH => ?_)
  refine lv_if_eq (tgt := 35) hx hb dX0_setRoot_6 (by decide) (fun c2 => ?_) (fun c2 => ?_)
  · rw [if_pos c2] at hf
    refine lv_ldc (v := (-1000002)) hx hb hown (hts _ q219) dX0_setRoot_35 ?_
    obtain ⟨h1, h2⟩ := Prod.mk.inj (Option.some.inj hf)
    subst h1
    subst h2
    exact mm_reti F hH hr hlocks rfl rfl dX0_setRoot_37
  · rw [if_neg c2] at hf
    refine lv_aload_n hx hb dX0_setRoot_9 rfl (lv_at hl 0 rfl) ?_
    replace hf := b1_i hf
    obtain ⟨q3, e2, hf⟩ := hf
    refine mm_getA F hH mc_0 (k := 0) (by decide) (hts _ q185) (fun _ h => h) e2 dX0_setRoot_10 ?_
    refine lv_iload_n hx hb dX0_setRoot_13 rfl (lv_at hl 2 rfl) ?_
    replace hf := b1_i hf
    obtain ⟨u, e3, hf⟩ := hf
    obtain ⟨fs, ek⟩ := ck_i e3
    replace hf := b1_i hf
    obtain ⟨v4, e4, hf⟩ := hf
    refine mm_ci (va_runV (As := [.int x2]) (rest := []) ⟨hx, hb, hml, hown, hts⟩ (m_X1_isReference l G q3 x2 σ v4 e4) (cwV 1 hts (lw_V q525 q526 q527 q63 q528) rfl rfl rfl (by decide +kernel) ⟨Nat.le_of_ble_eq_true rfl, Nat.le_of_ble_eq_true rfl⟩) (mm_preV F.2.2.2.2.2 hH (ci := 1) rfl ek) rfl rfl hl.1 rfl (lv_room (Nat.le_of_ble_eq_true rfl)) dX0_setRoot_14 ⟨Nat.le_of_ble_eq_true rfl, Nat.le_of_ble_eq_true rfl⟩) hH (fun H locs hH => ?_)
    refine lv_if_eq (tgt := 35) hx hb dX0_setRoot_17 (by decide) (fun c5 => ?_) (fun c5 => ?_)
    · rw [if_pos c5] at hf
      refine lv_ldc (v := (-1000002)) hx hb hown (hts _ q219) dX0_setRoot_35 ?_
      obtain ⟨h1, h2⟩ := Prod.mk.inj (Option.some.inj hf)
      subst h1
      subst h2
      exact mm_reti F hH hr hlocks rfl rfl dX0_setRoot_37
    · rw [if_neg c5] at hf
      refine lv_aload_n hx hb dX0_setRoot_20 rfl (lv_at hl 0 rfl) ?_
      replace hf := b1_i hf
      obtain ⟨q6, e5, hf⟩ := hf
      refine mm_getA F hH mc_0 (k := 0) (by decide) (hts _ q185) (fun _ h => h) e5 dX0_setRoot_21 ?_
      replace hf := b1_i hf
      obtain ⟨q7, e6, hf⟩ := hf
      refine mm_getAN F hH mc_1 (k := 4) (by decide) q145 (fun _ h => h) e6 dX0_setRoot_24 ?_
      refine lv_iload_n hx hb dX0_setRoot_27 rfl (lv_at hl 1 rfl) ?_
      refine lv_iload_n hx hb dX0_setRoot_28 rfl (lv_at hl 2 rfl) ?_
      replace hf := b2_i hf
      obtain ⟨v8, σ9, e7, hf⟩ := hf
      refine mm_ci (va_runS (As := [.ref q7, .int x1, .int x2]) (rest := []) ⟨hx, hb, hml, hown, hts⟩ (m_X0_exchange l G q7 x1 x2 σ σ9 v8 e7) (va_cwS 3 hts (lw_S q530 q531 q62 q532) rfl rfl rfl (by decide +kernel) ⟨Nat.le_of_ble_eq_true rfl, Nat.le_of_ble_eq_true rfl⟩) (mm_preS F.2.2.2.2.2 hH) rfl rfl hl.1 rfl (lv_room (Nat.le_of_ble_eq_true rfl)) dX0_setRoot_29 ⟨Nat.le_of_ble_eq_true rfl, Nat.le_of_ble_eq_true rfl⟩) hH (fun H locs hH => ?_)
      refine lv_goto (tgt := 37) hx hb dX0_setRoot_32 (by decide) ?_
      obtain ⟨h1, h2⟩ := Prod.mk.inj (Option.some.inj hf)
      subst h1
      subst h2
      exact mm_reti F hH hr hlocks rfl rfl dX0_setRoot_37
/-! IslandHeap.root(I)I -/
abbrev rm_X0_root : Room := { frames := 1, cells := 0, slots := 0, locals := 22 }
set_option maxHeartbeats 4000000 in
theorem m_X0_root (l : Launch) (G : mm_G) (h0 : Nat) (x1 : Int32) (σ : mm_M) (rr : Int32) (hf : f_X0_root h0 x1 σ = some rr) : Met l yX0_root (ws_ yX0_root cX0_root 2 ((Option.some .int))) rm_X0_root (mm_Pc G [.ref h0, .int x1] σ) (mm_Qi G rr σ) 0 0 (mm_A G) := by
  refine mm_met (by decide) rfl rfl (by  exact Nat.le_of_ble_eq_true rfl) (fun p e s m below meth c ls F hH hr hlocks hname hl => ?_)
  have hl : lv_has ls 2 [(0, .ref h0), (1, .int x1)] := by  exact hl
  have F : mm_F p s m _ c RX0 cX0_root 2 G := F
  have hx := F.1
  have hb := F.2.1
  have hml := F.2.2.1
  have hown := F.2.2.2.1
  have hts := F.2.2.2.2.1
  unfold f_X0_root at hf
  refine lv_iload_n hx hb dX0_root_0 rfl (lv_at hl 1 rfl) ?_
  refine lv_iconst (v := 0) hx hb dX0_root_1 (by decide) ?_
  refine lv_iconst (v := 5) hx hb dX0_root_2 (by decide) ?_
  replace hf := b1_i hf
  obtain ⟨v1, e1, hf⟩ := hf
  refine mm_ci (va_runS (As := [.int x1, .int (0 : Int32), .int (5 : Int32)]) (rest := []) ⟨hx, hb, hml, hown, hts⟩ (m_X0_isIn l G x1 (0 : Int32) (5 : Int32) σ v1 e1) (va_cwS 3 hts (lw_S q216 q217 q62 q218) rfl rfl rfl (by decide +kernel) ⟨Nat.le_of_ble_eq_true rfl, Nat.le_of_ble_eq_true rfl⟩) (mm_preS F.2.2.2.2.2 hH) rfl rfl hl.1 rfl (lv_room (Nat.le_of_ble_eq_true rfl)) dX0_root_3 ⟨Nat.le_of_ble_eq_true rfl, Nat.le_of_ble_eq_true rfl⟩) hH (fun H locs hH => ?_)
  refine lv_if_eq (tgt := 21) hx hb dX0_root_6 (by decide) (fun c2 => ?_) (fun c2 => ?_)
  · rw [if_pos c2] at hf
    refine lv_ldc (v := (-1000002)) hx hb hown (hts _ q219) dX0_root_21 ?_
    have h1 := Option.some.inj hf
    subst h1
    exact mm_reti F hH hr hlocks rfl rfl dX0_root_23
  · rw [if_neg c2] at hf
    refine lv_aload_n hx hb dX0_root_9 rfl (lv_at hl 0 rfl) ?_
    replace hf := b1_i hf
    obtain ⟨q3, e2, hf⟩ := hf
    refine mm_getA F hH mc_0 (k := 0) (by decide) (hts _ q185) (fun _ h => h) e2 dX0_root_10 ?_
    replace hf := b1_i hf
    obtain ⟨q4, e3, hf⟩ := hf
    refine mm_getAN F hH mc_1 (k := 4) (by decide) q145 (fun _ h => h) e3 dX0_root_13 ?_
    refine lv_iload_n hx hb dX0_root_16 rfl (lv_at hl 1 rfl) ?_
    replace hf := b1_i hf
    obtain ⟨v5, e4, hf⟩ := hf
    refine mm_iald F hH e4 dX0_root_17 ?_
    refine lv_goto (tgt := 23) hx hb dX0_root_18 (by decide) ?_
    have h1 := Option.some.inj hf
    subst h1
    exact mm_reti F hH hr hlocks rfl rfl dX0_root_23
/-! IslandHeap.setWeak(II)I -/
abbrev rm_X0_setWeak : Room := { frames := 4, cells := 0, slots := 0, locals := 85 }
set_option maxHeartbeats 4000000 in
theorem m_X0_setWeak (l : Launch) (G : mm_G) (h0 : Nat) (x1 : Int32) (x2 : Int32) (σ : mm_M) (σf : mm_M) (rr : Int32) (hf : f_X0_setWeak h0 x1 x2 σ = some (rr, σf)) : Met l yX0_setWeak (ws_ yX0_setWeak cX0_setWeak 3 ((Option.some .int))) rm_X0_setWeak (mm_Pc G [.ref h0, .int x1, .int x2] σ) (mm_Qi G rr σf) 0 0 (mm_A G) := by
  refine mm_met (by decide) rfl rfl (by  exact Nat.le_of_ble_eq_true rfl) (fun p e s m below meth c ls F hH hr hlocks hname hl => ?_)
  have hl : lv_has ls 3 [(0, .ref h0), (1, .int x1), (2, .int x2)] := by  exact hl
  have F : mm_F p s m _ c RX0 cX0_setWeak 3 G := F
  have hx := F.1
  have hb := F.2.1
  have hml := F.2.2.1
  have hown := F.2.2.2.1
  have hts := F.2.2.2.2.1
  unfold f_X0_setWeak at hf
  refine lv_iload_n hx hb dX0_setWeak_0 rfl (lv_at hl 1 rfl) ?_
  refine lv_iconst (v := 0) hx hb dX0_setWeak_1 (by decide) ?_
  refine lv_iconst (v := 3) hx hb dX0_setWeak_2 (by decide) ?_
  replace hf := b1_i hf
  obtain ⟨v1, e1, hf⟩ := hf
  refine mm_ci (va_runS (As := [.int x1, .int (0 : Int32), .int (3 : Int32)]) (rest := []) ⟨hx, hb, hml, hown, hts⟩ (m_X0_isIn l G x1 (0 : Int32) (3 : Int32) σ v1 e1) (va_cwS 3 hts (lw_S q216 q217 q62 q218) rfl rfl rfl (by decide +kernel) ⟨Nat.le_of_ble_eq_true rfl, Nat.le_of_ble_eq_true rfl⟩) (mm_preS F.2.2.2.2.2 hH) rfl rfl hl.1 rfl (lv_room (Nat.le_of_ble_eq_true rfl)) dX0_setWeak_3 ⟨Nat.le_of_ble_eq_true rfl, Nat.le_of_ble_eq_true rfl⟩) hH (fun H locs hH => ?_)
  refine lv_if_eq (tgt := 35) hx hb dX0_setWeak_6 (by decide) (fun c2 => ?_) (fun c2 => ?_)
  · rw [if_pos c2] at hf
    refine lv_ldc (v := (-1000002)) hx hb hown (hts _ q219) dX0_setWeak_35 ?_
    obtain ⟨h1, h2⟩ := Prod.mk.inj (Option.some.inj hf)
    subst h1
    subst h2
    exact mm_reti F hH hr hlocks rfl rfl dX0_setWeak_37
  · rw [if_neg c2] at hf
    refine lv_aload_n hx hb dX0_setWeak_9 rfl (lv_at hl 0 rfl) ?_
    replace hf := b1_i hf
    obtain ⟨q3, e2, hf⟩ := hf
    refine mm_getA F hH mc_0 (k := 0) (by decide) (hts _ q185) (fun _ h => h) e2 dX0_setWeak_10 ?_
    refine lv_iload_n hx hb dX0_setWeak_13 rfl (lv_at hl 2 rfl) ?_
    replace hf := b1_i hf
    obtain ⟨u, e3, hf⟩ := hf
    obtain ⟨fs, ek⟩ := ck_i e3
    replace hf := b1_i hf
    obtain ⟨v4, e4, hf⟩ := hf
    refine mm_ci (va_runV (As := [.int x2]) (rest := []) ⟨hx, hb, hml, hown, hts⟩ (m_X1_isReference l G q3 x2 σ v4 e4) (cwV 1 hts (lw_V q525 q526 q527 q63 q528) rfl rfl rfl (by decide +kernel) ⟨Nat.le_of_ble_eq_true rfl, Nat.le_of_ble_eq_true rfl⟩) (mm_preV F.2.2.2.2.2 hH (ci := 1) rfl ek) rfl rfl hl.1 rfl (lv_room (Nat.le_of_ble_eq_true rfl)) dX0_setWeak_14 ⟨Nat.le_of_ble_eq_true rfl, Nat.le_of_ble_eq_true rfl⟩) hH (fun H locs hH => ?_)
    refine lv_if_eq (tgt := 35) hx hb dX0_setWeak_17 (by decide) (fun c5 => ?_) (fun c5 => ?_)
    · rw [if_pos c5] at hf
      refine lv_ldc (v := (-1000002)) hx hb hown (hts _ q219) dX0_setWeak_35 ?_
      obtain ⟨h1, h2⟩ := Prod.mk.inj (Option.some.inj hf)
      subst h1
      subst h2
      exact mm_reti F hH hr hlocks rfl rfl dX0_setWeak_37
    · rw [if_neg c5] at hf
      refine lv_aload_n hx hb dX0_setWeak_20 rfl (lv_at hl 0 rfl) ?_
      replace hf := b1_i hf
      obtain ⟨q6, e5, hf⟩ := hf
      refine mm_getA F hH mc_0 (k := 0) (by decide) (hts _ q185) (fun _ h => h) e5 dX0_setWeak_21 ?_
      replace hf := b1_i hf
      obtain ⟨q7, e6, hf⟩ := hf
      refine mm_getAN F hH mc_1 (k := 5) (by decide) q147 (fun _ h => h) e6 dX0_setWeak_24 ?_
      refine lv_iload_n hx hb dX0_setWeak_27 rfl (lv_at hl 1 rfl) ?_
      refine lv_iload_n hx hb dX0_setWeak_28 rfl (lv_at hl 2 rfl) ?_
      replace hf := b2_i hf
      obtain ⟨v8, σ9, e7, hf⟩ := hf
      refine mm_ci (va_runS (As := [.ref q7, .int x1, .int x2]) (rest := []) ⟨hx, hb, hml, hown, hts⟩ (m_X0_exchange l G q7 x1 x2 σ σ9 v8 e7) (va_cwS 3 hts (lw_S q530 q531 q62 q532) rfl rfl rfl (by decide +kernel) ⟨Nat.le_of_ble_eq_true rfl, Nat.le_of_ble_eq_true rfl⟩) (mm_preS F.2.2.2.2.2 hH) rfl rfl hl.1 rfl (lv_room (Nat.le_of_ble_eq_true rfl)) dX0_setWeak_29 ⟨Nat.le_of_ble_eq_true rfl, Nat.le_of_ble_eq_true rfl⟩) hH (fun H locs hH => ?_)
      refine lv_goto (tgt := 37) hx hb dX0_setWeak_32 (by decide) ?_
      obtain ⟨h1, h2⟩ := Prod.mk.inj (Option.some.inj hf)
      subst h1
      subst h2
      exact mm_reti F hH hr hlocks rfl rfl dX0_setWeak_37
/-! IslandHeap.weak(I)I -/
abbrev rm_X0_weak : Room := { frames := 1, cells := 0, slots := 0, locals := 22 }
set_option maxHeartbeats 4000000 in
theorem m_X0_weak (l : Launch) (G : mm_G) (h0 : Nat) (x1 : Int32) (σ : mm_M) (rr : Int32) (hf : f_X0_weak h0 x1 σ = some rr) : Met l yX0_weak (ws_ yX0_weak cX0_weak 2 ((Option.some .int))) rm_X0_weak (mm_Pc G [.ref h0, .int x1] σ) (mm_Qi G rr σ) 0 0 (mm_A G) := by
  refine mm_met (by decide) rfl rfl (by  exact Nat.le_of_ble_eq_true rfl) (fun p e s m below meth c ls F hH hr hlocks hname hl => ?_)
  have hl : lv_has ls 2 [(0, .ref h0), (1, .int x1)] := by  exact hl
  have F : mm_F p s m _ c RX0 cX0_weak 2 G := F
  have hx := F.1
  have hb := F.2.1
  have hml := F.2.2.1
  have hown := F.2.2.2.1
  have hts := F.2.2.2.2.1
  unfold f_X0_weak at hf
  refine lv_iload_n hx hb dX0_weak_0 rfl (lv_at hl 1 rfl) ?_
  refine lv_iconst (v := 0) hx hb dX0_weak_1 (by decide) ?_
  refine lv_iconst (v := 3) hx hb dX0_weak_2 (by decide) ?_
  replace hf := b1_i hf
  obtain ⟨v1, e1, hf⟩ := hf
  refine mm_ci (va_runS (As := [.int x1, .int (0 : Int32), .int (3 : Int32)]) (rest := []) ⟨hx, hb, hml, hown, hts⟩ (m_X0_isIn l G x1 (0 : Int32) (3 : Int32) σ v1 e1) (va_cwS 3 hts (lw_S q216 q217 q62 q218) rfl rfl rfl (by decide +kernel) ⟨Nat.le_of_ble_eq_true rfl, Nat.le_of_ble_eq_true rfl⟩) (mm_preS F.2.2.2.2.2 hH) rfl rfl hl.1 rfl (lv_room (Nat.le_of_ble_eq_true rfl)) dX0_weak_3 ⟨Nat.le_of_ble_eq_true rfl, Nat.le_of_ble_eq_true rfl⟩) hH (fun H locs hH => ?_)
  refine lv_if_eq (tgt := 21) hx hb dX0_weak_6 (by decide) (fun c2 => ?_) (fun c2 => ?_)
  · rw [if_pos c2] at hf
    refine lv_ldc (v := (-1000002)) hx hb hown (hts _ q219) dX0_weak_21 ?_
    have h1 := Option.some.inj hf
    subst h1
    exact mm_reti F hH hr hlocks rfl rfl dX0_weak_23
  · rw [if_neg c2] at hf
    refine lv_aload_n hx hb dX0_weak_9 rfl (lv_at hl 0 rfl) ?_
    replace hf := b1_i hf
    obtain ⟨q3, e2, hf⟩ := hf
    refine mm_getA F hH mc_0 (k := 0) (by decide) (hts _ q185) (fun _ h => h) e2 dX0_weak_10 ?_
    replace hf := b1_i hf
    obtain ⟨q4, e3, hf⟩ := hf
    refine mm_getAN F hH mc_1 (k := 5) (by decide) q147 (fun _ h => h) e3 dX0_weak_13 ?_
    refine lv_iload_n hx hb dX0_weak_16 rfl (lv_at hl 1 rfl) ?_
    replace hf := b1_i hf
    obtain ⟨v5, e4, hf⟩ := hf
    refine mm_iald F hH e4 dX0_weak_17 ?_
    refine lv_goto (tgt := 23) hx hb dX0_weak_18 (by decide) ?_
    have h1 := Option.some.inj hf
    subst h1
    exact mm_reti F hH hr hlocks rfl rfl dX0_weak_23
/-! IslandHeap$Report.<init>()V -/
abbrev rm_X5_init : Room := { frames := 1, cells := 0, slots := 0, locals := 30 }
set_option maxHeartbeats 4000000 in
theorem m_X5_init (l : Launch) (G : mm_G) (h0 : Nat) (σ : mm_M) (σf : mm_M) (hf : f_X5_init h0 σ = some σf) : Met l yX5_init (ws_ yX5_init cX5_init 1 ((Option.none : Option Jvm.ClassFile.FieldType))) rm_X5_init (mm_Pc G [.ref h0] σ) (mm_Qv G σf) 0 0 (mm_A G) := by
  refine mm_met (by decide) rfl rfl (by  exact Nat.le_of_ble_eq_true rfl) (fun p e s m below meth c ls F hH hr hlocks hname hl => ?_)
  have hl : lv_has ls 1 [(0, .ref h0)] := by  exact hl
  have F : mm_F p s m _ c RX5 cX5_init 1 G := F
  have hx := F.1
  have hb := F.2.1
  have hml := F.2.2.1
  have hown := F.2.2.2.1
  have hts := F.2.2.2.2.1
  unfold f_X5_init at hf
  refine lv_aload_n hx hb dX5_init_0 rfl (lv_at hl 0 rfl) ?_
  refine W.objInit hx hb hown (hts _ q585) (hts _ q96) (hts _ q97) rfl (hl.1.trans hml.symm) rfl dX5_init_1 (Nat.le_of_ble_eq_true rfl) (Nat.le_of_ble_eq_true rfl) ?_
  refine W.eq (g2 := F0 m 4 ls []) rfl ?_
  have h1 := Option.some.inj hf
  subst h1
  exact mm_retv F hH hr hlocks dX5_init_4
/-! IslandHeap$Heap.note(LIslandHeap$Thing;ILIslandHeap$Report;)V -/
abbrev rm_X1_note : Room := { frames := 1, cells := 0, slots := 0, locals := 20 }
set_option maxHeartbeats 4000000 in
theorem w_X1_note_75 {p : Program} {l : Launch} {e : Env} {s : State} {m : MethodId} {av : Array Value} {below : List Frame} {meth : Method} {c : Code} {G : mm_G} {σf : mm_M} {n : Nat} {h0 : Nat} {a1 : Nat} {x2 : Int32} {a3 : Nat} (F : mm_F p s m av c RX1 cX1_note 5 G) (hr : meth.sig.returnType = (Option.none : Option Jvm.ClassFile.FieldType)) (hlocks : meth.locks = false) (hname : meth.name = yX1_note.name) (IH3 : ∀ (x4 : Int32) (σ : mm_M) (H : Heap) (locs : List Loc) (ls : Array Slot), mm_H G s σ H locs → lv_has ls 5 [(0, .ref h0), (1, .ref a1), (2, .int x2), (3, .ref a3), (4, .int x4)] → itn (s_X1_note h0 a1 x2 a3) n (x4, σ) = some σf → W p l e rm_X1_note s m av below meth c H locs 0 0 (MQ below (mm_Qv G σf) av s 0 0 (mm_A G)) (F0 m 3 ls []))   (t0 : Nat) (t1 : Int32) (t2 : Int32) (σ : mm_M) (hf : evn (s_X1_note h0 a1 x2 a3) n (g_X1_note_75 h0 a1 x2 a3 t0 t1 t2 σ) = some σf) {H : Heap} {locs : List Loc} {ls : Array Slot} (hH : mm_H G s σ H locs) (hl : lv_has ls 5 [(0, .ref h0), (1, .ref a1), (2, .int x2), (3, .ref a3)]) : W p l e rm_X1_note s m av below meth c H locs 0 0 (MQ below (mm_Qv G σf) av s 0 0 (mm_A G)) (F0 m 75 ls [.int t2, .int t1, .ref t0]) := by
  have hx := F.1
  have hb := F.2.1
  have hml := F.2.2.1
  have hown := F.2.2.2.1
  have hts := F.2.2.2.2.1
  unfold g_X1_note_75 at hf
  refine lv_iadd hx hb dX1_note_75 ?_
  replace hf := evn_b1 hf
  obtain ⟨σ1, e1, hf⟩ := hf
  refine mm_putN F hH mc_5 (k := 4) (v := vI (t1 + t2)) (by decide) q595 (fun _ h => h) rfl rfl rfl e1 dX1_note_76 (fun H locs hH => ?_)
  refine lv_aload_n hx hb dX1_note_79 rfl (lv_at hl 3 rfl) ?_
  refine lv_dup hx hb dX1_note_80 rfl ?_
  replace hf := evn_b1 hf
  obtain ⟨v2, e2, hf⟩ := hf
  refine mm_getIN F hH mc_5 (k := 5) (by decide) q597 (fun _ h => h) e2 dX1_note_81 ?_
  refine lv_aload_n hx hb dX1_note_84 rfl (lv_at hl 1 rfl) ?_
  replace hf := evn_b1 hf
  obtain ⟨u, e3, hf⟩ := hf
  obtain ⟨fs, ek⟩ := ck_i e3
  replace hf := evn_b1 hf
  obtain ⟨v3, e4, hf⟩ := hf
  refine mm_ci (va_runV (As := []) (rest := [.int v2, .ref a3]) ⟨hx, hb, hml, hown, hts⟩ (m_X3_size l G a1 σ1 v3 e4) (cwV 0 hts (lw_V q615 q241 q242 q68 q243) rfl rfl rfl (by decide +kernel) ⟨Nat.le_of_ble_eq_true rfl, Nat.le_of_ble_eq_true rfl⟩) (mm_preV F.2.2.2.2.2 hH (ci := 3) rfl ek) rfl rfl hl.1 rfl (lv_room (Nat.le_of_ble_eq_true rfl)) dX1_note_85 ⟨Nat.le_of_ble_eq_true rfl, Nat.le_of_ble_eq_true rfl⟩) hH (fun H locs hH => ?_)
  refine lv_aload_n hx hb dX1_note_88 rfl (lv_at hl 1 rfl) ?_
  replace hf := evn_b1 hf
  obtain ⟨v4, e5, hf⟩ := hf
  refine mm_getIN F hH mc_3 (k := 0) (by decide) q252 (fun _ h => h) e5 dX1_note_89 ?_
  refine lv_iload_n hx hb dX1_note_92 rfl (lv_at hl 2 rfl) ?_
  refine lv_isub hx hb dX1_note_93 ?_
  refine lv_imul hx hb dX1_note_94 ?_
  refine lv_iadd hx hb dX1_note_95 ?_
  replace hf := evn_b1 hf
  obtain ⟨σ5, e6, hf⟩ := hf
  refine mm_putN F hH mc_5 (k := 5) (v := vI (v2 + (v3 * (v4 - x2)))) (by decide) q597 (fun _ h => h) rfl rfl rfl e6 dX1_note_96 (fun H locs hH => ?_)
  rw [evn_r] at hf
  have h1 := Option.some.inj hf
  subst h1
  exact mm_retv F hH hr hlocks dX1_note_99
set_option maxHeartbeats 4000000 in
theorem w_X1_note_3 {p : Program} {l : Launch} {e : Env} {s : State} {m : MethodId} {av : Array Value} {below : List Frame} {meth : Method} {c : Code} {G : mm_G} {σf : mm_M} {n : Nat} {h0 : Nat} {a1 : Nat} {x2 : Int32} {a3 : Nat} (F : mm_F p s m av c RX1 cX1_note 5 G) (hr : meth.sig.returnType = (Option.none : Option Jvm.ClassFile.FieldType)) (hlocks : meth.locks = false) (hname : meth.name = yX1_note.name) (IH3 : ∀ (x4 : Int32) (σ : mm_M) (H : Heap) (locs : List Loc) (ls : Array Slot), mm_H G s σ H locs → lv_has ls 5 [(0, .ref h0), (1, .ref a1), (2, .int x2), (3, .ref a3), (4, .int x4)] → itn (s_X1_note h0 a1 x2 a3) n (x4, σ) = some σf → W p l e rm_X1_note s m av below meth c H locs 0 0 (MQ below (mm_Qv G σf) av s 0 0 (mm_A G)) (F0 m 3 ls []))  (x4 : Int32)  (σ : mm_M) (hf : evn (s_X1_note h0 a1 x2 a3) n (g_X1_note_3 h0 a1 x2 a3 x4 σ) = some σf) {H : Heap} {locs : List Loc} {ls : Array Slot} (hH : mm_H G s σ H locs) (hl : lv_has ls 5 [(0, .ref h0), (1, .ref a1), (2, .int x2), (3, .ref a3), (4, .int x4)]) : W p l e rm_X1_note s m av below meth c H locs 0 0 (MQ below (mm_Qv G σf) av s 0 0 (mm_A G)) (F0 m 3 ls []) := by
  have hx := F.1
  have hb := F.2.1
  have hml := F.2.2.1
  have hown := F.2.2.2.1
  have hts := F.2.2.2.2.1
  unfold g_X1_note_3 at hf
  refine lv_iload hx hb dX1_note_3 (lv_at hl 4 rfl) ?_
  refine lv_aload_n hx hb dX1_note_5 rfl (lv_at hl 1 rfl) ?_
  replace hf := evn_b1 hf
  obtain ⟨u, e1, hf⟩ := hf
  obtain ⟨fs, ek⟩ := ck_i e1
  replace hf := evn_b1 hf
  obtain ⟨v1, e2, hf⟩ := hf
  refine mm_ci (va_runV (As := []) (rest := [.int x4]) ⟨hx, hb, hml, hown, hts⟩ (m_X3_size l G a1 σ v1 e2) (cwV 0 hts (lw_V q615 q241 q242 q68 q243) rfl rfl rfl (by decide +kernel) ⟨Nat.le_of_ble_eq_true rfl, Nat.le_of_ble_eq_true rfl⟩) (mm_preV F.2.2.2.2.2 hH (ci := 3) rfl ek) rfl rfl hl.1 rfl (lv_room (Nat.le_of_ble_eq_true rfl)) dX1_note_6 ⟨Nat.le_of_ble_eq_true rfl, Nat.le_of_ble_eq_true rfl⟩) hH (fun H locs hH => ?_)
  refine lv_icmp_ge (tgt := 34) hx hb dX1_note_9 (by decide) (fun c2 => ?_) (fun c2 => ?_)
  · rw [if_pos c2] at hf
    refine lv_aload_n hx hb dX1_note_34 rfl (lv_at hl 3 rfl) ?_
    refine lv_dup hx hb dX1_note_35 rfl ?_
    replace hf := evn_b1 hf
    obtain ⟨v3, e3, hf⟩ := hf
    refine mm_getIN F hH mc_5 (k := 0) (by decide) q587 (fun _ h => h) e3 dX1_note_36 ?_
    refine lv_iconst (v := 1) hx hb dX1_note_39 (by decide) ?_
    refine lv_iadd hx hb dX1_note_40 ?_
    replace hf := evn_b1 hf
    obtain ⟨σ4, e4, hf⟩ := hf
    refine mm_putN F hH mc_5 (k := 0) (v := vI (v3 + (1 : Int32))) (by decide) q587 (fun _ h => h) rfl rfl rfl e4 dX1_note_41 (fun H locs hH => ?_)
    refine lv_aload_n hx hb dX1_note_44 rfl (lv_at hl 3 rfl) ?_
    refine lv_dup hx hb dX1_note_45 rfl ?_
    replace hf := evn_b1 hf
    obtain ⟨v5, e5, hf⟩ := hf
    refine mm_getIN F hH mc_5 (k := 1) (by decide) q589 (fun _ h => h) e5 dX1_note_46 ?_
    refine lv_aload_n hx hb dX1_note_49 rfl (lv_at hl 1 rfl) ?_
    replace hf := evn_b1 hf
    obtain ⟨u, e6, hf⟩ := hf
    obtain ⟨fs, ek⟩ := ck_i e6
    replace hf := evn_b1 hf
    obtain ⟨v6, e7, hf⟩ := hf
    refine mm_ci (va_runV (As := []) (rest := [.int v5, .ref a3]) ⟨hx, hb, hml, hown, hts⟩ (m_X3_size l G a1 σ4 v6 e7) (cwV 0 hts (lw_V q615 q241 q242 q68 q243) rfl rfl rfl (by decide +kernel) ⟨Nat.le_of_ble_eq_true rfl, Nat.le_of_ble_eq_true rfl⟩) (mm_preV F.2.2.2.2.2 hH (ci := 3) rfl ek) rfl rfl hl.1 rfl (lv_room (Nat.le_of_ble_eq_true rfl)) dX1_note_50 ⟨Nat.le_of_ble_eq_true rfl, Nat.le_of_ble_eq_true rfl⟩) hH (fun H locs hH => ?_)
    refine lv_iadd hx hb dX1_note_53 ?_
    replace hf := evn_b1 hf
    obtain ⟨σ7, e8, hf⟩ := hf
    refine mm_putN F hH mc_5 (k := 1) (v := vI (v5 + v6)) (by decide) q589 (fun _ h => h) rfl rfl rfl e8 dX1_note_54 (fun H locs hH => ?_)
    refine lv_aload_n hx hb dX1_note_57 rfl (lv_at hl 3 rfl) ?_
    refine lv_dup hx hb dX1_note_58 rfl ?_
    replace hf := evn_b1 hf
    obtain ⟨v8, e9, hf⟩ := hf
    refine mm_getIN F hH mc_5 (k := 4) (by decide) q595 (fun _ h => h) e9 dX1_note_59 ?_
    refine lv_iload_n hx hb dX1_note_62 rfl (lv_at hl 2 rfl) ?_
    refine lv_aload_n hx hb dX1_note_63 rfl (lv_at hl 1 rfl) ?_
    replace hf := evn_b1 hf
    obtain ⟨v9, e10, hf⟩ := hf
    refine mm_getIN F hH mc_3 (k := 0) (by decide) q252 (fun _ h => h) e10 dX1_note_64 ?_
    refine lv_icmp_ne (tgt := 74) hx hb dX1_note_67 (by decide) (fun c10 => ?_) (fun c10 => ?_)
    · rw [if_neg c10] at hf
      refine lv_iconst (v := 1) hx hb dX1_note_74 (by decide) ?_
      exact w_X1_note_75 F hr hlocks hname IH3 a3 v8 (1 : Int32) σ7 hf hH (lv_sub hl [0, 1, 2, 3] rfl)
    · rw [if_pos c10] at hf
      refine lv_iconst (v := 0) hx hb dX1_note_70 (by decide) ?_
      refine lv_goto (tgt := 75) hx hb dX1_note_71 (by decide) ?_
      exact w_X1_note_75 F hr hlocks hname IH3 a3 v8 (0 : Int32) σ7 hf hH (lv_sub hl [0, 1, 2, 3] rfl)
  · rw [if_neg c2] at hf
    refine lv_aload_n hx hb dX1_note_12 rfl (lv_at hl 0 rfl) ?_
    replace hf := evn_b1 hf
    obtain ⟨q11, e11, hf⟩ := hf
    refine mm_getA F hH mc_1 (k := 10) (by decide) (hts _ q156) (fun _ h => h) e11 dX1_note_13 ?_
    refine lv_aload_n hx hb dX1_note_16 rfl (lv_at hl 1 rfl) ?_
    replace hf := evn_b1 hf
    obtain ⟨v12, e12, hf⟩ := hf
    refine mm_getIN F hH mc_3 (k := 0) (by decide) q252 (fun _ h => h) e12 dX1_note_17 ?_
    refine lv_iload hx hb dX1_note_20 (lv_at hl 4 rfl) ?_
    refine lv_iadd hx hb dX1_note_22 ?_
    refine lv_iload_n hx hb dX1_note_23 rfl (lv_at hl 2 rfl) ?_
    refine lv_iload hx hb dX1_note_24 (lv_at hl 4 rfl) ?_
    refine lv_iadd hx hb dX1_note_26 ?_
    replace hf := evn_b1 hf
    obtain ⟨σ13, e13, hf⟩ := hf
    refine mm_iast F hH e13 dX1_note_27 (fun H locs hH => ?_)
    refine lv_iinc (v := x4 + (1 : Int32)) (lv' := [(4, .int (x4 + (1 : Int32))), (0, .ref h0), (1, .ref a1), (2, .int x2), (3, .ref a3)]) hx hb dX1_note_28 hl (k := 4) rfl rfl (by decide) rfl (fun ls hl => ?_)
    refine lv_goto (tgt := 3) hx hb dX1_note_31 (by decide) ?_
    rw [evn_l] at hf
    exact IH3 (x4 + (1 : Int32)) σ13 _ _ _ hH (lv_sub hl [1, 2, 3, 4, 0] rfl) hf
set_option maxHeartbeats 4000000 in
theorem w_X1_note_0 {p : Program} {l : Launch} {e : Env} {s : State} {m : MethodId} {av : Array Value} {below : List Frame} {meth : Method} {c : Code} {G : mm_G} {σf : mm_M} {n : Nat} {h0 : Nat} {a1 : Nat} {x2 : Int32} {a3 : Nat} (F : mm_F p s m av c RX1 cX1_note 5 G) (hr : meth.sig.returnType = (Option.none : Option Jvm.ClassFile.FieldType)) (hlocks : meth.locks = false) (hname : meth.name = yX1_note.name) (IH3 : ∀ (x4 : Int32) (σ : mm_M) (H : Heap) (locs : List Loc) (ls : Array Slot), mm_H G s σ H locs → lv_has ls 5 [(0, .ref h0), (1, .ref a1), (2, .int x2), (3, .ref a3), (4, .int x4)] → itn (s_X1_note h0 a1 x2 a3) n (x4, σ) = some σf → W p l e rm_X1_note s m av below meth c H locs 0 0 (MQ below (mm_Qv G σf) av s 0 0 (mm_A G)) (F0 m 3 ls []))    (σ : mm_M) (hf : evn (s_X1_note h0 a1 x2 a3) n (g_X1_note_0 h0 a1 x2 a3 σ) = some σf) {H : Heap} {locs : List Loc} {ls : Array Slot} (hH : mm_H G s σ H locs) (hl : lv_has ls 5 [(0, .ref h0), (1, .ref a1), (2, .int x2), (3, .ref a3)]) : W p l e rm_X1_note s m av below meth c H locs 0 0 (MQ below (mm_Qv G σf) av s 0 0 (mm_A G)) (F0 m 0 ls []) := by
  have hx := F.1
  have hb := F.2.1
  have hml := F.2.2.1
  have hown := F.2.2.2.1
  have hts := F.2.2.2.2.1
  unfold g_X1_note_0 at hf
  refine lv_iconst (v := 0) hx hb dX1_note_0 (by decide) ?_
  refine lv_istore (lv' := [(4, .int (0 : Int32)), (0, .ref h0), (1, .ref a1), (2, .int x2), (3, .ref a3)]) hx hb dX1_note_1 hl (by decide) rfl (fun ls hl => ?_)
  rw [evn_l] at hf
  exact IH3 (0 : Int32) σ _ _ _ hH (lv_sub hl [1, 2, 3, 4, 0] rfl) hf
set_option maxHeartbeats 4000000 in
theorem l_X1_note {p : Program} {l : Launch} {e : Env} {s : State} {m : MethodId} {av : Array Value} {below : List Frame} {meth : Method} {c : Code} {G : mm_G} {σf : mm_M} {h0 : Nat} {a1 : Nat} {x2 : Int32} {a3 : Nat} (F : mm_F p s m av c RX1 cX1_note 5 G) (hr : meth.sig.returnType = (Option.none : Option Jvm.ClassFile.FieldType)) (hlocks : meth.locks = false) (hname : meth.name = yX1_note.name) : ∀ n : Nat, (∀ (x4 : Int32) (σ : mm_M) (H : Heap) (locs : List Loc) (ls : Array Slot), mm_H G s σ H locs → lv_has ls 5 [(0, .ref h0), (1, .ref a1), (2, .int x2), (3, .ref a3), (4, .int x4)] → itn (s_X1_note h0 a1 x2 a3) n (x4, σ) = some σf → W p l e rm_X1_note s m av below meth c H locs 0 0 (MQ below (mm_Qv G σf) av s 0 0 (mm_A G)) (F0 m 3 ls [])) := by
  intro n
  induction n with
  | zero =>
    exact fun x4 σ H locs ls hH hl hf => by cases hf
  | succ n ih =>
    have IH3 := ih
    intro x4 σ H locs ls hH hl hf
    rw [itn_s] at hf
    exact w_X1_note_3 F hr hlocks hname IH3 x4 σ hf hH hl
set_option maxHeartbeats 4000000 in
theorem m_X1_note (l : Launch) (G : mm_G) (h0 : Nat) (a1 : Nat) (x2 : Int32) (a3 : Nat) (σ : mm_M) (σf : mm_M) (hf : f_X1_note h0 a1 x2 a3 σ = some σf) : Met l yX1_note (ws_ yX1_note cX1_note 5 ((Option.none : Option Jvm.ClassFile.FieldType))) rm_X1_note (mm_Pc G [.ref h0, .ref a1, .int x2, .ref a3] σ) (mm_Qv G σf) 0 0 (mm_A G) := by
  refine mm_met (by decide) rfl rfl (by  exact Nat.le_of_ble_eq_true rfl) (fun p e s m below meth c ls F hH hr hlocks hname hl => ?_)
  have hl : lv_has ls 5 [(0, .ref h0), (1, .ref a1), (2, .int x2), (3, .ref a3)] := by  exact hl
  have F : mm_F p s m _ c RX1 cX1_note 5 G := F
  unfold f_X1_note at hf
  obtain ⟨n, hf⟩ := lgo_i hf
  have IH := l_X1_note (l := l) (e := e) (below := below) (σf := σf) (h0 := h0) (a1 := a1) (x2 := x2) (a3 := a3) F hr hlocks hname n
  exact w_X1_note_0 F hr hlocks hname IH σ hf hH (lv_sub hl [0, 1, 2, 3] rfl)
/-! IslandHeap$Heap.correct([I)V -/
abbrev rm_X1_correct : Room := { frames := 0, cells := 0, slots := 0, locals := 0 }
set_option maxHeartbeats 4000000 in
theorem w_X1_correct_2 {p : Program} {l : Launch} {e : Env} {s : State} {m : MethodId} {av : Array Value} {below : List Frame} {meth : Method} {c : Code} {G : mm_G} {σf : mm_M} {n : Nat} {h0 : Nat} {a1 : Nat} (F : mm_F p s m av c RX1 cX1_correct 3 G) (hr : meth.sig.returnType = (Option.none : Option Jvm.ClassFile.FieldType)) (hlocks : meth.locks = false) (hname : meth.name = yX1_correct.name) (IH2 : ∀ (x2 : Int32) (σ : mm_M) (H : Heap) (locs : List Loc) (ls : Array Slot), mm_H G s σ H locs → lv_has ls 3 [(0, .ref h0), (1, .ref a1), (2, .int x2)] → itn (s_X1_correct h0 a1) n (x2, σ) = some σf → W p l e rm_X1_correct s m av below meth c H locs 0 0 (MQ below (mm_Qv G σf) av s 0 0 (mm_A G)) (F0 m 2 ls []))  (x2 : Int32)  (σ : mm_M) (hf : evn (s_X1_correct h0 a1) n (g_X1_correct_2 h0 a1 x2 σ) = some σf) {H : Heap} {locs : List Loc} {ls : Array Slot} (hH : mm_H G s σ H locs) (hl : lv_has ls 3 [(0, .ref h0), (1, .ref a1), (2, .int x2)]) : W p l e rm_X1_correct s m av below meth c H locs 0 0 (MQ below (mm_Qv G σf) av s 0 0 (mm_A G)) (F0 m 2 ls []) := by
  have hx := F.1
  have hb := F.2.1
  have hml := F.2.2.1
  have hown := F.2.2.2.1
  have hts := F.2.2.2.2.1
  unfold g_X1_correct_2 at hf
  refine lv_iload_n hx hb dX1_correct_2 rfl (lv_at hl 2 rfl) ?_
  refine lv_aload_n hx hb dX1_correct_3 rfl (lv_at hl 1 rfl) ?_
  replace hf := evn_b1 hf
  obtain ⟨v1, e1, hf⟩ := hf
  refine mm_alen F hH e1 dX1_correct_4 ?_
  refine lv_icmp_ge (tgt := 36) hx hb dX1_correct_5 (by decide) (fun c2 => ?_) (fun c2 => ?_)
  · rw [if_pos c2] at hf
    rw [evn_r] at hf
    have h1 := Option.some.inj hf
    subst h1
    exact mm_retv F hH hr hlocks dX1_correct_36
  · rw [if_neg c2] at hf
    refine lv_aload_n hx hb dX1_correct_8 rfl (lv_at hl 1 rfl) ?_
    refine lv_iload_n hx hb dX1_correct_9 rfl (lv_at hl 2 rfl) ?_
    refine lv_aload_n hx hb dX1_correct_10 rfl (lv_at hl 1 rfl) ?_
    refine lv_iload_n hx hb dX1_correct_11 rfl (lv_at hl 2 rfl) ?_
    replace hf := evn_b1 hf
    obtain ⟨v3, e2, hf⟩ := hf
    refine mm_iald F hH e2 dX1_correct_12 ?_
    refine lv_iconst (v := (-1)) hx hb dX1_correct_13 (by decide) ?_
    refine lv_icmp_ne (tgt := 21) hx hb dX1_correct_14 (by decide) (fun c4 => ?_) (fun c4 => ?_)
    · rw [if_neg c4] at hf
      refine lv_aload_n hx hb dX1_correct_21 rfl (lv_at hl 0 rfl) ?_
      replace hf := evn_b1 hf
      obtain ⟨q5, e3, hf⟩ := hf
      refine mm_getA F hH mc_1 (k := 10) (by decide) (hts _ q156) (fun _ h => h) e3 dX1_correct_22 ?_
      refine lv_aload_n hx hb dX1_correct_25 rfl (lv_at hl 1 rfl) ?_
      refine lv_iload_n hx hb dX1_correct_26 rfl (lv_at hl 2 rfl) ?_
      replace hf := evn_b1 hf
      obtain ⟨v6, e4, hf⟩ := hf
      refine mm_iald F hH e4 dX1_correct_27 ?_
      replace hf := evn_b1 hf
      obtain ⟨v7, e5, hf⟩ := hf
      refine mm_iald F hH e5 dX1_correct_28 ?_
      replace hf := evn_b1 hf
      obtain ⟨σ8, e6, hf⟩ := hf
      refine mm_iast F hH e6 dX1_correct_29 (fun H locs hH => ?_)
      refine lv_iinc (v := x2 + (1 : Int32)) (lv' := [(2, .int (x2 + (1 : Int32))), (0, .ref h0), (1, .ref a1)]) hx hb dX1_correct_30 hl (k := 2) rfl rfl (by decide) rfl (fun ls hl => ?_)
      refine lv_goto (tgt := 2) hx hb dX1_correct_33 (by decide) ?_
      rw [evn_l] at hf
      exact IH2 (x2 + (1 : Int32)) σ8 _ _ _ hH (lv_sub hl [1, 2, 0] rfl) hf
    · rw [if_pos c4] at hf
      refine lv_iconst (v := (-1)) hx hb dX1_correct_17 (by decide) ?_
      refine lv_goto (tgt := 29) hx hb dX1_correct_18 (by decide) ?_
      replace hf := evn_b1 hf
      obtain ⟨σ9, e7, hf⟩ := hf
      refine mm_iast F hH e7 dX1_correct_29 (fun H locs hH => ?_)
      refine lv_iinc (v := x2 + (1 : Int32)) (lv' := [(2, .int (x2 + (1 : Int32))), (0, .ref h0), (1, .ref a1)]) hx hb dX1_correct_30 hl (k := 2) rfl rfl (by decide) rfl (fun ls hl => ?_)
      refine lv_goto (tgt := 2) hx hb dX1_correct_33 (by decide) ?_
      rw [evn_l] at hf
      exact IH2 (x2 + (1 : Int32)) σ9 _ _ _ hH (lv_sub hl [1, 2, 0] rfl) hf
set_option maxHeartbeats 4000000 in
theorem w_X1_correct_0 {p : Program} {l : Launch} {e : Env} {s : State} {m : MethodId} {av : Array Value} {below : List Frame} {meth : Method} {c : Code} {G : mm_G} {σf : mm_M} {n : Nat} {h0 : Nat} {a1 : Nat} (F : mm_F p s m av c RX1 cX1_correct 3 G) (hr : meth.sig.returnType = (Option.none : Option Jvm.ClassFile.FieldType)) (hlocks : meth.locks = false) (hname : meth.name = yX1_correct.name) (IH2 : ∀ (x2 : Int32) (σ : mm_M) (H : Heap) (locs : List Loc) (ls : Array Slot), mm_H G s σ H locs → lv_has ls 3 [(0, .ref h0), (1, .ref a1), (2, .int x2)] → itn (s_X1_correct h0 a1) n (x2, σ) = some σf → W p l e rm_X1_correct s m av below meth c H locs 0 0 (MQ below (mm_Qv G σf) av s 0 0 (mm_A G)) (F0 m 2 ls []))    (σ : mm_M) (hf : evn (s_X1_correct h0 a1) n (g_X1_correct_0 h0 a1 σ) = some σf) {H : Heap} {locs : List Loc} {ls : Array Slot} (hH : mm_H G s σ H locs) (hl : lv_has ls 3 [(0, .ref h0), (1, .ref a1)]) : W p l e rm_X1_correct s m av below meth c H locs 0 0 (MQ below (mm_Qv G σf) av s 0 0 (mm_A G)) (F0 m 0 ls []) := by
  have hx := F.1
  have hb := F.2.1
  have hml := F.2.2.1
  have hown := F.2.2.2.1
  have hts := F.2.2.2.2.1
  unfold g_X1_correct_0 at hf
  refine lv_iconst (v := 0) hx hb dX1_correct_0 (by decide) ?_
  refine lv_istore_n (lv' := [(2, .int (0 : Int32)), (0, .ref h0), (1, .ref a1)]) hx hb dX1_correct_1 rfl hl (by decide) rfl (fun ls hl => ?_)
  rw [evn_l] at hf
  exact IH2 (0 : Int32) σ _ _ _ hH (lv_sub hl [1, 2, 0] rfl) hf
set_option maxHeartbeats 4000000 in
theorem l_X1_correct {p : Program} {l : Launch} {e : Env} {s : State} {m : MethodId} {av : Array Value} {below : List Frame} {meth : Method} {c : Code} {G : mm_G} {σf : mm_M} {h0 : Nat} {a1 : Nat} (F : mm_F p s m av c RX1 cX1_correct 3 G) (hr : meth.sig.returnType = (Option.none : Option Jvm.ClassFile.FieldType)) (hlocks : meth.locks = false) (hname : meth.name = yX1_correct.name) : ∀ n : Nat, (∀ (x2 : Int32) (σ : mm_M) (H : Heap) (locs : List Loc) (ls : Array Slot), mm_H G s σ H locs → lv_has ls 3 [(0, .ref h0), (1, .ref a1), (2, .int x2)] → itn (s_X1_correct h0 a1) n (x2, σ) = some σf → W p l e rm_X1_correct s m av below meth c H locs 0 0 (MQ below (mm_Qv G σf) av s 0 0 (mm_A G)) (F0 m 2 ls [])) := by
  intro n
  induction n with
  | zero =>
    exact fun x2 σ H locs ls hH hl hf => by cases hf
  | succ n ih =>
    have IH2 := ih
    intro x2 σ H locs ls hH hl hf
    rw [itn_s] at hf
    exact w_X1_correct_2 F hr hlocks hname IH2 x2 σ hf hH hl
set_option maxHeartbeats 4000000 in
theorem m_X1_correct (l : Launch) (G : mm_G) (h0 : Nat) (a1 : Nat) (σ : mm_M) (σf : mm_M) (hf : f_X1_correct h0 a1 σ = some σf) : Met l yX1_correct (ws_ yX1_correct cX1_correct 3 ((Option.none : Option Jvm.ClassFile.FieldType))) rm_X1_correct (mm_Pc G [.ref h0, .ref a1] σ) (mm_Qv G σf) 0 0 (mm_A G) := by
  refine mm_met (by decide) rfl rfl (by  exact Nat.le_of_ble_eq_true rfl) (fun p e s m below meth c ls F hH hr hlocks hname hl => ?_)
  have hl : lv_has ls 3 [(0, .ref h0), (1, .ref a1)] := by  exact hl
  have F : mm_F p s m _ c RX1 cX1_correct 3 G := F
  unfold f_X1_correct at hf
  obtain ⟨n, hf⟩ := lgo_i hf
  have IH := l_X1_correct (l := l) (e := e) (below := below) (σf := σf) (h0 := h0) (a1 := a1) F hr hlocks hname n
  exact w_X1_correct_0 F hr hlocks hname IH σ hf hH (lv_sub hl [0, 1] rfl)
/-! IslandHeap$Heap.settle()V -/
abbrev rm_X1_settle : Room := { frames := 3, cells := 0, slots := 0, locals := 76 }
set_option maxHeartbeats 4000000 in
theorem w_X1_settle_10 {p : Program} {l : Launch} {e : Env} {s : State} {m : MethodId} {av : Array Value} {below : List Frame} {meth : Method} {c : Code} {G : mm_G} {σf : mm_M} {n : Nat} {h0 : Nat} (F : mm_F p s m av c RX1 cX1_settle 3 G) (hr : meth.sig.returnType = (Option.none : Option Jvm.ClassFile.FieldType)) (hlocks : meth.locks = false) (hname : meth.name = yX1_settle.name) (IH10 : ∀ (x1 : Int32) (σ : mm_M) (H : Heap) (locs : List Loc) (ls : Array Slot), mm_H G s σ H locs → lv_has ls 3 [(0, .ref h0), (1, .int x1)] → itn (s_X1_settle h0) n (.inl (x1, σ)) = some σf → W p l e rm_X1_settle s m av below meth c H locs 0 0 (MQ below (mm_Qv G σf) av s 0 0 (mm_A G)) (F0 m 10 ls [])) (IH48 : ∀ (x1 : Int32) (σ : mm_M) (H : Heap) (locs : List Loc) (ls : Array Slot), mm_H G s σ H locs → lv_has ls 3 [(0, .ref h0), (1, .int x1)] → itn (s_X1_settle h0) n (.inr (x1, σ)) = some σf → W p l e rm_X1_settle s m av below meth c H locs 0 0 (MQ below (mm_Qv G σf) av s 0 0 (mm_A G)) (F0 m 48 ls []))  (x1 : Int32)  (σ : mm_M) (hf : evn (s_X1_settle h0) n (g_X1_settle_10 h0 x1 σ) = some σf) {H : Heap} {locs : List Loc} {ls : Array Slot} (hH : mm_H G s σ H locs) (hl : lv_has ls 3 [(0, .ref h0), (1, .int x1)]) : W p l e rm_X1_settle s m av below meth c H locs 0 0 (MQ below (mm_Qv G σf) av s 0 0 (mm_A G)) (F0 m 10 ls []) := by
  have hx := F.1
  have hb := F.2.1
  have hml := F.2.2.1
  have hown := F.2.2.2.1
  have hts := F.2.2.2.2.1
  unfold g_X1_settle_10 at hf
  refine lv_iload_n hx hb dX1_settle_10 rfl (lv_at hl 1 rfl) ?_
  refine lv_if_lt (tgt := 46) hx hb dX1_settle_11 (by decide) (fun c1 => ?_) (fun c1 => ?_)
  · rw [if_pos c1] at hf
    refine lv_iconst (v := 0) hx hb dX1_settle_46 (by decide) ?_
    refine lv_istore_n (lv' := [(1, .int (0 : Int32)), (0, .ref h0)]) hx hb dX1_settle_47 rfl hl (by decide) rfl (fun ls hl => ?_)
    rw [evn_l] at hf
    exact IH48 (0 : Int32) σ _ _ _ hH (lv_sub hl [1, 0] rfl) hf
  · rw [if_neg c1] at hf
    refine lv_aload_n hx hb dX1_settle_14 rfl (lv_at hl 0 rfl) ?_
    replace hf := evn_b1 hf
    obtain ⟨q2, e1, hf⟩ := hf
    refine mm_getA F hH mc_1 (k := 2) (by decide) (hts _ q136) (fun _ h => h) e1 dX1_settle_15 ?_
    refine lv_iload_n hx hb dX1_settle_18 rfl (lv_at hl 1 rfl) ?_
    replace hf := evn_b1 hf
    obtain ⟨u, e2, hf⟩ := hf
    obtain ⟨fs, ek⟩ := ck_i e2
    replace hf := evn_b1 hf
    obtain ⟨p3, e3, hf⟩ := hf
    refine mm_cq (va_runV (As := [.int x1]) (rest := []) ⟨hx, hb, hml, hown, hts⟩ (m_J2_get l G q2 x1 σ p3 e3) (cwV 1 hts (lw_V q294 q295 q296 q66 q297) rfl rfl rfl (by decide +kernel) ⟨Nat.le_of_ble_eq_true rfl, Nat.le_of_ble_eq_true rfl⟩) (mm_preV F.2.2.2.2.2 hH (ci := 15) rfl ek) rfl rfl hl.1 rfl (lv_room (Nat.le_of_ble_eq_true rfl)) dX1_settle_19 ⟨Nat.le_of_ble_eq_true rfl, Nat.le_of_ble_eq_true rfl⟩) hH (fun H locs hH => ?_)
    replace hf := evn_b1 hf
    obtain ⟨q4, e4, hf⟩ := hf
    subst e4
    replace hf := evn_b1 hf
    obtain ⟨u, e5, hf⟩ := hf
    refine mm_cast F hH mc_3 (hts _ q130) e5 dX1_settle_22 ?_
    replace hf := evn_b1 hf
    obtain ⟨v5, e6, hf⟩ := hf
    refine mm_getIN F hH mc_3 (k := 5) (by decide) q275 (fun _ h => h) e6 dX1_settle_25 ?_
    refine lv_if_ne (tgt := 40) hx hb dX1_settle_28 (by decide) (fun c6 => ?_) (fun c6 => ?_)
    · rw [if_neg c6] at hf
      refine lv_iinc (v := x1 + (-1 : Int32)) (lv' := [(1, .int (x1 + (-1 : Int32))), (0, .ref h0)]) hx hb dX1_settle_40 hl (k := 1) rfl rfl (by decide) rfl (fun ls hl => ?_)
      refine lv_goto (tgt := 10) hx hb dX1_settle_43 (by decide) ?_
      rw [evn_l] at hf
      exact IH10 (x1 + (-1 : Int32)) σ _ _ _ hH (lv_sub hl [1, 0] rfl) hf
    · rw [if_pos c6] at hf
      refine lv_aload_n hx hb dX1_settle_31 rfl (lv_at hl 0 rfl) ?_
      replace hf := evn_b1 hf
      obtain ⟨q7, e7, hf⟩ := hf
      refine mm_getA F hH mc_1 (k := 2) (by decide) (hts _ q136) (fun _ h => h) e7 dX1_settle_32 ?_
      refine lv_iload_n hx hb dX1_settle_35 rfl (lv_at hl 1 rfl) ?_
      replace hf := evn_b1 hf
      obtain ⟨u, e8, hf⟩ := hf
      obtain ⟨fs, ek⟩ := ck_i e8
      replace hf := evn_b2 hf
      obtain ⟨p8, σ9, e9, hf⟩ := hf
      refine mm_cq (va_runV (As := [.int x1]) (rest := []) ⟨hx, hb, hml, hown, hts⟩ (m_J2_remove l G q7 x1 σ σ9 p8 e9) (cwV 1 hts (lw_V q624 q625 q626 q66 q627) rfl rfl rfl (by decide +kernel) ⟨Nat.le_of_ble_eq_true rfl, Nat.le_of_ble_eq_true rfl⟩) (mm_preV F.2.2.2.2.2 hH (ci := 15) rfl ek) rfl rfl hl.1 rfl (lv_room (Nat.le_of_ble_eq_true rfl)) dX1_settle_36 ⟨Nat.le_of_ble_eq_true rfl, Nat.le_of_ble_eq_true rfl⟩) hH (fun H locs hH => ?_)
      refine mm_pop (r := p8) hx hb dX1_settle_39 ?_
      refine lv_iinc (v := x1 + (-1 : Int32)) (lv' := [(1, .int (x1 + (-1 : Int32))), (0, .ref h0)]) hx hb dX1_settle_40 hl (k := 1) rfl rfl (by decide) rfl (fun ls hl => ?_)
      refine lv_goto (tgt := 10) hx hb dX1_settle_43 (by decide) ?_
      rw [evn_l] at hf
      exact IH10 (x1 + (-1 : Int32)) σ9 _ _ _ hH (lv_sub hl [1, 0] rfl) hf
set_option maxHeartbeats 4000000 in
theorem w_X1_settle_48 {p : Program} {l : Launch} {e : Env} {s : State} {m : MethodId} {av : Array Value} {below : List Frame} {meth : Method} {c : Code} {G : mm_G} {σf : mm_M} {n : Nat} {h0 : Nat} (F : mm_F p s m av c RX1 cX1_settle 3 G) (hr : meth.sig.returnType = (Option.none : Option Jvm.ClassFile.FieldType)) (hlocks : meth.locks = false) (hname : meth.name = yX1_settle.name) (IH10 : ∀ (x1 : Int32) (σ : mm_M) (H : Heap) (locs : List Loc) (ls : Array Slot), mm_H G s σ H locs → lv_has ls 3 [(0, .ref h0), (1, .int x1)] → itn (s_X1_settle h0) n (.inl (x1, σ)) = some σf → W p l e rm_X1_settle s m av below meth c H locs 0 0 (MQ below (mm_Qv G σf) av s 0 0 (mm_A G)) (F0 m 10 ls [])) (IH48 : ∀ (x1 : Int32) (σ : mm_M) (H : Heap) (locs : List Loc) (ls : Array Slot), mm_H G s σ H locs → lv_has ls 3 [(0, .ref h0), (1, .int x1)] → itn (s_X1_settle h0) n (.inr (x1, σ)) = some σf → W p l e rm_X1_settle s m av below meth c H locs 0 0 (MQ below (mm_Qv G σf) av s 0 0 (mm_A G)) (F0 m 48 ls []))  (x1 : Int32)  (σ : mm_M) (hf : evn (s_X1_settle h0) n (g_X1_settle_48 h0 x1 σ) = some σf) {H : Heap} {locs : List Loc} {ls : Array Slot} (hH : mm_H G s σ H locs) (hl : lv_has ls 3 [(0, .ref h0), (1, .int x1)]) : W p l e rm_X1_settle s m av below meth c H locs 0 0 (MQ below (mm_Qv G σf) av s 0 0 (mm_A G)) (F0 m 48 ls []) := by
  have hx := F.1
  have hb := F.2.1
  have hml := F.2.2.1
  have hown := F.2.2.2.1
  have hts := F.2.2.2.2.1
  unfold g_X1_settle_48 at hf
  refine lv_iload_n hx hb dX1_settle_48 rfl (lv_at hl 1 rfl) ?_
  refine lv_aload_n hx hb dX1_settle_49 rfl (lv_at hl 0 rfl) ?_
  replace hf := evn_b1 hf
  obtain ⟨q1, e1, hf⟩ := hf
  refine mm_getA F hH mc_1 (k := 2) (by decide) (hts _ q136) (fun _ h => h) e1 dX1_settle_50 ?_
  replace hf := evn_b1 hf
  obtain ⟨u, e2, hf⟩ := hf
  obtain ⟨fs, ek⟩ := ck_i e2
  replace hf := evn_b1 hf
  obtain ⟨v2, e3, hf⟩ := hf
  refine mm_ci (va_runV (As := []) (rest := [.int x1]) ⟨hx, hb, hml, hown, hts⟩ (m_J2_size l G q1 σ v2 e3) (cwV 0 hts (lw_V q290 q291 q292 q66 q293) rfl rfl rfl (by decide +kernel) ⟨Nat.le_of_ble_eq_true rfl, Nat.le_of_ble_eq_true rfl⟩) (mm_preV F.2.2.2.2.2 hH (ci := 15) rfl ek) rfl rfl hl.1 rfl (lv_room (Nat.le_of_ble_eq_true rfl)) dX1_settle_53 ⟨Nat.le_of_ble_eq_true rfl, Nat.le_of_ble_eq_true rfl⟩) hH (fun H locs hH => ?_)
  refine lv_icmp_ge (tgt := 108) hx hb dX1_settle_56 (by decide) (fun c3 => ?_) (fun c3 => ?_)
  · rw [if_pos c3] at hf
    refine lv_aload_n hx hb dX1_settle_108 rfl (lv_at hl 0 rfl) ?_
    refine lv_aload_n hx hb dX1_settle_109 rfl (lv_at hl 0 rfl) ?_
    replace hf := evn_b1 hf
    obtain ⟨q4, e4, hf⟩ := hf
    refine mm_getA F hH mc_1 (k := 4) (by decide) (hts _ q142) (fun _ h => h) e4 dX1_settle_110 ?_
    replace hf := evn_b1 hf
    obtain ⟨u, e5, hf⟩ := hf
    obtain ⟨fs, ek⟩ := ck_i e5
    replace hf := evn_b1 hf
    obtain ⟨σ5, e6, hf⟩ := hf
    refine mm_cv (va_runV (As := [.ref q4]) (rest := []) ⟨hx, hb, hml, hown, hts⟩ (m_X1_correct l G h0 q4 σ σ5 e6) (cwV 1 hts (lw_V q632 q634 qs14 q63 q635) rfl rfl rfl (by decide +kernel) ⟨Nat.le_of_ble_eq_true rfl, Nat.le_of_ble_eq_true rfl⟩) (mm_preV F.2.2.2.2.2 hH (ci := 1) rfl ek) rfl rfl hl.1 rfl (lv_room (Nat.le_of_ble_eq_true rfl)) dX1_settle_113 ⟨Nat.le_of_ble_eq_true rfl, Nat.le_of_ble_eq_true rfl⟩) hH (fun H locs hH => ?_)
    refine lv_aload_n hx hb dX1_settle_116 rfl (lv_at hl 0 rfl) ?_
    refine lv_aload_n hx hb dX1_settle_117 rfl (lv_at hl 0 rfl) ?_
    replace hf := evn_b1 hf
    obtain ⟨q6, e7, hf⟩ := hf
    refine mm_getA F hH mc_1 (k := 5) (by decide) (hts _ q146) (fun _ h => h) e7 dX1_settle_118 ?_
    replace hf := evn_b1 hf
    obtain ⟨u, e8, hf⟩ := hf
    obtain ⟨fs, ek⟩ := ck_i e8
    replace hf := evn_b1 hf
    obtain ⟨σ7, e9, hf⟩ := hf
    refine mm_cv (va_runV (As := [.ref q6]) (rest := []) ⟨hx, hb, hml, hown, hts⟩ (m_X1_correct l G h0 q6 σ5 σ7 e9) (cwV 1 hts (lw_V q632 q634 qs14 q63 q635) rfl rfl rfl (by decide +kernel) ⟨Nat.le_of_ble_eq_true rfl, Nat.le_of_ble_eq_true rfl⟩) (mm_preV F.2.2.2.2.2 hH (ci := 1) rfl ek) rfl rfl hl.1 rfl (lv_room (Nat.le_of_ble_eq_true rfl)) dX1_settle_121 ⟨Nat.le_of_ble_eq_true rfl, Nat.le_of_ble_eq_true rfl⟩) hH (fun H locs hH => ?_)
    rw [evn_r] at hf
    have h1 := Option.some.inj hf
    subst h1
    exact mm_retv F hH hr hlocks dX1_settle_124
  · rw [if_neg c3] at hf
    refine lv_aload_n hx hb dX1_settle_59 rfl (lv_at hl 0 rfl) ?_
    replace hf := evn_b1 hf
    obtain ⟨q8, e10, hf⟩ := hf
    refine mm_getA F hH mc_1 (k := 2) (by decide) (hts _ q136) (fun _ h => h) e10 dX1_settle_60 ?_
    refine lv_iload_n hx hb dX1_settle_63 rfl (lv_at hl 1 rfl) ?_
    replace hf := evn_b1 hf
    obtain ⟨u, e11, hf⟩ := hf
    obtain ⟨fs, ek⟩ := ck_i e11
    replace hf := evn_b1 hf
    obtain ⟨p9, e12, hf⟩ := hf
    refine mm_cq (va_runV (As := [.int x1]) (rest := []) ⟨hx, hb, hml, hown, hts⟩ (m_J2_get l G q8 x1 σ p9 e12) (cwV 1 hts (lw_V q294 q295 q296 q66 q297) rfl rfl rfl (by decide +kernel) ⟨Nat.le_of_ble_eq_true rfl, Nat.le_of_ble_eq_true rfl⟩) (mm_preV F.2.2.2.2.2 hH (ci := 15) rfl ek) rfl rfl hl.1 rfl (lv_room (Nat.le_of_ble_eq_true rfl)) dX1_settle_64 ⟨Nat.le_of_ble_eq_true rfl, Nat.le_of_ble_eq_true rfl⟩) hH (fun H locs hH => ?_)
    replace hf := evn_b1 hf
    obtain ⟨q10, e13, hf⟩ := hf
    subst e13
    replace hf := evn_b1 hf
    obtain ⟨u, e14, hf⟩ := hf
    refine mm_cast F hH mc_3 (hts _ q130) e14 dX1_settle_67 ?_
    refine lv_astore_n (lv' := [(2, .ref q10), (0, .ref h0), (1, .int x1)]) hx hb dX1_settle_70 rfl hl (by decide) rfl (fun ls hl => ?_)
    refine lv_aload_n hx hb dX1_settle_71 rfl (lv_at hl 0 rfl) ?_
    refine lv_aload_n hx hb dX1_settle_72 rfl (lv_at hl 1 rfl) ?_
    replace hf := evn_b1 hf
    obtain ⟨q11, e15, hf⟩ := hf
    refine mm_getA F hH mc_1 (k := 10) (by decide) (hts _ q156) (fun _ h => h) e15 dX1_settle_73 ?_
    refine lv_aload_n hx hb dX1_settle_76 rfl (lv_at hl 0 rfl) ?_
    replace hf := evn_b1 hf
    obtain ⟨v12, e16, hf⟩ := hf
    refine mm_getIN F hH mc_3 (k := 0) (by decide) q252 (fun _ h => h) e16 dX1_settle_77 ?_
    replace hf := evn_b1 hf
    obtain ⟨v13, e17, hf⟩ := hf
    refine mm_iald F hH e17 dX1_settle_80 ?_
    replace hf := evn_b1 hf
    obtain ⟨σ14, e18, hf⟩ := hf
    refine mm_putN F hH mc_3 (k := 0) (v := vI v13) (by decide) q252 (fun _ h => h) rfl rfl rfl e18 dX1_settle_81 (fun H locs hH => ?_)
    refine lv_aload_n hx hb dX1_settle_84 rfl (lv_at hl 0 rfl) ?_
    refine lv_dup hx hb dX1_settle_85 rfl ?_
    replace hf := evn_b1 hf
    obtain ⟨v15, e19, hf⟩ := hf
    refine mm_getIN F hH mc_3 (k := 4) (by decide) q271 (fun _ h => h) e19 dX1_settle_86 ?_
    refine lv_iconst (v := 1) hx hb dX1_settle_89 (by decide) ?_
    refine lv_iadd hx hb dX1_settle_90 ?_
    replace hf := evn_b1 hf
    obtain ⟨σ16, e20, hf⟩ := hf
    refine mm_putN F hH mc_3 (k := 4) (v := vI (v15 + (1 : Int32))) (by decide) q271 (fun _ h => h) rfl rfl rfl e20 dX1_settle_91 (fun H locs hH => ?_)
    refine lv_aload_n hx hb dX1_settle_94 rfl (lv_at hl 1 rfl) ?_
    refine lv_aload_n hx hb dX1_settle_95 rfl (lv_at hl 0 rfl) ?_
    replace hf := evn_b1 hf
    obtain ⟨q17, e21, hf⟩ := hf
    refine mm_getAN F hH mc_3 (k := 1) (by decide) q259 (fun _ h => h) e21 dX1_settle_96 ?_
    replace hf := evn_b1 hf
    obtain ⟨u, e22, hf⟩ := hf
    obtain ⟨fs, ek⟩ := ck_i e22
    replace hf := evn_b1 hf
    obtain ⟨σ18, e23, hf⟩ := hf
    refine mm_cv (va_runV (As := [.ref q17]) (rest := []) ⟨hx, hb, hml, hown, hts⟩ (m_X1_correct l G h0 q17 σ16 σ18 e23) (cwV 1 hts (lw_V q632 q634 qs14 q63 q635) rfl rfl rfl (by decide +kernel) ⟨Nat.le_of_ble_eq_true rfl, Nat.le_of_ble_eq_true rfl⟩) (mm_preV F.2.2.2.2.2 hH (ci := 1) rfl ek) rfl rfl hl.1 rfl (lv_room (Nat.le_of_ble_eq_true rfl)) dX1_settle_99 ⟨Nat.le_of_ble_eq_true rfl, Nat.le_of_ble_eq_true rfl⟩) hH (fun H locs hH => ?_)
    refine lv_iinc (v := x1 + (1 : Int32)) (lv' := [(1, .int (x1 + (1 : Int32))), (2, .ref q10), (0, .ref h0)]) hx hb dX1_settle_102 hl (k := 2) rfl rfl (by decide) rfl (fun ls hl => ?_)
    refine lv_goto (tgt := 48) hx hb dX1_settle_105 (by decide) ?_
    rw [evn_l] at hf
    exact IH48 (x1 + (1 : Int32)) σ18 _ _ _ hH (lv_sub hl [2, 0] rfl) hf
set_option maxHeartbeats 4000000 in
theorem w_X1_settle_0 {p : Program} {l : Launch} {e : Env} {s : State} {m : MethodId} {av : Array Value} {below : List Frame} {meth : Method} {c : Code} {G : mm_G} {σf : mm_M} {n : Nat} {h0 : Nat} (F : mm_F p s m av c RX1 cX1_settle 3 G) (hr : meth.sig.returnType = (Option.none : Option Jvm.ClassFile.FieldType)) (hlocks : meth.locks = false) (hname : meth.name = yX1_settle.name) (IH10 : ∀ (x1 : Int32) (σ : mm_M) (H : Heap) (locs : List Loc) (ls : Array Slot), mm_H G s σ H locs → lv_has ls 3 [(0, .ref h0), (1, .int x1)] → itn (s_X1_settle h0) n (.inl (x1, σ)) = some σf → W p l e rm_X1_settle s m av below meth c H locs 0 0 (MQ below (mm_Qv G σf) av s 0 0 (mm_A G)) (F0 m 10 ls [])) (IH48 : ∀ (x1 : Int32) (σ : mm_M) (H : Heap) (locs : List Loc) (ls : Array Slot), mm_H G s σ H locs → lv_has ls 3 [(0, .ref h0), (1, .int x1)] → itn (s_X1_settle h0) n (.inr (x1, σ)) = some σf → W p l e rm_X1_settle s m av below meth c H locs 0 0 (MQ below (mm_Qv G σf) av s 0 0 (mm_A G)) (F0 m 48 ls []))    (σ : mm_M) (hf : evn (s_X1_settle h0) n (g_X1_settle_0 h0 σ) = some σf) {H : Heap} {locs : List Loc} {ls : Array Slot} (hH : mm_H G s σ H locs) (hl : lv_has ls 3 [(0, .ref h0)]) : W p l e rm_X1_settle s m av below meth c H locs 0 0 (MQ below (mm_Qv G σf) av s 0 0 (mm_A G)) (F0 m 0 ls []) := by
  have hx := F.1
  have hb := F.2.1
  have hml := F.2.2.1
  have hown := F.2.2.2.1
  have hts := F.2.2.2.2.1
  unfold g_X1_settle_0 at hf
  refine lv_aload_n hx hb dX1_settle_0 rfl (lv_at hl 0 rfl) ?_
  replace hf := evn_b1 hf
  obtain ⟨q1, e1, hf⟩ := hf
  refine mm_getA F hH mc_1 (k := 2) (by decide) (hts _ q136) (fun _ h => h) e1 dX1_settle_1 ?_
  replace hf := evn_b1 hf
  obtain ⟨u, e2, hf⟩ := hf
  obtain ⟨fs, ek⟩ := ck_i e2
  replace hf := evn_b1 hf
  obtain ⟨v2, e3, hf⟩ := hf
  refine mm_ci (va_runV (As := []) (rest := []) ⟨hx, hb, hml, hown, hts⟩ (m_J2_size l G q1 σ v2 e3) (cwV 0 hts (lw_V q290 q291 q292 q66 q293) rfl rfl rfl (by decide +kernel) ⟨Nat.le_of_ble_eq_true rfl, Nat.le_of_ble_eq_true rfl⟩) (mm_preV F.2.2.2.2.2 hH (ci := 15) rfl ek) rfl rfl hl.1 rfl (lv_room (Nat.le_of_ble_eq_true rfl)) dX1_settle_4 ⟨Nat.le_of_ble_eq_true rfl, Nat.le_of_ble_eq_true rfl⟩) hH (fun H locs hH => ?_)
  refine lv_iconst (v := 1) hx hb dX1_settle_7 (by decide) ?_
  refine lv_isub hx hb dX1_settle_8 ?_
  refine lv_istore_n (lv' := [(1, .int (v2 - (1 : Int32))), (0, .ref h0)]) hx hb dX1_settle_9 rfl hl (by decide) rfl (fun ls hl => ?_)
  rw [evn_l] at hf
  exact IH10 (v2 - (1 : Int32)) σ _ _ _ hH (lv_sub hl [1, 0] rfl) hf
set_option maxHeartbeats 4000000 in
theorem l_X1_settle {p : Program} {l : Launch} {e : Env} {s : State} {m : MethodId} {av : Array Value} {below : List Frame} {meth : Method} {c : Code} {G : mm_G} {σf : mm_M} {h0 : Nat} (F : mm_F p s m av c RX1 cX1_settle 3 G) (hr : meth.sig.returnType = (Option.none : Option Jvm.ClassFile.FieldType)) (hlocks : meth.locks = false) (hname : meth.name = yX1_settle.name) : ∀ n : Nat, (∀ (x1 : Int32) (σ : mm_M) (H : Heap) (locs : List Loc) (ls : Array Slot), mm_H G s σ H locs → lv_has ls 3 [(0, .ref h0), (1, .int x1)] → itn (s_X1_settle h0) n (.inl (x1, σ)) = some σf → W p l e rm_X1_settle s m av below meth c H locs 0 0 (MQ below (mm_Qv G σf) av s 0 0 (mm_A G)) (F0 m 10 ls [])) ∧ (∀ (x1 : Int32) (σ : mm_M) (H : Heap) (locs : List Loc) (ls : Array Slot), mm_H G s σ H locs → lv_has ls 3 [(0, .ref h0), (1, .int x1)] → itn (s_X1_settle h0) n (.inr (x1, σ)) = some σf → W p l e rm_X1_settle s m av below meth c H locs 0 0 (MQ below (mm_Qv G σf) av s 0 0 (mm_A G)) (F0 m 48 ls [])) := by
  intro n
  induction n with
  | zero =>
    exact ⟨fun x1 σ H locs ls hH hl hf => (by cases hf), fun x1 σ H locs ls hH hl hf => (by cases hf)⟩
  | succ n ih =>
    obtain ⟨IH10, IH48⟩ := ih
    refine ⟨?_, ?_⟩
    · intro x1 σ H locs ls hH hl hf
      rw [itn_s] at hf
      exact w_X1_settle_10 F hr hlocks hname IH10 IH48 x1 σ hf hH hl
    · intro x1 σ H locs ls hH hl hf
      rw [itn_s] at hf
      exact w_X1_settle_48 F hr hlocks hname IH10 IH48 x1 σ hf hH hl
set_option maxHeartbeats 4000000 in
theorem m_X1_settle (l : Launch) (G : mm_G) (h0 : Nat) (σ : mm_M) (σf : mm_M) (hf : f_X1_settle h0 σ = some σf) : Met l yX1_settle (ws_ yX1_settle cX1_settle 3 ((Option.none : Option Jvm.ClassFile.FieldType))) rm_X1_settle (mm_Pc G [.ref h0] σ) (mm_Qv G σf) 0 0 (mm_A G) := by
  refine mm_met (by decide) rfl rfl (by  exact Nat.le_of_ble_eq_true rfl) (fun p e s m below meth c ls F hH hr hlocks hname hl => ?_)
  have hl : lv_has ls 3 [(0, .ref h0)] := by  exact hl
  have F : mm_F p s m _ c RX1 cX1_settle 3 G := F
  unfold f_X1_settle at hf
  obtain ⟨n, hf⟩ := lgo_i hf
  have IH := l_X1_settle (l := l) (e := e) (below := below) (σf := σf) (h0 := h0) F hr hlocks hname n
  exact w_X1_settle_0 F hr hlocks hname IH.1 IH.2 σ hf hH (lv_sub hl [0] rfl)
