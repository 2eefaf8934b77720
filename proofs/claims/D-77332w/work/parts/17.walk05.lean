/-! WALKS -/
set_option maxRecDepth 100000
/-! IslandHeap.distance(I)I -/
abbrev rm_X0_distance : Room := { frames := 4, cells := 1, slots := 3, locals := 92 }
set_option maxHeartbeats 4000000 in
theorem m_X0_distance (l : Launch) (G : mm_G) (h0 : Nat) (x1 : Int32) (σ : mm_M) (σf : mm_M) (rr : Int32) (hf : f_X0_distance h0 x1 σ = some (rr, σf)) : Met l yX0_distance (ws_ yX0_distance cX0_distance 3 ((Option.some .int))) rm_X0_distance (mm_Pc G [.ref h0, .int x1] σ) (mm_Qi G rr σf) 1 3 (mm_A G) := by
  refine mm_met (by decide) rfl rfl (by  exact Nat.le_of_ble_eq_true rfl) (fun p e s m below meth c ls F hH hr hlocks hname hl => ?_)
  have hl : lv_has ls 3 [(0, .ref h0), (1, .int x1)] := by  exact hl
  have F : mm_F p s m _ c RX0 cX0_distance 3 G := F
  have hx := F.1
  have hb := F.2.1
  have hml := F.2.2.1
  have hown := F.2.2.2.1
  have hts := F.2.2.2.2.1
  unfold f_X0_distance at hf
  refine lv_aload_n hx hb dX0_distance_0 rfl (lv_at hl 0 rfl) ?_
  replace hf := b1_i hf
  obtain ⟨q1, e1, hf⟩ := hf
  refine mm_getA F hH mc_0 (k := 0) (by decide) (hts _ q185) (fun _ h => h) e1 dX0_distance_1 ?_
  refine lv_iload_n hx hb dX0_distance_4 rfl (lv_at hl 1 rfl) ?_
  replace hf := b1_i hf
  obtain ⟨u, e2, hf⟩ := hf
  obtain ⟨fs, ek⟩ := ck_i e2
  replace hf := b1_i hf
  obtain ⟨p2, e3, hf⟩ := hf
  refine mm_cq (va_runV (As := [.int x1]) (rest := []) ⟨hx, hb, hml, hown, hts⟩ (m_X1_at l G q1 x1 σ p2 e3) (cwV 1 hts (lw_V q384 q385 q386 q63 q387) rfl rfl rfl (by decide +kernel) ⟨Nat.le_of_ble_eq_true rfl, Nat.le_of_ble_eq_true rfl⟩) (mm_preV F.2.2.2.2.2 hH (ci := 1) rfl ek) rfl rfl hl.1 rfl (lv_room (Nat.le_of_ble_eq_true rfl)) dX0_distance_5 ⟨Nat.le_of_ble_eq_true rfl, Nat.le_of_ble_eq_true rfl⟩) hH (fun H locs hH => ?_)
  refine mm_astore_n (r := p2) (lv' := [(2, va_rf p2), (0, .ref h0), (1, .int x1)]) hx hb dX0_distance_8 rfl hl (by decide) rfl (fun ls hl => ?_)
  refine mm_aload_n (r := p2) hx hb dX0_distance_9 rfl (lv_at hl 0 rfl) ?_
  cases p2 with
  | none =>
    rw [mt_n] at hf
    refine lv_ifnonnullN hx hb dX0_distance_10 ?_
    refine lv_ldc (v := (-1000002)) hx hb hown (hts _ q219) dX0_distance_13 ?_
    refine lv_goto (tgt := 30) hx hb dX0_distance_15 (by decide) ?_
    obtain ⟨h1, h2⟩ := Prod.mk.inj (Option.some.inj hf)
    subst h1
    subst h2
    refine W.widen (k := 1) (n := 3) (Nat.le_of_ble_eq_true rfl) (Nat.le_of_ble_eq_true rfl) ?_
    exact mm_reti F hH hr hlocks rfl rfl dX0_distance_30
  | some q3 =>
    rw [mt_s] at hf
    refine lv_ifnonnull (tgt := 18) hx hb dX0_distance_10 (by decide) ?_
    replace hf := b2_i hf
    obtain ⟨q5, σ4, e4, hf⟩ := hf
    refine mm_new F hH mc_6 (hts _ q674) (hts _ q675) (hts _ q79) (Nat.le_of_ble_eq_true rfl) (Nat.le_of_ble_eq_true rfl) e4 dX0_distance_18 (fun H hH => ?_)
    refine lv_dup hx hb dX0_distance_21 rfl ?_
    refine lv_aload_n hx hb dX0_distance_22 rfl (lv_at hl 1 rfl) ?_
    replace hf := b1_i hf
    obtain ⟨σ6, e5, hf⟩ := hf
    refine mm_cv (va_runIN (As := [.ref h0]) (rest := [.ref q5]) ⟨hx, hb, hml, hown, hts⟩ (m_X6_init l G q5 h0 σ4 σ6 e5) ⟨(va_cnB 1 hts (lw_meth q678) rfl rfl rfl (F.2.2.2.2.2.2.1 _ q676 rfl) (hts _ q79) (by decide +kernel) ⟨Nat.le_of_ble_eq_true rfl, Nat.le_of_ble_eq_true rfl⟩), rfl, hts _ q677⟩ (mm_preS F.2.2.2.2.2 hH) rfl rfl hl.1 rfl (lv_room (Nat.le_of_ble_eq_true rfl)) dX0_distance_23 ⟨Nat.le_of_ble_eq_true rfl, Nat.le_of_ble_eq_true rfl⟩) hH (fun H locs hH => ?_)
    refine lv_aload_n hx hb dX0_distance_26 rfl (lv_at hl 0 rfl) ?_
    replace hf := b1_i hf
    obtain ⟨u, e6, hf⟩ := hf
    obtain ⟨fs, ek⟩ := ck_i e6
    replace hf := b2_i hf
    obtain ⟨v7, σ8, e7, hf⟩ := hf
    refine mm_ci (va_runV (As := [.ref q3]) (rest := []) ⟨hx, hb, hml, hown, hts⟩ (m_X6_distanceOf l G q5 q3 σ6 σ8 v7 e7) (cwV 1 hts (lw_V q690 q691 q692 q79 q693) rfl rfl rfl (by decide +kernel) ⟨Nat.le_of_ble_eq_true rfl, Nat.le_of_ble_eq_true rfl⟩) (mm_preV F.2.2.2.2.2 hH (ci := 6) rfl ek) rfl rfl hl.1 rfl (lv_room (Nat.le_of_ble_eq_true rfl)) dX0_distance_27 ⟨Nat.le_of_ble_eq_true rfl, Nat.le_of_ble_eq_true rfl⟩) hH (fun H locs hH => ?_)
    obtain ⟨h1, h2⟩ := Prod.mk.inj (Option.some.inj hf)
    subst h1
    subst h2
    exact mm_reti F hH hr hlocks rfl rfl dX0_distance_30
/-! IslandHeap.retained(I)I -/
abbrev rm_X0_retained : Room := { frames := 7, cells := 2, slots := 16, locals := 165 }
set_option maxHeartbeats 4000000 in
theorem m_X0_retained (l : Launch) (G : mm_G) (h0 : Nat) (x1 : Int32) (σ : mm_M) (σf : mm_M) (rr : Int32) (hf : f_X0_retained h0 x1 σ = some (rr, σf)) : Met l yX0_retained (ws_ yX0_retained cX0_retained 4 ((Option.some .int))) rm_X0_retained (mm_Pc G [.ref h0, .int x1] σ) (mm_Qi G rr σf) 2 16 (mm_A G) := by
  refine mm_met (by decide) rfl rfl (by  exact Nat.le_of_ble_eq_true rfl) (fun p e s m below meth c ls F hH hr hlocks hname hl => ?_)
  have hl : lv_has ls 4 [(0, .ref h0), (1, .int x1)] := by  exact hl
  have F : mm_F p s m _ c RX0 cX0_retained 4 G := F
  have hx := F.1
  have hb := F.2.1
  have hml := F.2.2.1
  have hown := F.2.2.2.1
  have hts := F.2.2.2.2.1
  unfold f_X0_retained at hf
  refine lv_aload_n hx hb dX0_retained_0 rfl (lv_at hl 0 rfl) ?_
  replace hf := b1_i hf
  obtain ⟨q1, e1, hf⟩ := hf
  refine mm_getA F hH mc_0 (k := 0) (by decide) (hts _ q185) (fun _ h => h) e1 dX0_retained_1 ?_
  refine lv_iload_n hx hb dX0_retained_4 rfl (lv_at hl 1 rfl) ?_
  replace hf := b1_i hf
  obtain ⟨u, e2, hf⟩ := hf
  obtain ⟨fs, ek⟩ := ck_i e2
  replace hf := b1_i hf
  obtain ⟨p2, e3, hf⟩ := hf
  refine mm_cq (va_runV (As := [.int x1]) (rest := []) ⟨hx, hb, hml, hown, hts⟩ (m_X1_at l G q1 x1 σ p2 e3) (cwV 1 hts (lw_V q384 q385 q386 q63 q387) rfl rfl rfl (by decide +kernel) ⟨Nat.le_of_ble_eq_true rfl, Nat.le_of_ble_eq_true rfl⟩) (mm_preV F.2.2.2.2.2 hH (ci := 1) rfl ek) rfl rfl hl.1 rfl (lv_room (Nat.le_of_ble_eq_true rfl)) dX0_retained_5 ⟨Nat.le_of_ble_eq_true rfl, Nat.le_of_ble_eq_true rfl⟩) hH (fun H locs hH => ?_)
  refine mm_astore_n (r := p2) (lv' := [(2, va_rf p2), (0, .ref h0), (1, .int x1)]) hx hb dX0_retained_8 rfl hl (by decide) rfl (fun ls hl => ?_)
  refine mm_aload_n (r := p2) hx hb dX0_retained_9 rfl (lv_at hl 0 rfl) ?_
  cases p2 with
  | none =>
    rw [mt_n] at hf
    refine lv_ifnonnullN hx hb dX0_retained_10 ?_
    refine lv_ldc (v := (-1000002)) hx hb hown (hts _ q219) dX0_retained_13 ?_
    obtain ⟨h1, h2⟩ := Prod.mk.inj (Option.some.inj hf)
    subst h1
    subst h2
    refine W.widen (k := 2) (n := 16) (Nat.le_of_ble_eq_true rfl) (Nat.le_of_ble_eq_true rfl) ?_
    exact mm_reti F hH hr hlocks rfl rfl dX0_retained_15
  | some q3 =>
    rw [mt_s] at hf
    refine lv_ifnonnull (tgt := 16) hx hb dX0_retained_10 (by decide) ?_
    refine lv_aload_n hx hb dX0_retained_16 rfl (lv_at hl 1 rfl) ?_
    refine lv_null hx hb dX0_retained_17 ?_
    replace hf := b1_i hf
    obtain ⟨u, e4, hf⟩ := hf
    obtain ⟨fs, ek⟩ := ck_i e4
    replace hf := b2_i hf
    obtain ⟨q4, σ5, e5, hf⟩ := hf
    refine mm_cq (va_runV (As := [va_rf none]) (rest := []) ⟨hx, hb, hml, hown, hts⟩ (m_X0_live l G h0 none σ σ5 q4 e5) (cwV 1 hts (lw_V q664 q449 qs4 q62 q450) rfl rfl rfl (by decide +kernel) ⟨Nat.le_of_ble_eq_true rfl, Nat.le_of_ble_eq_true rfl⟩) (mm_preV F.2.2.2.2.2 hH (ci := 0) rfl ek) rfl rfl hl.1 rfl (lv_room (Nat.le_of_ble_eq_true rfl)) dX0_retained_18 ⟨Nat.le_of_ble_eq_true rfl, Nat.le_of_ble_eq_true rfl⟩) hH (fun H locs hH => ?_)
    replace hf := b1_i hf
    obtain ⟨u, e6, hf⟩ := hf
    obtain ⟨fs, ek⟩ := ck_i e6
    replace hf := b1_i hf
    obtain ⟨v6, e7, hf⟩ := hf
    refine mm_ci (va_runV (As := []) (rest := []) ⟨hx, hb, hml, hown, hts⟩ (m_X4_words l G q4 σ5 v6 e7) (cwV 0 hts (lw_V q665 q666 q667 q77 q668) rfl rfl rfl (by decide +kernel) ⟨Nat.le_of_ble_eq_true rfl, Nat.le_of_ble_eq_true rfl⟩) (mm_preV F.2.2.2.2.2 hH (ci := 4) rfl ek) rfl rfl hl.1 rfl (lv_room (Nat.le_of_ble_eq_true rfl)) dX0_retained_21 ⟨Nat.le_of_ble_eq_true rfl, Nat.le_of_ble_eq_true rfl⟩) hH (fun H locs hH => ?_)
    refine lv_istore_n (lv' := [(3, .int v6), (2, .ref q3), (0, .ref h0), (1, .int x1)]) hx hb dX0_retained_24 rfl hl (by decide) rfl (fun ls hl => ?_)
    refine lv_aload_n hx hb dX0_retained_25 rfl (lv_at hl 1 rfl) ?_
    replace hf := b1_i hf
    obtain ⟨v7, e8, hf⟩ := hf
    refine mm_getIN F hH mc_3 (k := 5) (by decide) q276 (fun _ h => h) e8 dX0_retained_26 ?_
    refine lv_if_eq (tgt := 45) hx hb dX0_retained_29 (by decide) (fun c8 => ?_) (fun c8 => ?_)
    · rw [if_pos c8] at hf
      refine lv_iconst (v := 0) hx hb dX0_retained_45 (by decide) ?_
      obtain ⟨h1, h2⟩ := Prod.mk.inj (Option.some.inj hf)
      subst h1
      subst h2
      refine W.widen (k := 2) (n := 16) (Nat.le_of_ble_eq_true rfl) (Nat.le_of_ble_eq_true rfl) ?_
      exact mm_reti F hH hr hlocks rfl rfl dX0_retained_46
    · rw [if_neg c8] at hf
      refine lv_iload_n hx hb dX0_retained_32 rfl (lv_at hl 0 rfl) ?_
      refine lv_aload_n hx hb dX0_retained_33 rfl (lv_at hl 2 rfl) ?_
      refine lv_aload_n hx hb dX0_retained_34 rfl (lv_at hl 1 rfl) ?_
      replace hf := b1_i hf
      obtain ⟨u, e9, hf⟩ := hf
      obtain ⟨fs, ek⟩ := ck_i e9
      replace hf := b2_i hf
      obtain ⟨q9, σ10, e10, hf⟩ := hf
      refine mm_cq (va_runV (As := [va_rf (some q3)]) (rest := [.int v6]) ⟨hx, hb, hml, hown, hts⟩ (m_X0_live l G h0 (some q3) σ5 σ10 q9 e10) (cwV 1 hts (lw_V q664 q449 qs4 q62 q450) rfl rfl rfl (by decide +kernel) ⟨Nat.le_of_ble_eq_true rfl, Nat.le_of_ble_eq_true rfl⟩) (mm_preV F.2.2.2.2.2 hH (ci := 0) rfl ek) rfl rfl hl.1 rfl (lv_room (Nat.le_of_ble_eq_true rfl)) dX0_retained_35 ⟨Nat.le_of_ble_eq_true rfl, Nat.le_of_ble_eq_true rfl⟩) hH (fun H locs hH => ?_)
      replace hf := b1_i hf
      obtain ⟨u, e11, hf⟩ := hf
      obtain ⟨fs, ek⟩ := ck_i e11
      replace hf := b1_i hf
      obtain ⟨v11, e12, hf⟩ := hf
      refine mm_ci (va_runV (As := []) (rest := [.int v6]) ⟨hx, hb, hml, hown, hts⟩ (m_X4_words l G q9 σ10 v11 e12) (cwV 0 hts (lw_V q665 q666 q667 q77 q668) rfl rfl rfl (by decide +kernel) ⟨Nat.le_of_ble_eq_true rfl, Nat.le_of_ble_eq_true rfl⟩) (mm_preV F.2.2.2.2.2 hH (ci := 4) rfl ek) rfl rfl hl.1 rfl (lv_room (Nat.le_of_ble_eq_true rfl)) dX0_retained_38 ⟨Nat.le_of_ble_eq_true rfl, Nat.le_of_ble_eq_true rfl⟩) hH (fun H locs hH => ?_)
      refine lv_isub hx hb dX0_retained_41 ?_
      refine lv_goto (tgt := 46) hx hb dX0_retained_42 (by decide) ?_
      obtain ⟨h1, h2⟩ := Prod.mk.inj (Option.some.inj hf)
      subst h1
      subst h2
      exact mm_reti F hH hr hlocks rfl rfl dX0_retained_46
/-! IslandHeap.free(I)I -/
abbrev rm_X0_free : Room := { frames := 3, cells := 0, slots := 0, locals := 63 }
set_option maxHeartbeats 4000000 in
theorem w_X0_free_123 {p : Program} {l : Launch} {e : Env} {s : State} {m : MethodId} {av : Array Value} {below : List Frame} {meth : Method} {c : Code} {G : mm_G} {rr : Int32} {n : Nat} {σ : mm_M} {h0 : Nat} {x1 : Int32} (F : mm_F p s m av c RX0 cX0_free 9 G) (hr : meth.sig.returnType = (Option.some .int)) (hlocks : meth.locks = false) (hname : meth.name = yX0_free.name) (IH24 : ∀ (x2 : Int32) (x3 : Int32) (x4 : Int32) (x5 : Int32) (x6 : Int32) (x7 : Int32) (H : Heap) (locs : List Loc) (ls : Array Slot), mm_H G s σ H locs → lv_has ls 9 [(0, .ref h0), (1, .int x1), (2, .int x2), (3, .int x3), (4, .int x4), (5, .int x5), (6, .int x6), (7, .int x7)] → itn (s_X0_free h0 x1 σ) n (x2, x3, x4, x5, x6, x7) = some rr → W p l e rm_X0_free s m av below meth c H locs 0 0 (MQ below (mm_Qi G rr σ) av s 0 0 (mm_A G)) (F0 m 24 ls []))  (x2 : Int32) (x3 : Int32) (x4 : Int32) (x5 : Int32) (x7 : Int32)  (hf : evn (s_X0_free h0 x1 σ) n (g_X0_free_123 h0 x1 x2 x3 x4 x5 x7 σ) = some rr) {H : Heap} {locs : List Loc} {ls : Array Slot} (hH : mm_H G s σ H locs) (hl : lv_has ls 9 [(0, .ref h0), (1, .int x1), (2, .int x2), (3, .int x3), (4, .int x4), (5, .int x5), (7, .int x7)]) : W p l e rm_X0_free s m av below meth c H locs 0 0 (MQ below (mm_Qi G rr σ) av s 0 0 (mm_A G)) (F0 m 123 ls []) := by
  have hx := F.1
  have hb := F.2.1
  have hml := F.2.2.1
  have hown := F.2.2.2.1
  have hts := F.2.2.2.2.1
  unfold g_X0_free_123 at hf
  refine lv_iload_n hx hb dX0_free_123 rfl (lv_at hl 1 rfl) ?_
  by_cases c1 : x1 = (0 : Int32)
  · rw [if_pos c1] at hf
    refine lv_tableIn (off := 36) (tgt := 160) hx hb dX0_free_124 (by rw [c1]; decide) (by rw [c1]; decide) (by rw [c1]; rfl) (by decide) ?_
    refine lv_iload_n hx hb dX0_free_160 rfl (lv_at hl 2 rfl) ?_
    rw [evn_r] at hf
    have h1 := Option.some.inj hf
    subst h1
    exact mm_reti F hH hr hlocks rfl rfl dX0_free_161
  · rw [if_neg c1] at hf
    by_cases c2 : x1 = (1 : Int32)
    · rw [if_pos c2] at hf
      refine lv_tableIn (off := 38) (tgt := 162) hx hb dX0_free_124 (by rw [c2]; decide) (by rw [c2]; decide) (by rw [c2]; rfl) (by decide) ?_
      refine lv_iload_n hx hb dX0_free_162 rfl (lv_at hl 3 rfl) ?_
      rw [evn_r] at hf
      have h1 := Option.some.inj hf
      subst h1
      exact mm_reti F hH hr hlocks rfl rfl dX0_free_163
    · rw [if_neg c2] at hf
      by_cases c3 : x1 = (2 : Int32)
      · rw [if_pos c3] at hf
        refine lv_tableIn (off := 40) (tgt := 164) hx hb dX0_free_124 (by rw [c3]; decide) (by rw [c3]; decide) (by rw [c3]; rfl) (by decide) ?_
        refine lv_iload hx hb dX0_free_164 (lv_at hl 4 rfl) ?_
        rw [evn_r] at hf
        have h1 := Option.some.inj hf
        subst h1
        exact mm_reti F hH hr hlocks rfl rfl dX0_free_166
      · rw [if_neg c3] at hf
        by_cases c4 : x1 = (3 : Int32)
        · rw [if_pos c4] at hf
          refine lv_tableIn (off := 43) (tgt := 167) hx hb dX0_free_124 (by rw [c4]; decide) (by rw [c4]; decide) (by rw [c4]; rfl) (by decide) ?_
          refine lv_iload hx hb dX0_free_167 (lv_at hl 6 rfl) ?_
          rw [evn_r] at hf
          have h1 := Option.some.inj hf
          subst h1
          exact mm_reti F hH hr hlocks rfl rfl dX0_free_169
        · rw [if_neg c4] at hf
          by_cases c5 : x1 = (4 : Int32)
          · rw [if_pos c5] at hf
            refine lv_tableIn (off := 46) (tgt := 170) hx hb dX0_free_124 (by rw [c5]; decide) (by rw [c5]; decide) (by rw [c5]; rfl) (by decide) ?_
            refine lv_iload hx hb dX0_free_170 (lv_at hl 5 rfl) ?_
            rw [evn_r] at hf
            have h1 := Option.some.inj hf
            subst h1
            exact mm_reti F hH hr hlocks rfl rfl dX0_free_172
          · rw [if_neg c5] at hf
            refine lv_tableOut (tgt := 173) hx hb dX0_free_124 (by have h0 := lv_neT c1 (a := 0) rfl; have h1 := lv_neT c2 (a := 1) rfl; have h2 := lv_neT c3 (a := 2) rfl; have h3 := lv_neT c4 (a := 3) rfl; have h4 := lv_neT c5 (a := 4) rfl; omega) (by decide) ?_
            refine lv_ldc (v := (-1000002)) hx hb hown (hts _ q219) dX0_free_173 ?_
            rw [evn_r] at hf
            have h1 := Option.some.inj hf
            subst h1
            exact mm_reti F hH hr hlocks rfl rfl dX0_free_175
set_option maxHeartbeats 4000000 in
theorem w_X0_free_72 {p : Program} {l : Launch} {e : Env} {s : State} {m : MethodId} {av : Array Value} {below : List Frame} {meth : Method} {c : Code} {G : mm_G} {rr : Int32} {n : Nat} {σ : mm_M} {h0 : Nat} {x1 : Int32} (F : mm_F p s m av c RX0 cX0_free 9 G) (hr : meth.sig.returnType = (Option.some .int)) (hlocks : meth.locks = false) (hname : meth.name = yX0_free.name) (IH24 : ∀ (x2 : Int32) (x3 : Int32) (x4 : Int32) (x5 : Int32) (x6 : Int32) (x7 : Int32) (H : Heap) (locs : List Loc) (ls : Array Slot), mm_H G s σ H locs → lv_has ls 9 [(0, .ref h0), (1, .int x1), (2, .int x2), (3, .int x3), (4, .int x4), (5, .int x5), (6, .int x6), (7, .int x7)] → itn (s_X0_free h0 x1 σ) n (x2, x3, x4, x5, x6, x7) = some rr → W p l e rm_X0_free s m av below meth c H locs 0 0 (MQ below (mm_Qi G rr σ) av s 0 0 (mm_A G)) (F0 m 24 ls []))  (x2 : Int32) (x4 : Int32) (x5 : Int32) (x6 : Int32) (x7 : Int32) (x8 : Int32) (t0 : Int32) (t1 : Int32) (hf : evn (s_X0_free h0 x1 σ) n (g_X0_free_72 h0 x1 x2 x4 x5 x6 x7 x8 t0 t1 σ) = some rr) {H : Heap} {locs : List Loc} {ls : Array Slot} (hH : mm_H G s σ H locs) (hl : lv_has ls 9 [(0, .ref h0), (1, .int x1), (2, .int x2), (4, .int x4), (5, .int x5), (6, .int x6), (7, .int x7), (8, .int x8)]) : W p l e rm_X0_free s m av below meth c H locs 0 0 (MQ below (mm_Qi G rr σ) av s 0 0 (mm_A G)) (F0 m 72 ls [.int t1, .int t0]) := by
  have hx := F.1
  have hb := F.2.1
  have hml := F.2.2.1
  have hown := F.2.2.2.1
  have hts := F.2.2.2.2.1
  unfold g_X0_free_72 at hf
  refine lv_iadd hx hb dX0_free_72 ?_
  refine lv_istore_n (lv' := [(3, .int (t0 + t1)), (0, .ref h0), (1, .int x1), (2, .int x2), (4, .int x4), (5, .int x5), (6, .int x6), (7, .int x7), (8, .int x8)]) hx hb dX0_free_73 rfl hl (by decide) rfl (fun ls hl => ?_)
  refine lv_iload hx hb dX0_free_74 (lv_at hl 4 rfl) ?_
  refine lv_iload hx hb dX0_free_76 (lv_at hl 8 rfl) ?_
  refine va_mmax hx hb (hml.trans hl.1.symm) hown (hts _ q712) (hts _ q328) (hts _ q72) (hts _ q329) (Nat.le_of_ble_eq_true rfl) (Nat.le_of_ble_eq_true rfl) (Nat.le_of_ble_eq_true rfl) (Nat.le_of_ble_eq_true rfl) dX0_free_78 ?_
  refine lv_istore (lv' := [(4, .int (if x4 < x8 then x8 else x4)), (3, .int (t0 + t1)), (0, .ref h0), (1, .int x1), (2, .int x2), (5, .int x5), (6, .int x6), (7, .int x7), (8, .int x8)]) hx hb dX0_free_81 hl (by decide) rfl (fun ls hl => ?_)
  refine lv_iload hx hb dX0_free_83 (lv_at hl 5 rfl) ?_
  refine lv_iload hx hb dX0_free_85 (lv_at hl 8 rfl) ?_
  refine lv_iconst (v := 4) hx hb dX0_free_87 (by decide) ?_
  refine lv_idiv hx hb dX0_free_88 (by decide) ?_
  refine lv_iadd hx hb dX0_free_89 ?_
  refine lv_istore (lv' := [(5, .int (x5 + (x8 / (4 : Int32)))), (4, .int (if x4 < x8 then x8 else x4)), (3, .int (t0 + t1)), (0, .ref h0), (1, .int x1), (2, .int x2), (6, .int x6), (7, .int x7), (8, .int x8)]) hx hb dX0_free_90 hl (by decide) rfl (fun ls hl => ?_)
  refine lv_iload hx hb dX0_free_92 (lv_at hl 8 rfl) ?_
  refine lv_if_le (tgt := 105) hx hb dX0_free_94 (by decide) (fun c1 => ?_) (fun c1 => ?_)
  · rw [if_pos c1] at hf
    refine lv_aload_n hx hb dX0_free_105 rfl (lv_at hl 3 rfl) ?_
    replace hf := evn_b1 hf
    obtain ⟨q2, e1, hf⟩ := hf
    refine mm_getA F hH mc_0 (k := 0) (by decide) (hts _ q185) (fun _ h => h) e1 dX0_free_106 ?_
    replace hf := evn_b1 hf
    obtain ⟨q3, e2, hf⟩ := hf
    refine mm_getAN F hH mc_1 (k := 3) (by decide) q141 (fun _ h => h) e2 dX0_free_109 ?_
    refine lv_iload hx hb dX0_free_112 (lv_at hl 6 rfl) ?_
    replace hf := evn_b1 hf
    obtain ⟨p4, e3, hf⟩ := hf
    refine mm_aald F hH (k := 3) (by decide) e3 dX0_free_114 ?_
    replace hf := evn_b1 hf
    obtain ⟨q5, e4, hf⟩ := hf
    subst e4
    replace hf := evn_b1 hf
    obtain ⟨u, e5, hf⟩ := hf
    obtain ⟨fs, ek⟩ := ck_i e5
    replace hf := evn_b1 hf
    obtain ⟨v6, e6, hf⟩ := hf
    refine mm_ci (va_runV (As := []) (rest := []) ⟨hx, hb, hml, hown, hts⟩ (m_X3_end l G q5 σ v6 e6) (cwV 0 hts (lw_V q516 q237 q238 q68 q239) rfl rfl rfl (by decide +kernel) ⟨Nat.le_of_ble_eq_true rfl, Nat.le_of_ble_eq_true rfl⟩) (mm_preV F.2.2.2.2.2 hH (ci := 3) rfl ek) rfl rfl hl.1 rfl (lv_room (Nat.le_of_ble_eq_true rfl)) dX0_free_115 ⟨Nat.le_of_ble_eq_true rfl, Nat.le_of_ble_eq_true rfl⟩) hH (fun H locs hH => ?_)
    refine lv_istore (lv' := [(6, .int v6), (5, .int (x5 + (x8 / (4 : Int32)))), (4, .int (if x4 < x8 then x8 else x4)), (3, .int (t0 + t1)), (0, .ref h0), (1, .int x1), (2, .int x2), (7, .int x7), (8, .int x8)]) hx hb dX0_free_118 hl (by decide) rfl (fun ls hl => ?_)
    refine lv_goto (tgt := 24) hx hb dX0_free_120 (by decide) ?_
    rw [evn_l] at hf
    exact IH24 x2 (t0 + t1) (if x4 < x8 then x8 else x4) (x5 + (x8 / (4 : Int32))) v6 x7 _ _ _ hH (lv_sub hl [4, 5, 6, 3, 2, 1, 0, 7] rfl) hf
  · rw [if_neg c1] at hf
    refine lv_iload hx hb dX0_free_97 (lv_at hl 6 rfl) ?_
    refine lv_iload hx hb dX0_free_99 (lv_at hl 8 rfl) ?_
    refine lv_iadd hx hb dX0_free_101 ?_
    refine lv_goto (tgt := 118) hx hb dX0_free_102 (by decide) ?_
    refine lv_istore (lv' := [(6, .int (x6 + x8)), (5, .int (x5 + (x8 / (4 : Int32)))), (4, .int (if x4 < x8 then x8 else x4)), (3, .int (t0 + t1)), (0, .ref h0), (1, .int x1), (2, .int x2), (7, .int x7), (8, .int x8)]) hx hb dX0_free_118 hl (by decide) rfl (fun ls hl => ?_)
    refine lv_goto (tgt := 24) hx hb dX0_free_120 (by decide) ?_
    rw [evn_l] at hf
    exact IH24 x2 (t0 + t1) (if x4 < x8 then x8 else x4) (x5 + (x8 / (4 : Int32))) (x6 + x8) x7 _ _ _ hH (lv_sub hl [4, 5, 6, 3, 2, 1, 0, 7] rfl) hf
set_option maxHeartbeats 4000000 in
theorem w_X0_free_24 {p : Program} {l : Launch} {e : Env} {s : State} {m : MethodId} {av : Array Value} {below : List Frame} {meth : Method} {c : Code} {G : mm_G} {rr : Int32} {n : Nat} {σ : mm_M} {h0 : Nat} {x1 : Int32} (F : mm_F p s m av c RX0 cX0_free 9 G) (hr : meth.sig.returnType = (Option.some .int)) (hlocks : meth.locks = false) (hname : meth.name = yX0_free.name) (IH24 : ∀ (x2 : Int32) (x3 : Int32) (x4 : Int32) (x5 : Int32) (x6 : Int32) (x7 : Int32) (H : Heap) (locs : List Loc) (ls : Array Slot), mm_H G s σ H locs → lv_has ls 9 [(0, .ref h0), (1, .int x1), (2, .int x2), (3, .int x3), (4, .int x4), (5, .int x5), (6, .int x6), (7, .int x7)] → itn (s_X0_free h0 x1 σ) n (x2, x3, x4, x5, x6, x7) = some rr → W p l e rm_X0_free s m av below meth c H locs 0 0 (MQ below (mm_Qi G rr σ) av s 0 0 (mm_A G)) (F0 m 24 ls []))  (x2 : Int32) (x3 : Int32) (x4 : Int32) (x5 : Int32) (x6 : Int32) (x7 : Int32)  (hf : evn (s_X0_free h0 x1 σ) n (g_X0_free_24 h0 x1 x2 x3 x4 x5 x6 x7 σ) = some rr) {H : Heap} {locs : List Loc} {ls : Array Slot} (hH : mm_H G s σ H locs) (hl : lv_has ls 9 [(0, .ref h0), (1, .int x1), (2, .int x2), (3, .int x3), (4, .int x4), (5, .int x5), (6, .int x6), (7, .int x7)]) : W p l e rm_X0_free s m av below meth c H locs 0 0 (MQ below (mm_Qi G rr σ) av s 0 0 (mm_A G)) (F0 m 24 ls []) := by
  have hx := F.1
  have hb := F.2.1
  have hml := F.2.2.1
  have hown := F.2.2.2.1
  have hts := F.2.2.2.2.1
  unfold g_X0_free_24 at hf
  refine lv_iload hx hb dX0_free_24 (lv_at hl 6 rfl) ?_
  refine lv_iconst (v := (-1)) hx hb dX0_free_26 (by decide) ?_
  refine lv_icmp_eq (tgt := 123) hx hb dX0_free_27 (by decide) (fun c1 => ?_) (fun c1 => ?_)
  · rw [if_pos c1] at hf
    exact w_X0_free_123 F hr hlocks hname IH24 x2 x3 x4 x5 x7 hf hH (lv_sub hl [0, 1, 2, 3, 4, 5, 7] rfl)
  · rw [if_neg c1] at hf
    refine lv_iload hx hb dX0_free_30 (lv_at hl 6 rfl) ?_
    refine lv_aload_n hx hb dX0_free_32 rfl (lv_at hl 0 rfl) ?_
    replace hf := evn_b1 hf
    obtain ⟨q2, e1, hf⟩ := hf
    refine mm_getA F hH mc_0 (k := 0) (by decide) (hts _ q185) (fun _ h => h) e1 dX0_free_33 ?_
    replace hf := evn_b1 hf
    obtain ⟨v3, e2, hf⟩ := hf
    refine mm_getIN F hH mc_1 (k := 0) (by decide) q133 (fun _ h => h) e2 dX0_free_36 ?_
    refine lv_icmp_ge (tgt := 123) hx hb dX0_free_39 (by decide) (fun c4 => ?_) (fun c4 => ?_)
    · rw [if_pos c4] at hf
      exact w_X0_free_123 F hr hlocks hname IH24 x2 x3 x4 x5 x7 hf hH (lv_sub hl [0, 1, 2, 3, 4, 5, 7] rfl)
    · rw [if_neg c4] at hf
      refine lv_aload_n hx hb dX0_free_42 rfl (lv_at hl 0 rfl) ?_
      replace hf := evn_b1 hf
      obtain ⟨q5, e3, hf⟩ := hf
      refine mm_getA F hH mc_0 (k := 0) (by decide) (hts _ q185) (fun _ h => h) e3 dX0_free_43 ?_
      refine lv_iload hx hb dX0_free_46 (lv_at hl 6 rfl) ?_
      replace hf := evn_b1 hf
      obtain ⟨u, e4, hf⟩ := hf
      obtain ⟨fs, ek⟩ := ck_i e4
      replace hf := evn_b1 hf
      obtain ⟨v6, e5, hf⟩ := hf
      refine mm_ci (va_runVN (As := [.int x6]) (rest := []) ⟨hx, hb, hml, hown, hts⟩ (m_X1_holeEnd l G q5 x6 σ v6 e5) ⟨(va_cnB 1 hts (lw_meth q235) rfl rfl rfl (F.2.2.2.2.2.2.1 _ q711 rfl) (hts _ q63) (by decide +kernel) ⟨Nat.le_of_ble_eq_true rfl, Nat.le_of_ble_eq_true rfl⟩), hts _ q234, hts _ qs0⟩ (mm_preV F.2.2.2.2.2 hH (ci := 1) rfl ek) rfl rfl hl.1 rfl (lv_room (Nat.le_of_ble_eq_true rfl)) dX0_free_48 ⟨Nat.le_of_ble_eq_true rfl, Nat.le_of_ble_eq_true rfl⟩) hH (fun H locs hH => ?_)
      refine lv_iload hx hb dX0_free_51 (lv_at hl 6 rfl) ?_
      refine lv_isub hx hb dX0_free_53 ?_
      refine lv_istore (lv' := [(8, .int (v6 - x6)), (0, .ref h0), (1, .int x1), (2, .int x2), (3, .int x3), (4, .int x4), (5, .int x5), (6, .int x6), (7, .int x7)]) hx hb dX0_free_54 hl (by decide) rfl (fun ls hl => ?_)
      refine lv_iload_n hx hb dX0_free_56 rfl (lv_at hl 3 rfl) ?_
      refine lv_iload hx hb dX0_free_57 (lv_at hl 0 rfl) ?_
      refine lv_iadd hx hb dX0_free_59 ?_
      refine lv_istore_n (lv' := [(2, .int (x2 + (v6 - x6))), (8, .int (v6 - x6)), (0, .ref h0), (1, .int x1), (3, .int x3), (4, .int x4), (5, .int x5), (6, .int x6), (7, .int x7)]) hx hb dX0_free_60 rfl hl (by decide) rfl (fun ls hl => ?_)
      refine lv_iload_n hx hb dX0_free_61 rfl (lv_at hl 4 rfl) ?_
      refine lv_iload hx hb dX0_free_62 (lv_at hl 1 rfl) ?_
      refine lv_if_le (tgt := 71) hx hb dX0_free_64 (by decide) (fun c7 => ?_) (fun c7 => ?_)
      · rw [if_pos c7] at hf
        refine lv_iconst (v := 0) hx hb dX0_free_71 (by decide) ?_
        exact w_X0_free_72 F hr hlocks hname IH24 (x2 + (v6 - x6)) x4 x5 x6 x7 (v6 - x6) x3 (0 : Int32) hf hH (lv_sub hl [2, 3, 0, 5, 6, 7, 8, 1] rfl)
      · rw [if_neg c7] at hf
        refine lv_iconst (v := 1) hx hb dX0_free_67 (by decide) ?_
        refine lv_goto (tgt := 72) hx hb dX0_free_68 (by decide) ?_
        exact w_X0_free_72 F hr hlocks hname IH24 (x2 + (v6 - x6)) x4 x5 x6 x7 (v6 - x6) x3 (1 : Int32) hf hH (lv_sub hl [2, 3, 0, 5, 6, 7, 8, 1] rfl)
set_option maxHeartbeats 4000000 in
theorem w_X0_free_0 {p : Program} {l : Launch} {e : Env} {s : State} {m : MethodId} {av : Array Value} {below : List Frame} {meth : Method} {c : Code} {G : mm_G} {rr : Int32} {n : Nat} {σ : mm_M} {h0 : Nat} {x1 : Int32} (F : mm_F p s m av c RX0 cX0_free 9 G) (hr : meth.sig.returnType = (Option.some .int)) (hlocks : meth.locks = false) (hname : meth.name = yX0_free.name) (IH24 : ∀ (x2 : Int32) (x3 : Int32) (x4 : Int32) (x5 : Int32) (x6 : Int32) (x7 : Int32) (H : Heap) (locs : List Loc) (ls : Array Slot), mm_H G s σ H locs → lv_has ls 9 [(0, .ref h0), (1, .int x1), (2, .int x2), (3, .int x3), (4, .int x4), (5, .int x5), (6, .int x6), (7, .int x7)] → itn (s_X0_free h0 x1 σ) n (x2, x3, x4, x5, x6, x7) = some rr → W p l e rm_X0_free s m av below meth c H locs 0 0 (MQ below (mm_Qi G rr σ) av s 0 0 (mm_A G)) (F0 m 24 ls []))    (hf : evn (s_X0_free h0 x1 σ) n (g_X0_free_0 h0 x1 σ) = some rr) {H : Heap} {locs : List Loc} {ls : Array Slot} (hH : mm_H G s σ H locs) (hl : lv_has ls 9 [(0, .ref h0), (1, .int x1)]) : W p l e rm_X0_free s m av below meth c H locs 0 0 (MQ below (mm_Qi G rr σ) av s 0 0 (mm_A G)) (F0 m 0 ls []) := by
  have hx := F.1
  have hb := F.2.1
  have hml := F.2.2.1
  have hown := F.2.2.2.1
  have hts := F.2.2.2.2.1
  unfold g_X0_free_0 at hf
  refine lv_iconst (v := 0) hx hb dX0_free_0 (by decide) ?_
  refine lv_istore_n (lv' := [(2, .int (0 : Int32)), (0, .ref h0), (1, .int x1)]) hx hb dX0_free_1 rfl hl (by decide) rfl (fun ls hl => ?_)
  refine lv_iconst (v := 0) hx hb dX0_free_2 (by decide) ?_
  refine lv_istore_n (lv' := [(3, .int (0 : Int32)), (2, .int (0 : Int32)), (0, .ref h0), (1, .int x1)]) hx hb dX0_free_3 rfl hl (by decide) rfl (fun ls hl => ?_)
  refine lv_iconst (v := 0) hx hb dX0_free_4 (by decide) ?_
  refine lv_istore (lv' := [(4, .int (0 : Int32)), (3, .int (0 : Int32)), (2, .int (0 : Int32)), (0, .ref h0), (1, .int x1)]) hx hb dX0_free_5 hl (by decide) rfl (fun ls hl => ?_)
  refine lv_iconst (v := 0) hx hb dX0_free_7 (by decide) ?_
  refine lv_istore (lv' := [(5, .int (0 : Int32)), (4, .int (0 : Int32)), (3, .int (0 : Int32)), (2, .int (0 : Int32)), (0, .ref h0), (1, .int x1)]) hx hb dX0_free_8 hl (by decide) rfl (fun ls hl => ?_)
  refine lv_aload_n hx hb dX0_free_10 rfl (lv_at hl 4 rfl) ?_
  replace hf := evn_b1 hf
  obtain ⟨q1, e1, hf⟩ := hf
  refine mm_getA F hH mc_0 (k := 0) (by decide) (hts _ q185) (fun _ h => h) e1 dX0_free_11 ?_
  refine lv_iconst (v := 1) hx hb dX0_free_14 (by decide) ?_
  replace hf := evn_b1 hf
  obtain ⟨u, e2, hf⟩ := hf
  obtain ⟨fs, ek⟩ := ck_i e2
  replace hf := evn_b1 hf
  obtain ⟨v2, e3, hf⟩ := hf
  refine mm_ci (va_runV (As := [.int (1 : Int32)]) (rest := []) ⟨hx, hb, hml, hown, hts⟩ (m_X1_firstHole l G q1 (1 : Int32) σ v2 e3) (cwV 1 hts (lw_V q710 q229 q230 q63 q231) rfl rfl rfl (by decide +kernel) ⟨Nat.le_of_ble_eq_true rfl, Nat.le_of_ble_eq_true rfl⟩) (mm_preV F.2.2.2.2.2 hH (ci := 1) rfl ek) rfl rfl hl.1 rfl (lv_room (Nat.le_of_ble_eq_true rfl)) dX0_free_15 ⟨Nat.le_of_ble_eq_true rfl, Nat.le_of_ble_eq_true rfl⟩) hH (fun H locs hH => ?_)
  refine lv_istore (lv' := [(6, .int v2), (5, .int (0 : Int32)), (4, .int (0 : Int32)), (3, .int (0 : Int32)), (2, .int (0 : Int32)), (0, .ref h0), (1, .int x1)]) hx hb dX0_free_18 hl (by decide) rfl (fun ls hl => ?_)
  refine lv_iload hx hb dX0_free_20 (lv_at hl 0 rfl) ?_
  refine lv_istore (lv' := [(7, .int v2), (6, .int v2), (5, .int (0 : Int32)), (4, .int (0 : Int32)), (3, .int (0 : Int32)), (2, .int (0 : Int32)), (0, .ref h0), (1, .int x1)]) hx hb dX0_free_22 hl (by decide) rfl (fun ls hl => ?_)
  rw [evn_l] at hf
  exact IH24 (0 : Int32) (0 : Int32) (0 : Int32) (0 : Int32) v2 v2 _ _ _ hH (lv_sub hl [6, 7, 5, 4, 3, 2, 1, 0] rfl) hf
set_option maxHeartbeats 4000000 in
theorem l_X0_free {p : Program} {l : Launch} {e : Env} {s : State} {m : MethodId} {av : Array Value} {below : List Frame} {meth : Method} {c : Code} {G : mm_G} {rr : Int32} {σ : mm_M} {h0 : Nat} {x1 : Int32} (F : mm_F p s m av c RX0 cX0_free 9 G) (hr : meth.sig.returnType = (Option.some .int)) (hlocks : meth.locks = false) (hname : meth.name = yX0_free.name) : ∀ n : Nat, (∀ (x2 : Int32) (x3 : Int32) (x4 : Int32) (x5 : Int32) (x6 : Int32) (x7 : Int32) (H : Heap) (locs : List Loc) (ls : Array Slot), mm_H G s σ H locs → lv_has ls 9 [(0, .ref h0), (1, .int x1), (2, .int x2), (3, .int x3), (4, .int x4), (5, .int x5), (6, .int x6), (7, .int x7)] → itn (s_X0_free h0 x1 σ) n (x2, x3, x4, x5, x6, x7) = some rr → W p l e rm_X0_free s m av below meth c H locs 0 0 (MQ below (mm_Qi G rr σ) av s 0 0 (mm_A G)) (F0 m 24 ls [])) := by
  intro n
  induction n with
  | zero =>
    exact fun x2 x3 x4 x5 x6 x7 H locs ls hH hl hf => by cases hf
  | succ n ih =>
    have IH24 := ih
    intro x2 x3 x4 x5 x6 x7 H locs ls hH hl hf
    rw [itn_s] at hf
    exact w_X0_free_24 F hr hlocks hname IH24 x2 x3 x4 x5 x6 x7 hf hH hl
set_option maxHeartbeats 4000000 in
theorem m_X0_free (l : Launch) (G : mm_G) (h0 : Nat) (x1 : Int32) (σ : mm_M) (rr : Int32) (hf : f_X0_free h0 x1 σ = some rr) : Met l yX0_free (ws_ yX0_free cX0_free 9 ((Option.some .int))) rm_X0_free (mm_Pc G [.ref h0, .int x1] σ) (mm_Qi G rr σ) 0 0 (mm_A G) := by
  refine mm_met (by decide) rfl rfl (by  exact Nat.le_of_ble_eq_true rfl) (fun p e s m below meth c ls F hH hr hlocks hname hl => ?_)
  have hl : lv_has ls 9 [(0, .ref h0), (1, .int x1)] := by  exact hl
  have F : mm_F p s m _ c RX0 cX0_free 9 G := F
  unfold f_X0_free at hf
  obtain ⟨n, hf⟩ := lgo_i hf
  have IH := l_X0_free (l := l) (e := e) (below := below) (rr := rr) (σ := σ) (h0 := h0) (x1 := x1) F hr hlocks hname n
  exact w_X0_free_0 F hr hlocks hname IH  hf hH (lv_sub hl [0, 1] rfl)
/-! IslandHeap.type(I)I -/
abbrev rm_X0_type : Room := { frames := 1, cells := 0, slots := 0, locals := 22 }
set_option maxHeartbeats 4000000 in
theorem m_X0_type (l : Launch) (G : mm_G) (h0 : Nat) (x1 : Int32) (σ : mm_M) (σf : mm_M) (rr : Int32) (hf : f_X0_type h0 x1 σ = some (rr, σf)) : Met l yX0_type (ws_ yX0_type cX0_type 2 ((Option.some .int))) rm_X0_type (mm_Pc G [.ref h0, .int x1] σ) (mm_Qi G rr σf) 0 0 (mm_A G) := by
  refine mm_met (by decide) rfl rfl (by  exact Nat.le_of_ble_eq_true rfl) (fun p e s m below meth c ls F hH hr hlocks hname hl => ?_)
  have hl : lv_has ls 2 [(0, .ref h0), (1, .int x1)] := by  exact hl
  have F : mm_F p s m _ c RX0 cX0_type 2 G := F
  have hx := F.1
  have hb := F.2.1
  have hml := F.2.2.1
  have hown := F.2.2.2.1
  have hts := F.2.2.2.2.1
  unfold f_X0_type at hf
  refine lv_iload_n hx hb dX0_type_0 rfl (lv_at hl 1 rfl) ?_
  refine lv_iconst (v := 0) hx hb dX0_type_1 (by decide) ?_
  refine lv_bipush (v := 127) hx hb dX0_type_2 (by decide) ?_
  replace hf := b1_i hf
  obtain ⟨v1, e1, hf⟩ := hf
  refine mm_ci (va_runS (As := [.int x1, .int (0 : Int32), .int (127 : Int32)]) (rest := []) ⟨hx, hb, hml, hown, hts⟩ (m_X0_isIn l G x1 (0 : Int32) (127 : Int32) σ v1 e1) (va_cwS 3 hts (lw_S q216 q217 q62 q218) rfl rfl rfl (by decide +kernel) ⟨Nat.le_of_ble_eq_true rfl, Nat.le_of_ble_eq_true rfl⟩) (mm_preS F.2.2.2.2.2 hH) rfl rfl hl.1 rfl (lv_room (Nat.le_of_ble_eq_true rfl)) dX0_type_4 ⟨Nat.le_of_ble_eq_true rfl, Nat.le_of_ble_eq_true rfl⟩) hH (fun H locs hH => ?_)
  refine lv_if_ne (tgt := 13) hx hb dX0_type_7 (by decide) (fun c2 => ?_) (fun c2 => ?_)
  · rw [if_neg c2] at hf
    refine lv_aload_n hx hb dX0_type_13 rfl (lv_at hl 0 rfl) ?_
    replace hf := b1_i hf
    obtain ⟨v3, e2, hf⟩ := hf
    refine mm_getI F hH mc_0 (k := 3) (by decide) (hts _ q192) (fun _ h => h) e2 dX0_type_14 ?_
    refine lv_bipush (v := 80) hx hb dX0_type_17 (by decide) ?_
    refine lv_icmp_ne (tgt := 25) hx hb dX0_type_19 (by decide) (fun c4 => ?_) (fun c4 => ?_)
    · rw [if_neg c4] at hf
      refine lv_aload_n hx hb dX0_type_25 rfl (lv_at hl 0 rfl) ?_
      replace hf := b1_i hf
      obtain ⟨q5, e3, hf⟩ := hf
      refine mm_getA F hH mc_0 (k := 2) (by decide) (hts _ q190) (fun _ h => h) e3 dX0_type_26 ?_
      refine lv_aload_n hx hb dX0_type_29 rfl (lv_at hl 0 rfl) ?_
      replace hf := b1_i hf
      obtain ⟨v6, e4, hf⟩ := hf
      refine mm_getI F hH mc_0 (k := 3) (by decide) (hts _ q192) (fun _ h => h) e4 dX0_type_30 ?_
      refine lv_iload_n hx hb dX0_type_33 rfl (lv_at hl 1 rfl) ?_
      refine lv_i2b hx hb dX0_type_34 rfl ?_
      replace hf := b1_i hf
      obtain ⟨σ7, e5, hf⟩ := hf
      refine mm_bast F hH e5 dX0_type_35 (fun H locs hH => ?_)
      refine lv_aload_n hx hb dX0_type_36 rfl (lv_at hl 0 rfl) ?_
      refine lv_dup hx hb dX0_type_37 rfl ?_
      replace hf := b1_i hf
      obtain ⟨v8, e6, hf⟩ := hf
      refine mm_getI F hH mc_0 (k := 3) (by decide) (hts _ q192) (fun _ h => h) e6 dX0_type_38 ?_
      refine lv_iconst (v := 1) hx hb dX0_type_41 (by decide) ?_
      refine lv_iadd hx hb dX0_type_42 ?_
      replace hf := b1_i hf
      obtain ⟨σ9, e7, hf⟩ := hf
      refine mm_put F hH mc_0 (k := 3) (v := vI (v8 + (1 : Int32))) (by decide) (hts _ q192) (fun _ h => h) rfl rfl rfl e7 dX0_type_43 (fun H locs hH => ?_)
      refine lv_aload_n hx hb dX0_type_46 rfl (lv_at hl 0 rfl) ?_
      replace hf := b1_i hf
      obtain ⟨v10, e8, hf⟩ := hf
      refine mm_getI F hH mc_0 (k := 3) (by decide) (hts _ q192) (fun _ h => h) e8 dX0_type_47 ?_
      obtain ⟨h1, h2⟩ := Prod.mk.inj (Option.some.inj hf)
      subst h1
      subst h2
      exact mm_reti F hH hr hlocks rfl rfl dX0_type_50
    · rw [if_pos c4] at hf
      refine lv_ldc (v := (-1000004)) hx hb hown (hts _ q717) dX0_type_22 ?_
      obtain ⟨h1, h2⟩ := Prod.mk.inj (Option.some.inj hf)
      subst h1
      subst h2
      exact mm_reti F hH hr hlocks rfl rfl dX0_type_24
  · rw [if_pos c2] at hf
    refine lv_ldc (v := (-1000002)) hx hb hown (hts _ q219) dX0_type_10 ?_
    obtain ⟨h1, h2⟩ := Prod.mk.inj (Option.some.inj hf)
    subst h1
    subst h2
    exact mm_reti F hH hr hlocks rfl rfl dX0_type_12
/-! IslandHeap.clearText()I -/
abbrev rm_X0_clearText : Room := { frames := 0, cells := 0, slots := 0, locals := 0 }
set_option maxHeartbeats 4000000 in
theorem m_X0_clearText (l : Launch) (G : mm_G) (h0 : Nat) (σ : mm_M) (σf : mm_M) (rr : Int32) (hf : f_X0_clearText h0 σ = some (rr, σf)) : Met l yX0_clearText (ws_ yX0_clearText cX0_clearText 2 ((Option.some .int))) rm_X0_clearText (mm_Pc G [.ref h0] σ) (mm_Qi G rr σf) 0 0 (mm_A G) := by
  refine mm_met (by decide) rfl rfl (by  exact Nat.le_of_ble_eq_true rfl) (fun p e s m below meth c ls F hH hr hlocks hname hl => ?_)
  have hl : lv_has ls 2 [(0, .ref h0)] := by  exact hl
  have F : mm_F p s m _ c RX0 cX0_clearText 2 G := F
  have hx := F.1
  have hb := F.2.1
  have hml := F.2.2.1
  have hown := F.2.2.2.1
  have hts := F.2.2.2.2.1
  unfold f_X0_clearText at hf
  refine lv_aload_n hx hb dX0_clearText_0 rfl (lv_at hl 0 rfl) ?_
  replace hf := b1_i hf
  obtain ⟨v1, e1, hf⟩ := hf
  refine mm_getI F hH mc_0 (k := 3) (by decide) (hts _ q192) (fun _ h => h) e1 dX0_clearText_1 ?_
  refine lv_istore_n (lv' := [(1, .int v1), (0, .ref h0)]) hx hb dX0_clearText_4 rfl hl (by decide) rfl (fun ls hl => ?_)
  refine lv_aload_n hx hb dX0_clearText_5 rfl (lv_at hl 1 rfl) ?_
  refine lv_iconst (v := 0) hx hb dX0_clearText_6 (by decide) ?_
  replace hf := b1_i hf
  obtain ⟨σ2, e2, hf⟩ := hf
  refine mm_put F hH mc_0 (k := 3) (v := vI (0 : Int32)) (by decide) (hts _ q192) (fun _ h => h) rfl rfl rfl e2 dX0_clearText_7 (fun H locs hH => ?_)
  refine lv_iload_n hx hb dX0_clearText_10 rfl (lv_at hl 0 rfl) ?_
  obtain ⟨h1, h2⟩ := Prod.mk.inj (Option.some.inj hf)
  subst h1
  subst h2
  exact mm_reti F hH hr hlocks rfl rfl dX0_clearText_11
/-! IslandHeap$ScriptReader.<init>(LIslandHeap;)V -/
abbrev rm_X7_init : Room := { frames := 4, cells := 1, slots := 3, locals := 90 }
set_option maxHeartbeats 4000000 in
theorem m_X7_init (l : Launch) (G : mm_G) (h0 : Nat) (a1 : Nat) (σ : mm_M) (σf : mm_M) (hf : f_X7_init h0 a1 σ = some σf) : Met l yX7_init (ws_ yX7_init cX7_init 2 ((Option.none : Option Jvm.ClassFile.FieldType))) rm_X7_init (mm_Pc G [.ref h0, .ref a1] σ) (mm_Qv G σf) 1 3 (mm_A G) := by
  refine mm_met (by decide) rfl rfl (by  exact Nat.le_of_ble_eq_true rfl) (fun p e s m below meth c ls F hH hr hlocks hname hl => ?_)
  have hl : lv_has ls 2 [(0, .ref h0), (1, .ref a1)] := by  exact hl
  have F : mm_F p s m _ c RX7 cX7_init 2 G := F
  have hx := F.1
  have hb := F.2.1
  have hml := F.2.2.1
  have hown := F.2.2.2.1
  have hts := F.2.2.2.2.1
  unfold f_X7_init at hf
  refine lv_aload_n hx hb dX7_init_0 rfl (lv_at hl 0 rfl) ?_
  refine lv_aload_n hx hb dX7_init_1 rfl (lv_at hl 1 rfl) ?_
  replace hf := b1_i hf
  obtain ⟨σ1, e1, hf⟩ := hf
  refine mm_putF F hH mc_7 (k := 2) (v := vR (some a1)) (by decide) (hts _ q737) (fun _ h => h) rfl hname rfl rfl rfl e1 dX7_init_2 (fun H locs hH => ?_)
  refine lv_aload_n hx hb dX7_init_5 rfl (lv_at hl 0 rfl) ?_
  refine W.objInit hx hb hown (hts _ q732) (hts _ q96) (hts _ q97) rfl (hl.1.trans hml.symm) rfl dX7_init_6 (Nat.le_of_ble_eq_true rfl) (Nat.le_of_ble_eq_true rfl) ?_
  refine W.eq (g2 := F0 m 9 ls []) rfl ?_
  refine lv_aload_n hx hb dX7_init_9 rfl (lv_at hl 0 rfl) ?_
  replace hf := b2_i hf
  obtain ⟨q3, σ2, e2, hf⟩ := hf
  refine mm_new F hH mc_15 (hts _ q733) (hts _ q105) (hts _ q66) (Nat.le_of_ble_eq_true rfl) (Nat.le_of_ble_eq_true rfl) e2 dX7_init_10 (fun H hH => ?_)
  refine lv_dup hx hb dX7_init_13 rfl ?_
  replace hf := b1_i hf
  obtain ⟨σ4, e3, hf⟩ := hf
  refine mm_cv (va_runI (As := []) (rest := [.ref q3, .ref h0]) ⟨hx, hb, hml, hown, hts⟩ (m_J2_init l G q3 σ2 σ4 e3) (cwI 0 hts (lw_meth q108) rfl rfl rfl (hts _ q66) (hts _ q734) (hts _ q107) rfl (by decide +kernel) ⟨Nat.le_of_ble_eq_true rfl, Nat.le_of_ble_eq_true rfl⟩) (mm_preS F.2.2.2.2.2 hH) rfl rfl hl.1 rfl (lv_room (Nat.le_of_ble_eq_true rfl)) dX7_init_14 ⟨Nat.le_of_ble_eq_true rfl, Nat.le_of_ble_eq_true rfl⟩) hH (fun H locs hH => ?_)
  replace hf := b1_i hf
  obtain ⟨σ5, e4, hf⟩ := hf
  refine mm_putF F hH mc_7 (k := 1) (v := vR (some q3)) (by decide) (hts _ q736) (fun _ h => h) rfl hname rfl rfl rfl e4 dX7_init_17 (fun H locs hH => ?_)
  have h1 := Option.some.inj hf
  subst h1
  exact mm_retv F hH hr hlocks dX7_init_20
/-! IslandHeap$ScriptReader.next()I -/
abbrev rm_X7_next : Room := { frames := 0, cells := 0, slots := 0, locals := 0 }
set_option maxHeartbeats 4000000 in
theorem m_X7_next (l : Launch) (G : mm_G) (h0 : Nat) (σ : mm_M) (rr : Int32) (hf : f_X7_next h0 σ = some rr) : Met l yX7_next (ws_ yX7_next cX7_next 1 ((Option.some .int))) rm_X7_next (mm_Pc G [.ref h0] σ) (mm_Qi G rr σ) 0 0 (mm_A G) := by
  refine mm_met (by decide) rfl rfl (by  exact Nat.le_of_ble_eq_true rfl) (fun p e s m below meth c ls F hH hr hlocks hname hl => ?_)
  have hl : lv_has ls 1 [(0, .ref h0)] := by  exact hl
  have F : mm_F p s m _ c RX7 cX7_next 1 G := F
  have hx := F.1
  have hb := F.2.1
  have hml := F.2.2.1
  have hown := F.2.2.2.1
  have hts := F.2.2.2.2.1
  unfold f_X7_next at hf
  refine lv_aload_n hx hb dX7_next_0 rfl (lv_at hl 0 rfl) ?_
  replace hf := b1_i hf
  obtain ⟨v1, e1, hf⟩ := hf
  refine mm_getI F hH mc_7 (k := 0) (by decide) (hts _ q735) (fun _ h => h) e1 dX7_next_1 ?_
  refine lv_aload_n hx hb dX7_next_4 rfl (lv_at hl 0 rfl) ?_
  replace hf := b1_i hf
  obtain ⟨q2, e2, hf⟩ := hf
  refine mm_getA F hH mc_7 (k := 2) (by decide) (hts _ q737) (fun _ h => h) e2 dX7_next_5 ?_
  replace hf := b1_i hf
  obtain ⟨v3, e3, hf⟩ := hf
  refine mm_getIN F hH mc_0 (k := 3) (by decide) q191 (fun _ h => h) e3 dX7_next_8 ?_
  refine lv_icmp_ge (tgt := 29) hx hb dX7_next_11 (by decide) (fun c4 => ?_) (fun c4 => ?_)
  · rw [if_pos c4] at hf
    refine lv_iconst (v := (-1)) hx hb dX7_next_29 (by decide) ?_
    have h1 := Option.some.inj hf
    subst h1
    exact mm_reti F hH hr hlocks rfl rfl dX7_next_30
  · rw [if_neg c4] at hf
    refine lv_aload_n hx hb dX7_next_14 rfl (lv_at hl 0 rfl) ?_
    replace hf := b1_i hf
    obtain ⟨q5, e4, hf⟩ := hf
    refine mm_getA F hH mc_7 (k := 2) (by decide) (hts _ q737) (fun _ h => h) e4 dX7_next_15 ?_
    replace hf := b1_i hf
    obtain ⟨q6, e5, hf⟩ := hf
    refine mm_getAN F hH mc_0 (k := 2) (by decide) q189 (fun _ h => h) e5 dX7_next_18 ?_
    refine lv_aload_n hx hb dX7_next_21 rfl (lv_at hl 0 rfl) ?_
    replace hf := b1_i hf
    obtain ⟨v7, e6, hf⟩ := hf
    refine mm_getI F hH mc_7 (k := 0) (by decide) (hts _ q735) (fun _ h => h) e6 dX7_next_22 ?_
    replace hf := b1_i hf
    obtain ⟨v8, e7, hf⟩ := hf
    refine mm_bald F hH e7 dX7_next_25 ?_
    refine lv_goto (tgt := 30) hx hb dX7_next_26 (by decide) ?_
    have h1 := Option.some.inj hf
    subst h1
    exact mm_reti F hH hr hlocks rfl rfl dX7_next_30
/-! IslandHeap$ScriptReader.blanks()V -/
abbrev rm_X7_blanks : Room := { frames := 1, cells := 0, slots := 0, locals := 20 }
set_option maxHeartbeats 4000000 in
theorem w_X7_blanks_0 {p : Program} {l : Launch} {e : Env} {s : State} {m : MethodId} {av : Array Value} {below : List Frame} {meth : Method} {c : Code} {G : mm_G} {σf : mm_M} {n : Nat} {h0 : Nat} (F : mm_F p s m av c RX7 cX7_blanks 1 G) (hr : meth.sig.returnType = (Option.none : Option Jvm.ClassFile.FieldType)) (hlocks : meth.locks = false) (hname : meth.name = yX7_blanks.name) (IH0 : ∀  (σ : mm_M) (H : Heap) (locs : List Loc) (ls : Array Slot), mm_H G s σ H locs → lv_has ls 1 [(0, .ref h0)] → itn (s_X7_blanks h0) n σ = some σf → W p l e rm_X7_blanks s m av below meth c H locs 0 0 (MQ below (mm_Qv G σf) av s 0 0 (mm_A G)) (F0 m 0 ls []))    (σ : mm_M) (hf : evn (s_X7_blanks h0) n (g_X7_blanks_0 h0 σ) = some σf) {H : Heap} {locs : List Loc} {ls : Array Slot} (hH : mm_H G s σ H locs) (hl : lv_has ls 1 [(0, .ref h0)]) : W p l e rm_X7_blanks s m av below meth c H locs 0 0 (MQ below (mm_Qv G σf) av s 0 0 (mm_A G)) (F0 m 0 ls []) := by
  have hx := F.1
  have hb := F.2.1
  have hml := F.2.2.1
  have hown := F.2.2.2.1
  have hts := F.2.2.2.2.1
  unfold g_X7_blanks_0 at hf
  refine lv_aload_n hx hb dX7_blanks_0 rfl (lv_at hl 0 rfl) ?_
  replace hf := evn_b1 hf
  obtain ⟨u, e1, hf⟩ := hf
  obtain ⟨fs, ek⟩ := ck_i e1
  replace hf := evn_b1 hf
  obtain ⟨v1, e2, hf⟩ := hf
  refine mm_ci (va_runV (As := []) (rest := []) ⟨hx, hb, hml, hown, hts⟩ (m_X7_next l G h0 σ v1 e2) (cwV 0 hts (lw_V q753 q755 qs19 q80 q756) rfl rfl rfl (by decide +kernel) ⟨Nat.le_of_ble_eq_true rfl, Nat.le_of_ble_eq_true rfl⟩) (mm_preV F.2.2.2.2.2 hH (ci := 7) rfl ek) rfl rfl hl.1 rfl (lv_room (Nat.le_of_ble_eq_true rfl)) dX7_blanks_1 ⟨Nat.le_of_ble_eq_true rfl, Nat.le_of_ble_eq_true rfl⟩) hH (fun H locs hH => ?_)
  refine lv_bipush (v := 32) hx hb dX7_blanks_4 (by decide) ?_
  refine lv_icmp_ne (tgt := 22) hx hb dX7_blanks_6 (by decide) (fun c2 => ?_) (fun c2 => ?_)
  · rw [if_neg c2] at hf
    rw [evn_r] at hf
    have h1 := Option.some.inj hf
    subst h1
    exact mm_retv F hH hr hlocks dX7_blanks_22
  · rw [if_pos c2] at hf
    refine lv_aload_n hx hb dX7_blanks_9 rfl (lv_at hl 0 rfl) ?_
    refine lv_dup hx hb dX7_blanks_10 rfl ?_
    replace hf := evn_b1 hf
    obtain ⟨v3, e3, hf⟩ := hf
    refine mm_getI F hH mc_7 (k := 0) (by decide) (hts _ q735) (fun _ h => h) e3 dX7_blanks_11 ?_
    refine lv_iconst (v := 1) hx hb dX7_blanks_14 (by decide) ?_
    refine lv_iadd hx hb dX7_blanks_15 ?_
    replace hf := evn_b1 hf
    obtain ⟨σ4, e4, hf⟩ := hf
    refine mm_put F hH mc_7 (k := 0) (v := vI (v3 + (1 : Int32))) (by decide) (hts _ q735) (fun _ h => h) rfl rfl rfl e4 dX7_blanks_16 (fun H locs hH => ?_)
    refine lv_goto (tgt := 0) hx hb dX7_blanks_19 (by decide) ?_
    rw [evn_l] at hf
    exact IH0  σ4 _ _ _ hH (lv_sub hl [0] rfl) hf
set_option maxHeartbeats 4000000 in
theorem l_X7_blanks {p : Program} {l : Launch} {e : Env} {s : State} {m : MethodId} {av : Array Value} {below : List Frame} {meth : Method} {c : Code} {G : mm_G} {σf : mm_M} {h0 : Nat} (F : mm_F p s m av c RX7 cX7_blanks 1 G) (hr : meth.sig.returnType = (Option.none : Option Jvm.ClassFile.FieldType)) (hlocks : meth.locks = false) (hname : meth.name = yX7_blanks.name) : ∀ n : Nat, (∀  (σ : mm_M) (H : Heap) (locs : List Loc) (ls : Array Slot), mm_H G s σ H locs → lv_has ls 1 [(0, .ref h0)] → itn (s_X7_blanks h0) n σ = some σf → W p l e rm_X7_blanks s m av below meth c H locs 0 0 (MQ below (mm_Qv G σf) av s 0 0 (mm_A G)) (F0 m 0 ls [])) := by
  intro n
  induction n with
  | zero =>
    exact fun σ H locs ls hH hl hf => by cases hf
  | succ n ih =>
    have IH0 := ih
    intro σ H locs ls hH hl hf
    rw [itn_s] at hf
    exact w_X7_blanks_0 F hr hlocks hname IH0 σ hf hH hl
set_option maxHeartbeats 4000000 in
theorem m_X7_blanks (l : Launch) (G : mm_G) (h0 : Nat) (σ : mm_M) (σf : mm_M) (hf : f_X7_blanks h0 σ = some σf) : Met l yX7_blanks (ws_ yX7_blanks cX7_blanks 1 ((Option.none : Option Jvm.ClassFile.FieldType))) rm_X7_blanks (mm_Pc G [.ref h0] σ) (mm_Qv G σf) 0 0 (mm_A G) := by
  refine mm_met (by decide) rfl rfl (by  exact Nat.le_of_ble_eq_true rfl) (fun p e s m below meth c ls F hH hr hlocks hname hl => ?_)
  have hl : lv_has ls 1 [(0, .ref h0)] := by  exact hl
  have F : mm_F p s m _ c RX7 cX7_blanks 1 G := F
  unfold f_X7_blanks at hf
  obtain ⟨n, hf⟩ := lgo_i hf
  have IH := l_X7_blanks (l := l) (e := e) (below := below) (σf := σf) (h0 := h0) F hr hlocks hname n
  exact IH  σ _ _ _ hH (lv_sub hl [0] rfl) hf
/-! IslandHeap$ScriptReader.takes(I)Z -/
abbrev rm_X7_takes : Room := { frames := 2, cells := 0, slots := 0, locals := 40 }
set_option maxHeartbeats 4000000 in
theorem w_X7_takes_13 {p : Program} {l : Launch} {e : Env} {s : State} {m : MethodId} {av : Array Value} {below : List Frame} {meth : Method} {c : Code} {G : mm_G} {σf : mm_M} {rr : Int32}  {h0 : Nat} {x1 : Int32} (F : mm_F p s m av c RX7 cX7_takes 3 G) (hr : meth.sig.returnType = (Option.some .boolean)) (hlocks : meth.locks = false) (hname : meth.name = yX7_takes.name)    (t0 : Int32) (σ : mm_M) (hf : g_X7_takes_13 h0 x1 t0 σ = some (rr, σf)) {H : Heap} {locs : List Loc} {ls : Array Slot} (hH : mm_H G s σ H locs) (hl : lv_has ls 3 [(0, .ref h0), (1, .int x1)]) : W p l e rm_X7_takes s m av below meth c H locs 0 0 (MQ below (mm_Qi G rr σf) av s 0 0 (mm_A G)) (F0 m 13 ls [.int t0]) := by
  have hx := F.1
  have hb := F.2.1
  have hml := F.2.2.1
  have hown := F.2.2.2.1
  have hts := F.2.2.2.2.1
  unfold g_X7_takes_13 at hf
  refine lv_istore_n (lv' := [(2, .int t0), (0, .ref h0), (1, .int x1)]) hx hb dX7_takes_13 rfl hl (by decide) rfl (fun ls hl => ?_)
  refine lv_iload_n hx hb dX7_takes_14 rfl (lv_at hl 0 rfl) ?_
  refine lv_if_eq (tgt := 32) hx hb dX7_takes_15 (by decide) (fun c1 => ?_) (fun c1 => ?_)
  · rw [if_pos c1] at hf
    refine lv_iload_n hx hb dX7_takes_32 rfl (lv_at hl 0 rfl) ?_
    replace hf := b1_i hf
    obtain ⟨u, e1, hf⟩ := hf
    have hz := grd_i e1
    obtain ⟨h1, h2⟩ := Prod.mk.inj (Option.some.inj hf)
    subst h1
    subst h2
    exact mm_reti F hH hr hlocks (by rcases hz with h | h <;> rw [h] <;> rfl) rfl dX7_takes_33
  · rw [if_neg c1] at hf
    refine lv_aload_n hx hb dX7_takes_18 rfl (lv_at hl 1 rfl) ?_
    refine lv_dup hx hb dX7_takes_19 rfl ?_
    replace hf := b1_i hf
    obtain ⟨v2, e2, hf⟩ := hf
    refine mm_getI F hH mc_7 (k := 0) (by decide) (hts _ q735) (fun _ h => h) e2 dX7_takes_20 ?_
    refine lv_iconst (v := 1) hx hb dX7_takes_23 (by decide) ?_
    refine lv_iadd hx hb dX7_takes_24 ?_
    replace hf := b1_i hf
    obtain ⟨σ3, e3, hf⟩ := hf
    refine mm_put F hH mc_7 (k := 0) (v := vI (v2 + (1 : Int32))) (by decide) (hts _ q735) (fun _ h => h) rfl rfl rfl e3 dX7_takes_25 (fun H locs hH => ?_)
    refine lv_aload_n hx hb dX7_takes_28 rfl (lv_at hl 1 rfl) ?_
    replace hf := b1_i hf
    obtain ⟨u, e4, hf⟩ := hf
    obtain ⟨fs, ek⟩ := ck_i e4
    replace hf := b1_i hf
    obtain ⟨σ4, e5, hf⟩ := hf
    refine mm_cv (va_runV (As := []) (rest := []) ⟨hx, hb, hml, hown, hts⟩ (m_X7_blanks l G h0 σ3 σ4 e5) (cwV 0 hts (lw_V q749 q751 qs18 q80 q752) rfl rfl rfl (by decide +kernel) ⟨Nat.le_of_ble_eq_true rfl, Nat.le_of_ble_eq_true rfl⟩) (mm_preV F.2.2.2.2.2 hH (ci := 7) rfl ek) rfl rfl hl.1 rfl (lv_room (Nat.le_of_ble_eq_true rfl)) dX7_takes_29 ⟨Nat.le_of_ble_eq_true rfl, Nat.le_of_ble_eq_true rfl⟩) hH (fun H locs hH => ?_)
    refine lv_iload_n hx hb dX7_takes_32 rfl (lv_at hl 0 rfl) ?_
    replace hf := b1_i hf
    obtain ⟨u, e6, hf⟩ := hf
    have hz := grd_i e6
    obtain ⟨h1, h2⟩ := Prod.mk.inj (Option.some.inj hf)
    subst h1
    subst h2
    exact mm_reti F hH hr hlocks (by rcases hz with h | h <;> rw [h] <;> rfl) rfl dX7_takes_33
set_option maxHeartbeats 4000000 in
theorem m_X7_takes (l : Launch) (G : mm_G) (h0 : Nat) (x1 : Int32) (σ : mm_M) (σf : mm_M) (rr : Int32) (hf : f_X7_takes h0 x1 σ = some (rr, σf)) : Met l yX7_takes (ws_ yX7_takes cX7_takes 3 ((Option.some .boolean))) rm_X7_takes (mm_Pc G [.ref h0, .int x1] σ) (mm_Qi G rr σf) 0 0 (mm_A G) := by
  refine mm_met (by decide) rfl rfl (by  exact Nat.le_of_ble_eq_true rfl) (fun p e s m below meth c ls F hH hr hlocks hname hl => ?_)
  have hl : lv_has ls 3 [(0, .ref h0), (1, .int x1)] := by  exact hl
  have F : mm_F p s m _ c RX7 cX7_takes 3 G := F
  have hx := F.1
  have hb := F.2.1
  have hml := F.2.2.1
  have hown := F.2.2.2.1
  have hts := F.2.2.2.2.1
  unfold f_X7_takes at hf
  refine lv_aload_n hx hb dX7_takes_0 rfl (lv_at hl 0 rfl) ?_
  replace hf := b1_i hf
  obtain ⟨u, e1, hf⟩ := hf
  obtain ⟨fs, ek⟩ := ck_i e1
  replace hf := b1_i hf
  obtain ⟨v1, e2, hf⟩ := hf
  refine mm_ci (va_runV (As := []) (rest := []) ⟨hx, hb, hml, hown, hts⟩ (m_X7_next l G h0 σ v1 e2) (cwV 0 hts (lw_V q753 q755 qs19 q80 q756) rfl rfl rfl (by decide +kernel) ⟨Nat.le_of_ble_eq_true rfl, Nat.le_of_ble_eq_true rfl⟩) (mm_preV F.2.2.2.2.2 hH (ci := 7) rfl ek) rfl rfl hl.1 rfl (lv_room (Nat.le_of_ble_eq_true rfl)) dX7_takes_1 ⟨Nat.le_of_ble_eq_true rfl, Nat.le_of_ble_eq_true rfl⟩) hH (fun H locs hH => ?_)
  refine lv_iload_n hx hb dX7_takes_4 rfl (lv_at hl 1 rfl) ?_
  refine lv_icmp_ne (tgt := 12) hx hb dX7_takes_5 (by decide) (fun c2 => ?_) (fun c2 => ?_)
  · rw [if_neg c2] at hf
    refine lv_iconst (v := 0) hx hb dX7_takes_12 (by decide) ?_
    exact w_X7_takes_13 F hr hlocks hname  (0 : Int32) σ hf hH (lv_sub hl [0, 1] rfl)
  · rw [if_pos c2] at hf
    refine lv_iconst (v := 1) hx hb dX7_takes_8 (by decide) ?_
    refine lv_goto (tgt := 13) hx hb dX7_takes_9 (by decide) ?_
    exact w_X7_takes_13 F hr hlocks hname  (1 : Int32) σ hf hH (lv_sub hl [0, 1] rfl)
/-! IslandHeap$ScriptReader.isDigit()Z -/
abbrev rm_X7_isDigit : Room := { frames := 1, cells := 0, slots := 0, locals := 22 }
set_option maxHeartbeats 4000000 in
theorem m_X7_isDigit (l : Launch) (G : mm_G) (h0 : Nat) (σ : mm_M) (rr : Int32) (hf : f_X7_isDigit h0 σ = some rr) : Met l yX7_isDigit (ws_ yX7_isDigit cX7_isDigit 1 ((Option.some .boolean))) rm_X7_isDigit (mm_Pc G [.ref h0] σ) (mm_Qi G rr σ) 0 0 (mm_A G) := by
  refine mm_met (by decide) rfl rfl (by  exact Nat.le_of_ble_eq_true rfl) (fun p e s m below meth c ls F hH hr hlocks hname hl => ?_)
  have hl : lv_has ls 1 [(0, .ref h0)] := by  exact hl
  have F : mm_F p s m _ c RX7 cX7_isDigit 1 G := F
  have hx := F.1
  have hb := F.2.1
  have hml := F.2.2.1
  have hown := F.2.2.2.1
  have hts := F.2.2.2.2.1
  unfold f_X7_isDigit at hf
  refine lv_aload_n hx hb dX7_isDigit_0 rfl (lv_at hl 0 rfl) ?_
  replace hf := b1_i hf
  obtain ⟨u, e1, hf⟩ := hf
  obtain ⟨fs, ek⟩ := ck_i e1
  replace hf := b1_i hf
  obtain ⟨v1, e2, hf⟩ := hf
  refine mm_ci (va_runV (As := []) (rest := []) ⟨hx, hb, hml, hown, hts⟩ (m_X7_next l G h0 σ v1 e2) (cwV 0 hts (lw_V q753 q755 qs19 q80 q756) rfl rfl rfl (by decide +kernel) ⟨Nat.le_of_ble_eq_true rfl, Nat.le_of_ble_eq_true rfl⟩) (mm_preV F.2.2.2.2.2 hH (ci := 7) rfl ek) rfl rfl hl.1 rfl (lv_room (Nat.le_of_ble_eq_true rfl)) dX7_isDigit_1 ⟨Nat.le_of_ble_eq_true rfl, Nat.le_of_ble_eq_true rfl⟩) hH (fun H locs hH => ?_)
  refine lv_bipush (v := 48) hx hb dX7_isDigit_4 (by decide) ?_
  refine lv_bipush (v := 57) hx hb dX7_isDigit_6 (by decide) ?_
  replace hf := b1_i hf
  obtain ⟨v2, e3, hf⟩ := hf
  refine mm_ci (va_runSN (As := [.int v1, .int (48 : Int32), .int (57 : Int32)]) (rest := []) ⟨hx, hb, hml, hown, hts⟩ (m_X0_isIn l G v1 (48 : Int32) (57 : Int32) σ v2 e3) ⟨(va_cnB 3 hts (lw_meth q218) rfl rfl rfl (F.2.2.2.2.2.2.1 _ q773 rfl) (hts _ q62) (by decide +kernel) ⟨Nat.le_of_ble_eq_true rfl, Nat.le_of_ble_eq_true rfl⟩), hts _ q217, trivial⟩ (mm_preS F.2.2.2.2.2 hH) rfl rfl hl.1 rfl (lv_room (Nat.le_of_ble_eq_true rfl)) dX7_isDigit_8 ⟨Nat.le_of_ble_eq_true rfl, Nat.le_of_ble_eq_true rfl⟩) hH (fun H locs hH => ?_)
  replace hf := b1_i hf
  obtain ⟨u, e4, hf⟩ := hf
  have hz := grd_i e4
  have h1 := Option.some.inj hf
  subst h1
  exact mm_reti F hH hr hlocks (by rcases hz with h | h <;> rw [h] <;> rfl) rfl dX7_isDigit_11
/-! IslandHeap$TextFault.<init>(I)V -/
abbrev rm_X8_init : Room := { frames := 3, cells := 0, slots := 0, locals := 78 }
set_option maxHeartbeats 4000000 in
theorem m_X8_init (l : Launch) (G : mm_G) (h0 : Nat) (x1 : Int32) (σ : mm_M) (σf : mm_M) (hf : f_X8_init h0 x1 σ = some σf) : Met l yX8_init (ws_ yX8_init cX8_init 2 ((Option.none : Option Jvm.ClassFile.FieldType))) rm_X8_init (mm_Pc G [.ref h0, .int x1] σ) (mm_Qv G σf) 0 0 (mm_A G) := by
  refine mm_met (by decide) rfl rfl (by  exact Nat.le_of_ble_eq_true rfl) (fun p e s m below meth c ls F hH hr hlocks hname hl => ?_)
  have hl : lv_has ls 2 [(0, .ref h0), (1, .int x1)] := by  exact hl
  have F : mm_F p s m _ c RX8 cX8_init 2 G := F
  have hx := F.1
  have hb := F.2.1
  have hml := F.2.2.1
  have hown := F.2.2.2.1
  have hts := F.2.2.2.2.1
  unfold f_X8_init at hf
  refine lv_aload_n hx hb dX8_init_0 rfl (lv_at hl 0 rfl) ?_
  refine lv_null hx hb dX8_init_1 ?_
  refine lv_null hx hb dX8_init_2 ?_
  refine lv_iconst (v := 0) hx hb dX8_init_3 (by decide) ?_
  refine lv_iconst (v := 0) hx hb dX8_init_4 (by decide) ?_
  replace hf := b1_i hf
  obtain ⟨σ1, e1, hf⟩ := hf
  refine mm_cv (va_runI (As := [va_rf none, va_rf none, .int (0 : Int32), .int (0 : Int32)]) (rest := []) ⟨hx, hb, hml, hown, hts⟩ (m_J9_init l G h0 none none (0 : Int32) (0 : Int32) σ σ1 e1) (cwI 4 hts (lw_meth q820) rfl rfl rfl (hts _ q82) (hts _ q818) (hts _ q819) rfl (by decide +kernel) ⟨Nat.le_of_ble_eq_true rfl, Nat.le_of_ble_eq_true rfl⟩) (mm_preS F.2.2.2.2.2 hH) rfl rfl hl.1 rfl (lv_room (Nat.le_of_ble_eq_true rfl)) dX8_init_5 ⟨Nat.le_of_ble_eq_true rfl, Nat.le_of_ble_eq_true rfl⟩) hH (fun H locs hH => ?_)
  refine lv_aload_n hx hb dX8_init_8 rfl (lv_at hl 0 rfl) ?_
  refine lv_iload_n hx hb dX8_init_9 rfl (lv_at hl 1 rfl) ?_
  replace hf := b1_i hf
  obtain ⟨σ2, e2, hf⟩ := hf
  refine mm_putF F hH mc_8 (k := 6) (v := vI x1) (by decide) (hts _ q824) (fun _ h => h) rfl hname rfl rfl rfl e2 dX8_init_10 (fun H locs hH => ?_)
  have h1 := Option.some.inj hf
  subst h1
  exact mm_retv F hH hr hlocks dX8_init_13
/-! IslandHeap$Allocate.<init>(II)V -/
abbrev rm_X9_init : Room := { frames := 1, cells := 0, slots := 0, locals := 30 }
set_option maxHeartbeats 4000000 in
theorem m_X9_init (l : Launch) (G : mm_G) (h0 : Nat) (x1 : Int32) (x2 : Int32) (σ : mm_M) (σf : mm_M) (hf : f_X9_init h0 x1 x2 σ = some σf) : Met l yX9_init (ws_ yX9_init cX9_init 3 ((Option.none : Option Jvm.ClassFile.FieldType))) rm_X9_init (mm_Pc G [.ref h0, .int x1, .int x2] σ) (mm_Qv G σf) 0 0 (mm_A G) := by
  refine mm_met (by decide) rfl rfl (by  exact Nat.le_of_ble_eq_true rfl) (fun p e s m below meth c ls F hH hr hlocks hname hl => ?_)
  have hl : lv_has ls 3 [(0, .ref h0), (1, .int x1), (2, .int x2)] := by  exact hl
  have F : mm_F p s m _ c RX9 cX9_init 3 G := F
  have hx := F.1
  have hb := F.2.1
  have hml := F.2.2.1
  have hown := F.2.2.2.1
  have hts := F.2.2.2.2.1
  unfold f_X9_init at hf
  refine lv_aload_n hx hb dX9_init_0 rfl (lv_at hl 0 rfl) ?_
  refine W.objInit hx hb hown (hts _ q846) (hts _ q96) (hts _ q97) rfl (hl.1.trans hml.symm) rfl dX9_init_1 (Nat.le_of_ble_eq_true rfl) (Nat.le_of_ble_eq_true rfl) ?_
  refine W.eq (g2 := F0 m 4 ls []) rfl ?_
  refine lv_aload_n hx hb dX9_init_4 rfl (lv_at hl 0 rfl) ?_
  refine lv_iload_n hx hb dX9_init_5 rfl (lv_at hl 1 rfl) ?_
  replace hf := b1_i hf
  obtain ⟨σ1, e1, hf⟩ := hf
  refine mm_putF F hH mc_9 (k := 0) (v := vI x1) (by decide) (hts _ q847) (fun _ h => h) rfl hname rfl rfl rfl e1 dX9_init_6 (fun H locs hH => ?_)
  refine lv_aload_n hx hb dX9_init_9 rfl (lv_at hl 0 rfl) ?_
  refine lv_iload_n hx hb dX9_init_10 rfl (lv_at hl 2 rfl) ?_
  replace hf := b1_i hf
  obtain ⟨σ2, e2, hf⟩ := hf
  refine mm_putF F hH mc_9 (k := 1) (v := vI x2) (by decide) (hts _ q848) (fun _ h => h) rfl hname rfl rfl rfl e2 dX9_init_11 (fun H locs hH => ?_)
  have h1 := Option.some.inj hf
  subst h1
  exact mm_retv F hH hr hlocks dX9_init_14
/-! IslandHeap$SetRoot.<init>(II)V -/
abbrev rm_X10_init : Room := { frames := 1, cells := 0, slots := 0, locals := 30 }
set_option maxHeartbeats 4000000 in
theorem m_X10_init (l : Launch) (G : mm_G) (h0 : Nat) (x1 : Int32) (x2 : Int32) (σ : mm_M) (σf : mm_M) (hf : f_X10_init h0 x1 x2 σ = some σf) : Met l yX10_init (ws_ yX10_init cX10_init 3 ((Option.none : Option Jvm.ClassFile.FieldType))) rm_X10_init (mm_Pc G [.ref h0, .int x1, .int x2] σ) (mm_Qv G σf) 0 0 (mm_A G) := by
  refine mm_met (by decide) rfl rfl (by  exact Nat.le_of_ble_eq_true rfl) (fun p e s m below meth c ls F hH hr hlocks hname hl => ?_)
  have hl : lv_has ls 3 [(0, .ref h0), (1, .int x1), (2, .int x2)] := by  exact hl
  have F : mm_F p s m _ c RX10 cX10_init 3 G := F
  have hx := F.1
  have hb := F.2.1
  have hml := F.2.2.1
  have hown := F.2.2.2.1
  have hts := F.2.2.2.2.1
  unfold f_X10_init at hf
  refine lv_aload_n hx hb dX10_init_0 rfl (lv_at hl 0 rfl) ?_
  refine W.objInit hx hb hown (hts _ q867) (hts _ q96) (hts _ q97) rfl (hl.1.trans hml.symm) rfl dX10_init_1 (Nat.le_of_ble_eq_true rfl) (Nat.le_of_ble_eq_true rfl) ?_
  refine W.eq (g2 := F0 m 4 ls []) rfl ?_
  refine lv_aload_n hx hb dX10_init_4 rfl (lv_at hl 0 rfl) ?_
  refine lv_iload_n hx hb dX10_init_5 rfl (lv_at hl 1 rfl) ?_
  replace hf := b1_i hf
  obtain ⟨σ1, e1, hf⟩ := hf
  refine mm_putF F hH mc_10 (k := 0) (v := vI x1) (by decide) (hts _ q868) (fun _ h => h) rfl hname rfl rfl rfl e1 dX10_init_6 (fun H locs hH => ?_)
  refine lv_aload_n hx hb dX10_init_9 rfl (lv_at hl 0 rfl) ?_
  refine lv_iload_n hx hb dX10_init_10 rfl (lv_at hl 2 rfl) ?_
  replace hf := b1_i hf
  obtain ⟨σ2, e2, hf⟩ := hf
  refine mm_putF F hH mc_10 (k := 1) (v := vI x2) (by decide) (hts _ q869) (fun _ h => h) rfl hname rfl rfl rfl e2 dX10_init_11 (fun H locs hH => ?_)
  have h1 := Option.some.inj hf
  subst h1
  exact mm_retv F hH hr hlocks dX10_init_14
/-! IslandHeap$SetWeak.<init>(II)V -/
abbrev rm_X11_init : Room := { frames := 1, cells := 0, slots := 0, locals := 30 }
set_option maxHeartbeats 4000000 in
theorem m_X11_init (l : Launch) (G : mm_G) (h0 : Nat) (x1 : Int32) (x2 : Int32) (σ : mm_M) (σf : mm_M) (hf : f_X11_init h0 x1 x2 σ = some σf) : Met l yX11_init (ws_ yX11_init cX11_init 3 ((Option.none : Option Jvm.ClassFile.FieldType))) rm_X11_init (mm_Pc G [.ref h0, .int x1, .int x2] σ) (mm_Qv G σf) 0 0 (mm_A G) := by
  refine mm_met (by decide) rfl rfl (by  exact Nat.le_of_ble_eq_true rfl) (fun p e s m below meth c ls F hH hr hlocks hname hl => ?_)
  have hl : lv_has ls 3 [(0, .ref h0), (1, .int x1), (2, .int x2)] := by  exact hl
  have F : mm_F p s m _ c RX11 cX11_init 3 G := F
  have hx := F.1
  have hb := F.2.1
  have hml := F.2.2.1
  have hown := F.2.2.2.1
  have hts := F.2.2.2.2.1
  unfold f_X11_init at hf
  refine lv_aload_n hx hb dX11_init_0 rfl (lv_at hl 0 rfl) ?_
  refine W.objInit hx hb hown (hts _ q880) (hts _ q96) (hts _ q97) rfl (hl.1.trans hml.symm) rfl dX11_init_1 (Nat.le_of_ble_eq_true rfl) (Nat.le_of_ble_eq_true rfl) ?_
  refine W.eq (g2 := F0 m 4 ls []) rfl ?_
  refine lv_aload_n hx hb dX11_init_4 rfl (lv_at hl 0 rfl) ?_
  refine lv_iload_n hx hb dX11_init_5 rfl (lv_at hl 1 rfl) ?_
  replace hf := b1_i hf
  obtain ⟨σ1, e1, hf⟩ := hf
  refine mm_putF F hH mc_11 (k := 0) (v := vI x1) (by decide) (hts _ q881) (fun _ h => h) rfl hname rfl rfl rfl e1 dX11_init_6 (fun H locs hH => ?_)
  refine lv_aload_n hx hb dX11_init_9 rfl (lv_at hl 0 rfl) ?_
  refine lv_iload_n hx hb dX11_init_10 rfl (lv_at hl 2 rfl) ?_
  replace hf := b1_i hf
  obtain ⟨σ2, e2, hf⟩ := hf
  refine mm_putF F hH mc_11 (k := 1) (v := vI x2) (by decide) (hts _ q882) (fun _ h => h) rfl hname rfl rfl rfl e2 dX11_init_11 (fun H locs hH => ?_)
  have h1 := Option.some.inj hf
  subst h1
  exact mm_retv F hH hr hlocks dX11_init_14
/-! IslandHeap$SetField.<init>(III)V -/
abbrev rm_X12_init : Room := { frames := 1, cells := 0, slots := 0, locals := 30 }
set_option maxHeartbeats 4000000 in
theorem m_X12_init (l : Launch) (G : mm_G) (h0 : Nat) (x1 : Int32) (x2 : Int32) (x3 : Int32) (σ : mm_M) (σf : mm_M) (hf : f_X12_init h0 x1 x2 x3 σ = some σf) : Met l yX12_init (ws_ yX12_init cX12_init 4 ((Option.none : Option Jvm.ClassFile.FieldType))) rm_X12_init (mm_Pc G [.ref h0, .int x1, .int x2, .int x3] σ) (mm_Qv G σf) 0 0 (mm_A G) := by
  refine mm_met (by decide) rfl rfl (by  exact Nat.le_of_ble_eq_true rfl) (fun p e s m below meth c ls F hH hr hlocks hname hl => ?_)
  have hl : lv_has ls 4 [(0, .ref h0), (1, .int x1), (2, .int x2), (3, .int x3)] := by  exact hl
  have F : mm_F p s m _ c RX12 cX12_init 4 G := F
  have hx := F.1
  have hb := F.2.1
  have hml := F.2.2.1
  have hown := F.2.2.2.1
  have hts := F.2.2.2.2.1
  unfold f_X12_init at hf
  refine lv_aload_n hx hb dX12_init_0 rfl (lv_at hl 0 rfl) ?_
  refine W.objInit hx hb hown (hts _ q893) (hts _ q96) (hts _ q97) rfl (hl.1.trans hml.symm) rfl dX12_init_1 (Nat.le_of_ble_eq_true rfl) (Nat.le_of_ble_eq_true rfl) ?_
  refine W.eq (g2 := F0 m 4 ls []) rfl ?_
  refine lv_aload_n hx hb dX12_init_4 rfl (lv_at hl 0 rfl) ?_
  refine lv_iload_n hx hb dX12_init_5 rfl (lv_at hl 1 rfl) ?_
  replace hf := b1_i hf
  obtain ⟨σ1, e1, hf⟩ := hf
  refine mm_putF F hH mc_12 (k := 0) (v := vI x1) (by decide) (hts _ q894) (fun _ h => h) rfl hname rfl rfl rfl e1 dX12_init_6 (fun H locs hH => ?_)
  refine lv_aload_n hx hb dX12_init_9 rfl (lv_at hl 0 rfl) ?_
  refine lv_iload_n hx hb dX12_init_10 rfl (lv_at hl 2 rfl) ?_
  replace hf := b1_i hf
  obtain ⟨σ2, e2, hf⟩ := hf
  refine mm_putF F hH mc_12 (k := 1) (v := vI x2) (by decide) (hts _ q895) (fun _ h => h) rfl hname rfl rfl rfl e2 dX12_init_11 (fun H locs hH => ?_)
  refine lv_aload_n hx hb dX12_init_14 rfl (lv_at hl 0 rfl) ?_
  refine lv_iload_n hx hb dX12_init_15 rfl (lv_at hl 3 rfl) ?_
  replace hf := b1_i hf
  obtain ⟨σ3, e3, hf⟩ := hf
  refine mm_putF F hH mc_12 (k := 2) (v := vI x3) (by decide) (hts _ q896) (fun _ h => h) rfl hname rfl rfl rfl e3 dX12_init_16 (fun H locs hH => ?_)
  have h1 := Option.some.inj hf
  subst h1
  exact mm_retv F hH hr hlocks dX12_init_19
/-! IslandHeap$Pin.<init>(IZ)V -/
abbrev rm_X13_init : Room := { frames := 1, cells := 0, slots := 0, locals := 30 }
set_option maxHeartbeats 4000000 in
theorem m_X13_init (l : Launch) (G : mm_G) (h0 : Nat) (x1 : Int32) (x2 : Int32) (σ : mm_M) (σf : mm_M) (hf : f_X13_init h0 x1 x2 σ = some σf) : Met l yX13_init (ws_ yX13_init cX13_init 3 ((Option.none : Option Jvm.ClassFile.FieldType))) rm_X13_init (mm_Pc G [.ref h0, .int x1, .int x2] σ) (mm_Qv G σf) 0 0 (mm_A G) := by
  refine mm_met (by decide) rfl rfl (by  exact Nat.le_of_ble_eq_true rfl) (fun p e s m below meth c ls F hH hr hlocks hname hl => ?_)
  have hl : lv_has ls 3 [(0, .ref h0), (1, .int x1), (2, .int x2)] := by  exact hl
  have F : mm_F p s m _ c RX13 cX13_init 3 G := F
  have hx := F.1
  have hb := F.2.1
  have hml := F.2.2.1
  have hown := F.2.2.2.1
  have hts := F.2.2.2.2.1
  unfold f_X13_init at hf
  refine lv_aload_n hx hb dX13_init_0 rfl (lv_at hl 0 rfl) ?_
  refine W.objInit hx hb hown (hts _ q909) (hts _ q96) (hts _ q97) rfl (hl.1.trans hml.symm) rfl dX13_init_1 (Nat.le_of_ble_eq_true rfl) (Nat.le_of_ble_eq_true rfl) ?_
  refine W.eq (g2 := F0 m 4 ls []) rfl ?_
  refine lv_aload_n hx hb dX13_init_4 rfl (lv_at hl 0 rfl) ?_
  refine lv_iload_n hx hb dX13_init_5 rfl (lv_at hl 1 rfl) ?_
  replace hf := b1_i hf
  obtain ⟨σ1, e1, hf⟩ := hf
  refine mm_putF F hH mc_13 (k := 0) (v := vI x1) (by decide) (hts _ q910) (fun _ h => h) rfl hname rfl rfl rfl e1 dX13_init_6 (fun H locs hH => ?_)
  refine lv_aload_n hx hb dX13_init_9 rfl (lv_at hl 0 rfl) ?_
  refine lv_iload_n hx hb dX13_init_10 rfl (lv_at hl 2 rfl) ?_
  replace hf := b1_i hf
  obtain ⟨σ2, e2, hf⟩ := hf
  refine mm_putF F hH mc_13 (k := 1) (v := vI x2) (by decide) (hts _ q911) (fun _ h => h) rfl hname rfl (by rcases (pZ_i e2).1 with h | h <;> rw [h] <;> rfl) (by rcases (pZ_i e2).1 with h | h <;> rw [h] <;> rfl) (pZ_i e2).2 dX13_init_11 (fun H locs hH => ?_)
  have h1 := Option.some.inj hf
  subst h1
  exact mm_retv F hH hr hlocks dX13_init_14
/-! IslandHeap$Collect.<init>()V -/
abbrev rm_X14_init : Room := { frames := 1, cells := 0, slots := 0, locals := 30 }
set_option maxHeartbeats 4000000 in
theorem m_X14_init (l : Launch) (G : mm_G) (h0 : Nat) (σ : mm_M) (σf : mm_M) (hf : f_X14_init h0 σ = some σf) : Met l yX14_init (ws_ yX14_init cX14_init 1 ((Option.none : Option Jvm.ClassFile.FieldType))) rm_X14_init (mm_Pc G [.ref h0] σ) (mm_Qv G σf) 0 0 (mm_A G) := by
  refine mm_met (by decide) rfl rfl (by  exact Nat.le_of_ble_eq_true rfl) (fun p e s m below meth c ls F hH hr hlocks hname hl => ?_)
  have hl : lv_has ls 1 [(0, .ref h0)] := by  exact hl
  have F : mm_F p s m _ c RX14 cX14_init 1 G := F
  have hx := F.1
  have hb := F.2.1
  have hml := F.2.2.1
  have hown := F.2.2.2.1
  have hts := F.2.2.2.2.1
  unfold f_X14_init at hf
  refine lv_aload_n hx hb dX14_init_0 rfl (lv_at hl 0 rfl) ?_
  refine W.objInit hx hb hown (hts _ q922) (hts _ q96) (hts _ q97) rfl (hl.1.trans hml.symm) rfl dX14_init_1 (Nat.le_of_ble_eq_true rfl) (Nat.le_of_ble_eq_true rfl) ?_
  refine W.eq (g2 := F0 m 4 ls []) rfl ?_
  have h1 := Option.some.inj hf
  subst h1
  exact mm_retv F hH hr hlocks dX14_init_4
/-! IslandHeap$Allocate.runOn(LIslandHeap;)I -/
abbrev rm_X9_runOn : Room := { frames := 8, cells := 4, slots := 268, locals := 189 }
set_option maxHeartbeats 4000000 in
theorem m_X9_runOn (l : Launch) (G : mm_G) (h0 : Nat) (a1 : Nat) (σ : mm_M) (σf : mm_M) (rr : Int32) (hf : f_X9_runOn h0 a1 σ = some (rr, σf)) : Met l yX9_runOn (ws_ yX9_runOn cX9_runOn 2 ((Option.some .int))) rm_X9_runOn (mm_Pc G [.ref h0, .ref a1] σ) (mm_Qi G rr σf) 4 268 (mm_A G) := by
  refine mm_met (by decide) rfl rfl (by  exact Nat.le_of_ble_eq_true rfl) (fun p e s m below meth c ls F hH hr hlocks hname hl => ?_)
  have hl : lv_has ls 2 [(0, .ref h0), (1, .ref a1)] := by  exact hl
  have F : mm_F p s m _ c RX9 cX9_runOn 2 G := F
  have hx := F.1
  have hb := F.2.1
  have hml := F.2.2.1
  have hown := F.2.2.2.1
  have hts := F.2.2.2.2.1
  unfold f_X9_runOn at hf
  refine lv_aload_n hx hb dX9_runOn_0 rfl (lv_at hl 1 rfl) ?_
  refine lv_aload_n hx hb dX9_runOn_1 rfl (lv_at hl 0 rfl) ?_
  replace hf := b1_i hf
  obtain ⟨v1, e1, hf⟩ := hf
  refine mm_getI F hH mc_9 (k := 0) (by decide) (hts _ q847) (fun _ h => h) e1 dX9_runOn_2 ?_
  refine lv_aload_n hx hb dX9_runOn_5 rfl (lv_at hl 0 rfl) ?_
  replace hf := b1_i hf
  obtain ⟨v2, e2, hf⟩ := hf
  refine mm_getI F hH mc_9 (k := 1) (by decide) (hts _ q848) (fun _ h => h) e2 dX9_runOn_6 ?_
  replace hf := b1_i hf
  obtain ⟨u, e3, hf⟩ := hf
  obtain ⟨fs, ek⟩ := ck_i e3
  replace hf := b2_i hf
  obtain ⟨v3, σ4, e4, hf⟩ := hf
  refine mm_ci (va_runV (As := [.int v1, .int v2]) (rest := []) ⟨hx, hb, hml, hown, hts⟩ (m_X0_alloc l G a1 v1 v2 σ σ4 v3 e4) (cwV 2 hts (lw_V q947 q221 q222 q62 q223) rfl rfl rfl (by decide +kernel) ⟨Nat.le_of_ble_eq_true rfl, Nat.le_of_ble_eq_true rfl⟩) (mm_preV F.2.2.2.2.2 hH (ci := 0) rfl ek) rfl rfl hl.1 rfl (lv_room (Nat.le_of_ble_eq_true rfl)) dX9_runOn_9 ⟨Nat.le_of_ble_eq_true rfl, Nat.le_of_ble_eq_true rfl⟩) hH (fun H locs hH => ?_)
  obtain ⟨h1, h2⟩ := Prod.mk.inj (Option.some.inj hf)
  subst h1
  subst h2
  exact mm_reti F hH hr hlocks rfl rfl dX9_runOn_12
/-! IslandHeap$SetRoot.runOn(LIslandHeap;)I -/
abbrev rm_X10_runOn : Room := { frames := 5, cells := 0, slots := 0, locals := 107 }
set_option maxHeartbeats 4000000 in
theorem m_X10_runOn (l : Launch) (G : mm_G) (h0 : Nat) (a1 : Nat) (σ : mm_M) (σf : mm_M) (rr : Int32) (hf : f_X10_runOn h0 a1 σ = some (rr, σf)) : Met l yX10_runOn (ws_ yX10_runOn cX10_runOn 2 ((Option.some .int))) rm_X10_runOn (mm_Pc G [.ref h0, .ref a1] σ) (mm_Qi G rr σf) 0 0 (mm_A G) := by
  refine mm_met (by decide) rfl rfl (by  exact Nat.le_of_ble_eq_true rfl) (fun p e s m below meth c ls F hH hr hlocks hname hl => ?_)
  have hl : lv_has ls 2 [(0, .ref h0), (1, .ref a1)] := by  exact hl
  have F : mm_F p s m _ c RX10 cX10_runOn 2 G := F
  have hx := F.1
  have hb := F.2.1
  have hml := F.2.2.1
  have hown := F.2.2.2.1
  have hts := F.2.2.2.2.1
  unfold f_X10_runOn at hf
  refine lv_aload_n hx hb dX10_runOn_0 rfl (lv_at hl 1 rfl) ?_
  refine lv_aload_n hx hb dX10_runOn_1 rfl (lv_at hl 0 rfl) ?_
  replace hf := b1_i hf
  obtain ⟨v1, e1, hf⟩ := hf
  refine mm_getI F hH mc_10 (k := 0) (by decide) (hts _ q868) (fun _ h => h) e1 dX10_runOn_2 ?_
  refine lv_aload_n hx hb dX10_runOn_5 rfl (lv_at hl 0 rfl) ?_
  replace hf := b1_i hf
  obtain ⟨v2, e2, hf⟩ := hf
  refine mm_getI F hH mc_10 (k := 1) (by decide) (hts _ q869) (fun _ h => h) e2 dX10_runOn_6 ?_
  replace hf := b1_i hf
  obtain ⟨u, e3, hf⟩ := hf
  obtain ⟨fs, ek⟩ := ck_i e3
  replace hf := b2_i hf
  obtain ⟨v3, σ4, e4, hf⟩ := hf
  refine mm_ci (va_runV (As := [.int v1, .int v2]) (rest := []) ⟨hx, hb, hml, hown, hts⟩ (m_X0_setRoot l G a1 v1 v2 σ σ4 v3 e4) (cwV 2 hts (lw_V q975 q561 q562 q62 q563) rfl rfl rfl (by decide +kernel) ⟨Nat.le_of_ble_eq_true rfl, Nat.le_of_ble_eq_true rfl⟩) (mm_preV F.2.2.2.2.2 hH (ci := 0) rfl ek) rfl rfl hl.1 rfl (lv_room (Nat.le_of_ble_eq_true rfl)) dX10_runOn_9 ⟨Nat.le_of_ble_eq_true rfl, Nat.le_of_ble_eq_true rfl⟩) hH (fun H locs hH => ?_)
  obtain ⟨h1, h2⟩ := Prod.mk.inj (Option.some.inj hf)
  subst h1
  subst h2
  exact mm_reti F hH hr hlocks rfl rfl dX10_runOn_12
/-! IslandHeap$SetWeak.runOn(LIslandHeap;)I -/
abbrev rm_X11_runOn : Room := { frames := 5, cells := 0, slots := 0, locals := 107 }
set_option maxHeartbeats 4000000 in
theorem m_X11_runOn (l : Launch) (G : mm_G) (h0 : Nat) (a1 : Nat) (σ : mm_M) (σf : mm_M) (rr : Int32) (hf : f_X11_runOn h0 a1 σ = some (rr, σf)) : Met l yX11_runOn (ws_ yX11_runOn cX11_runOn 2 ((Option.some .int))) rm_X11_runOn (mm_Pc G [.ref h0, .ref a1] σ) (mm_Qi G rr σf) 0 0 (mm_A G) := by
  refine mm_met (by decide) rfl rfl (by  exact Nat.le_of_ble_eq_true rfl) (fun p e s m below meth c ls F hH hr hlocks hname hl => ?_)
  have hl : lv_has ls 2 [(0, .ref h0), (1, .ref a1)] := by  exact hl
  have F : mm_F p s m _ c RX11 cX11_runOn 2 G := F
  have hx := F.1
  have hb := F.2.1
  have hml := F.2.2.1
  have hown := F.2.2.2.1
  have hts := F.2.2.2.2.1
  unfold f_X11_runOn at hf
  refine lv_aload_n hx hb dX11_runOn_0 rfl (lv_at hl 1 rfl) ?_
  refine lv_aload_n hx hb dX11_runOn_1 rfl (lv_at hl 0 rfl) ?_
  replace hf := b1_i hf
  obtain ⟨v1, e1, hf⟩ := hf
  refine mm_getI F hH mc_11 (k := 0) (by decide) (hts _ q881) (fun _ h => h) e1 dX11_runOn_2 ?_
  refine lv_aload_n hx hb dX11_runOn_5 rfl (lv_at hl 0 rfl) ?_
  replace hf := b1_i hf
  obtain ⟨v2, e2, hf⟩ := hf
  refine mm_getI F hH mc_11 (k := 1) (by decide) (hts _ q882) (fun _ h => h) e2 dX11_runOn_6 ?_
  replace hf := b1_i hf
  obtain ⟨u, e3, hf⟩ := hf
  obtain ⟨fs, ek⟩ := ck_i e3
  replace hf := b2_i hf
  obtain ⟨v3, σ4, e4, hf⟩ := hf
  refine mm_ci (va_runV (As := [.int v1, .int v2]) (rest := []) ⟨hx, hb, hml, hown, hts⟩ (m_X0_setWeak l G a1 v1 v2 σ σ4 v3 e4) (cwV 2 hts (lw_V q982 q569 q570 q62 q571) rfl rfl rfl (by decide +kernel) ⟨Nat.le_of_ble_eq_true rfl, Nat.le_of_ble_eq_true rfl⟩) (mm_preV F.2.2.2.2.2 hH (ci := 0) rfl ek) rfl rfl hl.1 rfl (lv_room (Nat.le_of_ble_eq_true rfl)) dX11_runOn_9 ⟨Nat.le_of_ble_eq_true rfl, Nat.le_of_ble_eq_true rfl⟩) hH (fun H locs hH => ?_)
  obtain ⟨h1, h2⟩ := Prod.mk.inj (Option.some.inj hf)
  subst h1
  subst h2
  exact mm_reti F hH hr hlocks rfl rfl dX11_runOn_12
/-! IslandHeap$SetField.runOn(LIslandHeap;)I -/
abbrev rm_X12_runOn : Room := { frames := 5, cells := 0, slots := 0, locals := 109 }
set_option maxHeartbeats 4000000 in
theorem m_X12_runOn (l : Launch) (G : mm_G) (h0 : Nat) (a1 : Nat) (σ : mm_M) (σf : mm_M) (rr : Int32) (hf : f_X12_runOn h0 a1 σ = some (rr, σf)) : Met l yX12_runOn (ws_ yX12_runOn cX12_runOn 2 ((Option.some .int))) rm_X12_runOn (mm_Pc G [.ref h0, .ref a1] σ) (mm_Qi G rr σf) 0 0 (mm_A G) := by
  refine mm_met (by decide) rfl rfl (by  exact Nat.le_of_ble_eq_true rfl) (fun p e s m below meth c ls F hH hr hlocks hname hl => ?_)
  have hl : lv_has ls 2 [(0, .ref h0), (1, .ref a1)] := by  exact hl
  have F : mm_F p s m _ c RX12 cX12_runOn 2 G := F
  have hx := F.1
  have hb := F.2.1
  have hml := F.2.2.1
  have hown := F.2.2.2.1
  have hts := F.2.2.2.2.1
  unfold f_X12_runOn at hf
  refine lv_aload_n hx hb dX12_runOn_0 rfl (lv_at hl 1 rfl) ?_
  refine lv_aload_n hx hb dX12_runOn_1 rfl (lv_at hl 0 rfl) ?_
  replace hf := b1_i hf
  obtain ⟨v1, e1, hf⟩ := hf
  refine mm_getI F hH mc_12 (k := 0) (by decide) (hts _ q894) (fun _ h => h) e1 dX12_runOn_2 ?_
  refine lv_aload_n hx hb dX12_runOn_5 rfl (lv_at hl 0 rfl) ?_
  replace hf := b1_i hf
  obtain ⟨v2, e2, hf⟩ := hf
  refine mm_getI F hH mc_12 (k := 1) (by decide) (hts _ q895) (fun _ h => h) e2 dX12_runOn_6 ?_
  refine lv_aload_n hx hb dX12_runOn_9 rfl (lv_at hl 0 rfl) ?_
  replace hf := b1_i hf
  obtain ⟨v3, e3, hf⟩ := hf
  refine mm_getI F hH mc_12 (k := 2) (by decide) (hts _ q896) (fun _ h => h) e3 dX12_runOn_10 ?_
  replace hf := b1_i hf
  obtain ⟨u, e4, hf⟩ := hf
  obtain ⟨fs, ek⟩ := ck_i e4
  replace hf := b2_i hf
  obtain ⟨v4, σ5, e5, hf⟩ := hf
  refine mm_ci (va_runV (As := [.int v1, .int v2, .int v3]) (rest := []) ⟨hx, hb, hml, hown, hts⟩ (m_X0_setField l G a1 v1 v2 v3 σ σ5 v4 e5) (cwV 3 hts (lw_V q968 q518 q519 q62 q520) rfl rfl rfl (by decide +kernel) ⟨Nat.le_of_ble_eq_true rfl, Nat.le_of_ble_eq_true rfl⟩) (mm_preV F.2.2.2.2.2 hH (ci := 0) rfl ek) rfl rfl hl.1 rfl (lv_room (Nat.le_of_ble_eq_true rfl)) dX12_runOn_13 ⟨Nat.le_of_ble_eq_true rfl, Nat.le_of_ble_eq_true rfl⟩) hH (fun H locs hH => ?_)
  obtain ⟨h1, h2⟩ := Prod.mk.inj (Option.some.inj hf)
  subst h1
  subst h2
  exact mm_reti F hH hr hlocks rfl rfl dX12_runOn_16
/-! IslandHeap$Pin.runOn(LIslandHeap;)I -/
abbrev rm_X13_runOn : Room := { frames := 5, cells := 0, slots := 0, locals := 109 }
set_option maxHeartbeats 4000000 in
theorem m_X13_runOn (l : Launch) (G : mm_G) (h0 : Nat) (a1 : Nat) (σ : mm_M) (σf : mm_M) (rr : Int32) (hf : f_X13_runOn h0 a1 σ = some (rr, σf)) : Met l yX13_runOn (ws_ yX13_runOn cX13_runOn 2 ((Option.some .int))) rm_X13_runOn (mm_Pc G [.ref h0, .ref a1] σ) (mm_Qi G rr σf) 0 0 (mm_A G) := by
  refine mm_met (by decide) rfl rfl (by  exact Nat.le_of_ble_eq_true rfl) (fun p e s m below meth c ls F hH hr hlocks hname hl => ?_)
  have hl : lv_has ls 2 [(0, .ref h0), (1, .ref a1)] := by  exact hl
  have F : mm_F p s m _ c RX13 cX13_runOn 2 G := F
  have hx := F.1
  have hb := F.2.1
  have hml := F.2.2.1
  have hown := F.2.2.2.1
  have hts := F.2.2.2.2.1
  unfold f_X13_runOn at hf
  refine lv_aload_n hx hb dX13_runOn_0 rfl (lv_at hl 1 rfl) ?_
  refine lv_aload_n hx hb dX13_runOn_1 rfl (lv_at hl 0 rfl) ?_
  replace hf := b1_i hf
  obtain ⟨v1, e1, hf⟩ := hf
  refine mm_getI F hH mc_13 (k := 0) (by decide) (hts _ q910) (fun _ h => h) e1 dX13_runOn_2 ?_
  refine lv_aload_n hx hb dX13_runOn_5 rfl (lv_at hl 0 rfl) ?_
  replace hf := b1_i hf
  obtain ⟨v2, e2, hf⟩ := hf
  refine mm_getI F hH mc_13 (k := 1) (by decide) (hts _ q911) (fun _ h => h) e2 dX13_runOn_6 ?_
  replace hf := b1_i hf
  obtain ⟨u, e3, hf⟩ := hf
  obtain ⟨fs, ek⟩ := ck_i e3
  replace hf := b2_i hf
  obtain ⟨v3, σ4, e4, hf⟩ := hf
  refine mm_ci (va_runV (As := [.int v1, .int v2]) (rest := []) ⟨hx, hb, hml, hown, hts⟩ (m_X0_pin l G a1 v1 v2 σ σ4 v3 e4) (cwV 2 hts (lw_V q961 q552 q553 q62 q554) rfl rfl rfl (by decide +kernel) ⟨Nat.le_of_ble_eq_true rfl, Nat.le_of_ble_eq_true rfl⟩) (mm_preV F.2.2.2.2.2 hH (ci := 0) rfl ek) rfl rfl hl.1 rfl (lv_room (Nat.le_of_ble_eq_true rfl)) dX13_runOn_9 ⟨Nat.le_of_ble_eq_true rfl, Nat.le_of_ble_eq_true rfl⟩) hH (fun H locs hH => ?_)
  obtain ⟨h1, h2⟩ := Prod.mk.inj (Option.some.inj hf)
  subst h1
  subst h2
  exact mm_reti F hH hr hlocks rfl rfl dX13_runOn_12
/-! IslandHeap$Collect.runOn(LIslandHeap;)I -/
abbrev rm_X14_runOn : Room := { frames := 7, cells := 2, slots := 14, locals := 167 }
set_option maxHeartbeats 4000000 in
theorem m_X14_runOn (l : Launch) (G : mm_G) (h0 : Nat) (a1 : Nat) (σ : mm_M) (σf : mm_M) (rr : Int32) (hf : f_X14_runOn h0 a1 σ = some (rr, σf)) : Met l yX14_runOn (ws_ yX14_runOn cX14_runOn 2 ((Option.some .int))) rm_X14_runOn (mm_Pc G [.ref h0, .ref a1] σ) (mm_Qi G rr σf) 2 14 (mm_A G) := by
  refine mm_met (by decide) rfl rfl (by  exact Nat.le_of_ble_eq_true rfl) (fun p e s m below meth c ls F hH hr hlocks hname hl => ?_)
  have hl : lv_has ls 2 [(0, .ref h0), (1, .ref a1)] := by  exact hl
  have F : mm_F p s m _ c RX14 cX14_runOn 2 G := F
  have hx := F.1
  have hb := F.2.1
  have hml := F.2.2.1
  have hown := F.2.2.2.1
  have hts := F.2.2.2.2.1
  unfold f_X14_runOn at hf
  refine lv_aload_n hx hb dX14_runOn_0 rfl (lv_at hl 1 rfl) ?_
  replace hf := b1_i hf
  obtain ⟨u, e1, hf⟩ := hf
  obtain ⟨fs, ek⟩ := ck_i e1
  replace hf := b2_i hf
  obtain ⟨v1, σ2, e2, hf⟩ := hf
  refine mm_ci (va_runV (As := []) (rest := []) ⟨hx, hb, hml, hown, hts⟩ (m_X0_collect l G a1 σ σ2 v1 e2) (cwV 0 hts (lw_V q954 q577 q578 q62 q579) rfl rfl rfl (by decide +kernel) ⟨Nat.le_of_ble_eq_true rfl, Nat.le_of_ble_eq_true rfl⟩) (mm_preV F.2.2.2.2.2 hH (ci := 0) rfl ek) rfl rfl hl.1 rfl (lv_room (Nat.le_of_ble_eq_true rfl)) dX14_runOn_1 ⟨Nat.le_of_ble_eq_true rfl, Nat.le_of_ble_eq_true rfl⟩) hH (fun H locs hH => ?_)
  obtain ⟨h1, h2⟩ := Prod.mk.inj (Option.some.inj hf)
  subst h1
  subst h2
  exact mm_reti F hH hr hlocks rfl rfl dX14_runOn_4
/-! IslandHeap.isError(I)Z -/
abbrev rm_X0_isError : Room := { frames := 0, cells := 0, slots := 0, locals := 0 }
set_option maxHeartbeats 4000000 in
theorem m_X0_isError (l : Launch) (G : mm_G) (x0 : Int32) (σ : mm_M) (rr : Int32) (hf : f_X0_isError x0 σ = some rr) : Met l yX0_isError (ws_ yX0_isError cX0_isError 1 ((Option.some .boolean))) rm_X0_isError (mm_Pc G [.int x0] σ) (mm_Qi G rr σ) 0 0 (mm_A G) := by
  refine mm_met (by decide) rfl rfl (by  exact Nat.le_of_ble_eq_true rfl) (fun p e s m below meth c ls F hH hr hlocks hname hl => ?_)
  have hl : lv_has ls 1 [(0, .int x0)] := by  exact hl
  have F : mm_F p s m _ c RX0 cX0_isError 1 G := F
  have hx := F.1
  have hb := F.2.1
  have hml := F.2.2.1
  have hown := F.2.2.2.1
  have hts := F.2.2.2.2.1
  unfold f_X0_isError at hf
  refine lv_iload_n hx hb dX0_isError_0 rfl (lv_at hl 0 rfl) ?_
  refine lv_ldc (v := (-1000002)) hx hb hown (hts _ q219) dX0_isError_1 ?_
  refine lv_icmp_eq (tgt := 18) hx hb dX0_isError_3 (by decide) (fun c1 => ?_) (fun c1 => ?_)
  · rw [if_pos c1] at hf
    refine lv_iconst (v := 1) hx hb dX0_isError_18 (by decide) ?_
    refine lv_goto (tgt := 23) hx hb dX0_isError_19 (by decide) ?_
    have h1 := Option.some.inj hf
    subst h1
    exact mm_reti F hH hr hlocks rfl rfl dX0_isError_23
  · rw [if_neg c1] at hf
    refine lv_iload_n hx hb dX0_isError_6 rfl (lv_at hl 0 rfl) ?_
    refine lv_ldc (v := (-1000003)) hx hb hown (hts _ q555) dX0_isError_7 ?_
    refine lv_icmp_eq (tgt := 18) hx hb dX0_isError_9 (by decide) (fun c2 => ?_) (fun c2 => ?_)
    · rw [if_pos c2] at hf
      refine lv_iconst (v := 1) hx hb dX0_isError_18 (by decide) ?_
      refine lv_goto (tgt := 23) hx hb dX0_isError_19 (by decide) ?_
      have h1 := Option.some.inj hf
      subst h1
      exact mm_reti F hH hr hlocks rfl rfl dX0_isError_23
    · rw [if_neg c2] at hf
      refine lv_iload_n hx hb dX0_isError_12 rfl (lv_at hl 0 rfl) ?_
      refine lv_ldc (v := (-1000004)) hx hb hown (hts _ q717) dX0_isError_13 ?_
      refine lv_icmp_ne (tgt := 22) hx hb dX0_isError_15 (by decide) (fun c3 => ?_) (fun c3 => ?_)
      · rw [if_neg c3] at hf
        refine lv_iconst (v := 0) hx hb dX0_isError_22 (by decide) ?_
        have h1 := Option.some.inj hf
        subst h1
        exact mm_reti F hH hr hlocks rfl rfl dX0_isError_23
      · rw [if_pos c3] at hf
        refine lv_iconst (v := 1) hx hb dX0_isError_18 (by decide) ?_
        refine lv_goto (tgt := 23) hx hb dX0_isError_19 (by decide) ?_
        have h1 := Option.some.inj hf
        subst h1
        exact mm_reti F hH hr hlocks rfl rfl dX0_isError_23
/-! IslandHeap.refusal()I -/
abbrev rm_X0_refusal : Room := { frames := 0, cells := 0, slots := 0, locals := 0 }
set_option maxHeartbeats 4000000 in
theorem m_X0_refusal (l : Launch) (G : mm_G) (h0 : Nat) (σ : mm_M) (rr : Int32) (hf : f_X0_refusal h0 σ = some rr) : Met l yX0_refusal (ws_ yX0_refusal cX0_refusal 1 ((Option.some .int))) rm_X0_refusal (mm_Pc G [.ref h0] σ) (mm_Qi G rr σ) 0 0 (mm_A G) := by
  refine mm_met (by decide) rfl rfl (by  exact Nat.le_of_ble_eq_true rfl) (fun p e s m below meth c ls F hH hr hlocks hname hl => ?_)
  have hl : lv_has ls 1 [(0, .ref h0)] := by  exact hl
  have F : mm_F p s m _ c RX0 cX0_refusal 1 G := F
  have hx := F.1
  have hb := F.2.1
  have hml := F.2.2.1
  have hown := F.2.2.2.1
  have hts := F.2.2.2.2.1
  unfold f_X0_refusal at hf
  refine lv_aload_n hx hb dX0_refusal_0 rfl (lv_at hl 0 rfl) ?_
  replace hf := b1_i hf
  obtain ⟨v1, e1, hf⟩ := hf
  refine mm_getI F hH mc_0 (k := 4) (by decide) (hts _ q193) (fun _ h => h) e1 dX0_refusal_1 ?_
  have h1 := Option.some.inj hf
  subst h1
  exact mm_reti F hH hr hlocks rfl rfl dX0_refusal_4
/-! IslandHeap$Thing.copy()LIslandHeap$Thing; -/
abbrev rm_X3_copy : Room := { frames := 2, cells := 3, slots := 18, locals := 54 }
set_option maxHeartbeats 4000000 in
theorem m_X3_copy (l : Launch) (G : mm_G) (h0 : Nat) (σ : mm_M) (σf : mm_M) (rr : Nat) (hf : f_X3_copy h0 σ = some (rr, σf)) : Met l yX3_copy (ws_ yX3_copy cX3_copy 2 ((Option.some (.object "IslandHeap$Thing")))) rm_X3_copy (mm_Pc G [.ref h0] σ) (mm_Qq G (some rr) σf) 3 18 (mm_A G) := by
  refine mm_met (by decide) rfl rfl (by  exact Nat.le_of_ble_eq_true rfl) (fun p e s m below meth c ls F hH hr hlocks hname hl => ?_)
  have hl : lv_has ls 2 [(0, .ref h0)] := by  exact hl
  have F : mm_F p s m _ c RX3 cX3_copy 2 G := F
  have hx := F.1
  have hb := F.2.1
  have hml := F.2.2.1
  have hown := F.2.2.2.1
  have hts := F.2.2.2.2.1
  unfold f_X3_copy at hf
  replace hf := b2_i hf
  obtain ⟨q2, σ1, e1, hf⟩ := hf
  refine mm_new F hH mc_3 (hts _ q1002) (hts _ q245) (hts _ q68) (Nat.le_of_ble_eq_true rfl) (Nat.le_of_ble_eq_true rfl) e1 dX3_copy_0 (fun H hH => ?_)
  refine lv_dup hx hb dX3_copy_3 rfl ?_
  refine lv_aload_n hx hb dX3_copy_4 rfl (lv_at hl 0 rfl) ?_
  replace hf := b1_i hf
  obtain ⟨v3, e2, hf⟩ := hf
  refine mm_getI F hH mc_3 (k := 0) (by decide) (hts _ q250) (fun _ h => h) e2 dX3_copy_5 ?_
  refine lv_aload_n hx hb dX3_copy_8 rfl (lv_at hl 0 rfl) ?_
  replace hf := b1_i hf
  obtain ⟨q4, e3, hf⟩ := hf
  refine mm_getA F hH mc_3 (k := 1) (by decide) (hts _ q254) (fun _ h => h) e3 dX3_copy_9 ?_
  replace hf := b1_i hf
  obtain ⟨v5, e4, hf⟩ := hf
  refine mm_alen F hH e4 dX3_copy_12 ?_
  refine lv_aload_n hx hb dX3_copy_13 rfl (lv_at hl 0 rfl) ?_
  replace hf := b1_i hf
  obtain ⟨q6, e5, hf⟩ := hf
  refine mm_getA F hH mc_3 (k := 2) (by decide) (hts _ q260) (fun _ h => h) e5 dX3_copy_14 ?_
  replace hf := b1_i hf
  obtain ⟨v7, e6, hf⟩ := hf
  refine mm_alen F hH e6 dX3_copy_17 ?_
  replace hf := b1_i hf
  obtain ⟨σ8, e7, hf⟩ := hf
  refine mm_cv (va_runI (As := [.int v3, .int v5, .int v7]) (rest := [.ref q2]) ⟨hx, hb, hml, hown, hts⟩ (m_X3_init l G q2 v3 v5 v7 σ1 σ8 e7) (cwI 3 hts (lw_meth q248) rfl rfl rfl (hts _ q68) (hts _ q1003) (hts _ q247) rfl (by decide +kernel) ⟨Nat.le_of_ble_eq_true rfl, Nat.le_of_ble_eq_true rfl⟩) (mm_preS F.2.2.2.2.2 hH) rfl rfl hl.1 rfl (lv_room (Nat.le_of_ble_eq_true rfl)) dX3_copy_18 ⟨Nat.le_of_ble_eq_true rfl, Nat.le_of_ble_eq_true rfl⟩) hH (fun H locs hH => ?_)
  refine lv_astore_n (lv' := [(1, .ref q2), (0, .ref h0)]) hx hb dX3_copy_21 rfl hl (by decide) rfl (fun ls hl => ?_)
  refine lv_aload_n hx hb dX3_copy_22 rfl (lv_at hl 1 rfl) ?_
  replace hf := b1_i hf
  obtain ⟨q9, e8, hf⟩ := hf
  refine mm_getA F hH mc_3 (k := 1) (by decide) (hts _ q254) (fun _ h => h) e8 dX3_copy_23 ?_
  refine lv_iconst (v := 0) hx hb dX3_copy_26 (by decide) ?_
  refine lv_aload_n hx hb dX3_copy_27 rfl (lv_at hl 0 rfl) ?_
  replace hf := b1_i hf
  obtain ⟨q10, e9, hf⟩ := hf
  refine mm_getA F hH mc_3 (k := 1) (by decide) (hts _ q254) (fun _ h => h) e9 dX3_copy_28 ?_
  refine lv_iconst (v := 0) hx hb dX3_copy_31 (by decide) ?_
  refine lv_aload_n hx hb dX3_copy_32 rfl (lv_at hl 1 rfl) ?_
  replace hf := b1_i hf
  obtain ⟨q11, e10, hf⟩ := hf
  refine mm_getA F hH mc_3 (k := 1) (by decide) (hts _ q254) (fun _ h => h) e10 dX3_copy_33 ?_
  replace hf := b1_i hf
  obtain ⟨v12, e11, hf⟩ := hf
  refine mm_alen F hH e11 dX3_copy_36 ?_
  replace hf := b1_i hf
  obtain ⟨σ13, e12, hf⟩ := hf
  refine mm_copyI F hH (hml.trans hl.1.symm) (hts _ q1004) (hts _ q376) (hts _ q375) (hts _ q74) (Nat.le_of_ble_eq_true rfl) (by decide) e12 dX3_copy_37 (fun H locs hH => ?_)
  refine lv_aload_n hx hb dX3_copy_40 rfl (lv_at hl 1 rfl) ?_
  replace hf := b1_i hf
  obtain ⟨q14, e13, hf⟩ := hf
  refine mm_getA F hH mc_3 (k := 2) (by decide) (hts _ q260) (fun _ h => h) e13 dX3_copy_41 ?_
  refine lv_iconst (v := 0) hx hb dX3_copy_44 (by decide) ?_
  refine lv_aload_n hx hb dX3_copy_45 rfl (lv_at hl 0 rfl) ?_
  replace hf := b1_i hf
  obtain ⟨q15, e14, hf⟩ := hf
  refine mm_getA F hH mc_3 (k := 2) (by decide) (hts _ q260) (fun _ h => h) e14 dX3_copy_46 ?_
  refine lv_iconst (v := 0) hx hb dX3_copy_49 (by decide) ?_
  refine lv_aload_n hx hb dX3_copy_50 rfl (lv_at hl 1 rfl) ?_
  replace hf := b1_i hf
  obtain ⟨q16, e15, hf⟩ := hf
  refine mm_getA F hH mc_3 (k := 2) (by decide) (hts _ q260) (fun _ h => h) e15 dX3_copy_51 ?_
  replace hf := b1_i hf
  obtain ⟨v17, e16, hf⟩ := hf
  refine mm_alen F hH e16 dX3_copy_54 ?_
  replace hf := b1_i hf
  obtain ⟨σ18, e17, hf⟩ := hf
  refine mm_copyI F hH (hml.trans hl.1.symm) (hts _ q1004) (hts _ q376) (hts _ q375) (hts _ q74) (Nat.le_of_ble_eq_true rfl) (by decide) e17 dX3_copy_55 (fun H locs hH => ?_)
  refine lv_aload_n hx hb dX3_copy_58 rfl (lv_at hl 0 rfl) ?_
  refine lv_aload_n hx hb dX3_copy_59 rfl (lv_at hl 1 rfl) ?_
  replace hf := b1_i hf
  obtain ⟨v19, e18, hf⟩ := hf
  refine mm_getI F hH mc_3 (k := 3) (by decide) (hts _ q264) (fun _ h => h) e18 dX3_copy_60 ?_
  replace hf := b1_i hf
  obtain ⟨σ20, e19, hf⟩ := hf
  refine mm_put F hH mc_3 (k := 3) (v := vI v19) (by decide) (hts _ q264) (fun _ h => h) rfl (by rcases (pZ_i e19).1 with h | h <;> rw [h] <;> rfl) (by rcases (pZ_i e19).1 with h | h <;> rw [h] <;> rfl) (pZ_i e19).2 dX3_copy_63 (fun H locs hH => ?_)
  refine lv_aload_n hx hb dX3_copy_66 rfl (lv_at hl 0 rfl) ?_
  refine lv_aload_n hx hb dX3_copy_67 rfl (lv_at hl 1 rfl) ?_
  replace hf := b1_i hf
  obtain ⟨v21, e20, hf⟩ := hf
  refine mm_getI F hH mc_3 (k := 4) (by decide) (hts _ q270) (fun _ h => h) e20 dX3_copy_68 ?_
  replace hf := b1_i hf
  obtain ⟨σ22, e21, hf⟩ := hf
  refine mm_put F hH mc_3 (k := 4) (v := vI v21) (by decide) (hts _ q270) (fun _ h => h) rfl rfl rfl e21 dX3_copy_71 (fun H locs hH => ?_)
  refine lv_aload_n hx hb dX3_copy_74 rfl (lv_at hl 0 rfl) ?_
  obtain ⟨h1, h2⟩ := Prod.mk.inj (Option.some.inj hf)
  subst h1
  subst h2
  exact mm_retq (v := some q2) F hH hr hlocks (Or.inl ⟨_, rfl⟩) rfl dX3_copy_75
/-! IslandHeap$Heap.<init>(LIslandHeap$Heap;)V -/
abbrev rm_X1_init_2 : Room := { frames := 7, cells := 900, slots := 55000, locals := 161 }
set_option maxHeartbeats 4000000 in
theorem w_X1_init_2_14 {p : Program} {l : Launch} {e : Env} {s : State} {m : MethodId} {av : Array Value} {below : List Frame} {meth : Method} {c : Code} {G : mm_G} {σf : mm_M} {n : Nat} {h0 : Nat} {a1 : Nat} (F : mm_F p s m av c RX1 cX1_init_2 3 G) (hr : meth.sig.returnType = (Option.none : Option Jvm.ClassFile.FieldType)) (hlocks : meth.locks = false) (hname : meth.name = yX1_init_2.name) (IH14 : ∀ (x2 : Int32) (cn cs : Nat) (σ : mm_M) (H : Heap) (locs : List Loc) (ls : Array Slot), mm_H G s σ H locs → lv_has ls 3 [(0, .ref h0), (1, .ref a1), (2, .int x2)] → itn (s_X1_init_2 h0 a1) n (x2, cn, cs, σ) = some σf → W p l e rm_X1_init_2 s m av below meth c H locs cn cs (MQ below (mm_Qv G σf) av s 900 55000 (mm_A G)) (F0 m 14 ls []))  (x2 : Int32)  (cn cs : Nat) (σ : mm_M) (hf : evn (s_X1_init_2 h0 a1) n (g_X1_init_2_14 h0 a1 x2 cn cs σ) = some σf) {H : Heap} {locs : List Loc} {ls : Array Slot} (hH : mm_H G s σ H locs) (hl : lv_has ls 3 [(0, .ref h0), (1, .ref a1), (2, .int x2)]) : W p l e rm_X1_init_2 s m av below meth c H locs cn cs (MQ below (mm_Qv G σf) av s 900 55000 (mm_A G)) (F0 m 14 ls []) := by
  have hx := F.1
  have hb := F.2.1
  have hml := F.2.2.1
  have hown := F.2.2.2.1
  have hts := F.2.2.2.2.1
  unfold g_X1_init_2_14 at hf
  replace hf := evn_b1 hf
  obtain ⟨u, e0, hf⟩ := hf
  have hg := grd_i e0
  refine lv_iload_n hx hb dX1_init_2_14 rfl (lv_at hl 2 rfl) ?_
  refine lv_aload_n hx hb dX1_init_2_15 rfl (lv_at hl 1 rfl) ?_
  replace hf := evn_b1 hf
  obtain ⟨q1, e1, hf⟩ := hf
  refine mm_getA F hH mc_1 (k := 2) (by decide) (hts _ q136) (fun _ h => h) e1 dX1_init_2_16 ?_
  replace hf := evn_b1 hf
  obtain ⟨u, e2, hf⟩ := hf
  obtain ⟨fs, ek⟩ := ck_i e2
  replace hf := evn_b1 hf
  obtain ⟨v2, e3, hf⟩ := hf
  refine mm_ci (va_runV (As := []) (rest := [.int x2]) ⟨hx, hb, hml, hown, hts⟩ (m_J2_size l G q1 σ v2 e3) (cwV 0 hts (lw_V q290 q291 q292 q66 q293) rfl rfl rfl (by decide +kernel) ⟨Nat.le_of_ble_eq_true rfl, Nat.le_of_ble_eq_true rfl⟩) (mm_preV F.2.2.2.2.2 hH (ci := 15) rfl ek) rfl rfl hl.1 rfl (lv_room (Nat.le_of_ble_eq_true rfl)) dX1_init_2_19 hg) hH (fun H locs hH => ?_)
  refine lv_icmp_ge (tgt := 53) hx hb dX1_init_2_22 (by decide) (fun c3 => ?_) (fun c3 => ?_)
  · rw [if_pos c3] at hf
    refine lv_aload_n hx hb dX1_init_2_53 rfl (lv_at hl 0 rfl) ?_
    replace hf := evn_b1 hf
    obtain ⟨u, e4, hf⟩ := hf
    obtain ⟨fs, ek⟩ := ck_i e4
    replace hf := evn_b1 hf
    obtain ⟨σ4, e5, hf⟩ := hf
    refine mm_cv (va_runV (As := []) (rest := []) ⟨hx, hb, hml, hown, hts⟩ (m_X1_occupy l G h0 σ σ4 e5) (cwV 0 hts (lw_V q636 q638 qs15 q63 q639) rfl rfl rfl (by decide +kernel) ⟨Nat.le_of_ble_eq_true rfl, Nat.le_of_ble_eq_true rfl⟩) (mm_preV F.2.2.2.2.2 hH (ci := 1) rfl ek) rfl rfl hl.1 rfl (lv_room (Nat.le_of_ble_eq_true rfl)) dX1_init_2_54 hg) hH (fun H locs hH => ?_)
    refine lv_aload_n hx hb dX1_init_2_57 rfl (lv_at hl 1 rfl) ?_
    replace hf := evn_b1 hf
    obtain ⟨q5, e6, hf⟩ := hf
    refine mm_getA F hH mc_1 (k := 4) (by decide) (hts _ q142) (fun _ h => h) e6 dX1_init_2_58 ?_
    refine lv_iconst (v := 0) hx hb dX1_init_2_61 (by decide) ?_
    refine lv_aload_n hx hb dX1_init_2_62 rfl (lv_at hl 0 rfl) ?_
    replace hf := evn_b1 hf
    obtain ⟨q6, e7, hf⟩ := hf
    refine mm_getA F hH mc_1 (k := 4) (by decide) (hts _ q142) (fun _ h => h) e7 dX1_init_2_63 ?_
    refine lv_iconst (v := 0) hx hb dX1_init_2_66 (by decide) ?_
    refine lv_bipush (v := 6) hx hb dX1_init_2_67 (by decide) ?_
    replace hf := evn_b1 hf
    obtain ⟨σ7, e8, hf⟩ := hf
    refine mm_copyI F hH (hml.trans hl.1.symm) (hts _ q1006) (hts _ q376) (hts _ q375) (hts _ q74) (Nat.le_of_ble_eq_true rfl) (by decide) e8 dX1_init_2_69 (fun H locs hH => ?_)
    refine lv_aload_n hx hb dX1_init_2_72 rfl (lv_at hl 1 rfl) ?_
    replace hf := evn_b1 hf
    obtain ⟨q8, e9, hf⟩ := hf
    refine mm_getA F hH mc_1 (k := 5) (by decide) (hts _ q146) (fun _ h => h) e9 dX1_init_2_73 ?_
    refine lv_iconst (v := 0) hx hb dX1_init_2_76 (by decide) ?_
    refine lv_aload_n hx hb dX1_init_2_77 rfl (lv_at hl 0 rfl) ?_
    replace hf := evn_b1 hf
    obtain ⟨q9, e10, hf⟩ := hf
    refine mm_getA F hH mc_1 (k := 5) (by decide) (hts _ q146) (fun _ h => h) e10 dX1_init_2_78 ?_
    refine lv_iconst (v := 0) hx hb dX1_init_2_81 (by decide) ?_
    refine lv_iconst (v := 4) hx hb dX1_init_2_82 (by decide) ?_
    replace hf := evn_b1 hf
    obtain ⟨σ10, e11, hf⟩ := hf
    refine mm_copyI F hH (hml.trans hl.1.symm) (hts _ q1006) (hts _ q376) (hts _ q375) (hts _ q74) (Nat.le_of_ble_eq_true rfl) (by decide) e11 dX1_init_2_83 (fun H locs hH => ?_)
    refine lv_aload_n hx hb dX1_init_2_86 rfl (lv_at hl 0 rfl) ?_
    refine lv_aload_n hx hb dX1_init_2_87 rfl (lv_at hl 1 rfl) ?_
    replace hf := evn_b1 hf
    obtain ⟨v11, e12, hf⟩ := hf
    refine mm_getI F hH mc_1 (k := 6) (by decide) (hts _ q148) (fun _ h => h) e12 dX1_init_2_88 ?_
    replace hf := evn_b1 hf
    obtain ⟨σ12, e13, hf⟩ := hf
    refine mm_put F hH mc_1 (k := 6) (v := vI v11) (by decide) (hts _ q148) (fun _ h => h) rfl rfl rfl e13 dX1_init_2_91 (fun H locs hH => ?_)
    refine lv_aload_n hx hb dX1_init_2_94 rfl (lv_at hl 0 rfl) ?_
    refine lv_aload_n hx hb dX1_init_2_95 rfl (lv_at hl 1 rfl) ?_
    replace hf := evn_b1 hf
    obtain ⟨v13, e14, hf⟩ := hf
    refine mm_getI F hH mc_1 (k := 7) (by decide) (hts _ q150) (fun _ h => h) e14 dX1_init_2_96 ?_
    replace hf := evn_b1 hf
    obtain ⟨σ14, e15, hf⟩ := hf
    refine mm_put F hH mc_1 (k := 7) (v := vI v13) (by decide) (hts _ q150) (fun _ h => h) rfl rfl rfl e15 dX1_init_2_99 (fun H locs hH => ?_)
    refine lv_aload_n hx hb dX1_init_2_102 rfl (lv_at hl 0 rfl) ?_
    refine lv_aload_n hx hb dX1_init_2_103 rfl (lv_at hl 1 rfl) ?_
    replace hf := evn_b1 hf
    obtain ⟨v15, e16, hf⟩ := hf
    refine mm_getI F hH mc_1 (k := 8) (by decide) (hts _ q152) (fun _ h => h) e16 dX1_init_2_104 ?_
    replace hf := evn_b1 hf
    obtain ⟨σ16, e17, hf⟩ := hf
    refine mm_put F hH mc_1 (k := 8) (v := vI v15) (by decide) (hts _ q152) (fun _ h => h) rfl rfl rfl e17 dX1_init_2_107 (fun H locs hH => ?_)
    refine lv_aload_n hx hb dX1_init_2_110 rfl (lv_at hl 0 rfl) ?_
    refine lv_aload_n hx hb dX1_init_2_111 rfl (lv_at hl 1 rfl) ?_
    replace hf := evn_b1 hf
    obtain ⟨p17, e18, hf⟩ := hf
    refine mm_getR F hH mc_1 (k := 9) (by decide) (hts _ q154) (fun _ h => h) e18 dX1_init_2_112 ?_
    replace hf := evn_b1 hf
    obtain ⟨σ18, e19, hf⟩ := hf
    refine mm_put F hH mc_1 (k := 9) (v := vR p17) (by decide) (hts _ q154) (fun _ h => h) rfl rfl (mm_fitR p17 ⟨rfl, fun _ => rfl⟩) e19 dX1_init_2_115 (fun H locs hH => ?_)
    refine lv_aload_n hx hb dX1_init_2_118 rfl (lv_at hl 1 rfl) ?_
    replace hf := evn_b1 hf
    obtain ⟨q19, e20, hf⟩ := hf
    refine mm_getA F hH mc_1 (k := 10) (by decide) (hts _ q156) (fun _ h => h) e20 dX1_init_2_119 ?_
    refine lv_iconst (v := 0) hx hb dX1_init_2_122 (by decide) ?_
    refine lv_aload_n hx hb dX1_init_2_123 rfl (lv_at hl 0 rfl) ?_
    replace hf := evn_b1 hf
    obtain ⟨q20, e21, hf⟩ := hf
    refine mm_getA F hH mc_1 (k := 10) (by decide) (hts _ q156) (fun _ h => h) e21 dX1_init_2_124 ?_
    refine lv_iconst (v := 0) hx hb dX1_init_2_127 (by decide) ?_
    refine lv_sipush (v := 200) hx hb dX1_init_2_128 (by decide) ?_
    replace hf := evn_b1 hf
    obtain ⟨σ21, e22, hf⟩ := hf
    refine mm_copyI F hH (hml.trans hl.1.symm) (hts _ q1006) (hts _ q376) (hts _ q375) (hts _ q74) (Nat.le_of_ble_eq_true rfl) (by decide) e22 dX1_init_2_131 (fun H locs hH => ?_)
    rw [evn_r] at hf
    have h1 := Option.some.inj hf
    subst h1
    refine W.widen (k := 900) (n := 55000) hg.1 hg.2 ?_
    exact mm_retv F hH hr hlocks dX1_init_2_134
  · rw [if_neg c3] at hf
    refine lv_aload_n hx hb dX1_init_2_25 rfl (lv_at hl 0 rfl) ?_
    replace hf := evn_b1 hf
    obtain ⟨q22, e23, hf⟩ := hf
    refine mm_getA F hH mc_1 (k := 2) (by decide) (hts _ q136) (fun _ h => h) e23 dX1_init_2_26 ?_
    refine lv_aload_n hx hb dX1_init_2_29 rfl (lv_at hl 1 rfl) ?_
    replace hf := evn_b1 hf
    obtain ⟨q23, e24, hf⟩ := hf
    refine mm_getA F hH mc_1 (k := 2) (by decide) (hts _ q136) (fun _ h => h) e24 dX1_init_2_30 ?_
    refine lv_iload_n hx hb dX1_init_2_33 rfl (lv_at hl 2 rfl) ?_
    replace hf := evn_b1 hf
    obtain ⟨u, e25, hf⟩ := hf
    obtain ⟨fs, ek⟩ := ck_i e25
    replace hf := evn_b1 hf
    obtain ⟨p24, e26, hf⟩ := hf
    refine mm_cq (va_runV (As := [.int x2]) (rest := [.ref q22]) ⟨hx, hb, hml, hown, hts⟩ (m_J2_get l G q23 x2 σ p24 e26) (cwV 1 hts (lw_V q294 q295 q296 q66 q297) rfl rfl rfl (by decide +kernel) ⟨Nat.le_of_ble_eq_true rfl, Nat.le_of_ble_eq_true rfl⟩) (mm_preV F.2.2.2.2.2 hH (ci := 15) rfl ek) rfl rfl hl.1 rfl (lv_room (Nat.le_of_ble_eq_true rfl)) dX1_init_2_34 hg) hH (fun H locs hH => ?_)
    replace hf := evn_b1 hf
    obtain ⟨q25, e27, hf⟩ := hf
    subst e27
    replace hf := evn_b1 hf
    obtain ⟨u, e28, hf⟩ := hf
    refine mm_cast F hH mc_3 (hts _ q130) e28 dX1_init_2_37 ?_
    replace hf := evn_b1 hf
    obtain ⟨u, e29, hf⟩ := hf
    obtain ⟨fs, ek⟩ := ck_i e29
    replace hf := evn_b1 hf
    obtain ⟨u, e30, hf⟩ := hf
    have hg := grd_i e30
    replace hf := evn_b2 hf
    obtain ⟨q26, σ27, e31, hf⟩ := hf
    refine mm_cq (va_runV (As := []) (rest := [.ref q22]) ⟨hx, hb, hml, hown, hts⟩ (m_X3_copy l G q25 σ σ27 q26 e31) (cwV 0 hts (lw_V q998 q999 q1000 q68 q1001) rfl rfl rfl (by decide +kernel) ⟨Nat.le_of_ble_eq_true rfl, Nat.le_of_ble_eq_true rfl⟩) (mm_preV F.2.2.2.2.2 hH (ci := 3) rfl ek) rfl rfl hl.1 rfl (lv_room (Nat.le_of_ble_eq_true rfl)) dX1_init_2_40 hg) hH (fun H locs hH => ?_)
    replace hf := evn_b1 hf
    obtain ⟨u, e32, hf⟩ := hf
    obtain ⟨fs, ek⟩ := ck_i e32
    replace hf := evn_b1 hf
    obtain ⟨u, e33, hf⟩ := hf
    have hg := grd_i e33
    replace hf := evn_b2 hf
    obtain ⟨v28, σ29, e34, hf⟩ := hf
    refine mm_ci (va_runV (As := [.ref q26]) (rest := []) ⟨hx, hb, hml, hown, hts⟩ (m_J2_add_2 l G q22 q26 σ27 σ29 v28 e34) (cwV 1 hts (lw_V q1005 q925 q926 q66 q927) rfl rfl rfl (by decide +kernel) ⟨Nat.le_of_ble_eq_true rfl, Nat.le_of_ble_eq_true rfl⟩) (mm_preV F.2.2.2.2.2 hH (ci := 15) rfl ek) rfl rfl hl.1 rfl (lv_room (Nat.le_of_ble_eq_true rfl)) dX1_init_2_43 hg) hH (fun H locs hH => ?_)
    refine lv_pop hx hb dX1_init_2_46 rfl ?_
    refine lv_iinc (v := x2 + (1 : Int32)) (lv' := [(2, .int (x2 + (1 : Int32))), (0, .ref h0), (1, .ref a1)]) hx hb dX1_init_2_47 hl (k := 2) rfl rfl (by decide) rfl (fun ls hl => ?_)
    refine lv_goto (tgt := 14) hx hb dX1_init_2_50 (by decide) ?_
    rw [evn_l] at hf
    exact IH14 (x2 + (1 : Int32)) ((cn + 3) + 1) ((cs + 18) + 250) σ29 _ _ _ hH (lv_sub hl [1, 2, 0] rfl) hf
set_option maxHeartbeats 4000000 in
theorem w_X1_init_2_0 {p : Program} {l : Launch} {e : Env} {s : State} {m : MethodId} {av : Array Value} {below : List Frame} {meth : Method} {c : Code} {G : mm_G} {σf : mm_M} {n : Nat} {h0 : Nat} {a1 : Nat} (F : mm_F p s m av c RX1 cX1_init_2 3 G) (hr : meth.sig.returnType = (Option.none : Option Jvm.ClassFile.FieldType)) (hlocks : meth.locks = false) (hname : meth.name = yX1_init_2.name) (IH14 : ∀ (x2 : Int32) (cn cs : Nat) (σ : mm_M) (H : Heap) (locs : List Loc) (ls : Array Slot), mm_H G s σ H locs → lv_has ls 3 [(0, .ref h0), (1, .ref a1), (2, .int x2)] → itn (s_X1_init_2 h0 a1) n (x2, cn, cs, σ) = some σf → W p l e rm_X1_init_2 s m av below meth c H locs cn cs (MQ below (mm_Qv G σf) av s 900 55000 (mm_A G)) (F0 m 14 ls []))    (σ : mm_M) (hf : evn (s_X1_init_2 h0 a1) n (g_X1_init_2_0 h0 a1 σ) = some σf) {H : Heap} {locs : List Loc} {ls : Array Slot} (hH : mm_H G s σ H locs) (hl : lv_has ls 3 [(0, .ref h0), (1, .ref a1)]) : W p l e rm_X1_init_2 s m av below meth c H locs 0 0 (MQ below (mm_Qv G σf) av s 900 55000 (mm_A G)) (F0 m 0 ls []) := by
  have hx := F.1
  have hb := F.2.1
  have hml := F.2.2.1
  have hown := F.2.2.2.1
  have hts := F.2.2.2.2.1
  unfold g_X1_init_2_0 at hf
  have hg : 0 ≤ 900 ∧ 0 ≤ 55000 := ⟨Nat.zero_le _, Nat.zero_le _⟩
  refine lv_aload_n hx hb dX1_init_2_0 rfl (lv_at hl 0 rfl) ?_
  refine lv_aload_n hx hb dX1_init_2_1 rfl (lv_at hl 1 rfl) ?_
  replace hf := evn_b1 hf
  obtain ⟨v1, e1, hf⟩ := hf
  refine mm_getI F hH mc_1 (k := 0) (by decide) (hts _ q132) (fun _ h => h) e1 dX1_init_2_2 ?_
  refine lv_aload_n hx hb dX1_init_2_5 rfl (lv_at hl 1 rfl) ?_
  replace hf := evn_b1 hf
  obtain ⟨v2, e2, hf⟩ := hf
  refine mm_getI F hH mc_1 (k := 1) (by decide) (hts _ q134) (fun _ h => h) e2 dX1_init_2_6 ?_
  replace hf := evn_b1 hf
  obtain ⟨u, e3, hf⟩ := hf
  have hg := grd_i e3
  replace hf := evn_b1 hf
  obtain ⟨σ3, e4, hf⟩ := hf
  refine mm_cv (va_runI (As := [.int v1, .int v2]) (rest := []) ⟨hx, hb, hml, hown, hts⟩ (m_X1_init l G h0 v1 v2 σ σ3 e4) (cwI 2 hts (lw_meth q102) rfl rfl rfl (hts _ q63) (hts _ q997) (hts _ q101) rfl (by decide +kernel) ⟨Nat.le_of_ble_eq_true rfl, Nat.le_of_ble_eq_true rfl⟩) (mm_preS F.2.2.2.2.2 hH) rfl rfl hl.1 rfl (lv_room (Nat.le_of_ble_eq_true rfl)) dX1_init_2_9 hg) hH (fun H locs hH => ?_)
  refine lv_iconst (v := 0) hx hb dX1_init_2_12 (by decide) ?_
  refine lv_istore_n (lv' := [(2, .int (0 : Int32)), (0, .ref h0), (1, .ref a1)]) hx hb dX1_init_2_13 rfl hl (by decide) rfl (fun ls hl => ?_)
  rw [evn_l] at hf
  exact IH14 (0 : Int32) (0 + 5) (0 + 413) σ3 _ _ _ hH (lv_sub hl [1, 2, 0] rfl) hf
set_option maxHeartbeats 4000000 in
theorem l_X1_init_2 {p : Program} {l : Launch} {e : Env} {s : State} {m : MethodId} {av : Array Value} {below : List Frame} {meth : Method} {c : Code} {G : mm_G} {σf : mm_M} {h0 : Nat} {a1 : Nat} (F : mm_F p s m av c RX1 cX1_init_2 3 G) (hr : meth.sig.returnType = (Option.none : Option Jvm.ClassFile.FieldType)) (hlocks : meth.locks = false) (hname : meth.name = yX1_init_2.name) : ∀ n : Nat, (∀ (x2 : Int32) (cn cs : Nat) (σ : mm_M) (H : Heap) (locs : List Loc) (ls : Array Slot), mm_H G s σ H locs → lv_has ls 3 [(0, .ref h0), (1, .ref a1), (2, .int x2)] → itn (s_X1_init_2 h0 a1) n (x2, cn, cs, σ) = some σf → W p l e rm_X1_init_2 s m av below meth c H locs cn cs (MQ below (mm_Qv G σf) av s 900 55000 (mm_A G)) (F0 m 14 ls [])) := by
  intro n
  induction n with
  | zero =>
    exact fun x2 cn cs σ H locs ls hH hl hf => by cases hf
  | succ n ih =>
    have IH14 := ih
    intro x2 cn cs σ H locs ls hH hl hf
    rw [itn_s] at hf
    exact w_X1_init_2_14 F hr hlocks hname IH14 x2 cn cs σ hf hH hl
set_option maxHeartbeats 4000000 in
theorem m_X1_init_2 (l : Launch) (G : mm_G) (h0 : Nat) (a1 : Nat) (σ : mm_M) (σf : mm_M) (hf : f_X1_init_2 h0 a1 σ = some σf) : Met l yX1_init_2 (ws_ yX1_init_2 cX1_init_2 3 ((Option.none : Option Jvm.ClassFile.FieldType))) rm_X1_init_2 (mm_Pc G [.ref h0, .ref a1] σ) (mm_Qv G σf) 900 55000 (mm_A G) := by
  refine mm_met (by decide) rfl rfl (by  exact Nat.le_of_ble_eq_true rfl) (fun p e s m below meth c ls F hH hr hlocks hname hl => ?_)
  have hl : lv_has ls 3 [(0, .ref h0), (1, .ref a1)] := by  exact hl
  have F : mm_F p s m _ c RX1 cX1_init_2 3 G := F
  unfold f_X1_init_2 at hf
  obtain ⟨n, hf⟩ := lgo_i hf
  have IH := l_X1_init_2 (l := l) (e := e) (below := below) (σf := σf) (h0 := h0) (a1 := a1) F hr hlocks hname n
  exact w_X1_init_2_0 F hr hlocks hname IH σ hf hH (lv_sub hl [0, 1] rfl)
/-! IslandHeap.save(I)I -/
abbrev rm_X0_save : Room := { frames := 8, cells := 901, slots := 55011, locals := 183 }
set_option maxHeartbeats 4000000 in
theorem m_X0_save (l : Launch) (G : mm_G) (h0 : Nat) (x1 : Int32) (σ : mm_M) (σf : mm_M) (rr : Int32) (hf : f_X0_save h0 x1 σ = some (rr, σf)) : Met l yX0_save (ws_ yX0_save cX0_save 2 ((Option.some .int))) rm_X0_save (mm_Pc G [.ref h0, .int x1] σ) (mm_Qi G rr σf) 901 55011 (mm_A G) := by
  refine mm_met (by decide) rfl rfl (by  exact Nat.le_of_ble_eq_true rfl) (fun p e s m below meth c ls F hH hr hlocks hname hl => ?_)
  have hl : lv_has ls 2 [(0, .ref h0), (1, .int x1)] := by  exact hl
  have F : mm_F p s m _ c RX0 cX0_save 2 G := F
  have hx := F.1
  have hb := F.2.1
  have hml := F.2.2.1
  have hown := F.2.2.2.1
  have hts := F.2.2.2.2.1
  unfold f_X0_save at hf
  refine lv_iload_n hx hb dX0_save_0 rfl (lv_at hl 1 rfl) ?_
  refine lv_iconst (v := 0) hx hb dX0_save_1 (by decide) ?_
  refine lv_iconst (v := 1) hx hb dX0_save_2 (by decide) ?_
  replace hf := b1_i hf
  obtain ⟨v1, e1, hf⟩ := hf
  refine mm_ci (va_runS (As := [.int x1, .int (0 : Int32), .int (1 : Int32)]) (rest := []) ⟨hx, hb, hml, hown, hts⟩ (m_X0_isIn l G x1 (0 : Int32) (1 : Int32) σ v1 e1) (va_cwS 3 hts (lw_S q216 q217 q62 q218) rfl rfl rfl (by decide +kernel) ⟨Nat.le_of_ble_eq_true rfl, Nat.le_of_ble_eq_true rfl⟩) (mm_preS F.2.2.2.2.2 hH) rfl rfl hl.1 rfl (lv_room (Nat.le_of_ble_eq_true rfl)) dX0_save_3 ⟨Nat.le_of_ble_eq_true rfl, Nat.le_of_ble_eq_true rfl⟩) hH (fun H locs hH => ?_)
  refine lv_if_ne (tgt := 12) hx hb dX0_save_6 (by decide) (fun c2 => ?_) (fun c2 => ?_)
  · rw [if_neg c2] at hf
    refine lv_aload_n hx hb dX0_save_12 rfl (lv_at hl 0 rfl) ?_
    replace hf := b1_i hf
    obtain ⟨q3, e2, hf⟩ := hf
    refine mm_getA F hH mc_0 (k := 5) (by decide) (hts _ q194) (fun _ h => h) e2 dX0_save_13 ?_
    refine lv_iload_n hx hb dX0_save_16 rfl (lv_at hl 1 rfl) ?_
    replace hf := b2_i hf
    obtain ⟨q5, σ4, e3, hf⟩ := hf
    refine mm_new F hH mc_1 (hts _ q98) (hts _ q99) (hts _ q63) (Nat.le_of_ble_eq_true rfl) (Nat.le_of_ble_eq_true rfl) e3 dX0_save_17 (fun H hH => ?_)
    refine lv_dup hx hb dX0_save_20 rfl ?_
    refine lv_aload_n hx hb dX0_save_21 rfl (lv_at hl 0 rfl) ?_
    replace hf := b1_i hf
    obtain ⟨q6, e4, hf⟩ := hf
    refine mm_getA F hH mc_0 (k := 0) (by decide) (hts _ q185) (fun _ h => h) e4 dX0_save_22 ?_
    replace hf := b1_i hf
    obtain ⟨σ7, e5, hf⟩ := hf
    refine mm_cv (va_runI (As := [.ref q6]) (rest := [.ref q5, .int x1, .ref q3]) ⟨hx, hb, hml, hown, hts⟩ (m_X1_init_2 l G q5 q6 σ4 σ7 e5) (cwI 1 hts (lw_meth q996) rfl rfl rfl (hts _ q63) (hts _ q994) (hts _ q995) rfl (by decide +kernel) ⟨Nat.le_of_ble_eq_true rfl, Nat.le_of_ble_eq_true rfl⟩) (mm_preS F.2.2.2.2.2 hH) rfl rfl hl.1 rfl (lv_room (Nat.le_of_ble_eq_true rfl)) dX0_save_25 ⟨Nat.le_of_ble_eq_true rfl, Nat.le_of_ble_eq_true rfl⟩) hH (fun H locs hH => ?_)
    replace hf := b1_i hf
    obtain ⟨σ8, e6, hf⟩ := hf
    refine mm_aast F hH (k := 4) (by decide) e6 dX0_save_28 (fun H locs hH => ?_)
    refine lv_aload_n hx hb dX0_save_29 rfl (lv_at hl 0 rfl) ?_
    replace hf := b1_i hf
    obtain ⟨q9, e7, hf⟩ := hf
    refine mm_getA F hH mc_0 (k := 0) (by decide) (hts _ q185) (fun _ h => h) e7 dX0_save_30 ?_
    replace hf := b1_i hf
    obtain ⟨q10, e8, hf⟩ := hf
    refine mm_getAN F hH mc_1 (k := 2) (by decide) q139 (fun _ h => h) e8 dX0_save_33 ?_
    replace hf := b1_i hf
    obtain ⟨u, e9, hf⟩ := hf
    obtain ⟨fs, ek⟩ := ck_i e9
    replace hf := b1_i hf
    obtain ⟨v11, e10, hf⟩ := hf
    refine mm_ci (va_runV (As := []) (rest := []) ⟨hx, hb, hml, hown, hts⟩ (m_J2_size l G q10 σ8 v11 e10) (cwV 0 hts (lw_V q661 q291 q292 q66 q293) rfl rfl rfl (by decide +kernel) ⟨Nat.le_of_ble_eq_true rfl, Nat.le_of_ble_eq_true rfl⟩) (mm_preV F.2.2.2.2.2 hH (ci := 15) rfl ek) rfl rfl hl.1 rfl (lv_room (Nat.le_of_ble_eq_true rfl)) dX0_save_36 ⟨Nat.le_of_ble_eq_true rfl, Nat.le_of_ble_eq_true rfl⟩) hH (fun H locs hH => ?_)
    obtain ⟨h1, h2⟩ := Prod.mk.inj (Option.some.inj hf)
    subst h1
    subst h2
    exact mm_reti F hH hr hlocks rfl rfl dX0_save_39
  · rw [if_pos c2] at hf
    refine lv_ldc (v := (-1000002)) hx hb hown (hts _ q219) dX0_save_9 ?_
    obtain ⟨h1, h2⟩ := Prod.mk.inj (Option.some.inj hf)
    subst h1
    subst h2
    refine W.widen (k := 901) (n := 55011) (Nat.le_of_ble_eq_true rfl) (Nat.le_of_ble_eq_true rfl) ?_
    exact mm_reti F hH hr hlocks rfl rfl dX0_save_11
