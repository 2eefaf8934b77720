/-! WALKS -/
set_option maxRecDepth 100000
/-! IslandHeap.restore(I)I -/
abbrev rm_X0_restore : Room := { frames := 8, cells := 901, slots := 55011, locals := 183 }
set_option maxHeartbeats 4000000 in
theorem m_X0_restore (l : Launch) (G : mm_G) (h0 : Nat) (x1 : Int32) (σ : mm_M) (σf : mm_M) (rr : Int32) (hf : f_X0_restore h0 x1 σ = some (rr, σf)) : Met l yX0_restore (ws_ yX0_restore cX0_restore 2 ((Option.some .int))) rm_X0_restore (mm_Pc G [.ref h0, .int x1] σ) (mm_Qi G rr σf) 901 55011 (mm_A G) := by
  refine mm_met (by decide) rfl rfl (by  exact Nat.le_of_ble_eq_true rfl) (fun p e s m below meth c ls F hH hr hlocks hname hl => ?_)
  have hl : lv_has ls 2 [(0, .ref h0), (1, .int x1)] := by  exact hl
  have F : mm_F p s m _ c RX0 cX0_restore 2 G := F
  have hx := F.1
  have hb := F.2.1
  have hml := F.2.2.1
  have hown := F.2.2.2.1
  have hts := F.2.2.2.2.1
  unfold f_X0_restore at hf
  refine lv_iload_n hx hb dX0_restore_0 rfl (lv_at hl 1 rfl) ?_
  refine lv_iconst (v := 0) hx hb dX0_restore_1 (by decide) ?_
  refine lv_iconst (v := 1) hx hb dX0_restore_2 (by decide) ?_
  replace hf := b1_i hf
  obtain ⟨v1, e1, hf⟩ := hf
  refine mm_ci (va_runS (As := [.int x1, .int (0 : Int32), .int (1 : Int32)]) (rest := []) ⟨hx, hb, hml, hown, hts⟩ (m_X0_isIn l G x1 (0 : Int32) (1 : Int32) σ v1 e1) (va_cwS 3 hts (lw_S q216 q217 q62 q218) rfl rfl rfl (by decide +kernel) ⟨Nat.le_of_ble_eq_true rfl, Nat.le_of_ble_eq_true rfl⟩) (mm_preS F.2.2.2.2.2 hH) rfl rfl hl.1 rfl (lv_room (Nat.le_of_ble_eq_true rfl)) dX0_restore_3 ⟨Nat.le_of_ble_eq_true rfl, Nat.le_of_ble_eq_true rfl⟩) hH (fun H locs hH => ?_)
  refine lv_if_ne (tgt := 12) hx hb dX0_restore_6 (by decide) (fun c2 => ?_) (fun c2 => ?_)
  · rw [if_neg c2] at hf
    refine lv_aload_n hx hb dX0_restore_12 rfl (lv_at hl 0 rfl) ?_
    replace hf := b1_i hf
    obtain ⟨q3, e2, hf⟩ := hf
    refine mm_getA F hH mc_0 (k := 5) (by decide) (hts _ q194) (fun _ h => h) e2 dX0_restore_13 ?_
    refine lv_iload_n hx hb dX0_restore_16 rfl (lv_at hl 1 rfl) ?_
    replace hf := b1_i hf
    obtain ⟨p4, e3, hf⟩ := hf
    refine mm_aald F hH (k := 4) (by decide) e3 dX0_restore_17 ?_
    cases p4 with
    | none =>
      rw [mt_n] at hf
      refine lv_ifnonnullN hx hb dX0_restore_18 ?_
      refine lv_ldc (v := (-1000003)) hx hb hown (hts _ q555) dX0_restore_21 ?_
      obtain ⟨h1, h2⟩ := Prod.mk.inj (Option.some.inj hf)
      subst h1
      subst h2
      refine W.widen (k := 901) (n := 55011) (Nat.le_of_ble_eq_true rfl) (Nat.le_of_ble_eq_true rfl) ?_
      exact mm_reti F hH hr hlocks rfl rfl dX0_restore_23
    | some q5 =>
      rw [mt_s] at hf
      refine lv_ifnonnull (tgt := 24) hx hb dX0_restore_18 (by decide) ?_
      refine lv_aload_n hx hb dX0_restore_24 rfl (lv_at hl 0 rfl) ?_
      replace hf := b2_i hf
      obtain ⟨q7, σ6, e4, hf⟩ := hf
      refine mm_new F hH mc_1 (hts _ q98) (hts _ q99) (hts _ q63) (Nat.le_of_ble_eq_true rfl) (Nat.le_of_ble_eq_true rfl) e4 dX0_restore_25 (fun H hH => ?_)
      refine lv_dup hx hb dX0_restore_28 rfl ?_
      refine lv_aload_n hx hb dX0_restore_29 rfl (lv_at hl 0 rfl) ?_
      replace hf := b1_i hf
      obtain ⟨q8, e5, hf⟩ := hf
      refine mm_getA F hH mc_0 (k := 5) (by decide) (hts _ q194) (fun _ h => h) e5 dX0_restore_30 ?_
      refine lv_iload_n hx hb dX0_restore_33 rfl (lv_at hl 1 rfl) ?_
      replace hf := b1_i hf
      obtain ⟨p9, e6, hf⟩ := hf
      refine mm_aald F hH (k := 4) (by decide) e6 dX0_restore_34 ?_
      replace hf := b1_i hf
      obtain ⟨q10, e7, hf⟩ := hf
      subst e7
      replace hf := b1_i hf
      obtain ⟨σ11, e8, hf⟩ := hf
      refine mm_cv (va_runI (As := [.ref q10]) (rest := [.ref q7, .ref h0]) ⟨hx, hb, hml, hown, hts⟩ (m_X1_init_2 l G q7 q10 σ6 σ11 e8) (cwI 1 hts (lw_meth q996) rfl rfl rfl (hts _ q63) (hts _ q994) (hts _ q995) rfl (by decide +kernel) ⟨Nat.le_of_ble_eq_true rfl, Nat.le_of_ble_eq_true rfl⟩) (mm_preS F.2.2.2.2.2 hH) rfl rfl hl.1 rfl (lv_room (Nat.le_of_ble_eq_true rfl)) dX0_restore_35 ⟨Nat.le_of_ble_eq_true rfl, Nat.le_of_ble_eq_true rfl⟩) hH (fun H locs hH => ?_)
      replace hf := b1_i hf
      obtain ⟨σ12, e9, hf⟩ := hf
      refine mm_put F hH mc_0 (k := 0) (v := vR (some q7)) (by decide) (hts _ q185) (fun _ h => h) rfl rfl rfl e9 dX0_restore_38 (fun H locs hH => ?_)
      refine lv_aload_n hx hb dX0_restore_41 rfl (lv_at hl 0 rfl) ?_
      replace hf := b1_i hf
      obtain ⟨q13, e10, hf⟩ := hf
      refine mm_getA F hH mc_0 (k := 0) (by decide) (hts _ q185) (fun _ h => h) e10 dX0_restore_42 ?_
      replace hf := b1_i hf
      obtain ⟨q14, e11, hf⟩ := hf
      refine mm_getAN F hH mc_1 (k := 2) (by decide) q139 (fun _ h => h) e11 dX0_restore_45 ?_
      replace hf := b1_i hf
      obtain ⟨u, e12, hf⟩ := hf
      obtain ⟨fs, ek⟩ := ck_i e12
      replace hf := b1_i hf
      obtain ⟨v15, e13, hf⟩ := hf
      refine mm_ci (va_runV (As := []) (rest := []) ⟨hx, hb, hml, hown, hts⟩ (m_J2_size l G q14 σ12 v15 e13) (cwV 0 hts (lw_V q661 q291 q292 q66 q293) rfl rfl rfl (by decide +kernel) ⟨Nat.le_of_ble_eq_true rfl, Nat.le_of_ble_eq_true rfl⟩) (mm_preV F.2.2.2.2.2 hH (ci := 15) rfl ek) rfl rfl hl.1 rfl (lv_room (Nat.le_of_ble_eq_true rfl)) dX0_restore_48 ⟨Nat.le_of_ble_eq_true rfl, Nat.le_of_ble_eq_true rfl⟩) hH (fun H locs hH => ?_)
      obtain ⟨h1, h2⟩ := Prod.mk.inj (Option.some.inj hf)
      subst h1
      subst h2
      exact mm_reti F hH hr hlocks rfl rfl dX0_restore_51
  · rw [if_pos c2] at hf
    refine lv_ldc (v := (-1000002)) hx hb hown (hts _ q219) dX0_restore_9 ?_
    obtain ⟨h1, h2⟩ := Prod.mk.inj (Option.some.inj hf)
    subst h1
    subst h2
    refine W.widen (k := 901) (n := 55011) (Nat.le_of_ble_eq_true rfl) (Nat.le_of_ble_eq_true rfl) ?_
    exact mm_reti F hH hr hlocks rfl rfl dX0_restore_11
/-! IslandHeap.count(I)I -/
abbrev rm_X0_count : Room := { frames := 4, cells := 0, slots := 0, locals := 86 }
set_option maxHeartbeats 4000000 in
theorem m_X0_count (l : Launch) (G : mm_G) (h0 : Nat) (x1 : Int32) (σ : mm_M) (rr : Int32) (hf : f_X0_count h0 x1 σ = some rr) : Met l yX0_count (ws_ yX0_count cX0_count 2 ((Option.some .int))) rm_X0_count (mm_Pc G [.ref h0, .int x1] σ) (mm_Qi G rr σ) 0 0 (mm_A G) := by
  refine mm_met (by decide) rfl rfl (by  exact Nat.le_of_ble_eq_true rfl) (fun p e s m below meth c ls F hH hr hlocks hname hl => ?_)
  have hl : lv_has ls 2 [(0, .ref h0), (1, .int x1)] := by  exact hl
  have F : mm_F p s m _ c RX0 cX0_count 2 G := F
  have hx := F.1
  have hb := F.2.1
  have hml := F.2.2.1
  have hown := F.2.2.2.1
  have hts := F.2.2.2.2.1
  unfold f_X0_count at hf
  refine lv_iload_n hx hb dX0_count_0 rfl (lv_at hl 1 rfl) ?_
  by_cases c1 : x1 = (0 : Int32)
  · rw [if_pos c1] at hf
    refine lv_tableIn (off := 47) (tgt := 48) hx hb dX0_count_1 (by rw [c1]; decide) (by rw [c1]; decide) (by rw [c1]; rfl) (by decide) ?_
    refine lv_aload_n hx hb dX0_count_48 rfl (lv_at hl 0 rfl) ?_
    replace hf := b1_i hf
    obtain ⟨q9, e1, hf⟩ := hf
    refine mm_getA F hH mc_0 (k := 0) (by decide) (hts _ q185) (fun _ h => h) e1 dX0_count_49 ?_
    replace hf := b1_i hf
    obtain ⟨v10, e2, hf⟩ := hf
    refine mm_getIN F hH mc_1 (k := 0) (by decide) q133 (fun _ h => h) e2 dX0_count_52 ?_
    have h1 := Option.some.inj hf
    subst h1
    exact mm_reti F hH hr hlocks rfl rfl dX0_count_55
  · rw [if_neg c1] at hf
    by_cases c2 : x1 = (1 : Int32)
    · rw [if_pos c2] at hf
      refine lv_tableIn (off := 55) (tgt := 56) hx hb dX0_count_1 (by rw [c2]; decide) (by rw [c2]; decide) (by rw [c2]; rfl) (by decide) ?_
      refine lv_aload_n hx hb dX0_count_56 rfl (lv_at hl 0 rfl) ?_
      replace hf := b1_i hf
      obtain ⟨q11, e3, hf⟩ := hf
      refine mm_getA F hH mc_0 (k := 0) (by decide) (hts _ q185) (fun _ h => h) e3 dX0_count_57 ?_
      replace hf := b1_i hf
      obtain ⟨v12, e4, hf⟩ := hf
      refine mm_getIN F hH mc_1 (k := 1) (by decide) q135 (fun _ h => h) e4 dX0_count_60 ?_
      have h1 := Option.some.inj hf
      subst h1
      exact mm_reti F hH hr hlocks rfl rfl dX0_count_63
    · rw [if_neg c2] at hf
      by_cases c3 : x1 = (2 : Int32)
      · rw [if_pos c3] at hf
        refine lv_tableIn (off := 63) (tgt := 64) hx hb dX0_count_1 (by rw [c3]; decide) (by rw [c3]; decide) (by rw [c3]; rfl) (by decide) ?_
        refine lv_aload_n hx hb dX0_count_64 rfl (lv_at hl 0 rfl) ?_
        replace hf := b1_i hf
        obtain ⟨q13, e5, hf⟩ := hf
        refine mm_getA F hH mc_0 (k := 0) (by decide) (hts _ q185) (fun _ h => h) e5 dX0_count_65 ?_
        replace hf := b1_i hf
        obtain ⟨q14, e6, hf⟩ := hf
        refine mm_getAN F hH mc_1 (k := 2) (by decide) q139 (fun _ h => h) e6 dX0_count_68 ?_
        replace hf := b1_i hf
        obtain ⟨u, e7, hf⟩ := hf
        obtain ⟨fs, ek⟩ := ck_i e7
        replace hf := b1_i hf
        obtain ⟨v15, e8, hf⟩ := hf
        refine mm_ci (va_runV (As := []) (rest := []) ⟨hx, hb, hml, hown, hts⟩ (m_J2_size l G q14 σ v15 e8) (cwV 0 hts (lw_V q661 q291 q292 q66 q293) rfl rfl rfl (by decide +kernel) ⟨Nat.le_of_ble_eq_true rfl, Nat.le_of_ble_eq_true rfl⟩) (mm_preV F.2.2.2.2.2 hH (ci := 15) rfl ek) rfl rfl hl.1 rfl (lv_room (Nat.le_of_ble_eq_true rfl)) dX0_count_71 ⟨Nat.le_of_ble_eq_true rfl, Nat.le_of_ble_eq_true rfl⟩) hH (fun H locs hH => ?_)
        have h1 := Option.some.inj hf
        subst h1
        exact mm_reti F hH hr hlocks rfl rfl dX0_count_74
      · rw [if_neg c3] at hf
        by_cases c4 : x1 = (3 : Int32)
        · rw [if_pos c4] at hf
          refine lv_tableIn (off := 74) (tgt := 75) hx hb dX0_count_1 (by rw [c4]; decide) (by rw [c4]; decide) (by rw [c4]; rfl) (by decide) ?_
          refine lv_aload_n hx hb dX0_count_75 rfl (lv_at hl 0 rfl) ?_
          replace hf := b1_i hf
          obtain ⟨q16, e9, hf⟩ := hf
          refine mm_getA F hH mc_0 (k := 0) (by decide) (hts _ q185) (fun _ h => h) e9 dX0_count_76 ?_
          replace hf := b1_i hf
          obtain ⟨u, e10, hf⟩ := hf
          obtain ⟨fs, ek⟩ := ck_i e10
          replace hf := b1_i hf
          obtain ⟨v17, e11, hf⟩ := hf
          refine mm_ci (va_runV (As := []) (rest := []) ⟨hx, hb, hml, hown, hts⟩ (m_X1_pinned l G q16 σ v17 e11) (cwV 0 hts (lw_V q556 q557 q558 q63 q559) rfl rfl rfl (by decide +kernel) ⟨Nat.le_of_ble_eq_true rfl, Nat.le_of_ble_eq_true rfl⟩) (mm_preV F.2.2.2.2.2 hH (ci := 1) rfl ek) rfl rfl hl.1 rfl (lv_room (Nat.le_of_ble_eq_true rfl)) dX0_count_79 ⟨Nat.le_of_ble_eq_true rfl, Nat.le_of_ble_eq_true rfl⟩) hH (fun H locs hH => ?_)
          have h1 := Option.some.inj hf
          subst h1
          exact mm_reti F hH hr hlocks rfl rfl dX0_count_82
        · rw [if_neg c4] at hf
          by_cases c5 : x1 = (4 : Int32)
          · rw [if_pos c5] at hf
            refine lv_tableIn (off := 82) (tgt := 83) hx hb dX0_count_1 (by rw [c5]; decide) (by rw [c5]; decide) (by rw [c5]; rfl) (by decide) ?_
            refine lv_aload_n hx hb dX0_count_83 rfl (lv_at hl 0 rfl) ?_
            replace hf := b1_i hf
            obtain ⟨q18, e12, hf⟩ := hf
            refine mm_getA F hH mc_0 (k := 0) (by decide) (hts _ q185) (fun _ h => h) e12 dX0_count_84 ?_
            replace hf := b1_i hf
            obtain ⟨v19, e13, hf⟩ := hf
            refine mm_getIN F hH mc_1 (k := 6) (by decide) q149 (fun _ h => h) e13 dX0_count_87 ?_
            have h1 := Option.some.inj hf
            subst h1
            exact mm_reti F hH hr hlocks rfl rfl dX0_count_90
          · rw [if_neg c5] at hf
            by_cases c6 : x1 = (5 : Int32)
            · rw [if_pos c6] at hf
              refine lv_tableIn (off := 90) (tgt := 91) hx hb dX0_count_1 (by rw [c6]; decide) (by rw [c6]; decide) (by rw [c6]; rfl) (by decide) ?_
              refine lv_aload_n hx hb dX0_count_91 rfl (lv_at hl 0 rfl) ?_
              replace hf := b1_i hf
              obtain ⟨q20, e14, hf⟩ := hf
              refine mm_getA F hH mc_0 (k := 0) (by decide) (hts _ q185) (fun _ h => h) e14 dX0_count_92 ?_
              replace hf := b1_i hf
              obtain ⟨v21, e15, hf⟩ := hf
              refine mm_getIN F hH mc_1 (k := 7) (by decide) q151 (fun _ h => h) e15 dX0_count_95 ?_
              have h1 := Option.some.inj hf
              subst h1
              exact mm_reti F hH hr hlocks rfl rfl dX0_count_98
            · rw [if_neg c6] at hf
              by_cases c7 : x1 = (6 : Int32)
              · rw [if_pos c7] at hf
                refine lv_tableIn (off := 98) (tgt := 99) hx hb dX0_count_1 (by rw [c7]; decide) (by rw [c7]; decide) (by rw [c7]; rfl) (by decide) ?_
                refine lv_aload_n hx hb dX0_count_99 rfl (lv_at hl 0 rfl) ?_
                replace hf := b1_i hf
                obtain ⟨q22, e16, hf⟩ := hf
                refine mm_getA F hH mc_0 (k := 0) (by decide) (hts _ q185) (fun _ h => h) e16 dX0_count_100 ?_
                replace hf := b1_i hf
                obtain ⟨v23, e17, hf⟩ := hf
                refine mm_getIN F hH mc_1 (k := 8) (by decide) q153 (fun _ h => h) e17 dX0_count_103 ?_
                have h1 := Option.some.inj hf
                subst h1
                exact mm_reti F hH hr hlocks rfl rfl dX0_count_106
              · rw [if_neg c7] at hf
                by_cases c8 : x1 = (7 : Int32)
                · rw [if_pos c8] at hf
                  refine lv_tableIn (off := 106) (tgt := 107) hx hb dX0_count_1 (by rw [c8]; decide) (by rw [c8]; decide) (by rw [c8]; rfl) (by decide) ?_
                  refine lv_aload_n hx hb dX0_count_107 rfl (lv_at hl 0 rfl) ?_
                  replace hf := b1_i hf
                  obtain ⟨v24, e18, hf⟩ := hf
                  refine mm_getI F hH mc_0 (k := 3) (by decide) (hts _ q192) (fun _ h => h) e18 dX0_count_108 ?_
                  have h1 := Option.some.inj hf
                  subst h1
                  exact mm_reti F hH hr hlocks rfl rfl dX0_count_111
                · rw [if_neg c8] at hf
                  refine lv_tableOut (tgt := 112) hx hb dX0_count_1 (by have h0 := lv_neT c1 (a := 0) rfl; have h1 := lv_neT c2 (a := 1) rfl; have h2 := lv_neT c3 (a := 2) rfl; have h3 := lv_neT c4 (a := 3) rfl; have h4 := lv_neT c5 (a := 4) rfl; have h5 := lv_neT c6 (a := 5) rfl; have h6 := lv_neT c7 (a := 6) rfl; have h7 := lv_neT c8 (a := 7) rfl; omega) (by decide) ?_
                  refine lv_ldc (v := (-1000002)) hx hb hown (hts _ q219) dX0_count_112 ?_
                  have h1 := Option.some.inj hf
                  subst h1
                  exact mm_reti F hH hr hlocks rfl rfl dX0_count_114
/-! IslandHeap.mix(J)V -/
abbrev rm_X0_mix : Room := { frames := 0, cells := 0, slots := 0, locals := 0 }
set_option maxHeartbeats 4000000 in
theorem m_X0_mix (l : Launch) (G : mm_G) (h0 : Nat) (z1 : Int64) (σ : mm_M) (σf : mm_M) (hf : f_X0_mix h0 z1 σ = some σf) : Met l yX0_mix (ws_ yX0_mix cX0_mix 3 ((Option.none : Option Jvm.ClassFile.FieldType))) rm_X0_mix (mm_Pc G [.ref h0, .long z1] σ) (mm_Qv G σf) 0 0 (mm_A G) := by
  refine mm_met (by decide) rfl rfl (by  exact Nat.le_of_ble_eq_true rfl) (fun p e s m below meth c ls F hH hr hlocks hname hl => ?_)
  have hl : lv_has ls 3 [(0, .ref h0), (1, .long z1)] := by  exact hl
  have F : mm_F p s m _ c RX0 cX0_mix 3 G := F
  have hx := F.1
  have hb := F.2.1
  have hml := F.2.2.1
  have hown := F.2.2.2.1
  have hts := F.2.2.2.2.1
  unfold f_X0_mix at hf
  refine lv_aload_n hx hb dX0_mix_0 rfl (lv_at hl 0 rfl) ?_
  refine lv_ldc2 (v := (31)) hx hb hown (hts _ q1025) dX0_mix_1 ?_
  refine lv_aload_n hx hb dX0_mix_4 rfl (lv_at hl 0 rfl) ?_
  replace hf := b1_i hf
  obtain ⟨w1, e1, hf⟩ := hf
  refine mm_getL F hH mc_0 (k := 6) (by decide) (hts _ q195) (fun _ h => h) e1 dX0_mix_5 ?_
  refine lv_lmul hx hb dX0_mix_8 ?_
  refine lv_lload_n hx hb dX0_mix_9 rfl (lv_at hl 1 rfl) ?_
  refine lv_ladd hx hb dX0_mix_10 ?_
  replace hf := b1_i hf
  obtain ⟨σ2, e2, hf⟩ := hf
  refine mm_put F hH mc_0 (k := 6) (v := vL (((31 : Int64) * w1) + z1)) (by decide) (hts _ q195) (fun _ h => h) rfl rfl rfl e2 dX0_mix_11 (fun H locs hH => ?_)
  have h1 := Option.some.inj hf
  subst h1
  exact mm_retv F hH hr hlocks dX0_mix_14
/-! IslandHeap.mixRow([I)V -/
abbrev rm_X0_mixRow : Room := { frames := 1, cells := 0, slots := 0, locals := 22 }
set_option maxHeartbeats 4000000 in
theorem w_X0_mixRow_8 {p : Program} {l : Launch} {e : Env} {s : State} {m : MethodId} {av : Array Value} {below : List Frame} {meth : Method} {c : Code} {G : mm_G} {σf : mm_M} {n : Nat} {h0 : Nat} {a1 : Nat} (F : mm_F p s m av c RX0 cX0_mixRow 6 G) (hr : meth.sig.returnType = (Option.none : Option Jvm.ClassFile.FieldType)) (hlocks : meth.locks = false) (hname : meth.name = yX0_mixRow.name) (IH8 : ∀ (a2 : Nat) (x3 : Int32) (x4 : Int32) (σ : mm_M) (H : Heap) (locs : List Loc) (ls : Array Slot), mm_H G s σ H locs → lv_has ls 6 [(0, .ref h0), (1, .ref a1), (2, .ref a2), (3, .int x3), (4, .int x4)] → itn (s_X0_mixRow h0 a1) n (a2, x3, x4, σ) = some σf → W p l e rm_X0_mixRow s m av below meth c H locs 0 0 (MQ below (mm_Qv G σf) av s 0 0 (mm_A G)) (F0 m 8 ls []))  (a2 : Nat) (x3 : Int32) (x4 : Int32)  (σ : mm_M) (hf : evn (s_X0_mixRow h0 a1) n (g_X0_mixRow_8 h0 a1 a2 x3 x4 σ) = some σf) {H : Heap} {locs : List Loc} {ls : Array Slot} (hH : mm_H G s σ H locs) (hl : lv_has ls 6 [(0, .ref h0), (1, .ref a1), (2, .ref a2), (3, .int x3), (4, .int x4)]) : W p l e rm_X0_mixRow s m av below meth c H locs 0 0 (MQ below (mm_Qv G σf) av s 0 0 (mm_A G)) (F0 m 8 ls []) := by
  have hx := F.1
  have hb := F.2.1
  have hml := F.2.2.1
  have hown := F.2.2.2.1
  have hts := F.2.2.2.2.1
  unfold g_X0_mixRow_8 at hf
  refine lv_iload hx hb dX0_mixRow_8 (lv_at hl 4 rfl) ?_
  refine lv_iload_n hx hb dX0_mixRow_10 rfl (lv_at hl 3 rfl) ?_
  refine lv_icmp_ge (tgt := 33) hx hb dX0_mixRow_11 (by decide) (fun c1 => ?_) (fun c1 => ?_)
  · rw [if_pos c1] at hf
    rw [evn_r] at hf
    have h1 := Option.some.inj hf
    subst h1
    exact mm_retv F hH hr hlocks dX0_mixRow_33
  · rw [if_neg c1] at hf
    refine lv_aload_n hx hb dX0_mixRow_14 rfl (lv_at hl 2 rfl) ?_
    refine lv_iload hx hb dX0_mixRow_15 (lv_at hl 4 rfl) ?_
    replace hf := evn_b1 hf
    obtain ⟨v2, e1, hf⟩ := hf
    refine mm_iald F hH e1 dX0_mixRow_17 ?_
    refine lv_istore (lv' := [(5, .int v2), (0, .ref h0), (1, .ref a1), (2, .ref a2), (3, .int x3), (4, .int x4)]) hx hb dX0_mixRow_18 hl (by decide) rfl (fun ls hl => ?_)
    refine lv_aload_n hx hb dX0_mixRow_20 rfl (lv_at hl 1 rfl) ?_
    refine lv_iload hx hb dX0_mixRow_21 (lv_at hl 0 rfl) ?_
    refine lv_i2l hx hb dX0_mixRow_23 rfl ?_
    replace hf := evn_b1 hf
    obtain ⟨u, e2, hf⟩ := hf
    obtain ⟨fs, ek⟩ := ck_i e2
    replace hf := evn_b1 hf
    obtain ⟨σ3, e3, hf⟩ := hf
    refine mm_cv (va_runV (As := [.long v2.toInt64]) (rest := []) ⟨hx, hb, hml, hown, hts⟩ (m_X0_mix l G h0 v2.toInt64 σ σ3 e3) (cwV 1 hts (lw_V q1021 q1023 qs29 q62 q1024) rfl rfl rfl (by decide +kernel) ⟨Nat.le_of_ble_eq_true rfl, Nat.le_of_ble_eq_true rfl⟩) (mm_preV F.2.2.2.2.2 hH (ci := 0) rfl ek) rfl rfl hl.1 rfl (lv_room (Nat.le_of_ble_eq_true rfl)) dX0_mixRow_24 ⟨Nat.le_of_ble_eq_true rfl, Nat.le_of_ble_eq_true rfl⟩) hH (fun H locs hH => ?_)
    refine lv_iinc (v := x4 + (1 : Int32)) (lv' := [(4, .int (x4 + (1 : Int32))), (5, .int v2), (0, .ref h0), (1, .ref a1), (2, .ref a2), (3, .int x3)]) hx hb dX0_mixRow_27 hl (k := 5) rfl rfl (by decide) rfl (fun ls hl => ?_)
    refine lv_goto (tgt := 8) hx hb dX0_mixRow_30 (by decide) ?_
    rw [evn_l] at hf
    exact IH8 a2 x3 (x4 + (1 : Int32)) σ3 _ _ _ hH (lv_sub hl [2, 3, 4, 5, 0] rfl) hf
set_option maxHeartbeats 4000000 in
theorem w_X0_mixRow_0 {p : Program} {l : Launch} {e : Env} {s : State} {m : MethodId} {av : Array Value} {below : List Frame} {meth : Method} {c : Code} {G : mm_G} {σf : mm_M} {n : Nat} {h0 : Nat} {a1 : Nat} (F : mm_F p s m av c RX0 cX0_mixRow 6 G) (hr : meth.sig.returnType = (Option.none : Option Jvm.ClassFile.FieldType)) (hlocks : meth.locks = false) (hname : meth.name = yX0_mixRow.name) (IH8 : ∀ (a2 : Nat) (x3 : Int32) (x4 : Int32) (σ : mm_M) (H : Heap) (locs : List Loc) (ls : Array Slot), mm_H G s σ H locs → lv_has ls 6 [(0, .ref h0), (1, .ref a1), (2, .ref a2), (3, .int x3), (4, .int x4)] → itn (s_X0_mixRow h0 a1) n (a2, x3, x4, σ) = some σf → W p l e rm_X0_mixRow s m av below meth c H locs 0 0 (MQ below (mm_Qv G σf) av s 0 0 (mm_A G)) (F0 m 8 ls []))    (σ : mm_M) (hf : evn (s_X0_mixRow h0 a1) n (g_X0_mixRow_0 h0 a1 σ) = some σf) {H : Heap} {locs : List Loc} {ls : Array Slot} (hH : mm_H G s σ H locs) (hl : lv_has ls 6 [(0, .ref h0), (1, .ref a1)]) : W p l e rm_X0_mixRow s m av below meth c H locs 0 0 (MQ below (mm_Qv G σf) av s 0 0 (mm_A G)) (F0 m 0 ls []) := by
  have hx := F.1
  have hb := F.2.1
  have hml := F.2.2.1
  have hown := F.2.2.2.1
  have hts := F.2.2.2.2.1
  unfold g_X0_mixRow_0 at hf
  refine lv_aload_n hx hb dX0_mixRow_0 rfl (lv_at hl 1 rfl) ?_
  refine lv_astore_n (lv' := [(2, .ref a1), (0, .ref h0), (1, .ref a1)]) hx hb dX0_mixRow_1 rfl hl (by decide) rfl (fun ls hl => ?_)
  refine lv_aload_n hx hb dX0_mixRow_2 rfl (lv_at hl 0 rfl) ?_
  replace hf := evn_b1 hf
  obtain ⟨v1, e1, hf⟩ := hf
  refine mm_alen F hH e1 dX0_mixRow_3 ?_
  refine lv_istore_n (lv' := [(3, .int v1), (2, .ref a1), (0, .ref h0), (1, .ref a1)]) hx hb dX0_mixRow_4 rfl hl (by decide) rfl (fun ls hl => ?_)
  refine lv_iconst (v := 0) hx hb dX0_mixRow_5 (by decide) ?_
  refine lv_istore (lv' := [(4, .int (0 : Int32)), (3, .int v1), (2, .ref a1), (0, .ref h0), (1, .ref a1)]) hx hb dX0_mixRow_6 hl (by decide) rfl (fun ls hl => ?_)
  rw [evn_l] at hf
  exact IH8 a1 v1 (0 : Int32) σ _ _ _ hH (lv_sub hl [3, 4, 2, 1, 0] rfl) hf
set_option maxHeartbeats 4000000 in
theorem l_X0_mixRow {p : Program} {l : Launch} {e : Env} {s : State} {m : MethodId} {av : Array Value} {below : List Frame} {meth : Method} {c : Code} {G : mm_G} {σf : mm_M} {h0 : Nat} {a1 : Nat} (F : mm_F p s m av c RX0 cX0_mixRow 6 G) (hr : meth.sig.returnType = (Option.none : Option Jvm.ClassFile.FieldType)) (hlocks : meth.locks = false) (hname : meth.name = yX0_mixRow.name) : ∀ n : Nat, (∀ (a2 : Nat) (x3 : Int32) (x4 : Int32) (σ : mm_M) (H : Heap) (locs : List Loc) (ls : Array Slot), mm_H G s σ H locs → lv_has ls 6 [(0, .ref h0), (1, .ref a1), (2, .ref a2), (3, .int x3), (4, .int x4)] → itn (s_X0_mixRow h0 a1) n (a2, x3, x4, σ) = some σf → W p l e rm_X0_mixRow s m av below meth c H locs 0 0 (MQ below (mm_Qv G σf) av s 0 0 (mm_A G)) (F0 m 8 ls [])) := by
  intro n
  induction n with
  | zero =>
    exact fun a2 x3 x4 σ H locs ls hH hl hf => by cases hf
  | succ n ih =>
    have IH8 := ih
    intro a2 x3 x4 σ H locs ls hH hl hf
    rw [itn_s] at hf
    exact w_X0_mixRow_8 F hr hlocks hname IH8 a2 x3 x4 σ hf hH hl
set_option maxHeartbeats 4000000 in
theorem m_X0_mixRow (l : Launch) (G : mm_G) (h0 : Nat) (a1 : Nat) (σ : mm_M) (σf : mm_M) (hf : f_X0_mixRow h0 a1 σ = some σf) : Met l yX0_mixRow (ws_ yX0_mixRow cX0_mixRow 6 ((Option.none : Option Jvm.ClassFile.FieldType))) rm_X0_mixRow (mm_Pc G [.ref h0, .ref a1] σ) (mm_Qv G σf) 0 0 (mm_A G) := by
  refine mm_met (by decide) rfl rfl (by  exact Nat.le_of_ble_eq_true rfl) (fun p e s m below meth c ls F hH hr hlocks hname hl => ?_)
  have hl : lv_has ls 6 [(0, .ref h0), (1, .ref a1)] := by  exact hl
  have F : mm_F p s m _ c RX0 cX0_mixRow 6 G := F
  unfold f_X0_mixRow at hf
  obtain ⟨n, hf⟩ := lgo_i hf
  have IH := l_X0_mixRow (l := l) (e := e) (below := below) (σf := σf) (h0 := h0) (a1 := a1) F hr hlocks hname n
  exact w_X0_mixRow_0 F hr hlocks hname IH σ hf hH (lv_sub hl [0, 1] rfl)
/-! IslandHeap.mixThing(LIslandHeap$Thing;)V -/
abbrev rm_X0_mixThing : Room := { frames := 9, cells := 8, slots := 64, locals := 210 }
set_option maxHeartbeats 4000000 in
theorem w_X0_mixThing_2 {p : Program} {l : Launch} {e : Env} {s : State} {m : MethodId} {av : Array Value} {below : List Frame} {meth : Method} {c : Code} {G : mm_G} {σf : mm_M} {n : Nat} {h0 : Nat} {a1 : Nat} (F : mm_F p s m av c RX0 cX0_mixThing 3 G) (hr : meth.sig.returnType = (Option.none : Option Jvm.ClassFile.FieldType)) (hlocks : meth.locks = false) (hname : meth.name = yX0_mixThing.name) (IH2 : ∀ (x2 : Int32) (cn cs : Nat) (σ : mm_M) (H : Heap) (locs : List Loc) (ls : Array Slot), mm_H G s σ H locs → lv_has ls 3 [(0, .ref h0), (1, .ref a1), (2, .int x2)] → itn (s_X0_mixThing h0 a1) n (x2, cn, cs, σ) = some σf → W p l e rm_X0_mixThing s m av below meth c H locs cn cs (MQ below (mm_Qv G σf) av s 8 64 (mm_A G)) (F0 m 2 ls []))  (x2 : Int32)  (cn cs : Nat) (σ : mm_M) (hf : evn (s_X0_mixThing h0 a1) n (g_X0_mixThing_2 h0 a1 x2 cn cs σ) = some σf) {H : Heap} {locs : List Loc} {ls : Array Slot} (hH : mm_H G s σ H locs) (hl : lv_has ls 3 [(0, .ref h0), (1, .ref a1), (2, .int x2)]) : W p l e rm_X0_mixThing s m av below meth c H locs cn cs (MQ below (mm_Qv G σf) av s 8 64 (mm_A G)) (F0 m 2 ls []) := by
  have hx := F.1
  have hb := F.2.1
  have hml := F.2.2.1
  have hown := F.2.2.2.1
  have hts := F.2.2.2.2.1
  unfold g_X0_mixThing_2 at hf
  replace hf := evn_b1 hf
  obtain ⟨u, e0, hf⟩ := hf
  have hg := grd_i e0
  refine lv_iload_n hx hb dX0_mixThing_2 rfl (lv_at hl 2 rfl) ?_
  refine lv_bipush (v := 8) hx hb dX0_mixThing_3 (by decide) ?_
  refine lv_icmp_ge (tgt := 28) hx hb dX0_mixThing_5 (by decide) (fun c1 => ?_) (fun c1 => ?_)
  · rw [if_pos c1] at hf
    refine lv_aload_n hx hb dX0_mixThing_28 rfl (lv_at hl 0 rfl) ?_
    refine lv_aload_n hx hb dX0_mixThing_29 rfl (lv_at hl 1 rfl) ?_
    replace hf := evn_b1 hf
    obtain ⟨q2, e1, hf⟩ := hf
    refine mm_getAN F hH mc_3 (k := 1) (by decide) q258 (fun _ h => h) e1 dX0_mixThing_30 ?_
    replace hf := evn_b1 hf
    obtain ⟨u, e2, hf⟩ := hf
    obtain ⟨fs, ek⟩ := ck_i e2
    replace hf := evn_b1 hf
    obtain ⟨σ3, e3, hf⟩ := hf
    refine mm_cv (va_runV (As := [.ref q2]) (rest := []) ⟨hx, hb, hml, hown, hts⟩ (m_X0_mixRow l G h0 q2 σ σ3 e3) (cwV 1 hts (lw_V q1026 q1028 qs30 q62 q1029) rfl rfl rfl (by decide +kernel) ⟨Nat.le_of_ble_eq_true rfl, Nat.le_of_ble_eq_true rfl⟩) (mm_preV F.2.2.2.2.2 hH (ci := 0) rfl ek) rfl rfl hl.1 rfl (lv_room (Nat.le_of_ble_eq_true rfl)) dX0_mixThing_33 hg) hH (fun H locs hH => ?_)
    refine lv_aload_n hx hb dX0_mixThing_36 rfl (lv_at hl 0 rfl) ?_
    refine lv_aload_n hx hb dX0_mixThing_37 rfl (lv_at hl 1 rfl) ?_
    replace hf := evn_b1 hf
    obtain ⟨q4, e4, hf⟩ := hf
    refine mm_getAN F hH mc_3 (k := 2) (by decide) q262 (fun _ h => h) e4 dX0_mixThing_38 ?_
    replace hf := evn_b1 hf
    obtain ⟨u, e5, hf⟩ := hf
    obtain ⟨fs, ek⟩ := ck_i e5
    replace hf := evn_b1 hf
    obtain ⟨σ5, e6, hf⟩ := hf
    refine mm_cv (va_runV (As := [.ref q4]) (rest := []) ⟨hx, hb, hml, hown, hts⟩ (m_X0_mixRow l G h0 q4 σ3 σ5 e6) (cwV 1 hts (lw_V q1026 q1028 qs30 q62 q1029) rfl rfl rfl (by decide +kernel) ⟨Nat.le_of_ble_eq_true rfl, Nat.le_of_ble_eq_true rfl⟩) (mm_preV F.2.2.2.2.2 hH (ci := 0) rfl ek) rfl rfl hl.1 rfl (lv_room (Nat.le_of_ble_eq_true rfl)) dX0_mixThing_41 hg) hH (fun H locs hH => ?_)
    rw [evn_r] at hf
    have h1 := Option.some.inj hf
    subst h1
    refine W.widen (k := 8) (n := 64) hg.1 hg.2 ?_
    exact mm_retv F hH hr hlocks dX0_mixThing_44
  · rw [if_neg c1] at hf
    refine lv_aload_n hx hb dX0_mixThing_8 rfl (lv_at hl 0 rfl) ?_
    refine lv_aload_n hx hb dX0_mixThing_9 rfl (lv_at hl 0 rfl) ?_
    refine lv_aload_n hx hb dX0_mixThing_10 rfl (lv_at hl 1 rfl) ?_
    replace hf := evn_b1 hf
    obtain ⟨v6, e7, hf⟩ := hf
    refine mm_getIN F hH mc_3 (k := 0) (by decide) q253 (fun _ h => h) e7 dX0_mixThing_11 ?_
    refine lv_iload_n hx hb dX0_mixThing_14 rfl (lv_at hl 2 rfl) ?_
    replace hf := evn_b1 hf
    obtain ⟨u, e8, hf⟩ := hf
    obtain ⟨fs, ek⟩ := ck_i e8
    replace hf := evn_b1 hf
    obtain ⟨u, e9, hf⟩ := hf
    have hg := grd_i e9
    replace hf := evn_b2 hf
    obtain ⟨v7, σ8, e10, hf⟩ := hf
    refine mm_ci (va_runV (As := [.int v6, .int x2]) (rest := [.ref h0]) ⟨hx, hb, hml, hown, hts⟩ (m_X0_object l G h0 v6 x2 σ σ8 v7 e10) (cwV 2 hts (lw_V q1034 q381 q382 q62 q383) rfl rfl rfl (by decide +kernel) ⟨Nat.le_of_ble_eq_true rfl, Nat.le_of_ble_eq_true rfl⟩) (mm_preV F.2.2.2.2.2 hH (ci := 0) rfl ek) rfl rfl hl.1 rfl (lv_room (Nat.le_of_ble_eq_true rfl)) dX0_mixThing_15 hg) hH (fun H locs hH => ?_)
    refine lv_i2l hx hb dX0_mixThing_18 rfl ?_
    replace hf := evn_b1 hf
    obtain ⟨u, e11, hf⟩ := hf
    obtain ⟨fs, ek⟩ := ck_i e11
    replace hf := evn_b1 hf
    obtain ⟨σ9, e12, hf⟩ := hf
    refine mm_cv (va_runV (As := [.long v7.toInt64]) (rest := []) ⟨hx, hb, hml, hown, hts⟩ (m_X0_mix l G h0 v7.toInt64 σ8 σ9 e12) (cwV 1 hts (lw_V q1021 q1023 qs29 q62 q1024) rfl rfl rfl (by decide +kernel) ⟨Nat.le_of_ble_eq_true rfl, Nat.le_of_ble_eq_true rfl⟩) (mm_preV F.2.2.2.2.2 hH (ci := 0) rfl ek) rfl rfl hl.1 rfl (lv_room (Nat.le_of_ble_eq_true rfl)) dX0_mixThing_19 hg) hH (fun H locs hH => ?_)
    refine lv_iinc (v := x2 + (1 : Int32)) (lv' := [(2, .int (x2 + (1 : Int32))), (0, .ref h0), (1, .ref a1)]) hx hb dX0_mixThing_22 hl (k := 2) rfl rfl (by decide) rfl (fun ls hl => ?_)
    refine lv_goto (tgt := 2) hx hb dX0_mixThing_25 (by decide) ?_
    rw [evn_l] at hf
    exact IH2 (x2 + (1 : Int32)) (cn + 1) (cs + 8) σ9 _ _ _ hH (lv_sub hl [1, 2, 0] rfl) hf
set_option maxHeartbeats 4000000 in
theorem w_X0_mixThing_0 {p : Program} {l : Launch} {e : Env} {s : State} {m : MethodId} {av : Array Value} {below : List Frame} {meth : Method} {c : Code} {G : mm_G} {σf : mm_M} {n : Nat} {h0 : Nat} {a1 : Nat} (F : mm_F p s m av c RX0 cX0_mixThing 3 G) (hr : meth.sig.returnType = (Option.none : Option Jvm.ClassFile.FieldType)) (hlocks : meth.locks = false) (hname : meth.name = yX0_mixThing.name) (IH2 : ∀ (x2 : Int32) (cn cs : Nat) (σ : mm_M) (H : Heap) (locs : List Loc) (ls : Array Slot), mm_H G s σ H locs → lv_has ls 3 [(0, .ref h0), (1, .ref a1), (2, .int x2)] → itn (s_X0_mixThing h0 a1) n (x2, cn, cs, σ) = some σf → W p l e rm_X0_mixThing s m av below meth c H locs cn cs (MQ below (mm_Qv G σf) av s 8 64 (mm_A G)) (F0 m 2 ls []))    (σ : mm_M) (hf : evn (s_X0_mixThing h0 a1) n (g_X0_mixThing_0 h0 a1 σ) = some σf) {H : Heap} {locs : List Loc} {ls : Array Slot} (hH : mm_H G s σ H locs) (hl : lv_has ls 3 [(0, .ref h0), (1, .ref a1)]) : W p l e rm_X0_mixThing s m av below meth c H locs 0 0 (MQ below (mm_Qv G σf) av s 8 64 (mm_A G)) (F0 m 0 ls []) := by
  have hx := F.1
  have hb := F.2.1
  have hml := F.2.2.1
  have hown := F.2.2.2.1
  have hts := F.2.2.2.2.1
  unfold g_X0_mixThing_0 at hf
  have hg : 0 ≤ 8 ∧ 0 ≤ 64 := ⟨Nat.zero_le _, Nat.zero_le _⟩
  refine lv_iconst (v := 0) hx hb dX0_mixThing_0 (by decide) ?_
  refine lv_istore_n (lv' := [(2, .int (0 : Int32)), (0, .ref h0), (1, .ref a1)]) hx hb dX0_mixThing_1 rfl hl (by decide) rfl (fun ls hl => ?_)
  rw [evn_l] at hf
  exact IH2 (0 : Int32) 0 0 σ _ _ _ hH (lv_sub hl [1, 2, 0] rfl) hf
set_option maxHeartbeats 4000000 in
theorem l_X0_mixThing {p : Program} {l : Launch} {e : Env} {s : State} {m : MethodId} {av : Array Value} {below : List Frame} {meth : Method} {c : Code} {G : mm_G} {σf : mm_M} {h0 : Nat} {a1 : Nat} (F : mm_F p s m av c RX0 cX0_mixThing 3 G) (hr : meth.sig.returnType = (Option.none : Option Jvm.ClassFile.FieldType)) (hlocks : meth.locks = false) (hname : meth.name = yX0_mixThing.name) : ∀ n : Nat, (∀ (x2 : Int32) (cn cs : Nat) (σ : mm_M) (H : Heap) (locs : List Loc) (ls : Array Slot), mm_H G s σ H locs → lv_has ls 3 [(0, .ref h0), (1, .ref a1), (2, .int x2)] → itn (s_X0_mixThing h0 a1) n (x2, cn, cs, σ) = some σf → W p l e rm_X0_mixThing s m av below meth c H locs cn cs (MQ below (mm_Qv G σf) av s 8 64 (mm_A G)) (F0 m 2 ls [])) := by
  intro n
  induction n with
  | zero =>
    exact fun x2 cn cs σ H locs ls hH hl hf => by cases hf
  | succ n ih =>
    have IH2 := ih
    intro x2 cn cs σ H locs ls hH hl hf
    rw [itn_s] at hf
    exact w_X0_mixThing_2 F hr hlocks hname IH2 x2 cn cs σ hf hH hl
set_option maxHeartbeats 4000000 in
theorem m_X0_mixThing (l : Launch) (G : mm_G) (h0 : Nat) (a1 : Nat) (σ : mm_M) (σf : mm_M) (hf : f_X0_mixThing h0 a1 σ = some σf) : Met l yX0_mixThing (ws_ yX0_mixThing cX0_mixThing 3 ((Option.none : Option Jvm.ClassFile.FieldType))) rm_X0_mixThing (mm_Pc G [.ref h0, .ref a1] σ) (mm_Qv G σf) 8 64 (mm_A G) := by
  refine mm_met (by decide) rfl rfl (by  exact Nat.le_of_ble_eq_true rfl) (fun p e s m below meth c ls F hH hr hlocks hname hl => ?_)
  have hl : lv_has ls 3 [(0, .ref h0), (1, .ref a1)] := by  exact hl
  have F : mm_F p s m _ c RX0 cX0_mixThing 3 G := F
  unfold f_X0_mixThing at hf
  obtain ⟨n, hf⟩ := lgo_i hf
  have IH := l_X0_mixThing (l := l) (e := e) (below := below) (σf := σf) (h0 := h0) (a1 := a1) F hr hlocks hname n
  exact w_X0_mixThing_0 F hr hlocks hname IH σ hf hH (lv_sub hl [0, 1] rfl)
/-! IslandHeap.digest()J -/
abbrev rm_X0_digest : Room := { frames := 10, cells := 1700, slots := 13000, locals := 232 }
set_option maxHeartbeats 4000000 in
theorem w_X0_digest_9 {p : Program} {l : Launch} {e : Env} {s : State} {m : MethodId} {av : Array Value} {below : List Frame} {meth : Method} {c : Code} {G : mm_G} {σf : mm_M} {rr : Int64} {n : Nat} {h0 : Nat} (F : mm_F p s m av c RX0 cX0_digest 2 G) (hr : meth.sig.returnType = (Option.some .long)) (hlocks : meth.locks = false) (hname : meth.name = yX0_digest.name) (IH9 : ∀ (x1 : Int32) (cn cs : Nat) (σ : mm_M) (H : Heap) (locs : List Loc) (ls : Array Slot), mm_H G s σ H locs → lv_has ls 2 [(0, .ref h0), (1, .int x1)] → itn (s_X0_digest h0) n (.inl (x1, cn, cs, σ)) = some (rr, σf) → W p l e rm_X0_digest s m av below meth c H locs cn cs (MQ below (mm_Ql G rr σf) av s 1700 13000 (mm_A G)) (F0 m 9 ls [])) (IH55 : ∀ (x1 : Int32) (cn cs : Nat) (σ : mm_M) (H : Heap) (locs : List Loc) (ls : Array Slot), mm_H G s σ H locs → lv_has ls 2 [(0, .ref h0), (1, .int x1)] → itn (s_X0_digest h0) n (.inr (.inl (x1, cn, cs, σ))) = some (rr, σf) → W p l e rm_X0_digest s m av below meth c H locs cn cs (MQ below (mm_Ql G rr σf) av s 1700 13000 (mm_A G)) (F0 m 55 ls [])) (IH95 : ∀ (x1 : Int32) (cn cs : Nat) (σ : mm_M) (H : Heap) (locs : List Loc) (ls : Array Slot), mm_H G s σ H locs → lv_has ls 2 [(0, .ref h0), (1, .int x1)] → itn (s_X0_digest h0) n (.inr (.inr (.inl (x1, cn, cs, σ)))) = some (rr, σf) → W p l e rm_X0_digest s m av below meth c H locs cn cs (MQ below (mm_Ql G rr σf) av s 1700 13000 (mm_A G)) (F0 m 95 ls [])) (IH118 : ∀ (x1 : Int32) (cn cs : Nat) (σ : mm_M) (H : Heap) (locs : List Loc) (ls : Array Slot), mm_H G s σ H locs → lv_has ls 2 [(0, .ref h0), (1, .int x1)] → itn (s_X0_digest h0) n (.inr (.inr (.inr (.inl (x1, cn, cs, σ))))) = some (rr, σf) → W p l e rm_X0_digest s m av below meth c H locs cn cs (MQ below (mm_Ql G rr σf) av s 1700 13000 (mm_A G)) (F0 m 118 ls [])) (IH151 : ∀ (x1 : Int32) (cn cs : Nat) (σ : mm_M) (H : Heap) (locs : List Loc) (ls : Array Slot), mm_H G s σ H locs → lv_has ls 2 [(0, .ref h0), (1, .int x1)] → itn (s_X0_digest h0) n (.inr (.inr (.inr (.inr (x1, cn, cs, σ))))) = some (rr, σf) → W p l e rm_X0_digest s m av below meth c H locs cn cs (MQ below (mm_Ql G rr σf) av s 1700 13000 (mm_A G)) (F0 m 151 ls []))  (x1 : Int32)  (cn cs : Nat) (σ : mm_M) (hf : evn (s_X0_digest h0) n (g_X0_digest_9 h0 x1 cn cs σ) = some (rr, σf)) {H : Heap} {locs : List Loc} {ls : Array Slot} (hH : mm_H G s σ H locs) (hl : lv_has ls 2 [(0, .ref h0), (1, .int x1)]) : W p l e rm_X0_digest s m av below meth c H locs cn cs (MQ below (mm_Ql G rr σf) av s 1700 13000 (mm_A G)) (F0 m 9 ls []) := by
  have hx := F.1
  have hb := F.2.1
  have hml := F.2.2.1
  have hown := F.2.2.2.1
  have hts := F.2.2.2.2.1
  unfold g_X0_digest_9 at hf
  replace hf := evn_b1 hf
  obtain ⟨u, e0, hf⟩ := hf
  have hg := grd_i e0
  refine lv_iload_n hx hb dX0_digest_9 rfl (lv_at hl 1 rfl) ?_
  refine lv_bipush (v := 7) hx hb dX0_digest_10 (by decide) ?_
  refine lv_icmp_gt (tgt := 31) hx hb dX0_digest_12 (by decide) (fun c1 => ?_) (fun c1 => ?_)
  · rw [if_pos c1] at hf
    refine lv_aload_n hx hb dX0_digest_31 rfl (lv_at hl 0 rfl) ?_
    refine lv_aload_n hx hb dX0_digest_32 rfl (lv_at hl 0 rfl) ?_
    replace hf := evn_b1 hf
    obtain ⟨q2, e1, hf⟩ := hf
    refine mm_getA F hH mc_0 (k := 0) (by decide) (hts _ q185) (fun _ h => h) e1 dX0_digest_33 ?_
    replace hf := evn_b1 hf
    obtain ⟨q3, e2, hf⟩ := hf
    refine mm_getAN F hH mc_1 (k := 4) (by decide) q145 (fun _ h => h) e2 dX0_digest_36 ?_
    replace hf := evn_b1 hf
    obtain ⟨u, e3, hf⟩ := hf
    obtain ⟨fs, ek⟩ := ck_i e3
    replace hf := evn_b1 hf
    obtain ⟨σ4, e4, hf⟩ := hf
    refine mm_cv (va_runV (As := [.ref q3]) (rest := []) ⟨hx, hb, hml, hown, hts⟩ (m_X0_mixRow l G h0 q3 σ σ4 e4) (cwV 1 hts (lw_V q1026 q1028 qs30 q62 q1029) rfl rfl rfl (by decide +kernel) ⟨Nat.le_of_ble_eq_true rfl, Nat.le_of_ble_eq_true rfl⟩) (mm_preV F.2.2.2.2.2 hH (ci := 0) rfl ek) rfl rfl hl.1 rfl (lv_room (Nat.le_of_ble_eq_true rfl)) dX0_digest_39 hg) hH (fun H locs hH => ?_)
    refine lv_aload_n hx hb dX0_digest_42 rfl (lv_at hl 0 rfl) ?_
    refine lv_aload_n hx hb dX0_digest_43 rfl (lv_at hl 0 rfl) ?_
    replace hf := evn_b1 hf
    obtain ⟨q5, e5, hf⟩ := hf
    refine mm_getA F hH mc_0 (k := 0) (by decide) (hts _ q185) (fun _ h => h) e5 dX0_digest_44 ?_
    replace hf := evn_b1 hf
    obtain ⟨q6, e6, hf⟩ := hf
    refine mm_getAN F hH mc_1 (k := 5) (by decide) q147 (fun _ h => h) e6 dX0_digest_47 ?_
    replace hf := evn_b1 hf
    obtain ⟨u, e7, hf⟩ := hf
    obtain ⟨fs, ek⟩ := ck_i e7
    replace hf := evn_b1 hf
    obtain ⟨σ7, e8, hf⟩ := hf
    refine mm_cv (va_runV (As := [.ref q6]) (rest := []) ⟨hx, hb, hml, hown, hts⟩ (m_X0_mixRow l G h0 q6 σ4 σ7 e8) (cwV 1 hts (lw_V q1026 q1028 qs30 q62 q1029) rfl rfl rfl (by decide +kernel) ⟨Nat.le_of_ble_eq_true rfl, Nat.le_of_ble_eq_true rfl⟩) (mm_preV F.2.2.2.2.2 hH (ci := 0) rfl ek) rfl rfl hl.1 rfl (lv_room (Nat.le_of_ble_eq_true rfl)) dX0_digest_50 hg) hH (fun H locs hH => ?_)
    refine lv_iconst (v := 0) hx hb dX0_digest_53 (by decide) ?_
    refine lv_istore_n (lv' := [(1, .int (0 : Int32)), (0, .ref h0)]) hx hb dX0_digest_54 rfl hl (by decide) rfl (fun ls hl => ?_)
    rw [evn_l] at hf
    exact IH55 (0 : Int32) cn cs σ7 _ _ _ hH (lv_sub hl [1, 0] rfl) hf
  · rw [if_neg c1] at hf
    refine lv_aload_n hx hb dX0_digest_15 rfl (lv_at hl 0 rfl) ?_
    refine lv_aload_n hx hb dX0_digest_16 rfl (lv_at hl 0 rfl) ?_
    refine lv_iload_n hx hb dX0_digest_17 rfl (lv_at hl 1 rfl) ?_
    replace hf := evn_b1 hf
    obtain ⟨u, e9, hf⟩ := hf
    obtain ⟨fs, ek⟩ := ck_i e9
    replace hf := evn_b1 hf
    obtain ⟨v8, e10, hf⟩ := hf
    refine mm_ci (va_runV (As := [.int x1]) (rest := [.ref h0]) ⟨hx, hb, hml, hown, hts⟩ (m_X0_count l G h0 x1 σ v8 e10) (cwV 1 hts (lw_V q1020 q1012 q1013 q62 q1014) rfl rfl rfl (by decide +kernel) ⟨Nat.le_of_ble_eq_true rfl, Nat.le_of_ble_eq_true rfl⟩) (mm_preV F.2.2.2.2.2 hH (ci := 0) rfl ek) rfl rfl hl.1 rfl (lv_room (Nat.le_of_ble_eq_true rfl)) dX0_digest_18 hg) hH (fun H locs hH => ?_)
    refine lv_i2l hx hb dX0_digest_21 rfl ?_
    replace hf := evn_b1 hf
    obtain ⟨u, e11, hf⟩ := hf
    obtain ⟨fs, ek⟩ := ck_i e11
    replace hf := evn_b1 hf
    obtain ⟨σ9, e12, hf⟩ := hf
    refine mm_cv (va_runV (As := [.long v8.toInt64]) (rest := []) ⟨hx, hb, hml, hown, hts⟩ (m_X0_mix l G h0 v8.toInt64 σ σ9 e12) (cwV 1 hts (lw_V q1021 q1023 qs29 q62 q1024) rfl rfl rfl (by decide +kernel) ⟨Nat.le_of_ble_eq_true rfl, Nat.le_of_ble_eq_true rfl⟩) (mm_preV F.2.2.2.2.2 hH (ci := 0) rfl ek) rfl rfl hl.1 rfl (lv_room (Nat.le_of_ble_eq_true rfl)) dX0_digest_22 hg) hH (fun H locs hH => ?_)
    refine lv_iinc (v := x1 + (1 : Int32)) (lv' := [(1, .int (x1 + (1 : Int32))), (0, .ref h0)]) hx hb dX0_digest_25 hl (k := 1) rfl rfl (by decide) rfl (fun ls hl => ?_)
    refine lv_goto (tgt := 9) hx hb dX0_digest_28 (by decide) ?_
    rw [evn_l] at hf
    exact IH9 (x1 + (1 : Int32)) cn cs σ9 _ _ _ hH (lv_sub hl [1, 0] rfl) hf
set_option maxHeartbeats 4000000 in
theorem w_X0_digest_55 {p : Program} {l : Launch} {e : Env} {s : State} {m : MethodId} {av : Array Value} {below : List Frame} {meth : Method} {c : Code} {G : mm_G} {σf : mm_M} {rr : Int64} {n : Nat} {h0 : Nat} (F : mm_F p s m av c RX0 cX0_digest 2 G) (hr : meth.sig.returnType = (Option.some .long)) (hlocks : meth.locks = false) (hname : meth.name = yX0_digest.name) (IH9 : ∀ (x1 : Int32) (cn cs : Nat) (σ : mm_M) (H : Heap) (locs : List Loc) (ls : Array Slot), mm_H G s σ H locs → lv_has ls 2 [(0, .ref h0), (1, .int x1)] → itn (s_X0_digest h0) n (.inl (x1, cn, cs, σ)) = some (rr, σf) → W p l e rm_X0_digest s m av below meth c H locs cn cs (MQ below (mm_Ql G rr σf) av s 1700 13000 (mm_A G)) (F0 m 9 ls [])) (IH55 : ∀ (x1 : Int32) (cn cs : Nat) (σ : mm_M) (H : Heap) (locs : List Loc) (ls : Array Slot), mm_H G s σ H locs → lv_has ls 2 [(0, .ref h0), (1, .int x1)] → itn (s_X0_digest h0) n (.inr (.inl (x1, cn, cs, σ))) = some (rr, σf) → W p l e rm_X0_digest s m av below meth c H locs cn cs (MQ below (mm_Ql G rr σf) av s 1700 13000 (mm_A G)) (F0 m 55 ls [])) (IH95 : ∀ (x1 : Int32) (cn cs : Nat) (σ : mm_M) (H : Heap) (locs : List Loc) (ls : Array Slot), mm_H G s σ H locs → lv_has ls 2 [(0, .ref h0), (1, .int x1)] → itn (s_X0_digest h0) n (.inr (.inr (.inl (x1, cn, cs, σ)))) = some (rr, σf) → W p l e rm_X0_digest s m av below meth c H locs cn cs (MQ below (mm_Ql G rr σf) av s 1700 13000 (mm_A G)) (F0 m 95 ls [])) (IH118 : ∀ (x1 : Int32) (cn cs : Nat) (σ : mm_M) (H : Heap) (locs : List Loc) (ls : Array Slot), mm_H G s σ H locs → lv_has ls 2 [(0, .ref h0), (1, .int x1)] → itn (s_X0_digest h0) n (.inr (.inr (.inr (.inl (x1, cn, cs, σ))))) = some (rr, σf) → W p l e rm_X0_digest s m av below meth c H locs cn cs (MQ below (mm_Ql G rr σf) av s 1700 13000 (mm_A G)) (F0 m 118 ls [])) (IH151 : ∀ (x1 : Int32) (cn cs : Nat) (σ : mm_M) (H : Heap) (locs : List Loc) (ls : Array Slot), mm_H G s σ H locs → lv_has ls 2 [(0, .ref h0), (1, .int x1)] → itn (s_X0_digest h0) n (.inr (.inr (.inr (.inr (x1, cn, cs, σ))))) = some (rr, σf) → W p l e rm_X0_digest s m av below meth c H locs cn cs (MQ below (mm_Ql G rr σf) av s 1700 13000 (mm_A G)) (F0 m 151 ls []))  (x1 : Int32)  (cn cs : Nat) (σ : mm_M) (hf : evn (s_X0_digest h0) n (g_X0_digest_55 h0 x1 cn cs σ) = some (rr, σf)) {H : Heap} {locs : List Loc} {ls : Array Slot} (hH : mm_H G s σ H locs) (hl : lv_has ls 2 [(0, .ref h0), (1, .int x1)]) : W p l e rm_X0_digest s m av below meth c H locs cn cs (MQ below (mm_Ql G rr σf) av s 1700 13000 (mm_A G)) (F0 m 55 ls []) := by
  have hx := F.1
  have hb := F.2.1
  have hml := F.2.2.1
  have hown := F.2.2.2.1
  have hts := F.2.2.2.2.1
  unfold g_X0_digest_55 at hf
  replace hf := evn_b1 hf
  obtain ⟨u, e0, hf⟩ := hf
  have hg := grd_i e0
  refine lv_iload_n hx hb dX0_digest_55 rfl (lv_at hl 1 rfl) ?_
  refine lv_aload_n hx hb dX0_digest_56 rfl (lv_at hl 0 rfl) ?_
  replace hf := evn_b1 hf
  obtain ⟨q1, e1, hf⟩ := hf
  refine mm_getA F hH mc_0 (k := 0) (by decide) (hts _ q185) (fun _ h => h) e1 dX0_digest_57 ?_
  replace hf := evn_b1 hf
  obtain ⟨q2, e2, hf⟩ := hf
  refine mm_getAN F hH mc_1 (k := 2) (by decide) q139 (fun _ h => h) e2 dX0_digest_60 ?_
  replace hf := evn_b1 hf
  obtain ⟨u, e3, hf⟩ := hf
  obtain ⟨fs, ek⟩ := ck_i e3
  replace hf := evn_b1 hf
  obtain ⟨v3, e4, hf⟩ := hf
  refine mm_ci (va_runV (As := []) (rest := [.int x1]) ⟨hx, hb, hml, hown, hts⟩ (m_J2_size l G q2 σ v3 e4) (cwV 0 hts (lw_V q661 q291 q292 q66 q293) rfl rfl rfl (by decide +kernel) ⟨Nat.le_of_ble_eq_true rfl, Nat.le_of_ble_eq_true rfl⟩) (mm_preV F.2.2.2.2.2 hH (ci := 15) rfl ek) rfl rfl hl.1 rfl (lv_room (Nat.le_of_ble_eq_true rfl)) dX0_digest_63 hg) hH (fun H locs hH => ?_)
  refine lv_icmp_ge (tgt := 93) hx hb dX0_digest_66 (by decide) (fun c4 => ?_) (fun c4 => ?_)
  · rw [if_pos c4] at hf
    refine lv_iconst (v := 0) hx hb dX0_digest_93 (by decide) ?_
    refine lv_istore_n (lv' := [(1, .int (0 : Int32)), (0, .ref h0)]) hx hb dX0_digest_94 rfl hl (by decide) rfl (fun ls hl => ?_)
    rw [evn_l] at hf
    exact IH95 (0 : Int32) cn cs σ _ _ _ hH (lv_sub hl [1, 0] rfl) hf
  · rw [if_neg c4] at hf
    refine lv_aload_n hx hb dX0_digest_69 rfl (lv_at hl 0 rfl) ?_
    refine lv_aload_n hx hb dX0_digest_70 rfl (lv_at hl 0 rfl) ?_
    replace hf := evn_b1 hf
    obtain ⟨q5, e5, hf⟩ := hf
    refine mm_getA F hH mc_0 (k := 0) (by decide) (hts _ q185) (fun _ h => h) e5 dX0_digest_71 ?_
    replace hf := evn_b1 hf
    obtain ⟨q6, e6, hf⟩ := hf
    refine mm_getAN F hH mc_1 (k := 2) (by decide) q139 (fun _ h => h) e6 dX0_digest_74 ?_
    refine lv_iload_n hx hb dX0_digest_77 rfl (lv_at hl 1 rfl) ?_
    replace hf := evn_b1 hf
    obtain ⟨u, e7, hf⟩ := hf
    obtain ⟨fs, ek⟩ := ck_i e7
    replace hf := evn_b1 hf
    obtain ⟨p7, e8, hf⟩ := hf
    refine mm_cq (va_runV (As := [.int x1]) (rest := [.ref h0]) ⟨hx, hb, hml, hown, hts⟩ (m_J2_get l G q6 x1 σ p7 e8) (cwV 1 hts (lw_V q662 q295 q296 q66 q297) rfl rfl rfl (by decide +kernel) ⟨Nat.le_of_ble_eq_true rfl, Nat.le_of_ble_eq_true rfl⟩) (mm_preV F.2.2.2.2.2 hH (ci := 15) rfl ek) rfl rfl hl.1 rfl (lv_room (Nat.le_of_ble_eq_true rfl)) dX0_digest_78 hg) hH (fun H locs hH => ?_)
    replace hf := evn_b1 hf
    obtain ⟨q8, e9, hf⟩ := hf
    subst e9
    replace hf := evn_b1 hf
    obtain ⟨u, e10, hf⟩ := hf
    refine mm_cast F hH mc_3 (hts _ q182) e10 dX0_digest_81 ?_
    replace hf := evn_b1 hf
    obtain ⟨u, e11, hf⟩ := hf
    obtain ⟨fs, ek⟩ := ck_i e11
    replace hf := evn_b1 hf
    obtain ⟨u, e12, hf⟩ := hf
    have hg := grd_i e12
    replace hf := evn_b1 hf
    obtain ⟨σ9, e13, hf⟩ := hf
    refine mm_cv (va_runV (As := [.ref q8]) (rest := []) ⟨hx, hb, hml, hown, hts⟩ (m_X0_mixThing l G h0 q8 σ σ9 e13) (cwV 1 hts (lw_V q1030 q1032 qs31 q62 q1033) rfl rfl rfl (by decide +kernel) ⟨Nat.le_of_ble_eq_true rfl, Nat.le_of_ble_eq_true rfl⟩) (mm_preV F.2.2.2.2.2 hH (ci := 0) rfl ek) rfl rfl hl.1 rfl (lv_room (Nat.le_of_ble_eq_true rfl)) dX0_digest_84 hg) hH (fun H locs hH => ?_)
    refine lv_iinc (v := x1 + (1 : Int32)) (lv' := [(1, .int (x1 + (1 : Int32))), (0, .ref h0)]) hx hb dX0_digest_87 hl (k := 1) rfl rfl (by decide) rfl (fun ls hl => ?_)
    refine lv_goto (tgt := 55) hx hb dX0_digest_90 (by decide) ?_
    rw [evn_l] at hf
    exact IH55 (x1 + (1 : Int32)) (cn + 8) (cs + 64) σ9 _ _ _ hH (lv_sub hl [1, 0] rfl) hf
set_option maxHeartbeats 4000000 in
theorem w_X0_digest_95 {p : Program} {l : Launch} {e : Env} {s : State} {m : MethodId} {av : Array Value} {below : List Frame} {meth : Method} {c : Code} {G : mm_G} {σf : mm_M} {rr : Int64} {n : Nat} {h0 : Nat} (F : mm_F p s m av c RX0 cX0_digest 2 G) (hr : meth.sig.returnType = (Option.some .long)) (hlocks : meth.locks = false) (hname : meth.name = yX0_digest.name) (IH9 : ∀ (x1 : Int32) (cn cs : Nat) (σ : mm_M) (H : Heap) (locs : List Loc) (ls : Array Slot), mm_H G s σ H locs → lv_has ls 2 [(0, .ref h0), (1, .int x1)] → itn (s_X0_digest h0) n (.inl (x1, cn, cs, σ)) = some (rr, σf) → W p l e rm_X0_digest s m av below meth c H locs cn cs (MQ below (mm_Ql G rr σf) av s 1700 13000 (mm_A G)) (F0 m 9 ls [])) (IH55 : ∀ (x1 : Int32) (cn cs : Nat) (σ : mm_M) (H : Heap) (locs : List Loc) (ls : Array Slot), mm_H G s σ H locs → lv_has ls 2 [(0, .ref h0), (1, .int x1)] → itn (s_X0_digest h0) n (.inr (.inl (x1, cn, cs, σ))) = some (rr, σf) → W p l e rm_X0_digest s m av below meth c H locs cn cs (MQ below (mm_Ql G rr σf) av s 1700 13000 (mm_A G)) (F0 m 55 ls [])) (IH95 : ∀ (x1 : Int32) (cn cs : Nat) (σ : mm_M) (H : Heap) (locs : List Loc) (ls : Array Slot), mm_H G s σ H locs → lv_has ls 2 [(0, .ref h0), (1, .int x1)] → itn (s_X0_digest h0) n (.inr (.inr (.inl (x1, cn, cs, σ)))) = some (rr, σf) → W p l e rm_X0_digest s m av below meth c H locs cn cs (MQ below (mm_Ql G rr σf) av s 1700 13000 (mm_A G)) (F0 m 95 ls [])) (IH118 : ∀ (x1 : Int32) (cn cs : Nat) (σ : mm_M) (H : Heap) (locs : List Loc) (ls : Array Slot), mm_H G s σ H locs → lv_has ls 2 [(0, .ref h0), (1, .int x1)] → itn (s_X0_digest h0) n (.inr (.inr (.inr (.inl (x1, cn, cs, σ))))) = some (rr, σf) → W p l e rm_X0_digest s m av below meth c H locs cn cs (MQ below (mm_Ql G rr σf) av s 1700 13000 (mm_A G)) (F0 m 118 ls [])) (IH151 : ∀ (x1 : Int32) (cn cs : Nat) (σ : mm_M) (H : Heap) (locs : List Loc) (ls : Array Slot), mm_H G s σ H locs → lv_has ls 2 [(0, .ref h0), (1, .int x1)] → itn (s_X0_digest h0) n (.inr (.inr (.inr (.inr (x1, cn, cs, σ))))) = some (rr, σf) → W p l e rm_X0_digest s m av below meth c H locs cn cs (MQ below (mm_Ql G rr σf) av s 1700 13000 (mm_A G)) (F0 m 151 ls []))  (x1 : Int32)  (cn cs : Nat) (σ : mm_M) (hf : evn (s_X0_digest h0) n (g_X0_digest_95 h0 x1 cn cs σ) = some (rr, σf)) {H : Heap} {locs : List Loc} {ls : Array Slot} (hH : mm_H G s σ H locs) (hl : lv_has ls 2 [(0, .ref h0), (1, .int x1)]) : W p l e rm_X0_digest s m av below meth c H locs cn cs (MQ below (mm_Ql G rr σf) av s 1700 13000 (mm_A G)) (F0 m 95 ls []) := by
  have hx := F.1
  have hb := F.2.1
  have hml := F.2.2.1
  have hown := F.2.2.2.1
  have hts := F.2.2.2.2.1
  unfold g_X0_digest_95 at hf
  replace hf := evn_b1 hf
  obtain ⟨u, e0, hf⟩ := hf
  have hg := grd_i e0
  refine lv_iload_n hx hb dX0_digest_95 rfl (lv_at hl 1 rfl) ?_
  refine lv_iconst (v := 4) hx hb dX0_digest_96 (by decide) ?_
  refine lv_icmp_gt (tgt := 116) hx hb dX0_digest_97 (by decide) (fun c1 => ?_) (fun c1 => ?_)
  · rw [if_pos c1] at hf
    refine lv_iconst (v := 0) hx hb dX0_digest_116 (by decide) ?_
    refine lv_istore_n (lv' := [(1, .int (0 : Int32)), (0, .ref h0)]) hx hb dX0_digest_117 rfl hl (by decide) rfl (fun ls hl => ?_)
    rw [evn_l] at hf
    exact IH118 (0 : Int32) cn cs σ _ _ _ hH (lv_sub hl [1, 0] rfl) hf
  · rw [if_neg c1] at hf
    refine lv_aload_n hx hb dX0_digest_100 rfl (lv_at hl 0 rfl) ?_
    refine lv_aload_n hx hb dX0_digest_101 rfl (lv_at hl 0 rfl) ?_
    refine lv_iload_n hx hb dX0_digest_102 rfl (lv_at hl 1 rfl) ?_
    replace hf := evn_b1 hf
    obtain ⟨u, e1, hf⟩ := hf
    obtain ⟨fs, ek⟩ := ck_i e1
    replace hf := evn_b1 hf
    obtain ⟨v2, e2, hf⟩ := hf
    refine mm_ci (va_runV (As := [.int x1]) (rest := [.ref h0]) ⟨hx, hb, hml, hown, hts⟩ (m_X0_free l G h0 x1 σ v2 e2) (cwV 1 hts (lw_V q1035 q707 q708 q62 q709) rfl rfl rfl (by decide +kernel) ⟨Nat.le_of_ble_eq_true rfl, Nat.le_of_ble_eq_true rfl⟩) (mm_preV F.2.2.2.2.2 hH (ci := 0) rfl ek) rfl rfl hl.1 rfl (lv_room (Nat.le_of_ble_eq_true rfl)) dX0_digest_103 hg) hH (fun H locs hH => ?_)
    refine lv_i2l hx hb dX0_digest_106 rfl ?_
    replace hf := evn_b1 hf
    obtain ⟨u, e3, hf⟩ := hf
    obtain ⟨fs, ek⟩ := ck_i e3
    replace hf := evn_b1 hf
    obtain ⟨σ3, e4, hf⟩ := hf
    refine mm_cv (va_runV (As := [.long v2.toInt64]) (rest := []) ⟨hx, hb, hml, hown, hts⟩ (m_X0_mix l G h0 v2.toInt64 σ σ3 e4) (cwV 1 hts (lw_V q1021 q1023 qs29 q62 q1024) rfl rfl rfl (by decide +kernel) ⟨Nat.le_of_ble_eq_true rfl, Nat.le_of_ble_eq_true rfl⟩) (mm_preV F.2.2.2.2.2 hH (ci := 0) rfl ek) rfl rfl hl.1 rfl (lv_room (Nat.le_of_ble_eq_true rfl)) dX0_digest_107 hg) hH (fun H locs hH => ?_)
    refine lv_iinc (v := x1 + (1 : Int32)) (lv' := [(1, .int (x1 + (1 : Int32))), (0, .ref h0)]) hx hb dX0_digest_110 hl (k := 1) rfl rfl (by decide) rfl (fun ls hl => ?_)
    refine lv_goto (tgt := 95) hx hb dX0_digest_113 (by decide) ?_
    rw [evn_l] at hf
    exact IH95 (x1 + (1 : Int32)) cn cs σ3 _ _ _ hH (lv_sub hl [1, 0] rfl) hf
set_option maxHeartbeats 4000000 in
theorem w_X0_digest_118 {p : Program} {l : Launch} {e : Env} {s : State} {m : MethodId} {av : Array Value} {below : List Frame} {meth : Method} {c : Code} {G : mm_G} {σf : mm_M} {rr : Int64} {n : Nat} {h0 : Nat} (F : mm_F p s m av c RX0 cX0_digest 2 G) (hr : meth.sig.returnType = (Option.some .long)) (hlocks : meth.locks = false) (hname : meth.name = yX0_digest.name) (IH9 : ∀ (x1 : Int32) (cn cs : Nat) (σ : mm_M) (H : Heap) (locs : List Loc) (ls : Array Slot), mm_H G s σ H locs → lv_has ls 2 [(0, .ref h0), (1, .int x1)] → itn (s_X0_digest h0) n (.inl (x1, cn, cs, σ)) = some (rr, σf) → W p l e rm_X0_digest s m av below meth c H locs cn cs (MQ below (mm_Ql G rr σf) av s 1700 13000 (mm_A G)) (F0 m 9 ls [])) (IH55 : ∀ (x1 : Int32) (cn cs : Nat) (σ : mm_M) (H : Heap) (locs : List Loc) (ls : Array Slot), mm_H G s σ H locs → lv_has ls 2 [(0, .ref h0), (1, .int x1)] → itn (s_X0_digest h0) n (.inr (.inl (x1, cn, cs, σ))) = some (rr, σf) → W p l e rm_X0_digest s m av below meth c H locs cn cs (MQ below (mm_Ql G rr σf) av s 1700 13000 (mm_A G)) (F0 m 55 ls [])) (IH95 : ∀ (x1 : Int32) (cn cs : Nat) (σ : mm_M) (H : Heap) (locs : List Loc) (ls : Array Slot), mm_H G s σ H locs → lv_has ls 2 [(0, .ref h0), (1, .int x1)] → itn (s_X0_digest h0) n (.inr (.inr (.inl (x1, cn, cs, σ)))) = some (rr, σf) → W p l e rm_X0_digest s m av below meth c H locs cn cs (MQ below (mm_Ql G rr σf) av s 1700 13000 (mm_A G)) (F0 m 95 ls [])) (IH118 : ∀ (x1 : Int32) (cn cs : Nat) (σ : mm_M) (H : Heap) (locs : List Loc) (ls : Array Slot), mm_H G s σ H locs → lv_has ls 2 [(0, .ref h0), (1, .int x1)] → itn (s_X0_digest h0) n (.inr (.inr (.inr (.inl (x1, cn, cs, σ))))) = some (rr, σf) → W p l e rm_X0_digest s m av below meth c H locs cn cs (MQ below (mm_Ql G rr σf) av s 1700 13000 (mm_A G)) (F0 m 118 ls [])) (IH151 : ∀ (x1 : Int32) (cn cs : Nat) (σ : mm_M) (H : Heap) (locs : List Loc) (ls : Array Slot), mm_H G s σ H locs → lv_has ls 2 [(0, .ref h0), (1, .int x1)] → itn (s_X0_digest h0) n (.inr (.inr (.inr (.inr (x1, cn, cs, σ))))) = some (rr, σf) → W p l e rm_X0_digest s m av below meth c H locs cn cs (MQ below (mm_Ql G rr σf) av s 1700 13000 (mm_A G)) (F0 m 151 ls []))  (x1 : Int32)  (cn cs : Nat) (σ : mm_M) (hf : evn (s_X0_digest h0) n (g_X0_digest_118 h0 x1 cn cs σ) = some (rr, σf)) {H : Heap} {locs : List Loc} {ls : Array Slot} (hH : mm_H G s σ H locs) (hl : lv_has ls 2 [(0, .ref h0), (1, .int x1)]) : W p l e rm_X0_digest s m av below meth c H locs cn cs (MQ below (mm_Ql G rr σf) av s 1700 13000 (mm_A G)) (F0 m 118 ls []) := by
  have hx := F.1
  have hb := F.2.1
  have hml := F.2.2.1
  have hown := F.2.2.2.1
  have hts := F.2.2.2.2.1
  unfold g_X0_digest_118 at hf
  replace hf := evn_b1 hf
  obtain ⟨u, e0, hf⟩ := hf
  have hg := grd_i e0
  refine lv_iload_n hx hb dX0_digest_118 rfl (lv_at hl 1 rfl) ?_
  refine lv_iconst (v := 5) hx hb dX0_digest_119 (by decide) ?_
  refine lv_icmp_gt (tgt := 149) hx hb dX0_digest_120 (by decide) (fun c1 => ?_) (fun c1 => ?_)
  · rw [if_pos c1] at hf
    refine lv_iconst (v := 0) hx hb dX0_digest_149 (by decide) ?_
    refine lv_istore_n (lv' := [(1, .int (0 : Int32)), (0, .ref h0)]) hx hb dX0_digest_150 rfl hl (by decide) rfl (fun ls hl => ?_)
    rw [evn_l] at hf
    exact IH151 (0 : Int32) cn cs σ _ _ _ hH (lv_sub hl [1, 0] rfl) hf
  · rw [if_neg c1] at hf
    refine lv_aload_n hx hb dX0_digest_123 rfl (lv_at hl 0 rfl) ?_
    replace hf := evn_b1 hf
    obtain ⟨q2, e1, hf⟩ := hf
    refine mm_getA F hH mc_0 (k := 0) (by decide) (hts _ q185) (fun _ h => h) e1 dX0_digest_124 ?_
    replace hf := evn_b1 hf
    obtain ⟨p3, e2, hf⟩ := hf
    refine mm_getRN F hH mc_1 (k := 9) (by decide) q155 (fun _ h => h) e2 dX0_digest_127 ?_
    cases p3 with
    | none =>
      rw [mt_n] at hf
      refine lv_ifnullN (tgt := 149) hx hb dX0_digest_130 (by decide) ?_
      refine lv_iconst (v := 0) hx hb dX0_digest_149 (by decide) ?_
      refine lv_istore_n (lv' := [(1, .int (0 : Int32)), (0, .ref h0)]) hx hb dX0_digest_150 rfl hl (by decide) rfl (fun ls hl => ?_)
      rw [evn_l] at hf
      exact IH151 (0 : Int32) cn cs σ _ _ _ hH (lv_sub hl [1, 0] rfl) hf
    | some q4 =>
      rw [mt_s] at hf
      refine lv_ifnull hx hb dX0_digest_130 ?_
      refine lv_aload_n hx hb dX0_digest_133 rfl (lv_at hl 0 rfl) ?_
      refine lv_aload_n hx hb dX0_digest_134 rfl (lv_at hl 0 rfl) ?_
      refine lv_iload_n hx hb dX0_digest_135 rfl (lv_at hl 1 rfl) ?_
      replace hf := evn_b1 hf
      obtain ⟨u, e3, hf⟩ := hf
      obtain ⟨fs, ek⟩ := ck_i e3
      replace hf := evn_b1 hf
      obtain ⟨v5, e4, hf⟩ := hf
      refine mm_ci (va_runV (As := [.int x1]) (rest := [.ref h0]) ⟨hx, hb, hml, hown, hts⟩ (m_X0_report l G h0 x1 σ v5 e4) (cwV 1 hts (lw_V q1036 q646 q647 q62 q648) rfl rfl rfl (by decide +kernel) ⟨Nat.le_of_ble_eq_true rfl, Nat.le_of_ble_eq_true rfl⟩) (mm_preV F.2.2.2.2.2 hH (ci := 0) rfl ek) rfl rfl hl.1 rfl (lv_room (Nat.le_of_ble_eq_true rfl)) dX0_digest_136 hg) hH (fun H locs hH => ?_)
      refine lv_i2l hx hb dX0_digest_139 rfl ?_
      replace hf := evn_b1 hf
      obtain ⟨u, e5, hf⟩ := hf
      obtain ⟨fs, ek⟩ := ck_i e5
      replace hf := evn_b1 hf
      obtain ⟨σ6, e6, hf⟩ := hf
      refine mm_cv (va_runV (As := [.long v5.toInt64]) (rest := []) ⟨hx, hb, hml, hown, hts⟩ (m_X0_mix l G h0 v5.toInt64 σ σ6 e6) (cwV 1 hts (lw_V q1021 q1023 qs29 q62 q1024) rfl rfl rfl (by decide +kernel) ⟨Nat.le_of_ble_eq_true rfl, Nat.le_of_ble_eq_true rfl⟩) (mm_preV F.2.2.2.2.2 hH (ci := 0) rfl ek) rfl rfl hl.1 rfl (lv_room (Nat.le_of_ble_eq_true rfl)) dX0_digest_140 hg) hH (fun H locs hH => ?_)
      refine lv_iinc (v := x1 + (1 : Int32)) (lv' := [(1, .int (x1 + (1 : Int32))), (0, .ref h0)]) hx hb dX0_digest_143 hl (k := 1) rfl rfl (by decide) rfl (fun ls hl => ?_)
      refine lv_goto (tgt := 118) hx hb dX0_digest_146 (by decide) ?_
      rw [evn_l] at hf
      exact IH118 (x1 + (1 : Int32)) cn cs σ6 _ _ _ hH (lv_sub hl [1, 0] rfl) hf
set_option maxHeartbeats 4000000 in
theorem w_X0_digest_151 {p : Program} {l : Launch} {e : Env} {s : State} {m : MethodId} {av : Array Value} {below : List Frame} {meth : Method} {c : Code} {G : mm_G} {σf : mm_M} {rr : Int64} {n : Nat} {h0 : Nat} (F : mm_F p s m av c RX0 cX0_digest 2 G) (hr : meth.sig.returnType = (Option.some .long)) (hlocks : meth.locks = false) (hname : meth.name = yX0_digest.name) (IH9 : ∀ (x1 : Int32) (cn cs : Nat) (σ : mm_M) (H : Heap) (locs : List Loc) (ls : Array Slot), mm_H G s σ H locs → lv_has ls 2 [(0, .ref h0), (1, .int x1)] → itn (s_X0_digest h0) n (.inl (x1, cn, cs, σ)) = some (rr, σf) → W p l e rm_X0_digest s m av below meth c H locs cn cs (MQ below (mm_Ql G rr σf) av s 1700 13000 (mm_A G)) (F0 m 9 ls [])) (IH55 : ∀ (x1 : Int32) (cn cs : Nat) (σ : mm_M) (H : Heap) (locs : List Loc) (ls : Array Slot), mm_H G s σ H locs → lv_has ls 2 [(0, .ref h0), (1, .int x1)] → itn (s_X0_digest h0) n (.inr (.inl (x1, cn, cs, σ))) = some (rr, σf) → W p l e rm_X0_digest s m av below meth c H locs cn cs (MQ below (mm_Ql G rr σf) av s 1700 13000 (mm_A G)) (F0 m 55 ls [])) (IH95 : ∀ (x1 : Int32) (cn cs : Nat) (σ : mm_M) (H : Heap) (locs : List Loc) (ls : Array Slot), mm_H G s σ H locs → lv_has ls 2 [(0, .ref h0), (1, .int x1)] → itn (s_X0_digest h0) n (.inr (.inr (.inl (x1, cn, cs, σ)))) = some (rr, σf) → W p l e rm_X0_digest s m av below meth c H locs cn cs (MQ below (mm_Ql G rr σf) av s 1700 13000 (mm_A G)) (F0 m 95 ls [])) (IH118 : ∀ (x1 : Int32) (cn cs : Nat) (σ : mm_M) (H : Heap) (locs : List Loc) (ls : Array Slot), mm_H G s σ H locs → lv_has ls 2 [(0, .ref h0), (1, .int x1)] → itn (s_X0_digest h0) n (.inr (.inr (.inr (.inl (x1, cn, cs, σ))))) = some (rr, σf) → W p l e rm_X0_digest s m av below meth c H locs cn cs (MQ below (mm_Ql G rr σf) av s 1700 13000 (mm_A G)) (F0 m 118 ls [])) (IH151 : ∀ (x1 : Int32) (cn cs : Nat) (σ : mm_M) (H : Heap) (locs : List Loc) (ls : Array Slot), mm_H G s σ H locs → lv_has ls 2 [(0, .ref h0), (1, .int x1)] → itn (s_X0_digest h0) n (.inr (.inr (.inr (.inr (x1, cn, cs, σ))))) = some (rr, σf) → W p l e rm_X0_digest s m av below meth c H locs cn cs (MQ below (mm_Ql G rr σf) av s 1700 13000 (mm_A G)) (F0 m 151 ls []))  (x1 : Int32)  (cn cs : Nat) (σ : mm_M) (hf : evn (s_X0_digest h0) n (g_X0_digest_151 h0 x1 cn cs σ) = some (rr, σf)) {H : Heap} {locs : List Loc} {ls : Array Slot} (hH : mm_H G s σ H locs) (hl : lv_has ls 2 [(0, .ref h0), (1, .int x1)]) : W p l e rm_X0_digest s m av below meth c H locs cn cs (MQ below (mm_Ql G rr σf) av s 1700 13000 (mm_A G)) (F0 m 151 ls []) := by
  have hx := F.1
  have hb := F.2.1
  have hml := F.2.2.1
  have hown := F.2.2.2.1
  have hts := F.2.2.2.2.1
  unfold g_X0_digest_151 at hf
  replace hf := evn_b1 hf
  obtain ⟨u, e0, hf⟩ := hf
  have hg := grd_i e0
  refine lv_iload_n hx hb dX0_digest_151 rfl (lv_at hl 1 rfl) ?_
  refine lv_aload_n hx hb dX0_digest_152 rfl (lv_at hl 0 rfl) ?_
  replace hf := evn_b1 hf
  obtain ⟨v1, e1, hf⟩ := hf
  refine mm_getI F hH mc_0 (k := 3) (by decide) (hts _ q192) (fun _ h => h) e1 dX0_digest_153 ?_
  refine lv_icmp_ge (tgt := 176) hx hb dX0_digest_156 (by decide) (fun c2 => ?_) (fun c2 => ?_)
  · rw [if_pos c2] at hf
    refine lv_aload_n hx hb dX0_digest_176 rfl (lv_at hl 0 rfl) ?_
    replace hf := evn_b1 hf
    obtain ⟨w3, e2, hf⟩ := hf
    refine mm_getL F hH mc_0 (k := 6) (by decide) (hts _ q195) (fun _ h => h) e2 dX0_digest_177 ?_
    rw [evn_r] at hf
    obtain ⟨h1, h2⟩ := Prod.mk.inj (Option.some.inj hf)
    subst h1
    subst h2
    refine W.widen (k := 1700) (n := 13000) hg.1 hg.2 ?_
    exact mm_retl F hH hr hlocks rfl dX0_digest_180
  · rw [if_neg c2] at hf
    refine lv_aload_n hx hb dX0_digest_159 rfl (lv_at hl 0 rfl) ?_
    refine lv_aload_n hx hb dX0_digest_160 rfl (lv_at hl 0 rfl) ?_
    replace hf := evn_b1 hf
    obtain ⟨q4, e3, hf⟩ := hf
    refine mm_getA F hH mc_0 (k := 2) (by decide) (hts _ q190) (fun _ h => h) e3 dX0_digest_161 ?_
    refine lv_iload_n hx hb dX0_digest_164 rfl (lv_at hl 1 rfl) ?_
    replace hf := evn_b1 hf
    obtain ⟨v5, e4, hf⟩ := hf
    refine mm_bald F hH e4 dX0_digest_165 ?_
    refine lv_i2l hx hb dX0_digest_166 rfl ?_
    replace hf := evn_b1 hf
    obtain ⟨u, e5, hf⟩ := hf
    obtain ⟨fs, ek⟩ := ck_i e5
    replace hf := evn_b1 hf
    obtain ⟨σ6, e6, hf⟩ := hf
    refine mm_cv (va_runV (As := [.long v5.toInt64]) (rest := []) ⟨hx, hb, hml, hown, hts⟩ (m_X0_mix l G h0 v5.toInt64 σ σ6 e6) (cwV 1 hts (lw_V q1021 q1023 qs29 q62 q1024) rfl rfl rfl (by decide +kernel) ⟨Nat.le_of_ble_eq_true rfl, Nat.le_of_ble_eq_true rfl⟩) (mm_preV F.2.2.2.2.2 hH (ci := 0) rfl ek) rfl rfl hl.1 rfl (lv_room (Nat.le_of_ble_eq_true rfl)) dX0_digest_167 hg) hH (fun H locs hH => ?_)
    refine lv_iinc (v := x1 + (1 : Int32)) (lv' := [(1, .int (x1 + (1 : Int32))), (0, .ref h0)]) hx hb dX0_digest_170 hl (k := 1) rfl rfl (by decide) rfl (fun ls hl => ?_)
    refine lv_goto (tgt := 151) hx hb dX0_digest_173 (by decide) ?_
    rw [evn_l] at hf
    exact IH151 (x1 + (1 : Int32)) cn cs σ6 _ _ _ hH (lv_sub hl [1, 0] rfl) hf
set_option maxHeartbeats 4000000 in
theorem w_X0_digest_0 {p : Program} {l : Launch} {e : Env} {s : State} {m : MethodId} {av : Array Value} {below : List Frame} {meth : Method} {c : Code} {G : mm_G} {σf : mm_M} {rr : Int64} {n : Nat} {h0 : Nat} (F : mm_F p s m av c RX0 cX0_digest 2 G) (hr : meth.sig.returnType = (Option.some .long)) (hlocks : meth.locks = false) (hname : meth.name = yX0_digest.name) (IH9 : ∀ (x1 : Int32) (cn cs : Nat) (σ : mm_M) (H : Heap) (locs : List Loc) (ls : Array Slot), mm_H G s σ H locs → lv_has ls 2 [(0, .ref h0), (1, .int x1)] → itn (s_X0_digest h0) n (.inl (x1, cn, cs, σ)) = some (rr, σf) → W p l e rm_X0_digest s m av below meth c H locs cn cs (MQ below (mm_Ql G rr σf) av s 1700 13000 (mm_A G)) (F0 m 9 ls [])) (IH55 : ∀ (x1 : Int32) (cn cs : Nat) (σ : mm_M) (H : Heap) (locs : List Loc) (ls : Array Slot), mm_H G s σ H locs → lv_has ls 2 [(0, .ref h0), (1, .int x1)] → itn (s_X0_digest h0) n (.inr (.inl (x1, cn, cs, σ))) = some (rr, σf) → W p l e rm_X0_digest s m av below meth c H locs cn cs (MQ below (mm_Ql G rr σf) av s 1700 13000 (mm_A G)) (F0 m 55 ls [])) (IH95 : ∀ (x1 : Int32) (cn cs : Nat) (σ : mm_M) (H : Heap) (locs : List Loc) (ls : Array Slot), mm_H G s σ H locs → lv_has ls 2 [(0, .ref h0), (1, .int x1)] → itn (s_X0_digest h0) n (.inr (.inr (.inl (x1, cn, cs, σ)))) = some (rr, σf) → W p l e rm_X0_digest s m av below meth c H locs cn cs (MQ below (mm_Ql G rr σf) av s 1700 13000 (mm_A G)) (F0 m 95 ls [])) (IH118 : ∀ (x1 : Int32) (cn cs : Nat) (σ : mm_M) (H : Heap) (locs : List Loc) (ls : Array Slot), mm_H G s σ H locs → lv_has ls 2 [(0, .ref h0), (1, .int x1)] → itn (s_X0_digest h0) n (.inr (.inr (.inr (.inl (x1, cn, cs, σ))))) = some (rr, σf) → W p l e rm_X0_digest s m av below meth c H locs cn cs (MQ below (mm_Ql G rr σf) av s 1700 13000 (mm_A G)) (F0 m 118 ls [])) (IH151 : ∀ (x1 : Int32) (cn cs : Nat) (σ : mm_M) (H : Heap) (locs : List Loc) (ls : Array Slot), mm_H G s σ H locs → lv_has ls 2 [(0, .ref h0), (1, .int x1)] → itn (s_X0_digest h0) n (.inr (.inr (.inr (.inr (x1, cn, cs, σ))))) = some (rr, σf) → W p l e rm_X0_digest s m av below meth c H locs cn cs (MQ below (mm_Ql G rr σf) av s 1700 13000 (mm_A G)) (F0 m 151 ls []))    (σ : mm_M) (hf : evn (s_X0_digest h0) n (g_X0_digest_0 h0 σ) = some (rr, σf)) {H : Heap} {locs : List Loc} {ls : Array Slot} (hH : mm_H G s σ H locs) (hl : lv_has ls 2 [(0, .ref h0)]) : W p l e rm_X0_digest s m av below meth c H locs 0 0 (MQ below (mm_Ql G rr σf) av s 1700 13000 (mm_A G)) (F0 m 0 ls []) := by
  have hx := F.1
  have hb := F.2.1
  have hml := F.2.2.1
  have hown := F.2.2.2.1
  have hts := F.2.2.2.2.1
  unfold g_X0_digest_0 at hf
  have hg : 0 ≤ 1700 ∧ 0 ≤ 13000 := ⟨Nat.zero_le _, Nat.zero_le _⟩
  refine lv_aload_n hx hb dX0_digest_0 rfl (lv_at hl 0 rfl) ?_
  refine lv_ldc2 (v := (47)) hx hb hown (hts _ q1019) dX0_digest_1 ?_
  replace hf := evn_b1 hf
  obtain ⟨σ1, e1, hf⟩ := hf
  refine mm_put F hH mc_0 (k := 6) (v := vL (47 : Int64)) (by decide) (hts _ q195) (fun _ h => h) rfl rfl rfl e1 dX0_digest_4 (fun H locs hH => ?_)
  refine lv_iconst (v := 0) hx hb dX0_digest_7 (by decide) ?_
  refine lv_istore_n (lv' := [(1, .int (0 : Int32)), (0, .ref h0)]) hx hb dX0_digest_8 rfl hl (by decide) rfl (fun ls hl => ?_)
  rw [evn_l] at hf
  exact IH9 (0 : Int32) 0 0 σ1 _ _ _ hH (lv_sub hl [1, 0] rfl) hf
set_option maxHeartbeats 4000000 in
theorem l_X0_digest {p : Program} {l : Launch} {e : Env} {s : State} {m : MethodId} {av : Array Value} {below : List Frame} {meth : Method} {c : Code} {G : mm_G} {σf : mm_M} {rr : Int64} {h0 : Nat} (F : mm_F p s m av c RX0 cX0_digest 2 G) (hr : meth.sig.returnType = (Option.some .long)) (hlocks : meth.locks = false) (hname : meth.name = yX0_digest.name) : ∀ n : Nat, (∀ (x1 : Int32) (cn cs : Nat) (σ : mm_M) (H : Heap) (locs : List Loc) (ls : Array Slot), mm_H G s σ H locs → lv_has ls 2 [(0, .ref h0), (1, .int x1)] → itn (s_X0_digest h0) n (.inl (x1, cn, cs, σ)) = some (rr, σf) → W p l e rm_X0_digest s m av below meth c H locs cn cs (MQ below (mm_Ql G rr σf) av s 1700 13000 (mm_A G)) (F0 m 9 ls [])) ∧ (∀ (x1 : Int32) (cn cs : Nat) (σ : mm_M) (H : Heap) (locs : List Loc) (ls : Array Slot), mm_H G s σ H locs → lv_has ls 2 [(0, .ref h0), (1, .int x1)] → itn (s_X0_digest h0) n (.inr (.inl (x1, cn, cs, σ))) = some (rr, σf) → W p l e rm_X0_digest s m av below meth c H locs cn cs (MQ below (mm_Ql G rr σf) av s 1700 13000 (mm_A G)) (F0 m 55 ls [])) ∧ (∀ (x1 : Int32) (cn cs : Nat) (σ : mm_M) (H : Heap) (locs : List Loc) (ls : Array Slot), mm_H G s σ H locs → lv_has ls 2 [(0, .ref h0), (1, .int x1)] → itn (s_X0_digest h0) n (.inr (.inr (.inl (x1, cn, cs, σ)))) = some (rr, σf) → W p l e rm_X0_digest s m av below meth c H locs cn cs (MQ below (mm_Ql G rr σf) av s 1700 13000 (mm_A G)) (F0 m 95 ls [])) ∧ (∀ (x1 : Int32) (cn cs : Nat) (σ : mm_M) (H : Heap) (locs : List Loc) (ls : Array Slot), mm_H G s σ H locs → lv_has ls 2 [(0, .ref h0), (1, .int x1)] → itn (s_X0_digest h0) n (.inr (.inr (.inr (.inl (x1, cn, cs, σ))))) = some (rr, σf) → W p l e rm_X0_digest s m av below meth c H locs cn cs (MQ below (mm_Ql G rr σf) av s 1700 13000 (mm_A G)) (F0 m 118 ls [])) ∧ (∀ (x1 : Int32) (cn cs : Nat) (σ : mm_M) (H : Heap) (locs : List Loc) (ls : Array Slot), mm_H G s σ H locs → lv_has ls 2 [(0, .ref h0), (1, .int x1)] → itn (s_X0_digest h0) n (.inr (.inr (.inr (.inr (x1, cn, cs, σ))))) = some (rr, σf) → W p l e rm_X0_digest s m av below meth c H locs cn cs (MQ below (mm_Ql G rr σf) av s 1700 13000 (mm_A G)) (F0 m 151 ls [])) := by
  intro n
  induction n with
  | zero =>
    exact ⟨fun x1 cn cs σ H locs ls hH hl hf => (by cases hf), fun x1 cn cs σ H locs ls hH hl hf => (by cases hf), fun x1 cn cs σ H locs ls hH hl hf => (by cases hf), fun x1 cn cs σ H locs ls hH hl hf => (by cases hf), fun x1 cn cs σ H locs ls hH hl hf => (by cases hf)⟩
  | succ n ih =>
    obtain ⟨IH9, IH55, IH95, IH118, IH151⟩ := ih
    refine ⟨?_, ?_, ?_, ?_, ?_⟩
    · intro x1 cn cs σ H locs ls hH hl hf
      rw [itn_s] at hf
      exact w_X0_digest_9 F hr hlocks hname IH9 IH55 IH95 IH118 IH151 x1 cn cs σ hf hH hl
    · intro x1 cn cs σ H locs ls hH hl hf
      rw [itn_s] at hf
      exact w_X0_digest_55 F hr hlocks hname IH9 IH55 IH95 IH118 IH151 x1 cn cs σ hf hH hl
    · intro x1 cn cs σ H locs ls hH hl hf
      rw [itn_s] at hf
      exact w_X0_digest_95 F hr hlocks hname IH9 IH55 IH95 IH118 IH151 x1 cn cs σ hf hH hl
    · intro x1 cn cs σ H locs ls hH hl hf
      rw [itn_s] at hf
      exact w_X0_digest_118 F hr hlocks hname IH9 IH55 IH95 IH118 IH151 x1 cn cs σ hf hH hl
    · intro x1 cn cs σ H locs ls hH hl hf
      rw [itn_s] at hf
      exact w_X0_digest_151 F hr hlocks hname IH9 IH55 IH95 IH118 IH151 x1 cn cs σ hf hH hl
set_option maxHeartbeats 4000000 in
theorem m_X0_digest (l : Launch) (G : mm_G) (h0 : Nat) (σ : mm_M) (σf : mm_M) (rr : Int64) (hf : f_X0_digest h0 σ = some (rr, σf)) : Met l yX0_digest (ws_ yX0_digest cX0_digest 2 ((Option.some .long))) rm_X0_digest (mm_Pc G [.ref h0] σ) (mm_Ql G rr σf) 1700 13000 (mm_A G) := by
  refine mm_met (by decide) rfl rfl (by  exact Nat.le_of_ble_eq_true rfl) (fun p e s m below meth c ls F hH hr hlocks hname hl => ?_)
  have hl : lv_has ls 2 [(0, .ref h0)] := by  exact hl
  have F : mm_F p s m _ c RX0 cX0_digest 2 G := F
  unfold f_X0_digest at hf
  obtain ⟨n, hf⟩ := lgo_i hf
  have IH := l_X0_digest (l := l) (e := e) (below := below) (rr := rr) (σf := σf) (h0 := h0) F hr hlocks hname n
  exact w_X0_digest_0 F hr hlocks hname IH.1 IH.2.1 IH.2.2.1 IH.2.2.2.1 IH.2.2.2.2 σ hf hH (lv_sub hl [0] rfl)
/-! IslandHeapModel.begins(II)V -/
abbrev rm_X2_begins : Room := { frames := 0, cells := 0, slots := 0, locals := 0 }
set_option maxHeartbeats 4000000 in
theorem w_X2_begins_2 {p : Program} {l : Launch} {e : Env} {s : State} {m : MethodId} {av : Array Value} {below : List Frame} {meth : Method} {c : Code} {G : mm_G} {σf : mm_M} {n : Nat} {h0 : Nat} {x1 : Int32} {x2 : Int32} (F : mm_F p s m av c RX2 cX2_begins 4 G) (hr : meth.sig.returnType = (Option.none : Option Jvm.ClassFile.FieldType)) (hlocks : meth.locks = false) (hname : meth.name = yX2_begins.name) (IH2 : ∀ (x3 : Int32) (σ : mm_M) (H : Heap) (locs : List Loc) (ls : Array Slot), mm_H G s σ H locs → lv_has ls 4 [(0, .ref h0), (1, .int x1), (2, .int x2), (3, .int x3)] → itn (s_X2_begins h0 x1 x2) n (x3, σ) = some σf → W p l e rm_X2_begins s m av below meth c H locs 0 0 (MQ below (mm_Qv G σf) av s 0 0 (mm_A G)) (F0 m 2 ls []))  (x3 : Int32)  (σ : mm_M) (hf : evn (s_X2_begins h0 x1 x2) n (g_X2_begins_2 h0 x1 x2 x3 σ) = some σf) {H : Heap} {locs : List Loc} {ls : Array Slot} (hH : mm_H G s σ H locs) (hl : lv_has ls 4 [(0, .ref h0), (1, .int x1), (2, .int x2), (3, .int x3)]) : W p l e rm_X2_begins s m av below meth c H locs 0 0 (MQ below (mm_Qv G σf) av s 0 0 (mm_A G)) (F0 m 2 ls []) := by
  have hx := F.1
  have hb := F.2.1
  have hml := F.2.2.1
  have hown := F.2.2.2.1
  have hts := F.2.2.2.2.1
  unfold g_X2_begins_2 at hf
  refine lv_iload_n hx hb dX2_begins_2 rfl (lv_at hl 3 rfl) ?_
  refine lv_sipush (v := 1222) hx hb dX2_begins_3 (by decide) ?_
  refine lv_icmp_ge (tgt := 40) hx hb dX2_begins_6 (by decide) (fun c1 => ?_) (fun c1 => ?_)
  · rw [if_pos c1] at hf
    refine lv_aload_n hx hb dX2_begins_40 rfl (lv_at hl 0 rfl) ?_
    replace hf := evn_b1 hf
    obtain ⟨q2, e1, hf⟩ := hf
    refine mm_getA F hH mc_2 (k := 0) (by decide) (hts _ q1047) (fun _ h => h) e1 dX2_begins_41 ?_
    refine lv_sipush (v := 1216) hx hb dX2_begins_44 (by decide) ?_
    refine lv_iload_n hx hb dX2_begins_47 rfl (lv_at hl 1 rfl) ?_
    replace hf := evn_b1 hf
    obtain ⟨σ3, e2, hf⟩ := hf
    refine mm_iast F hH e2 dX2_begins_48 (fun H locs hH => ?_)
    refine lv_aload_n hx hb dX2_begins_49 rfl (lv_at hl 0 rfl) ?_
    replace hf := evn_b1 hf
    obtain ⟨q4, e3, hf⟩ := hf
    refine mm_getA F hH mc_2 (k := 0) (by decide) (hts _ q1047) (fun _ h => h) e3 dX2_begins_50 ?_
    refine lv_sipush (v := 1217) hx hb dX2_begins_53 (by decide) ?_
    refine lv_iload_n hx hb dX2_begins_56 rfl (lv_at hl 2 rfl) ?_
    replace hf := evn_b1 hf
    obtain ⟨σ5, e4, hf⟩ := hf
    refine mm_iast F hH e4 dX2_begins_57 (fun H locs hH => ?_)
    rw [evn_r] at hf
    have h1 := Option.some.inj hf
    subst h1
    exact mm_retv F hH hr hlocks dX2_begins_58
  · rw [if_neg c1] at hf
    refine lv_aload_n hx hb dX2_begins_9 rfl (lv_at hl 0 rfl) ?_
    replace hf := evn_b1 hf
    obtain ⟨q6, e5, hf⟩ := hf
    refine mm_getA F hH mc_2 (k := 0) (by decide) (hts _ q1047) (fun _ h => h) e5 dX2_begins_10 ?_
    refine lv_iload_n hx hb dX2_begins_13 rfl (lv_at hl 3 rfl) ?_
    refine lv_iload_n hx hb dX2_begins_14 rfl (lv_at hl 3 rfl) ?_
    refine lv_sipush (v := 1200) hx hb dX2_begins_15 (by decide) ?_
    refine lv_icmp_lt (tgt := 32) hx hb dX2_begins_18 (by decide) (fun c7 => ?_) (fun c7 => ?_)
    · rw [if_pos c7] at hf
      refine lv_iconst (v := 0) hx hb dX2_begins_32 (by decide) ?_
      replace hf := evn_b1 hf
      obtain ⟨σ8, e6, hf⟩ := hf
      refine mm_iast F hH e6 dX2_begins_33 (fun H locs hH => ?_)
      refine lv_iinc (v := x3 + (1 : Int32)) (lv' := [(3, .int (x3 + (1 : Int32))), (0, .ref h0), (1, .int x1), (2, .int x2)]) hx hb dX2_begins_34 hl (k := 3) rfl rfl (by decide) rfl (fun ls hl => ?_)
      refine lv_goto (tgt := 2) hx hb dX2_begins_37 (by decide) ?_
      rw [evn_l] at hf
      exact IH2 (x3 + (1 : Int32)) σ8 _ _ _ hH (lv_sub hl [1, 2, 3, 0] rfl) hf
    · rw [if_neg c7] at hf
      refine lv_iload_n hx hb dX2_begins_21 rfl (lv_at hl 3 rfl) ?_
      refine lv_sipush (v := 1210) hx hb dX2_begins_22 (by decide) ?_
      refine lv_icmp_ge (tgt := 32) hx hb dX2_begins_25 (by decide) (fun c9 => ?_) (fun c9 => ?_)
      · rw [if_pos c9] at hf
        refine lv_iconst (v := 0) hx hb dX2_begins_32 (by decide) ?_
        replace hf := evn_b1 hf
        obtain ⟨σ10, e7, hf⟩ := hf
        refine mm_iast F hH e7 dX2_begins_33 (fun H locs hH => ?_)
        refine lv_iinc (v := x3 + (1 : Int32)) (lv' := [(3, .int (x3 + (1 : Int32))), (0, .ref h0), (1, .int x1), (2, .int x2)]) hx hb dX2_begins_34 hl (k := 3) rfl rfl (by decide) rfl (fun ls hl => ?_)
        refine lv_goto (tgt := 2) hx hb dX2_begins_37 (by decide) ?_
        rw [evn_l] at hf
        exact IH2 (x3 + (1 : Int32)) σ10 _ _ _ hH (lv_sub hl [1, 2, 3, 0] rfl) hf
      · rw [if_neg c9] at hf
        refine lv_iconst (v := (-1)) hx hb dX2_begins_28 (by decide) ?_
        refine lv_goto (tgt := 33) hx hb dX2_begins_29 (by decide) ?_
        replace hf := evn_b1 hf
        obtain ⟨σ11, e8, hf⟩ := hf
        refine mm_iast F hH e8 dX2_begins_33 (fun H locs hH => ?_)
        refine lv_iinc (v := x3 + (1 : Int32)) (lv' := [(3, .int (x3 + (1 : Int32))), (0, .ref h0), (1, .int x1), (2, .int x2)]) hx hb dX2_begins_34 hl (k := 3) rfl rfl (by decide) rfl (fun ls hl => ?_)
        refine lv_goto (tgt := 2) hx hb dX2_begins_37 (by decide) ?_
        rw [evn_l] at hf
        exact IH2 (x3 + (1 : Int32)) σ11 _ _ _ hH (lv_sub hl [1, 2, 3, 0] rfl) hf
set_option maxHeartbeats 4000000 in
theorem w_X2_begins_0 {p : Program} {l : Launch} {e : Env} {s : State} {m : MethodId} {av : Array Value} {below : List Frame} {meth : Method} {c : Code} {G : mm_G} {σf : mm_M} {n : Nat} {h0 : Nat} {x1 : Int32} {x2 : Int32} (F : mm_F p s m av c RX2 cX2_begins 4 G) (hr : meth.sig.returnType = (Option.none : Option Jvm.ClassFile.FieldType)) (hlocks : meth.locks = false) (hname : meth.name = yX2_begins.name) (IH2 : ∀ (x3 : Int32) (σ : mm_M) (H : Heap) (locs : List Loc) (ls : Array Slot), mm_H G s σ H locs → lv_has ls 4 [(0, .ref h0), (1, .int x1), (2, .int x2), (3, .int x3)] → itn (s_X2_begins h0 x1 x2) n (x3, σ) = some σf → W p l e rm_X2_begins s m av below meth c H locs 0 0 (MQ below (mm_Qv G σf) av s 0 0 (mm_A G)) (F0 m 2 ls []))    (σ : mm_M) (hf : evn (s_X2_begins h0 x1 x2) n (g_X2_begins_0 h0 x1 x2 σ) = some σf) {H : Heap} {locs : List Loc} {ls : Array Slot} (hH : mm_H G s σ H locs) (hl : lv_has ls 4 [(0, .ref h0), (1, .int x1), (2, .int x2)]) : W p l e rm_X2_begins s m av below meth c H locs 0 0 (MQ below (mm_Qv G σf) av s 0 0 (mm_A G)) (F0 m 0 ls []) := by
  have hx := F.1
  have hb := F.2.1
  have hml := F.2.2.1
  have hown := F.2.2.2.1
  have hts := F.2.2.2.2.1
  unfold g_X2_begins_0 at hf
  refine lv_iconst (v := 0) hx hb dX2_begins_0 (by decide) ?_
  refine lv_istore_n (lv' := [(3, .int (0 : Int32)), (0, .ref h0), (1, .int x1), (2, .int x2)]) hx hb dX2_begins_1 rfl hl (by decide) rfl (fun ls hl => ?_)
  rw [evn_l] at hf
  exact IH2 (0 : Int32) σ _ _ _ hH (lv_sub hl [1, 2, 3, 0] rfl) hf
set_option maxHeartbeats 4000000 in
theorem l_X2_begins {p : Program} {l : Launch} {e : Env} {s : State} {m : MethodId} {av : Array Value} {below : List Frame} {meth : Method} {c : Code} {G : mm_G} {σf : mm_M} {h0 : Nat} {x1 : Int32} {x2 : Int32} (F : mm_F p s m av c RX2 cX2_begins 4 G) (hr : meth.sig.returnType = (Option.none : Option Jvm.ClassFile.FieldType)) (hlocks : meth.locks = false) (hname : meth.name = yX2_begins.name) : ∀ n : Nat, (∀ (x3 : Int32) (σ : mm_M) (H : Heap) (locs : List Loc) (ls : Array Slot), mm_H G s σ H locs → lv_has ls 4 [(0, .ref h0), (1, .int x1), (2, .int x2), (3, .int x3)] → itn (s_X2_begins h0 x1 x2) n (x3, σ) = some σf → W p l e rm_X2_begins s m av below meth c H locs 0 0 (MQ below (mm_Qv G σf) av s 0 0 (mm_A G)) (F0 m 2 ls [])) := by
  intro n
  induction n with
  | zero =>
    exact fun x3 σ H locs ls hH hl hf => by cases hf
  | succ n ih =>
    have IH2 := ih
    intro x3 σ H locs ls hH hl hf
    rw [itn_s] at hf
    exact w_X2_begins_2 F hr hlocks hname IH2 x3 σ hf hH hl
set_option maxHeartbeats 4000000 in
theorem m_X2_begins (l : Launch) (G : mm_G) (h0 : Nat) (x1 : Int32) (x2 : Int32) (σ : mm_M) (σf : mm_M) (hf : f_X2_begins h0 x1 x2 σ = some σf) : Met l yX2_begins (ws_ yX2_begins cX2_begins 4 ((Option.none : Option Jvm.ClassFile.FieldType))) rm_X2_begins (mm_Pc G [.ref h0, .int x1, .int x2] σ) (mm_Qv G σf) 0 0 (mm_A G) := by
  refine mm_met (by decide) rfl rfl (by  exact Nat.le_of_ble_eq_true rfl) (fun p e s m below meth c ls F hH hr hlocks hname hl => ?_)
  have hl : lv_has ls 4 [(0, .ref h0), (1, .int x1), (2, .int x2)] := by  exact hl
  have F : mm_F p s m _ c RX2 cX2_begins 4 G := F
  unfold f_X2_begins at hf
  obtain ⟨n, hf⟩ := lgo_i hf
  have IH := l_X2_begins (l := l) (e := e) (below := below) (σf := σf) (h0 := h0) (x1 := x1) (x2 := x2) F hr hlocks hname n
  exact w_X2_begins_0 F hr hlocks hname IH σ hf hH (lv_sub hl [0, 1, 2] rfl)
/-! IslandHeapModel.<init>()V -/
abbrev rm_X2_init : Room := { frames := 1, cells := 9, slots := 5550, locals := 30 }
set_option maxHeartbeats 4000000 in
theorem m_X2_init (l : Launch) (G : mm_G) (h0 : Nat) (σ : mm_M) (σf : mm_M) (hf : f_X2_init h0 σ = some σf) : Met l yX2_init (ws_ yX2_init cX2_init 1 ((Option.none : Option Jvm.ClassFile.FieldType))) rm_X2_init (mm_Pc G [.ref h0] σ) (mm_Qv G σf) 9 5550 (mm_A G) := by
  refine mm_met (by decide) rfl rfl (by  exact Nat.le_of_ble_eq_true rfl) (fun p e s m below meth c ls F hH hr hlocks hname hl => ?_)
  have hl : lv_has ls 1 [(0, .ref h0)] := by  exact hl
  have F : mm_F p s m _ c RX2 cX2_init 1 G := F
  have hx := F.1
  have hb := F.2.1
  have hml := F.2.2.1
  have hown := F.2.2.2.1
  have hts := F.2.2.2.2.1
  unfold f_X2_init at hf
  refine lv_aload_n hx hb dX2_init_0 rfl (lv_at hl 0 rfl) ?_
  refine W.objInit hx hb hown (hts _ q1042) (hts _ q96) (hts _ q97) rfl (hl.1.trans hml.symm) rfl dX2_init_1 (Nat.le_of_ble_eq_true rfl) (Nat.le_of_ble_eq_true rfl) ?_
  refine W.eq (g2 := F0 m 4 ls []) rfl ?_
  refine lv_aload_n hx hb dX2_init_4 rfl (lv_at hl 0 rfl) ?_
  refine lv_sipush (v := 1222) hx hb dX2_init_5 (by decide) ?_
  replace hf := b2_i hf
  obtain ⟨q2, σ1, e1, hf⟩ := hf
  refine mm_newaI F hH (lim := 1222) (hts _ q181) (Nat.le_of_ble_eq_true rfl) (Nat.le_of_ble_eq_true rfl) (by decide) e1 dX2_init_8 (fun H hH => ?_)
  replace hf := b1_i hf
  obtain ⟨σ3, e2, hf⟩ := hf
  refine mm_putF F hH mc_2 (k := 0) (v := vR (some q2)) (by decide) (hts _ q1047) (fun _ h => h) rfl hname rfl rfl rfl e2 dX2_init_10 (fun H locs hH => ?_)
  refine lv_aload_n hx hb dX2_init_13 rfl (lv_at hl 0 rfl) ?_
  refine lv_sipush (v := 1222) hx hb dX2_init_14 (by decide) ?_
  replace hf := b2_i hf
  obtain ⟨q5, σ4, e3, hf⟩ := hf
  refine mm_newaI F hH (lim := 1222) (hts _ q181) (Nat.le_of_ble_eq_true rfl) (Nat.le_of_ble_eq_true rfl) (by decide) e3 dX2_init_17 (fun H hH => ?_)
  replace hf := b1_i hf
  obtain ⟨σ6, e4, hf⟩ := hf
  refine mm_putF F hH mc_2 (k := 1) (v := vR (some q5)) (by decide) (hts _ q1048) (fun _ h => h) rfl hname rfl rfl rfl e4 dX2_init_19 (fun H locs hH => ?_)
  refine lv_aload_n hx hb dX2_init_22 rfl (lv_at hl 0 rfl) ?_
  refine lv_sipush (v := 2444) hx hb dX2_init_23 (by decide) ?_
  replace hf := b2_i hf
  obtain ⟨q8, σ7, e5, hf⟩ := hf
  refine mm_newaI F hH (lim := 2444) (hts _ q181) (Nat.le_of_ble_eq_true rfl) (Nat.le_of_ble_eq_true rfl) (by decide) e5 dX2_init_26 (fun H hH => ?_)
  replace hf := b1_i hf
  obtain ⟨σ9, e6, hf⟩ := hf
  refine mm_putF F hH mc_2 (k := 2) (v := vR (some q8)) (by decide) (hts _ q1049) (fun _ h => h) rfl hname rfl rfl rfl e6 dX2_init_28 (fun H locs hH => ?_)
  refine lv_aload_n hx hb dX2_init_31 rfl (lv_at hl 0 rfl) ?_
  refine lv_iconst (v := 2) hx hb dX2_init_32 (by decide) ?_
  replace hf := b2_i hf
  obtain ⟨q11, σ10, e7, hf⟩ := hf
  refine mm_newaZ F hH (lim := 2) (hts _ q1102) (Nat.le_of_ble_eq_true rfl) (Nat.le_of_ble_eq_true rfl) (by decide) e7 dX2_init_33 (fun H hH => ?_)
  replace hf := b1_i hf
  obtain ⟨σ12, e8, hf⟩ := hf
  refine mm_putF F hH mc_2 (k := 3) (v := vR (some q11)) (by decide) (hts _ q1050) (fun _ h => h) rfl hname rfl rfl rfl e8 dX2_init_35 (fun H locs hH => ?_)
  refine lv_aload_n hx hb dX2_init_38 rfl (lv_at hl 0 rfl) ?_
  refine lv_bipush (v := 80) hx hb dX2_init_39 (by decide) ?_
  replace hf := b2_i hf
  obtain ⟨q14, σ13, e9, hf⟩ := hf
  refine mm_newaI F hH (lim := 80) (hts _ q181) (Nat.le_of_ble_eq_true rfl) (Nat.le_of_ble_eq_true rfl) (by decide) e9 dX2_init_41 (fun H hH => ?_)
  replace hf := b1_i hf
  obtain ⟨σ15, e10, hf⟩ := hf
  refine mm_putF F hH mc_2 (k := 4) (v := vR (some q14)) (by decide) (hts _ q1051) (fun _ h => h) rfl hname rfl rfl rfl e10 dX2_init_43 (fun H locs hH => ?_)
  refine lv_aload_n hx hb dX2_init_46 rfl (lv_at hl 0 rfl) ?_
  refine lv_iconst (v := (-1)) hx hb dX2_init_47 (by decide) ?_
  replace hf := b1_i hf
  obtain ⟨σ16, e11, hf⟩ := hf
  refine mm_put F hH mc_2 (k := 6) (v := vI (-1 : Int32)) (by decide) (hts _ q1053) (fun _ h => h) rfl rfl rfl e11 dX2_init_48 (fun H locs hH => ?_)
  refine lv_aload_n hx hb dX2_init_51 rfl (lv_at hl 0 rfl) ?_
  refine lv_sipush (v := 200) hx hb dX2_init_52 (by decide) ?_
  replace hf := b2_i hf
  obtain ⟨q18, σ17, e12, hf⟩ := hf
  refine mm_newaI F hH (lim := 200) (hts _ q181) (Nat.le_of_ble_eq_true rfl) (Nat.le_of_ble_eq_true rfl) (by decide) e12 dX2_init_55 (fun H hH => ?_)
  replace hf := b1_i hf
  obtain ⟨σ19, e13, hf⟩ := hf
  refine mm_putF F hH mc_2 (k := 7) (v := vR (some q18)) (by decide) (hts _ q1054) (fun _ h => h) rfl hname rfl rfl rfl e13 dX2_init_57 (fun H locs hH => ?_)
  refine lv_aload_n hx hb dX2_init_60 rfl (lv_at hl 0 rfl) ?_
  refine lv_sipush (v := 200) hx hb dX2_init_61 (by decide) ?_
  replace hf := b2_i hf
  obtain ⟨q21, σ20, e14, hf⟩ := hf
  refine mm_newaZ F hH (lim := 200) (hts _ q1102) (Nat.le_of_ble_eq_true rfl) (Nat.le_of_ble_eq_true rfl) (by decide) e14 dX2_init_64 (fun H hH => ?_)
  replace hf := b1_i hf
  obtain ⟨σ22, e15, hf⟩ := hf
  refine mm_putF F hH mc_2 (k := 8) (v := vR (some q21)) (by decide) (hts _ q1055) (fun _ h => h) rfl hname rfl rfl rfl e15 dX2_init_66 (fun H locs hH => ?_)
  refine lv_aload_n hx hb dX2_init_69 rfl (lv_at hl 0 rfl) ?_
  refine lv_bipush (v := 20) hx hb dX2_init_70 (by decide) ?_
  replace hf := b2_i hf
  obtain ⟨q24, σ23, e16, hf⟩ := hf
  refine mm_newaI F hH (lim := 20) (hts _ q181) (Nat.le_of_ble_eq_true rfl) (Nat.le_of_ble_eq_true rfl) (by decide) e16 dX2_init_72 (fun H hH => ?_)
  replace hf := b1_i hf
  obtain ⟨σ25, e17, hf⟩ := hf
  refine mm_putF F hH mc_2 (k := 9) (v := vR (some q24)) (by decide) (hts _ q1056) (fun _ h => h) rfl hname rfl rfl rfl e17 dX2_init_74 (fun H locs hH => ?_)
  refine lv_aload_n hx hb dX2_init_77 rfl (lv_at hl 0 rfl) ?_
  refine lv_sipush (v := 160) hx hb dX2_init_78 (by decide) ?_
  replace hf := b2_i hf
  obtain ⟨q27, σ26, e18, hf⟩ := hf
  refine mm_newaI F hH (lim := 160) (hts _ q181) (Nat.le_of_ble_eq_true rfl) (Nat.le_of_ble_eq_true rfl) (by decide) e18 dX2_init_81 (fun H hH => ?_)
  replace hf := b1_i hf
  obtain ⟨σ28, e19, hf⟩ := hf
  refine mm_putF F hH mc_2 (k := 13) (v := vR (some q27)) (by decide) (hts _ q1060) (fun _ h => h) rfl hname rfl rfl rfl e19 dX2_init_83 (fun H locs hH => ?_)
  refine lv_aload_n hx hb dX2_init_86 rfl (lv_at hl 0 rfl) ?_
  refine lv_bipush (v := 100) hx hb dX2_init_87 (by decide) ?_
  refine lv_bipush (v := 8) hx hb dX2_init_89 (by decide) ?_
  replace hf := b1_i hf
  obtain ⟨u, e20, hf⟩ := hf
  obtain ⟨fs, ek⟩ := ck_i e20
  replace hf := b1_i hf
  obtain ⟨σ29, e21, hf⟩ := hf
  refine mm_cv (va_runV (As := [.int (100 : Int32), .int (8 : Int32)]) (rest := []) ⟨hx, hb, hml, hown, hts⟩ (m_X2_begins l G h0 (100 : Int32) (8 : Int32) σ28 σ29 e21) (cwV 2 hts (lw_V q1043 q1045 qs32 q67 q1046) rfl rfl rfl (by decide +kernel) ⟨Nat.le_of_ble_eq_true rfl, Nat.le_of_ble_eq_true rfl⟩) (mm_preV F.2.2.2.2.2 hH (ci := 2) rfl ek) rfl rfl hl.1 rfl (lv_room (Nat.le_of_ble_eq_true rfl)) dX2_init_91 ⟨Nat.le_of_ble_eq_true rfl, Nat.le_of_ble_eq_true rfl⟩) hH (fun H locs hH => ?_)
  have h1 := Option.some.inj hf
  subst h1
  exact mm_retv F hH hr hlocks dX2_init_94
/-! IslandHeapModel.in(III)Z -/
abbrev rm_X2_in : Room := { frames := 0, cells := 0, slots := 0, locals := 0 }
set_option maxHeartbeats 4000000 in
theorem m_X2_in (l : Launch) (G : mm_G) (x0 : Int32) (x1 : Int32) (x2 : Int32) (σ : mm_M) (rr : Int32) (hf : f_X2_in x0 x1 x2 σ = some rr) : Met l yX2_in (ws_ yX2_in cX2_in 3 ((Option.some .boolean))) rm_X2_in (mm_Pc G [.int x0, .int x1, .int x2] σ) (mm_Qi G rr σ) 0 0 (mm_A G) := by
  refine mm_met (by decide) rfl rfl (by  exact Nat.le_of_ble_eq_true rfl) (fun p e s m below meth c ls F hH hr hlocks hname hl => ?_)
  have hl : lv_has ls 3 [(0, .int x0), (1, .int x1), (2, .int x2)] := by  exact hl
  have F : mm_F p s m _ c RX2 cX2_in 3 G := F
  have hx := F.1
  have hb := F.2.1
  have hml := F.2.2.1
  have hown := F.2.2.2.1
  have hts := F.2.2.2.2.1
  unfold f_X2_in at hf
  refine lv_iload_n hx hb dX2_in_0 rfl (lv_at hl 0 rfl) ?_
  refine lv_iload_n hx hb dX2_in_1 rfl (lv_at hl 1 rfl) ?_
  refine lv_icmp_lt (tgt := 14) hx hb dX2_in_2 (by decide) (fun c1 => ?_) (fun c1 => ?_)
  · rw [if_pos c1] at hf
    refine lv_iconst (v := 0) hx hb dX2_in_14 (by decide) ?_
    have h1 := Option.some.inj hf
    subst h1
    exact mm_reti F hH hr hlocks rfl rfl dX2_in_15
  · rw [if_neg c1] at hf
    refine lv_iload_n hx hb dX2_in_5 rfl (lv_at hl 0 rfl) ?_
    refine lv_iload_n hx hb dX2_in_6 rfl (lv_at hl 2 rfl) ?_
    refine lv_icmp_gt (tgt := 14) hx hb dX2_in_7 (by decide) (fun c2 => ?_) (fun c2 => ?_)
    · rw [if_pos c2] at hf
      refine lv_iconst (v := 0) hx hb dX2_in_14 (by decide) ?_
      have h1 := Option.some.inj hf
      subst h1
      exact mm_reti F hH hr hlocks rfl rfl dX2_in_15
    · rw [if_neg c2] at hf
      refine lv_iconst (v := 1) hx hb dX2_in_10 (by decide) ?_
      refine lv_goto (tgt := 15) hx hb dX2_in_11 (by decide) ?_
      have h1 := Option.some.inj hf
      subst h1
      exact mm_reti F hH hr hlocks rfl rfl dX2_in_15
/-! IslandHeapModel.reset(II)I -/
abbrev rm_X2_reset : Room := { frames := 1, cells := 0, slots := 0, locals := 23 }
set_option maxHeartbeats 4000000 in
theorem m_X2_reset (l : Launch) (G : mm_G) (h0 : Nat) (x1 : Int32) (x2 : Int32) (σ : mm_M) (σf : mm_M) (rr : Int32) (hf : f_X2_reset h0 x1 x2 σ = some (rr, σf)) : Met l yX2_reset (ws_ yX2_reset cX2_reset 3 ((Option.some .int))) rm_X2_reset (mm_Pc G [.ref h0, .int x1, .int x2] σ) (mm_Qi G rr σf) 0 0 (mm_A G) := by
  refine mm_met (by decide) rfl rfl (by  exact Nat.le_of_ble_eq_true rfl) (fun p e s m below meth c ls F hH hr hlocks hname hl => ?_)
  have hl : lv_has ls 3 [(0, .ref h0), (1, .int x1), (2, .int x2)] := by  exact hl
  have F : mm_F p s m _ c RX2 cX2_reset 3 G := F
  have hx := F.1
  have hb := F.2.1
  have hml := F.2.2.1
  have hown := F.2.2.2.1
  have hts := F.2.2.2.2.1
  unfold f_X2_reset at hf
  refine lv_iload_n hx hb dX2_reset_0 rfl (lv_at hl 1 rfl) ?_
  refine lv_bipush (v := 8) hx hb dX2_reset_1 (by decide) ?_
  refine lv_sipush (v := 200) hx hb dX2_reset_3 (by decide) ?_
  replace hf := b1_i hf
  obtain ⟨v1, e1, hf⟩ := hf
  refine mm_ci (va_runS (As := [.int x1, .int (8 : Int32), .int (200 : Int32)]) (rest := []) ⟨hx, hb, hml, hown, hts⟩ (m_X2_in l G x1 (8 : Int32) (200 : Int32) σ v1 e1) (va_cwS 3 hts (lw_S q1107 q1108 q67 q1109) rfl rfl rfl (by decide +kernel) ⟨Nat.le_of_ble_eq_true rfl, Nat.le_of_ble_eq_true rfl⟩) (mm_preS F.2.2.2.2.2 hH) rfl rfl hl.1 rfl (lv_room (Nat.le_of_ble_eq_true rfl)) dX2_reset_6 ⟨Nat.le_of_ble_eq_true rfl, Nat.le_of_ble_eq_true rfl⟩) hH (fun H locs hH => ?_)
  refine lv_if_eq (tgt := 22) hx hb dX2_reset_9 (by decide) (fun c2 => ?_) (fun c2 => ?_)
  · rw [if_pos c2] at hf
    refine lv_ldc (v := (-1000002)) hx hb hown (hts _ q1110) dX2_reset_22 ?_
    obtain ⟨h1, h2⟩ := Prod.mk.inj (Option.some.inj hf)
    subst h1
    subst h2
    exact mm_reti F hH hr hlocks rfl rfl dX2_reset_24
  · rw [if_neg c2] at hf
    refine lv_iload_n hx hb dX2_reset_12 rfl (lv_at hl 2 rfl) ?_
    refine lv_iconst (v := 1) hx hb dX2_reset_13 (by decide) ?_
    refine lv_bipush (v := 20) hx hb dX2_reset_14 (by decide) ?_
    replace hf := b1_i hf
    obtain ⟨v3, e2, hf⟩ := hf
    refine mm_ci (va_runS (As := [.int x2, .int (1 : Int32), .int (20 : Int32)]) (rest := []) ⟨hx, hb, hml, hown, hts⟩ (m_X2_in l G x2 (1 : Int32) (20 : Int32) σ v3 e2) (va_cwS 3 hts (lw_S q1107 q1108 q67 q1109) rfl rfl rfl (by decide +kernel) ⟨Nat.le_of_ble_eq_true rfl, Nat.le_of_ble_eq_true rfl⟩) (mm_preS F.2.2.2.2.2 hH) rfl rfl hl.1 rfl (lv_room (Nat.le_of_ble_eq_true rfl)) dX2_reset_16 ⟨Nat.le_of_ble_eq_true rfl, Nat.le_of_ble_eq_true rfl⟩) hH (fun H locs hH => ?_)
    refine lv_if_ne (tgt := 25) hx hb dX2_reset_19 (by decide) (fun c4 => ?_) (fun c4 => ?_)
    · rw [if_neg c4] at hf
      refine lv_aload_n hx hb dX2_reset_25 rfl (lv_at hl 0 rfl) ?_
      refine lv_iload_n hx hb dX2_reset_26 rfl (lv_at hl 1 rfl) ?_
      refine lv_iload_n hx hb dX2_reset_27 rfl (lv_at hl 2 rfl) ?_
      replace hf := b1_i hf
      obtain ⟨u, e3, hf⟩ := hf
      obtain ⟨fs, ek⟩ := ck_i e3
      replace hf := b1_i hf
      obtain ⟨σ5, e4, hf⟩ := hf
      refine mm_cv (va_runV (As := [.int x1, .int x2]) (rest := []) ⟨hx, hb, hml, hown, hts⟩ (m_X2_begins l G h0 x1 x2 σ σ5 e4) (cwV 2 hts (lw_V q1043 q1045 qs32 q67 q1046) rfl rfl rfl (by decide +kernel) ⟨Nat.le_of_ble_eq_true rfl, Nat.le_of_ble_eq_true rfl⟩) (mm_preV F.2.2.2.2.2 hH (ci := 2) rfl ek) rfl rfl hl.1 rfl (lv_room (Nat.le_of_ble_eq_true rfl)) dX2_reset_28 ⟨Nat.le_of_ble_eq_true rfl, Nat.le_of_ble_eq_true rfl⟩) hH (fun H locs hH => ?_)
      refine lv_iload_n hx hb dX2_reset_31 rfl (lv_at hl 1 rfl) ?_
      obtain ⟨h1, h2⟩ := Prod.mk.inj (Option.some.inj hf)
      subst h1
      subst h2
      exact mm_reti F hH hr hlocks rfl rfl dX2_reset_32
    · rw [if_pos c4] at hf
      refine lv_ldc (v := (-1000002)) hx hb hown (hts _ q1110) dX2_reset_22 ?_
      obtain ⟨h1, h2⟩ := Prod.mk.inj (Option.some.inj hf)
      subst h1
      subst h2
      exact mm_reti F hH hr hlocks rfl rfl dX2_reset_24
/-! IslandHeapModel.lays(III)V -/
abbrev rm_X2_lays : Room := { frames := 0, cells := 0, slots := 0, locals := 0 }
set_option maxHeartbeats 4000000 in
theorem w_X2_lays_49 {p : Program} {l : Launch} {e : Env} {s : State} {m : MethodId} {av : Array Value} {below : List Frame} {meth : Method} {c : Code} {G : mm_G} {σf : mm_M} {n : Nat} {h0 : Nat} {x1 : Int32} {x2 : Int32} {x3 : Int32} (F : mm_F p s m av c RX2 cX2_lays 5 G) (hr : meth.sig.returnType = (Option.none : Option Jvm.ClassFile.FieldType)) (hlocks : meth.locks = false) (hname : meth.name = yX2_lays.name) (IH49 : ∀ (x4 : Int32) (σ : mm_M) (H : Heap) (locs : List Loc) (ls : Array Slot), mm_H G s σ H locs → lv_has ls 5 [(0, .ref h0), (1, .int x1), (2, .int x2), (3, .int x3), (4, .int x4)] → itn (s_X2_lays h0 x1 x2 x3) n (x4, σ) = some σf → W p l e rm_X2_lays s m av below meth c H locs 0 0 (MQ below (mm_Qv G σf) av s 0 0 (mm_A G)) (F0 m 49 ls []))  (x4 : Int32)  (σ : mm_M) (hf : evn (s_X2_lays h0 x1 x2 x3) n (g_X2_lays_49 h0 x1 x2 x3 x4 σ) = some σf) {H : Heap} {locs : List Loc} {ls : Array Slot} (hH : mm_H G s σ H locs) (hl : lv_has ls 5 [(0, .ref h0), (1, .int x1), (2, .int x2), (3, .int x3), (4, .int x4)]) : W p l e rm_X2_lays s m av below meth c H locs 0 0 (MQ below (mm_Qv G σf) av s 0 0 (mm_A G)) (F0 m 49 ls []) := by
  have hx := F.1
  have hb := F.2.1
  have hml := F.2.2.1
  have hown := F.2.2.2.1
  have hts := F.2.2.2.2.1
  unfold g_X2_lays_49 at hf
  refine lv_iload hx hb dX2_lays_49 (lv_at hl 4 rfl) ?_
  refine lv_iload_n hx hb dX2_lays_51 rfl (lv_at hl 2 rfl) ?_
  refine lv_iload_n hx hb dX2_lays_52 rfl (lv_at hl 3 rfl) ?_
  refine lv_iadd hx hb dX2_lays_53 ?_
  refine lv_icmp_gt (tgt := 87) hx hb dX2_lays_54 (by decide) (fun c1 => ?_) (fun c1 => ?_)
  · rw [if_pos c1] at hf
    refine lv_aload_n hx hb dX2_lays_87 rfl (lv_at hl 0 rfl) ?_
    replace hf := evn_b1 hf
    obtain ⟨q2, e1, hf⟩ := hf
    refine mm_getA F hH mc_2 (k := 0) (by decide) (hts _ q1047) (fun _ h => h) e1 dX2_lays_88 ?_
    refine lv_sipush (v := 1218) hx hb dX2_lays_91 (by decide) ?_
    refine lv_dup2_11 hx hb dX2_lays_94 rfl rfl ?_
    replace hf := evn_b1 hf
    obtain ⟨v3, e2, hf⟩ := hf
    refine mm_iald F hH e2 dX2_lays_95 ?_
    refine lv_iconst (v := 1) hx hb dX2_lays_96 (by decide) ?_
    refine lv_iadd hx hb dX2_lays_97 ?_
    replace hf := evn_b1 hf
    obtain ⟨σ4, e3, hf⟩ := hf
    refine mm_iast F hH e3 dX2_lays_98 (fun H locs hH => ?_)
    rw [evn_r] at hf
    have h1 := Option.some.inj hf
    subst h1
    exact mm_retv F hH hr hlocks dX2_lays_99
  · rw [if_neg c1] at hf
    refine lv_aload_n hx hb dX2_lays_57 rfl (lv_at hl 0 rfl) ?_
    replace hf := evn_b1 hf
    obtain ⟨q5, e4, hf⟩ := hf
    refine mm_getA F hH mc_2 (k := 0) (by decide) (hts _ q1047) (fun _ h => h) e4 dX2_lays_58 ?_
    refine lv_sipush (v := 800) hx hb dX2_lays_61 (by decide) ?_
    refine lv_iload_n hx hb dX2_lays_64 rfl (lv_at hl 1 rfl) ?_
    refine lv_iadd hx hb dX2_lays_65 ?_
    refine lv_iload hx hb dX2_lays_66 (lv_at hl 4 rfl) ?_
    refine lv_iadd hx hb dX2_lays_68 ?_
    refine lv_iload hx hb dX2_lays_69 (lv_at hl 4 rfl) ?_
    refine lv_iload_n hx hb dX2_lays_71 rfl (lv_at hl 2 rfl) ?_
    refine lv_icmp_gt (tgt := 79) hx hb dX2_lays_72 (by decide) (fun c6 => ?_) (fun c6 => ?_)
    · rw [if_pos c6] at hf
      refine lv_iconst (v := 0) hx hb dX2_lays_79 (by decide) ?_
      replace hf := evn_b1 hf
      obtain ⟨σ7, e5, hf⟩ := hf
      refine mm_iast F hH e5 dX2_lays_80 (fun H locs hH => ?_)
      refine lv_iinc (v := x4 + (1 : Int32)) (lv' := [(4, .int (x4 + (1 : Int32))), (0, .ref h0), (1, .int x1), (2, .int x2), (3, .int x3)]) hx hb dX2_lays_81 hl (k := 4) rfl rfl (by decide) rfl (fun ls hl => ?_)
      refine lv_goto (tgt := 49) hx hb dX2_lays_84 (by decide) ?_
      rw [evn_l] at hf
      exact IH49 (x4 + (1 : Int32)) σ7 _ _ _ hH (lv_sub hl [1, 2, 3, 4, 0] rfl) hf
    · rw [if_neg c6] at hf
      refine lv_iconst (v := (-1)) hx hb dX2_lays_75 (by decide) ?_
      refine lv_goto (tgt := 80) hx hb dX2_lays_76 (by decide) ?_
      replace hf := evn_b1 hf
      obtain ⟨σ8, e6, hf⟩ := hf
      refine mm_iast F hH e6 dX2_lays_80 (fun H locs hH => ?_)
      refine lv_iinc (v := x4 + (1 : Int32)) (lv' := [(4, .int (x4 + (1 : Int32))), (0, .ref h0), (1, .int x1), (2, .int x2), (3, .int x3)]) hx hb dX2_lays_81 hl (k := 4) rfl rfl (by decide) rfl (fun ls hl => ?_)
      refine lv_goto (tgt := 49) hx hb dX2_lays_84 (by decide) ?_
      rw [evn_l] at hf
      exact IH49 (x4 + (1 : Int32)) σ8 _ _ _ hH (lv_sub hl [1, 2, 3, 4, 0] rfl) hf
set_option maxHeartbeats 4000000 in
theorem w_X2_lays_0 {p : Program} {l : Launch} {e : Env} {s : State} {m : MethodId} {av : Array Value} {below : List Frame} {meth : Method} {c : Code} {G : mm_G} {σf : mm_M} {n : Nat} {h0 : Nat} {x1 : Int32} {x2 : Int32} {x3 : Int32} (F : mm_F p s m av c RX2 cX2_lays 5 G) (hr : meth.sig.returnType = (Option.none : Option Jvm.ClassFile.FieldType)) (hlocks : meth.locks = false) (hname : meth.name = yX2_lays.name) (IH49 : ∀ (x4 : Int32) (σ : mm_M) (H : Heap) (locs : List Loc) (ls : Array Slot), mm_H G s σ H locs → lv_has ls 5 [(0, .ref h0), (1, .int x1), (2, .int x2), (3, .int x3), (4, .int x4)] → itn (s_X2_lays h0 x1 x2 x3) n (x4, σ) = some σf → W p l e rm_X2_lays s m av below meth c H locs 0 0 (MQ below (mm_Qv G σf) av s 0 0 (mm_A G)) (F0 m 49 ls []))    (σ : mm_M) (hf : evn (s_X2_lays h0 x1 x2 x3) n (g_X2_lays_0 h0 x1 x2 x3 σ) = some σf) {H : Heap} {locs : List Loc} {ls : Array Slot} (hH : mm_H G s σ H locs) (hl : lv_has ls 5 [(0, .ref h0), (1, .int x1), (2, .int x2), (3, .int x3)]) : W p l e rm_X2_lays s m av below meth c H locs 0 0 (MQ below (mm_Qv G σf) av s 0 0 (mm_A G)) (F0 m 0 ls []) := by
  have hx := F.1
  have hb := F.2.1
  have hml := F.2.2.1
  have hown := F.2.2.2.1
  have hts := F.2.2.2.2.1
  unfold g_X2_lays_0 at hf
  refine lv_aload_n hx hb dX2_lays_0 rfl (lv_at hl 0 rfl) ?_
  replace hf := evn_b1 hf
  obtain ⟨q1, e1, hf⟩ := hf
  refine mm_getA F hH mc_2 (k := 0) (by decide) (hts _ q1047) (fun _ h => h) e1 dX2_lays_1 ?_
  refine lv_iconst (v := 0) hx hb dX2_lays_4 (by decide) ?_
  refine lv_iload_n hx hb dX2_lays_5 rfl (lv_at hl 1 rfl) ?_
  refine lv_iadd hx hb dX2_lays_6 ?_
  refine lv_iconst (v := 1) hx hb dX2_lays_7 (by decide) ?_
  refine lv_iload_n hx hb dX2_lays_8 rfl (lv_at hl 2 rfl) ?_
  refine lv_iadd hx hb dX2_lays_9 ?_
  refine lv_iload_n hx hb dX2_lays_10 rfl (lv_at hl 3 rfl) ?_
  refine lv_iadd hx hb dX2_lays_11 ?_
  replace hf := evn_b1 hf
  obtain ⟨σ2, e2, hf⟩ := hf
  refine mm_iast F hH e2 dX2_lays_12 (fun H locs hH => ?_)
  refine lv_aload_n hx hb dX2_lays_13 rfl (lv_at hl 0 rfl) ?_
  replace hf := evn_b1 hf
  obtain ⟨q3, e3, hf⟩ := hf
  refine mm_getA F hH mc_2 (k := 0) (by decide) (hts _ q1047) (fun _ h => h) e3 dX2_lays_14 ?_
  refine lv_sipush (v := 200) hx hb dX2_lays_17 (by decide) ?_
  refine lv_iload_n hx hb dX2_lays_20 rfl (lv_at hl 1 rfl) ?_
  refine lv_iadd hx hb dX2_lays_21 ?_
  refine lv_iload_n hx hb dX2_lays_22 rfl (lv_at hl 2 rfl) ?_
  replace hf := evn_b1 hf
  obtain ⟨σ4, e4, hf⟩ := hf
  refine mm_iast F hH e4 dX2_lays_23 (fun H locs hH => ?_)
  refine lv_aload_n hx hb dX2_lays_24 rfl (lv_at hl 0 rfl) ?_
  replace hf := evn_b1 hf
  obtain ⟨q5, e5, hf⟩ := hf
  refine mm_getA F hH mc_2 (k := 0) (by decide) (hts _ q1047) (fun _ h => h) e5 dX2_lays_25 ?_
  refine lv_sipush (v := 400) hx hb dX2_lays_28 (by decide) ?_
  refine lv_iload_n hx hb dX2_lays_31 rfl (lv_at hl 1 rfl) ?_
  refine lv_iadd hx hb dX2_lays_32 ?_
  refine lv_iconst (v := 0) hx hb dX2_lays_33 (by decide) ?_
  replace hf := evn_b1 hf
  obtain ⟨σ6, e6, hf⟩ := hf
  refine mm_iast F hH e6 dX2_lays_34 (fun H locs hH => ?_)
  refine lv_aload_n hx hb dX2_lays_35 rfl (lv_at hl 0 rfl) ?_
  replace hf := evn_b1 hf
  obtain ⟨q7, e7, hf⟩ := hf
  refine mm_getA F hH mc_2 (k := 0) (by decide) (hts _ q1047) (fun _ h => h) e7 dX2_lays_36 ?_
  refine lv_sipush (v := 600) hx hb dX2_lays_39 (by decide) ?_
  refine lv_iload_n hx hb dX2_lays_42 rfl (lv_at hl 1 rfl) ?_
  refine lv_iadd hx hb dX2_lays_43 ?_
  refine lv_iconst (v := 0) hx hb dX2_lays_44 (by decide) ?_
  replace hf := evn_b1 hf
  obtain ⟨σ8, e8, hf⟩ := hf
  refine mm_iast F hH e8 dX2_lays_45 (fun H locs hH => ?_)
  refine lv_iconst (v := 1) hx hb dX2_lays_46 (by decide) ?_
  refine lv_istore (lv' := [(4, .int (1 : Int32)), (0, .ref h0), (1, .int x1), (2, .int x2), (3, .int x3)]) hx hb dX2_lays_47 hl (by decide) rfl (fun ls hl => ?_)
  rw [evn_l] at hf
  exact IH49 (1 : Int32) σ8 _ _ _ hH (lv_sub hl [1, 2, 3, 4, 0] rfl) hf
set_option maxHeartbeats 4000000 in
theorem l_X2_lays {p : Program} {l : Launch} {e : Env} {s : State} {m : MethodId} {av : Array Value} {below : List Frame} {meth : Method} {c : Code} {G : mm_G} {σf : mm_M} {h0 : Nat} {x1 : Int32} {x2 : Int32} {x3 : Int32} (F : mm_F p s m av c RX2 cX2_lays 5 G) (hr : meth.sig.returnType = (Option.none : Option Jvm.ClassFile.FieldType)) (hlocks : meth.locks = false) (hname : meth.name = yX2_lays.name) : ∀ n : Nat, (∀ (x4 : Int32) (σ : mm_M) (H : Heap) (locs : List Loc) (ls : Array Slot), mm_H G s σ H locs → lv_has ls 5 [(0, .ref h0), (1, .int x1), (2, .int x2), (3, .int x3), (4, .int x4)] → itn (s_X2_lays h0 x1 x2 x3) n (x4, σ) = some σf → W p l e rm_X2_lays s m av below meth c H locs 0 0 (MQ below (mm_Qv G σf) av s 0 0 (mm_A G)) (F0 m 49 ls [])) := by
  intro n
  induction n with
  | zero =>
    exact fun x4 σ H locs ls hH hl hf => by cases hf
  | succ n ih =>
    have IH49 := ih
    intro x4 σ H locs ls hH hl hf
    rw [itn_s] at hf
    exact w_X2_lays_49 F hr hlocks hname IH49 x4 σ hf hH hl
set_option maxHeartbeats 4000000 in
theorem m_X2_lays (l : Launch) (G : mm_G) (h0 : Nat) (x1 : Int32) (x2 : Int32) (x3 : Int32) (σ : mm_M) (σf : mm_M) (hf : f_X2_lays h0 x1 x2 x3 σ = some σf) : Met l yX2_lays (ws_ yX2_lays cX2_lays 5 ((Option.none : Option Jvm.ClassFile.FieldType))) rm_X2_lays (mm_Pc G [.ref h0, .int x1, .int x2, .int x3] σ) (mm_Qv G σf) 0 0 (mm_A G) := by
  refine mm_met (by decide) rfl rfl (by  exact Nat.le_of_ble_eq_true rfl) (fun p e s m below meth c ls F hH hr hlocks hname hl => ?_)
  have hl : lv_has ls 5 [(0, .ref h0), (1, .int x1), (2, .int x2), (3, .int x3)] := by  exact hl
  have F : mm_F p s m _ c RX2 cX2_lays 5 G := F
  unfold f_X2_lays at hf
  obtain ⟨n, hf⟩ := lgo_i hf
  have IH := l_X2_lays (l := l) (e := e) (below := below) (σf := σf) (h0 := h0) (x1 := x1) (x2 := x2) (x3 := x3) F hr hlocks hname n
  exact w_X2_lays_0 F hr hlocks hname IH σ hf hH (lv_sub hl [0, 1, 2, 3] rfl)
/-! IslandHeapModel.alloc(II)I -/
abbrev rm_X2_alloc : Room := { frames := 1, cells := 0, slots := 0, locals := 24 }
set_option maxHeartbeats 4000000 in
theorem w_X2_alloc_32 {p : Program} {l : Launch} {e : Env} {s : State} {m : MethodId} {av : Array Value} {below : List Frame} {meth : Method} {c : Code} {G : mm_G} {σf : mm_M} {rr : Int32} {n : Nat} {h0 : Nat} {x1 : Int32} {x2 : Int32} (F : mm_F p s m av c RX2 cX2_alloc 6 G) (hr : meth.sig.returnType = (Option.some .int)) (hlocks : meth.locks = false) (hname : meth.name = yX2_alloc.name) (IH32 : ∀ (x3 : Int32) (x4 : Int32) (σ : mm_M) (H : Heap) (locs : List Loc) (ls : Array Slot), mm_H G s σ H locs → lv_has ls 6 [(0, .ref h0), (1, .int x1), (2, .int x2), (3, .int x3), (4, .int x4)] → itn (s_X2_alloc h0 x1 x2) n (.inl (x3, x4, σ)) = some (rr, σf) → W p l e rm_X2_alloc s m av below meth c H locs 0 0 (MQ below (mm_Qi G rr σf) av s 0 0 (mm_A G)) (F0 m 32 ls [])) (IH50 : ∀ (x3 : Int32) (x4 : Int32) (x5 : Int32) (σ : mm_M) (H : Heap) (locs : List Loc) (ls : Array Slot), mm_H G s σ H locs → lv_has ls 6 [(0, .ref h0), (1, .int x1), (2, .int x2), (3, .int x3), (4, .int x4), (5, .int x5)] → itn (s_X2_alloc h0 x1 x2) n (.inr (x3, x4, x5, σ)) = some (rr, σf) → W p l e rm_X2_alloc s m av below meth c H locs 0 0 (MQ below (mm_Qi G rr σf) av s 0 0 (mm_A G)) (F0 m 50 ls []))  (x3 : Int32) (x4 : Int32)  (σ : mm_M) (hf : evn (s_X2_alloc h0 x1 x2) n (g_X2_alloc_32 h0 x1 x2 x3 x4 σ) = some (rr, σf)) {H : Heap} {locs : List Loc} {ls : Array Slot} (hH : mm_H G s σ H locs) (hl : lv_has ls 6 [(0, .ref h0), (1, .int x1), (2, .int x2), (3, .int x3), (4, .int x4)]) : W p l e rm_X2_alloc s m av below meth c H locs 0 0 (MQ below (mm_Qi G rr σf) av s 0 0 (mm_A G)) (F0 m 32 ls []) := by
  have hx := F.1
  have hb := F.2.1
  have hml := F.2.2.1
  have hown := F.2.2.2.1
  have hts := F.2.2.2.2.1
  unfold g_X2_alloc_32 at hf
  refine lv_iload hx hb dX2_alloc_32 (lv_at hl 4 rfl) ?_
  refine lv_iload_n hx hb dX2_alloc_34 rfl (lv_at hl 3 rfl) ?_
  refine lv_iadd hx hb dX2_alloc_35 ?_
  refine lv_aload_n hx hb dX2_alloc_36 rfl (lv_at hl 0 rfl) ?_
  replace hf := evn_b1 hf
  obtain ⟨q1, e1, hf⟩ := hf
  refine mm_getA F hH mc_2 (k := 0) (by decide) (hts _ q1047) (fun _ h => h) e1 dX2_alloc_37 ?_
  refine lv_sipush (v := 1216) hx hb dX2_alloc_40 (by decide) ?_
  replace hf := evn_b1 hf
  obtain ⟨v2, e2, hf⟩ := hf
  refine mm_iald F hH e2 dX2_alloc_43 ?_
  refine lv_icmp_gt (tgt := 117) hx hb dX2_alloc_44 (by decide) (fun c3 => ?_) (fun c3 => ?_)
  · rw [if_pos c3] at hf
    refine lv_ldc (v := (-1000004)) hx hb hown (hts _ q1119) dX2_alloc_117 ?_
    rw [evn_r] at hf
    obtain ⟨h1, h2⟩ := Prod.mk.inj (Option.some.inj hf)
    subst h1
    subst h2
    exact mm_reti F hH hr hlocks rfl rfl dX2_alloc_119
  · rw [if_neg c3] at hf
    refine lv_iconst (v := 0) hx hb dX2_alloc_47 (by decide) ?_
    refine lv_istore (lv' := [(5, .int (0 : Int32)), (0, .ref h0), (1, .int x1), (2, .int x2), (3, .int x3), (4, .int x4)]) hx hb dX2_alloc_48 hl (by decide) rfl (fun ls hl => ?_)
    rw [evn_l] at hf
    exact IH50 x3 x4 (0 : Int32) σ _ _ _ hH (lv_sub hl [1, 2, 3, 4, 5, 0] rfl) hf
set_option maxHeartbeats 4000000 in
theorem w_X2_alloc_77 {p : Program} {l : Launch} {e : Env} {s : State} {m : MethodId} {av : Array Value} {below : List Frame} {meth : Method} {c : Code} {G : mm_G} {σf : mm_M} {rr : Int32} {n : Nat} {h0 : Nat} {x1 : Int32} {x2 : Int32} (F : mm_F p s m av c RX2 cX2_alloc 6 G) (hr : meth.sig.returnType = (Option.some .int)) (hlocks : meth.locks = false) (hname : meth.name = yX2_alloc.name) (IH32 : ∀ (x3 : Int32) (x4 : Int32) (σ : mm_M) (H : Heap) (locs : List Loc) (ls : Array Slot), mm_H G s σ H locs → lv_has ls 6 [(0, .ref h0), (1, .int x1), (2, .int x2), (3, .int x3), (4, .int x4)] → itn (s_X2_alloc h0 x1 x2) n (.inl (x3, x4, σ)) = some (rr, σf) → W p l e rm_X2_alloc s m av below meth c H locs 0 0 (MQ below (mm_Qi G rr σf) av s 0 0 (mm_A G)) (F0 m 32 ls [])) (IH50 : ∀ (x3 : Int32) (x4 : Int32) (x5 : Int32) (σ : mm_M) (H : Heap) (locs : List Loc) (ls : Array Slot), mm_H G s σ H locs → lv_has ls 6 [(0, .ref h0), (1, .int x1), (2, .int x2), (3, .int x3), (4, .int x4), (5, .int x5)] → itn (s_X2_alloc h0 x1 x2) n (.inr (x3, x4, x5, σ)) = some (rr, σf) → W p l e rm_X2_alloc s m av below meth c H locs 0 0 (MQ below (mm_Qi G rr σf) av s 0 0 (mm_A G)) (F0 m 50 ls []))  (x3 : Int32) (x4 : Int32) (x5 : Int32)  (σ : mm_M) (hf : evn (s_X2_alloc h0 x1 x2) n (g_X2_alloc_77 h0 x1 x2 x3 x4 x5 σ) = some (rr, σf)) {H : Heap} {locs : List Loc} {ls : Array Slot} (hH : mm_H G s σ H locs) (hl : lv_has ls 6 [(0, .ref h0), (1, .int x1), (2, .int x2), (3, .int x3), (4, .int x4), (5, .int x5)]) : W p l e rm_X2_alloc s m av below meth c H locs 0 0 (MQ below (mm_Qi G rr σf) av s 0 0 (mm_A G)) (F0 m 77 ls []) := by
  have hx := F.1
  have hb := F.2.1
  have hml := F.2.2.1
  have hown := F.2.2.2.1
  have hts := F.2.2.2.2.1
  unfold g_X2_alloc_77 at hf
  refine lv_iload hx hb dX2_alloc_77 (lv_at hl 5 rfl) ?_
  refine lv_iload_n hx hb dX2_alloc_79 rfl (lv_at hl 3 rfl) ?_
  refine lv_icmp_ne (tgt := 94) hx hb dX2_alloc_80 (by decide) (fun c1 => ?_) (fun c1 => ?_)
  · rw [if_neg c1] at hf
    refine lv_iload hx hb dX2_alloc_94 (lv_at hl 4 rfl) ?_
    refine lv_iload hx hb dX2_alloc_96 (lv_at hl 5 rfl) ?_
    refine lv_aload_n hx hb dX2_alloc_98 rfl (lv_at hl 0 rfl) ?_
    replace hf := evn_b1 hf
    obtain ⟨q2, e1, hf⟩ := hf
    refine mm_getA F hH mc_2 (k := 0) (by decide) (hts _ q1047) (fun _ h => h) e1 dX2_alloc_99 ?_
    refine lv_iconst (v := 0) hx hb dX2_alloc_102 (by decide) ?_
    refine lv_iload hx hb dX2_alloc_103 (lv_at hl 4 rfl) ?_
    refine lv_iadd hx hb dX2_alloc_105 ?_
    refine lv_iload hx hb dX2_alloc_106 (lv_at hl 5 rfl) ?_
    refine lv_iadd hx hb dX2_alloc_108 ?_
    replace hf := evn_b1 hf
    obtain ⟨v3, e2, hf⟩ := hf
    refine mm_iald F hH e2 dX2_alloc_109 ?_
    refine lv_iadd hx hb dX2_alloc_110 ?_
    refine lv_iadd hx hb dX2_alloc_111 ?_
    refine lv_istore (lv' := [(4, .int (x4 + (x5 + v3))), (0, .ref h0), (1, .int x1), (2, .int x2), (3, .int x3), (5, .int x5)]) hx hb dX2_alloc_112 hl (by decide) rfl (fun ls hl => ?_)
    refine lv_goto (tgt := 32) hx hb dX2_alloc_114 (by decide) ?_
    rw [evn_l] at hf
    exact IH32 x3 (x4 + (x5 + v3)) σ _ _ _ hH (lv_sub hl [1, 2, 3, 4, 0] rfl) hf
  · rw [if_pos c1] at hf
    refine lv_aload_n hx hb dX2_alloc_83 rfl (lv_at hl 0 rfl) ?_
    refine lv_iload hx hb dX2_alloc_84 (lv_at hl 4 rfl) ?_
    refine lv_iload_n hx hb dX2_alloc_86 rfl (lv_at hl 1 rfl) ?_
    refine lv_iload_n hx hb dX2_alloc_87 rfl (lv_at hl 2 rfl) ?_
    replace hf := evn_b1 hf
    obtain ⟨u, e3, hf⟩ := hf
    obtain ⟨fs, ek⟩ := ck_i e3
    replace hf := evn_b1 hf
    obtain ⟨σ4, e4, hf⟩ := hf
    refine mm_cv (va_runV (As := [.int x4, .int x1, .int x2]) (rest := []) ⟨hx, hb, hml, hown, hts⟩ (m_X2_lays l G h0 x4 x1 x2 σ σ4 e4) (cwV 3 hts (lw_V q1115 q1117 qs33 q67 q1118) rfl rfl rfl (by decide +kernel) ⟨Nat.le_of_ble_eq_true rfl, Nat.le_of_ble_eq_true rfl⟩) (mm_preV F.2.2.2.2.2 hH (ci := 2) rfl ek) rfl rfl hl.1 rfl (lv_room (Nat.le_of_ble_eq_true rfl)) dX2_alloc_88 ⟨Nat.le_of_ble_eq_true rfl, Nat.le_of_ble_eq_true rfl⟩) hH (fun H locs hH => ?_)
    refine lv_iload hx hb dX2_alloc_91 (lv_at hl 4 rfl) ?_
    rw [evn_r] at hf
    obtain ⟨h1, h2⟩ := Prod.mk.inj (Option.some.inj hf)
    subst h1
    subst h2
    exact mm_reti F hH hr hlocks rfl rfl dX2_alloc_93
set_option maxHeartbeats 4000000 in
theorem w_X2_alloc_50 {p : Program} {l : Launch} {e : Env} {s : State} {m : MethodId} {av : Array Value} {below : List Frame} {meth : Method} {c : Code} {G : mm_G} {σf : mm_M} {rr : Int32} {n : Nat} {h0 : Nat} {x1 : Int32} {x2 : Int32} (F : mm_F p s m av c RX2 cX2_alloc 6 G) (hr : meth.sig.returnType = (Option.some .int)) (hlocks : meth.locks = false) (hname : meth.name = yX2_alloc.name) (IH32 : ∀ (x3 : Int32) (x4 : Int32) (σ : mm_M) (H : Heap) (locs : List Loc) (ls : Array Slot), mm_H G s σ H locs → lv_has ls 6 [(0, .ref h0), (1, .int x1), (2, .int x2), (3, .int x3), (4, .int x4)] → itn (s_X2_alloc h0 x1 x2) n (.inl (x3, x4, σ)) = some (rr, σf) → W p l e rm_X2_alloc s m av below meth c H locs 0 0 (MQ below (mm_Qi G rr σf) av s 0 0 (mm_A G)) (F0 m 32 ls [])) (IH50 : ∀ (x3 : Int32) (x4 : Int32) (x5 : Int32) (σ : mm_M) (H : Heap) (locs : List Loc) (ls : Array Slot), mm_H G s σ H locs → lv_has ls 6 [(0, .ref h0), (1, .int x1), (2, .int x2), (3, .int x3), (4, .int x4), (5, .int x5)] → itn (s_X2_alloc h0 x1 x2) n (.inr (x3, x4, x5, σ)) = some (rr, σf) → W p l e rm_X2_alloc s m av below meth c H locs 0 0 (MQ below (mm_Qi G rr σf) av s 0 0 (mm_A G)) (F0 m 50 ls []))  (x3 : Int32) (x4 : Int32) (x5 : Int32)  (σ : mm_M) (hf : evn (s_X2_alloc h0 x1 x2) n (g_X2_alloc_50 h0 x1 x2 x3 x4 x5 σ) = some (rr, σf)) {H : Heap} {locs : List Loc} {ls : Array Slot} (hH : mm_H G s σ H locs) (hl : lv_has ls 6 [(0, .ref h0), (1, .int x1), (2, .int x2), (3, .int x3), (4, .int x4), (5, .int x5)]) : W p l e rm_X2_alloc s m av below meth c H locs 0 0 (MQ below (mm_Qi G rr σf) av s 0 0 (mm_A G)) (F0 m 50 ls []) := by
  have hx := F.1
  have hb := F.2.1
  have hml := F.2.2.1
  have hown := F.2.2.2.1
  have hts := F.2.2.2.2.1
  unfold g_X2_alloc_50 at hf
  refine lv_iload hx hb dX2_alloc_50 (lv_at hl 5 rfl) ?_
  refine lv_iload_n hx hb dX2_alloc_52 rfl (lv_at hl 3 rfl) ?_
  refine lv_icmp_ge (tgt := 77) hx hb dX2_alloc_53 (by decide) (fun c1 => ?_) (fun c1 => ?_)
  · rw [if_pos c1] at hf
    exact w_X2_alloc_77 F hr hlocks hname IH32 IH50 x3 x4 x5 σ hf hH (lv_sub hl [0, 1, 2, 3, 4, 5] rfl)
  · rw [if_neg c1] at hf
    refine lv_aload_n hx hb dX2_alloc_56 rfl (lv_at hl 0 rfl) ?_
    replace hf := evn_b1 hf
    obtain ⟨q2, e1, hf⟩ := hf
    refine mm_getA F hH mc_2 (k := 0) (by decide) (hts _ q1047) (fun _ h => h) e1 dX2_alloc_57 ?_
    refine lv_iconst (v := 0) hx hb dX2_alloc_60 (by decide) ?_
    refine lv_iload hx hb dX2_alloc_61 (lv_at hl 4 rfl) ?_
    refine lv_iadd hx hb dX2_alloc_63 ?_
    refine lv_iload hx hb dX2_alloc_64 (lv_at hl 5 rfl) ?_
    refine lv_iadd hx hb dX2_alloc_66 ?_
    replace hf := evn_b1 hf
    obtain ⟨v3, e2, hf⟩ := hf
    refine mm_iald F hH e2 dX2_alloc_67 ?_
    refine lv_if_ne (tgt := 77) hx hb dX2_alloc_68 (by decide) (fun c4 => ?_) (fun c4 => ?_)
    · rw [if_neg c4] at hf
      exact w_X2_alloc_77 F hr hlocks hname IH32 IH50 x3 x4 x5 σ hf hH (lv_sub hl [0, 1, 2, 3, 4, 5] rfl)
    · rw [if_pos c4] at hf
      refine lv_iinc (v := x5 + (1 : Int32)) (lv' := [(5, .int (x5 + (1 : Int32))), (0, .ref h0), (1, .int x1), (2, .int x2), (3, .int x3), (4, .int x4)]) hx hb dX2_alloc_71 hl (k := 5) rfl rfl (by decide) rfl (fun ls hl => ?_)
      refine lv_goto (tgt := 50) hx hb dX2_alloc_74 (by decide) ?_
      rw [evn_l] at hf
      exact IH50 x3 x4 (x5 + (1 : Int32)) σ _ _ _ hH (lv_sub hl [1, 2, 3, 4, 5, 0] rfl) hf
set_option maxHeartbeats 4000000 in
theorem w_X2_alloc_0 {p : Program} {l : Launch} {e : Env} {s : State} {m : MethodId} {av : Array Value} {below : List Frame} {meth : Method} {c : Code} {G : mm_G} {σf : mm_M} {rr : Int32} {n : Nat} {h0 : Nat} {x1 : Int32} {x2 : Int32} (F : mm_F p s m av c RX2 cX2_alloc 6 G) (hr : meth.sig.returnType = (Option.some .int)) (hlocks : meth.locks = false) (hname : meth.name = yX2_alloc.name) (IH32 : ∀ (x3 : Int32) (x4 : Int32) (σ : mm_M) (H : Heap) (locs : List Loc) (ls : Array Slot), mm_H G s σ H locs → lv_has ls 6 [(0, .ref h0), (1, .int x1), (2, .int x2), (3, .int x3), (4, .int x4)] → itn (s_X2_alloc h0 x1 x2) n (.inl (x3, x4, σ)) = some (rr, σf) → W p l e rm_X2_alloc s m av below meth c H locs 0 0 (MQ below (mm_Qi G rr σf) av s 0 0 (mm_A G)) (F0 m 32 ls [])) (IH50 : ∀ (x3 : Int32) (x4 : Int32) (x5 : Int32) (σ : mm_M) (H : Heap) (locs : List Loc) (ls : Array Slot), mm_H G s σ H locs → lv_has ls 6 [(0, .ref h0), (1, .int x1), (2, .int x2), (3, .int x3), (4, .int x4), (5, .int x5)] → itn (s_X2_alloc h0 x1 x2) n (.inr (x3, x4, x5, σ)) = some (rr, σf) → W p l e rm_X2_alloc s m av below meth c H locs 0 0 (MQ below (mm_Qi G rr σf) av s 0 0 (mm_A G)) (F0 m 50 ls []))    (σ : mm_M) (hf : evn (s_X2_alloc h0 x1 x2) n (g_X2_alloc_0 h0 x1 x2 σ) = some (rr, σf)) {H : Heap} {locs : List Loc} {ls : Array Slot} (hH : mm_H G s σ H locs) (hl : lv_has ls 6 [(0, .ref h0), (1, .int x1), (2, .int x2)]) : W p l e rm_X2_alloc s m av below meth c H locs 0 0 (MQ below (mm_Qi G rr σf) av s 0 0 (mm_A G)) (F0 m 0 ls []) := by
  have hx := F.1
  have hb := F.2.1
  have hml := F.2.2.1
  have hown := F.2.2.2.1
  have hts := F.2.2.2.2.1
  unfold g_X2_alloc_0 at hf
  refine lv_iload_n hx hb dX2_alloc_0 rfl (lv_at hl 1 rfl) ?_
  refine lv_iconst (v := 0) hx hb dX2_alloc_1 (by decide) ?_
  refine lv_bipush (v := 6) hx hb dX2_alloc_2 (by decide) ?_
  replace hf := evn_b1 hf
  obtain ⟨v1, e1, hf⟩ := hf
  refine mm_ci (va_runS (As := [.int x1, .int (0 : Int32), .int (6 : Int32)]) (rest := []) ⟨hx, hb, hml, hown, hts⟩ (m_X2_in l G x1 (0 : Int32) (6 : Int32) σ v1 e1) (va_cwS 3 hts (lw_S q1107 q1108 q67 q1109) rfl rfl rfl (by decide +kernel) ⟨Nat.le_of_ble_eq_true rfl, Nat.le_of_ble_eq_true rfl⟩) (mm_preS F.2.2.2.2.2 hH) rfl rfl hl.1 rfl (lv_room (Nat.le_of_ble_eq_true rfl)) dX2_alloc_4 ⟨Nat.le_of_ble_eq_true rfl, Nat.le_of_ble_eq_true rfl⟩) hH (fun H locs hH => ?_)
  refine lv_if_eq (tgt := 20) hx hb dX2_alloc_7 (by decide) (fun c2 => ?_) (fun c2 => ?_)
  · rw [if_pos c2] at hf
    refine lv_ldc (v := (-1000002)) hx hb hown (hts _ q1110) dX2_alloc_20 ?_
    rw [evn_r] at hf
    obtain ⟨h1, h2⟩ := Prod.mk.inj (Option.some.inj hf)
    subst h1
    subst h2
    exact mm_reti F hH hr hlocks rfl rfl dX2_alloc_22
  · rw [if_neg c2] at hf
    refine lv_iload_n hx hb dX2_alloc_10 rfl (lv_at hl 2 rfl) ?_
    refine lv_iconst (v := 0) hx hb dX2_alloc_11 (by decide) ?_
    refine lv_bipush (v := 6) hx hb dX2_alloc_12 (by decide) ?_
    replace hf := evn_b1 hf
    obtain ⟨v3, e2, hf⟩ := hf
    refine mm_ci (va_runS (As := [.int x2, .int (0 : Int32), .int (6 : Int32)]) (rest := []) ⟨hx, hb, hml, hown, hts⟩ (m_X2_in l G x2 (0 : Int32) (6 : Int32) σ v3 e2) (va_cwS 3 hts (lw_S q1107 q1108 q67 q1109) rfl rfl rfl (by decide +kernel) ⟨Nat.le_of_ble_eq_true rfl, Nat.le_of_ble_eq_true rfl⟩) (mm_preS F.2.2.2.2.2 hH) rfl rfl hl.1 rfl (lv_room (Nat.le_of_ble_eq_true rfl)) dX2_alloc_14 ⟨Nat.le_of_ble_eq_true rfl, Nat.le_of_ble_eq_true rfl⟩) hH (fun H locs hH => ?_)
    refine lv_if_ne (tgt := 23) hx hb dX2_alloc_17 (by decide) (fun c4 => ?_) (fun c4 => ?_)
    · rw [if_neg c4] at hf
      refine lv_iconst (v := 1) hx hb dX2_alloc_23 (by decide) ?_
      refine lv_iload_n hx hb dX2_alloc_24 rfl (lv_at hl 1 rfl) ?_
      refine lv_iadd hx hb dX2_alloc_25 ?_
      refine lv_iload_n hx hb dX2_alloc_26 rfl (lv_at hl 2 rfl) ?_
      refine lv_iadd hx hb dX2_alloc_27 ?_
      refine lv_istore_n (lv' := [(3, .int (((1 : Int32) + x1) + x2)), (0, .ref h0), (1, .int x1), (2, .int x2)]) hx hb dX2_alloc_28 rfl hl (by decide) rfl (fun ls hl => ?_)
      refine lv_iconst (v := 0) hx hb dX2_alloc_29 (by decide) ?_
      refine lv_istore (lv' := [(4, .int (0 : Int32)), (3, .int (((1 : Int32) + x1) + x2)), (0, .ref h0), (1, .int x1), (2, .int x2)]) hx hb dX2_alloc_30 hl (by decide) rfl (fun ls hl => ?_)
      rw [evn_l] at hf
      exact IH32 (((1 : Int32) + x1) + x2) (0 : Int32) σ _ _ _ hH (lv_sub hl [2, 3, 4, 1, 0] rfl) hf
    · rw [if_pos c4] at hf
      refine lv_ldc (v := (-1000002)) hx hb hown (hts _ q1110) dX2_alloc_20 ?_
      rw [evn_r] at hf
      obtain ⟨h1, h2⟩ := Prod.mk.inj (Option.some.inj hf)
      subst h1
      subst h2
      exact mm_reti F hH hr hlocks rfl rfl dX2_alloc_22
set_option maxHeartbeats 4000000 in
theorem l_X2_alloc {p : Program} {l : Launch} {e : Env} {s : State} {m : MethodId} {av : Array Value} {below : List Frame} {meth : Method} {c : Code} {G : mm_G} {σf : mm_M} {rr : Int32} {h0 : Nat} {x1 : Int32} {x2 : Int32} (F : mm_F p s m av c RX2 cX2_alloc 6 G) (hr : meth.sig.returnType = (Option.some .int)) (hlocks : meth.locks = false) (hname : meth.name = yX2_alloc.name) : ∀ n : Nat, (∀ (x3 : Int32) (x4 : Int32) (σ : mm_M) (H : Heap) (locs : List Loc) (ls : Array Slot), mm_H G s σ H locs → lv_has ls 6 [(0, .ref h0), (1, .int x1), (2, .int x2), (3, .int x3), (4, .int x4)] → itn (s_X2_alloc h0 x1 x2) n (.inl (x3, x4, σ)) = some (rr, σf) → W p l e rm_X2_alloc s m av below meth c H locs 0 0 (MQ below (mm_Qi G rr σf) av s 0 0 (mm_A G)) (F0 m 32 ls [])) ∧ (∀ (x3 : Int32) (x4 : Int32) (x5 : Int32) (σ : mm_M) (H : Heap) (locs : List Loc) (ls : Array Slot), mm_H G s σ H locs → lv_has ls 6 [(0, .ref h0), (1, .int x1), (2, .int x2), (3, .int x3), (4, .int x4), (5, .int x5)] → itn (s_X2_alloc h0 x1 x2) n (.inr (x3, x4, x5, σ)) = some (rr, σf) → W p l e rm_X2_alloc s m av below meth c H locs 0 0 (MQ below (mm_Qi G rr σf) av s 0 0 (mm_A G)) (F0 m 50 ls [])) := by
  intro n
  induction n with
  | zero =>
    exact ⟨fun x3 x4 σ H locs ls hH hl hf => (by cases hf), fun x3 x4 x5 σ H locs ls hH hl hf => (by cases hf)⟩
  | succ n ih =>
    obtain ⟨IH32, IH50⟩ := ih
    refine ⟨?_, ?_⟩
    · intro x3 x4 σ H locs ls hH hl hf
      rw [itn_s] at hf
      exact w_X2_alloc_32 F hr hlocks hname IH32 IH50 x3 x4 σ hf hH hl
    · intro x3 x4 x5 σ H locs ls hH hl hf
      rw [itn_s] at hf
      exact w_X2_alloc_50 F hr hlocks hname IH32 IH50 x3 x4 x5 σ hf hH hl
set_option maxHeartbeats 4000000 in
theorem m_X2_alloc (l : Launch) (G : mm_G) (h0 : Nat) (x1 : Int32) (x2 : Int32) (σ : mm_M) (σf : mm_M) (rr : Int32) (hf : f_X2_alloc h0 x1 x2 σ = some (rr, σf)) : Met l yX2_alloc (ws_ yX2_alloc cX2_alloc 6 ((Option.some .int))) rm_X2_alloc (mm_Pc G [.ref h0, .int x1, .int x2] σ) (mm_Qi G rr σf) 0 0 (mm_A G) := by
  refine mm_met (by decide) rfl rfl (by  exact Nat.le_of_ble_eq_true rfl) (fun p e s m below meth c ls F hH hr hlocks hname hl => ?_)
  have hl : lv_has ls 6 [(0, .ref h0), (1, .int x1), (2, .int x2)] := by  exact hl
  have F : mm_F p s m _ c RX2 cX2_alloc 6 G := F
  unfold f_X2_alloc at hf
  obtain ⟨n, hf⟩ := lgo_i hf
  have IH := l_X2_alloc (l := l) (e := e) (below := below) (rr := rr) (σf := σf) (h0 := h0) (x1 := x1) (x2 := x2) F hr hlocks hname n
  exact w_X2_alloc_0 F hr hlocks hname IH.1 IH.2 σ hf hH (lv_sub hl [0, 1, 2] rfl)
/-! IslandHeapModel.objectOf(I)I -/
abbrev rm_X2_objectOf : Room := { frames := 1, cells := 0, slots := 0, locals := 22 }
set_option maxHeartbeats 4000000 in
theorem w_X2_objectOf_43 {p : Program} {l : Launch} {e : Env} {s : State} {m : MethodId} {av : Array Value} {below : List Frame} {meth : Method} {c : Code} {G : mm_G} {rr : Int32} {n : Nat} {σ : mm_M} {h0 : Nat} {x1 : Int32} (F : mm_F p s m av c RX2 cX2_objectOf 3 G) (hr : meth.sig.returnType = (Option.some .int)) (hlocks : meth.locks = false) (hname : meth.name = yX2_objectOf.name) (IH22 : ∀ (x2 : Int32) (H : Heap) (locs : List Loc) (ls : Array Slot), mm_H G s σ H locs → lv_has ls 3 [(0, .ref h0), (1, .int x1), (2, .int x2)] → itn (s_X2_objectOf h0 x1 σ) n x2 = some rr → W p l e rm_X2_objectOf s m av below meth c H locs 0 0 (MQ below (mm_Qi G rr σ) av s 0 0 (mm_A G)) (F0 m 22 ls []))  (x2 : Int32)  (hf : evn (s_X2_objectOf h0 x1 σ) n (g_X2_objectOf_43 h0 x1 x2 σ) = some rr) {H : Heap} {locs : List Loc} {ls : Array Slot} (hH : mm_H G s σ H locs) (hl : lv_has ls 3 [(0, .ref h0), (1, .int x1), (2, .int x2)]) : W p l e rm_X2_objectOf s m av below meth c H locs 0 0 (MQ below (mm_Qi G rr σ) av s 0 0 (mm_A G)) (F0 m 43 ls []) := by
  have hx := F.1
  have hb := F.2.1
  have hml := F.2.2.1
  have hown := F.2.2.2.1
  have hts := F.2.2.2.2.1
  unfold g_X2_objectOf_43 at hf
  refine lv_iload_n hx hb dX2_objectOf_43 rfl (lv_at hl 2 rfl) ?_
  refine lv_if_lt (tgt := 65) hx hb dX2_objectOf_44 (by decide) (fun c1 => ?_) (fun c1 => ?_)
  · rw [if_pos c1] at hf
    refine lv_iconst (v := (-1)) hx hb dX2_objectOf_65 (by decide) ?_
    rw [evn_r] at hf
    have h1 := Option.some.inj hf
    subst h1
    exact mm_reti F hH hr hlocks rfl rfl dX2_objectOf_66
  · rw [if_neg c1] at hf
    refine lv_iload_n hx hb dX2_objectOf_47 rfl (lv_at hl 2 rfl) ?_
    refine lv_aload_n hx hb dX2_objectOf_48 rfl (lv_at hl 0 rfl) ?_
    replace hf := evn_b1 hf
    obtain ⟨q2, e1, hf⟩ := hf
    refine mm_getA F hH mc_2 (k := 0) (by decide) (hts _ q1047) (fun _ h => h) e1 dX2_objectOf_49 ?_
    refine lv_iconst (v := 0) hx hb dX2_objectOf_52 (by decide) ?_
    refine lv_iload_n hx hb dX2_objectOf_53 rfl (lv_at hl 2 rfl) ?_
    refine lv_iadd hx hb dX2_objectOf_54 ?_
    replace hf := evn_b1 hf
    obtain ⟨v3, e2, hf⟩ := hf
    refine mm_iald F hH e2 dX2_objectOf_55 ?_
    refine lv_iadd hx hb dX2_objectOf_56 ?_
    refine lv_iload_n hx hb dX2_objectOf_57 rfl (lv_at hl 1 rfl) ?_
    refine lv_icmp_le (tgt := 65) hx hb dX2_objectOf_58 (by decide) (fun c4 => ?_) (fun c4 => ?_)
    · rw [if_pos c4] at hf
      refine lv_iconst (v := (-1)) hx hb dX2_objectOf_65 (by decide) ?_
      rw [evn_r] at hf
      have h1 := Option.some.inj hf
      subst h1
      exact mm_reti F hH hr hlocks rfl rfl dX2_objectOf_66
    · rw [if_neg c4] at hf
      refine lv_iload_n hx hb dX2_objectOf_61 rfl (lv_at hl 2 rfl) ?_
      refine lv_goto (tgt := 66) hx hb dX2_objectOf_62 (by decide) ?_
      rw [evn_r] at hf
      have h1 := Option.some.inj hf
      subst h1
      exact mm_reti F hH hr hlocks rfl rfl dX2_objectOf_66
set_option maxHeartbeats 4000000 in
theorem w_X2_objectOf_22 {p : Program} {l : Launch} {e : Env} {s : State} {m : MethodId} {av : Array Value} {below : List Frame} {meth : Method} {c : Code} {G : mm_G} {rr : Int32} {n : Nat} {σ : mm_M} {h0 : Nat} {x1 : Int32} (F : mm_F p s m av c RX2 cX2_objectOf 3 G) (hr : meth.sig.returnType = (Option.some .int)) (hlocks : meth.locks = false) (hname : meth.name = yX2_objectOf.name) (IH22 : ∀ (x2 : Int32) (H : Heap) (locs : List Loc) (ls : Array Slot), mm_H G s σ H locs → lv_has ls 3 [(0, .ref h0), (1, .int x1), (2, .int x2)] → itn (s_X2_objectOf h0 x1 σ) n x2 = some rr → W p l e rm_X2_objectOf s m av below meth c H locs 0 0 (MQ below (mm_Qi G rr σ) av s 0 0 (mm_A G)) (F0 m 22 ls []))  (x2 : Int32)  (hf : evn (s_X2_objectOf h0 x1 σ) n (g_X2_objectOf_22 h0 x1 x2 σ) = some rr) {H : Heap} {locs : List Loc} {ls : Array Slot} (hH : mm_H G s σ H locs) (hl : lv_has ls 3 [(0, .ref h0), (1, .int x1), (2, .int x2)]) : W p l e rm_X2_objectOf s m av below meth c H locs 0 0 (MQ below (mm_Qi G rr σ) av s 0 0 (mm_A G)) (F0 m 22 ls []) := by
  have hx := F.1
  have hb := F.2.1
  have hml := F.2.2.1
  have hown := F.2.2.2.1
  have hts := F.2.2.2.2.1
  unfold g_X2_objectOf_22 at hf
  refine lv_iload_n hx hb dX2_objectOf_22 rfl (lv_at hl 2 rfl) ?_
  refine lv_if_lt (tgt := 43) hx hb dX2_objectOf_23 (by decide) (fun c1 => ?_) (fun c1 => ?_)
  · rw [if_pos c1] at hf
    exact w_X2_objectOf_43 F hr hlocks hname IH22 x2 hf hH (lv_sub hl [0, 1, 2] rfl)
  · rw [if_neg c1] at hf
    refine lv_aload_n hx hb dX2_objectOf_26 rfl (lv_at hl 0 rfl) ?_
    replace hf := evn_b1 hf
    obtain ⟨q2, e1, hf⟩ := hf
    refine mm_getA F hH mc_2 (k := 0) (by decide) (hts _ q1047) (fun _ h => h) e1 dX2_objectOf_27 ?_
    refine lv_iconst (v := 0) hx hb dX2_objectOf_30 (by decide) ?_
    refine lv_iload_n hx hb dX2_objectOf_31 rfl (lv_at hl 2 rfl) ?_
    refine lv_iadd hx hb dX2_objectOf_32 ?_
    replace hf := evn_b1 hf
    obtain ⟨v3, e2, hf⟩ := hf
    refine mm_iald F hH e2 dX2_objectOf_33 ?_
    refine lv_if_ne (tgt := 43) hx hb dX2_objectOf_34 (by decide) (fun c4 => ?_) (fun c4 => ?_)
    · rw [if_neg c4] at hf
      exact w_X2_objectOf_43 F hr hlocks hname IH22 x2 hf hH (lv_sub hl [0, 1, 2] rfl)
    · rw [if_pos c4] at hf
      refine lv_iinc (v := x2 + (-1 : Int32)) (lv' := [(2, .int (x2 + (-1 : Int32))), (0, .ref h0), (1, .int x1)]) hx hb dX2_objectOf_37 hl (k := 2) rfl rfl (by decide) rfl (fun ls hl => ?_)
      refine lv_goto (tgt := 22) hx hb dX2_objectOf_40 (by decide) ?_
      rw [evn_l] at hf
      exact IH22 (x2 + (-1 : Int32)) _ _ _ hH (lv_sub hl [1, 2, 0] rfl) hf
set_option maxHeartbeats 4000000 in
theorem w_X2_objectOf_0 {p : Program} {l : Launch} {e : Env} {s : State} {m : MethodId} {av : Array Value} {below : List Frame} {meth : Method} {c : Code} {G : mm_G} {rr : Int32} {n : Nat} {σ : mm_M} {h0 : Nat} {x1 : Int32} (F : mm_F p s m av c RX2 cX2_objectOf 3 G) (hr : meth.sig.returnType = (Option.some .int)) (hlocks : meth.locks = false) (hname : meth.name = yX2_objectOf.name) (IH22 : ∀ (x2 : Int32) (H : Heap) (locs : List Loc) (ls : Array Slot), mm_H G s σ H locs → lv_has ls 3 [(0, .ref h0), (1, .int x1), (2, .int x2)] → itn (s_X2_objectOf h0 x1 σ) n x2 = some rr → W p l e rm_X2_objectOf s m av below meth c H locs 0 0 (MQ below (mm_Qi G rr σ) av s 0 0 (mm_A G)) (F0 m 22 ls []))    (hf : evn (s_X2_objectOf h0 x1 σ) n (g_X2_objectOf_0 h0 x1 σ) = some rr) {H : Heap} {locs : List Loc} {ls : Array Slot} (hH : mm_H G s σ H locs) (hl : lv_has ls 3 [(0, .ref h0), (1, .int x1)]) : W p l e rm_X2_objectOf s m av below meth c H locs 0 0 (MQ below (mm_Qi G rr σ) av s 0 0 (mm_A G)) (F0 m 0 ls []) := by
  have hx := F.1
  have hb := F.2.1
  have hml := F.2.2.1
  have hown := F.2.2.2.1
  have hts := F.2.2.2.2.1
  unfold g_X2_objectOf_0 at hf
  refine lv_iload_n hx hb dX2_objectOf_0 rfl (lv_at hl 1 rfl) ?_
  refine lv_iconst (v := 0) hx hb dX2_objectOf_1 (by decide) ?_
  refine lv_aload_n hx hb dX2_objectOf_2 rfl (lv_at hl 0 rfl) ?_
  replace hf := evn_b1 hf
  obtain ⟨q1, e1, hf⟩ := hf
  refine mm_getA F hH mc_2 (k := 0) (by decide) (hts _ q1047) (fun _ h => h) e1 dX2_objectOf_3 ?_
  refine lv_sipush (v := 1216) hx hb dX2_objectOf_6 (by decide) ?_
  replace hf := evn_b1 hf
  obtain ⟨v2, e2, hf⟩ := hf
  refine mm_iald F hH e2 dX2_objectOf_9 ?_
  refine lv_iconst (v := 1) hx hb dX2_objectOf_10 (by decide) ?_
  refine lv_isub hx hb dX2_objectOf_11 ?_
  replace hf := evn_b1 hf
  obtain ⟨v3, e3, hf⟩ := hf
  refine mm_ci (va_runS (As := [.int x1, .int (0 : Int32), .int (v2 - (1 : Int32))]) (rest := []) ⟨hx, hb, hml, hown, hts⟩ (m_X2_in l G x1 (0 : Int32) (v2 - (1 : Int32)) σ v3 e3) (va_cwS 3 hts (lw_S q1107 q1108 q67 q1109) rfl rfl rfl (by decide +kernel) ⟨Nat.le_of_ble_eq_true rfl, Nat.le_of_ble_eq_true rfl⟩) (mm_preS F.2.2.2.2.2 hH) rfl rfl hl.1 rfl (lv_room (Nat.le_of_ble_eq_true rfl)) dX2_objectOf_12 ⟨Nat.le_of_ble_eq_true rfl, Nat.le_of_ble_eq_true rfl⟩) hH (fun H locs hH => ?_)
  refine lv_if_ne (tgt := 20) hx hb dX2_objectOf_15 (by decide) (fun c4 => ?_) (fun c4 => ?_)
  · rw [if_neg c4] at hf
    refine lv_iload_n hx hb dX2_objectOf_20 rfl (lv_at hl 1 rfl) ?_
    refine lv_istore_n (lv' := [(2, .int x1), (0, .ref h0), (1, .int x1)]) hx hb dX2_objectOf_21 rfl hl (by decide) rfl (fun ls hl => ?_)
    rw [evn_l] at hf
    exact IH22 x1 _ _ _ hH (lv_sub hl [1, 2, 0] rfl) hf
  · rw [if_pos c4] at hf
    refine lv_iconst (v := (-1)) hx hb dX2_objectOf_18 (by decide) ?_
    rw [evn_r] at hf
    have h1 := Option.some.inj hf
    subst h1
    exact mm_reti F hH hr hlocks rfl rfl dX2_objectOf_19
set_option maxHeartbeats 4000000 in
theorem l_X2_objectOf {p : Program} {l : Launch} {e : Env} {s : State} {m : MethodId} {av : Array Value} {below : List Frame} {meth : Method} {c : Code} {G : mm_G} {rr : Int32} {σ : mm_M} {h0 : Nat} {x1 : Int32} (F : mm_F p s m av c RX2 cX2_objectOf 3 G) (hr : meth.sig.returnType = (Option.some .int)) (hlocks : meth.locks = false) (hname : meth.name = yX2_objectOf.name) : ∀ n : Nat, (∀ (x2 : Int32) (H : Heap) (locs : List Loc) (ls : Array Slot), mm_H G s σ H locs → lv_has ls 3 [(0, .ref h0), (1, .int x1), (2, .int x2)] → itn (s_X2_objectOf h0 x1 σ) n x2 = some rr → W p l e rm_X2_objectOf s m av below meth c H locs 0 0 (MQ below (mm_Qi G rr σ) av s 0 0 (mm_A G)) (F0 m 22 ls [])) := by
  intro n
  induction n with
  | zero =>
    exact fun x2 H locs ls hH hl hf => by cases hf
  | succ n ih =>
    have IH22 := ih
    intro x2 H locs ls hH hl hf
    rw [itn_s] at hf
    exact w_X2_objectOf_22 F hr hlocks hname IH22 x2 hf hH hl
set_option maxHeartbeats 4000000 in
theorem m_X2_objectOf (l : Launch) (G : mm_G) (h0 : Nat) (x1 : Int32) (σ : mm_M) (rr : Int32) (hf : f_X2_objectOf h0 x1 σ = some rr) : Met l yX2_objectOf (ws_ yX2_objectOf cX2_objectOf 3 ((Option.some .int))) rm_X2_objectOf (mm_Pc G [.ref h0, .int x1] σ) (mm_Qi G rr σ) 0 0 (mm_A G) := by
  refine mm_met (by decide) rfl rfl (by  exact Nat.le_of_ble_eq_true rfl) (fun p e s m below meth c ls F hH hr hlocks hname hl => ?_)
  have hl : lv_has ls 3 [(0, .ref h0), (1, .int x1)] := by  exact hl
  have F : mm_F p s m _ c RX2 cX2_objectOf 3 G := F
  unfold f_X2_objectOf at hf
  obtain ⟨n, hf⟩ := lgo_i hf
  have IH := l_X2_objectOf (l := l) (e := e) (below := below) (rr := rr) (σ := σ) (h0 := h0) (x1 := x1) F hr hlocks hname n
  exact w_X2_objectOf_0 F hr hlocks hname IH  hf hH (lv_sub hl [0, 1] rfl)
